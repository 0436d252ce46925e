/-! ForestRoomsModel -/
set_option maxRecDepth 100000
def RX5 : String := "ForestRoomsModel"
def TX5 : u_T := fun k => match k with
  | 0 => ("ForestRoomsModel", "thrown", "I", false)
  | 1 => ("ForestRoomsModel", "status", "I", false)
  | 2 => ("ForestRoomsModel", "refusals", "[I", true)
  | 3 => ("ForestRoomsModel", "row", "[I", true)
  | 4 => ("ForestRoomsModel", "images", "[I", true)
  | 5 => ("ForestRoomsModel", "isKept", "[Z", true)
  | 6 => ("ForestRoomsModel", "undos", "[I", true)
  | 7 => ("ForestRoomsModel", "sorts", "[I", true)
  | 8 => ("ForestRoomsModel", "nUndo", "I", false)
  | 9 => ("ForestRoomsModel", "undosBefore", "[I", true)
  | 10 => ("ForestRoomsModel", "sortsBefore", "[I", true)
  | 11 => ("ForestRoomsModel", "moss", "I", false)
  | 12 => ("ForestRoomsModel", "tape", "[I", true)
  | 13 => ("ForestRoomsModel", "taped", "I", false)
  | 14 => ("ForestRoomsModel", "from", "I", false)
  | 15 => ("ForestRoomsModel", "to", "I", false)
  | 16 => ("ForestRoomsModel", "sort", "I", false)
  | 17 => ("ForestRoomsModel", "worth", "J", false)
  | 18 => ("ForestRoomsModel", "fault", "I", false)
  | 19 => ("ForestRoomsModel", "bad", "Z", false)
  | 20 => ("ForestRoomsModel", "ordered", "Z", false)
  | 21 => ("ForestRoomsModel", "nClauses", "I", false)
  | 22 => ("ForestRoomsModel", "nClause", "[I", true)
  | 23 => ("ForestRoomsModel", "nCode", "I", false)
  | 24 => ("ForestRoomsModel", "nOp", "[I", true)
  | 25 => ("ForestRoomsModel", "nArg", "[I", true)
  | 26 => ("ForestRoomsModel", "nLeaves", "I", false)
  | 27 => ("ForestRoomsModel", "pile", "[I", true)
  | 28 => ("ForestRoomsModel", "pileAt", "[I", true)
  | 29 => ("ForestRoomsModel", "piled", "I", false)
  | 30 => ("ForestRoomsModel", "opened", "I", false)
  | 31 => ("ForestRoomsModel", "words", "[J", true)
  | 32 => ("ForestRoomsModel", "orderWords", "[J", true)
  | 33 => ("ForestRoomsModel", "heads", "[J", true)
  | 34 => ("ForestRoomsModel", "law", "I", false)
  | 35 => ("ForestRoomsModel", "set", "[J", true)
  | 36 => ("ForestRoomsModel", "now", "[J", true)
  | 37 => ("ForestRoomsModel", "rest", "[J", true)
  | 38 => ("ForestRoomsModel", "broken", "Z", false)
  | 39 => ("ForestRoomsModel", "value", "J", false)
  | 40 => ("ForestRoomsModel", "sum", "J", false)
  | 41 => ("ForestRoomsModel", "more", "[I", true)
  | 42 => ("ForestRoomsModel", "newcomer", "[I", true)
  | 43 => ("ForestRoomsModel", "greatest", "[I", true)
  | 44 => ("ForestRoomsModel", "suits", "[I", true)
  | 45 => ("ForestRoomsModel", "who", "[I", true)
  | 46 => ("ForestRoomsModel", "home", "[I", true)
  | 47 => ("ForestRoomsModel", "bestHome", "[I", true)
  | 48 => ("ForestRoomsModel", "bound", "[I", true)
  | 49 => ("ForestRoomsModel", "sumTo", "[I", true)
  | 50 => ("ForestRoomsModel", "shown", "[I", true)
  | 51 => ("ForestRoomsModel", "shares", "[I", true)
  | 52 => ("ForestRoomsModel", "rests", "[J", true)
  | 53 => ("ForestRoomsModel", "acts", "[J", true)
  | 54 => ("ForestRoomsModel", "nOrder", "[I", true)
  | 55 => ("ForestRoomsModel", "done", "I", false)
  | 56 => ("ForestRoomsModel", "lost", "I", false)
  | 57 => ("ForestRoomsModel", "stopped", "I", false)
  | 58 => ("ForestRoomsModel", "off", "Z", false)
  | 59 => ("ForestRoomsModel", "state", "J", false)
  | 60 => ("ForestRoomsModel", "drawn", "[I", true)
  | _ => ("ForestRoomsModel", "isDrawn", "Z", false)
def tyX5 : Nat → FieldType := fun k => match k with
  | 0 => .int
  | 1 => .int
  | 2 => .array .int
  | 3 => .array .int
  | 4 => .array .int
  | 5 => .array .boolean
  | 6 => .array .int
  | 7 => .array .int
  | 8 => .int
  | 9 => .array .int
  | 10 => .array .int
  | 11 => .int
  | 12 => .array .int
  | 13 => .int
  | 14 => .int
  | 15 => .int
  | 16 => .int
  | 17 => .long
  | 18 => .int
  | 19 => .boolean
  | 20 => .boolean
  | 21 => .int
  | 22 => .array .int
  | 23 => .int
  | 24 => .array .int
  | 25 => .array .int
  | 26 => .int
  | 27 => .array .int
  | 28 => .array .int
  | 29 => .int
  | 30 => .int
  | 31 => .array .long
  | 32 => .array .long
  | 33 => .array .long
  | 34 => .int
  | 35 => .array .long
  | 36 => .array .long
  | 37 => .array .long
  | 38 => .boolean
  | 39 => .long
  | 40 => .long
  | 41 => .array .int
  | 42 => .array .int
  | 43 => .array .int
  | 44 => .array .int
  | 45 => .array .int
  | 46 => .array .int
  | 47 => .array .int
  | 48 => .array .int
  | 49 => .array .int
  | 50 => .array .int
  | 51 => .array .int
  | 52 => .array .long
  | 53 => .array .long
  | 54 => .array .int
  | 55 => .int
  | 56 => .int
  | 57 => .int
  | 58 => .boolean
  | 59 => .long
  | 60 => .array .int
  | _ => .boolean
abbrev wsX50 : List Cond := u_ws RX5 TX5 62
set_option maxRecDepth 100000 in
theorem nmX5 : ∀ a, a < 62 → ∀ b, b < 62 → a ≠ b → (TX5 a).2.1 ≠ (TX5 b).2.1 := by decide +kernel
set_option maxRecDepth 100000 in
theorem tyX5_ok : ∀ k, k < 62 → parseFieldDescriptor (TX5 k).2.2.1 = some (tyX5 k) := by decide +kernel
abbrev cX5_init : ByteArray := prog_22_method_1_code
def yX5_init : MethodName := ⟨RX5, "<init>", "()V"⟩
def dkwX5_init_25 : List UInt8 := [132, 1, 1, 167, 255, 237, 177]
abbrev dktX5_init_25 : List UInt8 := dkwX5_init_25 ++ []
def dkwX5_init_24 : List UInt8 := [132, 1, 1, 167, 255, 197, 3, 60, 27, 16, 12, 162, 0, 19, 42, 180, 0, 13, 16, 104, 27, 96, 6, 79]
abbrev dktX5_init_24 : List UInt8 := dkwX5_init_24 ++ dktX5_init_25
def dkwX5_init_23 : List UInt8 := [8, 79, 42, 180, 0, 13, 16, 72, 27, 96, 8, 79, 42, 180, 0, 13, 16, 88, 27, 96, 6, 79]
abbrev dktX5_init_23 : List UInt8 := dkwX5_init_23 ++ dktX5_init_24
def dkwX5_init_22 : List UInt8 := [16, 8, 27, 96, 2, 79, 42, 180, 0, 13, 16, 40, 27, 96, 2, 79, 42, 180, 0, 13, 16, 56, 27, 96]
abbrev dktX5_init_22 : List UInt8 := dkwX5_init_22 ++ dktX5_init_23
def dkwX5_init_21 : List UInt8 := [8, 16, 30, 79, 42, 180, 0, 13, 16, 6, 6, 79, 3, 60, 27, 16, 16, 162, 0, 59, 42, 180, 0, 13]
abbrev dktX5_init_21 : List UInt8 := dkwX5_init_21 ++ dktX5_init_22
def dkwX5_init_20 : List UInt8 := [188, 10, 181, 0, 171, 42, 180, 0, 13, 5, 2, 79, 42, 180, 0, 13, 7, 16, 10, 79, 42, 180, 0, 13]
abbrev dktX5_init_20 : List UInt8 := dkwX5_init_20 ++ dktX5_init_21
def dkwX5_init_19 : List UInt8 := [7, 20, 0, 160, 80, 181, 0, 162, 42, 16, 96, 188, 10, 181, 0, 165, 42, 2, 181, 0, 168, 42, 16, 32]
abbrev dktX5_init_19 : List UInt8 := dkwX5_init_19 ++ dktX5_init_20
def dkwX5_init_18 : List UInt8 := [3, 20, 0, 152, 80, 89, 4, 20, 0, 154, 80, 89, 5, 20, 0, 156, 80, 89, 6, 20, 0, 158, 80, 89]
abbrev dktX5_init_18 : List UInt8 := dkwX5_init_18 ++ dktX5_init_19
def dkwX5_init_17 : List UInt8 := [181, 0, 143, 42, 16, 16, 188, 10, 181, 0, 146, 42, 16, 16, 188, 11, 181, 0, 149, 42, 8, 188, 11, 89]
abbrev dktX5_init_17 : List UInt8 := dkwX5_init_17 ++ dktX5_init_18
def dkwX5_init_16 : List UInt8 := [181, 0, 134, 42, 16, 7, 188, 10, 181, 0, 137, 42, 16, 7, 188, 10, 181, 0, 140, 42, 16, 112, 188, 10]
abbrev dktX5_init_16 : List UInt8 := dkwX5_init_16 ++ dktX5_init_17
def dkwX5_init_15 : List UInt8 := [181, 0, 125, 42, 16, 6, 188, 10, 181, 0, 128, 42, 16, 7, 188, 10, 181, 0, 131, 42, 16, 6, 188, 10]
abbrev dktX5_init_15 : List UInt8 := dkwX5_init_15 ++ dktX5_init_16
def dkwX5_init_14 : List UInt8 := [181, 0, 116, 42, 16, 16, 188, 10, 181, 0, 119, 42, 16, 6, 188, 10, 181, 0, 122, 42, 16, 96, 188, 10]
abbrev dktX5_init_14 : List UInt8 := dkwX5_init_14 ++ dktX5_init_15
def dkwX5_init_13 : List UInt8 := [42, 16, 13, 188, 11, 181, 0, 110, 42, 17, 1, 144, 188, 11, 181, 0, 113, 42, 16, 16, 188, 10]
abbrev dktX5_init_13 : List UInt8 := dkwX5_init_13 ++ dktX5_init_14
def dkwX5_init_12 : List UInt8 := [80, 89, 6, 20, 0, 100, 80, 89, 7, 20, 0, 102, 80, 181, 0, 104, 42, 16, 13, 188, 11, 181, 0, 107]
abbrev dktX5_init_12 : List UInt8 := dkwX5_init_12 ++ dktX5_init_13
def dkwX5_init_11 : List UInt8 := [181, 0, 91, 42, 8, 188, 11, 89, 3, 20, 0, 94, 80, 89, 4, 20, 0, 96, 80, 89, 5, 20, 0, 98]
abbrev dktX5_init_11 : List UInt8 := dkwX5_init_11 ++ dktX5_init_12
def dkwX5_init_10 : List UInt8 := [6, 20, 0, 87, 80, 89, 7, 20, 0, 67, 80, 89, 8, 20, 0, 65, 80, 89, 16, 6, 20, 0, 89, 80]
abbrev dktX5_init_10 : List UInt8 := dkwX5_init_10 ++ dktX5_init_11
def dkwX5_init_9 : List UInt8 := [42, 16, 7, 188, 11, 89, 3, 20, 0, 71, 80, 89, 4, 20, 0, 83, 80, 89, 5, 20, 0, 85, 80, 89]
abbrev dktX5_init_9 : List UInt8 := dkwX5_init_9 ++ dktX5_init_10
def dkwX5_init_8 : List UInt8 := [89, 16, 8, 20, 0, 73, 80, 89, 16, 9, 20, 0, 75, 80, 89, 16, 10, 20, 0, 77, 80, 181, 0, 79]
abbrev dktX5_init_8 : List UInt8 := dkwX5_init_8 ++ dktX5_init_9
def dkwX5_init_7 : List UInt8 := [20, 0, 65, 80, 89, 8, 20, 0, 67, 80, 89, 16, 6, 20, 0, 69, 80, 89, 16, 7, 20, 0, 71, 80]
abbrev dktX5_init_7 : List UInt8 := dkwX5_init_7 ++ dktX5_init_8
def dkwX5_init_6 : List UInt8 := [20, 0, 57, 80, 89, 4, 20, 0, 59, 80, 89, 5, 20, 0, 61, 80, 89, 6, 20, 0, 63, 80, 89, 7]
abbrev dktX5_init_6 : List UInt8 := dkwX5_init_6 ++ dktX5_init_7
def dkwX5_init_5 : List UInt8 := [17, 1, 144, 188, 10, 181, 0, 51, 42, 17, 1, 144, 188, 10, 181, 0, 54, 42, 16, 11, 188, 11, 89, 3]
abbrev dktX5_init_5 : List UInt8 := dkwX5_init_5 ++ dktX5_init_6
def dkwX5_init_4 : List UInt8 := [181, 0, 42, 42, 17, 1, 144, 188, 10, 181, 0, 45, 42, 17, 1, 144, 188, 10, 181, 0, 48, 42]
abbrev dktX5_init_4 : List UInt8 := dkwX5_init_4 ++ dktX5_init_5
def dkwX5_init_3 : List UInt8 := [181, 0, 32, 42, 17, 1, 144, 188, 10, 181, 0, 35, 42, 2, 181, 0, 38, 42, 16, 96, 188, 10]
abbrev dktX5_init_3 : List UInt8 := dkwX5_init_3 ++ dktX5_init_4
def dkwX5_init_2 : List UInt8 := [42, 16, 16, 188, 10, 181, 0, 26, 42, 17, 3, 80, 188, 10, 181, 0, 29, 42, 16, 16, 188, 10]
abbrev dktX5_init_2 : List UInt8 := dkwX5_init_2 ++ dktX5_init_3
def dkwX5_init_1 : List UInt8 := [17, 43, 72, 188, 10, 181, 0, 16, 42, 5, 188, 4, 181, 0, 19, 42, 17, 3, 186, 188, 10, 181, 0, 23]
abbrev dktX5_init_1 : List UInt8 := dkwX5_init_1 ++ dktX5_init_2
def dkwX5_init_0 : List UInt8 := [42, 183, 0, 1, 42, 16, 7, 188, 10, 181, 0, 7, 42, 17, 21, 164, 188, 10, 181, 0, 13, 42]
abbrev dktX5_init_0 : List UInt8 := dkwX5_init_0 ++ dktX5_init_1
theorem dksX5_init_0 : cX5_init.data.toList.drop 0 = dktX5_init_0 := by decide +kernel
theorem dksX5_init_1 : cX5_init.data.toList.drop 22 = dktX5_init_1 := dk_seg dksX5_init_0 22 rfl rfl
theorem dksX5_init_2 : cX5_init.data.toList.drop 46 = dktX5_init_2 := dk_seg dksX5_init_1 24 rfl rfl
theorem dksX5_init_3 : cX5_init.data.toList.drop 68 = dktX5_init_3 := dk_seg dksX5_init_2 22 rfl rfl
theorem dksX5_init_4 : cX5_init.data.toList.drop 90 = dktX5_init_4 := dk_seg dksX5_init_3 22 rfl rfl
theorem dksX5_init_5 : cX5_init.data.toList.drop 112 = dktX5_init_5 := dk_seg dksX5_init_4 22 rfl rfl
theorem dksX5_init_6 : cX5_init.data.toList.drop 136 = dktX5_init_6 := dk_seg dksX5_init_5 24 rfl rfl
theorem dksX5_init_7 : cX5_init.data.toList.drop 160 = dktX5_init_7 := dk_seg dksX5_init_6 24 rfl rfl
theorem dksX5_init_8 : cX5_init.data.toList.drop 184 = dktX5_init_8 := dk_seg dksX5_init_7 24 rfl rfl
theorem dksX5_init_9 : cX5_init.data.toList.drop 208 = dktX5_init_9 := dk_seg dksX5_init_8 24 rfl rfl
theorem dksX5_init_10 : cX5_init.data.toList.drop 232 = dktX5_init_10 := dk_seg dksX5_init_9 24 rfl rfl
theorem dksX5_init_11 : cX5_init.data.toList.drop 256 = dktX5_init_11 := dk_seg dksX5_init_10 24 rfl rfl
theorem dksX5_init_12 : cX5_init.data.toList.drop 280 = dktX5_init_12 := dk_seg dksX5_init_11 24 rfl rfl
theorem dksX5_init_13 : cX5_init.data.toList.drop 304 = dktX5_init_13 := dk_seg dksX5_init_12 24 rfl rfl
theorem dksX5_init_14 : cX5_init.data.toList.drop 326 = dktX5_init_14 := dk_seg dksX5_init_13 22 rfl rfl
theorem dksX5_init_15 : cX5_init.data.toList.drop 350 = dktX5_init_15 := dk_seg dksX5_init_14 24 rfl rfl
theorem dksX5_init_16 : cX5_init.data.toList.drop 374 = dktX5_init_16 := dk_seg dksX5_init_15 24 rfl rfl
theorem dksX5_init_17 : cX5_init.data.toList.drop 398 = dktX5_init_17 := dk_seg dksX5_init_16 24 rfl rfl
theorem dksX5_init_18 : cX5_init.data.toList.drop 422 = dktX5_init_18 := dk_seg dksX5_init_17 24 rfl rfl
theorem dksX5_init_19 : cX5_init.data.toList.drop 446 = dktX5_init_19 := dk_seg dksX5_init_18 24 rfl rfl
theorem dksX5_init_20 : cX5_init.data.toList.drop 470 = dktX5_init_20 := dk_seg dksX5_init_19 24 rfl rfl
theorem dksX5_init_21 : cX5_init.data.toList.drop 494 = dktX5_init_21 := dk_seg dksX5_init_20 24 rfl rfl
theorem dksX5_init_22 : cX5_init.data.toList.drop 518 = dktX5_init_22 := dk_seg dksX5_init_21 24 rfl rfl
theorem dksX5_init_23 : cX5_init.data.toList.drop 542 = dktX5_init_23 := dk_seg dksX5_init_22 24 rfl rfl
theorem dksX5_init_24 : cX5_init.data.toList.drop 564 = dktX5_init_24 := dk_seg dksX5_init_23 22 rfl rfl
theorem dksX5_init_25 : cX5_init.data.toList.drop 588 = dktX5_init_25 := dk_seg dksX5_init_24 24 rfl rfl
theorem dX5_init_0 : decode cX5_init 0 = .ok (.aload_n 0, 1) := dk_42 (dk_at dksX5_init_0 0 rfl rfl)
theorem dX5_init_1 : decode cX5_init 1 = .ok (.invokespecial 1, 3) := dk_183 0 1 (dk_at dksX5_init_0 1 rfl rfl)
theorem dX5_init_4 : decode cX5_init 4 = .ok (.aload_n 0, 1) := dk_42 (dk_at dksX5_init_0 4 rfl rfl)
theorem dX5_init_5 : decode cX5_init 5 = .ok (.bipush 7, 2) := dk_16 7 (dk_at dksX5_init_0 5 rfl rfl)
theorem dX5_init_7 : decode cX5_init 7 = .ok (.newarray .int, 2) := dk_188_10 (dk_at dksX5_init_0 7 rfl rfl)
theorem dX5_init_9 : decode cX5_init 9 = .ok (.putfield 7, 3) := dk_181 0 7 (dk_at dksX5_init_0 9 rfl rfl)
theorem dX5_init_12 : decode cX5_init 12 = .ok (.aload_n 0, 1) := dk_42 (dk_at dksX5_init_0 12 rfl rfl)
theorem dX5_init_13 : decode cX5_init 13 = .ok (.sipush 5540, 3) := dk_17 21 164 (dk_at dksX5_init_0 13 rfl rfl)
theorem dX5_init_16 : decode cX5_init 16 = .ok (.newarray .int, 2) := dk_188_10 (dk_at dksX5_init_0 16 rfl rfl)
theorem dX5_init_18 : decode cX5_init 18 = .ok (.putfield 13, 3) := dk_181 0 13 (dk_at dksX5_init_0 18 rfl rfl)
theorem dX5_init_21 : decode cX5_init 21 = .ok (.aload_n 0, 1) := dk_42 (dk_at dksX5_init_0 21 rfl rfl)
theorem dX5_init_22 : decode cX5_init 22 = .ok (.sipush 11080, 3) := dk_17 43 72 (dk_at dksX5_init_1 0 rfl rfl)
theorem dX5_init_25 : decode cX5_init 25 = .ok (.newarray .int, 2) := dk_188_10 (dk_at dksX5_init_1 3 rfl rfl)
theorem dX5_init_27 : decode cX5_init 27 = .ok (.putfield 16, 3) := dk_181 0 16 (dk_at dksX5_init_1 5 rfl rfl)
theorem dX5_init_30 : decode cX5_init 30 = .ok (.aload_n 0, 1) := dk_42 (dk_at dksX5_init_1 8 rfl rfl)
theorem dX5_init_31 : decode cX5_init 31 = .ok (.iconst 2, 1) := dk_5 (dk_at dksX5_init_1 9 rfl rfl)
theorem dX5_init_32 : decode cX5_init 32 = .ok (.newarray .boolean, 2) := dk_188_4 (dk_at dksX5_init_1 10 rfl rfl)
theorem dX5_init_34 : decode cX5_init 34 = .ok (.putfield 19, 3) := dk_181 0 19 (dk_at dksX5_init_1 12 rfl rfl)
theorem dX5_init_37 : decode cX5_init 37 = .ok (.aload_n 0, 1) := dk_42 (dk_at dksX5_init_1 15 rfl rfl)
theorem dX5_init_38 : decode cX5_init 38 = .ok (.sipush 954, 3) := dk_17 3 186 (dk_at dksX5_init_1 16 rfl rfl)
theorem dX5_init_41 : decode cX5_init 41 = .ok (.newarray .int, 2) := dk_188_10 (dk_at dksX5_init_1 19 rfl rfl)
theorem dX5_init_43 : decode cX5_init 43 = .ok (.putfield 23, 3) := dk_181 0 23 (dk_at dksX5_init_1 21 rfl rfl)
theorem dX5_init_46 : decode cX5_init 46 = .ok (.aload_n 0, 1) := dk_42 (dk_at dksX5_init_2 0 rfl rfl)
theorem dX5_init_47 : decode cX5_init 47 = .ok (.bipush 16, 2) := dk_16 16 (dk_at dksX5_init_2 1 rfl rfl)
theorem dX5_init_49 : decode cX5_init 49 = .ok (.newarray .int, 2) := dk_188_10 (dk_at dksX5_init_2 3 rfl rfl)
theorem dX5_init_51 : decode cX5_init 51 = .ok (.putfield 26, 3) := dk_181 0 26 (dk_at dksX5_init_2 5 rfl rfl)
theorem dX5_init_54 : decode cX5_init 54 = .ok (.aload_n 0, 1) := dk_42 (dk_at dksX5_init_2 8 rfl rfl)
theorem dX5_init_55 : decode cX5_init 55 = .ok (.sipush 848, 3) := dk_17 3 80 (dk_at dksX5_init_2 9 rfl rfl)
theorem dX5_init_58 : decode cX5_init 58 = .ok (.newarray .int, 2) := dk_188_10 (dk_at dksX5_init_2 12 rfl rfl)
theorem dX5_init_60 : decode cX5_init 60 = .ok (.putfield 29, 3) := dk_181 0 29 (dk_at dksX5_init_2 14 rfl rfl)
theorem dX5_init_63 : decode cX5_init 63 = .ok (.aload_n 0, 1) := dk_42 (dk_at dksX5_init_2 17 rfl rfl)
theorem dX5_init_64 : decode cX5_init 64 = .ok (.bipush 16, 2) := dk_16 16 (dk_at dksX5_init_2 18 rfl rfl)
theorem dX5_init_66 : decode cX5_init 66 = .ok (.newarray .int, 2) := dk_188_10 (dk_at dksX5_init_2 20 rfl rfl)
theorem dX5_init_68 : decode cX5_init 68 = .ok (.putfield 32, 3) := dk_181 0 32 (dk_at dksX5_init_3 0 rfl rfl)
theorem dX5_init_71 : decode cX5_init 71 = .ok (.aload_n 0, 1) := dk_42 (dk_at dksX5_init_3 3 rfl rfl)
theorem dX5_init_72 : decode cX5_init 72 = .ok (.sipush 400, 3) := dk_17 1 144 (dk_at dksX5_init_3 4 rfl rfl)
theorem dX5_init_75 : decode cX5_init 75 = .ok (.newarray .int, 2) := dk_188_10 (dk_at dksX5_init_3 7 rfl rfl)
theorem dX5_init_77 : decode cX5_init 77 = .ok (.putfield 35, 3) := dk_181 0 35 (dk_at dksX5_init_3 9 rfl rfl)
theorem dX5_init_80 : decode cX5_init 80 = .ok (.aload_n 0, 1) := dk_42 (dk_at dksX5_init_3 12 rfl rfl)
theorem dX5_init_81 : decode cX5_init 81 = .ok (.iconst (-1), 1) := dk_2 (dk_at dksX5_init_3 13 rfl rfl)
theorem dX5_init_82 : decode cX5_init 82 = .ok (.putfield 38, 3) := dk_181 0 38 (dk_at dksX5_init_3 14 rfl rfl)
theorem dX5_init_85 : decode cX5_init 85 = .ok (.aload_n 0, 1) := dk_42 (dk_at dksX5_init_3 17 rfl rfl)
theorem dX5_init_86 : decode cX5_init 86 = .ok (.bipush 96, 2) := dk_16 96 (dk_at dksX5_init_3 18 rfl rfl)
theorem dX5_init_88 : decode cX5_init 88 = .ok (.newarray .int, 2) := dk_188_10 (dk_at dksX5_init_3 20 rfl rfl)
theorem dX5_init_90 : decode cX5_init 90 = .ok (.putfield 42, 3) := dk_181 0 42 (dk_at dksX5_init_4 0 rfl rfl)
theorem dX5_init_93 : decode cX5_init 93 = .ok (.aload_n 0, 1) := dk_42 (dk_at dksX5_init_4 3 rfl rfl)
theorem dX5_init_94 : decode cX5_init 94 = .ok (.sipush 400, 3) := dk_17 1 144 (dk_at dksX5_init_4 4 rfl rfl)
theorem dX5_init_97 : decode cX5_init 97 = .ok (.newarray .int, 2) := dk_188_10 (dk_at dksX5_init_4 7 rfl rfl)
theorem dX5_init_99 : decode cX5_init 99 = .ok (.putfield 45, 3) := dk_181 0 45 (dk_at dksX5_init_4 9 rfl rfl)
theorem dX5_init_102 : decode cX5_init 102 = .ok (.aload_n 0, 1) := dk_42 (dk_at dksX5_init_4 12 rfl rfl)
theorem dX5_init_103 : decode cX5_init 103 = .ok (.sipush 400, 3) := dk_17 1 144 (dk_at dksX5_init_4 13 rfl rfl)
theorem dX5_init_106 : decode cX5_init 106 = .ok (.newarray .int, 2) := dk_188_10 (dk_at dksX5_init_4 16 rfl rfl)
theorem dX5_init_108 : decode cX5_init 108 = .ok (.putfield 48, 3) := dk_181 0 48 (dk_at dksX5_init_4 18 rfl rfl)
theorem dX5_init_111 : decode cX5_init 111 = .ok (.aload_n 0, 1) := dk_42 (dk_at dksX5_init_4 21 rfl rfl)
theorem dX5_init_112 : decode cX5_init 112 = .ok (.sipush 400, 3) := dk_17 1 144 (dk_at dksX5_init_5 0 rfl rfl)
theorem dX5_init_115 : decode cX5_init 115 = .ok (.newarray .int, 2) := dk_188_10 (dk_at dksX5_init_5 3 rfl rfl)
theorem dX5_init_117 : decode cX5_init 117 = .ok (.putfield 51, 3) := dk_181 0 51 (dk_at dksX5_init_5 5 rfl rfl)
theorem dX5_init_120 : decode cX5_init 120 = .ok (.aload_n 0, 1) := dk_42 (dk_at dksX5_init_5 8 rfl rfl)
theorem dX5_init_121 : decode cX5_init 121 = .ok (.sipush 400, 3) := dk_17 1 144 (dk_at dksX5_init_5 9 rfl rfl)
theorem dX5_init_124 : decode cX5_init 124 = .ok (.newarray .int, 2) := dk_188_10 (dk_at dksX5_init_5 12 rfl rfl)
theorem dX5_init_126 : decode cX5_init 126 = .ok (.putfield 54, 3) := dk_181 0 54 (dk_at dksX5_init_5 14 rfl rfl)
theorem dX5_init_129 : decode cX5_init 129 = .ok (.aload_n 0, 1) := dk_42 (dk_at dksX5_init_5 17 rfl rfl)
theorem dX5_init_130 : decode cX5_init 130 = .ok (.bipush 11, 2) := dk_16 11 (dk_at dksX5_init_5 18 rfl rfl)
theorem dX5_init_132 : decode cX5_init 132 = .ok (.newarray .long, 2) := dk_188_11 (dk_at dksX5_init_5 20 rfl rfl)
theorem dX5_init_134 : decode cX5_init 134 = .ok (.dup, 1) := dk_89 (dk_at dksX5_init_5 22 rfl rfl)
theorem dX5_init_135 : decode cX5_init 135 = .ok (.iconst 0, 1) := dk_3 (dk_at dksX5_init_5 23 rfl rfl)
theorem dX5_init_136 : decode cX5_init 136 = .ok (.ldc2_w 57, 3) := dk_20 0 57 (dk_at dksX5_init_6 0 rfl rfl)
theorem dX5_init_139 : decode cX5_init 139 = .ok (.lastore, 1) := dk_80 (dk_at dksX5_init_6 3 rfl rfl)
theorem dX5_init_140 : decode cX5_init 140 = .ok (.dup, 1) := dk_89 (dk_at dksX5_init_6 4 rfl rfl)
theorem dX5_init_141 : decode cX5_init 141 = .ok (.iconst 1, 1) := dk_4 (dk_at dksX5_init_6 5 rfl rfl)
theorem dX5_init_142 : decode cX5_init 142 = .ok (.ldc2_w 59, 3) := dk_20 0 59 (dk_at dksX5_init_6 6 rfl rfl)
theorem dX5_init_145 : decode cX5_init 145 = .ok (.lastore, 1) := dk_80 (dk_at dksX5_init_6 9 rfl rfl)
theorem dX5_init_146 : decode cX5_init 146 = .ok (.dup, 1) := dk_89 (dk_at dksX5_init_6 10 rfl rfl)
theorem dX5_init_147 : decode cX5_init 147 = .ok (.iconst 2, 1) := dk_5 (dk_at dksX5_init_6 11 rfl rfl)
theorem dX5_init_148 : decode cX5_init 148 = .ok (.ldc2_w 61, 3) := dk_20 0 61 (dk_at dksX5_init_6 12 rfl rfl)
theorem dX5_init_151 : decode cX5_init 151 = .ok (.lastore, 1) := dk_80 (dk_at dksX5_init_6 15 rfl rfl)
theorem dX5_init_152 : decode cX5_init 152 = .ok (.dup, 1) := dk_89 (dk_at dksX5_init_6 16 rfl rfl)
theorem dX5_init_153 : decode cX5_init 153 = .ok (.iconst 3, 1) := dk_6 (dk_at dksX5_init_6 17 rfl rfl)
theorem dX5_init_154 : decode cX5_init 154 = .ok (.ldc2_w 63, 3) := dk_20 0 63 (dk_at dksX5_init_6 18 rfl rfl)
theorem dX5_init_157 : decode cX5_init 157 = .ok (.lastore, 1) := dk_80 (dk_at dksX5_init_6 21 rfl rfl)
theorem dX5_init_158 : decode cX5_init 158 = .ok (.dup, 1) := dk_89 (dk_at dksX5_init_6 22 rfl rfl)
theorem dX5_init_159 : decode cX5_init 159 = .ok (.iconst 4, 1) := dk_7 (dk_at dksX5_init_6 23 rfl rfl)
theorem dX5_init_160 : decode cX5_init 160 = .ok (.ldc2_w 65, 3) := dk_20 0 65 (dk_at dksX5_init_7 0 rfl rfl)
theorem dX5_init_163 : decode cX5_init 163 = .ok (.lastore, 1) := dk_80 (dk_at dksX5_init_7 3 rfl rfl)
theorem dX5_init_164 : decode cX5_init 164 = .ok (.dup, 1) := dk_89 (dk_at dksX5_init_7 4 rfl rfl)
theorem dX5_init_165 : decode cX5_init 165 = .ok (.iconst 5, 1) := dk_8 (dk_at dksX5_init_7 5 rfl rfl)
theorem dX5_init_166 : decode cX5_init 166 = .ok (.ldc2_w 67, 3) := dk_20 0 67 (dk_at dksX5_init_7 6 rfl rfl)
theorem dX5_init_169 : decode cX5_init 169 = .ok (.lastore, 1) := dk_80 (dk_at dksX5_init_7 9 rfl rfl)
theorem dX5_init_170 : decode cX5_init 170 = .ok (.dup, 1) := dk_89 (dk_at dksX5_init_7 10 rfl rfl)
theorem dX5_init_171 : decode cX5_init 171 = .ok (.bipush 6, 2) := dk_16 6 (dk_at dksX5_init_7 11 rfl rfl)
theorem dX5_init_173 : decode cX5_init 173 = .ok (.ldc2_w 69, 3) := dk_20 0 69 (dk_at dksX5_init_7 13 rfl rfl)
theorem dX5_init_176 : decode cX5_init 176 = .ok (.lastore, 1) := dk_80 (dk_at dksX5_init_7 16 rfl rfl)
theorem dX5_init_177 : decode cX5_init 177 = .ok (.dup, 1) := dk_89 (dk_at dksX5_init_7 17 rfl rfl)
theorem dX5_init_178 : decode cX5_init 178 = .ok (.bipush 7, 2) := dk_16 7 (dk_at dksX5_init_7 18 rfl rfl)
theorem dX5_init_180 : decode cX5_init 180 = .ok (.ldc2_w 71, 3) := dk_20 0 71 (dk_at dksX5_init_7 20 rfl rfl)
theorem dX5_init_183 : decode cX5_init 183 = .ok (.lastore, 1) := dk_80 (dk_at dksX5_init_7 23 rfl rfl)
theorem dX5_init_184 : decode cX5_init 184 = .ok (.dup, 1) := dk_89 (dk_at dksX5_init_8 0 rfl rfl)
theorem dX5_init_185 : decode cX5_init 185 = .ok (.bipush 8, 2) := dk_16 8 (dk_at dksX5_init_8 1 rfl rfl)
theorem dX5_init_187 : decode cX5_init 187 = .ok (.ldc2_w 73, 3) := dk_20 0 73 (dk_at dksX5_init_8 3 rfl rfl)
theorem dX5_init_190 : decode cX5_init 190 = .ok (.lastore, 1) := dk_80 (dk_at dksX5_init_8 6 rfl rfl)
theorem dX5_init_191 : decode cX5_init 191 = .ok (.dup, 1) := dk_89 (dk_at dksX5_init_8 7 rfl rfl)
theorem dX5_init_192 : decode cX5_init 192 = .ok (.bipush 9, 2) := dk_16 9 (dk_at dksX5_init_8 8 rfl rfl)
theorem dX5_init_194 : decode cX5_init 194 = .ok (.ldc2_w 75, 3) := dk_20 0 75 (dk_at dksX5_init_8 10 rfl rfl)
theorem dX5_init_197 : decode cX5_init 197 = .ok (.lastore, 1) := dk_80 (dk_at dksX5_init_8 13 rfl rfl)
theorem dX5_init_198 : decode cX5_init 198 = .ok (.dup, 1) := dk_89 (dk_at dksX5_init_8 14 rfl rfl)
theorem dX5_init_199 : decode cX5_init 199 = .ok (.bipush 10, 2) := dk_16 10 (dk_at dksX5_init_8 15 rfl rfl)
theorem dX5_init_201 : decode cX5_init 201 = .ok (.ldc2_w 77, 3) := dk_20 0 77 (dk_at dksX5_init_8 17 rfl rfl)
theorem dX5_init_204 : decode cX5_init 204 = .ok (.lastore, 1) := dk_80 (dk_at dksX5_init_8 20 rfl rfl)
theorem dX5_init_205 : decode cX5_init 205 = .ok (.putfield 79, 3) := dk_181 0 79 (dk_at dksX5_init_8 21 rfl rfl)
theorem dX5_init_208 : decode cX5_init 208 = .ok (.aload_n 0, 1) := dk_42 (dk_at dksX5_init_9 0 rfl rfl)
theorem dX5_init_209 : decode cX5_init 209 = .ok (.bipush 7, 2) := dk_16 7 (dk_at dksX5_init_9 1 rfl rfl)
theorem dX5_init_211 : decode cX5_init 211 = .ok (.newarray .long, 2) := dk_188_11 (dk_at dksX5_init_9 3 rfl rfl)
theorem dX5_init_213 : decode cX5_init 213 = .ok (.dup, 1) := dk_89 (dk_at dksX5_init_9 5 rfl rfl)
theorem dX5_init_214 : decode cX5_init 214 = .ok (.iconst 0, 1) := dk_3 (dk_at dksX5_init_9 6 rfl rfl)
theorem dX5_init_215 : decode cX5_init 215 = .ok (.ldc2_w 71, 3) := dk_20 0 71 (dk_at dksX5_init_9 7 rfl rfl)
theorem dX5_init_218 : decode cX5_init 218 = .ok (.lastore, 1) := dk_80 (dk_at dksX5_init_9 10 rfl rfl)
theorem dX5_init_219 : decode cX5_init 219 = .ok (.dup, 1) := dk_89 (dk_at dksX5_init_9 11 rfl rfl)
theorem dX5_init_220 : decode cX5_init 220 = .ok (.iconst 1, 1) := dk_4 (dk_at dksX5_init_9 12 rfl rfl)
theorem dX5_init_221 : decode cX5_init 221 = .ok (.ldc2_w 83, 3) := dk_20 0 83 (dk_at dksX5_init_9 13 rfl rfl)
theorem dX5_init_224 : decode cX5_init 224 = .ok (.lastore, 1) := dk_80 (dk_at dksX5_init_9 16 rfl rfl)
theorem dX5_init_225 : decode cX5_init 225 = .ok (.dup, 1) := dk_89 (dk_at dksX5_init_9 17 rfl rfl)
theorem dX5_init_226 : decode cX5_init 226 = .ok (.iconst 2, 1) := dk_5 (dk_at dksX5_init_9 18 rfl rfl)
theorem dX5_init_227 : decode cX5_init 227 = .ok (.ldc2_w 85, 3) := dk_20 0 85 (dk_at dksX5_init_9 19 rfl rfl)
theorem dX5_init_230 : decode cX5_init 230 = .ok (.lastore, 1) := dk_80 (dk_at dksX5_init_9 22 rfl rfl)
theorem dX5_init_231 : decode cX5_init 231 = .ok (.dup, 1) := dk_89 (dk_at dksX5_init_9 23 rfl rfl)
theorem dX5_init_232 : decode cX5_init 232 = .ok (.iconst 3, 1) := dk_6 (dk_at dksX5_init_10 0 rfl rfl)
theorem dX5_init_233 : decode cX5_init 233 = .ok (.ldc2_w 87, 3) := dk_20 0 87 (dk_at dksX5_init_10 1 rfl rfl)
theorem dX5_init_236 : decode cX5_init 236 = .ok (.lastore, 1) := dk_80 (dk_at dksX5_init_10 4 rfl rfl)
theorem dX5_init_237 : decode cX5_init 237 = .ok (.dup, 1) := dk_89 (dk_at dksX5_init_10 5 rfl rfl)
theorem dX5_init_238 : decode cX5_init 238 = .ok (.iconst 4, 1) := dk_7 (dk_at dksX5_init_10 6 rfl rfl)
theorem dX5_init_239 : decode cX5_init 239 = .ok (.ldc2_w 67, 3) := dk_20 0 67 (dk_at dksX5_init_10 7 rfl rfl)
theorem dX5_init_242 : decode cX5_init 242 = .ok (.lastore, 1) := dk_80 (dk_at dksX5_init_10 10 rfl rfl)
theorem dX5_init_243 : decode cX5_init 243 = .ok (.dup, 1) := dk_89 (dk_at dksX5_init_10 11 rfl rfl)
theorem dX5_init_244 : decode cX5_init 244 = .ok (.iconst 5, 1) := dk_8 (dk_at dksX5_init_10 12 rfl rfl)
theorem dX5_init_245 : decode cX5_init 245 = .ok (.ldc2_w 65, 3) := dk_20 0 65 (dk_at dksX5_init_10 13 rfl rfl)
theorem dX5_init_248 : decode cX5_init 248 = .ok (.lastore, 1) := dk_80 (dk_at dksX5_init_10 16 rfl rfl)
theorem dX5_init_249 : decode cX5_init 249 = .ok (.dup, 1) := dk_89 (dk_at dksX5_init_10 17 rfl rfl)
theorem dX5_init_250 : decode cX5_init 250 = .ok (.bipush 6, 2) := dk_16 6 (dk_at dksX5_init_10 18 rfl rfl)
theorem dX5_init_252 : decode cX5_init 252 = .ok (.ldc2_w 89, 3) := dk_20 0 89 (dk_at dksX5_init_10 20 rfl rfl)
theorem dX5_init_255 : decode cX5_init 255 = .ok (.lastore, 1) := dk_80 (dk_at dksX5_init_10 23 rfl rfl)
theorem dX5_init_256 : decode cX5_init 256 = .ok (.putfield 91, 3) := dk_181 0 91 (dk_at dksX5_init_11 0 rfl rfl)
theorem dX5_init_259 : decode cX5_init 259 = .ok (.aload_n 0, 1) := dk_42 (dk_at dksX5_init_11 3 rfl rfl)
theorem dX5_init_260 : decode cX5_init 260 = .ok (.iconst 5, 1) := dk_8 (dk_at dksX5_init_11 4 rfl rfl)
theorem dX5_init_261 : decode cX5_init 261 = .ok (.newarray .long, 2) := dk_188_11 (dk_at dksX5_init_11 5 rfl rfl)
theorem dX5_init_263 : decode cX5_init 263 = .ok (.dup, 1) := dk_89 (dk_at dksX5_init_11 7 rfl rfl)
theorem dX5_init_264 : decode cX5_init 264 = .ok (.iconst 0, 1) := dk_3 (dk_at dksX5_init_11 8 rfl rfl)
theorem dX5_init_265 : decode cX5_init 265 = .ok (.ldc2_w 94, 3) := dk_20 0 94 (dk_at dksX5_init_11 9 rfl rfl)
theorem dX5_init_268 : decode cX5_init 268 = .ok (.lastore, 1) := dk_80 (dk_at dksX5_init_11 12 rfl rfl)
theorem dX5_init_269 : decode cX5_init 269 = .ok (.dup, 1) := dk_89 (dk_at dksX5_init_11 13 rfl rfl)
theorem dX5_init_270 : decode cX5_init 270 = .ok (.iconst 1, 1) := dk_4 (dk_at dksX5_init_11 14 rfl rfl)
theorem dX5_init_271 : decode cX5_init 271 = .ok (.ldc2_w 96, 3) := dk_20 0 96 (dk_at dksX5_init_11 15 rfl rfl)
theorem dX5_init_274 : decode cX5_init 274 = .ok (.lastore, 1) := dk_80 (dk_at dksX5_init_11 18 rfl rfl)
theorem dX5_init_275 : decode cX5_init 275 = .ok (.dup, 1) := dk_89 (dk_at dksX5_init_11 19 rfl rfl)
theorem dX5_init_276 : decode cX5_init 276 = .ok (.iconst 2, 1) := dk_5 (dk_at dksX5_init_11 20 rfl rfl)
theorem dX5_init_277 : decode cX5_init 277 = .ok (.ldc2_w 98, 3) := dk_20 0 98 (dk_at dksX5_init_11 21 rfl rfl)
theorem dX5_init_280 : decode cX5_init 280 = .ok (.lastore, 1) := dk_80 (dk_at dksX5_init_12 0 rfl rfl)
theorem dX5_init_281 : decode cX5_init 281 = .ok (.dup, 1) := dk_89 (dk_at dksX5_init_12 1 rfl rfl)
theorem dX5_init_282 : decode cX5_init 282 = .ok (.iconst 3, 1) := dk_6 (dk_at dksX5_init_12 2 rfl rfl)
theorem dX5_init_283 : decode cX5_init 283 = .ok (.ldc2_w 100, 3) := dk_20 0 100 (dk_at dksX5_init_12 3 rfl rfl)
theorem dX5_init_286 : decode cX5_init 286 = .ok (.lastore, 1) := dk_80 (dk_at dksX5_init_12 6 rfl rfl)
theorem dX5_init_287 : decode cX5_init 287 = .ok (.dup, 1) := dk_89 (dk_at dksX5_init_12 7 rfl rfl)
theorem dX5_init_288 : decode cX5_init 288 = .ok (.iconst 4, 1) := dk_7 (dk_at dksX5_init_12 8 rfl rfl)
theorem dX5_init_289 : decode cX5_init 289 = .ok (.ldc2_w 102, 3) := dk_20 0 102 (dk_at dksX5_init_12 9 rfl rfl)
theorem dX5_init_292 : decode cX5_init 292 = .ok (.lastore, 1) := dk_80 (dk_at dksX5_init_12 12 rfl rfl)
theorem dX5_init_293 : decode cX5_init 293 = .ok (.putfield 104, 3) := dk_181 0 104 (dk_at dksX5_init_12 13 rfl rfl)
theorem dX5_init_296 : decode cX5_init 296 = .ok (.aload_n 0, 1) := dk_42 (dk_at dksX5_init_12 16 rfl rfl)
theorem dX5_init_297 : decode cX5_init 297 = .ok (.bipush 13, 2) := dk_16 13 (dk_at dksX5_init_12 17 rfl rfl)
theorem dX5_init_299 : decode cX5_init 299 = .ok (.newarray .long, 2) := dk_188_11 (dk_at dksX5_init_12 19 rfl rfl)
theorem dX5_init_301 : decode cX5_init 301 = .ok (.putfield 107, 3) := dk_181 0 107 (dk_at dksX5_init_12 21 rfl rfl)
theorem dX5_init_304 : decode cX5_init 304 = .ok (.aload_n 0, 1) := dk_42 (dk_at dksX5_init_13 0 rfl rfl)
theorem dX5_init_305 : decode cX5_init 305 = .ok (.bipush 13, 2) := dk_16 13 (dk_at dksX5_init_13 1 rfl rfl)
theorem dX5_init_307 : decode cX5_init 307 = .ok (.newarray .long, 2) := dk_188_11 (dk_at dksX5_init_13 3 rfl rfl)
theorem dX5_init_309 : decode cX5_init 309 = .ok (.putfield 110, 3) := dk_181 0 110 (dk_at dksX5_init_13 5 rfl rfl)
theorem dX5_init_312 : decode cX5_init 312 = .ok (.aload_n 0, 1) := dk_42 (dk_at dksX5_init_13 8 rfl rfl)
theorem dX5_init_313 : decode cX5_init 313 = .ok (.sipush 400, 3) := dk_17 1 144 (dk_at dksX5_init_13 9 rfl rfl)
theorem dX5_init_316 : decode cX5_init 316 = .ok (.newarray .long, 2) := dk_188_11 (dk_at dksX5_init_13 12 rfl rfl)
theorem dX5_init_318 : decode cX5_init 318 = .ok (.putfield 113, 3) := dk_181 0 113 (dk_at dksX5_init_13 14 rfl rfl)
theorem dX5_init_321 : decode cX5_init 321 = .ok (.aload_n 0, 1) := dk_42 (dk_at dksX5_init_13 17 rfl rfl)
theorem dX5_init_322 : decode cX5_init 322 = .ok (.bipush 16, 2) := dk_16 16 (dk_at dksX5_init_13 18 rfl rfl)
theorem dX5_init_324 : decode cX5_init 324 = .ok (.newarray .int, 2) := dk_188_10 (dk_at dksX5_init_13 20 rfl rfl)
theorem dX5_init_326 : decode cX5_init 326 = .ok (.putfield 116, 3) := dk_181 0 116 (dk_at dksX5_init_14 0 rfl rfl)
theorem dX5_init_329 : decode cX5_init 329 = .ok (.aload_n 0, 1) := dk_42 (dk_at dksX5_init_14 3 rfl rfl)
theorem dX5_init_330 : decode cX5_init 330 = .ok (.bipush 16, 2) := dk_16 16 (dk_at dksX5_init_14 4 rfl rfl)
theorem dX5_init_332 : decode cX5_init 332 = .ok (.newarray .int, 2) := dk_188_10 (dk_at dksX5_init_14 6 rfl rfl)
theorem dX5_init_334 : decode cX5_init 334 = .ok (.putfield 119, 3) := dk_181 0 119 (dk_at dksX5_init_14 8 rfl rfl)
theorem dX5_init_337 : decode cX5_init 337 = .ok (.aload_n 0, 1) := dk_42 (dk_at dksX5_init_14 11 rfl rfl)
theorem dX5_init_338 : decode cX5_init 338 = .ok (.bipush 6, 2) := dk_16 6 (dk_at dksX5_init_14 12 rfl rfl)
theorem dX5_init_340 : decode cX5_init 340 = .ok (.newarray .int, 2) := dk_188_10 (dk_at dksX5_init_14 14 rfl rfl)
theorem dX5_init_342 : decode cX5_init 342 = .ok (.putfield 122, 3) := dk_181 0 122 (dk_at dksX5_init_14 16 rfl rfl)
theorem dX5_init_345 : decode cX5_init 345 = .ok (.aload_n 0, 1) := dk_42 (dk_at dksX5_init_14 19 rfl rfl)
theorem dX5_init_346 : decode cX5_init 346 = .ok (.bipush 96, 2) := dk_16 96 (dk_at dksX5_init_14 20 rfl rfl)
theorem dX5_init_348 : decode cX5_init 348 = .ok (.newarray .int, 2) := dk_188_10 (dk_at dksX5_init_14 22 rfl rfl)
theorem dX5_init_350 : decode cX5_init 350 = .ok (.putfield 125, 3) := dk_181 0 125 (dk_at dksX5_init_15 0 rfl rfl)
theorem dX5_init_353 : decode cX5_init 353 = .ok (.aload_n 0, 1) := dk_42 (dk_at dksX5_init_15 3 rfl rfl)
theorem dX5_init_354 : decode cX5_init 354 = .ok (.bipush 6, 2) := dk_16 6 (dk_at dksX5_init_15 4 rfl rfl)
theorem dX5_init_356 : decode cX5_init 356 = .ok (.newarray .int, 2) := dk_188_10 (dk_at dksX5_init_15 6 rfl rfl)
theorem dX5_init_358 : decode cX5_init 358 = .ok (.putfield 128, 3) := dk_181 0 128 (dk_at dksX5_init_15 8 rfl rfl)
theorem dX5_init_361 : decode cX5_init 361 = .ok (.aload_n 0, 1) := dk_42 (dk_at dksX5_init_15 11 rfl rfl)
theorem dX5_init_362 : decode cX5_init 362 = .ok (.bipush 7, 2) := dk_16 7 (dk_at dksX5_init_15 12 rfl rfl)
theorem dX5_init_364 : decode cX5_init 364 = .ok (.newarray .int, 2) := dk_188_10 (dk_at dksX5_init_15 14 rfl rfl)
theorem dX5_init_366 : decode cX5_init 366 = .ok (.putfield 131, 3) := dk_181 0 131 (dk_at dksX5_init_15 16 rfl rfl)
theorem dX5_init_369 : decode cX5_init 369 = .ok (.aload_n 0, 1) := dk_42 (dk_at dksX5_init_15 19 rfl rfl)
theorem dX5_init_370 : decode cX5_init 370 = .ok (.bipush 6, 2) := dk_16 6 (dk_at dksX5_init_15 20 rfl rfl)
theorem dX5_init_372 : decode cX5_init 372 = .ok (.newarray .int, 2) := dk_188_10 (dk_at dksX5_init_15 22 rfl rfl)
theorem dX5_init_374 : decode cX5_init 374 = .ok (.putfield 134, 3) := dk_181 0 134 (dk_at dksX5_init_16 0 rfl rfl)
theorem dX5_init_377 : decode cX5_init 377 = .ok (.aload_n 0, 1) := dk_42 (dk_at dksX5_init_16 3 rfl rfl)
theorem dX5_init_378 : decode cX5_init 378 = .ok (.bipush 7, 2) := dk_16 7 (dk_at dksX5_init_16 4 rfl rfl)
theorem dX5_init_380 : decode cX5_init 380 = .ok (.newarray .int, 2) := dk_188_10 (dk_at dksX5_init_16 6 rfl rfl)
theorem dX5_init_382 : decode cX5_init 382 = .ok (.putfield 137, 3) := dk_181 0 137 (dk_at dksX5_init_16 8 rfl rfl)
theorem dX5_init_385 : decode cX5_init 385 = .ok (.aload_n 0, 1) := dk_42 (dk_at dksX5_init_16 11 rfl rfl)
theorem dX5_init_386 : decode cX5_init 386 = .ok (.bipush 7, 2) := dk_16 7 (dk_at dksX5_init_16 12 rfl rfl)
theorem dX5_init_388 : decode cX5_init 388 = .ok (.newarray .int, 2) := dk_188_10 (dk_at dksX5_init_16 14 rfl rfl)
theorem dX5_init_390 : decode cX5_init 390 = .ok (.putfield 140, 3) := dk_181 0 140 (dk_at dksX5_init_16 16 rfl rfl)
theorem dX5_init_393 : decode cX5_init 393 = .ok (.aload_n 0, 1) := dk_42 (dk_at dksX5_init_16 19 rfl rfl)
theorem dX5_init_394 : decode cX5_init 394 = .ok (.bipush 112, 2) := dk_16 112 (dk_at dksX5_init_16 20 rfl rfl)
theorem dX5_init_396 : decode cX5_init 396 = .ok (.newarray .int, 2) := dk_188_10 (dk_at dksX5_init_16 22 rfl rfl)
theorem dX5_init_398 : decode cX5_init 398 = .ok (.putfield 143, 3) := dk_181 0 143 (dk_at dksX5_init_17 0 rfl rfl)
theorem dX5_init_401 : decode cX5_init 401 = .ok (.aload_n 0, 1) := dk_42 (dk_at dksX5_init_17 3 rfl rfl)
theorem dX5_init_402 : decode cX5_init 402 = .ok (.bipush 16, 2) := dk_16 16 (dk_at dksX5_init_17 4 rfl rfl)
theorem dX5_init_404 : decode cX5_init 404 = .ok (.newarray .int, 2) := dk_188_10 (dk_at dksX5_init_17 6 rfl rfl)
theorem dX5_init_406 : decode cX5_init 406 = .ok (.putfield 146, 3) := dk_181 0 146 (dk_at dksX5_init_17 8 rfl rfl)
theorem dX5_init_409 : decode cX5_init 409 = .ok (.aload_n 0, 1) := dk_42 (dk_at dksX5_init_17 11 rfl rfl)
theorem dX5_init_410 : decode cX5_init 410 = .ok (.bipush 16, 2) := dk_16 16 (dk_at dksX5_init_17 12 rfl rfl)
theorem dX5_init_412 : decode cX5_init 412 = .ok (.newarray .long, 2) := dk_188_11 (dk_at dksX5_init_17 14 rfl rfl)
theorem dX5_init_414 : decode cX5_init 414 = .ok (.putfield 149, 3) := dk_181 0 149 (dk_at dksX5_init_17 16 rfl rfl)
theorem dX5_init_417 : decode cX5_init 417 = .ok (.aload_n 0, 1) := dk_42 (dk_at dksX5_init_17 19 rfl rfl)
theorem dX5_init_418 : decode cX5_init 418 = .ok (.iconst 5, 1) := dk_8 (dk_at dksX5_init_17 20 rfl rfl)
theorem dX5_init_419 : decode cX5_init 419 = .ok (.newarray .long, 2) := dk_188_11 (dk_at dksX5_init_17 21 rfl rfl)
theorem dX5_init_421 : decode cX5_init 421 = .ok (.dup, 1) := dk_89 (dk_at dksX5_init_17 23 rfl rfl)
theorem dX5_init_422 : decode cX5_init 422 = .ok (.iconst 0, 1) := dk_3 (dk_at dksX5_init_18 0 rfl rfl)
theorem dX5_init_423 : decode cX5_init 423 = .ok (.ldc2_w 152, 3) := dk_20 0 152 (dk_at dksX5_init_18 1 rfl rfl)
theorem dX5_init_426 : decode cX5_init 426 = .ok (.lastore, 1) := dk_80 (dk_at dksX5_init_18 4 rfl rfl)
theorem dX5_init_427 : decode cX5_init 427 = .ok (.dup, 1) := dk_89 (dk_at dksX5_init_18 5 rfl rfl)
theorem dX5_init_428 : decode cX5_init 428 = .ok (.iconst 1, 1) := dk_4 (dk_at dksX5_init_18 6 rfl rfl)
theorem dX5_init_429 : decode cX5_init 429 = .ok (.ldc2_w 154, 3) := dk_20 0 154 (dk_at dksX5_init_18 7 rfl rfl)
theorem dX5_init_432 : decode cX5_init 432 = .ok (.lastore, 1) := dk_80 (dk_at dksX5_init_18 10 rfl rfl)
theorem dX5_init_433 : decode cX5_init 433 = .ok (.dup, 1) := dk_89 (dk_at dksX5_init_18 11 rfl rfl)
theorem dX5_init_434 : decode cX5_init 434 = .ok (.iconst 2, 1) := dk_5 (dk_at dksX5_init_18 12 rfl rfl)
theorem dX5_init_435 : decode cX5_init 435 = .ok (.ldc2_w 156, 3) := dk_20 0 156 (dk_at dksX5_init_18 13 rfl rfl)
theorem dX5_init_438 : decode cX5_init 438 = .ok (.lastore, 1) := dk_80 (dk_at dksX5_init_18 16 rfl rfl)
theorem dX5_init_439 : decode cX5_init 439 = .ok (.dup, 1) := dk_89 (dk_at dksX5_init_18 17 rfl rfl)
theorem dX5_init_440 : decode cX5_init 440 = .ok (.iconst 3, 1) := dk_6 (dk_at dksX5_init_18 18 rfl rfl)
theorem dX5_init_441 : decode cX5_init 441 = .ok (.ldc2_w 158, 3) := dk_20 0 158 (dk_at dksX5_init_18 19 rfl rfl)
theorem dX5_init_444 : decode cX5_init 444 = .ok (.lastore, 1) := dk_80 (dk_at dksX5_init_18 22 rfl rfl)
theorem dX5_init_445 : decode cX5_init 445 = .ok (.dup, 1) := dk_89 (dk_at dksX5_init_18 23 rfl rfl)
theorem dX5_init_446 : decode cX5_init 446 = .ok (.iconst 4, 1) := dk_7 (dk_at dksX5_init_19 0 rfl rfl)
theorem dX5_init_447 : decode cX5_init 447 = .ok (.ldc2_w 160, 3) := dk_20 0 160 (dk_at dksX5_init_19 1 rfl rfl)
theorem dX5_init_450 : decode cX5_init 450 = .ok (.lastore, 1) := dk_80 (dk_at dksX5_init_19 4 rfl rfl)
theorem dX5_init_451 : decode cX5_init 451 = .ok (.putfield 162, 3) := dk_181 0 162 (dk_at dksX5_init_19 5 rfl rfl)
theorem dX5_init_454 : decode cX5_init 454 = .ok (.aload_n 0, 1) := dk_42 (dk_at dksX5_init_19 8 rfl rfl)
theorem dX5_init_455 : decode cX5_init 455 = .ok (.bipush 96, 2) := dk_16 96 (dk_at dksX5_init_19 9 rfl rfl)
theorem dX5_init_457 : decode cX5_init 457 = .ok (.newarray .int, 2) := dk_188_10 (dk_at dksX5_init_19 11 rfl rfl)
theorem dX5_init_459 : decode cX5_init 459 = .ok (.putfield 165, 3) := dk_181 0 165 (dk_at dksX5_init_19 13 rfl rfl)
theorem dX5_init_462 : decode cX5_init 462 = .ok (.aload_n 0, 1) := dk_42 (dk_at dksX5_init_19 16 rfl rfl)
theorem dX5_init_463 : decode cX5_init 463 = .ok (.iconst (-1), 1) := dk_2 (dk_at dksX5_init_19 17 rfl rfl)
theorem dX5_init_464 : decode cX5_init 464 = .ok (.putfield 168, 3) := dk_181 0 168 (dk_at dksX5_init_19 18 rfl rfl)
theorem dX5_init_467 : decode cX5_init 467 = .ok (.aload_n 0, 1) := dk_42 (dk_at dksX5_init_19 21 rfl rfl)
theorem dX5_init_468 : decode cX5_init 468 = .ok (.bipush 32, 2) := dk_16 32 (dk_at dksX5_init_19 22 rfl rfl)
theorem dX5_init_470 : decode cX5_init 470 = .ok (.newarray .int, 2) := dk_188_10 (dk_at dksX5_init_20 0 rfl rfl)
theorem dX5_init_472 : decode cX5_init 472 = .ok (.putfield 171, 3) := dk_181 0 171 (dk_at dksX5_init_20 2 rfl rfl)
theorem dX5_init_475 : decode cX5_init 475 = .ok (.aload_n 0, 1) := dk_42 (dk_at dksX5_init_20 5 rfl rfl)
theorem dX5_init_476 : decode cX5_init 476 = .ok (.getfield 13, 3) := dk_180 0 13 (dk_at dksX5_init_20 6 rfl rfl)
theorem dX5_init_479 : decode cX5_init 479 = .ok (.iconst 2, 1) := dk_5 (dk_at dksX5_init_20 9 rfl rfl)
theorem dX5_init_480 : decode cX5_init 480 = .ok (.iconst (-1), 1) := dk_2 (dk_at dksX5_init_20 10 rfl rfl)
theorem dX5_init_481 : decode cX5_init 481 = .ok (.iastore, 1) := dk_79 (dk_at dksX5_init_20 11 rfl rfl)
theorem dX5_init_482 : decode cX5_init 482 = .ok (.aload_n 0, 1) := dk_42 (dk_at dksX5_init_20 12 rfl rfl)
theorem dX5_init_483 : decode cX5_init 483 = .ok (.getfield 13, 3) := dk_180 0 13 (dk_at dksX5_init_20 13 rfl rfl)
theorem dX5_init_486 : decode cX5_init 486 = .ok (.iconst 4, 1) := dk_7 (dk_at dksX5_init_20 16 rfl rfl)
theorem dX5_init_487 : decode cX5_init 487 = .ok (.bipush 10, 2) := dk_16 10 (dk_at dksX5_init_20 17 rfl rfl)
theorem dX5_init_489 : decode cX5_init 489 = .ok (.iastore, 1) := dk_79 (dk_at dksX5_init_20 19 rfl rfl)
theorem dX5_init_490 : decode cX5_init 490 = .ok (.aload_n 0, 1) := dk_42 (dk_at dksX5_init_20 20 rfl rfl)
theorem dX5_init_491 : decode cX5_init 491 = .ok (.getfield 13, 3) := dk_180 0 13 (dk_at dksX5_init_20 21 rfl rfl)
theorem dX5_init_494 : decode cX5_init 494 = .ok (.iconst 5, 1) := dk_8 (dk_at dksX5_init_21 0 rfl rfl)
theorem dX5_init_495 : decode cX5_init 495 = .ok (.bipush 30, 2) := dk_16 30 (dk_at dksX5_init_21 1 rfl rfl)
theorem dX5_init_497 : decode cX5_init 497 = .ok (.iastore, 1) := dk_79 (dk_at dksX5_init_21 3 rfl rfl)
theorem dX5_init_498 : decode cX5_init 498 = .ok (.aload_n 0, 1) := dk_42 (dk_at dksX5_init_21 4 rfl rfl)
theorem dX5_init_499 : decode cX5_init 499 = .ok (.getfield 13, 3) := dk_180 0 13 (dk_at dksX5_init_21 5 rfl rfl)
theorem dX5_init_502 : decode cX5_init 502 = .ok (.bipush 6, 2) := dk_16 6 (dk_at dksX5_init_21 8 rfl rfl)
theorem dX5_init_504 : decode cX5_init 504 = .ok (.iconst 3, 1) := dk_6 (dk_at dksX5_init_21 10 rfl rfl)
theorem dX5_init_505 : decode cX5_init 505 = .ok (.iastore, 1) := dk_79 (dk_at dksX5_init_21 11 rfl rfl)
theorem dX5_init_506 : decode cX5_init 506 = .ok (.iconst 0, 1) := dk_3 (dk_at dksX5_init_21 12 rfl rfl)
theorem dX5_init_507 : decode cX5_init 507 = .ok (.istore_n 1, 1) := dk_60 (dk_at dksX5_init_21 13 rfl rfl)
theorem dX5_init_508 : decode cX5_init 508 = .ok (.iload_n 1, 1) := dk_27 (dk_at dksX5_init_21 14 rfl rfl)
theorem dX5_init_509 : decode cX5_init 509 = .ok (.bipush 16, 2) := dk_16 16 (dk_at dksX5_init_21 15 rfl rfl)
theorem dX5_init_511 : decode cX5_init 511 = .ok (.if_icmp .ge 59, 3) := dk_162 0 59 (dk_at dksX5_init_21 17 rfl rfl)
theorem dX5_init_514 : decode cX5_init 514 = .ok (.aload_n 0, 1) := dk_42 (dk_at dksX5_init_21 20 rfl rfl)
theorem dX5_init_515 : decode cX5_init 515 = .ok (.getfield 13, 3) := dk_180 0 13 (dk_at dksX5_init_21 21 rfl rfl)
theorem dX5_init_518 : decode cX5_init 518 = .ok (.bipush 8, 2) := dk_16 8 (dk_at dksX5_init_22 0 rfl rfl)
theorem dX5_init_520 : decode cX5_init 520 = .ok (.iload_n 1, 1) := dk_27 (dk_at dksX5_init_22 2 rfl rfl)
theorem dX5_init_521 : decode cX5_init 521 = .ok (.iadd, 1) := dk_96 (dk_at dksX5_init_22 3 rfl rfl)
theorem dX5_init_522 : decode cX5_init 522 = .ok (.iconst (-1), 1) := dk_2 (dk_at dksX5_init_22 4 rfl rfl)
theorem dX5_init_523 : decode cX5_init 523 = .ok (.iastore, 1) := dk_79 (dk_at dksX5_init_22 5 rfl rfl)
theorem dX5_init_524 : decode cX5_init 524 = .ok (.aload_n 0, 1) := dk_42 (dk_at dksX5_init_22 6 rfl rfl)
theorem dX5_init_525 : decode cX5_init 525 = .ok (.getfield 13, 3) := dk_180 0 13 (dk_at dksX5_init_22 7 rfl rfl)
theorem dX5_init_528 : decode cX5_init 528 = .ok (.bipush 40, 2) := dk_16 40 (dk_at dksX5_init_22 10 rfl rfl)
theorem dX5_init_530 : decode cX5_init 530 = .ok (.iload_n 1, 1) := dk_27 (dk_at dksX5_init_22 12 rfl rfl)
theorem dX5_init_531 : decode cX5_init 531 = .ok (.iadd, 1) := dk_96 (dk_at dksX5_init_22 13 rfl rfl)
theorem dX5_init_532 : decode cX5_init 532 = .ok (.iconst (-1), 1) := dk_2 (dk_at dksX5_init_22 14 rfl rfl)
theorem dX5_init_533 : decode cX5_init 533 = .ok (.iastore, 1) := dk_79 (dk_at dksX5_init_22 15 rfl rfl)
theorem dX5_init_534 : decode cX5_init 534 = .ok (.aload_n 0, 1) := dk_42 (dk_at dksX5_init_22 16 rfl rfl)
theorem dX5_init_535 : decode cX5_init 535 = .ok (.getfield 13, 3) := dk_180 0 13 (dk_at dksX5_init_22 17 rfl rfl)
theorem dX5_init_538 : decode cX5_init 538 = .ok (.bipush 56, 2) := dk_16 56 (dk_at dksX5_init_22 20 rfl rfl)
theorem dX5_init_540 : decode cX5_init 540 = .ok (.iload_n 1, 1) := dk_27 (dk_at dksX5_init_22 22 rfl rfl)
theorem dX5_init_541 : decode cX5_init 541 = .ok (.iadd, 1) := dk_96 (dk_at dksX5_init_22 23 rfl rfl)
theorem dX5_init_542 : decode cX5_init 542 = .ok (.iconst 5, 1) := dk_8 (dk_at dksX5_init_23 0 rfl rfl)
theorem dX5_init_543 : decode cX5_init 543 = .ok (.iastore, 1) := dk_79 (dk_at dksX5_init_23 1 rfl rfl)
theorem dX5_init_544 : decode cX5_init 544 = .ok (.aload_n 0, 1) := dk_42 (dk_at dksX5_init_23 2 rfl rfl)
theorem dX5_init_545 : decode cX5_init 545 = .ok (.getfield 13, 3) := dk_180 0 13 (dk_at dksX5_init_23 3 rfl rfl)
theorem dX5_init_548 : decode cX5_init 548 = .ok (.bipush 72, 2) := dk_16 72 (dk_at dksX5_init_23 6 rfl rfl)
theorem dX5_init_550 : decode cX5_init 550 = .ok (.iload_n 1, 1) := dk_27 (dk_at dksX5_init_23 8 rfl rfl)
theorem dX5_init_551 : decode cX5_init 551 = .ok (.iadd, 1) := dk_96 (dk_at dksX5_init_23 9 rfl rfl)
theorem dX5_init_552 : decode cX5_init 552 = .ok (.iconst 5, 1) := dk_8 (dk_at dksX5_init_23 10 rfl rfl)
theorem dX5_init_553 : decode cX5_init 553 = .ok (.iastore, 1) := dk_79 (dk_at dksX5_init_23 11 rfl rfl)
theorem dX5_init_554 : decode cX5_init 554 = .ok (.aload_n 0, 1) := dk_42 (dk_at dksX5_init_23 12 rfl rfl)
theorem dX5_init_555 : decode cX5_init 555 = .ok (.getfield 13, 3) := dk_180 0 13 (dk_at dksX5_init_23 13 rfl rfl)
theorem dX5_init_558 : decode cX5_init 558 = .ok (.bipush 88, 2) := dk_16 88 (dk_at dksX5_init_23 16 rfl rfl)
theorem dX5_init_560 : decode cX5_init 560 = .ok (.iload_n 1, 1) := dk_27 (dk_at dksX5_init_23 18 rfl rfl)
theorem dX5_init_561 : decode cX5_init 561 = .ok (.iadd, 1) := dk_96 (dk_at dksX5_init_23 19 rfl rfl)
theorem dX5_init_562 : decode cX5_init 562 = .ok (.iconst 3, 1) := dk_6 (dk_at dksX5_init_23 20 rfl rfl)
theorem dX5_init_563 : decode cX5_init 563 = .ok (.iastore, 1) := dk_79 (dk_at dksX5_init_23 21 rfl rfl)
theorem dX5_init_564 : decode cX5_init 564 = .ok (.iinc 1 1, 3) := dk_132 1 1 (dk_at dksX5_init_24 0 rfl rfl)
theorem dX5_init_567 : decode cX5_init 567 = .ok (.goto (-59), 3) := dk_167 255 197 (dk_at dksX5_init_24 3 rfl rfl)
theorem dX5_init_570 : decode cX5_init 570 = .ok (.iconst 0, 1) := dk_3 (dk_at dksX5_init_24 6 rfl rfl)
theorem dX5_init_571 : decode cX5_init 571 = .ok (.istore_n 1, 1) := dk_60 (dk_at dksX5_init_24 7 rfl rfl)
theorem dX5_init_572 : decode cX5_init 572 = .ok (.iload_n 1, 1) := dk_27 (dk_at dksX5_init_24 8 rfl rfl)
theorem dX5_init_573 : decode cX5_init 573 = .ok (.bipush 12, 2) := dk_16 12 (dk_at dksX5_init_24 9 rfl rfl)
theorem dX5_init_575 : decode cX5_init 575 = .ok (.if_icmp .ge 19, 3) := dk_162 0 19 (dk_at dksX5_init_24 11 rfl rfl)
theorem dX5_init_578 : decode cX5_init 578 = .ok (.aload_n 0, 1) := dk_42 (dk_at dksX5_init_24 14 rfl rfl)
theorem dX5_init_579 : decode cX5_init 579 = .ok (.getfield 13, 3) := dk_180 0 13 (dk_at dksX5_init_24 15 rfl rfl)
theorem dX5_init_582 : decode cX5_init 582 = .ok (.bipush 104, 2) := dk_16 104 (dk_at dksX5_init_24 18 rfl rfl)
theorem dX5_init_584 : decode cX5_init 584 = .ok (.iload_n 1, 1) := dk_27 (dk_at dksX5_init_24 20 rfl rfl)
theorem dX5_init_585 : decode cX5_init 585 = .ok (.iadd, 1) := dk_96 (dk_at dksX5_init_24 21 rfl rfl)
theorem dX5_init_586 : decode cX5_init 586 = .ok (.iconst 3, 1) := dk_6 (dk_at dksX5_init_24 22 rfl rfl)
theorem dX5_init_587 : decode cX5_init 587 = .ok (.iastore, 1) := dk_79 (dk_at dksX5_init_24 23 rfl rfl)
theorem dX5_init_588 : decode cX5_init 588 = .ok (.iinc 1 1, 3) := dk_132 1 1 (dk_at dksX5_init_25 0 rfl rfl)
theorem dX5_init_591 : decode cX5_init 591 = .ok (.goto (-19), 3) := dk_167 255 237 (dk_at dksX5_init_25 3 rfl rfl)
theorem dX5_init_594 : decode cX5_init 594 = .ok (.return_, 1) := dk_177 (dk_at dksX5_init_25 6 rfl rfl)
abbrev cX5_undo : ByteArray := prog_22_method_13_code
def yX5_undo : MethodName := ⟨RX5, "undo", "()I"⟩
def dkwX5_undo_2 : List UInt8 := [182, 0, 183, 172]
abbrev dktX5_undo_2 : List UInt8 := dkwX5_undo_2 ++ []
def dkwX5_undo_1 : List UInt8 := [4, 100, 181, 0, 180, 42, 42, 180, 0, 180, 182, 0, 191, 42, 42, 180, 0, 26, 42, 180, 0, 180, 46]
abbrev dktX5_undo_1 : List UInt8 := dkwX5_undo_1 ++ dktX5_undo_2
def dkwX5_undo_0 : List UInt8 := [42, 3, 181, 0, 174, 42, 180, 0, 180, 154, 0, 10, 42, 16, 253, 182, 0, 183, 172, 42, 89, 180, 0, 180]
abbrev dktX5_undo_0 : List UInt8 := dkwX5_undo_0 ++ dktX5_undo_1
theorem dksX5_undo_0 : cX5_undo.data.toList.drop 0 = dktX5_undo_0 := by decide +kernel
theorem dksX5_undo_1 : cX5_undo.data.toList.drop 24 = dktX5_undo_1 := dk_seg dksX5_undo_0 24 rfl rfl
theorem dksX5_undo_2 : cX5_undo.data.toList.drop 47 = dktX5_undo_2 := dk_seg dksX5_undo_1 23 rfl rfl
theorem dX5_undo_0 : decode cX5_undo 0 = .ok (.aload_n 0, 1) := dk_42 (dk_at dksX5_undo_0 0 rfl rfl)
theorem dX5_undo_1 : decode cX5_undo 1 = .ok (.iconst 0, 1) := dk_3 (dk_at dksX5_undo_0 1 rfl rfl)
theorem dX5_undo_2 : decode cX5_undo 2 = .ok (.putfield 174, 3) := dk_181 0 174 (dk_at dksX5_undo_0 2 rfl rfl)
theorem dX5_undo_5 : decode cX5_undo 5 = .ok (.aload_n 0, 1) := dk_42 (dk_at dksX5_undo_0 5 rfl rfl)
theorem dX5_undo_6 : decode cX5_undo 6 = .ok (.getfield 180, 3) := dk_180 0 180 (dk_at dksX5_undo_0 6 rfl rfl)
theorem dX5_undo_9 : decode cX5_undo 9 = .ok (.ifCond .ne 10, 3) := dk_154 0 10 (dk_at dksX5_undo_0 9 rfl rfl)
theorem dX5_undo_12 : decode cX5_undo 12 = .ok (.aload_n 0, 1) := dk_42 (dk_at dksX5_undo_0 12 rfl rfl)
theorem dX5_undo_13 : decode cX5_undo 13 = .ok (.bipush (-3), 2) := dk_16 253 (dk_at dksX5_undo_0 13 rfl rfl)
theorem dX5_undo_15 : decode cX5_undo 15 = .ok (.invokevirtual 183, 3) := dk_182 0 183 (dk_at dksX5_undo_0 15 rfl rfl)
theorem dX5_undo_18 : decode cX5_undo 18 = .ok (.ireturn, 1) := dk_172 (dk_at dksX5_undo_0 18 rfl rfl)
theorem dX5_undo_19 : decode cX5_undo 19 = .ok (.aload_n 0, 1) := dk_42 (dk_at dksX5_undo_0 19 rfl rfl)
theorem dX5_undo_20 : decode cX5_undo 20 = .ok (.dup, 1) := dk_89 (dk_at dksX5_undo_0 20 rfl rfl)
theorem dX5_undo_21 : decode cX5_undo 21 = .ok (.getfield 180, 3) := dk_180 0 180 (dk_at dksX5_undo_0 21 rfl rfl)
theorem dX5_undo_24 : decode cX5_undo 24 = .ok (.iconst 1, 1) := dk_4 (dk_at dksX5_undo_1 0 rfl rfl)
theorem dX5_undo_25 : decode cX5_undo 25 = .ok (.isub, 1) := dk_100 (dk_at dksX5_undo_1 1 rfl rfl)
theorem dX5_undo_26 : decode cX5_undo 26 = .ok (.putfield 180, 3) := dk_181 0 180 (dk_at dksX5_undo_1 2 rfl rfl)
theorem dX5_undo_29 : decode cX5_undo 29 = .ok (.aload_n 0, 1) := dk_42 (dk_at dksX5_undo_1 5 rfl rfl)
theorem dX5_undo_30 : decode cX5_undo 30 = .ok (.aload_n 0, 1) := dk_42 (dk_at dksX5_undo_1 6 rfl rfl)
theorem dX5_undo_31 : decode cX5_undo 31 = .ok (.getfield 180, 3) := dk_180 0 180 (dk_at dksX5_undo_1 7 rfl rfl)
theorem dX5_undo_34 : decode cX5_undo 34 = .ok (.invokevirtual 191, 3) := dk_182 0 191 (dk_at dksX5_undo_1 10 rfl rfl)
theorem dX5_undo_37 : decode cX5_undo 37 = .ok (.aload_n 0, 1) := dk_42 (dk_at dksX5_undo_1 13 rfl rfl)
theorem dX5_undo_38 : decode cX5_undo 38 = .ok (.aload_n 0, 1) := dk_42 (dk_at dksX5_undo_1 14 rfl rfl)
theorem dX5_undo_39 : decode cX5_undo 39 = .ok (.getfield 26, 3) := dk_180 0 26 (dk_at dksX5_undo_1 15 rfl rfl)
theorem dX5_undo_42 : decode cX5_undo 42 = .ok (.aload_n 0, 1) := dk_42 (dk_at dksX5_undo_1 18 rfl rfl)
theorem dX5_undo_43 : decode cX5_undo 43 = .ok (.getfield 180, 3) := dk_180 0 180 (dk_at dksX5_undo_1 19 rfl rfl)
theorem dX5_undo_46 : decode cX5_undo 46 = .ok (.iaload, 1) := dk_46 (dk_at dksX5_undo_1 22 rfl rfl)
theorem dX5_undo_47 : decode cX5_undo 47 = .ok (.invokevirtual 183, 3) := dk_182 0 183 (dk_at dksX5_undo_2 0 rfl rfl)
theorem dX5_undo_50 : decode cX5_undo 50 = .ok (.ireturn, 1) := dk_172 (dk_at dksX5_undo_2 3 rfl rfl)
abbrev cX5_tell : ByteArray := prog_22_method_7_code
def yX5_tell : MethodName := ⟨RX5, "tell", "(I)I"⟩
def dkwX5_tell_1 : List UInt8 := [46, 4, 96, 79, 27, 172]
abbrev dktX5_tell_1 : List UInt8 := dkwX5_tell_1 ++ []
def dkwX5_tell_0 : List UInt8 := [42, 27, 156, 0, 7, 27, 167, 0, 4, 3, 181, 0, 177, 27, 156, 0, 14, 42, 180, 0, 7, 27, 116, 92]
abbrev dktX5_tell_0 : List UInt8 := dkwX5_tell_0 ++ dktX5_tell_1
theorem dksX5_tell_0 : cX5_tell.data.toList.drop 0 = dktX5_tell_0 := by decide +kernel
theorem dksX5_tell_1 : cX5_tell.data.toList.drop 24 = dktX5_tell_1 := dk_seg dksX5_tell_0 24 rfl rfl
theorem dX5_tell_0 : decode cX5_tell 0 = .ok (.aload_n 0, 1) := dk_42 (dk_at dksX5_tell_0 0 rfl rfl)
theorem dX5_tell_1 : decode cX5_tell 1 = .ok (.iload_n 1, 1) := dk_27 (dk_at dksX5_tell_0 1 rfl rfl)
theorem dX5_tell_2 : decode cX5_tell 2 = .ok (.ifCond .ge 7, 3) := dk_156 0 7 (dk_at dksX5_tell_0 2 rfl rfl)
theorem dX5_tell_5 : decode cX5_tell 5 = .ok (.iload_n 1, 1) := dk_27 (dk_at dksX5_tell_0 5 rfl rfl)
theorem dX5_tell_6 : decode cX5_tell 6 = .ok (.goto 4, 3) := dk_167 0 4 (dk_at dksX5_tell_0 6 rfl rfl)
theorem dX5_tell_9 : decode cX5_tell 9 = .ok (.iconst 0, 1) := dk_3 (dk_at dksX5_tell_0 9 rfl rfl)
theorem dX5_tell_10 : decode cX5_tell 10 = .ok (.putfield 177, 3) := dk_181 0 177 (dk_at dksX5_tell_0 10 rfl rfl)
theorem dX5_tell_13 : decode cX5_tell 13 = .ok (.iload_n 1, 1) := dk_27 (dk_at dksX5_tell_0 13 rfl rfl)
theorem dX5_tell_14 : decode cX5_tell 14 = .ok (.ifCond .ge 14, 3) := dk_156 0 14 (dk_at dksX5_tell_0 14 rfl rfl)
theorem dX5_tell_17 : decode cX5_tell 17 = .ok (.aload_n 0, 1) := dk_42 (dk_at dksX5_tell_0 17 rfl rfl)
theorem dX5_tell_18 : decode cX5_tell 18 = .ok (.getfield 7, 3) := dk_180 0 7 (dk_at dksX5_tell_0 18 rfl rfl)
theorem dX5_tell_21 : decode cX5_tell 21 = .ok (.iload_n 1, 1) := dk_27 (dk_at dksX5_tell_0 21 rfl rfl)
theorem dX5_tell_22 : decode cX5_tell 22 = .ok (.ineg, 1) := dk_116 (dk_at dksX5_tell_0 22 rfl rfl)
theorem dX5_tell_23 : decode cX5_tell 23 = .ok (.dup2, 1) := dk_92 (dk_at dksX5_tell_0 23 rfl rfl)
theorem dX5_tell_24 : decode cX5_tell 24 = .ok (.iaload, 1) := dk_46 (dk_at dksX5_tell_1 0 rfl rfl)
theorem dX5_tell_25 : decode cX5_tell 25 = .ok (.iconst 1, 1) := dk_4 (dk_at dksX5_tell_1 1 rfl rfl)
theorem dX5_tell_26 : decode cX5_tell 26 = .ok (.iadd, 1) := dk_96 (dk_at dksX5_tell_1 2 rfl rfl)
theorem dX5_tell_27 : decode cX5_tell 27 = .ok (.iastore, 1) := dk_79 (dk_at dksX5_tell_1 3 rfl rfl)
theorem dX5_tell_28 : decode cX5_tell 28 = .ok (.iload_n 1, 1) := dk_27 (dk_at dksX5_tell_1 4 rfl rfl)
theorem dX5_tell_29 : decode cX5_tell 29 = .ok (.ireturn, 1) := dk_172 (dk_at dksX5_tell_1 5 rfl rfl)
abbrev cX5_putBack : ByteArray := prog_22_method_11_code
def yX5_putBack : MethodName := ⟨RX5, "putBack", "(I)V"⟩
def dkwX5_putBack_1 : List UInt8 := [96, 46, 79, 132, 2, 1, 167, 255, 228, 177]
abbrev dktX5_putBack_1 : List UInt8 := dkwX5_putBack_1 ++ []
def dkwX5_putBack_0 : List UInt8 := [3, 61, 28, 16, 53, 162, 0, 28, 42, 180, 0, 13, 6, 28, 96, 42, 180, 0, 23, 16, 53, 27, 104, 28]
abbrev dktX5_putBack_0 : List UInt8 := dkwX5_putBack_0 ++ dktX5_putBack_1
theorem dksX5_putBack_0 : cX5_putBack.data.toList.drop 0 = dktX5_putBack_0 := by decide +kernel
theorem dksX5_putBack_1 : cX5_putBack.data.toList.drop 24 = dktX5_putBack_1 := dk_seg dksX5_putBack_0 24 rfl rfl
theorem dX5_putBack_0 : decode cX5_putBack 0 = .ok (.iconst 0, 1) := dk_3 (dk_at dksX5_putBack_0 0 rfl rfl)
theorem dX5_putBack_1 : decode cX5_putBack 1 = .ok (.istore_n 2, 1) := dk_61 (dk_at dksX5_putBack_0 1 rfl rfl)
theorem dX5_putBack_2 : decode cX5_putBack 2 = .ok (.iload_n 2, 1) := dk_28 (dk_at dksX5_putBack_0 2 rfl rfl)
theorem dX5_putBack_3 : decode cX5_putBack 3 = .ok (.bipush 53, 2) := dk_16 53 (dk_at dksX5_putBack_0 3 rfl rfl)
theorem dX5_putBack_5 : decode cX5_putBack 5 = .ok (.if_icmp .ge 28, 3) := dk_162 0 28 (dk_at dksX5_putBack_0 5 rfl rfl)
theorem dX5_putBack_8 : decode cX5_putBack 8 = .ok (.aload_n 0, 1) := dk_42 (dk_at dksX5_putBack_0 8 rfl rfl)
theorem dX5_putBack_9 : decode cX5_putBack 9 = .ok (.getfield 13, 3) := dk_180 0 13 (dk_at dksX5_putBack_0 9 rfl rfl)
theorem dX5_putBack_12 : decode cX5_putBack 12 = .ok (.iconst 3, 1) := dk_6 (dk_at dksX5_putBack_0 12 rfl rfl)
theorem dX5_putBack_13 : decode cX5_putBack 13 = .ok (.iload_n 2, 1) := dk_28 (dk_at dksX5_putBack_0 13 rfl rfl)
theorem dX5_putBack_14 : decode cX5_putBack 14 = .ok (.iadd, 1) := dk_96 (dk_at dksX5_putBack_0 14 rfl rfl)
theorem dX5_putBack_15 : decode cX5_putBack 15 = .ok (.aload_n 0, 1) := dk_42 (dk_at dksX5_putBack_0 15 rfl rfl)
theorem dX5_putBack_16 : decode cX5_putBack 16 = .ok (.getfield 23, 3) := dk_180 0 23 (dk_at dksX5_putBack_0 16 rfl rfl)
theorem dX5_putBack_19 : decode cX5_putBack 19 = .ok (.bipush 53, 2) := dk_16 53 (dk_at dksX5_putBack_0 19 rfl rfl)
theorem dX5_putBack_21 : decode cX5_putBack 21 = .ok (.iload_n 1, 1) := dk_27 (dk_at dksX5_putBack_0 21 rfl rfl)
theorem dX5_putBack_22 : decode cX5_putBack 22 = .ok (.imul, 1) := dk_104 (dk_at dksX5_putBack_0 22 rfl rfl)
theorem dX5_putBack_23 : decode cX5_putBack 23 = .ok (.iload_n 2, 1) := dk_28 (dk_at dksX5_putBack_0 23 rfl rfl)
theorem dX5_putBack_24 : decode cX5_putBack 24 = .ok (.iadd, 1) := dk_96 (dk_at dksX5_putBack_1 0 rfl rfl)
theorem dX5_putBack_25 : decode cX5_putBack 25 = .ok (.iaload, 1) := dk_46 (dk_at dksX5_putBack_1 1 rfl rfl)
theorem dX5_putBack_26 : decode cX5_putBack 26 = .ok (.iastore, 1) := dk_79 (dk_at dksX5_putBack_1 2 rfl rfl)
theorem dX5_putBack_27 : decode cX5_putBack 27 = .ok (.iinc 2 1, 3) := dk_132 2 1 (dk_at dksX5_putBack_1 3 rfl rfl)
theorem dX5_putBack_30 : decode cX5_putBack 30 = .ok (.goto (-28), 3) := dk_167 255 228 (dk_at dksX5_putBack_1 6 rfl rfl)
theorem dX5_putBack_33 : decode cX5_putBack 33 = .ok (.return_, 1) := dk_177 (dk_at dksX5_putBack_1 9 rfl rfl)
abbrev cX5_image : ByteArray := prog_22_method_14_code
def yX5_image : MethodName := ⟨RX5, "image", "(I)I"⟩
def dkwX5_image_2 : List UInt8 := [132, 2, 1, 167, 255, 228, 42, 180, 0, 19, 27, 4, 84, 42, 3, 182, 0, 183, 172]
abbrev dktX5_image_2 : List UInt8 := dkwX5_image_2 ++ []
def dkwX5_image_1 : List UInt8 := [17, 21, 164, 162, 0, 27, 42, 180, 0, 16, 17, 21, 164, 27, 104, 28, 96, 42, 180, 0, 13, 28, 46, 79]
abbrev dktX5_image_1 : List UInt8 := dkwX5_image_1 ++ dktX5_image_2
def dkwX5_image_0 : List UInt8 := [42, 3, 181, 0, 174, 27, 133, 9, 10, 184, 0, 194, 154, 0, 9, 42, 2, 182, 0, 183, 172, 3, 61, 28]
abbrev dktX5_image_0 : List UInt8 := dkwX5_image_0 ++ dktX5_image_1
theorem dksX5_image_0 : cX5_image.data.toList.drop 0 = dktX5_image_0 := by decide +kernel
theorem dksX5_image_1 : cX5_image.data.toList.drop 24 = dktX5_image_1 := dk_seg dksX5_image_0 24 rfl rfl
theorem dksX5_image_2 : cX5_image.data.toList.drop 48 = dktX5_image_2 := dk_seg dksX5_image_1 24 rfl rfl
theorem dX5_image_0 : decode cX5_image 0 = .ok (.aload_n 0, 1) := dk_42 (dk_at dksX5_image_0 0 rfl rfl)
theorem dX5_image_1 : decode cX5_image 1 = .ok (.iconst 0, 1) := dk_3 (dk_at dksX5_image_0 1 rfl rfl)
theorem dX5_image_2 : decode cX5_image 2 = .ok (.putfield 174, 3) := dk_181 0 174 (dk_at dksX5_image_0 2 rfl rfl)
theorem dX5_image_5 : decode cX5_image 5 = .ok (.iload_n 1, 1) := dk_27 (dk_at dksX5_image_0 5 rfl rfl)
theorem dX5_image_6 : decode cX5_image 6 = .ok (.i2l, 1) := dk_133 (dk_at dksX5_image_0 6 rfl rfl)
theorem dX5_image_7 : decode cX5_image 7 = .ok (.lconst 0, 1) := dk_9 (dk_at dksX5_image_0 7 rfl rfl)
theorem dX5_image_8 : decode cX5_image 8 = .ok (.lconst 1, 1) := dk_10 (dk_at dksX5_image_0 8 rfl rfl)
theorem dX5_image_9 : decode cX5_image 9 = .ok (.invokestatic 194, 3) := dk_184 0 194 (dk_at dksX5_image_0 9 rfl rfl)
theorem dX5_image_12 : decode cX5_image 12 = .ok (.ifCond .ne 9, 3) := dk_154 0 9 (dk_at dksX5_image_0 12 rfl rfl)
theorem dX5_image_15 : decode cX5_image 15 = .ok (.aload_n 0, 1) := dk_42 (dk_at dksX5_image_0 15 rfl rfl)
theorem dX5_image_16 : decode cX5_image 16 = .ok (.iconst (-1), 1) := dk_2 (dk_at dksX5_image_0 16 rfl rfl)
theorem dX5_image_17 : decode cX5_image 17 = .ok (.invokevirtual 183, 3) := dk_182 0 183 (dk_at dksX5_image_0 17 rfl rfl)
theorem dX5_image_20 : decode cX5_image 20 = .ok (.ireturn, 1) := dk_172 (dk_at dksX5_image_0 20 rfl rfl)
theorem dX5_image_21 : decode cX5_image 21 = .ok (.iconst 0, 1) := dk_3 (dk_at dksX5_image_0 21 rfl rfl)
theorem dX5_image_22 : decode cX5_image 22 = .ok (.istore_n 2, 1) := dk_61 (dk_at dksX5_image_0 22 rfl rfl)
theorem dX5_image_23 : decode cX5_image 23 = .ok (.iload_n 2, 1) := dk_28 (dk_at dksX5_image_0 23 rfl rfl)
theorem dX5_image_24 : decode cX5_image 24 = .ok (.sipush 5540, 3) := dk_17 21 164 (dk_at dksX5_image_1 0 rfl rfl)
theorem dX5_image_27 : decode cX5_image 27 = .ok (.if_icmp .ge 27, 3) := dk_162 0 27 (dk_at dksX5_image_1 3 rfl rfl)
theorem dX5_image_30 : decode cX5_image 30 = .ok (.aload_n 0, 1) := dk_42 (dk_at dksX5_image_1 6 rfl rfl)
theorem dX5_image_31 : decode cX5_image 31 = .ok (.getfield 16, 3) := dk_180 0 16 (dk_at dksX5_image_1 7 rfl rfl)
theorem dX5_image_34 : decode cX5_image 34 = .ok (.sipush 5540, 3) := dk_17 21 164 (dk_at dksX5_image_1 10 rfl rfl)
theorem dX5_image_37 : decode cX5_image 37 = .ok (.iload_n 1, 1) := dk_27 (dk_at dksX5_image_1 13 rfl rfl)
theorem dX5_image_38 : decode cX5_image 38 = .ok (.imul, 1) := dk_104 (dk_at dksX5_image_1 14 rfl rfl)
theorem dX5_image_39 : decode cX5_image 39 = .ok (.iload_n 2, 1) := dk_28 (dk_at dksX5_image_1 15 rfl rfl)
theorem dX5_image_40 : decode cX5_image 40 = .ok (.iadd, 1) := dk_96 (dk_at dksX5_image_1 16 rfl rfl)
theorem dX5_image_41 : decode cX5_image 41 = .ok (.aload_n 0, 1) := dk_42 (dk_at dksX5_image_1 17 rfl rfl)
theorem dX5_image_42 : decode cX5_image 42 = .ok (.getfield 13, 3) := dk_180 0 13 (dk_at dksX5_image_1 18 rfl rfl)
theorem dX5_image_45 : decode cX5_image 45 = .ok (.iload_n 2, 1) := dk_28 (dk_at dksX5_image_1 21 rfl rfl)
theorem dX5_image_46 : decode cX5_image 46 = .ok (.iaload, 1) := dk_46 (dk_at dksX5_image_1 22 rfl rfl)
theorem dX5_image_47 : decode cX5_image 47 = .ok (.iastore, 1) := dk_79 (dk_at dksX5_image_1 23 rfl rfl)
theorem dX5_image_48 : decode cX5_image 48 = .ok (.iinc 2 1, 3) := dk_132 2 1 (dk_at dksX5_image_2 0 rfl rfl)
theorem dX5_image_51 : decode cX5_image 51 = .ok (.goto (-28), 3) := dk_167 255 228 (dk_at dksX5_image_2 3 rfl rfl)
theorem dX5_image_54 : decode cX5_image 54 = .ok (.aload_n 0, 1) := dk_42 (dk_at dksX5_image_2 6 rfl rfl)
theorem dX5_image_55 : decode cX5_image 55 = .ok (.getfield 19, 3) := dk_180 0 19 (dk_at dksX5_image_2 7 rfl rfl)
theorem dX5_image_58 : decode cX5_image 58 = .ok (.iload_n 1, 1) := dk_27 (dk_at dksX5_image_2 10 rfl rfl)
theorem dX5_image_59 : decode cX5_image 59 = .ok (.iconst 1, 1) := dk_4 (dk_at dksX5_image_2 11 rfl rfl)
theorem dX5_image_60 : decode cX5_image 60 = .ok (.bastore, 1) := dk_84 (dk_at dksX5_image_2 12 rfl rfl)
theorem dX5_image_61 : decode cX5_image 61 = .ok (.aload_n 0, 1) := dk_42 (dk_at dksX5_image_2 13 rfl rfl)
theorem dX5_image_62 : decode cX5_image 62 = .ok (.iconst 0, 1) := dk_3 (dk_at dksX5_image_2 14 rfl rfl)
theorem dX5_image_63 : decode cX5_image 63 = .ok (.invokevirtual 183, 3) := dk_182 0 183 (dk_at dksX5_image_2 15 rfl rfl)
theorem dX5_image_66 : decode cX5_image 66 = .ok (.ireturn, 1) := dk_172 (dk_at dksX5_image_2 18 rfl rfl)
abbrev cX5_in : ByteArray := prog_22_method_3_code
def yX5_in : MethodName := ⟨RX5, "in", "(JJJ)Z"⟩
def dkwX5_in_0 : List UInt8 := [30, 32, 148, 155, 0, 14, 30, 22, 4, 148, 157, 0, 7, 4, 167, 0, 4, 3, 172]
abbrev dktX5_in_0 : List UInt8 := dkwX5_in_0 ++ []
theorem dksX5_in_0 : cX5_in.data.toList.drop 0 = dktX5_in_0 := by decide +kernel
theorem dX5_in_0 : decode cX5_in 0 = .ok (.lload_n 0, 1) := dk_30 (dk_at dksX5_in_0 0 rfl rfl)
theorem dX5_in_1 : decode cX5_in 1 = .ok (.lload_n 2, 1) := dk_32 (dk_at dksX5_in_0 1 rfl rfl)
theorem dX5_in_2 : decode cX5_in 2 = .ok (.lcmp, 1) := dk_148 (dk_at dksX5_in_0 2 rfl rfl)
theorem dX5_in_3 : decode cX5_in 3 = .ok (.ifCond .lt 14, 3) := dk_155 0 14 (dk_at dksX5_in_0 3 rfl rfl)
theorem dX5_in_6 : decode cX5_in 6 = .ok (.lload_n 0, 1) := dk_30 (dk_at dksX5_in_0 6 rfl rfl)
theorem dX5_in_7 : decode cX5_in 7 = .ok (.lload 4, 2) := dk_22 4 (dk_at dksX5_in_0 7 rfl rfl)
theorem dX5_in_9 : decode cX5_in 9 = .ok (.lcmp, 1) := dk_148 (dk_at dksX5_in_0 9 rfl rfl)
theorem dX5_in_10 : decode cX5_in 10 = .ok (.ifCond .gt 7, 3) := dk_157 0 7 (dk_at dksX5_in_0 10 rfl rfl)
theorem dX5_in_13 : decode cX5_in 13 = .ok (.iconst 1, 1) := dk_4 (dk_at dksX5_in_0 13 rfl rfl)
theorem dX5_in_14 : decode cX5_in 14 = .ok (.goto 4, 3) := dk_167 0 4 (dk_at dksX5_in_0 14 rfl rfl)
theorem dX5_in_17 : decode cX5_in 17 = .ok (.iconst 0, 1) := dk_3 (dk_at dksX5_in_0 17 rfl rfl)
theorem dX5_in_18 : decode cX5_in 18 = .ok (.ireturn, 1) := dk_172 (dk_at dksX5_in_0 18 rfl rfl)
abbrev cX5_back : ByteArray := prog_22_method_15_code
def yX5_back : MethodName := ⟨RX5, "back", "(I)I"⟩
def dkwX5_back_3 : List UInt8 := [42, 3, 182, 0, 198, 172]
abbrev dktX5_back_3 : List UInt8 := dkwX5_back_3 ++ []
def dkwX5_back_2 : List UInt8 := [42, 180, 0, 13, 28, 42, 180, 0, 16, 17, 21, 164, 27, 104, 28, 96, 46, 79, 132, 2, 1, 167, 255, 228]
abbrev dktX5_back_2 : List UInt8 := dkwX5_back_2 ++ dktX5_back_3
def dkwX5_back_1 : List UInt8 := [180, 0, 19, 27, 51, 154, 0, 10, 42, 16, 254, 182, 0, 183, 172, 3, 61, 28, 17, 21, 164, 162, 0, 27]
abbrev dktX5_back_1 : List UInt8 := dkwX5_back_1 ++ dktX5_back_2
def dkwX5_back_0 : List UInt8 := [42, 3, 181, 0, 174, 27, 133, 9, 10, 184, 0, 194, 154, 0, 9, 42, 2, 182, 0, 183, 172, 42]
abbrev dktX5_back_0 : List UInt8 := dkwX5_back_0 ++ dktX5_back_1
theorem dksX5_back_0 : cX5_back.data.toList.drop 0 = dktX5_back_0 := by decide +kernel
theorem dksX5_back_1 : cX5_back.data.toList.drop 22 = dktX5_back_1 := dk_seg dksX5_back_0 22 rfl rfl
theorem dksX5_back_2 : cX5_back.data.toList.drop 46 = dktX5_back_2 := dk_seg dksX5_back_1 24 rfl rfl
theorem dksX5_back_3 : cX5_back.data.toList.drop 70 = dktX5_back_3 := dk_seg dksX5_back_2 24 rfl rfl
theorem dX5_back_0 : decode cX5_back 0 = .ok (.aload_n 0, 1) := dk_42 (dk_at dksX5_back_0 0 rfl rfl)
theorem dX5_back_1 : decode cX5_back 1 = .ok (.iconst 0, 1) := dk_3 (dk_at dksX5_back_0 1 rfl rfl)
theorem dX5_back_2 : decode cX5_back 2 = .ok (.putfield 174, 3) := dk_181 0 174 (dk_at dksX5_back_0 2 rfl rfl)
theorem dX5_back_5 : decode cX5_back 5 = .ok (.iload_n 1, 1) := dk_27 (dk_at dksX5_back_0 5 rfl rfl)
theorem dX5_back_6 : decode cX5_back 6 = .ok (.i2l, 1) := dk_133 (dk_at dksX5_back_0 6 rfl rfl)
theorem dX5_back_7 : decode cX5_back 7 = .ok (.lconst 0, 1) := dk_9 (dk_at dksX5_back_0 7 rfl rfl)
theorem dX5_back_8 : decode cX5_back 8 = .ok (.lconst 1, 1) := dk_10 (dk_at dksX5_back_0 8 rfl rfl)
theorem dX5_back_9 : decode cX5_back 9 = .ok (.invokestatic 194, 3) := dk_184 0 194 (dk_at dksX5_back_0 9 rfl rfl)
theorem dX5_back_12 : decode cX5_back 12 = .ok (.ifCond .ne 9, 3) := dk_154 0 9 (dk_at dksX5_back_0 12 rfl rfl)
theorem dX5_back_15 : decode cX5_back 15 = .ok (.aload_n 0, 1) := dk_42 (dk_at dksX5_back_0 15 rfl rfl)
theorem dX5_back_16 : decode cX5_back 16 = .ok (.iconst (-1), 1) := dk_2 (dk_at dksX5_back_0 16 rfl rfl)
theorem dX5_back_17 : decode cX5_back 17 = .ok (.invokevirtual 183, 3) := dk_182 0 183 (dk_at dksX5_back_0 17 rfl rfl)
theorem dX5_back_20 : decode cX5_back 20 = .ok (.ireturn, 1) := dk_172 (dk_at dksX5_back_0 20 rfl rfl)
theorem dX5_back_21 : decode cX5_back 21 = .ok (.aload_n 0, 1) := dk_42 (dk_at dksX5_back_0 21 rfl rfl)
theorem dX5_back_22 : decode cX5_back 22 = .ok (.getfield 19, 3) := dk_180 0 19 (dk_at dksX5_back_1 0 rfl rfl)
theorem dX5_back_25 : decode cX5_back 25 = .ok (.iload_n 1, 1) := dk_27 (dk_at dksX5_back_1 3 rfl rfl)
theorem dX5_back_26 : decode cX5_back 26 = .ok (.baload, 1) := dk_51 (dk_at dksX5_back_1 4 rfl rfl)
theorem dX5_back_27 : decode cX5_back 27 = .ok (.ifCond .ne 10, 3) := dk_154 0 10 (dk_at dksX5_back_1 5 rfl rfl)
theorem dX5_back_30 : decode cX5_back 30 = .ok (.aload_n 0, 1) := dk_42 (dk_at dksX5_back_1 8 rfl rfl)
theorem dX5_back_31 : decode cX5_back 31 = .ok (.bipush (-2), 2) := dk_16 254 (dk_at dksX5_back_1 9 rfl rfl)
theorem dX5_back_33 : decode cX5_back 33 = .ok (.invokevirtual 183, 3) := dk_182 0 183 (dk_at dksX5_back_1 11 rfl rfl)
theorem dX5_back_36 : decode cX5_back 36 = .ok (.ireturn, 1) := dk_172 (dk_at dksX5_back_1 14 rfl rfl)
theorem dX5_back_37 : decode cX5_back 37 = .ok (.iconst 0, 1) := dk_3 (dk_at dksX5_back_1 15 rfl rfl)
theorem dX5_back_38 : decode cX5_back 38 = .ok (.istore_n 2, 1) := dk_61 (dk_at dksX5_back_1 16 rfl rfl)
theorem dX5_back_39 : decode cX5_back 39 = .ok (.iload_n 2, 1) := dk_28 (dk_at dksX5_back_1 17 rfl rfl)
theorem dX5_back_40 : decode cX5_back 40 = .ok (.sipush 5540, 3) := dk_17 21 164 (dk_at dksX5_back_1 18 rfl rfl)
theorem dX5_back_43 : decode cX5_back 43 = .ok (.if_icmp .ge 27, 3) := dk_162 0 27 (dk_at dksX5_back_1 21 rfl rfl)
theorem dX5_back_46 : decode cX5_back 46 = .ok (.aload_n 0, 1) := dk_42 (dk_at dksX5_back_2 0 rfl rfl)
theorem dX5_back_47 : decode cX5_back 47 = .ok (.getfield 13, 3) := dk_180 0 13 (dk_at dksX5_back_2 1 rfl rfl)
theorem dX5_back_50 : decode cX5_back 50 = .ok (.iload_n 2, 1) := dk_28 (dk_at dksX5_back_2 4 rfl rfl)
theorem dX5_back_51 : decode cX5_back 51 = .ok (.aload_n 0, 1) := dk_42 (dk_at dksX5_back_2 5 rfl rfl)
theorem dX5_back_52 : decode cX5_back 52 = .ok (.getfield 16, 3) := dk_180 0 16 (dk_at dksX5_back_2 6 rfl rfl)
theorem dX5_back_55 : decode cX5_back 55 = .ok (.sipush 5540, 3) := dk_17 21 164 (dk_at dksX5_back_2 9 rfl rfl)
theorem dX5_back_58 : decode cX5_back 58 = .ok (.iload_n 1, 1) := dk_27 (dk_at dksX5_back_2 12 rfl rfl)
theorem dX5_back_59 : decode cX5_back 59 = .ok (.imul, 1) := dk_104 (dk_at dksX5_back_2 13 rfl rfl)
theorem dX5_back_60 : decode cX5_back 60 = .ok (.iload_n 2, 1) := dk_28 (dk_at dksX5_back_2 14 rfl rfl)
theorem dX5_back_61 : decode cX5_back 61 = .ok (.iadd, 1) := dk_96 (dk_at dksX5_back_2 15 rfl rfl)
theorem dX5_back_62 : decode cX5_back 62 = .ok (.iaload, 1) := dk_46 (dk_at dksX5_back_2 16 rfl rfl)
theorem dX5_back_63 : decode cX5_back 63 = .ok (.iastore, 1) := dk_79 (dk_at dksX5_back_2 17 rfl rfl)
theorem dX5_back_64 : decode cX5_back 64 = .ok (.iinc 2 1, 3) := dk_132 2 1 (dk_at dksX5_back_2 18 rfl rfl)
theorem dX5_back_67 : decode cX5_back 67 = .ok (.goto (-28), 3) := dk_167 255 228 (dk_at dksX5_back_2 21 rfl rfl)
theorem dX5_back_70 : decode cX5_back 70 = .ok (.aload_n 0, 1) := dk_42 (dk_at dksX5_back_3 0 rfl rfl)
theorem dX5_back_71 : decode cX5_back 71 = .ok (.iconst 0, 1) := dk_3 (dk_at dksX5_back_3 1 rfl rfl)
theorem dX5_back_72 : decode cX5_back 72 = .ok (.invokevirtual 198, 3) := dk_182 0 198 (dk_at dksX5_back_3 2 rfl rfl)
theorem dX5_back_75 : decode cX5_back 75 = .ok (.ireturn, 1) := dk_172 (dk_at dksX5_back_3 5 rfl rfl)
abbrev cX5_settled : ByteArray := prog_22_method_9_code
def yX5_settled : MethodName := ⟨RX5, "settled", "(I)I"⟩
def dkwX5_settled_0 : List UInt8 := [42, 27, 156, 0, 10, 42, 180, 0, 180, 167, 0, 4, 3, 181, 0, 180, 42, 27, 182, 0, 183, 172]
abbrev dktX5_settled_0 : List UInt8 := dkwX5_settled_0 ++ []
theorem dksX5_settled_0 : cX5_settled.data.toList.drop 0 = dktX5_settled_0 := by decide +kernel
theorem dX5_settled_0 : decode cX5_settled 0 = .ok (.aload_n 0, 1) := dk_42 (dk_at dksX5_settled_0 0 rfl rfl)
theorem dX5_settled_1 : decode cX5_settled 1 = .ok (.iload_n 1, 1) := dk_27 (dk_at dksX5_settled_0 1 rfl rfl)
theorem dX5_settled_2 : decode cX5_settled 2 = .ok (.ifCond .ge 10, 3) := dk_156 0 10 (dk_at dksX5_settled_0 2 rfl rfl)
theorem dX5_settled_5 : decode cX5_settled 5 = .ok (.aload_n 0, 1) := dk_42 (dk_at dksX5_settled_0 5 rfl rfl)
theorem dX5_settled_6 : decode cX5_settled 6 = .ok (.getfield 180, 3) := dk_180 0 180 (dk_at dksX5_settled_0 6 rfl rfl)
theorem dX5_settled_9 : decode cX5_settled 9 = .ok (.goto 4, 3) := dk_167 0 4 (dk_at dksX5_settled_0 9 rfl rfl)
theorem dX5_settled_12 : decode cX5_settled 12 = .ok (.iconst 0, 1) := dk_3 (dk_at dksX5_settled_0 12 rfl rfl)
theorem dX5_settled_13 : decode cX5_settled 13 = .ok (.putfield 180, 3) := dk_181 0 180 (dk_at dksX5_settled_0 13 rfl rfl)
theorem dX5_settled_16 : decode cX5_settled 16 = .ok (.aload_n 0, 1) := dk_42 (dk_at dksX5_settled_0 16 rfl rfl)
theorem dX5_settled_17 : decode cX5_settled 17 = .ok (.iload_n 1, 1) := dk_27 (dk_at dksX5_settled_0 17 rfl rfl)
theorem dX5_settled_18 : decode cX5_settled 18 = .ok (.invokevirtual 183, 3) := dk_182 0 183 (dk_at dksX5_settled_0 18 rfl rfl)
theorem dX5_settled_21 : decode cX5_settled 21 = .ok (.ireturn, 1) := dk_172 (dk_at dksX5_settled_0 21 rfl rfl)
abbrev cX5_put : ByteArray := prog_22_method_23_code
def yX5_put : MethodName := ⟨RX5, "put", "(III)I"⟩
def dkwX5_put_1 : List UInt8 := [182, 0, 183, 172, 42, 3, 181, 0, 180, 42, 16, 56, 16, 16, 28, 104, 96, 27, 96, 29, 182, 0, 213, 172]
abbrev dktX5_put_1 : List UInt8 := dkwX5_put_1 ++ []
def dkwX5_put_0 : List UInt8 := [42, 3, 181, 0, 174, 27, 184, 0, 205, 153, 0, 11, 28, 29, 184, 0, 209, 154, 0, 9, 42, 2]
abbrev dktX5_put_0 : List UInt8 := dkwX5_put_0 ++ dktX5_put_1
theorem dksX5_put_0 : cX5_put.data.toList.drop 0 = dktX5_put_0 := by decide +kernel
theorem dksX5_put_1 : cX5_put.data.toList.drop 22 = dktX5_put_1 := dk_seg dksX5_put_0 22 rfl rfl
theorem dX5_put_0 : decode cX5_put 0 = .ok (.aload_n 0, 1) := dk_42 (dk_at dksX5_put_0 0 rfl rfl)
theorem dX5_put_1 : decode cX5_put 1 = .ok (.iconst 0, 1) := dk_3 (dk_at dksX5_put_0 1 rfl rfl)
theorem dX5_put_2 : decode cX5_put 2 = .ok (.putfield 174, 3) := dk_181 0 174 (dk_at dksX5_put_0 2 rfl rfl)
theorem dX5_put_5 : decode cX5_put 5 = .ok (.iload_n 1, 1) := dk_27 (dk_at dksX5_put_0 5 rfl rfl)
theorem dX5_put_6 : decode cX5_put 6 = .ok (.invokestatic 205, 3) := dk_184 0 205 (dk_at dksX5_put_0 6 rfl rfl)
theorem dX5_put_9 : decode cX5_put 9 = .ok (.ifCond .eq 11, 3) := dk_153 0 11 (dk_at dksX5_put_0 9 rfl rfl)
theorem dX5_put_12 : decode cX5_put 12 = .ok (.iload_n 2, 1) := dk_28 (dk_at dksX5_put_0 12 rfl rfl)
theorem dX5_put_13 : decode cX5_put 13 = .ok (.iload_n 3, 1) := dk_29 (dk_at dksX5_put_0 13 rfl rfl)
theorem dX5_put_14 : decode cX5_put 14 = .ok (.invokestatic 209, 3) := dk_184 0 209 (dk_at dksX5_put_0 14 rfl rfl)
theorem dX5_put_17 : decode cX5_put 17 = .ok (.ifCond .ne 9, 3) := dk_154 0 9 (dk_at dksX5_put_0 17 rfl rfl)
theorem dX5_put_20 : decode cX5_put 20 = .ok (.aload_n 0, 1) := dk_42 (dk_at dksX5_put_0 20 rfl rfl)
theorem dX5_put_21 : decode cX5_put 21 = .ok (.iconst (-1), 1) := dk_2 (dk_at dksX5_put_0 21 rfl rfl)
theorem dX5_put_22 : decode cX5_put 22 = .ok (.invokevirtual 183, 3) := dk_182 0 183 (dk_at dksX5_put_1 0 rfl rfl)
theorem dX5_put_25 : decode cX5_put 25 = .ok (.ireturn, 1) := dk_172 (dk_at dksX5_put_1 3 rfl rfl)
theorem dX5_put_26 : decode cX5_put 26 = .ok (.aload_n 0, 1) := dk_42 (dk_at dksX5_put_1 4 rfl rfl)
theorem dX5_put_27 : decode cX5_put 27 = .ok (.iconst 0, 1) := dk_3 (dk_at dksX5_put_1 5 rfl rfl)
theorem dX5_put_28 : decode cX5_put 28 = .ok (.putfield 180, 3) := dk_181 0 180 (dk_at dksX5_put_1 6 rfl rfl)
theorem dX5_put_31 : decode cX5_put 31 = .ok (.aload_n 0, 1) := dk_42 (dk_at dksX5_put_1 9 rfl rfl)
theorem dX5_put_32 : decode cX5_put 32 = .ok (.bipush 56, 2) := dk_16 56 (dk_at dksX5_put_1 10 rfl rfl)
theorem dX5_put_34 : decode cX5_put 34 = .ok (.bipush 16, 2) := dk_16 16 (dk_at dksX5_put_1 12 rfl rfl)
theorem dX5_put_36 : decode cX5_put 36 = .ok (.iload_n 2, 1) := dk_28 (dk_at dksX5_put_1 14 rfl rfl)
theorem dX5_put_37 : decode cX5_put 37 = .ok (.imul, 1) := dk_104 (dk_at dksX5_put_1 15 rfl rfl)
theorem dX5_put_38 : decode cX5_put 38 = .ok (.iadd, 1) := dk_96 (dk_at dksX5_put_1 16 rfl rfl)
theorem dX5_put_39 : decode cX5_put 39 = .ok (.iload_n 1, 1) := dk_27 (dk_at dksX5_put_1 17 rfl rfl)
theorem dX5_put_40 : decode cX5_put 40 = .ok (.iadd, 1) := dk_96 (dk_at dksX5_put_1 18 rfl rfl)
theorem dX5_put_41 : decode cX5_put 41 = .ok (.iload_n 3, 1) := dk_29 (dk_at dksX5_put_1 19 rfl rfl)
theorem dX5_put_42 : decode cX5_put 42 = .ok (.invokevirtual 213, 3) := dk_182 0 213 (dk_at dksX5_put_1 20 rfl rfl)
theorem dX5_put_45 : decode cX5_put 45 = .ok (.ireturn, 1) := dk_172 (dk_at dksX5_put_1 23 rfl rfl)
abbrev cX5_isRoom : ByteArray := prog_22_method_17_code
def yX5_isRoom : MethodName := ⟨RX5, "isRoom", "(I)Z"⟩
def dkwX5_isRoom_0 : List UInt8 := [26, 133, 9, 20, 0, 201, 184, 0, 194, 172]
abbrev dktX5_isRoom_0 : List UInt8 := dkwX5_isRoom_0 ++ []
theorem dksX5_isRoom_0 : cX5_isRoom.data.toList.drop 0 = dktX5_isRoom_0 := by decide +kernel
theorem dX5_isRoom_0 : decode cX5_isRoom 0 = .ok (.iload_n 0, 1) := dk_26 (dk_at dksX5_isRoom_0 0 rfl rfl)
theorem dX5_isRoom_1 : decode cX5_isRoom 1 = .ok (.i2l, 1) := dk_133 (dk_at dksX5_isRoom_0 1 rfl rfl)
theorem dX5_isRoom_2 : decode cX5_isRoom 2 = .ok (.lconst 0, 1) := dk_9 (dk_at dksX5_isRoom_0 2 rfl rfl)
theorem dX5_isRoom_3 : decode cX5_isRoom 3 = .ok (.ldc2_w 201, 3) := dk_20 0 201 (dk_at dksX5_isRoom_0 3 rfl rfl)
theorem dX5_isRoom_6 : decode cX5_isRoom 6 = .ok (.invokestatic 194, 3) := dk_184 0 194 (dk_at dksX5_isRoom_0 6 rfl rfl)
theorem dX5_isRoom_9 : decode cX5_isRoom 9 = .ok (.ireturn, 1) := dk_172 (dk_at dksX5_isRoom_0 9 rfl rfl)
abbrev cX5_canBe : ByteArray := prog_22_method_22_code
def yX5_canBe : MethodName := ⟨RX5, "canBe", "(II)Z"⟩
def dkwX5_canBe_1 : List UInt8 := [160, 0, 19, 27, 133, 10, 20, 0, 203, 184, 0, 194, 153, 0, 7, 4, 167, 0, 4, 3, 172]
abbrev dktX5_canBe_1 : List UInt8 := dkwX5_canBe_1 ++ []
def dkwX5_canBe_0 : List UInt8 := [26, 153, 0, 8, 26, 4, 160, 0, 15, 27, 133, 9, 20, 0, 203, 184, 0, 194, 167, 0, 25, 26, 5]
abbrev dktX5_canBe_0 : List UInt8 := dkwX5_canBe_0 ++ dktX5_canBe_1
theorem dksX5_canBe_0 : cX5_canBe.data.toList.drop 0 = dktX5_canBe_0 := by decide +kernel
theorem dksX5_canBe_1 : cX5_canBe.data.toList.drop 23 = dktX5_canBe_1 := dk_seg dksX5_canBe_0 23 rfl rfl
theorem dX5_canBe_0 : decode cX5_canBe 0 = .ok (.iload_n 0, 1) := dk_26 (dk_at dksX5_canBe_0 0 rfl rfl)
theorem dX5_canBe_1 : decode cX5_canBe 1 = .ok (.ifCond .eq 8, 3) := dk_153 0 8 (dk_at dksX5_canBe_0 1 rfl rfl)
theorem dX5_canBe_4 : decode cX5_canBe 4 = .ok (.iload_n 0, 1) := dk_26 (dk_at dksX5_canBe_0 4 rfl rfl)
theorem dX5_canBe_5 : decode cX5_canBe 5 = .ok (.iconst 1, 1) := dk_4 (dk_at dksX5_canBe_0 5 rfl rfl)
theorem dX5_canBe_6 : decode cX5_canBe 6 = .ok (.if_icmp .ne 15, 3) := dk_160 0 15 (dk_at dksX5_canBe_0 6 rfl rfl)
theorem dX5_canBe_9 : decode cX5_canBe 9 = .ok (.iload_n 1, 1) := dk_27 (dk_at dksX5_canBe_0 9 rfl rfl)
theorem dX5_canBe_10 : decode cX5_canBe 10 = .ok (.i2l, 1) := dk_133 (dk_at dksX5_canBe_0 10 rfl rfl)
theorem dX5_canBe_11 : decode cX5_canBe 11 = .ok (.lconst 0, 1) := dk_9 (dk_at dksX5_canBe_0 11 rfl rfl)
theorem dX5_canBe_12 : decode cX5_canBe 12 = .ok (.ldc2_w 203, 3) := dk_20 0 203 (dk_at dksX5_canBe_0 12 rfl rfl)
theorem dX5_canBe_15 : decode cX5_canBe 15 = .ok (.invokestatic 194, 3) := dk_184 0 194 (dk_at dksX5_canBe_0 15 rfl rfl)
theorem dX5_canBe_18 : decode cX5_canBe 18 = .ok (.goto 25, 3) := dk_167 0 25 (dk_at dksX5_canBe_0 18 rfl rfl)
theorem dX5_canBe_21 : decode cX5_canBe 21 = .ok (.iload_n 0, 1) := dk_26 (dk_at dksX5_canBe_0 21 rfl rfl)
theorem dX5_canBe_22 : decode cX5_canBe 22 = .ok (.iconst 2, 1) := dk_5 (dk_at dksX5_canBe_0 22 rfl rfl)
theorem dX5_canBe_23 : decode cX5_canBe 23 = .ok (.if_icmp .ne 19, 3) := dk_160 0 19 (dk_at dksX5_canBe_1 0 rfl rfl)
theorem dX5_canBe_26 : decode cX5_canBe 26 = .ok (.iload_n 1, 1) := dk_27 (dk_at dksX5_canBe_1 3 rfl rfl)
theorem dX5_canBe_27 : decode cX5_canBe 27 = .ok (.i2l, 1) := dk_133 (dk_at dksX5_canBe_1 4 rfl rfl)
theorem dX5_canBe_28 : decode cX5_canBe 28 = .ok (.lconst 1, 1) := dk_10 (dk_at dksX5_canBe_1 5 rfl rfl)
theorem dX5_canBe_29 : decode cX5_canBe 29 = .ok (.ldc2_w 203, 3) := dk_20 0 203 (dk_at dksX5_canBe_1 6 rfl rfl)
theorem dX5_canBe_32 : decode cX5_canBe 32 = .ok (.invokestatic 194, 3) := dk_184 0 194 (dk_at dksX5_canBe_1 9 rfl rfl)
theorem dX5_canBe_35 : decode cX5_canBe 35 = .ok (.ifCond .eq 7, 3) := dk_153 0 7 (dk_at dksX5_canBe_1 12 rfl rfl)
theorem dX5_canBe_38 : decode cX5_canBe 38 = .ok (.iconst 1, 1) := dk_4 (dk_at dksX5_canBe_1 15 rfl rfl)
theorem dX5_canBe_39 : decode cX5_canBe 39 = .ok (.goto 4, 3) := dk_167 0 4 (dk_at dksX5_canBe_1 16 rfl rfl)
theorem dX5_canBe_42 : decode cX5_canBe 42 = .ok (.iconst 0, 1) := dk_3 (dk_at dksX5_canBe_1 19 rfl rfl)
theorem dX5_canBe_43 : decode cX5_canBe 43 = .ok (.ireturn, 1) := dk_172 (dk_at dksX5_canBe_1 20 rfl rfl)
abbrev cX5_change : ByteArray := prog_22_method_8_code
def yX5_change : MethodName := ⟨RX5, "change", "(II)I"⟩
def dkwX5_change_0 : List UInt8 := [42, 180, 0, 13, 27, 46, 62, 42, 180, 0, 13, 27, 28, 79, 42, 3, 181, 0, 177, 29, 172]
abbrev dktX5_change_0 : List UInt8 := dkwX5_change_0 ++ []
theorem dksX5_change_0 : cX5_change.data.toList.drop 0 = dktX5_change_0 := by decide +kernel
theorem dX5_change_0 : decode cX5_change 0 = .ok (.aload_n 0, 1) := dk_42 (dk_at dksX5_change_0 0 rfl rfl)
theorem dX5_change_1 : decode cX5_change 1 = .ok (.getfield 13, 3) := dk_180 0 13 (dk_at dksX5_change_0 1 rfl rfl)
theorem dX5_change_4 : decode cX5_change 4 = .ok (.iload_n 1, 1) := dk_27 (dk_at dksX5_change_0 4 rfl rfl)
theorem dX5_change_5 : decode cX5_change 5 = .ok (.iaload, 1) := dk_46 (dk_at dksX5_change_0 5 rfl rfl)
theorem dX5_change_6 : decode cX5_change 6 = .ok (.istore_n 3, 1) := dk_62 (dk_at dksX5_change_0 6 rfl rfl)
theorem dX5_change_7 : decode cX5_change 7 = .ok (.aload_n 0, 1) := dk_42 (dk_at dksX5_change_0 7 rfl rfl)
theorem dX5_change_8 : decode cX5_change 8 = .ok (.getfield 13, 3) := dk_180 0 13 (dk_at dksX5_change_0 8 rfl rfl)
theorem dX5_change_11 : decode cX5_change 11 = .ok (.iload_n 1, 1) := dk_27 (dk_at dksX5_change_0 11 rfl rfl)
theorem dX5_change_12 : decode cX5_change 12 = .ok (.iload_n 2, 1) := dk_28 (dk_at dksX5_change_0 12 rfl rfl)
theorem dX5_change_13 : decode cX5_change 13 = .ok (.iastore, 1) := dk_79 (dk_at dksX5_change_0 13 rfl rfl)
theorem dX5_change_14 : decode cX5_change 14 = .ok (.aload_n 0, 1) := dk_42 (dk_at dksX5_change_0 14 rfl rfl)
theorem dX5_change_15 : decode cX5_change 15 = .ok (.iconst 0, 1) := dk_3 (dk_at dksX5_change_0 15 rfl rfl)
theorem dX5_change_16 : decode cX5_change 16 = .ok (.putfield 177, 3) := dk_181 0 177 (dk_at dksX5_change_0 16 rfl rfl)
theorem dX5_change_19 : decode cX5_change 19 = .ok (.iload_n 3, 1) := dk_29 (dk_at dksX5_change_0 19 rfl rfl)
theorem dX5_change_20 : decode cX5_change 20 = .ok (.ireturn, 1) := dk_172 (dk_at dksX5_change_0 20 rfl rfl)
abbrev cX5_at : ByteArray := prog_22_method_24_code
def yX5_at : MethodName := ⟨RX5, "at", "(II)I"⟩
def dkwX5_at_6 : List UInt8 := [3, 172, 2, 172]
abbrev dktX5_at_6 : List UInt8 := dkwX5_at_6 ++ []
def dkwX5_at_5 : List UInt8 := [182, 0, 223, 167, 0, 4, 2, 172, 42, 27, 182, 0, 220, 153, 0, 11, 42, 27, 182, 0, 226, 167, 0, 4]
abbrev dktX5_at_5 : List UInt8 := dkwX5_at_5 ++ dktX5_at_6
def dkwX5_at_4 : List UInt8 := [182, 0, 217, 153, 0, 7, 4, 167, 0, 4, 3, 172, 42, 27, 182, 0, 220, 153, 0, 11, 42, 27]
abbrev dktX5_at_4 : List UInt8 := dkwX5_at_4 ++ dktX5_at_5
def dkwX5_at_3 : List UInt8 := [172, 42, 180, 0, 13, 16, 24, 27, 96, 46, 172, 42, 180, 0, 13, 16, 40, 27, 96, 46, 172, 42, 27]
abbrev dktX5_at_3 : List UInt8 := dkwX5_at_3 ++ dktX5_at_4
def dkwX5_at_2 : List UInt8 := [42, 180, 0, 13, 16, 56, 16, 16, 28, 104, 96, 27, 96, 46, 172, 42, 180, 0, 13, 16, 8, 27, 96, 46]
abbrev dktX5_at_2 : List UInt8 := dkwX5_at_2 ++ dktX5_at_3
def dkwX5_at_1 : List UInt8 := [170, 0, 0, 0, 144, 0, 0, 0, 0, 0, 0, 0, 8, 0, 0, 0, 49, 0, 0, 0, 49, 0, 0, 0, 49, 0, 0, 0, 64, 0, 0, 0, 74, 0, 0, 0, 84, 0, 0, 0, 94, 0, 0, 0, 108, 0, 0, 0, 126]
abbrev dktX5_at_1 : List UInt8 := dkwX5_at_1 ++ dktX5_at_2
def dkwX5_at_0 : List UInt8 := [42, 3, 181, 0, 174, 27, 184, 0, 205, 154, 0, 5, 2, 172, 28]
abbrev dktX5_at_0 : List UInt8 := dkwX5_at_0 ++ dktX5_at_1
theorem dksX5_at_0 : cX5_at.data.toList.drop 0 = dktX5_at_0 := by decide +kernel
theorem dksX5_at_1 : cX5_at.data.toList.drop 15 = dktX5_at_1 := dk_seg dksX5_at_0 15 rfl rfl
theorem dksX5_at_2 : cX5_at.data.toList.drop 64 = dktX5_at_2 := dk_seg dksX5_at_1 49 rfl rfl
theorem dksX5_at_3 : cX5_at.data.toList.drop 88 = dktX5_at_3 := dk_seg dksX5_at_2 24 rfl rfl
theorem dksX5_at_4 : cX5_at.data.toList.drop 111 = dktX5_at_4 := dk_seg dksX5_at_3 23 rfl rfl
theorem dksX5_at_5 : cX5_at.data.toList.drop 133 = dktX5_at_5 := dk_seg dksX5_at_4 22 rfl rfl
theorem dksX5_at_6 : cX5_at.data.toList.drop 157 = dktX5_at_6 := dk_seg dksX5_at_5 24 rfl rfl
theorem dX5_at_0 : decode cX5_at 0 = .ok (.aload_n 0, 1) := dk_42 (dk_at dksX5_at_0 0 rfl rfl)
theorem dX5_at_1 : decode cX5_at 1 = .ok (.iconst 0, 1) := dk_3 (dk_at dksX5_at_0 1 rfl rfl)
theorem dX5_at_2 : decode cX5_at 2 = .ok (.putfield 174, 3) := dk_181 0 174 (dk_at dksX5_at_0 2 rfl rfl)
theorem dX5_at_5 : decode cX5_at 5 = .ok (.iload_n 1, 1) := dk_27 (dk_at dksX5_at_0 5 rfl rfl)
theorem dX5_at_6 : decode cX5_at 6 = .ok (.invokestatic 205, 3) := dk_184 0 205 (dk_at dksX5_at_0 6 rfl rfl)
theorem dX5_at_9 : decode cX5_at 9 = .ok (.ifCond .ne 5, 3) := dk_154 0 5 (dk_at dksX5_at_0 9 rfl rfl)
theorem dX5_at_12 : decode cX5_at 12 = .ok (.iconst (-1), 1) := dk_2 (dk_at dksX5_at_0 12 rfl rfl)
theorem dX5_at_13 : decode cX5_at 13 = .ok (.ireturn, 1) := dk_172 (dk_at dksX5_at_0 13 rfl rfl)
theorem dX5_at_14 : decode cX5_at 14 = .ok (.iload_n 2, 1) := dk_28 (dk_at dksX5_at_0 14 rfl rfl)
theorem dX5_at_15 : decode cX5_at 15 = .ok (.tableswitch 144 0 8 #[49, 49, 49, 64, 74, 84, 94, 108, 126], 49) := by decide +kernel
theorem dX5_at_64 : decode cX5_at 64 = .ok (.aload_n 0, 1) := dk_42 (dk_at dksX5_at_2 0 rfl rfl)
theorem dX5_at_65 : decode cX5_at 65 = .ok (.getfield 13, 3) := dk_180 0 13 (dk_at dksX5_at_2 1 rfl rfl)
theorem dX5_at_68 : decode cX5_at 68 = .ok (.bipush 56, 2) := dk_16 56 (dk_at dksX5_at_2 4 rfl rfl)
theorem dX5_at_70 : decode cX5_at 70 = .ok (.bipush 16, 2) := dk_16 16 (dk_at dksX5_at_2 6 rfl rfl)
theorem dX5_at_72 : decode cX5_at 72 = .ok (.iload_n 2, 1) := dk_28 (dk_at dksX5_at_2 8 rfl rfl)
theorem dX5_at_73 : decode cX5_at 73 = .ok (.imul, 1) := dk_104 (dk_at dksX5_at_2 9 rfl rfl)
theorem dX5_at_74 : decode cX5_at 74 = .ok (.iadd, 1) := dk_96 (dk_at dksX5_at_2 10 rfl rfl)
theorem dX5_at_75 : decode cX5_at 75 = .ok (.iload_n 1, 1) := dk_27 (dk_at dksX5_at_2 11 rfl rfl)
theorem dX5_at_76 : decode cX5_at 76 = .ok (.iadd, 1) := dk_96 (dk_at dksX5_at_2 12 rfl rfl)
theorem dX5_at_77 : decode cX5_at 77 = .ok (.iaload, 1) := dk_46 (dk_at dksX5_at_2 13 rfl rfl)
theorem dX5_at_78 : decode cX5_at 78 = .ok (.ireturn, 1) := dk_172 (dk_at dksX5_at_2 14 rfl rfl)
theorem dX5_at_79 : decode cX5_at 79 = .ok (.aload_n 0, 1) := dk_42 (dk_at dksX5_at_2 15 rfl rfl)
theorem dX5_at_80 : decode cX5_at 80 = .ok (.getfield 13, 3) := dk_180 0 13 (dk_at dksX5_at_2 16 rfl rfl)
theorem dX5_at_83 : decode cX5_at 83 = .ok (.bipush 8, 2) := dk_16 8 (dk_at dksX5_at_2 19 rfl rfl)
theorem dX5_at_85 : decode cX5_at 85 = .ok (.iload_n 1, 1) := dk_27 (dk_at dksX5_at_2 21 rfl rfl)
theorem dX5_at_86 : decode cX5_at 86 = .ok (.iadd, 1) := dk_96 (dk_at dksX5_at_2 22 rfl rfl)
theorem dX5_at_87 : decode cX5_at 87 = .ok (.iaload, 1) := dk_46 (dk_at dksX5_at_2 23 rfl rfl)
theorem dX5_at_88 : decode cX5_at 88 = .ok (.ireturn, 1) := dk_172 (dk_at dksX5_at_3 0 rfl rfl)
theorem dX5_at_89 : decode cX5_at 89 = .ok (.aload_n 0, 1) := dk_42 (dk_at dksX5_at_3 1 rfl rfl)
theorem dX5_at_90 : decode cX5_at 90 = .ok (.getfield 13, 3) := dk_180 0 13 (dk_at dksX5_at_3 2 rfl rfl)
theorem dX5_at_93 : decode cX5_at 93 = .ok (.bipush 24, 2) := dk_16 24 (dk_at dksX5_at_3 5 rfl rfl)
theorem dX5_at_95 : decode cX5_at 95 = .ok (.iload_n 1, 1) := dk_27 (dk_at dksX5_at_3 7 rfl rfl)
theorem dX5_at_96 : decode cX5_at 96 = .ok (.iadd, 1) := dk_96 (dk_at dksX5_at_3 8 rfl rfl)
theorem dX5_at_97 : decode cX5_at 97 = .ok (.iaload, 1) := dk_46 (dk_at dksX5_at_3 9 rfl rfl)
theorem dX5_at_98 : decode cX5_at 98 = .ok (.ireturn, 1) := dk_172 (dk_at dksX5_at_3 10 rfl rfl)
theorem dX5_at_99 : decode cX5_at 99 = .ok (.aload_n 0, 1) := dk_42 (dk_at dksX5_at_3 11 rfl rfl)
theorem dX5_at_100 : decode cX5_at 100 = .ok (.getfield 13, 3) := dk_180 0 13 (dk_at dksX5_at_3 12 rfl rfl)
theorem dX5_at_103 : decode cX5_at 103 = .ok (.bipush 40, 2) := dk_16 40 (dk_at dksX5_at_3 15 rfl rfl)
theorem dX5_at_105 : decode cX5_at 105 = .ok (.iload_n 1, 1) := dk_27 (dk_at dksX5_at_3 17 rfl rfl)
theorem dX5_at_106 : decode cX5_at 106 = .ok (.iadd, 1) := dk_96 (dk_at dksX5_at_3 18 rfl rfl)
theorem dX5_at_107 : decode cX5_at 107 = .ok (.iaload, 1) := dk_46 (dk_at dksX5_at_3 19 rfl rfl)
theorem dX5_at_108 : decode cX5_at 108 = .ok (.ireturn, 1) := dk_172 (dk_at dksX5_at_3 20 rfl rfl)
theorem dX5_at_109 : decode cX5_at 109 = .ok (.aload_n 0, 1) := dk_42 (dk_at dksX5_at_3 21 rfl rfl)
theorem dX5_at_110 : decode cX5_at 110 = .ok (.iload_n 1, 1) := dk_27 (dk_at dksX5_at_3 22 rfl rfl)
theorem dX5_at_111 : decode cX5_at 111 = .ok (.invokevirtual 217, 3) := dk_182 0 217 (dk_at dksX5_at_4 0 rfl rfl)
theorem dX5_at_114 : decode cX5_at 114 = .ok (.ifCond .eq 7, 3) := dk_153 0 7 (dk_at dksX5_at_4 3 rfl rfl)
theorem dX5_at_117 : decode cX5_at 117 = .ok (.iconst 1, 1) := dk_4 (dk_at dksX5_at_4 6 rfl rfl)
theorem dX5_at_118 : decode cX5_at 118 = .ok (.goto 4, 3) := dk_167 0 4 (dk_at dksX5_at_4 7 rfl rfl)
theorem dX5_at_121 : decode cX5_at 121 = .ok (.iconst 0, 1) := dk_3 (dk_at dksX5_at_4 10 rfl rfl)
theorem dX5_at_122 : decode cX5_at 122 = .ok (.ireturn, 1) := dk_172 (dk_at dksX5_at_4 11 rfl rfl)
theorem dX5_at_123 : decode cX5_at 123 = .ok (.aload_n 0, 1) := dk_42 (dk_at dksX5_at_4 12 rfl rfl)
theorem dX5_at_124 : decode cX5_at 124 = .ok (.iload_n 1, 1) := dk_27 (dk_at dksX5_at_4 13 rfl rfl)
theorem dX5_at_125 : decode cX5_at 125 = .ok (.invokevirtual 220, 3) := dk_182 0 220 (dk_at dksX5_at_4 14 rfl rfl)
theorem dX5_at_128 : decode cX5_at 128 = .ok (.ifCond .eq 11, 3) := dk_153 0 11 (dk_at dksX5_at_4 17 rfl rfl)
theorem dX5_at_131 : decode cX5_at 131 = .ok (.aload_n 0, 1) := dk_42 (dk_at dksX5_at_4 20 rfl rfl)
theorem dX5_at_132 : decode cX5_at 132 = .ok (.iload_n 1, 1) := dk_27 (dk_at dksX5_at_4 21 rfl rfl)
theorem dX5_at_133 : decode cX5_at 133 = .ok (.invokevirtual 223, 3) := dk_182 0 223 (dk_at dksX5_at_5 0 rfl rfl)
theorem dX5_at_136 : decode cX5_at 136 = .ok (.goto 4, 3) := dk_167 0 4 (dk_at dksX5_at_5 3 rfl rfl)
theorem dX5_at_139 : decode cX5_at 139 = .ok (.iconst (-1), 1) := dk_2 (dk_at dksX5_at_5 6 rfl rfl)
theorem dX5_at_140 : decode cX5_at 140 = .ok (.ireturn, 1) := dk_172 (dk_at dksX5_at_5 7 rfl rfl)
theorem dX5_at_141 : decode cX5_at 141 = .ok (.aload_n 0, 1) := dk_42 (dk_at dksX5_at_5 8 rfl rfl)
theorem dX5_at_142 : decode cX5_at 142 = .ok (.iload_n 1, 1) := dk_27 (dk_at dksX5_at_5 9 rfl rfl)
theorem dX5_at_143 : decode cX5_at 143 = .ok (.invokevirtual 220, 3) := dk_182 0 220 (dk_at dksX5_at_5 10 rfl rfl)
theorem dX5_at_146 : decode cX5_at 146 = .ok (.ifCond .eq 11, 3) := dk_153 0 11 (dk_at dksX5_at_5 13 rfl rfl)
theorem dX5_at_149 : decode cX5_at 149 = .ok (.aload_n 0, 1) := dk_42 (dk_at dksX5_at_5 16 rfl rfl)
theorem dX5_at_150 : decode cX5_at 150 = .ok (.iload_n 1, 1) := dk_27 (dk_at dksX5_at_5 17 rfl rfl)
theorem dX5_at_151 : decode cX5_at 151 = .ok (.invokevirtual 226, 3) := dk_182 0 226 (dk_at dksX5_at_5 18 rfl rfl)
theorem dX5_at_154 : decode cX5_at 154 = .ok (.goto 4, 3) := dk_167 0 4 (dk_at dksX5_at_5 21 rfl rfl)
theorem dX5_at_157 : decode cX5_at 157 = .ok (.iconst 0, 1) := dk_3 (dk_at dksX5_at_6 0 rfl rfl)
theorem dX5_at_158 : decode cX5_at 158 = .ok (.ireturn, 1) := dk_172 (dk_at dksX5_at_6 1 rfl rfl)
theorem dX5_at_159 : decode cX5_at 159 = .ok (.iconst (-1), 1) := dk_2 (dk_at dksX5_at_6 2 rfl rfl)
theorem dX5_at_160 : decode cX5_at 160 = .ok (.ireturn, 1) := dk_172 (dk_at dksX5_at_6 3 rfl rfl)
abbrev cX5_isLost : ByteArray := prog_22_method_20_code
def yX5_isLost : MethodName := ⟨RX5, "isLost", "(I)Z"⟩
def dkwX5_isLost_1 : List UInt8 := [4, 167, 0, 4, 3, 172]
abbrev dktX5_isLost_1 : List UInt8 := dkwX5_isLost_1 ++ []
def dkwX5_isLost_0 : List UInt8 := [42, 180, 0, 13, 16, 24, 27, 96, 46, 16, 10, 42, 180, 0, 13, 16, 88, 27, 96, 46, 104, 164, 0, 7]
abbrev dktX5_isLost_0 : List UInt8 := dkwX5_isLost_0 ++ dktX5_isLost_1
theorem dksX5_isLost_0 : cX5_isLost.data.toList.drop 0 = dktX5_isLost_0 := by decide +kernel
theorem dksX5_isLost_1 : cX5_isLost.data.toList.drop 24 = dktX5_isLost_1 := dk_seg dksX5_isLost_0 24 rfl rfl
theorem dX5_isLost_0 : decode cX5_isLost 0 = .ok (.aload_n 0, 1) := dk_42 (dk_at dksX5_isLost_0 0 rfl rfl)
theorem dX5_isLost_1 : decode cX5_isLost 1 = .ok (.getfield 13, 3) := dk_180 0 13 (dk_at dksX5_isLost_0 1 rfl rfl)
theorem dX5_isLost_4 : decode cX5_isLost 4 = .ok (.bipush 24, 2) := dk_16 24 (dk_at dksX5_isLost_0 4 rfl rfl)
theorem dX5_isLost_6 : decode cX5_isLost 6 = .ok (.iload_n 1, 1) := dk_27 (dk_at dksX5_isLost_0 6 rfl rfl)
theorem dX5_isLost_7 : decode cX5_isLost 7 = .ok (.iadd, 1) := dk_96 (dk_at dksX5_isLost_0 7 rfl rfl)
theorem dX5_isLost_8 : decode cX5_isLost 8 = .ok (.iaload, 1) := dk_46 (dk_at dksX5_isLost_0 8 rfl rfl)
theorem dX5_isLost_9 : decode cX5_isLost 9 = .ok (.bipush 10, 2) := dk_16 10 (dk_at dksX5_isLost_0 9 rfl rfl)
theorem dX5_isLost_11 : decode cX5_isLost 11 = .ok (.aload_n 0, 1) := dk_42 (dk_at dksX5_isLost_0 11 rfl rfl)
theorem dX5_isLost_12 : decode cX5_isLost 12 = .ok (.getfield 13, 3) := dk_180 0 13 (dk_at dksX5_isLost_0 12 rfl rfl)
theorem dX5_isLost_15 : decode cX5_isLost 15 = .ok (.bipush 88, 2) := dk_16 88 (dk_at dksX5_isLost_0 15 rfl rfl)
theorem dX5_isLost_17 : decode cX5_isLost 17 = .ok (.iload_n 1, 1) := dk_27 (dk_at dksX5_isLost_0 17 rfl rfl)
theorem dX5_isLost_18 : decode cX5_isLost 18 = .ok (.iadd, 1) := dk_96 (dk_at dksX5_isLost_0 18 rfl rfl)
theorem dX5_isLost_19 : decode cX5_isLost 19 = .ok (.iaload, 1) := dk_46 (dk_at dksX5_isLost_0 19 rfl rfl)
theorem dX5_isLost_20 : decode cX5_isLost 20 = .ok (.imul, 1) := dk_104 (dk_at dksX5_isLost_0 20 rfl rfl)
theorem dX5_isLost_21 : decode cX5_isLost 21 = .ok (.if_icmp .le 7, 3) := dk_164 0 7 (dk_at dksX5_isLost_0 21 rfl rfl)
theorem dX5_isLost_24 : decode cX5_isLost 24 = .ok (.iconst 1, 1) := dk_4 (dk_at dksX5_isLost_1 0 rfl rfl)
theorem dX5_isLost_25 : decode cX5_isLost 25 = .ok (.goto 4, 3) := dk_167 0 4 (dk_at dksX5_isLost_1 1 rfl rfl)
theorem dX5_isLost_28 : decode cX5_isLost 28 = .ok (.iconst 0, 1) := dk_3 (dk_at dksX5_isLost_1 4 rfl rfl)
theorem dX5_isLost_29 : decode cX5_isLost 29 = .ok (.ireturn, 1) := dk_172 (dk_at dksX5_isLost_1 5 rfl rfl)
abbrev cX5_isTree : ByteArray := prog_22_method_19_code
def yX5_isTree : MethodName := ⟨RX5, "isTree", "(I)Z"⟩
def dkwX5_isTree_0 : List UInt8 := [42, 180, 0, 13, 16, 8, 27, 96, 46, 2, 159, 0, 7, 4, 167, 0, 4, 3, 172]
abbrev dktX5_isTree_0 : List UInt8 := dkwX5_isTree_0 ++ []
theorem dksX5_isTree_0 : cX5_isTree.data.toList.drop 0 = dktX5_isTree_0 := by decide +kernel
theorem dX5_isTree_0 : decode cX5_isTree 0 = .ok (.aload_n 0, 1) := dk_42 (dk_at dksX5_isTree_0 0 rfl rfl)
theorem dX5_isTree_1 : decode cX5_isTree 1 = .ok (.getfield 13, 3) := dk_180 0 13 (dk_at dksX5_isTree_0 1 rfl rfl)
theorem dX5_isTree_4 : decode cX5_isTree 4 = .ok (.bipush 8, 2) := dk_16 8 (dk_at dksX5_isTree_0 4 rfl rfl)
theorem dX5_isTree_6 : decode cX5_isTree 6 = .ok (.iload_n 1, 1) := dk_27 (dk_at dksX5_isTree_0 6 rfl rfl)
theorem dX5_isTree_7 : decode cX5_isTree 7 = .ok (.iadd, 1) := dk_96 (dk_at dksX5_isTree_0 7 rfl rfl)
theorem dX5_isTree_8 : decode cX5_isTree 8 = .ok (.iaload, 1) := dk_46 (dk_at dksX5_isTree_0 8 rfl rfl)
theorem dX5_isTree_9 : decode cX5_isTree 9 = .ok (.iconst (-1), 1) := dk_2 (dk_at dksX5_isTree_0 9 rfl rfl)
theorem dX5_isTree_10 : decode cX5_isTree 10 = .ok (.if_icmp .eq 7, 3) := dk_159 0 7 (dk_at dksX5_isTree_0 10 rfl rfl)
theorem dX5_isTree_13 : decode cX5_isTree 13 = .ok (.iconst 1, 1) := dk_4 (dk_at dksX5_isTree_0 13 rfl rfl)
theorem dX5_isTree_14 : decode cX5_isTree 14 = .ok (.goto 4, 3) := dk_167 0 4 (dk_at dksX5_isTree_0 14 rfl rfl)
theorem dX5_isTree_17 : decode cX5_isTree 17 = .ok (.iconst 0, 1) := dk_3 (dk_at dksX5_isTree_0 17 rfl rfl)
theorem dX5_isTree_18 : decode cX5_isTree 18 = .ok (.ireturn, 1) := dk_172 (dk_at dksX5_isTree_0 18 rfl rfl)
abbrev cX5_growsOf : ByteArray := prog_22_method_67_code
def yX5_growsOf : MethodName := ⟨RX5, "growsOf", "(I)I"⟩
def dkwX5_growsOf_2 : List UInt8 := [184, 1, 177, 172]
abbrev dktX5_growsOf_2 : List UInt8 := dkwX5_growsOf_2 ++ []
def dkwX5_growsOf_1 : List UInt8 := [42, 28, 27, 182, 1, 168, 153, 0, 9, 20, 1, 171, 167, 0, 4, 9, 182, 1, 173, 3, 16, 20]
abbrev dktX5_growsOf_1 : List UInt8 := dkwX5_growsOf_1 ++ dktX5_growsOf_2
def dkwX5_growsOf_0 : List UInt8 := [42, 180, 0, 13, 16, 8, 27, 96, 46, 61, 42, 3, 27, 28, 42, 180, 0, 13, 16, 24, 27, 96, 46, 2]
abbrev dktX5_growsOf_0 : List UInt8 := dkwX5_growsOf_0 ++ dktX5_growsOf_1
theorem dksX5_growsOf_0 : cX5_growsOf.data.toList.drop 0 = dktX5_growsOf_0 := by decide +kernel
theorem dksX5_growsOf_1 : cX5_growsOf.data.toList.drop 24 = dktX5_growsOf_1 := dk_seg dksX5_growsOf_0 24 rfl rfl
theorem dksX5_growsOf_2 : cX5_growsOf.data.toList.drop 46 = dktX5_growsOf_2 := dk_seg dksX5_growsOf_1 22 rfl rfl
theorem dX5_growsOf_0 : decode cX5_growsOf 0 = .ok (.aload_n 0, 1) := dk_42 (dk_at dksX5_growsOf_0 0 rfl rfl)
theorem dX5_growsOf_1 : decode cX5_growsOf 1 = .ok (.getfield 13, 3) := dk_180 0 13 (dk_at dksX5_growsOf_0 1 rfl rfl)
theorem dX5_growsOf_4 : decode cX5_growsOf 4 = .ok (.bipush 8, 2) := dk_16 8 (dk_at dksX5_growsOf_0 4 rfl rfl)
theorem dX5_growsOf_6 : decode cX5_growsOf 6 = .ok (.iload_n 1, 1) := dk_27 (dk_at dksX5_growsOf_0 6 rfl rfl)
theorem dX5_growsOf_7 : decode cX5_growsOf 7 = .ok (.iadd, 1) := dk_96 (dk_at dksX5_growsOf_0 7 rfl rfl)
theorem dX5_growsOf_8 : decode cX5_growsOf 8 = .ok (.iaload, 1) := dk_46 (dk_at dksX5_growsOf_0 8 rfl rfl)
theorem dX5_growsOf_9 : decode cX5_growsOf 9 = .ok (.istore_n 2, 1) := dk_61 (dk_at dksX5_growsOf_0 9 rfl rfl)
theorem dX5_growsOf_10 : decode cX5_growsOf 10 = .ok (.aload_n 0, 1) := dk_42 (dk_at dksX5_growsOf_0 10 rfl rfl)
theorem dX5_growsOf_11 : decode cX5_growsOf 11 = .ok (.iconst 0, 1) := dk_3 (dk_at dksX5_growsOf_0 11 rfl rfl)
theorem dX5_growsOf_12 : decode cX5_growsOf 12 = .ok (.iload_n 1, 1) := dk_27 (dk_at dksX5_growsOf_0 12 rfl rfl)
theorem dX5_growsOf_13 : decode cX5_growsOf 13 = .ok (.iload_n 2, 1) := dk_28 (dk_at dksX5_growsOf_0 13 rfl rfl)
theorem dX5_growsOf_14 : decode cX5_growsOf 14 = .ok (.aload_n 0, 1) := dk_42 (dk_at dksX5_growsOf_0 14 rfl rfl)
theorem dX5_growsOf_15 : decode cX5_growsOf 15 = .ok (.getfield 13, 3) := dk_180 0 13 (dk_at dksX5_growsOf_0 15 rfl rfl)
theorem dX5_growsOf_18 : decode cX5_growsOf 18 = .ok (.bipush 24, 2) := dk_16 24 (dk_at dksX5_growsOf_0 18 rfl rfl)
theorem dX5_growsOf_20 : decode cX5_growsOf 20 = .ok (.iload_n 1, 1) := dk_27 (dk_at dksX5_growsOf_0 20 rfl rfl)
theorem dX5_growsOf_21 : decode cX5_growsOf 21 = .ok (.iadd, 1) := dk_96 (dk_at dksX5_growsOf_0 21 rfl rfl)
theorem dX5_growsOf_22 : decode cX5_growsOf 22 = .ok (.iaload, 1) := dk_46 (dk_at dksX5_growsOf_0 22 rfl rfl)
theorem dX5_growsOf_23 : decode cX5_growsOf 23 = .ok (.iconst (-1), 1) := dk_2 (dk_at dksX5_growsOf_0 23 rfl rfl)
theorem dX5_growsOf_24 : decode cX5_growsOf 24 = .ok (.aload_n 0, 1) := dk_42 (dk_at dksX5_growsOf_1 0 rfl rfl)
theorem dX5_growsOf_25 : decode cX5_growsOf 25 = .ok (.iload_n 2, 1) := dk_28 (dk_at dksX5_growsOf_1 1 rfl rfl)
theorem dX5_growsOf_26 : decode cX5_growsOf 26 = .ok (.iload_n 1, 1) := dk_27 (dk_at dksX5_growsOf_1 2 rfl rfl)
theorem dX5_growsOf_27 : decode cX5_growsOf 27 = .ok (.invokevirtual 424, 3) := dk_182 1 168 (dk_at dksX5_growsOf_1 3 rfl rfl)
theorem dX5_growsOf_30 : decode cX5_growsOf 30 = .ok (.ifCond .eq 9, 3) := dk_153 0 9 (dk_at dksX5_growsOf_1 6 rfl rfl)
theorem dX5_growsOf_33 : decode cX5_growsOf 33 = .ok (.ldc2_w 427, 3) := dk_20 1 171 (dk_at dksX5_growsOf_1 9 rfl rfl)
theorem dX5_growsOf_36 : decode cX5_growsOf 36 = .ok (.goto 4, 3) := dk_167 0 4 (dk_at dksX5_growsOf_1 12 rfl rfl)
theorem dX5_growsOf_39 : decode cX5_growsOf 39 = .ok (.lconst 0, 1) := dk_9 (dk_at dksX5_growsOf_1 15 rfl rfl)
theorem dX5_growsOf_40 : decode cX5_growsOf 40 = .ok (.invokevirtual 429, 3) := dk_182 1 173 (dk_at dksX5_growsOf_1 16 rfl rfl)
theorem dX5_growsOf_43 : decode cX5_growsOf 43 = .ok (.iconst 0, 1) := dk_3 (dk_at dksX5_growsOf_1 19 rfl rfl)
theorem dX5_growsOf_44 : decode cX5_growsOf 44 = .ok (.bipush 20, 2) := dk_16 20 (dk_at dksX5_growsOf_1 20 rfl rfl)
theorem dX5_growsOf_46 : decode cX5_growsOf 46 = .ok (.invokestatic 433, 3) := dk_184 1 177 (dk_at dksX5_growsOf_2 0 rfl rfl)
theorem dX5_growsOf_49 : decode cX5_growsOf 49 = .ok (.ireturn, 1) := dk_172 (dk_at dksX5_growsOf_2 3 rfl rfl)
abbrev cX5_hasItsNeeds : ByteArray := prog_22_method_66_code
def yX5_hasItsNeeds : MethodName := ⟨RX5, "hasItsNeeds", "(II)Z"⟩
def dkwX5_hasItsNeeds_2 : List UInt8 := [4, 167, 0, 4, 3, 172]
abbrev dktX5_hasItsNeeds_2 : List UInt8 := dkwX5_hasItsNeeds_2 ++ []
def dkwX5_hasItsNeeds_1 : List UInt8 := [180, 0, 13, 16, 72, 28, 96, 46, 42, 180, 0, 13, 16, 104, 5, 27, 104, 96, 4, 96, 46, 161, 0, 7]
abbrev dktX5_hasItsNeeds_1 : List UInt8 := dkwX5_hasItsNeeds_1 ++ dktX5_hasItsNeeds_2
def dkwX5_hasItsNeeds_0 : List UInt8 := [42, 180, 0, 13, 16, 56, 28, 96, 46, 42, 180, 0, 13, 16, 104, 5, 27, 104, 96, 46, 161, 0, 32, 42]
abbrev dktX5_hasItsNeeds_0 : List UInt8 := dkwX5_hasItsNeeds_0 ++ dktX5_hasItsNeeds_1
theorem dksX5_hasItsNeeds_0 : cX5_hasItsNeeds.data.toList.drop 0 = dktX5_hasItsNeeds_0 := by decide +kernel
theorem dksX5_hasItsNeeds_1 : cX5_hasItsNeeds.data.toList.drop 24 = dktX5_hasItsNeeds_1 := dk_seg dksX5_hasItsNeeds_0 24 rfl rfl
theorem dksX5_hasItsNeeds_2 : cX5_hasItsNeeds.data.toList.drop 48 = dktX5_hasItsNeeds_2 := dk_seg dksX5_hasItsNeeds_1 24 rfl rfl
theorem dX5_hasItsNeeds_0 : decode cX5_hasItsNeeds 0 = .ok (.aload_n 0, 1) := dk_42 (dk_at dksX5_hasItsNeeds_0 0 rfl rfl)
theorem dX5_hasItsNeeds_1 : decode cX5_hasItsNeeds 1 = .ok (.getfield 13, 3) := dk_180 0 13 (dk_at dksX5_hasItsNeeds_0 1 rfl rfl)
theorem dX5_hasItsNeeds_4 : decode cX5_hasItsNeeds 4 = .ok (.bipush 56, 2) := dk_16 56 (dk_at dksX5_hasItsNeeds_0 4 rfl rfl)
theorem dX5_hasItsNeeds_6 : decode cX5_hasItsNeeds 6 = .ok (.iload_n 2, 1) := dk_28 (dk_at dksX5_hasItsNeeds_0 6 rfl rfl)
theorem dX5_hasItsNeeds_7 : decode cX5_hasItsNeeds 7 = .ok (.iadd, 1) := dk_96 (dk_at dksX5_hasItsNeeds_0 7 rfl rfl)
theorem dX5_hasItsNeeds_8 : decode cX5_hasItsNeeds 8 = .ok (.iaload, 1) := dk_46 (dk_at dksX5_hasItsNeeds_0 8 rfl rfl)
theorem dX5_hasItsNeeds_9 : decode cX5_hasItsNeeds 9 = .ok (.aload_n 0, 1) := dk_42 (dk_at dksX5_hasItsNeeds_0 9 rfl rfl)
theorem dX5_hasItsNeeds_10 : decode cX5_hasItsNeeds 10 = .ok (.getfield 13, 3) := dk_180 0 13 (dk_at dksX5_hasItsNeeds_0 10 rfl rfl)
theorem dX5_hasItsNeeds_13 : decode cX5_hasItsNeeds 13 = .ok (.bipush 104, 2) := dk_16 104 (dk_at dksX5_hasItsNeeds_0 13 rfl rfl)
theorem dX5_hasItsNeeds_15 : decode cX5_hasItsNeeds 15 = .ok (.iconst 2, 1) := dk_5 (dk_at dksX5_hasItsNeeds_0 15 rfl rfl)
theorem dX5_hasItsNeeds_16 : decode cX5_hasItsNeeds 16 = .ok (.iload_n 1, 1) := dk_27 (dk_at dksX5_hasItsNeeds_0 16 rfl rfl)
theorem dX5_hasItsNeeds_17 : decode cX5_hasItsNeeds 17 = .ok (.imul, 1) := dk_104 (dk_at dksX5_hasItsNeeds_0 17 rfl rfl)
theorem dX5_hasItsNeeds_18 : decode cX5_hasItsNeeds 18 = .ok (.iadd, 1) := dk_96 (dk_at dksX5_hasItsNeeds_0 18 rfl rfl)
theorem dX5_hasItsNeeds_19 : decode cX5_hasItsNeeds 19 = .ok (.iaload, 1) := dk_46 (dk_at dksX5_hasItsNeeds_0 19 rfl rfl)
theorem dX5_hasItsNeeds_20 : decode cX5_hasItsNeeds 20 = .ok (.if_icmp .lt 32, 3) := dk_161 0 32 (dk_at dksX5_hasItsNeeds_0 20 rfl rfl)
theorem dX5_hasItsNeeds_23 : decode cX5_hasItsNeeds 23 = .ok (.aload_n 0, 1) := dk_42 (dk_at dksX5_hasItsNeeds_0 23 rfl rfl)
theorem dX5_hasItsNeeds_24 : decode cX5_hasItsNeeds 24 = .ok (.getfield 13, 3) := dk_180 0 13 (dk_at dksX5_hasItsNeeds_1 0 rfl rfl)
theorem dX5_hasItsNeeds_27 : decode cX5_hasItsNeeds 27 = .ok (.bipush 72, 2) := dk_16 72 (dk_at dksX5_hasItsNeeds_1 3 rfl rfl)
theorem dX5_hasItsNeeds_29 : decode cX5_hasItsNeeds 29 = .ok (.iload_n 2, 1) := dk_28 (dk_at dksX5_hasItsNeeds_1 5 rfl rfl)
theorem dX5_hasItsNeeds_30 : decode cX5_hasItsNeeds 30 = .ok (.iadd, 1) := dk_96 (dk_at dksX5_hasItsNeeds_1 6 rfl rfl)
theorem dX5_hasItsNeeds_31 : decode cX5_hasItsNeeds 31 = .ok (.iaload, 1) := dk_46 (dk_at dksX5_hasItsNeeds_1 7 rfl rfl)
theorem dX5_hasItsNeeds_32 : decode cX5_hasItsNeeds 32 = .ok (.aload_n 0, 1) := dk_42 (dk_at dksX5_hasItsNeeds_1 8 rfl rfl)
theorem dX5_hasItsNeeds_33 : decode cX5_hasItsNeeds 33 = .ok (.getfield 13, 3) := dk_180 0 13 (dk_at dksX5_hasItsNeeds_1 9 rfl rfl)
theorem dX5_hasItsNeeds_36 : decode cX5_hasItsNeeds 36 = .ok (.bipush 104, 2) := dk_16 104 (dk_at dksX5_hasItsNeeds_1 12 rfl rfl)
theorem dX5_hasItsNeeds_38 : decode cX5_hasItsNeeds 38 = .ok (.iconst 2, 1) := dk_5 (dk_at dksX5_hasItsNeeds_1 14 rfl rfl)
theorem dX5_hasItsNeeds_39 : decode cX5_hasItsNeeds 39 = .ok (.iload_n 1, 1) := dk_27 (dk_at dksX5_hasItsNeeds_1 15 rfl rfl)
theorem dX5_hasItsNeeds_40 : decode cX5_hasItsNeeds 40 = .ok (.imul, 1) := dk_104 (dk_at dksX5_hasItsNeeds_1 16 rfl rfl)
theorem dX5_hasItsNeeds_41 : decode cX5_hasItsNeeds 41 = .ok (.iadd, 1) := dk_96 (dk_at dksX5_hasItsNeeds_1 17 rfl rfl)
theorem dX5_hasItsNeeds_42 : decode cX5_hasItsNeeds 42 = .ok (.iconst 1, 1) := dk_4 (dk_at dksX5_hasItsNeeds_1 18 rfl rfl)
theorem dX5_hasItsNeeds_43 : decode cX5_hasItsNeeds 43 = .ok (.iadd, 1) := dk_96 (dk_at dksX5_hasItsNeeds_1 19 rfl rfl)
theorem dX5_hasItsNeeds_44 : decode cX5_hasItsNeeds 44 = .ok (.iaload, 1) := dk_46 (dk_at dksX5_hasItsNeeds_1 20 rfl rfl)
theorem dX5_hasItsNeeds_45 : decode cX5_hasItsNeeds 45 = .ok (.if_icmp .lt 7, 3) := dk_161 0 7 (dk_at dksX5_hasItsNeeds_1 21 rfl rfl)
theorem dX5_hasItsNeeds_48 : decode cX5_hasItsNeeds 48 = .ok (.iconst 1, 1) := dk_4 (dk_at dksX5_hasItsNeeds_2 0 rfl rfl)
theorem dX5_hasItsNeeds_49 : decode cX5_hasItsNeeds 49 = .ok (.goto 4, 3) := dk_167 0 4 (dk_at dksX5_hasItsNeeds_2 1 rfl rfl)
theorem dX5_hasItsNeeds_52 : decode cX5_hasItsNeeds 52 = .ok (.iconst 0, 1) := dk_3 (dk_at dksX5_hasItsNeeds_2 4 rfl rfl)
theorem dX5_hasItsNeeds_53 : decode cX5_hasItsNeeds 53 = .ok (.ireturn, 1) := dk_172 (dk_at dksX5_hasItsNeeds_2 5 rfl rfl)
abbrev cX5_tells : ByteArray := prog_22_method_64_code
def yX5_tells : MethodName := ⟨RX5, "tells", "(IIIIIJ)J"⟩
def dkwX5_tells_11 : List UInt8 := [6, 162, 0, 10, 42, 180, 1, 159, 167, 0, 4, 10, 55, 8, 132, 10, 1, 167, 255, 188, 22, 8, 173]
abbrev dktX5_tells_11 : List UInt8 := dkwX5_tells_11 ++ []
def dkwX5_tells_10 : List UInt8 := [96, 54, 11, 42, 180, 0, 13, 21, 11, 46, 27, 160, 0, 27, 42, 21, 11, 182, 1, 165, 153, 0, 18, 27]
abbrev dktX5_tells_10 : List UInt8 := dkwX5_tells_10 ++ dktX5_tells_11
def dkwX5_tells_9 : List UInt8 := [180, 0, 13, 42, 180, 1, 142, 4, 96, 46, 162, 0, 58, 42, 180, 1, 142, 5, 96, 16, 8, 21, 10, 104]
abbrev dktX5_tells_9 : List UInt8 := dkwX5_tells_9 ++ dktX5_tells_10
def dkwX5_tells_8 : List UInt8 := [180, 0, 13, 16, 104, 5, 29, 104, 96, 4, 96, 46, 133, 80, 22, 6, 55, 8, 3, 54, 10, 21, 10, 42]
abbrev dktX5_tells_8 : List UInt8 := dkwX5_tells_8 ++ dktX5_tells_9
def dkwX5_tells_7 : List UInt8 := [104, 96, 46, 133, 80, 42, 180, 0, 107, 16, 11, 29, 2, 160, 0, 9, 20, 1, 20, 167, 0, 17, 42]
abbrev dktX5_tells_7 : List UInt8 := dkwX5_tells_7 ++ dktX5_tells_8
def dkwX5_tells_6 : List UInt8 := [180, 0, 107, 16, 10, 29, 2, 160, 0, 9, 20, 1, 20, 167, 0, 15, 42, 180, 0, 13, 16, 104, 5, 29]
abbrev dktX5_tells_6 : List UInt8 := dkwX5_tells_6 ++ dktX5_tells_7
def dkwX5_tells_5 : List UInt8 := [16, 8, 42, 3, 182, 1, 162, 133, 80, 42, 180, 0, 107, 16, 9, 42, 7, 182, 1, 162, 133, 80, 42]
abbrev dktX5_tells_5 : List UInt8 := dkwX5_tells_5 ++ dktX5_tells_6
def dkwX5_tells_4 : List UInt8 := [180, 0, 107, 16, 6, 21, 4, 133, 80, 42, 180, 0, 107, 16, 7, 21, 5, 133, 80, 42, 180, 0, 107]
abbrev dktX5_tells_4 : List UInt8 := dkwX5_tells_4 ++ dktX5_tells_5
def dkwX5_tells_3 : List UInt8 := [180, 0, 107, 7, 42, 180, 0, 13, 16, 88, 28, 96, 46, 133, 80, 42, 180, 0, 107, 8, 29, 133, 80, 42]
abbrev dktX5_tells_3 : List UInt8 := dkwX5_tells_3 ++ dktX5_tells_4
def dkwX5_tells_2 : List UInt8 := [16, 56, 28, 96, 46, 133, 80, 42, 180, 0, 107, 6, 42, 180, 0, 13, 16, 72, 28, 96, 46, 133, 80, 42]
abbrev dktX5_tells_2 : List UInt8 := dkwX5_tells_2 ++ dktX5_tells_3
def dkwX5_tells_1 : List UInt8 := [5, 46, 104, 96, 181, 1, 142, 42, 180, 0, 107, 4, 28, 133, 80, 42, 180, 0, 107, 5, 42, 180, 0, 13]
abbrev dktX5_tells_1 : List UInt8 := dkwX5_tells_1 ++ dktX5_tells_2
def dkwX5_tells_0 : List UInt8 := [42, 180, 0, 13, 5, 46, 2, 160, 0, 6, 22, 6, 173, 42, 17, 0, 140, 17, 3, 132, 42, 180, 0, 13]
abbrev dktX5_tells_0 : List UInt8 := dkwX5_tells_0 ++ dktX5_tells_1
theorem dksX5_tells_0 : cX5_tells.data.toList.drop 0 = dktX5_tells_0 := by decide +kernel
theorem dksX5_tells_1 : cX5_tells.data.toList.drop 24 = dktX5_tells_1 := dk_seg dksX5_tells_0 24 rfl rfl
theorem dksX5_tells_2 : cX5_tells.data.toList.drop 48 = dktX5_tells_2 := dk_seg dksX5_tells_1 24 rfl rfl
theorem dksX5_tells_3 : cX5_tells.data.toList.drop 72 = dktX5_tells_3 := dk_seg dksX5_tells_2 24 rfl rfl
theorem dksX5_tells_4 : cX5_tells.data.toList.drop 96 = dktX5_tells_4 := dk_seg dksX5_tells_3 24 rfl rfl
theorem dksX5_tells_5 : cX5_tells.data.toList.drop 119 = dktX5_tells_5 := dk_seg dksX5_tells_4 23 rfl rfl
theorem dksX5_tells_6 : cX5_tells.data.toList.drop 142 = dktX5_tells_6 := dk_seg dksX5_tells_5 23 rfl rfl
theorem dksX5_tells_7 : cX5_tells.data.toList.drop 166 = dktX5_tells_7 := dk_seg dksX5_tells_6 24 rfl rfl
theorem dksX5_tells_8 : cX5_tells.data.toList.drop 189 = dktX5_tells_8 := dk_seg dksX5_tells_7 23 rfl rfl
theorem dksX5_tells_9 : cX5_tells.data.toList.drop 213 = dktX5_tells_9 := dk_seg dksX5_tells_8 24 rfl rfl
theorem dksX5_tells_10 : cX5_tells.data.toList.drop 237 = dktX5_tells_10 := dk_seg dksX5_tells_9 24 rfl rfl
theorem dksX5_tells_11 : cX5_tells.data.toList.drop 261 = dktX5_tells_11 := dk_seg dksX5_tells_10 24 rfl rfl
theorem dX5_tells_0 : decode cX5_tells 0 = .ok (.aload_n 0, 1) := dk_42 (dk_at dksX5_tells_0 0 rfl rfl)
theorem dX5_tells_1 : decode cX5_tells 1 = .ok (.getfield 13, 3) := dk_180 0 13 (dk_at dksX5_tells_0 1 rfl rfl)
theorem dX5_tells_4 : decode cX5_tells 4 = .ok (.iconst 2, 1) := dk_5 (dk_at dksX5_tells_0 4 rfl rfl)
theorem dX5_tells_5 : decode cX5_tells 5 = .ok (.iaload, 1) := dk_46 (dk_at dksX5_tells_0 5 rfl rfl)
theorem dX5_tells_6 : decode cX5_tells 6 = .ok (.iconst (-1), 1) := dk_2 (dk_at dksX5_tells_0 6 rfl rfl)
theorem dX5_tells_7 : decode cX5_tells 7 = .ok (.if_icmp .ne 6, 3) := dk_160 0 6 (dk_at dksX5_tells_0 7 rfl rfl)
theorem dX5_tells_10 : decode cX5_tells 10 = .ok (.lload 6, 2) := dk_22 6 (dk_at dksX5_tells_0 10 rfl rfl)
theorem dX5_tells_12 : decode cX5_tells 12 = .ok (.lreturn, 1) := dk_173 (dk_at dksX5_tells_0 12 rfl rfl)
theorem dX5_tells_13 : decode cX5_tells 13 = .ok (.aload_n 0, 1) := dk_42 (dk_at dksX5_tells_0 13 rfl rfl)
theorem dX5_tells_14 : decode cX5_tells 14 = .ok (.sipush 140, 3) := dk_17 0 140 (dk_at dksX5_tells_0 14 rfl rfl)
theorem dX5_tells_17 : decode cX5_tells 17 = .ok (.sipush 900, 3) := dk_17 3 132 (dk_at dksX5_tells_0 17 rfl rfl)
theorem dX5_tells_20 : decode cX5_tells 20 = .ok (.aload_n 0, 1) := dk_42 (dk_at dksX5_tells_0 20 rfl rfl)
theorem dX5_tells_21 : decode cX5_tells 21 = .ok (.getfield 13, 3) := dk_180 0 13 (dk_at dksX5_tells_0 21 rfl rfl)
theorem dX5_tells_24 : decode cX5_tells 24 = .ok (.iconst 2, 1) := dk_5 (dk_at dksX5_tells_1 0 rfl rfl)
theorem dX5_tells_25 : decode cX5_tells 25 = .ok (.iaload, 1) := dk_46 (dk_at dksX5_tells_1 1 rfl rfl)
theorem dX5_tells_26 : decode cX5_tells 26 = .ok (.imul, 1) := dk_104 (dk_at dksX5_tells_1 2 rfl rfl)
theorem dX5_tells_27 : decode cX5_tells 27 = .ok (.iadd, 1) := dk_96 (dk_at dksX5_tells_1 3 rfl rfl)
theorem dX5_tells_28 : decode cX5_tells 28 = .ok (.putfield 398, 3) := dk_181 1 142 (dk_at dksX5_tells_1 4 rfl rfl)
theorem dX5_tells_31 : decode cX5_tells 31 = .ok (.aload_n 0, 1) := dk_42 (dk_at dksX5_tells_1 7 rfl rfl)
theorem dX5_tells_32 : decode cX5_tells 32 = .ok (.getfield 107, 3) := dk_180 0 107 (dk_at dksX5_tells_1 8 rfl rfl)
theorem dX5_tells_35 : decode cX5_tells 35 = .ok (.iconst 1, 1) := dk_4 (dk_at dksX5_tells_1 11 rfl rfl)
theorem dX5_tells_36 : decode cX5_tells 36 = .ok (.iload_n 2, 1) := dk_28 (dk_at dksX5_tells_1 12 rfl rfl)
theorem dX5_tells_37 : decode cX5_tells 37 = .ok (.i2l, 1) := dk_133 (dk_at dksX5_tells_1 13 rfl rfl)
theorem dX5_tells_38 : decode cX5_tells 38 = .ok (.lastore, 1) := dk_80 (dk_at dksX5_tells_1 14 rfl rfl)
theorem dX5_tells_39 : decode cX5_tells 39 = .ok (.aload_n 0, 1) := dk_42 (dk_at dksX5_tells_1 15 rfl rfl)
theorem dX5_tells_40 : decode cX5_tells 40 = .ok (.getfield 107, 3) := dk_180 0 107 (dk_at dksX5_tells_1 16 rfl rfl)
theorem dX5_tells_43 : decode cX5_tells 43 = .ok (.iconst 2, 1) := dk_5 (dk_at dksX5_tells_1 19 rfl rfl)
theorem dX5_tells_44 : decode cX5_tells 44 = .ok (.aload_n 0, 1) := dk_42 (dk_at dksX5_tells_1 20 rfl rfl)
theorem dX5_tells_45 : decode cX5_tells 45 = .ok (.getfield 13, 3) := dk_180 0 13 (dk_at dksX5_tells_1 21 rfl rfl)
theorem dX5_tells_48 : decode cX5_tells 48 = .ok (.bipush 56, 2) := dk_16 56 (dk_at dksX5_tells_2 0 rfl rfl)
theorem dX5_tells_50 : decode cX5_tells 50 = .ok (.iload_n 2, 1) := dk_28 (dk_at dksX5_tells_2 2 rfl rfl)
theorem dX5_tells_51 : decode cX5_tells 51 = .ok (.iadd, 1) := dk_96 (dk_at dksX5_tells_2 3 rfl rfl)
theorem dX5_tells_52 : decode cX5_tells 52 = .ok (.iaload, 1) := dk_46 (dk_at dksX5_tells_2 4 rfl rfl)
theorem dX5_tells_53 : decode cX5_tells 53 = .ok (.i2l, 1) := dk_133 (dk_at dksX5_tells_2 5 rfl rfl)
theorem dX5_tells_54 : decode cX5_tells 54 = .ok (.lastore, 1) := dk_80 (dk_at dksX5_tells_2 6 rfl rfl)
theorem dX5_tells_55 : decode cX5_tells 55 = .ok (.aload_n 0, 1) := dk_42 (dk_at dksX5_tells_2 7 rfl rfl)
theorem dX5_tells_56 : decode cX5_tells 56 = .ok (.getfield 107, 3) := dk_180 0 107 (dk_at dksX5_tells_2 8 rfl rfl)
theorem dX5_tells_59 : decode cX5_tells 59 = .ok (.iconst 3, 1) := dk_6 (dk_at dksX5_tells_2 11 rfl rfl)
theorem dX5_tells_60 : decode cX5_tells 60 = .ok (.aload_n 0, 1) := dk_42 (dk_at dksX5_tells_2 12 rfl rfl)
theorem dX5_tells_61 : decode cX5_tells 61 = .ok (.getfield 13, 3) := dk_180 0 13 (dk_at dksX5_tells_2 13 rfl rfl)
theorem dX5_tells_64 : decode cX5_tells 64 = .ok (.bipush 72, 2) := dk_16 72 (dk_at dksX5_tells_2 16 rfl rfl)
theorem dX5_tells_66 : decode cX5_tells 66 = .ok (.iload_n 2, 1) := dk_28 (dk_at dksX5_tells_2 18 rfl rfl)
theorem dX5_tells_67 : decode cX5_tells 67 = .ok (.iadd, 1) := dk_96 (dk_at dksX5_tells_2 19 rfl rfl)
theorem dX5_tells_68 : decode cX5_tells 68 = .ok (.iaload, 1) := dk_46 (dk_at dksX5_tells_2 20 rfl rfl)
theorem dX5_tells_69 : decode cX5_tells 69 = .ok (.i2l, 1) := dk_133 (dk_at dksX5_tells_2 21 rfl rfl)
theorem dX5_tells_70 : decode cX5_tells 70 = .ok (.lastore, 1) := dk_80 (dk_at dksX5_tells_2 22 rfl rfl)
theorem dX5_tells_71 : decode cX5_tells 71 = .ok (.aload_n 0, 1) := dk_42 (dk_at dksX5_tells_2 23 rfl rfl)
theorem dX5_tells_72 : decode cX5_tells 72 = .ok (.getfield 107, 3) := dk_180 0 107 (dk_at dksX5_tells_3 0 rfl rfl)
theorem dX5_tells_75 : decode cX5_tells 75 = .ok (.iconst 4, 1) := dk_7 (dk_at dksX5_tells_3 3 rfl rfl)
theorem dX5_tells_76 : decode cX5_tells 76 = .ok (.aload_n 0, 1) := dk_42 (dk_at dksX5_tells_3 4 rfl rfl)
theorem dX5_tells_77 : decode cX5_tells 77 = .ok (.getfield 13, 3) := dk_180 0 13 (dk_at dksX5_tells_3 5 rfl rfl)
theorem dX5_tells_80 : decode cX5_tells 80 = .ok (.bipush 88, 2) := dk_16 88 (dk_at dksX5_tells_3 8 rfl rfl)
theorem dX5_tells_82 : decode cX5_tells 82 = .ok (.iload_n 2, 1) := dk_28 (dk_at dksX5_tells_3 10 rfl rfl)
theorem dX5_tells_83 : decode cX5_tells 83 = .ok (.iadd, 1) := dk_96 (dk_at dksX5_tells_3 11 rfl rfl)
theorem dX5_tells_84 : decode cX5_tells 84 = .ok (.iaload, 1) := dk_46 (dk_at dksX5_tells_3 12 rfl rfl)
theorem dX5_tells_85 : decode cX5_tells 85 = .ok (.i2l, 1) := dk_133 (dk_at dksX5_tells_3 13 rfl rfl)
theorem dX5_tells_86 : decode cX5_tells 86 = .ok (.lastore, 1) := dk_80 (dk_at dksX5_tells_3 14 rfl rfl)
theorem dX5_tells_87 : decode cX5_tells 87 = .ok (.aload_n 0, 1) := dk_42 (dk_at dksX5_tells_3 15 rfl rfl)
theorem dX5_tells_88 : decode cX5_tells 88 = .ok (.getfield 107, 3) := dk_180 0 107 (dk_at dksX5_tells_3 16 rfl rfl)
theorem dX5_tells_91 : decode cX5_tells 91 = .ok (.iconst 5, 1) := dk_8 (dk_at dksX5_tells_3 19 rfl rfl)
theorem dX5_tells_92 : decode cX5_tells 92 = .ok (.iload_n 3, 1) := dk_29 (dk_at dksX5_tells_3 20 rfl rfl)
theorem dX5_tells_93 : decode cX5_tells 93 = .ok (.i2l, 1) := dk_133 (dk_at dksX5_tells_3 21 rfl rfl)
theorem dX5_tells_94 : decode cX5_tells 94 = .ok (.lastore, 1) := dk_80 (dk_at dksX5_tells_3 22 rfl rfl)
theorem dX5_tells_95 : decode cX5_tells 95 = .ok (.aload_n 0, 1) := dk_42 (dk_at dksX5_tells_3 23 rfl rfl)
theorem dX5_tells_96 : decode cX5_tells 96 = .ok (.getfield 107, 3) := dk_180 0 107 (dk_at dksX5_tells_4 0 rfl rfl)
theorem dX5_tells_99 : decode cX5_tells 99 = .ok (.bipush 6, 2) := dk_16 6 (dk_at dksX5_tells_4 3 rfl rfl)
theorem dX5_tells_101 : decode cX5_tells 101 = .ok (.iload 4, 2) := dk_21 4 (dk_at dksX5_tells_4 5 rfl rfl)
theorem dX5_tells_103 : decode cX5_tells 103 = .ok (.i2l, 1) := dk_133 (dk_at dksX5_tells_4 7 rfl rfl)
theorem dX5_tells_104 : decode cX5_tells 104 = .ok (.lastore, 1) := dk_80 (dk_at dksX5_tells_4 8 rfl rfl)
theorem dX5_tells_105 : decode cX5_tells 105 = .ok (.aload_n 0, 1) := dk_42 (dk_at dksX5_tells_4 9 rfl rfl)
theorem dX5_tells_106 : decode cX5_tells 106 = .ok (.getfield 107, 3) := dk_180 0 107 (dk_at dksX5_tells_4 10 rfl rfl)
theorem dX5_tells_109 : decode cX5_tells 109 = .ok (.bipush 7, 2) := dk_16 7 (dk_at dksX5_tells_4 13 rfl rfl)
theorem dX5_tells_111 : decode cX5_tells 111 = .ok (.iload 5, 2) := dk_21 5 (dk_at dksX5_tells_4 15 rfl rfl)
theorem dX5_tells_113 : decode cX5_tells 113 = .ok (.i2l, 1) := dk_133 (dk_at dksX5_tells_4 17 rfl rfl)
theorem dX5_tells_114 : decode cX5_tells 114 = .ok (.lastore, 1) := dk_80 (dk_at dksX5_tells_4 18 rfl rfl)
theorem dX5_tells_115 : decode cX5_tells 115 = .ok (.aload_n 0, 1) := dk_42 (dk_at dksX5_tells_4 19 rfl rfl)
theorem dX5_tells_116 : decode cX5_tells 116 = .ok (.getfield 107, 3) := dk_180 0 107 (dk_at dksX5_tells_4 20 rfl rfl)
theorem dX5_tells_119 : decode cX5_tells 119 = .ok (.bipush 8, 2) := dk_16 8 (dk_at dksX5_tells_5 0 rfl rfl)
theorem dX5_tells_121 : decode cX5_tells 121 = .ok (.aload_n 0, 1) := dk_42 (dk_at dksX5_tells_5 2 rfl rfl)
theorem dX5_tells_122 : decode cX5_tells 122 = .ok (.iconst 0, 1) := dk_3 (dk_at dksX5_tells_5 3 rfl rfl)
theorem dX5_tells_123 : decode cX5_tells 123 = .ok (.invokevirtual 418, 3) := dk_182 1 162 (dk_at dksX5_tells_5 4 rfl rfl)
theorem dX5_tells_126 : decode cX5_tells 126 = .ok (.i2l, 1) := dk_133 (dk_at dksX5_tells_5 7 rfl rfl)
theorem dX5_tells_127 : decode cX5_tells 127 = .ok (.lastore, 1) := dk_80 (dk_at dksX5_tells_5 8 rfl rfl)
theorem dX5_tells_128 : decode cX5_tells 128 = .ok (.aload_n 0, 1) := dk_42 (dk_at dksX5_tells_5 9 rfl rfl)
theorem dX5_tells_129 : decode cX5_tells 129 = .ok (.getfield 107, 3) := dk_180 0 107 (dk_at dksX5_tells_5 10 rfl rfl)
theorem dX5_tells_132 : decode cX5_tells 132 = .ok (.bipush 9, 2) := dk_16 9 (dk_at dksX5_tells_5 13 rfl rfl)
theorem dX5_tells_134 : decode cX5_tells 134 = .ok (.aload_n 0, 1) := dk_42 (dk_at dksX5_tells_5 15 rfl rfl)
theorem dX5_tells_135 : decode cX5_tells 135 = .ok (.iconst 4, 1) := dk_7 (dk_at dksX5_tells_5 16 rfl rfl)
theorem dX5_tells_136 : decode cX5_tells 136 = .ok (.invokevirtual 418, 3) := dk_182 1 162 (dk_at dksX5_tells_5 17 rfl rfl)
theorem dX5_tells_139 : decode cX5_tells 139 = .ok (.i2l, 1) := dk_133 (dk_at dksX5_tells_5 20 rfl rfl)
theorem dX5_tells_140 : decode cX5_tells 140 = .ok (.lastore, 1) := dk_80 (dk_at dksX5_tells_5 21 rfl rfl)
theorem dX5_tells_141 : decode cX5_tells 141 = .ok (.aload_n 0, 1) := dk_42 (dk_at dksX5_tells_5 22 rfl rfl)
theorem dX5_tells_142 : decode cX5_tells 142 = .ok (.getfield 107, 3) := dk_180 0 107 (dk_at dksX5_tells_6 0 rfl rfl)
theorem dX5_tells_145 : decode cX5_tells 145 = .ok (.bipush 10, 2) := dk_16 10 (dk_at dksX5_tells_6 3 rfl rfl)
theorem dX5_tells_147 : decode cX5_tells 147 = .ok (.iload_n 3, 1) := dk_29 (dk_at dksX5_tells_6 5 rfl rfl)
theorem dX5_tells_148 : decode cX5_tells 148 = .ok (.iconst (-1), 1) := dk_2 (dk_at dksX5_tells_6 6 rfl rfl)
theorem dX5_tells_149 : decode cX5_tells 149 = .ok (.if_icmp .ne 9, 3) := dk_160 0 9 (dk_at dksX5_tells_6 7 rfl rfl)
theorem dX5_tells_152 : decode cX5_tells 152 = .ok (.ldc2_w 276, 3) := dk_20 1 20 (dk_at dksX5_tells_6 10 rfl rfl)
theorem dX5_tells_155 : decode cX5_tells 155 = .ok (.goto 15, 3) := dk_167 0 15 (dk_at dksX5_tells_6 13 rfl rfl)
theorem dX5_tells_158 : decode cX5_tells 158 = .ok (.aload_n 0, 1) := dk_42 (dk_at dksX5_tells_6 16 rfl rfl)
theorem dX5_tells_159 : decode cX5_tells 159 = .ok (.getfield 13, 3) := dk_180 0 13 (dk_at dksX5_tells_6 17 rfl rfl)
theorem dX5_tells_162 : decode cX5_tells 162 = .ok (.bipush 104, 2) := dk_16 104 (dk_at dksX5_tells_6 20 rfl rfl)
theorem dX5_tells_164 : decode cX5_tells 164 = .ok (.iconst 2, 1) := dk_5 (dk_at dksX5_tells_6 22 rfl rfl)
theorem dX5_tells_165 : decode cX5_tells 165 = .ok (.iload_n 3, 1) := dk_29 (dk_at dksX5_tells_6 23 rfl rfl)
theorem dX5_tells_166 : decode cX5_tells 166 = .ok (.imul, 1) := dk_104 (dk_at dksX5_tells_7 0 rfl rfl)
theorem dX5_tells_167 : decode cX5_tells 167 = .ok (.iadd, 1) := dk_96 (dk_at dksX5_tells_7 1 rfl rfl)
theorem dX5_tells_168 : decode cX5_tells 168 = .ok (.iaload, 1) := dk_46 (dk_at dksX5_tells_7 2 rfl rfl)
theorem dX5_tells_169 : decode cX5_tells 169 = .ok (.i2l, 1) := dk_133 (dk_at dksX5_tells_7 3 rfl rfl)
theorem dX5_tells_170 : decode cX5_tells 170 = .ok (.lastore, 1) := dk_80 (dk_at dksX5_tells_7 4 rfl rfl)
theorem dX5_tells_171 : decode cX5_tells 171 = .ok (.aload_n 0, 1) := dk_42 (dk_at dksX5_tells_7 5 rfl rfl)
theorem dX5_tells_172 : decode cX5_tells 172 = .ok (.getfield 107, 3) := dk_180 0 107 (dk_at dksX5_tells_7 6 rfl rfl)
theorem dX5_tells_175 : decode cX5_tells 175 = .ok (.bipush 11, 2) := dk_16 11 (dk_at dksX5_tells_7 9 rfl rfl)
theorem dX5_tells_177 : decode cX5_tells 177 = .ok (.iload_n 3, 1) := dk_29 (dk_at dksX5_tells_7 11 rfl rfl)
theorem dX5_tells_178 : decode cX5_tells 178 = .ok (.iconst (-1), 1) := dk_2 (dk_at dksX5_tells_7 12 rfl rfl)
theorem dX5_tells_179 : decode cX5_tells 179 = .ok (.if_icmp .ne 9, 3) := dk_160 0 9 (dk_at dksX5_tells_7 13 rfl rfl)
theorem dX5_tells_182 : decode cX5_tells 182 = .ok (.ldc2_w 276, 3) := dk_20 1 20 (dk_at dksX5_tells_7 16 rfl rfl)
theorem dX5_tells_185 : decode cX5_tells 185 = .ok (.goto 17, 3) := dk_167 0 17 (dk_at dksX5_tells_7 19 rfl rfl)
theorem dX5_tells_188 : decode cX5_tells 188 = .ok (.aload_n 0, 1) := dk_42 (dk_at dksX5_tells_7 22 rfl rfl)
theorem dX5_tells_189 : decode cX5_tells 189 = .ok (.getfield 13, 3) := dk_180 0 13 (dk_at dksX5_tells_8 0 rfl rfl)
theorem dX5_tells_192 : decode cX5_tells 192 = .ok (.bipush 104, 2) := dk_16 104 (dk_at dksX5_tells_8 3 rfl rfl)
theorem dX5_tells_194 : decode cX5_tells 194 = .ok (.iconst 2, 1) := dk_5 (dk_at dksX5_tells_8 5 rfl rfl)
theorem dX5_tells_195 : decode cX5_tells 195 = .ok (.iload_n 3, 1) := dk_29 (dk_at dksX5_tells_8 6 rfl rfl)
theorem dX5_tells_196 : decode cX5_tells 196 = .ok (.imul, 1) := dk_104 (dk_at dksX5_tells_8 7 rfl rfl)
theorem dX5_tells_197 : decode cX5_tells 197 = .ok (.iadd, 1) := dk_96 (dk_at dksX5_tells_8 8 rfl rfl)
theorem dX5_tells_198 : decode cX5_tells 198 = .ok (.iconst 1, 1) := dk_4 (dk_at dksX5_tells_8 9 rfl rfl)
theorem dX5_tells_199 : decode cX5_tells 199 = .ok (.iadd, 1) := dk_96 (dk_at dksX5_tells_8 10 rfl rfl)
theorem dX5_tells_200 : decode cX5_tells 200 = .ok (.iaload, 1) := dk_46 (dk_at dksX5_tells_8 11 rfl rfl)
theorem dX5_tells_201 : decode cX5_tells 201 = .ok (.i2l, 1) := dk_133 (dk_at dksX5_tells_8 12 rfl rfl)
theorem dX5_tells_202 : decode cX5_tells 202 = .ok (.lastore, 1) := dk_80 (dk_at dksX5_tells_8 13 rfl rfl)
theorem dX5_tells_203 : decode cX5_tells 203 = .ok (.lload 6, 2) := dk_22 6 (dk_at dksX5_tells_8 14 rfl rfl)
theorem dX5_tells_205 : decode cX5_tells 205 = .ok (.lstore 8, 2) := dk_55 8 (dk_at dksX5_tells_8 16 rfl rfl)
theorem dX5_tells_207 : decode cX5_tells 207 = .ok (.iconst 0, 1) := dk_3 (dk_at dksX5_tells_8 18 rfl rfl)
theorem dX5_tells_208 : decode cX5_tells 208 = .ok (.istore 10, 2) := dk_54 10 (dk_at dksX5_tells_8 19 rfl rfl)
theorem dX5_tells_210 : decode cX5_tells 210 = .ok (.iload 10, 2) := dk_21 10 (dk_at dksX5_tells_8 21 rfl rfl)
theorem dX5_tells_212 : decode cX5_tells 212 = .ok (.aload_n 0, 1) := dk_42 (dk_at dksX5_tells_8 23 rfl rfl)
theorem dX5_tells_213 : decode cX5_tells 213 = .ok (.getfield 13, 3) := dk_180 0 13 (dk_at dksX5_tells_9 0 rfl rfl)
theorem dX5_tells_216 : decode cX5_tells 216 = .ok (.aload_n 0, 1) := dk_42 (dk_at dksX5_tells_9 3 rfl rfl)
theorem dX5_tells_217 : decode cX5_tells 217 = .ok (.getfield 398, 3) := dk_180 1 142 (dk_at dksX5_tells_9 4 rfl rfl)
theorem dX5_tells_220 : decode cX5_tells 220 = .ok (.iconst 1, 1) := dk_4 (dk_at dksX5_tells_9 7 rfl rfl)
theorem dX5_tells_221 : decode cX5_tells 221 = .ok (.iadd, 1) := dk_96 (dk_at dksX5_tells_9 8 rfl rfl)
theorem dX5_tells_222 : decode cX5_tells 222 = .ok (.iaload, 1) := dk_46 (dk_at dksX5_tells_9 9 rfl rfl)
theorem dX5_tells_223 : decode cX5_tells 223 = .ok (.if_icmp .ge 58, 3) := dk_162 0 58 (dk_at dksX5_tells_9 10 rfl rfl)
theorem dX5_tells_226 : decode cX5_tells 226 = .ok (.aload_n 0, 1) := dk_42 (dk_at dksX5_tells_9 13 rfl rfl)
theorem dX5_tells_227 : decode cX5_tells 227 = .ok (.getfield 398, 3) := dk_180 1 142 (dk_at dksX5_tells_9 14 rfl rfl)
theorem dX5_tells_230 : decode cX5_tells 230 = .ok (.iconst 2, 1) := dk_5 (dk_at dksX5_tells_9 17 rfl rfl)
theorem dX5_tells_231 : decode cX5_tells 231 = .ok (.iadd, 1) := dk_96 (dk_at dksX5_tells_9 18 rfl rfl)
theorem dX5_tells_232 : decode cX5_tells 232 = .ok (.bipush 8, 2) := dk_16 8 (dk_at dksX5_tells_9 19 rfl rfl)
theorem dX5_tells_234 : decode cX5_tells 234 = .ok (.iload 10, 2) := dk_21 10 (dk_at dksX5_tells_9 21 rfl rfl)
theorem dX5_tells_236 : decode cX5_tells 236 = .ok (.imul, 1) := dk_104 (dk_at dksX5_tells_9 23 rfl rfl)
theorem dX5_tells_237 : decode cX5_tells 237 = .ok (.iadd, 1) := dk_96 (dk_at dksX5_tells_10 0 rfl rfl)
theorem dX5_tells_238 : decode cX5_tells 238 = .ok (.istore 11, 2) := dk_54 11 (dk_at dksX5_tells_10 1 rfl rfl)
theorem dX5_tells_240 : decode cX5_tells 240 = .ok (.aload_n 0, 1) := dk_42 (dk_at dksX5_tells_10 3 rfl rfl)
theorem dX5_tells_241 : decode cX5_tells 241 = .ok (.getfield 13, 3) := dk_180 0 13 (dk_at dksX5_tells_10 4 rfl rfl)
theorem dX5_tells_244 : decode cX5_tells 244 = .ok (.iload 11, 2) := dk_21 11 (dk_at dksX5_tells_10 7 rfl rfl)
theorem dX5_tells_246 : decode cX5_tells 246 = .ok (.iaload, 1) := dk_46 (dk_at dksX5_tells_10 9 rfl rfl)
theorem dX5_tells_247 : decode cX5_tells 247 = .ok (.iload_n 1, 1) := dk_27 (dk_at dksX5_tells_10 10 rfl rfl)
theorem dX5_tells_248 : decode cX5_tells 248 = .ok (.if_icmp .ne 27, 3) := dk_160 0 27 (dk_at dksX5_tells_10 11 rfl rfl)
theorem dX5_tells_251 : decode cX5_tells 251 = .ok (.aload_n 0, 1) := dk_42 (dk_at dksX5_tells_10 14 rfl rfl)
theorem dX5_tells_252 : decode cX5_tells 252 = .ok (.iload 11, 2) := dk_21 11 (dk_at dksX5_tells_10 15 rfl rfl)
theorem dX5_tells_254 : decode cX5_tells 254 = .ok (.invokevirtual 421, 3) := dk_182 1 165 (dk_at dksX5_tells_10 17 rfl rfl)
theorem dX5_tells_257 : decode cX5_tells 257 = .ok (.ifCond .eq 18, 3) := dk_153 0 18 (dk_at dksX5_tells_10 20 rfl rfl)
theorem dX5_tells_260 : decode cX5_tells 260 = .ok (.iload_n 1, 1) := dk_27 (dk_at dksX5_tells_10 23 rfl rfl)
theorem dX5_tells_261 : decode cX5_tells 261 = .ok (.iconst 3, 1) := dk_6 (dk_at dksX5_tells_11 0 rfl rfl)
theorem dX5_tells_262 : decode cX5_tells 262 = .ok (.if_icmp .ge 10, 3) := dk_162 0 10 (dk_at dksX5_tells_11 1 rfl rfl)
theorem dX5_tells_265 : decode cX5_tells 265 = .ok (.aload_n 0, 1) := dk_42 (dk_at dksX5_tells_11 4 rfl rfl)
theorem dX5_tells_266 : decode cX5_tells 266 = .ok (.getfield 415, 3) := dk_180 1 159 (dk_at dksX5_tells_11 5 rfl rfl)
theorem dX5_tells_269 : decode cX5_tells 269 = .ok (.goto 4, 3) := dk_167 0 4 (dk_at dksX5_tells_11 8 rfl rfl)
theorem dX5_tells_272 : decode cX5_tells 272 = .ok (.lconst 1, 1) := dk_10 (dk_at dksX5_tells_11 11 rfl rfl)
theorem dX5_tells_273 : decode cX5_tells 273 = .ok (.lstore 8, 2) := dk_55 8 (dk_at dksX5_tells_11 12 rfl rfl)
theorem dX5_tells_275 : decode cX5_tells 275 = .ok (.iinc 10 1, 3) := dk_132 10 1 (dk_at dksX5_tells_11 14 rfl rfl)
theorem dX5_tells_278 : decode cX5_tells 278 = .ok (.goto (-68), 3) := dk_167 255 188 (dk_at dksX5_tells_11 17 rfl rfl)
theorem dX5_tells_281 : decode cX5_tells 281 = .ok (.lload 8, 2) := dk_22 8 (dk_at dksX5_tells_11 20 rfl rfl)
theorem dX5_tells_283 : decode cX5_tells 283 = .ok (.lreturn, 1) := dk_173 (dk_at dksX5_tells_11 22 rfl rfl)
abbrev cX5_term : ByteArray := prog_22_method_16_code
def yX5_term : MethodName := ⟨RX5, "term", "(I)I"⟩
def dkwX5_term_0 : List UInt8 := [42, 180, 0, 13, 6, 27, 96, 46, 172]
abbrev dktX5_term_0 : List UInt8 := dkwX5_term_0 ++ []
theorem dksX5_term_0 : cX5_term.data.toList.drop 0 = dktX5_term_0 := by decide +kernel
theorem dX5_term_0 : decode cX5_term 0 = .ok (.aload_n 0, 1) := dk_42 (dk_at dksX5_term_0 0 rfl rfl)
theorem dX5_term_1 : decode cX5_term 1 = .ok (.getfield 13, 3) := dk_180 0 13 (dk_at dksX5_term_0 1 rfl rfl)
theorem dX5_term_4 : decode cX5_term 4 = .ok (.iconst 3, 1) := dk_6 (dk_at dksX5_term_0 4 rfl rfl)
theorem dX5_term_5 : decode cX5_term 5 = .ok (.iload_n 1, 1) := dk_27 (dk_at dksX5_term_0 5 rfl rfl)
theorem dX5_term_6 : decode cX5_term 6 = .ok (.iadd, 1) := dk_96 (dk_at dksX5_term_0 6 rfl rfl)
theorem dX5_term_7 : decode cX5_term 7 = .ok (.iaload, 1) := dk_46 (dk_at dksX5_term_0 7 rfl rfl)
theorem dX5_term_8 : decode cX5_term 8 = .ok (.ireturn, 1) := dk_172 (dk_at dksX5_term_0 8 rfl rfl)
abbrev cX5_isSo : ByteArray := prog_22_method_63_code
def yX5_isSo : MethodName := ⟨RX5, "isSo", "(I)Z"⟩
def dkwX5_isSo_4 : List UInt8 := [180, 1, 153, 181, 1, 159, 42, 180, 1, 139, 154, 0, 7, 4, 167, 0, 4, 3, 172, 4, 172]
abbrev dktX5_isSo_4 : List UInt8 := dkwX5_isSo_4 ++ []
def dkwX5_isSo_3 : List UInt8 := [42, 42, 180, 0, 13, 27, 6, 96, 46, 42, 180, 0, 13, 27, 7, 96, 46, 182, 1, 156, 42, 42]
abbrev dktX5_isSo_3 : List UInt8 := dkwX5_isSo_3 ++ dktX5_isSo_4
def dkwX5_isSo_2 : List UInt8 := [154, 0, 12, 42, 180, 1, 153, 9, 148, 154, 0, 5, 3, 172, 42, 180, 0, 13, 27, 46, 6, 162, 0, 44]
abbrev dktX5_isSo_2 : List UInt8 := dkwX5_isSo_2 ++ dktX5_isSo_3
def dkwX5_isSo_1 : List UInt8 := [180, 0, 13, 27, 8, 96, 46, 42, 180, 0, 13, 27, 16, 6, 96, 46, 182, 1, 156, 42, 180, 1, 139]
abbrev dktX5_isSo_1 : List UInt8 := dkwX5_isSo_1 ++ dktX5_isSo_2
def dkwX5_isSo_0 : List UInt8 := [42, 180, 0, 13, 27, 8, 96, 46, 42, 180, 0, 13, 27, 16, 6, 96, 46, 162, 0, 42, 42, 42]
abbrev dktX5_isSo_0 : List UInt8 := dkwX5_isSo_0 ++ dktX5_isSo_1
theorem dksX5_isSo_0 : cX5_isSo.data.toList.drop 0 = dktX5_isSo_0 := by decide +kernel
theorem dksX5_isSo_1 : cX5_isSo.data.toList.drop 22 = dktX5_isSo_1 := dk_seg dksX5_isSo_0 22 rfl rfl
theorem dksX5_isSo_2 : cX5_isSo.data.toList.drop 45 = dktX5_isSo_2 := dk_seg dksX5_isSo_1 23 rfl rfl
theorem dksX5_isSo_3 : cX5_isSo.data.toList.drop 69 = dktX5_isSo_3 := dk_seg dksX5_isSo_2 24 rfl rfl
theorem dksX5_isSo_4 : cX5_isSo.data.toList.drop 91 = dktX5_isSo_4 := dk_seg dksX5_isSo_3 22 rfl rfl
theorem dX5_isSo_0 : decode cX5_isSo 0 = .ok (.aload_n 0, 1) := dk_42 (dk_at dksX5_isSo_0 0 rfl rfl)
theorem dX5_isSo_1 : decode cX5_isSo 1 = .ok (.getfield 13, 3) := dk_180 0 13 (dk_at dksX5_isSo_0 1 rfl rfl)
theorem dX5_isSo_4 : decode cX5_isSo 4 = .ok (.iload_n 1, 1) := dk_27 (dk_at dksX5_isSo_0 4 rfl rfl)
theorem dX5_isSo_5 : decode cX5_isSo 5 = .ok (.iconst 5, 1) := dk_8 (dk_at dksX5_isSo_0 5 rfl rfl)
theorem dX5_isSo_6 : decode cX5_isSo 6 = .ok (.iadd, 1) := dk_96 (dk_at dksX5_isSo_0 6 rfl rfl)
theorem dX5_isSo_7 : decode cX5_isSo 7 = .ok (.iaload, 1) := dk_46 (dk_at dksX5_isSo_0 7 rfl rfl)
theorem dX5_isSo_8 : decode cX5_isSo 8 = .ok (.aload_n 0, 1) := dk_42 (dk_at dksX5_isSo_0 8 rfl rfl)
theorem dX5_isSo_9 : decode cX5_isSo 9 = .ok (.getfield 13, 3) := dk_180 0 13 (dk_at dksX5_isSo_0 9 rfl rfl)
theorem dX5_isSo_12 : decode cX5_isSo 12 = .ok (.iload_n 1, 1) := dk_27 (dk_at dksX5_isSo_0 12 rfl rfl)
theorem dX5_isSo_13 : decode cX5_isSo 13 = .ok (.bipush 6, 2) := dk_16 6 (dk_at dksX5_isSo_0 13 rfl rfl)
theorem dX5_isSo_15 : decode cX5_isSo 15 = .ok (.iadd, 1) := dk_96 (dk_at dksX5_isSo_0 15 rfl rfl)
theorem dX5_isSo_16 : decode cX5_isSo 16 = .ok (.iaload, 1) := dk_46 (dk_at dksX5_isSo_0 16 rfl rfl)
theorem dX5_isSo_17 : decode cX5_isSo 17 = .ok (.if_icmp .ge 42, 3) := dk_162 0 42 (dk_at dksX5_isSo_0 17 rfl rfl)
theorem dX5_isSo_20 : decode cX5_isSo 20 = .ok (.aload_n 0, 1) := dk_42 (dk_at dksX5_isSo_0 20 rfl rfl)
theorem dX5_isSo_21 : decode cX5_isSo 21 = .ok (.aload_n 0, 1) := dk_42 (dk_at dksX5_isSo_0 21 rfl rfl)
theorem dX5_isSo_22 : decode cX5_isSo 22 = .ok (.getfield 13, 3) := dk_180 0 13 (dk_at dksX5_isSo_1 0 rfl rfl)
theorem dX5_isSo_25 : decode cX5_isSo 25 = .ok (.iload_n 1, 1) := dk_27 (dk_at dksX5_isSo_1 3 rfl rfl)
theorem dX5_isSo_26 : decode cX5_isSo 26 = .ok (.iconst 5, 1) := dk_8 (dk_at dksX5_isSo_1 4 rfl rfl)
theorem dX5_isSo_27 : decode cX5_isSo 27 = .ok (.iadd, 1) := dk_96 (dk_at dksX5_isSo_1 5 rfl rfl)
theorem dX5_isSo_28 : decode cX5_isSo 28 = .ok (.iaload, 1) := dk_46 (dk_at dksX5_isSo_1 6 rfl rfl)
theorem dX5_isSo_29 : decode cX5_isSo 29 = .ok (.aload_n 0, 1) := dk_42 (dk_at dksX5_isSo_1 7 rfl rfl)
theorem dX5_isSo_30 : decode cX5_isSo 30 = .ok (.getfield 13, 3) := dk_180 0 13 (dk_at dksX5_isSo_1 8 rfl rfl)
theorem dX5_isSo_33 : decode cX5_isSo 33 = .ok (.iload_n 1, 1) := dk_27 (dk_at dksX5_isSo_1 11 rfl rfl)
theorem dX5_isSo_34 : decode cX5_isSo 34 = .ok (.bipush 6, 2) := dk_16 6 (dk_at dksX5_isSo_1 12 rfl rfl)
theorem dX5_isSo_36 : decode cX5_isSo 36 = .ok (.iadd, 1) := dk_96 (dk_at dksX5_isSo_1 14 rfl rfl)
theorem dX5_isSo_37 : decode cX5_isSo 37 = .ok (.iaload, 1) := dk_46 (dk_at dksX5_isSo_1 15 rfl rfl)
theorem dX5_isSo_38 : decode cX5_isSo 38 = .ok (.invokevirtual 412, 3) := dk_182 1 156 (dk_at dksX5_isSo_1 16 rfl rfl)
theorem dX5_isSo_41 : decode cX5_isSo 41 = .ok (.aload_n 0, 1) := dk_42 (dk_at dksX5_isSo_1 19 rfl rfl)
theorem dX5_isSo_42 : decode cX5_isSo 42 = .ok (.getfield 395, 3) := dk_180 1 139 (dk_at dksX5_isSo_1 20 rfl rfl)
theorem dX5_isSo_45 : decode cX5_isSo 45 = .ok (.ifCond .ne 12, 3) := dk_154 0 12 (dk_at dksX5_isSo_2 0 rfl rfl)
theorem dX5_isSo_48 : decode cX5_isSo 48 = .ok (.aload_n 0, 1) := dk_42 (dk_at dksX5_isSo_2 3 rfl rfl)
theorem dX5_isSo_49 : decode cX5_isSo 49 = .ok (.getfield 409, 3) := dk_180 1 153 (dk_at dksX5_isSo_2 4 rfl rfl)
theorem dX5_isSo_52 : decode cX5_isSo 52 = .ok (.lconst 0, 1) := dk_9 (dk_at dksX5_isSo_2 7 rfl rfl)
theorem dX5_isSo_53 : decode cX5_isSo 53 = .ok (.lcmp, 1) := dk_148 (dk_at dksX5_isSo_2 8 rfl rfl)
theorem dX5_isSo_54 : decode cX5_isSo 54 = .ok (.ifCond .ne 5, 3) := dk_154 0 5 (dk_at dksX5_isSo_2 9 rfl rfl)
theorem dX5_isSo_57 : decode cX5_isSo 57 = .ok (.iconst 0, 1) := dk_3 (dk_at dksX5_isSo_2 12 rfl rfl)
theorem dX5_isSo_58 : decode cX5_isSo 58 = .ok (.ireturn, 1) := dk_172 (dk_at dksX5_isSo_2 13 rfl rfl)
theorem dX5_isSo_59 : decode cX5_isSo 59 = .ok (.aload_n 0, 1) := dk_42 (dk_at dksX5_isSo_2 14 rfl rfl)
theorem dX5_isSo_60 : decode cX5_isSo 60 = .ok (.getfield 13, 3) := dk_180 0 13 (dk_at dksX5_isSo_2 15 rfl rfl)
theorem dX5_isSo_63 : decode cX5_isSo 63 = .ok (.iload_n 1, 1) := dk_27 (dk_at dksX5_isSo_2 18 rfl rfl)
theorem dX5_isSo_64 : decode cX5_isSo 64 = .ok (.iaload, 1) := dk_46 (dk_at dksX5_isSo_2 19 rfl rfl)
theorem dX5_isSo_65 : decode cX5_isSo 65 = .ok (.iconst 3, 1) := dk_6 (dk_at dksX5_isSo_2 20 rfl rfl)
theorem dX5_isSo_66 : decode cX5_isSo 66 = .ok (.if_icmp .ge 44, 3) := dk_162 0 44 (dk_at dksX5_isSo_2 21 rfl rfl)
theorem dX5_isSo_69 : decode cX5_isSo 69 = .ok (.aload_n 0, 1) := dk_42 (dk_at dksX5_isSo_3 0 rfl rfl)
theorem dX5_isSo_70 : decode cX5_isSo 70 = .ok (.aload_n 0, 1) := dk_42 (dk_at dksX5_isSo_3 1 rfl rfl)
theorem dX5_isSo_71 : decode cX5_isSo 71 = .ok (.getfield 13, 3) := dk_180 0 13 (dk_at dksX5_isSo_3 2 rfl rfl)
theorem dX5_isSo_74 : decode cX5_isSo 74 = .ok (.iload_n 1, 1) := dk_27 (dk_at dksX5_isSo_3 5 rfl rfl)
theorem dX5_isSo_75 : decode cX5_isSo 75 = .ok (.iconst 3, 1) := dk_6 (dk_at dksX5_isSo_3 6 rfl rfl)
theorem dX5_isSo_76 : decode cX5_isSo 76 = .ok (.iadd, 1) := dk_96 (dk_at dksX5_isSo_3 7 rfl rfl)
theorem dX5_isSo_77 : decode cX5_isSo 77 = .ok (.iaload, 1) := dk_46 (dk_at dksX5_isSo_3 8 rfl rfl)
theorem dX5_isSo_78 : decode cX5_isSo 78 = .ok (.aload_n 0, 1) := dk_42 (dk_at dksX5_isSo_3 9 rfl rfl)
theorem dX5_isSo_79 : decode cX5_isSo 79 = .ok (.getfield 13, 3) := dk_180 0 13 (dk_at dksX5_isSo_3 10 rfl rfl)
theorem dX5_isSo_82 : decode cX5_isSo 82 = .ok (.iload_n 1, 1) := dk_27 (dk_at dksX5_isSo_3 13 rfl rfl)
theorem dX5_isSo_83 : decode cX5_isSo 83 = .ok (.iconst 4, 1) := dk_7 (dk_at dksX5_isSo_3 14 rfl rfl)
theorem dX5_isSo_84 : decode cX5_isSo 84 = .ok (.iadd, 1) := dk_96 (dk_at dksX5_isSo_3 15 rfl rfl)
theorem dX5_isSo_85 : decode cX5_isSo 85 = .ok (.iaload, 1) := dk_46 (dk_at dksX5_isSo_3 16 rfl rfl)
theorem dX5_isSo_86 : decode cX5_isSo 86 = .ok (.invokevirtual 412, 3) := dk_182 1 156 (dk_at dksX5_isSo_3 17 rfl rfl)
theorem dX5_isSo_89 : decode cX5_isSo 89 = .ok (.aload_n 0, 1) := dk_42 (dk_at dksX5_isSo_3 20 rfl rfl)
theorem dX5_isSo_90 : decode cX5_isSo 90 = .ok (.aload_n 0, 1) := dk_42 (dk_at dksX5_isSo_3 21 rfl rfl)
theorem dX5_isSo_91 : decode cX5_isSo 91 = .ok (.getfield 409, 3) := dk_180 1 153 (dk_at dksX5_isSo_4 0 rfl rfl)
theorem dX5_isSo_94 : decode cX5_isSo 94 = .ok (.putfield 415, 3) := dk_181 1 159 (dk_at dksX5_isSo_4 3 rfl rfl)
theorem dX5_isSo_97 : decode cX5_isSo 97 = .ok (.aload_n 0, 1) := dk_42 (dk_at dksX5_isSo_4 6 rfl rfl)
theorem dX5_isSo_98 : decode cX5_isSo 98 = .ok (.getfield 395, 3) := dk_180 1 139 (dk_at dksX5_isSo_4 7 rfl rfl)
theorem dX5_isSo_101 : decode cX5_isSo 101 = .ok (.ifCond .ne 7, 3) := dk_154 0 7 (dk_at dksX5_isSo_4 10 rfl rfl)
theorem dX5_isSo_104 : decode cX5_isSo 104 = .ok (.iconst 1, 1) := dk_4 (dk_at dksX5_isSo_4 13 rfl rfl)
theorem dX5_isSo_105 : decode cX5_isSo 105 = .ok (.goto 4, 3) := dk_167 0 4 (dk_at dksX5_isSo_4 14 rfl rfl)
theorem dX5_isSo_108 : decode cX5_isSo 108 = .ok (.iconst 0, 1) := dk_3 (dk_at dksX5_isSo_4 17 rfl rfl)
theorem dX5_isSo_109 : decode cX5_isSo 109 = .ok (.ireturn, 1) := dk_172 (dk_at dksX5_isSo_4 18 rfl rfl)
theorem dX5_isSo_110 : decode cX5_isSo 110 = .ok (.iconst 1, 1) := dk_4 (dk_at dksX5_isSo_4 19 rfl rfl)
theorem dX5_isSo_111 : decode cX5_isSo 111 = .ok (.ireturn, 1) := dk_172 (dk_at dksX5_isSo_4 20 rfl rfl)
abbrev cX5_reckonAll : ByteArray := prog_22_method_62_code
def yX5_reckonAll : MethodName := ⟨RX5, "reckonAll", "(II)V"⟩
def dkwX5_reckonAll_15 : List UInt8 := [167, 254, 168, 42, 29, 158, 0, 12, 42, 180, 0, 113, 3, 47, 167, 0, 4, 9, 181, 1, 153, 177]
abbrev dktX5_reckonAll_15 : List UInt8 := dkwX5_reckonAll_15 ++ []
def dkwX5_reckonAll_14 : List UInt8 := [16, 29, 160, 0, 7, 9, 167, 0, 4, 10, 148, 154, 0, 10, 21, 6, 54, 4, 167, 0, 6, 132, 3, 255]
abbrev dktX5_reckonAll_14 : List UInt8 := dkwX5_reckonAll_14 ++ dktX5_reckonAll_15
def dkwX5_reckonAll_13 : List UInt8 := [10, 42, 180, 0, 113, 29, 4, 100, 47, 101, 80, 167, 0, 37, 42, 180, 0, 113, 29, 4, 100, 47, 21, 5]
abbrev dktX5_reckonAll_13 : List UInt8 := dkwX5_reckonAll_13 ++ dktX5_reckonAll_14
def dkwX5_reckonAll_12 : List UInt8 := [167, 0, 4, 3, 181, 1, 139, 167, 0, 65, 21, 5, 16, 28, 160, 0, 24, 42, 180, 0, 113, 29, 4, 100]
abbrev dktX5_reckonAll_12 : List UInt8 := dkwX5_reckonAll_12 ++ dktX5_reckonAll_13
def dkwX5_reckonAll_11 : List UInt8 := [154, 0, 23, 42, 180, 0, 113, 29, 4, 100, 47, 20, 1, 149, 20, 1, 151, 184, 0, 194, 154, 0, 7, 4]
abbrev dktX5_reckonAll_11 : List UInt8 := dkwX5_reckonAll_11 ++ dktX5_reckonAll_12
def dkwX5_reckonAll_10 : List UInt8 := [180, 0, 113, 29, 4, 100, 47, 42, 180, 0, 113, 29, 47, 182, 1, 145, 80, 42, 42, 180, 1, 139]
abbrev dktX5_reckonAll_10 : List UInt8 := dkwX5_reckonAll_10 ++ dktX5_reckonAll_11
def dkwX5_reckonAll_9 : List UInt8 := [167, 0, 142, 21, 5, 16, 28, 162, 0, 73, 132, 3, 255, 42, 180, 0, 113, 29, 4, 100, 42, 21, 5, 42]
abbrev dktX5_reckonAll_9 : List UInt8 := dkwX5_reckonAll_9 ++ dktX5_reckonAll_10
def dkwX5_reckonAll_8 : List UInt8 := [21, 6, 96, 46, 133, 167, 0, 14, 42, 180, 0, 13, 16, 40, 21, 6, 96, 46, 133, 80, 132, 3, 1]
abbrev dktX5_reckonAll_8 : List UInt8 := dkwX5_reckonAll_8 ++ dktX5_reckonAll_9
def dkwX5_reckonAll_7 : List UInt8 := [16, 24, 21, 6, 96, 46, 133, 167, 0, 35, 21, 5, 16, 6, 160, 0, 17, 42, 180, 0, 13, 16, 8]
abbrev dktX5_reckonAll_7 : List UInt8 := dkwX5_reckonAll_7 ++ dktX5_reckonAll_8
def dkwX5_reckonAll_6 : List UInt8 := [162, 0, 13, 42, 180, 0, 110, 21, 5, 47, 167, 0, 55, 21, 5, 8, 160, 0, 17, 42, 180, 0, 13]
abbrev dktX5_reckonAll_6 : List UInt8 := dkwX5_reckonAll_6 ++ dktX5_reckonAll_7
def dkwX5_reckonAll_5 : List UInt8 := [133, 167, 0, 88, 42, 180, 1, 70, 154, 0, 13, 42, 180, 0, 107, 21, 5, 47, 167, 0, 71, 21, 5, 8]
abbrev dktX5_reckonAll_5 : List UInt8 := dkwX5_reckonAll_5 ++ dktX5_reckonAll_6
def dkwX5_reckonAll_4 : List UInt8 := [54, 6, 132, 4, 1, 21, 5, 16, 20, 162, 0, 111, 42, 180, 0, 113, 29, 21, 5, 154, 0, 9, 21, 6]
abbrev dktX5_reckonAll_4 : List UInt8 := dkwX5_reckonAll_4 ++ dktX5_reckonAll_5
def dkwX5_reckonAll_3 : List UInt8 := [46, 167, 0, 22, 42, 180, 0, 13, 42, 180, 1, 142, 16, 98, 96, 5, 21, 4, 104, 96, 4, 96, 46]
abbrev dktX5_reckonAll_3 : List UInt8 := dkwX5_reckonAll_3 ++ dktX5_reckonAll_4
def dkwX5_reckonAll_2 : List UInt8 := [16, 98, 96, 5, 21, 4, 104, 96, 46, 54, 5, 42, 180, 1, 70, 153, 0, 13, 42, 180, 0, 48, 21, 4]
abbrev dktX5_reckonAll_2 : List UInt8 := dkwX5_reckonAll_2 ++ dktX5_reckonAll_3
def dkwX5_reckonAll_1 : List UInt8 := [180, 1, 70, 153, 0, 13, 42, 180, 0, 45, 21, 4, 46, 167, 0, 20, 42, 180, 0, 13, 42, 180, 1, 142]
abbrev dktX5_reckonAll_1 : List UInt8 := dkwX5_reckonAll_1 ++ dktX5_reckonAll_2
def dkwX5_reckonAll_0 : List UInt8 := [42, 3, 181, 1, 139, 3, 62, 27, 54, 4, 21, 4, 28, 162, 1, 88, 42, 180, 1, 139, 154, 1, 81, 42]
abbrev dktX5_reckonAll_0 : List UInt8 := dkwX5_reckonAll_0 ++ dktX5_reckonAll_1
theorem dksX5_reckonAll_0 : cX5_reckonAll.data.toList.drop 0 = dktX5_reckonAll_0 := by decide +kernel
theorem dksX5_reckonAll_1 : cX5_reckonAll.data.toList.drop 24 = dktX5_reckonAll_1 := dk_seg dksX5_reckonAll_0 24 rfl rfl
theorem dksX5_reckonAll_2 : cX5_reckonAll.data.toList.drop 48 = dktX5_reckonAll_2 := dk_seg dksX5_reckonAll_1 24 rfl rfl
theorem dksX5_reckonAll_3 : cX5_reckonAll.data.toList.drop 72 = dktX5_reckonAll_3 := dk_seg dksX5_reckonAll_2 24 rfl rfl
theorem dksX5_reckonAll_4 : cX5_reckonAll.data.toList.drop 95 = dktX5_reckonAll_4 := dk_seg dksX5_reckonAll_3 23 rfl rfl
theorem dksX5_reckonAll_5 : cX5_reckonAll.data.toList.drop 119 = dktX5_reckonAll_5 := dk_seg dksX5_reckonAll_4 24 rfl rfl
theorem dksX5_reckonAll_6 : cX5_reckonAll.data.toList.drop 143 = dktX5_reckonAll_6 := dk_seg dksX5_reckonAll_5 24 rfl rfl
theorem dksX5_reckonAll_7 : cX5_reckonAll.data.toList.drop 166 = dktX5_reckonAll_7 := dk_seg dksX5_reckonAll_6 23 rfl rfl
theorem dksX5_reckonAll_8 : cX5_reckonAll.data.toList.drop 189 = dktX5_reckonAll_8 := dk_seg dksX5_reckonAll_7 23 rfl rfl
theorem dksX5_reckonAll_9 : cX5_reckonAll.data.toList.drop 212 = dktX5_reckonAll_9 := dk_seg dksX5_reckonAll_8 23 rfl rfl
theorem dksX5_reckonAll_10 : cX5_reckonAll.data.toList.drop 236 = dktX5_reckonAll_10 := dk_seg dksX5_reckonAll_9 24 rfl rfl
theorem dksX5_reckonAll_11 : cX5_reckonAll.data.toList.drop 258 = dktX5_reckonAll_11 := dk_seg dksX5_reckonAll_10 22 rfl rfl
theorem dksX5_reckonAll_12 : cX5_reckonAll.data.toList.drop 282 = dktX5_reckonAll_12 := dk_seg dksX5_reckonAll_11 24 rfl rfl
theorem dksX5_reckonAll_13 : cX5_reckonAll.data.toList.drop 306 = dktX5_reckonAll_13 := dk_seg dksX5_reckonAll_12 24 rfl rfl
theorem dksX5_reckonAll_14 : cX5_reckonAll.data.toList.drop 330 = dktX5_reckonAll_14 := dk_seg dksX5_reckonAll_13 24 rfl rfl
theorem dksX5_reckonAll_15 : cX5_reckonAll.data.toList.drop 354 = dktX5_reckonAll_15 := dk_seg dksX5_reckonAll_14 24 rfl rfl
theorem dX5_reckonAll_0 : decode cX5_reckonAll 0 = .ok (.aload_n 0, 1) := dk_42 (dk_at dksX5_reckonAll_0 0 rfl rfl)
theorem dX5_reckonAll_1 : decode cX5_reckonAll 1 = .ok (.iconst 0, 1) := dk_3 (dk_at dksX5_reckonAll_0 1 rfl rfl)
theorem dX5_reckonAll_2 : decode cX5_reckonAll 2 = .ok (.putfield 395, 3) := dk_181 1 139 (dk_at dksX5_reckonAll_0 2 rfl rfl)
theorem dX5_reckonAll_5 : decode cX5_reckonAll 5 = .ok (.iconst 0, 1) := dk_3 (dk_at dksX5_reckonAll_0 5 rfl rfl)
theorem dX5_reckonAll_6 : decode cX5_reckonAll 6 = .ok (.istore_n 3, 1) := dk_62 (dk_at dksX5_reckonAll_0 6 rfl rfl)
theorem dX5_reckonAll_7 : decode cX5_reckonAll 7 = .ok (.iload_n 1, 1) := dk_27 (dk_at dksX5_reckonAll_0 7 rfl rfl)
theorem dX5_reckonAll_8 : decode cX5_reckonAll 8 = .ok (.istore 4, 2) := dk_54 4 (dk_at dksX5_reckonAll_0 8 rfl rfl)
theorem dX5_reckonAll_10 : decode cX5_reckonAll 10 = .ok (.iload 4, 2) := dk_21 4 (dk_at dksX5_reckonAll_0 10 rfl rfl)
theorem dX5_reckonAll_12 : decode cX5_reckonAll 12 = .ok (.iload_n 2, 1) := dk_28 (dk_at dksX5_reckonAll_0 12 rfl rfl)
theorem dX5_reckonAll_13 : decode cX5_reckonAll 13 = .ok (.if_icmp .ge 344, 3) := dk_162 1 88 (dk_at dksX5_reckonAll_0 13 rfl rfl)
theorem dX5_reckonAll_16 : decode cX5_reckonAll 16 = .ok (.aload_n 0, 1) := dk_42 (dk_at dksX5_reckonAll_0 16 rfl rfl)
theorem dX5_reckonAll_17 : decode cX5_reckonAll 17 = .ok (.getfield 395, 3) := dk_180 1 139 (dk_at dksX5_reckonAll_0 17 rfl rfl)
theorem dX5_reckonAll_20 : decode cX5_reckonAll 20 = .ok (.ifCond .ne 337, 3) := dk_154 1 81 (dk_at dksX5_reckonAll_0 20 rfl rfl)
theorem dX5_reckonAll_23 : decode cX5_reckonAll 23 = .ok (.aload_n 0, 1) := dk_42 (dk_at dksX5_reckonAll_0 23 rfl rfl)
theorem dX5_reckonAll_24 : decode cX5_reckonAll 24 = .ok (.getfield 326, 3) := dk_180 1 70 (dk_at dksX5_reckonAll_1 0 rfl rfl)
theorem dX5_reckonAll_27 : decode cX5_reckonAll 27 = .ok (.ifCond .eq 13, 3) := dk_153 0 13 (dk_at dksX5_reckonAll_1 3 rfl rfl)
theorem dX5_reckonAll_30 : decode cX5_reckonAll 30 = .ok (.aload_n 0, 1) := dk_42 (dk_at dksX5_reckonAll_1 6 rfl rfl)
theorem dX5_reckonAll_31 : decode cX5_reckonAll 31 = .ok (.getfield 45, 3) := dk_180 0 45 (dk_at dksX5_reckonAll_1 7 rfl rfl)
theorem dX5_reckonAll_34 : decode cX5_reckonAll 34 = .ok (.iload 4, 2) := dk_21 4 (dk_at dksX5_reckonAll_1 10 rfl rfl)
theorem dX5_reckonAll_36 : decode cX5_reckonAll 36 = .ok (.iaload, 1) := dk_46 (dk_at dksX5_reckonAll_1 12 rfl rfl)
theorem dX5_reckonAll_37 : decode cX5_reckonAll 37 = .ok (.goto 20, 3) := dk_167 0 20 (dk_at dksX5_reckonAll_1 13 rfl rfl)
theorem dX5_reckonAll_40 : decode cX5_reckonAll 40 = .ok (.aload_n 0, 1) := dk_42 (dk_at dksX5_reckonAll_1 16 rfl rfl)
theorem dX5_reckonAll_41 : decode cX5_reckonAll 41 = .ok (.getfield 13, 3) := dk_180 0 13 (dk_at dksX5_reckonAll_1 17 rfl rfl)
theorem dX5_reckonAll_44 : decode cX5_reckonAll 44 = .ok (.aload_n 0, 1) := dk_42 (dk_at dksX5_reckonAll_1 20 rfl rfl)
theorem dX5_reckonAll_45 : decode cX5_reckonAll 45 = .ok (.getfield 398, 3) := dk_180 1 142 (dk_at dksX5_reckonAll_1 21 rfl rfl)
theorem dX5_reckonAll_48 : decode cX5_reckonAll 48 = .ok (.bipush 98, 2) := dk_16 98 (dk_at dksX5_reckonAll_2 0 rfl rfl)
theorem dX5_reckonAll_50 : decode cX5_reckonAll 50 = .ok (.iadd, 1) := dk_96 (dk_at dksX5_reckonAll_2 2 rfl rfl)
theorem dX5_reckonAll_51 : decode cX5_reckonAll 51 = .ok (.iconst 2, 1) := dk_5 (dk_at dksX5_reckonAll_2 3 rfl rfl)
theorem dX5_reckonAll_52 : decode cX5_reckonAll 52 = .ok (.iload 4, 2) := dk_21 4 (dk_at dksX5_reckonAll_2 4 rfl rfl)
theorem dX5_reckonAll_54 : decode cX5_reckonAll 54 = .ok (.imul, 1) := dk_104 (dk_at dksX5_reckonAll_2 6 rfl rfl)
theorem dX5_reckonAll_55 : decode cX5_reckonAll 55 = .ok (.iadd, 1) := dk_96 (dk_at dksX5_reckonAll_2 7 rfl rfl)
theorem dX5_reckonAll_56 : decode cX5_reckonAll 56 = .ok (.iaload, 1) := dk_46 (dk_at dksX5_reckonAll_2 8 rfl rfl)
theorem dX5_reckonAll_57 : decode cX5_reckonAll 57 = .ok (.istore 5, 2) := dk_54 5 (dk_at dksX5_reckonAll_2 9 rfl rfl)
theorem dX5_reckonAll_59 : decode cX5_reckonAll 59 = .ok (.aload_n 0, 1) := dk_42 (dk_at dksX5_reckonAll_2 11 rfl rfl)
theorem dX5_reckonAll_60 : decode cX5_reckonAll 60 = .ok (.getfield 326, 3) := dk_180 1 70 (dk_at dksX5_reckonAll_2 12 rfl rfl)
theorem dX5_reckonAll_63 : decode cX5_reckonAll 63 = .ok (.ifCond .eq 13, 3) := dk_153 0 13 (dk_at dksX5_reckonAll_2 15 rfl rfl)
theorem dX5_reckonAll_66 : decode cX5_reckonAll 66 = .ok (.aload_n 0, 1) := dk_42 (dk_at dksX5_reckonAll_2 18 rfl rfl)
theorem dX5_reckonAll_67 : decode cX5_reckonAll 67 = .ok (.getfield 48, 3) := dk_180 0 48 (dk_at dksX5_reckonAll_2 19 rfl rfl)
theorem dX5_reckonAll_70 : decode cX5_reckonAll 70 = .ok (.iload 4, 2) := dk_21 4 (dk_at dksX5_reckonAll_2 22 rfl rfl)
theorem dX5_reckonAll_72 : decode cX5_reckonAll 72 = .ok (.iaload, 1) := dk_46 (dk_at dksX5_reckonAll_3 0 rfl rfl)
theorem dX5_reckonAll_73 : decode cX5_reckonAll 73 = .ok (.goto 22, 3) := dk_167 0 22 (dk_at dksX5_reckonAll_3 1 rfl rfl)
theorem dX5_reckonAll_76 : decode cX5_reckonAll 76 = .ok (.aload_n 0, 1) := dk_42 (dk_at dksX5_reckonAll_3 4 rfl rfl)
theorem dX5_reckonAll_77 : decode cX5_reckonAll 77 = .ok (.getfield 13, 3) := dk_180 0 13 (dk_at dksX5_reckonAll_3 5 rfl rfl)
theorem dX5_reckonAll_80 : decode cX5_reckonAll 80 = .ok (.aload_n 0, 1) := dk_42 (dk_at dksX5_reckonAll_3 8 rfl rfl)
theorem dX5_reckonAll_81 : decode cX5_reckonAll 81 = .ok (.getfield 398, 3) := dk_180 1 142 (dk_at dksX5_reckonAll_3 9 rfl rfl)
theorem dX5_reckonAll_84 : decode cX5_reckonAll 84 = .ok (.bipush 98, 2) := dk_16 98 (dk_at dksX5_reckonAll_3 12 rfl rfl)
theorem dX5_reckonAll_86 : decode cX5_reckonAll 86 = .ok (.iadd, 1) := dk_96 (dk_at dksX5_reckonAll_3 14 rfl rfl)
theorem dX5_reckonAll_87 : decode cX5_reckonAll 87 = .ok (.iconst 2, 1) := dk_5 (dk_at dksX5_reckonAll_3 15 rfl rfl)
theorem dX5_reckonAll_88 : decode cX5_reckonAll 88 = .ok (.iload 4, 2) := dk_21 4 (dk_at dksX5_reckonAll_3 16 rfl rfl)
theorem dX5_reckonAll_90 : decode cX5_reckonAll 90 = .ok (.imul, 1) := dk_104 (dk_at dksX5_reckonAll_3 18 rfl rfl)
theorem dX5_reckonAll_91 : decode cX5_reckonAll 91 = .ok (.iadd, 1) := dk_96 (dk_at dksX5_reckonAll_3 19 rfl rfl)
theorem dX5_reckonAll_92 : decode cX5_reckonAll 92 = .ok (.iconst 1, 1) := dk_4 (dk_at dksX5_reckonAll_3 20 rfl rfl)
theorem dX5_reckonAll_93 : decode cX5_reckonAll 93 = .ok (.iadd, 1) := dk_96 (dk_at dksX5_reckonAll_3 21 rfl rfl)
theorem dX5_reckonAll_94 : decode cX5_reckonAll 94 = .ok (.iaload, 1) := dk_46 (dk_at dksX5_reckonAll_3 22 rfl rfl)
theorem dX5_reckonAll_95 : decode cX5_reckonAll 95 = .ok (.istore 6, 2) := dk_54 6 (dk_at dksX5_reckonAll_4 0 rfl rfl)
theorem dX5_reckonAll_97 : decode cX5_reckonAll 97 = .ok (.iinc 4 1, 3) := dk_132 4 1 (dk_at dksX5_reckonAll_4 2 rfl rfl)
theorem dX5_reckonAll_100 : decode cX5_reckonAll 100 = .ok (.iload 5, 2) := dk_21 5 (dk_at dksX5_reckonAll_4 5 rfl rfl)
theorem dX5_reckonAll_102 : decode cX5_reckonAll 102 = .ok (.bipush 20, 2) := dk_16 20 (dk_at dksX5_reckonAll_4 7 rfl rfl)
theorem dX5_reckonAll_104 : decode cX5_reckonAll 104 = .ok (.if_icmp .ge 111, 3) := dk_162 0 111 (dk_at dksX5_reckonAll_4 9 rfl rfl)
theorem dX5_reckonAll_107 : decode cX5_reckonAll 107 = .ok (.aload_n 0, 1) := dk_42 (dk_at dksX5_reckonAll_4 12 rfl rfl)
theorem dX5_reckonAll_108 : decode cX5_reckonAll 108 = .ok (.getfield 113, 3) := dk_180 0 113 (dk_at dksX5_reckonAll_4 13 rfl rfl)
theorem dX5_reckonAll_111 : decode cX5_reckonAll 111 = .ok (.iload_n 3, 1) := dk_29 (dk_at dksX5_reckonAll_4 16 rfl rfl)
theorem dX5_reckonAll_112 : decode cX5_reckonAll 112 = .ok (.iload 5, 2) := dk_21 5 (dk_at dksX5_reckonAll_4 17 rfl rfl)
theorem dX5_reckonAll_114 : decode cX5_reckonAll 114 = .ok (.ifCond .ne 9, 3) := dk_154 0 9 (dk_at dksX5_reckonAll_4 19 rfl rfl)
theorem dX5_reckonAll_117 : decode cX5_reckonAll 117 = .ok (.iload 6, 2) := dk_21 6 (dk_at dksX5_reckonAll_4 22 rfl rfl)
theorem dX5_reckonAll_119 : decode cX5_reckonAll 119 = .ok (.i2l, 1) := dk_133 (dk_at dksX5_reckonAll_5 0 rfl rfl)
theorem dX5_reckonAll_120 : decode cX5_reckonAll 120 = .ok (.goto 88, 3) := dk_167 0 88 (dk_at dksX5_reckonAll_5 1 rfl rfl)
theorem dX5_reckonAll_123 : decode cX5_reckonAll 123 = .ok (.aload_n 0, 1) := dk_42 (dk_at dksX5_reckonAll_5 4 rfl rfl)
theorem dX5_reckonAll_124 : decode cX5_reckonAll 124 = .ok (.getfield 326, 3) := dk_180 1 70 (dk_at dksX5_reckonAll_5 5 rfl rfl)
theorem dX5_reckonAll_127 : decode cX5_reckonAll 127 = .ok (.ifCond .ne 13, 3) := dk_154 0 13 (dk_at dksX5_reckonAll_5 8 rfl rfl)
theorem dX5_reckonAll_130 : decode cX5_reckonAll 130 = .ok (.aload_n 0, 1) := dk_42 (dk_at dksX5_reckonAll_5 11 rfl rfl)
theorem dX5_reckonAll_131 : decode cX5_reckonAll 131 = .ok (.getfield 107, 3) := dk_180 0 107 (dk_at dksX5_reckonAll_5 12 rfl rfl)
theorem dX5_reckonAll_134 : decode cX5_reckonAll 134 = .ok (.iload 5, 2) := dk_21 5 (dk_at dksX5_reckonAll_5 15 rfl rfl)
theorem dX5_reckonAll_136 : decode cX5_reckonAll 136 = .ok (.laload, 1) := dk_47 (dk_at dksX5_reckonAll_5 17 rfl rfl)
theorem dX5_reckonAll_137 : decode cX5_reckonAll 137 = .ok (.goto 71, 3) := dk_167 0 71 (dk_at dksX5_reckonAll_5 18 rfl rfl)
theorem dX5_reckonAll_140 : decode cX5_reckonAll 140 = .ok (.iload 5, 2) := dk_21 5 (dk_at dksX5_reckonAll_5 21 rfl rfl)
theorem dX5_reckonAll_142 : decode cX5_reckonAll 142 = .ok (.iconst 5, 1) := dk_8 (dk_at dksX5_reckonAll_5 23 rfl rfl)
theorem dX5_reckonAll_143 : decode cX5_reckonAll 143 = .ok (.if_icmp .ge 13, 3) := dk_162 0 13 (dk_at dksX5_reckonAll_6 0 rfl rfl)
theorem dX5_reckonAll_146 : decode cX5_reckonAll 146 = .ok (.aload_n 0, 1) := dk_42 (dk_at dksX5_reckonAll_6 3 rfl rfl)
theorem dX5_reckonAll_147 : decode cX5_reckonAll 147 = .ok (.getfield 110, 3) := dk_180 0 110 (dk_at dksX5_reckonAll_6 4 rfl rfl)
theorem dX5_reckonAll_150 : decode cX5_reckonAll 150 = .ok (.iload 5, 2) := dk_21 5 (dk_at dksX5_reckonAll_6 7 rfl rfl)
theorem dX5_reckonAll_152 : decode cX5_reckonAll 152 = .ok (.laload, 1) := dk_47 (dk_at dksX5_reckonAll_6 9 rfl rfl)
theorem dX5_reckonAll_153 : decode cX5_reckonAll 153 = .ok (.goto 55, 3) := dk_167 0 55 (dk_at dksX5_reckonAll_6 10 rfl rfl)
theorem dX5_reckonAll_156 : decode cX5_reckonAll 156 = .ok (.iload 5, 2) := dk_21 5 (dk_at dksX5_reckonAll_6 13 rfl rfl)
theorem dX5_reckonAll_158 : decode cX5_reckonAll 158 = .ok (.iconst 5, 1) := dk_8 (dk_at dksX5_reckonAll_6 15 rfl rfl)
theorem dX5_reckonAll_159 : decode cX5_reckonAll 159 = .ok (.if_icmp .ne 17, 3) := dk_160 0 17 (dk_at dksX5_reckonAll_6 16 rfl rfl)
theorem dX5_reckonAll_162 : decode cX5_reckonAll 162 = .ok (.aload_n 0, 1) := dk_42 (dk_at dksX5_reckonAll_6 19 rfl rfl)
theorem dX5_reckonAll_163 : decode cX5_reckonAll 163 = .ok (.getfield 13, 3) := dk_180 0 13 (dk_at dksX5_reckonAll_6 20 rfl rfl)
theorem dX5_reckonAll_166 : decode cX5_reckonAll 166 = .ok (.bipush 24, 2) := dk_16 24 (dk_at dksX5_reckonAll_7 0 rfl rfl)
theorem dX5_reckonAll_168 : decode cX5_reckonAll 168 = .ok (.iload 6, 2) := dk_21 6 (dk_at dksX5_reckonAll_7 2 rfl rfl)
theorem dX5_reckonAll_170 : decode cX5_reckonAll 170 = .ok (.iadd, 1) := dk_96 (dk_at dksX5_reckonAll_7 4 rfl rfl)
theorem dX5_reckonAll_171 : decode cX5_reckonAll 171 = .ok (.iaload, 1) := dk_46 (dk_at dksX5_reckonAll_7 5 rfl rfl)
theorem dX5_reckonAll_172 : decode cX5_reckonAll 172 = .ok (.i2l, 1) := dk_133 (dk_at dksX5_reckonAll_7 6 rfl rfl)
theorem dX5_reckonAll_173 : decode cX5_reckonAll 173 = .ok (.goto 35, 3) := dk_167 0 35 (dk_at dksX5_reckonAll_7 7 rfl rfl)
theorem dX5_reckonAll_176 : decode cX5_reckonAll 176 = .ok (.iload 5, 2) := dk_21 5 (dk_at dksX5_reckonAll_7 10 rfl rfl)
theorem dX5_reckonAll_178 : decode cX5_reckonAll 178 = .ok (.bipush 6, 2) := dk_16 6 (dk_at dksX5_reckonAll_7 12 rfl rfl)
theorem dX5_reckonAll_180 : decode cX5_reckonAll 180 = .ok (.if_icmp .ne 17, 3) := dk_160 0 17 (dk_at dksX5_reckonAll_7 14 rfl rfl)
theorem dX5_reckonAll_183 : decode cX5_reckonAll 183 = .ok (.aload_n 0, 1) := dk_42 (dk_at dksX5_reckonAll_7 17 rfl rfl)
theorem dX5_reckonAll_184 : decode cX5_reckonAll 184 = .ok (.getfield 13, 3) := dk_180 0 13 (dk_at dksX5_reckonAll_7 18 rfl rfl)
theorem dX5_reckonAll_187 : decode cX5_reckonAll 187 = .ok (.bipush 8, 2) := dk_16 8 (dk_at dksX5_reckonAll_7 21 rfl rfl)
theorem dX5_reckonAll_189 : decode cX5_reckonAll 189 = .ok (.iload 6, 2) := dk_21 6 (dk_at dksX5_reckonAll_8 0 rfl rfl)
theorem dX5_reckonAll_191 : decode cX5_reckonAll 191 = .ok (.iadd, 1) := dk_96 (dk_at dksX5_reckonAll_8 2 rfl rfl)
theorem dX5_reckonAll_192 : decode cX5_reckonAll 192 = .ok (.iaload, 1) := dk_46 (dk_at dksX5_reckonAll_8 3 rfl rfl)
theorem dX5_reckonAll_193 : decode cX5_reckonAll 193 = .ok (.i2l, 1) := dk_133 (dk_at dksX5_reckonAll_8 4 rfl rfl)
theorem dX5_reckonAll_194 : decode cX5_reckonAll 194 = .ok (.goto 14, 3) := dk_167 0 14 (dk_at dksX5_reckonAll_8 5 rfl rfl)
theorem dX5_reckonAll_197 : decode cX5_reckonAll 197 = .ok (.aload_n 0, 1) := dk_42 (dk_at dksX5_reckonAll_8 8 rfl rfl)
theorem dX5_reckonAll_198 : decode cX5_reckonAll 198 = .ok (.getfield 13, 3) := dk_180 0 13 (dk_at dksX5_reckonAll_8 9 rfl rfl)
theorem dX5_reckonAll_201 : decode cX5_reckonAll 201 = .ok (.bipush 40, 2) := dk_16 40 (dk_at dksX5_reckonAll_8 12 rfl rfl)
theorem dX5_reckonAll_203 : decode cX5_reckonAll 203 = .ok (.iload 6, 2) := dk_21 6 (dk_at dksX5_reckonAll_8 14 rfl rfl)
theorem dX5_reckonAll_205 : decode cX5_reckonAll 205 = .ok (.iadd, 1) := dk_96 (dk_at dksX5_reckonAll_8 16 rfl rfl)
theorem dX5_reckonAll_206 : decode cX5_reckonAll 206 = .ok (.iaload, 1) := dk_46 (dk_at dksX5_reckonAll_8 17 rfl rfl)
theorem dX5_reckonAll_207 : decode cX5_reckonAll 207 = .ok (.i2l, 1) := dk_133 (dk_at dksX5_reckonAll_8 18 rfl rfl)
theorem dX5_reckonAll_208 : decode cX5_reckonAll 208 = .ok (.lastore, 1) := dk_80 (dk_at dksX5_reckonAll_8 19 rfl rfl)
theorem dX5_reckonAll_209 : decode cX5_reckonAll 209 = .ok (.iinc 3 1, 3) := dk_132 3 1 (dk_at dksX5_reckonAll_8 20 rfl rfl)
theorem dX5_reckonAll_212 : decode cX5_reckonAll 212 = .ok (.goto 142, 3) := dk_167 0 142 (dk_at dksX5_reckonAll_9 0 rfl rfl)
theorem dX5_reckonAll_215 : decode cX5_reckonAll 215 = .ok (.iload 5, 2) := dk_21 5 (dk_at dksX5_reckonAll_9 3 rfl rfl)
theorem dX5_reckonAll_217 : decode cX5_reckonAll 217 = .ok (.bipush 28, 2) := dk_16 28 (dk_at dksX5_reckonAll_9 5 rfl rfl)
theorem dX5_reckonAll_219 : decode cX5_reckonAll 219 = .ok (.if_icmp .ge 73, 3) := dk_162 0 73 (dk_at dksX5_reckonAll_9 7 rfl rfl)
theorem dX5_reckonAll_222 : decode cX5_reckonAll 222 = .ok (.iinc 3 (-1), 3) := dk_132 3 255 (dk_at dksX5_reckonAll_9 10 rfl rfl)
theorem dX5_reckonAll_225 : decode cX5_reckonAll 225 = .ok (.aload_n 0, 1) := dk_42 (dk_at dksX5_reckonAll_9 13 rfl rfl)
theorem dX5_reckonAll_226 : decode cX5_reckonAll 226 = .ok (.getfield 113, 3) := dk_180 0 113 (dk_at dksX5_reckonAll_9 14 rfl rfl)
theorem dX5_reckonAll_229 : decode cX5_reckonAll 229 = .ok (.iload_n 3, 1) := dk_29 (dk_at dksX5_reckonAll_9 17 rfl rfl)
theorem dX5_reckonAll_230 : decode cX5_reckonAll 230 = .ok (.iconst 1, 1) := dk_4 (dk_at dksX5_reckonAll_9 18 rfl rfl)
theorem dX5_reckonAll_231 : decode cX5_reckonAll 231 = .ok (.isub, 1) := dk_100 (dk_at dksX5_reckonAll_9 19 rfl rfl)
theorem dX5_reckonAll_232 : decode cX5_reckonAll 232 = .ok (.aload_n 0, 1) := dk_42 (dk_at dksX5_reckonAll_9 20 rfl rfl)
theorem dX5_reckonAll_233 : decode cX5_reckonAll 233 = .ok (.iload 5, 2) := dk_21 5 (dk_at dksX5_reckonAll_9 21 rfl rfl)
theorem dX5_reckonAll_235 : decode cX5_reckonAll 235 = .ok (.aload_n 0, 1) := dk_42 (dk_at dksX5_reckonAll_9 23 rfl rfl)
theorem dX5_reckonAll_236 : decode cX5_reckonAll 236 = .ok (.getfield 113, 3) := dk_180 0 113 (dk_at dksX5_reckonAll_10 0 rfl rfl)
theorem dX5_reckonAll_239 : decode cX5_reckonAll 239 = .ok (.iload_n 3, 1) := dk_29 (dk_at dksX5_reckonAll_10 3 rfl rfl)
theorem dX5_reckonAll_240 : decode cX5_reckonAll 240 = .ok (.iconst 1, 1) := dk_4 (dk_at dksX5_reckonAll_10 4 rfl rfl)
theorem dX5_reckonAll_241 : decode cX5_reckonAll 241 = .ok (.isub, 1) := dk_100 (dk_at dksX5_reckonAll_10 5 rfl rfl)
theorem dX5_reckonAll_242 : decode cX5_reckonAll 242 = .ok (.laload, 1) := dk_47 (dk_at dksX5_reckonAll_10 6 rfl rfl)
theorem dX5_reckonAll_243 : decode cX5_reckonAll 243 = .ok (.aload_n 0, 1) := dk_42 (dk_at dksX5_reckonAll_10 7 rfl rfl)
theorem dX5_reckonAll_244 : decode cX5_reckonAll 244 = .ok (.getfield 113, 3) := dk_180 0 113 (dk_at dksX5_reckonAll_10 8 rfl rfl)
theorem dX5_reckonAll_247 : decode cX5_reckonAll 247 = .ok (.iload_n 3, 1) := dk_29 (dk_at dksX5_reckonAll_10 11 rfl rfl)
theorem dX5_reckonAll_248 : decode cX5_reckonAll 248 = .ok (.laload, 1) := dk_47 (dk_at dksX5_reckonAll_10 12 rfl rfl)
theorem dX5_reckonAll_249 : decode cX5_reckonAll 249 = .ok (.invokevirtual 401, 3) := dk_182 1 145 (dk_at dksX5_reckonAll_10 13 rfl rfl)
theorem dX5_reckonAll_252 : decode cX5_reckonAll 252 = .ok (.lastore, 1) := dk_80 (dk_at dksX5_reckonAll_10 16 rfl rfl)
theorem dX5_reckonAll_253 : decode cX5_reckonAll 253 = .ok (.aload_n 0, 1) := dk_42 (dk_at dksX5_reckonAll_10 17 rfl rfl)
theorem dX5_reckonAll_254 : decode cX5_reckonAll 254 = .ok (.aload_n 0, 1) := dk_42 (dk_at dksX5_reckonAll_10 18 rfl rfl)
theorem dX5_reckonAll_255 : decode cX5_reckonAll 255 = .ok (.getfield 395, 3) := dk_180 1 139 (dk_at dksX5_reckonAll_10 19 rfl rfl)
theorem dX5_reckonAll_258 : decode cX5_reckonAll 258 = .ok (.ifCond .ne 23, 3) := dk_154 0 23 (dk_at dksX5_reckonAll_11 0 rfl rfl)
theorem dX5_reckonAll_261 : decode cX5_reckonAll 261 = .ok (.aload_n 0, 1) := dk_42 (dk_at dksX5_reckonAll_11 3 rfl rfl)
theorem dX5_reckonAll_262 : decode cX5_reckonAll 262 = .ok (.getfield 113, 3) := dk_180 0 113 (dk_at dksX5_reckonAll_11 4 rfl rfl)
theorem dX5_reckonAll_265 : decode cX5_reckonAll 265 = .ok (.iload_n 3, 1) := dk_29 (dk_at dksX5_reckonAll_11 7 rfl rfl)
theorem dX5_reckonAll_266 : decode cX5_reckonAll 266 = .ok (.iconst 1, 1) := dk_4 (dk_at dksX5_reckonAll_11 8 rfl rfl)
theorem dX5_reckonAll_267 : decode cX5_reckonAll 267 = .ok (.isub, 1) := dk_100 (dk_at dksX5_reckonAll_11 9 rfl rfl)
theorem dX5_reckonAll_268 : decode cX5_reckonAll 268 = .ok (.laload, 1) := dk_47 (dk_at dksX5_reckonAll_11 10 rfl rfl)
theorem dX5_reckonAll_269 : decode cX5_reckonAll 269 = .ok (.ldc2_w 405, 3) := dk_20 1 149 (dk_at dksX5_reckonAll_11 11 rfl rfl)
theorem dX5_reckonAll_272 : decode cX5_reckonAll 272 = .ok (.ldc2_w 407, 3) := dk_20 1 151 (dk_at dksX5_reckonAll_11 14 rfl rfl)
theorem dX5_reckonAll_275 : decode cX5_reckonAll 275 = .ok (.invokestatic 194, 3) := dk_184 0 194 (dk_at dksX5_reckonAll_11 17 rfl rfl)
theorem dX5_reckonAll_278 : decode cX5_reckonAll 278 = .ok (.ifCond .ne 7, 3) := dk_154 0 7 (dk_at dksX5_reckonAll_11 20 rfl rfl)
theorem dX5_reckonAll_281 : decode cX5_reckonAll 281 = .ok (.iconst 1, 1) := dk_4 (dk_at dksX5_reckonAll_11 23 rfl rfl)
theorem dX5_reckonAll_282 : decode cX5_reckonAll 282 = .ok (.goto 4, 3) := dk_167 0 4 (dk_at dksX5_reckonAll_12 0 rfl rfl)
theorem dX5_reckonAll_285 : decode cX5_reckonAll 285 = .ok (.iconst 0, 1) := dk_3 (dk_at dksX5_reckonAll_12 3 rfl rfl)
theorem dX5_reckonAll_286 : decode cX5_reckonAll 286 = .ok (.putfield 395, 3) := dk_181 1 139 (dk_at dksX5_reckonAll_12 4 rfl rfl)
theorem dX5_reckonAll_289 : decode cX5_reckonAll 289 = .ok (.goto 65, 3) := dk_167 0 65 (dk_at dksX5_reckonAll_12 7 rfl rfl)
theorem dX5_reckonAll_292 : decode cX5_reckonAll 292 = .ok (.iload 5, 2) := dk_21 5 (dk_at dksX5_reckonAll_12 10 rfl rfl)
theorem dX5_reckonAll_294 : decode cX5_reckonAll 294 = .ok (.bipush 28, 2) := dk_16 28 (dk_at dksX5_reckonAll_12 12 rfl rfl)
theorem dX5_reckonAll_296 : decode cX5_reckonAll 296 = .ok (.if_icmp .ne 24, 3) := dk_160 0 24 (dk_at dksX5_reckonAll_12 14 rfl rfl)
theorem dX5_reckonAll_299 : decode cX5_reckonAll 299 = .ok (.aload_n 0, 1) := dk_42 (dk_at dksX5_reckonAll_12 17 rfl rfl)
theorem dX5_reckonAll_300 : decode cX5_reckonAll 300 = .ok (.getfield 113, 3) := dk_180 0 113 (dk_at dksX5_reckonAll_12 18 rfl rfl)
theorem dX5_reckonAll_303 : decode cX5_reckonAll 303 = .ok (.iload_n 3, 1) := dk_29 (dk_at dksX5_reckonAll_12 21 rfl rfl)
theorem dX5_reckonAll_304 : decode cX5_reckonAll 304 = .ok (.iconst 1, 1) := dk_4 (dk_at dksX5_reckonAll_12 22 rfl rfl)
theorem dX5_reckonAll_305 : decode cX5_reckonAll 305 = .ok (.isub, 1) := dk_100 (dk_at dksX5_reckonAll_12 23 rfl rfl)
theorem dX5_reckonAll_306 : decode cX5_reckonAll 306 = .ok (.lconst 1, 1) := dk_10 (dk_at dksX5_reckonAll_13 0 rfl rfl)
theorem dX5_reckonAll_307 : decode cX5_reckonAll 307 = .ok (.aload_n 0, 1) := dk_42 (dk_at dksX5_reckonAll_13 1 rfl rfl)
theorem dX5_reckonAll_308 : decode cX5_reckonAll 308 = .ok (.getfield 113, 3) := dk_180 0 113 (dk_at dksX5_reckonAll_13 2 rfl rfl)
theorem dX5_reckonAll_311 : decode cX5_reckonAll 311 = .ok (.iload_n 3, 1) := dk_29 (dk_at dksX5_reckonAll_13 5 rfl rfl)
theorem dX5_reckonAll_312 : decode cX5_reckonAll 312 = .ok (.iconst 1, 1) := dk_4 (dk_at dksX5_reckonAll_13 6 rfl rfl)
theorem dX5_reckonAll_313 : decode cX5_reckonAll 313 = .ok (.isub, 1) := dk_100 (dk_at dksX5_reckonAll_13 7 rfl rfl)
theorem dX5_reckonAll_314 : decode cX5_reckonAll 314 = .ok (.laload, 1) := dk_47 (dk_at dksX5_reckonAll_13 8 rfl rfl)
theorem dX5_reckonAll_315 : decode cX5_reckonAll 315 = .ok (.lsub, 1) := dk_101 (dk_at dksX5_reckonAll_13 9 rfl rfl)
theorem dX5_reckonAll_316 : decode cX5_reckonAll 316 = .ok (.lastore, 1) := dk_80 (dk_at dksX5_reckonAll_13 10 rfl rfl)
theorem dX5_reckonAll_317 : decode cX5_reckonAll 317 = .ok (.goto 37, 3) := dk_167 0 37 (dk_at dksX5_reckonAll_13 11 rfl rfl)
theorem dX5_reckonAll_320 : decode cX5_reckonAll 320 = .ok (.aload_n 0, 1) := dk_42 (dk_at dksX5_reckonAll_13 14 rfl rfl)
theorem dX5_reckonAll_321 : decode cX5_reckonAll 321 = .ok (.getfield 113, 3) := dk_180 0 113 (dk_at dksX5_reckonAll_13 15 rfl rfl)
theorem dX5_reckonAll_324 : decode cX5_reckonAll 324 = .ok (.iload_n 3, 1) := dk_29 (dk_at dksX5_reckonAll_13 18 rfl rfl)
theorem dX5_reckonAll_325 : decode cX5_reckonAll 325 = .ok (.iconst 1, 1) := dk_4 (dk_at dksX5_reckonAll_13 19 rfl rfl)
theorem dX5_reckonAll_326 : decode cX5_reckonAll 326 = .ok (.isub, 1) := dk_100 (dk_at dksX5_reckonAll_13 20 rfl rfl)
theorem dX5_reckonAll_327 : decode cX5_reckonAll 327 = .ok (.laload, 1) := dk_47 (dk_at dksX5_reckonAll_13 21 rfl rfl)
theorem dX5_reckonAll_328 : decode cX5_reckonAll 328 = .ok (.iload 5, 2) := dk_21 5 (dk_at dksX5_reckonAll_13 22 rfl rfl)
theorem dX5_reckonAll_330 : decode cX5_reckonAll 330 = .ok (.bipush 29, 2) := dk_16 29 (dk_at dksX5_reckonAll_14 0 rfl rfl)
theorem dX5_reckonAll_332 : decode cX5_reckonAll 332 = .ok (.if_icmp .ne 7, 3) := dk_160 0 7 (dk_at dksX5_reckonAll_14 2 rfl rfl)
theorem dX5_reckonAll_335 : decode cX5_reckonAll 335 = .ok (.lconst 0, 1) := dk_9 (dk_at dksX5_reckonAll_14 5 rfl rfl)
theorem dX5_reckonAll_336 : decode cX5_reckonAll 336 = .ok (.goto 4, 3) := dk_167 0 4 (dk_at dksX5_reckonAll_14 6 rfl rfl)
theorem dX5_reckonAll_339 : decode cX5_reckonAll 339 = .ok (.lconst 1, 1) := dk_10 (dk_at dksX5_reckonAll_14 9 rfl rfl)
theorem dX5_reckonAll_340 : decode cX5_reckonAll 340 = .ok (.lcmp, 1) := dk_148 (dk_at dksX5_reckonAll_14 10 rfl rfl)
theorem dX5_reckonAll_341 : decode cX5_reckonAll 341 = .ok (.ifCond .ne 10, 3) := dk_154 0 10 (dk_at dksX5_reckonAll_14 11 rfl rfl)
theorem dX5_reckonAll_344 : decode cX5_reckonAll 344 = .ok (.iload 6, 2) := dk_21 6 (dk_at dksX5_reckonAll_14 14 rfl rfl)
theorem dX5_reckonAll_346 : decode cX5_reckonAll 346 = .ok (.istore 4, 2) := dk_54 4 (dk_at dksX5_reckonAll_14 16 rfl rfl)
theorem dX5_reckonAll_348 : decode cX5_reckonAll 348 = .ok (.goto 6, 3) := dk_167 0 6 (dk_at dksX5_reckonAll_14 18 rfl rfl)
theorem dX5_reckonAll_351 : decode cX5_reckonAll 351 = .ok (.iinc 3 (-1), 3) := dk_132 3 255 (dk_at dksX5_reckonAll_14 21 rfl rfl)
theorem dX5_reckonAll_354 : decode cX5_reckonAll 354 = .ok (.goto (-344), 3) := dk_167 254 168 (dk_at dksX5_reckonAll_15 0 rfl rfl)
theorem dX5_reckonAll_357 : decode cX5_reckonAll 357 = .ok (.aload_n 0, 1) := dk_42 (dk_at dksX5_reckonAll_15 3 rfl rfl)
theorem dX5_reckonAll_358 : decode cX5_reckonAll 358 = .ok (.iload_n 3, 1) := dk_29 (dk_at dksX5_reckonAll_15 4 rfl rfl)
theorem dX5_reckonAll_359 : decode cX5_reckonAll 359 = .ok (.ifCond .le 12, 3) := dk_158 0 12 (dk_at dksX5_reckonAll_15 5 rfl rfl)
theorem dX5_reckonAll_362 : decode cX5_reckonAll 362 = .ok (.aload_n 0, 1) := dk_42 (dk_at dksX5_reckonAll_15 8 rfl rfl)
theorem dX5_reckonAll_363 : decode cX5_reckonAll 363 = .ok (.getfield 113, 3) := dk_180 0 113 (dk_at dksX5_reckonAll_15 9 rfl rfl)
theorem dX5_reckonAll_366 : decode cX5_reckonAll 366 = .ok (.iconst 0, 1) := dk_3 (dk_at dksX5_reckonAll_15 12 rfl rfl)
theorem dX5_reckonAll_367 : decode cX5_reckonAll 367 = .ok (.laload, 1) := dk_47 (dk_at dksX5_reckonAll_15 13 rfl rfl)
theorem dX5_reckonAll_368 : decode cX5_reckonAll 368 = .ok (.goto 4, 3) := dk_167 0 4 (dk_at dksX5_reckonAll_15 14 rfl rfl)
theorem dX5_reckonAll_371 : decode cX5_reckonAll 371 = .ok (.lconst 0, 1) := dk_9 (dk_at dksX5_reckonAll_15 17 rfl rfl)
theorem dX5_reckonAll_372 : decode cX5_reckonAll 372 = .ok (.putfield 409, 3) := dk_181 1 153 (dk_at dksX5_reckonAll_15 18 rfl rfl)
theorem dX5_reckonAll_375 : decode cX5_reckonAll 375 = .ok (.return_, 1) := dk_177 (dk_at dksX5_reckonAll_15 21 rfl rfl)
abbrev cX5_reckon : ByteArray := prog_22_method_61_code
def yX5_reckon : MethodName := ⟨RX5, "reckon", "(IJJ)J"⟩
def dkwX5_reckon_6 : List UInt8 := [148, 158, 0, 7, 10, 167, 0, 4, 9, 173, 32, 22, 4, 148, 154, 0, 7, 10, 167, 0, 4, 9, 173]
abbrev dktX5_reckon_6 : List UInt8 := dkwX5_reckon_6 ++ []
def dkwX5_reckon_5 : List UInt8 := [167, 0, 7, 32, 22, 4, 113, 173, 32, 22, 4, 148, 156, 0, 7, 10, 167, 0, 4, 9, 173, 32, 22, 4]
abbrev dktX5_reckon_5 : List UInt8 := dkwX5_reckon_5 ++ dktX5_reckon_6
def dkwX5_reckon_4 : List UInt8 := [22, 4, 9, 148, 154, 0, 7, 4, 167, 0, 4, 3, 181, 1, 139, 42, 180, 1, 139, 153, 0, 7, 9]
abbrev dktX5_reckon_4 : List UInt8 := dkwX5_reckon_4 ++ dktX5_reckon_5
def dkwX5_reckon_3 : List UInt8 := [167, 0, 4, 3, 181, 1, 139, 42, 180, 1, 139, 153, 0, 7, 9, 167, 0, 7, 32, 22, 4, 109, 173, 42]
abbrev dktX5_reckon_3 : List UInt8 := dkwX5_reckon_3 ++ dktX5_reckon_4
def dkwX5_reckon_2 : List UInt8 := [32, 22, 4, 97, 173, 32, 22, 4, 101, 173, 32, 22, 4, 105, 173, 42, 22, 4, 9, 148, 154, 0, 7, 4]
abbrev dktX5_reckon_2 : List UInt8 := dkwX5_reckon_2 ++ dktX5_reckon_3
def dkwX5_reckon_1 : List UInt8 := [170, 0, 0, 0, 0, 0, 148, 0, 0, 0, 20, 0, 0, 0, 26, 0, 0, 0, 43, 0, 0, 0, 48, 0, 0, 0, 53, 0, 0, 0, 58, 0, 0, 0, 90, 0, 0, 0, 122, 0, 0, 0, 135]
abbrev dktX5_reckon_1 : List UInt8 := dkwX5_reckon_1 ++ dktX5_reckon_2
def dkwX5_reckon_0 : List UInt8 := [27]
abbrev dktX5_reckon_0 : List UInt8 := dkwX5_reckon_0 ++ dktX5_reckon_1
theorem dksX5_reckon_0 : cX5_reckon.data.toList.drop 0 = dktX5_reckon_0 := by decide +kernel
theorem dksX5_reckon_1 : cX5_reckon.data.toList.drop 1 = dktX5_reckon_1 := dk_seg dksX5_reckon_0 1 rfl rfl
theorem dksX5_reckon_2 : cX5_reckon.data.toList.drop 44 = dktX5_reckon_2 := dk_seg dksX5_reckon_1 43 rfl rfl
theorem dksX5_reckon_3 : cX5_reckon.data.toList.drop 68 = dktX5_reckon_3 := dk_seg dksX5_reckon_2 24 rfl rfl
theorem dksX5_reckon_4 : cX5_reckon.data.toList.drop 92 = dktX5_reckon_4 := dk_seg dksX5_reckon_3 24 rfl rfl
theorem dksX5_reckon_5 : cX5_reckon.data.toList.drop 115 = dktX5_reckon_5 := dk_seg dksX5_reckon_4 23 rfl rfl
theorem dksX5_reckon_6 : cX5_reckon.data.toList.drop 139 = dktX5_reckon_6 := dk_seg dksX5_reckon_5 24 rfl rfl
theorem dX5_reckon_0 : decode cX5_reckon 0 = .ok (.iload_n 1, 1) := dk_27 (dk_at dksX5_reckon_0 0 rfl rfl)
theorem dX5_reckon_1 : decode cX5_reckon 1 = .ok (.tableswitch 148 20 26 #[43, 48, 53, 58, 90, 122, 135], 43) := by decide +kernel
theorem dX5_reckon_44 : decode cX5_reckon 44 = .ok (.lload_n 2, 1) := dk_32 (dk_at dksX5_reckon_2 0 rfl rfl)
theorem dX5_reckon_45 : decode cX5_reckon 45 = .ok (.lload 4, 2) := dk_22 4 (dk_at dksX5_reckon_2 1 rfl rfl)
theorem dX5_reckon_47 : decode cX5_reckon 47 = .ok (.ladd, 1) := dk_97 (dk_at dksX5_reckon_2 3 rfl rfl)
theorem dX5_reckon_48 : decode cX5_reckon 48 = .ok (.lreturn, 1) := dk_173 (dk_at dksX5_reckon_2 4 rfl rfl)
theorem dX5_reckon_49 : decode cX5_reckon 49 = .ok (.lload_n 2, 1) := dk_32 (dk_at dksX5_reckon_2 5 rfl rfl)
theorem dX5_reckon_50 : decode cX5_reckon 50 = .ok (.lload 4, 2) := dk_22 4 (dk_at dksX5_reckon_2 6 rfl rfl)
theorem dX5_reckon_52 : decode cX5_reckon 52 = .ok (.lsub, 1) := dk_101 (dk_at dksX5_reckon_2 8 rfl rfl)
theorem dX5_reckon_53 : decode cX5_reckon 53 = .ok (.lreturn, 1) := dk_173 (dk_at dksX5_reckon_2 9 rfl rfl)
theorem dX5_reckon_54 : decode cX5_reckon 54 = .ok (.lload_n 2, 1) := dk_32 (dk_at dksX5_reckon_2 10 rfl rfl)
theorem dX5_reckon_55 : decode cX5_reckon 55 = .ok (.lload 4, 2) := dk_22 4 (dk_at dksX5_reckon_2 11 rfl rfl)
theorem dX5_reckon_57 : decode cX5_reckon 57 = .ok (.lmul, 1) := dk_105 (dk_at dksX5_reckon_2 13 rfl rfl)
theorem dX5_reckon_58 : decode cX5_reckon 58 = .ok (.lreturn, 1) := dk_173 (dk_at dksX5_reckon_2 14 rfl rfl)
theorem dX5_reckon_59 : decode cX5_reckon 59 = .ok (.aload_n 0, 1) := dk_42 (dk_at dksX5_reckon_2 15 rfl rfl)
theorem dX5_reckon_60 : decode cX5_reckon 60 = .ok (.lload 4, 2) := dk_22 4 (dk_at dksX5_reckon_2 16 rfl rfl)
theorem dX5_reckon_62 : decode cX5_reckon 62 = .ok (.lconst 0, 1) := dk_9 (dk_at dksX5_reckon_2 18 rfl rfl)
theorem dX5_reckon_63 : decode cX5_reckon 63 = .ok (.lcmp, 1) := dk_148 (dk_at dksX5_reckon_2 19 rfl rfl)
theorem dX5_reckon_64 : decode cX5_reckon 64 = .ok (.ifCond .ne 7, 3) := dk_154 0 7 (dk_at dksX5_reckon_2 20 rfl rfl)
theorem dX5_reckon_67 : decode cX5_reckon 67 = .ok (.iconst 1, 1) := dk_4 (dk_at dksX5_reckon_2 23 rfl rfl)
theorem dX5_reckon_68 : decode cX5_reckon 68 = .ok (.goto 4, 3) := dk_167 0 4 (dk_at dksX5_reckon_3 0 rfl rfl)
theorem dX5_reckon_71 : decode cX5_reckon 71 = .ok (.iconst 0, 1) := dk_3 (dk_at dksX5_reckon_3 3 rfl rfl)
theorem dX5_reckon_72 : decode cX5_reckon 72 = .ok (.putfield 395, 3) := dk_181 1 139 (dk_at dksX5_reckon_3 4 rfl rfl)
theorem dX5_reckon_75 : decode cX5_reckon 75 = .ok (.aload_n 0, 1) := dk_42 (dk_at dksX5_reckon_3 7 rfl rfl)
theorem dX5_reckon_76 : decode cX5_reckon 76 = .ok (.getfield 395, 3) := dk_180 1 139 (dk_at dksX5_reckon_3 8 rfl rfl)
theorem dX5_reckon_79 : decode cX5_reckon 79 = .ok (.ifCond .eq 7, 3) := dk_153 0 7 (dk_at dksX5_reckon_3 11 rfl rfl)
theorem dX5_reckon_82 : decode cX5_reckon 82 = .ok (.lconst 0, 1) := dk_9 (dk_at dksX5_reckon_3 14 rfl rfl)
theorem dX5_reckon_83 : decode cX5_reckon 83 = .ok (.goto 7, 3) := dk_167 0 7 (dk_at dksX5_reckon_3 15 rfl rfl)
theorem dX5_reckon_86 : decode cX5_reckon 86 = .ok (.lload_n 2, 1) := dk_32 (dk_at dksX5_reckon_3 18 rfl rfl)
theorem dX5_reckon_87 : decode cX5_reckon 87 = .ok (.lload 4, 2) := dk_22 4 (dk_at dksX5_reckon_3 19 rfl rfl)
theorem dX5_reckon_89 : decode cX5_reckon 89 = .ok (.ldiv, 1) := dk_109 (dk_at dksX5_reckon_3 21 rfl rfl)
theorem dX5_reckon_90 : decode cX5_reckon 90 = .ok (.lreturn, 1) := dk_173 (dk_at dksX5_reckon_3 22 rfl rfl)
theorem dX5_reckon_91 : decode cX5_reckon 91 = .ok (.aload_n 0, 1) := dk_42 (dk_at dksX5_reckon_3 23 rfl rfl)
theorem dX5_reckon_92 : decode cX5_reckon 92 = .ok (.lload 4, 2) := dk_22 4 (dk_at dksX5_reckon_4 0 rfl rfl)
theorem dX5_reckon_94 : decode cX5_reckon 94 = .ok (.lconst 0, 1) := dk_9 (dk_at dksX5_reckon_4 2 rfl rfl)
theorem dX5_reckon_95 : decode cX5_reckon 95 = .ok (.lcmp, 1) := dk_148 (dk_at dksX5_reckon_4 3 rfl rfl)
theorem dX5_reckon_96 : decode cX5_reckon 96 = .ok (.ifCond .ne 7, 3) := dk_154 0 7 (dk_at dksX5_reckon_4 4 rfl rfl)
theorem dX5_reckon_99 : decode cX5_reckon 99 = .ok (.iconst 1, 1) := dk_4 (dk_at dksX5_reckon_4 7 rfl rfl)
theorem dX5_reckon_100 : decode cX5_reckon 100 = .ok (.goto 4, 3) := dk_167 0 4 (dk_at dksX5_reckon_4 8 rfl rfl)
theorem dX5_reckon_103 : decode cX5_reckon 103 = .ok (.iconst 0, 1) := dk_3 (dk_at dksX5_reckon_4 11 rfl rfl)
theorem dX5_reckon_104 : decode cX5_reckon 104 = .ok (.putfield 395, 3) := dk_181 1 139 (dk_at dksX5_reckon_4 12 rfl rfl)
theorem dX5_reckon_107 : decode cX5_reckon 107 = .ok (.aload_n 0, 1) := dk_42 (dk_at dksX5_reckon_4 15 rfl rfl)
theorem dX5_reckon_108 : decode cX5_reckon 108 = .ok (.getfield 395, 3) := dk_180 1 139 (dk_at dksX5_reckon_4 16 rfl rfl)
theorem dX5_reckon_111 : decode cX5_reckon 111 = .ok (.ifCond .eq 7, 3) := dk_153 0 7 (dk_at dksX5_reckon_4 19 rfl rfl)
theorem dX5_reckon_114 : decode cX5_reckon 114 = .ok (.lconst 0, 1) := dk_9 (dk_at dksX5_reckon_4 22 rfl rfl)
theorem dX5_reckon_115 : decode cX5_reckon 115 = .ok (.goto 7, 3) := dk_167 0 7 (dk_at dksX5_reckon_5 0 rfl rfl)
theorem dX5_reckon_118 : decode cX5_reckon 118 = .ok (.lload_n 2, 1) := dk_32 (dk_at dksX5_reckon_5 3 rfl rfl)
theorem dX5_reckon_119 : decode cX5_reckon 119 = .ok (.lload 4, 2) := dk_22 4 (dk_at dksX5_reckon_5 4 rfl rfl)
theorem dX5_reckon_121 : decode cX5_reckon 121 = .ok (.lrem, 1) := dk_113 (dk_at dksX5_reckon_5 6 rfl rfl)
theorem dX5_reckon_122 : decode cX5_reckon 122 = .ok (.lreturn, 1) := dk_173 (dk_at dksX5_reckon_5 7 rfl rfl)
theorem dX5_reckon_123 : decode cX5_reckon 123 = .ok (.lload_n 2, 1) := dk_32 (dk_at dksX5_reckon_5 8 rfl rfl)
theorem dX5_reckon_124 : decode cX5_reckon 124 = .ok (.lload 4, 2) := dk_22 4 (dk_at dksX5_reckon_5 9 rfl rfl)
theorem dX5_reckon_126 : decode cX5_reckon 126 = .ok (.lcmp, 1) := dk_148 (dk_at dksX5_reckon_5 11 rfl rfl)
theorem dX5_reckon_127 : decode cX5_reckon 127 = .ok (.ifCond .ge 7, 3) := dk_156 0 7 (dk_at dksX5_reckon_5 12 rfl rfl)
theorem dX5_reckon_130 : decode cX5_reckon 130 = .ok (.lconst 1, 1) := dk_10 (dk_at dksX5_reckon_5 15 rfl rfl)
theorem dX5_reckon_131 : decode cX5_reckon 131 = .ok (.goto 4, 3) := dk_167 0 4 (dk_at dksX5_reckon_5 16 rfl rfl)
theorem dX5_reckon_134 : decode cX5_reckon 134 = .ok (.lconst 0, 1) := dk_9 (dk_at dksX5_reckon_5 19 rfl rfl)
theorem dX5_reckon_135 : decode cX5_reckon 135 = .ok (.lreturn, 1) := dk_173 (dk_at dksX5_reckon_5 20 rfl rfl)
theorem dX5_reckon_136 : decode cX5_reckon 136 = .ok (.lload_n 2, 1) := dk_32 (dk_at dksX5_reckon_5 21 rfl rfl)
theorem dX5_reckon_137 : decode cX5_reckon 137 = .ok (.lload 4, 2) := dk_22 4 (dk_at dksX5_reckon_5 22 rfl rfl)
theorem dX5_reckon_139 : decode cX5_reckon 139 = .ok (.lcmp, 1) := dk_148 (dk_at dksX5_reckon_6 0 rfl rfl)
theorem dX5_reckon_140 : decode cX5_reckon 140 = .ok (.ifCond .le 7, 3) := dk_158 0 7 (dk_at dksX5_reckon_6 1 rfl rfl)
theorem dX5_reckon_143 : decode cX5_reckon 143 = .ok (.lconst 1, 1) := dk_10 (dk_at dksX5_reckon_6 4 rfl rfl)
theorem dX5_reckon_144 : decode cX5_reckon 144 = .ok (.goto 4, 3) := dk_167 0 4 (dk_at dksX5_reckon_6 5 rfl rfl)
theorem dX5_reckon_147 : decode cX5_reckon 147 = .ok (.lconst 0, 1) := dk_9 (dk_at dksX5_reckon_6 8 rfl rfl)
theorem dX5_reckon_148 : decode cX5_reckon 148 = .ok (.lreturn, 1) := dk_173 (dk_at dksX5_reckon_6 9 rfl rfl)
theorem dX5_reckon_149 : decode cX5_reckon 149 = .ok (.lload_n 2, 1) := dk_32 (dk_at dksX5_reckon_6 10 rfl rfl)
theorem dX5_reckon_150 : decode cX5_reckon 150 = .ok (.lload 4, 2) := dk_22 4 (dk_at dksX5_reckon_6 11 rfl rfl)
theorem dX5_reckon_152 : decode cX5_reckon 152 = .ok (.lcmp, 1) := dk_148 (dk_at dksX5_reckon_6 13 rfl rfl)
theorem dX5_reckon_153 : decode cX5_reckon 153 = .ok (.ifCond .ne 7, 3) := dk_154 0 7 (dk_at dksX5_reckon_6 14 rfl rfl)
theorem dX5_reckon_156 : decode cX5_reckon 156 = .ok (.lconst 1, 1) := dk_10 (dk_at dksX5_reckon_6 17 rfl rfl)
theorem dX5_reckon_157 : decode cX5_reckon 157 = .ok (.goto 4, 3) := dk_167 0 4 (dk_at dksX5_reckon_6 18 rfl rfl)
theorem dX5_reckon_160 : decode cX5_reckon 160 = .ok (.lconst 0, 1) := dk_9 (dk_at dksX5_reckon_6 21 rfl rfl)
theorem dX5_reckon_161 : decode cX5_reckon 161 = .ok (.lreturn, 1) := dk_173 (dk_at dksX5_reckon_6 22 rfl rfl)
abbrev cX5_within : ByteArray := prog_22_method_6_code
def yX5_within : MethodName := ⟨RX5, "within", "(JII)I"⟩
def dkwX5_within_1 : List UInt8 := [172]
abbrev dktX5_within_1 : List UInt8 := dkwX5_within_1 ++ []
def dkwX5_within_0 : List UInt8 := [30, 28, 133, 148, 156, 0, 7, 28, 167, 0, 16, 30, 29, 133, 148, 158, 0, 7, 29, 167, 0, 5, 30, 136]
abbrev dktX5_within_0 : List UInt8 := dkwX5_within_0 ++ dktX5_within_1
theorem dksX5_within_0 : cX5_within.data.toList.drop 0 = dktX5_within_0 := by decide +kernel
theorem dksX5_within_1 : cX5_within.data.toList.drop 24 = dktX5_within_1 := dk_seg dksX5_within_0 24 rfl rfl
theorem dX5_within_0 : decode cX5_within 0 = .ok (.lload_n 0, 1) := dk_30 (dk_at dksX5_within_0 0 rfl rfl)
theorem dX5_within_1 : decode cX5_within 1 = .ok (.iload_n 2, 1) := dk_28 (dk_at dksX5_within_0 1 rfl rfl)
theorem dX5_within_2 : decode cX5_within 2 = .ok (.i2l, 1) := dk_133 (dk_at dksX5_within_0 2 rfl rfl)
theorem dX5_within_3 : decode cX5_within 3 = .ok (.lcmp, 1) := dk_148 (dk_at dksX5_within_0 3 rfl rfl)
theorem dX5_within_4 : decode cX5_within 4 = .ok (.ifCond .ge 7, 3) := dk_156 0 7 (dk_at dksX5_within_0 4 rfl rfl)
theorem dX5_within_7 : decode cX5_within 7 = .ok (.iload_n 2, 1) := dk_28 (dk_at dksX5_within_0 7 rfl rfl)
theorem dX5_within_8 : decode cX5_within 8 = .ok (.goto 16, 3) := dk_167 0 16 (dk_at dksX5_within_0 8 rfl rfl)
theorem dX5_within_11 : decode cX5_within 11 = .ok (.lload_n 0, 1) := dk_30 (dk_at dksX5_within_0 11 rfl rfl)
theorem dX5_within_12 : decode cX5_within 12 = .ok (.iload_n 3, 1) := dk_29 (dk_at dksX5_within_0 12 rfl rfl)
theorem dX5_within_13 : decode cX5_within 13 = .ok (.i2l, 1) := dk_133 (dk_at dksX5_within_0 13 rfl rfl)
theorem dX5_within_14 : decode cX5_within 14 = .ok (.lcmp, 1) := dk_148 (dk_at dksX5_within_0 14 rfl rfl)
theorem dX5_within_15 : decode cX5_within 15 = .ok (.ifCond .le 7, 3) := dk_158 0 7 (dk_at dksX5_within_0 15 rfl rfl)
theorem dX5_within_18 : decode cX5_within 18 = .ok (.iload_n 3, 1) := dk_29 (dk_at dksX5_within_0 18 rfl rfl)
theorem dX5_within_19 : decode cX5_within 19 = .ok (.goto 5, 3) := dk_167 0 5 (dk_at dksX5_within_0 19 rfl rfl)
theorem dX5_within_22 : decode cX5_within 22 = .ok (.lload_n 0, 1) := dk_30 (dk_at dksX5_within_0 22 rfl rfl)
theorem dX5_within_23 : decode cX5_within 23 = .ok (.l2i, 1) := dk_136 (dk_at dksX5_within_0 23 rfl rfl)
theorem dX5_within_24 : decode cX5_within 24 = .ok (.ireturn, 1) := dk_172 (dk_at dksX5_within_1 0 rfl rfl)
abbrev cX5_leavesOf : ByteArray := prog_22_method_68_code
def yX5_leavesOf : MethodName := ⟨RX5, "leavesOf", "(I)I"⟩
def dkwX5_leavesOf_1 : List UInt8 := [180, 0, 13, 16, 24, 27, 96, 46, 133, 182, 1, 173, 3, 17, 3, 231, 184, 1, 177, 172]
abbrev dktX5_leavesOf_1 : List UInt8 := dkwX5_leavesOf_1 ++ []
def dkwX5_leavesOf_0 : List UInt8 := [42, 5, 27, 42, 180, 0, 13, 16, 8, 27, 96, 46, 42, 180, 0, 13, 16, 24, 27, 96, 46, 2, 42]
abbrev dktX5_leavesOf_0 : List UInt8 := dkwX5_leavesOf_0 ++ dktX5_leavesOf_1
theorem dksX5_leavesOf_0 : cX5_leavesOf.data.toList.drop 0 = dktX5_leavesOf_0 := by decide +kernel
theorem dksX5_leavesOf_1 : cX5_leavesOf.data.toList.drop 23 = dktX5_leavesOf_1 := dk_seg dksX5_leavesOf_0 23 rfl rfl
theorem dX5_leavesOf_0 : decode cX5_leavesOf 0 = .ok (.aload_n 0, 1) := dk_42 (dk_at dksX5_leavesOf_0 0 rfl rfl)
theorem dX5_leavesOf_1 : decode cX5_leavesOf 1 = .ok (.iconst 2, 1) := dk_5 (dk_at dksX5_leavesOf_0 1 rfl rfl)
theorem dX5_leavesOf_2 : decode cX5_leavesOf 2 = .ok (.iload_n 1, 1) := dk_27 (dk_at dksX5_leavesOf_0 2 rfl rfl)
theorem dX5_leavesOf_3 : decode cX5_leavesOf 3 = .ok (.aload_n 0, 1) := dk_42 (dk_at dksX5_leavesOf_0 3 rfl rfl)
theorem dX5_leavesOf_4 : decode cX5_leavesOf 4 = .ok (.getfield 13, 3) := dk_180 0 13 (dk_at dksX5_leavesOf_0 4 rfl rfl)
theorem dX5_leavesOf_7 : decode cX5_leavesOf 7 = .ok (.bipush 8, 2) := dk_16 8 (dk_at dksX5_leavesOf_0 7 rfl rfl)
theorem dX5_leavesOf_9 : decode cX5_leavesOf 9 = .ok (.iload_n 1, 1) := dk_27 (dk_at dksX5_leavesOf_0 9 rfl rfl)
theorem dX5_leavesOf_10 : decode cX5_leavesOf 10 = .ok (.iadd, 1) := dk_96 (dk_at dksX5_leavesOf_0 10 rfl rfl)
theorem dX5_leavesOf_11 : decode cX5_leavesOf 11 = .ok (.iaload, 1) := dk_46 (dk_at dksX5_leavesOf_0 11 rfl rfl)
theorem dX5_leavesOf_12 : decode cX5_leavesOf 12 = .ok (.aload_n 0, 1) := dk_42 (dk_at dksX5_leavesOf_0 12 rfl rfl)
theorem dX5_leavesOf_13 : decode cX5_leavesOf 13 = .ok (.getfield 13, 3) := dk_180 0 13 (dk_at dksX5_leavesOf_0 13 rfl rfl)
theorem dX5_leavesOf_16 : decode cX5_leavesOf 16 = .ok (.bipush 24, 2) := dk_16 24 (dk_at dksX5_leavesOf_0 16 rfl rfl)
theorem dX5_leavesOf_18 : decode cX5_leavesOf 18 = .ok (.iload_n 1, 1) := dk_27 (dk_at dksX5_leavesOf_0 18 rfl rfl)
theorem dX5_leavesOf_19 : decode cX5_leavesOf 19 = .ok (.iadd, 1) := dk_96 (dk_at dksX5_leavesOf_0 19 rfl rfl)
theorem dX5_leavesOf_20 : decode cX5_leavesOf 20 = .ok (.iaload, 1) := dk_46 (dk_at dksX5_leavesOf_0 20 rfl rfl)
theorem dX5_leavesOf_21 : decode cX5_leavesOf 21 = .ok (.iconst (-1), 1) := dk_2 (dk_at dksX5_leavesOf_0 21 rfl rfl)
theorem dX5_leavesOf_22 : decode cX5_leavesOf 22 = .ok (.aload_n 0, 1) := dk_42 (dk_at dksX5_leavesOf_0 22 rfl rfl)
theorem dX5_leavesOf_23 : decode cX5_leavesOf 23 = .ok (.getfield 13, 3) := dk_180 0 13 (dk_at dksX5_leavesOf_1 0 rfl rfl)
theorem dX5_leavesOf_26 : decode cX5_leavesOf 26 = .ok (.bipush 24, 2) := dk_16 24 (dk_at dksX5_leavesOf_1 3 rfl rfl)
theorem dX5_leavesOf_28 : decode cX5_leavesOf 28 = .ok (.iload_n 1, 1) := dk_27 (dk_at dksX5_leavesOf_1 5 rfl rfl)
theorem dX5_leavesOf_29 : decode cX5_leavesOf 29 = .ok (.iadd, 1) := dk_96 (dk_at dksX5_leavesOf_1 6 rfl rfl)
theorem dX5_leavesOf_30 : decode cX5_leavesOf 30 = .ok (.iaload, 1) := dk_46 (dk_at dksX5_leavesOf_1 7 rfl rfl)
theorem dX5_leavesOf_31 : decode cX5_leavesOf 31 = .ok (.i2l, 1) := dk_133 (dk_at dksX5_leavesOf_1 8 rfl rfl)
theorem dX5_leavesOf_32 : decode cX5_leavesOf 32 = .ok (.invokevirtual 429, 3) := dk_182 1 173 (dk_at dksX5_leavesOf_1 9 rfl rfl)
theorem dX5_leavesOf_35 : decode cX5_leavesOf 35 = .ok (.iconst 0, 1) := dk_3 (dk_at dksX5_leavesOf_1 12 rfl rfl)
theorem dX5_leavesOf_36 : decode cX5_leavesOf 36 = .ok (.sipush 999, 3) := dk_17 3 231 (dk_at dksX5_leavesOf_1 13 rfl rfl)
theorem dX5_leavesOf_39 : decode cX5_leavesOf 39 = .ok (.invokestatic 433, 3) := dk_184 1 177 (dk_at dksX5_leavesOf_1 16 rfl rfl)
theorem dX5_leavesOf_42 : decode cX5_leavesOf 42 = .ok (.ireturn, 1) := dk_172 (dk_at dksX5_leavesOf_1 19 rfl rfl)
abbrev cX5_needs : ByteArray := prog_22_method_25_code
def yX5_needs : MethodName := ⟨RX5, "needs", "(III)I"⟩
def dkwX5_needs_2 : List UInt8 := [181, 0, 180, 42, 16, 104, 5, 27, 104, 96, 28, 96, 29, 182, 0, 213, 172]
abbrev dktX5_needs_2 : List UInt8 := dkwX5_needs_2 ++ []
def dkwX5_needs_1 : List UInt8 := [153, 0, 15, 29, 133, 9, 20, 0, 203, 184, 0, 194, 154, 0, 9, 42, 2, 182, 0, 183, 172, 42, 3]
abbrev dktX5_needs_1 : List UInt8 := dkwX5_needs_1 ++ dktX5_needs_2
def dkwX5_needs_0 : List UInt8 := [42, 3, 181, 0, 174, 27, 133, 9, 20, 0, 229, 184, 0, 194, 153, 0, 25, 28, 133, 9, 10, 184, 0, 194]
abbrev dktX5_needs_0 : List UInt8 := dkwX5_needs_0 ++ dktX5_needs_1
theorem dksX5_needs_0 : cX5_needs.data.toList.drop 0 = dktX5_needs_0 := by decide +kernel
theorem dksX5_needs_1 : cX5_needs.data.toList.drop 24 = dktX5_needs_1 := dk_seg dksX5_needs_0 24 rfl rfl
theorem dksX5_needs_2 : cX5_needs.data.toList.drop 47 = dktX5_needs_2 := dk_seg dksX5_needs_1 23 rfl rfl
theorem dX5_needs_0 : decode cX5_needs 0 = .ok (.aload_n 0, 1) := dk_42 (dk_at dksX5_needs_0 0 rfl rfl)
theorem dX5_needs_1 : decode cX5_needs 1 = .ok (.iconst 0, 1) := dk_3 (dk_at dksX5_needs_0 1 rfl rfl)
theorem dX5_needs_2 : decode cX5_needs 2 = .ok (.putfield 174, 3) := dk_181 0 174 (dk_at dksX5_needs_0 2 rfl rfl)
theorem dX5_needs_5 : decode cX5_needs 5 = .ok (.iload_n 1, 1) := dk_27 (dk_at dksX5_needs_0 5 rfl rfl)
theorem dX5_needs_6 : decode cX5_needs 6 = .ok (.i2l, 1) := dk_133 (dk_at dksX5_needs_0 6 rfl rfl)
theorem dX5_needs_7 : decode cX5_needs 7 = .ok (.lconst 0, 1) := dk_9 (dk_at dksX5_needs_0 7 rfl rfl)
theorem dX5_needs_8 : decode cX5_needs 8 = .ok (.ldc2_w 229, 3) := dk_20 0 229 (dk_at dksX5_needs_0 8 rfl rfl)
theorem dX5_needs_11 : decode cX5_needs 11 = .ok (.invokestatic 194, 3) := dk_184 0 194 (dk_at dksX5_needs_0 11 rfl rfl)
theorem dX5_needs_14 : decode cX5_needs 14 = .ok (.ifCond .eq 25, 3) := dk_153 0 25 (dk_at dksX5_needs_0 14 rfl rfl)
theorem dX5_needs_17 : decode cX5_needs 17 = .ok (.iload_n 2, 1) := dk_28 (dk_at dksX5_needs_0 17 rfl rfl)
theorem dX5_needs_18 : decode cX5_needs 18 = .ok (.i2l, 1) := dk_133 (dk_at dksX5_needs_0 18 rfl rfl)
theorem dX5_needs_19 : decode cX5_needs 19 = .ok (.lconst 0, 1) := dk_9 (dk_at dksX5_needs_0 19 rfl rfl)
theorem dX5_needs_20 : decode cX5_needs 20 = .ok (.lconst 1, 1) := dk_10 (dk_at dksX5_needs_0 20 rfl rfl)
theorem dX5_needs_21 : decode cX5_needs 21 = .ok (.invokestatic 194, 3) := dk_184 0 194 (dk_at dksX5_needs_0 21 rfl rfl)
theorem dX5_needs_24 : decode cX5_needs 24 = .ok (.ifCond .eq 15, 3) := dk_153 0 15 (dk_at dksX5_needs_1 0 rfl rfl)
theorem dX5_needs_27 : decode cX5_needs 27 = .ok (.iload_n 3, 1) := dk_29 (dk_at dksX5_needs_1 3 rfl rfl)
theorem dX5_needs_28 : decode cX5_needs 28 = .ok (.i2l, 1) := dk_133 (dk_at dksX5_needs_1 4 rfl rfl)
theorem dX5_needs_29 : decode cX5_needs 29 = .ok (.lconst 0, 1) := dk_9 (dk_at dksX5_needs_1 5 rfl rfl)
theorem dX5_needs_30 : decode cX5_needs 30 = .ok (.ldc2_w 203, 3) := dk_20 0 203 (dk_at dksX5_needs_1 6 rfl rfl)
theorem dX5_needs_33 : decode cX5_needs 33 = .ok (.invokestatic 194, 3) := dk_184 0 194 (dk_at dksX5_needs_1 9 rfl rfl)
theorem dX5_needs_36 : decode cX5_needs 36 = .ok (.ifCond .ne 9, 3) := dk_154 0 9 (dk_at dksX5_needs_1 12 rfl rfl)
theorem dX5_needs_39 : decode cX5_needs 39 = .ok (.aload_n 0, 1) := dk_42 (dk_at dksX5_needs_1 15 rfl rfl)
theorem dX5_needs_40 : decode cX5_needs 40 = .ok (.iconst (-1), 1) := dk_2 (dk_at dksX5_needs_1 16 rfl rfl)
theorem dX5_needs_41 : decode cX5_needs 41 = .ok (.invokevirtual 183, 3) := dk_182 0 183 (dk_at dksX5_needs_1 17 rfl rfl)
theorem dX5_needs_44 : decode cX5_needs 44 = .ok (.ireturn, 1) := dk_172 (dk_at dksX5_needs_1 20 rfl rfl)
theorem dX5_needs_45 : decode cX5_needs 45 = .ok (.aload_n 0, 1) := dk_42 (dk_at dksX5_needs_1 21 rfl rfl)
theorem dX5_needs_46 : decode cX5_needs 46 = .ok (.iconst 0, 1) := dk_3 (dk_at dksX5_needs_1 22 rfl rfl)
theorem dX5_needs_47 : decode cX5_needs 47 = .ok (.putfield 180, 3) := dk_181 0 180 (dk_at dksX5_needs_2 0 rfl rfl)
theorem dX5_needs_50 : decode cX5_needs 50 = .ok (.aload_n 0, 1) := dk_42 (dk_at dksX5_needs_2 3 rfl rfl)
theorem dX5_needs_51 : decode cX5_needs 51 = .ok (.bipush 104, 2) := dk_16 104 (dk_at dksX5_needs_2 4 rfl rfl)
theorem dX5_needs_53 : decode cX5_needs 53 = .ok (.iconst 2, 1) := dk_5 (dk_at dksX5_needs_2 6 rfl rfl)
theorem dX5_needs_54 : decode cX5_needs 54 = .ok (.iload_n 1, 1) := dk_27 (dk_at dksX5_needs_2 7 rfl rfl)
theorem dX5_needs_55 : decode cX5_needs 55 = .ok (.imul, 1) := dk_104 (dk_at dksX5_needs_2 8 rfl rfl)
theorem dX5_needs_56 : decode cX5_needs 56 = .ok (.iadd, 1) := dk_96 (dk_at dksX5_needs_2 9 rfl rfl)
theorem dX5_needs_57 : decode cX5_needs 57 = .ok (.iload_n 2, 1) := dk_28 (dk_at dksX5_needs_2 10 rfl rfl)
theorem dX5_needs_58 : decode cX5_needs 58 = .ok (.iadd, 1) := dk_96 (dk_at dksX5_needs_2 11 rfl rfl)
theorem dX5_needs_59 : decode cX5_needs 59 = .ok (.iload_n 3, 1) := dk_29 (dk_at dksX5_needs_2 12 rfl rfl)
theorem dX5_needs_60 : decode cX5_needs 60 = .ok (.invokevirtual 213, 3) := dk_182 0 213 (dk_at dksX5_needs_2 13 rfl rfl)
theorem dX5_needs_63 : decode cX5_needs 63 = .ok (.ireturn, 1) := dk_172 (dk_at dksX5_needs_2 16 rfl rfl)
abbrev cX5_terms : ByteArray := prog_22_method_26_code
def yX5_terms : MethodName := ⟨RX5, "terms", "(II)I"⟩
def dkwX5_terms_5 : List UInt8 := [182, 0, 213, 172]
abbrev dktX5_terms_5 : List UInt8 := dkwX5_terms_5 ++ []
def dkwX5_terms_4 : List UInt8 := [3, 62, 29, 154, 0, 9, 42, 2, 182, 0, 183, 172, 42, 3, 181, 0, 180, 42, 6, 27, 96, 28]
abbrev dktX5_terms_4 : List UInt8 := dkwX5_terms_4 ++ dktX5_terms_5
def dkwX5_terms_3 : List UInt8 := [167, 0, 25, 27, 7, 160, 0, 19, 28, 133, 9, 20, 0, 203, 184, 0, 194, 153, 0, 7, 4, 167, 0, 4]
abbrev dktX5_terms_3 : List UInt8 := dkwX5_terms_3 ++ dktX5_terms_4
def dkwX5_terms_2 : List UInt8 := [20, 0, 233, 184, 0, 194, 167, 0, 42, 27, 6, 160, 0, 15, 28, 133, 9, 20, 0, 235, 184, 0, 194]
abbrev dktX5_terms_2 : List UInt8 := dkwX5_terms_2 ++ dktX5_terms_3
def dkwX5_terms_1 : List UInt8 := [160, 0, 15, 28, 133, 10, 20, 0, 233, 184, 0, 194, 167, 0, 59, 27, 5, 160, 0, 15, 28, 133, 9]
abbrev dktX5_terms_1 : List UInt8 := dkwX5_terms_1 ++ dktX5_terms_2
def dkwX5_terms_0 : List UInt8 := [42, 3, 181, 0, 174, 27, 154, 0, 15, 28, 133, 9, 20, 0, 231, 184, 0, 194, 167, 0, 76, 27, 4]
abbrev dktX5_terms_0 : List UInt8 := dkwX5_terms_0 ++ dktX5_terms_1
theorem dksX5_terms_0 : cX5_terms.data.toList.drop 0 = dktX5_terms_0 := by decide +kernel
theorem dksX5_terms_1 : cX5_terms.data.toList.drop 23 = dktX5_terms_1 := dk_seg dksX5_terms_0 23 rfl rfl
theorem dksX5_terms_2 : cX5_terms.data.toList.drop 46 = dktX5_terms_2 := dk_seg dksX5_terms_1 23 rfl rfl
theorem dksX5_terms_3 : cX5_terms.data.toList.drop 69 = dktX5_terms_3 := dk_seg dksX5_terms_2 23 rfl rfl
theorem dksX5_terms_4 : cX5_terms.data.toList.drop 93 = dktX5_terms_4 := dk_seg dksX5_terms_3 24 rfl rfl
theorem dksX5_terms_5 : cX5_terms.data.toList.drop 115 = dktX5_terms_5 := dk_seg dksX5_terms_4 22 rfl rfl
theorem dX5_terms_0 : decode cX5_terms 0 = .ok (.aload_n 0, 1) := dk_42 (dk_at dksX5_terms_0 0 rfl rfl)
theorem dX5_terms_1 : decode cX5_terms 1 = .ok (.iconst 0, 1) := dk_3 (dk_at dksX5_terms_0 1 rfl rfl)
theorem dX5_terms_2 : decode cX5_terms 2 = .ok (.putfield 174, 3) := dk_181 0 174 (dk_at dksX5_terms_0 2 rfl rfl)
theorem dX5_terms_5 : decode cX5_terms 5 = .ok (.iload_n 1, 1) := dk_27 (dk_at dksX5_terms_0 5 rfl rfl)
theorem dX5_terms_6 : decode cX5_terms 6 = .ok (.ifCond .ne 15, 3) := dk_154 0 15 (dk_at dksX5_terms_0 6 rfl rfl)
theorem dX5_terms_9 : decode cX5_terms 9 = .ok (.iload_n 2, 1) := dk_28 (dk_at dksX5_terms_0 9 rfl rfl)
theorem dX5_terms_10 : decode cX5_terms 10 = .ok (.i2l, 1) := dk_133 (dk_at dksX5_terms_0 10 rfl rfl)
theorem dX5_terms_11 : decode cX5_terms 11 = .ok (.lconst 0, 1) := dk_9 (dk_at dksX5_terms_0 11 rfl rfl)
theorem dX5_terms_12 : decode cX5_terms 12 = .ok (.ldc2_w 231, 3) := dk_20 0 231 (dk_at dksX5_terms_0 12 rfl rfl)
theorem dX5_terms_15 : decode cX5_terms 15 = .ok (.invokestatic 194, 3) := dk_184 0 194 (dk_at dksX5_terms_0 15 rfl rfl)
theorem dX5_terms_18 : decode cX5_terms 18 = .ok (.goto 76, 3) := dk_167 0 76 (dk_at dksX5_terms_0 18 rfl rfl)
theorem dX5_terms_21 : decode cX5_terms 21 = .ok (.iload_n 1, 1) := dk_27 (dk_at dksX5_terms_0 21 rfl rfl)
theorem dX5_terms_22 : decode cX5_terms 22 = .ok (.iconst 1, 1) := dk_4 (dk_at dksX5_terms_0 22 rfl rfl)
theorem dX5_terms_23 : decode cX5_terms 23 = .ok (.if_icmp .ne 15, 3) := dk_160 0 15 (dk_at dksX5_terms_1 0 rfl rfl)
theorem dX5_terms_26 : decode cX5_terms 26 = .ok (.iload_n 2, 1) := dk_28 (dk_at dksX5_terms_1 3 rfl rfl)
theorem dX5_terms_27 : decode cX5_terms 27 = .ok (.i2l, 1) := dk_133 (dk_at dksX5_terms_1 4 rfl rfl)
theorem dX5_terms_28 : decode cX5_terms 28 = .ok (.lconst 1, 1) := dk_10 (dk_at dksX5_terms_1 5 rfl rfl)
theorem dX5_terms_29 : decode cX5_terms 29 = .ok (.ldc2_w 233, 3) := dk_20 0 233 (dk_at dksX5_terms_1 6 rfl rfl)
theorem dX5_terms_32 : decode cX5_terms 32 = .ok (.invokestatic 194, 3) := dk_184 0 194 (dk_at dksX5_terms_1 9 rfl rfl)
theorem dX5_terms_35 : decode cX5_terms 35 = .ok (.goto 59, 3) := dk_167 0 59 (dk_at dksX5_terms_1 12 rfl rfl)
theorem dX5_terms_38 : decode cX5_terms 38 = .ok (.iload_n 1, 1) := dk_27 (dk_at dksX5_terms_1 15 rfl rfl)
theorem dX5_terms_39 : decode cX5_terms 39 = .ok (.iconst 2, 1) := dk_5 (dk_at dksX5_terms_1 16 rfl rfl)
theorem dX5_terms_40 : decode cX5_terms 40 = .ok (.if_icmp .ne 15, 3) := dk_160 0 15 (dk_at dksX5_terms_1 17 rfl rfl)
theorem dX5_terms_43 : decode cX5_terms 43 = .ok (.iload_n 2, 1) := dk_28 (dk_at dksX5_terms_1 20 rfl rfl)
theorem dX5_terms_44 : decode cX5_terms 44 = .ok (.i2l, 1) := dk_133 (dk_at dksX5_terms_1 21 rfl rfl)
theorem dX5_terms_45 : decode cX5_terms 45 = .ok (.lconst 0, 1) := dk_9 (dk_at dksX5_terms_1 22 rfl rfl)
theorem dX5_terms_46 : decode cX5_terms 46 = .ok (.ldc2_w 233, 3) := dk_20 0 233 (dk_at dksX5_terms_2 0 rfl rfl)
theorem dX5_terms_49 : decode cX5_terms 49 = .ok (.invokestatic 194, 3) := dk_184 0 194 (dk_at dksX5_terms_2 3 rfl rfl)
theorem dX5_terms_52 : decode cX5_terms 52 = .ok (.goto 42, 3) := dk_167 0 42 (dk_at dksX5_terms_2 6 rfl rfl)
theorem dX5_terms_55 : decode cX5_terms 55 = .ok (.iload_n 1, 1) := dk_27 (dk_at dksX5_terms_2 9 rfl rfl)
theorem dX5_terms_56 : decode cX5_terms 56 = .ok (.iconst 3, 1) := dk_6 (dk_at dksX5_terms_2 10 rfl rfl)
theorem dX5_terms_57 : decode cX5_terms 57 = .ok (.if_icmp .ne 15, 3) := dk_160 0 15 (dk_at dksX5_terms_2 11 rfl rfl)
theorem dX5_terms_60 : decode cX5_terms 60 = .ok (.iload_n 2, 1) := dk_28 (dk_at dksX5_terms_2 14 rfl rfl)
theorem dX5_terms_61 : decode cX5_terms 61 = .ok (.i2l, 1) := dk_133 (dk_at dksX5_terms_2 15 rfl rfl)
theorem dX5_terms_62 : decode cX5_terms 62 = .ok (.lconst 0, 1) := dk_9 (dk_at dksX5_terms_2 16 rfl rfl)
theorem dX5_terms_63 : decode cX5_terms 63 = .ok (.ldc2_w 235, 3) := dk_20 0 235 (dk_at dksX5_terms_2 17 rfl rfl)
theorem dX5_terms_66 : decode cX5_terms 66 = .ok (.invokestatic 194, 3) := dk_184 0 194 (dk_at dksX5_terms_2 20 rfl rfl)
theorem dX5_terms_69 : decode cX5_terms 69 = .ok (.goto 25, 3) := dk_167 0 25 (dk_at dksX5_terms_3 0 rfl rfl)
theorem dX5_terms_72 : decode cX5_terms 72 = .ok (.iload_n 1, 1) := dk_27 (dk_at dksX5_terms_3 3 rfl rfl)
theorem dX5_terms_73 : decode cX5_terms 73 = .ok (.iconst 4, 1) := dk_7 (dk_at dksX5_terms_3 4 rfl rfl)
theorem dX5_terms_74 : decode cX5_terms 74 = .ok (.if_icmp .ne 19, 3) := dk_160 0 19 (dk_at dksX5_terms_3 5 rfl rfl)
theorem dX5_terms_77 : decode cX5_terms 77 = .ok (.iload_n 2, 1) := dk_28 (dk_at dksX5_terms_3 8 rfl rfl)
theorem dX5_terms_78 : decode cX5_terms 78 = .ok (.i2l, 1) := dk_133 (dk_at dksX5_terms_3 9 rfl rfl)
theorem dX5_terms_79 : decode cX5_terms 79 = .ok (.lconst 0, 1) := dk_9 (dk_at dksX5_terms_3 10 rfl rfl)
theorem dX5_terms_80 : decode cX5_terms 80 = .ok (.ldc2_w 203, 3) := dk_20 0 203 (dk_at dksX5_terms_3 11 rfl rfl)
theorem dX5_terms_83 : decode cX5_terms 83 = .ok (.invokestatic 194, 3) := dk_184 0 194 (dk_at dksX5_terms_3 14 rfl rfl)
theorem dX5_terms_86 : decode cX5_terms 86 = .ok (.ifCond .eq 7, 3) := dk_153 0 7 (dk_at dksX5_terms_3 17 rfl rfl)
theorem dX5_terms_89 : decode cX5_terms 89 = .ok (.iconst 1, 1) := dk_4 (dk_at dksX5_terms_3 20 rfl rfl)
theorem dX5_terms_90 : decode cX5_terms 90 = .ok (.goto 4, 3) := dk_167 0 4 (dk_at dksX5_terms_3 21 rfl rfl)
theorem dX5_terms_93 : decode cX5_terms 93 = .ok (.iconst 0, 1) := dk_3 (dk_at dksX5_terms_4 0 rfl rfl)
theorem dX5_terms_94 : decode cX5_terms 94 = .ok (.istore_n 3, 1) := dk_62 (dk_at dksX5_terms_4 1 rfl rfl)
theorem dX5_terms_95 : decode cX5_terms 95 = .ok (.iload_n 3, 1) := dk_29 (dk_at dksX5_terms_4 2 rfl rfl)
theorem dX5_terms_96 : decode cX5_terms 96 = .ok (.ifCond .ne 9, 3) := dk_154 0 9 (dk_at dksX5_terms_4 3 rfl rfl)
theorem dX5_terms_99 : decode cX5_terms 99 = .ok (.aload_n 0, 1) := dk_42 (dk_at dksX5_terms_4 6 rfl rfl)
theorem dX5_terms_100 : decode cX5_terms 100 = .ok (.iconst (-1), 1) := dk_2 (dk_at dksX5_terms_4 7 rfl rfl)
theorem dX5_terms_101 : decode cX5_terms 101 = .ok (.invokevirtual 183, 3) := dk_182 0 183 (dk_at dksX5_terms_4 8 rfl rfl)
theorem dX5_terms_104 : decode cX5_terms 104 = .ok (.ireturn, 1) := dk_172 (dk_at dksX5_terms_4 11 rfl rfl)
theorem dX5_terms_105 : decode cX5_terms 105 = .ok (.aload_n 0, 1) := dk_42 (dk_at dksX5_terms_4 12 rfl rfl)
theorem dX5_terms_106 : decode cX5_terms 106 = .ok (.iconst 0, 1) := dk_3 (dk_at dksX5_terms_4 13 rfl rfl)
theorem dX5_terms_107 : decode cX5_terms 107 = .ok (.putfield 180, 3) := dk_181 0 180 (dk_at dksX5_terms_4 14 rfl rfl)
theorem dX5_terms_110 : decode cX5_terms 110 = .ok (.aload_n 0, 1) := dk_42 (dk_at dksX5_terms_4 17 rfl rfl)
theorem dX5_terms_111 : decode cX5_terms 111 = .ok (.iconst 3, 1) := dk_6 (dk_at dksX5_terms_4 18 rfl rfl)
theorem dX5_terms_112 : decode cX5_terms 112 = .ok (.iload_n 1, 1) := dk_27 (dk_at dksX5_terms_4 19 rfl rfl)
theorem dX5_terms_113 : decode cX5_terms 113 = .ok (.iadd, 1) := dk_96 (dk_at dksX5_terms_4 20 rfl rfl)
theorem dX5_terms_114 : decode cX5_terms 114 = .ok (.iload_n 2, 1) := dk_28 (dk_at dksX5_terms_4 21 rfl rfl)
theorem dX5_terms_115 : decode cX5_terms 115 = .ok (.invokevirtual 213, 3) := dk_182 0 213 (dk_at dksX5_terms_5 0 rfl rfl)
theorem dX5_terms_118 : decode cX5_terms 118 = .ok (.ireturn, 1) := dk_172 (dk_at dksX5_terms_5 3 rfl rfl)
abbrev cX5_row : ByteArray := prog_22_method_27_code
def yX5_row : MethodName := ⟨RX5, "row", "()I"⟩
def dkwX5_row_7 : List UInt8 := [180, 0, 240, 4, 96, 181, 0, 240, 132, 3, 3, 167, 255, 117, 42, 28, 182, 0, 198, 172]
abbrev dktX5_row_7 : List UInt8 := dkwX5_row_7 ++ []
def dkwX5_row_6 : List UInt8 := [16, 88, 21, 4, 96, 42, 180, 0, 35, 29, 5, 96, 46, 79, 132, 2, 1, 167, 0, 13, 42, 89]
abbrev dktX5_row_6 : List UInt8 := dkwX5_row_6 ++ dktX5_row_7
def dkwX5_row_5 : List UInt8 := [79, 42, 180, 0, 13, 16, 72, 21, 4, 96, 42, 180, 0, 35, 29, 4, 96, 46, 79, 42, 180, 0, 13]
abbrev dktX5_row_5 : List UInt8 := dkwX5_row_5 ++ dktX5_row_6
def dkwX5_row_4 : List UInt8 := [5, 96, 46, 184, 0, 209, 153, 0, 61, 42, 180, 0, 13, 16, 56, 21, 4, 96, 42, 180, 0, 35, 29, 46]
abbrev dktX5_row_4 : List UInt8 := dkwX5_row_4 ++ dktX5_row_5
def dkwX5_row_3 : List UInt8 := [153, 0, 91, 4, 42, 180, 0, 35, 29, 4, 96, 46, 184, 0, 209, 153, 0, 76, 5, 42, 180, 0, 35, 29]
abbrev dktX5_row_3 : List UInt8 := dkwX5_row_3 ++ dktX5_row_4
def dkwX5_row_2 : List UInt8 := [5, 96, 27, 162, 0, 112, 21, 4, 184, 0, 205, 153, 0, 104, 3, 42, 180, 0, 35, 29, 46, 184, 0, 209]
abbrev dktX5_row_2 : List UInt8 := dkwX5_row_2 ++ dktX5_row_3
def dkwX5_row_1 : List UInt8 := [182, 0, 183, 172, 42, 3, 181, 0, 240, 3, 61, 3, 62, 29, 27, 162, 0, 140, 29, 6, 108, 54, 4, 29]
abbrev dktX5_row_1 : List UInt8 := dkwX5_row_1 ++ dktX5_row_2
def dkwX5_row_0 : List UInt8 := [42, 3, 181, 0, 174, 42, 180, 0, 237, 60, 42, 3, 181, 0, 237, 27, 154, 0, 10, 42, 16, 250]
abbrev dktX5_row_0 : List UInt8 := dkwX5_row_0 ++ dktX5_row_1
theorem dksX5_row_0 : cX5_row.data.toList.drop 0 = dktX5_row_0 := by decide +kernel
theorem dksX5_row_1 : cX5_row.data.toList.drop 22 = dktX5_row_1 := dk_seg dksX5_row_0 22 rfl rfl
theorem dksX5_row_2 : cX5_row.data.toList.drop 46 = dktX5_row_2 := dk_seg dksX5_row_1 24 rfl rfl
theorem dksX5_row_3 : cX5_row.data.toList.drop 70 = dktX5_row_3 := dk_seg dksX5_row_2 24 rfl rfl
theorem dksX5_row_4 : cX5_row.data.toList.drop 94 = dktX5_row_4 := dk_seg dksX5_row_3 24 rfl rfl
theorem dksX5_row_5 : cX5_row.data.toList.drop 118 = dktX5_row_5 := dk_seg dksX5_row_4 24 rfl rfl
theorem dksX5_row_6 : cX5_row.data.toList.drop 141 = dktX5_row_6 := dk_seg dksX5_row_5 23 rfl rfl
theorem dksX5_row_7 : cX5_row.data.toList.drop 163 = dktX5_row_7 := dk_seg dksX5_row_6 22 rfl rfl
theorem dX5_row_0 : decode cX5_row 0 = .ok (.aload_n 0, 1) := dk_42 (dk_at dksX5_row_0 0 rfl rfl)
theorem dX5_row_1 : decode cX5_row 1 = .ok (.iconst 0, 1) := dk_3 (dk_at dksX5_row_0 1 rfl rfl)
theorem dX5_row_2 : decode cX5_row 2 = .ok (.putfield 174, 3) := dk_181 0 174 (dk_at dksX5_row_0 2 rfl rfl)
theorem dX5_row_5 : decode cX5_row 5 = .ok (.aload_n 0, 1) := dk_42 (dk_at dksX5_row_0 5 rfl rfl)
theorem dX5_row_6 : decode cX5_row 6 = .ok (.getfield 237, 3) := dk_180 0 237 (dk_at dksX5_row_0 6 rfl rfl)
theorem dX5_row_9 : decode cX5_row 9 = .ok (.istore_n 1, 1) := dk_60 (dk_at dksX5_row_0 9 rfl rfl)
theorem dX5_row_10 : decode cX5_row 10 = .ok (.aload_n 0, 1) := dk_42 (dk_at dksX5_row_0 10 rfl rfl)
theorem dX5_row_11 : decode cX5_row 11 = .ok (.iconst 0, 1) := dk_3 (dk_at dksX5_row_0 11 rfl rfl)
theorem dX5_row_12 : decode cX5_row 12 = .ok (.putfield 237, 3) := dk_181 0 237 (dk_at dksX5_row_0 12 rfl rfl)
theorem dX5_row_15 : decode cX5_row 15 = .ok (.iload_n 1, 1) := dk_27 (dk_at dksX5_row_0 15 rfl rfl)
theorem dX5_row_16 : decode cX5_row 16 = .ok (.ifCond .ne 10, 3) := dk_154 0 10 (dk_at dksX5_row_0 16 rfl rfl)
theorem dX5_row_19 : decode cX5_row 19 = .ok (.aload_n 0, 1) := dk_42 (dk_at dksX5_row_0 19 rfl rfl)
theorem dX5_row_20 : decode cX5_row 20 = .ok (.bipush (-6), 2) := dk_16 250 (dk_at dksX5_row_0 20 rfl rfl)
theorem dX5_row_22 : decode cX5_row 22 = .ok (.invokevirtual 183, 3) := dk_182 0 183 (dk_at dksX5_row_1 0 rfl rfl)
theorem dX5_row_25 : decode cX5_row 25 = .ok (.ireturn, 1) := dk_172 (dk_at dksX5_row_1 3 rfl rfl)
theorem dX5_row_26 : decode cX5_row 26 = .ok (.aload_n 0, 1) := dk_42 (dk_at dksX5_row_1 4 rfl rfl)
theorem dX5_row_27 : decode cX5_row 27 = .ok (.iconst 0, 1) := dk_3 (dk_at dksX5_row_1 5 rfl rfl)
theorem dX5_row_28 : decode cX5_row 28 = .ok (.putfield 240, 3) := dk_181 0 240 (dk_at dksX5_row_1 6 rfl rfl)
theorem dX5_row_31 : decode cX5_row 31 = .ok (.iconst 0, 1) := dk_3 (dk_at dksX5_row_1 9 rfl rfl)
theorem dX5_row_32 : decode cX5_row 32 = .ok (.istore_n 2, 1) := dk_61 (dk_at dksX5_row_1 10 rfl rfl)
theorem dX5_row_33 : decode cX5_row 33 = .ok (.iconst 0, 1) := dk_3 (dk_at dksX5_row_1 11 rfl rfl)
theorem dX5_row_34 : decode cX5_row 34 = .ok (.istore_n 3, 1) := dk_62 (dk_at dksX5_row_1 12 rfl rfl)
theorem dX5_row_35 : decode cX5_row 35 = .ok (.iload_n 3, 1) := dk_29 (dk_at dksX5_row_1 13 rfl rfl)
theorem dX5_row_36 : decode cX5_row 36 = .ok (.iload_n 1, 1) := dk_27 (dk_at dksX5_row_1 14 rfl rfl)
theorem dX5_row_37 : decode cX5_row 37 = .ok (.if_icmp .ge 140, 3) := dk_162 0 140 (dk_at dksX5_row_1 15 rfl rfl)
theorem dX5_row_40 : decode cX5_row 40 = .ok (.iload_n 3, 1) := dk_29 (dk_at dksX5_row_1 18 rfl rfl)
theorem dX5_row_41 : decode cX5_row 41 = .ok (.iconst 3, 1) := dk_6 (dk_at dksX5_row_1 19 rfl rfl)
theorem dX5_row_42 : decode cX5_row 42 = .ok (.idiv, 1) := dk_108 (dk_at dksX5_row_1 20 rfl rfl)
theorem dX5_row_43 : decode cX5_row 43 = .ok (.istore 4, 2) := dk_54 4 (dk_at dksX5_row_1 21 rfl rfl)
theorem dX5_row_45 : decode cX5_row 45 = .ok (.iload_n 3, 1) := dk_29 (dk_at dksX5_row_1 23 rfl rfl)
theorem dX5_row_46 : decode cX5_row 46 = .ok (.iconst 2, 1) := dk_5 (dk_at dksX5_row_2 0 rfl rfl)
theorem dX5_row_47 : decode cX5_row 47 = .ok (.iadd, 1) := dk_96 (dk_at dksX5_row_2 1 rfl rfl)
theorem dX5_row_48 : decode cX5_row 48 = .ok (.iload_n 1, 1) := dk_27 (dk_at dksX5_row_2 2 rfl rfl)
theorem dX5_row_49 : decode cX5_row 49 = .ok (.if_icmp .ge 112, 3) := dk_162 0 112 (dk_at dksX5_row_2 3 rfl rfl)
theorem dX5_row_52 : decode cX5_row 52 = .ok (.iload 4, 2) := dk_21 4 (dk_at dksX5_row_2 6 rfl rfl)
theorem dX5_row_54 : decode cX5_row 54 = .ok (.invokestatic 205, 3) := dk_184 0 205 (dk_at dksX5_row_2 8 rfl rfl)
theorem dX5_row_57 : decode cX5_row 57 = .ok (.ifCond .eq 104, 3) := dk_153 0 104 (dk_at dksX5_row_2 11 rfl rfl)
theorem dX5_row_60 : decode cX5_row 60 = .ok (.iconst 0, 1) := dk_3 (dk_at dksX5_row_2 14 rfl rfl)
theorem dX5_row_61 : decode cX5_row 61 = .ok (.aload_n 0, 1) := dk_42 (dk_at dksX5_row_2 15 rfl rfl)
theorem dX5_row_62 : decode cX5_row 62 = .ok (.getfield 35, 3) := dk_180 0 35 (dk_at dksX5_row_2 16 rfl rfl)
theorem dX5_row_65 : decode cX5_row 65 = .ok (.iload_n 3, 1) := dk_29 (dk_at dksX5_row_2 19 rfl rfl)
theorem dX5_row_66 : decode cX5_row 66 = .ok (.iaload, 1) := dk_46 (dk_at dksX5_row_2 20 rfl rfl)
theorem dX5_row_67 : decode cX5_row 67 = .ok (.invokestatic 209, 3) := dk_184 0 209 (dk_at dksX5_row_2 21 rfl rfl)
theorem dX5_row_70 : decode cX5_row 70 = .ok (.ifCond .eq 91, 3) := dk_153 0 91 (dk_at dksX5_row_3 0 rfl rfl)
theorem dX5_row_73 : decode cX5_row 73 = .ok (.iconst 1, 1) := dk_4 (dk_at dksX5_row_3 3 rfl rfl)
theorem dX5_row_74 : decode cX5_row 74 = .ok (.aload_n 0, 1) := dk_42 (dk_at dksX5_row_3 4 rfl rfl)
theorem dX5_row_75 : decode cX5_row 75 = .ok (.getfield 35, 3) := dk_180 0 35 (dk_at dksX5_row_3 5 rfl rfl)
theorem dX5_row_78 : decode cX5_row 78 = .ok (.iload_n 3, 1) := dk_29 (dk_at dksX5_row_3 8 rfl rfl)
theorem dX5_row_79 : decode cX5_row 79 = .ok (.iconst 1, 1) := dk_4 (dk_at dksX5_row_3 9 rfl rfl)
theorem dX5_row_80 : decode cX5_row 80 = .ok (.iadd, 1) := dk_96 (dk_at dksX5_row_3 10 rfl rfl)
theorem dX5_row_81 : decode cX5_row 81 = .ok (.iaload, 1) := dk_46 (dk_at dksX5_row_3 11 rfl rfl)
theorem dX5_row_82 : decode cX5_row 82 = .ok (.invokestatic 209, 3) := dk_184 0 209 (dk_at dksX5_row_3 12 rfl rfl)
theorem dX5_row_85 : decode cX5_row 85 = .ok (.ifCond .eq 76, 3) := dk_153 0 76 (dk_at dksX5_row_3 15 rfl rfl)
theorem dX5_row_88 : decode cX5_row 88 = .ok (.iconst 2, 1) := dk_5 (dk_at dksX5_row_3 18 rfl rfl)
theorem dX5_row_89 : decode cX5_row 89 = .ok (.aload_n 0, 1) := dk_42 (dk_at dksX5_row_3 19 rfl rfl)
theorem dX5_row_90 : decode cX5_row 90 = .ok (.getfield 35, 3) := dk_180 0 35 (dk_at dksX5_row_3 20 rfl rfl)
theorem dX5_row_93 : decode cX5_row 93 = .ok (.iload_n 3, 1) := dk_29 (dk_at dksX5_row_3 23 rfl rfl)
theorem dX5_row_94 : decode cX5_row 94 = .ok (.iconst 2, 1) := dk_5 (dk_at dksX5_row_4 0 rfl rfl)
theorem dX5_row_95 : decode cX5_row 95 = .ok (.iadd, 1) := dk_96 (dk_at dksX5_row_4 1 rfl rfl)
theorem dX5_row_96 : decode cX5_row 96 = .ok (.iaload, 1) := dk_46 (dk_at dksX5_row_4 2 rfl rfl)
theorem dX5_row_97 : decode cX5_row 97 = .ok (.invokestatic 209, 3) := dk_184 0 209 (dk_at dksX5_row_4 3 rfl rfl)
theorem dX5_row_100 : decode cX5_row 100 = .ok (.ifCond .eq 61, 3) := dk_153 0 61 (dk_at dksX5_row_4 6 rfl rfl)
theorem dX5_row_103 : decode cX5_row 103 = .ok (.aload_n 0, 1) := dk_42 (dk_at dksX5_row_4 9 rfl rfl)
theorem dX5_row_104 : decode cX5_row 104 = .ok (.getfield 13, 3) := dk_180 0 13 (dk_at dksX5_row_4 10 rfl rfl)
theorem dX5_row_107 : decode cX5_row 107 = .ok (.bipush 56, 2) := dk_16 56 (dk_at dksX5_row_4 13 rfl rfl)
theorem dX5_row_109 : decode cX5_row 109 = .ok (.iload 4, 2) := dk_21 4 (dk_at dksX5_row_4 15 rfl rfl)
theorem dX5_row_111 : decode cX5_row 111 = .ok (.iadd, 1) := dk_96 (dk_at dksX5_row_4 17 rfl rfl)
theorem dX5_row_112 : decode cX5_row 112 = .ok (.aload_n 0, 1) := dk_42 (dk_at dksX5_row_4 18 rfl rfl)
theorem dX5_row_113 : decode cX5_row 113 = .ok (.getfield 35, 3) := dk_180 0 35 (dk_at dksX5_row_4 19 rfl rfl)
theorem dX5_row_116 : decode cX5_row 116 = .ok (.iload_n 3, 1) := dk_29 (dk_at dksX5_row_4 22 rfl rfl)
theorem dX5_row_117 : decode cX5_row 117 = .ok (.iaload, 1) := dk_46 (dk_at dksX5_row_4 23 rfl rfl)
theorem dX5_row_118 : decode cX5_row 118 = .ok (.iastore, 1) := dk_79 (dk_at dksX5_row_5 0 rfl rfl)
theorem dX5_row_119 : decode cX5_row 119 = .ok (.aload_n 0, 1) := dk_42 (dk_at dksX5_row_5 1 rfl rfl)
theorem dX5_row_120 : decode cX5_row 120 = .ok (.getfield 13, 3) := dk_180 0 13 (dk_at dksX5_row_5 2 rfl rfl)
theorem dX5_row_123 : decode cX5_row 123 = .ok (.bipush 72, 2) := dk_16 72 (dk_at dksX5_row_5 5 rfl rfl)
theorem dX5_row_125 : decode cX5_row 125 = .ok (.iload 4, 2) := dk_21 4 (dk_at dksX5_row_5 7 rfl rfl)
theorem dX5_row_127 : decode cX5_row 127 = .ok (.iadd, 1) := dk_96 (dk_at dksX5_row_5 9 rfl rfl)
theorem dX5_row_128 : decode cX5_row 128 = .ok (.aload_n 0, 1) := dk_42 (dk_at dksX5_row_5 10 rfl rfl)
theorem dX5_row_129 : decode cX5_row 129 = .ok (.getfield 35, 3) := dk_180 0 35 (dk_at dksX5_row_5 11 rfl rfl)
theorem dX5_row_132 : decode cX5_row 132 = .ok (.iload_n 3, 1) := dk_29 (dk_at dksX5_row_5 14 rfl rfl)
theorem dX5_row_133 : decode cX5_row 133 = .ok (.iconst 1, 1) := dk_4 (dk_at dksX5_row_5 15 rfl rfl)
theorem dX5_row_134 : decode cX5_row 134 = .ok (.iadd, 1) := dk_96 (dk_at dksX5_row_5 16 rfl rfl)
theorem dX5_row_135 : decode cX5_row 135 = .ok (.iaload, 1) := dk_46 (dk_at dksX5_row_5 17 rfl rfl)
theorem dX5_row_136 : decode cX5_row 136 = .ok (.iastore, 1) := dk_79 (dk_at dksX5_row_5 18 rfl rfl)
theorem dX5_row_137 : decode cX5_row 137 = .ok (.aload_n 0, 1) := dk_42 (dk_at dksX5_row_5 19 rfl rfl)
theorem dX5_row_138 : decode cX5_row 138 = .ok (.getfield 13, 3) := dk_180 0 13 (dk_at dksX5_row_5 20 rfl rfl)
theorem dX5_row_141 : decode cX5_row 141 = .ok (.bipush 88, 2) := dk_16 88 (dk_at dksX5_row_6 0 rfl rfl)
theorem dX5_row_143 : decode cX5_row 143 = .ok (.iload 4, 2) := dk_21 4 (dk_at dksX5_row_6 2 rfl rfl)
theorem dX5_row_145 : decode cX5_row 145 = .ok (.iadd, 1) := dk_96 (dk_at dksX5_row_6 4 rfl rfl)
theorem dX5_row_146 : decode cX5_row 146 = .ok (.aload_n 0, 1) := dk_42 (dk_at dksX5_row_6 5 rfl rfl)
theorem dX5_row_147 : decode cX5_row 147 = .ok (.getfield 35, 3) := dk_180 0 35 (dk_at dksX5_row_6 6 rfl rfl)
theorem dX5_row_150 : decode cX5_row 150 = .ok (.iload_n 3, 1) := dk_29 (dk_at dksX5_row_6 9 rfl rfl)
theorem dX5_row_151 : decode cX5_row 151 = .ok (.iconst 2, 1) := dk_5 (dk_at dksX5_row_6 10 rfl rfl)
theorem dX5_row_152 : decode cX5_row 152 = .ok (.iadd, 1) := dk_96 (dk_at dksX5_row_6 11 rfl rfl)
theorem dX5_row_153 : decode cX5_row 153 = .ok (.iaload, 1) := dk_46 (dk_at dksX5_row_6 12 rfl rfl)
theorem dX5_row_154 : decode cX5_row 154 = .ok (.iastore, 1) := dk_79 (dk_at dksX5_row_6 13 rfl rfl)
theorem dX5_row_155 : decode cX5_row 155 = .ok (.iinc 2 1, 3) := dk_132 2 1 (dk_at dksX5_row_6 14 rfl rfl)
theorem dX5_row_158 : decode cX5_row 158 = .ok (.goto 13, 3) := dk_167 0 13 (dk_at dksX5_row_6 17 rfl rfl)
theorem dX5_row_161 : decode cX5_row 161 = .ok (.aload_n 0, 1) := dk_42 (dk_at dksX5_row_6 20 rfl rfl)
theorem dX5_row_162 : decode cX5_row 162 = .ok (.dup, 1) := dk_89 (dk_at dksX5_row_6 21 rfl rfl)
theorem dX5_row_163 : decode cX5_row 163 = .ok (.getfield 240, 3) := dk_180 0 240 (dk_at dksX5_row_7 0 rfl rfl)
theorem dX5_row_166 : decode cX5_row 166 = .ok (.iconst 1, 1) := dk_4 (dk_at dksX5_row_7 3 rfl rfl)
theorem dX5_row_167 : decode cX5_row 167 = .ok (.iadd, 1) := dk_96 (dk_at dksX5_row_7 4 rfl rfl)
theorem dX5_row_168 : decode cX5_row 168 = .ok (.putfield 240, 3) := dk_181 0 240 (dk_at dksX5_row_7 5 rfl rfl)
theorem dX5_row_171 : decode cX5_row 171 = .ok (.iinc 3 3, 3) := dk_132 3 3 (dk_at dksX5_row_7 8 rfl rfl)
theorem dX5_row_174 : decode cX5_row 174 = .ok (.goto (-139), 3) := dk_167 255 117 (dk_at dksX5_row_7 11 rfl rfl)
theorem dX5_row_177 : decode cX5_row 177 = .ok (.aload_n 0, 1) := dk_42 (dk_at dksX5_row_7 14 rfl rfl)
theorem dX5_row_178 : decode cX5_row 178 = .ok (.iload_n 2, 1) := dk_28 (dk_at dksX5_row_7 15 rfl rfl)
theorem dX5_row_179 : decode cX5_row 179 = .ok (.invokevirtual 198, 3) := dk_182 0 198 (dk_at dksX5_row_7 16 rfl rfl)
theorem dX5_row_182 : decode cX5_row 182 = .ok (.ireturn, 1) := dk_172 (dk_at dksX5_row_7 19 rfl rfl)
abbrev cX5_moss : ByteArray := prog_22_method_28_code
def yX5_moss : MethodName := ⟨RX5, "moss", "()I"⟩
def dkwX5_moss_0 : List UInt8 := [42, 3, 181, 0, 174, 42, 180, 0, 240, 172]
abbrev dktX5_moss_0 : List UInt8 := dkwX5_moss_0 ++ []
theorem dksX5_moss_0 : cX5_moss.data.toList.drop 0 = dktX5_moss_0 := by decide +kernel
theorem dX5_moss_0 : decode cX5_moss 0 = .ok (.aload_n 0, 1) := dk_42 (dk_at dksX5_moss_0 0 rfl rfl)
theorem dX5_moss_1 : decode cX5_moss 1 = .ok (.iconst 0, 1) := dk_3 (dk_at dksX5_moss_0 1 rfl rfl)
theorem dX5_moss_2 : decode cX5_moss 2 = .ok (.putfield 174, 3) := dk_181 0 174 (dk_at dksX5_moss_0 2 rfl rfl)
theorem dX5_moss_5 : decode cX5_moss 5 = .ok (.aload_n 0, 1) := dk_42 (dk_at dksX5_moss_0 5 rfl rfl)
theorem dX5_moss_6 : decode cX5_moss 6 = .ok (.getfield 240, 3) := dk_180 0 240 (dk_at dksX5_moss_0 6 rfl rfl)
theorem dX5_moss_9 : decode cX5_moss 9 = .ok (.ireturn, 1) := dk_172 (dk_at dksX5_moss_0 9 rfl rfl)
abbrev cX5_feed : ByteArray := prog_22_method_30_code
def yX5_feed : MethodName := ⟨RX5, "feed", "(IIIII)I"⟩
def dkwX5_feed_2 : List UInt8 := [182, 0, 243, 42, 180, 0, 237, 172]
abbrev dktX5_feed_2 : List UInt8 := dkwX5_feed_2 ++ []
def dkwX5_feed_1 : List UInt8 := [182, 0, 243, 42, 28, 182, 0, 243, 42, 29, 182, 0, 243, 42, 21, 4, 182, 0, 243, 42, 21, 5]
abbrev dktX5_feed_1 : List UInt8 := dkwX5_feed_1 ++ dktX5_feed_2
def dkwX5_feed_0 : List UInt8 := [42, 3, 181, 0, 174, 42, 180, 0, 237, 16, 20, 96, 17, 1, 144, 164, 0, 5, 2, 172, 42, 27]
abbrev dktX5_feed_0 : List UInt8 := dkwX5_feed_0 ++ dktX5_feed_1
theorem dksX5_feed_0 : cX5_feed.data.toList.drop 0 = dktX5_feed_0 := by decide +kernel
theorem dksX5_feed_1 : cX5_feed.data.toList.drop 22 = dktX5_feed_1 := dk_seg dksX5_feed_0 22 rfl rfl
theorem dksX5_feed_2 : cX5_feed.data.toList.drop 44 = dktX5_feed_2 := dk_seg dksX5_feed_1 22 rfl rfl
theorem dX5_feed_0 : decode cX5_feed 0 = .ok (.aload_n 0, 1) := dk_42 (dk_at dksX5_feed_0 0 rfl rfl)
theorem dX5_feed_1 : decode cX5_feed 1 = .ok (.iconst 0, 1) := dk_3 (dk_at dksX5_feed_0 1 rfl rfl)
theorem dX5_feed_2 : decode cX5_feed 2 = .ok (.putfield 174, 3) := dk_181 0 174 (dk_at dksX5_feed_0 2 rfl rfl)
theorem dX5_feed_5 : decode cX5_feed 5 = .ok (.aload_n 0, 1) := dk_42 (dk_at dksX5_feed_0 5 rfl rfl)
theorem dX5_feed_6 : decode cX5_feed 6 = .ok (.getfield 237, 3) := dk_180 0 237 (dk_at dksX5_feed_0 6 rfl rfl)
theorem dX5_feed_9 : decode cX5_feed 9 = .ok (.bipush 20, 2) := dk_16 20 (dk_at dksX5_feed_0 9 rfl rfl)
theorem dX5_feed_11 : decode cX5_feed 11 = .ok (.iadd, 1) := dk_96 (dk_at dksX5_feed_0 11 rfl rfl)
theorem dX5_feed_12 : decode cX5_feed 12 = .ok (.sipush 400, 3) := dk_17 1 144 (dk_at dksX5_feed_0 12 rfl rfl)
theorem dX5_feed_15 : decode cX5_feed 15 = .ok (.if_icmp .le 5, 3) := dk_164 0 5 (dk_at dksX5_feed_0 15 rfl rfl)
theorem dX5_feed_18 : decode cX5_feed 18 = .ok (.iconst (-1), 1) := dk_2 (dk_at dksX5_feed_0 18 rfl rfl)
theorem dX5_feed_19 : decode cX5_feed 19 = .ok (.ireturn, 1) := dk_172 (dk_at dksX5_feed_0 19 rfl rfl)
theorem dX5_feed_20 : decode cX5_feed 20 = .ok (.aload_n 0, 1) := dk_42 (dk_at dksX5_feed_0 20 rfl rfl)
theorem dX5_feed_21 : decode cX5_feed 21 = .ok (.iload_n 1, 1) := dk_27 (dk_at dksX5_feed_0 21 rfl rfl)
theorem dX5_feed_22 : decode cX5_feed 22 = .ok (.invokevirtual 243, 3) := dk_182 0 243 (dk_at dksX5_feed_1 0 rfl rfl)
theorem dX5_feed_25 : decode cX5_feed 25 = .ok (.aload_n 0, 1) := dk_42 (dk_at dksX5_feed_1 3 rfl rfl)
theorem dX5_feed_26 : decode cX5_feed 26 = .ok (.iload_n 2, 1) := dk_28 (dk_at dksX5_feed_1 4 rfl rfl)
theorem dX5_feed_27 : decode cX5_feed 27 = .ok (.invokevirtual 243, 3) := dk_182 0 243 (dk_at dksX5_feed_1 5 rfl rfl)
theorem dX5_feed_30 : decode cX5_feed 30 = .ok (.aload_n 0, 1) := dk_42 (dk_at dksX5_feed_1 8 rfl rfl)
theorem dX5_feed_31 : decode cX5_feed 31 = .ok (.iload_n 3, 1) := dk_29 (dk_at dksX5_feed_1 9 rfl rfl)
theorem dX5_feed_32 : decode cX5_feed 32 = .ok (.invokevirtual 243, 3) := dk_182 0 243 (dk_at dksX5_feed_1 10 rfl rfl)
theorem dX5_feed_35 : decode cX5_feed 35 = .ok (.aload_n 0, 1) := dk_42 (dk_at dksX5_feed_1 13 rfl rfl)
theorem dX5_feed_36 : decode cX5_feed 36 = .ok (.iload 4, 2) := dk_21 4 (dk_at dksX5_feed_1 14 rfl rfl)
theorem dX5_feed_38 : decode cX5_feed 38 = .ok (.invokevirtual 243, 3) := dk_182 0 243 (dk_at dksX5_feed_1 16 rfl rfl)
theorem dX5_feed_41 : decode cX5_feed 41 = .ok (.aload_n 0, 1) := dk_42 (dk_at dksX5_feed_1 19 rfl rfl)
theorem dX5_feed_42 : decode cX5_feed 42 = .ok (.iload 5, 2) := dk_21 5 (dk_at dksX5_feed_1 20 rfl rfl)
theorem dX5_feed_44 : decode cX5_feed 44 = .ok (.invokevirtual 243, 3) := dk_182 0 243 (dk_at dksX5_feed_2 0 rfl rfl)
theorem dX5_feed_47 : decode cX5_feed 47 = .ok (.aload_n 0, 1) := dk_42 (dk_at dksX5_feed_2 3 rfl rfl)
theorem dX5_feed_48 : decode cX5_feed 48 = .ok (.getfield 237, 3) := dk_180 0 237 (dk_at dksX5_feed_2 4 rfl rfl)
theorem dX5_feed_51 : decode cX5_feed 51 = .ok (.ireturn, 1) := dk_172 (dk_at dksX5_feed_2 7 rfl rfl)
abbrev cX5_four : ByteArray := prog_22_method_29_code
def yX5_four : MethodName := ⟨RX5, "four", "(I)V"⟩
def dkwX5_four_1 : List UInt8 := [89, 180, 0, 237, 4, 96, 181, 0, 237, 132, 2, 248, 167, 255, 223, 177]
abbrev dktX5_four_1 : List UInt8 := dkwX5_four_1 ++ []
def dkwX5_four_0 : List UInt8 := [16, 24, 61, 28, 155, 0, 35, 42, 180, 0, 35, 42, 180, 0, 237, 27, 28, 122, 17, 0, 255, 126, 79, 42]
abbrev dktX5_four_0 : List UInt8 := dkwX5_four_0 ++ dktX5_four_1
theorem dksX5_four_0 : cX5_four.data.toList.drop 0 = dktX5_four_0 := by decide +kernel
theorem dksX5_four_1 : cX5_four.data.toList.drop 24 = dktX5_four_1 := dk_seg dksX5_four_0 24 rfl rfl
theorem dX5_four_0 : decode cX5_four 0 = .ok (.bipush 24, 2) := dk_16 24 (dk_at dksX5_four_0 0 rfl rfl)
theorem dX5_four_2 : decode cX5_four 2 = .ok (.istore_n 2, 1) := dk_61 (dk_at dksX5_four_0 2 rfl rfl)
theorem dX5_four_3 : decode cX5_four 3 = .ok (.iload_n 2, 1) := dk_28 (dk_at dksX5_four_0 3 rfl rfl)
theorem dX5_four_4 : decode cX5_four 4 = .ok (.ifCond .lt 35, 3) := dk_155 0 35 (dk_at dksX5_four_0 4 rfl rfl)
theorem dX5_four_7 : decode cX5_four 7 = .ok (.aload_n 0, 1) := dk_42 (dk_at dksX5_four_0 7 rfl rfl)
theorem dX5_four_8 : decode cX5_four 8 = .ok (.getfield 35, 3) := dk_180 0 35 (dk_at dksX5_four_0 8 rfl rfl)
theorem dX5_four_11 : decode cX5_four 11 = .ok (.aload_n 0, 1) := dk_42 (dk_at dksX5_four_0 11 rfl rfl)
theorem dX5_four_12 : decode cX5_four 12 = .ok (.getfield 237, 3) := dk_180 0 237 (dk_at dksX5_four_0 12 rfl rfl)
theorem dX5_four_15 : decode cX5_four 15 = .ok (.iload_n 1, 1) := dk_27 (dk_at dksX5_four_0 15 rfl rfl)
theorem dX5_four_16 : decode cX5_four 16 = .ok (.iload_n 2, 1) := dk_28 (dk_at dksX5_four_0 16 rfl rfl)
theorem dX5_four_17 : decode cX5_four 17 = .ok (.ishr, 1) := dk_122 (dk_at dksX5_four_0 17 rfl rfl)
theorem dX5_four_18 : decode cX5_four 18 = .ok (.sipush 255, 3) := dk_17 0 255 (dk_at dksX5_four_0 18 rfl rfl)
theorem dX5_four_21 : decode cX5_four 21 = .ok (.iand, 1) := dk_126 (dk_at dksX5_four_0 21 rfl rfl)
theorem dX5_four_22 : decode cX5_four 22 = .ok (.iastore, 1) := dk_79 (dk_at dksX5_four_0 22 rfl rfl)
theorem dX5_four_23 : decode cX5_four 23 = .ok (.aload_n 0, 1) := dk_42 (dk_at dksX5_four_0 23 rfl rfl)
theorem dX5_four_24 : decode cX5_four 24 = .ok (.dup, 1) := dk_89 (dk_at dksX5_four_1 0 rfl rfl)
theorem dX5_four_25 : decode cX5_four 25 = .ok (.getfield 237, 3) := dk_180 0 237 (dk_at dksX5_four_1 1 rfl rfl)
theorem dX5_four_28 : decode cX5_four 28 = .ok (.iconst 1, 1) := dk_4 (dk_at dksX5_four_1 4 rfl rfl)
theorem dX5_four_29 : decode cX5_four 29 = .ok (.iadd, 1) := dk_96 (dk_at dksX5_four_1 5 rfl rfl)
theorem dX5_four_30 : decode cX5_four 30 = .ok (.putfield 237, 3) := dk_181 0 237 (dk_at dksX5_four_1 6 rfl rfl)
theorem dX5_four_33 : decode cX5_four 33 = .ok (.iinc 2 (-8), 3) := dk_132 2 248 (dk_at dksX5_four_1 9 rfl rfl)
theorem dX5_four_36 : decode cX5_four 36 = .ok (.goto (-33), 3) := dk_167 255 223 (dk_at dksX5_four_1 12 rfl rfl)
theorem dX5_four_39 : decode cX5_four 39 = .ok (.return_, 1) := dk_177 (dk_at dksX5_four_1 15 rfl rfl)
abbrev cX5_end : ByteArray := prog_22_method_31_code
def yX5_end : MethodName := ⟨RX5, "end", "(I)I"⟩
def dkwX5_end_1 : List UInt8 := [27, 172]
abbrev dktX5_end_1 : List UInt8 := dkwX5_end_1 ++ []
def dkwX5_end_0 : List UInt8 := [42, 3, 181, 0, 174, 27, 155, 0, 11, 27, 42, 180, 0, 237, 164, 0, 5, 2, 172, 42, 27, 181, 0, 237]
abbrev dktX5_end_0 : List UInt8 := dkwX5_end_0 ++ dktX5_end_1
theorem dksX5_end_0 : cX5_end.data.toList.drop 0 = dktX5_end_0 := by decide +kernel
theorem dksX5_end_1 : cX5_end.data.toList.drop 24 = dktX5_end_1 := dk_seg dksX5_end_0 24 rfl rfl
theorem dX5_end_0 : decode cX5_end 0 = .ok (.aload_n 0, 1) := dk_42 (dk_at dksX5_end_0 0 rfl rfl)
theorem dX5_end_1 : decode cX5_end 1 = .ok (.iconst 0, 1) := dk_3 (dk_at dksX5_end_0 1 rfl rfl)
theorem dX5_end_2 : decode cX5_end 2 = .ok (.putfield 174, 3) := dk_181 0 174 (dk_at dksX5_end_0 2 rfl rfl)
theorem dX5_end_5 : decode cX5_end 5 = .ok (.iload_n 1, 1) := dk_27 (dk_at dksX5_end_0 5 rfl rfl)
theorem dX5_end_6 : decode cX5_end 6 = .ok (.ifCond .lt 11, 3) := dk_155 0 11 (dk_at dksX5_end_0 6 rfl rfl)
theorem dX5_end_9 : decode cX5_end 9 = .ok (.iload_n 1, 1) := dk_27 (dk_at dksX5_end_0 9 rfl rfl)
theorem dX5_end_10 : decode cX5_end 10 = .ok (.aload_n 0, 1) := dk_42 (dk_at dksX5_end_0 10 rfl rfl)
theorem dX5_end_11 : decode cX5_end 11 = .ok (.getfield 237, 3) := dk_180 0 237 (dk_at dksX5_end_0 11 rfl rfl)
theorem dX5_end_14 : decode cX5_end 14 = .ok (.if_icmp .le 5, 3) := dk_164 0 5 (dk_at dksX5_end_0 14 rfl rfl)
theorem dX5_end_17 : decode cX5_end 17 = .ok (.iconst (-1), 1) := dk_2 (dk_at dksX5_end_0 17 rfl rfl)
theorem dX5_end_18 : decode cX5_end 18 = .ok (.ireturn, 1) := dk_172 (dk_at dksX5_end_0 18 rfl rfl)
theorem dX5_end_19 : decode cX5_end 19 = .ok (.aload_n 0, 1) := dk_42 (dk_at dksX5_end_0 19 rfl rfl)
theorem dX5_end_20 : decode cX5_end 20 = .ok (.iload_n 1, 1) := dk_27 (dk_at dksX5_end_0 20 rfl rfl)
theorem dX5_end_21 : decode cX5_end 21 = .ok (.putfield 237, 3) := dk_181 0 237 (dk_at dksX5_end_0 21 rfl rfl)
theorem dX5_end_24 : decode cX5_end 24 = .ok (.iload_n 1, 1) := dk_27 (dk_at dksX5_end_1 0 rfl rfl)
theorem dX5_end_25 : decode cX5_end 25 = .ok (.ireturn, 1) := dk_172 (dk_at dksX5_end_1 1 rfl rfl)
abbrev cX5_fault : ByteArray := prog_22_method_40_code
def yX5_fault : MethodName := ⟨RX5, "fault", "()I"⟩
def dkwX5_fault_0 : List UInt8 := [42, 3, 181, 0, 174, 42, 180, 0, 38, 172]
abbrev dktX5_fault_0 : List UInt8 := dkwX5_fault_0 ++ []
theorem dksX5_fault_0 : cX5_fault.data.toList.drop 0 = dktX5_fault_0 := by decide +kernel
theorem dX5_fault_0 : decode cX5_fault 0 = .ok (.aload_n 0, 1) := dk_42 (dk_at dksX5_fault_0 0 rfl rfl)
theorem dX5_fault_1 : decode cX5_fault 1 = .ok (.iconst 0, 1) := dk_3 (dk_at dksX5_fault_0 1 rfl rfl)
theorem dX5_fault_2 : decode cX5_fault 2 = .ok (.putfield 174, 3) := dk_181 0 174 (dk_at dksX5_fault_0 2 rfl rfl)
theorem dX5_fault_5 : decode cX5_fault 5 = .ok (.aload_n 0, 1) := dk_42 (dk_at dksX5_fault_0 5 rfl rfl)
theorem dX5_fault_6 : decode cX5_fault 6 = .ok (.getfield 38, 3) := dk_180 0 38 (dk_at dksX5_fault_0 6 rfl rfl)
theorem dX5_fault_9 : decode cX5_fault 9 = .ok (.ireturn, 1) := dk_172 (dk_at dksX5_fault_0 9 rfl rfl)
abbrev cX5_law : ByteArray := prog_22_method_59_code
def yX5_law : MethodName := ⟨RX5, "law", "()I"⟩
def dkwX5_law_9 : List UInt8 := [42, 42, 180, 0, 13, 4, 46, 4, 100, 182, 0, 183, 172]
abbrev dktX5_law_9 : List UInt8 := dkwX5_law_9 ++ []
def dkwX5_law_8 : List UInt8 := [96, 42, 180, 0, 48, 28, 46, 79, 132, 2, 1, 167, 255, 205, 42, 180, 0, 13, 4, 92, 46, 4, 96, 79]
abbrev dktX5_law_8 : List UInt8 := dkwX5_law_8 ++ dktX5_law_9
def dkwX5_law_7 : List UInt8 := [5, 28, 104, 96, 42, 180, 0, 45, 28, 46, 79, 42, 180, 0, 13, 27, 16, 98, 96, 5, 28, 104, 96, 4]
abbrev dktX5_law_7 : List UInt8 := dkwX5_law_7 ++ dktX5_law_8
def dkwX5_law_6 : List UInt8 := [132, 2, 1, 167, 255, 226, 3, 61, 28, 42, 180, 1, 30, 162, 0, 49, 42, 180, 0, 13, 27, 16, 98, 96]
abbrev dktX5_law_6 : List UInt8 := dkwX5_law_6 ++ dktX5_law_7
def dkwX5_law_5 : List UInt8 := [180, 1, 122, 104, 162, 0, 25, 42, 180, 0, 13, 27, 5, 96, 28, 96, 42, 180, 0, 42, 28, 46, 79]
abbrev dktX5_law_5 : List UInt8 := dkwX5_law_5 ++ dktX5_law_6
def dkwX5_law_4 : List UInt8 := [46, 104, 96, 60, 42, 180, 0, 13, 27, 4, 96, 42, 180, 1, 122, 79, 3, 61, 28, 16, 8, 42]
abbrev dktX5_law_4 : List UInt8 := dkwX5_law_4 ++ dktX5_law_5
def dkwX5_law_3 : List UInt8 := [180, 0, 249, 153, 0, 10, 42, 16, 250, 182, 0, 183, 172, 17, 0, 140, 17, 3, 132, 42, 180, 0, 13, 4]
abbrev dktX5_law_3 : List UInt8 := dkwX5_law_3 ++ dktX5_law_4
def dkwX5_law_2 : List UInt8 := [182, 1, 64, 153, 0, 14, 42, 182, 0, 253, 42, 182, 1, 133, 167, 255, 232, 42, 182, 1, 136, 42]
abbrev dktX5_law_2 : List UInt8 := dkwX5_law_2 ++ dktX5_law_3
def dkwX5_law_1 : List UInt8 := [182, 0, 183, 172, 42, 3, 182, 1, 130, 42, 182, 1, 133, 42, 180, 0, 249, 154, 0, 23, 42, 16, 59]
abbrev dktX5_law_1 : List UInt8 := dkwX5_law_1 ++ dktX5_law_2
def dkwX5_law_0 : List UInt8 := [42, 3, 181, 0, 174, 42, 180, 0, 13, 4, 46, 16, 6, 160, 0, 15, 42, 3, 181, 0, 237, 42, 16, 251]
abbrev dktX5_law_0 : List UInt8 := dkwX5_law_0 ++ dktX5_law_1
theorem dksX5_law_0 : cX5_law.data.toList.drop 0 = dktX5_law_0 := by decide +kernel
theorem dksX5_law_1 : cX5_law.data.toList.drop 24 = dktX5_law_1 := dk_seg dksX5_law_0 24 rfl rfl
theorem dksX5_law_2 : cX5_law.data.toList.drop 47 = dktX5_law_2 := dk_seg dksX5_law_1 23 rfl rfl
theorem dksX5_law_3 : cX5_law.data.toList.drop 69 = dktX5_law_3 := dk_seg dksX5_law_2 22 rfl rfl
theorem dksX5_law_4 : cX5_law.data.toList.drop 93 = dktX5_law_4 := dk_seg dksX5_law_3 24 rfl rfl
theorem dksX5_law_5 : cX5_law.data.toList.drop 115 = dktX5_law_5 := dk_seg dksX5_law_4 22 rfl rfl
theorem dksX5_law_6 : cX5_law.data.toList.drop 138 = dktX5_law_6 := dk_seg dksX5_law_5 23 rfl rfl
theorem dksX5_law_7 : cX5_law.data.toList.drop 162 = dktX5_law_7 := dk_seg dksX5_law_6 24 rfl rfl
theorem dksX5_law_8 : cX5_law.data.toList.drop 186 = dktX5_law_8 := dk_seg dksX5_law_7 24 rfl rfl
theorem dksX5_law_9 : cX5_law.data.toList.drop 210 = dktX5_law_9 := dk_seg dksX5_law_8 24 rfl rfl
theorem dX5_law_0 : decode cX5_law 0 = .ok (.aload_n 0, 1) := dk_42 (dk_at dksX5_law_0 0 rfl rfl)
theorem dX5_law_1 : decode cX5_law 1 = .ok (.iconst 0, 1) := dk_3 (dk_at dksX5_law_0 1 rfl rfl)
theorem dX5_law_2 : decode cX5_law 2 = .ok (.putfield 174, 3) := dk_181 0 174 (dk_at dksX5_law_0 2 rfl rfl)
theorem dX5_law_5 : decode cX5_law 5 = .ok (.aload_n 0, 1) := dk_42 (dk_at dksX5_law_0 5 rfl rfl)
theorem dX5_law_6 : decode cX5_law 6 = .ok (.getfield 13, 3) := dk_180 0 13 (dk_at dksX5_law_0 6 rfl rfl)
theorem dX5_law_9 : decode cX5_law 9 = .ok (.iconst 1, 1) := dk_4 (dk_at dksX5_law_0 9 rfl rfl)
theorem dX5_law_10 : decode cX5_law 10 = .ok (.iaload, 1) := dk_46 (dk_at dksX5_law_0 10 rfl rfl)
theorem dX5_law_11 : decode cX5_law 11 = .ok (.bipush 6, 2) := dk_16 6 (dk_at dksX5_law_0 11 rfl rfl)
theorem dX5_law_13 : decode cX5_law 13 = .ok (.if_icmp .ne 15, 3) := dk_160 0 15 (dk_at dksX5_law_0 13 rfl rfl)
theorem dX5_law_16 : decode cX5_law 16 = .ok (.aload_n 0, 1) := dk_42 (dk_at dksX5_law_0 16 rfl rfl)
theorem dX5_law_17 : decode cX5_law 17 = .ok (.iconst 0, 1) := dk_3 (dk_at dksX5_law_0 17 rfl rfl)
theorem dX5_law_18 : decode cX5_law 18 = .ok (.putfield 237, 3) := dk_181 0 237 (dk_at dksX5_law_0 18 rfl rfl)
theorem dX5_law_21 : decode cX5_law 21 = .ok (.aload_n 0, 1) := dk_42 (dk_at dksX5_law_0 21 rfl rfl)
theorem dX5_law_22 : decode cX5_law 22 = .ok (.bipush (-5), 2) := dk_16 251 (dk_at dksX5_law_0 22 rfl rfl)
theorem dX5_law_24 : decode cX5_law 24 = .ok (.invokevirtual 183, 3) := dk_182 0 183 (dk_at dksX5_law_1 0 rfl rfl)
theorem dX5_law_27 : decode cX5_law 27 = .ok (.ireturn, 1) := dk_172 (dk_at dksX5_law_1 3 rfl rfl)
theorem dX5_law_28 : decode cX5_law 28 = .ok (.aload_n 0, 1) := dk_42 (dk_at dksX5_law_1 4 rfl rfl)
theorem dX5_law_29 : decode cX5_law 29 = .ok (.iconst 0, 1) := dk_3 (dk_at dksX5_law_1 5 rfl rfl)
theorem dX5_law_30 : decode cX5_law 30 = .ok (.invokevirtual 386, 3) := dk_182 1 130 (dk_at dksX5_law_1 6 rfl rfl)
theorem dX5_law_33 : decode cX5_law 33 = .ok (.aload_n 0, 1) := dk_42 (dk_at dksX5_law_1 9 rfl rfl)
theorem dX5_law_34 : decode cX5_law 34 = .ok (.invokevirtual 389, 3) := dk_182 1 133 (dk_at dksX5_law_1 10 rfl rfl)
theorem dX5_law_37 : decode cX5_law 37 = .ok (.aload_n 0, 1) := dk_42 (dk_at dksX5_law_1 13 rfl rfl)
theorem dX5_law_38 : decode cX5_law 38 = .ok (.getfield 249, 3) := dk_180 0 249 (dk_at dksX5_law_1 14 rfl rfl)
theorem dX5_law_41 : decode cX5_law 41 = .ok (.ifCond .ne 23, 3) := dk_154 0 23 (dk_at dksX5_law_1 17 rfl rfl)
theorem dX5_law_44 : decode cX5_law 44 = .ok (.aload_n 0, 1) := dk_42 (dk_at dksX5_law_1 20 rfl rfl)
theorem dX5_law_45 : decode cX5_law 45 = .ok (.bipush 59, 2) := dk_16 59 (dk_at dksX5_law_1 21 rfl rfl)
theorem dX5_law_47 : decode cX5_law 47 = .ok (.invokevirtual 320, 3) := dk_182 1 64 (dk_at dksX5_law_2 0 rfl rfl)
theorem dX5_law_50 : decode cX5_law 50 = .ok (.ifCond .eq 14, 3) := dk_153 0 14 (dk_at dksX5_law_2 3 rfl rfl)
theorem dX5_law_53 : decode cX5_law 53 = .ok (.aload_n 0, 1) := dk_42 (dk_at dksX5_law_2 6 rfl rfl)
theorem dX5_law_54 : decode cX5_law 54 = .ok (.invokevirtual 253, 3) := dk_182 0 253 (dk_at dksX5_law_2 7 rfl rfl)
theorem dX5_law_57 : decode cX5_law 57 = .ok (.aload_n 0, 1) := dk_42 (dk_at dksX5_law_2 10 rfl rfl)
theorem dX5_law_58 : decode cX5_law 58 = .ok (.invokevirtual 389, 3) := dk_182 1 133 (dk_at dksX5_law_2 11 rfl rfl)
theorem dX5_law_61 : decode cX5_law 61 = .ok (.goto (-24), 3) := dk_167 255 232 (dk_at dksX5_law_2 14 rfl rfl)
theorem dX5_law_64 : decode cX5_law 64 = .ok (.aload_n 0, 1) := dk_42 (dk_at dksX5_law_2 17 rfl rfl)
theorem dX5_law_65 : decode cX5_law 65 = .ok (.invokevirtual 392, 3) := dk_182 1 136 (dk_at dksX5_law_2 18 rfl rfl)
theorem dX5_law_68 : decode cX5_law 68 = .ok (.aload_n 0, 1) := dk_42 (dk_at dksX5_law_2 21 rfl rfl)
theorem dX5_law_69 : decode cX5_law 69 = .ok (.getfield 249, 3) := dk_180 0 249 (dk_at dksX5_law_3 0 rfl rfl)
theorem dX5_law_72 : decode cX5_law 72 = .ok (.ifCond .eq 10, 3) := dk_153 0 10 (dk_at dksX5_law_3 3 rfl rfl)
theorem dX5_law_75 : decode cX5_law 75 = .ok (.aload_n 0, 1) := dk_42 (dk_at dksX5_law_3 6 rfl rfl)
theorem dX5_law_76 : decode cX5_law 76 = .ok (.bipush (-6), 2) := dk_16 250 (dk_at dksX5_law_3 7 rfl rfl)
theorem dX5_law_78 : decode cX5_law 78 = .ok (.invokevirtual 183, 3) := dk_182 0 183 (dk_at dksX5_law_3 9 rfl rfl)
theorem dX5_law_81 : decode cX5_law 81 = .ok (.ireturn, 1) := dk_172 (dk_at dksX5_law_3 12 rfl rfl)
theorem dX5_law_82 : decode cX5_law 82 = .ok (.sipush 140, 3) := dk_17 0 140 (dk_at dksX5_law_3 13 rfl rfl)
theorem dX5_law_85 : decode cX5_law 85 = .ok (.sipush 900, 3) := dk_17 3 132 (dk_at dksX5_law_3 16 rfl rfl)
theorem dX5_law_88 : decode cX5_law 88 = .ok (.aload_n 0, 1) := dk_42 (dk_at dksX5_law_3 19 rfl rfl)
theorem dX5_law_89 : decode cX5_law 89 = .ok (.getfield 13, 3) := dk_180 0 13 (dk_at dksX5_law_3 20 rfl rfl)
theorem dX5_law_92 : decode cX5_law 92 = .ok (.iconst 1, 1) := dk_4 (dk_at dksX5_law_3 23 rfl rfl)
theorem dX5_law_93 : decode cX5_law 93 = .ok (.iaload, 1) := dk_46 (dk_at dksX5_law_4 0 rfl rfl)
theorem dX5_law_94 : decode cX5_law 94 = .ok (.imul, 1) := dk_104 (dk_at dksX5_law_4 1 rfl rfl)
theorem dX5_law_95 : decode cX5_law 95 = .ok (.iadd, 1) := dk_96 (dk_at dksX5_law_4 2 rfl rfl)
theorem dX5_law_96 : decode cX5_law 96 = .ok (.istore_n 1, 1) := dk_60 (dk_at dksX5_law_4 3 rfl rfl)
theorem dX5_law_97 : decode cX5_law 97 = .ok (.aload_n 0, 1) := dk_42 (dk_at dksX5_law_4 4 rfl rfl)
theorem dX5_law_98 : decode cX5_law 98 = .ok (.getfield 13, 3) := dk_180 0 13 (dk_at dksX5_law_4 5 rfl rfl)
theorem dX5_law_101 : decode cX5_law 101 = .ok (.iload_n 1, 1) := dk_27 (dk_at dksX5_law_4 8 rfl rfl)
theorem dX5_law_102 : decode cX5_law 102 = .ok (.iconst 1, 1) := dk_4 (dk_at dksX5_law_4 9 rfl rfl)
theorem dX5_law_103 : decode cX5_law 103 = .ok (.iadd, 1) := dk_96 (dk_at dksX5_law_4 10 rfl rfl)
theorem dX5_law_104 : decode cX5_law 104 = .ok (.aload_n 0, 1) := dk_42 (dk_at dksX5_law_4 11 rfl rfl)
theorem dX5_law_105 : decode cX5_law 105 = .ok (.getfield 378, 3) := dk_180 1 122 (dk_at dksX5_law_4 12 rfl rfl)
theorem dX5_law_108 : decode cX5_law 108 = .ok (.iastore, 1) := dk_79 (dk_at dksX5_law_4 15 rfl rfl)
theorem dX5_law_109 : decode cX5_law 109 = .ok (.iconst 0, 1) := dk_3 (dk_at dksX5_law_4 16 rfl rfl)
theorem dX5_law_110 : decode cX5_law 110 = .ok (.istore_n 2, 1) := dk_61 (dk_at dksX5_law_4 17 rfl rfl)
theorem dX5_law_111 : decode cX5_law 111 = .ok (.iload_n 2, 1) := dk_28 (dk_at dksX5_law_4 18 rfl rfl)
theorem dX5_law_112 : decode cX5_law 112 = .ok (.bipush 8, 2) := dk_16 8 (dk_at dksX5_law_4 19 rfl rfl)
theorem dX5_law_114 : decode cX5_law 114 = .ok (.aload_n 0, 1) := dk_42 (dk_at dksX5_law_4 21 rfl rfl)
theorem dX5_law_115 : decode cX5_law 115 = .ok (.getfield 378, 3) := dk_180 1 122 (dk_at dksX5_law_5 0 rfl rfl)
theorem dX5_law_118 : decode cX5_law 118 = .ok (.imul, 1) := dk_104 (dk_at dksX5_law_5 3 rfl rfl)
theorem dX5_law_119 : decode cX5_law 119 = .ok (.if_icmp .ge 25, 3) := dk_162 0 25 (dk_at dksX5_law_5 4 rfl rfl)
theorem dX5_law_122 : decode cX5_law 122 = .ok (.aload_n 0, 1) := dk_42 (dk_at dksX5_law_5 7 rfl rfl)
theorem dX5_law_123 : decode cX5_law 123 = .ok (.getfield 13, 3) := dk_180 0 13 (dk_at dksX5_law_5 8 rfl rfl)
theorem dX5_law_126 : decode cX5_law 126 = .ok (.iload_n 1, 1) := dk_27 (dk_at dksX5_law_5 11 rfl rfl)
theorem dX5_law_127 : decode cX5_law 127 = .ok (.iconst 2, 1) := dk_5 (dk_at dksX5_law_5 12 rfl rfl)
theorem dX5_law_128 : decode cX5_law 128 = .ok (.iadd, 1) := dk_96 (dk_at dksX5_law_5 13 rfl rfl)
theorem dX5_law_129 : decode cX5_law 129 = .ok (.iload_n 2, 1) := dk_28 (dk_at dksX5_law_5 14 rfl rfl)
theorem dX5_law_130 : decode cX5_law 130 = .ok (.iadd, 1) := dk_96 (dk_at dksX5_law_5 15 rfl rfl)
theorem dX5_law_131 : decode cX5_law 131 = .ok (.aload_n 0, 1) := dk_42 (dk_at dksX5_law_5 16 rfl rfl)
theorem dX5_law_132 : decode cX5_law 132 = .ok (.getfield 42, 3) := dk_180 0 42 (dk_at dksX5_law_5 17 rfl rfl)
theorem dX5_law_135 : decode cX5_law 135 = .ok (.iload_n 2, 1) := dk_28 (dk_at dksX5_law_5 20 rfl rfl)
theorem dX5_law_136 : decode cX5_law 136 = .ok (.iaload, 1) := dk_46 (dk_at dksX5_law_5 21 rfl rfl)
theorem dX5_law_137 : decode cX5_law 137 = .ok (.iastore, 1) := dk_79 (dk_at dksX5_law_5 22 rfl rfl)
theorem dX5_law_138 : decode cX5_law 138 = .ok (.iinc 2 1, 3) := dk_132 2 1 (dk_at dksX5_law_6 0 rfl rfl)
theorem dX5_law_141 : decode cX5_law 141 = .ok (.goto (-30), 3) := dk_167 255 226 (dk_at dksX5_law_6 3 rfl rfl)
theorem dX5_law_144 : decode cX5_law 144 = .ok (.iconst 0, 1) := dk_3 (dk_at dksX5_law_6 6 rfl rfl)
theorem dX5_law_145 : decode cX5_law 145 = .ok (.istore_n 2, 1) := dk_61 (dk_at dksX5_law_6 7 rfl rfl)
theorem dX5_law_146 : decode cX5_law 146 = .ok (.iload_n 2, 1) := dk_28 (dk_at dksX5_law_6 8 rfl rfl)
theorem dX5_law_147 : decode cX5_law 147 = .ok (.aload_n 0, 1) := dk_42 (dk_at dksX5_law_6 9 rfl rfl)
theorem dX5_law_148 : decode cX5_law 148 = .ok (.getfield 286, 3) := dk_180 1 30 (dk_at dksX5_law_6 10 rfl rfl)
theorem dX5_law_151 : decode cX5_law 151 = .ok (.if_icmp .ge 49, 3) := dk_162 0 49 (dk_at dksX5_law_6 13 rfl rfl)
theorem dX5_law_154 : decode cX5_law 154 = .ok (.aload_n 0, 1) := dk_42 (dk_at dksX5_law_6 16 rfl rfl)
theorem dX5_law_155 : decode cX5_law 155 = .ok (.getfield 13, 3) := dk_180 0 13 (dk_at dksX5_law_6 17 rfl rfl)
theorem dX5_law_158 : decode cX5_law 158 = .ok (.iload_n 1, 1) := dk_27 (dk_at dksX5_law_6 20 rfl rfl)
theorem dX5_law_159 : decode cX5_law 159 = .ok (.bipush 98, 2) := dk_16 98 (dk_at dksX5_law_6 21 rfl rfl)
theorem dX5_law_161 : decode cX5_law 161 = .ok (.iadd, 1) := dk_96 (dk_at dksX5_law_6 23 rfl rfl)
theorem dX5_law_162 : decode cX5_law 162 = .ok (.iconst 2, 1) := dk_5 (dk_at dksX5_law_7 0 rfl rfl)
theorem dX5_law_163 : decode cX5_law 163 = .ok (.iload_n 2, 1) := dk_28 (dk_at dksX5_law_7 1 rfl rfl)
theorem dX5_law_164 : decode cX5_law 164 = .ok (.imul, 1) := dk_104 (dk_at dksX5_law_7 2 rfl rfl)
theorem dX5_law_165 : decode cX5_law 165 = .ok (.iadd, 1) := dk_96 (dk_at dksX5_law_7 3 rfl rfl)
theorem dX5_law_166 : decode cX5_law 166 = .ok (.aload_n 0, 1) := dk_42 (dk_at dksX5_law_7 4 rfl rfl)
theorem dX5_law_167 : decode cX5_law 167 = .ok (.getfield 45, 3) := dk_180 0 45 (dk_at dksX5_law_7 5 rfl rfl)
theorem dX5_law_170 : decode cX5_law 170 = .ok (.iload_n 2, 1) := dk_28 (dk_at dksX5_law_7 8 rfl rfl)
theorem dX5_law_171 : decode cX5_law 171 = .ok (.iaload, 1) := dk_46 (dk_at dksX5_law_7 9 rfl rfl)
theorem dX5_law_172 : decode cX5_law 172 = .ok (.iastore, 1) := dk_79 (dk_at dksX5_law_7 10 rfl rfl)
theorem dX5_law_173 : decode cX5_law 173 = .ok (.aload_n 0, 1) := dk_42 (dk_at dksX5_law_7 11 rfl rfl)
theorem dX5_law_174 : decode cX5_law 174 = .ok (.getfield 13, 3) := dk_180 0 13 (dk_at dksX5_law_7 12 rfl rfl)
theorem dX5_law_177 : decode cX5_law 177 = .ok (.iload_n 1, 1) := dk_27 (dk_at dksX5_law_7 15 rfl rfl)
theorem dX5_law_178 : decode cX5_law 178 = .ok (.bipush 98, 2) := dk_16 98 (dk_at dksX5_law_7 16 rfl rfl)
theorem dX5_law_180 : decode cX5_law 180 = .ok (.iadd, 1) := dk_96 (dk_at dksX5_law_7 18 rfl rfl)
theorem dX5_law_181 : decode cX5_law 181 = .ok (.iconst 2, 1) := dk_5 (dk_at dksX5_law_7 19 rfl rfl)
theorem dX5_law_182 : decode cX5_law 182 = .ok (.iload_n 2, 1) := dk_28 (dk_at dksX5_law_7 20 rfl rfl)
theorem dX5_law_183 : decode cX5_law 183 = .ok (.imul, 1) := dk_104 (dk_at dksX5_law_7 21 rfl rfl)
theorem dX5_law_184 : decode cX5_law 184 = .ok (.iadd, 1) := dk_96 (dk_at dksX5_law_7 22 rfl rfl)
theorem dX5_law_185 : decode cX5_law 185 = .ok (.iconst 1, 1) := dk_4 (dk_at dksX5_law_7 23 rfl rfl)
theorem dX5_law_186 : decode cX5_law 186 = .ok (.iadd, 1) := dk_96 (dk_at dksX5_law_8 0 rfl rfl)
theorem dX5_law_187 : decode cX5_law 187 = .ok (.aload_n 0, 1) := dk_42 (dk_at dksX5_law_8 1 rfl rfl)
theorem dX5_law_188 : decode cX5_law 188 = .ok (.getfield 48, 3) := dk_180 0 48 (dk_at dksX5_law_8 2 rfl rfl)
theorem dX5_law_191 : decode cX5_law 191 = .ok (.iload_n 2, 1) := dk_28 (dk_at dksX5_law_8 5 rfl rfl)
theorem dX5_law_192 : decode cX5_law 192 = .ok (.iaload, 1) := dk_46 (dk_at dksX5_law_8 6 rfl rfl)
theorem dX5_law_193 : decode cX5_law 193 = .ok (.iastore, 1) := dk_79 (dk_at dksX5_law_8 7 rfl rfl)
theorem dX5_law_194 : decode cX5_law 194 = .ok (.iinc 2 1, 3) := dk_132 2 1 (dk_at dksX5_law_8 8 rfl rfl)
theorem dX5_law_197 : decode cX5_law 197 = .ok (.goto (-51), 3) := dk_167 255 205 (dk_at dksX5_law_8 11 rfl rfl)
theorem dX5_law_200 : decode cX5_law 200 = .ok (.aload_n 0, 1) := dk_42 (dk_at dksX5_law_8 14 rfl rfl)
theorem dX5_law_201 : decode cX5_law 201 = .ok (.getfield 13, 3) := dk_180 0 13 (dk_at dksX5_law_8 15 rfl rfl)
theorem dX5_law_204 : decode cX5_law 204 = .ok (.iconst 1, 1) := dk_4 (dk_at dksX5_law_8 18 rfl rfl)
theorem dX5_law_205 : decode cX5_law 205 = .ok (.dup2, 1) := dk_92 (dk_at dksX5_law_8 19 rfl rfl)
theorem dX5_law_206 : decode cX5_law 206 = .ok (.iaload, 1) := dk_46 (dk_at dksX5_law_8 20 rfl rfl)
theorem dX5_law_207 : decode cX5_law 207 = .ok (.iconst 1, 1) := dk_4 (dk_at dksX5_law_8 21 rfl rfl)
theorem dX5_law_208 : decode cX5_law 208 = .ok (.iadd, 1) := dk_96 (dk_at dksX5_law_8 22 rfl rfl)
theorem dX5_law_209 : decode cX5_law 209 = .ok (.iastore, 1) := dk_79 (dk_at dksX5_law_8 23 rfl rfl)
theorem dX5_law_210 : decode cX5_law 210 = .ok (.aload_n 0, 1) := dk_42 (dk_at dksX5_law_9 0 rfl rfl)
theorem dX5_law_211 : decode cX5_law 211 = .ok (.aload_n 0, 1) := dk_42 (dk_at dksX5_law_9 1 rfl rfl)
theorem dX5_law_212 : decode cX5_law 212 = .ok (.getfield 13, 3) := dk_180 0 13 (dk_at dksX5_law_9 2 rfl rfl)
theorem dX5_law_215 : decode cX5_law 215 = .ok (.iconst 1, 1) := dk_4 (dk_at dksX5_law_9 5 rfl rfl)
theorem dX5_law_216 : decode cX5_law 216 = .ok (.iaload, 1) := dk_46 (dk_at dksX5_law_9 6 rfl rfl)
theorem dX5_law_217 : decode cX5_law 217 = .ok (.iconst 1, 1) := dk_4 (dk_at dksX5_law_9 7 rfl rfl)
theorem dX5_law_218 : decode cX5_law 218 = .ok (.isub, 1) := dk_100 (dk_at dksX5_law_9 8 rfl rfl)
theorem dX5_law_219 : decode cX5_law 219 = .ok (.invokevirtual 183, 3) := dk_182 0 183 (dk_at dksX5_law_9 9 rfl rfl)
theorem dX5_law_222 : decode cX5_law 222 = .ok (.ireturn, 1) := dk_172 (dk_at dksX5_law_9 12 rfl rfl)
abbrev cX5_beginText : ByteArray := prog_22_method_56_code
def yX5_beginText : MethodName := ⟨RX5, "beginText", "(Z)V"⟩
def dkwX5_beginText_1 : List UInt8 := [177]
abbrev dktX5_beginText_1 : List UInt8 := dkwX5_beginText_1 ++ []
def dkwX5_beginText_0 : List UInt8 := [42, 27, 181, 1, 70, 42, 182, 1, 119, 42, 3, 181, 1, 122, 42, 3, 181, 1, 30, 42, 3, 181, 1, 61]
abbrev dktX5_beginText_0 : List UInt8 := dkwX5_beginText_0 ++ dktX5_beginText_1
theorem dksX5_beginText_0 : cX5_beginText.data.toList.drop 0 = dktX5_beginText_0 := by decide +kernel
theorem dksX5_beginText_1 : cX5_beginText.data.toList.drop 24 = dktX5_beginText_1 := dk_seg dksX5_beginText_0 24 rfl rfl
theorem dX5_beginText_0 : decode cX5_beginText 0 = .ok (.aload_n 0, 1) := dk_42 (dk_at dksX5_beginText_0 0 rfl rfl)
theorem dX5_beginText_1 : decode cX5_beginText 1 = .ok (.iload_n 1, 1) := dk_27 (dk_at dksX5_beginText_0 1 rfl rfl)
theorem dX5_beginText_2 : decode cX5_beginText 2 = .ok (.putfield 326, 3) := dk_181 1 70 (dk_at dksX5_beginText_0 2 rfl rfl)
theorem dX5_beginText_5 : decode cX5_beginText 5 = .ok (.aload_n 0, 1) := dk_42 (dk_at dksX5_beginText_0 5 rfl rfl)
theorem dX5_beginText_6 : decode cX5_beginText 6 = .ok (.invokevirtual 375, 3) := dk_182 1 119 (dk_at dksX5_beginText_0 6 rfl rfl)
theorem dX5_beginText_9 : decode cX5_beginText 9 = .ok (.aload_n 0, 1) := dk_42 (dk_at dksX5_beginText_0 9 rfl rfl)
theorem dX5_beginText_10 : decode cX5_beginText 10 = .ok (.iconst 0, 1) := dk_3 (dk_at dksX5_beginText_0 10 rfl rfl)
theorem dX5_beginText_11 : decode cX5_beginText 11 = .ok (.putfield 378, 3) := dk_181 1 122 (dk_at dksX5_beginText_0 11 rfl rfl)
theorem dX5_beginText_14 : decode cX5_beginText 14 = .ok (.aload_n 0, 1) := dk_42 (dk_at dksX5_beginText_0 14 rfl rfl)
theorem dX5_beginText_15 : decode cX5_beginText 15 = .ok (.iconst 0, 1) := dk_3 (dk_at dksX5_beginText_0 15 rfl rfl)
theorem dX5_beginText_16 : decode cX5_beginText 16 = .ok (.putfield 286, 3) := dk_181 1 30 (dk_at dksX5_beginText_0 16 rfl rfl)
theorem dX5_beginText_19 : decode cX5_beginText 19 = .ok (.aload_n 0, 1) := dk_42 (dk_at dksX5_beginText_0 19 rfl rfl)
theorem dX5_beginText_20 : decode cX5_beginText 20 = .ok (.iconst 0, 1) := dk_3 (dk_at dksX5_beginText_0 20 rfl rfl)
theorem dX5_beginText_21 : decode cX5_beginText 21 = .ok (.putfield 317, 3) := dk_181 1 61 (dk_at dksX5_beginText_0 21 rfl rfl)
theorem dX5_beginText_24 : decode cX5_beginText 24 = .ok (.return_, 1) := dk_177 (dk_at dksX5_beginText_1 0 rfl rfl)
abbrev cX5_begin : ByteArray := prog_22_method_34_code
def yX5_begin : MethodName := ⟨RX5, "begin", "()V"⟩
def dkwX5_begin_0 : List UInt8 := [42, 3, 181, 0, 246, 42, 3, 181, 0, 249, 42, 2, 181, 0, 38, 42, 182, 0, 253, 177]
abbrev dktX5_begin_0 : List UInt8 := dkwX5_begin_0 ++ []
theorem dksX5_begin_0 : cX5_begin.data.toList.drop 0 = dktX5_begin_0 := by decide +kernel
theorem dX5_begin_0 : decode cX5_begin 0 = .ok (.aload_n 0, 1) := dk_42 (dk_at dksX5_begin_0 0 rfl rfl)
theorem dX5_begin_1 : decode cX5_begin 1 = .ok (.iconst 0, 1) := dk_3 (dk_at dksX5_begin_0 1 rfl rfl)
theorem dX5_begin_2 : decode cX5_begin 2 = .ok (.putfield 246, 3) := dk_181 0 246 (dk_at dksX5_begin_0 2 rfl rfl)
theorem dX5_begin_5 : decode cX5_begin 5 = .ok (.aload_n 0, 1) := dk_42 (dk_at dksX5_begin_0 5 rfl rfl)
theorem dX5_begin_6 : decode cX5_begin 6 = .ok (.iconst 0, 1) := dk_3 (dk_at dksX5_begin_0 6 rfl rfl)
theorem dX5_begin_7 : decode cX5_begin 7 = .ok (.putfield 249, 3) := dk_181 0 249 (dk_at dksX5_begin_0 7 rfl rfl)
theorem dX5_begin_10 : decode cX5_begin 10 = .ok (.aload_n 0, 1) := dk_42 (dk_at dksX5_begin_0 10 rfl rfl)
theorem dX5_begin_11 : decode cX5_begin 11 = .ok (.iconst (-1), 1) := dk_2 (dk_at dksX5_begin_0 11 rfl rfl)
theorem dX5_begin_12 : decode cX5_begin 12 = .ok (.putfield 38, 3) := dk_181 0 38 (dk_at dksX5_begin_0 12 rfl rfl)
theorem dX5_begin_15 : decode cX5_begin 15 = .ok (.aload_n 0, 1) := dk_42 (dk_at dksX5_begin_0 15 rfl rfl)
theorem dX5_begin_16 : decode cX5_begin 16 = .ok (.invokevirtual 253, 3) := dk_182 0 253 (dk_at dksX5_begin_0 16 rfl rfl)
theorem dX5_begin_19 : decode cX5_begin 19 = .ok (.return_, 1) := dk_177 (dk_at dksX5_begin_0 19 rfl rfl)
abbrev cX5_nextToken : ByteArray := prog_22_method_35_code
def yX5_nextToken : MethodName := ⟨RX5, "nextToken", "()V"⟩
def dkwX5_nextToken_14 : List UInt8 := [181, 0, 246, 167, 255, 167, 177]
abbrev dktX5_nextToken_14 : List UInt8 := dkwX5_nextToken_14 ++ []
def dkwX5_nextToken_13 : List UInt8 := [180, 0, 35, 42, 180, 0, 246, 46, 133, 97, 20, 1, 24, 101, 181, 1, 3, 42, 89, 180, 0, 246, 4, 96]
abbrev dktX5_nextToken_13 : List UInt8 := dkwX5_nextToken_13 ++ dktX5_nextToken_14
def dkwX5_nextToken_12 : List UInt8 := [20, 1, 22, 148, 158, 0, 10, 42, 180, 1, 3, 167, 0, 26, 42, 180, 1, 3, 20, 0, 235, 105, 42]
abbrev dktX5_nextToken_12 : List UInt8 := dkwX5_nextToken_12 ++ dktX5_nextToken_13
def dkwX5_nextToken_11 : List UInt8 := [162, 0, 76, 42, 180, 0, 35, 42, 180, 0, 246, 46, 184, 1, 10, 153, 0, 61, 42, 42, 180, 1, 3]
abbrev dktX5_nextToken_11 : List UInt8 := dkwX5_nextToken_11 ++ dktX5_nextToken_12
def dkwX5_nextToken_10 : List UInt8 := [4, 96, 181, 0, 246, 167, 255, 165, 42, 180, 1, 13, 5, 160, 0, 87, 42, 180, 0, 246, 42, 180, 0, 237]
abbrev dktX5_nextToken_10 : List UInt8 := dkwX5_nextToken_10 ++ dktX5_nextToken_11
def dkwX5_nextToken_9 : List UInt8 := [180, 0, 246, 46, 133, 97, 20, 1, 18, 101, 167, 0, 6, 20, 1, 20, 181, 1, 3, 42, 89, 180, 0, 246]
abbrev dktX5_nextToken_9 : List UInt8 := dkwX5_nextToken_9 ++ dktX5_nextToken_10
def dkwX5_nextToken_8 : List UInt8 := [180, 1, 0, 100, 16, 10, 162, 0, 29, 42, 180, 1, 3, 20, 1, 16, 105, 42, 180, 0, 35, 42]
abbrev dktX5_nextToken_8 : List UInt8 := dkwX5_nextToken_8 ++ dktX5_nextToken_9
def dkwX5_nextToken_7 : List UInt8 := [162, 0, 78, 42, 180, 0, 35, 42, 180, 0, 246, 46, 184, 1, 7, 153, 0, 63, 42, 42, 180, 0, 246, 42]
abbrev dktX5_nextToken_7 : List UInt8 := dkwX5_nextToken_7 ++ dktX5_nextToken_8
def dkwX5_nextToken_6 : List UInt8 := [180, 0, 246, 4, 96, 181, 0, 246, 42, 180, 1, 13, 4, 160, 0, 89, 42, 180, 0, 246, 42, 180, 0, 237]
abbrev dktX5_nextToken_6 : List UInt8 := dkwX5_nextToken_6 ++ dktX5_nextToken_7
def dkwX5_nextToken_5 : List UInt8 := [180, 1, 13, 6, 160, 0, 27, 42, 42, 180, 0, 35, 42, 180, 1, 0, 46, 133, 181, 1, 3, 42, 89]
abbrev dktX5_nextToken_5 : List UInt8 := dkwX5_nextToken_5 ++ dktX5_nextToken_6
def dkwX5_nextToken_4 : List UInt8 := [180, 0, 35, 42, 180, 1, 0, 46, 184, 1, 10, 153, 0, 7, 5, 167, 0, 4, 6, 181, 1, 13, 42]
abbrev dktX5_nextToken_4 : List UInt8 := dkwX5_nextToken_4 ++ dktX5_nextToken_5
def dkwX5_nextToken_3 : List UInt8 := [167, 0, 42, 42, 180, 0, 35, 42, 180, 1, 0, 46, 184, 1, 7, 153, 0, 7, 4, 167, 0, 23, 42]
abbrev dktX5_nextToken_3 : List UInt8 := dkwX5_nextToken_3 ++ dktX5_nextToken_4
def dkwX5_nextToken_2 : List UInt8 := [180, 1, 0, 181, 0, 246, 42, 9, 181, 1, 3, 42, 42, 180, 1, 0, 42, 180, 0, 237, 160, 0, 7, 3]
abbrev dktX5_nextToken_2 : List UInt8 := dkwX5_nextToken_2 ++ dktX5_nextToken_3
def dkwX5_nextToken_1 : List UInt8 := [180, 1, 0, 46, 16, 32, 160, 0, 16, 42, 89, 180, 1, 0, 4, 96, 181, 1, 0, 167, 255, 221, 42, 42]
abbrev dktX5_nextToken_1 : List UInt8 := dkwX5_nextToken_1 ++ dktX5_nextToken_2
def dkwX5_nextToken_0 : List UInt8 := [42, 42, 180, 0, 246, 181, 1, 0, 42, 180, 1, 0, 42, 180, 0, 237, 162, 0, 30, 42, 180, 0, 35, 42]
abbrev dktX5_nextToken_0 : List UInt8 := dkwX5_nextToken_0 ++ dktX5_nextToken_1
theorem dksX5_nextToken_0 : cX5_nextToken.data.toList.drop 0 = dktX5_nextToken_0 := by decide +kernel
theorem dksX5_nextToken_1 : cX5_nextToken.data.toList.drop 24 = dktX5_nextToken_1 := dk_seg dksX5_nextToken_0 24 rfl rfl
theorem dksX5_nextToken_2 : cX5_nextToken.data.toList.drop 48 = dktX5_nextToken_2 := dk_seg dksX5_nextToken_1 24 rfl rfl
theorem dksX5_nextToken_3 : cX5_nextToken.data.toList.drop 72 = dktX5_nextToken_3 := dk_seg dksX5_nextToken_2 24 rfl rfl
theorem dksX5_nextToken_4 : cX5_nextToken.data.toList.drop 95 = dktX5_nextToken_4 := dk_seg dksX5_nextToken_3 23 rfl rfl
theorem dksX5_nextToken_5 : cX5_nextToken.data.toList.drop 118 = dktX5_nextToken_5 := dk_seg dksX5_nextToken_4 23 rfl rfl
theorem dksX5_nextToken_6 : cX5_nextToken.data.toList.drop 141 = dktX5_nextToken_6 := dk_seg dksX5_nextToken_5 23 rfl rfl
theorem dksX5_nextToken_7 : cX5_nextToken.data.toList.drop 165 = dktX5_nextToken_7 := dk_seg dksX5_nextToken_6 24 rfl rfl
theorem dksX5_nextToken_8 : cX5_nextToken.data.toList.drop 189 = dktX5_nextToken_8 := dk_seg dksX5_nextToken_7 24 rfl rfl
theorem dksX5_nextToken_9 : cX5_nextToken.data.toList.drop 211 = dktX5_nextToken_9 := dk_seg dksX5_nextToken_8 22 rfl rfl
theorem dksX5_nextToken_10 : cX5_nextToken.data.toList.drop 235 = dktX5_nextToken_10 := dk_seg dksX5_nextToken_9 24 rfl rfl
theorem dksX5_nextToken_11 : cX5_nextToken.data.toList.drop 259 = dktX5_nextToken_11 := dk_seg dksX5_nextToken_10 24 rfl rfl
theorem dksX5_nextToken_12 : cX5_nextToken.data.toList.drop 282 = dktX5_nextToken_12 := dk_seg dksX5_nextToken_11 23 rfl rfl
theorem dksX5_nextToken_13 : cX5_nextToken.data.toList.drop 305 = dktX5_nextToken_13 := dk_seg dksX5_nextToken_12 23 rfl rfl
theorem dksX5_nextToken_14 : cX5_nextToken.data.toList.drop 329 = dktX5_nextToken_14 := dk_seg dksX5_nextToken_13 24 rfl rfl
theorem dX5_nextToken_0 : decode cX5_nextToken 0 = .ok (.aload_n 0, 1) := dk_42 (dk_at dksX5_nextToken_0 0 rfl rfl)
theorem dX5_nextToken_1 : decode cX5_nextToken 1 = .ok (.aload_n 0, 1) := dk_42 (dk_at dksX5_nextToken_0 1 rfl rfl)
theorem dX5_nextToken_2 : decode cX5_nextToken 2 = .ok (.getfield 246, 3) := dk_180 0 246 (dk_at dksX5_nextToken_0 2 rfl rfl)
theorem dX5_nextToken_5 : decode cX5_nextToken 5 = .ok (.putfield 256, 3) := dk_181 1 0 (dk_at dksX5_nextToken_0 5 rfl rfl)
theorem dX5_nextToken_8 : decode cX5_nextToken 8 = .ok (.aload_n 0, 1) := dk_42 (dk_at dksX5_nextToken_0 8 rfl rfl)
theorem dX5_nextToken_9 : decode cX5_nextToken 9 = .ok (.getfield 256, 3) := dk_180 1 0 (dk_at dksX5_nextToken_0 9 rfl rfl)
theorem dX5_nextToken_12 : decode cX5_nextToken 12 = .ok (.aload_n 0, 1) := dk_42 (dk_at dksX5_nextToken_0 12 rfl rfl)
theorem dX5_nextToken_13 : decode cX5_nextToken 13 = .ok (.getfield 237, 3) := dk_180 0 237 (dk_at dksX5_nextToken_0 13 rfl rfl)
theorem dX5_nextToken_16 : decode cX5_nextToken 16 = .ok (.if_icmp .ge 30, 3) := dk_162 0 30 (dk_at dksX5_nextToken_0 16 rfl rfl)
theorem dX5_nextToken_19 : decode cX5_nextToken 19 = .ok (.aload_n 0, 1) := dk_42 (dk_at dksX5_nextToken_0 19 rfl rfl)
theorem dX5_nextToken_20 : decode cX5_nextToken 20 = .ok (.getfield 35, 3) := dk_180 0 35 (dk_at dksX5_nextToken_0 20 rfl rfl)
theorem dX5_nextToken_23 : decode cX5_nextToken 23 = .ok (.aload_n 0, 1) := dk_42 (dk_at dksX5_nextToken_0 23 rfl rfl)
theorem dX5_nextToken_24 : decode cX5_nextToken 24 = .ok (.getfield 256, 3) := dk_180 1 0 (dk_at dksX5_nextToken_1 0 rfl rfl)
theorem dX5_nextToken_27 : decode cX5_nextToken 27 = .ok (.iaload, 1) := dk_46 (dk_at dksX5_nextToken_1 3 rfl rfl)
theorem dX5_nextToken_28 : decode cX5_nextToken 28 = .ok (.bipush 32, 2) := dk_16 32 (dk_at dksX5_nextToken_1 4 rfl rfl)
theorem dX5_nextToken_30 : decode cX5_nextToken 30 = .ok (.if_icmp .ne 16, 3) := dk_160 0 16 (dk_at dksX5_nextToken_1 6 rfl rfl)
theorem dX5_nextToken_33 : decode cX5_nextToken 33 = .ok (.aload_n 0, 1) := dk_42 (dk_at dksX5_nextToken_1 9 rfl rfl)
theorem dX5_nextToken_34 : decode cX5_nextToken 34 = .ok (.dup, 1) := dk_89 (dk_at dksX5_nextToken_1 10 rfl rfl)
theorem dX5_nextToken_35 : decode cX5_nextToken 35 = .ok (.getfield 256, 3) := dk_180 1 0 (dk_at dksX5_nextToken_1 11 rfl rfl)
theorem dX5_nextToken_38 : decode cX5_nextToken 38 = .ok (.iconst 1, 1) := dk_4 (dk_at dksX5_nextToken_1 14 rfl rfl)
theorem dX5_nextToken_39 : decode cX5_nextToken 39 = .ok (.iadd, 1) := dk_96 (dk_at dksX5_nextToken_1 15 rfl rfl)
theorem dX5_nextToken_40 : decode cX5_nextToken 40 = .ok (.putfield 256, 3) := dk_181 1 0 (dk_at dksX5_nextToken_1 16 rfl rfl)
theorem dX5_nextToken_43 : decode cX5_nextToken 43 = .ok (.goto (-35), 3) := dk_167 255 221 (dk_at dksX5_nextToken_1 19 rfl rfl)
theorem dX5_nextToken_46 : decode cX5_nextToken 46 = .ok (.aload_n 0, 1) := dk_42 (dk_at dksX5_nextToken_1 22 rfl rfl)
theorem dX5_nextToken_47 : decode cX5_nextToken 47 = .ok (.aload_n 0, 1) := dk_42 (dk_at dksX5_nextToken_1 23 rfl rfl)
theorem dX5_nextToken_48 : decode cX5_nextToken 48 = .ok (.getfield 256, 3) := dk_180 1 0 (dk_at dksX5_nextToken_2 0 rfl rfl)
theorem dX5_nextToken_51 : decode cX5_nextToken 51 = .ok (.putfield 246, 3) := dk_181 0 246 (dk_at dksX5_nextToken_2 3 rfl rfl)
theorem dX5_nextToken_54 : decode cX5_nextToken 54 = .ok (.aload_n 0, 1) := dk_42 (dk_at dksX5_nextToken_2 6 rfl rfl)
theorem dX5_nextToken_55 : decode cX5_nextToken 55 = .ok (.lconst 0, 1) := dk_9 (dk_at dksX5_nextToken_2 7 rfl rfl)
theorem dX5_nextToken_56 : decode cX5_nextToken 56 = .ok (.putfield 259, 3) := dk_181 1 3 (dk_at dksX5_nextToken_2 8 rfl rfl)
theorem dX5_nextToken_59 : decode cX5_nextToken 59 = .ok (.aload_n 0, 1) := dk_42 (dk_at dksX5_nextToken_2 11 rfl rfl)
theorem dX5_nextToken_60 : decode cX5_nextToken 60 = .ok (.aload_n 0, 1) := dk_42 (dk_at dksX5_nextToken_2 12 rfl rfl)
theorem dX5_nextToken_61 : decode cX5_nextToken 61 = .ok (.getfield 256, 3) := dk_180 1 0 (dk_at dksX5_nextToken_2 13 rfl rfl)
theorem dX5_nextToken_64 : decode cX5_nextToken 64 = .ok (.aload_n 0, 1) := dk_42 (dk_at dksX5_nextToken_2 16 rfl rfl)
theorem dX5_nextToken_65 : decode cX5_nextToken 65 = .ok (.getfield 237, 3) := dk_180 0 237 (dk_at dksX5_nextToken_2 17 rfl rfl)
theorem dX5_nextToken_68 : decode cX5_nextToken 68 = .ok (.if_icmp .ne 7, 3) := dk_160 0 7 (dk_at dksX5_nextToken_2 20 rfl rfl)
theorem dX5_nextToken_71 : decode cX5_nextToken 71 = .ok (.iconst 0, 1) := dk_3 (dk_at dksX5_nextToken_2 23 rfl rfl)
theorem dX5_nextToken_72 : decode cX5_nextToken 72 = .ok (.goto 42, 3) := dk_167 0 42 (dk_at dksX5_nextToken_3 0 rfl rfl)
theorem dX5_nextToken_75 : decode cX5_nextToken 75 = .ok (.aload_n 0, 1) := dk_42 (dk_at dksX5_nextToken_3 3 rfl rfl)
theorem dX5_nextToken_76 : decode cX5_nextToken 76 = .ok (.getfield 35, 3) := dk_180 0 35 (dk_at dksX5_nextToken_3 4 rfl rfl)
theorem dX5_nextToken_79 : decode cX5_nextToken 79 = .ok (.aload_n 0, 1) := dk_42 (dk_at dksX5_nextToken_3 7 rfl rfl)
theorem dX5_nextToken_80 : decode cX5_nextToken 80 = .ok (.getfield 256, 3) := dk_180 1 0 (dk_at dksX5_nextToken_3 8 rfl rfl)
theorem dX5_nextToken_83 : decode cX5_nextToken 83 = .ok (.iaload, 1) := dk_46 (dk_at dksX5_nextToken_3 11 rfl rfl)
theorem dX5_nextToken_84 : decode cX5_nextToken 84 = .ok (.invokestatic 263, 3) := dk_184 1 7 (dk_at dksX5_nextToken_3 12 rfl rfl)
theorem dX5_nextToken_87 : decode cX5_nextToken 87 = .ok (.ifCond .eq 7, 3) := dk_153 0 7 (dk_at dksX5_nextToken_3 15 rfl rfl)
theorem dX5_nextToken_90 : decode cX5_nextToken 90 = .ok (.iconst 1, 1) := dk_4 (dk_at dksX5_nextToken_3 18 rfl rfl)
theorem dX5_nextToken_91 : decode cX5_nextToken 91 = .ok (.goto 23, 3) := dk_167 0 23 (dk_at dksX5_nextToken_3 19 rfl rfl)
theorem dX5_nextToken_94 : decode cX5_nextToken 94 = .ok (.aload_n 0, 1) := dk_42 (dk_at dksX5_nextToken_3 22 rfl rfl)
theorem dX5_nextToken_95 : decode cX5_nextToken 95 = .ok (.getfield 35, 3) := dk_180 0 35 (dk_at dksX5_nextToken_4 0 rfl rfl)
theorem dX5_nextToken_98 : decode cX5_nextToken 98 = .ok (.aload_n 0, 1) := dk_42 (dk_at dksX5_nextToken_4 3 rfl rfl)
theorem dX5_nextToken_99 : decode cX5_nextToken 99 = .ok (.getfield 256, 3) := dk_180 1 0 (dk_at dksX5_nextToken_4 4 rfl rfl)
theorem dX5_nextToken_102 : decode cX5_nextToken 102 = .ok (.iaload, 1) := dk_46 (dk_at dksX5_nextToken_4 7 rfl rfl)
theorem dX5_nextToken_103 : decode cX5_nextToken 103 = .ok (.invokestatic 266, 3) := dk_184 1 10 (dk_at dksX5_nextToken_4 8 rfl rfl)
theorem dX5_nextToken_106 : decode cX5_nextToken 106 = .ok (.ifCond .eq 7, 3) := dk_153 0 7 (dk_at dksX5_nextToken_4 11 rfl rfl)
theorem dX5_nextToken_109 : decode cX5_nextToken 109 = .ok (.iconst 2, 1) := dk_5 (dk_at dksX5_nextToken_4 14 rfl rfl)
theorem dX5_nextToken_110 : decode cX5_nextToken 110 = .ok (.goto 4, 3) := dk_167 0 4 (dk_at dksX5_nextToken_4 15 rfl rfl)
theorem dX5_nextToken_113 : decode cX5_nextToken 113 = .ok (.iconst 3, 1) := dk_6 (dk_at dksX5_nextToken_4 18 rfl rfl)
theorem dX5_nextToken_114 : decode cX5_nextToken 114 = .ok (.putfield 269, 3) := dk_181 1 13 (dk_at dksX5_nextToken_4 19 rfl rfl)
theorem dX5_nextToken_117 : decode cX5_nextToken 117 = .ok (.aload_n 0, 1) := dk_42 (dk_at dksX5_nextToken_4 22 rfl rfl)
theorem dX5_nextToken_118 : decode cX5_nextToken 118 = .ok (.getfield 269, 3) := dk_180 1 13 (dk_at dksX5_nextToken_5 0 rfl rfl)
theorem dX5_nextToken_121 : decode cX5_nextToken 121 = .ok (.iconst 3, 1) := dk_6 (dk_at dksX5_nextToken_5 3 rfl rfl)
theorem dX5_nextToken_122 : decode cX5_nextToken 122 = .ok (.if_icmp .ne 27, 3) := dk_160 0 27 (dk_at dksX5_nextToken_5 4 rfl rfl)
theorem dX5_nextToken_125 : decode cX5_nextToken 125 = .ok (.aload_n 0, 1) := dk_42 (dk_at dksX5_nextToken_5 7 rfl rfl)
theorem dX5_nextToken_126 : decode cX5_nextToken 126 = .ok (.aload_n 0, 1) := dk_42 (dk_at dksX5_nextToken_5 8 rfl rfl)
theorem dX5_nextToken_127 : decode cX5_nextToken 127 = .ok (.getfield 35, 3) := dk_180 0 35 (dk_at dksX5_nextToken_5 9 rfl rfl)
theorem dX5_nextToken_130 : decode cX5_nextToken 130 = .ok (.aload_n 0, 1) := dk_42 (dk_at dksX5_nextToken_5 12 rfl rfl)
theorem dX5_nextToken_131 : decode cX5_nextToken 131 = .ok (.getfield 256, 3) := dk_180 1 0 (dk_at dksX5_nextToken_5 13 rfl rfl)
theorem dX5_nextToken_134 : decode cX5_nextToken 134 = .ok (.iaload, 1) := dk_46 (dk_at dksX5_nextToken_5 16 rfl rfl)
theorem dX5_nextToken_135 : decode cX5_nextToken 135 = .ok (.i2l, 1) := dk_133 (dk_at dksX5_nextToken_5 17 rfl rfl)
theorem dX5_nextToken_136 : decode cX5_nextToken 136 = .ok (.putfield 259, 3) := dk_181 1 3 (dk_at dksX5_nextToken_5 18 rfl rfl)
theorem dX5_nextToken_139 : decode cX5_nextToken 139 = .ok (.aload_n 0, 1) := dk_42 (dk_at dksX5_nextToken_5 21 rfl rfl)
theorem dX5_nextToken_140 : decode cX5_nextToken 140 = .ok (.dup, 1) := dk_89 (dk_at dksX5_nextToken_5 22 rfl rfl)
theorem dX5_nextToken_141 : decode cX5_nextToken 141 = .ok (.getfield 246, 3) := dk_180 0 246 (dk_at dksX5_nextToken_6 0 rfl rfl)
theorem dX5_nextToken_144 : decode cX5_nextToken 144 = .ok (.iconst 1, 1) := dk_4 (dk_at dksX5_nextToken_6 3 rfl rfl)
theorem dX5_nextToken_145 : decode cX5_nextToken 145 = .ok (.iadd, 1) := dk_96 (dk_at dksX5_nextToken_6 4 rfl rfl)
theorem dX5_nextToken_146 : decode cX5_nextToken 146 = .ok (.putfield 246, 3) := dk_181 0 246 (dk_at dksX5_nextToken_6 5 rfl rfl)
theorem dX5_nextToken_149 : decode cX5_nextToken 149 = .ok (.aload_n 0, 1) := dk_42 (dk_at dksX5_nextToken_6 8 rfl rfl)
theorem dX5_nextToken_150 : decode cX5_nextToken 150 = .ok (.getfield 269, 3) := dk_180 1 13 (dk_at dksX5_nextToken_6 9 rfl rfl)
theorem dX5_nextToken_153 : decode cX5_nextToken 153 = .ok (.iconst 1, 1) := dk_4 (dk_at dksX5_nextToken_6 12 rfl rfl)
theorem dX5_nextToken_154 : decode cX5_nextToken 154 = .ok (.if_icmp .ne 89, 3) := dk_160 0 89 (dk_at dksX5_nextToken_6 13 rfl rfl)
theorem dX5_nextToken_157 : decode cX5_nextToken 157 = .ok (.aload_n 0, 1) := dk_42 (dk_at dksX5_nextToken_6 16 rfl rfl)
theorem dX5_nextToken_158 : decode cX5_nextToken 158 = .ok (.getfield 246, 3) := dk_180 0 246 (dk_at dksX5_nextToken_6 17 rfl rfl)
theorem dX5_nextToken_161 : decode cX5_nextToken 161 = .ok (.aload_n 0, 1) := dk_42 (dk_at dksX5_nextToken_6 20 rfl rfl)
theorem dX5_nextToken_162 : decode cX5_nextToken 162 = .ok (.getfield 237, 3) := dk_180 0 237 (dk_at dksX5_nextToken_6 21 rfl rfl)
theorem dX5_nextToken_165 : decode cX5_nextToken 165 = .ok (.if_icmp .ge 78, 3) := dk_162 0 78 (dk_at dksX5_nextToken_7 0 rfl rfl)
theorem dX5_nextToken_168 : decode cX5_nextToken 168 = .ok (.aload_n 0, 1) := dk_42 (dk_at dksX5_nextToken_7 3 rfl rfl)
theorem dX5_nextToken_169 : decode cX5_nextToken 169 = .ok (.getfield 35, 3) := dk_180 0 35 (dk_at dksX5_nextToken_7 4 rfl rfl)
theorem dX5_nextToken_172 : decode cX5_nextToken 172 = .ok (.aload_n 0, 1) := dk_42 (dk_at dksX5_nextToken_7 7 rfl rfl)
theorem dX5_nextToken_173 : decode cX5_nextToken 173 = .ok (.getfield 246, 3) := dk_180 0 246 (dk_at dksX5_nextToken_7 8 rfl rfl)
theorem dX5_nextToken_176 : decode cX5_nextToken 176 = .ok (.iaload, 1) := dk_46 (dk_at dksX5_nextToken_7 11 rfl rfl)
theorem dX5_nextToken_177 : decode cX5_nextToken 177 = .ok (.invokestatic 263, 3) := dk_184 1 7 (dk_at dksX5_nextToken_7 12 rfl rfl)
theorem dX5_nextToken_180 : decode cX5_nextToken 180 = .ok (.ifCond .eq 63, 3) := dk_153 0 63 (dk_at dksX5_nextToken_7 15 rfl rfl)
theorem dX5_nextToken_183 : decode cX5_nextToken 183 = .ok (.aload_n 0, 1) := dk_42 (dk_at dksX5_nextToken_7 18 rfl rfl)
theorem dX5_nextToken_184 : decode cX5_nextToken 184 = .ok (.aload_n 0, 1) := dk_42 (dk_at dksX5_nextToken_7 19 rfl rfl)
theorem dX5_nextToken_185 : decode cX5_nextToken 185 = .ok (.getfield 246, 3) := dk_180 0 246 (dk_at dksX5_nextToken_7 20 rfl rfl)
theorem dX5_nextToken_188 : decode cX5_nextToken 188 = .ok (.aload_n 0, 1) := dk_42 (dk_at dksX5_nextToken_7 23 rfl rfl)
theorem dX5_nextToken_189 : decode cX5_nextToken 189 = .ok (.getfield 256, 3) := dk_180 1 0 (dk_at dksX5_nextToken_8 0 rfl rfl)
theorem dX5_nextToken_192 : decode cX5_nextToken 192 = .ok (.isub, 1) := dk_100 (dk_at dksX5_nextToken_8 3 rfl rfl)
theorem dX5_nextToken_193 : decode cX5_nextToken 193 = .ok (.bipush 10, 2) := dk_16 10 (dk_at dksX5_nextToken_8 4 rfl rfl)
theorem dX5_nextToken_195 : decode cX5_nextToken 195 = .ok (.if_icmp .ge 29, 3) := dk_162 0 29 (dk_at dksX5_nextToken_8 6 rfl rfl)
theorem dX5_nextToken_198 : decode cX5_nextToken 198 = .ok (.aload_n 0, 1) := dk_42 (dk_at dksX5_nextToken_8 9 rfl rfl)
theorem dX5_nextToken_199 : decode cX5_nextToken 199 = .ok (.getfield 259, 3) := dk_180 1 3 (dk_at dksX5_nextToken_8 10 rfl rfl)
theorem dX5_nextToken_202 : decode cX5_nextToken 202 = .ok (.ldc2_w 272, 3) := dk_20 1 16 (dk_at dksX5_nextToken_8 13 rfl rfl)
theorem dX5_nextToken_205 : decode cX5_nextToken 205 = .ok (.lmul, 1) := dk_105 (dk_at dksX5_nextToken_8 16 rfl rfl)
theorem dX5_nextToken_206 : decode cX5_nextToken 206 = .ok (.aload_n 0, 1) := dk_42 (dk_at dksX5_nextToken_8 17 rfl rfl)
theorem dX5_nextToken_207 : decode cX5_nextToken 207 = .ok (.getfield 35, 3) := dk_180 0 35 (dk_at dksX5_nextToken_8 18 rfl rfl)
theorem dX5_nextToken_210 : decode cX5_nextToken 210 = .ok (.aload_n 0, 1) := dk_42 (dk_at dksX5_nextToken_8 21 rfl rfl)
theorem dX5_nextToken_211 : decode cX5_nextToken 211 = .ok (.getfield 246, 3) := dk_180 0 246 (dk_at dksX5_nextToken_9 0 rfl rfl)
theorem dX5_nextToken_214 : decode cX5_nextToken 214 = .ok (.iaload, 1) := dk_46 (dk_at dksX5_nextToken_9 3 rfl rfl)
theorem dX5_nextToken_215 : decode cX5_nextToken 215 = .ok (.i2l, 1) := dk_133 (dk_at dksX5_nextToken_9 4 rfl rfl)
theorem dX5_nextToken_216 : decode cX5_nextToken 216 = .ok (.ladd, 1) := dk_97 (dk_at dksX5_nextToken_9 5 rfl rfl)
theorem dX5_nextToken_217 : decode cX5_nextToken 217 = .ok (.ldc2_w 274, 3) := dk_20 1 18 (dk_at dksX5_nextToken_9 6 rfl rfl)
theorem dX5_nextToken_220 : decode cX5_nextToken 220 = .ok (.lsub, 1) := dk_101 (dk_at dksX5_nextToken_9 9 rfl rfl)
theorem dX5_nextToken_221 : decode cX5_nextToken 221 = .ok (.goto 6, 3) := dk_167 0 6 (dk_at dksX5_nextToken_9 10 rfl rfl)
theorem dX5_nextToken_224 : decode cX5_nextToken 224 = .ok (.ldc2_w 276, 3) := dk_20 1 20 (dk_at dksX5_nextToken_9 13 rfl rfl)
theorem dX5_nextToken_227 : decode cX5_nextToken 227 = .ok (.putfield 259, 3) := dk_181 1 3 (dk_at dksX5_nextToken_9 16 rfl rfl)
theorem dX5_nextToken_230 : decode cX5_nextToken 230 = .ok (.aload_n 0, 1) := dk_42 (dk_at dksX5_nextToken_9 19 rfl rfl)
theorem dX5_nextToken_231 : decode cX5_nextToken 231 = .ok (.dup, 1) := dk_89 (dk_at dksX5_nextToken_9 20 rfl rfl)
theorem dX5_nextToken_232 : decode cX5_nextToken 232 = .ok (.getfield 246, 3) := dk_180 0 246 (dk_at dksX5_nextToken_9 21 rfl rfl)
theorem dX5_nextToken_235 : decode cX5_nextToken 235 = .ok (.iconst 1, 1) := dk_4 (dk_at dksX5_nextToken_10 0 rfl rfl)
theorem dX5_nextToken_236 : decode cX5_nextToken 236 = .ok (.iadd, 1) := dk_96 (dk_at dksX5_nextToken_10 1 rfl rfl)
theorem dX5_nextToken_237 : decode cX5_nextToken 237 = .ok (.putfield 246, 3) := dk_181 0 246 (dk_at dksX5_nextToken_10 2 rfl rfl)
theorem dX5_nextToken_240 : decode cX5_nextToken 240 = .ok (.goto (-91), 3) := dk_167 255 165 (dk_at dksX5_nextToken_10 5 rfl rfl)
theorem dX5_nextToken_243 : decode cX5_nextToken 243 = .ok (.aload_n 0, 1) := dk_42 (dk_at dksX5_nextToken_10 8 rfl rfl)
theorem dX5_nextToken_244 : decode cX5_nextToken 244 = .ok (.getfield 269, 3) := dk_180 1 13 (dk_at dksX5_nextToken_10 9 rfl rfl)
theorem dX5_nextToken_247 : decode cX5_nextToken 247 = .ok (.iconst 2, 1) := dk_5 (dk_at dksX5_nextToken_10 12 rfl rfl)
theorem dX5_nextToken_248 : decode cX5_nextToken 248 = .ok (.if_icmp .ne 87, 3) := dk_160 0 87 (dk_at dksX5_nextToken_10 13 rfl rfl)
theorem dX5_nextToken_251 : decode cX5_nextToken 251 = .ok (.aload_n 0, 1) := dk_42 (dk_at dksX5_nextToken_10 16 rfl rfl)
theorem dX5_nextToken_252 : decode cX5_nextToken 252 = .ok (.getfield 246, 3) := dk_180 0 246 (dk_at dksX5_nextToken_10 17 rfl rfl)
theorem dX5_nextToken_255 : decode cX5_nextToken 255 = .ok (.aload_n 0, 1) := dk_42 (dk_at dksX5_nextToken_10 20 rfl rfl)
theorem dX5_nextToken_256 : decode cX5_nextToken 256 = .ok (.getfield 237, 3) := dk_180 0 237 (dk_at dksX5_nextToken_10 21 rfl rfl)
theorem dX5_nextToken_259 : decode cX5_nextToken 259 = .ok (.if_icmp .ge 76, 3) := dk_162 0 76 (dk_at dksX5_nextToken_11 0 rfl rfl)
theorem dX5_nextToken_262 : decode cX5_nextToken 262 = .ok (.aload_n 0, 1) := dk_42 (dk_at dksX5_nextToken_11 3 rfl rfl)
theorem dX5_nextToken_263 : decode cX5_nextToken 263 = .ok (.getfield 35, 3) := dk_180 0 35 (dk_at dksX5_nextToken_11 4 rfl rfl)
theorem dX5_nextToken_266 : decode cX5_nextToken 266 = .ok (.aload_n 0, 1) := dk_42 (dk_at dksX5_nextToken_11 7 rfl rfl)
theorem dX5_nextToken_267 : decode cX5_nextToken 267 = .ok (.getfield 246, 3) := dk_180 0 246 (dk_at dksX5_nextToken_11 8 rfl rfl)
theorem dX5_nextToken_270 : decode cX5_nextToken 270 = .ok (.iaload, 1) := dk_46 (dk_at dksX5_nextToken_11 11 rfl rfl)
theorem dX5_nextToken_271 : decode cX5_nextToken 271 = .ok (.invokestatic 266, 3) := dk_184 1 10 (dk_at dksX5_nextToken_11 12 rfl rfl)
theorem dX5_nextToken_274 : decode cX5_nextToken 274 = .ok (.ifCond .eq 61, 3) := dk_153 0 61 (dk_at dksX5_nextToken_11 15 rfl rfl)
theorem dX5_nextToken_277 : decode cX5_nextToken 277 = .ok (.aload_n 0, 1) := dk_42 (dk_at dksX5_nextToken_11 18 rfl rfl)
theorem dX5_nextToken_278 : decode cX5_nextToken 278 = .ok (.aload_n 0, 1) := dk_42 (dk_at dksX5_nextToken_11 19 rfl rfl)
theorem dX5_nextToken_279 : decode cX5_nextToken 279 = .ok (.getfield 259, 3) := dk_180 1 3 (dk_at dksX5_nextToken_11 20 rfl rfl)
theorem dX5_nextToken_282 : decode cX5_nextToken 282 = .ok (.ldc2_w 278, 3) := dk_20 1 22 (dk_at dksX5_nextToken_12 0 rfl rfl)
theorem dX5_nextToken_285 : decode cX5_nextToken 285 = .ok (.lcmp, 1) := dk_148 (dk_at dksX5_nextToken_12 3 rfl rfl)
theorem dX5_nextToken_286 : decode cX5_nextToken 286 = .ok (.ifCond .le 10, 3) := dk_158 0 10 (dk_at dksX5_nextToken_12 4 rfl rfl)
theorem dX5_nextToken_289 : decode cX5_nextToken 289 = .ok (.aload_n 0, 1) := dk_42 (dk_at dksX5_nextToken_12 7 rfl rfl)
theorem dX5_nextToken_290 : decode cX5_nextToken 290 = .ok (.getfield 259, 3) := dk_180 1 3 (dk_at dksX5_nextToken_12 8 rfl rfl)
theorem dX5_nextToken_293 : decode cX5_nextToken 293 = .ok (.goto 26, 3) := dk_167 0 26 (dk_at dksX5_nextToken_12 11 rfl rfl)
theorem dX5_nextToken_296 : decode cX5_nextToken 296 = .ok (.aload_n 0, 1) := dk_42 (dk_at dksX5_nextToken_12 14 rfl rfl)
theorem dX5_nextToken_297 : decode cX5_nextToken 297 = .ok (.getfield 259, 3) := dk_180 1 3 (dk_at dksX5_nextToken_12 15 rfl rfl)
theorem dX5_nextToken_300 : decode cX5_nextToken 300 = .ok (.ldc2_w 235, 3) := dk_20 0 235 (dk_at dksX5_nextToken_12 18 rfl rfl)
theorem dX5_nextToken_303 : decode cX5_nextToken 303 = .ok (.lmul, 1) := dk_105 (dk_at dksX5_nextToken_12 21 rfl rfl)
theorem dX5_nextToken_304 : decode cX5_nextToken 304 = .ok (.aload_n 0, 1) := dk_42 (dk_at dksX5_nextToken_12 22 rfl rfl)
theorem dX5_nextToken_305 : decode cX5_nextToken 305 = .ok (.getfield 35, 3) := dk_180 0 35 (dk_at dksX5_nextToken_13 0 rfl rfl)
theorem dX5_nextToken_308 : decode cX5_nextToken 308 = .ok (.aload_n 0, 1) := dk_42 (dk_at dksX5_nextToken_13 3 rfl rfl)
theorem dX5_nextToken_309 : decode cX5_nextToken 309 = .ok (.getfield 246, 3) := dk_180 0 246 (dk_at dksX5_nextToken_13 4 rfl rfl)
theorem dX5_nextToken_312 : decode cX5_nextToken 312 = .ok (.iaload, 1) := dk_46 (dk_at dksX5_nextToken_13 7 rfl rfl)
theorem dX5_nextToken_313 : decode cX5_nextToken 313 = .ok (.i2l, 1) := dk_133 (dk_at dksX5_nextToken_13 8 rfl rfl)
theorem dX5_nextToken_314 : decode cX5_nextToken 314 = .ok (.ladd, 1) := dk_97 (dk_at dksX5_nextToken_13 9 rfl rfl)
theorem dX5_nextToken_315 : decode cX5_nextToken 315 = .ok (.ldc2_w 280, 3) := dk_20 1 24 (dk_at dksX5_nextToken_13 10 rfl rfl)
theorem dX5_nextToken_318 : decode cX5_nextToken 318 = .ok (.lsub, 1) := dk_101 (dk_at dksX5_nextToken_13 13 rfl rfl)
theorem dX5_nextToken_319 : decode cX5_nextToken 319 = .ok (.putfield 259, 3) := dk_181 1 3 (dk_at dksX5_nextToken_13 14 rfl rfl)
theorem dX5_nextToken_322 : decode cX5_nextToken 322 = .ok (.aload_n 0, 1) := dk_42 (dk_at dksX5_nextToken_13 17 rfl rfl)
theorem dX5_nextToken_323 : decode cX5_nextToken 323 = .ok (.dup, 1) := dk_89 (dk_at dksX5_nextToken_13 18 rfl rfl)
theorem dX5_nextToken_324 : decode cX5_nextToken 324 = .ok (.getfield 246, 3) := dk_180 0 246 (dk_at dksX5_nextToken_13 19 rfl rfl)
theorem dX5_nextToken_327 : decode cX5_nextToken 327 = .ok (.iconst 1, 1) := dk_4 (dk_at dksX5_nextToken_13 22 rfl rfl)
theorem dX5_nextToken_328 : decode cX5_nextToken 328 = .ok (.iadd, 1) := dk_96 (dk_at dksX5_nextToken_13 23 rfl rfl)
theorem dX5_nextToken_329 : decode cX5_nextToken 329 = .ok (.putfield 246, 3) := dk_181 0 246 (dk_at dksX5_nextToken_14 0 rfl rfl)
theorem dX5_nextToken_332 : decode cX5_nextToken 332 = .ok (.goto (-89), 3) := dk_167 255 167 (dk_at dksX5_nextToken_14 3 rfl rfl)
theorem dX5_nextToken_335 : decode cX5_nextToken 335 = .ok (.return_, 1) := dk_177 (dk_at dksX5_nextToken_14 6 rfl rfl)
abbrev cX5_isSmall : ByteArray := prog_22_method_32_code
def yX5_isSmall : MethodName := ⟨RX5, "isSmall", "(I)Z"⟩
def dkwX5_isSmall_0 : List UInt8 := [26, 16, 97, 161, 0, 13, 26, 16, 122, 163, 0, 7, 4, 167, 0, 4, 3, 172]
abbrev dktX5_isSmall_0 : List UInt8 := dkwX5_isSmall_0 ++ []
theorem dksX5_isSmall_0 : cX5_isSmall.data.toList.drop 0 = dktX5_isSmall_0 := by decide +kernel
theorem dX5_isSmall_0 : decode cX5_isSmall 0 = .ok (.iload_n 0, 1) := dk_26 (dk_at dksX5_isSmall_0 0 rfl rfl)
theorem dX5_isSmall_1 : decode cX5_isSmall 1 = .ok (.bipush 97, 2) := dk_16 97 (dk_at dksX5_isSmall_0 1 rfl rfl)
theorem dX5_isSmall_3 : decode cX5_isSmall 3 = .ok (.if_icmp .lt 13, 3) := dk_161 0 13 (dk_at dksX5_isSmall_0 3 rfl rfl)
theorem dX5_isSmall_6 : decode cX5_isSmall 6 = .ok (.iload_n 0, 1) := dk_26 (dk_at dksX5_isSmall_0 6 rfl rfl)
theorem dX5_isSmall_7 : decode cX5_isSmall 7 = .ok (.bipush 122, 2) := dk_16 122 (dk_at dksX5_isSmall_0 7 rfl rfl)
theorem dX5_isSmall_9 : decode cX5_isSmall 9 = .ok (.if_icmp .gt 7, 3) := dk_163 0 7 (dk_at dksX5_isSmall_0 9 rfl rfl)
theorem dX5_isSmall_12 : decode cX5_isSmall 12 = .ok (.iconst 1, 1) := dk_4 (dk_at dksX5_isSmall_0 12 rfl rfl)
theorem dX5_isSmall_13 : decode cX5_isSmall 13 = .ok (.goto 4, 3) := dk_167 0 4 (dk_at dksX5_isSmall_0 13 rfl rfl)
theorem dX5_isSmall_16 : decode cX5_isSmall 16 = .ok (.iconst 0, 1) := dk_3 (dk_at dksX5_isSmall_0 16 rfl rfl)
theorem dX5_isSmall_17 : decode cX5_isSmall 17 = .ok (.ireturn, 1) := dk_172 (dk_at dksX5_isSmall_0 17 rfl rfl)
abbrev cX5_isDigit : ByteArray := prog_22_method_33_code
def yX5_isDigit : MethodName := ⟨RX5, "isDigit", "(I)Z"⟩
def dkwX5_isDigit_0 : List UInt8 := [26, 16, 48, 161, 0, 13, 26, 16, 57, 163, 0, 7, 4, 167, 0, 4, 3, 172]
abbrev dktX5_isDigit_0 : List UInt8 := dkwX5_isDigit_0 ++ []
theorem dksX5_isDigit_0 : cX5_isDigit.data.toList.drop 0 = dktX5_isDigit_0 := by decide +kernel
theorem dX5_isDigit_0 : decode cX5_isDigit 0 = .ok (.iload_n 0, 1) := dk_26 (dk_at dksX5_isDigit_0 0 rfl rfl)
theorem dX5_isDigit_1 : decode cX5_isDigit 1 = .ok (.bipush 48, 2) := dk_16 48 (dk_at dksX5_isDigit_0 1 rfl rfl)
theorem dX5_isDigit_3 : decode cX5_isDigit 3 = .ok (.if_icmp .lt 13, 3) := dk_161 0 13 (dk_at dksX5_isDigit_0 3 rfl rfl)
theorem dX5_isDigit_6 : decode cX5_isDigit 6 = .ok (.iload_n 0, 1) := dk_26 (dk_at dksX5_isDigit_0 6 rfl rfl)
theorem dX5_isDigit_7 : decode cX5_isDigit 7 = .ok (.bipush 57, 2) := dk_16 57 (dk_at dksX5_isDigit_0 7 rfl rfl)
theorem dX5_isDigit_9 : decode cX5_isDigit 9 = .ok (.if_icmp .gt 7, 3) := dk_163 0 7 (dk_at dksX5_isDigit_0 9 rfl rfl)
theorem dX5_isDigit_12 : decode cX5_isDigit 12 = .ok (.iconst 1, 1) := dk_4 (dk_at dksX5_isDigit_0 12 rfl rfl)
theorem dX5_isDigit_13 : decode cX5_isDigit 13 = .ok (.goto 4, 3) := dk_167 0 4 (dk_at dksX5_isDigit_0 13 rfl rfl)
theorem dX5_isDigit_16 : decode cX5_isDigit 16 = .ok (.iconst 0, 1) := dk_3 (dk_at dksX5_isDigit_0 16 rfl rfl)
theorem dX5_isDigit_17 : decode cX5_isDigit 17 = .ok (.ireturn, 1) := dk_172 (dk_at dksX5_isDigit_0 17 rfl rfl)
abbrev cX5_readLaw : ByteArray := prog_22_method_58_code
def yX5_readLaw : MethodName := ⟨RX5, "readLaw", "()V"⟩
def dkwX5_readLaw_8 : List UInt8 := [182, 1, 125, 42, 180, 0, 42, 28, 16, 6, 96, 42, 180, 1, 30, 79, 177]
abbrev dktX5_readLaw_8 : List UInt8 := dkwX5_readLaw_8 ++ []
def dkwX5_readLaw_7 : List UInt8 := [180, 0, 249, 154, 0, 22, 42, 20, 1, 128, 182, 1, 51, 153, 0, 12, 42, 182, 0, 253, 42, 4]
abbrev dktX5_readLaw_7 : List UInt8 := dkwX5_readLaw_7 ++ dktX5_readLaw_8
def dkwX5_readLaw_6 : List UInt8 := [180, 0, 42, 28, 7, 96, 42, 180, 1, 30, 79, 42, 180, 0, 42, 28, 8, 96, 42, 180, 1, 30, 79, 42]
abbrev dktX5_readLaw_6 : List UInt8 := dkwX5_readLaw_6 ++ dktX5_readLaw_7
def dkwX5_readLaw_5 : List UInt8 := [180, 0, 42, 28, 6, 96, 42, 180, 1, 30, 79, 27, 6, 162, 0, 8, 42, 3, 182, 1, 125, 42]
abbrev dktX5_readLaw_5 : List UInt8 := dkwX5_readLaw_5 ++ dktX5_readLaw_6
def dkwX5_readLaw_4 : List UInt8 := [132, 3, 1, 167, 255, 238, 42, 180, 0, 42, 28, 27, 79, 42, 89, 180, 1, 122, 4, 96, 181, 1, 122, 42]
abbrev dktX5_readLaw_4 : List UInt8 := dkwX5_readLaw_4 ++ dktX5_readLaw_5
def dkwX5_readLaw_3 : List UInt8 := [180, 1, 122, 104, 61, 3, 62, 29, 16, 8, 162, 0, 18, 42, 180, 0, 42, 28, 29, 96, 3, 79]
abbrev dktX5_readLaw_3 : List UInt8 := dkwX5_readLaw_3 ++ dktX5_readLaw_4
def dkwX5_readLaw_2 : List UInt8 := [162, 0, 7, 4, 167, 0, 4, 3, 182, 1, 26, 42, 180, 0, 249, 153, 0, 4, 177, 16, 8, 42]
abbrev dktX5_readLaw_2 : List UInt8 := dkwX5_readLaw_2 ++ dktX5_readLaw_3
def dkwX5_readLaw_1 : List UInt8 := [167, 0, 4, 27, 60, 132, 2, 1, 167, 255, 229, 42, 27, 2, 159, 0, 16, 42, 180, 1, 122, 16, 12]
abbrev dktX5_readLaw_1 : List UInt8 := dkwX5_readLaw_1 ++ dktX5_readLaw_2
def dkwX5_readLaw_0 : List UInt8 := [2, 60, 3, 61, 28, 8, 162, 0, 28, 42, 42, 180, 0, 104, 28, 47, 182, 1, 51, 153, 0, 7, 28]
abbrev dktX5_readLaw_0 : List UInt8 := dkwX5_readLaw_0 ++ dktX5_readLaw_1
theorem dksX5_readLaw_0 : cX5_readLaw.data.toList.drop 0 = dktX5_readLaw_0 := by decide +kernel
theorem dksX5_readLaw_1 : cX5_readLaw.data.toList.drop 23 = dktX5_readLaw_1 := dk_seg dksX5_readLaw_0 23 rfl rfl
theorem dksX5_readLaw_2 : cX5_readLaw.data.toList.drop 46 = dktX5_readLaw_2 := dk_seg dksX5_readLaw_1 23 rfl rfl
theorem dksX5_readLaw_3 : cX5_readLaw.data.toList.drop 68 = dktX5_readLaw_3 := dk_seg dksX5_readLaw_2 22 rfl rfl
theorem dksX5_readLaw_4 : cX5_readLaw.data.toList.drop 90 = dktX5_readLaw_4 := dk_seg dksX5_readLaw_3 22 rfl rfl
theorem dksX5_readLaw_5 : cX5_readLaw.data.toList.drop 114 = dktX5_readLaw_5 := dk_seg dksX5_readLaw_4 24 rfl rfl
theorem dksX5_readLaw_6 : cX5_readLaw.data.toList.drop 136 = dktX5_readLaw_6 := dk_seg dksX5_readLaw_5 22 rfl rfl
theorem dksX5_readLaw_7 : cX5_readLaw.data.toList.drop 160 = dktX5_readLaw_7 := dk_seg dksX5_readLaw_6 24 rfl rfl
theorem dksX5_readLaw_8 : cX5_readLaw.data.toList.drop 182 = dktX5_readLaw_8 := dk_seg dksX5_readLaw_7 22 rfl rfl
theorem dX5_readLaw_0 : decode cX5_readLaw 0 = .ok (.iconst (-1), 1) := dk_2 (dk_at dksX5_readLaw_0 0 rfl rfl)
theorem dX5_readLaw_1 : decode cX5_readLaw 1 = .ok (.istore_n 1, 1) := dk_60 (dk_at dksX5_readLaw_0 1 rfl rfl)
theorem dX5_readLaw_2 : decode cX5_readLaw 2 = .ok (.iconst 0, 1) := dk_3 (dk_at dksX5_readLaw_0 2 rfl rfl)
theorem dX5_readLaw_3 : decode cX5_readLaw 3 = .ok (.istore_n 2, 1) := dk_61 (dk_at dksX5_readLaw_0 3 rfl rfl)
theorem dX5_readLaw_4 : decode cX5_readLaw 4 = .ok (.iload_n 2, 1) := dk_28 (dk_at dksX5_readLaw_0 4 rfl rfl)
theorem dX5_readLaw_5 : decode cX5_readLaw 5 = .ok (.iconst 5, 1) := dk_8 (dk_at dksX5_readLaw_0 5 rfl rfl)
theorem dX5_readLaw_6 : decode cX5_readLaw 6 = .ok (.if_icmp .ge 28, 3) := dk_162 0 28 (dk_at dksX5_readLaw_0 6 rfl rfl)
theorem dX5_readLaw_9 : decode cX5_readLaw 9 = .ok (.aload_n 0, 1) := dk_42 (dk_at dksX5_readLaw_0 9 rfl rfl)
theorem dX5_readLaw_10 : decode cX5_readLaw 10 = .ok (.aload_n 0, 1) := dk_42 (dk_at dksX5_readLaw_0 10 rfl rfl)
theorem dX5_readLaw_11 : decode cX5_readLaw 11 = .ok (.getfield 104, 3) := dk_180 0 104 (dk_at dksX5_readLaw_0 11 rfl rfl)
theorem dX5_readLaw_14 : decode cX5_readLaw 14 = .ok (.iload_n 2, 1) := dk_28 (dk_at dksX5_readLaw_0 14 rfl rfl)
theorem dX5_readLaw_15 : decode cX5_readLaw 15 = .ok (.laload, 1) := dk_47 (dk_at dksX5_readLaw_0 15 rfl rfl)
theorem dX5_readLaw_16 : decode cX5_readLaw 16 = .ok (.invokevirtual 307, 3) := dk_182 1 51 (dk_at dksX5_readLaw_0 16 rfl rfl)
theorem dX5_readLaw_19 : decode cX5_readLaw 19 = .ok (.ifCond .eq 7, 3) := dk_153 0 7 (dk_at dksX5_readLaw_0 19 rfl rfl)
theorem dX5_readLaw_22 : decode cX5_readLaw 22 = .ok (.iload_n 2, 1) := dk_28 (dk_at dksX5_readLaw_0 22 rfl rfl)
theorem dX5_readLaw_23 : decode cX5_readLaw 23 = .ok (.goto 4, 3) := dk_167 0 4 (dk_at dksX5_readLaw_1 0 rfl rfl)
theorem dX5_readLaw_26 : decode cX5_readLaw 26 = .ok (.iload_n 1, 1) := dk_27 (dk_at dksX5_readLaw_1 3 rfl rfl)
theorem dX5_readLaw_27 : decode cX5_readLaw 27 = .ok (.istore_n 1, 1) := dk_60 (dk_at dksX5_readLaw_1 4 rfl rfl)
theorem dX5_readLaw_28 : decode cX5_readLaw 28 = .ok (.iinc 2 1, 3) := dk_132 2 1 (dk_at dksX5_readLaw_1 5 rfl rfl)
theorem dX5_readLaw_31 : decode cX5_readLaw 31 = .ok (.goto (-27), 3) := dk_167 255 229 (dk_at dksX5_readLaw_1 8 rfl rfl)
theorem dX5_readLaw_34 : decode cX5_readLaw 34 = .ok (.aload_n 0, 1) := dk_42 (dk_at dksX5_readLaw_1 11 rfl rfl)
theorem dX5_readLaw_35 : decode cX5_readLaw 35 = .ok (.iload_n 1, 1) := dk_27 (dk_at dksX5_readLaw_1 12 rfl rfl)
theorem dX5_readLaw_36 : decode cX5_readLaw 36 = .ok (.iconst (-1), 1) := dk_2 (dk_at dksX5_readLaw_1 13 rfl rfl)
theorem dX5_readLaw_37 : decode cX5_readLaw 37 = .ok (.if_icmp .eq 16, 3) := dk_159 0 16 (dk_at dksX5_readLaw_1 14 rfl rfl)
theorem dX5_readLaw_40 : decode cX5_readLaw 40 = .ok (.aload_n 0, 1) := dk_42 (dk_at dksX5_readLaw_1 17 rfl rfl)
theorem dX5_readLaw_41 : decode cX5_readLaw 41 = .ok (.getfield 378, 3) := dk_180 1 122 (dk_at dksX5_readLaw_1 18 rfl rfl)
theorem dX5_readLaw_44 : decode cX5_readLaw 44 = .ok (.bipush 12, 2) := dk_16 12 (dk_at dksX5_readLaw_1 21 rfl rfl)
theorem dX5_readLaw_46 : decode cX5_readLaw 46 = .ok (.if_icmp .ge 7, 3) := dk_162 0 7 (dk_at dksX5_readLaw_2 0 rfl rfl)
theorem dX5_readLaw_49 : decode cX5_readLaw 49 = .ok (.iconst 1, 1) := dk_4 (dk_at dksX5_readLaw_2 3 rfl rfl)
theorem dX5_readLaw_50 : decode cX5_readLaw 50 = .ok (.goto 4, 3) := dk_167 0 4 (dk_at dksX5_readLaw_2 4 rfl rfl)
theorem dX5_readLaw_53 : decode cX5_readLaw 53 = .ok (.iconst 0, 1) := dk_3 (dk_at dksX5_readLaw_2 7 rfl rfl)
theorem dX5_readLaw_54 : decode cX5_readLaw 54 = .ok (.invokevirtual 282, 3) := dk_182 1 26 (dk_at dksX5_readLaw_2 8 rfl rfl)
theorem dX5_readLaw_57 : decode cX5_readLaw 57 = .ok (.aload_n 0, 1) := dk_42 (dk_at dksX5_readLaw_2 11 rfl rfl)
theorem dX5_readLaw_58 : decode cX5_readLaw 58 = .ok (.getfield 249, 3) := dk_180 0 249 (dk_at dksX5_readLaw_2 12 rfl rfl)
theorem dX5_readLaw_61 : decode cX5_readLaw 61 = .ok (.ifCond .eq 4, 3) := dk_153 0 4 (dk_at dksX5_readLaw_2 15 rfl rfl)
theorem dX5_readLaw_64 : decode cX5_readLaw 64 = .ok (.return_, 1) := dk_177 (dk_at dksX5_readLaw_2 18 rfl rfl)
theorem dX5_readLaw_65 : decode cX5_readLaw 65 = .ok (.bipush 8, 2) := dk_16 8 (dk_at dksX5_readLaw_2 19 rfl rfl)
theorem dX5_readLaw_67 : decode cX5_readLaw 67 = .ok (.aload_n 0, 1) := dk_42 (dk_at dksX5_readLaw_2 21 rfl rfl)
theorem dX5_readLaw_68 : decode cX5_readLaw 68 = .ok (.getfield 378, 3) := dk_180 1 122 (dk_at dksX5_readLaw_3 0 rfl rfl)
theorem dX5_readLaw_71 : decode cX5_readLaw 71 = .ok (.imul, 1) := dk_104 (dk_at dksX5_readLaw_3 3 rfl rfl)
theorem dX5_readLaw_72 : decode cX5_readLaw 72 = .ok (.istore_n 2, 1) := dk_61 (dk_at dksX5_readLaw_3 4 rfl rfl)
theorem dX5_readLaw_73 : decode cX5_readLaw 73 = .ok (.iconst 0, 1) := dk_3 (dk_at dksX5_readLaw_3 5 rfl rfl)
theorem dX5_readLaw_74 : decode cX5_readLaw 74 = .ok (.istore_n 3, 1) := dk_62 (dk_at dksX5_readLaw_3 6 rfl rfl)
theorem dX5_readLaw_75 : decode cX5_readLaw 75 = .ok (.iload_n 3, 1) := dk_29 (dk_at dksX5_readLaw_3 7 rfl rfl)
theorem dX5_readLaw_76 : decode cX5_readLaw 76 = .ok (.bipush 8, 2) := dk_16 8 (dk_at dksX5_readLaw_3 8 rfl rfl)
theorem dX5_readLaw_78 : decode cX5_readLaw 78 = .ok (.if_icmp .ge 18, 3) := dk_162 0 18 (dk_at dksX5_readLaw_3 10 rfl rfl)
theorem dX5_readLaw_81 : decode cX5_readLaw 81 = .ok (.aload_n 0, 1) := dk_42 (dk_at dksX5_readLaw_3 13 rfl rfl)
theorem dX5_readLaw_82 : decode cX5_readLaw 82 = .ok (.getfield 42, 3) := dk_180 0 42 (dk_at dksX5_readLaw_3 14 rfl rfl)
theorem dX5_readLaw_85 : decode cX5_readLaw 85 = .ok (.iload_n 2, 1) := dk_28 (dk_at dksX5_readLaw_3 17 rfl rfl)
theorem dX5_readLaw_86 : decode cX5_readLaw 86 = .ok (.iload_n 3, 1) := dk_29 (dk_at dksX5_readLaw_3 18 rfl rfl)
theorem dX5_readLaw_87 : decode cX5_readLaw 87 = .ok (.iadd, 1) := dk_96 (dk_at dksX5_readLaw_3 19 rfl rfl)
theorem dX5_readLaw_88 : decode cX5_readLaw 88 = .ok (.iconst 0, 1) := dk_3 (dk_at dksX5_readLaw_3 20 rfl rfl)
theorem dX5_readLaw_89 : decode cX5_readLaw 89 = .ok (.iastore, 1) := dk_79 (dk_at dksX5_readLaw_3 21 rfl rfl)
theorem dX5_readLaw_90 : decode cX5_readLaw 90 = .ok (.iinc 3 1, 3) := dk_132 3 1 (dk_at dksX5_readLaw_4 0 rfl rfl)
theorem dX5_readLaw_93 : decode cX5_readLaw 93 = .ok (.goto (-18), 3) := dk_167 255 238 (dk_at dksX5_readLaw_4 3 rfl rfl)
theorem dX5_readLaw_96 : decode cX5_readLaw 96 = .ok (.aload_n 0, 1) := dk_42 (dk_at dksX5_readLaw_4 6 rfl rfl)
theorem dX5_readLaw_97 : decode cX5_readLaw 97 = .ok (.getfield 42, 3) := dk_180 0 42 (dk_at dksX5_readLaw_4 7 rfl rfl)
theorem dX5_readLaw_100 : decode cX5_readLaw 100 = .ok (.iload_n 2, 1) := dk_28 (dk_at dksX5_readLaw_4 10 rfl rfl)
theorem dX5_readLaw_101 : decode cX5_readLaw 101 = .ok (.iload_n 1, 1) := dk_27 (dk_at dksX5_readLaw_4 11 rfl rfl)
theorem dX5_readLaw_102 : decode cX5_readLaw 102 = .ok (.iastore, 1) := dk_79 (dk_at dksX5_readLaw_4 12 rfl rfl)
theorem dX5_readLaw_103 : decode cX5_readLaw 103 = .ok (.aload_n 0, 1) := dk_42 (dk_at dksX5_readLaw_4 13 rfl rfl)
theorem dX5_readLaw_104 : decode cX5_readLaw 104 = .ok (.dup, 1) := dk_89 (dk_at dksX5_readLaw_4 14 rfl rfl)
theorem dX5_readLaw_105 : decode cX5_readLaw 105 = .ok (.getfield 378, 3) := dk_180 1 122 (dk_at dksX5_readLaw_4 15 rfl rfl)
theorem dX5_readLaw_108 : decode cX5_readLaw 108 = .ok (.iconst 1, 1) := dk_4 (dk_at dksX5_readLaw_4 18 rfl rfl)
theorem dX5_readLaw_109 : decode cX5_readLaw 109 = .ok (.iadd, 1) := dk_96 (dk_at dksX5_readLaw_4 19 rfl rfl)
theorem dX5_readLaw_110 : decode cX5_readLaw 110 = .ok (.putfield 378, 3) := dk_181 1 122 (dk_at dksX5_readLaw_4 20 rfl rfl)
theorem dX5_readLaw_113 : decode cX5_readLaw 113 = .ok (.aload_n 0, 1) := dk_42 (dk_at dksX5_readLaw_4 23 rfl rfl)
theorem dX5_readLaw_114 : decode cX5_readLaw 114 = .ok (.getfield 42, 3) := dk_180 0 42 (dk_at dksX5_readLaw_5 0 rfl rfl)
theorem dX5_readLaw_117 : decode cX5_readLaw 117 = .ok (.iload_n 2, 1) := dk_28 (dk_at dksX5_readLaw_5 3 rfl rfl)
theorem dX5_readLaw_118 : decode cX5_readLaw 118 = .ok (.iconst 3, 1) := dk_6 (dk_at dksX5_readLaw_5 4 rfl rfl)
theorem dX5_readLaw_119 : decode cX5_readLaw 119 = .ok (.iadd, 1) := dk_96 (dk_at dksX5_readLaw_5 5 rfl rfl)
theorem dX5_readLaw_120 : decode cX5_readLaw 120 = .ok (.aload_n 0, 1) := dk_42 (dk_at dksX5_readLaw_5 6 rfl rfl)
theorem dX5_readLaw_121 : decode cX5_readLaw 121 = .ok (.getfield 286, 3) := dk_180 1 30 (dk_at dksX5_readLaw_5 7 rfl rfl)
theorem dX5_readLaw_124 : decode cX5_readLaw 124 = .ok (.iastore, 1) := dk_79 (dk_at dksX5_readLaw_5 10 rfl rfl)
theorem dX5_readLaw_125 : decode cX5_readLaw 125 = .ok (.iload_n 1, 1) := dk_27 (dk_at dksX5_readLaw_5 11 rfl rfl)
theorem dX5_readLaw_126 : decode cX5_readLaw 126 = .ok (.iconst 3, 1) := dk_6 (dk_at dksX5_readLaw_5 12 rfl rfl)
theorem dX5_readLaw_127 : decode cX5_readLaw 127 = .ok (.if_icmp .ge 8, 3) := dk_162 0 8 (dk_at dksX5_readLaw_5 13 rfl rfl)
theorem dX5_readLaw_130 : decode cX5_readLaw 130 = .ok (.aload_n 0, 1) := dk_42 (dk_at dksX5_readLaw_5 16 rfl rfl)
theorem dX5_readLaw_131 : decode cX5_readLaw 131 = .ok (.iconst 0, 1) := dk_3 (dk_at dksX5_readLaw_5 17 rfl rfl)
theorem dX5_readLaw_132 : decode cX5_readLaw 132 = .ok (.invokevirtual 381, 3) := dk_182 1 125 (dk_at dksX5_readLaw_5 18 rfl rfl)
theorem dX5_readLaw_135 : decode cX5_readLaw 135 = .ok (.aload_n 0, 1) := dk_42 (dk_at dksX5_readLaw_5 21 rfl rfl)
theorem dX5_readLaw_136 : decode cX5_readLaw 136 = .ok (.getfield 42, 3) := dk_180 0 42 (dk_at dksX5_readLaw_6 0 rfl rfl)
theorem dX5_readLaw_139 : decode cX5_readLaw 139 = .ok (.iload_n 2, 1) := dk_28 (dk_at dksX5_readLaw_6 3 rfl rfl)
theorem dX5_readLaw_140 : decode cX5_readLaw 140 = .ok (.iconst 4, 1) := dk_7 (dk_at dksX5_readLaw_6 4 rfl rfl)
theorem dX5_readLaw_141 : decode cX5_readLaw 141 = .ok (.iadd, 1) := dk_96 (dk_at dksX5_readLaw_6 5 rfl rfl)
theorem dX5_readLaw_142 : decode cX5_readLaw 142 = .ok (.aload_n 0, 1) := dk_42 (dk_at dksX5_readLaw_6 6 rfl rfl)
theorem dX5_readLaw_143 : decode cX5_readLaw 143 = .ok (.getfield 286, 3) := dk_180 1 30 (dk_at dksX5_readLaw_6 7 rfl rfl)
theorem dX5_readLaw_146 : decode cX5_readLaw 146 = .ok (.iastore, 1) := dk_79 (dk_at dksX5_readLaw_6 10 rfl rfl)
theorem dX5_readLaw_147 : decode cX5_readLaw 147 = .ok (.aload_n 0, 1) := dk_42 (dk_at dksX5_readLaw_6 11 rfl rfl)
theorem dX5_readLaw_148 : decode cX5_readLaw 148 = .ok (.getfield 42, 3) := dk_180 0 42 (dk_at dksX5_readLaw_6 12 rfl rfl)
theorem dX5_readLaw_151 : decode cX5_readLaw 151 = .ok (.iload_n 2, 1) := dk_28 (dk_at dksX5_readLaw_6 15 rfl rfl)
theorem dX5_readLaw_152 : decode cX5_readLaw 152 = .ok (.iconst 5, 1) := dk_8 (dk_at dksX5_readLaw_6 16 rfl rfl)
theorem dX5_readLaw_153 : decode cX5_readLaw 153 = .ok (.iadd, 1) := dk_96 (dk_at dksX5_readLaw_6 17 rfl rfl)
theorem dX5_readLaw_154 : decode cX5_readLaw 154 = .ok (.aload_n 0, 1) := dk_42 (dk_at dksX5_readLaw_6 18 rfl rfl)
theorem dX5_readLaw_155 : decode cX5_readLaw 155 = .ok (.getfield 286, 3) := dk_180 1 30 (dk_at dksX5_readLaw_6 19 rfl rfl)
theorem dX5_readLaw_158 : decode cX5_readLaw 158 = .ok (.iastore, 1) := dk_79 (dk_at dksX5_readLaw_6 22 rfl rfl)
theorem dX5_readLaw_159 : decode cX5_readLaw 159 = .ok (.aload_n 0, 1) := dk_42 (dk_at dksX5_readLaw_6 23 rfl rfl)
theorem dX5_readLaw_160 : decode cX5_readLaw 160 = .ok (.getfield 249, 3) := dk_180 0 249 (dk_at dksX5_readLaw_7 0 rfl rfl)
theorem dX5_readLaw_163 : decode cX5_readLaw 163 = .ok (.ifCond .ne 22, 3) := dk_154 0 22 (dk_at dksX5_readLaw_7 3 rfl rfl)
theorem dX5_readLaw_166 : decode cX5_readLaw 166 = .ok (.aload_n 0, 1) := dk_42 (dk_at dksX5_readLaw_7 6 rfl rfl)
theorem dX5_readLaw_167 : decode cX5_readLaw 167 = .ok (.ldc2_w 384, 3) := dk_20 1 128 (dk_at dksX5_readLaw_7 7 rfl rfl)
theorem dX5_readLaw_170 : decode cX5_readLaw 170 = .ok (.invokevirtual 307, 3) := dk_182 1 51 (dk_at dksX5_readLaw_7 10 rfl rfl)
theorem dX5_readLaw_173 : decode cX5_readLaw 173 = .ok (.ifCond .eq 12, 3) := dk_153 0 12 (dk_at dksX5_readLaw_7 13 rfl rfl)
theorem dX5_readLaw_176 : decode cX5_readLaw 176 = .ok (.aload_n 0, 1) := dk_42 (dk_at dksX5_readLaw_7 16 rfl rfl)
theorem dX5_readLaw_177 : decode cX5_readLaw 177 = .ok (.invokevirtual 253, 3) := dk_182 0 253 (dk_at dksX5_readLaw_7 17 rfl rfl)
theorem dX5_readLaw_180 : decode cX5_readLaw 180 = .ok (.aload_n 0, 1) := dk_42 (dk_at dksX5_readLaw_7 20 rfl rfl)
theorem dX5_readLaw_181 : decode cX5_readLaw 181 = .ok (.iconst 1, 1) := dk_4 (dk_at dksX5_readLaw_7 21 rfl rfl)
theorem dX5_readLaw_182 : decode cX5_readLaw 182 = .ok (.invokevirtual 381, 3) := dk_182 1 125 (dk_at dksX5_readLaw_8 0 rfl rfl)
theorem dX5_readLaw_185 : decode cX5_readLaw 185 = .ok (.aload_n 0, 1) := dk_42 (dk_at dksX5_readLaw_8 3 rfl rfl)
theorem dX5_readLaw_186 : decode cX5_readLaw 186 = .ok (.getfield 42, 3) := dk_180 0 42 (dk_at dksX5_readLaw_8 4 rfl rfl)
theorem dX5_readLaw_189 : decode cX5_readLaw 189 = .ok (.iload_n 2, 1) := dk_28 (dk_at dksX5_readLaw_8 7 rfl rfl)
theorem dX5_readLaw_190 : decode cX5_readLaw 190 = .ok (.bipush 6, 2) := dk_16 6 (dk_at dksX5_readLaw_8 8 rfl rfl)
theorem dX5_readLaw_192 : decode cX5_readLaw 192 = .ok (.iadd, 1) := dk_96 (dk_at dksX5_readLaw_8 10 rfl rfl)
theorem dX5_readLaw_193 : decode cX5_readLaw 193 = .ok (.aload_n 0, 1) := dk_42 (dk_at dksX5_readLaw_8 11 rfl rfl)
theorem dX5_readLaw_194 : decode cX5_readLaw 194 = .ok (.getfield 286, 3) := dk_180 1 30 (dk_at dksX5_readLaw_8 12 rfl rfl)
theorem dX5_readLaw_197 : decode cX5_readLaw 197 = .ok (.iastore, 1) := dk_79 (dk_at dksX5_readLaw_8 15 rfl rfl)
theorem dX5_readLaw_198 : decode cX5_readLaw 198 = .ok (.return_, 1) := dk_177 (dk_at dksX5_readLaw_8 16 rfl rfl)
abbrev cX5_isWord : ByteArray := prog_22_method_36_code
def yX5_isWord : MethodName := ⟨RX5, "isWord", "(J)Z"⟩
def dkwX5_isWord_0 : List UInt8 := [42, 180, 1, 13, 4, 160, 0, 16, 42, 180, 1, 3, 31, 148, 154, 0, 7, 4, 167, 0, 4, 3, 172]
abbrev dktX5_isWord_0 : List UInt8 := dkwX5_isWord_0 ++ []
theorem dksX5_isWord_0 : cX5_isWord.data.toList.drop 0 = dktX5_isWord_0 := by decide +kernel
theorem dX5_isWord_0 : decode cX5_isWord 0 = .ok (.aload_n 0, 1) := dk_42 (dk_at dksX5_isWord_0 0 rfl rfl)
theorem dX5_isWord_1 : decode cX5_isWord 1 = .ok (.getfield 269, 3) := dk_180 1 13 (dk_at dksX5_isWord_0 1 rfl rfl)
theorem dX5_isWord_4 : decode cX5_isWord 4 = .ok (.iconst 1, 1) := dk_4 (dk_at dksX5_isWord_0 4 rfl rfl)
theorem dX5_isWord_5 : decode cX5_isWord 5 = .ok (.if_icmp .ne 16, 3) := dk_160 0 16 (dk_at dksX5_isWord_0 5 rfl rfl)
theorem dX5_isWord_8 : decode cX5_isWord 8 = .ok (.aload_n 0, 1) := dk_42 (dk_at dksX5_isWord_0 8 rfl rfl)
theorem dX5_isWord_9 : decode cX5_isWord 9 = .ok (.getfield 259, 3) := dk_180 1 3 (dk_at dksX5_isWord_0 9 rfl rfl)
theorem dX5_isWord_12 : decode cX5_isWord 12 = .ok (.lload_n 1, 1) := dk_31 (dk_at dksX5_isWord_0 12 rfl rfl)
theorem dX5_isWord_13 : decode cX5_isWord 13 = .ok (.lcmp, 1) := dk_148 (dk_at dksX5_isWord_0 13 rfl rfl)
theorem dX5_isWord_14 : decode cX5_isWord 14 = .ok (.ifCond .ne 7, 3) := dk_154 0 7 (dk_at dksX5_isWord_0 14 rfl rfl)
theorem dX5_isWord_17 : decode cX5_isWord 17 = .ok (.iconst 1, 1) := dk_4 (dk_at dksX5_isWord_0 17 rfl rfl)
theorem dX5_isWord_18 : decode cX5_isWord 18 = .ok (.goto 4, 3) := dk_167 0 4 (dk_at dksX5_isWord_0 18 rfl rfl)
theorem dX5_isWord_21 : decode cX5_isWord 21 = .ok (.iconst 0, 1) := dk_3 (dk_at dksX5_isWord_0 21 rfl rfl)
theorem dX5_isWord_22 : decode cX5_isWord 22 = .ok (.ireturn, 1) := dk_172 (dk_at dksX5_isWord_0 22 rfl rfl)
abbrev cX5_must : ByteArray := prog_22_method_38_code
def yX5_must : MethodName := ⟨RX5, "must", "(Z)V"⟩
def dkwX5_must_1 : List UInt8 := [42, 180, 0, 249, 154, 0, 7, 42, 182, 0, 253, 177]
abbrev dktX5_must_1 : List UInt8 := dkwX5_must_1 ++ []
def dkwX5_must_0 : List UInt8 := [42, 180, 0, 249, 154, 0, 20, 27, 154, 0, 16, 42, 4, 181, 0, 249, 42, 42, 180, 1, 0, 181, 0, 38]
abbrev dktX5_must_0 : List UInt8 := dkwX5_must_0 ++ dktX5_must_1
theorem dksX5_must_0 : cX5_must.data.toList.drop 0 = dktX5_must_0 := by decide +kernel
theorem dksX5_must_1 : cX5_must.data.toList.drop 24 = dktX5_must_1 := dk_seg dksX5_must_0 24 rfl rfl
theorem dX5_must_0 : decode cX5_must 0 = .ok (.aload_n 0, 1) := dk_42 (dk_at dksX5_must_0 0 rfl rfl)
theorem dX5_must_1 : decode cX5_must 1 = .ok (.getfield 249, 3) := dk_180 0 249 (dk_at dksX5_must_0 1 rfl rfl)
theorem dX5_must_4 : decode cX5_must 4 = .ok (.ifCond .ne 20, 3) := dk_154 0 20 (dk_at dksX5_must_0 4 rfl rfl)
theorem dX5_must_7 : decode cX5_must 7 = .ok (.iload_n 1, 1) := dk_27 (dk_at dksX5_must_0 7 rfl rfl)
theorem dX5_must_8 : decode cX5_must 8 = .ok (.ifCond .ne 16, 3) := dk_154 0 16 (dk_at dksX5_must_0 8 rfl rfl)
theorem dX5_must_11 : decode cX5_must 11 = .ok (.aload_n 0, 1) := dk_42 (dk_at dksX5_must_0 11 rfl rfl)
theorem dX5_must_12 : decode cX5_must 12 = .ok (.iconst 1, 1) := dk_4 (dk_at dksX5_must_0 12 rfl rfl)
theorem dX5_must_13 : decode cX5_must 13 = .ok (.putfield 249, 3) := dk_181 0 249 (dk_at dksX5_must_0 13 rfl rfl)
theorem dX5_must_16 : decode cX5_must 16 = .ok (.aload_n 0, 1) := dk_42 (dk_at dksX5_must_0 16 rfl rfl)
theorem dX5_must_17 : decode cX5_must 17 = .ok (.aload_n 0, 1) := dk_42 (dk_at dksX5_must_0 17 rfl rfl)
theorem dX5_must_18 : decode cX5_must 18 = .ok (.getfield 256, 3) := dk_180 1 0 (dk_at dksX5_must_0 18 rfl rfl)
theorem dX5_must_21 : decode cX5_must 21 = .ok (.putfield 38, 3) := dk_181 0 38 (dk_at dksX5_must_0 21 rfl rfl)
theorem dX5_must_24 : decode cX5_must 24 = .ok (.aload_n 0, 1) := dk_42 (dk_at dksX5_must_1 0 rfl rfl)
theorem dX5_must_25 : decode cX5_must 25 = .ok (.getfield 249, 3) := dk_180 0 249 (dk_at dksX5_must_1 1 rfl rfl)
theorem dX5_must_28 : decode cX5_must 28 = .ok (.ifCond .ne 7, 3) := dk_154 0 7 (dk_at dksX5_must_1 4 rfl rfl)
theorem dX5_must_31 : decode cX5_must 31 = .ok (.aload_n 0, 1) := dk_42 (dk_at dksX5_must_1 7 rfl rfl)
theorem dX5_must_32 : decode cX5_must 32 = .ok (.invokevirtual 253, 3) := dk_182 0 253 (dk_at dksX5_must_1 8 rfl rfl)
theorem dX5_must_35 : decode cX5_must 35 = .ok (.return_, 1) := dk_177 (dk_at dksX5_must_1 11 rfl rfl)
abbrev cX5_readExpression : ByteArray := prog_22_method_55_code
def yX5_readExpression : MethodName := ⟨RX5, "readExpression", "(Z)V"⟩
def dkwX5_readExpression_3 : List UInt8 := [61, 167, 255, 203, 42, 4, 182, 1, 95, 177]
abbrev dktX5_readExpression_3 : List UInt8 := dkwX5_readExpression_3 ++ []
def dkwX5_readExpression_2 : List UInt8 := [42, 182, 1, 92, 167, 0, 20, 28, 6, 160, 0, 11, 42, 27, 182, 1, 112, 167, 0, 7, 42, 182, 1, 116]
abbrev dktX5_readExpression_2 : List UInt8 := dkwX5_readExpression_2 ++ dktX5_readExpression_3
def dkwX5_readExpression_1 : List UInt8 := [154, 0, 52, 28, 7, 159, 0, 47, 28, 154, 0, 10, 42, 182, 1, 109, 167, 0, 32, 28, 4, 160, 0, 10]
abbrev dktX5_readExpression_1 : List UInt8 := dkwX5_readExpression_1 ++ dktX5_readExpression_2
def dkwX5_readExpression_0 : List UInt8 := [42, 3, 181, 1, 33, 42, 3, 181, 1, 55, 27, 153, 0, 7, 3, 167, 0, 4, 4, 61, 42, 180, 0, 249]
abbrev dktX5_readExpression_0 : List UInt8 := dkwX5_readExpression_0 ++ dktX5_readExpression_1
theorem dksX5_readExpression_0 : cX5_readExpression.data.toList.drop 0 = dktX5_readExpression_0 := by decide +kernel
theorem dksX5_readExpression_1 : cX5_readExpression.data.toList.drop 24 = dktX5_readExpression_1 := dk_seg dksX5_readExpression_0 24 rfl rfl
theorem dksX5_readExpression_2 : cX5_readExpression.data.toList.drop 48 = dktX5_readExpression_2 := dk_seg dksX5_readExpression_1 24 rfl rfl
theorem dksX5_readExpression_3 : cX5_readExpression.data.toList.drop 72 = dktX5_readExpression_3 := dk_seg dksX5_readExpression_2 24 rfl rfl
theorem dX5_readExpression_0 : decode cX5_readExpression 0 = .ok (.aload_n 0, 1) := dk_42 (dk_at dksX5_readExpression_0 0 rfl rfl)
theorem dX5_readExpression_1 : decode cX5_readExpression 1 = .ok (.iconst 0, 1) := dk_3 (dk_at dksX5_readExpression_0 1 rfl rfl)
theorem dX5_readExpression_2 : decode cX5_readExpression 2 = .ok (.putfield 289, 3) := dk_181 1 33 (dk_at dksX5_readExpression_0 2 rfl rfl)
theorem dX5_readExpression_5 : decode cX5_readExpression 5 = .ok (.aload_n 0, 1) := dk_42 (dk_at dksX5_readExpression_0 5 rfl rfl)
theorem dX5_readExpression_6 : decode cX5_readExpression 6 = .ok (.iconst 0, 1) := dk_3 (dk_at dksX5_readExpression_0 6 rfl rfl)
theorem dX5_readExpression_7 : decode cX5_readExpression 7 = .ok (.putfield 311, 3) := dk_181 1 55 (dk_at dksX5_readExpression_0 7 rfl rfl)
theorem dX5_readExpression_10 : decode cX5_readExpression 10 = .ok (.iload_n 1, 1) := dk_27 (dk_at dksX5_readExpression_0 10 rfl rfl)
theorem dX5_readExpression_11 : decode cX5_readExpression 11 = .ok (.ifCond .eq 7, 3) := dk_153 0 7 (dk_at dksX5_readExpression_0 11 rfl rfl)
theorem dX5_readExpression_14 : decode cX5_readExpression 14 = .ok (.iconst 0, 1) := dk_3 (dk_at dksX5_readExpression_0 14 rfl rfl)
theorem dX5_readExpression_15 : decode cX5_readExpression 15 = .ok (.goto 4, 3) := dk_167 0 4 (dk_at dksX5_readExpression_0 15 rfl rfl)
theorem dX5_readExpression_18 : decode cX5_readExpression 18 = .ok (.iconst 1, 1) := dk_4 (dk_at dksX5_readExpression_0 18 rfl rfl)
theorem dX5_readExpression_19 : decode cX5_readExpression 19 = .ok (.istore_n 2, 1) := dk_61 (dk_at dksX5_readExpression_0 19 rfl rfl)
theorem dX5_readExpression_20 : decode cX5_readExpression 20 = .ok (.aload_n 0, 1) := dk_42 (dk_at dksX5_readExpression_0 20 rfl rfl)
theorem dX5_readExpression_21 : decode cX5_readExpression 21 = .ok (.getfield 249, 3) := dk_180 0 249 (dk_at dksX5_readExpression_0 21 rfl rfl)
theorem dX5_readExpression_24 : decode cX5_readExpression 24 = .ok (.ifCond .ne 52, 3) := dk_154 0 52 (dk_at dksX5_readExpression_1 0 rfl rfl)
theorem dX5_readExpression_27 : decode cX5_readExpression 27 = .ok (.iload_n 2, 1) := dk_28 (dk_at dksX5_readExpression_1 3 rfl rfl)
theorem dX5_readExpression_28 : decode cX5_readExpression 28 = .ok (.iconst 4, 1) := dk_7 (dk_at dksX5_readExpression_1 4 rfl rfl)
theorem dX5_readExpression_29 : decode cX5_readExpression 29 = .ok (.if_icmp .eq 47, 3) := dk_159 0 47 (dk_at dksX5_readExpression_1 5 rfl rfl)
theorem dX5_readExpression_32 : decode cX5_readExpression 32 = .ok (.iload_n 2, 1) := dk_28 (dk_at dksX5_readExpression_1 8 rfl rfl)
theorem dX5_readExpression_33 : decode cX5_readExpression 33 = .ok (.ifCond .ne 10, 3) := dk_154 0 10 (dk_at dksX5_readExpression_1 9 rfl rfl)
theorem dX5_readExpression_36 : decode cX5_readExpression 36 = .ok (.aload_n 0, 1) := dk_42 (dk_at dksX5_readExpression_1 12 rfl rfl)
theorem dX5_readExpression_37 : decode cX5_readExpression 37 = .ok (.invokevirtual 365, 3) := dk_182 1 109 (dk_at dksX5_readExpression_1 13 rfl rfl)
theorem dX5_readExpression_40 : decode cX5_readExpression 40 = .ok (.goto 32, 3) := dk_167 0 32 (dk_at dksX5_readExpression_1 16 rfl rfl)
theorem dX5_readExpression_43 : decode cX5_readExpression 43 = .ok (.iload_n 2, 1) := dk_28 (dk_at dksX5_readExpression_1 19 rfl rfl)
theorem dX5_readExpression_44 : decode cX5_readExpression 44 = .ok (.iconst 1, 1) := dk_4 (dk_at dksX5_readExpression_1 20 rfl rfl)
theorem dX5_readExpression_45 : decode cX5_readExpression 45 = .ok (.if_icmp .ne 10, 3) := dk_160 0 10 (dk_at dksX5_readExpression_1 21 rfl rfl)
theorem dX5_readExpression_48 : decode cX5_readExpression 48 = .ok (.aload_n 0, 1) := dk_42 (dk_at dksX5_readExpression_2 0 rfl rfl)
theorem dX5_readExpression_49 : decode cX5_readExpression 49 = .ok (.invokevirtual 348, 3) := dk_182 1 92 (dk_at dksX5_readExpression_2 1 rfl rfl)
theorem dX5_readExpression_52 : decode cX5_readExpression 52 = .ok (.goto 20, 3) := dk_167 0 20 (dk_at dksX5_readExpression_2 4 rfl rfl)
theorem dX5_readExpression_55 : decode cX5_readExpression 55 = .ok (.iload_n 2, 1) := dk_28 (dk_at dksX5_readExpression_2 7 rfl rfl)
theorem dX5_readExpression_56 : decode cX5_readExpression 56 = .ok (.iconst 3, 1) := dk_6 (dk_at dksX5_readExpression_2 8 rfl rfl)
theorem dX5_readExpression_57 : decode cX5_readExpression 57 = .ok (.if_icmp .ne 11, 3) := dk_160 0 11 (dk_at dksX5_readExpression_2 9 rfl rfl)
theorem dX5_readExpression_60 : decode cX5_readExpression 60 = .ok (.aload_n 0, 1) := dk_42 (dk_at dksX5_readExpression_2 12 rfl rfl)
theorem dX5_readExpression_61 : decode cX5_readExpression 61 = .ok (.iload_n 1, 1) := dk_27 (dk_at dksX5_readExpression_2 13 rfl rfl)
theorem dX5_readExpression_62 : decode cX5_readExpression 62 = .ok (.invokevirtual 368, 3) := dk_182 1 112 (dk_at dksX5_readExpression_2 14 rfl rfl)
theorem dX5_readExpression_65 : decode cX5_readExpression 65 = .ok (.goto 7, 3) := dk_167 0 7 (dk_at dksX5_readExpression_2 17 rfl rfl)
theorem dX5_readExpression_68 : decode cX5_readExpression 68 = .ok (.aload_n 0, 1) := dk_42 (dk_at dksX5_readExpression_2 20 rfl rfl)
theorem dX5_readExpression_69 : decode cX5_readExpression 69 = .ok (.invokevirtual 372, 3) := dk_182 1 116 (dk_at dksX5_readExpression_2 21 rfl rfl)
theorem dX5_readExpression_72 : decode cX5_readExpression 72 = .ok (.istore_n 2, 1) := dk_61 (dk_at dksX5_readExpression_3 0 rfl rfl)
theorem dX5_readExpression_73 : decode cX5_readExpression 73 = .ok (.goto (-53), 3) := dk_167 255 203 (dk_at dksX5_readExpression_3 1 rfl rfl)
theorem dX5_readExpression_76 : decode cX5_readExpression 76 = .ok (.aload_n 0, 1) := dk_42 (dk_at dksX5_readExpression_3 4 rfl rfl)
theorem dX5_readExpression_77 : decode cX5_readExpression 77 = .ok (.iconst 1, 1) := dk_4 (dk_at dksX5_readExpression_3 5 rfl rfl)
theorem dX5_readExpression_78 : decode cX5_readExpression 78 = .ok (.invokevirtual 351, 3) := dk_182 1 95 (dk_at dksX5_readExpression_3 6 rfl rfl)
theorem dX5_readExpression_81 : decode cX5_readExpression 81 = .ok (.return_, 1) := dk_177 (dk_at dksX5_readExpression_3 9 rfl rfl)
abbrev cX5_readPlain : ByteArray := prog_22_method_52_code
def yX5_readPlain : MethodName := ⟨RX5, "readPlain", "()I"⟩
def dkwX5_readPlain_1 : List UInt8 := [16, 40, 182, 1, 64, 153, 0, 11, 42, 16, 31, 182, 1, 67, 3, 172, 42, 182, 1, 92, 172]
abbrev dktX5_readPlain_1 : List UInt8 := dkwX5_readPlain_1 ++ []
def dkwX5_readPlain_0 : List UInt8 := [42, 20, 1, 90, 182, 1, 51, 153, 0, 16, 42, 16, 28, 3, 182, 1, 58, 42, 182, 0, 253, 3, 172, 42]
abbrev dktX5_readPlain_0 : List UInt8 := dkwX5_readPlain_0 ++ dktX5_readPlain_1
theorem dksX5_readPlain_0 : cX5_readPlain.data.toList.drop 0 = dktX5_readPlain_0 := by decide +kernel
theorem dksX5_readPlain_1 : cX5_readPlain.data.toList.drop 24 = dktX5_readPlain_1 := dk_seg dksX5_readPlain_0 24 rfl rfl
theorem dX5_readPlain_0 : decode cX5_readPlain 0 = .ok (.aload_n 0, 1) := dk_42 (dk_at dksX5_readPlain_0 0 rfl rfl)
theorem dX5_readPlain_1 : decode cX5_readPlain 1 = .ok (.ldc2_w 346, 3) := dk_20 1 90 (dk_at dksX5_readPlain_0 1 rfl rfl)
theorem dX5_readPlain_4 : decode cX5_readPlain 4 = .ok (.invokevirtual 307, 3) := dk_182 1 51 (dk_at dksX5_readPlain_0 4 rfl rfl)
theorem dX5_readPlain_7 : decode cX5_readPlain 7 = .ok (.ifCond .eq 16, 3) := dk_153 0 16 (dk_at dksX5_readPlain_0 7 rfl rfl)
theorem dX5_readPlain_10 : decode cX5_readPlain 10 = .ok (.aload_n 0, 1) := dk_42 (dk_at dksX5_readPlain_0 10 rfl rfl)
theorem dX5_readPlain_11 : decode cX5_readPlain 11 = .ok (.bipush 28, 2) := dk_16 28 (dk_at dksX5_readPlain_0 11 rfl rfl)
theorem dX5_readPlain_13 : decode cX5_readPlain 13 = .ok (.iconst 0, 1) := dk_3 (dk_at dksX5_readPlain_0 13 rfl rfl)
theorem dX5_readPlain_14 : decode cX5_readPlain 14 = .ok (.invokevirtual 314, 3) := dk_182 1 58 (dk_at dksX5_readPlain_0 14 rfl rfl)
theorem dX5_readPlain_17 : decode cX5_readPlain 17 = .ok (.aload_n 0, 1) := dk_42 (dk_at dksX5_readPlain_0 17 rfl rfl)
theorem dX5_readPlain_18 : decode cX5_readPlain 18 = .ok (.invokevirtual 253, 3) := dk_182 0 253 (dk_at dksX5_readPlain_0 18 rfl rfl)
theorem dX5_readPlain_21 : decode cX5_readPlain 21 = .ok (.iconst 0, 1) := dk_3 (dk_at dksX5_readPlain_0 21 rfl rfl)
theorem dX5_readPlain_22 : decode cX5_readPlain 22 = .ok (.ireturn, 1) := dk_172 (dk_at dksX5_readPlain_0 22 rfl rfl)
theorem dX5_readPlain_23 : decode cX5_readPlain 23 = .ok (.aload_n 0, 1) := dk_42 (dk_at dksX5_readPlain_0 23 rfl rfl)
theorem dX5_readPlain_24 : decode cX5_readPlain 24 = .ok (.bipush 40, 2) := dk_16 40 (dk_at dksX5_readPlain_1 0 rfl rfl)
theorem dX5_readPlain_26 : decode cX5_readPlain 26 = .ok (.invokevirtual 320, 3) := dk_182 1 64 (dk_at dksX5_readPlain_1 2 rfl rfl)
theorem dX5_readPlain_29 : decode cX5_readPlain 29 = .ok (.ifCond .eq 11, 3) := dk_153 0 11 (dk_at dksX5_readPlain_1 5 rfl rfl)
theorem dX5_readPlain_32 : decode cX5_readPlain 32 = .ok (.aload_n 0, 1) := dk_42 (dk_at dksX5_readPlain_1 8 rfl rfl)
theorem dX5_readPlain_33 : decode cX5_readPlain 33 = .ok (.bipush 31, 2) := dk_16 31 (dk_at dksX5_readPlain_1 9 rfl rfl)
theorem dX5_readPlain_35 : decode cX5_readPlain 35 = .ok (.invokevirtual 323, 3) := dk_182 1 67 (dk_at dksX5_readPlain_1 11 rfl rfl)
theorem dX5_readPlain_38 : decode cX5_readPlain 38 = .ok (.iconst 0, 1) := dk_3 (dk_at dksX5_readPlain_1 14 rfl rfl)
theorem dX5_readPlain_39 : decode cX5_readPlain 39 = .ok (.ireturn, 1) := dk_172 (dk_at dksX5_readPlain_1 15 rfl rfl)
theorem dX5_readPlain_40 : decode cX5_readPlain 40 = .ok (.aload_n 0, 1) := dk_42 (dk_at dksX5_readPlain_1 16 rfl rfl)
theorem dX5_readPlain_41 : decode cX5_readPlain 41 = .ok (.invokevirtual 348, 3) := dk_182 1 92 (dk_at dksX5_readPlain_1 17 rfl rfl)
theorem dX5_readPlain_44 : decode cX5_readPlain 44 = .ok (.ireturn, 1) := dk_172 (dk_at dksX5_readPlain_1 20 rfl rfl)
abbrev cX5_push : ByteArray := prog_22_method_42_code
def yX5_push : MethodName := ⟨RX5, "push", "(II)V"⟩
def dkwX5_push_1 : List UInt8 := [180, 1, 33, 4, 96, 181, 1, 33, 177]
abbrev dktX5_push_1 : List UInt8 := dkwX5_push_1 ++ []
def dkwX5_push_0 : List UInt8 := [42, 180, 0, 51, 42, 180, 1, 33, 27, 79, 42, 180, 0, 54, 42, 180, 1, 33, 28, 79, 42, 89]
abbrev dktX5_push_0 : List UInt8 := dkwX5_push_0 ++ dktX5_push_1
theorem dksX5_push_0 : cX5_push.data.toList.drop 0 = dktX5_push_0 := by decide +kernel
theorem dksX5_push_1 : cX5_push.data.toList.drop 22 = dktX5_push_1 := dk_seg dksX5_push_0 22 rfl rfl
theorem dX5_push_0 : decode cX5_push 0 = .ok (.aload_n 0, 1) := dk_42 (dk_at dksX5_push_0 0 rfl rfl)
theorem dX5_push_1 : decode cX5_push 1 = .ok (.getfield 51, 3) := dk_180 0 51 (dk_at dksX5_push_0 1 rfl rfl)
theorem dX5_push_4 : decode cX5_push 4 = .ok (.aload_n 0, 1) := dk_42 (dk_at dksX5_push_0 4 rfl rfl)
theorem dX5_push_5 : decode cX5_push 5 = .ok (.getfield 289, 3) := dk_180 1 33 (dk_at dksX5_push_0 5 rfl rfl)
theorem dX5_push_8 : decode cX5_push 8 = .ok (.iload_n 1, 1) := dk_27 (dk_at dksX5_push_0 8 rfl rfl)
theorem dX5_push_9 : decode cX5_push 9 = .ok (.iastore, 1) := dk_79 (dk_at dksX5_push_0 9 rfl rfl)
theorem dX5_push_10 : decode cX5_push 10 = .ok (.aload_n 0, 1) := dk_42 (dk_at dksX5_push_0 10 rfl rfl)
theorem dX5_push_11 : decode cX5_push 11 = .ok (.getfield 54, 3) := dk_180 0 54 (dk_at dksX5_push_0 11 rfl rfl)
theorem dX5_push_14 : decode cX5_push 14 = .ok (.aload_n 0, 1) := dk_42 (dk_at dksX5_push_0 14 rfl rfl)
theorem dX5_push_15 : decode cX5_push 15 = .ok (.getfield 289, 3) := dk_180 1 33 (dk_at dksX5_push_0 15 rfl rfl)
theorem dX5_push_18 : decode cX5_push 18 = .ok (.iload_n 2, 1) := dk_28 (dk_at dksX5_push_0 18 rfl rfl)
theorem dX5_push_19 : decode cX5_push 19 = .ok (.iastore, 1) := dk_79 (dk_at dksX5_push_0 19 rfl rfl)
theorem dX5_push_20 : decode cX5_push 20 = .ok (.aload_n 0, 1) := dk_42 (dk_at dksX5_push_0 20 rfl rfl)
theorem dX5_push_21 : decode cX5_push 21 = .ok (.dup, 1) := dk_89 (dk_at dksX5_push_0 21 rfl rfl)
theorem dX5_push_22 : decode cX5_push 22 = .ok (.getfield 289, 3) := dk_180 1 33 (dk_at dksX5_push_1 0 rfl rfl)
theorem dX5_push_25 : decode cX5_push 25 = .ok (.iconst 1, 1) := dk_4 (dk_at dksX5_push_1 3 rfl rfl)
theorem dX5_push_26 : decode cX5_push 26 = .ok (.iadd, 1) := dk_96 (dk_at dksX5_push_1 4 rfl rfl)
theorem dX5_push_27 : decode cX5_push 27 = .ok (.putfield 289, 3) := dk_181 1 33 (dk_at dksX5_push_1 5 rfl rfl)
theorem dX5_push_30 : decode cX5_push 30 = .ok (.return_, 1) := dk_177 (dk_at dksX5_push_1 8 rfl rfl)
abbrev cX5_isSign : ByteArray := prog_22_method_37_code
def yX5_isSign : MethodName := ⟨RX5, "isSign", "(I)Z"⟩
def dkwX5_isSign_0 : List UInt8 := [42, 180, 1, 13, 6, 160, 0, 17, 42, 180, 1, 3, 27, 133, 148, 154, 0, 7, 4, 167, 0, 4, 3, 172]
abbrev dktX5_isSign_0 : List UInt8 := dkwX5_isSign_0 ++ []
theorem dksX5_isSign_0 : cX5_isSign.data.toList.drop 0 = dktX5_isSign_0 := by decide +kernel
theorem dX5_isSign_0 : decode cX5_isSign 0 = .ok (.aload_n 0, 1) := dk_42 (dk_at dksX5_isSign_0 0 rfl rfl)
theorem dX5_isSign_1 : decode cX5_isSign 1 = .ok (.getfield 269, 3) := dk_180 1 13 (dk_at dksX5_isSign_0 1 rfl rfl)
theorem dX5_isSign_4 : decode cX5_isSign 4 = .ok (.iconst 3, 1) := dk_6 (dk_at dksX5_isSign_0 4 rfl rfl)
theorem dX5_isSign_5 : decode cX5_isSign 5 = .ok (.if_icmp .ne 17, 3) := dk_160 0 17 (dk_at dksX5_isSign_0 5 rfl rfl)
theorem dX5_isSign_8 : decode cX5_isSign 8 = .ok (.aload_n 0, 1) := dk_42 (dk_at dksX5_isSign_0 8 rfl rfl)
theorem dX5_isSign_9 : decode cX5_isSign 9 = .ok (.getfield 259, 3) := dk_180 1 3 (dk_at dksX5_isSign_0 9 rfl rfl)
theorem dX5_isSign_12 : decode cX5_isSign 12 = .ok (.iload_n 1, 1) := dk_27 (dk_at dksX5_isSign_0 12 rfl rfl)
theorem dX5_isSign_13 : decode cX5_isSign 13 = .ok (.i2l, 1) := dk_133 (dk_at dksX5_isSign_0 13 rfl rfl)
theorem dX5_isSign_14 : decode cX5_isSign 14 = .ok (.lcmp, 1) := dk_148 (dk_at dksX5_isSign_0 14 rfl rfl)
theorem dX5_isSign_15 : decode cX5_isSign 15 = .ok (.ifCond .ne 7, 3) := dk_154 0 7 (dk_at dksX5_isSign_0 15 rfl rfl)
theorem dX5_isSign_18 : decode cX5_isSign 18 = .ok (.iconst 1, 1) := dk_4 (dk_at dksX5_isSign_0 18 rfl rfl)
theorem dX5_isSign_19 : decode cX5_isSign 19 = .ok (.goto 4, 3) := dk_167 0 4 (dk_at dksX5_isSign_0 19 rfl rfl)
theorem dX5_isSign_22 : decode cX5_isSign 22 = .ok (.iconst 0, 1) := dk_3 (dk_at dksX5_isSign_0 22 rfl rfl)
theorem dX5_isSign_23 : decode cX5_isSign 23 = .ok (.ireturn, 1) := dk_172 (dk_at dksX5_isSign_0 23 rfl rfl)
abbrev cX5_openBracket : ByteArray := prog_22_method_49_code
def yX5_openBracket : MethodName := ⟨RX5, "openBracket", "(I)V"⟩
def dkwX5_openBracket_1 : List UInt8 := [154, 0, 19, 42, 89, 180, 1, 55, 4, 96, 181, 1, 55, 42, 27, 3, 182, 1, 58, 177]
abbrev dktX5_openBracket_1 : List UInt8 := dkwX5_openBracket_1 ++ []
def dkwX5_openBracket_0 : List UInt8 := [42, 42, 180, 1, 55, 16, 8, 162, 0, 7, 4, 167, 0, 4, 3, 182, 1, 26, 42, 180, 0, 249]
abbrev dktX5_openBracket_0 : List UInt8 := dkwX5_openBracket_0 ++ dktX5_openBracket_1
theorem dksX5_openBracket_0 : cX5_openBracket.data.toList.drop 0 = dktX5_openBracket_0 := by decide +kernel
theorem dksX5_openBracket_1 : cX5_openBracket.data.toList.drop 22 = dktX5_openBracket_1 := dk_seg dksX5_openBracket_0 22 rfl rfl
theorem dX5_openBracket_0 : decode cX5_openBracket 0 = .ok (.aload_n 0, 1) := dk_42 (dk_at dksX5_openBracket_0 0 rfl rfl)
theorem dX5_openBracket_1 : decode cX5_openBracket 1 = .ok (.aload_n 0, 1) := dk_42 (dk_at dksX5_openBracket_0 1 rfl rfl)
theorem dX5_openBracket_2 : decode cX5_openBracket 2 = .ok (.getfield 311, 3) := dk_180 1 55 (dk_at dksX5_openBracket_0 2 rfl rfl)
theorem dX5_openBracket_5 : decode cX5_openBracket 5 = .ok (.bipush 8, 2) := dk_16 8 (dk_at dksX5_openBracket_0 5 rfl rfl)
theorem dX5_openBracket_7 : decode cX5_openBracket 7 = .ok (.if_icmp .ge 7, 3) := dk_162 0 7 (dk_at dksX5_openBracket_0 7 rfl rfl)
theorem dX5_openBracket_10 : decode cX5_openBracket 10 = .ok (.iconst 1, 1) := dk_4 (dk_at dksX5_openBracket_0 10 rfl rfl)
theorem dX5_openBracket_11 : decode cX5_openBracket 11 = .ok (.goto 4, 3) := dk_167 0 4 (dk_at dksX5_openBracket_0 11 rfl rfl)
theorem dX5_openBracket_14 : decode cX5_openBracket 14 = .ok (.iconst 0, 1) := dk_3 (dk_at dksX5_openBracket_0 14 rfl rfl)
theorem dX5_openBracket_15 : decode cX5_openBracket 15 = .ok (.invokevirtual 282, 3) := dk_182 1 26 (dk_at dksX5_openBracket_0 15 rfl rfl)
theorem dX5_openBracket_18 : decode cX5_openBracket 18 = .ok (.aload_n 0, 1) := dk_42 (dk_at dksX5_openBracket_0 18 rfl rfl)
theorem dX5_openBracket_19 : decode cX5_openBracket 19 = .ok (.getfield 249, 3) := dk_180 0 249 (dk_at dksX5_openBracket_0 19 rfl rfl)
theorem dX5_openBracket_22 : decode cX5_openBracket 22 = .ok (.ifCond .ne 19, 3) := dk_154 0 19 (dk_at dksX5_openBracket_1 0 rfl rfl)
theorem dX5_openBracket_25 : decode cX5_openBracket 25 = .ok (.aload_n 0, 1) := dk_42 (dk_at dksX5_openBracket_1 3 rfl rfl)
theorem dX5_openBracket_26 : decode cX5_openBracket 26 = .ok (.dup, 1) := dk_89 (dk_at dksX5_openBracket_1 4 rfl rfl)
theorem dX5_openBracket_27 : decode cX5_openBracket 27 = .ok (.getfield 311, 3) := dk_180 1 55 (dk_at dksX5_openBracket_1 5 rfl rfl)
theorem dX5_openBracket_30 : decode cX5_openBracket 30 = .ok (.iconst 1, 1) := dk_4 (dk_at dksX5_openBracket_1 8 rfl rfl)
theorem dX5_openBracket_31 : decode cX5_openBracket 31 = .ok (.iadd, 1) := dk_96 (dk_at dksX5_openBracket_1 9 rfl rfl)
theorem dX5_openBracket_32 : decode cX5_openBracket 32 = .ok (.putfield 311, 3) := dk_181 1 55 (dk_at dksX5_openBracket_1 10 rfl rfl)
theorem dX5_openBracket_35 : decode cX5_openBracket 35 = .ok (.aload_n 0, 1) := dk_42 (dk_at dksX5_openBracket_1 13 rfl rfl)
theorem dX5_openBracket_36 : decode cX5_openBracket 36 = .ok (.iload_n 1, 1) := dk_27 (dk_at dksX5_openBracket_1 14 rfl rfl)
theorem dX5_openBracket_37 : decode cX5_openBracket 37 = .ok (.iconst 0, 1) := dk_3 (dk_at dksX5_openBracket_1 15 rfl rfl)
theorem dX5_openBracket_38 : decode cX5_openBracket 38 = .ok (.invokevirtual 314, 3) := dk_182 1 58 (dk_at dksX5_openBracket_1 16 rfl rfl)
theorem dX5_openBracket_41 : decode cX5_openBracket 41 = .ok (.return_, 1) := dk_177 (dk_at dksX5_openBracket_1 19 rfl rfl)
abbrev cX5_readPart : ByteArray := prog_22_method_51_code
def yX5_readPart : MethodName := ⟨RX5, "readPart", "()I"⟩
def dkwX5_readPart_6 : List UInt8 := [6, 172]
abbrev dktX5_readPart_6 : List UInt8 := dkwX5_readPart_6 ++ []
def dkwX5_readPart_5 : List UInt8 := [154, 0, 24, 42, 180, 1, 30, 4, 100, 62, 42, 180, 0, 48, 29, 42, 9, 20, 0, 201, 182, 1, 86, 79]
abbrev dktX5_readPart_5 : List UInt8 := dkwX5_readPart_5 ++ dktX5_readPart_6
def dkwX5_readPart_4 : List UInt8 := [167, 0, 4, 3, 182, 1, 82, 42, 180, 1, 70, 153, 0, 36, 27, 8, 161, 0, 31, 42, 180, 0, 249]
abbrev dktX5_readPart_4 : List UInt8 := dkwX5_readPart_4 ++ dktX5_readPart_5
def dkwX5_readPart_3 : List UInt8 := [167, 0, 4, 3, 27, 2, 160, 0, 7, 3, 167, 0, 4, 27, 28, 153, 0, 11, 42, 180, 1, 3, 136]
abbrev dktX5_readPart_3 : List UInt8 := dkwX5_readPart_3 ++ dktX5_readPart_4
def dkwX5_readPart_2 : List UInt8 := [20, 1, 80, 148, 157, 0, 7, 4, 167, 0, 4, 3, 61, 42, 27, 2, 160, 0, 7, 28, 153, 0, 7, 4]
abbrev dktX5_readPart_2 : List UInt8 := dkwX5_readPart_2 ++ dktX5_readPart_3
def dkwX5_readPart_1 : List UInt8 := [42, 182, 1, 73, 167, 0, 7, 42, 182, 1, 77, 60, 42, 180, 1, 13, 5, 160, 0, 18, 42, 180, 1, 3]
abbrev dktX5_readPart_1 : List UInt8 := dkwX5_readPart_1 ++ dktX5_readPart_2
def dkwX5_readPart_0 : List UInt8 := [42, 16, 91, 182, 1, 64, 153, 0, 11, 42, 16, 32, 182, 1, 67, 4, 172, 42, 180, 1, 70, 153, 0, 10]
abbrev dktX5_readPart_0 : List UInt8 := dkwX5_readPart_0 ++ dktX5_readPart_1
theorem dksX5_readPart_0 : cX5_readPart.data.toList.drop 0 = dktX5_readPart_0 := by decide +kernel
theorem dksX5_readPart_1 : cX5_readPart.data.toList.drop 24 = dktX5_readPart_1 := dk_seg dksX5_readPart_0 24 rfl rfl
theorem dksX5_readPart_2 : cX5_readPart.data.toList.drop 48 = dktX5_readPart_2 := dk_seg dksX5_readPart_1 24 rfl rfl
theorem dksX5_readPart_3 : cX5_readPart.data.toList.drop 72 = dktX5_readPart_3 := dk_seg dksX5_readPart_2 24 rfl rfl
theorem dksX5_readPart_4 : cX5_readPart.data.toList.drop 95 = dktX5_readPart_4 := dk_seg dksX5_readPart_3 23 rfl rfl
theorem dksX5_readPart_5 : cX5_readPart.data.toList.drop 118 = dktX5_readPart_5 := dk_seg dksX5_readPart_4 23 rfl rfl
theorem dksX5_readPart_6 : cX5_readPart.data.toList.drop 142 = dktX5_readPart_6 := dk_seg dksX5_readPart_5 24 rfl rfl
theorem dX5_readPart_0 : decode cX5_readPart 0 = .ok (.aload_n 0, 1) := dk_42 (dk_at dksX5_readPart_0 0 rfl rfl)
theorem dX5_readPart_1 : decode cX5_readPart 1 = .ok (.bipush 91, 2) := dk_16 91 (dk_at dksX5_readPart_0 1 rfl rfl)
theorem dX5_readPart_3 : decode cX5_readPart 3 = .ok (.invokevirtual 320, 3) := dk_182 1 64 (dk_at dksX5_readPart_0 3 rfl rfl)
theorem dX5_readPart_6 : decode cX5_readPart 6 = .ok (.ifCond .eq 11, 3) := dk_153 0 11 (dk_at dksX5_readPart_0 6 rfl rfl)
theorem dX5_readPart_9 : decode cX5_readPart 9 = .ok (.aload_n 0, 1) := dk_42 (dk_at dksX5_readPart_0 9 rfl rfl)
theorem dX5_readPart_10 : decode cX5_readPart 10 = .ok (.bipush 32, 2) := dk_16 32 (dk_at dksX5_readPart_0 10 rfl rfl)
theorem dX5_readPart_12 : decode cX5_readPart 12 = .ok (.invokevirtual 323, 3) := dk_182 1 67 (dk_at dksX5_readPart_0 12 rfl rfl)
theorem dX5_readPart_15 : decode cX5_readPart 15 = .ok (.iconst 1, 1) := dk_4 (dk_at dksX5_readPart_0 15 rfl rfl)
theorem dX5_readPart_16 : decode cX5_readPart 16 = .ok (.ireturn, 1) := dk_172 (dk_at dksX5_readPart_0 16 rfl rfl)
theorem dX5_readPart_17 : decode cX5_readPart 17 = .ok (.aload_n 0, 1) := dk_42 (dk_at dksX5_readPart_0 17 rfl rfl)
theorem dX5_readPart_18 : decode cX5_readPart 18 = .ok (.getfield 326, 3) := dk_180 1 70 (dk_at dksX5_readPart_0 18 rfl rfl)
theorem dX5_readPart_21 : decode cX5_readPart 21 = .ok (.ifCond .eq 10, 3) := dk_153 0 10 (dk_at dksX5_readPart_0 21 rfl rfl)
theorem dX5_readPart_24 : decode cX5_readPart 24 = .ok (.aload_n 0, 1) := dk_42 (dk_at dksX5_readPart_1 0 rfl rfl)
theorem dX5_readPart_25 : decode cX5_readPart 25 = .ok (.invokevirtual 329, 3) := dk_182 1 73 (dk_at dksX5_readPart_1 1 rfl rfl)
theorem dX5_readPart_28 : decode cX5_readPart 28 = .ok (.goto 7, 3) := dk_167 0 7 (dk_at dksX5_readPart_1 4 rfl rfl)
theorem dX5_readPart_31 : decode cX5_readPart 31 = .ok (.aload_n 0, 1) := dk_42 (dk_at dksX5_readPart_1 7 rfl rfl)
theorem dX5_readPart_32 : decode cX5_readPart 32 = .ok (.invokevirtual 333, 3) := dk_182 1 77 (dk_at dksX5_readPart_1 8 rfl rfl)
theorem dX5_readPart_35 : decode cX5_readPart 35 = .ok (.istore_n 1, 1) := dk_60 (dk_at dksX5_readPart_1 11 rfl rfl)
theorem dX5_readPart_36 : decode cX5_readPart 36 = .ok (.aload_n 0, 1) := dk_42 (dk_at dksX5_readPart_1 12 rfl rfl)
theorem dX5_readPart_37 : decode cX5_readPart 37 = .ok (.getfield 269, 3) := dk_180 1 13 (dk_at dksX5_readPart_1 13 rfl rfl)
theorem dX5_readPart_40 : decode cX5_readPart 40 = .ok (.iconst 2, 1) := dk_5 (dk_at dksX5_readPart_1 16 rfl rfl)
theorem dX5_readPart_41 : decode cX5_readPart 41 = .ok (.if_icmp .ne 18, 3) := dk_160 0 18 (dk_at dksX5_readPart_1 17 rfl rfl)
theorem dX5_readPart_44 : decode cX5_readPart 44 = .ok (.aload_n 0, 1) := dk_42 (dk_at dksX5_readPart_1 20 rfl rfl)
theorem dX5_readPart_45 : decode cX5_readPart 45 = .ok (.getfield 259, 3) := dk_180 1 3 (dk_at dksX5_readPart_1 21 rfl rfl)
theorem dX5_readPart_48 : decode cX5_readPart 48 = .ok (.ldc2_w 336, 3) := dk_20 1 80 (dk_at dksX5_readPart_2 0 rfl rfl)
theorem dX5_readPart_51 : decode cX5_readPart 51 = .ok (.lcmp, 1) := dk_148 (dk_at dksX5_readPart_2 3 rfl rfl)
theorem dX5_readPart_52 : decode cX5_readPart 52 = .ok (.ifCond .gt 7, 3) := dk_157 0 7 (dk_at dksX5_readPart_2 4 rfl rfl)
theorem dX5_readPart_55 : decode cX5_readPart 55 = .ok (.iconst 1, 1) := dk_4 (dk_at dksX5_readPart_2 7 rfl rfl)
theorem dX5_readPart_56 : decode cX5_readPart 56 = .ok (.goto 4, 3) := dk_167 0 4 (dk_at dksX5_readPart_2 8 rfl rfl)
theorem dX5_readPart_59 : decode cX5_readPart 59 = .ok (.iconst 0, 1) := dk_3 (dk_at dksX5_readPart_2 11 rfl rfl)
theorem dX5_readPart_60 : decode cX5_readPart 60 = .ok (.istore_n 2, 1) := dk_61 (dk_at dksX5_readPart_2 12 rfl rfl)
theorem dX5_readPart_61 : decode cX5_readPart 61 = .ok (.aload_n 0, 1) := dk_42 (dk_at dksX5_readPart_2 13 rfl rfl)
theorem dX5_readPart_62 : decode cX5_readPart 62 = .ok (.iload_n 1, 1) := dk_27 (dk_at dksX5_readPart_2 14 rfl rfl)
theorem dX5_readPart_63 : decode cX5_readPart 63 = .ok (.iconst (-1), 1) := dk_2 (dk_at dksX5_readPart_2 15 rfl rfl)
theorem dX5_readPart_64 : decode cX5_readPart 64 = .ok (.if_icmp .ne 7, 3) := dk_160 0 7 (dk_at dksX5_readPart_2 16 rfl rfl)
theorem dX5_readPart_67 : decode cX5_readPart 67 = .ok (.iload_n 2, 1) := dk_28 (dk_at dksX5_readPart_2 19 rfl rfl)
theorem dX5_readPart_68 : decode cX5_readPart 68 = .ok (.ifCond .eq 7, 3) := dk_153 0 7 (dk_at dksX5_readPart_2 20 rfl rfl)
theorem dX5_readPart_71 : decode cX5_readPart 71 = .ok (.iconst 1, 1) := dk_4 (dk_at dksX5_readPart_2 23 rfl rfl)
theorem dX5_readPart_72 : decode cX5_readPart 72 = .ok (.goto 4, 3) := dk_167 0 4 (dk_at dksX5_readPart_3 0 rfl rfl)
theorem dX5_readPart_75 : decode cX5_readPart 75 = .ok (.iconst 0, 1) := dk_3 (dk_at dksX5_readPart_3 3 rfl rfl)
theorem dX5_readPart_76 : decode cX5_readPart 76 = .ok (.iload_n 1, 1) := dk_27 (dk_at dksX5_readPart_3 4 rfl rfl)
theorem dX5_readPart_77 : decode cX5_readPart 77 = .ok (.iconst (-1), 1) := dk_2 (dk_at dksX5_readPart_3 5 rfl rfl)
theorem dX5_readPart_78 : decode cX5_readPart 78 = .ok (.if_icmp .ne 7, 3) := dk_160 0 7 (dk_at dksX5_readPart_3 6 rfl rfl)
theorem dX5_readPart_81 : decode cX5_readPart 81 = .ok (.iconst 0, 1) := dk_3 (dk_at dksX5_readPart_3 9 rfl rfl)
theorem dX5_readPart_82 : decode cX5_readPart 82 = .ok (.goto 4, 3) := dk_167 0 4 (dk_at dksX5_readPart_3 10 rfl rfl)
theorem dX5_readPart_85 : decode cX5_readPart 85 = .ok (.iload_n 1, 1) := dk_27 (dk_at dksX5_readPart_3 13 rfl rfl)
theorem dX5_readPart_86 : decode cX5_readPart 86 = .ok (.iload_n 2, 1) := dk_28 (dk_at dksX5_readPart_3 14 rfl rfl)
theorem dX5_readPart_87 : decode cX5_readPart 87 = .ok (.ifCond .eq 11, 3) := dk_153 0 11 (dk_at dksX5_readPart_3 15 rfl rfl)
theorem dX5_readPart_90 : decode cX5_readPart 90 = .ok (.aload_n 0, 1) := dk_42 (dk_at dksX5_readPart_3 18 rfl rfl)
theorem dX5_readPart_91 : decode cX5_readPart 91 = .ok (.getfield 259, 3) := dk_180 1 3 (dk_at dksX5_readPart_3 19 rfl rfl)
theorem dX5_readPart_94 : decode cX5_readPart 94 = .ok (.l2i, 1) := dk_136 (dk_at dksX5_readPart_3 22 rfl rfl)
theorem dX5_readPart_95 : decode cX5_readPart 95 = .ok (.goto 4, 3) := dk_167 0 4 (dk_at dksX5_readPart_4 0 rfl rfl)
theorem dX5_readPart_98 : decode cX5_readPart 98 = .ok (.iconst 0, 1) := dk_3 (dk_at dksX5_readPart_4 3 rfl rfl)
theorem dX5_readPart_99 : decode cX5_readPart 99 = .ok (.invokevirtual 338, 3) := dk_182 1 82 (dk_at dksX5_readPart_4 4 rfl rfl)
theorem dX5_readPart_102 : decode cX5_readPart 102 = .ok (.aload_n 0, 1) := dk_42 (dk_at dksX5_readPart_4 7 rfl rfl)
theorem dX5_readPart_103 : decode cX5_readPart 103 = .ok (.getfield 326, 3) := dk_180 1 70 (dk_at dksX5_readPart_4 8 rfl rfl)
theorem dX5_readPart_106 : decode cX5_readPart 106 = .ok (.ifCond .eq 36, 3) := dk_153 0 36 (dk_at dksX5_readPart_4 11 rfl rfl)
theorem dX5_readPart_109 : decode cX5_readPart 109 = .ok (.iload_n 1, 1) := dk_27 (dk_at dksX5_readPart_4 14 rfl rfl)
theorem dX5_readPart_110 : decode cX5_readPart 110 = .ok (.iconst 5, 1) := dk_8 (dk_at dksX5_readPart_4 15 rfl rfl)
theorem dX5_readPart_111 : decode cX5_readPart 111 = .ok (.if_icmp .lt 31, 3) := dk_161 0 31 (dk_at dksX5_readPart_4 16 rfl rfl)
theorem dX5_readPart_114 : decode cX5_readPart 114 = .ok (.aload_n 0, 1) := dk_42 (dk_at dksX5_readPart_4 19 rfl rfl)
theorem dX5_readPart_115 : decode cX5_readPart 115 = .ok (.getfield 249, 3) := dk_180 0 249 (dk_at dksX5_readPart_4 20 rfl rfl)
theorem dX5_readPart_118 : decode cX5_readPart 118 = .ok (.ifCond .ne 24, 3) := dk_154 0 24 (dk_at dksX5_readPart_5 0 rfl rfl)
theorem dX5_readPart_121 : decode cX5_readPart 121 = .ok (.aload_n 0, 1) := dk_42 (dk_at dksX5_readPart_5 3 rfl rfl)
theorem dX5_readPart_122 : decode cX5_readPart 122 = .ok (.getfield 286, 3) := dk_180 1 30 (dk_at dksX5_readPart_5 4 rfl rfl)
theorem dX5_readPart_125 : decode cX5_readPart 125 = .ok (.iconst 1, 1) := dk_4 (dk_at dksX5_readPart_5 7 rfl rfl)
theorem dX5_readPart_126 : decode cX5_readPart 126 = .ok (.isub, 1) := dk_100 (dk_at dksX5_readPart_5 8 rfl rfl)
theorem dX5_readPart_127 : decode cX5_readPart 127 = .ok (.istore_n 3, 1) := dk_62 (dk_at dksX5_readPart_5 9 rfl rfl)
theorem dX5_readPart_128 : decode cX5_readPart 128 = .ok (.aload_n 0, 1) := dk_42 (dk_at dksX5_readPart_5 10 rfl rfl)
theorem dX5_readPart_129 : decode cX5_readPart 129 = .ok (.getfield 48, 3) := dk_180 0 48 (dk_at dksX5_readPart_5 11 rfl rfl)
theorem dX5_readPart_132 : decode cX5_readPart 132 = .ok (.iload_n 3, 1) := dk_29 (dk_at dksX5_readPart_5 14 rfl rfl)
theorem dX5_readPart_133 : decode cX5_readPart 133 = .ok (.aload_n 0, 1) := dk_42 (dk_at dksX5_readPart_5 15 rfl rfl)
theorem dX5_readPart_134 : decode cX5_readPart 134 = .ok (.lconst 0, 1) := dk_9 (dk_at dksX5_readPart_5 16 rfl rfl)
theorem dX5_readPart_135 : decode cX5_readPart 135 = .ok (.ldc2_w 201, 3) := dk_20 0 201 (dk_at dksX5_readPart_5 17 rfl rfl)
theorem dX5_readPart_138 : decode cX5_readPart 138 = .ok (.invokevirtual 342, 3) := dk_182 1 86 (dk_at dksX5_readPart_5 20 rfl rfl)
theorem dX5_readPart_141 : decode cX5_readPart 141 = .ok (.iastore, 1) := dk_79 (dk_at dksX5_readPart_5 23 rfl rfl)
theorem dX5_readPart_142 : decode cX5_readPart 142 = .ok (.iconst 3, 1) := dk_6 (dk_at dksX5_readPart_6 0 rfl rfl)
theorem dX5_readPart_143 : decode cX5_readPart 143 = .ok (.ireturn, 1) := dk_172 (dk_at dksX5_readPart_6 1 rfl rfl)
abbrev cX5_orderPartAt : ByteArray := prog_22_method_48_code
def yX5_orderPartAt : MethodName := ⟨RX5, "orderPartAt", "()I"⟩
def dkwX5_orderPartAt_1 : List UInt8 := [4, 96, 167, 0, 4, 27, 60, 132, 2, 1, 167, 255, 226, 27, 172]
abbrev dktX5_orderPartAt_1 : List UInt8 := dkwX5_orderPartAt_1 ++ []
def dkwX5_orderPartAt_0 : List UInt8 := [2, 60, 3, 61, 28, 16, 7, 162, 0, 30, 42, 42, 180, 0, 91, 28, 47, 182, 1, 51, 153, 0, 9, 28]
abbrev dktX5_orderPartAt_0 : List UInt8 := dkwX5_orderPartAt_0 ++ dktX5_orderPartAt_1
theorem dksX5_orderPartAt_0 : cX5_orderPartAt.data.toList.drop 0 = dktX5_orderPartAt_0 := by decide +kernel
theorem dksX5_orderPartAt_1 : cX5_orderPartAt.data.toList.drop 24 = dktX5_orderPartAt_1 := dk_seg dksX5_orderPartAt_0 24 rfl rfl
theorem dX5_orderPartAt_0 : decode cX5_orderPartAt 0 = .ok (.iconst (-1), 1) := dk_2 (dk_at dksX5_orderPartAt_0 0 rfl rfl)
theorem dX5_orderPartAt_1 : decode cX5_orderPartAt 1 = .ok (.istore_n 1, 1) := dk_60 (dk_at dksX5_orderPartAt_0 1 rfl rfl)
theorem dX5_orderPartAt_2 : decode cX5_orderPartAt 2 = .ok (.iconst 0, 1) := dk_3 (dk_at dksX5_orderPartAt_0 2 rfl rfl)
theorem dX5_orderPartAt_3 : decode cX5_orderPartAt 3 = .ok (.istore_n 2, 1) := dk_61 (dk_at dksX5_orderPartAt_0 3 rfl rfl)
theorem dX5_orderPartAt_4 : decode cX5_orderPartAt 4 = .ok (.iload_n 2, 1) := dk_28 (dk_at dksX5_orderPartAt_0 4 rfl rfl)
theorem dX5_orderPartAt_5 : decode cX5_orderPartAt 5 = .ok (.bipush 7, 2) := dk_16 7 (dk_at dksX5_orderPartAt_0 5 rfl rfl)
theorem dX5_orderPartAt_7 : decode cX5_orderPartAt 7 = .ok (.if_icmp .ge 30, 3) := dk_162 0 30 (dk_at dksX5_orderPartAt_0 7 rfl rfl)
theorem dX5_orderPartAt_10 : decode cX5_orderPartAt 10 = .ok (.aload_n 0, 1) := dk_42 (dk_at dksX5_orderPartAt_0 10 rfl rfl)
theorem dX5_orderPartAt_11 : decode cX5_orderPartAt 11 = .ok (.aload_n 0, 1) := dk_42 (dk_at dksX5_orderPartAt_0 11 rfl rfl)
theorem dX5_orderPartAt_12 : decode cX5_orderPartAt 12 = .ok (.getfield 91, 3) := dk_180 0 91 (dk_at dksX5_orderPartAt_0 12 rfl rfl)
theorem dX5_orderPartAt_15 : decode cX5_orderPartAt 15 = .ok (.iload_n 2, 1) := dk_28 (dk_at dksX5_orderPartAt_0 15 rfl rfl)
theorem dX5_orderPartAt_16 : decode cX5_orderPartAt 16 = .ok (.laload, 1) := dk_47 (dk_at dksX5_orderPartAt_0 16 rfl rfl)
theorem dX5_orderPartAt_17 : decode cX5_orderPartAt 17 = .ok (.invokevirtual 307, 3) := dk_182 1 51 (dk_at dksX5_orderPartAt_0 17 rfl rfl)
theorem dX5_orderPartAt_20 : decode cX5_orderPartAt 20 = .ok (.ifCond .eq 9, 3) := dk_153 0 9 (dk_at dksX5_orderPartAt_0 20 rfl rfl)
theorem dX5_orderPartAt_23 : decode cX5_orderPartAt 23 = .ok (.iload_n 2, 1) := dk_28 (dk_at dksX5_orderPartAt_0 23 rfl rfl)
theorem dX5_orderPartAt_24 : decode cX5_orderPartAt 24 = .ok (.iconst 1, 1) := dk_4 (dk_at dksX5_orderPartAt_1 0 rfl rfl)
theorem dX5_orderPartAt_25 : decode cX5_orderPartAt 25 = .ok (.iadd, 1) := dk_96 (dk_at dksX5_orderPartAt_1 1 rfl rfl)
theorem dX5_orderPartAt_26 : decode cX5_orderPartAt 26 = .ok (.goto 4, 3) := dk_167 0 4 (dk_at dksX5_orderPartAt_1 2 rfl rfl)
theorem dX5_orderPartAt_29 : decode cX5_orderPartAt 29 = .ok (.iload_n 1, 1) := dk_27 (dk_at dksX5_orderPartAt_1 5 rfl rfl)
theorem dX5_orderPartAt_30 : decode cX5_orderPartAt 30 = .ok (.istore_n 1, 1) := dk_60 (dk_at dksX5_orderPartAt_1 6 rfl rfl)
theorem dX5_orderPartAt_31 : decode cX5_orderPartAt 31 = .ok (.iinc 2 1, 3) := dk_132 2 1 (dk_at dksX5_orderPartAt_1 7 rfl rfl)
theorem dX5_orderPartAt_34 : decode cX5_orderPartAt 34 = .ok (.goto (-30), 3) := dk_167 255 226 (dk_at dksX5_orderPartAt_1 10 rfl rfl)
theorem dX5_orderPartAt_37 : decode cX5_orderPartAt 37 = .ok (.iload_n 1, 1) := dk_27 (dk_at dksX5_orderPartAt_1 13 rfl rfl)
theorem dX5_orderPartAt_38 : decode cX5_orderPartAt 38 = .ok (.ireturn, 1) := dk_172 (dk_at dksX5_orderPartAt_1 14 rfl rfl)
abbrev cX5_partAt : ByteArray := prog_22_method_47_code
def yX5_partAt : MethodName := ⟨RX5, "partAt", "()I"⟩
def dkwX5_partAt_1 : List UInt8 := [4, 96, 167, 0, 4, 27, 60, 132, 2, 1, 167, 255, 226, 27, 172]
abbrev dktX5_partAt_1 : List UInt8 := dkwX5_partAt_1 ++ []
def dkwX5_partAt_0 : List UInt8 := [2, 60, 3, 61, 28, 16, 11, 162, 0, 30, 42, 42, 180, 0, 79, 28, 47, 182, 1, 51, 153, 0, 9, 28]
abbrev dktX5_partAt_0 : List UInt8 := dkwX5_partAt_0 ++ dktX5_partAt_1
theorem dksX5_partAt_0 : cX5_partAt.data.toList.drop 0 = dktX5_partAt_0 := by decide +kernel
theorem dksX5_partAt_1 : cX5_partAt.data.toList.drop 24 = dktX5_partAt_1 := dk_seg dksX5_partAt_0 24 rfl rfl
theorem dX5_partAt_0 : decode cX5_partAt 0 = .ok (.iconst (-1), 1) := dk_2 (dk_at dksX5_partAt_0 0 rfl rfl)
theorem dX5_partAt_1 : decode cX5_partAt 1 = .ok (.istore_n 1, 1) := dk_60 (dk_at dksX5_partAt_0 1 rfl rfl)
theorem dX5_partAt_2 : decode cX5_partAt 2 = .ok (.iconst 0, 1) := dk_3 (dk_at dksX5_partAt_0 2 rfl rfl)
theorem dX5_partAt_3 : decode cX5_partAt 3 = .ok (.istore_n 2, 1) := dk_61 (dk_at dksX5_partAt_0 3 rfl rfl)
theorem dX5_partAt_4 : decode cX5_partAt 4 = .ok (.iload_n 2, 1) := dk_28 (dk_at dksX5_partAt_0 4 rfl rfl)
theorem dX5_partAt_5 : decode cX5_partAt 5 = .ok (.bipush 11, 2) := dk_16 11 (dk_at dksX5_partAt_0 5 rfl rfl)
theorem dX5_partAt_7 : decode cX5_partAt 7 = .ok (.if_icmp .ge 30, 3) := dk_162 0 30 (dk_at dksX5_partAt_0 7 rfl rfl)
theorem dX5_partAt_10 : decode cX5_partAt 10 = .ok (.aload_n 0, 1) := dk_42 (dk_at dksX5_partAt_0 10 rfl rfl)
theorem dX5_partAt_11 : decode cX5_partAt 11 = .ok (.aload_n 0, 1) := dk_42 (dk_at dksX5_partAt_0 11 rfl rfl)
theorem dX5_partAt_12 : decode cX5_partAt 12 = .ok (.getfield 79, 3) := dk_180 0 79 (dk_at dksX5_partAt_0 12 rfl rfl)
theorem dX5_partAt_15 : decode cX5_partAt 15 = .ok (.iload_n 2, 1) := dk_28 (dk_at dksX5_partAt_0 15 rfl rfl)
theorem dX5_partAt_16 : decode cX5_partAt 16 = .ok (.laload, 1) := dk_47 (dk_at dksX5_partAt_0 16 rfl rfl)
theorem dX5_partAt_17 : decode cX5_partAt 17 = .ok (.invokevirtual 307, 3) := dk_182 1 51 (dk_at dksX5_partAt_0 17 rfl rfl)
theorem dX5_partAt_20 : decode cX5_partAt 20 = .ok (.ifCond .eq 9, 3) := dk_153 0 9 (dk_at dksX5_partAt_0 20 rfl rfl)
theorem dX5_partAt_23 : decode cX5_partAt 23 = .ok (.iload_n 2, 1) := dk_28 (dk_at dksX5_partAt_0 23 rfl rfl)
theorem dX5_partAt_24 : decode cX5_partAt 24 = .ok (.iconst 1, 1) := dk_4 (dk_at dksX5_partAt_1 0 rfl rfl)
theorem dX5_partAt_25 : decode cX5_partAt 25 = .ok (.iadd, 1) := dk_96 (dk_at dksX5_partAt_1 1 rfl rfl)
theorem dX5_partAt_26 : decode cX5_partAt 26 = .ok (.goto 4, 3) := dk_167 0 4 (dk_at dksX5_partAt_1 2 rfl rfl)
theorem dX5_partAt_29 : decode cX5_partAt 29 = .ok (.iload_n 1, 1) := dk_27 (dk_at dksX5_partAt_1 5 rfl rfl)
theorem dX5_partAt_30 : decode cX5_partAt 30 = .ok (.istore_n 1, 1) := dk_60 (dk_at dksX5_partAt_1 6 rfl rfl)
theorem dX5_partAt_31 : decode cX5_partAt 31 = .ok (.iinc 2 1, 3) := dk_132 2 1 (dk_at dksX5_partAt_1 7 rfl rfl)
theorem dX5_partAt_34 : decode cX5_partAt 34 = .ok (.goto (-30), 3) := dk_167 255 226 (dk_at dksX5_partAt_1 10 rfl rfl)
theorem dX5_partAt_37 : decode cX5_partAt 37 = .ok (.iload_n 1, 1) := dk_27 (dk_at dksX5_partAt_1 13 rfl rfl)
theorem dX5_partAt_38 : decode cX5_partAt 38 = .ok (.ireturn, 1) := dk_172 (dk_at dksX5_partAt_1 14 rfl rfl)
abbrev cX5_leaf : ByteArray := prog_22_method_50_code
def yX5_leaf : MethodName := ⟨RX5, "leaf", "(ZII)V"⟩
def dkwX5_leaf_1 : List UInt8 := [180, 0, 249, 154, 0, 19, 42, 28, 29, 182, 1, 39, 42, 89, 180, 1, 61, 4, 96, 181, 1, 61, 177]
abbrev dktX5_leaf_1 : List UInt8 := dkwX5_leaf_1 ++ []
def dkwX5_leaf_0 : List UInt8 := [42, 27, 153, 0, 16, 42, 180, 1, 61, 16, 50, 162, 0, 7, 4, 167, 0, 4, 3, 182, 1, 26, 42]
abbrev dktX5_leaf_0 : List UInt8 := dkwX5_leaf_0 ++ dktX5_leaf_1
theorem dksX5_leaf_0 : cX5_leaf.data.toList.drop 0 = dktX5_leaf_0 := by decide +kernel
theorem dksX5_leaf_1 : cX5_leaf.data.toList.drop 23 = dktX5_leaf_1 := dk_seg dksX5_leaf_0 23 rfl rfl
theorem dX5_leaf_0 : decode cX5_leaf 0 = .ok (.aload_n 0, 1) := dk_42 (dk_at dksX5_leaf_0 0 rfl rfl)
theorem dX5_leaf_1 : decode cX5_leaf 1 = .ok (.iload_n 1, 1) := dk_27 (dk_at dksX5_leaf_0 1 rfl rfl)
theorem dX5_leaf_2 : decode cX5_leaf 2 = .ok (.ifCond .eq 16, 3) := dk_153 0 16 (dk_at dksX5_leaf_0 2 rfl rfl)
theorem dX5_leaf_5 : decode cX5_leaf 5 = .ok (.aload_n 0, 1) := dk_42 (dk_at dksX5_leaf_0 5 rfl rfl)
theorem dX5_leaf_6 : decode cX5_leaf 6 = .ok (.getfield 317, 3) := dk_180 1 61 (dk_at dksX5_leaf_0 6 rfl rfl)
theorem dX5_leaf_9 : decode cX5_leaf 9 = .ok (.bipush 50, 2) := dk_16 50 (dk_at dksX5_leaf_0 9 rfl rfl)
theorem dX5_leaf_11 : decode cX5_leaf 11 = .ok (.if_icmp .ge 7, 3) := dk_162 0 7 (dk_at dksX5_leaf_0 11 rfl rfl)
theorem dX5_leaf_14 : decode cX5_leaf 14 = .ok (.iconst 1, 1) := dk_4 (dk_at dksX5_leaf_0 14 rfl rfl)
theorem dX5_leaf_15 : decode cX5_leaf 15 = .ok (.goto 4, 3) := dk_167 0 4 (dk_at dksX5_leaf_0 15 rfl rfl)
theorem dX5_leaf_18 : decode cX5_leaf 18 = .ok (.iconst 0, 1) := dk_3 (dk_at dksX5_leaf_0 18 rfl rfl)
theorem dX5_leaf_19 : decode cX5_leaf 19 = .ok (.invokevirtual 282, 3) := dk_182 1 26 (dk_at dksX5_leaf_0 19 rfl rfl)
theorem dX5_leaf_22 : decode cX5_leaf 22 = .ok (.aload_n 0, 1) := dk_42 (dk_at dksX5_leaf_0 22 rfl rfl)
theorem dX5_leaf_23 : decode cX5_leaf 23 = .ok (.getfield 249, 3) := dk_180 0 249 (dk_at dksX5_leaf_1 0 rfl rfl)
theorem dX5_leaf_26 : decode cX5_leaf 26 = .ok (.ifCond .ne 19, 3) := dk_154 0 19 (dk_at dksX5_leaf_1 3 rfl rfl)
theorem dX5_leaf_29 : decode cX5_leaf 29 = .ok (.aload_n 0, 1) := dk_42 (dk_at dksX5_leaf_1 6 rfl rfl)
theorem dX5_leaf_30 : decode cX5_leaf 30 = .ok (.iload_n 2, 1) := dk_28 (dk_at dksX5_leaf_1 7 rfl rfl)
theorem dX5_leaf_31 : decode cX5_leaf 31 = .ok (.iload_n 3, 1) := dk_29 (dk_at dksX5_leaf_1 8 rfl rfl)
theorem dX5_leaf_32 : decode cX5_leaf 32 = .ok (.invokevirtual 295, 3) := dk_182 1 39 (dk_at dksX5_leaf_1 9 rfl rfl)
theorem dX5_leaf_35 : decode cX5_leaf 35 = .ok (.aload_n 0, 1) := dk_42 (dk_at dksX5_leaf_1 12 rfl rfl)
theorem dX5_leaf_36 : decode cX5_leaf 36 = .ok (.dup, 1) := dk_89 (dk_at dksX5_leaf_1 13 rfl rfl)
theorem dX5_leaf_37 : decode cX5_leaf 37 = .ok (.getfield 317, 3) := dk_180 1 61 (dk_at dksX5_leaf_1 14 rfl rfl)
theorem dX5_leaf_40 : decode cX5_leaf 40 = .ok (.iconst 1, 1) := dk_4 (dk_at dksX5_leaf_1 17 rfl rfl)
theorem dX5_leaf_41 : decode cX5_leaf 41 = .ok (.iadd, 1) := dk_96 (dk_at dksX5_leaf_1 18 rfl rfl)
theorem dX5_leaf_42 : decode cX5_leaf 42 = .ok (.putfield 317, 3) := dk_181 1 61 (dk_at dksX5_leaf_1 19 rfl rfl)
theorem dX5_leaf_45 : decode cX5_leaf 45 = .ok (.return_, 1) := dk_177 (dk_at dksX5_leaf_1 22 rfl rfl)
abbrev cX5_emit : ByteArray := prog_22_method_41_code
def yX5_emit : MethodName := ⟨RX5, "emit", "(II)V"⟩
def dkwX5_emit_1 : List UInt8 := [180, 1, 30, 4, 96, 181, 1, 30, 177]
abbrev dktX5_emit_1 : List UInt8 := dkwX5_emit_1 ++ []
def dkwX5_emit_0 : List UInt8 := [42, 180, 0, 45, 42, 180, 1, 30, 27, 79, 42, 180, 0, 48, 42, 180, 1, 30, 28, 79, 42, 89]
abbrev dktX5_emit_0 : List UInt8 := dkwX5_emit_0 ++ dktX5_emit_1
theorem dksX5_emit_0 : cX5_emit.data.toList.drop 0 = dktX5_emit_0 := by decide +kernel
theorem dksX5_emit_1 : cX5_emit.data.toList.drop 22 = dktX5_emit_1 := dk_seg dksX5_emit_0 22 rfl rfl
theorem dX5_emit_0 : decode cX5_emit 0 = .ok (.aload_n 0, 1) := dk_42 (dk_at dksX5_emit_0 0 rfl rfl)
theorem dX5_emit_1 : decode cX5_emit 1 = .ok (.getfield 45, 3) := dk_180 0 45 (dk_at dksX5_emit_0 1 rfl rfl)
theorem dX5_emit_4 : decode cX5_emit 4 = .ok (.aload_n 0, 1) := dk_42 (dk_at dksX5_emit_0 4 rfl rfl)
theorem dX5_emit_5 : decode cX5_emit 5 = .ok (.getfield 286, 3) := dk_180 1 30 (dk_at dksX5_emit_0 5 rfl rfl)
theorem dX5_emit_8 : decode cX5_emit 8 = .ok (.iload_n 1, 1) := dk_27 (dk_at dksX5_emit_0 8 rfl rfl)
theorem dX5_emit_9 : decode cX5_emit 9 = .ok (.iastore, 1) := dk_79 (dk_at dksX5_emit_0 9 rfl rfl)
theorem dX5_emit_10 : decode cX5_emit 10 = .ok (.aload_n 0, 1) := dk_42 (dk_at dksX5_emit_0 10 rfl rfl)
theorem dX5_emit_11 : decode cX5_emit 11 = .ok (.getfield 48, 3) := dk_180 0 48 (dk_at dksX5_emit_0 11 rfl rfl)
theorem dX5_emit_14 : decode cX5_emit 14 = .ok (.aload_n 0, 1) := dk_42 (dk_at dksX5_emit_0 14 rfl rfl)
theorem dX5_emit_15 : decode cX5_emit 15 = .ok (.getfield 286, 3) := dk_180 1 30 (dk_at dksX5_emit_0 15 rfl rfl)
theorem dX5_emit_18 : decode cX5_emit 18 = .ok (.iload_n 2, 1) := dk_28 (dk_at dksX5_emit_0 18 rfl rfl)
theorem dX5_emit_19 : decode cX5_emit 19 = .ok (.iastore, 1) := dk_79 (dk_at dksX5_emit_0 19 rfl rfl)
theorem dX5_emit_20 : decode cX5_emit 20 = .ok (.aload_n 0, 1) := dk_42 (dk_at dksX5_emit_0 20 rfl rfl)
theorem dX5_emit_21 : decode cX5_emit 21 = .ok (.dup, 1) := dk_89 (dk_at dksX5_emit_0 21 rfl rfl)
theorem dX5_emit_22 : decode cX5_emit 22 = .ok (.getfield 286, 3) := dk_180 1 30 (dk_at dksX5_emit_1 0 rfl rfl)
theorem dX5_emit_25 : decode cX5_emit 25 = .ok (.iconst 1, 1) := dk_4 (dk_at dksX5_emit_1 3 rfl rfl)
theorem dX5_emit_26 : decode cX5_emit 26 = .ok (.iadd, 1) := dk_96 (dk_at dksX5_emit_1 4 rfl rfl)
theorem dX5_emit_27 : decode cX5_emit 27 = .ok (.putfield 286, 3) := dk_181 1 30 (dk_at dksX5_emit_1 5 rfl rfl)
theorem dX5_emit_30 : decode cX5_emit 30 = .ok (.return_, 1) := dk_177 (dk_at dksX5_emit_1 8 rfl rfl)
abbrev cX5_number : ByteArray := prog_22_method_39_code
def yX5_number : MethodName := ⟨RX5, "number", "(JJ)I"⟩
def dkwX5_number_1 : List UInt8 := [184, 0, 194, 153, 0, 7, 4, 167, 0, 4, 3, 182, 1, 26, 21, 5, 172]
abbrev dktX5_number_1 : List UInt8 := dkwX5_number_1 ++ []
def dkwX5_number_0 : List UInt8 := [42, 180, 1, 3, 136, 54, 5, 42, 42, 180, 1, 13, 5, 160, 0, 19, 42, 180, 1, 3, 31, 33]
abbrev dktX5_number_0 : List UInt8 := dkwX5_number_0 ++ dktX5_number_1
theorem dksX5_number_0 : cX5_number.data.toList.drop 0 = dktX5_number_0 := by decide +kernel
theorem dksX5_number_1 : cX5_number.data.toList.drop 22 = dktX5_number_1 := dk_seg dksX5_number_0 22 rfl rfl
theorem dX5_number_0 : decode cX5_number 0 = .ok (.aload_n 0, 1) := dk_42 (dk_at dksX5_number_0 0 rfl rfl)
theorem dX5_number_1 : decode cX5_number 1 = .ok (.getfield 259, 3) := dk_180 1 3 (dk_at dksX5_number_0 1 rfl rfl)
theorem dX5_number_4 : decode cX5_number 4 = .ok (.l2i, 1) := dk_136 (dk_at dksX5_number_0 4 rfl rfl)
theorem dX5_number_5 : decode cX5_number 5 = .ok (.istore 5, 2) := dk_54 5 (dk_at dksX5_number_0 5 rfl rfl)
theorem dX5_number_7 : decode cX5_number 7 = .ok (.aload_n 0, 1) := dk_42 (dk_at dksX5_number_0 7 rfl rfl)
theorem dX5_number_8 : decode cX5_number 8 = .ok (.aload_n 0, 1) := dk_42 (dk_at dksX5_number_0 8 rfl rfl)
theorem dX5_number_9 : decode cX5_number 9 = .ok (.getfield 269, 3) := dk_180 1 13 (dk_at dksX5_number_0 9 rfl rfl)
theorem dX5_number_12 : decode cX5_number 12 = .ok (.iconst 2, 1) := dk_5 (dk_at dksX5_number_0 12 rfl rfl)
theorem dX5_number_13 : decode cX5_number 13 = .ok (.if_icmp .ne 19, 3) := dk_160 0 19 (dk_at dksX5_number_0 13 rfl rfl)
theorem dX5_number_16 : decode cX5_number 16 = .ok (.aload_n 0, 1) := dk_42 (dk_at dksX5_number_0 16 rfl rfl)
theorem dX5_number_17 : decode cX5_number 17 = .ok (.getfield 259, 3) := dk_180 1 3 (dk_at dksX5_number_0 17 rfl rfl)
theorem dX5_number_20 : decode cX5_number 20 = .ok (.lload_n 1, 1) := dk_31 (dk_at dksX5_number_0 20 rfl rfl)
theorem dX5_number_21 : decode cX5_number 21 = .ok (.lload_n 3, 1) := dk_33 (dk_at dksX5_number_0 21 rfl rfl)
theorem dX5_number_22 : decode cX5_number 22 = .ok (.invokestatic 194, 3) := dk_184 0 194 (dk_at dksX5_number_1 0 rfl rfl)
theorem dX5_number_25 : decode cX5_number 25 = .ok (.ifCond .eq 7, 3) := dk_153 0 7 (dk_at dksX5_number_1 3 rfl rfl)
theorem dX5_number_28 : decode cX5_number 28 = .ok (.iconst 1, 1) := dk_4 (dk_at dksX5_number_1 6 rfl rfl)
theorem dX5_number_29 : decode cX5_number 29 = .ok (.goto 4, 3) := dk_167 0 4 (dk_at dksX5_number_1 7 rfl rfl)
theorem dX5_number_32 : decode cX5_number 32 = .ok (.iconst 0, 1) := dk_3 (dk_at dksX5_number_1 10 rfl rfl)
theorem dX5_number_33 : decode cX5_number 33 = .ok (.invokevirtual 282, 3) := dk_182 1 26 (dk_at dksX5_number_1 11 rfl rfl)
theorem dX5_number_36 : decode cX5_number 36 = .ok (.iload 5, 2) := dk_21 5 (dk_at dksX5_number_1 14 rfl rfl)
theorem dX5_number_38 : decode cX5_number 38 = .ok (.ireturn, 1) := dk_172 (dk_at dksX5_number_1 16 rfl rfl)
abbrev cX5_behindSum : ByteArray := prog_22_method_53_code
def yX5_behindSum : MethodName := ⟨RX5, "behindSum", "(Z)I"⟩
def dkwX5_behindSum_10 : List UInt8 := [154, 0, 14, 42, 8, 182, 1, 95, 42, 28, 3, 182, 1, 58, 4, 172]
abbrev dktX5_behindSum_10 : List UInt8 := dkwX5_behindSum_10 ++ []
def dkwX5_behindSum_9 : List UInt8 := [160, 0, 12, 42, 16, 61, 182, 1, 64, 153, 0, 7, 4, 167, 0, 4, 3, 182, 1, 26, 42, 180, 0, 249]
abbrev dktX5_behindSum_9 : List UInt8 := dkwX5_behindSum_9 ++ dktX5_behindSum_10
def dkwX5_behindSum_8 : List UInt8 := [167, 0, 19, 42, 16, 62, 182, 1, 64, 153, 0, 8, 16, 26, 167, 0, 5, 16, 27, 61, 42, 28, 16, 27]
abbrev dktX5_behindSum_8 : List UInt8 := dkwX5_behindSum_8 ++ dktX5_behindSum_9
def dkwX5_behindSum_7 : List UInt8 := [7, 172, 42, 182, 1, 101, 153, 0, 5, 5, 172, 42, 16, 60, 182, 1, 64, 153, 0, 8, 16, 25]
abbrev dktX5_behindSum_7 : List UInt8 := dkwX5_behindSum_7 ++ dktX5_behindSum_8
def dkwX5_behindSum_6 : List UInt8 := [181, 1, 33, 42, 89, 180, 1, 55, 4, 100, 181, 1, 55, 6, 172, 29, 2, 160, 0, 9, 27, 154, 0, 5]
abbrev dktX5_behindSum_6 : List UInt8 := dkwX5_behindSum_6 ++ dktX5_behindSum_7
def dkwX5_behindSum_5 : List UInt8 := [182, 1, 26, 42, 180, 0, 249, 154, 0, 28, 42, 8, 182, 1, 95, 42, 89, 180, 1, 33, 4, 100]
abbrev dktX5_behindSum_5 : List UInt8 := dkwX5_behindSum_5 ++ dktX5_behindSum_6
def dkwX5_behindSum_4 : List UInt8 := [42, 182, 0, 253, 4, 172, 42, 182, 1, 98, 62, 29, 16, 32, 160, 0, 47, 42, 42, 16, 93, 182, 1, 64]
abbrev dktX5_behindSum_4 : List UInt8 := dkwX5_behindSum_4 ++ dktX5_behindSum_5
def dkwX5_behindSum_3 : List UInt8 := [167, 0, 4, 2, 61, 28, 2, 159, 0, 23, 42, 28, 184, 1, 36, 182, 1, 95, 42, 28, 3, 182, 1, 58]
abbrev dktX5_behindSum_3 : List UInt8 := dkwX5_behindSum_3 ++ dktX5_behindSum_4
def dkwX5_behindSum_2 : List UInt8 := [182, 1, 64, 153, 0, 8, 16, 23, 167, 0, 18, 42, 16, 37, 182, 1, 64, 153, 0, 8, 16, 24]
abbrev dktX5_behindSum_2 : List UInt8 := dkwX5_behindSum_2 ++ dktX5_behindSum_3
def dkwX5_behindSum_1 : List UInt8 := [16, 21, 167, 0, 46, 42, 16, 42, 182, 1, 64, 153, 0, 8, 16, 22, 167, 0, 32, 42, 16, 47]
abbrev dktX5_behindSum_1 : List UInt8 := dkwX5_behindSum_1 ++ dktX5_behindSum_2
def dkwX5_behindSum_0 : List UInt8 := [42, 16, 43, 182, 1, 64, 153, 0, 8, 16, 20, 167, 0, 60, 42, 16, 45, 182, 1, 64, 153, 0, 8]
abbrev dktX5_behindSum_0 : List UInt8 := dkwX5_behindSum_0 ++ dktX5_behindSum_1
theorem dksX5_behindSum_0 : cX5_behindSum.data.toList.drop 0 = dktX5_behindSum_0 := by decide +kernel
theorem dksX5_behindSum_1 : cX5_behindSum.data.toList.drop 23 = dktX5_behindSum_1 := dk_seg dksX5_behindSum_0 23 rfl rfl
theorem dksX5_behindSum_2 : cX5_behindSum.data.toList.drop 45 = dktX5_behindSum_2 := dk_seg dksX5_behindSum_1 22 rfl rfl
theorem dksX5_behindSum_3 : cX5_behindSum.data.toList.drop 67 = dktX5_behindSum_3 := dk_seg dksX5_behindSum_2 22 rfl rfl
theorem dksX5_behindSum_4 : cX5_behindSum.data.toList.drop 91 = dktX5_behindSum_4 := dk_seg dksX5_behindSum_3 24 rfl rfl
theorem dksX5_behindSum_5 : cX5_behindSum.data.toList.drop 115 = dktX5_behindSum_5 := dk_seg dksX5_behindSum_4 24 rfl rfl
theorem dksX5_behindSum_6 : cX5_behindSum.data.toList.drop 137 = dktX5_behindSum_6 := dk_seg dksX5_behindSum_5 22 rfl rfl
theorem dksX5_behindSum_7 : cX5_behindSum.data.toList.drop 161 = dktX5_behindSum_7 := dk_seg dksX5_behindSum_6 24 rfl rfl
theorem dksX5_behindSum_8 : cX5_behindSum.data.toList.drop 183 = dktX5_behindSum_8 := dk_seg dksX5_behindSum_7 22 rfl rfl
theorem dksX5_behindSum_9 : cX5_behindSum.data.toList.drop 207 = dktX5_behindSum_9 := dk_seg dksX5_behindSum_8 24 rfl rfl
theorem dksX5_behindSum_10 : cX5_behindSum.data.toList.drop 231 = dktX5_behindSum_10 := dk_seg dksX5_behindSum_9 24 rfl rfl
theorem dX5_behindSum_0 : decode cX5_behindSum 0 = .ok (.aload_n 0, 1) := dk_42 (dk_at dksX5_behindSum_0 0 rfl rfl)
theorem dX5_behindSum_1 : decode cX5_behindSum 1 = .ok (.bipush 43, 2) := dk_16 43 (dk_at dksX5_behindSum_0 1 rfl rfl)
theorem dX5_behindSum_3 : decode cX5_behindSum 3 = .ok (.invokevirtual 320, 3) := dk_182 1 64 (dk_at dksX5_behindSum_0 3 rfl rfl)
theorem dX5_behindSum_6 : decode cX5_behindSum 6 = .ok (.ifCond .eq 8, 3) := dk_153 0 8 (dk_at dksX5_behindSum_0 6 rfl rfl)
theorem dX5_behindSum_9 : decode cX5_behindSum 9 = .ok (.bipush 20, 2) := dk_16 20 (dk_at dksX5_behindSum_0 9 rfl rfl)
theorem dX5_behindSum_11 : decode cX5_behindSum 11 = .ok (.goto 60, 3) := dk_167 0 60 (dk_at dksX5_behindSum_0 11 rfl rfl)
theorem dX5_behindSum_14 : decode cX5_behindSum 14 = .ok (.aload_n 0, 1) := dk_42 (dk_at dksX5_behindSum_0 14 rfl rfl)
theorem dX5_behindSum_15 : decode cX5_behindSum 15 = .ok (.bipush 45, 2) := dk_16 45 (dk_at dksX5_behindSum_0 15 rfl rfl)
theorem dX5_behindSum_17 : decode cX5_behindSum 17 = .ok (.invokevirtual 320, 3) := dk_182 1 64 (dk_at dksX5_behindSum_0 17 rfl rfl)
theorem dX5_behindSum_20 : decode cX5_behindSum 20 = .ok (.ifCond .eq 8, 3) := dk_153 0 8 (dk_at dksX5_behindSum_0 20 rfl rfl)
theorem dX5_behindSum_23 : decode cX5_behindSum 23 = .ok (.bipush 21, 2) := dk_16 21 (dk_at dksX5_behindSum_1 0 rfl rfl)
theorem dX5_behindSum_25 : decode cX5_behindSum 25 = .ok (.goto 46, 3) := dk_167 0 46 (dk_at dksX5_behindSum_1 2 rfl rfl)
theorem dX5_behindSum_28 : decode cX5_behindSum 28 = .ok (.aload_n 0, 1) := dk_42 (dk_at dksX5_behindSum_1 5 rfl rfl)
theorem dX5_behindSum_29 : decode cX5_behindSum 29 = .ok (.bipush 42, 2) := dk_16 42 (dk_at dksX5_behindSum_1 6 rfl rfl)
theorem dX5_behindSum_31 : decode cX5_behindSum 31 = .ok (.invokevirtual 320, 3) := dk_182 1 64 (dk_at dksX5_behindSum_1 8 rfl rfl)
theorem dX5_behindSum_34 : decode cX5_behindSum 34 = .ok (.ifCond .eq 8, 3) := dk_153 0 8 (dk_at dksX5_behindSum_1 11 rfl rfl)
theorem dX5_behindSum_37 : decode cX5_behindSum 37 = .ok (.bipush 22, 2) := dk_16 22 (dk_at dksX5_behindSum_1 14 rfl rfl)
theorem dX5_behindSum_39 : decode cX5_behindSum 39 = .ok (.goto 32, 3) := dk_167 0 32 (dk_at dksX5_behindSum_1 16 rfl rfl)
theorem dX5_behindSum_42 : decode cX5_behindSum 42 = .ok (.aload_n 0, 1) := dk_42 (dk_at dksX5_behindSum_1 19 rfl rfl)
theorem dX5_behindSum_43 : decode cX5_behindSum 43 = .ok (.bipush 47, 2) := dk_16 47 (dk_at dksX5_behindSum_1 20 rfl rfl)
theorem dX5_behindSum_45 : decode cX5_behindSum 45 = .ok (.invokevirtual 320, 3) := dk_182 1 64 (dk_at dksX5_behindSum_2 0 rfl rfl)
theorem dX5_behindSum_48 : decode cX5_behindSum 48 = .ok (.ifCond .eq 8, 3) := dk_153 0 8 (dk_at dksX5_behindSum_2 3 rfl rfl)
theorem dX5_behindSum_51 : decode cX5_behindSum 51 = .ok (.bipush 23, 2) := dk_16 23 (dk_at dksX5_behindSum_2 6 rfl rfl)
theorem dX5_behindSum_53 : decode cX5_behindSum 53 = .ok (.goto 18, 3) := dk_167 0 18 (dk_at dksX5_behindSum_2 8 rfl rfl)
theorem dX5_behindSum_56 : decode cX5_behindSum 56 = .ok (.aload_n 0, 1) := dk_42 (dk_at dksX5_behindSum_2 11 rfl rfl)
theorem dX5_behindSum_57 : decode cX5_behindSum 57 = .ok (.bipush 37, 2) := dk_16 37 (dk_at dksX5_behindSum_2 12 rfl rfl)
theorem dX5_behindSum_59 : decode cX5_behindSum 59 = .ok (.invokevirtual 320, 3) := dk_182 1 64 (dk_at dksX5_behindSum_2 14 rfl rfl)
theorem dX5_behindSum_62 : decode cX5_behindSum 62 = .ok (.ifCond .eq 8, 3) := dk_153 0 8 (dk_at dksX5_behindSum_2 17 rfl rfl)
theorem dX5_behindSum_65 : decode cX5_behindSum 65 = .ok (.bipush 24, 2) := dk_16 24 (dk_at dksX5_behindSum_2 20 rfl rfl)
theorem dX5_behindSum_67 : decode cX5_behindSum 67 = .ok (.goto 4, 3) := dk_167 0 4 (dk_at dksX5_behindSum_3 0 rfl rfl)
theorem dX5_behindSum_70 : decode cX5_behindSum 70 = .ok (.iconst (-1), 1) := dk_2 (dk_at dksX5_behindSum_3 3 rfl rfl)
theorem dX5_behindSum_71 : decode cX5_behindSum 71 = .ok (.istore_n 2, 1) := dk_61 (dk_at dksX5_behindSum_3 4 rfl rfl)
theorem dX5_behindSum_72 : decode cX5_behindSum 72 = .ok (.iload_n 2, 1) := dk_28 (dk_at dksX5_behindSum_3 5 rfl rfl)
theorem dX5_behindSum_73 : decode cX5_behindSum 73 = .ok (.iconst (-1), 1) := dk_2 (dk_at dksX5_behindSum_3 6 rfl rfl)
theorem dX5_behindSum_74 : decode cX5_behindSum 74 = .ok (.if_icmp .eq 23, 3) := dk_159 0 23 (dk_at dksX5_behindSum_3 7 rfl rfl)
theorem dX5_behindSum_77 : decode cX5_behindSum 77 = .ok (.aload_n 0, 1) := dk_42 (dk_at dksX5_behindSum_3 10 rfl rfl)
theorem dX5_behindSum_78 : decode cX5_behindSum 78 = .ok (.iload_n 2, 1) := dk_28 (dk_at dksX5_behindSum_3 11 rfl rfl)
theorem dX5_behindSum_79 : decode cX5_behindSum 79 = .ok (.invokestatic 292, 3) := dk_184 1 36 (dk_at dksX5_behindSum_3 12 rfl rfl)
theorem dX5_behindSum_82 : decode cX5_behindSum 82 = .ok (.invokevirtual 351, 3) := dk_182 1 95 (dk_at dksX5_behindSum_3 15 rfl rfl)
theorem dX5_behindSum_85 : decode cX5_behindSum 85 = .ok (.aload_n 0, 1) := dk_42 (dk_at dksX5_behindSum_3 18 rfl rfl)
theorem dX5_behindSum_86 : decode cX5_behindSum 86 = .ok (.iload_n 2, 1) := dk_28 (dk_at dksX5_behindSum_3 19 rfl rfl)
theorem dX5_behindSum_87 : decode cX5_behindSum 87 = .ok (.iconst 0, 1) := dk_3 (dk_at dksX5_behindSum_3 20 rfl rfl)
theorem dX5_behindSum_88 : decode cX5_behindSum 88 = .ok (.invokevirtual 314, 3) := dk_182 1 58 (dk_at dksX5_behindSum_3 21 rfl rfl)
theorem dX5_behindSum_91 : decode cX5_behindSum 91 = .ok (.aload_n 0, 1) := dk_42 (dk_at dksX5_behindSum_4 0 rfl rfl)
theorem dX5_behindSum_92 : decode cX5_behindSum 92 = .ok (.invokevirtual 253, 3) := dk_182 0 253 (dk_at dksX5_behindSum_4 1 rfl rfl)
theorem dX5_behindSum_95 : decode cX5_behindSum 95 = .ok (.iconst 1, 1) := dk_4 (dk_at dksX5_behindSum_4 4 rfl rfl)
theorem dX5_behindSum_96 : decode cX5_behindSum 96 = .ok (.ireturn, 1) := dk_172 (dk_at dksX5_behindSum_4 5 rfl rfl)
theorem dX5_behindSum_97 : decode cX5_behindSum 97 = .ok (.aload_n 0, 1) := dk_42 (dk_at dksX5_behindSum_4 6 rfl rfl)
theorem dX5_behindSum_98 : decode cX5_behindSum 98 = .ok (.invokevirtual 354, 3) := dk_182 1 98 (dk_at dksX5_behindSum_4 7 rfl rfl)
theorem dX5_behindSum_101 : decode cX5_behindSum 101 = .ok (.istore_n 3, 1) := dk_62 (dk_at dksX5_behindSum_4 10 rfl rfl)
theorem dX5_behindSum_102 : decode cX5_behindSum 102 = .ok (.iload_n 3, 1) := dk_29 (dk_at dksX5_behindSum_4 11 rfl rfl)
theorem dX5_behindSum_103 : decode cX5_behindSum 103 = .ok (.bipush 32, 2) := dk_16 32 (dk_at dksX5_behindSum_4 12 rfl rfl)
theorem dX5_behindSum_105 : decode cX5_behindSum 105 = .ok (.if_icmp .ne 47, 3) := dk_160 0 47 (dk_at dksX5_behindSum_4 14 rfl rfl)
theorem dX5_behindSum_108 : decode cX5_behindSum 108 = .ok (.aload_n 0, 1) := dk_42 (dk_at dksX5_behindSum_4 17 rfl rfl)
theorem dX5_behindSum_109 : decode cX5_behindSum 109 = .ok (.aload_n 0, 1) := dk_42 (dk_at dksX5_behindSum_4 18 rfl rfl)
theorem dX5_behindSum_110 : decode cX5_behindSum 110 = .ok (.bipush 93, 2) := dk_16 93 (dk_at dksX5_behindSum_4 19 rfl rfl)
theorem dX5_behindSum_112 : decode cX5_behindSum 112 = .ok (.invokevirtual 320, 3) := dk_182 1 64 (dk_at dksX5_behindSum_4 21 rfl rfl)
theorem dX5_behindSum_115 : decode cX5_behindSum 115 = .ok (.invokevirtual 282, 3) := dk_182 1 26 (dk_at dksX5_behindSum_5 0 rfl rfl)
theorem dX5_behindSum_118 : decode cX5_behindSum 118 = .ok (.aload_n 0, 1) := dk_42 (dk_at dksX5_behindSum_5 3 rfl rfl)
theorem dX5_behindSum_119 : decode cX5_behindSum 119 = .ok (.getfield 249, 3) := dk_180 0 249 (dk_at dksX5_behindSum_5 4 rfl rfl)
theorem dX5_behindSum_122 : decode cX5_behindSum 122 = .ok (.ifCond .ne 28, 3) := dk_154 0 28 (dk_at dksX5_behindSum_5 7 rfl rfl)
theorem dX5_behindSum_125 : decode cX5_behindSum 125 = .ok (.aload_n 0, 1) := dk_42 (dk_at dksX5_behindSum_5 10 rfl rfl)
theorem dX5_behindSum_126 : decode cX5_behindSum 126 = .ok (.iconst 5, 1) := dk_8 (dk_at dksX5_behindSum_5 11 rfl rfl)
theorem dX5_behindSum_127 : decode cX5_behindSum 127 = .ok (.invokevirtual 351, 3) := dk_182 1 95 (dk_at dksX5_behindSum_5 12 rfl rfl)
theorem dX5_behindSum_130 : decode cX5_behindSum 130 = .ok (.aload_n 0, 1) := dk_42 (dk_at dksX5_behindSum_5 15 rfl rfl)
theorem dX5_behindSum_131 : decode cX5_behindSum 131 = .ok (.dup, 1) := dk_89 (dk_at dksX5_behindSum_5 16 rfl rfl)
theorem dX5_behindSum_132 : decode cX5_behindSum 132 = .ok (.getfield 289, 3) := dk_180 1 33 (dk_at dksX5_behindSum_5 17 rfl rfl)
theorem dX5_behindSum_135 : decode cX5_behindSum 135 = .ok (.iconst 1, 1) := dk_4 (dk_at dksX5_behindSum_5 20 rfl rfl)
theorem dX5_behindSum_136 : decode cX5_behindSum 136 = .ok (.isub, 1) := dk_100 (dk_at dksX5_behindSum_5 21 rfl rfl)
theorem dX5_behindSum_137 : decode cX5_behindSum 137 = .ok (.putfield 289, 3) := dk_181 1 33 (dk_at dksX5_behindSum_6 0 rfl rfl)
theorem dX5_behindSum_140 : decode cX5_behindSum 140 = .ok (.aload_n 0, 1) := dk_42 (dk_at dksX5_behindSum_6 3 rfl rfl)
theorem dX5_behindSum_141 : decode cX5_behindSum 141 = .ok (.dup, 1) := dk_89 (dk_at dksX5_behindSum_6 4 rfl rfl)
theorem dX5_behindSum_142 : decode cX5_behindSum 142 = .ok (.getfield 311, 3) := dk_180 1 55 (dk_at dksX5_behindSum_6 5 rfl rfl)
theorem dX5_behindSum_145 : decode cX5_behindSum 145 = .ok (.iconst 1, 1) := dk_4 (dk_at dksX5_behindSum_6 8 rfl rfl)
theorem dX5_behindSum_146 : decode cX5_behindSum 146 = .ok (.isub, 1) := dk_100 (dk_at dksX5_behindSum_6 9 rfl rfl)
theorem dX5_behindSum_147 : decode cX5_behindSum 147 = .ok (.putfield 311, 3) := dk_181 1 55 (dk_at dksX5_behindSum_6 10 rfl rfl)
theorem dX5_behindSum_150 : decode cX5_behindSum 150 = .ok (.iconst 3, 1) := dk_6 (dk_at dksX5_behindSum_6 13 rfl rfl)
theorem dX5_behindSum_151 : decode cX5_behindSum 151 = .ok (.ireturn, 1) := dk_172 (dk_at dksX5_behindSum_6 14 rfl rfl)
theorem dX5_behindSum_152 : decode cX5_behindSum 152 = .ok (.iload_n 3, 1) := dk_29 (dk_at dksX5_behindSum_6 15 rfl rfl)
theorem dX5_behindSum_153 : decode cX5_behindSum 153 = .ok (.iconst (-1), 1) := dk_2 (dk_at dksX5_behindSum_6 16 rfl rfl)
theorem dX5_behindSum_154 : decode cX5_behindSum 154 = .ok (.if_icmp .ne 9, 3) := dk_160 0 9 (dk_at dksX5_behindSum_6 17 rfl rfl)
theorem dX5_behindSum_157 : decode cX5_behindSum 157 = .ok (.iload_n 1, 1) := dk_27 (dk_at dksX5_behindSum_6 20 rfl rfl)
theorem dX5_behindSum_158 : decode cX5_behindSum 158 = .ok (.ifCond .ne 5, 3) := dk_154 0 5 (dk_at dksX5_behindSum_6 21 rfl rfl)
theorem dX5_behindSum_161 : decode cX5_behindSum 161 = .ok (.iconst 4, 1) := dk_7 (dk_at dksX5_behindSum_7 0 rfl rfl)
theorem dX5_behindSum_162 : decode cX5_behindSum 162 = .ok (.ireturn, 1) := dk_172 (dk_at dksX5_behindSum_7 1 rfl rfl)
theorem dX5_behindSum_163 : decode cX5_behindSum 163 = .ok (.aload_n 0, 1) := dk_42 (dk_at dksX5_behindSum_7 2 rfl rfl)
theorem dX5_behindSum_164 : decode cX5_behindSum 164 = .ok (.invokevirtual 357, 3) := dk_182 1 101 (dk_at dksX5_behindSum_7 3 rfl rfl)
theorem dX5_behindSum_167 : decode cX5_behindSum 167 = .ok (.ifCond .eq 5, 3) := dk_153 0 5 (dk_at dksX5_behindSum_7 6 rfl rfl)
theorem dX5_behindSum_170 : decode cX5_behindSum 170 = .ok (.iconst 2, 1) := dk_5 (dk_at dksX5_behindSum_7 9 rfl rfl)
theorem dX5_behindSum_171 : decode cX5_behindSum 171 = .ok (.ireturn, 1) := dk_172 (dk_at dksX5_behindSum_7 10 rfl rfl)
theorem dX5_behindSum_172 : decode cX5_behindSum 172 = .ok (.aload_n 0, 1) := dk_42 (dk_at dksX5_behindSum_7 11 rfl rfl)
theorem dX5_behindSum_173 : decode cX5_behindSum 173 = .ok (.bipush 60, 2) := dk_16 60 (dk_at dksX5_behindSum_7 12 rfl rfl)
theorem dX5_behindSum_175 : decode cX5_behindSum 175 = .ok (.invokevirtual 320, 3) := dk_182 1 64 (dk_at dksX5_behindSum_7 14 rfl rfl)
theorem dX5_behindSum_178 : decode cX5_behindSum 178 = .ok (.ifCond .eq 8, 3) := dk_153 0 8 (dk_at dksX5_behindSum_7 17 rfl rfl)
theorem dX5_behindSum_181 : decode cX5_behindSum 181 = .ok (.bipush 25, 2) := dk_16 25 (dk_at dksX5_behindSum_7 20 rfl rfl)
theorem dX5_behindSum_183 : decode cX5_behindSum 183 = .ok (.goto 19, 3) := dk_167 0 19 (dk_at dksX5_behindSum_8 0 rfl rfl)
theorem dX5_behindSum_186 : decode cX5_behindSum 186 = .ok (.aload_n 0, 1) := dk_42 (dk_at dksX5_behindSum_8 3 rfl rfl)
theorem dX5_behindSum_187 : decode cX5_behindSum 187 = .ok (.bipush 62, 2) := dk_16 62 (dk_at dksX5_behindSum_8 4 rfl rfl)
theorem dX5_behindSum_189 : decode cX5_behindSum 189 = .ok (.invokevirtual 320, 3) := dk_182 1 64 (dk_at dksX5_behindSum_8 6 rfl rfl)
theorem dX5_behindSum_192 : decode cX5_behindSum 192 = .ok (.ifCond .eq 8, 3) := dk_153 0 8 (dk_at dksX5_behindSum_8 9 rfl rfl)
theorem dX5_behindSum_195 : decode cX5_behindSum 195 = .ok (.bipush 26, 2) := dk_16 26 (dk_at dksX5_behindSum_8 12 rfl rfl)
theorem dX5_behindSum_197 : decode cX5_behindSum 197 = .ok (.goto 5, 3) := dk_167 0 5 (dk_at dksX5_behindSum_8 14 rfl rfl)
theorem dX5_behindSum_200 : decode cX5_behindSum 200 = .ok (.bipush 27, 2) := dk_16 27 (dk_at dksX5_behindSum_8 17 rfl rfl)
theorem dX5_behindSum_202 : decode cX5_behindSum 202 = .ok (.istore_n 2, 1) := dk_61 (dk_at dksX5_behindSum_8 19 rfl rfl)
theorem dX5_behindSum_203 : decode cX5_behindSum 203 = .ok (.aload_n 0, 1) := dk_42 (dk_at dksX5_behindSum_8 20 rfl rfl)
theorem dX5_behindSum_204 : decode cX5_behindSum 204 = .ok (.iload_n 2, 1) := dk_28 (dk_at dksX5_behindSum_8 21 rfl rfl)
theorem dX5_behindSum_205 : decode cX5_behindSum 205 = .ok (.bipush 27, 2) := dk_16 27 (dk_at dksX5_behindSum_8 22 rfl rfl)
theorem dX5_behindSum_207 : decode cX5_behindSum 207 = .ok (.if_icmp .ne 12, 3) := dk_160 0 12 (dk_at dksX5_behindSum_9 0 rfl rfl)
theorem dX5_behindSum_210 : decode cX5_behindSum 210 = .ok (.aload_n 0, 1) := dk_42 (dk_at dksX5_behindSum_9 3 rfl rfl)
theorem dX5_behindSum_211 : decode cX5_behindSum 211 = .ok (.bipush 61, 2) := dk_16 61 (dk_at dksX5_behindSum_9 4 rfl rfl)
theorem dX5_behindSum_213 : decode cX5_behindSum 213 = .ok (.invokevirtual 320, 3) := dk_182 1 64 (dk_at dksX5_behindSum_9 6 rfl rfl)
theorem dX5_behindSum_216 : decode cX5_behindSum 216 = .ok (.ifCond .eq 7, 3) := dk_153 0 7 (dk_at dksX5_behindSum_9 9 rfl rfl)
theorem dX5_behindSum_219 : decode cX5_behindSum 219 = .ok (.iconst 1, 1) := dk_4 (dk_at dksX5_behindSum_9 12 rfl rfl)
theorem dX5_behindSum_220 : decode cX5_behindSum 220 = .ok (.goto 4, 3) := dk_167 0 4 (dk_at dksX5_behindSum_9 13 rfl rfl)
theorem dX5_behindSum_223 : decode cX5_behindSum 223 = .ok (.iconst 0, 1) := dk_3 (dk_at dksX5_behindSum_9 16 rfl rfl)
theorem dX5_behindSum_224 : decode cX5_behindSum 224 = .ok (.invokevirtual 282, 3) := dk_182 1 26 (dk_at dksX5_behindSum_9 17 rfl rfl)
theorem dX5_behindSum_227 : decode cX5_behindSum 227 = .ok (.aload_n 0, 1) := dk_42 (dk_at dksX5_behindSum_9 20 rfl rfl)
theorem dX5_behindSum_228 : decode cX5_behindSum 228 = .ok (.getfield 249, 3) := dk_180 0 249 (dk_at dksX5_behindSum_9 21 rfl rfl)
theorem dX5_behindSum_231 : decode cX5_behindSum 231 = .ok (.ifCond .ne 14, 3) := dk_154 0 14 (dk_at dksX5_behindSum_10 0 rfl rfl)
theorem dX5_behindSum_234 : decode cX5_behindSum 234 = .ok (.aload_n 0, 1) := dk_42 (dk_at dksX5_behindSum_10 3 rfl rfl)
theorem dX5_behindSum_235 : decode cX5_behindSum 235 = .ok (.iconst 5, 1) := dk_8 (dk_at dksX5_behindSum_10 4 rfl rfl)
theorem dX5_behindSum_236 : decode cX5_behindSum 236 = .ok (.invokevirtual 351, 3) := dk_182 1 95 (dk_at dksX5_behindSum_10 5 rfl rfl)
theorem dX5_behindSum_239 : decode cX5_behindSum 239 = .ok (.aload_n 0, 1) := dk_42 (dk_at dksX5_behindSum_10 8 rfl rfl)
theorem dX5_behindSum_240 : decode cX5_behindSum 240 = .ok (.iload_n 2, 1) := dk_28 (dk_at dksX5_behindSum_10 9 rfl rfl)
theorem dX5_behindSum_241 : decode cX5_behindSum 241 = .ok (.iconst 0, 1) := dk_3 (dk_at dksX5_behindSum_10 10 rfl rfl)
theorem dX5_behindSum_242 : decode cX5_behindSum 242 = .ok (.invokevirtual 314, 3) := dk_182 1 58 (dk_at dksX5_behindSum_10 11 rfl rfl)
theorem dX5_behindSum_245 : decode cX5_behindSum 245 = .ok (.iconst 1, 1) := dk_4 (dk_at dksX5_behindSum_10 14 rfl rfl)
theorem dX5_behindSum_246 : decode cX5_behindSum 246 = .ok (.ireturn, 1) := dk_172 (dk_at dksX5_behindSum_10 15 rfl rfl)
abbrev cX5_binds : ByteArray := prog_22_method_43_code
def yX5_binds : MethodName := ⟨RX5, "binds", "(I)I"⟩
def dkwX5_binds_2 : List UInt8 := [167, 0, 15, 26, 16, 22, 161, 0, 8, 16, 6, 167, 0, 4, 8, 172]
abbrev dktX5_binds_2 : List UInt8 := dkwX5_binds_2 ++ []
def dkwX5_binds_1 : List UInt8 := [160, 0, 7, 5, 167, 0, 35, 26, 16, 28, 160, 0, 7, 6, 167, 0, 25, 26, 16, 25, 161, 0, 7, 7]
abbrev dktX5_binds_1 : List UInt8 := dkwX5_binds_1 ++ dktX5_binds_2
def dkwX5_binds_0 : List UInt8 := [26, 16, 31, 161, 0, 7, 3, 167, 0, 55, 26, 16, 30, 160, 0, 7, 4, 167, 0, 45, 26, 16, 29]
abbrev dktX5_binds_0 : List UInt8 := dkwX5_binds_0 ++ dktX5_binds_1
theorem dksX5_binds_0 : cX5_binds.data.toList.drop 0 = dktX5_binds_0 := by decide +kernel
theorem dksX5_binds_1 : cX5_binds.data.toList.drop 23 = dktX5_binds_1 := dk_seg dksX5_binds_0 23 rfl rfl
theorem dksX5_binds_2 : cX5_binds.data.toList.drop 47 = dktX5_binds_2 := dk_seg dksX5_binds_1 24 rfl rfl
theorem dX5_binds_0 : decode cX5_binds 0 = .ok (.iload_n 0, 1) := dk_26 (dk_at dksX5_binds_0 0 rfl rfl)
theorem dX5_binds_1 : decode cX5_binds 1 = .ok (.bipush 31, 2) := dk_16 31 (dk_at dksX5_binds_0 1 rfl rfl)
theorem dX5_binds_3 : decode cX5_binds 3 = .ok (.if_icmp .lt 7, 3) := dk_161 0 7 (dk_at dksX5_binds_0 3 rfl rfl)
theorem dX5_binds_6 : decode cX5_binds 6 = .ok (.iconst 0, 1) := dk_3 (dk_at dksX5_binds_0 6 rfl rfl)
theorem dX5_binds_7 : decode cX5_binds 7 = .ok (.goto 55, 3) := dk_167 0 55 (dk_at dksX5_binds_0 7 rfl rfl)
theorem dX5_binds_10 : decode cX5_binds 10 = .ok (.iload_n 0, 1) := dk_26 (dk_at dksX5_binds_0 10 rfl rfl)
theorem dX5_binds_11 : decode cX5_binds 11 = .ok (.bipush 30, 2) := dk_16 30 (dk_at dksX5_binds_0 11 rfl rfl)
theorem dX5_binds_13 : decode cX5_binds 13 = .ok (.if_icmp .ne 7, 3) := dk_160 0 7 (dk_at dksX5_binds_0 13 rfl rfl)
theorem dX5_binds_16 : decode cX5_binds 16 = .ok (.iconst 1, 1) := dk_4 (dk_at dksX5_binds_0 16 rfl rfl)
theorem dX5_binds_17 : decode cX5_binds 17 = .ok (.goto 45, 3) := dk_167 0 45 (dk_at dksX5_binds_0 17 rfl rfl)
theorem dX5_binds_20 : decode cX5_binds 20 = .ok (.iload_n 0, 1) := dk_26 (dk_at dksX5_binds_0 20 rfl rfl)
theorem dX5_binds_21 : decode cX5_binds 21 = .ok (.bipush 29, 2) := dk_16 29 (dk_at dksX5_binds_0 21 rfl rfl)
theorem dX5_binds_23 : decode cX5_binds 23 = .ok (.if_icmp .ne 7, 3) := dk_160 0 7 (dk_at dksX5_binds_1 0 rfl rfl)
theorem dX5_binds_26 : decode cX5_binds 26 = .ok (.iconst 2, 1) := dk_5 (dk_at dksX5_binds_1 3 rfl rfl)
theorem dX5_binds_27 : decode cX5_binds 27 = .ok (.goto 35, 3) := dk_167 0 35 (dk_at dksX5_binds_1 4 rfl rfl)
theorem dX5_binds_30 : decode cX5_binds 30 = .ok (.iload_n 0, 1) := dk_26 (dk_at dksX5_binds_1 7 rfl rfl)
theorem dX5_binds_31 : decode cX5_binds 31 = .ok (.bipush 28, 2) := dk_16 28 (dk_at dksX5_binds_1 8 rfl rfl)
theorem dX5_binds_33 : decode cX5_binds 33 = .ok (.if_icmp .ne 7, 3) := dk_160 0 7 (dk_at dksX5_binds_1 10 rfl rfl)
theorem dX5_binds_36 : decode cX5_binds 36 = .ok (.iconst 3, 1) := dk_6 (dk_at dksX5_binds_1 13 rfl rfl)
theorem dX5_binds_37 : decode cX5_binds 37 = .ok (.goto 25, 3) := dk_167 0 25 (dk_at dksX5_binds_1 14 rfl rfl)
theorem dX5_binds_40 : decode cX5_binds 40 = .ok (.iload_n 0, 1) := dk_26 (dk_at dksX5_binds_1 17 rfl rfl)
theorem dX5_binds_41 : decode cX5_binds 41 = .ok (.bipush 25, 2) := dk_16 25 (dk_at dksX5_binds_1 18 rfl rfl)
theorem dX5_binds_43 : decode cX5_binds 43 = .ok (.if_icmp .lt 7, 3) := dk_161 0 7 (dk_at dksX5_binds_1 20 rfl rfl)
theorem dX5_binds_46 : decode cX5_binds 46 = .ok (.iconst 4, 1) := dk_7 (dk_at dksX5_binds_1 23 rfl rfl)
theorem dX5_binds_47 : decode cX5_binds 47 = .ok (.goto 15, 3) := dk_167 0 15 (dk_at dksX5_binds_2 0 rfl rfl)
theorem dX5_binds_50 : decode cX5_binds 50 = .ok (.iload_n 0, 1) := dk_26 (dk_at dksX5_binds_2 3 rfl rfl)
theorem dX5_binds_51 : decode cX5_binds 51 = .ok (.bipush 22, 2) := dk_16 22 (dk_at dksX5_binds_2 4 rfl rfl)
theorem dX5_binds_53 : decode cX5_binds 53 = .ok (.if_icmp .lt 8, 3) := dk_161 0 8 (dk_at dksX5_binds_2 6 rfl rfl)
theorem dX5_binds_56 : decode cX5_binds 56 = .ok (.bipush 6, 2) := dk_16 6 (dk_at dksX5_binds_2 9 rfl rfl)
theorem dX5_binds_58 : decode cX5_binds 58 = .ok (.goto 4, 3) := dk_167 0 4 (dk_at dksX5_binds_2 11 rfl rfl)
theorem dX5_binds_61 : decode cX5_binds 61 = .ok (.iconst 5, 1) := dk_8 (dk_at dksX5_binds_2 14 rfl rfl)
theorem dX5_binds_62 : decode cX5_binds 62 = .ok (.ireturn, 1) := dk_172 (dk_at dksX5_binds_2 15 rfl rfl)
abbrev cX5_settle : ByteArray := prog_22_method_44_code
def yX5_settle : MethodName := ⟨RX5, "settle", "(I)V"⟩
def dkwX5_settle_4 : List UInt8 := [180, 1, 33, 46, 3, 182, 1, 39, 167, 255, 158, 177]
abbrev dktX5_settle_4 : List UInt8 := dkwX5_settle_4 ++ []
def dkwX5_settle_3 : List UInt8 := [180, 0, 54, 42, 180, 1, 33, 46, 42, 180, 1, 30, 79, 167, 255, 175, 42, 42, 180, 0, 51, 42]
abbrev dktX5_settle_3 : List UInt8 := dkwX5_settle_3 ++ dktX5_settle_4
def dkwX5_settle_2 : List UInt8 := [159, 0, 17, 42, 180, 0, 51, 42, 180, 1, 33, 46, 16, 30, 160, 0, 24, 42, 180, 0, 48, 42]
abbrev dktX5_settle_2 : List UInt8 := dkwX5_settle_2 ++ dktX5_settle_3
def dkwX5_settle_1 : List UInt8 := [161, 0, 79, 42, 89, 180, 1, 33, 4, 100, 181, 1, 33, 42, 180, 0, 51, 42, 180, 1, 33, 46, 16, 29]
abbrev dktX5_settle_1 : List UInt8 := dkwX5_settle_1 ++ dktX5_settle_2
def dkwX5_settle_0 : List UInt8 := [42, 180, 1, 33, 158, 0, 97, 42, 180, 0, 51, 42, 180, 1, 33, 4, 100, 46, 184, 1, 36, 27]
abbrev dktX5_settle_0 : List UInt8 := dkwX5_settle_0 ++ dktX5_settle_1
theorem dksX5_settle_0 : cX5_settle.data.toList.drop 0 = dktX5_settle_0 := by decide +kernel
theorem dksX5_settle_1 : cX5_settle.data.toList.drop 22 = dktX5_settle_1 := dk_seg dksX5_settle_0 22 rfl rfl
theorem dksX5_settle_2 : cX5_settle.data.toList.drop 46 = dktX5_settle_2 := dk_seg dksX5_settle_1 24 rfl rfl
theorem dksX5_settle_3 : cX5_settle.data.toList.drop 68 = dktX5_settle_3 := dk_seg dksX5_settle_2 22 rfl rfl
theorem dksX5_settle_4 : cX5_settle.data.toList.drop 90 = dktX5_settle_4 := dk_seg dksX5_settle_3 22 rfl rfl
theorem dX5_settle_0 : decode cX5_settle 0 = .ok (.aload_n 0, 1) := dk_42 (dk_at dksX5_settle_0 0 rfl rfl)
theorem dX5_settle_1 : decode cX5_settle 1 = .ok (.getfield 289, 3) := dk_180 1 33 (dk_at dksX5_settle_0 1 rfl rfl)
theorem dX5_settle_4 : decode cX5_settle 4 = .ok (.ifCond .le 97, 3) := dk_158 0 97 (dk_at dksX5_settle_0 4 rfl rfl)
theorem dX5_settle_7 : decode cX5_settle 7 = .ok (.aload_n 0, 1) := dk_42 (dk_at dksX5_settle_0 7 rfl rfl)
theorem dX5_settle_8 : decode cX5_settle 8 = .ok (.getfield 51, 3) := dk_180 0 51 (dk_at dksX5_settle_0 8 rfl rfl)
theorem dX5_settle_11 : decode cX5_settle 11 = .ok (.aload_n 0, 1) := dk_42 (dk_at dksX5_settle_0 11 rfl rfl)
theorem dX5_settle_12 : decode cX5_settle 12 = .ok (.getfield 289, 3) := dk_180 1 33 (dk_at dksX5_settle_0 12 rfl rfl)
theorem dX5_settle_15 : decode cX5_settle 15 = .ok (.iconst 1, 1) := dk_4 (dk_at dksX5_settle_0 15 rfl rfl)
theorem dX5_settle_16 : decode cX5_settle 16 = .ok (.isub, 1) := dk_100 (dk_at dksX5_settle_0 16 rfl rfl)
theorem dX5_settle_17 : decode cX5_settle 17 = .ok (.iaload, 1) := dk_46 (dk_at dksX5_settle_0 17 rfl rfl)
theorem dX5_settle_18 : decode cX5_settle 18 = .ok (.invokestatic 292, 3) := dk_184 1 36 (dk_at dksX5_settle_0 18 rfl rfl)
theorem dX5_settle_21 : decode cX5_settle 21 = .ok (.iload_n 1, 1) := dk_27 (dk_at dksX5_settle_0 21 rfl rfl)
theorem dX5_settle_22 : decode cX5_settle 22 = .ok (.if_icmp .lt 79, 3) := dk_161 0 79 (dk_at dksX5_settle_1 0 rfl rfl)
theorem dX5_settle_25 : decode cX5_settle 25 = .ok (.aload_n 0, 1) := dk_42 (dk_at dksX5_settle_1 3 rfl rfl)
theorem dX5_settle_26 : decode cX5_settle 26 = .ok (.dup, 1) := dk_89 (dk_at dksX5_settle_1 4 rfl rfl)
theorem dX5_settle_27 : decode cX5_settle 27 = .ok (.getfield 289, 3) := dk_180 1 33 (dk_at dksX5_settle_1 5 rfl rfl)
theorem dX5_settle_30 : decode cX5_settle 30 = .ok (.iconst 1, 1) := dk_4 (dk_at dksX5_settle_1 8 rfl rfl)
theorem dX5_settle_31 : decode cX5_settle 31 = .ok (.isub, 1) := dk_100 (dk_at dksX5_settle_1 9 rfl rfl)
theorem dX5_settle_32 : decode cX5_settle 32 = .ok (.putfield 289, 3) := dk_181 1 33 (dk_at dksX5_settle_1 10 rfl rfl)
theorem dX5_settle_35 : decode cX5_settle 35 = .ok (.aload_n 0, 1) := dk_42 (dk_at dksX5_settle_1 13 rfl rfl)
theorem dX5_settle_36 : decode cX5_settle 36 = .ok (.getfield 51, 3) := dk_180 0 51 (dk_at dksX5_settle_1 14 rfl rfl)
theorem dX5_settle_39 : decode cX5_settle 39 = .ok (.aload_n 0, 1) := dk_42 (dk_at dksX5_settle_1 17 rfl rfl)
theorem dX5_settle_40 : decode cX5_settle 40 = .ok (.getfield 289, 3) := dk_180 1 33 (dk_at dksX5_settle_1 18 rfl rfl)
theorem dX5_settle_43 : decode cX5_settle 43 = .ok (.iaload, 1) := dk_46 (dk_at dksX5_settle_1 21 rfl rfl)
theorem dX5_settle_44 : decode cX5_settle 44 = .ok (.bipush 29, 2) := dk_16 29 (dk_at dksX5_settle_1 22 rfl rfl)
theorem dX5_settle_46 : decode cX5_settle 46 = .ok (.if_icmp .eq 17, 3) := dk_159 0 17 (dk_at dksX5_settle_2 0 rfl rfl)
theorem dX5_settle_49 : decode cX5_settle 49 = .ok (.aload_n 0, 1) := dk_42 (dk_at dksX5_settle_2 3 rfl rfl)
theorem dX5_settle_50 : decode cX5_settle 50 = .ok (.getfield 51, 3) := dk_180 0 51 (dk_at dksX5_settle_2 4 rfl rfl)
theorem dX5_settle_53 : decode cX5_settle 53 = .ok (.aload_n 0, 1) := dk_42 (dk_at dksX5_settle_2 7 rfl rfl)
theorem dX5_settle_54 : decode cX5_settle 54 = .ok (.getfield 289, 3) := dk_180 1 33 (dk_at dksX5_settle_2 8 rfl rfl)
theorem dX5_settle_57 : decode cX5_settle 57 = .ok (.iaload, 1) := dk_46 (dk_at dksX5_settle_2 11 rfl rfl)
theorem dX5_settle_58 : decode cX5_settle 58 = .ok (.bipush 30, 2) := dk_16 30 (dk_at dksX5_settle_2 12 rfl rfl)
theorem dX5_settle_60 : decode cX5_settle 60 = .ok (.if_icmp .ne 24, 3) := dk_160 0 24 (dk_at dksX5_settle_2 14 rfl rfl)
theorem dX5_settle_63 : decode cX5_settle 63 = .ok (.aload_n 0, 1) := dk_42 (dk_at dksX5_settle_2 17 rfl rfl)
theorem dX5_settle_64 : decode cX5_settle 64 = .ok (.getfield 48, 3) := dk_180 0 48 (dk_at dksX5_settle_2 18 rfl rfl)
theorem dX5_settle_67 : decode cX5_settle 67 = .ok (.aload_n 0, 1) := dk_42 (dk_at dksX5_settle_2 21 rfl rfl)
theorem dX5_settle_68 : decode cX5_settle 68 = .ok (.getfield 54, 3) := dk_180 0 54 (dk_at dksX5_settle_3 0 rfl rfl)
theorem dX5_settle_71 : decode cX5_settle 71 = .ok (.aload_n 0, 1) := dk_42 (dk_at dksX5_settle_3 3 rfl rfl)
theorem dX5_settle_72 : decode cX5_settle 72 = .ok (.getfield 289, 3) := dk_180 1 33 (dk_at dksX5_settle_3 4 rfl rfl)
theorem dX5_settle_75 : decode cX5_settle 75 = .ok (.iaload, 1) := dk_46 (dk_at dksX5_settle_3 7 rfl rfl)
theorem dX5_settle_76 : decode cX5_settle 76 = .ok (.aload_n 0, 1) := dk_42 (dk_at dksX5_settle_3 8 rfl rfl)
theorem dX5_settle_77 : decode cX5_settle 77 = .ok (.getfield 286, 3) := dk_180 1 30 (dk_at dksX5_settle_3 9 rfl rfl)
theorem dX5_settle_80 : decode cX5_settle 80 = .ok (.iastore, 1) := dk_79 (dk_at dksX5_settle_3 12 rfl rfl)
theorem dX5_settle_81 : decode cX5_settle 81 = .ok (.goto (-81), 3) := dk_167 255 175 (dk_at dksX5_settle_3 13 rfl rfl)
theorem dX5_settle_84 : decode cX5_settle 84 = .ok (.aload_n 0, 1) := dk_42 (dk_at dksX5_settle_3 16 rfl rfl)
theorem dX5_settle_85 : decode cX5_settle 85 = .ok (.aload_n 0, 1) := dk_42 (dk_at dksX5_settle_3 17 rfl rfl)
theorem dX5_settle_86 : decode cX5_settle 86 = .ok (.getfield 51, 3) := dk_180 0 51 (dk_at dksX5_settle_3 18 rfl rfl)
theorem dX5_settle_89 : decode cX5_settle 89 = .ok (.aload_n 0, 1) := dk_42 (dk_at dksX5_settle_3 21 rfl rfl)
theorem dX5_settle_90 : decode cX5_settle 90 = .ok (.getfield 289, 3) := dk_180 1 33 (dk_at dksX5_settle_4 0 rfl rfl)
theorem dX5_settle_93 : decode cX5_settle 93 = .ok (.iaload, 1) := dk_46 (dk_at dksX5_settle_4 3 rfl rfl)
theorem dX5_settle_94 : decode cX5_settle 94 = .ok (.iconst 0, 1) := dk_3 (dk_at dksX5_settle_4 4 rfl rfl)
theorem dX5_settle_95 : decode cX5_settle 95 = .ok (.invokevirtual 295, 3) := dk_182 1 39 (dk_at dksX5_settle_4 5 rfl rfl)
theorem dX5_settle_98 : decode cX5_settle 98 = .ok (.goto (-98), 3) := dk_167 255 158 (dk_at dksX5_settle_4 8 rfl rfl)
theorem dX5_settle_101 : decode cX5_settle 101 = .ok (.return_, 1) := dk_177 (dk_at dksX5_settle_4 11 rfl rfl)
abbrev cX5_inner : ByteArray := prog_22_method_45_code
def yX5_inner : MethodName := ⟨RX5, "inner", "()I"⟩
def dkwX5_inner_1 : List UInt8 := [180, 0, 51, 28, 46, 167, 0, 4, 27, 60, 132, 2, 1, 167, 255, 223, 27, 172]
abbrev dktX5_inner_1 : List UInt8 := dkwX5_inner_1 ++ []
def dkwX5_inner_0 : List UInt8 := [2, 60, 3, 61, 28, 42, 180, 1, 33, 162, 0, 31, 42, 180, 0, 51, 28, 46, 16, 31, 161, 0, 12, 42]
abbrev dktX5_inner_0 : List UInt8 := dkwX5_inner_0 ++ dktX5_inner_1
theorem dksX5_inner_0 : cX5_inner.data.toList.drop 0 = dktX5_inner_0 := by decide +kernel
theorem dksX5_inner_1 : cX5_inner.data.toList.drop 24 = dktX5_inner_1 := dk_seg dksX5_inner_0 24 rfl rfl
theorem dX5_inner_0 : decode cX5_inner 0 = .ok (.iconst (-1), 1) := dk_2 (dk_at dksX5_inner_0 0 rfl rfl)
theorem dX5_inner_1 : decode cX5_inner 1 = .ok (.istore_n 1, 1) := dk_60 (dk_at dksX5_inner_0 1 rfl rfl)
theorem dX5_inner_2 : decode cX5_inner 2 = .ok (.iconst 0, 1) := dk_3 (dk_at dksX5_inner_0 2 rfl rfl)
theorem dX5_inner_3 : decode cX5_inner 3 = .ok (.istore_n 2, 1) := dk_61 (dk_at dksX5_inner_0 3 rfl rfl)
theorem dX5_inner_4 : decode cX5_inner 4 = .ok (.iload_n 2, 1) := dk_28 (dk_at dksX5_inner_0 4 rfl rfl)
theorem dX5_inner_5 : decode cX5_inner 5 = .ok (.aload_n 0, 1) := dk_42 (dk_at dksX5_inner_0 5 rfl rfl)
theorem dX5_inner_6 : decode cX5_inner 6 = .ok (.getfield 289, 3) := dk_180 1 33 (dk_at dksX5_inner_0 6 rfl rfl)
theorem dX5_inner_9 : decode cX5_inner 9 = .ok (.if_icmp .ge 31, 3) := dk_162 0 31 (dk_at dksX5_inner_0 9 rfl rfl)
theorem dX5_inner_12 : decode cX5_inner 12 = .ok (.aload_n 0, 1) := dk_42 (dk_at dksX5_inner_0 12 rfl rfl)
theorem dX5_inner_13 : decode cX5_inner 13 = .ok (.getfield 51, 3) := dk_180 0 51 (dk_at dksX5_inner_0 13 rfl rfl)
theorem dX5_inner_16 : decode cX5_inner 16 = .ok (.iload_n 2, 1) := dk_28 (dk_at dksX5_inner_0 16 rfl rfl)
theorem dX5_inner_17 : decode cX5_inner 17 = .ok (.iaload, 1) := dk_46 (dk_at dksX5_inner_0 17 rfl rfl)
theorem dX5_inner_18 : decode cX5_inner 18 = .ok (.bipush 31, 2) := dk_16 31 (dk_at dksX5_inner_0 18 rfl rfl)
theorem dX5_inner_20 : decode cX5_inner 20 = .ok (.if_icmp .lt 12, 3) := dk_161 0 12 (dk_at dksX5_inner_0 20 rfl rfl)
theorem dX5_inner_23 : decode cX5_inner 23 = .ok (.aload_n 0, 1) := dk_42 (dk_at dksX5_inner_0 23 rfl rfl)
theorem dX5_inner_24 : decode cX5_inner 24 = .ok (.getfield 51, 3) := dk_180 0 51 (dk_at dksX5_inner_1 0 rfl rfl)
theorem dX5_inner_27 : decode cX5_inner 27 = .ok (.iload_n 2, 1) := dk_28 (dk_at dksX5_inner_1 3 rfl rfl)
theorem dX5_inner_28 : decode cX5_inner 28 = .ok (.iaload, 1) := dk_46 (dk_at dksX5_inner_1 4 rfl rfl)
theorem dX5_inner_29 : decode cX5_inner 29 = .ok (.goto 4, 3) := dk_167 0 4 (dk_at dksX5_inner_1 5 rfl rfl)
theorem dX5_inner_32 : decode cX5_inner 32 = .ok (.iload_n 1, 1) := dk_27 (dk_at dksX5_inner_1 8 rfl rfl)
theorem dX5_inner_33 : decode cX5_inner 33 = .ok (.istore_n 1, 1) := dk_60 (dk_at dksX5_inner_1 9 rfl rfl)
theorem dX5_inner_34 : decode cX5_inner 34 = .ok (.iinc 2 1, 3) := dk_132 2 1 (dk_at dksX5_inner_1 10 rfl rfl)
theorem dX5_inner_37 : decode cX5_inner 37 = .ok (.goto (-33), 3) := dk_167 255 223 (dk_at dksX5_inner_1 13 rfl rfl)
theorem dX5_inner_40 : decode cX5_inner 40 = .ok (.iload_n 1, 1) := dk_27 (dk_at dksX5_inner_1 16 rfl rfl)
theorem dX5_inner_41 : decode cX5_inner 41 = .ok (.ireturn, 1) := dk_172 (dk_at dksX5_inner_1 17 rfl rfl)
abbrev cX5_isCompared : ByteArray := prog_22_method_46_code
def yX5_isCompared : MethodName := ⟨RX5, "isCompared", "()Z"⟩
def dkwX5_isCompared_2 : List UInt8 := [20, 1, 47, 20, 1, 49, 184, 0, 194, 153, 0, 7, 4, 167, 0, 4, 3, 172]
abbrev dktX5_isCompared_2 : List UInt8 := dkwX5_isCompared_2 ++ []
def dkwX5_isCompared_1 : List UInt8 := [184, 0, 194, 153, 0, 9, 132, 1, 255, 167, 255, 230, 27, 155, 0, 26, 42, 180, 0, 51, 27, 46, 133]
abbrev dktX5_isCompared_1 : List UInt8 := dkwX5_isCompared_1 ++ dktX5_isCompared_2
def dkwX5_isCompared_0 : List UInt8 := [42, 180, 1, 33, 4, 100, 60, 27, 155, 0, 28, 42, 180, 0, 51, 27, 46, 133, 20, 1, 43, 20, 1, 45]
abbrev dktX5_isCompared_0 : List UInt8 := dkwX5_isCompared_0 ++ dktX5_isCompared_1
theorem dksX5_isCompared_0 : cX5_isCompared.data.toList.drop 0 = dktX5_isCompared_0 := by decide +kernel
theorem dksX5_isCompared_1 : cX5_isCompared.data.toList.drop 24 = dktX5_isCompared_1 := dk_seg dksX5_isCompared_0 24 rfl rfl
theorem dksX5_isCompared_2 : cX5_isCompared.data.toList.drop 47 = dktX5_isCompared_2 := dk_seg dksX5_isCompared_1 23 rfl rfl
theorem dX5_isCompared_0 : decode cX5_isCompared 0 = .ok (.aload_n 0, 1) := dk_42 (dk_at dksX5_isCompared_0 0 rfl rfl)
theorem dX5_isCompared_1 : decode cX5_isCompared 1 = .ok (.getfield 289, 3) := dk_180 1 33 (dk_at dksX5_isCompared_0 1 rfl rfl)
theorem dX5_isCompared_4 : decode cX5_isCompared 4 = .ok (.iconst 1, 1) := dk_4 (dk_at dksX5_isCompared_0 4 rfl rfl)
theorem dX5_isCompared_5 : decode cX5_isCompared 5 = .ok (.isub, 1) := dk_100 (dk_at dksX5_isCompared_0 5 rfl rfl)
theorem dX5_isCompared_6 : decode cX5_isCompared 6 = .ok (.istore_n 1, 1) := dk_60 (dk_at dksX5_isCompared_0 6 rfl rfl)
theorem dX5_isCompared_7 : decode cX5_isCompared 7 = .ok (.iload_n 1, 1) := dk_27 (dk_at dksX5_isCompared_0 7 rfl rfl)
theorem dX5_isCompared_8 : decode cX5_isCompared 8 = .ok (.ifCond .lt 28, 3) := dk_155 0 28 (dk_at dksX5_isCompared_0 8 rfl rfl)
theorem dX5_isCompared_11 : decode cX5_isCompared 11 = .ok (.aload_n 0, 1) := dk_42 (dk_at dksX5_isCompared_0 11 rfl rfl)
theorem dX5_isCompared_12 : decode cX5_isCompared 12 = .ok (.getfield 51, 3) := dk_180 0 51 (dk_at dksX5_isCompared_0 12 rfl rfl)
theorem dX5_isCompared_15 : decode cX5_isCompared 15 = .ok (.iload_n 1, 1) := dk_27 (dk_at dksX5_isCompared_0 15 rfl rfl)
theorem dX5_isCompared_16 : decode cX5_isCompared 16 = .ok (.iaload, 1) := dk_46 (dk_at dksX5_isCompared_0 16 rfl rfl)
theorem dX5_isCompared_17 : decode cX5_isCompared 17 = .ok (.i2l, 1) := dk_133 (dk_at dksX5_isCompared_0 17 rfl rfl)
theorem dX5_isCompared_18 : decode cX5_isCompared 18 = .ok (.ldc2_w 299, 3) := dk_20 1 43 (dk_at dksX5_isCompared_0 18 rfl rfl)
theorem dX5_isCompared_21 : decode cX5_isCompared 21 = .ok (.ldc2_w 301, 3) := dk_20 1 45 (dk_at dksX5_isCompared_0 21 rfl rfl)
theorem dX5_isCompared_24 : decode cX5_isCompared 24 = .ok (.invokestatic 194, 3) := dk_184 0 194 (dk_at dksX5_isCompared_1 0 rfl rfl)
theorem dX5_isCompared_27 : decode cX5_isCompared 27 = .ok (.ifCond .eq 9, 3) := dk_153 0 9 (dk_at dksX5_isCompared_1 3 rfl rfl)
theorem dX5_isCompared_30 : decode cX5_isCompared 30 = .ok (.iinc 1 (-1), 3) := dk_132 1 255 (dk_at dksX5_isCompared_1 6 rfl rfl)
theorem dX5_isCompared_33 : decode cX5_isCompared 33 = .ok (.goto (-26), 3) := dk_167 255 230 (dk_at dksX5_isCompared_1 9 rfl rfl)
theorem dX5_isCompared_36 : decode cX5_isCompared 36 = .ok (.iload_n 1, 1) := dk_27 (dk_at dksX5_isCompared_1 12 rfl rfl)
theorem dX5_isCompared_37 : decode cX5_isCompared 37 = .ok (.ifCond .lt 26, 3) := dk_155 0 26 (dk_at dksX5_isCompared_1 13 rfl rfl)
theorem dX5_isCompared_40 : decode cX5_isCompared 40 = .ok (.aload_n 0, 1) := dk_42 (dk_at dksX5_isCompared_1 16 rfl rfl)
theorem dX5_isCompared_41 : decode cX5_isCompared 41 = .ok (.getfield 51, 3) := dk_180 0 51 (dk_at dksX5_isCompared_1 17 rfl rfl)
theorem dX5_isCompared_44 : decode cX5_isCompared 44 = .ok (.iload_n 1, 1) := dk_27 (dk_at dksX5_isCompared_1 20 rfl rfl)
theorem dX5_isCompared_45 : decode cX5_isCompared 45 = .ok (.iaload, 1) := dk_46 (dk_at dksX5_isCompared_1 21 rfl rfl)
theorem dX5_isCompared_46 : decode cX5_isCompared 46 = .ok (.i2l, 1) := dk_133 (dk_at dksX5_isCompared_1 22 rfl rfl)
theorem dX5_isCompared_47 : decode cX5_isCompared 47 = .ok (.ldc2_w 303, 3) := dk_20 1 47 (dk_at dksX5_isCompared_2 0 rfl rfl)
theorem dX5_isCompared_50 : decode cX5_isCompared 50 = .ok (.ldc2_w 305, 3) := dk_20 1 49 (dk_at dksX5_isCompared_2 3 rfl rfl)
theorem dX5_isCompared_53 : decode cX5_isCompared 53 = .ok (.invokestatic 194, 3) := dk_184 0 194 (dk_at dksX5_isCompared_2 6 rfl rfl)
theorem dX5_isCompared_56 : decode cX5_isCompared 56 = .ok (.ifCond .eq 7, 3) := dk_153 0 7 (dk_at dksX5_isCompared_2 9 rfl rfl)
theorem dX5_isCompared_59 : decode cX5_isCompared 59 = .ok (.iconst 1, 1) := dk_4 (dk_at dksX5_isCompared_2 12 rfl rfl)
theorem dX5_isCompared_60 : decode cX5_isCompared 60 = .ok (.goto 4, 3) := dk_167 0 4 (dk_at dksX5_isCompared_2 13 rfl rfl)
theorem dX5_isCompared_63 : decode cX5_isCompared 63 = .ok (.iconst 0, 1) := dk_3 (dk_at dksX5_isCompared_2 16 rfl rfl)
theorem dX5_isCompared_64 : decode cX5_isCompared 64 = .ok (.ireturn, 1) := dk_172 (dk_at dksX5_isCompared_2 17 rfl rfl)
abbrev cX5_behindTest : ByteArray := prog_22_method_54_code
def yX5_behindTest : MethodName := ⟨RX5, "behindTest", "()I"⟩
def dkwX5_behindTest_5 : List UInt8 := [181, 1, 33, 42, 89, 180, 1, 55, 4, 100, 181, 1, 55, 5, 172]
abbrev dktX5_behindTest_5 : List UInt8 := dkwX5_behindTest_5 ++ []
def dkwX5_behindTest_4 : List UInt8 := [182, 1, 26, 42, 180, 0, 249, 154, 0, 28, 42, 4, 182, 1, 95, 42, 89, 180, 1, 33, 4, 100]
abbrev dktX5_behindTest_4 : List UInt8 := dkwX5_behindTest_4 ++ dktX5_behindTest_5
def dkwX5_behindTest_3 : List UInt8 := [182, 0, 253, 3, 172, 42, 182, 1, 98, 2, 160, 0, 5, 7, 172, 42, 42, 16, 41, 182, 1, 64]
abbrev dktX5_behindTest_3 : List UInt8 := dkwX5_behindTest_3 ++ dktX5_behindTest_4
def dkwX5_behindTest_2 : List UInt8 := [180, 1, 30, 182, 1, 58, 42, 27, 153, 0, 8, 16, 29, 167, 0, 5, 16, 30, 3, 182, 1, 39, 42]
abbrev dktX5_behindTest_2 : List UInt8 := dkwX5_behindTest_2 ++ dktX5_behindTest_3
def dkwX5_behindTest_1 : List UInt8 := [153, 0, 7, 5, 167, 0, 4, 4, 182, 1, 95, 42, 27, 153, 0, 8, 16, 29, 167, 0, 5, 16, 30, 42]
abbrev dktX5_behindTest_1 : List UInt8 := dkwX5_behindTest_1 ++ dktX5_behindTest_2
def dkwX5_behindTest_0 : List UInt8 := [42, 20, 1, 105, 182, 1, 51, 60, 27, 154, 0, 13, 42, 20, 1, 107, 182, 1, 51, 153, 0, 57, 42, 27]
abbrev dktX5_behindTest_0 : List UInt8 := dkwX5_behindTest_0 ++ dktX5_behindTest_1
theorem dksX5_behindTest_0 : cX5_behindTest.data.toList.drop 0 = dktX5_behindTest_0 := by decide +kernel
theorem dksX5_behindTest_1 : cX5_behindTest.data.toList.drop 24 = dktX5_behindTest_1 := dk_seg dksX5_behindTest_0 24 rfl rfl
theorem dksX5_behindTest_2 : cX5_behindTest.data.toList.drop 48 = dktX5_behindTest_2 := dk_seg dksX5_behindTest_1 24 rfl rfl
theorem dksX5_behindTest_3 : cX5_behindTest.data.toList.drop 71 = dktX5_behindTest_3 := dk_seg dksX5_behindTest_2 23 rfl rfl
theorem dksX5_behindTest_4 : cX5_behindTest.data.toList.drop 93 = dktX5_behindTest_4 := dk_seg dksX5_behindTest_3 22 rfl rfl
theorem dksX5_behindTest_5 : cX5_behindTest.data.toList.drop 115 = dktX5_behindTest_5 := dk_seg dksX5_behindTest_4 22 rfl rfl
theorem dX5_behindTest_0 : decode cX5_behindTest 0 = .ok (.aload_n 0, 1) := dk_42 (dk_at dksX5_behindTest_0 0 rfl rfl)
theorem dX5_behindTest_1 : decode cX5_behindTest 1 = .ok (.ldc2_w 361, 3) := dk_20 1 105 (dk_at dksX5_behindTest_0 1 rfl rfl)
theorem dX5_behindTest_4 : decode cX5_behindTest 4 = .ok (.invokevirtual 307, 3) := dk_182 1 51 (dk_at dksX5_behindTest_0 4 rfl rfl)
theorem dX5_behindTest_7 : decode cX5_behindTest 7 = .ok (.istore_n 1, 1) := dk_60 (dk_at dksX5_behindTest_0 7 rfl rfl)
theorem dX5_behindTest_8 : decode cX5_behindTest 8 = .ok (.iload_n 1, 1) := dk_27 (dk_at dksX5_behindTest_0 8 rfl rfl)
theorem dX5_behindTest_9 : decode cX5_behindTest 9 = .ok (.ifCond .ne 13, 3) := dk_154 0 13 (dk_at dksX5_behindTest_0 9 rfl rfl)
theorem dX5_behindTest_12 : decode cX5_behindTest 12 = .ok (.aload_n 0, 1) := dk_42 (dk_at dksX5_behindTest_0 12 rfl rfl)
theorem dX5_behindTest_13 : decode cX5_behindTest 13 = .ok (.ldc2_w 363, 3) := dk_20 1 107 (dk_at dksX5_behindTest_0 13 rfl rfl)
theorem dX5_behindTest_16 : decode cX5_behindTest 16 = .ok (.invokevirtual 307, 3) := dk_182 1 51 (dk_at dksX5_behindTest_0 16 rfl rfl)
theorem dX5_behindTest_19 : decode cX5_behindTest 19 = .ok (.ifCond .eq 57, 3) := dk_153 0 57 (dk_at dksX5_behindTest_0 19 rfl rfl)
theorem dX5_behindTest_22 : decode cX5_behindTest 22 = .ok (.aload_n 0, 1) := dk_42 (dk_at dksX5_behindTest_0 22 rfl rfl)
theorem dX5_behindTest_23 : decode cX5_behindTest 23 = .ok (.iload_n 1, 1) := dk_27 (dk_at dksX5_behindTest_0 23 rfl rfl)
theorem dX5_behindTest_24 : decode cX5_behindTest 24 = .ok (.ifCond .eq 7, 3) := dk_153 0 7 (dk_at dksX5_behindTest_1 0 rfl rfl)
theorem dX5_behindTest_27 : decode cX5_behindTest 27 = .ok (.iconst 2, 1) := dk_5 (dk_at dksX5_behindTest_1 3 rfl rfl)
theorem dX5_behindTest_28 : decode cX5_behindTest 28 = .ok (.goto 4, 3) := dk_167 0 4 (dk_at dksX5_behindTest_1 4 rfl rfl)
theorem dX5_behindTest_31 : decode cX5_behindTest 31 = .ok (.iconst 1, 1) := dk_4 (dk_at dksX5_behindTest_1 7 rfl rfl)
theorem dX5_behindTest_32 : decode cX5_behindTest 32 = .ok (.invokevirtual 351, 3) := dk_182 1 95 (dk_at dksX5_behindTest_1 8 rfl rfl)
theorem dX5_behindTest_35 : decode cX5_behindTest 35 = .ok (.aload_n 0, 1) := dk_42 (dk_at dksX5_behindTest_1 11 rfl rfl)
theorem dX5_behindTest_36 : decode cX5_behindTest 36 = .ok (.iload_n 1, 1) := dk_27 (dk_at dksX5_behindTest_1 12 rfl rfl)
theorem dX5_behindTest_37 : decode cX5_behindTest 37 = .ok (.ifCond .eq 8, 3) := dk_153 0 8 (dk_at dksX5_behindTest_1 13 rfl rfl)
theorem dX5_behindTest_40 : decode cX5_behindTest 40 = .ok (.bipush 29, 2) := dk_16 29 (dk_at dksX5_behindTest_1 16 rfl rfl)
theorem dX5_behindTest_42 : decode cX5_behindTest 42 = .ok (.goto 5, 3) := dk_167 0 5 (dk_at dksX5_behindTest_1 18 rfl rfl)
theorem dX5_behindTest_45 : decode cX5_behindTest 45 = .ok (.bipush 30, 2) := dk_16 30 (dk_at dksX5_behindTest_1 21 rfl rfl)
theorem dX5_behindTest_47 : decode cX5_behindTest 47 = .ok (.aload_n 0, 1) := dk_42 (dk_at dksX5_behindTest_1 23 rfl rfl)
theorem dX5_behindTest_48 : decode cX5_behindTest 48 = .ok (.getfield 286, 3) := dk_180 1 30 (dk_at dksX5_behindTest_2 0 rfl rfl)
theorem dX5_behindTest_51 : decode cX5_behindTest 51 = .ok (.invokevirtual 314, 3) := dk_182 1 58 (dk_at dksX5_behindTest_2 3 rfl rfl)
theorem dX5_behindTest_54 : decode cX5_behindTest 54 = .ok (.aload_n 0, 1) := dk_42 (dk_at dksX5_behindTest_2 6 rfl rfl)
theorem dX5_behindTest_55 : decode cX5_behindTest 55 = .ok (.iload_n 1, 1) := dk_27 (dk_at dksX5_behindTest_2 7 rfl rfl)
theorem dX5_behindTest_56 : decode cX5_behindTest 56 = .ok (.ifCond .eq 8, 3) := dk_153 0 8 (dk_at dksX5_behindTest_2 8 rfl rfl)
theorem dX5_behindTest_59 : decode cX5_behindTest 59 = .ok (.bipush 29, 2) := dk_16 29 (dk_at dksX5_behindTest_2 11 rfl rfl)
theorem dX5_behindTest_61 : decode cX5_behindTest 61 = .ok (.goto 5, 3) := dk_167 0 5 (dk_at dksX5_behindTest_2 13 rfl rfl)
theorem dX5_behindTest_64 : decode cX5_behindTest 64 = .ok (.bipush 30, 2) := dk_16 30 (dk_at dksX5_behindTest_2 16 rfl rfl)
theorem dX5_behindTest_66 : decode cX5_behindTest 66 = .ok (.iconst 0, 1) := dk_3 (dk_at dksX5_behindTest_2 18 rfl rfl)
theorem dX5_behindTest_67 : decode cX5_behindTest 67 = .ok (.invokevirtual 295, 3) := dk_182 1 39 (dk_at dksX5_behindTest_2 19 rfl rfl)
theorem dX5_behindTest_70 : decode cX5_behindTest 70 = .ok (.aload_n 0, 1) := dk_42 (dk_at dksX5_behindTest_2 22 rfl rfl)
theorem dX5_behindTest_71 : decode cX5_behindTest 71 = .ok (.invokevirtual 253, 3) := dk_182 0 253 (dk_at dksX5_behindTest_3 0 rfl rfl)
theorem dX5_behindTest_74 : decode cX5_behindTest 74 = .ok (.iconst 0, 1) := dk_3 (dk_at dksX5_behindTest_3 3 rfl rfl)
theorem dX5_behindTest_75 : decode cX5_behindTest 75 = .ok (.ireturn, 1) := dk_172 (dk_at dksX5_behindTest_3 4 rfl rfl)
theorem dX5_behindTest_76 : decode cX5_behindTest 76 = .ok (.aload_n 0, 1) := dk_42 (dk_at dksX5_behindTest_3 5 rfl rfl)
theorem dX5_behindTest_77 : decode cX5_behindTest 77 = .ok (.invokevirtual 354, 3) := dk_182 1 98 (dk_at dksX5_behindTest_3 6 rfl rfl)
theorem dX5_behindTest_80 : decode cX5_behindTest 80 = .ok (.iconst (-1), 1) := dk_2 (dk_at dksX5_behindTest_3 9 rfl rfl)
theorem dX5_behindTest_81 : decode cX5_behindTest 81 = .ok (.if_icmp .ne 5, 3) := dk_160 0 5 (dk_at dksX5_behindTest_3 10 rfl rfl)
theorem dX5_behindTest_84 : decode cX5_behindTest 84 = .ok (.iconst 4, 1) := dk_7 (dk_at dksX5_behindTest_3 13 rfl rfl)
theorem dX5_behindTest_85 : decode cX5_behindTest 85 = .ok (.ireturn, 1) := dk_172 (dk_at dksX5_behindTest_3 14 rfl rfl)
theorem dX5_behindTest_86 : decode cX5_behindTest 86 = .ok (.aload_n 0, 1) := dk_42 (dk_at dksX5_behindTest_3 15 rfl rfl)
theorem dX5_behindTest_87 : decode cX5_behindTest 87 = .ok (.aload_n 0, 1) := dk_42 (dk_at dksX5_behindTest_3 16 rfl rfl)
theorem dX5_behindTest_88 : decode cX5_behindTest 88 = .ok (.bipush 41, 2) := dk_16 41 (dk_at dksX5_behindTest_3 17 rfl rfl)
theorem dX5_behindTest_90 : decode cX5_behindTest 90 = .ok (.invokevirtual 320, 3) := dk_182 1 64 (dk_at dksX5_behindTest_3 19 rfl rfl)
theorem dX5_behindTest_93 : decode cX5_behindTest 93 = .ok (.invokevirtual 282, 3) := dk_182 1 26 (dk_at dksX5_behindTest_4 0 rfl rfl)
theorem dX5_behindTest_96 : decode cX5_behindTest 96 = .ok (.aload_n 0, 1) := dk_42 (dk_at dksX5_behindTest_4 3 rfl rfl)
theorem dX5_behindTest_97 : decode cX5_behindTest 97 = .ok (.getfield 249, 3) := dk_180 0 249 (dk_at dksX5_behindTest_4 4 rfl rfl)
theorem dX5_behindTest_100 : decode cX5_behindTest 100 = .ok (.ifCond .ne 28, 3) := dk_154 0 28 (dk_at dksX5_behindTest_4 7 rfl rfl)
theorem dX5_behindTest_103 : decode cX5_behindTest 103 = .ok (.aload_n 0, 1) := dk_42 (dk_at dksX5_behindTest_4 10 rfl rfl)
theorem dX5_behindTest_104 : decode cX5_behindTest 104 = .ok (.iconst 1, 1) := dk_4 (dk_at dksX5_behindTest_4 11 rfl rfl)
theorem dX5_behindTest_105 : decode cX5_behindTest 105 = .ok (.invokevirtual 351, 3) := dk_182 1 95 (dk_at dksX5_behindTest_4 12 rfl rfl)
theorem dX5_behindTest_108 : decode cX5_behindTest 108 = .ok (.aload_n 0, 1) := dk_42 (dk_at dksX5_behindTest_4 15 rfl rfl)
theorem dX5_behindTest_109 : decode cX5_behindTest 109 = .ok (.dup, 1) := dk_89 (dk_at dksX5_behindTest_4 16 rfl rfl)
theorem dX5_behindTest_110 : decode cX5_behindTest 110 = .ok (.getfield 289, 3) := dk_180 1 33 (dk_at dksX5_behindTest_4 17 rfl rfl)
theorem dX5_behindTest_113 : decode cX5_behindTest 113 = .ok (.iconst 1, 1) := dk_4 (dk_at dksX5_behindTest_4 20 rfl rfl)
theorem dX5_behindTest_114 : decode cX5_behindTest 114 = .ok (.isub, 1) := dk_100 (dk_at dksX5_behindTest_4 21 rfl rfl)
theorem dX5_behindTest_115 : decode cX5_behindTest 115 = .ok (.putfield 289, 3) := dk_181 1 33 (dk_at dksX5_behindTest_5 0 rfl rfl)
theorem dX5_behindTest_118 : decode cX5_behindTest 118 = .ok (.aload_n 0, 1) := dk_42 (dk_at dksX5_behindTest_5 3 rfl rfl)
theorem dX5_behindTest_119 : decode cX5_behindTest 119 = .ok (.dup, 1) := dk_89 (dk_at dksX5_behindTest_5 4 rfl rfl)
theorem dX5_behindTest_120 : decode cX5_behindTest 120 = .ok (.getfield 311, 3) := dk_180 1 55 (dk_at dksX5_behindTest_5 5 rfl rfl)
theorem dX5_behindTest_123 : decode cX5_behindTest 123 = .ok (.iconst 1, 1) := dk_4 (dk_at dksX5_behindTest_5 8 rfl rfl)
theorem dX5_behindTest_124 : decode cX5_behindTest 124 = .ok (.isub, 1) := dk_100 (dk_at dksX5_behindTest_5 9 rfl rfl)
theorem dX5_behindTest_125 : decode cX5_behindTest 125 = .ok (.putfield 311, 3) := dk_181 1 55 (dk_at dksX5_behindTest_5 10 rfl rfl)
theorem dX5_behindTest_128 : decode cX5_behindTest 128 = .ok (.iconst 2, 1) := dk_5 (dk_at dksX5_behindTest_5 13 rfl rfl)
theorem dX5_behindTest_129 : decode cX5_behindTest 129 = .ok (.ireturn, 1) := dk_172 (dk_at dksX5_behindTest_5 14 rfl rfl)
abbrev cX5_endText : ByteArray := prog_22_method_57_code
def yX5_endText : MethodName := ⟨RX5, "endText", "()V"⟩
def dkwX5_endText_1 : List UInt8 := [42, 3, 181, 0, 237, 177]
abbrev dktX5_endText_1 : List UInt8 := dkwX5_endText_1 ++ []
def dkwX5_endText_0 : List UInt8 := [42, 180, 0, 249, 154, 0, 15, 42, 180, 1, 13, 153, 0, 8, 42, 3, 182, 1, 26, 42, 3, 181, 1, 70]
abbrev dktX5_endText_0 : List UInt8 := dkwX5_endText_0 ++ dktX5_endText_1
theorem dksX5_endText_0 : cX5_endText.data.toList.drop 0 = dktX5_endText_0 := by decide +kernel
theorem dksX5_endText_1 : cX5_endText.data.toList.drop 24 = dktX5_endText_1 := dk_seg dksX5_endText_0 24 rfl rfl
theorem dX5_endText_0 : decode cX5_endText 0 = .ok (.aload_n 0, 1) := dk_42 (dk_at dksX5_endText_0 0 rfl rfl)
theorem dX5_endText_1 : decode cX5_endText 1 = .ok (.getfield 249, 3) := dk_180 0 249 (dk_at dksX5_endText_0 1 rfl rfl)
theorem dX5_endText_4 : decode cX5_endText 4 = .ok (.ifCond .ne 15, 3) := dk_154 0 15 (dk_at dksX5_endText_0 4 rfl rfl)
theorem dX5_endText_7 : decode cX5_endText 7 = .ok (.aload_n 0, 1) := dk_42 (dk_at dksX5_endText_0 7 rfl rfl)
theorem dX5_endText_8 : decode cX5_endText 8 = .ok (.getfield 269, 3) := dk_180 1 13 (dk_at dksX5_endText_0 8 rfl rfl)
theorem dX5_endText_11 : decode cX5_endText 11 = .ok (.ifCond .eq 8, 3) := dk_153 0 8 (dk_at dksX5_endText_0 11 rfl rfl)
theorem dX5_endText_14 : decode cX5_endText 14 = .ok (.aload_n 0, 1) := dk_42 (dk_at dksX5_endText_0 14 rfl rfl)
theorem dX5_endText_15 : decode cX5_endText 15 = .ok (.iconst 0, 1) := dk_3 (dk_at dksX5_endText_0 15 rfl rfl)
theorem dX5_endText_16 : decode cX5_endText 16 = .ok (.invokevirtual 282, 3) := dk_182 1 26 (dk_at dksX5_endText_0 16 rfl rfl)
theorem dX5_endText_19 : decode cX5_endText 19 = .ok (.aload_n 0, 1) := dk_42 (dk_at dksX5_endText_0 19 rfl rfl)
theorem dX5_endText_20 : decode cX5_endText 20 = .ok (.iconst 0, 1) := dk_3 (dk_at dksX5_endText_0 20 rfl rfl)
theorem dX5_endText_21 : decode cX5_endText 21 = .ok (.putfield 326, 3) := dk_181 1 70 (dk_at dksX5_endText_0 21 rfl rfl)
theorem dX5_endText_24 : decode cX5_endText 24 = .ok (.aload_n 0, 1) := dk_42 (dk_at dksX5_endText_1 0 rfl rfl)
theorem dX5_endText_25 : decode cX5_endText 25 = .ok (.iconst 0, 1) := dk_3 (dk_at dksX5_endText_1 1 rfl rfl)
theorem dX5_endText_26 : decode cX5_endText 26 = .ok (.putfield 237, 3) := dk_181 0 237 (dk_at dksX5_endText_1 2 rfl rfl)
theorem dX5_endText_29 : decode cX5_endText 29 = .ok (.return_, 1) := dk_177 (dk_at dksX5_endText_1 5 rfl rfl)
abbrev cX5_force : ByteArray := prog_22_method_60_code
def yX5_force : MethodName := ⟨RX5, "force", "(I)I"⟩
def dkwX5_force_1 : List UInt8 := [184, 0, 194, 153, 0, 12, 42, 5, 27, 182, 0, 213, 167, 0, 9, 42, 16, 254, 182, 0, 183, 172]
abbrev dktX5_force_1 : List UInt8 := dkwX5_force_1 ++ []
def dkwX5_force_0 : List UInt8 := [42, 3, 181, 0, 174, 27, 2, 159, 0, 21, 27, 133, 9, 42, 180, 0, 13, 4, 46, 133, 10, 101]
abbrev dktX5_force_0 : List UInt8 := dkwX5_force_0 ++ dktX5_force_1
theorem dksX5_force_0 : cX5_force.data.toList.drop 0 = dktX5_force_0 := by decide +kernel
theorem dksX5_force_1 : cX5_force.data.toList.drop 22 = dktX5_force_1 := dk_seg dksX5_force_0 22 rfl rfl
theorem dX5_force_0 : decode cX5_force 0 = .ok (.aload_n 0, 1) := dk_42 (dk_at dksX5_force_0 0 rfl rfl)
theorem dX5_force_1 : decode cX5_force 1 = .ok (.iconst 0, 1) := dk_3 (dk_at dksX5_force_0 1 rfl rfl)
theorem dX5_force_2 : decode cX5_force 2 = .ok (.putfield 174, 3) := dk_181 0 174 (dk_at dksX5_force_0 2 rfl rfl)
theorem dX5_force_5 : decode cX5_force 5 = .ok (.iload_n 1, 1) := dk_27 (dk_at dksX5_force_0 5 rfl rfl)
theorem dX5_force_6 : decode cX5_force 6 = .ok (.iconst (-1), 1) := dk_2 (dk_at dksX5_force_0 6 rfl rfl)
theorem dX5_force_7 : decode cX5_force 7 = .ok (.if_icmp .eq 21, 3) := dk_159 0 21 (dk_at dksX5_force_0 7 rfl rfl)
theorem dX5_force_10 : decode cX5_force 10 = .ok (.iload_n 1, 1) := dk_27 (dk_at dksX5_force_0 10 rfl rfl)
theorem dX5_force_11 : decode cX5_force 11 = .ok (.i2l, 1) := dk_133 (dk_at dksX5_force_0 11 rfl rfl)
theorem dX5_force_12 : decode cX5_force 12 = .ok (.lconst 0, 1) := dk_9 (dk_at dksX5_force_0 12 rfl rfl)
theorem dX5_force_13 : decode cX5_force 13 = .ok (.aload_n 0, 1) := dk_42 (dk_at dksX5_force_0 13 rfl rfl)
theorem dX5_force_14 : decode cX5_force 14 = .ok (.getfield 13, 3) := dk_180 0 13 (dk_at dksX5_force_0 14 rfl rfl)
theorem dX5_force_17 : decode cX5_force 17 = .ok (.iconst 1, 1) := dk_4 (dk_at dksX5_force_0 17 rfl rfl)
theorem dX5_force_18 : decode cX5_force 18 = .ok (.iaload, 1) := dk_46 (dk_at dksX5_force_0 18 rfl rfl)
theorem dX5_force_19 : decode cX5_force 19 = .ok (.i2l, 1) := dk_133 (dk_at dksX5_force_0 19 rfl rfl)
theorem dX5_force_20 : decode cX5_force 20 = .ok (.lconst 1, 1) := dk_10 (dk_at dksX5_force_0 20 rfl rfl)
theorem dX5_force_21 : decode cX5_force 21 = .ok (.lsub, 1) := dk_101 (dk_at dksX5_force_0 21 rfl rfl)
theorem dX5_force_22 : decode cX5_force 22 = .ok (.invokestatic 194, 3) := dk_184 0 194 (dk_at dksX5_force_1 0 rfl rfl)
theorem dX5_force_25 : decode cX5_force 25 = .ok (.ifCond .eq 12, 3) := dk_153 0 12 (dk_at dksX5_force_1 3 rfl rfl)
theorem dX5_force_28 : decode cX5_force 28 = .ok (.aload_n 0, 1) := dk_42 (dk_at dksX5_force_1 6 rfl rfl)
theorem dX5_force_29 : decode cX5_force 29 = .ok (.iconst 2, 1) := dk_5 (dk_at dksX5_force_1 7 rfl rfl)
theorem dX5_force_30 : decode cX5_force 30 = .ok (.iload_n 1, 1) := dk_27 (dk_at dksX5_force_1 8 rfl rfl)
theorem dX5_force_31 : decode cX5_force 31 = .ok (.invokevirtual 213, 3) := dk_182 0 213 (dk_at dksX5_force_1 9 rfl rfl)
theorem dX5_force_34 : decode cX5_force 34 = .ok (.goto 9, 3) := dk_167 0 9 (dk_at dksX5_force_1 12 rfl rfl)
theorem dX5_force_37 : decode cX5_force 37 = .ok (.aload_n 0, 1) := dk_42 (dk_at dksX5_force_1 15 rfl rfl)
theorem dX5_force_38 : decode cX5_force 38 = .ok (.bipush (-2), 2) := dk_16 254 (dk_at dksX5_force_1 16 rfl rfl)
theorem dX5_force_40 : decode cX5_force 40 = .ok (.invokevirtual 183, 3) := dk_182 0 183 (dk_at dksX5_force_1 18 rfl rfl)
theorem dX5_force_43 : decode cX5_force 43 = .ok (.ireturn, 1) := dk_172 (dk_at dksX5_force_1 21 rfl rfl)
abbrev cX5_asks : ByteArray := prog_22_method_73_code
def yX5_asks : MethodName := ⟨RX5, "asks", "(III)I"⟩
def dkwX5_asks_3 : List UInt8 := [167, 0, 12, 3, 167, 0, 8, 42, 27, 182, 1, 192, 172]
abbrev dktX5_asks_3 : List UInt8 := dkwX5_asks_3 ++ []
def dkwX5_asks_2 : List UInt8 := [42, 27, 28, 182, 1, 186, 167, 0, 30, 29, 4, 160, 0, 20, 42, 27, 28, 182, 1, 189, 153, 0, 7, 4]
abbrev dktX5_asks_2 : List UInt8 := dkwX5_asks_2 ++ dktX5_asks_3
def dkwX5_asks_1 : List UInt8 := [184, 0, 194, 153, 0, 15, 29, 5, 162, 0, 12, 28, 184, 0, 205, 154, 0, 5, 2, 172, 29, 154, 0, 12]
abbrev dktX5_asks_1 : List UInt8 := dkwX5_asks_1 ++ dktX5_asks_2
def dkwX5_asks_0 : List UInt8 := [42, 3, 181, 0, 174, 27, 133, 9, 20, 0, 229, 184, 0, 194, 153, 0, 27, 29, 133, 9, 20, 1, 184]
abbrev dktX5_asks_0 : List UInt8 := dkwX5_asks_0 ++ dktX5_asks_1
theorem dksX5_asks_0 : cX5_asks.data.toList.drop 0 = dktX5_asks_0 := by decide +kernel
theorem dksX5_asks_1 : cX5_asks.data.toList.drop 23 = dktX5_asks_1 := dk_seg dksX5_asks_0 23 rfl rfl
theorem dksX5_asks_2 : cX5_asks.data.toList.drop 47 = dktX5_asks_2 := dk_seg dksX5_asks_1 24 rfl rfl
theorem dksX5_asks_3 : cX5_asks.data.toList.drop 71 = dktX5_asks_3 := dk_seg dksX5_asks_2 24 rfl rfl
theorem dX5_asks_0 : decode cX5_asks 0 = .ok (.aload_n 0, 1) := dk_42 (dk_at dksX5_asks_0 0 rfl rfl)
theorem dX5_asks_1 : decode cX5_asks 1 = .ok (.iconst 0, 1) := dk_3 (dk_at dksX5_asks_0 1 rfl rfl)
theorem dX5_asks_2 : decode cX5_asks 2 = .ok (.putfield 174, 3) := dk_181 0 174 (dk_at dksX5_asks_0 2 rfl rfl)
theorem dX5_asks_5 : decode cX5_asks 5 = .ok (.iload_n 1, 1) := dk_27 (dk_at dksX5_asks_0 5 rfl rfl)
theorem dX5_asks_6 : decode cX5_asks 6 = .ok (.i2l, 1) := dk_133 (dk_at dksX5_asks_0 6 rfl rfl)
theorem dX5_asks_7 : decode cX5_asks 7 = .ok (.lconst 0, 1) := dk_9 (dk_at dksX5_asks_0 7 rfl rfl)
theorem dX5_asks_8 : decode cX5_asks 8 = .ok (.ldc2_w 229, 3) := dk_20 0 229 (dk_at dksX5_asks_0 8 rfl rfl)
theorem dX5_asks_11 : decode cX5_asks 11 = .ok (.invokestatic 194, 3) := dk_184 0 194 (dk_at dksX5_asks_0 11 rfl rfl)
theorem dX5_asks_14 : decode cX5_asks 14 = .ok (.ifCond .eq 27, 3) := dk_153 0 27 (dk_at dksX5_asks_0 14 rfl rfl)
theorem dX5_asks_17 : decode cX5_asks 17 = .ok (.iload_n 3, 1) := dk_29 (dk_at dksX5_asks_0 17 rfl rfl)
theorem dX5_asks_18 : decode cX5_asks 18 = .ok (.i2l, 1) := dk_133 (dk_at dksX5_asks_0 18 rfl rfl)
theorem dX5_asks_19 : decode cX5_asks 19 = .ok (.lconst 0, 1) := dk_9 (dk_at dksX5_asks_0 19 rfl rfl)
theorem dX5_asks_20 : decode cX5_asks 20 = .ok (.ldc2_w 440, 3) := dk_20 1 184 (dk_at dksX5_asks_0 20 rfl rfl)
theorem dX5_asks_23 : decode cX5_asks 23 = .ok (.invokestatic 194, 3) := dk_184 0 194 (dk_at dksX5_asks_1 0 rfl rfl)
theorem dX5_asks_26 : decode cX5_asks 26 = .ok (.ifCond .eq 15, 3) := dk_153 0 15 (dk_at dksX5_asks_1 3 rfl rfl)
theorem dX5_asks_29 : decode cX5_asks 29 = .ok (.iload_n 3, 1) := dk_29 (dk_at dksX5_asks_1 6 rfl rfl)
theorem dX5_asks_30 : decode cX5_asks 30 = .ok (.iconst 2, 1) := dk_5 (dk_at dksX5_asks_1 7 rfl rfl)
theorem dX5_asks_31 : decode cX5_asks 31 = .ok (.if_icmp .ge 12, 3) := dk_162 0 12 (dk_at dksX5_asks_1 8 rfl rfl)
theorem dX5_asks_34 : decode cX5_asks 34 = .ok (.iload_n 2, 1) := dk_28 (dk_at dksX5_asks_1 11 rfl rfl)
theorem dX5_asks_35 : decode cX5_asks 35 = .ok (.invokestatic 205, 3) := dk_184 0 205 (dk_at dksX5_asks_1 12 rfl rfl)
theorem dX5_asks_38 : decode cX5_asks 38 = .ok (.ifCond .ne 5, 3) := dk_154 0 5 (dk_at dksX5_asks_1 15 rfl rfl)
theorem dX5_asks_41 : decode cX5_asks 41 = .ok (.iconst (-1), 1) := dk_2 (dk_at dksX5_asks_1 18 rfl rfl)
theorem dX5_asks_42 : decode cX5_asks 42 = .ok (.ireturn, 1) := dk_172 (dk_at dksX5_asks_1 19 rfl rfl)
theorem dX5_asks_43 : decode cX5_asks 43 = .ok (.iload_n 3, 1) := dk_29 (dk_at dksX5_asks_1 20 rfl rfl)
theorem dX5_asks_44 : decode cX5_asks 44 = .ok (.ifCond .ne 12, 3) := dk_154 0 12 (dk_at dksX5_asks_1 21 rfl rfl)
theorem dX5_asks_47 : decode cX5_asks 47 = .ok (.aload_n 0, 1) := dk_42 (dk_at dksX5_asks_2 0 rfl rfl)
theorem dX5_asks_48 : decode cX5_asks 48 = .ok (.iload_n 1, 1) := dk_27 (dk_at dksX5_asks_2 1 rfl rfl)
theorem dX5_asks_49 : decode cX5_asks 49 = .ok (.iload_n 2, 1) := dk_28 (dk_at dksX5_asks_2 2 rfl rfl)
theorem dX5_asks_50 : decode cX5_asks 50 = .ok (.invokevirtual 442, 3) := dk_182 1 186 (dk_at dksX5_asks_2 3 rfl rfl)
theorem dX5_asks_53 : decode cX5_asks 53 = .ok (.goto 30, 3) := dk_167 0 30 (dk_at dksX5_asks_2 6 rfl rfl)
theorem dX5_asks_56 : decode cX5_asks 56 = .ok (.iload_n 3, 1) := dk_29 (dk_at dksX5_asks_2 9 rfl rfl)
theorem dX5_asks_57 : decode cX5_asks 57 = .ok (.iconst 1, 1) := dk_4 (dk_at dksX5_asks_2 10 rfl rfl)
theorem dX5_asks_58 : decode cX5_asks 58 = .ok (.if_icmp .ne 20, 3) := dk_160 0 20 (dk_at dksX5_asks_2 11 rfl rfl)
theorem dX5_asks_61 : decode cX5_asks 61 = .ok (.aload_n 0, 1) := dk_42 (dk_at dksX5_asks_2 14 rfl rfl)
theorem dX5_asks_62 : decode cX5_asks 62 = .ok (.iload_n 1, 1) := dk_27 (dk_at dksX5_asks_2 15 rfl rfl)
theorem dX5_asks_63 : decode cX5_asks 63 = .ok (.iload_n 2, 1) := dk_28 (dk_at dksX5_asks_2 16 rfl rfl)
theorem dX5_asks_64 : decode cX5_asks 64 = .ok (.invokevirtual 445, 3) := dk_182 1 189 (dk_at dksX5_asks_2 17 rfl rfl)
theorem dX5_asks_67 : decode cX5_asks 67 = .ok (.ifCond .eq 7, 3) := dk_153 0 7 (dk_at dksX5_asks_2 20 rfl rfl)
theorem dX5_asks_70 : decode cX5_asks 70 = .ok (.iconst 1, 1) := dk_4 (dk_at dksX5_asks_2 23 rfl rfl)
theorem dX5_asks_71 : decode cX5_asks 71 = .ok (.goto 12, 3) := dk_167 0 12 (dk_at dksX5_asks_3 0 rfl rfl)
theorem dX5_asks_74 : decode cX5_asks 74 = .ok (.iconst 0, 1) := dk_3 (dk_at dksX5_asks_3 3 rfl rfl)
theorem dX5_asks_75 : decode cX5_asks 75 = .ok (.goto 8, 3) := dk_167 0 8 (dk_at dksX5_asks_3 4 rfl rfl)
theorem dX5_asks_78 : decode cX5_asks 78 = .ok (.aload_n 0, 1) := dk_42 (dk_at dksX5_asks_3 7 rfl rfl)
theorem dX5_asks_79 : decode cX5_asks 79 = .ok (.iload_n 1, 1) := dk_27 (dk_at dksX5_asks_3 8 rfl rfl)
theorem dX5_asks_80 : decode cX5_asks 80 = .ok (.invokevirtual 448, 3) := dk_182 1 192 (dk_at dksX5_asks_3 9 rfl rfl)
theorem dX5_asks_83 : decode cX5_asks 83 = .ok (.ireturn, 1) := dk_172 (dk_at dksX5_asks_3 12 rfl rfl)
abbrev cX5_suitsOf : ByteArray := prog_22_method_70_code
def yX5_suitsOf : MethodName := ⟨RX5, "suitsOf", "(II)I"⟩
def dkwX5_suitsOf_2 : List UInt8 := [16, 99, 184, 1, 177, 172]
abbrev dktX5_suitsOf_2 : List UInt8 := dkwX5_suitsOf_2 ++ []
def dkwX5_suitsOf_1 : List UInt8 := [180, 0, 13, 16, 56, 28, 96, 46, 42, 180, 0, 13, 16, 88, 28, 96, 46, 96, 133, 182, 1, 173, 3]
abbrev dktX5_suitsOf_1 : List UInt8 := dkwX5_suitsOf_1 ++ dktX5_suitsOf_2
def dkwX5_suitsOf_0 : List UInt8 := [42, 4, 28, 42, 180, 0, 13, 16, 8, 28, 96, 46, 42, 180, 0, 13, 16, 24, 28, 96, 46, 27, 42]
abbrev dktX5_suitsOf_0 : List UInt8 := dkwX5_suitsOf_0 ++ dktX5_suitsOf_1
theorem dksX5_suitsOf_0 : cX5_suitsOf.data.toList.drop 0 = dktX5_suitsOf_0 := by decide +kernel
theorem dksX5_suitsOf_1 : cX5_suitsOf.data.toList.drop 23 = dktX5_suitsOf_1 := dk_seg dksX5_suitsOf_0 23 rfl rfl
theorem dksX5_suitsOf_2 : cX5_suitsOf.data.toList.drop 46 = dktX5_suitsOf_2 := dk_seg dksX5_suitsOf_1 23 rfl rfl
theorem dX5_suitsOf_0 : decode cX5_suitsOf 0 = .ok (.aload_n 0, 1) := dk_42 (dk_at dksX5_suitsOf_0 0 rfl rfl)
theorem dX5_suitsOf_1 : decode cX5_suitsOf 1 = .ok (.iconst 1, 1) := dk_4 (dk_at dksX5_suitsOf_0 1 rfl rfl)
theorem dX5_suitsOf_2 : decode cX5_suitsOf 2 = .ok (.iload_n 2, 1) := dk_28 (dk_at dksX5_suitsOf_0 2 rfl rfl)
theorem dX5_suitsOf_3 : decode cX5_suitsOf 3 = .ok (.aload_n 0, 1) := dk_42 (dk_at dksX5_suitsOf_0 3 rfl rfl)
theorem dX5_suitsOf_4 : decode cX5_suitsOf 4 = .ok (.getfield 13, 3) := dk_180 0 13 (dk_at dksX5_suitsOf_0 4 rfl rfl)
theorem dX5_suitsOf_7 : decode cX5_suitsOf 7 = .ok (.bipush 8, 2) := dk_16 8 (dk_at dksX5_suitsOf_0 7 rfl rfl)
theorem dX5_suitsOf_9 : decode cX5_suitsOf 9 = .ok (.iload_n 2, 1) := dk_28 (dk_at dksX5_suitsOf_0 9 rfl rfl)
theorem dX5_suitsOf_10 : decode cX5_suitsOf 10 = .ok (.iadd, 1) := dk_96 (dk_at dksX5_suitsOf_0 10 rfl rfl)
theorem dX5_suitsOf_11 : decode cX5_suitsOf 11 = .ok (.iaload, 1) := dk_46 (dk_at dksX5_suitsOf_0 11 rfl rfl)
theorem dX5_suitsOf_12 : decode cX5_suitsOf 12 = .ok (.aload_n 0, 1) := dk_42 (dk_at dksX5_suitsOf_0 12 rfl rfl)
theorem dX5_suitsOf_13 : decode cX5_suitsOf 13 = .ok (.getfield 13, 3) := dk_180 0 13 (dk_at dksX5_suitsOf_0 13 rfl rfl)
theorem dX5_suitsOf_16 : decode cX5_suitsOf 16 = .ok (.bipush 24, 2) := dk_16 24 (dk_at dksX5_suitsOf_0 16 rfl rfl)
theorem dX5_suitsOf_18 : decode cX5_suitsOf 18 = .ok (.iload_n 2, 1) := dk_28 (dk_at dksX5_suitsOf_0 18 rfl rfl)
theorem dX5_suitsOf_19 : decode cX5_suitsOf 19 = .ok (.iadd, 1) := dk_96 (dk_at dksX5_suitsOf_0 19 rfl rfl)
theorem dX5_suitsOf_20 : decode cX5_suitsOf 20 = .ok (.iaload, 1) := dk_46 (dk_at dksX5_suitsOf_0 20 rfl rfl)
theorem dX5_suitsOf_21 : decode cX5_suitsOf 21 = .ok (.iload_n 1, 1) := dk_27 (dk_at dksX5_suitsOf_0 21 rfl rfl)
theorem dX5_suitsOf_22 : decode cX5_suitsOf 22 = .ok (.aload_n 0, 1) := dk_42 (dk_at dksX5_suitsOf_0 22 rfl rfl)
theorem dX5_suitsOf_23 : decode cX5_suitsOf 23 = .ok (.getfield 13, 3) := dk_180 0 13 (dk_at dksX5_suitsOf_1 0 rfl rfl)
theorem dX5_suitsOf_26 : decode cX5_suitsOf 26 = .ok (.bipush 56, 2) := dk_16 56 (dk_at dksX5_suitsOf_1 3 rfl rfl)
theorem dX5_suitsOf_28 : decode cX5_suitsOf 28 = .ok (.iload_n 2, 1) := dk_28 (dk_at dksX5_suitsOf_1 5 rfl rfl)
theorem dX5_suitsOf_29 : decode cX5_suitsOf 29 = .ok (.iadd, 1) := dk_96 (dk_at dksX5_suitsOf_1 6 rfl rfl)
theorem dX5_suitsOf_30 : decode cX5_suitsOf 30 = .ok (.iaload, 1) := dk_46 (dk_at dksX5_suitsOf_1 7 rfl rfl)
theorem dX5_suitsOf_31 : decode cX5_suitsOf 31 = .ok (.aload_n 0, 1) := dk_42 (dk_at dksX5_suitsOf_1 8 rfl rfl)
theorem dX5_suitsOf_32 : decode cX5_suitsOf 32 = .ok (.getfield 13, 3) := dk_180 0 13 (dk_at dksX5_suitsOf_1 9 rfl rfl)
theorem dX5_suitsOf_35 : decode cX5_suitsOf 35 = .ok (.bipush 88, 2) := dk_16 88 (dk_at dksX5_suitsOf_1 12 rfl rfl)
theorem dX5_suitsOf_37 : decode cX5_suitsOf 37 = .ok (.iload_n 2, 1) := dk_28 (dk_at dksX5_suitsOf_1 14 rfl rfl)
theorem dX5_suitsOf_38 : decode cX5_suitsOf 38 = .ok (.iadd, 1) := dk_96 (dk_at dksX5_suitsOf_1 15 rfl rfl)
theorem dX5_suitsOf_39 : decode cX5_suitsOf 39 = .ok (.iaload, 1) := dk_46 (dk_at dksX5_suitsOf_1 16 rfl rfl)
theorem dX5_suitsOf_40 : decode cX5_suitsOf 40 = .ok (.iadd, 1) := dk_96 (dk_at dksX5_suitsOf_1 17 rfl rfl)
theorem dX5_suitsOf_41 : decode cX5_suitsOf 41 = .ok (.i2l, 1) := dk_133 (dk_at dksX5_suitsOf_1 18 rfl rfl)
theorem dX5_suitsOf_42 : decode cX5_suitsOf 42 = .ok (.invokevirtual 429, 3) := dk_182 1 173 (dk_at dksX5_suitsOf_1 19 rfl rfl)
theorem dX5_suitsOf_45 : decode cX5_suitsOf 45 = .ok (.iconst 0, 1) := dk_3 (dk_at dksX5_suitsOf_1 22 rfl rfl)
theorem dX5_suitsOf_46 : decode cX5_suitsOf 46 = .ok (.bipush 99, 2) := dk_16 99 (dk_at dksX5_suitsOf_2 0 rfl rfl)
theorem dX5_suitsOf_48 : decode cX5_suitsOf 48 = .ok (.invokestatic 433, 3) := dk_184 1 177 (dk_at dksX5_suitsOf_2 2 rfl rfl)
theorem dX5_suitsOf_51 : decode cX5_suitsOf 51 = .ok (.ireturn, 1) := dk_172 (dk_at dksX5_suitsOf_2 5 rfl rfl)
abbrev cX5_isBarred : ByteArray := prog_22_method_71_code
def yX5_isBarred : MethodName := ⟨RX5, "isBarred", "(II)Z"⟩
def dkwX5_isBarred_1 : List UInt8 := [182, 1, 173, 10, 148, 154, 0, 7, 4, 167, 0, 4, 3, 172]
abbrev dktX5_isBarred_1 : List UInt8 := dkwX5_isBarred_1 ++ []
def dkwX5_isBarred_0 : List UInt8 := [42, 7, 28, 42, 180, 0, 13, 16, 8, 28, 96, 46, 42, 180, 0, 13, 16, 24, 28, 96, 46, 27, 9]
abbrev dktX5_isBarred_0 : List UInt8 := dkwX5_isBarred_0 ++ dktX5_isBarred_1
theorem dksX5_isBarred_0 : cX5_isBarred.data.toList.drop 0 = dktX5_isBarred_0 := by decide +kernel
theorem dksX5_isBarred_1 : cX5_isBarred.data.toList.drop 23 = dktX5_isBarred_1 := dk_seg dksX5_isBarred_0 23 rfl rfl
theorem dX5_isBarred_0 : decode cX5_isBarred 0 = .ok (.aload_n 0, 1) := dk_42 (dk_at dksX5_isBarred_0 0 rfl rfl)
theorem dX5_isBarred_1 : decode cX5_isBarred 1 = .ok (.iconst 4, 1) := dk_7 (dk_at dksX5_isBarred_0 1 rfl rfl)
theorem dX5_isBarred_2 : decode cX5_isBarred 2 = .ok (.iload_n 2, 1) := dk_28 (dk_at dksX5_isBarred_0 2 rfl rfl)
theorem dX5_isBarred_3 : decode cX5_isBarred 3 = .ok (.aload_n 0, 1) := dk_42 (dk_at dksX5_isBarred_0 3 rfl rfl)
theorem dX5_isBarred_4 : decode cX5_isBarred 4 = .ok (.getfield 13, 3) := dk_180 0 13 (dk_at dksX5_isBarred_0 4 rfl rfl)
theorem dX5_isBarred_7 : decode cX5_isBarred 7 = .ok (.bipush 8, 2) := dk_16 8 (dk_at dksX5_isBarred_0 7 rfl rfl)
theorem dX5_isBarred_9 : decode cX5_isBarred 9 = .ok (.iload_n 2, 1) := dk_28 (dk_at dksX5_isBarred_0 9 rfl rfl)
theorem dX5_isBarred_10 : decode cX5_isBarred 10 = .ok (.iadd, 1) := dk_96 (dk_at dksX5_isBarred_0 10 rfl rfl)
theorem dX5_isBarred_11 : decode cX5_isBarred 11 = .ok (.iaload, 1) := dk_46 (dk_at dksX5_isBarred_0 11 rfl rfl)
theorem dX5_isBarred_12 : decode cX5_isBarred 12 = .ok (.aload_n 0, 1) := dk_42 (dk_at dksX5_isBarred_0 12 rfl rfl)
theorem dX5_isBarred_13 : decode cX5_isBarred 13 = .ok (.getfield 13, 3) := dk_180 0 13 (dk_at dksX5_isBarred_0 13 rfl rfl)
theorem dX5_isBarred_16 : decode cX5_isBarred 16 = .ok (.bipush 24, 2) := dk_16 24 (dk_at dksX5_isBarred_0 16 rfl rfl)
theorem dX5_isBarred_18 : decode cX5_isBarred 18 = .ok (.iload_n 2, 1) := dk_28 (dk_at dksX5_isBarred_0 18 rfl rfl)
theorem dX5_isBarred_19 : decode cX5_isBarred 19 = .ok (.iadd, 1) := dk_96 (dk_at dksX5_isBarred_0 19 rfl rfl)
theorem dX5_isBarred_20 : decode cX5_isBarred 20 = .ok (.iaload, 1) := dk_46 (dk_at dksX5_isBarred_0 20 rfl rfl)
theorem dX5_isBarred_21 : decode cX5_isBarred 21 = .ok (.iload_n 1, 1) := dk_27 (dk_at dksX5_isBarred_0 21 rfl rfl)
theorem dX5_isBarred_22 : decode cX5_isBarred 22 = .ok (.lconst 0, 1) := dk_9 (dk_at dksX5_isBarred_0 22 rfl rfl)
theorem dX5_isBarred_23 : decode cX5_isBarred 23 = .ok (.invokevirtual 429, 3) := dk_182 1 173 (dk_at dksX5_isBarred_1 0 rfl rfl)
theorem dX5_isBarred_26 : decode cX5_isBarred 26 = .ok (.lconst 1, 1) := dk_10 (dk_at dksX5_isBarred_1 3 rfl rfl)
theorem dX5_isBarred_27 : decode cX5_isBarred 27 = .ok (.lcmp, 1) := dk_148 (dk_at dksX5_isBarred_1 4 rfl rfl)
theorem dX5_isBarred_28 : decode cX5_isBarred 28 = .ok (.ifCond .ne 7, 3) := dk_154 0 7 (dk_at dksX5_isBarred_1 5 rfl rfl)
theorem dX5_isBarred_31 : decode cX5_isBarred 31 = .ok (.iconst 1, 1) := dk_4 (dk_at dksX5_isBarred_1 8 rfl rfl)
theorem dX5_isBarred_32 : decode cX5_isBarred 32 = .ok (.goto 4, 3) := dk_167 0 4 (dk_at dksX5_isBarred_1 9 rfl rfl)
theorem dX5_isBarred_35 : decode cX5_isBarred 35 = .ok (.iconst 0, 1) := dk_3 (dk_at dksX5_isBarred_1 12 rfl rfl)
theorem dX5_isBarred_36 : decode cX5_isBarred 36 = .ok (.ireturn, 1) := dk_172 (dk_at dksX5_isBarred_1 13 rfl rfl)
abbrev cX5_roomOf : ByteArray := prog_22_method_72_code
def yX5_roomOf : MethodName := ⟨RX5, "roomOf", "(I)I"⟩
def dkwX5_roomOf_1 : List UInt8 := [167, 0, 4, 28, 61, 132, 3, 1, 167, 255, 228, 28, 172]
abbrev dktX5_roomOf_1 : List UInt8 := dkwX5_roomOf_1 ++ []
def dkwX5_roomOf_0 : List UInt8 := [2, 61, 3, 62, 29, 16, 16, 162, 0, 28, 42, 180, 0, 13, 16, 40, 29, 96, 46, 27, 160, 0, 7, 29]
abbrev dktX5_roomOf_0 : List UInt8 := dkwX5_roomOf_0 ++ dktX5_roomOf_1
theorem dksX5_roomOf_0 : cX5_roomOf.data.toList.drop 0 = dktX5_roomOf_0 := by decide +kernel
theorem dksX5_roomOf_1 : cX5_roomOf.data.toList.drop 24 = dktX5_roomOf_1 := dk_seg dksX5_roomOf_0 24 rfl rfl
theorem dX5_roomOf_0 : decode cX5_roomOf 0 = .ok (.iconst (-1), 1) := dk_2 (dk_at dksX5_roomOf_0 0 rfl rfl)
theorem dX5_roomOf_1 : decode cX5_roomOf 1 = .ok (.istore_n 2, 1) := dk_61 (dk_at dksX5_roomOf_0 1 rfl rfl)
theorem dX5_roomOf_2 : decode cX5_roomOf 2 = .ok (.iconst 0, 1) := dk_3 (dk_at dksX5_roomOf_0 2 rfl rfl)
theorem dX5_roomOf_3 : decode cX5_roomOf 3 = .ok (.istore_n 3, 1) := dk_62 (dk_at dksX5_roomOf_0 3 rfl rfl)
theorem dX5_roomOf_4 : decode cX5_roomOf 4 = .ok (.iload_n 3, 1) := dk_29 (dk_at dksX5_roomOf_0 4 rfl rfl)
theorem dX5_roomOf_5 : decode cX5_roomOf 5 = .ok (.bipush 16, 2) := dk_16 16 (dk_at dksX5_roomOf_0 5 rfl rfl)
theorem dX5_roomOf_7 : decode cX5_roomOf 7 = .ok (.if_icmp .ge 28, 3) := dk_162 0 28 (dk_at dksX5_roomOf_0 7 rfl rfl)
theorem dX5_roomOf_10 : decode cX5_roomOf 10 = .ok (.aload_n 0, 1) := dk_42 (dk_at dksX5_roomOf_0 10 rfl rfl)
theorem dX5_roomOf_11 : decode cX5_roomOf 11 = .ok (.getfield 13, 3) := dk_180 0 13 (dk_at dksX5_roomOf_0 11 rfl rfl)
theorem dX5_roomOf_14 : decode cX5_roomOf 14 = .ok (.bipush 40, 2) := dk_16 40 (dk_at dksX5_roomOf_0 14 rfl rfl)
theorem dX5_roomOf_16 : decode cX5_roomOf 16 = .ok (.iload_n 3, 1) := dk_29 (dk_at dksX5_roomOf_0 16 rfl rfl)
theorem dX5_roomOf_17 : decode cX5_roomOf 17 = .ok (.iadd, 1) := dk_96 (dk_at dksX5_roomOf_0 17 rfl rfl)
theorem dX5_roomOf_18 : decode cX5_roomOf 18 = .ok (.iaload, 1) := dk_46 (dk_at dksX5_roomOf_0 18 rfl rfl)
theorem dX5_roomOf_19 : decode cX5_roomOf 19 = .ok (.iload_n 1, 1) := dk_27 (dk_at dksX5_roomOf_0 19 rfl rfl)
theorem dX5_roomOf_20 : decode cX5_roomOf 20 = .ok (.if_icmp .ne 7, 3) := dk_160 0 7 (dk_at dksX5_roomOf_0 20 rfl rfl)
theorem dX5_roomOf_23 : decode cX5_roomOf 23 = .ok (.iload_n 3, 1) := dk_29 (dk_at dksX5_roomOf_0 23 rfl rfl)
theorem dX5_roomOf_24 : decode cX5_roomOf 24 = .ok (.goto 4, 3) := dk_167 0 4 (dk_at dksX5_roomOf_1 0 rfl rfl)
theorem dX5_roomOf_27 : decode cX5_roomOf 27 = .ok (.iload_n 2, 1) := dk_28 (dk_at dksX5_roomOf_1 3 rfl rfl)
theorem dX5_roomOf_28 : decode cX5_roomOf 28 = .ok (.istore_n 2, 1) := dk_61 (dk_at dksX5_roomOf_1 4 rfl rfl)
theorem dX5_roomOf_29 : decode cX5_roomOf 29 = .ok (.iinc 3 1, 3) := dk_132 3 1 (dk_at dksX5_roomOf_1 5 rfl rfl)
theorem dX5_roomOf_32 : decode cX5_roomOf 32 = .ok (.goto (-28), 3) := dk_167 255 228 (dk_at dksX5_roomOf_1 8 rfl rfl)
theorem dX5_roomOf_35 : decode cX5_roomOf 35 = .ok (.iload_n 2, 1) := dk_28 (dk_at dksX5_roomOf_1 11 rfl rfl)
theorem dX5_roomOf_36 : decode cX5_roomOf 36 = .ok (.ireturn, 1) := dk_172 (dk_at dksX5_roomOf_1 12 rfl rfl)
abbrev cX5_comes : ByteArray := prog_22_method_74_code
def yX5_comes : MethodName := ⟨RX5, "comes", "(III)I"⟩
def dkwX5_comes_2 : List UInt8 := [153, 0, 7, 4, 167, 0, 4, 3, 172]
abbrev dktX5_comes_2 : List UInt8 := dkwX5_comes_2 ++ []
def dkwX5_comes_1 : List UInt8 := [29, 133, 10, 20, 0, 233, 184, 0, 194, 154, 0, 7, 2, 167, 0, 18, 42, 27, 28, 29, 182, 1, 195]
abbrev dktX5_comes_1 : List UInt8 := dkwX5_comes_1 ++ dktX5_comes_2
def dkwX5_comes_0 : List UInt8 := [42, 3, 181, 0, 174, 27, 133, 9, 20, 0, 229, 184, 0, 194, 153, 0, 22, 28, 184, 0, 205, 153, 0, 15]
abbrev dktX5_comes_0 : List UInt8 := dkwX5_comes_0 ++ dktX5_comes_1
theorem dksX5_comes_0 : cX5_comes.data.toList.drop 0 = dktX5_comes_0 := by decide +kernel
theorem dksX5_comes_1 : cX5_comes.data.toList.drop 24 = dktX5_comes_1 := dk_seg dksX5_comes_0 24 rfl rfl
theorem dksX5_comes_2 : cX5_comes.data.toList.drop 47 = dktX5_comes_2 := dk_seg dksX5_comes_1 23 rfl rfl
theorem dX5_comes_0 : decode cX5_comes 0 = .ok (.aload_n 0, 1) := dk_42 (dk_at dksX5_comes_0 0 rfl rfl)
theorem dX5_comes_1 : decode cX5_comes 1 = .ok (.iconst 0, 1) := dk_3 (dk_at dksX5_comes_0 1 rfl rfl)
theorem dX5_comes_2 : decode cX5_comes 2 = .ok (.putfield 174, 3) := dk_181 0 174 (dk_at dksX5_comes_0 2 rfl rfl)
theorem dX5_comes_5 : decode cX5_comes 5 = .ok (.iload_n 1, 1) := dk_27 (dk_at dksX5_comes_0 5 rfl rfl)
theorem dX5_comes_6 : decode cX5_comes 6 = .ok (.i2l, 1) := dk_133 (dk_at dksX5_comes_0 6 rfl rfl)
theorem dX5_comes_7 : decode cX5_comes 7 = .ok (.lconst 0, 1) := dk_9 (dk_at dksX5_comes_0 7 rfl rfl)
theorem dX5_comes_8 : decode cX5_comes 8 = .ok (.ldc2_w 229, 3) := dk_20 0 229 (dk_at dksX5_comes_0 8 rfl rfl)
theorem dX5_comes_11 : decode cX5_comes 11 = .ok (.invokestatic 194, 3) := dk_184 0 194 (dk_at dksX5_comes_0 11 rfl rfl)
theorem dX5_comes_14 : decode cX5_comes 14 = .ok (.ifCond .eq 22, 3) := dk_153 0 22 (dk_at dksX5_comes_0 14 rfl rfl)
theorem dX5_comes_17 : decode cX5_comes 17 = .ok (.iload_n 2, 1) := dk_28 (dk_at dksX5_comes_0 17 rfl rfl)
theorem dX5_comes_18 : decode cX5_comes 18 = .ok (.invokestatic 205, 3) := dk_184 0 205 (dk_at dksX5_comes_0 18 rfl rfl)
theorem dX5_comes_21 : decode cX5_comes 21 = .ok (.ifCond .eq 15, 3) := dk_153 0 15 (dk_at dksX5_comes_0 21 rfl rfl)
theorem dX5_comes_24 : decode cX5_comes 24 = .ok (.iload_n 3, 1) := dk_29 (dk_at dksX5_comes_1 0 rfl rfl)
theorem dX5_comes_25 : decode cX5_comes 25 = .ok (.i2l, 1) := dk_133 (dk_at dksX5_comes_1 1 rfl rfl)
theorem dX5_comes_26 : decode cX5_comes 26 = .ok (.lconst 1, 1) := dk_10 (dk_at dksX5_comes_1 2 rfl rfl)
theorem dX5_comes_27 : decode cX5_comes 27 = .ok (.ldc2_w 233, 3) := dk_20 0 233 (dk_at dksX5_comes_1 3 rfl rfl)
theorem dX5_comes_30 : decode cX5_comes 30 = .ok (.invokestatic 194, 3) := dk_184 0 194 (dk_at dksX5_comes_1 6 rfl rfl)
theorem dX5_comes_33 : decode cX5_comes 33 = .ok (.ifCond .ne 7, 3) := dk_154 0 7 (dk_at dksX5_comes_1 9 rfl rfl)
theorem dX5_comes_36 : decode cX5_comes 36 = .ok (.iconst (-1), 1) := dk_2 (dk_at dksX5_comes_1 12 rfl rfl)
theorem dX5_comes_37 : decode cX5_comes 37 = .ok (.goto 18, 3) := dk_167 0 18 (dk_at dksX5_comes_1 13 rfl rfl)
theorem dX5_comes_40 : decode cX5_comes 40 = .ok (.aload_n 0, 1) := dk_42 (dk_at dksX5_comes_1 16 rfl rfl)
theorem dX5_comes_41 : decode cX5_comes 41 = .ok (.iload_n 1, 1) := dk_27 (dk_at dksX5_comes_1 17 rfl rfl)
theorem dX5_comes_42 : decode cX5_comes 42 = .ok (.iload_n 2, 1) := dk_28 (dk_at dksX5_comes_1 18 rfl rfl)
theorem dX5_comes_43 : decode cX5_comes 43 = .ok (.iload_n 3, 1) := dk_29 (dk_at dksX5_comes_1 19 rfl rfl)
theorem dX5_comes_44 : decode cX5_comes 44 = .ok (.invokevirtual 451, 3) := dk_182 1 195 (dk_at dksX5_comes_1 20 rfl rfl)
theorem dX5_comes_47 : decode cX5_comes 47 = .ok (.ifCond .eq 7, 3) := dk_153 0 7 (dk_at dksX5_comes_2 0 rfl rfl)
theorem dX5_comes_50 : decode cX5_comes 50 = .ok (.iconst 1, 1) := dk_4 (dk_at dksX5_comes_2 3 rfl rfl)
theorem dX5_comes_51 : decode cX5_comes 51 = .ok (.goto 4, 3) := dk_167 0 4 (dk_at dksX5_comes_2 4 rfl rfl)
theorem dX5_comes_54 : decode cX5_comes 54 = .ok (.iconst 0, 1) := dk_3 (dk_at dksX5_comes_2 7 rfl rfl)
theorem dX5_comes_55 : decode cX5_comes 55 = .ok (.ireturn, 1) := dk_172 (dk_at dksX5_comes_2 8 rfl rfl)
abbrev cX5_canCome : ByteArray := prog_22_method_69_code
def yX5_canCome : MethodName := ⟨RX5, "canCome", "(III)Z"⟩
def dkwX5_canCome_1 : List UInt8 := [167, 0, 13, 3, 167, 0, 9, 42, 27, 28, 182, 1, 168, 172]
abbrev dktX5_canCome_1 : List UInt8 := dkwX5_canCome_1 ++ []
def dkwX5_canCome_0 : List UInt8 := [42, 182, 1, 181, 153, 0, 26, 42, 6, 28, 27, 29, 2, 9, 182, 1, 173, 10, 148, 154, 0, 7, 4]
abbrev dktX5_canCome_0 : List UInt8 := dkwX5_canCome_0 ++ dktX5_canCome_1
theorem dksX5_canCome_0 : cX5_canCome.data.toList.drop 0 = dktX5_canCome_0 := by decide +kernel
theorem dksX5_canCome_1 : cX5_canCome.data.toList.drop 23 = dktX5_canCome_1 := dk_seg dksX5_canCome_0 23 rfl rfl
theorem dX5_canCome_0 : decode cX5_canCome 0 = .ok (.aload_n 0, 1) := dk_42 (dk_at dksX5_canCome_0 0 rfl rfl)
theorem dX5_canCome_1 : decode cX5_canCome 1 = .ok (.invokevirtual 437, 3) := dk_182 1 181 (dk_at dksX5_canCome_0 1 rfl rfl)
theorem dX5_canCome_4 : decode cX5_canCome 4 = .ok (.ifCond .eq 26, 3) := dk_153 0 26 (dk_at dksX5_canCome_0 4 rfl rfl)
theorem dX5_canCome_7 : decode cX5_canCome 7 = .ok (.aload_n 0, 1) := dk_42 (dk_at dksX5_canCome_0 7 rfl rfl)
theorem dX5_canCome_8 : decode cX5_canCome 8 = .ok (.iconst 3, 1) := dk_6 (dk_at dksX5_canCome_0 8 rfl rfl)
theorem dX5_canCome_9 : decode cX5_canCome 9 = .ok (.iload_n 2, 1) := dk_28 (dk_at dksX5_canCome_0 9 rfl rfl)
theorem dX5_canCome_10 : decode cX5_canCome 10 = .ok (.iload_n 1, 1) := dk_27 (dk_at dksX5_canCome_0 10 rfl rfl)
theorem dX5_canCome_11 : decode cX5_canCome 11 = .ok (.iload_n 3, 1) := dk_29 (dk_at dksX5_canCome_0 11 rfl rfl)
theorem dX5_canCome_12 : decode cX5_canCome 12 = .ok (.iconst (-1), 1) := dk_2 (dk_at dksX5_canCome_0 12 rfl rfl)
theorem dX5_canCome_13 : decode cX5_canCome 13 = .ok (.lconst 0, 1) := dk_9 (dk_at dksX5_canCome_0 13 rfl rfl)
theorem dX5_canCome_14 : decode cX5_canCome 14 = .ok (.invokevirtual 429, 3) := dk_182 1 173 (dk_at dksX5_canCome_0 14 rfl rfl)
theorem dX5_canCome_17 : decode cX5_canCome 17 = .ok (.lconst 1, 1) := dk_10 (dk_at dksX5_canCome_0 17 rfl rfl)
theorem dX5_canCome_18 : decode cX5_canCome 18 = .ok (.lcmp, 1) := dk_148 (dk_at dksX5_canCome_0 18 rfl rfl)
theorem dX5_canCome_19 : decode cX5_canCome 19 = .ok (.ifCond .ne 7, 3) := dk_154 0 7 (dk_at dksX5_canCome_0 19 rfl rfl)
theorem dX5_canCome_22 : decode cX5_canCome 22 = .ok (.iconst 1, 1) := dk_4 (dk_at dksX5_canCome_0 22 rfl rfl)
theorem dX5_canCome_23 : decode cX5_canCome 23 = .ok (.goto 13, 3) := dk_167 0 13 (dk_at dksX5_canCome_1 0 rfl rfl)
theorem dX5_canCome_26 : decode cX5_canCome 26 = .ok (.iconst 0, 1) := dk_3 (dk_at dksX5_canCome_1 3 rfl rfl)
theorem dX5_canCome_27 : decode cX5_canCome 27 = .ok (.goto 9, 3) := dk_167 0 9 (dk_at dksX5_canCome_1 4 rfl rfl)
theorem dX5_canCome_30 : decode cX5_canCome 30 = .ok (.aload_n 0, 1) := dk_42 (dk_at dksX5_canCome_1 7 rfl rfl)
theorem dX5_canCome_31 : decode cX5_canCome 31 = .ok (.iload_n 1, 1) := dk_27 (dk_at dksX5_canCome_1 8 rfl rfl)
theorem dX5_canCome_32 : decode cX5_canCome 32 = .ok (.iload_n 2, 1) := dk_28 (dk_at dksX5_canCome_1 9 rfl rfl)
theorem dX5_canCome_33 : decode cX5_canCome 33 = .ok (.invokevirtual 424, 3) := dk_182 1 168 (dk_at dksX5_canCome_1 10 rfl rfl)
theorem dX5_canCome_36 : decode cX5_canCome 36 = .ok (.ireturn, 1) := dk_172 (dk_at dksX5_canCome_1 13 rfl rfl)
abbrev cX5_tellsComing : ByteArray := prog_22_method_65_code
def yX5_tellsComing : MethodName := ⟨RX5, "tellsComing", "()Z"⟩
def dkwX5_tellsComing_3 : List UInt8 := [46, 6, 160, 0, 7, 4, 167, 0, 4, 3, 60, 132, 2, 1, 167, 255, 178, 27, 172]
abbrev dktX5_tellsComing_3 : List UInt8 := dkwX5_tellsComing_3 ++ []
def dkwX5_tellsComing_2 : List UInt8 := [180, 0, 13, 17, 0, 140, 17, 3, 132, 42, 180, 0, 13, 5, 46, 104, 96, 5, 96, 16, 8, 28, 104, 96]
abbrev dktX5_tellsComing_2 : List UInt8 := dkwX5_tellsComing_2 ++ dktX5_tellsComing_3
def dkwX5_tellsComing_1 : List UInt8 := [17, 3, 132, 42, 180, 0, 13, 5, 46, 104, 96, 4, 96, 46, 162, 0, 49, 27, 154, 0, 33, 42]
abbrev dktX5_tellsComing_1 : List UInt8 := dkwX5_tellsComing_1 ++ dktX5_tellsComing_2
def dkwX5_tellsComing_0 : List UInt8 := [3, 60, 3, 61, 42, 180, 0, 13, 5, 46, 2, 159, 0, 74, 28, 42, 180, 0, 13, 17, 0, 140]
abbrev dktX5_tellsComing_0 : List UInt8 := dkwX5_tellsComing_0 ++ dktX5_tellsComing_1
theorem dksX5_tellsComing_0 : cX5_tellsComing.data.toList.drop 0 = dktX5_tellsComing_0 := by decide +kernel
theorem dksX5_tellsComing_1 : cX5_tellsComing.data.toList.drop 22 = dktX5_tellsComing_1 := dk_seg dksX5_tellsComing_0 22 rfl rfl
theorem dksX5_tellsComing_2 : cX5_tellsComing.data.toList.drop 44 = dktX5_tellsComing_2 := dk_seg dksX5_tellsComing_1 22 rfl rfl
theorem dksX5_tellsComing_3 : cX5_tellsComing.data.toList.drop 68 = dktX5_tellsComing_3 := dk_seg dksX5_tellsComing_2 24 rfl rfl
theorem dX5_tellsComing_0 : decode cX5_tellsComing 0 = .ok (.iconst 0, 1) := dk_3 (dk_at dksX5_tellsComing_0 0 rfl rfl)
theorem dX5_tellsComing_1 : decode cX5_tellsComing 1 = .ok (.istore_n 1, 1) := dk_60 (dk_at dksX5_tellsComing_0 1 rfl rfl)
theorem dX5_tellsComing_2 : decode cX5_tellsComing 2 = .ok (.iconst 0, 1) := dk_3 (dk_at dksX5_tellsComing_0 2 rfl rfl)
theorem dX5_tellsComing_3 : decode cX5_tellsComing 3 = .ok (.istore_n 2, 1) := dk_61 (dk_at dksX5_tellsComing_0 3 rfl rfl)
theorem dX5_tellsComing_4 : decode cX5_tellsComing 4 = .ok (.aload_n 0, 1) := dk_42 (dk_at dksX5_tellsComing_0 4 rfl rfl)
theorem dX5_tellsComing_5 : decode cX5_tellsComing 5 = .ok (.getfield 13, 3) := dk_180 0 13 (dk_at dksX5_tellsComing_0 5 rfl rfl)
theorem dX5_tellsComing_8 : decode cX5_tellsComing 8 = .ok (.iconst 2, 1) := dk_5 (dk_at dksX5_tellsComing_0 8 rfl rfl)
theorem dX5_tellsComing_9 : decode cX5_tellsComing 9 = .ok (.iaload, 1) := dk_46 (dk_at dksX5_tellsComing_0 9 rfl rfl)
theorem dX5_tellsComing_10 : decode cX5_tellsComing 10 = .ok (.iconst (-1), 1) := dk_2 (dk_at dksX5_tellsComing_0 10 rfl rfl)
theorem dX5_tellsComing_11 : decode cX5_tellsComing 11 = .ok (.if_icmp .eq 74, 3) := dk_159 0 74 (dk_at dksX5_tellsComing_0 11 rfl rfl)
theorem dX5_tellsComing_14 : decode cX5_tellsComing 14 = .ok (.iload_n 2, 1) := dk_28 (dk_at dksX5_tellsComing_0 14 rfl rfl)
theorem dX5_tellsComing_15 : decode cX5_tellsComing 15 = .ok (.aload_n 0, 1) := dk_42 (dk_at dksX5_tellsComing_0 15 rfl rfl)
theorem dX5_tellsComing_16 : decode cX5_tellsComing 16 = .ok (.getfield 13, 3) := dk_180 0 13 (dk_at dksX5_tellsComing_0 16 rfl rfl)
theorem dX5_tellsComing_19 : decode cX5_tellsComing 19 = .ok (.sipush 140, 3) := dk_17 0 140 (dk_at dksX5_tellsComing_0 19 rfl rfl)
theorem dX5_tellsComing_22 : decode cX5_tellsComing 22 = .ok (.sipush 900, 3) := dk_17 3 132 (dk_at dksX5_tellsComing_1 0 rfl rfl)
theorem dX5_tellsComing_25 : decode cX5_tellsComing 25 = .ok (.aload_n 0, 1) := dk_42 (dk_at dksX5_tellsComing_1 3 rfl rfl)
theorem dX5_tellsComing_26 : decode cX5_tellsComing 26 = .ok (.getfield 13, 3) := dk_180 0 13 (dk_at dksX5_tellsComing_1 4 rfl rfl)
theorem dX5_tellsComing_29 : decode cX5_tellsComing 29 = .ok (.iconst 2, 1) := dk_5 (dk_at dksX5_tellsComing_1 7 rfl rfl)
theorem dX5_tellsComing_30 : decode cX5_tellsComing 30 = .ok (.iaload, 1) := dk_46 (dk_at dksX5_tellsComing_1 8 rfl rfl)
theorem dX5_tellsComing_31 : decode cX5_tellsComing 31 = .ok (.imul, 1) := dk_104 (dk_at dksX5_tellsComing_1 9 rfl rfl)
theorem dX5_tellsComing_32 : decode cX5_tellsComing 32 = .ok (.iadd, 1) := dk_96 (dk_at dksX5_tellsComing_1 10 rfl rfl)
theorem dX5_tellsComing_33 : decode cX5_tellsComing 33 = .ok (.iconst 1, 1) := dk_4 (dk_at dksX5_tellsComing_1 11 rfl rfl)
theorem dX5_tellsComing_34 : decode cX5_tellsComing 34 = .ok (.iadd, 1) := dk_96 (dk_at dksX5_tellsComing_1 12 rfl rfl)
theorem dX5_tellsComing_35 : decode cX5_tellsComing 35 = .ok (.iaload, 1) := dk_46 (dk_at dksX5_tellsComing_1 13 rfl rfl)
theorem dX5_tellsComing_36 : decode cX5_tellsComing 36 = .ok (.if_icmp .ge 49, 3) := dk_162 0 49 (dk_at dksX5_tellsComing_1 14 rfl rfl)
theorem dX5_tellsComing_39 : decode cX5_tellsComing 39 = .ok (.iload_n 1, 1) := dk_27 (dk_at dksX5_tellsComing_1 17 rfl rfl)
theorem dX5_tellsComing_40 : decode cX5_tellsComing 40 = .ok (.ifCond .ne 33, 3) := dk_154 0 33 (dk_at dksX5_tellsComing_1 18 rfl rfl)
theorem dX5_tellsComing_43 : decode cX5_tellsComing 43 = .ok (.aload_n 0, 1) := dk_42 (dk_at dksX5_tellsComing_1 21 rfl rfl)
theorem dX5_tellsComing_44 : decode cX5_tellsComing 44 = .ok (.getfield 13, 3) := dk_180 0 13 (dk_at dksX5_tellsComing_2 0 rfl rfl)
theorem dX5_tellsComing_47 : decode cX5_tellsComing 47 = .ok (.sipush 140, 3) := dk_17 0 140 (dk_at dksX5_tellsComing_2 3 rfl rfl)
theorem dX5_tellsComing_50 : decode cX5_tellsComing 50 = .ok (.sipush 900, 3) := dk_17 3 132 (dk_at dksX5_tellsComing_2 6 rfl rfl)
theorem dX5_tellsComing_53 : decode cX5_tellsComing 53 = .ok (.aload_n 0, 1) := dk_42 (dk_at dksX5_tellsComing_2 9 rfl rfl)
theorem dX5_tellsComing_54 : decode cX5_tellsComing 54 = .ok (.getfield 13, 3) := dk_180 0 13 (dk_at dksX5_tellsComing_2 10 rfl rfl)
theorem dX5_tellsComing_57 : decode cX5_tellsComing 57 = .ok (.iconst 2, 1) := dk_5 (dk_at dksX5_tellsComing_2 13 rfl rfl)
theorem dX5_tellsComing_58 : decode cX5_tellsComing 58 = .ok (.iaload, 1) := dk_46 (dk_at dksX5_tellsComing_2 14 rfl rfl)
theorem dX5_tellsComing_59 : decode cX5_tellsComing 59 = .ok (.imul, 1) := dk_104 (dk_at dksX5_tellsComing_2 15 rfl rfl)
theorem dX5_tellsComing_60 : decode cX5_tellsComing 60 = .ok (.iadd, 1) := dk_96 (dk_at dksX5_tellsComing_2 16 rfl rfl)
theorem dX5_tellsComing_61 : decode cX5_tellsComing 61 = .ok (.iconst 2, 1) := dk_5 (dk_at dksX5_tellsComing_2 17 rfl rfl)
theorem dX5_tellsComing_62 : decode cX5_tellsComing 62 = .ok (.iadd, 1) := dk_96 (dk_at dksX5_tellsComing_2 18 rfl rfl)
theorem dX5_tellsComing_63 : decode cX5_tellsComing 63 = .ok (.bipush 8, 2) := dk_16 8 (dk_at dksX5_tellsComing_2 19 rfl rfl)
theorem dX5_tellsComing_65 : decode cX5_tellsComing 65 = .ok (.iload_n 2, 1) := dk_28 (dk_at dksX5_tellsComing_2 21 rfl rfl)
theorem dX5_tellsComing_66 : decode cX5_tellsComing 66 = .ok (.imul, 1) := dk_104 (dk_at dksX5_tellsComing_2 22 rfl rfl)
theorem dX5_tellsComing_67 : decode cX5_tellsComing 67 = .ok (.iadd, 1) := dk_96 (dk_at dksX5_tellsComing_2 23 rfl rfl)
theorem dX5_tellsComing_68 : decode cX5_tellsComing 68 = .ok (.iaload, 1) := dk_46 (dk_at dksX5_tellsComing_3 0 rfl rfl)
theorem dX5_tellsComing_69 : decode cX5_tellsComing 69 = .ok (.iconst 3, 1) := dk_6 (dk_at dksX5_tellsComing_3 1 rfl rfl)
theorem dX5_tellsComing_70 : decode cX5_tellsComing 70 = .ok (.if_icmp .ne 7, 3) := dk_160 0 7 (dk_at dksX5_tellsComing_3 2 rfl rfl)
theorem dX5_tellsComing_73 : decode cX5_tellsComing 73 = .ok (.iconst 1, 1) := dk_4 (dk_at dksX5_tellsComing_3 5 rfl rfl)
theorem dX5_tellsComing_74 : decode cX5_tellsComing 74 = .ok (.goto 4, 3) := dk_167 0 4 (dk_at dksX5_tellsComing_3 6 rfl rfl)
theorem dX5_tellsComing_77 : decode cX5_tellsComing 77 = .ok (.iconst 0, 1) := dk_3 (dk_at dksX5_tellsComing_3 9 rfl rfl)
theorem dX5_tellsComing_78 : decode cX5_tellsComing 78 = .ok (.istore_n 1, 1) := dk_60 (dk_at dksX5_tellsComing_3 10 rfl rfl)
theorem dX5_tellsComing_79 : decode cX5_tellsComing 79 = .ok (.iinc 2 1, 3) := dk_132 2 1 (dk_at dksX5_tellsComing_3 11 rfl rfl)
theorem dX5_tellsComing_82 : decode cX5_tellsComing 82 = .ok (.goto (-78), 3) := dk_167 255 178 (dk_at dksX5_tellsComing_3 14 rfl rfl)
theorem dX5_tellsComing_85 : decode cX5_tellsComing 85 = .ok (.iload_n 1, 1) := dk_27 (dk_at dksX5_tellsComing_3 17 rfl rfl)
theorem dX5_tellsComing_86 : decode cX5_tellsComing 86 = .ok (.ireturn, 1) := dk_172 (dk_at dksX5_tellsComing_3 18 rfl rfl)
abbrev cX5_plant : ByteArray := prog_22_method_76_code
def yX5_plant : MethodName := ⟨RX5, "plant", "(II)I"⟩
def dkwX5_plant_0 : List UInt8 := [42, 3, 181, 0, 174, 42, 42, 27, 28, 182, 1, 202, 182, 0, 183, 172]
abbrev dktX5_plant_0 : List UInt8 := dkwX5_plant_0 ++ []
theorem dksX5_plant_0 : cX5_plant.data.toList.drop 0 = dktX5_plant_0 := by decide +kernel
theorem dX5_plant_0 : decode cX5_plant 0 = .ok (.aload_n 0, 1) := dk_42 (dk_at dksX5_plant_0 0 rfl rfl)
theorem dX5_plant_1 : decode cX5_plant 1 = .ok (.iconst 0, 1) := dk_3 (dk_at dksX5_plant_0 1 rfl rfl)
theorem dX5_plant_2 : decode cX5_plant 2 = .ok (.putfield 174, 3) := dk_181 0 174 (dk_at dksX5_plant_0 2 rfl rfl)
theorem dX5_plant_5 : decode cX5_plant 5 = .ok (.aload_n 0, 1) := dk_42 (dk_at dksX5_plant_0 5 rfl rfl)
theorem dX5_plant_6 : decode cX5_plant 6 = .ok (.aload_n 0, 1) := dk_42 (dk_at dksX5_plant_0 6 rfl rfl)
theorem dX5_plant_7 : decode cX5_plant 7 = .ok (.iload_n 1, 1) := dk_27 (dk_at dksX5_plant_0 7 rfl rfl)
theorem dX5_plant_8 : decode cX5_plant 8 = .ok (.iload_n 2, 1) := dk_28 (dk_at dksX5_plant_0 8 rfl rfl)
theorem dX5_plant_9 : decode cX5_plant 9 = .ok (.invokevirtual 458, 3) := dk_182 1 202 (dk_at dksX5_plant_0 9 rfl rfl)
theorem dX5_plant_12 : decode cX5_plant 12 = .ok (.invokevirtual 183, 3) := dk_182 0 183 (dk_at dksX5_plant_0 12 rfl rfl)
theorem dX5_plant_15 : decode cX5_plant 15 = .ok (.ireturn, 1) := dk_172 (dk_at dksX5_plant_0 15 rfl rfl)
abbrev cX5_plantNow : ByteArray := prog_22_method_75_code
def yX5_plantNow : MethodName := ⟨RX5, "plantNow", "(II)I"⟩
def dkwX5_plantNow_2 : List UInt8 := [42, 180, 0, 13, 16, 24, 28, 96, 4, 79, 3, 172]
abbrev dktX5_plantNow_2 : List UInt8 := dkwX5_plantNow_2 ++ []
def dkwX5_plantNow_1 : List UInt8 := [182, 0, 220, 153, 0, 6, 16, 253, 172, 42, 3, 182, 1, 199, 42, 180, 0, 13, 16, 8, 28, 96, 27, 79]
abbrev dktX5_plantNow_1 : List UInt8 := dkwX5_plantNow_1 ++ dktX5_plantNow_2
def dkwX5_plantNow_0 : List UInt8 := [27, 133, 9, 20, 0, 229, 184, 0, 194, 153, 0, 10, 28, 184, 0, 205, 154, 0, 5, 2, 172, 42, 28]
abbrev dktX5_plantNow_0 : List UInt8 := dkwX5_plantNow_0 ++ dktX5_plantNow_1
theorem dksX5_plantNow_0 : cX5_plantNow.data.toList.drop 0 = dktX5_plantNow_0 := by decide +kernel
theorem dksX5_plantNow_1 : cX5_plantNow.data.toList.drop 23 = dktX5_plantNow_1 := dk_seg dksX5_plantNow_0 23 rfl rfl
theorem dksX5_plantNow_2 : cX5_plantNow.data.toList.drop 47 = dktX5_plantNow_2 := dk_seg dksX5_plantNow_1 24 rfl rfl
theorem dX5_plantNow_0 : decode cX5_plantNow 0 = .ok (.iload_n 1, 1) := dk_27 (dk_at dksX5_plantNow_0 0 rfl rfl)
theorem dX5_plantNow_1 : decode cX5_plantNow 1 = .ok (.i2l, 1) := dk_133 (dk_at dksX5_plantNow_0 1 rfl rfl)
theorem dX5_plantNow_2 : decode cX5_plantNow 2 = .ok (.lconst 0, 1) := dk_9 (dk_at dksX5_plantNow_0 2 rfl rfl)
theorem dX5_plantNow_3 : decode cX5_plantNow 3 = .ok (.ldc2_w 229, 3) := dk_20 0 229 (dk_at dksX5_plantNow_0 3 rfl rfl)
theorem dX5_plantNow_6 : decode cX5_plantNow 6 = .ok (.invokestatic 194, 3) := dk_184 0 194 (dk_at dksX5_plantNow_0 6 rfl rfl)
theorem dX5_plantNow_9 : decode cX5_plantNow 9 = .ok (.ifCond .eq 10, 3) := dk_153 0 10 (dk_at dksX5_plantNow_0 9 rfl rfl)
theorem dX5_plantNow_12 : decode cX5_plantNow 12 = .ok (.iload_n 2, 1) := dk_28 (dk_at dksX5_plantNow_0 12 rfl rfl)
theorem dX5_plantNow_13 : decode cX5_plantNow 13 = .ok (.invokestatic 205, 3) := dk_184 0 205 (dk_at dksX5_plantNow_0 13 rfl rfl)
theorem dX5_plantNow_16 : decode cX5_plantNow 16 = .ok (.ifCond .ne 5, 3) := dk_154 0 5 (dk_at dksX5_plantNow_0 16 rfl rfl)
theorem dX5_plantNow_19 : decode cX5_plantNow 19 = .ok (.iconst (-1), 1) := dk_2 (dk_at dksX5_plantNow_0 19 rfl rfl)
theorem dX5_plantNow_20 : decode cX5_plantNow 20 = .ok (.ireturn, 1) := dk_172 (dk_at dksX5_plantNow_0 20 rfl rfl)
theorem dX5_plantNow_21 : decode cX5_plantNow 21 = .ok (.aload_n 0, 1) := dk_42 (dk_at dksX5_plantNow_0 21 rfl rfl)
theorem dX5_plantNow_22 : decode cX5_plantNow 22 = .ok (.iload_n 2, 1) := dk_28 (dk_at dksX5_plantNow_0 22 rfl rfl)
theorem dX5_plantNow_23 : decode cX5_plantNow 23 = .ok (.invokevirtual 220, 3) := dk_182 0 220 (dk_at dksX5_plantNow_1 0 rfl rfl)
theorem dX5_plantNow_26 : decode cX5_plantNow 26 = .ok (.ifCond .eq 6, 3) := dk_153 0 6 (dk_at dksX5_plantNow_1 3 rfl rfl)
theorem dX5_plantNow_29 : decode cX5_plantNow 29 = .ok (.bipush (-3), 2) := dk_16 253 (dk_at dksX5_plantNow_1 6 rfl rfl)
theorem dX5_plantNow_31 : decode cX5_plantNow 31 = .ok (.ireturn, 1) := dk_172 (dk_at dksX5_plantNow_1 8 rfl rfl)
theorem dX5_plantNow_32 : decode cX5_plantNow 32 = .ok (.aload_n 0, 1) := dk_42 (dk_at dksX5_plantNow_1 9 rfl rfl)
theorem dX5_plantNow_33 : decode cX5_plantNow 33 = .ok (.iconst 0, 1) := dk_3 (dk_at dksX5_plantNow_1 10 rfl rfl)
theorem dX5_plantNow_34 : decode cX5_plantNow 34 = .ok (.invokevirtual 455, 3) := dk_182 1 199 (dk_at dksX5_plantNow_1 11 rfl rfl)
theorem dX5_plantNow_37 : decode cX5_plantNow 37 = .ok (.aload_n 0, 1) := dk_42 (dk_at dksX5_plantNow_1 14 rfl rfl)
theorem dX5_plantNow_38 : decode cX5_plantNow 38 = .ok (.getfield 13, 3) := dk_180 0 13 (dk_at dksX5_plantNow_1 15 rfl rfl)
theorem dX5_plantNow_41 : decode cX5_plantNow 41 = .ok (.bipush 8, 2) := dk_16 8 (dk_at dksX5_plantNow_1 18 rfl rfl)
theorem dX5_plantNow_43 : decode cX5_plantNow 43 = .ok (.iload_n 2, 1) := dk_28 (dk_at dksX5_plantNow_1 20 rfl rfl)
theorem dX5_plantNow_44 : decode cX5_plantNow 44 = .ok (.iadd, 1) := dk_96 (dk_at dksX5_plantNow_1 21 rfl rfl)
theorem dX5_plantNow_45 : decode cX5_plantNow 45 = .ok (.iload_n 1, 1) := dk_27 (dk_at dksX5_plantNow_1 22 rfl rfl)
theorem dX5_plantNow_46 : decode cX5_plantNow 46 = .ok (.iastore, 1) := dk_79 (dk_at dksX5_plantNow_1 23 rfl rfl)
theorem dX5_plantNow_47 : decode cX5_plantNow 47 = .ok (.aload_n 0, 1) := dk_42 (dk_at dksX5_plantNow_2 0 rfl rfl)
theorem dX5_plantNow_48 : decode cX5_plantNow 48 = .ok (.getfield 13, 3) := dk_180 0 13 (dk_at dksX5_plantNow_2 1 rfl rfl)
theorem dX5_plantNow_51 : decode cX5_plantNow 51 = .ok (.bipush 24, 2) := dk_16 24 (dk_at dksX5_plantNow_2 4 rfl rfl)
theorem dX5_plantNow_53 : decode cX5_plantNow 53 = .ok (.iload_n 2, 1) := dk_28 (dk_at dksX5_plantNow_2 6 rfl rfl)
theorem dX5_plantNow_54 : decode cX5_plantNow 54 = .ok (.iadd, 1) := dk_96 (dk_at dksX5_plantNow_2 7 rfl rfl)
theorem dX5_plantNow_55 : decode cX5_plantNow 55 = .ok (.iconst 1, 1) := dk_4 (dk_at dksX5_plantNow_2 8 rfl rfl)
theorem dX5_plantNow_56 : decode cX5_plantNow 56 = .ok (.iastore, 1) := dk_79 (dk_at dksX5_plantNow_2 9 rfl rfl)
theorem dX5_plantNow_57 : decode cX5_plantNow 57 = .ok (.iconst 0, 1) := dk_3 (dk_at dksX5_plantNow_2 10 rfl rfl)
theorem dX5_plantNow_58 : decode cX5_plantNow 58 = .ok (.ireturn, 1) := dk_172 (dk_at dksX5_plantNow_2 11 rfl rfl)
abbrev cX5_remember : ByteArray := prog_22_method_12_code
def yX5_remember : MethodName := ⟨RX5, "remember", "(I)V"⟩
def dkwX5_remember_4 : List UInt8 := [89, 180, 0, 180, 4, 96, 181, 0, 180, 177]
abbrev dktX5_remember_4 : List UInt8 := dkwX5_remember_4 ++ []
def dkwX5_remember_3 : List UInt8 := [4, 100, 181, 0, 180, 42, 42, 180, 0, 180, 182, 0, 187, 42, 180, 0, 26, 42, 180, 0, 180, 27, 79, 42]
abbrev dktX5_remember_3 : List UInt8 := dkwX5_remember_3 ++ dktX5_remember_4
def dkwX5_remember_2 : List UInt8 := [180, 0, 26, 28, 42, 180, 0, 26, 28, 4, 96, 46, 79, 132, 2, 1, 167, 255, 233, 42, 89, 180, 0, 180]
abbrev dktX5_remember_2 : List UInt8 := dkwX5_remember_2 ++ dktX5_remember_3
def dkwX5_remember_1 : List UInt8 := [180, 0, 23, 28, 16, 53, 96, 46, 79, 132, 2, 1, 167, 255, 231, 3, 61, 28, 16, 15, 162, 0, 23, 42]
abbrev dktX5_remember_1 : List UInt8 := dkwX5_remember_1 ++ dktX5_remember_2
def dkwX5_remember_0 : List UInt8 := [42, 180, 0, 180, 16, 16, 160, 0, 71, 3, 61, 28, 17, 3, 27, 162, 0, 24, 42, 180, 0, 23, 28, 42]
abbrev dktX5_remember_0 : List UInt8 := dkwX5_remember_0 ++ dktX5_remember_1
theorem dksX5_remember_0 : cX5_remember.data.toList.drop 0 = dktX5_remember_0 := by decide +kernel
theorem dksX5_remember_1 : cX5_remember.data.toList.drop 24 = dktX5_remember_1 := dk_seg dksX5_remember_0 24 rfl rfl
theorem dksX5_remember_2 : cX5_remember.data.toList.drop 48 = dktX5_remember_2 := dk_seg dksX5_remember_1 24 rfl rfl
theorem dksX5_remember_3 : cX5_remember.data.toList.drop 72 = dktX5_remember_3 := dk_seg dksX5_remember_2 24 rfl rfl
theorem dksX5_remember_4 : cX5_remember.data.toList.drop 96 = dktX5_remember_4 := dk_seg dksX5_remember_3 24 rfl rfl
theorem dX5_remember_0 : decode cX5_remember 0 = .ok (.aload_n 0, 1) := dk_42 (dk_at dksX5_remember_0 0 rfl rfl)
theorem dX5_remember_1 : decode cX5_remember 1 = .ok (.getfield 180, 3) := dk_180 0 180 (dk_at dksX5_remember_0 1 rfl rfl)
theorem dX5_remember_4 : decode cX5_remember 4 = .ok (.bipush 16, 2) := dk_16 16 (dk_at dksX5_remember_0 4 rfl rfl)
theorem dX5_remember_6 : decode cX5_remember 6 = .ok (.if_icmp .ne 71, 3) := dk_160 0 71 (dk_at dksX5_remember_0 6 rfl rfl)
theorem dX5_remember_9 : decode cX5_remember 9 = .ok (.iconst 0, 1) := dk_3 (dk_at dksX5_remember_0 9 rfl rfl)
theorem dX5_remember_10 : decode cX5_remember 10 = .ok (.istore_n 2, 1) := dk_61 (dk_at dksX5_remember_0 10 rfl rfl)
theorem dX5_remember_11 : decode cX5_remember 11 = .ok (.iload_n 2, 1) := dk_28 (dk_at dksX5_remember_0 11 rfl rfl)
theorem dX5_remember_12 : decode cX5_remember 12 = .ok (.sipush 795, 3) := dk_17 3 27 (dk_at dksX5_remember_0 12 rfl rfl)
theorem dX5_remember_15 : decode cX5_remember 15 = .ok (.if_icmp .ge 24, 3) := dk_162 0 24 (dk_at dksX5_remember_0 15 rfl rfl)
theorem dX5_remember_18 : decode cX5_remember 18 = .ok (.aload_n 0, 1) := dk_42 (dk_at dksX5_remember_0 18 rfl rfl)
theorem dX5_remember_19 : decode cX5_remember 19 = .ok (.getfield 23, 3) := dk_180 0 23 (dk_at dksX5_remember_0 19 rfl rfl)
theorem dX5_remember_22 : decode cX5_remember 22 = .ok (.iload_n 2, 1) := dk_28 (dk_at dksX5_remember_0 22 rfl rfl)
theorem dX5_remember_23 : decode cX5_remember 23 = .ok (.aload_n 0, 1) := dk_42 (dk_at dksX5_remember_0 23 rfl rfl)
theorem dX5_remember_24 : decode cX5_remember 24 = .ok (.getfield 23, 3) := dk_180 0 23 (dk_at dksX5_remember_1 0 rfl rfl)
theorem dX5_remember_27 : decode cX5_remember 27 = .ok (.iload_n 2, 1) := dk_28 (dk_at dksX5_remember_1 3 rfl rfl)
theorem dX5_remember_28 : decode cX5_remember 28 = .ok (.bipush 53, 2) := dk_16 53 (dk_at dksX5_remember_1 4 rfl rfl)
theorem dX5_remember_30 : decode cX5_remember 30 = .ok (.iadd, 1) := dk_96 (dk_at dksX5_remember_1 6 rfl rfl)
theorem dX5_remember_31 : decode cX5_remember 31 = .ok (.iaload, 1) := dk_46 (dk_at dksX5_remember_1 7 rfl rfl)
theorem dX5_remember_32 : decode cX5_remember 32 = .ok (.iastore, 1) := dk_79 (dk_at dksX5_remember_1 8 rfl rfl)
theorem dX5_remember_33 : decode cX5_remember 33 = .ok (.iinc 2 1, 3) := dk_132 2 1 (dk_at dksX5_remember_1 9 rfl rfl)
theorem dX5_remember_36 : decode cX5_remember 36 = .ok (.goto (-25), 3) := dk_167 255 231 (dk_at dksX5_remember_1 12 rfl rfl)
theorem dX5_remember_39 : decode cX5_remember 39 = .ok (.iconst 0, 1) := dk_3 (dk_at dksX5_remember_1 15 rfl rfl)
theorem dX5_remember_40 : decode cX5_remember 40 = .ok (.istore_n 2, 1) := dk_61 (dk_at dksX5_remember_1 16 rfl rfl)
theorem dX5_remember_41 : decode cX5_remember 41 = .ok (.iload_n 2, 1) := dk_28 (dk_at dksX5_remember_1 17 rfl rfl)
theorem dX5_remember_42 : decode cX5_remember 42 = .ok (.bipush 15, 2) := dk_16 15 (dk_at dksX5_remember_1 18 rfl rfl)
theorem dX5_remember_44 : decode cX5_remember 44 = .ok (.if_icmp .ge 23, 3) := dk_162 0 23 (dk_at dksX5_remember_1 20 rfl rfl)
theorem dX5_remember_47 : decode cX5_remember 47 = .ok (.aload_n 0, 1) := dk_42 (dk_at dksX5_remember_1 23 rfl rfl)
theorem dX5_remember_48 : decode cX5_remember 48 = .ok (.getfield 26, 3) := dk_180 0 26 (dk_at dksX5_remember_2 0 rfl rfl)
theorem dX5_remember_51 : decode cX5_remember 51 = .ok (.iload_n 2, 1) := dk_28 (dk_at dksX5_remember_2 3 rfl rfl)
theorem dX5_remember_52 : decode cX5_remember 52 = .ok (.aload_n 0, 1) := dk_42 (dk_at dksX5_remember_2 4 rfl rfl)
theorem dX5_remember_53 : decode cX5_remember 53 = .ok (.getfield 26, 3) := dk_180 0 26 (dk_at dksX5_remember_2 5 rfl rfl)
theorem dX5_remember_56 : decode cX5_remember 56 = .ok (.iload_n 2, 1) := dk_28 (dk_at dksX5_remember_2 8 rfl rfl)
theorem dX5_remember_57 : decode cX5_remember 57 = .ok (.iconst 1, 1) := dk_4 (dk_at dksX5_remember_2 9 rfl rfl)
theorem dX5_remember_58 : decode cX5_remember 58 = .ok (.iadd, 1) := dk_96 (dk_at dksX5_remember_2 10 rfl rfl)
theorem dX5_remember_59 : decode cX5_remember 59 = .ok (.iaload, 1) := dk_46 (dk_at dksX5_remember_2 11 rfl rfl)
theorem dX5_remember_60 : decode cX5_remember 60 = .ok (.iastore, 1) := dk_79 (dk_at dksX5_remember_2 12 rfl rfl)
theorem dX5_remember_61 : decode cX5_remember 61 = .ok (.iinc 2 1, 3) := dk_132 2 1 (dk_at dksX5_remember_2 13 rfl rfl)
theorem dX5_remember_64 : decode cX5_remember 64 = .ok (.goto (-23), 3) := dk_167 255 233 (dk_at dksX5_remember_2 16 rfl rfl)
theorem dX5_remember_67 : decode cX5_remember 67 = .ok (.aload_n 0, 1) := dk_42 (dk_at dksX5_remember_2 19 rfl rfl)
theorem dX5_remember_68 : decode cX5_remember 68 = .ok (.dup, 1) := dk_89 (dk_at dksX5_remember_2 20 rfl rfl)
theorem dX5_remember_69 : decode cX5_remember 69 = .ok (.getfield 180, 3) := dk_180 0 180 (dk_at dksX5_remember_2 21 rfl rfl)
theorem dX5_remember_72 : decode cX5_remember 72 = .ok (.iconst 1, 1) := dk_4 (dk_at dksX5_remember_3 0 rfl rfl)
theorem dX5_remember_73 : decode cX5_remember 73 = .ok (.isub, 1) := dk_100 (dk_at dksX5_remember_3 1 rfl rfl)
theorem dX5_remember_74 : decode cX5_remember 74 = .ok (.putfield 180, 3) := dk_181 0 180 (dk_at dksX5_remember_3 2 rfl rfl)
theorem dX5_remember_77 : decode cX5_remember 77 = .ok (.aload_n 0, 1) := dk_42 (dk_at dksX5_remember_3 5 rfl rfl)
theorem dX5_remember_78 : decode cX5_remember 78 = .ok (.aload_n 0, 1) := dk_42 (dk_at dksX5_remember_3 6 rfl rfl)
theorem dX5_remember_79 : decode cX5_remember 79 = .ok (.getfield 180, 3) := dk_180 0 180 (dk_at dksX5_remember_3 7 rfl rfl)
theorem dX5_remember_82 : decode cX5_remember 82 = .ok (.invokevirtual 187, 3) := dk_182 0 187 (dk_at dksX5_remember_3 10 rfl rfl)
theorem dX5_remember_85 : decode cX5_remember 85 = .ok (.aload_n 0, 1) := dk_42 (dk_at dksX5_remember_3 13 rfl rfl)
theorem dX5_remember_86 : decode cX5_remember 86 = .ok (.getfield 26, 3) := dk_180 0 26 (dk_at dksX5_remember_3 14 rfl rfl)
theorem dX5_remember_89 : decode cX5_remember 89 = .ok (.aload_n 0, 1) := dk_42 (dk_at dksX5_remember_3 17 rfl rfl)
theorem dX5_remember_90 : decode cX5_remember 90 = .ok (.getfield 180, 3) := dk_180 0 180 (dk_at dksX5_remember_3 18 rfl rfl)
theorem dX5_remember_93 : decode cX5_remember 93 = .ok (.iload_n 1, 1) := dk_27 (dk_at dksX5_remember_3 21 rfl rfl)
theorem dX5_remember_94 : decode cX5_remember 94 = .ok (.iastore, 1) := dk_79 (dk_at dksX5_remember_3 22 rfl rfl)
theorem dX5_remember_95 : decode cX5_remember 95 = .ok (.aload_n 0, 1) := dk_42 (dk_at dksX5_remember_3 23 rfl rfl)
theorem dX5_remember_96 : decode cX5_remember 96 = .ok (.dup, 1) := dk_89 (dk_at dksX5_remember_4 0 rfl rfl)
theorem dX5_remember_97 : decode cX5_remember 97 = .ok (.getfield 180, 3) := dk_180 0 180 (dk_at dksX5_remember_4 1 rfl rfl)
theorem dX5_remember_100 : decode cX5_remember 100 = .ok (.iconst 1, 1) := dk_4 (dk_at dksX5_remember_4 4 rfl rfl)
theorem dX5_remember_101 : decode cX5_remember 101 = .ok (.iadd, 1) := dk_96 (dk_at dksX5_remember_4 5 rfl rfl)
theorem dX5_remember_102 : decode cX5_remember 102 = .ok (.putfield 180, 3) := dk_181 0 180 (dk_at dksX5_remember_4 6 rfl rfl)
theorem dX5_remember_105 : decode cX5_remember 105 = .ok (.return_, 1) := dk_177 (dk_at dksX5_remember_4 9 rfl rfl)
abbrev cX5_keepAll : ByteArray := prog_22_method_10_code
def yX5_keepAll : MethodName := ⟨RX5, "keepAll", "(I)V"⟩
def dkwX5_keepAll_1 : List UInt8 := [96, 46, 79, 132, 2, 1, 167, 255, 228, 177]
abbrev dktX5_keepAll_1 : List UInt8 := dkwX5_keepAll_1 ++ []
def dkwX5_keepAll_0 : List UInt8 := [3, 61, 28, 16, 53, 162, 0, 28, 42, 180, 0, 23, 16, 53, 27, 104, 28, 96, 42, 180, 0, 13, 6, 28]
abbrev dktX5_keepAll_0 : List UInt8 := dkwX5_keepAll_0 ++ dktX5_keepAll_1
theorem dksX5_keepAll_0 : cX5_keepAll.data.toList.drop 0 = dktX5_keepAll_0 := by decide +kernel
theorem dksX5_keepAll_1 : cX5_keepAll.data.toList.drop 24 = dktX5_keepAll_1 := dk_seg dksX5_keepAll_0 24 rfl rfl
theorem dX5_keepAll_0 : decode cX5_keepAll 0 = .ok (.iconst 0, 1) := dk_3 (dk_at dksX5_keepAll_0 0 rfl rfl)
theorem dX5_keepAll_1 : decode cX5_keepAll 1 = .ok (.istore_n 2, 1) := dk_61 (dk_at dksX5_keepAll_0 1 rfl rfl)
theorem dX5_keepAll_2 : decode cX5_keepAll 2 = .ok (.iload_n 2, 1) := dk_28 (dk_at dksX5_keepAll_0 2 rfl rfl)
theorem dX5_keepAll_3 : decode cX5_keepAll 3 = .ok (.bipush 53, 2) := dk_16 53 (dk_at dksX5_keepAll_0 3 rfl rfl)
theorem dX5_keepAll_5 : decode cX5_keepAll 5 = .ok (.if_icmp .ge 28, 3) := dk_162 0 28 (dk_at dksX5_keepAll_0 5 rfl rfl)
theorem dX5_keepAll_8 : decode cX5_keepAll 8 = .ok (.aload_n 0, 1) := dk_42 (dk_at dksX5_keepAll_0 8 rfl rfl)
theorem dX5_keepAll_9 : decode cX5_keepAll 9 = .ok (.getfield 23, 3) := dk_180 0 23 (dk_at dksX5_keepAll_0 9 rfl rfl)
theorem dX5_keepAll_12 : decode cX5_keepAll 12 = .ok (.bipush 53, 2) := dk_16 53 (dk_at dksX5_keepAll_0 12 rfl rfl)
theorem dX5_keepAll_14 : decode cX5_keepAll 14 = .ok (.iload_n 1, 1) := dk_27 (dk_at dksX5_keepAll_0 14 rfl rfl)
theorem dX5_keepAll_15 : decode cX5_keepAll 15 = .ok (.imul, 1) := dk_104 (dk_at dksX5_keepAll_0 15 rfl rfl)
theorem dX5_keepAll_16 : decode cX5_keepAll 16 = .ok (.iload_n 2, 1) := dk_28 (dk_at dksX5_keepAll_0 16 rfl rfl)
theorem dX5_keepAll_17 : decode cX5_keepAll 17 = .ok (.iadd, 1) := dk_96 (dk_at dksX5_keepAll_0 17 rfl rfl)
theorem dX5_keepAll_18 : decode cX5_keepAll 18 = .ok (.aload_n 0, 1) := dk_42 (dk_at dksX5_keepAll_0 18 rfl rfl)
theorem dX5_keepAll_19 : decode cX5_keepAll 19 = .ok (.getfield 13, 3) := dk_180 0 13 (dk_at dksX5_keepAll_0 19 rfl rfl)
theorem dX5_keepAll_22 : decode cX5_keepAll 22 = .ok (.iconst 3, 1) := dk_6 (dk_at dksX5_keepAll_0 22 rfl rfl)
theorem dX5_keepAll_23 : decode cX5_keepAll 23 = .ok (.iload_n 2, 1) := dk_28 (dk_at dksX5_keepAll_0 23 rfl rfl)
theorem dX5_keepAll_24 : decode cX5_keepAll 24 = .ok (.iadd, 1) := dk_96 (dk_at dksX5_keepAll_1 0 rfl rfl)
theorem dX5_keepAll_25 : decode cX5_keepAll 25 = .ok (.iaload, 1) := dk_46 (dk_at dksX5_keepAll_1 1 rfl rfl)
theorem dX5_keepAll_26 : decode cX5_keepAll 26 = .ok (.iastore, 1) := dk_79 (dk_at dksX5_keepAll_1 2 rfl rfl)
theorem dX5_keepAll_27 : decode cX5_keepAll 27 = .ok (.iinc 2 1, 3) := dk_132 2 1 (dk_at dksX5_keepAll_1 3 rfl rfl)
theorem dX5_keepAll_30 : decode cX5_keepAll 30 = .ok (.goto (-28), 3) := dk_167 255 228 (dk_at dksX5_keepAll_1 6 rfl rfl)
theorem dX5_keepAll_33 : decode cX5_keepAll 33 = .ok (.return_, 1) := dk_177 (dk_at dksX5_keepAll_1 9 rfl rfl)
abbrev cX5_prune : ByteArray := prog_22_method_78_code
def yX5_prune : MethodName := ⟨RX5, "prune", "(II)I"⟩
def dkwX5_prune_0 : List UInt8 := [42, 3, 181, 0, 174, 42, 42, 27, 28, 182, 1, 208, 182, 0, 183, 172]
abbrev dktX5_prune_0 : List UInt8 := dkwX5_prune_0 ++ []
theorem dksX5_prune_0 : cX5_prune.data.toList.drop 0 = dktX5_prune_0 := by decide +kernel
theorem dX5_prune_0 : decode cX5_prune 0 = .ok (.aload_n 0, 1) := dk_42 (dk_at dksX5_prune_0 0 rfl rfl)
theorem dX5_prune_1 : decode cX5_prune 1 = .ok (.iconst 0, 1) := dk_3 (dk_at dksX5_prune_0 1 rfl rfl)
theorem dX5_prune_2 : decode cX5_prune 2 = .ok (.putfield 174, 3) := dk_181 0 174 (dk_at dksX5_prune_0 2 rfl rfl)
theorem dX5_prune_5 : decode cX5_prune 5 = .ok (.aload_n 0, 1) := dk_42 (dk_at dksX5_prune_0 5 rfl rfl)
theorem dX5_prune_6 : decode cX5_prune 6 = .ok (.aload_n 0, 1) := dk_42 (dk_at dksX5_prune_0 6 rfl rfl)
theorem dX5_prune_7 : decode cX5_prune 7 = .ok (.iload_n 1, 1) := dk_27 (dk_at dksX5_prune_0 7 rfl rfl)
theorem dX5_prune_8 : decode cX5_prune 8 = .ok (.iload_n 2, 1) := dk_28 (dk_at dksX5_prune_0 8 rfl rfl)
theorem dX5_prune_9 : decode cX5_prune 9 = .ok (.invokevirtual 464, 3) := dk_182 1 208 (dk_at dksX5_prune_0 9 rfl rfl)
theorem dX5_prune_12 : decode cX5_prune 12 = .ok (.invokevirtual 183, 3) := dk_182 0 183 (dk_at dksX5_prune_0 12 rfl rfl)
theorem dX5_prune_15 : decode cX5_prune 15 = .ok (.ireturn, 1) := dk_172 (dk_at dksX5_prune_0 15 rfl rfl)
abbrev cX5_pruneNow : ByteArray := prog_22_method_77_code
def yX5_pruneNow : MethodName := ⟨RX5, "pruneNow", "(II)I"⟩
def dkwX5_pruneNow_3 : List UInt8 := [16, 24, 27, 96, 46, 172]
abbrev dktX5_pruneNow_3 : List UInt8 := dkwX5_pruneNow_3 ++ []
def dkwX5_pruneNow_2 : List UInt8 := [28, 100, 79, 42, 180, 0, 13, 16, 24, 27, 96, 46, 157, 0, 8, 42, 27, 182, 1, 205, 42, 180, 0, 13]
abbrev dktX5_pruneNow_2 : List UInt8 := dkwX5_pruneNow_2 ++ dktX5_pruneNow_3
def dkwX5_pruneNow_1 : List UInt8 := [182, 0, 220, 154, 0, 6, 16, 254, 172, 42, 4, 182, 1, 199, 42, 180, 0, 13, 16, 24, 27, 96, 92, 46]
abbrev dktX5_pruneNow_1 : List UInt8 := dkwX5_pruneNow_1 ++ dktX5_pruneNow_2
def dkwX5_pruneNow_0 : List UInt8 := [27, 184, 0, 205, 153, 0, 15, 28, 133, 10, 20, 0, 233, 184, 0, 194, 154, 0, 5, 2, 172, 42, 27]
abbrev dktX5_pruneNow_0 : List UInt8 := dkwX5_pruneNow_0 ++ dktX5_pruneNow_1
theorem dksX5_pruneNow_0 : cX5_pruneNow.data.toList.drop 0 = dktX5_pruneNow_0 := by decide +kernel
theorem dksX5_pruneNow_1 : cX5_pruneNow.data.toList.drop 23 = dktX5_pruneNow_1 := dk_seg dksX5_pruneNow_0 23 rfl rfl
theorem dksX5_pruneNow_2 : cX5_pruneNow.data.toList.drop 47 = dktX5_pruneNow_2 := dk_seg dksX5_pruneNow_1 24 rfl rfl
theorem dksX5_pruneNow_3 : cX5_pruneNow.data.toList.drop 71 = dktX5_pruneNow_3 := dk_seg dksX5_pruneNow_2 24 rfl rfl
theorem dX5_pruneNow_0 : decode cX5_pruneNow 0 = .ok (.iload_n 1, 1) := dk_27 (dk_at dksX5_pruneNow_0 0 rfl rfl)
theorem dX5_pruneNow_1 : decode cX5_pruneNow 1 = .ok (.invokestatic 205, 3) := dk_184 0 205 (dk_at dksX5_pruneNow_0 1 rfl rfl)
theorem dX5_pruneNow_4 : decode cX5_pruneNow 4 = .ok (.ifCond .eq 15, 3) := dk_153 0 15 (dk_at dksX5_pruneNow_0 4 rfl rfl)
theorem dX5_pruneNow_7 : decode cX5_pruneNow 7 = .ok (.iload_n 2, 1) := dk_28 (dk_at dksX5_pruneNow_0 7 rfl rfl)
theorem dX5_pruneNow_8 : decode cX5_pruneNow 8 = .ok (.i2l, 1) := dk_133 (dk_at dksX5_pruneNow_0 8 rfl rfl)
theorem dX5_pruneNow_9 : decode cX5_pruneNow 9 = .ok (.lconst 1, 1) := dk_10 (dk_at dksX5_pruneNow_0 9 rfl rfl)
theorem dX5_pruneNow_10 : decode cX5_pruneNow 10 = .ok (.ldc2_w 233, 3) := dk_20 0 233 (dk_at dksX5_pruneNow_0 10 rfl rfl)
theorem dX5_pruneNow_13 : decode cX5_pruneNow 13 = .ok (.invokestatic 194, 3) := dk_184 0 194 (dk_at dksX5_pruneNow_0 13 rfl rfl)
theorem dX5_pruneNow_16 : decode cX5_pruneNow 16 = .ok (.ifCond .ne 5, 3) := dk_154 0 5 (dk_at dksX5_pruneNow_0 16 rfl rfl)
theorem dX5_pruneNow_19 : decode cX5_pruneNow 19 = .ok (.iconst (-1), 1) := dk_2 (dk_at dksX5_pruneNow_0 19 rfl rfl)
theorem dX5_pruneNow_20 : decode cX5_pruneNow 20 = .ok (.ireturn, 1) := dk_172 (dk_at dksX5_pruneNow_0 20 rfl rfl)
theorem dX5_pruneNow_21 : decode cX5_pruneNow 21 = .ok (.aload_n 0, 1) := dk_42 (dk_at dksX5_pruneNow_0 21 rfl rfl)
theorem dX5_pruneNow_22 : decode cX5_pruneNow 22 = .ok (.iload_n 1, 1) := dk_27 (dk_at dksX5_pruneNow_0 22 rfl rfl)
theorem dX5_pruneNow_23 : decode cX5_pruneNow 23 = .ok (.invokevirtual 220, 3) := dk_182 0 220 (dk_at dksX5_pruneNow_1 0 rfl rfl)
theorem dX5_pruneNow_26 : decode cX5_pruneNow 26 = .ok (.ifCond .ne 6, 3) := dk_154 0 6 (dk_at dksX5_pruneNow_1 3 rfl rfl)
theorem dX5_pruneNow_29 : decode cX5_pruneNow 29 = .ok (.bipush (-2), 2) := dk_16 254 (dk_at dksX5_pruneNow_1 6 rfl rfl)
theorem dX5_pruneNow_31 : decode cX5_pruneNow 31 = .ok (.ireturn, 1) := dk_172 (dk_at dksX5_pruneNow_1 8 rfl rfl)
theorem dX5_pruneNow_32 : decode cX5_pruneNow 32 = .ok (.aload_n 0, 1) := dk_42 (dk_at dksX5_pruneNow_1 9 rfl rfl)
theorem dX5_pruneNow_33 : decode cX5_pruneNow 33 = .ok (.iconst 1, 1) := dk_4 (dk_at dksX5_pruneNow_1 10 rfl rfl)
theorem dX5_pruneNow_34 : decode cX5_pruneNow 34 = .ok (.invokevirtual 455, 3) := dk_182 1 199 (dk_at dksX5_pruneNow_1 11 rfl rfl)
theorem dX5_pruneNow_37 : decode cX5_pruneNow 37 = .ok (.aload_n 0, 1) := dk_42 (dk_at dksX5_pruneNow_1 14 rfl rfl)
theorem dX5_pruneNow_38 : decode cX5_pruneNow 38 = .ok (.getfield 13, 3) := dk_180 0 13 (dk_at dksX5_pruneNow_1 15 rfl rfl)
theorem dX5_pruneNow_41 : decode cX5_pruneNow 41 = .ok (.bipush 24, 2) := dk_16 24 (dk_at dksX5_pruneNow_1 18 rfl rfl)
theorem dX5_pruneNow_43 : decode cX5_pruneNow 43 = .ok (.iload_n 1, 1) := dk_27 (dk_at dksX5_pruneNow_1 20 rfl rfl)
theorem dX5_pruneNow_44 : decode cX5_pruneNow 44 = .ok (.iadd, 1) := dk_96 (dk_at dksX5_pruneNow_1 21 rfl rfl)
theorem dX5_pruneNow_45 : decode cX5_pruneNow 45 = .ok (.dup2, 1) := dk_92 (dk_at dksX5_pruneNow_1 22 rfl rfl)
theorem dX5_pruneNow_46 : decode cX5_pruneNow 46 = .ok (.iaload, 1) := dk_46 (dk_at dksX5_pruneNow_1 23 rfl rfl)
theorem dX5_pruneNow_47 : decode cX5_pruneNow 47 = .ok (.iload_n 2, 1) := dk_28 (dk_at dksX5_pruneNow_2 0 rfl rfl)
theorem dX5_pruneNow_48 : decode cX5_pruneNow 48 = .ok (.isub, 1) := dk_100 (dk_at dksX5_pruneNow_2 1 rfl rfl)
theorem dX5_pruneNow_49 : decode cX5_pruneNow 49 = .ok (.iastore, 1) := dk_79 (dk_at dksX5_pruneNow_2 2 rfl rfl)
theorem dX5_pruneNow_50 : decode cX5_pruneNow 50 = .ok (.aload_n 0, 1) := dk_42 (dk_at dksX5_pruneNow_2 3 rfl rfl)
theorem dX5_pruneNow_51 : decode cX5_pruneNow 51 = .ok (.getfield 13, 3) := dk_180 0 13 (dk_at dksX5_pruneNow_2 4 rfl rfl)
theorem dX5_pruneNow_54 : decode cX5_pruneNow 54 = .ok (.bipush 24, 2) := dk_16 24 (dk_at dksX5_pruneNow_2 7 rfl rfl)
theorem dX5_pruneNow_56 : decode cX5_pruneNow 56 = .ok (.iload_n 1, 1) := dk_27 (dk_at dksX5_pruneNow_2 9 rfl rfl)
theorem dX5_pruneNow_57 : decode cX5_pruneNow 57 = .ok (.iadd, 1) := dk_96 (dk_at dksX5_pruneNow_2 10 rfl rfl)
theorem dX5_pruneNow_58 : decode cX5_pruneNow 58 = .ok (.iaload, 1) := dk_46 (dk_at dksX5_pruneNow_2 11 rfl rfl)
theorem dX5_pruneNow_59 : decode cX5_pruneNow 59 = .ok (.ifCond .gt 8, 3) := dk_157 0 8 (dk_at dksX5_pruneNow_2 12 rfl rfl)
theorem dX5_pruneNow_62 : decode cX5_pruneNow 62 = .ok (.aload_n 0, 1) := dk_42 (dk_at dksX5_pruneNow_2 15 rfl rfl)
theorem dX5_pruneNow_63 : decode cX5_pruneNow 63 = .ok (.iload_n 1, 1) := dk_27 (dk_at dksX5_pruneNow_2 16 rfl rfl)
theorem dX5_pruneNow_64 : decode cX5_pruneNow 64 = .ok (.invokevirtual 461, 3) := dk_182 1 205 (dk_at dksX5_pruneNow_2 17 rfl rfl)
theorem dX5_pruneNow_67 : decode cX5_pruneNow 67 = .ok (.aload_n 0, 1) := dk_42 (dk_at dksX5_pruneNow_2 20 rfl rfl)
theorem dX5_pruneNow_68 : decode cX5_pruneNow 68 = .ok (.getfield 13, 3) := dk_180 0 13 (dk_at dksX5_pruneNow_2 21 rfl rfl)
theorem dX5_pruneNow_71 : decode cX5_pruneNow 71 = .ok (.bipush 24, 2) := dk_16 24 (dk_at dksX5_pruneNow_3 0 rfl rfl)
theorem dX5_pruneNow_73 : decode cX5_pruneNow 73 = .ok (.iload_n 1, 1) := dk_27 (dk_at dksX5_pruneNow_3 2 rfl rfl)
theorem dX5_pruneNow_74 : decode cX5_pruneNow 74 = .ok (.iadd, 1) := dk_96 (dk_at dksX5_pruneNow_3 3 rfl rfl)
theorem dX5_pruneNow_75 : decode cX5_pruneNow 75 = .ok (.iaload, 1) := dk_46 (dk_at dksX5_pruneNow_3 4 rfl rfl)
theorem dX5_pruneNow_76 : decode cX5_pruneNow 76 = .ok (.ireturn, 1) := dk_172 (dk_at dksX5_pruneNow_3 5 rfl rfl)
abbrev cX5_fell : ByteArray := prog_22_method_21_code
def yX5_fell : MethodName := ⟨RX5, "fell", "(I)V"⟩
def dkwX5_fell_0 : List UInt8 := [42, 180, 0, 13, 16, 8, 27, 96, 2, 79, 42, 180, 0, 13, 16, 24, 27, 96, 3, 79, 177]
abbrev dktX5_fell_0 : List UInt8 := dkwX5_fell_0 ++ []
theorem dksX5_fell_0 : cX5_fell.data.toList.drop 0 = dktX5_fell_0 := by decide +kernel
theorem dX5_fell_0 : decode cX5_fell 0 = .ok (.aload_n 0, 1) := dk_42 (dk_at dksX5_fell_0 0 rfl rfl)
theorem dX5_fell_1 : decode cX5_fell 1 = .ok (.getfield 13, 3) := dk_180 0 13 (dk_at dksX5_fell_0 1 rfl rfl)
theorem dX5_fell_4 : decode cX5_fell 4 = .ok (.bipush 8, 2) := dk_16 8 (dk_at dksX5_fell_0 4 rfl rfl)
theorem dX5_fell_6 : decode cX5_fell 6 = .ok (.iload_n 1, 1) := dk_27 (dk_at dksX5_fell_0 6 rfl rfl)
theorem dX5_fell_7 : decode cX5_fell 7 = .ok (.iadd, 1) := dk_96 (dk_at dksX5_fell_0 7 rfl rfl)
theorem dX5_fell_8 : decode cX5_fell 8 = .ok (.iconst (-1), 1) := dk_2 (dk_at dksX5_fell_0 8 rfl rfl)
theorem dX5_fell_9 : decode cX5_fell 9 = .ok (.iastore, 1) := dk_79 (dk_at dksX5_fell_0 9 rfl rfl)
theorem dX5_fell_10 : decode cX5_fell 10 = .ok (.aload_n 0, 1) := dk_42 (dk_at dksX5_fell_0 10 rfl rfl)
theorem dX5_fell_11 : decode cX5_fell 11 = .ok (.getfield 13, 3) := dk_180 0 13 (dk_at dksX5_fell_0 11 rfl rfl)
theorem dX5_fell_14 : decode cX5_fell 14 = .ok (.bipush 24, 2) := dk_16 24 (dk_at dksX5_fell_0 14 rfl rfl)
theorem dX5_fell_16 : decode cX5_fell 16 = .ok (.iload_n 1, 1) := dk_27 (dk_at dksX5_fell_0 16 rfl rfl)
theorem dX5_fell_17 : decode cX5_fell 17 = .ok (.iadd, 1) := dk_96 (dk_at dksX5_fell_0 17 rfl rfl)
theorem dX5_fell_18 : decode cX5_fell 18 = .ok (.iconst 0, 1) := dk_3 (dk_at dksX5_fell_0 18 rfl rfl)
theorem dX5_fell_19 : decode cX5_fell 19 = .ok (.iastore, 1) := dk_79 (dk_at dksX5_fell_0 19 rfl rfl)
theorem dX5_fell_20 : decode cX5_fell 20 = .ok (.return_, 1) := dk_177 (dk_at dksX5_fell_0 20 rfl rfl)
abbrev cX5_let : ByteArray := prog_22_method_80_code
def yX5_let : MethodName := ⟨RX5, "let", "(II)I"⟩
def dkwX5_let_0 : List UInt8 := [42, 3, 181, 0, 174, 42, 42, 27, 28, 182, 1, 211, 182, 0, 183, 172]
abbrev dktX5_let_0 : List UInt8 := dkwX5_let_0 ++ []
theorem dksX5_let_0 : cX5_let.data.toList.drop 0 = dktX5_let_0 := by decide +kernel
theorem dX5_let_0 : decode cX5_let 0 = .ok (.aload_n 0, 1) := dk_42 (dk_at dksX5_let_0 0 rfl rfl)
theorem dX5_let_1 : decode cX5_let 1 = .ok (.iconst 0, 1) := dk_3 (dk_at dksX5_let_0 1 rfl rfl)
theorem dX5_let_2 : decode cX5_let 2 = .ok (.putfield 174, 3) := dk_181 0 174 (dk_at dksX5_let_0 2 rfl rfl)
theorem dX5_let_5 : decode cX5_let 5 = .ok (.aload_n 0, 1) := dk_42 (dk_at dksX5_let_0 5 rfl rfl)
theorem dX5_let_6 : decode cX5_let 6 = .ok (.aload_n 0, 1) := dk_42 (dk_at dksX5_let_0 6 rfl rfl)
theorem dX5_let_7 : decode cX5_let 7 = .ok (.iload_n 1, 1) := dk_27 (dk_at dksX5_let_0 7 rfl rfl)
theorem dX5_let_8 : decode cX5_let 8 = .ok (.iload_n 2, 1) := dk_28 (dk_at dksX5_let_0 8 rfl rfl)
theorem dX5_let_9 : decode cX5_let 9 = .ok (.invokevirtual 467, 3) := dk_182 1 211 (dk_at dksX5_let_0 9 rfl rfl)
theorem dX5_let_12 : decode cX5_let 12 = .ok (.invokevirtual 183, 3) := dk_182 0 183 (dk_at dksX5_let_0 12 rfl rfl)
theorem dX5_let_15 : decode cX5_let 15 = .ok (.ireturn, 1) := dk_172 (dk_at dksX5_let_0 15 rfl rfl)
abbrev cX5_letNow : ByteArray := prog_22_method_79_code
def yX5_letNow : MethodName := ⟨RX5, "letNow", "(II)I"⟩
def dkwX5_letNow_3 : List UInt8 := [180, 0, 13, 16, 40, 27, 96, 28, 79, 3, 172]
abbrev dktX5_letNow_3 : List UInt8 := dkwX5_letNow_3 ++ []
def dkwX5_letNow_2 : List UInt8 := [182, 0, 217, 154, 0, 12, 42, 28, 27, 182, 1, 189, 153, 0, 6, 16, 253, 172, 42, 5, 182, 1, 199, 42]
abbrev dktX5_letNow_2 : List UInt8 := dkwX5_letNow_2 ++ dktX5_letNow_3
def dkwX5_letNow_1 : List UInt8 := [180, 0, 13, 16, 40, 27, 96, 46, 2, 160, 0, 29, 42, 28, 182, 1, 192, 2, 160, 0, 20, 42, 27]
abbrev dktX5_letNow_1 : List UInt8 := dkwX5_letNow_1 ++ dktX5_letNow_2
def dkwX5_letNow_0 : List UInt8 := [27, 184, 0, 205, 153, 0, 15, 28, 133, 9, 20, 0, 229, 184, 0, 194, 154, 0, 5, 2, 172, 42]
abbrev dktX5_letNow_0 : List UInt8 := dkwX5_letNow_0 ++ dktX5_letNow_1
theorem dksX5_letNow_0 : cX5_letNow.data.toList.drop 0 = dktX5_letNow_0 := by decide +kernel
theorem dksX5_letNow_1 : cX5_letNow.data.toList.drop 22 = dktX5_letNow_1 := dk_seg dksX5_letNow_0 22 rfl rfl
theorem dksX5_letNow_2 : cX5_letNow.data.toList.drop 45 = dktX5_letNow_2 := dk_seg dksX5_letNow_1 23 rfl rfl
theorem dksX5_letNow_3 : cX5_letNow.data.toList.drop 69 = dktX5_letNow_3 := dk_seg dksX5_letNow_2 24 rfl rfl
theorem dX5_letNow_0 : decode cX5_letNow 0 = .ok (.iload_n 1, 1) := dk_27 (dk_at dksX5_letNow_0 0 rfl rfl)
theorem dX5_letNow_1 : decode cX5_letNow 1 = .ok (.invokestatic 205, 3) := dk_184 0 205 (dk_at dksX5_letNow_0 1 rfl rfl)
theorem dX5_letNow_4 : decode cX5_letNow 4 = .ok (.ifCond .eq 15, 3) := dk_153 0 15 (dk_at dksX5_letNow_0 4 rfl rfl)
theorem dX5_letNow_7 : decode cX5_letNow 7 = .ok (.iload_n 2, 1) := dk_28 (dk_at dksX5_letNow_0 7 rfl rfl)
theorem dX5_letNow_8 : decode cX5_letNow 8 = .ok (.i2l, 1) := dk_133 (dk_at dksX5_letNow_0 8 rfl rfl)
theorem dX5_letNow_9 : decode cX5_letNow 9 = .ok (.lconst 0, 1) := dk_9 (dk_at dksX5_letNow_0 9 rfl rfl)
theorem dX5_letNow_10 : decode cX5_letNow 10 = .ok (.ldc2_w 229, 3) := dk_20 0 229 (dk_at dksX5_letNow_0 10 rfl rfl)
theorem dX5_letNow_13 : decode cX5_letNow 13 = .ok (.invokestatic 194, 3) := dk_184 0 194 (dk_at dksX5_letNow_0 13 rfl rfl)
theorem dX5_letNow_16 : decode cX5_letNow 16 = .ok (.ifCond .ne 5, 3) := dk_154 0 5 (dk_at dksX5_letNow_0 16 rfl rfl)
theorem dX5_letNow_19 : decode cX5_letNow 19 = .ok (.iconst (-1), 1) := dk_2 (dk_at dksX5_letNow_0 19 rfl rfl)
theorem dX5_letNow_20 : decode cX5_letNow 20 = .ok (.ireturn, 1) := dk_172 (dk_at dksX5_letNow_0 20 rfl rfl)
theorem dX5_letNow_21 : decode cX5_letNow 21 = .ok (.aload_n 0, 1) := dk_42 (dk_at dksX5_letNow_0 21 rfl rfl)
theorem dX5_letNow_22 : decode cX5_letNow 22 = .ok (.getfield 13, 3) := dk_180 0 13 (dk_at dksX5_letNow_1 0 rfl rfl)
theorem dX5_letNow_25 : decode cX5_letNow 25 = .ok (.bipush 40, 2) := dk_16 40 (dk_at dksX5_letNow_1 3 rfl rfl)
theorem dX5_letNow_27 : decode cX5_letNow 27 = .ok (.iload_n 1, 1) := dk_27 (dk_at dksX5_letNow_1 5 rfl rfl)
theorem dX5_letNow_28 : decode cX5_letNow 28 = .ok (.iadd, 1) := dk_96 (dk_at dksX5_letNow_1 6 rfl rfl)
theorem dX5_letNow_29 : decode cX5_letNow 29 = .ok (.iaload, 1) := dk_46 (dk_at dksX5_letNow_1 7 rfl rfl)
theorem dX5_letNow_30 : decode cX5_letNow 30 = .ok (.iconst (-1), 1) := dk_2 (dk_at dksX5_letNow_1 8 rfl rfl)
theorem dX5_letNow_31 : decode cX5_letNow 31 = .ok (.if_icmp .ne 29, 3) := dk_160 0 29 (dk_at dksX5_letNow_1 9 rfl rfl)
theorem dX5_letNow_34 : decode cX5_letNow 34 = .ok (.aload_n 0, 1) := dk_42 (dk_at dksX5_letNow_1 12 rfl rfl)
theorem dX5_letNow_35 : decode cX5_letNow 35 = .ok (.iload_n 2, 1) := dk_28 (dk_at dksX5_letNow_1 13 rfl rfl)
theorem dX5_letNow_36 : decode cX5_letNow 36 = .ok (.invokevirtual 448, 3) := dk_182 1 192 (dk_at dksX5_letNow_1 14 rfl rfl)
theorem dX5_letNow_39 : decode cX5_letNow 39 = .ok (.iconst (-1), 1) := dk_2 (dk_at dksX5_letNow_1 17 rfl rfl)
theorem dX5_letNow_40 : decode cX5_letNow 40 = .ok (.if_icmp .ne 20, 3) := dk_160 0 20 (dk_at dksX5_letNow_1 18 rfl rfl)
theorem dX5_letNow_43 : decode cX5_letNow 43 = .ok (.aload_n 0, 1) := dk_42 (dk_at dksX5_letNow_1 21 rfl rfl)
theorem dX5_letNow_44 : decode cX5_letNow 44 = .ok (.iload_n 1, 1) := dk_27 (dk_at dksX5_letNow_1 22 rfl rfl)
theorem dX5_letNow_45 : decode cX5_letNow 45 = .ok (.invokevirtual 217, 3) := dk_182 0 217 (dk_at dksX5_letNow_2 0 rfl rfl)
theorem dX5_letNow_48 : decode cX5_letNow 48 = .ok (.ifCond .ne 12, 3) := dk_154 0 12 (dk_at dksX5_letNow_2 3 rfl rfl)
theorem dX5_letNow_51 : decode cX5_letNow 51 = .ok (.aload_n 0, 1) := dk_42 (dk_at dksX5_letNow_2 6 rfl rfl)
theorem dX5_letNow_52 : decode cX5_letNow 52 = .ok (.iload_n 2, 1) := dk_28 (dk_at dksX5_letNow_2 7 rfl rfl)
theorem dX5_letNow_53 : decode cX5_letNow 53 = .ok (.iload_n 1, 1) := dk_27 (dk_at dksX5_letNow_2 8 rfl rfl)
theorem dX5_letNow_54 : decode cX5_letNow 54 = .ok (.invokevirtual 445, 3) := dk_182 1 189 (dk_at dksX5_letNow_2 9 rfl rfl)
theorem dX5_letNow_57 : decode cX5_letNow 57 = .ok (.ifCond .eq 6, 3) := dk_153 0 6 (dk_at dksX5_letNow_2 12 rfl rfl)
theorem dX5_letNow_60 : decode cX5_letNow 60 = .ok (.bipush (-3), 2) := dk_16 253 (dk_at dksX5_letNow_2 15 rfl rfl)
theorem dX5_letNow_62 : decode cX5_letNow 62 = .ok (.ireturn, 1) := dk_172 (dk_at dksX5_letNow_2 17 rfl rfl)
theorem dX5_letNow_63 : decode cX5_letNow 63 = .ok (.aload_n 0, 1) := dk_42 (dk_at dksX5_letNow_2 18 rfl rfl)
theorem dX5_letNow_64 : decode cX5_letNow 64 = .ok (.iconst 2, 1) := dk_5 (dk_at dksX5_letNow_2 19 rfl rfl)
theorem dX5_letNow_65 : decode cX5_letNow 65 = .ok (.invokevirtual 455, 3) := dk_182 1 199 (dk_at dksX5_letNow_2 20 rfl rfl)
theorem dX5_letNow_68 : decode cX5_letNow 68 = .ok (.aload_n 0, 1) := dk_42 (dk_at dksX5_letNow_2 23 rfl rfl)
theorem dX5_letNow_69 : decode cX5_letNow 69 = .ok (.getfield 13, 3) := dk_180 0 13 (dk_at dksX5_letNow_3 0 rfl rfl)
theorem dX5_letNow_72 : decode cX5_letNow 72 = .ok (.bipush 40, 2) := dk_16 40 (dk_at dksX5_letNow_3 3 rfl rfl)
theorem dX5_letNow_74 : decode cX5_letNow 74 = .ok (.iload_n 1, 1) := dk_27 (dk_at dksX5_letNow_3 5 rfl rfl)
theorem dX5_letNow_75 : decode cX5_letNow 75 = .ok (.iadd, 1) := dk_96 (dk_at dksX5_letNow_3 6 rfl rfl)
theorem dX5_letNow_76 : decode cX5_letNow 76 = .ok (.iload_n 2, 1) := dk_28 (dk_at dksX5_letNow_3 7 rfl rfl)
theorem dX5_letNow_77 : decode cX5_letNow 77 = .ok (.iastore, 1) := dk_79 (dk_at dksX5_letNow_3 8 rfl rfl)
theorem dX5_letNow_78 : decode cX5_letNow 78 = .ok (.iconst 0, 1) := dk_3 (dk_at dksX5_letNow_3 9 rfl rfl)
theorem dX5_letNow_79 : decode cX5_letNow 79 = .ok (.ireturn, 1) := dk_172 (dk_at dksX5_letNow_3 10 rfl rfl)
abbrev cX5_empty : ByteArray := prog_22_method_82_code
def yX5_empty : MethodName := ⟨RX5, "empty", "(I)I"⟩
def dkwX5_empty_0 : List UInt8 := [42, 3, 181, 0, 174, 42, 42, 27, 182, 1, 214, 182, 0, 183, 172]
abbrev dktX5_empty_0 : List UInt8 := dkwX5_empty_0 ++ []
theorem dksX5_empty_0 : cX5_empty.data.toList.drop 0 = dktX5_empty_0 := by decide +kernel
theorem dX5_empty_0 : decode cX5_empty 0 = .ok (.aload_n 0, 1) := dk_42 (dk_at dksX5_empty_0 0 rfl rfl)
theorem dX5_empty_1 : decode cX5_empty 1 = .ok (.iconst 0, 1) := dk_3 (dk_at dksX5_empty_0 1 rfl rfl)
theorem dX5_empty_2 : decode cX5_empty 2 = .ok (.putfield 174, 3) := dk_181 0 174 (dk_at dksX5_empty_0 2 rfl rfl)
theorem dX5_empty_5 : decode cX5_empty 5 = .ok (.aload_n 0, 1) := dk_42 (dk_at dksX5_empty_0 5 rfl rfl)
theorem dX5_empty_6 : decode cX5_empty 6 = .ok (.aload_n 0, 1) := dk_42 (dk_at dksX5_empty_0 6 rfl rfl)
theorem dX5_empty_7 : decode cX5_empty 7 = .ok (.iload_n 1, 1) := dk_27 (dk_at dksX5_empty_0 7 rfl rfl)
theorem dX5_empty_8 : decode cX5_empty 8 = .ok (.invokevirtual 470, 3) := dk_182 1 214 (dk_at dksX5_empty_0 8 rfl rfl)
theorem dX5_empty_11 : decode cX5_empty 11 = .ok (.invokevirtual 183, 3) := dk_182 0 183 (dk_at dksX5_empty_0 11 rfl rfl)
theorem dX5_empty_14 : decode cX5_empty 14 = .ok (.ireturn, 1) := dk_172 (dk_at dksX5_empty_0 14 rfl rfl)
abbrev cX5_emptyNow : ByteArray := prog_22_method_81_code
def yX5_emptyNow : MethodName := ⟨RX5, "emptyNow", "(I)I"⟩
def dkwX5_emptyNow_2 : List UInt8 := [2, 79, 28, 172]
abbrev dktX5_emptyNow_2 : List UInt8 := dkwX5_emptyNow_2 ++ []
def dkwX5_emptyNow_1 : List UInt8 := [172, 42, 6, 182, 1, 199, 42, 180, 0, 13, 16, 40, 27, 96, 46, 61, 42, 180, 0, 13, 16, 40, 27, 96]
abbrev dktX5_emptyNow_1 : List UInt8 := dkwX5_emptyNow_1 ++ dktX5_emptyNow_2
def dkwX5_emptyNow_0 : List UInt8 := [27, 184, 0, 205, 154, 0, 5, 2, 172, 42, 180, 0, 13, 16, 40, 27, 96, 46, 2, 160, 0, 6, 16, 254]
abbrev dktX5_emptyNow_0 : List UInt8 := dkwX5_emptyNow_0 ++ dktX5_emptyNow_1
theorem dksX5_emptyNow_0 : cX5_emptyNow.data.toList.drop 0 = dktX5_emptyNow_0 := by decide +kernel
theorem dksX5_emptyNow_1 : cX5_emptyNow.data.toList.drop 24 = dktX5_emptyNow_1 := dk_seg dksX5_emptyNow_0 24 rfl rfl
theorem dksX5_emptyNow_2 : cX5_emptyNow.data.toList.drop 48 = dktX5_emptyNow_2 := dk_seg dksX5_emptyNow_1 24 rfl rfl
theorem dX5_emptyNow_0 : decode cX5_emptyNow 0 = .ok (.iload_n 1, 1) := dk_27 (dk_at dksX5_emptyNow_0 0 rfl rfl)
theorem dX5_emptyNow_1 : decode cX5_emptyNow 1 = .ok (.invokestatic 205, 3) := dk_184 0 205 (dk_at dksX5_emptyNow_0 1 rfl rfl)
theorem dX5_emptyNow_4 : decode cX5_emptyNow 4 = .ok (.ifCond .ne 5, 3) := dk_154 0 5 (dk_at dksX5_emptyNow_0 4 rfl rfl)
theorem dX5_emptyNow_7 : decode cX5_emptyNow 7 = .ok (.iconst (-1), 1) := dk_2 (dk_at dksX5_emptyNow_0 7 rfl rfl)
theorem dX5_emptyNow_8 : decode cX5_emptyNow 8 = .ok (.ireturn, 1) := dk_172 (dk_at dksX5_emptyNow_0 8 rfl rfl)
theorem dX5_emptyNow_9 : decode cX5_emptyNow 9 = .ok (.aload_n 0, 1) := dk_42 (dk_at dksX5_emptyNow_0 9 rfl rfl)
theorem dX5_emptyNow_10 : decode cX5_emptyNow 10 = .ok (.getfield 13, 3) := dk_180 0 13 (dk_at dksX5_emptyNow_0 10 rfl rfl)
theorem dX5_emptyNow_13 : decode cX5_emptyNow 13 = .ok (.bipush 40, 2) := dk_16 40 (dk_at dksX5_emptyNow_0 13 rfl rfl)
theorem dX5_emptyNow_15 : decode cX5_emptyNow 15 = .ok (.iload_n 1, 1) := dk_27 (dk_at dksX5_emptyNow_0 15 rfl rfl)
theorem dX5_emptyNow_16 : decode cX5_emptyNow 16 = .ok (.iadd, 1) := dk_96 (dk_at dksX5_emptyNow_0 16 rfl rfl)
theorem dX5_emptyNow_17 : decode cX5_emptyNow 17 = .ok (.iaload, 1) := dk_46 (dk_at dksX5_emptyNow_0 17 rfl rfl)
theorem dX5_emptyNow_18 : decode cX5_emptyNow 18 = .ok (.iconst (-1), 1) := dk_2 (dk_at dksX5_emptyNow_0 18 rfl rfl)
theorem dX5_emptyNow_19 : decode cX5_emptyNow 19 = .ok (.if_icmp .ne 6, 3) := dk_160 0 6 (dk_at dksX5_emptyNow_0 19 rfl rfl)
theorem dX5_emptyNow_22 : decode cX5_emptyNow 22 = .ok (.bipush (-2), 2) := dk_16 254 (dk_at dksX5_emptyNow_0 22 rfl rfl)
theorem dX5_emptyNow_24 : decode cX5_emptyNow 24 = .ok (.ireturn, 1) := dk_172 (dk_at dksX5_emptyNow_1 0 rfl rfl)
theorem dX5_emptyNow_25 : decode cX5_emptyNow 25 = .ok (.aload_n 0, 1) := dk_42 (dk_at dksX5_emptyNow_1 1 rfl rfl)
theorem dX5_emptyNow_26 : decode cX5_emptyNow 26 = .ok (.iconst 3, 1) := dk_6 (dk_at dksX5_emptyNow_1 2 rfl rfl)
theorem dX5_emptyNow_27 : decode cX5_emptyNow 27 = .ok (.invokevirtual 455, 3) := dk_182 1 199 (dk_at dksX5_emptyNow_1 3 rfl rfl)
theorem dX5_emptyNow_30 : decode cX5_emptyNow 30 = .ok (.aload_n 0, 1) := dk_42 (dk_at dksX5_emptyNow_1 6 rfl rfl)
theorem dX5_emptyNow_31 : decode cX5_emptyNow 31 = .ok (.getfield 13, 3) := dk_180 0 13 (dk_at dksX5_emptyNow_1 7 rfl rfl)
theorem dX5_emptyNow_34 : decode cX5_emptyNow 34 = .ok (.bipush 40, 2) := dk_16 40 (dk_at dksX5_emptyNow_1 10 rfl rfl)
theorem dX5_emptyNow_36 : decode cX5_emptyNow 36 = .ok (.iload_n 1, 1) := dk_27 (dk_at dksX5_emptyNow_1 12 rfl rfl)
theorem dX5_emptyNow_37 : decode cX5_emptyNow 37 = .ok (.iadd, 1) := dk_96 (dk_at dksX5_emptyNow_1 13 rfl rfl)
theorem dX5_emptyNow_38 : decode cX5_emptyNow 38 = .ok (.iaload, 1) := dk_46 (dk_at dksX5_emptyNow_1 14 rfl rfl)
theorem dX5_emptyNow_39 : decode cX5_emptyNow 39 = .ok (.istore_n 2, 1) := dk_61 (dk_at dksX5_emptyNow_1 15 rfl rfl)
theorem dX5_emptyNow_40 : decode cX5_emptyNow 40 = .ok (.aload_n 0, 1) := dk_42 (dk_at dksX5_emptyNow_1 16 rfl rfl)
theorem dX5_emptyNow_41 : decode cX5_emptyNow 41 = .ok (.getfield 13, 3) := dk_180 0 13 (dk_at dksX5_emptyNow_1 17 rfl rfl)
theorem dX5_emptyNow_44 : decode cX5_emptyNow 44 = .ok (.bipush 40, 2) := dk_16 40 (dk_at dksX5_emptyNow_1 20 rfl rfl)
theorem dX5_emptyNow_46 : decode cX5_emptyNow 46 = .ok (.iload_n 1, 1) := dk_27 (dk_at dksX5_emptyNow_1 22 rfl rfl)
theorem dX5_emptyNow_47 : decode cX5_emptyNow 47 = .ok (.iadd, 1) := dk_96 (dk_at dksX5_emptyNow_1 23 rfl rfl)
theorem dX5_emptyNow_48 : decode cX5_emptyNow 48 = .ok (.iconst (-1), 1) := dk_2 (dk_at dksX5_emptyNow_2 0 rfl rfl)
theorem dX5_emptyNow_49 : decode cX5_emptyNow 49 = .ok (.iastore, 1) := dk_79 (dk_at dksX5_emptyNow_2 1 rfl rfl)
theorem dX5_emptyNow_50 : decode cX5_emptyNow 50 = .ok (.iload_n 2, 1) := dk_28 (dk_at dksX5_emptyNow_2 2 rfl rfl)
theorem dX5_emptyNow_51 : decode cX5_emptyNow 51 = .ok (.ireturn, 1) := dk_172 (dk_at dksX5_emptyNow_2 3 rfl rfl)
abbrev cX5_pass : ByteArray := prog_22_method_86_code
def yX5_pass : MethodName := ⟨RX5, "pass", "()I"⟩
def dkwX5_pass_0 : List UInt8 := [42, 3, 181, 0, 174, 42, 42, 182, 1, 226, 182, 0, 183, 172]
abbrev dktX5_pass_0 : List UInt8 := dkwX5_pass_0 ++ []
theorem dksX5_pass_0 : cX5_pass.data.toList.drop 0 = dktX5_pass_0 := by decide +kernel
theorem dX5_pass_0 : decode cX5_pass 0 = .ok (.aload_n 0, 1) := dk_42 (dk_at dksX5_pass_0 0 rfl rfl)
theorem dX5_pass_1 : decode cX5_pass 1 = .ok (.iconst 0, 1) := dk_3 (dk_at dksX5_pass_0 1 rfl rfl)
theorem dX5_pass_2 : decode cX5_pass 2 = .ok (.putfield 174, 3) := dk_181 0 174 (dk_at dksX5_pass_0 2 rfl rfl)
theorem dX5_pass_5 : decode cX5_pass 5 = .ok (.aload_n 0, 1) := dk_42 (dk_at dksX5_pass_0 5 rfl rfl)
theorem dX5_pass_6 : decode cX5_pass 6 = .ok (.aload_n 0, 1) := dk_42 (dk_at dksX5_pass_0 6 rfl rfl)
theorem dX5_pass_7 : decode cX5_pass 7 = .ok (.invokevirtual 482, 3) := dk_182 1 226 (dk_at dksX5_pass_0 7 rfl rfl)
theorem dX5_pass_10 : decode cX5_pass 10 = .ok (.invokevirtual 183, 3) := dk_182 0 183 (dk_at dksX5_pass_0 10 rfl rfl)
theorem dX5_pass_13 : decode cX5_pass 13 = .ok (.ireturn, 1) := dk_172 (dk_at dksX5_pass_0 13 rfl rfl)
abbrev cX5_passNow : ByteArray := prog_22_method_85_code
def yX5_passNow : MethodName := ⟨RX5, "passNow", "()I"⟩
def dkwX5_passNow_0 : List UInt8 := [42, 3, 182, 1, 162, 17, 3, 231, 160, 0, 6, 16, 253, 172, 42, 7, 182, 1, 199, 42, 182, 1, 223, 172]
abbrev dktX5_passNow_0 : List UInt8 := dkwX5_passNow_0 ++ []
theorem dksX5_passNow_0 : cX5_passNow.data.toList.drop 0 = dktX5_passNow_0 := by decide +kernel
theorem dX5_passNow_0 : decode cX5_passNow 0 = .ok (.aload_n 0, 1) := dk_42 (dk_at dksX5_passNow_0 0 rfl rfl)
theorem dX5_passNow_1 : decode cX5_passNow 1 = .ok (.iconst 0, 1) := dk_3 (dk_at dksX5_passNow_0 1 rfl rfl)
theorem dX5_passNow_2 : decode cX5_passNow 2 = .ok (.invokevirtual 418, 3) := dk_182 1 162 (dk_at dksX5_passNow_0 2 rfl rfl)
theorem dX5_passNow_5 : decode cX5_passNow 5 = .ok (.sipush 999, 3) := dk_17 3 231 (dk_at dksX5_passNow_0 5 rfl rfl)
theorem dX5_passNow_8 : decode cX5_passNow 8 = .ok (.if_icmp .ne 6, 3) := dk_160 0 6 (dk_at dksX5_passNow_0 8 rfl rfl)
theorem dX5_passNow_11 : decode cX5_passNow 11 = .ok (.bipush (-3), 2) := dk_16 253 (dk_at dksX5_passNow_0 11 rfl rfl)
theorem dX5_passNow_13 : decode cX5_passNow 13 = .ok (.ireturn, 1) := dk_172 (dk_at dksX5_passNow_0 13 rfl rfl)
theorem dX5_passNow_14 : decode cX5_passNow 14 = .ok (.aload_n 0, 1) := dk_42 (dk_at dksX5_passNow_0 14 rfl rfl)
theorem dX5_passNow_15 : decode cX5_passNow 15 = .ok (.iconst 4, 1) := dk_7 (dk_at dksX5_passNow_0 15 rfl rfl)
theorem dX5_passNow_16 : decode cX5_passNow 16 = .ok (.invokevirtual 455, 3) := dk_182 1 199 (dk_at dksX5_passNow_0 16 rfl rfl)
theorem dX5_passNow_19 : decode cX5_passNow 19 = .ok (.aload_n 0, 1) := dk_42 (dk_at dksX5_passNow_0 19 rfl rfl)
theorem dX5_passNow_20 : decode cX5_passNow 20 = .ok (.invokevirtual 479, 3) := dk_182 1 223 (dk_at dksX5_passNow_0 20 rfl rfl)
theorem dX5_passNow_23 : decode cX5_passNow 23 = .ok (.ireturn, 1) := dk_172 (dk_at dksX5_passNow_0 23 rfl rfl)
abbrev cX5_passIt : ByteArray := prog_22_method_84_code
def yX5_passIt : MethodName := ⟨RX5, "passIt", "()I"⟩
def dkwX5_passIt_9 : List UInt8 := [180, 0, 13, 6, 92, 46, 4, 96, 79, 27, 172]
abbrev dktX5_passIt_9 : List UInt8 := dkwX5_passIt_9 ++ []
def dkwX5_passIt_8 : List UInt8 := [159, 0, 16, 42, 180, 0, 13, 16, 40, 28, 96, 2, 79, 132, 1, 1, 132, 2, 1, 167, 255, 178, 42]
abbrev dktX5_passIt_8 : List UInt8 := dkwX5_passIt_8 ++ dktX5_passIt_9
def dkwX5_passIt_7 : List UInt8 := [28, 96, 4, 79, 42, 28, 182, 0, 217, 153, 0, 29, 42, 180, 0, 13, 16, 40, 28, 96, 46, 2]
abbrev dktX5_passIt_7 : List UInt8 := dkwX5_passIt_7 ++ dktX5_passIt_8
def dkwX5_passIt_6 : List UInt8 := [159, 0, 28, 42, 180, 0, 13, 16, 8, 28, 96, 42, 180, 0, 119, 28, 46, 79, 42, 180, 0, 13, 16, 24]
abbrev dktX5_passIt_6 : List UInt8 := dkwX5_passIt_6 ++ dktX5_passIt_7
def dkwX5_passIt_5 : List UInt8 := [132, 1, 1, 167, 255, 224, 3, 60, 3, 61, 28, 16, 16, 162, 0, 78, 42, 180, 0, 119, 28, 46, 2]
abbrev dktX5_passIt_5 : List UInt8 := dkwX5_passIt_5 ++ dktX5_passIt_6
def dkwX5_passIt_4 : List UInt8 := [180, 0, 119, 27, 42, 27, 182, 0, 220, 153, 0, 7, 2, 167, 0, 8, 42, 27, 182, 1, 220, 79]
abbrev dktX5_passIt_4 : List UInt8 := dkwX5_passIt_4 ++ dktX5_passIt_5
def dkwX5_passIt_3 : List UInt8 := [3, 16, 99, 184, 1, 177, 79, 132, 1, 1, 167, 255, 215, 3, 60, 27, 16, 16, 162, 0, 32, 42]
abbrev dktX5_passIt_3 : List UInt8 := dkwX5_passIt_3 ++ dktX5_passIt_4
def dkwX5_passIt_2 : List UInt8 := [180, 0, 13, 16, 24, 27, 96, 42, 180, 0, 13, 16, 24, 27, 96, 46, 42, 180, 0, 116, 27, 46, 96, 133]
abbrev dktX5_passIt_2 : List UInt8 := dkwX5_passIt_2 ++ dktX5_passIt_3
def dkwX5_passIt_1 : List UInt8 := [182, 0, 223, 167, 0, 4, 3, 79, 132, 1, 1, 167, 255, 224, 3, 60, 27, 16, 16, 162, 0, 41, 42]
abbrev dktX5_passIt_1 : List UInt8 := dkwX5_passIt_1 ++ dktX5_passIt_2
def dkwX5_passIt_0 : List UInt8 := [3, 60, 27, 16, 16, 162, 0, 32, 42, 180, 0, 116, 27, 42, 27, 182, 0, 220, 153, 0, 11, 42, 27]
abbrev dktX5_passIt_0 : List UInt8 := dkwX5_passIt_0 ++ dktX5_passIt_1
theorem dksX5_passIt_0 : cX5_passIt.data.toList.drop 0 = dktX5_passIt_0 := by decide +kernel
theorem dksX5_passIt_1 : cX5_passIt.data.toList.drop 23 = dktX5_passIt_1 := dk_seg dksX5_passIt_0 23 rfl rfl
theorem dksX5_passIt_2 : cX5_passIt.data.toList.drop 46 = dktX5_passIt_2 := dk_seg dksX5_passIt_1 23 rfl rfl
theorem dksX5_passIt_3 : cX5_passIt.data.toList.drop 70 = dktX5_passIt_3 := dk_seg dksX5_passIt_2 24 rfl rfl
theorem dksX5_passIt_4 : cX5_passIt.data.toList.drop 92 = dktX5_passIt_4 := dk_seg dksX5_passIt_3 22 rfl rfl
theorem dksX5_passIt_5 : cX5_passIt.data.toList.drop 114 = dktX5_passIt_5 := dk_seg dksX5_passIt_4 22 rfl rfl
theorem dksX5_passIt_6 : cX5_passIt.data.toList.drop 137 = dktX5_passIt_6 := dk_seg dksX5_passIt_5 23 rfl rfl
theorem dksX5_passIt_7 : cX5_passIt.data.toList.drop 161 = dktX5_passIt_7 := dk_seg dksX5_passIt_6 24 rfl rfl
theorem dksX5_passIt_8 : cX5_passIt.data.toList.drop 183 = dktX5_passIt_8 := dk_seg dksX5_passIt_7 22 rfl rfl
theorem dksX5_passIt_9 : cX5_passIt.data.toList.drop 206 = dktX5_passIt_9 := dk_seg dksX5_passIt_8 23 rfl rfl
theorem dX5_passIt_0 : decode cX5_passIt 0 = .ok (.iconst 0, 1) := dk_3 (dk_at dksX5_passIt_0 0 rfl rfl)
theorem dX5_passIt_1 : decode cX5_passIt 1 = .ok (.istore_n 1, 1) := dk_60 (dk_at dksX5_passIt_0 1 rfl rfl)
theorem dX5_passIt_2 : decode cX5_passIt 2 = .ok (.iload_n 1, 1) := dk_27 (dk_at dksX5_passIt_0 2 rfl rfl)
theorem dX5_passIt_3 : decode cX5_passIt 3 = .ok (.bipush 16, 2) := dk_16 16 (dk_at dksX5_passIt_0 3 rfl rfl)
theorem dX5_passIt_5 : decode cX5_passIt 5 = .ok (.if_icmp .ge 32, 3) := dk_162 0 32 (dk_at dksX5_passIt_0 5 rfl rfl)
theorem dX5_passIt_8 : decode cX5_passIt 8 = .ok (.aload_n 0, 1) := dk_42 (dk_at dksX5_passIt_0 8 rfl rfl)
theorem dX5_passIt_9 : decode cX5_passIt 9 = .ok (.getfield 116, 3) := dk_180 0 116 (dk_at dksX5_passIt_0 9 rfl rfl)
theorem dX5_passIt_12 : decode cX5_passIt 12 = .ok (.iload_n 1, 1) := dk_27 (dk_at dksX5_passIt_0 12 rfl rfl)
theorem dX5_passIt_13 : decode cX5_passIt 13 = .ok (.aload_n 0, 1) := dk_42 (dk_at dksX5_passIt_0 13 rfl rfl)
theorem dX5_passIt_14 : decode cX5_passIt 14 = .ok (.iload_n 1, 1) := dk_27 (dk_at dksX5_passIt_0 14 rfl rfl)
theorem dX5_passIt_15 : decode cX5_passIt 15 = .ok (.invokevirtual 220, 3) := dk_182 0 220 (dk_at dksX5_passIt_0 15 rfl rfl)
theorem dX5_passIt_18 : decode cX5_passIt 18 = .ok (.ifCond .eq 11, 3) := dk_153 0 11 (dk_at dksX5_passIt_0 18 rfl rfl)
theorem dX5_passIt_21 : decode cX5_passIt 21 = .ok (.aload_n 0, 1) := dk_42 (dk_at dksX5_passIt_0 21 rfl rfl)
theorem dX5_passIt_22 : decode cX5_passIt 22 = .ok (.iload_n 1, 1) := dk_27 (dk_at dksX5_passIt_0 22 rfl rfl)
theorem dX5_passIt_23 : decode cX5_passIt 23 = .ok (.invokevirtual 223, 3) := dk_182 0 223 (dk_at dksX5_passIt_1 0 rfl rfl)
theorem dX5_passIt_26 : decode cX5_passIt 26 = .ok (.goto 4, 3) := dk_167 0 4 (dk_at dksX5_passIt_1 3 rfl rfl)
theorem dX5_passIt_29 : decode cX5_passIt 29 = .ok (.iconst 0, 1) := dk_3 (dk_at dksX5_passIt_1 6 rfl rfl)
theorem dX5_passIt_30 : decode cX5_passIt 30 = .ok (.iastore, 1) := dk_79 (dk_at dksX5_passIt_1 7 rfl rfl)
theorem dX5_passIt_31 : decode cX5_passIt 31 = .ok (.iinc 1 1, 3) := dk_132 1 1 (dk_at dksX5_passIt_1 8 rfl rfl)
theorem dX5_passIt_34 : decode cX5_passIt 34 = .ok (.goto (-32), 3) := dk_167 255 224 (dk_at dksX5_passIt_1 11 rfl rfl)
theorem dX5_passIt_37 : decode cX5_passIt 37 = .ok (.iconst 0, 1) := dk_3 (dk_at dksX5_passIt_1 14 rfl rfl)
theorem dX5_passIt_38 : decode cX5_passIt 38 = .ok (.istore_n 1, 1) := dk_60 (dk_at dksX5_passIt_1 15 rfl rfl)
theorem dX5_passIt_39 : decode cX5_passIt 39 = .ok (.iload_n 1, 1) := dk_27 (dk_at dksX5_passIt_1 16 rfl rfl)
theorem dX5_passIt_40 : decode cX5_passIt 40 = .ok (.bipush 16, 2) := dk_16 16 (dk_at dksX5_passIt_1 17 rfl rfl)
theorem dX5_passIt_42 : decode cX5_passIt 42 = .ok (.if_icmp .ge 41, 3) := dk_162 0 41 (dk_at dksX5_passIt_1 19 rfl rfl)
theorem dX5_passIt_45 : decode cX5_passIt 45 = .ok (.aload_n 0, 1) := dk_42 (dk_at dksX5_passIt_1 22 rfl rfl)
theorem dX5_passIt_46 : decode cX5_passIt 46 = .ok (.getfield 13, 3) := dk_180 0 13 (dk_at dksX5_passIt_2 0 rfl rfl)
theorem dX5_passIt_49 : decode cX5_passIt 49 = .ok (.bipush 24, 2) := dk_16 24 (dk_at dksX5_passIt_2 3 rfl rfl)
theorem dX5_passIt_51 : decode cX5_passIt 51 = .ok (.iload_n 1, 1) := dk_27 (dk_at dksX5_passIt_2 5 rfl rfl)
theorem dX5_passIt_52 : decode cX5_passIt 52 = .ok (.iadd, 1) := dk_96 (dk_at dksX5_passIt_2 6 rfl rfl)
theorem dX5_passIt_53 : decode cX5_passIt 53 = .ok (.aload_n 0, 1) := dk_42 (dk_at dksX5_passIt_2 7 rfl rfl)
theorem dX5_passIt_54 : decode cX5_passIt 54 = .ok (.getfield 13, 3) := dk_180 0 13 (dk_at dksX5_passIt_2 8 rfl rfl)
theorem dX5_passIt_57 : decode cX5_passIt 57 = .ok (.bipush 24, 2) := dk_16 24 (dk_at dksX5_passIt_2 11 rfl rfl)
theorem dX5_passIt_59 : decode cX5_passIt 59 = .ok (.iload_n 1, 1) := dk_27 (dk_at dksX5_passIt_2 13 rfl rfl)
theorem dX5_passIt_60 : decode cX5_passIt 60 = .ok (.iadd, 1) := dk_96 (dk_at dksX5_passIt_2 14 rfl rfl)
theorem dX5_passIt_61 : decode cX5_passIt 61 = .ok (.iaload, 1) := dk_46 (dk_at dksX5_passIt_2 15 rfl rfl)
theorem dX5_passIt_62 : decode cX5_passIt 62 = .ok (.aload_n 0, 1) := dk_42 (dk_at dksX5_passIt_2 16 rfl rfl)
theorem dX5_passIt_63 : decode cX5_passIt 63 = .ok (.getfield 116, 3) := dk_180 0 116 (dk_at dksX5_passIt_2 17 rfl rfl)
theorem dX5_passIt_66 : decode cX5_passIt 66 = .ok (.iload_n 1, 1) := dk_27 (dk_at dksX5_passIt_2 20 rfl rfl)
theorem dX5_passIt_67 : decode cX5_passIt 67 = .ok (.iaload, 1) := dk_46 (dk_at dksX5_passIt_2 21 rfl rfl)
theorem dX5_passIt_68 : decode cX5_passIt 68 = .ok (.iadd, 1) := dk_96 (dk_at dksX5_passIt_2 22 rfl rfl)
theorem dX5_passIt_69 : decode cX5_passIt 69 = .ok (.i2l, 1) := dk_133 (dk_at dksX5_passIt_2 23 rfl rfl)
theorem dX5_passIt_70 : decode cX5_passIt 70 = .ok (.iconst 0, 1) := dk_3 (dk_at dksX5_passIt_3 0 rfl rfl)
theorem dX5_passIt_71 : decode cX5_passIt 71 = .ok (.bipush 99, 2) := dk_16 99 (dk_at dksX5_passIt_3 1 rfl rfl)
theorem dX5_passIt_73 : decode cX5_passIt 73 = .ok (.invokestatic 433, 3) := dk_184 1 177 (dk_at dksX5_passIt_3 3 rfl rfl)
theorem dX5_passIt_76 : decode cX5_passIt 76 = .ok (.iastore, 1) := dk_79 (dk_at dksX5_passIt_3 6 rfl rfl)
theorem dX5_passIt_77 : decode cX5_passIt 77 = .ok (.iinc 1 1, 3) := dk_132 1 1 (dk_at dksX5_passIt_3 7 rfl rfl)
theorem dX5_passIt_80 : decode cX5_passIt 80 = .ok (.goto (-41), 3) := dk_167 255 215 (dk_at dksX5_passIt_3 10 rfl rfl)
theorem dX5_passIt_83 : decode cX5_passIt 83 = .ok (.iconst 0, 1) := dk_3 (dk_at dksX5_passIt_3 13 rfl rfl)
theorem dX5_passIt_84 : decode cX5_passIt 84 = .ok (.istore_n 1, 1) := dk_60 (dk_at dksX5_passIt_3 14 rfl rfl)
theorem dX5_passIt_85 : decode cX5_passIt 85 = .ok (.iload_n 1, 1) := dk_27 (dk_at dksX5_passIt_3 15 rfl rfl)
theorem dX5_passIt_86 : decode cX5_passIt 86 = .ok (.bipush 16, 2) := dk_16 16 (dk_at dksX5_passIt_3 16 rfl rfl)
theorem dX5_passIt_88 : decode cX5_passIt 88 = .ok (.if_icmp .ge 32, 3) := dk_162 0 32 (dk_at dksX5_passIt_3 18 rfl rfl)
theorem dX5_passIt_91 : decode cX5_passIt 91 = .ok (.aload_n 0, 1) := dk_42 (dk_at dksX5_passIt_3 21 rfl rfl)
theorem dX5_passIt_92 : decode cX5_passIt 92 = .ok (.getfield 119, 3) := dk_180 0 119 (dk_at dksX5_passIt_4 0 rfl rfl)
theorem dX5_passIt_95 : decode cX5_passIt 95 = .ok (.iload_n 1, 1) := dk_27 (dk_at dksX5_passIt_4 3 rfl rfl)
theorem dX5_passIt_96 : decode cX5_passIt 96 = .ok (.aload_n 0, 1) := dk_42 (dk_at dksX5_passIt_4 4 rfl rfl)
theorem dX5_passIt_97 : decode cX5_passIt 97 = .ok (.iload_n 1, 1) := dk_27 (dk_at dksX5_passIt_4 5 rfl rfl)
theorem dX5_passIt_98 : decode cX5_passIt 98 = .ok (.invokevirtual 220, 3) := dk_182 0 220 (dk_at dksX5_passIt_4 6 rfl rfl)
theorem dX5_passIt_101 : decode cX5_passIt 101 = .ok (.ifCond .eq 7, 3) := dk_153 0 7 (dk_at dksX5_passIt_4 9 rfl rfl)
theorem dX5_passIt_104 : decode cX5_passIt 104 = .ok (.iconst (-1), 1) := dk_2 (dk_at dksX5_passIt_4 12 rfl rfl)
theorem dX5_passIt_105 : decode cX5_passIt 105 = .ok (.goto 8, 3) := dk_167 0 8 (dk_at dksX5_passIt_4 13 rfl rfl)
theorem dX5_passIt_108 : decode cX5_passIt 108 = .ok (.aload_n 0, 1) := dk_42 (dk_at dksX5_passIt_4 16 rfl rfl)
theorem dX5_passIt_109 : decode cX5_passIt 109 = .ok (.iload_n 1, 1) := dk_27 (dk_at dksX5_passIt_4 17 rfl rfl)
theorem dX5_passIt_110 : decode cX5_passIt 110 = .ok (.invokevirtual 476, 3) := dk_182 1 220 (dk_at dksX5_passIt_4 18 rfl rfl)
theorem dX5_passIt_113 : decode cX5_passIt 113 = .ok (.iastore, 1) := dk_79 (dk_at dksX5_passIt_4 21 rfl rfl)
theorem dX5_passIt_114 : decode cX5_passIt 114 = .ok (.iinc 1 1, 3) := dk_132 1 1 (dk_at dksX5_passIt_5 0 rfl rfl)
theorem dX5_passIt_117 : decode cX5_passIt 117 = .ok (.goto (-32), 3) := dk_167 255 224 (dk_at dksX5_passIt_5 3 rfl rfl)
theorem dX5_passIt_120 : decode cX5_passIt 120 = .ok (.iconst 0, 1) := dk_3 (dk_at dksX5_passIt_5 6 rfl rfl)
theorem dX5_passIt_121 : decode cX5_passIt 121 = .ok (.istore_n 1, 1) := dk_60 (dk_at dksX5_passIt_5 7 rfl rfl)
theorem dX5_passIt_122 : decode cX5_passIt 122 = .ok (.iconst 0, 1) := dk_3 (dk_at dksX5_passIt_5 8 rfl rfl)
theorem dX5_passIt_123 : decode cX5_passIt 123 = .ok (.istore_n 2, 1) := dk_61 (dk_at dksX5_passIt_5 9 rfl rfl)
theorem dX5_passIt_124 : decode cX5_passIt 124 = .ok (.iload_n 2, 1) := dk_28 (dk_at dksX5_passIt_5 10 rfl rfl)
theorem dX5_passIt_125 : decode cX5_passIt 125 = .ok (.bipush 16, 2) := dk_16 16 (dk_at dksX5_passIt_5 11 rfl rfl)
theorem dX5_passIt_127 : decode cX5_passIt 127 = .ok (.if_icmp .ge 78, 3) := dk_162 0 78 (dk_at dksX5_passIt_5 13 rfl rfl)
theorem dX5_passIt_130 : decode cX5_passIt 130 = .ok (.aload_n 0, 1) := dk_42 (dk_at dksX5_passIt_5 16 rfl rfl)
theorem dX5_passIt_131 : decode cX5_passIt 131 = .ok (.getfield 119, 3) := dk_180 0 119 (dk_at dksX5_passIt_5 17 rfl rfl)
theorem dX5_passIt_134 : decode cX5_passIt 134 = .ok (.iload_n 2, 1) := dk_28 (dk_at dksX5_passIt_5 20 rfl rfl)
theorem dX5_passIt_135 : decode cX5_passIt 135 = .ok (.iaload, 1) := dk_46 (dk_at dksX5_passIt_5 21 rfl rfl)
theorem dX5_passIt_136 : decode cX5_passIt 136 = .ok (.iconst (-1), 1) := dk_2 (dk_at dksX5_passIt_5 22 rfl rfl)
theorem dX5_passIt_137 : decode cX5_passIt 137 = .ok (.if_icmp .eq 28, 3) := dk_159 0 28 (dk_at dksX5_passIt_6 0 rfl rfl)
theorem dX5_passIt_140 : decode cX5_passIt 140 = .ok (.aload_n 0, 1) := dk_42 (dk_at dksX5_passIt_6 3 rfl rfl)
theorem dX5_passIt_141 : decode cX5_passIt 141 = .ok (.getfield 13, 3) := dk_180 0 13 (dk_at dksX5_passIt_6 4 rfl rfl)
theorem dX5_passIt_144 : decode cX5_passIt 144 = .ok (.bipush 8, 2) := dk_16 8 (dk_at dksX5_passIt_6 7 rfl rfl)
theorem dX5_passIt_146 : decode cX5_passIt 146 = .ok (.iload_n 2, 1) := dk_28 (dk_at dksX5_passIt_6 9 rfl rfl)
theorem dX5_passIt_147 : decode cX5_passIt 147 = .ok (.iadd, 1) := dk_96 (dk_at dksX5_passIt_6 10 rfl rfl)
theorem dX5_passIt_148 : decode cX5_passIt 148 = .ok (.aload_n 0, 1) := dk_42 (dk_at dksX5_passIt_6 11 rfl rfl)
theorem dX5_passIt_149 : decode cX5_passIt 149 = .ok (.getfield 119, 3) := dk_180 0 119 (dk_at dksX5_passIt_6 12 rfl rfl)
theorem dX5_passIt_152 : decode cX5_passIt 152 = .ok (.iload_n 2, 1) := dk_28 (dk_at dksX5_passIt_6 15 rfl rfl)
theorem dX5_passIt_153 : decode cX5_passIt 153 = .ok (.iaload, 1) := dk_46 (dk_at dksX5_passIt_6 16 rfl rfl)
theorem dX5_passIt_154 : decode cX5_passIt 154 = .ok (.iastore, 1) := dk_79 (dk_at dksX5_passIt_6 17 rfl rfl)
theorem dX5_passIt_155 : decode cX5_passIt 155 = .ok (.aload_n 0, 1) := dk_42 (dk_at dksX5_passIt_6 18 rfl rfl)
theorem dX5_passIt_156 : decode cX5_passIt 156 = .ok (.getfield 13, 3) := dk_180 0 13 (dk_at dksX5_passIt_6 19 rfl rfl)
theorem dX5_passIt_159 : decode cX5_passIt 159 = .ok (.bipush 24, 2) := dk_16 24 (dk_at dksX5_passIt_6 22 rfl rfl)
theorem dX5_passIt_161 : decode cX5_passIt 161 = .ok (.iload_n 2, 1) := dk_28 (dk_at dksX5_passIt_7 0 rfl rfl)
theorem dX5_passIt_162 : decode cX5_passIt 162 = .ok (.iadd, 1) := dk_96 (dk_at dksX5_passIt_7 1 rfl rfl)
theorem dX5_passIt_163 : decode cX5_passIt 163 = .ok (.iconst 1, 1) := dk_4 (dk_at dksX5_passIt_7 2 rfl rfl)
theorem dX5_passIt_164 : decode cX5_passIt 164 = .ok (.iastore, 1) := dk_79 (dk_at dksX5_passIt_7 3 rfl rfl)
theorem dX5_passIt_165 : decode cX5_passIt 165 = .ok (.aload_n 0, 1) := dk_42 (dk_at dksX5_passIt_7 4 rfl rfl)
theorem dX5_passIt_166 : decode cX5_passIt 166 = .ok (.iload_n 2, 1) := dk_28 (dk_at dksX5_passIt_7 5 rfl rfl)
theorem dX5_passIt_167 : decode cX5_passIt 167 = .ok (.invokevirtual 217, 3) := dk_182 0 217 (dk_at dksX5_passIt_7 6 rfl rfl)
theorem dX5_passIt_170 : decode cX5_passIt 170 = .ok (.ifCond .eq 29, 3) := dk_153 0 29 (dk_at dksX5_passIt_7 9 rfl rfl)
theorem dX5_passIt_173 : decode cX5_passIt 173 = .ok (.aload_n 0, 1) := dk_42 (dk_at dksX5_passIt_7 12 rfl rfl)
theorem dX5_passIt_174 : decode cX5_passIt 174 = .ok (.getfield 13, 3) := dk_180 0 13 (dk_at dksX5_passIt_7 13 rfl rfl)
theorem dX5_passIt_177 : decode cX5_passIt 177 = .ok (.bipush 40, 2) := dk_16 40 (dk_at dksX5_passIt_7 16 rfl rfl)
theorem dX5_passIt_179 : decode cX5_passIt 179 = .ok (.iload_n 2, 1) := dk_28 (dk_at dksX5_passIt_7 18 rfl rfl)
theorem dX5_passIt_180 : decode cX5_passIt 180 = .ok (.iadd, 1) := dk_96 (dk_at dksX5_passIt_7 19 rfl rfl)
theorem dX5_passIt_181 : decode cX5_passIt 181 = .ok (.iaload, 1) := dk_46 (dk_at dksX5_passIt_7 20 rfl rfl)
theorem dX5_passIt_182 : decode cX5_passIt 182 = .ok (.iconst (-1), 1) := dk_2 (dk_at dksX5_passIt_7 21 rfl rfl)
theorem dX5_passIt_183 : decode cX5_passIt 183 = .ok (.if_icmp .eq 16, 3) := dk_159 0 16 (dk_at dksX5_passIt_8 0 rfl rfl)
theorem dX5_passIt_186 : decode cX5_passIt 186 = .ok (.aload_n 0, 1) := dk_42 (dk_at dksX5_passIt_8 3 rfl rfl)
theorem dX5_passIt_187 : decode cX5_passIt 187 = .ok (.getfield 13, 3) := dk_180 0 13 (dk_at dksX5_passIt_8 4 rfl rfl)
theorem dX5_passIt_190 : decode cX5_passIt 190 = .ok (.bipush 40, 2) := dk_16 40 (dk_at dksX5_passIt_8 7 rfl rfl)
theorem dX5_passIt_192 : decode cX5_passIt 192 = .ok (.iload_n 2, 1) := dk_28 (dk_at dksX5_passIt_8 9 rfl rfl)
theorem dX5_passIt_193 : decode cX5_passIt 193 = .ok (.iadd, 1) := dk_96 (dk_at dksX5_passIt_8 10 rfl rfl)
theorem dX5_passIt_194 : decode cX5_passIt 194 = .ok (.iconst (-1), 1) := dk_2 (dk_at dksX5_passIt_8 11 rfl rfl)
theorem dX5_passIt_195 : decode cX5_passIt 195 = .ok (.iastore, 1) := dk_79 (dk_at dksX5_passIt_8 12 rfl rfl)
theorem dX5_passIt_196 : decode cX5_passIt 196 = .ok (.iinc 1 1, 3) := dk_132 1 1 (dk_at dksX5_passIt_8 13 rfl rfl)
theorem dX5_passIt_199 : decode cX5_passIt 199 = .ok (.iinc 2 1, 3) := dk_132 2 1 (dk_at dksX5_passIt_8 16 rfl rfl)
theorem dX5_passIt_202 : decode cX5_passIt 202 = .ok (.goto (-78), 3) := dk_167 255 178 (dk_at dksX5_passIt_8 19 rfl rfl)
theorem dX5_passIt_205 : decode cX5_passIt 205 = .ok (.aload_n 0, 1) := dk_42 (dk_at dksX5_passIt_8 22 rfl rfl)
theorem dX5_passIt_206 : decode cX5_passIt 206 = .ok (.getfield 13, 3) := dk_180 0 13 (dk_at dksX5_passIt_9 0 rfl rfl)
theorem dX5_passIt_209 : decode cX5_passIt 209 = .ok (.iconst 3, 1) := dk_6 (dk_at dksX5_passIt_9 3 rfl rfl)
theorem dX5_passIt_210 : decode cX5_passIt 210 = .ok (.dup2, 1) := dk_92 (dk_at dksX5_passIt_9 4 rfl rfl)
theorem dX5_passIt_211 : decode cX5_passIt 211 = .ok (.iaload, 1) := dk_46 (dk_at dksX5_passIt_9 5 rfl rfl)
theorem dX5_passIt_212 : decode cX5_passIt 212 = .ok (.iconst 1, 1) := dk_4 (dk_at dksX5_passIt_9 6 rfl rfl)
theorem dX5_passIt_213 : decode cX5_passIt 213 = .ok (.iadd, 1) := dk_96 (dk_at dksX5_passIt_9 7 rfl rfl)
theorem dX5_passIt_214 : decode cX5_passIt 214 = .ok (.iastore, 1) := dk_79 (dk_at dksX5_passIt_9 8 rfl rfl)
theorem dX5_passIt_215 : decode cX5_passIt 215 = .ok (.iload_n 1, 1) := dk_27 (dk_at dksX5_passIt_9 9 rfl rfl)
theorem dX5_passIt_216 : decode cX5_passIt 216 = .ok (.ireturn, 1) := dk_172 (dk_at dksX5_passIt_9 10 rfl rfl)
abbrev cX5_comerOf : ByteArray := prog_22_method_83_code
def yX5_comerOf : MethodName := ⟨RX5, "comerOf", "(I)I"⟩
def dkwX5_comerOf_6 : List UInt8 := [28, 27, 42, 180, 0, 122, 28, 46, 182, 1, 195, 153, 0, 5, 28, 172, 132, 2, 1, 167, 255, 221, 2, 172]
abbrev dktX5_comerOf_6 : List UInt8 := dkwX5_comerOf_6 ++ []
def dkwX5_comerOf_5 : List UInt8 := [132, 2, 1, 167, 255, 162, 3, 61, 28, 16, 6, 162, 0, 35, 42, 180, 0, 122, 28, 46, 158, 0, 20, 42]
abbrev dktX5_comerOf_5 : List UInt8 := dkwX5_comerOf_5 ++ dktX5_comerOf_6
def dkwX5_comerOf_4 : List UInt8 := [164, 0, 15, 42, 180, 0, 13, 16, 24, 28, 96, 46, 167, 0, 9, 42, 180, 0, 122, 29, 46, 79]
abbrev dktX5_comerOf_4 : List UInt8 := dkwX5_comerOf_4 ++ dktX5_comerOf_5
def dkwX5_comerOf_3 : List UInt8 := [46, 62, 42, 180, 0, 122, 29, 42, 180, 0, 13, 16, 24, 28, 96, 46, 42, 180, 0, 122, 29, 46]
abbrev dktX5_comerOf_3 : List UInt8 := dkwX5_comerOf_3 ++ dktX5_comerOf_4
def dkwX5_comerOf_2 : List UInt8 := [180, 0, 13, 16, 24, 28, 96, 46, 42, 4, 182, 1, 162, 161, 0, 55, 42, 180, 0, 13, 16, 8, 28, 96]
abbrev dktX5_comerOf_2 : List UInt8 := dkwX5_comerOf_2 ++ dktX5_comerOf_3
def dkwX5_comerOf_1 : List UInt8 := [16, 16, 162, 0, 94, 27, 28, 184, 1, 217, 153, 0, 80, 42, 28, 182, 0, 220, 153, 0, 72, 42]
abbrev dktX5_comerOf_1 : List UInt8 := dkwX5_comerOf_1 ++ dktX5_comerOf_2
def dkwX5_comerOf_0 : List UInt8 := [3, 61, 28, 16, 6, 162, 0, 16, 42, 180, 0, 122, 28, 3, 79, 132, 2, 1, 167, 255, 240, 3, 61, 28]
abbrev dktX5_comerOf_0 : List UInt8 := dkwX5_comerOf_0 ++ dktX5_comerOf_1
theorem dksX5_comerOf_0 : cX5_comerOf.data.toList.drop 0 = dktX5_comerOf_0 := by decide +kernel
theorem dksX5_comerOf_1 : cX5_comerOf.data.toList.drop 24 = dktX5_comerOf_1 := dk_seg dksX5_comerOf_0 24 rfl rfl
theorem dksX5_comerOf_2 : cX5_comerOf.data.toList.drop 46 = dktX5_comerOf_2 := dk_seg dksX5_comerOf_1 22 rfl rfl
theorem dksX5_comerOf_3 : cX5_comerOf.data.toList.drop 70 = dktX5_comerOf_3 := dk_seg dksX5_comerOf_2 24 rfl rfl
theorem dksX5_comerOf_4 : cX5_comerOf.data.toList.drop 92 = dktX5_comerOf_4 := dk_seg dksX5_comerOf_3 22 rfl rfl
theorem dksX5_comerOf_5 : cX5_comerOf.data.toList.drop 114 = dktX5_comerOf_5 := dk_seg dksX5_comerOf_4 22 rfl rfl
theorem dksX5_comerOf_6 : cX5_comerOf.data.toList.drop 138 = dktX5_comerOf_6 := dk_seg dksX5_comerOf_5 24 rfl rfl
theorem dX5_comerOf_0 : decode cX5_comerOf 0 = .ok (.iconst 0, 1) := dk_3 (dk_at dksX5_comerOf_0 0 rfl rfl)
theorem dX5_comerOf_1 : decode cX5_comerOf 1 = .ok (.istore_n 2, 1) := dk_61 (dk_at dksX5_comerOf_0 1 rfl rfl)
theorem dX5_comerOf_2 : decode cX5_comerOf 2 = .ok (.iload_n 2, 1) := dk_28 (dk_at dksX5_comerOf_0 2 rfl rfl)
theorem dX5_comerOf_3 : decode cX5_comerOf 3 = .ok (.bipush 6, 2) := dk_16 6 (dk_at dksX5_comerOf_0 3 rfl rfl)
theorem dX5_comerOf_5 : decode cX5_comerOf 5 = .ok (.if_icmp .ge 16, 3) := dk_162 0 16 (dk_at dksX5_comerOf_0 5 rfl rfl)
theorem dX5_comerOf_8 : decode cX5_comerOf 8 = .ok (.aload_n 0, 1) := dk_42 (dk_at dksX5_comerOf_0 8 rfl rfl)
theorem dX5_comerOf_9 : decode cX5_comerOf 9 = .ok (.getfield 122, 3) := dk_180 0 122 (dk_at dksX5_comerOf_0 9 rfl rfl)
theorem dX5_comerOf_12 : decode cX5_comerOf 12 = .ok (.iload_n 2, 1) := dk_28 (dk_at dksX5_comerOf_0 12 rfl rfl)
theorem dX5_comerOf_13 : decode cX5_comerOf 13 = .ok (.iconst 0, 1) := dk_3 (dk_at dksX5_comerOf_0 13 rfl rfl)
theorem dX5_comerOf_14 : decode cX5_comerOf 14 = .ok (.iastore, 1) := dk_79 (dk_at dksX5_comerOf_0 14 rfl rfl)
theorem dX5_comerOf_15 : decode cX5_comerOf 15 = .ok (.iinc 2 1, 3) := dk_132 2 1 (dk_at dksX5_comerOf_0 15 rfl rfl)
theorem dX5_comerOf_18 : decode cX5_comerOf 18 = .ok (.goto (-16), 3) := dk_167 255 240 (dk_at dksX5_comerOf_0 18 rfl rfl)
theorem dX5_comerOf_21 : decode cX5_comerOf 21 = .ok (.iconst 0, 1) := dk_3 (dk_at dksX5_comerOf_0 21 rfl rfl)
theorem dX5_comerOf_22 : decode cX5_comerOf 22 = .ok (.istore_n 2, 1) := dk_61 (dk_at dksX5_comerOf_0 22 rfl rfl)
theorem dX5_comerOf_23 : decode cX5_comerOf 23 = .ok (.iload_n 2, 1) := dk_28 (dk_at dksX5_comerOf_0 23 rfl rfl)
theorem dX5_comerOf_24 : decode cX5_comerOf 24 = .ok (.bipush 16, 2) := dk_16 16 (dk_at dksX5_comerOf_1 0 rfl rfl)
theorem dX5_comerOf_26 : decode cX5_comerOf 26 = .ok (.if_icmp .ge 94, 3) := dk_162 0 94 (dk_at dksX5_comerOf_1 2 rfl rfl)
theorem dX5_comerOf_29 : decode cX5_comerOf 29 = .ok (.iload_n 1, 1) := dk_27 (dk_at dksX5_comerOf_1 5 rfl rfl)
theorem dX5_comerOf_30 : decode cX5_comerOf 30 = .ok (.iload_n 2, 1) := dk_28 (dk_at dksX5_comerOf_1 6 rfl rfl)
theorem dX5_comerOf_31 : decode cX5_comerOf 31 = .ok (.invokestatic 473, 3) := dk_184 1 217 (dk_at dksX5_comerOf_1 7 rfl rfl)
theorem dX5_comerOf_34 : decode cX5_comerOf 34 = .ok (.ifCond .eq 80, 3) := dk_153 0 80 (dk_at dksX5_comerOf_1 10 rfl rfl)
theorem dX5_comerOf_37 : decode cX5_comerOf 37 = .ok (.aload_n 0, 1) := dk_42 (dk_at dksX5_comerOf_1 13 rfl rfl)
theorem dX5_comerOf_38 : decode cX5_comerOf 38 = .ok (.iload_n 2, 1) := dk_28 (dk_at dksX5_comerOf_1 14 rfl rfl)
theorem dX5_comerOf_39 : decode cX5_comerOf 39 = .ok (.invokevirtual 220, 3) := dk_182 0 220 (dk_at dksX5_comerOf_1 15 rfl rfl)
theorem dX5_comerOf_42 : decode cX5_comerOf 42 = .ok (.ifCond .eq 72, 3) := dk_153 0 72 (dk_at dksX5_comerOf_1 18 rfl rfl)
theorem dX5_comerOf_45 : decode cX5_comerOf 45 = .ok (.aload_n 0, 1) := dk_42 (dk_at dksX5_comerOf_1 21 rfl rfl)
theorem dX5_comerOf_46 : decode cX5_comerOf 46 = .ok (.getfield 13, 3) := dk_180 0 13 (dk_at dksX5_comerOf_2 0 rfl rfl)
theorem dX5_comerOf_49 : decode cX5_comerOf 49 = .ok (.bipush 24, 2) := dk_16 24 (dk_at dksX5_comerOf_2 3 rfl rfl)
theorem dX5_comerOf_51 : decode cX5_comerOf 51 = .ok (.iload_n 2, 1) := dk_28 (dk_at dksX5_comerOf_2 5 rfl rfl)
theorem dX5_comerOf_52 : decode cX5_comerOf 52 = .ok (.iadd, 1) := dk_96 (dk_at dksX5_comerOf_2 6 rfl rfl)
theorem dX5_comerOf_53 : decode cX5_comerOf 53 = .ok (.iaload, 1) := dk_46 (dk_at dksX5_comerOf_2 7 rfl rfl)
theorem dX5_comerOf_54 : decode cX5_comerOf 54 = .ok (.aload_n 0, 1) := dk_42 (dk_at dksX5_comerOf_2 8 rfl rfl)
theorem dX5_comerOf_55 : decode cX5_comerOf 55 = .ok (.iconst 1, 1) := dk_4 (dk_at dksX5_comerOf_2 9 rfl rfl)
theorem dX5_comerOf_56 : decode cX5_comerOf 56 = .ok (.invokevirtual 418, 3) := dk_182 1 162 (dk_at dksX5_comerOf_2 10 rfl rfl)
theorem dX5_comerOf_59 : decode cX5_comerOf 59 = .ok (.if_icmp .lt 55, 3) := dk_161 0 55 (dk_at dksX5_comerOf_2 13 rfl rfl)
theorem dX5_comerOf_62 : decode cX5_comerOf 62 = .ok (.aload_n 0, 1) := dk_42 (dk_at dksX5_comerOf_2 16 rfl rfl)
theorem dX5_comerOf_63 : decode cX5_comerOf 63 = .ok (.getfield 13, 3) := dk_180 0 13 (dk_at dksX5_comerOf_2 17 rfl rfl)
theorem dX5_comerOf_66 : decode cX5_comerOf 66 = .ok (.bipush 8, 2) := dk_16 8 (dk_at dksX5_comerOf_2 20 rfl rfl)
theorem dX5_comerOf_68 : decode cX5_comerOf 68 = .ok (.iload_n 2, 1) := dk_28 (dk_at dksX5_comerOf_2 22 rfl rfl)
theorem dX5_comerOf_69 : decode cX5_comerOf 69 = .ok (.iadd, 1) := dk_96 (dk_at dksX5_comerOf_2 23 rfl rfl)
theorem dX5_comerOf_70 : decode cX5_comerOf 70 = .ok (.iaload, 1) := dk_46 (dk_at dksX5_comerOf_3 0 rfl rfl)
theorem dX5_comerOf_71 : decode cX5_comerOf 71 = .ok (.istore_n 3, 1) := dk_62 (dk_at dksX5_comerOf_3 1 rfl rfl)
theorem dX5_comerOf_72 : decode cX5_comerOf 72 = .ok (.aload_n 0, 1) := dk_42 (dk_at dksX5_comerOf_3 2 rfl rfl)
theorem dX5_comerOf_73 : decode cX5_comerOf 73 = .ok (.getfield 122, 3) := dk_180 0 122 (dk_at dksX5_comerOf_3 3 rfl rfl)
theorem dX5_comerOf_76 : decode cX5_comerOf 76 = .ok (.iload_n 3, 1) := dk_29 (dk_at dksX5_comerOf_3 6 rfl rfl)
theorem dX5_comerOf_77 : decode cX5_comerOf 77 = .ok (.aload_n 0, 1) := dk_42 (dk_at dksX5_comerOf_3 7 rfl rfl)
theorem dX5_comerOf_78 : decode cX5_comerOf 78 = .ok (.getfield 13, 3) := dk_180 0 13 (dk_at dksX5_comerOf_3 8 rfl rfl)
theorem dX5_comerOf_81 : decode cX5_comerOf 81 = .ok (.bipush 24, 2) := dk_16 24 (dk_at dksX5_comerOf_3 11 rfl rfl)
theorem dX5_comerOf_83 : decode cX5_comerOf 83 = .ok (.iload_n 2, 1) := dk_28 (dk_at dksX5_comerOf_3 13 rfl rfl)
theorem dX5_comerOf_84 : decode cX5_comerOf 84 = .ok (.iadd, 1) := dk_96 (dk_at dksX5_comerOf_3 14 rfl rfl)
theorem dX5_comerOf_85 : decode cX5_comerOf 85 = .ok (.iaload, 1) := dk_46 (dk_at dksX5_comerOf_3 15 rfl rfl)
theorem dX5_comerOf_86 : decode cX5_comerOf 86 = .ok (.aload_n 0, 1) := dk_42 (dk_at dksX5_comerOf_3 16 rfl rfl)
theorem dX5_comerOf_87 : decode cX5_comerOf 87 = .ok (.getfield 122, 3) := dk_180 0 122 (dk_at dksX5_comerOf_3 17 rfl rfl)
theorem dX5_comerOf_90 : decode cX5_comerOf 90 = .ok (.iload_n 3, 1) := dk_29 (dk_at dksX5_comerOf_3 20 rfl rfl)
theorem dX5_comerOf_91 : decode cX5_comerOf 91 = .ok (.iaload, 1) := dk_46 (dk_at dksX5_comerOf_3 21 rfl rfl)
theorem dX5_comerOf_92 : decode cX5_comerOf 92 = .ok (.if_icmp .le 15, 3) := dk_164 0 15 (dk_at dksX5_comerOf_4 0 rfl rfl)
theorem dX5_comerOf_95 : decode cX5_comerOf 95 = .ok (.aload_n 0, 1) := dk_42 (dk_at dksX5_comerOf_4 3 rfl rfl)
theorem dX5_comerOf_96 : decode cX5_comerOf 96 = .ok (.getfield 13, 3) := dk_180 0 13 (dk_at dksX5_comerOf_4 4 rfl rfl)
theorem dX5_comerOf_99 : decode cX5_comerOf 99 = .ok (.bipush 24, 2) := dk_16 24 (dk_at dksX5_comerOf_4 7 rfl rfl)
theorem dX5_comerOf_101 : decode cX5_comerOf 101 = .ok (.iload_n 2, 1) := dk_28 (dk_at dksX5_comerOf_4 9 rfl rfl)
theorem dX5_comerOf_102 : decode cX5_comerOf 102 = .ok (.iadd, 1) := dk_96 (dk_at dksX5_comerOf_4 10 rfl rfl)
theorem dX5_comerOf_103 : decode cX5_comerOf 103 = .ok (.iaload, 1) := dk_46 (dk_at dksX5_comerOf_4 11 rfl rfl)
theorem dX5_comerOf_104 : decode cX5_comerOf 104 = .ok (.goto 9, 3) := dk_167 0 9 (dk_at dksX5_comerOf_4 12 rfl rfl)
theorem dX5_comerOf_107 : decode cX5_comerOf 107 = .ok (.aload_n 0, 1) := dk_42 (dk_at dksX5_comerOf_4 15 rfl rfl)
theorem dX5_comerOf_108 : decode cX5_comerOf 108 = .ok (.getfield 122, 3) := dk_180 0 122 (dk_at dksX5_comerOf_4 16 rfl rfl)
theorem dX5_comerOf_111 : decode cX5_comerOf 111 = .ok (.iload_n 3, 1) := dk_29 (dk_at dksX5_comerOf_4 19 rfl rfl)
theorem dX5_comerOf_112 : decode cX5_comerOf 112 = .ok (.iaload, 1) := dk_46 (dk_at dksX5_comerOf_4 20 rfl rfl)
theorem dX5_comerOf_113 : decode cX5_comerOf 113 = .ok (.iastore, 1) := dk_79 (dk_at dksX5_comerOf_4 21 rfl rfl)
theorem dX5_comerOf_114 : decode cX5_comerOf 114 = .ok (.iinc 2 1, 3) := dk_132 2 1 (dk_at dksX5_comerOf_5 0 rfl rfl)
theorem dX5_comerOf_117 : decode cX5_comerOf 117 = .ok (.goto (-94), 3) := dk_167 255 162 (dk_at dksX5_comerOf_5 3 rfl rfl)
theorem dX5_comerOf_120 : decode cX5_comerOf 120 = .ok (.iconst 0, 1) := dk_3 (dk_at dksX5_comerOf_5 6 rfl rfl)
theorem dX5_comerOf_121 : decode cX5_comerOf 121 = .ok (.istore_n 2, 1) := dk_61 (dk_at dksX5_comerOf_5 7 rfl rfl)
theorem dX5_comerOf_122 : decode cX5_comerOf 122 = .ok (.iload_n 2, 1) := dk_28 (dk_at dksX5_comerOf_5 8 rfl rfl)
theorem dX5_comerOf_123 : decode cX5_comerOf 123 = .ok (.bipush 6, 2) := dk_16 6 (dk_at dksX5_comerOf_5 9 rfl rfl)
theorem dX5_comerOf_125 : decode cX5_comerOf 125 = .ok (.if_icmp .ge 35, 3) := dk_162 0 35 (dk_at dksX5_comerOf_5 11 rfl rfl)
theorem dX5_comerOf_128 : decode cX5_comerOf 128 = .ok (.aload_n 0, 1) := dk_42 (dk_at dksX5_comerOf_5 14 rfl rfl)
theorem dX5_comerOf_129 : decode cX5_comerOf 129 = .ok (.getfield 122, 3) := dk_180 0 122 (dk_at dksX5_comerOf_5 15 rfl rfl)
theorem dX5_comerOf_132 : decode cX5_comerOf 132 = .ok (.iload_n 2, 1) := dk_28 (dk_at dksX5_comerOf_5 18 rfl rfl)
theorem dX5_comerOf_133 : decode cX5_comerOf 133 = .ok (.iaload, 1) := dk_46 (dk_at dksX5_comerOf_5 19 rfl rfl)
theorem dX5_comerOf_134 : decode cX5_comerOf 134 = .ok (.ifCond .le 20, 3) := dk_158 0 20 (dk_at dksX5_comerOf_5 20 rfl rfl)
theorem dX5_comerOf_137 : decode cX5_comerOf 137 = .ok (.aload_n 0, 1) := dk_42 (dk_at dksX5_comerOf_5 23 rfl rfl)
theorem dX5_comerOf_138 : decode cX5_comerOf 138 = .ok (.iload_n 2, 1) := dk_28 (dk_at dksX5_comerOf_6 0 rfl rfl)
theorem dX5_comerOf_139 : decode cX5_comerOf 139 = .ok (.iload_n 1, 1) := dk_27 (dk_at dksX5_comerOf_6 1 rfl rfl)
theorem dX5_comerOf_140 : decode cX5_comerOf 140 = .ok (.aload_n 0, 1) := dk_42 (dk_at dksX5_comerOf_6 2 rfl rfl)
theorem dX5_comerOf_141 : decode cX5_comerOf 141 = .ok (.getfield 122, 3) := dk_180 0 122 (dk_at dksX5_comerOf_6 3 rfl rfl)
theorem dX5_comerOf_144 : decode cX5_comerOf 144 = .ok (.iload_n 2, 1) := dk_28 (dk_at dksX5_comerOf_6 6 rfl rfl)
theorem dX5_comerOf_145 : decode cX5_comerOf 145 = .ok (.iaload, 1) := dk_46 (dk_at dksX5_comerOf_6 7 rfl rfl)
theorem dX5_comerOf_146 : decode cX5_comerOf 146 = .ok (.invokevirtual 451, 3) := dk_182 1 195 (dk_at dksX5_comerOf_6 8 rfl rfl)
theorem dX5_comerOf_149 : decode cX5_comerOf 149 = .ok (.ifCond .eq 5, 3) := dk_153 0 5 (dk_at dksX5_comerOf_6 11 rfl rfl)
theorem dX5_comerOf_152 : decode cX5_comerOf 152 = .ok (.iload_n 2, 1) := dk_28 (dk_at dksX5_comerOf_6 14 rfl rfl)
theorem dX5_comerOf_153 : decode cX5_comerOf 153 = .ok (.ireturn, 1) := dk_172 (dk_at dksX5_comerOf_6 15 rfl rfl)
theorem dX5_comerOf_154 : decode cX5_comerOf 154 = .ok (.iinc 2 1, 3) := dk_132 2 1 (dk_at dksX5_comerOf_6 16 rfl rfl)
theorem dX5_comerOf_157 : decode cX5_comerOf 157 = .ok (.goto (-35), 3) := dk_167 255 221 (dk_at dksX5_comerOf_6 19 rfl rfl)
theorem dX5_comerOf_160 : decode cX5_comerOf 160 = .ok (.iconst (-1), 1) := dk_2 (dk_at dksX5_comerOf_6 22 rfl rfl)
theorem dX5_comerOf_161 : decode cX5_comerOf 161 = .ok (.ireturn, 1) := dk_172 (dk_at dksX5_comerOf_6 23 rfl rfl)
abbrev cX5_areBeside : ByteArray := prog_22_method_18_code
def yX5_areBeside : MethodName := ⟨RX5, "areBeside", "(II)Z"⟩
def dkwX5_areBeside_1 : List UInt8 := [160, 0, 7, 4, 167, 0, 4, 3, 172]
abbrev dktX5_areBeside_1 : List UInt8 := dkwX5_areBeside_1 ++ []
def dkwX5_areBeside_0 : List UInt8 := [26, 7, 112, 27, 7, 112, 100, 61, 26, 7, 108, 27, 7, 108, 100, 62, 28, 28, 104, 29, 29, 104, 96, 4]
abbrev dktX5_areBeside_0 : List UInt8 := dkwX5_areBeside_0 ++ dktX5_areBeside_1
theorem dksX5_areBeside_0 : cX5_areBeside.data.toList.drop 0 = dktX5_areBeside_0 := by decide +kernel
theorem dksX5_areBeside_1 : cX5_areBeside.data.toList.drop 24 = dktX5_areBeside_1 := dk_seg dksX5_areBeside_0 24 rfl rfl
theorem dX5_areBeside_0 : decode cX5_areBeside 0 = .ok (.iload_n 0, 1) := dk_26 (dk_at dksX5_areBeside_0 0 rfl rfl)
theorem dX5_areBeside_1 : decode cX5_areBeside 1 = .ok (.iconst 4, 1) := dk_7 (dk_at dksX5_areBeside_0 1 rfl rfl)
theorem dX5_areBeside_2 : decode cX5_areBeside 2 = .ok (.irem, 1) := dk_112 (dk_at dksX5_areBeside_0 2 rfl rfl)
theorem dX5_areBeside_3 : decode cX5_areBeside 3 = .ok (.iload_n 1, 1) := dk_27 (dk_at dksX5_areBeside_0 3 rfl rfl)
theorem dX5_areBeside_4 : decode cX5_areBeside 4 = .ok (.iconst 4, 1) := dk_7 (dk_at dksX5_areBeside_0 4 rfl rfl)
theorem dX5_areBeside_5 : decode cX5_areBeside 5 = .ok (.irem, 1) := dk_112 (dk_at dksX5_areBeside_0 5 rfl rfl)
theorem dX5_areBeside_6 : decode cX5_areBeside 6 = .ok (.isub, 1) := dk_100 (dk_at dksX5_areBeside_0 6 rfl rfl)
theorem dX5_areBeside_7 : decode cX5_areBeside 7 = .ok (.istore_n 2, 1) := dk_61 (dk_at dksX5_areBeside_0 7 rfl rfl)
theorem dX5_areBeside_8 : decode cX5_areBeside 8 = .ok (.iload_n 0, 1) := dk_26 (dk_at dksX5_areBeside_0 8 rfl rfl)
theorem dX5_areBeside_9 : decode cX5_areBeside 9 = .ok (.iconst 4, 1) := dk_7 (dk_at dksX5_areBeside_0 9 rfl rfl)
theorem dX5_areBeside_10 : decode cX5_areBeside 10 = .ok (.idiv, 1) := dk_108 (dk_at dksX5_areBeside_0 10 rfl rfl)
theorem dX5_areBeside_11 : decode cX5_areBeside 11 = .ok (.iload_n 1, 1) := dk_27 (dk_at dksX5_areBeside_0 11 rfl rfl)
theorem dX5_areBeside_12 : decode cX5_areBeside 12 = .ok (.iconst 4, 1) := dk_7 (dk_at dksX5_areBeside_0 12 rfl rfl)
theorem dX5_areBeside_13 : decode cX5_areBeside 13 = .ok (.idiv, 1) := dk_108 (dk_at dksX5_areBeside_0 13 rfl rfl)
theorem dX5_areBeside_14 : decode cX5_areBeside 14 = .ok (.isub, 1) := dk_100 (dk_at dksX5_areBeside_0 14 rfl rfl)
theorem dX5_areBeside_15 : decode cX5_areBeside 15 = .ok (.istore_n 3, 1) := dk_62 (dk_at dksX5_areBeside_0 15 rfl rfl)
theorem dX5_areBeside_16 : decode cX5_areBeside 16 = .ok (.iload_n 2, 1) := dk_28 (dk_at dksX5_areBeside_0 16 rfl rfl)
theorem dX5_areBeside_17 : decode cX5_areBeside 17 = .ok (.iload_n 2, 1) := dk_28 (dk_at dksX5_areBeside_0 17 rfl rfl)
theorem dX5_areBeside_18 : decode cX5_areBeside 18 = .ok (.imul, 1) := dk_104 (dk_at dksX5_areBeside_0 18 rfl rfl)
theorem dX5_areBeside_19 : decode cX5_areBeside 19 = .ok (.iload_n 3, 1) := dk_29 (dk_at dksX5_areBeside_0 19 rfl rfl)
theorem dX5_areBeside_20 : decode cX5_areBeside 20 = .ok (.iload_n 3, 1) := dk_29 (dk_at dksX5_areBeside_0 20 rfl rfl)
theorem dX5_areBeside_21 : decode cX5_areBeside 21 = .ok (.imul, 1) := dk_104 (dk_at dksX5_areBeside_0 21 rfl rfl)
theorem dX5_areBeside_22 : decode cX5_areBeside 22 = .ok (.iadd, 1) := dk_96 (dk_at dksX5_areBeside_0 22 rfl rfl)
theorem dX5_areBeside_23 : decode cX5_areBeside 23 = .ok (.iconst 1, 1) := dk_4 (dk_at dksX5_areBeside_0 23 rfl rfl)
theorem dX5_areBeside_24 : decode cX5_areBeside 24 = .ok (.if_icmp .ne 7, 3) := dk_160 0 7 (dk_at dksX5_areBeside_1 0 rfl rfl)
theorem dX5_areBeside_27 : decode cX5_areBeside 27 = .ok (.iconst 1, 1) := dk_4 (dk_at dksX5_areBeside_1 3 rfl rfl)
theorem dX5_areBeside_28 : decode cX5_areBeside 28 = .ok (.goto 4, 3) := dk_167 0 4 (dk_at dksX5_areBeside_1 4 rfl rfl)
theorem dX5_areBeside_31 : decode cX5_areBeside 31 = .ok (.iconst 0, 1) := dk_3 (dk_at dksX5_areBeside_1 7 rfl rfl)
theorem dX5_areBeside_32 : decode cX5_areBeside 32 = .ok (.ireturn, 1) := dk_172 (dk_at dksX5_areBeside_1 8 rfl rfl)
abbrev cX5_will : ByteArray := prog_22_method_88_code
def yX5_will : MethodName := ⟨RX5, "will", "(III)I"⟩
def dkwX5_will_5 : List UInt8 := [167, 0, 11, 3, 167, 0, 7, 42, 182, 1, 231, 54, 4, 42, 16, 16, 182, 0, 191, 21, 4, 172]
abbrev dktX5_will_5 : List UInt8 := dkwX5_will_5 ++ []
def dkwX5_will_4 : List UInt8 := [16, 24, 28, 96, 46, 167, 0, 28, 29, 5, 160, 0, 19, 42, 28, 182, 0, 217, 153, 0, 7, 4]
abbrev dktX5_will_4 : List UInt8 := dkwX5_will_4 ++ dktX5_will_5
def dkwX5_will_3 : List UInt8 := [154, 0, 15, 42, 180, 0, 13, 16, 8, 28, 96, 46, 167, 0, 45, 29, 4, 160, 0, 15, 42, 180, 0, 13]
abbrev dktX5_will_3 : List UInt8 := dkwX5_will_3 ++ dktX5_will_4
def dkwX5_will_2 : List UInt8 := [182, 0, 187, 3, 54, 4, 21, 4, 27, 162, 0, 14, 42, 182, 1, 223, 87, 132, 4, 1, 167, 255, 242, 29]
abbrev dktX5_will_2 : List UInt8 := dkwX5_will_2 ++ dktX5_will_3
def dkwX5_will_1 : List UInt8 := [184, 0, 194, 153, 0, 15, 29, 6, 162, 0, 12, 28, 184, 0, 205, 154, 0, 5, 2, 172, 42, 16, 16]
abbrev dktX5_will_1 : List UInt8 := dkwX5_will_1 ++ dktX5_will_2
def dkwX5_will_0 : List UInt8 := [42, 3, 181, 0, 174, 27, 133, 9, 20, 1, 229, 184, 0, 194, 153, 0, 27, 29, 133, 9, 20, 1, 171]
abbrev dktX5_will_0 : List UInt8 := dkwX5_will_0 ++ dktX5_will_1
theorem dksX5_will_0 : cX5_will.data.toList.drop 0 = dktX5_will_0 := by decide +kernel
theorem dksX5_will_1 : cX5_will.data.toList.drop 23 = dktX5_will_1 := dk_seg dksX5_will_0 23 rfl rfl
theorem dksX5_will_2 : cX5_will.data.toList.drop 46 = dktX5_will_2 := dk_seg dksX5_will_1 23 rfl rfl
theorem dksX5_will_3 : cX5_will.data.toList.drop 70 = dktX5_will_3 := dk_seg dksX5_will_2 24 rfl rfl
theorem dksX5_will_4 : cX5_will.data.toList.drop 94 = dktX5_will_4 := dk_seg dksX5_will_3 24 rfl rfl
theorem dksX5_will_5 : cX5_will.data.toList.drop 116 = dktX5_will_5 := dk_seg dksX5_will_4 22 rfl rfl
theorem dX5_will_0 : decode cX5_will 0 = .ok (.aload_n 0, 1) := dk_42 (dk_at dksX5_will_0 0 rfl rfl)
theorem dX5_will_1 : decode cX5_will 1 = .ok (.iconst 0, 1) := dk_3 (dk_at dksX5_will_0 1 rfl rfl)
theorem dX5_will_2 : decode cX5_will 2 = .ok (.putfield 174, 3) := dk_181 0 174 (dk_at dksX5_will_0 2 rfl rfl)
theorem dX5_will_5 : decode cX5_will 5 = .ok (.iload_n 1, 1) := dk_27 (dk_at dksX5_will_0 5 rfl rfl)
theorem dX5_will_6 : decode cX5_will 6 = .ok (.i2l, 1) := dk_133 (dk_at dksX5_will_0 6 rfl rfl)
theorem dX5_will_7 : decode cX5_will 7 = .ok (.lconst 0, 1) := dk_9 (dk_at dksX5_will_0 7 rfl rfl)
theorem dX5_will_8 : decode cX5_will 8 = .ok (.ldc2_w 485, 3) := dk_20 1 229 (dk_at dksX5_will_0 8 rfl rfl)
theorem dX5_will_11 : decode cX5_will 11 = .ok (.invokestatic 194, 3) := dk_184 0 194 (dk_at dksX5_will_0 11 rfl rfl)
theorem dX5_will_14 : decode cX5_will 14 = .ok (.ifCond .eq 27, 3) := dk_153 0 27 (dk_at dksX5_will_0 14 rfl rfl)
theorem dX5_will_17 : decode cX5_will 17 = .ok (.iload_n 3, 1) := dk_29 (dk_at dksX5_will_0 17 rfl rfl)
theorem dX5_will_18 : decode cX5_will 18 = .ok (.i2l, 1) := dk_133 (dk_at dksX5_will_0 18 rfl rfl)
theorem dX5_will_19 : decode cX5_will 19 = .ok (.lconst 0, 1) := dk_9 (dk_at dksX5_will_0 19 rfl rfl)
theorem dX5_will_20 : decode cX5_will 20 = .ok (.ldc2_w 427, 3) := dk_20 1 171 (dk_at dksX5_will_0 20 rfl rfl)
theorem dX5_will_23 : decode cX5_will 23 = .ok (.invokestatic 194, 3) := dk_184 0 194 (dk_at dksX5_will_1 0 rfl rfl)
theorem dX5_will_26 : decode cX5_will 26 = .ok (.ifCond .eq 15, 3) := dk_153 0 15 (dk_at dksX5_will_1 3 rfl rfl)
theorem dX5_will_29 : decode cX5_will 29 = .ok (.iload_n 3, 1) := dk_29 (dk_at dksX5_will_1 6 rfl rfl)
theorem dX5_will_30 : decode cX5_will 30 = .ok (.iconst 3, 1) := dk_6 (dk_at dksX5_will_1 7 rfl rfl)
theorem dX5_will_31 : decode cX5_will 31 = .ok (.if_icmp .ge 12, 3) := dk_162 0 12 (dk_at dksX5_will_1 8 rfl rfl)
theorem dX5_will_34 : decode cX5_will 34 = .ok (.iload_n 2, 1) := dk_28 (dk_at dksX5_will_1 11 rfl rfl)
theorem dX5_will_35 : decode cX5_will 35 = .ok (.invokestatic 205, 3) := dk_184 0 205 (dk_at dksX5_will_1 12 rfl rfl)
theorem dX5_will_38 : decode cX5_will 38 = .ok (.ifCond .ne 5, 3) := dk_154 0 5 (dk_at dksX5_will_1 15 rfl rfl)
theorem dX5_will_41 : decode cX5_will 41 = .ok (.iconst (-1), 1) := dk_2 (dk_at dksX5_will_1 18 rfl rfl)
theorem dX5_will_42 : decode cX5_will 42 = .ok (.ireturn, 1) := dk_172 (dk_at dksX5_will_1 19 rfl rfl)
theorem dX5_will_43 : decode cX5_will 43 = .ok (.aload_n 0, 1) := dk_42 (dk_at dksX5_will_1 20 rfl rfl)
theorem dX5_will_44 : decode cX5_will 44 = .ok (.bipush 16, 2) := dk_16 16 (dk_at dksX5_will_1 21 rfl rfl)
theorem dX5_will_46 : decode cX5_will 46 = .ok (.invokevirtual 187, 3) := dk_182 0 187 (dk_at dksX5_will_2 0 rfl rfl)
theorem dX5_will_49 : decode cX5_will 49 = .ok (.iconst 0, 1) := dk_3 (dk_at dksX5_will_2 3 rfl rfl)
theorem dX5_will_50 : decode cX5_will 50 = .ok (.istore 4, 2) := dk_54 4 (dk_at dksX5_will_2 4 rfl rfl)
theorem dX5_will_52 : decode cX5_will 52 = .ok (.iload 4, 2) := dk_21 4 (dk_at dksX5_will_2 6 rfl rfl)
theorem dX5_will_54 : decode cX5_will 54 = .ok (.iload_n 1, 1) := dk_27 (dk_at dksX5_will_2 8 rfl rfl)
theorem dX5_will_55 : decode cX5_will 55 = .ok (.if_icmp .ge 14, 3) := dk_162 0 14 (dk_at dksX5_will_2 9 rfl rfl)
theorem dX5_will_58 : decode cX5_will 58 = .ok (.aload_n 0, 1) := dk_42 (dk_at dksX5_will_2 12 rfl rfl)
theorem dX5_will_59 : decode cX5_will 59 = .ok (.invokevirtual 479, 3) := dk_182 1 223 (dk_at dksX5_will_2 13 rfl rfl)
theorem dX5_will_62 : decode cX5_will 62 = .ok (.pop, 1) := dk_87 (dk_at dksX5_will_2 16 rfl rfl)
theorem dX5_will_63 : decode cX5_will 63 = .ok (.iinc 4 1, 3) := dk_132 4 1 (dk_at dksX5_will_2 17 rfl rfl)
theorem dX5_will_66 : decode cX5_will 66 = .ok (.goto (-14), 3) := dk_167 255 242 (dk_at dksX5_will_2 20 rfl rfl)
theorem dX5_will_69 : decode cX5_will 69 = .ok (.iload_n 3, 1) := dk_29 (dk_at dksX5_will_2 23 rfl rfl)
theorem dX5_will_70 : decode cX5_will 70 = .ok (.ifCond .ne 15, 3) := dk_154 0 15 (dk_at dksX5_will_3 0 rfl rfl)
theorem dX5_will_73 : decode cX5_will 73 = .ok (.aload_n 0, 1) := dk_42 (dk_at dksX5_will_3 3 rfl rfl)
theorem dX5_will_74 : decode cX5_will 74 = .ok (.getfield 13, 3) := dk_180 0 13 (dk_at dksX5_will_3 4 rfl rfl)
theorem dX5_will_77 : decode cX5_will 77 = .ok (.bipush 8, 2) := dk_16 8 (dk_at dksX5_will_3 7 rfl rfl)
theorem dX5_will_79 : decode cX5_will 79 = .ok (.iload_n 2, 1) := dk_28 (dk_at dksX5_will_3 9 rfl rfl)
theorem dX5_will_80 : decode cX5_will 80 = .ok (.iadd, 1) := dk_96 (dk_at dksX5_will_3 10 rfl rfl)
theorem dX5_will_81 : decode cX5_will 81 = .ok (.iaload, 1) := dk_46 (dk_at dksX5_will_3 11 rfl rfl)
theorem dX5_will_82 : decode cX5_will 82 = .ok (.goto 45, 3) := dk_167 0 45 (dk_at dksX5_will_3 12 rfl rfl)
theorem dX5_will_85 : decode cX5_will 85 = .ok (.iload_n 3, 1) := dk_29 (dk_at dksX5_will_3 15 rfl rfl)
theorem dX5_will_86 : decode cX5_will 86 = .ok (.iconst 1, 1) := dk_4 (dk_at dksX5_will_3 16 rfl rfl)
theorem dX5_will_87 : decode cX5_will 87 = .ok (.if_icmp .ne 15, 3) := dk_160 0 15 (dk_at dksX5_will_3 17 rfl rfl)
theorem dX5_will_90 : decode cX5_will 90 = .ok (.aload_n 0, 1) := dk_42 (dk_at dksX5_will_3 20 rfl rfl)
theorem dX5_will_91 : decode cX5_will 91 = .ok (.getfield 13, 3) := dk_180 0 13 (dk_at dksX5_will_3 21 rfl rfl)
theorem dX5_will_94 : decode cX5_will 94 = .ok (.bipush 24, 2) := dk_16 24 (dk_at dksX5_will_4 0 rfl rfl)
theorem dX5_will_96 : decode cX5_will 96 = .ok (.iload_n 2, 1) := dk_28 (dk_at dksX5_will_4 2 rfl rfl)
theorem dX5_will_97 : decode cX5_will 97 = .ok (.iadd, 1) := dk_96 (dk_at dksX5_will_4 3 rfl rfl)
theorem dX5_will_98 : decode cX5_will 98 = .ok (.iaload, 1) := dk_46 (dk_at dksX5_will_4 4 rfl rfl)
theorem dX5_will_99 : decode cX5_will 99 = .ok (.goto 28, 3) := dk_167 0 28 (dk_at dksX5_will_4 5 rfl rfl)
theorem dX5_will_102 : decode cX5_will 102 = .ok (.iload_n 3, 1) := dk_29 (dk_at dksX5_will_4 8 rfl rfl)
theorem dX5_will_103 : decode cX5_will 103 = .ok (.iconst 2, 1) := dk_5 (dk_at dksX5_will_4 9 rfl rfl)
theorem dX5_will_104 : decode cX5_will 104 = .ok (.if_icmp .ne 19, 3) := dk_160 0 19 (dk_at dksX5_will_4 10 rfl rfl)
theorem dX5_will_107 : decode cX5_will 107 = .ok (.aload_n 0, 1) := dk_42 (dk_at dksX5_will_4 13 rfl rfl)
theorem dX5_will_108 : decode cX5_will 108 = .ok (.iload_n 2, 1) := dk_28 (dk_at dksX5_will_4 14 rfl rfl)
theorem dX5_will_109 : decode cX5_will 109 = .ok (.invokevirtual 217, 3) := dk_182 0 217 (dk_at dksX5_will_4 15 rfl rfl)
theorem dX5_will_112 : decode cX5_will 112 = .ok (.ifCond .eq 7, 3) := dk_153 0 7 (dk_at dksX5_will_4 18 rfl rfl)
theorem dX5_will_115 : decode cX5_will 115 = .ok (.iconst 1, 1) := dk_4 (dk_at dksX5_will_4 21 rfl rfl)
theorem dX5_will_116 : decode cX5_will 116 = .ok (.goto 11, 3) := dk_167 0 11 (dk_at dksX5_will_5 0 rfl rfl)
theorem dX5_will_119 : decode cX5_will 119 = .ok (.iconst 0, 1) := dk_3 (dk_at dksX5_will_5 3 rfl rfl)
theorem dX5_will_120 : decode cX5_will 120 = .ok (.goto 7, 3) := dk_167 0 7 (dk_at dksX5_will_5 4 rfl rfl)
theorem dX5_will_123 : decode cX5_will 123 = .ok (.aload_n 0, 1) := dk_42 (dk_at dksX5_will_5 7 rfl rfl)
theorem dX5_will_124 : decode cX5_will 124 = .ok (.invokevirtual 487, 3) := dk_182 1 231 (dk_at dksX5_will_5 8 rfl rfl)
theorem dX5_will_127 : decode cX5_will 127 = .ok (.istore 4, 2) := dk_54 4 (dk_at dksX5_will_5 11 rfl rfl)
theorem dX5_will_129 : decode cX5_will 129 = .ok (.aload_n 0, 1) := dk_42 (dk_at dksX5_will_5 13 rfl rfl)
theorem dX5_will_130 : decode cX5_will 130 = .ok (.bipush 16, 2) := dk_16 16 (dk_at dksX5_will_5 14 rfl rfl)
theorem dX5_will_132 : decode cX5_will 132 = .ok (.invokevirtual 191, 3) := dk_182 0 191 (dk_at dksX5_will_5 16 rfl rfl)
theorem dX5_will_135 : decode cX5_will 135 = .ok (.iload 4, 2) := dk_21 4 (dk_at dksX5_will_5 19 rfl rfl)
theorem dX5_will_137 : decode cX5_will 137 = .ok (.ireturn, 1) := dk_172 (dk_at dksX5_will_5 21 rfl rfl)
abbrev cX5_housed : ByteArray := prog_22_method_87_code
def yX5_housed : MethodName := ⟨RX5, "housed", "()I"⟩
def dkwX5_housed_1 : List UInt8 := [4, 167, 0, 4, 3, 96, 60, 132, 2, 1, 167, 255, 226, 27, 172]
abbrev dktX5_housed_1 : List UInt8 := dkwX5_housed_1 ++ []
def dkwX5_housed_0 : List UInt8 := [3, 60, 3, 61, 28, 16, 16, 162, 0, 30, 27, 42, 180, 0, 13, 16, 40, 28, 96, 46, 2, 159, 0, 7]
abbrev dktX5_housed_0 : List UInt8 := dkwX5_housed_0 ++ dktX5_housed_1
theorem dksX5_housed_0 : cX5_housed.data.toList.drop 0 = dktX5_housed_0 := by decide +kernel
theorem dksX5_housed_1 : cX5_housed.data.toList.drop 24 = dktX5_housed_1 := dk_seg dksX5_housed_0 24 rfl rfl
theorem dX5_housed_0 : decode cX5_housed 0 = .ok (.iconst 0, 1) := dk_3 (dk_at dksX5_housed_0 0 rfl rfl)
theorem dX5_housed_1 : decode cX5_housed 1 = .ok (.istore_n 1, 1) := dk_60 (dk_at dksX5_housed_0 1 rfl rfl)
theorem dX5_housed_2 : decode cX5_housed 2 = .ok (.iconst 0, 1) := dk_3 (dk_at dksX5_housed_0 2 rfl rfl)
theorem dX5_housed_3 : decode cX5_housed 3 = .ok (.istore_n 2, 1) := dk_61 (dk_at dksX5_housed_0 3 rfl rfl)
theorem dX5_housed_4 : decode cX5_housed 4 = .ok (.iload_n 2, 1) := dk_28 (dk_at dksX5_housed_0 4 rfl rfl)
theorem dX5_housed_5 : decode cX5_housed 5 = .ok (.bipush 16, 2) := dk_16 16 (dk_at dksX5_housed_0 5 rfl rfl)
theorem dX5_housed_7 : decode cX5_housed 7 = .ok (.if_icmp .ge 30, 3) := dk_162 0 30 (dk_at dksX5_housed_0 7 rfl rfl)
theorem dX5_housed_10 : decode cX5_housed 10 = .ok (.iload_n 1, 1) := dk_27 (dk_at dksX5_housed_0 10 rfl rfl)
theorem dX5_housed_11 : decode cX5_housed 11 = .ok (.aload_n 0, 1) := dk_42 (dk_at dksX5_housed_0 11 rfl rfl)
theorem dX5_housed_12 : decode cX5_housed 12 = .ok (.getfield 13, 3) := dk_180 0 13 (dk_at dksX5_housed_0 12 rfl rfl)
theorem dX5_housed_15 : decode cX5_housed 15 = .ok (.bipush 40, 2) := dk_16 40 (dk_at dksX5_housed_0 15 rfl rfl)
theorem dX5_housed_17 : decode cX5_housed 17 = .ok (.iload_n 2, 1) := dk_28 (dk_at dksX5_housed_0 17 rfl rfl)
theorem dX5_housed_18 : decode cX5_housed 18 = .ok (.iadd, 1) := dk_96 (dk_at dksX5_housed_0 18 rfl rfl)
theorem dX5_housed_19 : decode cX5_housed 19 = .ok (.iaload, 1) := dk_46 (dk_at dksX5_housed_0 19 rfl rfl)
theorem dX5_housed_20 : decode cX5_housed 20 = .ok (.iconst (-1), 1) := dk_2 (dk_at dksX5_housed_0 20 rfl rfl)
theorem dX5_housed_21 : decode cX5_housed 21 = .ok (.if_icmp .eq 7, 3) := dk_159 0 7 (dk_at dksX5_housed_0 21 rfl rfl)
theorem dX5_housed_24 : decode cX5_housed 24 = .ok (.iconst 1, 1) := dk_4 (dk_at dksX5_housed_1 0 rfl rfl)
theorem dX5_housed_25 : decode cX5_housed 25 = .ok (.goto 4, 3) := dk_167 0 4 (dk_at dksX5_housed_1 1 rfl rfl)
theorem dX5_housed_28 : decode cX5_housed 28 = .ok (.iconst 0, 1) := dk_3 (dk_at dksX5_housed_1 4 rfl rfl)
theorem dX5_housed_29 : decode cX5_housed 29 = .ok (.iadd, 1) := dk_96 (dk_at dksX5_housed_1 5 rfl rfl)
theorem dX5_housed_30 : decode cX5_housed 30 = .ok (.istore_n 1, 1) := dk_60 (dk_at dksX5_housed_1 6 rfl rfl)
theorem dX5_housed_31 : decode cX5_housed 31 = .ok (.iinc 2 1, 3) := dk_132 2 1 (dk_at dksX5_housed_1 7 rfl rfl)
theorem dX5_housed_34 : decode cX5_housed 34 = .ok (.goto (-30), 3) := dk_167 255 226 (dk_at dksX5_housed_1 10 rfl rfl)
theorem dX5_housed_37 : decode cX5_housed 37 = .ok (.iload_n 1, 1) := dk_27 (dk_at dksX5_housed_1 13 rfl rfl)
theorem dX5_housed_38 : decode cX5_housed 38 = .ok (.ireturn, 1) := dk_172 (dk_at dksX5_housed_1 14 rfl rfl)
abbrev cX5_wood : ByteArray := prog_22_method_90_code
def yX5_wood : MethodName := ⟨RX5, "wood", "()I"⟩
def dkwX5_wood_2 : List UInt8 := [17, 0, 200, 164, 0, 7, 2, 167, 0, 4, 27, 172]
abbrev dktX5_wood_2 : List UInt8 := dkwX5_wood_2 ++ []
def dkwX5_wood_1 : List UInt8 := [17, 0, 200, 163, 0, 14, 42, 182, 1, 223, 87, 132, 1, 1, 167, 255, 232, 42, 16, 16, 182, 0, 191, 27]
abbrev dktX5_wood_1 : List UInt8 := dkwX5_wood_1 ++ dktX5_wood_2
def dkwX5_wood_0 : List UInt8 := [42, 3, 181, 0, 174, 42, 16, 16, 182, 0, 187, 3, 60, 42, 182, 1, 234, 16, 16, 162, 0, 21, 27]
abbrev dktX5_wood_0 : List UInt8 := dkwX5_wood_0 ++ dktX5_wood_1
theorem dksX5_wood_0 : cX5_wood.data.toList.drop 0 = dktX5_wood_0 := by decide +kernel
theorem dksX5_wood_1 : cX5_wood.data.toList.drop 23 = dktX5_wood_1 := dk_seg dksX5_wood_0 23 rfl rfl
theorem dksX5_wood_2 : cX5_wood.data.toList.drop 47 = dktX5_wood_2 := dk_seg dksX5_wood_1 24 rfl rfl
theorem dX5_wood_0 : decode cX5_wood 0 = .ok (.aload_n 0, 1) := dk_42 (dk_at dksX5_wood_0 0 rfl rfl)
theorem dX5_wood_1 : decode cX5_wood 1 = .ok (.iconst 0, 1) := dk_3 (dk_at dksX5_wood_0 1 rfl rfl)
theorem dX5_wood_2 : decode cX5_wood 2 = .ok (.putfield 174, 3) := dk_181 0 174 (dk_at dksX5_wood_0 2 rfl rfl)
theorem dX5_wood_5 : decode cX5_wood 5 = .ok (.aload_n 0, 1) := dk_42 (dk_at dksX5_wood_0 5 rfl rfl)
theorem dX5_wood_6 : decode cX5_wood 6 = .ok (.bipush 16, 2) := dk_16 16 (dk_at dksX5_wood_0 6 rfl rfl)
theorem dX5_wood_8 : decode cX5_wood 8 = .ok (.invokevirtual 187, 3) := dk_182 0 187 (dk_at dksX5_wood_0 8 rfl rfl)
theorem dX5_wood_11 : decode cX5_wood 11 = .ok (.iconst 0, 1) := dk_3 (dk_at dksX5_wood_0 11 rfl rfl)
theorem dX5_wood_12 : decode cX5_wood 12 = .ok (.istore_n 1, 1) := dk_60 (dk_at dksX5_wood_0 12 rfl rfl)
theorem dX5_wood_13 : decode cX5_wood 13 = .ok (.aload_n 0, 1) := dk_42 (dk_at dksX5_wood_0 13 rfl rfl)
theorem dX5_wood_14 : decode cX5_wood 14 = .ok (.invokevirtual 490, 3) := dk_182 1 234 (dk_at dksX5_wood_0 14 rfl rfl)
theorem dX5_wood_17 : decode cX5_wood 17 = .ok (.bipush 16, 2) := dk_16 16 (dk_at dksX5_wood_0 17 rfl rfl)
theorem dX5_wood_19 : decode cX5_wood 19 = .ok (.if_icmp .ge 21, 3) := dk_162 0 21 (dk_at dksX5_wood_0 19 rfl rfl)
theorem dX5_wood_22 : decode cX5_wood 22 = .ok (.iload_n 1, 1) := dk_27 (dk_at dksX5_wood_0 22 rfl rfl)
theorem dX5_wood_23 : decode cX5_wood 23 = .ok (.sipush 200, 3) := dk_17 0 200 (dk_at dksX5_wood_1 0 rfl rfl)
theorem dX5_wood_26 : decode cX5_wood 26 = .ok (.if_icmp .gt 14, 3) := dk_163 0 14 (dk_at dksX5_wood_1 3 rfl rfl)
theorem dX5_wood_29 : decode cX5_wood 29 = .ok (.aload_n 0, 1) := dk_42 (dk_at dksX5_wood_1 6 rfl rfl)
theorem dX5_wood_30 : decode cX5_wood 30 = .ok (.invokevirtual 479, 3) := dk_182 1 223 (dk_at dksX5_wood_1 7 rfl rfl)
theorem dX5_wood_33 : decode cX5_wood 33 = .ok (.pop, 1) := dk_87 (dk_at dksX5_wood_1 10 rfl rfl)
theorem dX5_wood_34 : decode cX5_wood 34 = .ok (.iinc 1 1, 3) := dk_132 1 1 (dk_at dksX5_wood_1 11 rfl rfl)
theorem dX5_wood_37 : decode cX5_wood 37 = .ok (.goto (-24), 3) := dk_167 255 232 (dk_at dksX5_wood_1 14 rfl rfl)
theorem dX5_wood_40 : decode cX5_wood 40 = .ok (.aload_n 0, 1) := dk_42 (dk_at dksX5_wood_1 17 rfl rfl)
theorem dX5_wood_41 : decode cX5_wood 41 = .ok (.bipush 16, 2) := dk_16 16 (dk_at dksX5_wood_1 18 rfl rfl)
theorem dX5_wood_43 : decode cX5_wood 43 = .ok (.invokevirtual 191, 3) := dk_182 0 191 (dk_at dksX5_wood_1 20 rfl rfl)
theorem dX5_wood_46 : decode cX5_wood 46 = .ok (.iload_n 1, 1) := dk_27 (dk_at dksX5_wood_1 23 rfl rfl)
theorem dX5_wood_47 : decode cX5_wood 47 = .ok (.sipush 200, 3) := dk_17 0 200 (dk_at dksX5_wood_2 0 rfl rfl)
theorem dX5_wood_50 : decode cX5_wood 50 = .ok (.if_icmp .le 7, 3) := dk_164 0 7 (dk_at dksX5_wood_2 3 rfl rfl)
theorem dX5_wood_53 : decode cX5_wood 53 = .ok (.iconst (-1), 1) := dk_2 (dk_at dksX5_wood_2 6 rfl rfl)
theorem dX5_wood_54 : decode cX5_wood 54 = .ok (.goto 4, 3) := dk_167 0 4 (dk_at dksX5_wood_2 7 rfl rfl)
theorem dX5_wood_57 : decode cX5_wood 57 = .ok (.iload_n 1, 1) := dk_27 (dk_at dksX5_wood_2 10 rfl rfl)
theorem dX5_wood_58 : decode cX5_wood 58 = .ok (.ireturn, 1) := dk_172 (dk_at dksX5_wood_2 11 rfl rfl)
abbrev cX5_lostRooms : ByteArray := prog_22_method_89_code
def yX5_lostRooms : MethodName := ⟨RX5, "lostRooms", "()I"⟩
def dkwX5_lostRooms_1 : List UInt8 := [96, 60, 132, 2, 1, 167, 255, 231, 27, 172]
abbrev dktX5_lostRooms_1 : List UInt8 := dkwX5_lostRooms_1 ++ []
def dkwX5_lostRooms_0 : List UInt8 := [3, 60, 3, 61, 28, 16, 16, 162, 0, 25, 27, 42, 28, 182, 0, 217, 153, 0, 7, 4, 167, 0, 4, 3]
abbrev dktX5_lostRooms_0 : List UInt8 := dkwX5_lostRooms_0 ++ dktX5_lostRooms_1
theorem dksX5_lostRooms_0 : cX5_lostRooms.data.toList.drop 0 = dktX5_lostRooms_0 := by decide +kernel
theorem dksX5_lostRooms_1 : cX5_lostRooms.data.toList.drop 24 = dktX5_lostRooms_1 := dk_seg dksX5_lostRooms_0 24 rfl rfl
theorem dX5_lostRooms_0 : decode cX5_lostRooms 0 = .ok (.iconst 0, 1) := dk_3 (dk_at dksX5_lostRooms_0 0 rfl rfl)
theorem dX5_lostRooms_1 : decode cX5_lostRooms 1 = .ok (.istore_n 1, 1) := dk_60 (dk_at dksX5_lostRooms_0 1 rfl rfl)
theorem dX5_lostRooms_2 : decode cX5_lostRooms 2 = .ok (.iconst 0, 1) := dk_3 (dk_at dksX5_lostRooms_0 2 rfl rfl)
theorem dX5_lostRooms_3 : decode cX5_lostRooms 3 = .ok (.istore_n 2, 1) := dk_61 (dk_at dksX5_lostRooms_0 3 rfl rfl)
theorem dX5_lostRooms_4 : decode cX5_lostRooms 4 = .ok (.iload_n 2, 1) := dk_28 (dk_at dksX5_lostRooms_0 4 rfl rfl)
theorem dX5_lostRooms_5 : decode cX5_lostRooms 5 = .ok (.bipush 16, 2) := dk_16 16 (dk_at dksX5_lostRooms_0 5 rfl rfl)
theorem dX5_lostRooms_7 : decode cX5_lostRooms 7 = .ok (.if_icmp .ge 25, 3) := dk_162 0 25 (dk_at dksX5_lostRooms_0 7 rfl rfl)
theorem dX5_lostRooms_10 : decode cX5_lostRooms 10 = .ok (.iload_n 1, 1) := dk_27 (dk_at dksX5_lostRooms_0 10 rfl rfl)
theorem dX5_lostRooms_11 : decode cX5_lostRooms 11 = .ok (.aload_n 0, 1) := dk_42 (dk_at dksX5_lostRooms_0 11 rfl rfl)
theorem dX5_lostRooms_12 : decode cX5_lostRooms 12 = .ok (.iload_n 2, 1) := dk_28 (dk_at dksX5_lostRooms_0 12 rfl rfl)
theorem dX5_lostRooms_13 : decode cX5_lostRooms 13 = .ok (.invokevirtual 217, 3) := dk_182 0 217 (dk_at dksX5_lostRooms_0 13 rfl rfl)
theorem dX5_lostRooms_16 : decode cX5_lostRooms 16 = .ok (.ifCond .eq 7, 3) := dk_153 0 7 (dk_at dksX5_lostRooms_0 16 rfl rfl)
theorem dX5_lostRooms_19 : decode cX5_lostRooms 19 = .ok (.iconst 1, 1) := dk_4 (dk_at dksX5_lostRooms_0 19 rfl rfl)
theorem dX5_lostRooms_20 : decode cX5_lostRooms 20 = .ok (.goto 4, 3) := dk_167 0 4 (dk_at dksX5_lostRooms_0 20 rfl rfl)
theorem dX5_lostRooms_23 : decode cX5_lostRooms 23 = .ok (.iconst 0, 1) := dk_3 (dk_at dksX5_lostRooms_0 23 rfl rfl)
theorem dX5_lostRooms_24 : decode cX5_lostRooms 24 = .ok (.iadd, 1) := dk_96 (dk_at dksX5_lostRooms_1 0 rfl rfl)
theorem dX5_lostRooms_25 : decode cX5_lostRooms 25 = .ok (.istore_n 1, 1) := dk_60 (dk_at dksX5_lostRooms_1 1 rfl rfl)
theorem dX5_lostRooms_26 : decode cX5_lostRooms 26 = .ok (.iinc 2 1, 3) := dk_132 2 1 (dk_at dksX5_lostRooms_1 2 rfl rfl)
theorem dX5_lostRooms_29 : decode cX5_lostRooms 29 = .ok (.goto (-25), 3) := dk_167 255 231 (dk_at dksX5_lostRooms_1 5 rfl rfl)
theorem dX5_lostRooms_32 : decode cX5_lostRooms 32 = .ok (.iload_n 1, 1) := dk_27 (dk_at dksX5_lostRooms_1 8 rfl rfl)
theorem dX5_lostRooms_33 : decode cX5_lostRooms 33 = .ok (.ireturn, 1) := dk_172 (dk_at dksX5_lostRooms_1 9 rfl rfl)
abbrev cX5_keep : ByteArray := prog_22_method_92_code
def yX5_keep : MethodName := ⟨RX5, "keep", "(III)I"⟩
def dkwX5_keep_6 : List UInt8 := [21, 6, 172, 132, 6, 1, 167, 255, 202, 132, 5, 1, 167, 255, 187, 2, 172]
abbrev dktX5_keep_6 : List UInt8 := dkwX5_keep_6 ++ []
def dkwX5_keep_5 : List UInt8 := [160, 0, 26, 42, 27, 28, 21, 6, 182, 1, 244, 153, 0, 15, 29, 154, 0, 8, 21, 5, 167, 0, 5]
abbrev dktX5_keep_5 : List UInt8 := dkwX5_keep_5 ++ dktX5_keep_6
def dkwX5_keep_4 : List UInt8 := [19, 1, 240, 162, 0, 52, 21, 6, 21, 4, 2, 130, 126, 154, 0, 36, 21, 6, 184, 1, 241, 21, 5]
abbrev dktX5_keep_4 : List UInt8 := dkwX5_keep_4 ++ dktX5_keep_5
def dkwX5_keep_3 : List UInt8 := [54, 4, 132, 5, 1, 167, 255, 224, 3, 54, 5, 21, 5, 7, 162, 0, 69, 3, 54, 6, 21, 6]
abbrev dktX5_keep_3 : List UInt8 := dkwX5_keep_3 ++ dktX5_keep_4
def dkwX5_keep_2 : List UInt8 := [162, 0, 31, 21, 4, 42, 21, 5, 182, 0, 220, 153, 0, 10, 4, 21, 5, 120, 167, 0, 4, 3, 128]
abbrev dktX5_keep_2 : List UInt8 := dkwX5_keep_2 ++ dktX5_keep_3
def dkwX5_keep_1 : List UInt8 := [29, 133, 9, 10, 184, 0, 194, 154, 0, 5, 2, 172, 3, 54, 4, 3, 54, 5, 21, 5, 16, 16]
abbrev dktX5_keep_1 : List UInt8 := dkwX5_keep_1 ++ dktX5_keep_2
def dkwX5_keep_0 : List UInt8 := [42, 3, 181, 0, 174, 27, 184, 0, 205, 153, 0, 25, 28, 133, 9, 20, 1, 43, 184, 0, 194, 153, 0, 13]
abbrev dktX5_keep_0 : List UInt8 := dkwX5_keep_0 ++ dktX5_keep_1
theorem dksX5_keep_0 : cX5_keep.data.toList.drop 0 = dktX5_keep_0 := by decide +kernel
theorem dksX5_keep_1 : cX5_keep.data.toList.drop 24 = dktX5_keep_1 := dk_seg dksX5_keep_0 24 rfl rfl
theorem dksX5_keep_2 : cX5_keep.data.toList.drop 46 = dktX5_keep_2 := dk_seg dksX5_keep_1 22 rfl rfl
theorem dksX5_keep_3 : cX5_keep.data.toList.drop 69 = dktX5_keep_3 := dk_seg dksX5_keep_2 23 rfl rfl
theorem dksX5_keep_4 : cX5_keep.data.toList.drop 91 = dktX5_keep_4 := dk_seg dksX5_keep_3 22 rfl rfl
theorem dksX5_keep_5 : cX5_keep.data.toList.drop 114 = dktX5_keep_5 := dk_seg dksX5_keep_4 23 rfl rfl
theorem dksX5_keep_6 : cX5_keep.data.toList.drop 137 = dktX5_keep_6 := dk_seg dksX5_keep_5 23 rfl rfl
theorem dX5_keep_0 : decode cX5_keep 0 = .ok (.aload_n 0, 1) := dk_42 (dk_at dksX5_keep_0 0 rfl rfl)
theorem dX5_keep_1 : decode cX5_keep 1 = .ok (.iconst 0, 1) := dk_3 (dk_at dksX5_keep_0 1 rfl rfl)
theorem dX5_keep_2 : decode cX5_keep 2 = .ok (.putfield 174, 3) := dk_181 0 174 (dk_at dksX5_keep_0 2 rfl rfl)
theorem dX5_keep_5 : decode cX5_keep 5 = .ok (.iload_n 1, 1) := dk_27 (dk_at dksX5_keep_0 5 rfl rfl)
theorem dX5_keep_6 : decode cX5_keep 6 = .ok (.invokestatic 205, 3) := dk_184 0 205 (dk_at dksX5_keep_0 6 rfl rfl)
theorem dX5_keep_9 : decode cX5_keep 9 = .ok (.ifCond .eq 25, 3) := dk_153 0 25 (dk_at dksX5_keep_0 9 rfl rfl)
theorem dX5_keep_12 : decode cX5_keep 12 = .ok (.iload_n 2, 1) := dk_28 (dk_at dksX5_keep_0 12 rfl rfl)
theorem dX5_keep_13 : decode cX5_keep 13 = .ok (.i2l, 1) := dk_133 (dk_at dksX5_keep_0 13 rfl rfl)
theorem dX5_keep_14 : decode cX5_keep 14 = .ok (.lconst 0, 1) := dk_9 (dk_at dksX5_keep_0 14 rfl rfl)
theorem dX5_keep_15 : decode cX5_keep 15 = .ok (.ldc2_w 299, 3) := dk_20 1 43 (dk_at dksX5_keep_0 15 rfl rfl)
theorem dX5_keep_18 : decode cX5_keep 18 = .ok (.invokestatic 194, 3) := dk_184 0 194 (dk_at dksX5_keep_0 18 rfl rfl)
theorem dX5_keep_21 : decode cX5_keep 21 = .ok (.ifCond .eq 13, 3) := dk_153 0 13 (dk_at dksX5_keep_0 21 rfl rfl)
theorem dX5_keep_24 : decode cX5_keep 24 = .ok (.iload_n 3, 1) := dk_29 (dk_at dksX5_keep_1 0 rfl rfl)
theorem dX5_keep_25 : decode cX5_keep 25 = .ok (.i2l, 1) := dk_133 (dk_at dksX5_keep_1 1 rfl rfl)
theorem dX5_keep_26 : decode cX5_keep 26 = .ok (.lconst 0, 1) := dk_9 (dk_at dksX5_keep_1 2 rfl rfl)
theorem dX5_keep_27 : decode cX5_keep 27 = .ok (.lconst 1, 1) := dk_10 (dk_at dksX5_keep_1 3 rfl rfl)
theorem dX5_keep_28 : decode cX5_keep 28 = .ok (.invokestatic 194, 3) := dk_184 0 194 (dk_at dksX5_keep_1 4 rfl rfl)
theorem dX5_keep_31 : decode cX5_keep 31 = .ok (.ifCond .ne 5, 3) := dk_154 0 5 (dk_at dksX5_keep_1 7 rfl rfl)
theorem dX5_keep_34 : decode cX5_keep 34 = .ok (.iconst (-1), 1) := dk_2 (dk_at dksX5_keep_1 10 rfl rfl)
theorem dX5_keep_35 : decode cX5_keep 35 = .ok (.ireturn, 1) := dk_172 (dk_at dksX5_keep_1 11 rfl rfl)
theorem dX5_keep_36 : decode cX5_keep 36 = .ok (.iconst 0, 1) := dk_3 (dk_at dksX5_keep_1 12 rfl rfl)
theorem dX5_keep_37 : decode cX5_keep 37 = .ok (.istore 4, 2) := dk_54 4 (dk_at dksX5_keep_1 13 rfl rfl)
theorem dX5_keep_39 : decode cX5_keep 39 = .ok (.iconst 0, 1) := dk_3 (dk_at dksX5_keep_1 15 rfl rfl)
theorem dX5_keep_40 : decode cX5_keep 40 = .ok (.istore 5, 2) := dk_54 5 (dk_at dksX5_keep_1 16 rfl rfl)
theorem dX5_keep_42 : decode cX5_keep 42 = .ok (.iload 5, 2) := dk_21 5 (dk_at dksX5_keep_1 18 rfl rfl)
theorem dX5_keep_44 : decode cX5_keep 44 = .ok (.bipush 16, 2) := dk_16 16 (dk_at dksX5_keep_1 20 rfl rfl)
theorem dX5_keep_46 : decode cX5_keep 46 = .ok (.if_icmp .ge 31, 3) := dk_162 0 31 (dk_at dksX5_keep_2 0 rfl rfl)
theorem dX5_keep_49 : decode cX5_keep 49 = .ok (.iload 4, 2) := dk_21 4 (dk_at dksX5_keep_2 3 rfl rfl)
theorem dX5_keep_51 : decode cX5_keep 51 = .ok (.aload_n 0, 1) := dk_42 (dk_at dksX5_keep_2 5 rfl rfl)
theorem dX5_keep_52 : decode cX5_keep 52 = .ok (.iload 5, 2) := dk_21 5 (dk_at dksX5_keep_2 6 rfl rfl)
theorem dX5_keep_54 : decode cX5_keep 54 = .ok (.invokevirtual 220, 3) := dk_182 0 220 (dk_at dksX5_keep_2 8 rfl rfl)
theorem dX5_keep_57 : decode cX5_keep 57 = .ok (.ifCond .eq 10, 3) := dk_153 0 10 (dk_at dksX5_keep_2 11 rfl rfl)
theorem dX5_keep_60 : decode cX5_keep 60 = .ok (.iconst 1, 1) := dk_4 (dk_at dksX5_keep_2 14 rfl rfl)
theorem dX5_keep_61 : decode cX5_keep 61 = .ok (.iload 5, 2) := dk_21 5 (dk_at dksX5_keep_2 15 rfl rfl)
theorem dX5_keep_63 : decode cX5_keep 63 = .ok (.ishl, 1) := dk_120 (dk_at dksX5_keep_2 17 rfl rfl)
theorem dX5_keep_64 : decode cX5_keep 64 = .ok (.goto 4, 3) := dk_167 0 4 (dk_at dksX5_keep_2 18 rfl rfl)
theorem dX5_keep_67 : decode cX5_keep 67 = .ok (.iconst 0, 1) := dk_3 (dk_at dksX5_keep_2 21 rfl rfl)
theorem dX5_keep_68 : decode cX5_keep 68 = .ok (.ior, 1) := dk_128 (dk_at dksX5_keep_2 22 rfl rfl)
theorem dX5_keep_69 : decode cX5_keep 69 = .ok (.istore 4, 2) := dk_54 4 (dk_at dksX5_keep_3 0 rfl rfl)
theorem dX5_keep_71 : decode cX5_keep 71 = .ok (.iinc 5 1, 3) := dk_132 5 1 (dk_at dksX5_keep_3 2 rfl rfl)
theorem dX5_keep_74 : decode cX5_keep 74 = .ok (.goto (-32), 3) := dk_167 255 224 (dk_at dksX5_keep_3 5 rfl rfl)
theorem dX5_keep_77 : decode cX5_keep 77 = .ok (.iconst 0, 1) := dk_3 (dk_at dksX5_keep_3 8 rfl rfl)
theorem dX5_keep_78 : decode cX5_keep 78 = .ok (.istore 5, 2) := dk_54 5 (dk_at dksX5_keep_3 9 rfl rfl)
theorem dX5_keep_80 : decode cX5_keep 80 = .ok (.iload 5, 2) := dk_21 5 (dk_at dksX5_keep_3 11 rfl rfl)
theorem dX5_keep_82 : decode cX5_keep 82 = .ok (.iconst 4, 1) := dk_7 (dk_at dksX5_keep_3 13 rfl rfl)
theorem dX5_keep_83 : decode cX5_keep 83 = .ok (.if_icmp .ge 69, 3) := dk_162 0 69 (dk_at dksX5_keep_3 14 rfl rfl)
theorem dX5_keep_86 : decode cX5_keep 86 = .ok (.iconst 0, 1) := dk_3 (dk_at dksX5_keep_3 17 rfl rfl)
theorem dX5_keep_87 : decode cX5_keep 87 = .ok (.istore 6, 2) := dk_54 6 (dk_at dksX5_keep_3 18 rfl rfl)
theorem dX5_keep_89 : decode cX5_keep 89 = .ok (.iload 6, 2) := dk_21 6 (dk_at dksX5_keep_3 20 rfl rfl)
theorem dX5_keep_91 : decode cX5_keep 91 = .ok (.ldc_w 496, 3) := dk_19 1 240 (dk_at dksX5_keep_4 0 rfl rfl)
theorem dX5_keep_94 : decode cX5_keep 94 = .ok (.if_icmp .ge 52, 3) := dk_162 0 52 (dk_at dksX5_keep_4 3 rfl rfl)
theorem dX5_keep_97 : decode cX5_keep 97 = .ok (.iload 6, 2) := dk_21 6 (dk_at dksX5_keep_4 6 rfl rfl)
theorem dX5_keep_99 : decode cX5_keep 99 = .ok (.iload 4, 2) := dk_21 4 (dk_at dksX5_keep_4 8 rfl rfl)
theorem dX5_keep_101 : decode cX5_keep 101 = .ok (.iconst (-1), 1) := dk_2 (dk_at dksX5_keep_4 10 rfl rfl)
theorem dX5_keep_102 : decode cX5_keep 102 = .ok (.ixor, 1) := dk_130 (dk_at dksX5_keep_4 11 rfl rfl)
theorem dX5_keep_103 : decode cX5_keep 103 = .ok (.iand, 1) := dk_126 (dk_at dksX5_keep_4 12 rfl rfl)
theorem dX5_keep_104 : decode cX5_keep 104 = .ok (.ifCond .ne 36, 3) := dk_154 0 36 (dk_at dksX5_keep_4 13 rfl rfl)
theorem dX5_keep_107 : decode cX5_keep 107 = .ok (.iload 6, 2) := dk_21 6 (dk_at dksX5_keep_4 16 rfl rfl)
theorem dX5_keep_109 : decode cX5_keep 109 = .ok (.invokestatic 497, 3) := dk_184 1 241 (dk_at dksX5_keep_4 18 rfl rfl)
theorem dX5_keep_112 : decode cX5_keep 112 = .ok (.iload 5, 2) := dk_21 5 (dk_at dksX5_keep_4 21 rfl rfl)
theorem dX5_keep_114 : decode cX5_keep 114 = .ok (.if_icmp .ne 26, 3) := dk_160 0 26 (dk_at dksX5_keep_5 0 rfl rfl)
theorem dX5_keep_117 : decode cX5_keep 117 = .ok (.aload_n 0, 1) := dk_42 (dk_at dksX5_keep_5 3 rfl rfl)
theorem dX5_keep_118 : decode cX5_keep 118 = .ok (.iload_n 1, 1) := dk_27 (dk_at dksX5_keep_5 4 rfl rfl)
theorem dX5_keep_119 : decode cX5_keep 119 = .ok (.iload_n 2, 1) := dk_28 (dk_at dksX5_keep_5 5 rfl rfl)
theorem dX5_keep_120 : decode cX5_keep 120 = .ok (.iload 6, 2) := dk_21 6 (dk_at dksX5_keep_5 6 rfl rfl)
theorem dX5_keep_122 : decode cX5_keep 122 = .ok (.invokevirtual 500, 3) := dk_182 1 244 (dk_at dksX5_keep_5 8 rfl rfl)
theorem dX5_keep_125 : decode cX5_keep 125 = .ok (.ifCond .eq 15, 3) := dk_153 0 15 (dk_at dksX5_keep_5 11 rfl rfl)
theorem dX5_keep_128 : decode cX5_keep 128 = .ok (.iload_n 3, 1) := dk_29 (dk_at dksX5_keep_5 14 rfl rfl)
theorem dX5_keep_129 : decode cX5_keep 129 = .ok (.ifCond .ne 8, 3) := dk_154 0 8 (dk_at dksX5_keep_5 15 rfl rfl)
theorem dX5_keep_132 : decode cX5_keep 132 = .ok (.iload 5, 2) := dk_21 5 (dk_at dksX5_keep_5 18 rfl rfl)
theorem dX5_keep_134 : decode cX5_keep 134 = .ok (.goto 5, 3) := dk_167 0 5 (dk_at dksX5_keep_5 20 rfl rfl)
theorem dX5_keep_137 : decode cX5_keep 137 = .ok (.iload 6, 2) := dk_21 6 (dk_at dksX5_keep_6 0 rfl rfl)
theorem dX5_keep_139 : decode cX5_keep 139 = .ok (.ireturn, 1) := dk_172 (dk_at dksX5_keep_6 2 rfl rfl)
theorem dX5_keep_140 : decode cX5_keep 140 = .ok (.iinc 6 1, 3) := dk_132 6 1 (dk_at dksX5_keep_6 3 rfl rfl)
theorem dX5_keep_143 : decode cX5_keep 143 = .ok (.goto (-54), 3) := dk_167 255 202 (dk_at dksX5_keep_6 6 rfl rfl)
theorem dX5_keep_146 : decode cX5_keep 146 = .ok (.iinc 5 1, 3) := dk_132 5 1 (dk_at dksX5_keep_6 9 rfl rfl)
theorem dX5_keep_149 : decode cX5_keep 149 = .ok (.goto (-69), 3) := dk_167 255 187 (dk_at dksX5_keep_6 12 rfl rfl)
theorem dX5_keep_152 : decode cX5_keep 152 = .ok (.iconst (-1), 1) := dk_2 (dk_at dksX5_keep_6 15 rfl rfl)
theorem dX5_keep_153 : decode cX5_keep 153 = .ok (.ireturn, 1) := dk_172 (dk_at dksX5_keep_6 16 rfl rfl)
abbrev cX5_ones : ByteArray := prog_22_method_5_code
def yX5_ones : MethodName := ⟨RX5, "ones", "(I)I"⟩
def dkwX5_ones_1 : List UInt8 := [27, 172]
abbrev dktX5_ones_1 : List UInt8 := dkwX5_ones_1 ++ []
def dkwX5_ones_0 : List UInt8 := [3, 60, 3, 61, 28, 16, 16, 162, 0, 17, 27, 26, 28, 122, 4, 126, 96, 60, 132, 2, 1, 167, 255, 239]
abbrev dktX5_ones_0 : List UInt8 := dkwX5_ones_0 ++ dktX5_ones_1
theorem dksX5_ones_0 : cX5_ones.data.toList.drop 0 = dktX5_ones_0 := by decide +kernel
theorem dksX5_ones_1 : cX5_ones.data.toList.drop 24 = dktX5_ones_1 := dk_seg dksX5_ones_0 24 rfl rfl
theorem dX5_ones_0 : decode cX5_ones 0 = .ok (.iconst 0, 1) := dk_3 (dk_at dksX5_ones_0 0 rfl rfl)
theorem dX5_ones_1 : decode cX5_ones 1 = .ok (.istore_n 1, 1) := dk_60 (dk_at dksX5_ones_0 1 rfl rfl)
theorem dX5_ones_2 : decode cX5_ones 2 = .ok (.iconst 0, 1) := dk_3 (dk_at dksX5_ones_0 2 rfl rfl)
theorem dX5_ones_3 : decode cX5_ones 3 = .ok (.istore_n 2, 1) := dk_61 (dk_at dksX5_ones_0 3 rfl rfl)
theorem dX5_ones_4 : decode cX5_ones 4 = .ok (.iload_n 2, 1) := dk_28 (dk_at dksX5_ones_0 4 rfl rfl)
theorem dX5_ones_5 : decode cX5_ones 5 = .ok (.bipush 16, 2) := dk_16 16 (dk_at dksX5_ones_0 5 rfl rfl)
theorem dX5_ones_7 : decode cX5_ones 7 = .ok (.if_icmp .ge 17, 3) := dk_162 0 17 (dk_at dksX5_ones_0 7 rfl rfl)
theorem dX5_ones_10 : decode cX5_ones 10 = .ok (.iload_n 1, 1) := dk_27 (dk_at dksX5_ones_0 10 rfl rfl)
theorem dX5_ones_11 : decode cX5_ones 11 = .ok (.iload_n 0, 1) := dk_26 (dk_at dksX5_ones_0 11 rfl rfl)
theorem dX5_ones_12 : decode cX5_ones 12 = .ok (.iload_n 2, 1) := dk_28 (dk_at dksX5_ones_0 12 rfl rfl)
theorem dX5_ones_13 : decode cX5_ones 13 = .ok (.ishr, 1) := dk_122 (dk_at dksX5_ones_0 13 rfl rfl)
theorem dX5_ones_14 : decode cX5_ones 14 = .ok (.iconst 1, 1) := dk_4 (dk_at dksX5_ones_0 14 rfl rfl)
theorem dX5_ones_15 : decode cX5_ones 15 = .ok (.iand, 1) := dk_126 (dk_at dksX5_ones_0 15 rfl rfl)
theorem dX5_ones_16 : decode cX5_ones 16 = .ok (.iadd, 1) := dk_96 (dk_at dksX5_ones_0 16 rfl rfl)
theorem dX5_ones_17 : decode cX5_ones 17 = .ok (.istore_n 1, 1) := dk_60 (dk_at dksX5_ones_0 17 rfl rfl)
theorem dX5_ones_18 : decode cX5_ones 18 = .ok (.iinc 2 1, 3) := dk_132 2 1 (dk_at dksX5_ones_0 18 rfl rfl)
theorem dX5_ones_21 : decode cX5_ones 21 = .ok (.goto (-17), 3) := dk_167 255 239 (dk_at dksX5_ones_0 21 rfl rfl)
theorem dX5_ones_24 : decode cX5_ones 24 = .ok (.iload_n 1, 1) := dk_27 (dk_at dksX5_ones_1 0 rfl rfl)
theorem dX5_ones_25 : decode cX5_ones 25 = .ok (.ireturn, 1) := dk_172 (dk_at dksX5_ones_1 1 rfl rfl)
abbrev cX5_isKeptBy : ByteArray := prog_22_method_91_code
def yX5_isKeptBy : MethodName := ⟨RX5, "isKeptBy", "(III)Z"⟩
def dkwX5_isKeptBy_4 : List UInt8 := [16, 16, 182, 0, 191, 21, 4, 172]
abbrev dktX5_isKeptBy_4 : List UInt8 := dkwX5_isKeptBy_4 ++ []
def dkwX5_isKeptBy_3 : List UInt8 := [87, 42, 27, 182, 0, 217, 154, 0, 7, 4, 167, 0, 4, 3, 54, 4, 132, 5, 1, 167, 255, 222, 42]
abbrev dktX5_isKeptBy_3 : List UInt8 := dkwX5_isKeptBy_3 ++ dktX5_isKeptBy_4
def dkwX5_isKeptBy_2 : List UInt8 := [167, 0, 4, 3, 54, 4, 3, 54, 5, 21, 5, 28, 162, 0, 34, 21, 4, 153, 0, 29, 42, 182, 1, 223]
abbrev dktX5_isKeptBy_2 : List UInt8 := dkwX5_isKeptBy_2 ++ dktX5_isKeptBy_3
def dkwX5_isKeptBy_1 : List UInt8 := [153, 0, 9, 42, 21, 4, 182, 1, 205, 132, 4, 1, 167, 255, 231, 42, 27, 182, 0, 217, 154, 0, 7, 4]
abbrev dktX5_isKeptBy_1 : List UInt8 := dkwX5_isKeptBy_1 ++ dktX5_isKeptBy_2
def dkwX5_isKeptBy_0 : List UInt8 := [42, 16, 16, 182, 0, 187, 3, 54, 4, 21, 4, 16, 16, 162, 0, 24, 29, 21, 4, 184, 1, 237]
abbrev dktX5_isKeptBy_0 : List UInt8 := dkwX5_isKeptBy_0 ++ dktX5_isKeptBy_1
theorem dksX5_isKeptBy_0 : cX5_isKeptBy.data.toList.drop 0 = dktX5_isKeptBy_0 := by decide +kernel
theorem dksX5_isKeptBy_1 : cX5_isKeptBy.data.toList.drop 22 = dktX5_isKeptBy_1 := dk_seg dksX5_isKeptBy_0 22 rfl rfl
theorem dksX5_isKeptBy_2 : cX5_isKeptBy.data.toList.drop 46 = dktX5_isKeptBy_2 := dk_seg dksX5_isKeptBy_1 24 rfl rfl
theorem dksX5_isKeptBy_3 : cX5_isKeptBy.data.toList.drop 70 = dktX5_isKeptBy_3 := dk_seg dksX5_isKeptBy_2 24 rfl rfl
theorem dksX5_isKeptBy_4 : cX5_isKeptBy.data.toList.drop 93 = dktX5_isKeptBy_4 := dk_seg dksX5_isKeptBy_3 23 rfl rfl
theorem dX5_isKeptBy_0 : decode cX5_isKeptBy 0 = .ok (.aload_n 0, 1) := dk_42 (dk_at dksX5_isKeptBy_0 0 rfl rfl)
theorem dX5_isKeptBy_1 : decode cX5_isKeptBy 1 = .ok (.bipush 16, 2) := dk_16 16 (dk_at dksX5_isKeptBy_0 1 rfl rfl)
theorem dX5_isKeptBy_3 : decode cX5_isKeptBy 3 = .ok (.invokevirtual 187, 3) := dk_182 0 187 (dk_at dksX5_isKeptBy_0 3 rfl rfl)
theorem dX5_isKeptBy_6 : decode cX5_isKeptBy 6 = .ok (.iconst 0, 1) := dk_3 (dk_at dksX5_isKeptBy_0 6 rfl rfl)
theorem dX5_isKeptBy_7 : decode cX5_isKeptBy 7 = .ok (.istore 4, 2) := dk_54 4 (dk_at dksX5_isKeptBy_0 7 rfl rfl)
theorem dX5_isKeptBy_9 : decode cX5_isKeptBy 9 = .ok (.iload 4, 2) := dk_21 4 (dk_at dksX5_isKeptBy_0 9 rfl rfl)
theorem dX5_isKeptBy_11 : decode cX5_isKeptBy 11 = .ok (.bipush 16, 2) := dk_16 16 (dk_at dksX5_isKeptBy_0 11 rfl rfl)
theorem dX5_isKeptBy_13 : decode cX5_isKeptBy 13 = .ok (.if_icmp .ge 24, 3) := dk_162 0 24 (dk_at dksX5_isKeptBy_0 13 rfl rfl)
theorem dX5_isKeptBy_16 : decode cX5_isKeptBy 16 = .ok (.iload_n 3, 1) := dk_29 (dk_at dksX5_isKeptBy_0 16 rfl rfl)
theorem dX5_isKeptBy_17 : decode cX5_isKeptBy 17 = .ok (.iload 4, 2) := dk_21 4 (dk_at dksX5_isKeptBy_0 17 rfl rfl)
theorem dX5_isKeptBy_19 : decode cX5_isKeptBy 19 = .ok (.invokestatic 493, 3) := dk_184 1 237 (dk_at dksX5_isKeptBy_0 19 rfl rfl)
theorem dX5_isKeptBy_22 : decode cX5_isKeptBy 22 = .ok (.ifCond .eq 9, 3) := dk_153 0 9 (dk_at dksX5_isKeptBy_1 0 rfl rfl)
theorem dX5_isKeptBy_25 : decode cX5_isKeptBy 25 = .ok (.aload_n 0, 1) := dk_42 (dk_at dksX5_isKeptBy_1 3 rfl rfl)
theorem dX5_isKeptBy_26 : decode cX5_isKeptBy 26 = .ok (.iload 4, 2) := dk_21 4 (dk_at dksX5_isKeptBy_1 4 rfl rfl)
theorem dX5_isKeptBy_28 : decode cX5_isKeptBy 28 = .ok (.invokevirtual 461, 3) := dk_182 1 205 (dk_at dksX5_isKeptBy_1 6 rfl rfl)
theorem dX5_isKeptBy_31 : decode cX5_isKeptBy 31 = .ok (.iinc 4 1, 3) := dk_132 4 1 (dk_at dksX5_isKeptBy_1 9 rfl rfl)
theorem dX5_isKeptBy_34 : decode cX5_isKeptBy 34 = .ok (.goto (-25), 3) := dk_167 255 231 (dk_at dksX5_isKeptBy_1 12 rfl rfl)
theorem dX5_isKeptBy_37 : decode cX5_isKeptBy 37 = .ok (.aload_n 0, 1) := dk_42 (dk_at dksX5_isKeptBy_1 15 rfl rfl)
theorem dX5_isKeptBy_38 : decode cX5_isKeptBy 38 = .ok (.iload_n 1, 1) := dk_27 (dk_at dksX5_isKeptBy_1 16 rfl rfl)
theorem dX5_isKeptBy_39 : decode cX5_isKeptBy 39 = .ok (.invokevirtual 217, 3) := dk_182 0 217 (dk_at dksX5_isKeptBy_1 17 rfl rfl)
theorem dX5_isKeptBy_42 : decode cX5_isKeptBy 42 = .ok (.ifCond .ne 7, 3) := dk_154 0 7 (dk_at dksX5_isKeptBy_1 20 rfl rfl)
theorem dX5_isKeptBy_45 : decode cX5_isKeptBy 45 = .ok (.iconst 1, 1) := dk_4 (dk_at dksX5_isKeptBy_1 23 rfl rfl)
theorem dX5_isKeptBy_46 : decode cX5_isKeptBy 46 = .ok (.goto 4, 3) := dk_167 0 4 (dk_at dksX5_isKeptBy_2 0 rfl rfl)
theorem dX5_isKeptBy_49 : decode cX5_isKeptBy 49 = .ok (.iconst 0, 1) := dk_3 (dk_at dksX5_isKeptBy_2 3 rfl rfl)
theorem dX5_isKeptBy_50 : decode cX5_isKeptBy 50 = .ok (.istore 4, 2) := dk_54 4 (dk_at dksX5_isKeptBy_2 4 rfl rfl)
theorem dX5_isKeptBy_52 : decode cX5_isKeptBy 52 = .ok (.iconst 0, 1) := dk_3 (dk_at dksX5_isKeptBy_2 6 rfl rfl)
theorem dX5_isKeptBy_53 : decode cX5_isKeptBy 53 = .ok (.istore 5, 2) := dk_54 5 (dk_at dksX5_isKeptBy_2 7 rfl rfl)
theorem dX5_isKeptBy_55 : decode cX5_isKeptBy 55 = .ok (.iload 5, 2) := dk_21 5 (dk_at dksX5_isKeptBy_2 9 rfl rfl)
theorem dX5_isKeptBy_57 : decode cX5_isKeptBy 57 = .ok (.iload_n 2, 1) := dk_28 (dk_at dksX5_isKeptBy_2 11 rfl rfl)
theorem dX5_isKeptBy_58 : decode cX5_isKeptBy 58 = .ok (.if_icmp .ge 34, 3) := dk_162 0 34 (dk_at dksX5_isKeptBy_2 12 rfl rfl)
theorem dX5_isKeptBy_61 : decode cX5_isKeptBy 61 = .ok (.iload 4, 2) := dk_21 4 (dk_at dksX5_isKeptBy_2 15 rfl rfl)
theorem dX5_isKeptBy_63 : decode cX5_isKeptBy 63 = .ok (.ifCond .eq 29, 3) := dk_153 0 29 (dk_at dksX5_isKeptBy_2 17 rfl rfl)
theorem dX5_isKeptBy_66 : decode cX5_isKeptBy 66 = .ok (.aload_n 0, 1) := dk_42 (dk_at dksX5_isKeptBy_2 20 rfl rfl)
theorem dX5_isKeptBy_67 : decode cX5_isKeptBy 67 = .ok (.invokevirtual 479, 3) := dk_182 1 223 (dk_at dksX5_isKeptBy_2 21 rfl rfl)
theorem dX5_isKeptBy_70 : decode cX5_isKeptBy 70 = .ok (.pop, 1) := dk_87 (dk_at dksX5_isKeptBy_3 0 rfl rfl)
theorem dX5_isKeptBy_71 : decode cX5_isKeptBy 71 = .ok (.aload_n 0, 1) := dk_42 (dk_at dksX5_isKeptBy_3 1 rfl rfl)
theorem dX5_isKeptBy_72 : decode cX5_isKeptBy 72 = .ok (.iload_n 1, 1) := dk_27 (dk_at dksX5_isKeptBy_3 2 rfl rfl)
theorem dX5_isKeptBy_73 : decode cX5_isKeptBy 73 = .ok (.invokevirtual 217, 3) := dk_182 0 217 (dk_at dksX5_isKeptBy_3 3 rfl rfl)
theorem dX5_isKeptBy_76 : decode cX5_isKeptBy 76 = .ok (.ifCond .ne 7, 3) := dk_154 0 7 (dk_at dksX5_isKeptBy_3 6 rfl rfl)
theorem dX5_isKeptBy_79 : decode cX5_isKeptBy 79 = .ok (.iconst 1, 1) := dk_4 (dk_at dksX5_isKeptBy_3 9 rfl rfl)
theorem dX5_isKeptBy_80 : decode cX5_isKeptBy 80 = .ok (.goto 4, 3) := dk_167 0 4 (dk_at dksX5_isKeptBy_3 10 rfl rfl)
theorem dX5_isKeptBy_83 : decode cX5_isKeptBy 83 = .ok (.iconst 0, 1) := dk_3 (dk_at dksX5_isKeptBy_3 13 rfl rfl)
theorem dX5_isKeptBy_84 : decode cX5_isKeptBy 84 = .ok (.istore 4, 2) := dk_54 4 (dk_at dksX5_isKeptBy_3 14 rfl rfl)
theorem dX5_isKeptBy_86 : decode cX5_isKeptBy 86 = .ok (.iinc 5 1, 3) := dk_132 5 1 (dk_at dksX5_isKeptBy_3 16 rfl rfl)
theorem dX5_isKeptBy_89 : decode cX5_isKeptBy 89 = .ok (.goto (-34), 3) := dk_167 255 222 (dk_at dksX5_isKeptBy_3 19 rfl rfl)
theorem dX5_isKeptBy_92 : decode cX5_isKeptBy 92 = .ok (.aload_n 0, 1) := dk_42 (dk_at dksX5_isKeptBy_3 22 rfl rfl)
theorem dX5_isKeptBy_93 : decode cX5_isKeptBy 93 = .ok (.bipush 16, 2) := dk_16 16 (dk_at dksX5_isKeptBy_4 0 rfl rfl)
theorem dX5_isKeptBy_95 : decode cX5_isKeptBy 95 = .ok (.invokevirtual 191, 3) := dk_182 0 191 (dk_at dksX5_isKeptBy_4 2 rfl rfl)
theorem dX5_isKeptBy_98 : decode cX5_isKeptBy 98 = .ok (.iload 4, 2) := dk_21 4 (dk_at dksX5_isKeptBy_4 5 rfl rfl)
theorem dX5_isKeptBy_100 : decode cX5_isKeptBy 100 = .ok (.ireturn, 1) := dk_172 (dk_at dksX5_isKeptBy_4 7 rfl rfl)
abbrev cX5_is : ByteArray := prog_22_method_4_code
def yX5_is : MethodName := ⟨RX5, "is", "(II)Z"⟩
def dkwX5_is_0 : List UInt8 := [26, 27, 122, 4, 126, 4, 160, 0, 7, 4, 167, 0, 4, 3, 172]
abbrev dktX5_is_0 : List UInt8 := dkwX5_is_0 ++ []
theorem dksX5_is_0 : cX5_is.data.toList.drop 0 = dktX5_is_0 := by decide +kernel
theorem dX5_is_0 : decode cX5_is 0 = .ok (.iload_n 0, 1) := dk_26 (dk_at dksX5_is_0 0 rfl rfl)
theorem dX5_is_1 : decode cX5_is 1 = .ok (.iload_n 1, 1) := dk_27 (dk_at dksX5_is_0 1 rfl rfl)
theorem dX5_is_2 : decode cX5_is 2 = .ok (.ishr, 1) := dk_122 (dk_at dksX5_is_0 2 rfl rfl)
theorem dX5_is_3 : decode cX5_is 3 = .ok (.iconst 1, 1) := dk_4 (dk_at dksX5_is_0 3 rfl rfl)
theorem dX5_is_4 : decode cX5_is 4 = .ok (.iand, 1) := dk_126 (dk_at dksX5_is_0 4 rfl rfl)
theorem dX5_is_5 : decode cX5_is 5 = .ok (.iconst 1, 1) := dk_4 (dk_at dksX5_is_0 5 rfl rfl)
theorem dX5_is_6 : decode cX5_is 6 = .ok (.if_icmp .ne 7, 3) := dk_160 0 7 (dk_at dksX5_is_0 6 rfl rfl)
theorem dX5_is_9 : decode cX5_is 9 = .ok (.iconst 1, 1) := dk_4 (dk_at dksX5_is_0 9 rfl rfl)
theorem dX5_is_10 : decode cX5_is 10 = .ok (.goto 4, 3) := dk_167 0 4 (dk_at dksX5_is_0 10 rfl rfl)
theorem dX5_is_13 : decode cX5_is 13 = .ok (.iconst 0, 1) := dk_3 (dk_at dksX5_is_0 13 rfl rfl)
theorem dX5_is_14 : decode cX5_is 14 = .ok (.ireturn, 1) := dk_172 (dk_at dksX5_is_0 14 rfl rfl)
abbrev cX5_homes : ByteArray := prog_22_method_96_code
def yX5_homes : MethodName := ⟨RX5, "homes", "(II)I"⟩
def dkwX5_homes_5 : List UInt8 := [154, 0, 8, 21, 5, 167, 0, 10, 42, 180, 0, 134, 21, 4, 46, 172]
abbrev dktX5_homes_5 : List UInt8 := dkwX5_homes_5 ++ []
def dkwX5_homes_4 : List UInt8 := [132, 3, 1, 132, 5, 1, 167, 255, 210, 42, 29, 182, 2, 1, 54, 5, 21, 5, 2, 159, 0, 7, 28]
abbrev dktX5_homes_4 : List UInt8 := dkwX5_homes_4 ++ dktX5_homes_5
def dkwX5_homes_3 : List UInt8 := [28, 4, 100, 160, 0, 7, 29, 167, 0, 5, 21, 4, 54, 4, 42, 180, 0, 128, 29, 21, 5, 79]
abbrev dktX5_homes_3 : List UInt8 := dkwX5_homes_3 ++ dktX5_homes_4
def dkwX5_homes_2 : List UInt8 := [3, 54, 4, 3, 54, 5, 21, 5, 16, 6, 162, 0, 45, 27, 21, 5, 184, 1, 237, 153, 0, 30, 21, 5]
abbrev dktX5_homes_2 : List UInt8 := dkwX5_homes_2 ++ dktX5_homes_3
def dkwX5_homes_1 : List UInt8 := [184, 0, 194, 153, 0, 17, 28, 158, 0, 15, 27, 28, 4, 100, 184, 1, 237, 154, 0, 5, 2, 172, 3, 62]
abbrev dktX5_homes_1 : List UInt8 := dkwX5_homes_1 ++ dktX5_homes_2
def dkwX5_homes_0 : List UInt8 := [42, 3, 181, 0, 174, 27, 133, 9, 20, 1, 253, 184, 0, 194, 153, 0, 29, 28, 133, 9, 20, 1, 255]
abbrev dktX5_homes_0 : List UInt8 := dkwX5_homes_0 ++ dktX5_homes_1
theorem dksX5_homes_0 : cX5_homes.data.toList.drop 0 = dktX5_homes_0 := by decide +kernel
theorem dksX5_homes_1 : cX5_homes.data.toList.drop 23 = dktX5_homes_1 := dk_seg dksX5_homes_0 23 rfl rfl
theorem dksX5_homes_2 : cX5_homes.data.toList.drop 47 = dktX5_homes_2 := dk_seg dksX5_homes_1 24 rfl rfl
theorem dksX5_homes_3 : cX5_homes.data.toList.drop 71 = dktX5_homes_3 := dk_seg dksX5_homes_2 24 rfl rfl
theorem dksX5_homes_4 : cX5_homes.data.toList.drop 93 = dktX5_homes_4 := dk_seg dksX5_homes_3 22 rfl rfl
theorem dksX5_homes_5 : cX5_homes.data.toList.drop 116 = dktX5_homes_5 := dk_seg dksX5_homes_4 23 rfl rfl
theorem dX5_homes_0 : decode cX5_homes 0 = .ok (.aload_n 0, 1) := dk_42 (dk_at dksX5_homes_0 0 rfl rfl)
theorem dX5_homes_1 : decode cX5_homes 1 = .ok (.iconst 0, 1) := dk_3 (dk_at dksX5_homes_0 1 rfl rfl)
theorem dX5_homes_2 : decode cX5_homes 2 = .ok (.putfield 174, 3) := dk_181 0 174 (dk_at dksX5_homes_0 2 rfl rfl)
theorem dX5_homes_5 : decode cX5_homes 5 = .ok (.iload_n 1, 1) := dk_27 (dk_at dksX5_homes_0 5 rfl rfl)
theorem dX5_homes_6 : decode cX5_homes 6 = .ok (.i2l, 1) := dk_133 (dk_at dksX5_homes_0 6 rfl rfl)
theorem dX5_homes_7 : decode cX5_homes 7 = .ok (.lconst 0, 1) := dk_9 (dk_at dksX5_homes_0 7 rfl rfl)
theorem dX5_homes_8 : decode cX5_homes 8 = .ok (.ldc2_w 509, 3) := dk_20 1 253 (dk_at dksX5_homes_0 8 rfl rfl)
theorem dX5_homes_11 : decode cX5_homes 11 = .ok (.invokestatic 194, 3) := dk_184 0 194 (dk_at dksX5_homes_0 11 rfl rfl)
theorem dX5_homes_14 : decode cX5_homes 14 = .ok (.ifCond .eq 29, 3) := dk_153 0 29 (dk_at dksX5_homes_0 14 rfl rfl)
theorem dX5_homes_17 : decode cX5_homes 17 = .ok (.iload_n 2, 1) := dk_28 (dk_at dksX5_homes_0 17 rfl rfl)
theorem dX5_homes_18 : decode cX5_homes 18 = .ok (.i2l, 1) := dk_133 (dk_at dksX5_homes_0 18 rfl rfl)
theorem dX5_homes_19 : decode cX5_homes 19 = .ok (.lconst 0, 1) := dk_9 (dk_at dksX5_homes_0 19 rfl rfl)
theorem dX5_homes_20 : decode cX5_homes 20 = .ok (.ldc2_w 511, 3) := dk_20 1 255 (dk_at dksX5_homes_0 20 rfl rfl)
theorem dX5_homes_23 : decode cX5_homes 23 = .ok (.invokestatic 194, 3) := dk_184 0 194 (dk_at dksX5_homes_1 0 rfl rfl)
theorem dX5_homes_26 : decode cX5_homes 26 = .ok (.ifCond .eq 17, 3) := dk_153 0 17 (dk_at dksX5_homes_1 3 rfl rfl)
theorem dX5_homes_29 : decode cX5_homes 29 = .ok (.iload_n 2, 1) := dk_28 (dk_at dksX5_homes_1 6 rfl rfl)
theorem dX5_homes_30 : decode cX5_homes 30 = .ok (.ifCond .le 15, 3) := dk_158 0 15 (dk_at dksX5_homes_1 7 rfl rfl)
theorem dX5_homes_33 : decode cX5_homes 33 = .ok (.iload_n 1, 1) := dk_27 (dk_at dksX5_homes_1 10 rfl rfl)
theorem dX5_homes_34 : decode cX5_homes 34 = .ok (.iload_n 2, 1) := dk_28 (dk_at dksX5_homes_1 11 rfl rfl)
theorem dX5_homes_35 : decode cX5_homes 35 = .ok (.iconst 1, 1) := dk_4 (dk_at dksX5_homes_1 12 rfl rfl)
theorem dX5_homes_36 : decode cX5_homes 36 = .ok (.isub, 1) := dk_100 (dk_at dksX5_homes_1 13 rfl rfl)
theorem dX5_homes_37 : decode cX5_homes 37 = .ok (.invokestatic 493, 3) := dk_184 1 237 (dk_at dksX5_homes_1 14 rfl rfl)
theorem dX5_homes_40 : decode cX5_homes 40 = .ok (.ifCond .ne 5, 3) := dk_154 0 5 (dk_at dksX5_homes_1 17 rfl rfl)
theorem dX5_homes_43 : decode cX5_homes 43 = .ok (.iconst (-1), 1) := dk_2 (dk_at dksX5_homes_1 20 rfl rfl)
theorem dX5_homes_44 : decode cX5_homes 44 = .ok (.ireturn, 1) := dk_172 (dk_at dksX5_homes_1 21 rfl rfl)
theorem dX5_homes_45 : decode cX5_homes 45 = .ok (.iconst 0, 1) := dk_3 (dk_at dksX5_homes_1 22 rfl rfl)
theorem dX5_homes_46 : decode cX5_homes 46 = .ok (.istore_n 3, 1) := dk_62 (dk_at dksX5_homes_1 23 rfl rfl)
theorem dX5_homes_47 : decode cX5_homes 47 = .ok (.iconst 0, 1) := dk_3 (dk_at dksX5_homes_2 0 rfl rfl)
theorem dX5_homes_48 : decode cX5_homes 48 = .ok (.istore 4, 2) := dk_54 4 (dk_at dksX5_homes_2 1 rfl rfl)
theorem dX5_homes_50 : decode cX5_homes 50 = .ok (.iconst 0, 1) := dk_3 (dk_at dksX5_homes_2 3 rfl rfl)
theorem dX5_homes_51 : decode cX5_homes 51 = .ok (.istore 5, 2) := dk_54 5 (dk_at dksX5_homes_2 4 rfl rfl)
theorem dX5_homes_53 : decode cX5_homes 53 = .ok (.iload 5, 2) := dk_21 5 (dk_at dksX5_homes_2 6 rfl rfl)
theorem dX5_homes_55 : decode cX5_homes 55 = .ok (.bipush 6, 2) := dk_16 6 (dk_at dksX5_homes_2 8 rfl rfl)
theorem dX5_homes_57 : decode cX5_homes 57 = .ok (.if_icmp .ge 45, 3) := dk_162 0 45 (dk_at dksX5_homes_2 10 rfl rfl)
theorem dX5_homes_60 : decode cX5_homes 60 = .ok (.iload_n 1, 1) := dk_27 (dk_at dksX5_homes_2 13 rfl rfl)
theorem dX5_homes_61 : decode cX5_homes 61 = .ok (.iload 5, 2) := dk_21 5 (dk_at dksX5_homes_2 14 rfl rfl)
theorem dX5_homes_63 : decode cX5_homes 63 = .ok (.invokestatic 493, 3) := dk_184 1 237 (dk_at dksX5_homes_2 16 rfl rfl)
theorem dX5_homes_66 : decode cX5_homes 66 = .ok (.ifCond .eq 30, 3) := dk_153 0 30 (dk_at dksX5_homes_2 19 rfl rfl)
theorem dX5_homes_69 : decode cX5_homes 69 = .ok (.iload 5, 2) := dk_21 5 (dk_at dksX5_homes_2 22 rfl rfl)
theorem dX5_homes_71 : decode cX5_homes 71 = .ok (.iload_n 2, 1) := dk_28 (dk_at dksX5_homes_3 0 rfl rfl)
theorem dX5_homes_72 : decode cX5_homes 72 = .ok (.iconst 1, 1) := dk_4 (dk_at dksX5_homes_3 1 rfl rfl)
theorem dX5_homes_73 : decode cX5_homes 73 = .ok (.isub, 1) := dk_100 (dk_at dksX5_homes_3 2 rfl rfl)
theorem dX5_homes_74 : decode cX5_homes 74 = .ok (.if_icmp .ne 7, 3) := dk_160 0 7 (dk_at dksX5_homes_3 3 rfl rfl)
theorem dX5_homes_77 : decode cX5_homes 77 = .ok (.iload_n 3, 1) := dk_29 (dk_at dksX5_homes_3 6 rfl rfl)
theorem dX5_homes_78 : decode cX5_homes 78 = .ok (.goto 5, 3) := dk_167 0 5 (dk_at dksX5_homes_3 7 rfl rfl)
theorem dX5_homes_81 : decode cX5_homes 81 = .ok (.iload 4, 2) := dk_21 4 (dk_at dksX5_homes_3 10 rfl rfl)
theorem dX5_homes_83 : decode cX5_homes 83 = .ok (.istore 4, 2) := dk_54 4 (dk_at dksX5_homes_3 12 rfl rfl)
theorem dX5_homes_85 : decode cX5_homes 85 = .ok (.aload_n 0, 1) := dk_42 (dk_at dksX5_homes_3 14 rfl rfl)
theorem dX5_homes_86 : decode cX5_homes 86 = .ok (.getfield 128, 3) := dk_180 0 128 (dk_at dksX5_homes_3 15 rfl rfl)
theorem dX5_homes_89 : decode cX5_homes 89 = .ok (.iload_n 3, 1) := dk_29 (dk_at dksX5_homes_3 18 rfl rfl)
theorem dX5_homes_90 : decode cX5_homes 90 = .ok (.iload 5, 2) := dk_21 5 (dk_at dksX5_homes_3 19 rfl rfl)
theorem dX5_homes_92 : decode cX5_homes 92 = .ok (.iastore, 1) := dk_79 (dk_at dksX5_homes_3 21 rfl rfl)
theorem dX5_homes_93 : decode cX5_homes 93 = .ok (.iinc 3 1, 3) := dk_132 3 1 (dk_at dksX5_homes_4 0 rfl rfl)
theorem dX5_homes_96 : decode cX5_homes 96 = .ok (.iinc 5 1, 3) := dk_132 5 1 (dk_at dksX5_homes_4 3 rfl rfl)
theorem dX5_homes_99 : decode cX5_homes 99 = .ok (.goto (-46), 3) := dk_167 255 210 (dk_at dksX5_homes_4 6 rfl rfl)
theorem dX5_homes_102 : decode cX5_homes 102 = .ok (.aload_n 0, 1) := dk_42 (dk_at dksX5_homes_4 9 rfl rfl)
theorem dX5_homes_103 : decode cX5_homes 103 = .ok (.iload_n 3, 1) := dk_29 (dk_at dksX5_homes_4 10 rfl rfl)
theorem dX5_homes_104 : decode cX5_homes 104 = .ok (.invokevirtual 513, 3) := dk_182 2 1 (dk_at dksX5_homes_4 11 rfl rfl)
theorem dX5_homes_107 : decode cX5_homes 107 = .ok (.istore 5, 2) := dk_54 5 (dk_at dksX5_homes_4 14 rfl rfl)
theorem dX5_homes_109 : decode cX5_homes 109 = .ok (.iload 5, 2) := dk_21 5 (dk_at dksX5_homes_4 16 rfl rfl)
theorem dX5_homes_111 : decode cX5_homes 111 = .ok (.iconst (-1), 1) := dk_2 (dk_at dksX5_homes_4 18 rfl rfl)
theorem dX5_homes_112 : decode cX5_homes 112 = .ok (.if_icmp .eq 7, 3) := dk_159 0 7 (dk_at dksX5_homes_4 19 rfl rfl)
theorem dX5_homes_115 : decode cX5_homes 115 = .ok (.iload_n 2, 1) := dk_28 (dk_at dksX5_homes_4 22 rfl rfl)
theorem dX5_homes_116 : decode cX5_homes 116 = .ok (.ifCond .ne 8, 3) := dk_154 0 8 (dk_at dksX5_homes_5 0 rfl rfl)
theorem dX5_homes_119 : decode cX5_homes 119 = .ok (.iload 5, 2) := dk_21 5 (dk_at dksX5_homes_5 3 rfl rfl)
theorem dX5_homes_121 : decode cX5_homes 121 = .ok (.goto 10, 3) := dk_167 0 10 (dk_at dksX5_homes_5 5 rfl rfl)
theorem dX5_homes_124 : decode cX5_homes 124 = .ok (.aload_n 0, 1) := dk_42 (dk_at dksX5_homes_5 8 rfl rfl)
theorem dX5_homes_125 : decode cX5_homes 125 = .ok (.getfield 134, 3) := dk_180 0 134 (dk_at dksX5_homes_5 9 rfl rfl)
theorem dX5_homes_128 : decode cX5_homes 128 = .ok (.iload 4, 2) := dk_21 4 (dk_at dksX5_homes_5 12 rfl rfl)
theorem dX5_homes_130 : decode cX5_homes 130 = .ok (.iaload, 1) := dk_46 (dk_at dksX5_homes_5 14 rfl rfl)
theorem dX5_homes_131 : decode cX5_homes 131 = .ok (.ireturn, 1) := dk_172 (dk_at dksX5_homes_5 15 rfl rfl)
abbrev cX5_findHomes : ByteArray := prog_22_method_95_code
def yX5_findHomes : MethodName := ⟨RX5, "findHomes", "(I)I"⟩
def dkwX5_findHomes_7 : List UInt8 := [167, 255, 233, 167, 255, 122, 132, 3, 1, 42, 180, 0, 131, 29, 2, 79, 167, 255, 109, 28, 172]
abbrev dktX5_findHomes_7 : List UInt8 := dkwX5_findHomes_7 ++ []
def dkwX5_findHomes_6 : List UInt8 := [21, 4, 27, 162, 0, 23, 42, 180, 0, 134, 21, 4, 42, 180, 0, 131, 21, 4, 46, 79, 132, 4, 1]
abbrev dktX5_findHomes_6 : List UInt8 := dkwX5_findHomes_6 ++ dktX5_findHomes_7
def dkwX5_findHomes_5 : List UInt8 := [46, 96, 28, 164, 255, 168, 29, 27, 4, 100, 160, 0, 42, 42, 180, 0, 140, 27, 46, 61, 3, 54, 4]
abbrev dktX5_findHomes_5 : List UInt8 := dkwX5_findHomes_5 ++ dktX5_findHomes_6
def dkwX5_findHomes_4 : List UInt8 := [180, 0, 131, 29, 46, 96, 46, 96, 79, 42, 180, 0, 140, 29, 4, 96, 46, 42, 180, 0, 137, 29, 4, 96]
abbrev dktX5_findHomes_4 : List UInt8 := dkwX5_findHomes_4 ++ dktX5_findHomes_5
def dkwX5_findHomes_3 : List UInt8 := [42, 180, 0, 140, 29, 4, 96, 42, 180, 0, 140, 29, 46, 42, 180, 0, 125, 16, 16, 29, 104, 42]
abbrev dktX5_findHomes_3 : List UInt8 := dkwX5_findHomes_3 ++ dktX5_findHomes_4
def dkwX5_findHomes_2 : List UInt8 := [180, 0, 131, 29, 46, 16, 16, 160, 0, 9, 132, 3, 255, 167, 255, 228, 42, 29, 182, 1, 250, 153, 255, 220]
abbrev dktX5_findHomes_2 : List UInt8 := dkwX5_findHomes_2 ++ dktX5_findHomes_3
def dkwX5_findHomes_1 : List UInt8 := [62, 42, 180, 0, 131, 3, 2, 79, 29, 155, 0, 149, 42, 180, 0, 131, 29, 92, 46, 4, 96, 79, 42]
abbrev dktX5_findHomes_1 : List UInt8 := dkwX5_findHomes_1 ++ dktX5_findHomes_2
def dkwX5_findHomes_0 : List UInt8 := [42, 27, 182, 1, 247, 27, 154, 0, 7, 3, 167, 0, 4, 2, 61, 27, 154, 0, 7, 2, 167, 0, 4, 3]
abbrev dktX5_findHomes_0 : List UInt8 := dkwX5_findHomes_0 ++ dktX5_findHomes_1
theorem dksX5_findHomes_0 : cX5_findHomes.data.toList.drop 0 = dktX5_findHomes_0 := by decide +kernel
theorem dksX5_findHomes_1 : cX5_findHomes.data.toList.drop 24 = dktX5_findHomes_1 := dk_seg dksX5_findHomes_0 24 rfl rfl
theorem dksX5_findHomes_2 : cX5_findHomes.data.toList.drop 47 = dktX5_findHomes_2 := dk_seg dksX5_findHomes_1 23 rfl rfl
theorem dksX5_findHomes_3 : cX5_findHomes.data.toList.drop 71 = dktX5_findHomes_3 := dk_seg dksX5_findHomes_2 24 rfl rfl
theorem dksX5_findHomes_4 : cX5_findHomes.data.toList.drop 93 = dktX5_findHomes_4 := dk_seg dksX5_findHomes_3 22 rfl rfl
theorem dksX5_findHomes_5 : cX5_findHomes.data.toList.drop 117 = dktX5_findHomes_5 := dk_seg dksX5_findHomes_4 24 rfl rfl
theorem dksX5_findHomes_6 : cX5_findHomes.data.toList.drop 140 = dktX5_findHomes_6 := dk_seg dksX5_findHomes_5 23 rfl rfl
theorem dksX5_findHomes_7 : cX5_findHomes.data.toList.drop 163 = dktX5_findHomes_7 := dk_seg dksX5_findHomes_6 23 rfl rfl
theorem dX5_findHomes_0 : decode cX5_findHomes 0 = .ok (.aload_n 0, 1) := dk_42 (dk_at dksX5_findHomes_0 0 rfl rfl)
theorem dX5_findHomes_1 : decode cX5_findHomes 1 = .ok (.iload_n 1, 1) := dk_27 (dk_at dksX5_findHomes_0 1 rfl rfl)
theorem dX5_findHomes_2 : decode cX5_findHomes 2 = .ok (.invokevirtual 503, 3) := dk_182 1 247 (dk_at dksX5_findHomes_0 2 rfl rfl)
theorem dX5_findHomes_5 : decode cX5_findHomes 5 = .ok (.iload_n 1, 1) := dk_27 (dk_at dksX5_findHomes_0 5 rfl rfl)
theorem dX5_findHomes_6 : decode cX5_findHomes 6 = .ok (.ifCond .ne 7, 3) := dk_154 0 7 (dk_at dksX5_findHomes_0 6 rfl rfl)
theorem dX5_findHomes_9 : decode cX5_findHomes 9 = .ok (.iconst 0, 1) := dk_3 (dk_at dksX5_findHomes_0 9 rfl rfl)
theorem dX5_findHomes_10 : decode cX5_findHomes 10 = .ok (.goto 4, 3) := dk_167 0 4 (dk_at dksX5_findHomes_0 10 rfl rfl)
theorem dX5_findHomes_13 : decode cX5_findHomes 13 = .ok (.iconst (-1), 1) := dk_2 (dk_at dksX5_findHomes_0 13 rfl rfl)
theorem dX5_findHomes_14 : decode cX5_findHomes 14 = .ok (.istore_n 2, 1) := dk_61 (dk_at dksX5_findHomes_0 14 rfl rfl)
theorem dX5_findHomes_15 : decode cX5_findHomes 15 = .ok (.iload_n 1, 1) := dk_27 (dk_at dksX5_findHomes_0 15 rfl rfl)
theorem dX5_findHomes_16 : decode cX5_findHomes 16 = .ok (.ifCond .ne 7, 3) := dk_154 0 7 (dk_at dksX5_findHomes_0 16 rfl rfl)
theorem dX5_findHomes_19 : decode cX5_findHomes 19 = .ok (.iconst (-1), 1) := dk_2 (dk_at dksX5_findHomes_0 19 rfl rfl)
theorem dX5_findHomes_20 : decode cX5_findHomes 20 = .ok (.goto 4, 3) := dk_167 0 4 (dk_at dksX5_findHomes_0 20 rfl rfl)
theorem dX5_findHomes_23 : decode cX5_findHomes 23 = .ok (.iconst 0, 1) := dk_3 (dk_at dksX5_findHomes_0 23 rfl rfl)
theorem dX5_findHomes_24 : decode cX5_findHomes 24 = .ok (.istore_n 3, 1) := dk_62 (dk_at dksX5_findHomes_1 0 rfl rfl)
theorem dX5_findHomes_25 : decode cX5_findHomes 25 = .ok (.aload_n 0, 1) := dk_42 (dk_at dksX5_findHomes_1 1 rfl rfl)
theorem dX5_findHomes_26 : decode cX5_findHomes 26 = .ok (.getfield 131, 3) := dk_180 0 131 (dk_at dksX5_findHomes_1 2 rfl rfl)
theorem dX5_findHomes_29 : decode cX5_findHomes 29 = .ok (.iconst 0, 1) := dk_3 (dk_at dksX5_findHomes_1 5 rfl rfl)
theorem dX5_findHomes_30 : decode cX5_findHomes 30 = .ok (.iconst (-1), 1) := dk_2 (dk_at dksX5_findHomes_1 6 rfl rfl)
theorem dX5_findHomes_31 : decode cX5_findHomes 31 = .ok (.iastore, 1) := dk_79 (dk_at dksX5_findHomes_1 7 rfl rfl)
theorem dX5_findHomes_32 : decode cX5_findHomes 32 = .ok (.iload_n 3, 1) := dk_29 (dk_at dksX5_findHomes_1 8 rfl rfl)
theorem dX5_findHomes_33 : decode cX5_findHomes 33 = .ok (.ifCond .lt 149, 3) := dk_155 0 149 (dk_at dksX5_findHomes_1 9 rfl rfl)
theorem dX5_findHomes_36 : decode cX5_findHomes 36 = .ok (.aload_n 0, 1) := dk_42 (dk_at dksX5_findHomes_1 12 rfl rfl)
theorem dX5_findHomes_37 : decode cX5_findHomes 37 = .ok (.getfield 131, 3) := dk_180 0 131 (dk_at dksX5_findHomes_1 13 rfl rfl)
theorem dX5_findHomes_40 : decode cX5_findHomes 40 = .ok (.iload_n 3, 1) := dk_29 (dk_at dksX5_findHomes_1 16 rfl rfl)
theorem dX5_findHomes_41 : decode cX5_findHomes 41 = .ok (.dup2, 1) := dk_92 (dk_at dksX5_findHomes_1 17 rfl rfl)
theorem dX5_findHomes_42 : decode cX5_findHomes 42 = .ok (.iaload, 1) := dk_46 (dk_at dksX5_findHomes_1 18 rfl rfl)
theorem dX5_findHomes_43 : decode cX5_findHomes 43 = .ok (.iconst 1, 1) := dk_4 (dk_at dksX5_findHomes_1 19 rfl rfl)
theorem dX5_findHomes_44 : decode cX5_findHomes 44 = .ok (.iadd, 1) := dk_96 (dk_at dksX5_findHomes_1 20 rfl rfl)
theorem dX5_findHomes_45 : decode cX5_findHomes 45 = .ok (.iastore, 1) := dk_79 (dk_at dksX5_findHomes_1 21 rfl rfl)
theorem dX5_findHomes_46 : decode cX5_findHomes 46 = .ok (.aload_n 0, 1) := dk_42 (dk_at dksX5_findHomes_1 22 rfl rfl)
theorem dX5_findHomes_47 : decode cX5_findHomes 47 = .ok (.getfield 131, 3) := dk_180 0 131 (dk_at dksX5_findHomes_2 0 rfl rfl)
theorem dX5_findHomes_50 : decode cX5_findHomes 50 = .ok (.iload_n 3, 1) := dk_29 (dk_at dksX5_findHomes_2 3 rfl rfl)
theorem dX5_findHomes_51 : decode cX5_findHomes 51 = .ok (.iaload, 1) := dk_46 (dk_at dksX5_findHomes_2 4 rfl rfl)
theorem dX5_findHomes_52 : decode cX5_findHomes 52 = .ok (.bipush 16, 2) := dk_16 16 (dk_at dksX5_findHomes_2 5 rfl rfl)
theorem dX5_findHomes_54 : decode cX5_findHomes 54 = .ok (.if_icmp .ne 9, 3) := dk_160 0 9 (dk_at dksX5_findHomes_2 7 rfl rfl)
theorem dX5_findHomes_57 : decode cX5_findHomes 57 = .ok (.iinc 3 (-1), 3) := dk_132 3 255 (dk_at dksX5_findHomes_2 10 rfl rfl)
theorem dX5_findHomes_60 : decode cX5_findHomes 60 = .ok (.goto (-28), 3) := dk_167 255 228 (dk_at dksX5_findHomes_2 13 rfl rfl)
theorem dX5_findHomes_63 : decode cX5_findHomes 63 = .ok (.aload_n 0, 1) := dk_42 (dk_at dksX5_findHomes_2 16 rfl rfl)
theorem dX5_findHomes_64 : decode cX5_findHomes 64 = .ok (.iload_n 3, 1) := dk_29 (dk_at dksX5_findHomes_2 17 rfl rfl)
theorem dX5_findHomes_65 : decode cX5_findHomes 65 = .ok (.invokevirtual 506, 3) := dk_182 1 250 (dk_at dksX5_findHomes_2 18 rfl rfl)
theorem dX5_findHomes_68 : decode cX5_findHomes 68 = .ok (.ifCond .eq (-36), 3) := dk_153 255 220 (dk_at dksX5_findHomes_2 21 rfl rfl)
theorem dX5_findHomes_71 : decode cX5_findHomes 71 = .ok (.aload_n 0, 1) := dk_42 (dk_at dksX5_findHomes_3 0 rfl rfl)
theorem dX5_findHomes_72 : decode cX5_findHomes 72 = .ok (.getfield 140, 3) := dk_180 0 140 (dk_at dksX5_findHomes_3 1 rfl rfl)
theorem dX5_findHomes_75 : decode cX5_findHomes 75 = .ok (.iload_n 3, 1) := dk_29 (dk_at dksX5_findHomes_3 4 rfl rfl)
theorem dX5_findHomes_76 : decode cX5_findHomes 76 = .ok (.iconst 1, 1) := dk_4 (dk_at dksX5_findHomes_3 5 rfl rfl)
theorem dX5_findHomes_77 : decode cX5_findHomes 77 = .ok (.iadd, 1) := dk_96 (dk_at dksX5_findHomes_3 6 rfl rfl)
theorem dX5_findHomes_78 : decode cX5_findHomes 78 = .ok (.aload_n 0, 1) := dk_42 (dk_at dksX5_findHomes_3 7 rfl rfl)
theorem dX5_findHomes_79 : decode cX5_findHomes 79 = .ok (.getfield 140, 3) := dk_180 0 140 (dk_at dksX5_findHomes_3 8 rfl rfl)
theorem dX5_findHomes_82 : decode cX5_findHomes 82 = .ok (.iload_n 3, 1) := dk_29 (dk_at dksX5_findHomes_3 11 rfl rfl)
theorem dX5_findHomes_83 : decode cX5_findHomes 83 = .ok (.iaload, 1) := dk_46 (dk_at dksX5_findHomes_3 12 rfl rfl)
theorem dX5_findHomes_84 : decode cX5_findHomes 84 = .ok (.aload_n 0, 1) := dk_42 (dk_at dksX5_findHomes_3 13 rfl rfl)
theorem dX5_findHomes_85 : decode cX5_findHomes 85 = .ok (.getfield 125, 3) := dk_180 0 125 (dk_at dksX5_findHomes_3 14 rfl rfl)
theorem dX5_findHomes_88 : decode cX5_findHomes 88 = .ok (.bipush 16, 2) := dk_16 16 (dk_at dksX5_findHomes_3 17 rfl rfl)
theorem dX5_findHomes_90 : decode cX5_findHomes 90 = .ok (.iload_n 3, 1) := dk_29 (dk_at dksX5_findHomes_3 19 rfl rfl)
theorem dX5_findHomes_91 : decode cX5_findHomes 91 = .ok (.imul, 1) := dk_104 (dk_at dksX5_findHomes_3 20 rfl rfl)
theorem dX5_findHomes_92 : decode cX5_findHomes 92 = .ok (.aload_n 0, 1) := dk_42 (dk_at dksX5_findHomes_3 21 rfl rfl)
theorem dX5_findHomes_93 : decode cX5_findHomes 93 = .ok (.getfield 131, 3) := dk_180 0 131 (dk_at dksX5_findHomes_4 0 rfl rfl)
theorem dX5_findHomes_96 : decode cX5_findHomes 96 = .ok (.iload_n 3, 1) := dk_29 (dk_at dksX5_findHomes_4 3 rfl rfl)
theorem dX5_findHomes_97 : decode cX5_findHomes 97 = .ok (.iaload, 1) := dk_46 (dk_at dksX5_findHomes_4 4 rfl rfl)
theorem dX5_findHomes_98 : decode cX5_findHomes 98 = .ok (.iadd, 1) := dk_96 (dk_at dksX5_findHomes_4 5 rfl rfl)
theorem dX5_findHomes_99 : decode cX5_findHomes 99 = .ok (.iaload, 1) := dk_46 (dk_at dksX5_findHomes_4 6 rfl rfl)
theorem dX5_findHomes_100 : decode cX5_findHomes 100 = .ok (.iadd, 1) := dk_96 (dk_at dksX5_findHomes_4 7 rfl rfl)
theorem dX5_findHomes_101 : decode cX5_findHomes 101 = .ok (.iastore, 1) := dk_79 (dk_at dksX5_findHomes_4 8 rfl rfl)
theorem dX5_findHomes_102 : decode cX5_findHomes 102 = .ok (.aload_n 0, 1) := dk_42 (dk_at dksX5_findHomes_4 9 rfl rfl)
theorem dX5_findHomes_103 : decode cX5_findHomes 103 = .ok (.getfield 140, 3) := dk_180 0 140 (dk_at dksX5_findHomes_4 10 rfl rfl)
theorem dX5_findHomes_106 : decode cX5_findHomes 106 = .ok (.iload_n 3, 1) := dk_29 (dk_at dksX5_findHomes_4 13 rfl rfl)
theorem dX5_findHomes_107 : decode cX5_findHomes 107 = .ok (.iconst 1, 1) := dk_4 (dk_at dksX5_findHomes_4 14 rfl rfl)
theorem dX5_findHomes_108 : decode cX5_findHomes 108 = .ok (.iadd, 1) := dk_96 (dk_at dksX5_findHomes_4 15 rfl rfl)
theorem dX5_findHomes_109 : decode cX5_findHomes 109 = .ok (.iaload, 1) := dk_46 (dk_at dksX5_findHomes_4 16 rfl rfl)
theorem dX5_findHomes_110 : decode cX5_findHomes 110 = .ok (.aload_n 0, 1) := dk_42 (dk_at dksX5_findHomes_4 17 rfl rfl)
theorem dX5_findHomes_111 : decode cX5_findHomes 111 = .ok (.getfield 137, 3) := dk_180 0 137 (dk_at dksX5_findHomes_4 18 rfl rfl)
theorem dX5_findHomes_114 : decode cX5_findHomes 114 = .ok (.iload_n 3, 1) := dk_29 (dk_at dksX5_findHomes_4 21 rfl rfl)
theorem dX5_findHomes_115 : decode cX5_findHomes 115 = .ok (.iconst 1, 1) := dk_4 (dk_at dksX5_findHomes_4 22 rfl rfl)
theorem dX5_findHomes_116 : decode cX5_findHomes 116 = .ok (.iadd, 1) := dk_96 (dk_at dksX5_findHomes_4 23 rfl rfl)
theorem dX5_findHomes_117 : decode cX5_findHomes 117 = .ok (.iaload, 1) := dk_46 (dk_at dksX5_findHomes_5 0 rfl rfl)
theorem dX5_findHomes_118 : decode cX5_findHomes 118 = .ok (.iadd, 1) := dk_96 (dk_at dksX5_findHomes_5 1 rfl rfl)
theorem dX5_findHomes_119 : decode cX5_findHomes 119 = .ok (.iload_n 2, 1) := dk_28 (dk_at dksX5_findHomes_5 2 rfl rfl)
theorem dX5_findHomes_120 : decode cX5_findHomes 120 = .ok (.if_icmp .le (-88), 3) := dk_164 255 168 (dk_at dksX5_findHomes_5 3 rfl rfl)
theorem dX5_findHomes_123 : decode cX5_findHomes 123 = .ok (.iload_n 3, 1) := dk_29 (dk_at dksX5_findHomes_5 6 rfl rfl)
theorem dX5_findHomes_124 : decode cX5_findHomes 124 = .ok (.iload_n 1, 1) := dk_27 (dk_at dksX5_findHomes_5 7 rfl rfl)
theorem dX5_findHomes_125 : decode cX5_findHomes 125 = .ok (.iconst 1, 1) := dk_4 (dk_at dksX5_findHomes_5 8 rfl rfl)
theorem dX5_findHomes_126 : decode cX5_findHomes 126 = .ok (.isub, 1) := dk_100 (dk_at dksX5_findHomes_5 9 rfl rfl)
theorem dX5_findHomes_127 : decode cX5_findHomes 127 = .ok (.if_icmp .ne 42, 3) := dk_160 0 42 (dk_at dksX5_findHomes_5 10 rfl rfl)
theorem dX5_findHomes_130 : decode cX5_findHomes 130 = .ok (.aload_n 0, 1) := dk_42 (dk_at dksX5_findHomes_5 13 rfl rfl)
theorem dX5_findHomes_131 : decode cX5_findHomes 131 = .ok (.getfield 140, 3) := dk_180 0 140 (dk_at dksX5_findHomes_5 14 rfl rfl)
theorem dX5_findHomes_134 : decode cX5_findHomes 134 = .ok (.iload_n 1, 1) := dk_27 (dk_at dksX5_findHomes_5 17 rfl rfl)
theorem dX5_findHomes_135 : decode cX5_findHomes 135 = .ok (.iaload, 1) := dk_46 (dk_at dksX5_findHomes_5 18 rfl rfl)
theorem dX5_findHomes_136 : decode cX5_findHomes 136 = .ok (.istore_n 2, 1) := dk_61 (dk_at dksX5_findHomes_5 19 rfl rfl)
theorem dX5_findHomes_137 : decode cX5_findHomes 137 = .ok (.iconst 0, 1) := dk_3 (dk_at dksX5_findHomes_5 20 rfl rfl)
theorem dX5_findHomes_138 : decode cX5_findHomes 138 = .ok (.istore 4, 2) := dk_54 4 (dk_at dksX5_findHomes_5 21 rfl rfl)
theorem dX5_findHomes_140 : decode cX5_findHomes 140 = .ok (.iload 4, 2) := dk_21 4 (dk_at dksX5_findHomes_6 0 rfl rfl)
theorem dX5_findHomes_142 : decode cX5_findHomes 142 = .ok (.iload_n 1, 1) := dk_27 (dk_at dksX5_findHomes_6 2 rfl rfl)
theorem dX5_findHomes_143 : decode cX5_findHomes 143 = .ok (.if_icmp .ge 23, 3) := dk_162 0 23 (dk_at dksX5_findHomes_6 3 rfl rfl)
theorem dX5_findHomes_146 : decode cX5_findHomes 146 = .ok (.aload_n 0, 1) := dk_42 (dk_at dksX5_findHomes_6 6 rfl rfl)
theorem dX5_findHomes_147 : decode cX5_findHomes 147 = .ok (.getfield 134, 3) := dk_180 0 134 (dk_at dksX5_findHomes_6 7 rfl rfl)
theorem dX5_findHomes_150 : decode cX5_findHomes 150 = .ok (.iload 4, 2) := dk_21 4 (dk_at dksX5_findHomes_6 10 rfl rfl)
theorem dX5_findHomes_152 : decode cX5_findHomes 152 = .ok (.aload_n 0, 1) := dk_42 (dk_at dksX5_findHomes_6 12 rfl rfl)
theorem dX5_findHomes_153 : decode cX5_findHomes 153 = .ok (.getfield 131, 3) := dk_180 0 131 (dk_at dksX5_findHomes_6 13 rfl rfl)
theorem dX5_findHomes_156 : decode cX5_findHomes 156 = .ok (.iload 4, 2) := dk_21 4 (dk_at dksX5_findHomes_6 16 rfl rfl)
theorem dX5_findHomes_158 : decode cX5_findHomes 158 = .ok (.iaload, 1) := dk_46 (dk_at dksX5_findHomes_6 18 rfl rfl)
theorem dX5_findHomes_159 : decode cX5_findHomes 159 = .ok (.iastore, 1) := dk_79 (dk_at dksX5_findHomes_6 19 rfl rfl)
theorem dX5_findHomes_160 : decode cX5_findHomes 160 = .ok (.iinc 4 1, 3) := dk_132 4 1 (dk_at dksX5_findHomes_6 20 rfl rfl)
theorem dX5_findHomes_163 : decode cX5_findHomes 163 = .ok (.goto (-23), 3) := dk_167 255 233 (dk_at dksX5_findHomes_7 0 rfl rfl)
theorem dX5_findHomes_166 : decode cX5_findHomes 166 = .ok (.goto (-134), 3) := dk_167 255 122 (dk_at dksX5_findHomes_7 3 rfl rfl)
theorem dX5_findHomes_169 : decode cX5_findHomes 169 = .ok (.iinc 3 1, 3) := dk_132 3 1 (dk_at dksX5_findHomes_7 6 rfl rfl)
theorem dX5_findHomes_172 : decode cX5_findHomes 172 = .ok (.aload_n 0, 1) := dk_42 (dk_at dksX5_findHomes_7 9 rfl rfl)
theorem dX5_findHomes_173 : decode cX5_findHomes 173 = .ok (.getfield 131, 3) := dk_180 0 131 (dk_at dksX5_findHomes_7 10 rfl rfl)
theorem dX5_findHomes_176 : decode cX5_findHomes 176 = .ok (.iload_n 3, 1) := dk_29 (dk_at dksX5_findHomes_7 13 rfl rfl)
theorem dX5_findHomes_177 : decode cX5_findHomes 177 = .ok (.iconst (-1), 1) := dk_2 (dk_at dksX5_findHomes_7 14 rfl rfl)
theorem dX5_findHomes_178 : decode cX5_findHomes 178 = .ok (.iastore, 1) := dk_79 (dk_at dksX5_findHomes_7 15 rfl rfl)
theorem dX5_findHomes_179 : decode cX5_findHomes 179 = .ok (.goto (-147), 3) := dk_167 255 109 (dk_at dksX5_findHomes_7 16 rfl rfl)
theorem dX5_findHomes_182 : decode cX5_findHomes 182 = .ok (.iload_n 2, 1) := dk_28 (dk_at dksX5_findHomes_7 19 rfl rfl)
theorem dX5_findHomes_183 : decode cX5_findHomes 183 = .ok (.ireturn, 1) := dk_172 (dk_at dksX5_findHomes_7 20 rfl rfl)
abbrev cX5_laySuits : ByteArray := prog_22_method_93_code
def yX5_laySuits : MethodName := ⟨RX5, "laySuits", "(I)V"⟩
def dkwX5_laySuits_6 : List UInt8 := [180, 0, 137, 28, 42, 180, 0, 137, 28, 4, 96, 46, 29, 96, 79, 132, 2, 255, 167, 255, 182, 177]
abbrev dktX5_laySuits_6 : List UInt8 := dkwX5_laySuits_6 ++ []
def dkwX5_laySuits_5 : List UInt8 := [180, 0, 125, 16, 16, 28, 104, 21, 4, 96, 46, 167, 0, 4, 29, 62, 132, 4, 1, 167, 255, 213, 42]
abbrev dktX5_laySuits_5 : List UInt8 := dkwX5_laySuits_5 ++ dktX5_laySuits_6
def dkwX5_laySuits_4 : List UInt8 := [21, 4, 16, 16, 162, 0, 42, 42, 180, 0, 125, 16, 16, 28, 104, 21, 4, 96, 46, 29, 164, 0, 18, 42]
abbrev dktX5_laySuits_4 : List UInt8 := dkwX5_laySuits_4 ++ dktX5_laySuits_5
def dkwX5_laySuits_3 : List UInt8 := [167, 255, 186, 42, 180, 0, 137, 27, 3, 79, 27, 4, 100, 61, 28, 155, 0, 76, 3, 62, 3, 54, 4]
abbrev dktX5_laySuits_3 : List UInt8 := dkwX5_laySuits_3 ++ dktX5_laySuits_4
def dkwX5_laySuits_2 : List UInt8 := [167, 0, 14, 42, 42, 180, 0, 128, 28, 46, 29, 182, 1, 186, 79, 132, 3, 1, 167, 255, 199, 132, 2, 1]
abbrev dktX5_laySuits_2 : List UInt8 := dkwX5_laySuits_2 ++ dktX5_laySuits_3
def dkwX5_laySuits_1 : List UInt8 := [96, 42, 29, 182, 0, 217, 154, 0, 17, 42, 42, 180, 0, 128, 28, 46, 29, 182, 1, 189, 153, 0, 7, 2]
abbrev dktX5_laySuits_1 : List UInt8 := dkwX5_laySuits_1 ++ dktX5_laySuits_2
def dkwX5_laySuits_0 : List UInt8 := [3, 61, 28, 27, 162, 0, 71, 3, 62, 29, 16, 16, 162, 0, 57, 42, 180, 0, 125, 16, 16, 28, 104, 29]
abbrev dktX5_laySuits_0 : List UInt8 := dkwX5_laySuits_0 ++ dktX5_laySuits_1
theorem dksX5_laySuits_0 : cX5_laySuits.data.toList.drop 0 = dktX5_laySuits_0 := by decide +kernel
theorem dksX5_laySuits_1 : cX5_laySuits.data.toList.drop 24 = dktX5_laySuits_1 := dk_seg dksX5_laySuits_0 24 rfl rfl
theorem dksX5_laySuits_2 : cX5_laySuits.data.toList.drop 48 = dktX5_laySuits_2 := dk_seg dksX5_laySuits_1 24 rfl rfl
theorem dksX5_laySuits_3 : cX5_laySuits.data.toList.drop 72 = dktX5_laySuits_3 := dk_seg dksX5_laySuits_2 24 rfl rfl
theorem dksX5_laySuits_4 : cX5_laySuits.data.toList.drop 95 = dktX5_laySuits_4 := dk_seg dksX5_laySuits_3 23 rfl rfl
theorem dksX5_laySuits_5 : cX5_laySuits.data.toList.drop 119 = dktX5_laySuits_5 := dk_seg dksX5_laySuits_4 24 rfl rfl
theorem dksX5_laySuits_6 : cX5_laySuits.data.toList.drop 142 = dktX5_laySuits_6 := dk_seg dksX5_laySuits_5 23 rfl rfl
theorem dX5_laySuits_0 : decode cX5_laySuits 0 = .ok (.iconst 0, 1) := dk_3 (dk_at dksX5_laySuits_0 0 rfl rfl)
theorem dX5_laySuits_1 : decode cX5_laySuits 1 = .ok (.istore_n 2, 1) := dk_61 (dk_at dksX5_laySuits_0 1 rfl rfl)
theorem dX5_laySuits_2 : decode cX5_laySuits 2 = .ok (.iload_n 2, 1) := dk_28 (dk_at dksX5_laySuits_0 2 rfl rfl)
theorem dX5_laySuits_3 : decode cX5_laySuits 3 = .ok (.iload_n 1, 1) := dk_27 (dk_at dksX5_laySuits_0 3 rfl rfl)
theorem dX5_laySuits_4 : decode cX5_laySuits 4 = .ok (.if_icmp .ge 71, 3) := dk_162 0 71 (dk_at dksX5_laySuits_0 4 rfl rfl)
theorem dX5_laySuits_7 : decode cX5_laySuits 7 = .ok (.iconst 0, 1) := dk_3 (dk_at dksX5_laySuits_0 7 rfl rfl)
theorem dX5_laySuits_8 : decode cX5_laySuits 8 = .ok (.istore_n 3, 1) := dk_62 (dk_at dksX5_laySuits_0 8 rfl rfl)
theorem dX5_laySuits_9 : decode cX5_laySuits 9 = .ok (.iload_n 3, 1) := dk_29 (dk_at dksX5_laySuits_0 9 rfl rfl)
theorem dX5_laySuits_10 : decode cX5_laySuits 10 = .ok (.bipush 16, 2) := dk_16 16 (dk_at dksX5_laySuits_0 10 rfl rfl)
theorem dX5_laySuits_12 : decode cX5_laySuits 12 = .ok (.if_icmp .ge 57, 3) := dk_162 0 57 (dk_at dksX5_laySuits_0 12 rfl rfl)
theorem dX5_laySuits_15 : decode cX5_laySuits 15 = .ok (.aload_n 0, 1) := dk_42 (dk_at dksX5_laySuits_0 15 rfl rfl)
theorem dX5_laySuits_16 : decode cX5_laySuits 16 = .ok (.getfield 125, 3) := dk_180 0 125 (dk_at dksX5_laySuits_0 16 rfl rfl)
theorem dX5_laySuits_19 : decode cX5_laySuits 19 = .ok (.bipush 16, 2) := dk_16 16 (dk_at dksX5_laySuits_0 19 rfl rfl)
theorem dX5_laySuits_21 : decode cX5_laySuits 21 = .ok (.iload_n 2, 1) := dk_28 (dk_at dksX5_laySuits_0 21 rfl rfl)
theorem dX5_laySuits_22 : decode cX5_laySuits 22 = .ok (.imul, 1) := dk_104 (dk_at dksX5_laySuits_0 22 rfl rfl)
theorem dX5_laySuits_23 : decode cX5_laySuits 23 = .ok (.iload_n 3, 1) := dk_29 (dk_at dksX5_laySuits_0 23 rfl rfl)
theorem dX5_laySuits_24 : decode cX5_laySuits 24 = .ok (.iadd, 1) := dk_96 (dk_at dksX5_laySuits_1 0 rfl rfl)
theorem dX5_laySuits_25 : decode cX5_laySuits 25 = .ok (.aload_n 0, 1) := dk_42 (dk_at dksX5_laySuits_1 1 rfl rfl)
theorem dX5_laySuits_26 : decode cX5_laySuits 26 = .ok (.iload_n 3, 1) := dk_29 (dk_at dksX5_laySuits_1 2 rfl rfl)
theorem dX5_laySuits_27 : decode cX5_laySuits 27 = .ok (.invokevirtual 217, 3) := dk_182 0 217 (dk_at dksX5_laySuits_1 3 rfl rfl)
theorem dX5_laySuits_30 : decode cX5_laySuits 30 = .ok (.ifCond .ne 17, 3) := dk_154 0 17 (dk_at dksX5_laySuits_1 6 rfl rfl)
theorem dX5_laySuits_33 : decode cX5_laySuits 33 = .ok (.aload_n 0, 1) := dk_42 (dk_at dksX5_laySuits_1 9 rfl rfl)
theorem dX5_laySuits_34 : decode cX5_laySuits 34 = .ok (.aload_n 0, 1) := dk_42 (dk_at dksX5_laySuits_1 10 rfl rfl)
theorem dX5_laySuits_35 : decode cX5_laySuits 35 = .ok (.getfield 128, 3) := dk_180 0 128 (dk_at dksX5_laySuits_1 11 rfl rfl)
theorem dX5_laySuits_38 : decode cX5_laySuits 38 = .ok (.iload_n 2, 1) := dk_28 (dk_at dksX5_laySuits_1 14 rfl rfl)
theorem dX5_laySuits_39 : decode cX5_laySuits 39 = .ok (.iaload, 1) := dk_46 (dk_at dksX5_laySuits_1 15 rfl rfl)
theorem dX5_laySuits_40 : decode cX5_laySuits 40 = .ok (.iload_n 3, 1) := dk_29 (dk_at dksX5_laySuits_1 16 rfl rfl)
theorem dX5_laySuits_41 : decode cX5_laySuits 41 = .ok (.invokevirtual 445, 3) := dk_182 1 189 (dk_at dksX5_laySuits_1 17 rfl rfl)
theorem dX5_laySuits_44 : decode cX5_laySuits 44 = .ok (.ifCond .eq 7, 3) := dk_153 0 7 (dk_at dksX5_laySuits_1 20 rfl rfl)
theorem dX5_laySuits_47 : decode cX5_laySuits 47 = .ok (.iconst (-1), 1) := dk_2 (dk_at dksX5_laySuits_1 23 rfl rfl)
theorem dX5_laySuits_48 : decode cX5_laySuits 48 = .ok (.goto 14, 3) := dk_167 0 14 (dk_at dksX5_laySuits_2 0 rfl rfl)
theorem dX5_laySuits_51 : decode cX5_laySuits 51 = .ok (.aload_n 0, 1) := dk_42 (dk_at dksX5_laySuits_2 3 rfl rfl)
theorem dX5_laySuits_52 : decode cX5_laySuits 52 = .ok (.aload_n 0, 1) := dk_42 (dk_at dksX5_laySuits_2 4 rfl rfl)
theorem dX5_laySuits_53 : decode cX5_laySuits 53 = .ok (.getfield 128, 3) := dk_180 0 128 (dk_at dksX5_laySuits_2 5 rfl rfl)
theorem dX5_laySuits_56 : decode cX5_laySuits 56 = .ok (.iload_n 2, 1) := dk_28 (dk_at dksX5_laySuits_2 8 rfl rfl)
theorem dX5_laySuits_57 : decode cX5_laySuits 57 = .ok (.iaload, 1) := dk_46 (dk_at dksX5_laySuits_2 9 rfl rfl)
theorem dX5_laySuits_58 : decode cX5_laySuits 58 = .ok (.iload_n 3, 1) := dk_29 (dk_at dksX5_laySuits_2 10 rfl rfl)
theorem dX5_laySuits_59 : decode cX5_laySuits 59 = .ok (.invokevirtual 442, 3) := dk_182 1 186 (dk_at dksX5_laySuits_2 11 rfl rfl)
theorem dX5_laySuits_62 : decode cX5_laySuits 62 = .ok (.iastore, 1) := dk_79 (dk_at dksX5_laySuits_2 14 rfl rfl)
theorem dX5_laySuits_63 : decode cX5_laySuits 63 = .ok (.iinc 3 1, 3) := dk_132 3 1 (dk_at dksX5_laySuits_2 15 rfl rfl)
theorem dX5_laySuits_66 : decode cX5_laySuits 66 = .ok (.goto (-57), 3) := dk_167 255 199 (dk_at dksX5_laySuits_2 18 rfl rfl)
theorem dX5_laySuits_69 : decode cX5_laySuits 69 = .ok (.iinc 2 1, 3) := dk_132 2 1 (dk_at dksX5_laySuits_2 21 rfl rfl)
theorem dX5_laySuits_72 : decode cX5_laySuits 72 = .ok (.goto (-70), 3) := dk_167 255 186 (dk_at dksX5_laySuits_3 0 rfl rfl)
theorem dX5_laySuits_75 : decode cX5_laySuits 75 = .ok (.aload_n 0, 1) := dk_42 (dk_at dksX5_laySuits_3 3 rfl rfl)
theorem dX5_laySuits_76 : decode cX5_laySuits 76 = .ok (.getfield 137, 3) := dk_180 0 137 (dk_at dksX5_laySuits_3 4 rfl rfl)
theorem dX5_laySuits_79 : decode cX5_laySuits 79 = .ok (.iload_n 1, 1) := dk_27 (dk_at dksX5_laySuits_3 7 rfl rfl)
theorem dX5_laySuits_80 : decode cX5_laySuits 80 = .ok (.iconst 0, 1) := dk_3 (dk_at dksX5_laySuits_3 8 rfl rfl)
theorem dX5_laySuits_81 : decode cX5_laySuits 81 = .ok (.iastore, 1) := dk_79 (dk_at dksX5_laySuits_3 9 rfl rfl)
theorem dX5_laySuits_82 : decode cX5_laySuits 82 = .ok (.iload_n 1, 1) := dk_27 (dk_at dksX5_laySuits_3 10 rfl rfl)
theorem dX5_laySuits_83 : decode cX5_laySuits 83 = .ok (.iconst 1, 1) := dk_4 (dk_at dksX5_laySuits_3 11 rfl rfl)
theorem dX5_laySuits_84 : decode cX5_laySuits 84 = .ok (.isub, 1) := dk_100 (dk_at dksX5_laySuits_3 12 rfl rfl)
theorem dX5_laySuits_85 : decode cX5_laySuits 85 = .ok (.istore_n 2, 1) := dk_61 (dk_at dksX5_laySuits_3 13 rfl rfl)
theorem dX5_laySuits_86 : decode cX5_laySuits 86 = .ok (.iload_n 2, 1) := dk_28 (dk_at dksX5_laySuits_3 14 rfl rfl)
theorem dX5_laySuits_87 : decode cX5_laySuits 87 = .ok (.ifCond .lt 76, 3) := dk_155 0 76 (dk_at dksX5_laySuits_3 15 rfl rfl)
theorem dX5_laySuits_90 : decode cX5_laySuits 90 = .ok (.iconst 0, 1) := dk_3 (dk_at dksX5_laySuits_3 18 rfl rfl)
theorem dX5_laySuits_91 : decode cX5_laySuits 91 = .ok (.istore_n 3, 1) := dk_62 (dk_at dksX5_laySuits_3 19 rfl rfl)
theorem dX5_laySuits_92 : decode cX5_laySuits 92 = .ok (.iconst 0, 1) := dk_3 (dk_at dksX5_laySuits_3 20 rfl rfl)
theorem dX5_laySuits_93 : decode cX5_laySuits 93 = .ok (.istore 4, 2) := dk_54 4 (dk_at dksX5_laySuits_3 21 rfl rfl)
theorem dX5_laySuits_95 : decode cX5_laySuits 95 = .ok (.iload 4, 2) := dk_21 4 (dk_at dksX5_laySuits_4 0 rfl rfl)
theorem dX5_laySuits_97 : decode cX5_laySuits 97 = .ok (.bipush 16, 2) := dk_16 16 (dk_at dksX5_laySuits_4 2 rfl rfl)
theorem dX5_laySuits_99 : decode cX5_laySuits 99 = .ok (.if_icmp .ge 42, 3) := dk_162 0 42 (dk_at dksX5_laySuits_4 4 rfl rfl)
theorem dX5_laySuits_102 : decode cX5_laySuits 102 = .ok (.aload_n 0, 1) := dk_42 (dk_at dksX5_laySuits_4 7 rfl rfl)
theorem dX5_laySuits_103 : decode cX5_laySuits 103 = .ok (.getfield 125, 3) := dk_180 0 125 (dk_at dksX5_laySuits_4 8 rfl rfl)
theorem dX5_laySuits_106 : decode cX5_laySuits 106 = .ok (.bipush 16, 2) := dk_16 16 (dk_at dksX5_laySuits_4 11 rfl rfl)
theorem dX5_laySuits_108 : decode cX5_laySuits 108 = .ok (.iload_n 2, 1) := dk_28 (dk_at dksX5_laySuits_4 13 rfl rfl)
theorem dX5_laySuits_109 : decode cX5_laySuits 109 = .ok (.imul, 1) := dk_104 (dk_at dksX5_laySuits_4 14 rfl rfl)
theorem dX5_laySuits_110 : decode cX5_laySuits 110 = .ok (.iload 4, 2) := dk_21 4 (dk_at dksX5_laySuits_4 15 rfl rfl)
theorem dX5_laySuits_112 : decode cX5_laySuits 112 = .ok (.iadd, 1) := dk_96 (dk_at dksX5_laySuits_4 17 rfl rfl)
theorem dX5_laySuits_113 : decode cX5_laySuits 113 = .ok (.iaload, 1) := dk_46 (dk_at dksX5_laySuits_4 18 rfl rfl)
theorem dX5_laySuits_114 : decode cX5_laySuits 114 = .ok (.iload_n 3, 1) := dk_29 (dk_at dksX5_laySuits_4 19 rfl rfl)
theorem dX5_laySuits_115 : decode cX5_laySuits 115 = .ok (.if_icmp .le 18, 3) := dk_164 0 18 (dk_at dksX5_laySuits_4 20 rfl rfl)
theorem dX5_laySuits_118 : decode cX5_laySuits 118 = .ok (.aload_n 0, 1) := dk_42 (dk_at dksX5_laySuits_4 23 rfl rfl)
theorem dX5_laySuits_119 : decode cX5_laySuits 119 = .ok (.getfield 125, 3) := dk_180 0 125 (dk_at dksX5_laySuits_5 0 rfl rfl)
theorem dX5_laySuits_122 : decode cX5_laySuits 122 = .ok (.bipush 16, 2) := dk_16 16 (dk_at dksX5_laySuits_5 3 rfl rfl)
theorem dX5_laySuits_124 : decode cX5_laySuits 124 = .ok (.iload_n 2, 1) := dk_28 (dk_at dksX5_laySuits_5 5 rfl rfl)
theorem dX5_laySuits_125 : decode cX5_laySuits 125 = .ok (.imul, 1) := dk_104 (dk_at dksX5_laySuits_5 6 rfl rfl)
theorem dX5_laySuits_126 : decode cX5_laySuits 126 = .ok (.iload 4, 2) := dk_21 4 (dk_at dksX5_laySuits_5 7 rfl rfl)
theorem dX5_laySuits_128 : decode cX5_laySuits 128 = .ok (.iadd, 1) := dk_96 (dk_at dksX5_laySuits_5 9 rfl rfl)
theorem dX5_laySuits_129 : decode cX5_laySuits 129 = .ok (.iaload, 1) := dk_46 (dk_at dksX5_laySuits_5 10 rfl rfl)
theorem dX5_laySuits_130 : decode cX5_laySuits 130 = .ok (.goto 4, 3) := dk_167 0 4 (dk_at dksX5_laySuits_5 11 rfl rfl)
theorem dX5_laySuits_133 : decode cX5_laySuits 133 = .ok (.iload_n 3, 1) := dk_29 (dk_at dksX5_laySuits_5 14 rfl rfl)
theorem dX5_laySuits_134 : decode cX5_laySuits 134 = .ok (.istore_n 3, 1) := dk_62 (dk_at dksX5_laySuits_5 15 rfl rfl)
theorem dX5_laySuits_135 : decode cX5_laySuits 135 = .ok (.iinc 4 1, 3) := dk_132 4 1 (dk_at dksX5_laySuits_5 16 rfl rfl)
theorem dX5_laySuits_138 : decode cX5_laySuits 138 = .ok (.goto (-43), 3) := dk_167 255 213 (dk_at dksX5_laySuits_5 19 rfl rfl)
theorem dX5_laySuits_141 : decode cX5_laySuits 141 = .ok (.aload_n 0, 1) := dk_42 (dk_at dksX5_laySuits_5 22 rfl rfl)
theorem dX5_laySuits_142 : decode cX5_laySuits 142 = .ok (.getfield 137, 3) := dk_180 0 137 (dk_at dksX5_laySuits_6 0 rfl rfl)
theorem dX5_laySuits_145 : decode cX5_laySuits 145 = .ok (.iload_n 2, 1) := dk_28 (dk_at dksX5_laySuits_6 3 rfl rfl)
theorem dX5_laySuits_146 : decode cX5_laySuits 146 = .ok (.aload_n 0, 1) := dk_42 (dk_at dksX5_laySuits_6 4 rfl rfl)
theorem dX5_laySuits_147 : decode cX5_laySuits 147 = .ok (.getfield 137, 3) := dk_180 0 137 (dk_at dksX5_laySuits_6 5 rfl rfl)
theorem dX5_laySuits_150 : decode cX5_laySuits 150 = .ok (.iload_n 2, 1) := dk_28 (dk_at dksX5_laySuits_6 8 rfl rfl)
theorem dX5_laySuits_151 : decode cX5_laySuits 151 = .ok (.iconst 1, 1) := dk_4 (dk_at dksX5_laySuits_6 9 rfl rfl)
theorem dX5_laySuits_152 : decode cX5_laySuits 152 = .ok (.iadd, 1) := dk_96 (dk_at dksX5_laySuits_6 10 rfl rfl)
theorem dX5_laySuits_153 : decode cX5_laySuits 153 = .ok (.iaload, 1) := dk_46 (dk_at dksX5_laySuits_6 11 rfl rfl)
theorem dX5_laySuits_154 : decode cX5_laySuits 154 = .ok (.iload_n 3, 1) := dk_29 (dk_at dksX5_laySuits_6 12 rfl rfl)
theorem dX5_laySuits_155 : decode cX5_laySuits 155 = .ok (.iadd, 1) := dk_96 (dk_at dksX5_laySuits_6 13 rfl rfl)
theorem dX5_laySuits_156 : decode cX5_laySuits 156 = .ok (.iastore, 1) := dk_79 (dk_at dksX5_laySuits_6 14 rfl rfl)
theorem dX5_laySuits_157 : decode cX5_laySuits 157 = .ok (.iinc 2 (-1), 3) := dk_132 2 255 (dk_at dksX5_laySuits_6 15 rfl rfl)
theorem dX5_laySuits_160 : decode cX5_laySuits 160 = .ok (.goto (-74), 3) := dk_167 255 182 (dk_at dksX5_laySuits_6 18 rfl rfl)
theorem dX5_laySuits_163 : decode cX5_laySuits 163 = .ok (.return_, 1) := dk_177 (dk_at dksX5_laySuits_6 21 rfl rfl)
abbrev cX5_isSpare : ByteArray := prog_22_method_94_code
def yX5_isSpare : MethodName := ⟨RX5, "isSpare", "(I)Z"⟩
def dkwX5_isSpare_2 : List UInt8 := [46, 159, 0, 7, 4, 167, 0, 4, 3, 61, 132, 3, 1, 167, 255, 223, 28, 172]
abbrev dktX5_isSpare_2 : List UInt8 := dkwX5_isSpare_2 ++ []
def dkwX5_isSpare_1 : List UInt8 := [3, 61, 3, 62, 29, 27, 162, 0, 34, 28, 153, 0, 22, 42, 180, 0, 131, 29, 46, 42, 180, 0, 131, 27]
abbrev dktX5_isSpare_1 : List UInt8 := dkwX5_isSpare_1 ++ dktX5_isSpare_2
def dkwX5_isSpare_0 : List UInt8 := [42, 180, 0, 125, 16, 16, 27, 104, 42, 180, 0, 131, 27, 46, 96, 46, 2, 159, 0, 7, 4, 167, 0, 4]
abbrev dktX5_isSpare_0 : List UInt8 := dkwX5_isSpare_0 ++ dktX5_isSpare_1
theorem dksX5_isSpare_0 : cX5_isSpare.data.toList.drop 0 = dktX5_isSpare_0 := by decide +kernel
theorem dksX5_isSpare_1 : cX5_isSpare.data.toList.drop 24 = dktX5_isSpare_1 := dk_seg dksX5_isSpare_0 24 rfl rfl
theorem dksX5_isSpare_2 : cX5_isSpare.data.toList.drop 48 = dktX5_isSpare_2 := dk_seg dksX5_isSpare_1 24 rfl rfl
theorem dX5_isSpare_0 : decode cX5_isSpare 0 = .ok (.aload_n 0, 1) := dk_42 (dk_at dksX5_isSpare_0 0 rfl rfl)
theorem dX5_isSpare_1 : decode cX5_isSpare 1 = .ok (.getfield 125, 3) := dk_180 0 125 (dk_at dksX5_isSpare_0 1 rfl rfl)
theorem dX5_isSpare_4 : decode cX5_isSpare 4 = .ok (.bipush 16, 2) := dk_16 16 (dk_at dksX5_isSpare_0 4 rfl rfl)
theorem dX5_isSpare_6 : decode cX5_isSpare 6 = .ok (.iload_n 1, 1) := dk_27 (dk_at dksX5_isSpare_0 6 rfl rfl)
theorem dX5_isSpare_7 : decode cX5_isSpare 7 = .ok (.imul, 1) := dk_104 (dk_at dksX5_isSpare_0 7 rfl rfl)
theorem dX5_isSpare_8 : decode cX5_isSpare 8 = .ok (.aload_n 0, 1) := dk_42 (dk_at dksX5_isSpare_0 8 rfl rfl)
theorem dX5_isSpare_9 : decode cX5_isSpare 9 = .ok (.getfield 131, 3) := dk_180 0 131 (dk_at dksX5_isSpare_0 9 rfl rfl)
theorem dX5_isSpare_12 : decode cX5_isSpare 12 = .ok (.iload_n 1, 1) := dk_27 (dk_at dksX5_isSpare_0 12 rfl rfl)
theorem dX5_isSpare_13 : decode cX5_isSpare 13 = .ok (.iaload, 1) := dk_46 (dk_at dksX5_isSpare_0 13 rfl rfl)
theorem dX5_isSpare_14 : decode cX5_isSpare 14 = .ok (.iadd, 1) := dk_96 (dk_at dksX5_isSpare_0 14 rfl rfl)
theorem dX5_isSpare_15 : decode cX5_isSpare 15 = .ok (.iaload, 1) := dk_46 (dk_at dksX5_isSpare_0 15 rfl rfl)
theorem dX5_isSpare_16 : decode cX5_isSpare 16 = .ok (.iconst (-1), 1) := dk_2 (dk_at dksX5_isSpare_0 16 rfl rfl)
theorem dX5_isSpare_17 : decode cX5_isSpare 17 = .ok (.if_icmp .eq 7, 3) := dk_159 0 7 (dk_at dksX5_isSpare_0 17 rfl rfl)
theorem dX5_isSpare_20 : decode cX5_isSpare 20 = .ok (.iconst 1, 1) := dk_4 (dk_at dksX5_isSpare_0 20 rfl rfl)
theorem dX5_isSpare_21 : decode cX5_isSpare 21 = .ok (.goto 4, 3) := dk_167 0 4 (dk_at dksX5_isSpare_0 21 rfl rfl)
theorem dX5_isSpare_24 : decode cX5_isSpare 24 = .ok (.iconst 0, 1) := dk_3 (dk_at dksX5_isSpare_1 0 rfl rfl)
theorem dX5_isSpare_25 : decode cX5_isSpare 25 = .ok (.istore_n 2, 1) := dk_61 (dk_at dksX5_isSpare_1 1 rfl rfl)
theorem dX5_isSpare_26 : decode cX5_isSpare 26 = .ok (.iconst 0, 1) := dk_3 (dk_at dksX5_isSpare_1 2 rfl rfl)
theorem dX5_isSpare_27 : decode cX5_isSpare 27 = .ok (.istore_n 3, 1) := dk_62 (dk_at dksX5_isSpare_1 3 rfl rfl)
theorem dX5_isSpare_28 : decode cX5_isSpare 28 = .ok (.iload_n 3, 1) := dk_29 (dk_at dksX5_isSpare_1 4 rfl rfl)
theorem dX5_isSpare_29 : decode cX5_isSpare 29 = .ok (.iload_n 1, 1) := dk_27 (dk_at dksX5_isSpare_1 5 rfl rfl)
theorem dX5_isSpare_30 : decode cX5_isSpare 30 = .ok (.if_icmp .ge 34, 3) := dk_162 0 34 (dk_at dksX5_isSpare_1 6 rfl rfl)
theorem dX5_isSpare_33 : decode cX5_isSpare 33 = .ok (.iload_n 2, 1) := dk_28 (dk_at dksX5_isSpare_1 9 rfl rfl)
theorem dX5_isSpare_34 : decode cX5_isSpare 34 = .ok (.ifCond .eq 22, 3) := dk_153 0 22 (dk_at dksX5_isSpare_1 10 rfl rfl)
theorem dX5_isSpare_37 : decode cX5_isSpare 37 = .ok (.aload_n 0, 1) := dk_42 (dk_at dksX5_isSpare_1 13 rfl rfl)
theorem dX5_isSpare_38 : decode cX5_isSpare 38 = .ok (.getfield 131, 3) := dk_180 0 131 (dk_at dksX5_isSpare_1 14 rfl rfl)
theorem dX5_isSpare_41 : decode cX5_isSpare 41 = .ok (.iload_n 3, 1) := dk_29 (dk_at dksX5_isSpare_1 17 rfl rfl)
theorem dX5_isSpare_42 : decode cX5_isSpare 42 = .ok (.iaload, 1) := dk_46 (dk_at dksX5_isSpare_1 18 rfl rfl)
theorem dX5_isSpare_43 : decode cX5_isSpare 43 = .ok (.aload_n 0, 1) := dk_42 (dk_at dksX5_isSpare_1 19 rfl rfl)
theorem dX5_isSpare_44 : decode cX5_isSpare 44 = .ok (.getfield 131, 3) := dk_180 0 131 (dk_at dksX5_isSpare_1 20 rfl rfl)
theorem dX5_isSpare_47 : decode cX5_isSpare 47 = .ok (.iload_n 1, 1) := dk_27 (dk_at dksX5_isSpare_1 23 rfl rfl)
theorem dX5_isSpare_48 : decode cX5_isSpare 48 = .ok (.iaload, 1) := dk_46 (dk_at dksX5_isSpare_2 0 rfl rfl)
theorem dX5_isSpare_49 : decode cX5_isSpare 49 = .ok (.if_icmp .eq 7, 3) := dk_159 0 7 (dk_at dksX5_isSpare_2 1 rfl rfl)
theorem dX5_isSpare_52 : decode cX5_isSpare 52 = .ok (.iconst 1, 1) := dk_4 (dk_at dksX5_isSpare_2 4 rfl rfl)
theorem dX5_isSpare_53 : decode cX5_isSpare 53 = .ok (.goto 4, 3) := dk_167 0 4 (dk_at dksX5_isSpare_2 5 rfl rfl)
theorem dX5_isSpare_56 : decode cX5_isSpare 56 = .ok (.iconst 0, 1) := dk_3 (dk_at dksX5_isSpare_2 8 rfl rfl)
theorem dX5_isSpare_57 : decode cX5_isSpare 57 = .ok (.istore_n 2, 1) := dk_61 (dk_at dksX5_isSpare_2 9 rfl rfl)
theorem dX5_isSpare_58 : decode cX5_isSpare 58 = .ok (.iinc 3 1, 3) := dk_132 3 1 (dk_at dksX5_isSpare_2 10 rfl rfl)
theorem dX5_isSpare_61 : decode cX5_isSpare 61 = .ok (.goto (-33), 3) := dk_167 255 223 (dk_at dksX5_isSpare_2 13 rfl rfl)
theorem dX5_isSpare_64 : decode cX5_isSpare 64 = .ok (.iload_n 2, 1) := dk_28 (dk_at dksX5_isSpare_2 16 rfl rfl)
theorem dX5_isSpare_65 : decode cX5_isSpare 65 = .ok (.ireturn, 1) := dk_172 (dk_at dksX5_isSpare_2 17 rfl rfl)
abbrev cX5_sight : ByteArray := prog_22_method_97_code
def yX5_sight : MethodName := ⟨RX5, "sight", "(III)I"⟩
def dkwX5_sight_5 : List UInt8 := [42, 21, 4, 4, 96, 182, 0, 183, 172]
abbrev dktX5_sight_5 : List UInt8 := dkwX5_sight_5 ++ []
def dkwX5_sight_4 : List UInt8 := [180, 0, 13, 16, 116, 6, 21, 4, 104, 96, 5, 96, 29, 79, 42, 180, 0, 13, 3, 92, 46, 4, 96, 79]
abbrev dktX5_sight_4 : List UInt8 := dkwX5_sight_4 ++ dktX5_sight_5
def dkwX5_sight_3 : List UInt8 := [6, 21, 4, 104, 96, 27, 79, 42, 180, 0, 13, 16, 116, 6, 21, 4, 104, 96, 4, 96, 28, 79, 42]
abbrev dktX5_sight_3 : List UInt8 := dkwX5_sight_3 ++ dktX5_sight_4
def dkwX5_sight_2 : List UInt8 := [3, 46, 54, 4, 21, 4, 16, 8, 160, 0, 10, 42, 16, 251, 182, 0, 183, 172, 42, 180, 0, 13, 16, 116]
abbrev dktX5_sight_2 : List UInt8 := dkwX5_sight_2 ++ dktX5_sight_3
def dkwX5_sight_1 : List UInt8 := [29, 133, 20, 1, 20, 20, 0, 229, 184, 0, 194, 154, 0, 9, 42, 2, 182, 0, 183, 172, 42, 180, 0, 13]
abbrev dktX5_sight_1 : List UInt8 := dkwX5_sight_1 ++ dktX5_sight_2
def dkwX5_sight_0 : List UInt8 := [42, 3, 181, 0, 174, 27, 133, 9, 20, 0, 203, 184, 0, 194, 153, 0, 24, 28, 184, 0, 205, 153, 0, 17]
abbrev dktX5_sight_0 : List UInt8 := dkwX5_sight_0 ++ dktX5_sight_1
theorem dksX5_sight_0 : cX5_sight.data.toList.drop 0 = dktX5_sight_0 := by decide +kernel
theorem dksX5_sight_1 : cX5_sight.data.toList.drop 24 = dktX5_sight_1 := dk_seg dksX5_sight_0 24 rfl rfl
theorem dksX5_sight_2 : cX5_sight.data.toList.drop 48 = dktX5_sight_2 := dk_seg dksX5_sight_1 24 rfl rfl
theorem dksX5_sight_3 : cX5_sight.data.toList.drop 72 = dktX5_sight_3 := dk_seg dksX5_sight_2 24 rfl rfl
theorem dksX5_sight_4 : cX5_sight.data.toList.drop 95 = dktX5_sight_4 := dk_seg dksX5_sight_3 23 rfl rfl
theorem dksX5_sight_5 : cX5_sight.data.toList.drop 119 = dktX5_sight_5 := dk_seg dksX5_sight_4 24 rfl rfl
theorem dX5_sight_0 : decode cX5_sight 0 = .ok (.aload_n 0, 1) := dk_42 (dk_at dksX5_sight_0 0 rfl rfl)
theorem dX5_sight_1 : decode cX5_sight 1 = .ok (.iconst 0, 1) := dk_3 (dk_at dksX5_sight_0 1 rfl rfl)
theorem dX5_sight_2 : decode cX5_sight 2 = .ok (.putfield 174, 3) := dk_181 0 174 (dk_at dksX5_sight_0 2 rfl rfl)
theorem dX5_sight_5 : decode cX5_sight 5 = .ok (.iload_n 1, 1) := dk_27 (dk_at dksX5_sight_0 5 rfl rfl)
theorem dX5_sight_6 : decode cX5_sight 6 = .ok (.i2l, 1) := dk_133 (dk_at dksX5_sight_0 6 rfl rfl)
theorem dX5_sight_7 : decode cX5_sight 7 = .ok (.lconst 0, 1) := dk_9 (dk_at dksX5_sight_0 7 rfl rfl)
theorem dX5_sight_8 : decode cX5_sight 8 = .ok (.ldc2_w 203, 3) := dk_20 0 203 (dk_at dksX5_sight_0 8 rfl rfl)
theorem dX5_sight_11 : decode cX5_sight 11 = .ok (.invokestatic 194, 3) := dk_184 0 194 (dk_at dksX5_sight_0 11 rfl rfl)
theorem dX5_sight_14 : decode cX5_sight 14 = .ok (.ifCond .eq 24, 3) := dk_153 0 24 (dk_at dksX5_sight_0 14 rfl rfl)
theorem dX5_sight_17 : decode cX5_sight 17 = .ok (.iload_n 2, 1) := dk_28 (dk_at dksX5_sight_0 17 rfl rfl)
theorem dX5_sight_18 : decode cX5_sight 18 = .ok (.invokestatic 205, 3) := dk_184 0 205 (dk_at dksX5_sight_0 18 rfl rfl)
theorem dX5_sight_21 : decode cX5_sight 21 = .ok (.ifCond .eq 17, 3) := dk_153 0 17 (dk_at dksX5_sight_0 21 rfl rfl)
theorem dX5_sight_24 : decode cX5_sight 24 = .ok (.iload_n 3, 1) := dk_29 (dk_at dksX5_sight_1 0 rfl rfl)
theorem dX5_sight_25 : decode cX5_sight 25 = .ok (.i2l, 1) := dk_133 (dk_at dksX5_sight_1 1 rfl rfl)
theorem dX5_sight_26 : decode cX5_sight 26 = .ok (.ldc2_w 276, 3) := dk_20 1 20 (dk_at dksX5_sight_1 2 rfl rfl)
theorem dX5_sight_29 : decode cX5_sight 29 = .ok (.ldc2_w 229, 3) := dk_20 0 229 (dk_at dksX5_sight_1 5 rfl rfl)
theorem dX5_sight_32 : decode cX5_sight 32 = .ok (.invokestatic 194, 3) := dk_184 0 194 (dk_at dksX5_sight_1 8 rfl rfl)
theorem dX5_sight_35 : decode cX5_sight 35 = .ok (.ifCond .ne 9, 3) := dk_154 0 9 (dk_at dksX5_sight_1 11 rfl rfl)
theorem dX5_sight_38 : decode cX5_sight 38 = .ok (.aload_n 0, 1) := dk_42 (dk_at dksX5_sight_1 14 rfl rfl)
theorem dX5_sight_39 : decode cX5_sight 39 = .ok (.iconst (-1), 1) := dk_2 (dk_at dksX5_sight_1 15 rfl rfl)
theorem dX5_sight_40 : decode cX5_sight 40 = .ok (.invokevirtual 183, 3) := dk_182 0 183 (dk_at dksX5_sight_1 16 rfl rfl)
theorem dX5_sight_43 : decode cX5_sight 43 = .ok (.ireturn, 1) := dk_172 (dk_at dksX5_sight_1 19 rfl rfl)
theorem dX5_sight_44 : decode cX5_sight 44 = .ok (.aload_n 0, 1) := dk_42 (dk_at dksX5_sight_1 20 rfl rfl)
theorem dX5_sight_45 : decode cX5_sight 45 = .ok (.getfield 13, 3) := dk_180 0 13 (dk_at dksX5_sight_1 21 rfl rfl)
theorem dX5_sight_48 : decode cX5_sight 48 = .ok (.iconst 0, 1) := dk_3 (dk_at dksX5_sight_2 0 rfl rfl)
theorem dX5_sight_49 : decode cX5_sight 49 = .ok (.iaload, 1) := dk_46 (dk_at dksX5_sight_2 1 rfl rfl)
theorem dX5_sight_50 : decode cX5_sight 50 = .ok (.istore 4, 2) := dk_54 4 (dk_at dksX5_sight_2 2 rfl rfl)
theorem dX5_sight_52 : decode cX5_sight 52 = .ok (.iload 4, 2) := dk_21 4 (dk_at dksX5_sight_2 4 rfl rfl)
theorem dX5_sight_54 : decode cX5_sight 54 = .ok (.bipush 8, 2) := dk_16 8 (dk_at dksX5_sight_2 6 rfl rfl)
theorem dX5_sight_56 : decode cX5_sight 56 = .ok (.if_icmp .ne 10, 3) := dk_160 0 10 (dk_at dksX5_sight_2 8 rfl rfl)
theorem dX5_sight_59 : decode cX5_sight 59 = .ok (.aload_n 0, 1) := dk_42 (dk_at dksX5_sight_2 11 rfl rfl)
theorem dX5_sight_60 : decode cX5_sight 60 = .ok (.bipush (-5), 2) := dk_16 251 (dk_at dksX5_sight_2 12 rfl rfl)
theorem dX5_sight_62 : decode cX5_sight 62 = .ok (.invokevirtual 183, 3) := dk_182 0 183 (dk_at dksX5_sight_2 14 rfl rfl)
theorem dX5_sight_65 : decode cX5_sight 65 = .ok (.ireturn, 1) := dk_172 (dk_at dksX5_sight_2 17 rfl rfl)
theorem dX5_sight_66 : decode cX5_sight 66 = .ok (.aload_n 0, 1) := dk_42 (dk_at dksX5_sight_2 18 rfl rfl)
theorem dX5_sight_67 : decode cX5_sight 67 = .ok (.getfield 13, 3) := dk_180 0 13 (dk_at dksX5_sight_2 19 rfl rfl)
theorem dX5_sight_70 : decode cX5_sight 70 = .ok (.bipush 116, 2) := dk_16 116 (dk_at dksX5_sight_2 22 rfl rfl)
theorem dX5_sight_72 : decode cX5_sight 72 = .ok (.iconst 3, 1) := dk_6 (dk_at dksX5_sight_3 0 rfl rfl)
theorem dX5_sight_73 : decode cX5_sight 73 = .ok (.iload 4, 2) := dk_21 4 (dk_at dksX5_sight_3 1 rfl rfl)
theorem dX5_sight_75 : decode cX5_sight 75 = .ok (.imul, 1) := dk_104 (dk_at dksX5_sight_3 3 rfl rfl)
theorem dX5_sight_76 : decode cX5_sight 76 = .ok (.iadd, 1) := dk_96 (dk_at dksX5_sight_3 4 rfl rfl)
theorem dX5_sight_77 : decode cX5_sight 77 = .ok (.iload_n 1, 1) := dk_27 (dk_at dksX5_sight_3 5 rfl rfl)
theorem dX5_sight_78 : decode cX5_sight 78 = .ok (.iastore, 1) := dk_79 (dk_at dksX5_sight_3 6 rfl rfl)
theorem dX5_sight_79 : decode cX5_sight 79 = .ok (.aload_n 0, 1) := dk_42 (dk_at dksX5_sight_3 7 rfl rfl)
theorem dX5_sight_80 : decode cX5_sight 80 = .ok (.getfield 13, 3) := dk_180 0 13 (dk_at dksX5_sight_3 8 rfl rfl)
theorem dX5_sight_83 : decode cX5_sight 83 = .ok (.bipush 116, 2) := dk_16 116 (dk_at dksX5_sight_3 11 rfl rfl)
theorem dX5_sight_85 : decode cX5_sight 85 = .ok (.iconst 3, 1) := dk_6 (dk_at dksX5_sight_3 13 rfl rfl)
theorem dX5_sight_86 : decode cX5_sight 86 = .ok (.iload 4, 2) := dk_21 4 (dk_at dksX5_sight_3 14 rfl rfl)
theorem dX5_sight_88 : decode cX5_sight 88 = .ok (.imul, 1) := dk_104 (dk_at dksX5_sight_3 16 rfl rfl)
theorem dX5_sight_89 : decode cX5_sight 89 = .ok (.iadd, 1) := dk_96 (dk_at dksX5_sight_3 17 rfl rfl)
theorem dX5_sight_90 : decode cX5_sight 90 = .ok (.iconst 1, 1) := dk_4 (dk_at dksX5_sight_3 18 rfl rfl)
theorem dX5_sight_91 : decode cX5_sight 91 = .ok (.iadd, 1) := dk_96 (dk_at dksX5_sight_3 19 rfl rfl)
theorem dX5_sight_92 : decode cX5_sight 92 = .ok (.iload_n 2, 1) := dk_28 (dk_at dksX5_sight_3 20 rfl rfl)
theorem dX5_sight_93 : decode cX5_sight 93 = .ok (.iastore, 1) := dk_79 (dk_at dksX5_sight_3 21 rfl rfl)
theorem dX5_sight_94 : decode cX5_sight 94 = .ok (.aload_n 0, 1) := dk_42 (dk_at dksX5_sight_3 22 rfl rfl)
theorem dX5_sight_95 : decode cX5_sight 95 = .ok (.getfield 13, 3) := dk_180 0 13 (dk_at dksX5_sight_4 0 rfl rfl)
theorem dX5_sight_98 : decode cX5_sight 98 = .ok (.bipush 116, 2) := dk_16 116 (dk_at dksX5_sight_4 3 rfl rfl)
theorem dX5_sight_100 : decode cX5_sight 100 = .ok (.iconst 3, 1) := dk_6 (dk_at dksX5_sight_4 5 rfl rfl)
theorem dX5_sight_101 : decode cX5_sight 101 = .ok (.iload 4, 2) := dk_21 4 (dk_at dksX5_sight_4 6 rfl rfl)
theorem dX5_sight_103 : decode cX5_sight 103 = .ok (.imul, 1) := dk_104 (dk_at dksX5_sight_4 8 rfl rfl)
theorem dX5_sight_104 : decode cX5_sight 104 = .ok (.iadd, 1) := dk_96 (dk_at dksX5_sight_4 9 rfl rfl)
theorem dX5_sight_105 : decode cX5_sight 105 = .ok (.iconst 2, 1) := dk_5 (dk_at dksX5_sight_4 10 rfl rfl)
theorem dX5_sight_106 : decode cX5_sight 106 = .ok (.iadd, 1) := dk_96 (dk_at dksX5_sight_4 11 rfl rfl)
theorem dX5_sight_107 : decode cX5_sight 107 = .ok (.iload_n 3, 1) := dk_29 (dk_at dksX5_sight_4 12 rfl rfl)
theorem dX5_sight_108 : decode cX5_sight 108 = .ok (.iastore, 1) := dk_79 (dk_at dksX5_sight_4 13 rfl rfl)
theorem dX5_sight_109 : decode cX5_sight 109 = .ok (.aload_n 0, 1) := dk_42 (dk_at dksX5_sight_4 14 rfl rfl)
theorem dX5_sight_110 : decode cX5_sight 110 = .ok (.getfield 13, 3) := dk_180 0 13 (dk_at dksX5_sight_4 15 rfl rfl)
theorem dX5_sight_113 : decode cX5_sight 113 = .ok (.iconst 0, 1) := dk_3 (dk_at dksX5_sight_4 18 rfl rfl)
theorem dX5_sight_114 : decode cX5_sight 114 = .ok (.dup2, 1) := dk_92 (dk_at dksX5_sight_4 19 rfl rfl)
theorem dX5_sight_115 : decode cX5_sight 115 = .ok (.iaload, 1) := dk_46 (dk_at dksX5_sight_4 20 rfl rfl)
theorem dX5_sight_116 : decode cX5_sight 116 = .ok (.iconst 1, 1) := dk_4 (dk_at dksX5_sight_4 21 rfl rfl)
theorem dX5_sight_117 : decode cX5_sight 117 = .ok (.iadd, 1) := dk_96 (dk_at dksX5_sight_4 22 rfl rfl)
theorem dX5_sight_118 : decode cX5_sight 118 = .ok (.iastore, 1) := dk_79 (dk_at dksX5_sight_4 23 rfl rfl)
theorem dX5_sight_119 : decode cX5_sight 119 = .ok (.aload_n 0, 1) := dk_42 (dk_at dksX5_sight_5 0 rfl rfl)
theorem dX5_sight_120 : decode cX5_sight 120 = .ok (.iload 4, 2) := dk_21 4 (dk_at dksX5_sight_5 1 rfl rfl)
theorem dX5_sight_122 : decode cX5_sight 122 = .ok (.iconst 1, 1) := dk_4 (dk_at dksX5_sight_5 3 rfl rfl)
theorem dX5_sight_123 : decode cX5_sight 123 = .ok (.iadd, 1) := dk_96 (dk_at dksX5_sight_5 4 rfl rfl)
theorem dX5_sight_124 : decode cX5_sight 124 = .ok (.invokevirtual 183, 3) := dk_182 0 183 (dk_at dksX5_sight_5 5 rfl rfl)
theorem dX5_sight_127 : decode cX5_sight 127 = .ok (.ireturn, 1) := dk_172 (dk_at dksX5_sight_5 8 rfl rfl)
abbrev cX5_forget : ByteArray := prog_22_method_98_code
def yX5_forget : MethodName := ⟨RX5, "forget", "()I"⟩
def dkwX5_forget_0 : List UInt8 := [42, 3, 181, 0, 174, 42, 180, 0, 13, 3, 46, 60, 42, 180, 0, 13, 3, 3, 79, 27, 172]
abbrev dktX5_forget_0 : List UInt8 := dkwX5_forget_0 ++ []
theorem dksX5_forget_0 : cX5_forget.data.toList.drop 0 = dktX5_forget_0 := by decide +kernel
theorem dX5_forget_0 : decode cX5_forget 0 = .ok (.aload_n 0, 1) := dk_42 (dk_at dksX5_forget_0 0 rfl rfl)
theorem dX5_forget_1 : decode cX5_forget 1 = .ok (.iconst 0, 1) := dk_3 (dk_at dksX5_forget_0 1 rfl rfl)
theorem dX5_forget_2 : decode cX5_forget 2 = .ok (.putfield 174, 3) := dk_181 0 174 (dk_at dksX5_forget_0 2 rfl rfl)
theorem dX5_forget_5 : decode cX5_forget 5 = .ok (.aload_n 0, 1) := dk_42 (dk_at dksX5_forget_0 5 rfl rfl)
theorem dX5_forget_6 : decode cX5_forget 6 = .ok (.getfield 13, 3) := dk_180 0 13 (dk_at dksX5_forget_0 6 rfl rfl)
theorem dX5_forget_9 : decode cX5_forget 9 = .ok (.iconst 0, 1) := dk_3 (dk_at dksX5_forget_0 9 rfl rfl)
theorem dX5_forget_10 : decode cX5_forget 10 = .ok (.iaload, 1) := dk_46 (dk_at dksX5_forget_0 10 rfl rfl)
theorem dX5_forget_11 : decode cX5_forget 11 = .ok (.istore_n 1, 1) := dk_60 (dk_at dksX5_forget_0 11 rfl rfl)
theorem dX5_forget_12 : decode cX5_forget 12 = .ok (.aload_n 0, 1) := dk_42 (dk_at dksX5_forget_0 12 rfl rfl)
theorem dX5_forget_13 : decode cX5_forget 13 = .ok (.getfield 13, 3) := dk_180 0 13 (dk_at dksX5_forget_0 13 rfl rfl)
theorem dX5_forget_16 : decode cX5_forget 16 = .ok (.iconst 0, 1) := dk_3 (dk_at dksX5_forget_0 16 rfl rfl)
theorem dX5_forget_17 : decode cX5_forget 17 = .ok (.iconst 0, 1) := dk_3 (dk_at dksX5_forget_0 17 rfl rfl)
theorem dX5_forget_18 : decode cX5_forget 18 = .ok (.iastore, 1) := dk_79 (dk_at dksX5_forget_0 18 rfl rfl)
theorem dX5_forget_19 : decode cX5_forget 19 = .ok (.iload_n 1, 1) := dk_27 (dk_at dksX5_forget_0 19 rfl rfl)
theorem dX5_forget_20 : decode cX5_forget 20 = .ok (.ireturn, 1) := dk_172 (dk_at dksX5_forget_0 20 rfl rfl)
abbrev cX5_hidden : ByteArray := prog_22_method_102_code
def yX5_hidden : MethodName := ⟨RX5, "hidden", "(I)I"⟩
def dkwX5_hidden_2 : List UInt8 := [167, 255, 222, 27, 2, 160, 0, 7, 28, 167, 0, 4, 29, 172]
abbrev dktX5_hidden_2 : List UInt8 := dkwX5_hidden_2 ++ []
def dkwX5_hidden_1 : List UInt8 := [182, 2, 10, 153, 0, 18, 28, 27, 160, 0, 8, 21, 4, 167, 0, 4, 29, 62, 132, 2, 1, 132, 4, 1]
abbrev dktX5_hidden_1 : List UInt8 := dkwX5_hidden_1 ++ dktX5_hidden_2
def dkwX5_hidden_0 : List UInt8 := [42, 3, 181, 0, 174, 3, 61, 2, 62, 3, 54, 4, 21, 4, 16, 96, 162, 0, 33, 42, 21, 4]
abbrev dktX5_hidden_0 : List UInt8 := dkwX5_hidden_0 ++ dktX5_hidden_1
theorem dksX5_hidden_0 : cX5_hidden.data.toList.drop 0 = dktX5_hidden_0 := by decide +kernel
theorem dksX5_hidden_1 : cX5_hidden.data.toList.drop 22 = dktX5_hidden_1 := dk_seg dksX5_hidden_0 22 rfl rfl
theorem dksX5_hidden_2 : cX5_hidden.data.toList.drop 46 = dktX5_hidden_2 := dk_seg dksX5_hidden_1 24 rfl rfl
theorem dX5_hidden_0 : decode cX5_hidden 0 = .ok (.aload_n 0, 1) := dk_42 (dk_at dksX5_hidden_0 0 rfl rfl)
theorem dX5_hidden_1 : decode cX5_hidden 1 = .ok (.iconst 0, 1) := dk_3 (dk_at dksX5_hidden_0 1 rfl rfl)
theorem dX5_hidden_2 : decode cX5_hidden 2 = .ok (.putfield 174, 3) := dk_181 0 174 (dk_at dksX5_hidden_0 2 rfl rfl)
theorem dX5_hidden_5 : decode cX5_hidden 5 = .ok (.iconst 0, 1) := dk_3 (dk_at dksX5_hidden_0 5 rfl rfl)
theorem dX5_hidden_6 : decode cX5_hidden 6 = .ok (.istore_n 2, 1) := dk_61 (dk_at dksX5_hidden_0 6 rfl rfl)
theorem dX5_hidden_7 : decode cX5_hidden 7 = .ok (.iconst (-1), 1) := dk_2 (dk_at dksX5_hidden_0 7 rfl rfl)
theorem dX5_hidden_8 : decode cX5_hidden 8 = .ok (.istore_n 3, 1) := dk_62 (dk_at dksX5_hidden_0 8 rfl rfl)
theorem dX5_hidden_9 : decode cX5_hidden 9 = .ok (.iconst 0, 1) := dk_3 (dk_at dksX5_hidden_0 9 rfl rfl)
theorem dX5_hidden_10 : decode cX5_hidden 10 = .ok (.istore 4, 2) := dk_54 4 (dk_at dksX5_hidden_0 10 rfl rfl)
theorem dX5_hidden_12 : decode cX5_hidden 12 = .ok (.iload 4, 2) := dk_21 4 (dk_at dksX5_hidden_0 12 rfl rfl)
theorem dX5_hidden_14 : decode cX5_hidden 14 = .ok (.bipush 96, 2) := dk_16 96 (dk_at dksX5_hidden_0 14 rfl rfl)
theorem dX5_hidden_16 : decode cX5_hidden 16 = .ok (.if_icmp .ge 33, 3) := dk_162 0 33 (dk_at dksX5_hidden_0 16 rfl rfl)
theorem dX5_hidden_19 : decode cX5_hidden 19 = .ok (.aload_n 0, 1) := dk_42 (dk_at dksX5_hidden_0 19 rfl rfl)
theorem dX5_hidden_20 : decode cX5_hidden 20 = .ok (.iload 4, 2) := dk_21 4 (dk_at dksX5_hidden_0 20 rfl rfl)
theorem dX5_hidden_22 : decode cX5_hidden 22 = .ok (.invokevirtual 522, 3) := dk_182 2 10 (dk_at dksX5_hidden_1 0 rfl rfl)
theorem dX5_hidden_25 : decode cX5_hidden 25 = .ok (.ifCond .eq 18, 3) := dk_153 0 18 (dk_at dksX5_hidden_1 3 rfl rfl)
theorem dX5_hidden_28 : decode cX5_hidden 28 = .ok (.iload_n 2, 1) := dk_28 (dk_at dksX5_hidden_1 6 rfl rfl)
theorem dX5_hidden_29 : decode cX5_hidden 29 = .ok (.iload_n 1, 1) := dk_27 (dk_at dksX5_hidden_1 7 rfl rfl)
theorem dX5_hidden_30 : decode cX5_hidden 30 = .ok (.if_icmp .ne 8, 3) := dk_160 0 8 (dk_at dksX5_hidden_1 8 rfl rfl)
theorem dX5_hidden_33 : decode cX5_hidden 33 = .ok (.iload 4, 2) := dk_21 4 (dk_at dksX5_hidden_1 11 rfl rfl)
theorem dX5_hidden_35 : decode cX5_hidden 35 = .ok (.goto 4, 3) := dk_167 0 4 (dk_at dksX5_hidden_1 13 rfl rfl)
theorem dX5_hidden_38 : decode cX5_hidden 38 = .ok (.iload_n 3, 1) := dk_29 (dk_at dksX5_hidden_1 16 rfl rfl)
theorem dX5_hidden_39 : decode cX5_hidden 39 = .ok (.istore_n 3, 1) := dk_62 (dk_at dksX5_hidden_1 17 rfl rfl)
theorem dX5_hidden_40 : decode cX5_hidden 40 = .ok (.iinc 2 1, 3) := dk_132 2 1 (dk_at dksX5_hidden_1 18 rfl rfl)
theorem dX5_hidden_43 : decode cX5_hidden 43 = .ok (.iinc 4 1, 3) := dk_132 4 1 (dk_at dksX5_hidden_1 21 rfl rfl)
theorem dX5_hidden_46 : decode cX5_hidden 46 = .ok (.goto (-34), 3) := dk_167 255 222 (dk_at dksX5_hidden_2 0 rfl rfl)
theorem dX5_hidden_49 : decode cX5_hidden 49 = .ok (.iload_n 1, 1) := dk_27 (dk_at dksX5_hidden_2 3 rfl rfl)
theorem dX5_hidden_50 : decode cX5_hidden 50 = .ok (.iconst (-1), 1) := dk_2 (dk_at dksX5_hidden_2 4 rfl rfl)
theorem dX5_hidden_51 : decode cX5_hidden 51 = .ok (.if_icmp .ne 7, 3) := dk_160 0 7 (dk_at dksX5_hidden_2 5 rfl rfl)
theorem dX5_hidden_54 : decode cX5_hidden 54 = .ok (.iload_n 2, 1) := dk_28 (dk_at dksX5_hidden_2 8 rfl rfl)
theorem dX5_hidden_55 : decode cX5_hidden 55 = .ok (.goto 4, 3) := dk_167 0 4 (dk_at dksX5_hidden_2 9 rfl rfl)
theorem dX5_hidden_58 : decode cX5_hidden 58 = .ok (.iload_n 3, 1) := dk_29 (dk_at dksX5_hidden_2 12 rfl rfl)
theorem dX5_hidden_59 : decode cX5_hidden 59 = .ok (.ireturn, 1) := dk_172 (dk_at dksX5_hidden_2 13 rfl rfl)
abbrev cX5_isHidden : ByteArray := prog_22_method_101_code
def yX5_isHidden : MethodName := ⟨RX5, "isHidden", "(I)Z"⟩
def dkwX5_isHidden_5 : List UInt8 := [172]
abbrev dktX5_isHidden_5 : List UInt8 := dkwX5_isHidden_5 ++ []
def dkwX5_isHidden_4 : List UInt8 := [182, 1, 223, 87, 42, 21, 4, 182, 2, 7, 62, 132, 4, 1, 167, 255, 231, 42, 16, 16, 182, 0, 191, 29]
abbrev dktX5_isHidden_4 : List UInt8 := dkwX5_isHidden_4 ++ dktX5_isHidden_5
def dkwX5_isHidden_3 : List UInt8 := [182, 2, 4, 42, 3, 182, 2, 7, 62, 4, 54, 4, 21, 4, 28, 163, 0, 25, 29, 153, 0, 21, 42]
abbrev dktX5_isHidden_3 : List UInt8 := dkwX5_isHidden_3 ++ dktX5_isHidden_4
def dkwX5_isHidden_2 : List UInt8 := [6, 29, 104, 96, 46, 167, 0, 4, 28, 61, 132, 3, 1, 167, 255, 212, 42, 16, 16, 182, 0, 187, 42, 27]
abbrev dktX5_isHidden_2 : List UInt8 := dkwX5_isHidden_2 ++ dktX5_isHidden_3
def dkwX5_isHidden_1 : List UInt8 := [162, 0, 40, 42, 180, 0, 13, 16, 116, 6, 29, 104, 96, 46, 28, 164, 0, 17, 42, 180, 0, 13, 16, 116]
abbrev dktX5_isHidden_1 : List UInt8 := dkwX5_isHidden_1 ++ dktX5_isHidden_2
def dkwX5_isHidden_0 : List UInt8 := [42, 27, 16, 6, 108, 182, 0, 220, 153, 0, 5, 3, 172, 3, 61, 3, 62, 29, 42, 180, 0, 13, 3, 46]
abbrev dktX5_isHidden_0 : List UInt8 := dkwX5_isHidden_0 ++ dktX5_isHidden_1
theorem dksX5_isHidden_0 : cX5_isHidden.data.toList.drop 0 = dktX5_isHidden_0 := by decide +kernel
theorem dksX5_isHidden_1 : cX5_isHidden.data.toList.drop 24 = dktX5_isHidden_1 := dk_seg dksX5_isHidden_0 24 rfl rfl
theorem dksX5_isHidden_2 : cX5_isHidden.data.toList.drop 48 = dktX5_isHidden_2 := dk_seg dksX5_isHidden_1 24 rfl rfl
theorem dksX5_isHidden_3 : cX5_isHidden.data.toList.drop 72 = dktX5_isHidden_3 := dk_seg dksX5_isHidden_2 24 rfl rfl
theorem dksX5_isHidden_4 : cX5_isHidden.data.toList.drop 95 = dktX5_isHidden_4 := dk_seg dksX5_isHidden_3 23 rfl rfl
theorem dksX5_isHidden_5 : cX5_isHidden.data.toList.drop 119 = dktX5_isHidden_5 := dk_seg dksX5_isHidden_4 24 rfl rfl
theorem dX5_isHidden_0 : decode cX5_isHidden 0 = .ok (.aload_n 0, 1) := dk_42 (dk_at dksX5_isHidden_0 0 rfl rfl)
theorem dX5_isHidden_1 : decode cX5_isHidden 1 = .ok (.iload_n 1, 1) := dk_27 (dk_at dksX5_isHidden_0 1 rfl rfl)
theorem dX5_isHidden_2 : decode cX5_isHidden 2 = .ok (.bipush 6, 2) := dk_16 6 (dk_at dksX5_isHidden_0 2 rfl rfl)
theorem dX5_isHidden_4 : decode cX5_isHidden 4 = .ok (.idiv, 1) := dk_108 (dk_at dksX5_isHidden_0 4 rfl rfl)
theorem dX5_isHidden_5 : decode cX5_isHidden 5 = .ok (.invokevirtual 220, 3) := dk_182 0 220 (dk_at dksX5_isHidden_0 5 rfl rfl)
theorem dX5_isHidden_8 : decode cX5_isHidden 8 = .ok (.ifCond .eq 5, 3) := dk_153 0 5 (dk_at dksX5_isHidden_0 8 rfl rfl)
theorem dX5_isHidden_11 : decode cX5_isHidden 11 = .ok (.iconst 0, 1) := dk_3 (dk_at dksX5_isHidden_0 11 rfl rfl)
theorem dX5_isHidden_12 : decode cX5_isHidden 12 = .ok (.ireturn, 1) := dk_172 (dk_at dksX5_isHidden_0 12 rfl rfl)
theorem dX5_isHidden_13 : decode cX5_isHidden 13 = .ok (.iconst 0, 1) := dk_3 (dk_at dksX5_isHidden_0 13 rfl rfl)
theorem dX5_isHidden_14 : decode cX5_isHidden 14 = .ok (.istore_n 2, 1) := dk_61 (dk_at dksX5_isHidden_0 14 rfl rfl)
theorem dX5_isHidden_15 : decode cX5_isHidden 15 = .ok (.iconst 0, 1) := dk_3 (dk_at dksX5_isHidden_0 15 rfl rfl)
theorem dX5_isHidden_16 : decode cX5_isHidden 16 = .ok (.istore_n 3, 1) := dk_62 (dk_at dksX5_isHidden_0 16 rfl rfl)
theorem dX5_isHidden_17 : decode cX5_isHidden 17 = .ok (.iload_n 3, 1) := dk_29 (dk_at dksX5_isHidden_0 17 rfl rfl)
theorem dX5_isHidden_18 : decode cX5_isHidden 18 = .ok (.aload_n 0, 1) := dk_42 (dk_at dksX5_isHidden_0 18 rfl rfl)
theorem dX5_isHidden_19 : decode cX5_isHidden 19 = .ok (.getfield 13, 3) := dk_180 0 13 (dk_at dksX5_isHidden_0 19 rfl rfl)
theorem dX5_isHidden_22 : decode cX5_isHidden 22 = .ok (.iconst 0, 1) := dk_3 (dk_at dksX5_isHidden_0 22 rfl rfl)
theorem dX5_isHidden_23 : decode cX5_isHidden 23 = .ok (.iaload, 1) := dk_46 (dk_at dksX5_isHidden_0 23 rfl rfl)
theorem dX5_isHidden_24 : decode cX5_isHidden 24 = .ok (.if_icmp .ge 40, 3) := dk_162 0 40 (dk_at dksX5_isHidden_1 0 rfl rfl)
theorem dX5_isHidden_27 : decode cX5_isHidden 27 = .ok (.aload_n 0, 1) := dk_42 (dk_at dksX5_isHidden_1 3 rfl rfl)
theorem dX5_isHidden_28 : decode cX5_isHidden 28 = .ok (.getfield 13, 3) := dk_180 0 13 (dk_at dksX5_isHidden_1 4 rfl rfl)
theorem dX5_isHidden_31 : decode cX5_isHidden 31 = .ok (.bipush 116, 2) := dk_16 116 (dk_at dksX5_isHidden_1 7 rfl rfl)
theorem dX5_isHidden_33 : decode cX5_isHidden 33 = .ok (.iconst 3, 1) := dk_6 (dk_at dksX5_isHidden_1 9 rfl rfl)
theorem dX5_isHidden_34 : decode cX5_isHidden 34 = .ok (.iload_n 3, 1) := dk_29 (dk_at dksX5_isHidden_1 10 rfl rfl)
theorem dX5_isHidden_35 : decode cX5_isHidden 35 = .ok (.imul, 1) := dk_104 (dk_at dksX5_isHidden_1 11 rfl rfl)
theorem dX5_isHidden_36 : decode cX5_isHidden 36 = .ok (.iadd, 1) := dk_96 (dk_at dksX5_isHidden_1 12 rfl rfl)
theorem dX5_isHidden_37 : decode cX5_isHidden 37 = .ok (.iaload, 1) := dk_46 (dk_at dksX5_isHidden_1 13 rfl rfl)
theorem dX5_isHidden_38 : decode cX5_isHidden 38 = .ok (.iload_n 2, 1) := dk_28 (dk_at dksX5_isHidden_1 14 rfl rfl)
theorem dX5_isHidden_39 : decode cX5_isHidden 39 = .ok (.if_icmp .le 17, 3) := dk_164 0 17 (dk_at dksX5_isHidden_1 15 rfl rfl)
theorem dX5_isHidden_42 : decode cX5_isHidden 42 = .ok (.aload_n 0, 1) := dk_42 (dk_at dksX5_isHidden_1 18 rfl rfl)
theorem dX5_isHidden_43 : decode cX5_isHidden 43 = .ok (.getfield 13, 3) := dk_180 0 13 (dk_at dksX5_isHidden_1 19 rfl rfl)
theorem dX5_isHidden_46 : decode cX5_isHidden 46 = .ok (.bipush 116, 2) := dk_16 116 (dk_at dksX5_isHidden_1 22 rfl rfl)
theorem dX5_isHidden_48 : decode cX5_isHidden 48 = .ok (.iconst 3, 1) := dk_6 (dk_at dksX5_isHidden_2 0 rfl rfl)
theorem dX5_isHidden_49 : decode cX5_isHidden 49 = .ok (.iload_n 3, 1) := dk_29 (dk_at dksX5_isHidden_2 1 rfl rfl)
theorem dX5_isHidden_50 : decode cX5_isHidden 50 = .ok (.imul, 1) := dk_104 (dk_at dksX5_isHidden_2 2 rfl rfl)
theorem dX5_isHidden_51 : decode cX5_isHidden 51 = .ok (.iadd, 1) := dk_96 (dk_at dksX5_isHidden_2 3 rfl rfl)
theorem dX5_isHidden_52 : decode cX5_isHidden 52 = .ok (.iaload, 1) := dk_46 (dk_at dksX5_isHidden_2 4 rfl rfl)
theorem dX5_isHidden_53 : decode cX5_isHidden 53 = .ok (.goto 4, 3) := dk_167 0 4 (dk_at dksX5_isHidden_2 5 rfl rfl)
theorem dX5_isHidden_56 : decode cX5_isHidden 56 = .ok (.iload_n 2, 1) := dk_28 (dk_at dksX5_isHidden_2 8 rfl rfl)
theorem dX5_isHidden_57 : decode cX5_isHidden 57 = .ok (.istore_n 2, 1) := dk_61 (dk_at dksX5_isHidden_2 9 rfl rfl)
theorem dX5_isHidden_58 : decode cX5_isHidden 58 = .ok (.iinc 3 1, 3) := dk_132 3 1 (dk_at dksX5_isHidden_2 10 rfl rfl)
theorem dX5_isHidden_61 : decode cX5_isHidden 61 = .ok (.goto (-44), 3) := dk_167 255 212 (dk_at dksX5_isHidden_2 13 rfl rfl)
theorem dX5_isHidden_64 : decode cX5_isHidden 64 = .ok (.aload_n 0, 1) := dk_42 (dk_at dksX5_isHidden_2 16 rfl rfl)
theorem dX5_isHidden_65 : decode cX5_isHidden 65 = .ok (.bipush 16, 2) := dk_16 16 (dk_at dksX5_isHidden_2 17 rfl rfl)
theorem dX5_isHidden_67 : decode cX5_isHidden 67 = .ok (.invokevirtual 187, 3) := dk_182 0 187 (dk_at dksX5_isHidden_2 19 rfl rfl)
theorem dX5_isHidden_70 : decode cX5_isHidden 70 = .ok (.aload_n 0, 1) := dk_42 (dk_at dksX5_isHidden_2 22 rfl rfl)
theorem dX5_isHidden_71 : decode cX5_isHidden 71 = .ok (.iload_n 1, 1) := dk_27 (dk_at dksX5_isHidden_2 23 rfl rfl)
theorem dX5_isHidden_72 : decode cX5_isHidden 72 = .ok (.invokevirtual 516, 3) := dk_182 2 4 (dk_at dksX5_isHidden_3 0 rfl rfl)
theorem dX5_isHidden_75 : decode cX5_isHidden 75 = .ok (.aload_n 0, 1) := dk_42 (dk_at dksX5_isHidden_3 3 rfl rfl)
theorem dX5_isHidden_76 : decode cX5_isHidden 76 = .ok (.iconst 0, 1) := dk_3 (dk_at dksX5_isHidden_3 4 rfl rfl)
theorem dX5_isHidden_77 : decode cX5_isHidden 77 = .ok (.invokevirtual 519, 3) := dk_182 2 7 (dk_at dksX5_isHidden_3 5 rfl rfl)
theorem dX5_isHidden_80 : decode cX5_isHidden 80 = .ok (.istore_n 3, 1) := dk_62 (dk_at dksX5_isHidden_3 8 rfl rfl)
theorem dX5_isHidden_81 : decode cX5_isHidden 81 = .ok (.iconst 1, 1) := dk_4 (dk_at dksX5_isHidden_3 9 rfl rfl)
theorem dX5_isHidden_82 : decode cX5_isHidden 82 = .ok (.istore 4, 2) := dk_54 4 (dk_at dksX5_isHidden_3 10 rfl rfl)
theorem dX5_isHidden_84 : decode cX5_isHidden 84 = .ok (.iload 4, 2) := dk_21 4 (dk_at dksX5_isHidden_3 12 rfl rfl)
theorem dX5_isHidden_86 : decode cX5_isHidden 86 = .ok (.iload_n 2, 1) := dk_28 (dk_at dksX5_isHidden_3 14 rfl rfl)
theorem dX5_isHidden_87 : decode cX5_isHidden 87 = .ok (.if_icmp .gt 25, 3) := dk_163 0 25 (dk_at dksX5_isHidden_3 15 rfl rfl)
theorem dX5_isHidden_90 : decode cX5_isHidden 90 = .ok (.iload_n 3, 1) := dk_29 (dk_at dksX5_isHidden_3 18 rfl rfl)
theorem dX5_isHidden_91 : decode cX5_isHidden 91 = .ok (.ifCond .eq 21, 3) := dk_153 0 21 (dk_at dksX5_isHidden_3 19 rfl rfl)
theorem dX5_isHidden_94 : decode cX5_isHidden 94 = .ok (.aload_n 0, 1) := dk_42 (dk_at dksX5_isHidden_3 22 rfl rfl)
theorem dX5_isHidden_95 : decode cX5_isHidden 95 = .ok (.invokevirtual 479, 3) := dk_182 1 223 (dk_at dksX5_isHidden_4 0 rfl rfl)
theorem dX5_isHidden_98 : decode cX5_isHidden 98 = .ok (.pop, 1) := dk_87 (dk_at dksX5_isHidden_4 3 rfl rfl)
theorem dX5_isHidden_99 : decode cX5_isHidden 99 = .ok (.aload_n 0, 1) := dk_42 (dk_at dksX5_isHidden_4 4 rfl rfl)
theorem dX5_isHidden_100 : decode cX5_isHidden 100 = .ok (.iload 4, 2) := dk_21 4 (dk_at dksX5_isHidden_4 5 rfl rfl)
theorem dX5_isHidden_102 : decode cX5_isHidden 102 = .ok (.invokevirtual 519, 3) := dk_182 2 7 (dk_at dksX5_isHidden_4 7 rfl rfl)
theorem dX5_isHidden_105 : decode cX5_isHidden 105 = .ok (.istore_n 3, 1) := dk_62 (dk_at dksX5_isHidden_4 10 rfl rfl)
theorem dX5_isHidden_106 : decode cX5_isHidden 106 = .ok (.iinc 4 1, 3) := dk_132 4 1 (dk_at dksX5_isHidden_4 11 rfl rfl)
theorem dX5_isHidden_109 : decode cX5_isHidden 109 = .ok (.goto (-25), 3) := dk_167 255 231 (dk_at dksX5_isHidden_4 14 rfl rfl)
theorem dX5_isHidden_112 : decode cX5_isHidden 112 = .ok (.aload_n 0, 1) := dk_42 (dk_at dksX5_isHidden_4 17 rfl rfl)
theorem dX5_isHidden_113 : decode cX5_isHidden 113 = .ok (.bipush 16, 2) := dk_16 16 (dk_at dksX5_isHidden_4 18 rfl rfl)
theorem dX5_isHidden_115 : decode cX5_isHidden 115 = .ok (.invokevirtual 191, 3) := dk_182 0 191 (dk_at dksX5_isHidden_4 20 rfl rfl)
theorem dX5_isHidden_118 : decode cX5_isHidden 118 = .ok (.iload_n 3, 1) := dk_29 (dk_at dksX5_isHidden_4 23 rfl rfl)
theorem dX5_isHidden_119 : decode cX5_isHidden 119 = .ok (.ireturn, 1) := dk_172 (dk_at dksX5_isHidden_5 0 rfl rfl)
abbrev cX5_hide : ByteArray := prog_22_method_100_code
def yX5_hide : MethodName := ⟨RX5, "hide", "(I)V"⟩
def dkwX5_hide_1 : List UInt8 := [16, 6, 108, 96, 4, 79, 177]
abbrev dktX5_hide_1 : List UInt8 := dkwX5_hide_1 ++ []
def dkwX5_hide_0 : List UInt8 := [42, 180, 0, 13, 16, 8, 27, 16, 6, 108, 96, 27, 16, 6, 112, 79, 42, 180, 0, 13, 16, 24, 27]
abbrev dktX5_hide_0 : List UInt8 := dkwX5_hide_0 ++ dktX5_hide_1
theorem dksX5_hide_0 : cX5_hide.data.toList.drop 0 = dktX5_hide_0 := by decide +kernel
theorem dksX5_hide_1 : cX5_hide.data.toList.drop 23 = dktX5_hide_1 := dk_seg dksX5_hide_0 23 rfl rfl
theorem dX5_hide_0 : decode cX5_hide 0 = .ok (.aload_n 0, 1) := dk_42 (dk_at dksX5_hide_0 0 rfl rfl)
theorem dX5_hide_1 : decode cX5_hide 1 = .ok (.getfield 13, 3) := dk_180 0 13 (dk_at dksX5_hide_0 1 rfl rfl)
theorem dX5_hide_4 : decode cX5_hide 4 = .ok (.bipush 8, 2) := dk_16 8 (dk_at dksX5_hide_0 4 rfl rfl)
theorem dX5_hide_6 : decode cX5_hide 6 = .ok (.iload_n 1, 1) := dk_27 (dk_at dksX5_hide_0 6 rfl rfl)
theorem dX5_hide_7 : decode cX5_hide 7 = .ok (.bipush 6, 2) := dk_16 6 (dk_at dksX5_hide_0 7 rfl rfl)
theorem dX5_hide_9 : decode cX5_hide 9 = .ok (.idiv, 1) := dk_108 (dk_at dksX5_hide_0 9 rfl rfl)
theorem dX5_hide_10 : decode cX5_hide 10 = .ok (.iadd, 1) := dk_96 (dk_at dksX5_hide_0 10 rfl rfl)
theorem dX5_hide_11 : decode cX5_hide 11 = .ok (.iload_n 1, 1) := dk_27 (dk_at dksX5_hide_0 11 rfl rfl)
theorem dX5_hide_12 : decode cX5_hide 12 = .ok (.bipush 6, 2) := dk_16 6 (dk_at dksX5_hide_0 12 rfl rfl)
theorem dX5_hide_14 : decode cX5_hide 14 = .ok (.irem, 1) := dk_112 (dk_at dksX5_hide_0 14 rfl rfl)
theorem dX5_hide_15 : decode cX5_hide 15 = .ok (.iastore, 1) := dk_79 (dk_at dksX5_hide_0 15 rfl rfl)
theorem dX5_hide_16 : decode cX5_hide 16 = .ok (.aload_n 0, 1) := dk_42 (dk_at dksX5_hide_0 16 rfl rfl)
theorem dX5_hide_17 : decode cX5_hide 17 = .ok (.getfield 13, 3) := dk_180 0 13 (dk_at dksX5_hide_0 17 rfl rfl)
theorem dX5_hide_20 : decode cX5_hide 20 = .ok (.bipush 24, 2) := dk_16 24 (dk_at dksX5_hide_0 20 rfl rfl)
theorem dX5_hide_22 : decode cX5_hide 22 = .ok (.iload_n 1, 1) := dk_27 (dk_at dksX5_hide_0 22 rfl rfl)
theorem dX5_hide_23 : decode cX5_hide 23 = .ok (.bipush 6, 2) := dk_16 6 (dk_at dksX5_hide_1 0 rfl rfl)
theorem dX5_hide_25 : decode cX5_hide 25 = .ok (.idiv, 1) := dk_108 (dk_at dksX5_hide_1 2 rfl rfl)
theorem dX5_hide_26 : decode cX5_hide 26 = .ok (.iadd, 1) := dk_96 (dk_at dksX5_hide_1 3 rfl rfl)
theorem dX5_hide_27 : decode cX5_hide 27 = .ok (.iconst 1, 1) := dk_4 (dk_at dksX5_hide_1 4 rfl rfl)
theorem dX5_hide_28 : decode cX5_hide 28 = .ok (.iastore, 1) := dk_79 (dk_at dksX5_hide_1 5 rfl rfl)
theorem dX5_hide_29 : decode cX5_hide 29 = .ok (.return_, 1) := dk_177 (dk_at dksX5_hide_1 6 rfl rfl)
abbrev cX5_isAsSeen : ByteArray := prog_22_method_99_code
def yX5_isAsSeen : MethodName := ⟨RX5, "isAsSeen", "(I)Z"⟩
def dkwX5_isAsSeen_3 : List UInt8 := [61, 132, 3, 1, 167, 255, 185, 28, 172]
abbrev dktX5_isAsSeen_3 : List UInt8 := dkwX5_isAsSeen_3 ++ []
def dkwX5_isAsSeen_2 : List UInt8 := [21, 4, 4, 96, 46, 96, 46, 42, 180, 0, 13, 21, 4, 5, 96, 46, 160, 0, 7, 4, 167, 0, 4, 3]
abbrev dktX5_isAsSeen_2 : List UInt8 := dkwX5_isAsSeen_2 ++ dktX5_isAsSeen_3
def dkwX5_isAsSeen_1 : List UInt8 := [153, 0, 47, 42, 180, 0, 13, 21, 4, 46, 27, 160, 0, 32, 42, 180, 0, 13, 16, 8, 42, 180, 0, 13]
abbrev dktX5_isAsSeen_1 : List UInt8 := dkwX5_isAsSeen_1 ++ dktX5_isAsSeen_2
def dkwX5_isAsSeen_0 : List UInt8 := [4, 61, 3, 62, 29, 42, 180, 0, 13, 3, 46, 162, 0, 67, 16, 116, 6, 29, 104, 96, 54, 4, 28]
abbrev dktX5_isAsSeen_0 : List UInt8 := dkwX5_isAsSeen_0 ++ dktX5_isAsSeen_1
theorem dksX5_isAsSeen_0 : cX5_isAsSeen.data.toList.drop 0 = dktX5_isAsSeen_0 := by decide +kernel
theorem dksX5_isAsSeen_1 : cX5_isAsSeen.data.toList.drop 23 = dktX5_isAsSeen_1 := dk_seg dksX5_isAsSeen_0 23 rfl rfl
theorem dksX5_isAsSeen_2 : cX5_isAsSeen.data.toList.drop 47 = dktX5_isAsSeen_2 := dk_seg dksX5_isAsSeen_1 24 rfl rfl
theorem dksX5_isAsSeen_3 : cX5_isAsSeen.data.toList.drop 71 = dktX5_isAsSeen_3 := dk_seg dksX5_isAsSeen_2 24 rfl rfl
theorem dX5_isAsSeen_0 : decode cX5_isAsSeen 0 = .ok (.iconst 1, 1) := dk_4 (dk_at dksX5_isAsSeen_0 0 rfl rfl)
theorem dX5_isAsSeen_1 : decode cX5_isAsSeen 1 = .ok (.istore_n 2, 1) := dk_61 (dk_at dksX5_isAsSeen_0 1 rfl rfl)
theorem dX5_isAsSeen_2 : decode cX5_isAsSeen 2 = .ok (.iconst 0, 1) := dk_3 (dk_at dksX5_isAsSeen_0 2 rfl rfl)
theorem dX5_isAsSeen_3 : decode cX5_isAsSeen 3 = .ok (.istore_n 3, 1) := dk_62 (dk_at dksX5_isAsSeen_0 3 rfl rfl)
theorem dX5_isAsSeen_4 : decode cX5_isAsSeen 4 = .ok (.iload_n 3, 1) := dk_29 (dk_at dksX5_isAsSeen_0 4 rfl rfl)
theorem dX5_isAsSeen_5 : decode cX5_isAsSeen 5 = .ok (.aload_n 0, 1) := dk_42 (dk_at dksX5_isAsSeen_0 5 rfl rfl)
theorem dX5_isAsSeen_6 : decode cX5_isAsSeen 6 = .ok (.getfield 13, 3) := dk_180 0 13 (dk_at dksX5_isAsSeen_0 6 rfl rfl)
theorem dX5_isAsSeen_9 : decode cX5_isAsSeen 9 = .ok (.iconst 0, 1) := dk_3 (dk_at dksX5_isAsSeen_0 9 rfl rfl)
theorem dX5_isAsSeen_10 : decode cX5_isAsSeen 10 = .ok (.iaload, 1) := dk_46 (dk_at dksX5_isAsSeen_0 10 rfl rfl)
theorem dX5_isAsSeen_11 : decode cX5_isAsSeen 11 = .ok (.if_icmp .ge 67, 3) := dk_162 0 67 (dk_at dksX5_isAsSeen_0 11 rfl rfl)
theorem dX5_isAsSeen_14 : decode cX5_isAsSeen 14 = .ok (.bipush 116, 2) := dk_16 116 (dk_at dksX5_isAsSeen_0 14 rfl rfl)
theorem dX5_isAsSeen_16 : decode cX5_isAsSeen 16 = .ok (.iconst 3, 1) := dk_6 (dk_at dksX5_isAsSeen_0 16 rfl rfl)
theorem dX5_isAsSeen_17 : decode cX5_isAsSeen 17 = .ok (.iload_n 3, 1) := dk_29 (dk_at dksX5_isAsSeen_0 17 rfl rfl)
theorem dX5_isAsSeen_18 : decode cX5_isAsSeen 18 = .ok (.imul, 1) := dk_104 (dk_at dksX5_isAsSeen_0 18 rfl rfl)
theorem dX5_isAsSeen_19 : decode cX5_isAsSeen 19 = .ok (.iadd, 1) := dk_96 (dk_at dksX5_isAsSeen_0 19 rfl rfl)
theorem dX5_isAsSeen_20 : decode cX5_isAsSeen 20 = .ok (.istore 4, 2) := dk_54 4 (dk_at dksX5_isAsSeen_0 20 rfl rfl)
theorem dX5_isAsSeen_22 : decode cX5_isAsSeen 22 = .ok (.iload_n 2, 1) := dk_28 (dk_at dksX5_isAsSeen_0 22 rfl rfl)
theorem dX5_isAsSeen_23 : decode cX5_isAsSeen 23 = .ok (.ifCond .eq 47, 3) := dk_153 0 47 (dk_at dksX5_isAsSeen_1 0 rfl rfl)
theorem dX5_isAsSeen_26 : decode cX5_isAsSeen 26 = .ok (.aload_n 0, 1) := dk_42 (dk_at dksX5_isAsSeen_1 3 rfl rfl)
theorem dX5_isAsSeen_27 : decode cX5_isAsSeen 27 = .ok (.getfield 13, 3) := dk_180 0 13 (dk_at dksX5_isAsSeen_1 4 rfl rfl)
theorem dX5_isAsSeen_30 : decode cX5_isAsSeen 30 = .ok (.iload 4, 2) := dk_21 4 (dk_at dksX5_isAsSeen_1 7 rfl rfl)
theorem dX5_isAsSeen_32 : decode cX5_isAsSeen 32 = .ok (.iaload, 1) := dk_46 (dk_at dksX5_isAsSeen_1 9 rfl rfl)
theorem dX5_isAsSeen_33 : decode cX5_isAsSeen 33 = .ok (.iload_n 1, 1) := dk_27 (dk_at dksX5_isAsSeen_1 10 rfl rfl)
theorem dX5_isAsSeen_34 : decode cX5_isAsSeen 34 = .ok (.if_icmp .ne 32, 3) := dk_160 0 32 (dk_at dksX5_isAsSeen_1 11 rfl rfl)
theorem dX5_isAsSeen_37 : decode cX5_isAsSeen 37 = .ok (.aload_n 0, 1) := dk_42 (dk_at dksX5_isAsSeen_1 14 rfl rfl)
theorem dX5_isAsSeen_38 : decode cX5_isAsSeen 38 = .ok (.getfield 13, 3) := dk_180 0 13 (dk_at dksX5_isAsSeen_1 15 rfl rfl)
theorem dX5_isAsSeen_41 : decode cX5_isAsSeen 41 = .ok (.bipush 8, 2) := dk_16 8 (dk_at dksX5_isAsSeen_1 18 rfl rfl)
theorem dX5_isAsSeen_43 : decode cX5_isAsSeen 43 = .ok (.aload_n 0, 1) := dk_42 (dk_at dksX5_isAsSeen_1 20 rfl rfl)
theorem dX5_isAsSeen_44 : decode cX5_isAsSeen 44 = .ok (.getfield 13, 3) := dk_180 0 13 (dk_at dksX5_isAsSeen_1 21 rfl rfl)
theorem dX5_isAsSeen_47 : decode cX5_isAsSeen 47 = .ok (.iload 4, 2) := dk_21 4 (dk_at dksX5_isAsSeen_2 0 rfl rfl)
theorem dX5_isAsSeen_49 : decode cX5_isAsSeen 49 = .ok (.iconst 1, 1) := dk_4 (dk_at dksX5_isAsSeen_2 2 rfl rfl)
theorem dX5_isAsSeen_50 : decode cX5_isAsSeen 50 = .ok (.iadd, 1) := dk_96 (dk_at dksX5_isAsSeen_2 3 rfl rfl)
theorem dX5_isAsSeen_51 : decode cX5_isAsSeen 51 = .ok (.iaload, 1) := dk_46 (dk_at dksX5_isAsSeen_2 4 rfl rfl)
theorem dX5_isAsSeen_52 : decode cX5_isAsSeen 52 = .ok (.iadd, 1) := dk_96 (dk_at dksX5_isAsSeen_2 5 rfl rfl)
theorem dX5_isAsSeen_53 : decode cX5_isAsSeen 53 = .ok (.iaload, 1) := dk_46 (dk_at dksX5_isAsSeen_2 6 rfl rfl)
theorem dX5_isAsSeen_54 : decode cX5_isAsSeen 54 = .ok (.aload_n 0, 1) := dk_42 (dk_at dksX5_isAsSeen_2 7 rfl rfl)
theorem dX5_isAsSeen_55 : decode cX5_isAsSeen 55 = .ok (.getfield 13, 3) := dk_180 0 13 (dk_at dksX5_isAsSeen_2 8 rfl rfl)
theorem dX5_isAsSeen_58 : decode cX5_isAsSeen 58 = .ok (.iload 4, 2) := dk_21 4 (dk_at dksX5_isAsSeen_2 11 rfl rfl)
theorem dX5_isAsSeen_60 : decode cX5_isAsSeen 60 = .ok (.iconst 2, 1) := dk_5 (dk_at dksX5_isAsSeen_2 13 rfl rfl)
theorem dX5_isAsSeen_61 : decode cX5_isAsSeen 61 = .ok (.iadd, 1) := dk_96 (dk_at dksX5_isAsSeen_2 14 rfl rfl)
theorem dX5_isAsSeen_62 : decode cX5_isAsSeen 62 = .ok (.iaload, 1) := dk_46 (dk_at dksX5_isAsSeen_2 15 rfl rfl)
theorem dX5_isAsSeen_63 : decode cX5_isAsSeen 63 = .ok (.if_icmp .ne 7, 3) := dk_160 0 7 (dk_at dksX5_isAsSeen_2 16 rfl rfl)
theorem dX5_isAsSeen_66 : decode cX5_isAsSeen 66 = .ok (.iconst 1, 1) := dk_4 (dk_at dksX5_isAsSeen_2 19 rfl rfl)
theorem dX5_isAsSeen_67 : decode cX5_isAsSeen 67 = .ok (.goto 4, 3) := dk_167 0 4 (dk_at dksX5_isAsSeen_2 20 rfl rfl)
theorem dX5_isAsSeen_70 : decode cX5_isAsSeen 70 = .ok (.iconst 0, 1) := dk_3 (dk_at dksX5_isAsSeen_2 23 rfl rfl)
theorem dX5_isAsSeen_71 : decode cX5_isAsSeen 71 = .ok (.istore_n 2, 1) := dk_61 (dk_at dksX5_isAsSeen_3 0 rfl rfl)
theorem dX5_isAsSeen_72 : decode cX5_isAsSeen 72 = .ok (.iinc 3 1, 3) := dk_132 3 1 (dk_at dksX5_isAsSeen_3 1 rfl rfl)
theorem dX5_isAsSeen_75 : decode cX5_isAsSeen 75 = .ok (.goto (-71), 3) := dk_167 255 185 (dk_at dksX5_isAsSeen_3 4 rfl rfl)
theorem dX5_isAsSeen_78 : decode cX5_isAsSeen 78 = .ok (.iload_n 2, 1) := dk_28 (dk_at dksX5_isAsSeen_3 7 rfl rfl)
theorem dX5_isAsSeen_79 : decode cX5_isAsSeen 79 = .ok (.ireturn, 1) := dk_172 (dk_at dksX5_isAsSeen_3 8 rfl rfl)
abbrev cX5_next : ByteArray := prog_22_method_104_code
def yX5_next : MethodName := ⟨RX5, "next", "(II)I"⟩
def dkwX5_next_9 : List UInt8 := [167, 0, 5, 21, 4, 172]
abbrev dktX5_next_9 : List UInt8 := dkwX5_next_9 ++ []
def dkwX5_next_8 : List UInt8 := [21, 4, 54, 4, 132, 6, 1, 167, 255, 157, 29, 154, 0, 7, 2, 167, 0, 14, 28, 154, 0, 8, 21, 5]
abbrev dktX5_next_8 : List UInt8 := dkwX5_next_8 ++ dktX5_next_9
def dkwX5_next_7 : List UInt8 := [162, 0, 8, 21, 6, 167, 0, 5, 21, 5, 54, 5, 21, 7, 21, 4, 162, 0, 8, 21, 7, 167, 0, 5]
abbrev dktX5_next_7 : List UInt8 := dkwX5_next_7 ++ dktX5_next_8
def dkwX5_next_6 : List UInt8 := [21, 6, 104, 21, 8, 96, 46, 167, 0, 5, 21, 7, 54, 7, 132, 8, 1, 167, 255, 208, 21, 7, 21, 4]
abbrev dktX5_next_6 : List UInt8 := dkwX5_next_6 ++ dktX5_next_7
def dkwX5_next_5 : List UInt8 := [180, 0, 143, 16, 7, 21, 6, 104, 21, 8, 96, 46, 21, 7, 164, 0, 19, 42, 180, 0, 143, 16, 7]
abbrev dktX5_next_5 : List UInt8 := dkwX5_next_5 ++ dktX5_next_6
def dkwX5_next_4 : List UInt8 := [54, 6, 21, 6, 16, 16, 162, 0, 98, 3, 54, 7, 3, 54, 8, 21, 8, 16, 7, 162, 0, 47, 42]
abbrev dktX5_next_4 : List UInt8 := dkwX5_next_4 ++ dktX5_next_5
def dkwX5_next_3 : List UInt8 := [4, 62, 42, 21, 4, 27, 182, 2, 13, 132, 4, 1, 167, 255, 228, 19, 2, 16, 54, 4, 2, 54, 5, 3]
abbrev dktX5_next_3 : List UInt8 := dkwX5_next_3 ++ dktX5_next_4
def dkwX5_next_2 : List UInt8 := [167, 255, 240, 3, 62, 3, 54, 4, 21, 4, 16, 96, 162, 0, 27, 42, 21, 4, 182, 2, 10, 153, 0, 12]
abbrev dktX5_next_2 : List UInt8 := dkwX5_next_2 ++ dktX5_next_3
def dkwX5_next_1 : List UInt8 := [154, 0, 5, 2, 172, 3, 62, 29, 16, 112, 162, 0, 16, 42, 180, 0, 143, 29, 3, 79, 132, 3, 1]
abbrev dktX5_next_1 : List UInt8 := dkwX5_next_1 ++ dktX5_next_2
def dkwX5_next_0 : List UInt8 := [42, 3, 181, 0, 174, 27, 133, 9, 20, 1, 43, 184, 0, 194, 153, 0, 13, 28, 133, 9, 10, 184, 0, 194]
abbrev dktX5_next_0 : List UInt8 := dkwX5_next_0 ++ dktX5_next_1
theorem dksX5_next_0 : cX5_next.data.toList.drop 0 = dktX5_next_0 := by decide +kernel
theorem dksX5_next_1 : cX5_next.data.toList.drop 24 = dktX5_next_1 := dk_seg dksX5_next_0 24 rfl rfl
theorem dksX5_next_2 : cX5_next.data.toList.drop 47 = dktX5_next_2 := dk_seg dksX5_next_1 23 rfl rfl
theorem dksX5_next_3 : cX5_next.data.toList.drop 71 = dktX5_next_3 := dk_seg dksX5_next_2 24 rfl rfl
theorem dksX5_next_4 : cX5_next.data.toList.drop 95 = dktX5_next_4 := dk_seg dksX5_next_3 24 rfl rfl
theorem dksX5_next_5 : cX5_next.data.toList.drop 118 = dktX5_next_5 := dk_seg dksX5_next_4 23 rfl rfl
theorem dksX5_next_6 : cX5_next.data.toList.drop 141 = dktX5_next_6 := dk_seg dksX5_next_5 23 rfl rfl
theorem dksX5_next_7 : cX5_next.data.toList.drop 165 = dktX5_next_7 := dk_seg dksX5_next_6 24 rfl rfl
theorem dksX5_next_8 : cX5_next.data.toList.drop 189 = dktX5_next_8 := dk_seg dksX5_next_7 24 rfl rfl
theorem dksX5_next_9 : cX5_next.data.toList.drop 213 = dktX5_next_9 := dk_seg dksX5_next_8 24 rfl rfl
theorem dX5_next_0 : decode cX5_next 0 = .ok (.aload_n 0, 1) := dk_42 (dk_at dksX5_next_0 0 rfl rfl)
theorem dX5_next_1 : decode cX5_next 1 = .ok (.iconst 0, 1) := dk_3 (dk_at dksX5_next_0 1 rfl rfl)
theorem dX5_next_2 : decode cX5_next 2 = .ok (.putfield 174, 3) := dk_181 0 174 (dk_at dksX5_next_0 2 rfl rfl)
theorem dX5_next_5 : decode cX5_next 5 = .ok (.iload_n 1, 1) := dk_27 (dk_at dksX5_next_0 5 rfl rfl)
theorem dX5_next_6 : decode cX5_next 6 = .ok (.i2l, 1) := dk_133 (dk_at dksX5_next_0 6 rfl rfl)
theorem dX5_next_7 : decode cX5_next 7 = .ok (.lconst 0, 1) := dk_9 (dk_at dksX5_next_0 7 rfl rfl)
theorem dX5_next_8 : decode cX5_next 8 = .ok (.ldc2_w 299, 3) := dk_20 1 43 (dk_at dksX5_next_0 8 rfl rfl)
theorem dX5_next_11 : decode cX5_next 11 = .ok (.invokestatic 194, 3) := dk_184 0 194 (dk_at dksX5_next_0 11 rfl rfl)
theorem dX5_next_14 : decode cX5_next 14 = .ok (.ifCond .eq 13, 3) := dk_153 0 13 (dk_at dksX5_next_0 14 rfl rfl)
theorem dX5_next_17 : decode cX5_next 17 = .ok (.iload_n 2, 1) := dk_28 (dk_at dksX5_next_0 17 rfl rfl)
theorem dX5_next_18 : decode cX5_next 18 = .ok (.i2l, 1) := dk_133 (dk_at dksX5_next_0 18 rfl rfl)
theorem dX5_next_19 : decode cX5_next 19 = .ok (.lconst 0, 1) := dk_9 (dk_at dksX5_next_0 19 rfl rfl)
theorem dX5_next_20 : decode cX5_next 20 = .ok (.lconst 1, 1) := dk_10 (dk_at dksX5_next_0 20 rfl rfl)
theorem dX5_next_21 : decode cX5_next 21 = .ok (.invokestatic 194, 3) := dk_184 0 194 (dk_at dksX5_next_0 21 rfl rfl)
theorem dX5_next_24 : decode cX5_next 24 = .ok (.ifCond .ne 5, 3) := dk_154 0 5 (dk_at dksX5_next_1 0 rfl rfl)
theorem dX5_next_27 : decode cX5_next 27 = .ok (.iconst (-1), 1) := dk_2 (dk_at dksX5_next_1 3 rfl rfl)
theorem dX5_next_28 : decode cX5_next 28 = .ok (.ireturn, 1) := dk_172 (dk_at dksX5_next_1 4 rfl rfl)
theorem dX5_next_29 : decode cX5_next 29 = .ok (.iconst 0, 1) := dk_3 (dk_at dksX5_next_1 5 rfl rfl)
theorem dX5_next_30 : decode cX5_next 30 = .ok (.istore_n 3, 1) := dk_62 (dk_at dksX5_next_1 6 rfl rfl)
theorem dX5_next_31 : decode cX5_next 31 = .ok (.iload_n 3, 1) := dk_29 (dk_at dksX5_next_1 7 rfl rfl)
theorem dX5_next_32 : decode cX5_next 32 = .ok (.bipush 112, 2) := dk_16 112 (dk_at dksX5_next_1 8 rfl rfl)
theorem dX5_next_34 : decode cX5_next 34 = .ok (.if_icmp .ge 16, 3) := dk_162 0 16 (dk_at dksX5_next_1 10 rfl rfl)
theorem dX5_next_37 : decode cX5_next 37 = .ok (.aload_n 0, 1) := dk_42 (dk_at dksX5_next_1 13 rfl rfl)
theorem dX5_next_38 : decode cX5_next 38 = .ok (.getfield 143, 3) := dk_180 0 143 (dk_at dksX5_next_1 14 rfl rfl)
theorem dX5_next_41 : decode cX5_next 41 = .ok (.iload_n 3, 1) := dk_29 (dk_at dksX5_next_1 17 rfl rfl)
theorem dX5_next_42 : decode cX5_next 42 = .ok (.iconst 0, 1) := dk_3 (dk_at dksX5_next_1 18 rfl rfl)
theorem dX5_next_43 : decode cX5_next 43 = .ok (.iastore, 1) := dk_79 (dk_at dksX5_next_1 19 rfl rfl)
theorem dX5_next_44 : decode cX5_next 44 = .ok (.iinc 3 1, 3) := dk_132 3 1 (dk_at dksX5_next_1 20 rfl rfl)
theorem dX5_next_47 : decode cX5_next 47 = .ok (.goto (-16), 3) := dk_167 255 240 (dk_at dksX5_next_2 0 rfl rfl)
theorem dX5_next_50 : decode cX5_next 50 = .ok (.iconst 0, 1) := dk_3 (dk_at dksX5_next_2 3 rfl rfl)
theorem dX5_next_51 : decode cX5_next 51 = .ok (.istore_n 3, 1) := dk_62 (dk_at dksX5_next_2 4 rfl rfl)
theorem dX5_next_52 : decode cX5_next 52 = .ok (.iconst 0, 1) := dk_3 (dk_at dksX5_next_2 5 rfl rfl)
theorem dX5_next_53 : decode cX5_next 53 = .ok (.istore 4, 2) := dk_54 4 (dk_at dksX5_next_2 6 rfl rfl)
theorem dX5_next_55 : decode cX5_next 55 = .ok (.iload 4, 2) := dk_21 4 (dk_at dksX5_next_2 8 rfl rfl)
theorem dX5_next_57 : decode cX5_next 57 = .ok (.bipush 96, 2) := dk_16 96 (dk_at dksX5_next_2 10 rfl rfl)
theorem dX5_next_59 : decode cX5_next 59 = .ok (.if_icmp .ge 27, 3) := dk_162 0 27 (dk_at dksX5_next_2 12 rfl rfl)
theorem dX5_next_62 : decode cX5_next 62 = .ok (.aload_n 0, 1) := dk_42 (dk_at dksX5_next_2 15 rfl rfl)
theorem dX5_next_63 : decode cX5_next 63 = .ok (.iload 4, 2) := dk_21 4 (dk_at dksX5_next_2 16 rfl rfl)
theorem dX5_next_65 : decode cX5_next 65 = .ok (.invokevirtual 522, 3) := dk_182 2 10 (dk_at dksX5_next_2 18 rfl rfl)
theorem dX5_next_68 : decode cX5_next 68 = .ok (.ifCond .eq 12, 3) := dk_153 0 12 (dk_at dksX5_next_2 21 rfl rfl)
theorem dX5_next_71 : decode cX5_next 71 = .ok (.iconst 1, 1) := dk_4 (dk_at dksX5_next_3 0 rfl rfl)
theorem dX5_next_72 : decode cX5_next 72 = .ok (.istore_n 3, 1) := dk_62 (dk_at dksX5_next_3 1 rfl rfl)
theorem dX5_next_73 : decode cX5_next 73 = .ok (.aload_n 0, 1) := dk_42 (dk_at dksX5_next_3 2 rfl rfl)
theorem dX5_next_74 : decode cX5_next 74 = .ok (.iload 4, 2) := dk_21 4 (dk_at dksX5_next_3 3 rfl rfl)
theorem dX5_next_76 : decode cX5_next 76 = .ok (.iload_n 1, 1) := dk_27 (dk_at dksX5_next_3 5 rfl rfl)
theorem dX5_next_77 : decode cX5_next 77 = .ok (.invokevirtual 525, 3) := dk_182 2 13 (dk_at dksX5_next_3 6 rfl rfl)
theorem dX5_next_80 : decode cX5_next 80 = .ok (.iinc 4 1, 3) := dk_132 4 1 (dk_at dksX5_next_3 9 rfl rfl)
theorem dX5_next_83 : decode cX5_next 83 = .ok (.goto (-28), 3) := dk_167 255 228 (dk_at dksX5_next_3 12 rfl rfl)
theorem dX5_next_86 : decode cX5_next 86 = .ok (.ldc_w 528, 3) := dk_19 2 16 (dk_at dksX5_next_3 15 rfl rfl)
theorem dX5_next_89 : decode cX5_next 89 = .ok (.istore 4, 2) := dk_54 4 (dk_at dksX5_next_3 18 rfl rfl)
theorem dX5_next_91 : decode cX5_next 91 = .ok (.iconst (-1), 1) := dk_2 (dk_at dksX5_next_3 20 rfl rfl)
theorem dX5_next_92 : decode cX5_next 92 = .ok (.istore 5, 2) := dk_54 5 (dk_at dksX5_next_3 21 rfl rfl)
theorem dX5_next_94 : decode cX5_next 94 = .ok (.iconst 0, 1) := dk_3 (dk_at dksX5_next_3 23 rfl rfl)
theorem dX5_next_95 : decode cX5_next 95 = .ok (.istore 6, 2) := dk_54 6 (dk_at dksX5_next_4 0 rfl rfl)
theorem dX5_next_97 : decode cX5_next 97 = .ok (.iload 6, 2) := dk_21 6 (dk_at dksX5_next_4 2 rfl rfl)
theorem dX5_next_99 : decode cX5_next 99 = .ok (.bipush 16, 2) := dk_16 16 (dk_at dksX5_next_4 4 rfl rfl)
theorem dX5_next_101 : decode cX5_next 101 = .ok (.if_icmp .ge 98, 3) := dk_162 0 98 (dk_at dksX5_next_4 6 rfl rfl)
theorem dX5_next_104 : decode cX5_next 104 = .ok (.iconst 0, 1) := dk_3 (dk_at dksX5_next_4 9 rfl rfl)
theorem dX5_next_105 : decode cX5_next 105 = .ok (.istore 7, 2) := dk_54 7 (dk_at dksX5_next_4 10 rfl rfl)
theorem dX5_next_107 : decode cX5_next 107 = .ok (.iconst 0, 1) := dk_3 (dk_at dksX5_next_4 12 rfl rfl)
theorem dX5_next_108 : decode cX5_next 108 = .ok (.istore 8, 2) := dk_54 8 (dk_at dksX5_next_4 13 rfl rfl)
theorem dX5_next_110 : decode cX5_next 110 = .ok (.iload 8, 2) := dk_21 8 (dk_at dksX5_next_4 15 rfl rfl)
theorem dX5_next_112 : decode cX5_next 112 = .ok (.bipush 7, 2) := dk_16 7 (dk_at dksX5_next_4 17 rfl rfl)
theorem dX5_next_114 : decode cX5_next 114 = .ok (.if_icmp .ge 47, 3) := dk_162 0 47 (dk_at dksX5_next_4 19 rfl rfl)
theorem dX5_next_117 : decode cX5_next 117 = .ok (.aload_n 0, 1) := dk_42 (dk_at dksX5_next_4 22 rfl rfl)
theorem dX5_next_118 : decode cX5_next 118 = .ok (.getfield 143, 3) := dk_180 0 143 (dk_at dksX5_next_5 0 rfl rfl)
theorem dX5_next_121 : decode cX5_next 121 = .ok (.bipush 7, 2) := dk_16 7 (dk_at dksX5_next_5 3 rfl rfl)
theorem dX5_next_123 : decode cX5_next 123 = .ok (.iload 6, 2) := dk_21 6 (dk_at dksX5_next_5 5 rfl rfl)
theorem dX5_next_125 : decode cX5_next 125 = .ok (.imul, 1) := dk_104 (dk_at dksX5_next_5 7 rfl rfl)
theorem dX5_next_126 : decode cX5_next 126 = .ok (.iload 8, 2) := dk_21 8 (dk_at dksX5_next_5 8 rfl rfl)
theorem dX5_next_128 : decode cX5_next 128 = .ok (.iadd, 1) := dk_96 (dk_at dksX5_next_5 10 rfl rfl)
theorem dX5_next_129 : decode cX5_next 129 = .ok (.iaload, 1) := dk_46 (dk_at dksX5_next_5 11 rfl rfl)
theorem dX5_next_130 : decode cX5_next 130 = .ok (.iload 7, 2) := dk_21 7 (dk_at dksX5_next_5 12 rfl rfl)
theorem dX5_next_132 : decode cX5_next 132 = .ok (.if_icmp .le 19, 3) := dk_164 0 19 (dk_at dksX5_next_5 14 rfl rfl)
theorem dX5_next_135 : decode cX5_next 135 = .ok (.aload_n 0, 1) := dk_42 (dk_at dksX5_next_5 17 rfl rfl)
theorem dX5_next_136 : decode cX5_next 136 = .ok (.getfield 143, 3) := dk_180 0 143 (dk_at dksX5_next_5 18 rfl rfl)
theorem dX5_next_139 : decode cX5_next 139 = .ok (.bipush 7, 2) := dk_16 7 (dk_at dksX5_next_5 21 rfl rfl)
theorem dX5_next_141 : decode cX5_next 141 = .ok (.iload 6, 2) := dk_21 6 (dk_at dksX5_next_6 0 rfl rfl)
theorem dX5_next_143 : decode cX5_next 143 = .ok (.imul, 1) := dk_104 (dk_at dksX5_next_6 2 rfl rfl)
theorem dX5_next_144 : decode cX5_next 144 = .ok (.iload 8, 2) := dk_21 8 (dk_at dksX5_next_6 3 rfl rfl)
theorem dX5_next_146 : decode cX5_next 146 = .ok (.iadd, 1) := dk_96 (dk_at dksX5_next_6 5 rfl rfl)
theorem dX5_next_147 : decode cX5_next 147 = .ok (.iaload, 1) := dk_46 (dk_at dksX5_next_6 6 rfl rfl)
theorem dX5_next_148 : decode cX5_next 148 = .ok (.goto 5, 3) := dk_167 0 5 (dk_at dksX5_next_6 7 rfl rfl)
theorem dX5_next_151 : decode cX5_next 151 = .ok (.iload 7, 2) := dk_21 7 (dk_at dksX5_next_6 10 rfl rfl)
theorem dX5_next_153 : decode cX5_next 153 = .ok (.istore 7, 2) := dk_54 7 (dk_at dksX5_next_6 12 rfl rfl)
theorem dX5_next_155 : decode cX5_next 155 = .ok (.iinc 8 1, 3) := dk_132 8 1 (dk_at dksX5_next_6 14 rfl rfl)
theorem dX5_next_158 : decode cX5_next 158 = .ok (.goto (-48), 3) := dk_167 255 208 (dk_at dksX5_next_6 17 rfl rfl)
theorem dX5_next_161 : decode cX5_next 161 = .ok (.iload 7, 2) := dk_21 7 (dk_at dksX5_next_6 20 rfl rfl)
theorem dX5_next_163 : decode cX5_next 163 = .ok (.iload 4, 2) := dk_21 4 (dk_at dksX5_next_6 22 rfl rfl)
theorem dX5_next_165 : decode cX5_next 165 = .ok (.if_icmp .ge 8, 3) := dk_162 0 8 (dk_at dksX5_next_7 0 rfl rfl)
theorem dX5_next_168 : decode cX5_next 168 = .ok (.iload 6, 2) := dk_21 6 (dk_at dksX5_next_7 3 rfl rfl)
theorem dX5_next_170 : decode cX5_next 170 = .ok (.goto 5, 3) := dk_167 0 5 (dk_at dksX5_next_7 5 rfl rfl)
theorem dX5_next_173 : decode cX5_next 173 = .ok (.iload 5, 2) := dk_21 5 (dk_at dksX5_next_7 8 rfl rfl)
theorem dX5_next_175 : decode cX5_next 175 = .ok (.istore 5, 2) := dk_54 5 (dk_at dksX5_next_7 10 rfl rfl)
theorem dX5_next_177 : decode cX5_next 177 = .ok (.iload 7, 2) := dk_21 7 (dk_at dksX5_next_7 12 rfl rfl)
theorem dX5_next_179 : decode cX5_next 179 = .ok (.iload 4, 2) := dk_21 4 (dk_at dksX5_next_7 14 rfl rfl)
theorem dX5_next_181 : decode cX5_next 181 = .ok (.if_icmp .ge 8, 3) := dk_162 0 8 (dk_at dksX5_next_7 16 rfl rfl)
theorem dX5_next_184 : decode cX5_next 184 = .ok (.iload 7, 2) := dk_21 7 (dk_at dksX5_next_7 19 rfl rfl)
theorem dX5_next_186 : decode cX5_next 186 = .ok (.goto 5, 3) := dk_167 0 5 (dk_at dksX5_next_7 21 rfl rfl)
theorem dX5_next_189 : decode cX5_next 189 = .ok (.iload 4, 2) := dk_21 4 (dk_at dksX5_next_8 0 rfl rfl)
theorem dX5_next_191 : decode cX5_next 191 = .ok (.istore 4, 2) := dk_54 4 (dk_at dksX5_next_8 2 rfl rfl)
theorem dX5_next_193 : decode cX5_next 193 = .ok (.iinc 6 1, 3) := dk_132 6 1 (dk_at dksX5_next_8 4 rfl rfl)
theorem dX5_next_196 : decode cX5_next 196 = .ok (.goto (-99), 3) := dk_167 255 157 (dk_at dksX5_next_8 7 rfl rfl)
theorem dX5_next_199 : decode cX5_next 199 = .ok (.iload_n 3, 1) := dk_29 (dk_at dksX5_next_8 10 rfl rfl)
theorem dX5_next_200 : decode cX5_next 200 = .ok (.ifCond .ne 7, 3) := dk_154 0 7 (dk_at dksX5_next_8 11 rfl rfl)
theorem dX5_next_203 : decode cX5_next 203 = .ok (.iconst (-1), 1) := dk_2 (dk_at dksX5_next_8 14 rfl rfl)
theorem dX5_next_204 : decode cX5_next 204 = .ok (.goto 14, 3) := dk_167 0 14 (dk_at dksX5_next_8 15 rfl rfl)
theorem dX5_next_207 : decode cX5_next 207 = .ok (.iload_n 2, 1) := dk_28 (dk_at dksX5_next_8 18 rfl rfl)
theorem dX5_next_208 : decode cX5_next 208 = .ok (.ifCond .ne 8, 3) := dk_154 0 8 (dk_at dksX5_next_8 19 rfl rfl)
theorem dX5_next_211 : decode cX5_next 211 = .ok (.iload 5, 2) := dk_21 5 (dk_at dksX5_next_8 22 rfl rfl)
theorem dX5_next_213 : decode cX5_next 213 = .ok (.goto 5, 3) := dk_167 0 5 (dk_at dksX5_next_9 0 rfl rfl)
theorem dX5_next_216 : decode cX5_next 216 = .ok (.iload 4, 2) := dk_21 4 (dk_at dksX5_next_9 3 rfl rfl)
theorem dX5_next_218 : decode cX5_next 218 = .ok (.ireturn, 1) := dk_172 (dk_at dksX5_next_9 5 rfl rfl)
abbrev cX5_show : ByteArray := prog_22_method_103_code
def yX5_show : MethodName := ⟨RX5, "show", "(II)V"⟩
def dkwX5_show_3 : List UInt8 := [182, 0, 191, 177]
abbrev dktX5_show_3 : List UInt8 := dkwX5_show_3 ++ []
def dkwX5_show_2 : List UInt8 := [42, 180, 0, 13, 16, 8, 29, 96, 46, 96, 92, 46, 4, 96, 79, 132, 3, 1, 167, 255, 222, 42, 16, 16]
abbrev dktX5_show_2 : List UInt8 := dkwX5_show_2 ++ dktX5_show_3
def dkwX5_show_1 : List UInt8 := [132, 3, 1, 167, 255, 243, 3, 62, 29, 16, 16, 162, 0, 34, 42, 180, 0, 143, 16, 7, 29, 104, 4, 96]
abbrev dktX5_show_1 : List UInt8 := dkwX5_show_1 ++ dktX5_show_2
def dkwX5_show_0 : List UInt8 := [42, 16, 16, 182, 0, 187, 42, 27, 182, 2, 4, 3, 62, 29, 28, 162, 0, 14, 42, 182, 1, 223, 87]
abbrev dktX5_show_0 : List UInt8 := dkwX5_show_0 ++ dktX5_show_1
theorem dksX5_show_0 : cX5_show.data.toList.drop 0 = dktX5_show_0 := by decide +kernel
theorem dksX5_show_1 : cX5_show.data.toList.drop 23 = dktX5_show_1 := dk_seg dksX5_show_0 23 rfl rfl
theorem dksX5_show_2 : cX5_show.data.toList.drop 47 = dktX5_show_2 := dk_seg dksX5_show_1 24 rfl rfl
theorem dksX5_show_3 : cX5_show.data.toList.drop 71 = dktX5_show_3 := dk_seg dksX5_show_2 24 rfl rfl
theorem dX5_show_0 : decode cX5_show 0 = .ok (.aload_n 0, 1) := dk_42 (dk_at dksX5_show_0 0 rfl rfl)
theorem dX5_show_1 : decode cX5_show 1 = .ok (.bipush 16, 2) := dk_16 16 (dk_at dksX5_show_0 1 rfl rfl)
theorem dX5_show_3 : decode cX5_show 3 = .ok (.invokevirtual 187, 3) := dk_182 0 187 (dk_at dksX5_show_0 3 rfl rfl)
theorem dX5_show_6 : decode cX5_show 6 = .ok (.aload_n 0, 1) := dk_42 (dk_at dksX5_show_0 6 rfl rfl)
theorem dX5_show_7 : decode cX5_show 7 = .ok (.iload_n 1, 1) := dk_27 (dk_at dksX5_show_0 7 rfl rfl)
theorem dX5_show_8 : decode cX5_show 8 = .ok (.invokevirtual 516, 3) := dk_182 2 4 (dk_at dksX5_show_0 8 rfl rfl)
theorem dX5_show_11 : decode cX5_show 11 = .ok (.iconst 0, 1) := dk_3 (dk_at dksX5_show_0 11 rfl rfl)
theorem dX5_show_12 : decode cX5_show 12 = .ok (.istore_n 3, 1) := dk_62 (dk_at dksX5_show_0 12 rfl rfl)
theorem dX5_show_13 : decode cX5_show 13 = .ok (.iload_n 3, 1) := dk_29 (dk_at dksX5_show_0 13 rfl rfl)
theorem dX5_show_14 : decode cX5_show 14 = .ok (.iload_n 2, 1) := dk_28 (dk_at dksX5_show_0 14 rfl rfl)
theorem dX5_show_15 : decode cX5_show 15 = .ok (.if_icmp .ge 14, 3) := dk_162 0 14 (dk_at dksX5_show_0 15 rfl rfl)
theorem dX5_show_18 : decode cX5_show 18 = .ok (.aload_n 0, 1) := dk_42 (dk_at dksX5_show_0 18 rfl rfl)
theorem dX5_show_19 : decode cX5_show 19 = .ok (.invokevirtual 479, 3) := dk_182 1 223 (dk_at dksX5_show_0 19 rfl rfl)
theorem dX5_show_22 : decode cX5_show 22 = .ok (.pop, 1) := dk_87 (dk_at dksX5_show_0 22 rfl rfl)
theorem dX5_show_23 : decode cX5_show 23 = .ok (.iinc 3 1, 3) := dk_132 3 1 (dk_at dksX5_show_1 0 rfl rfl)
theorem dX5_show_26 : decode cX5_show 26 = .ok (.goto (-13), 3) := dk_167 255 243 (dk_at dksX5_show_1 3 rfl rfl)
theorem dX5_show_29 : decode cX5_show 29 = .ok (.iconst 0, 1) := dk_3 (dk_at dksX5_show_1 6 rfl rfl)
theorem dX5_show_30 : decode cX5_show 30 = .ok (.istore_n 3, 1) := dk_62 (dk_at dksX5_show_1 7 rfl rfl)
theorem dX5_show_31 : decode cX5_show 31 = .ok (.iload_n 3, 1) := dk_29 (dk_at dksX5_show_1 8 rfl rfl)
theorem dX5_show_32 : decode cX5_show 32 = .ok (.bipush 16, 2) := dk_16 16 (dk_at dksX5_show_1 9 rfl rfl)
theorem dX5_show_34 : decode cX5_show 34 = .ok (.if_icmp .ge 34, 3) := dk_162 0 34 (dk_at dksX5_show_1 11 rfl rfl)
theorem dX5_show_37 : decode cX5_show 37 = .ok (.aload_n 0, 1) := dk_42 (dk_at dksX5_show_1 14 rfl rfl)
theorem dX5_show_38 : decode cX5_show 38 = .ok (.getfield 143, 3) := dk_180 0 143 (dk_at dksX5_show_1 15 rfl rfl)
theorem dX5_show_41 : decode cX5_show 41 = .ok (.bipush 7, 2) := dk_16 7 (dk_at dksX5_show_1 18 rfl rfl)
theorem dX5_show_43 : decode cX5_show 43 = .ok (.iload_n 3, 1) := dk_29 (dk_at dksX5_show_1 20 rfl rfl)
theorem dX5_show_44 : decode cX5_show 44 = .ok (.imul, 1) := dk_104 (dk_at dksX5_show_1 21 rfl rfl)
theorem dX5_show_45 : decode cX5_show 45 = .ok (.iconst 1, 1) := dk_4 (dk_at dksX5_show_1 22 rfl rfl)
theorem dX5_show_46 : decode cX5_show 46 = .ok (.iadd, 1) := dk_96 (dk_at dksX5_show_1 23 rfl rfl)
theorem dX5_show_47 : decode cX5_show 47 = .ok (.aload_n 0, 1) := dk_42 (dk_at dksX5_show_2 0 rfl rfl)
theorem dX5_show_48 : decode cX5_show 48 = .ok (.getfield 13, 3) := dk_180 0 13 (dk_at dksX5_show_2 1 rfl rfl)
theorem dX5_show_51 : decode cX5_show 51 = .ok (.bipush 8, 2) := dk_16 8 (dk_at dksX5_show_2 4 rfl rfl)
theorem dX5_show_53 : decode cX5_show 53 = .ok (.iload_n 3, 1) := dk_29 (dk_at dksX5_show_2 6 rfl rfl)
theorem dX5_show_54 : decode cX5_show 54 = .ok (.iadd, 1) := dk_96 (dk_at dksX5_show_2 7 rfl rfl)
theorem dX5_show_55 : decode cX5_show 55 = .ok (.iaload, 1) := dk_46 (dk_at dksX5_show_2 8 rfl rfl)
theorem dX5_show_56 : decode cX5_show 56 = .ok (.iadd, 1) := dk_96 (dk_at dksX5_show_2 9 rfl rfl)
theorem dX5_show_57 : decode cX5_show 57 = .ok (.dup2, 1) := dk_92 (dk_at dksX5_show_2 10 rfl rfl)
theorem dX5_show_58 : decode cX5_show 58 = .ok (.iaload, 1) := dk_46 (dk_at dksX5_show_2 11 rfl rfl)
theorem dX5_show_59 : decode cX5_show 59 = .ok (.iconst 1, 1) := dk_4 (dk_at dksX5_show_2 12 rfl rfl)
theorem dX5_show_60 : decode cX5_show 60 = .ok (.iadd, 1) := dk_96 (dk_at dksX5_show_2 13 rfl rfl)
theorem dX5_show_61 : decode cX5_show 61 = .ok (.iastore, 1) := dk_79 (dk_at dksX5_show_2 14 rfl rfl)
theorem dX5_show_62 : decode cX5_show 62 = .ok (.iinc 3 1, 3) := dk_132 3 1 (dk_at dksX5_show_2 15 rfl rfl)
theorem dX5_show_65 : decode cX5_show 65 = .ok (.goto (-34), 3) := dk_167 255 222 (dk_at dksX5_show_2 18 rfl rfl)
theorem dX5_show_68 : decode cX5_show 68 = .ok (.aload_n 0, 1) := dk_42 (dk_at dksX5_show_2 21 rfl rfl)
theorem dX5_show_69 : decode cX5_show 69 = .ok (.bipush 16, 2) := dk_16 16 (dk_at dksX5_show_2 22 rfl rfl)
theorem dX5_show_71 : decode cX5_show 71 = .ok (.invokevirtual 191, 3) := dk_182 0 191 (dk_at dksX5_show_3 0 rfl rfl)
theorem dX5_show_74 : decode cX5_show 74 = .ok (.return_, 1) := dk_177 (dk_at dksX5_show_3 3 rfl rfl)
abbrev cX5_roofs : ByteArray := prog_22_method_106_code
def yX5_roofs : MethodName := ⟨RX5, "roofs", "(II)I"⟩
def dkwX5_roofs_4 : List UInt8 := [21, 4, 172]
abbrev dktX5_roofs_4 : List UInt8 := dkwX5_roofs_4 ++ []
def dkwX5_roofs_3 : List UInt8 := [154, 0, 10, 21, 6, 62, 21, 5, 54, 4, 132, 5, 1, 167, 255, 213, 28, 154, 0, 7, 29, 167, 0, 5]
abbrev dktX5_roofs_3 : List UInt8 := dkwX5_roofs_3 ++ dktX5_roofs_4
def dkwX5_roofs_2 : List UInt8 := [21, 5, 184, 1, 241, 54, 6, 21, 6, 29, 162, 0, 22, 27, 21, 5, 184, 2, 19, 2, 130, 126]
abbrev dktX5_roofs_2 : List UInt8 := dkwX5_roofs_2 ++ dktX5_roofs_3
def dkwX5_roofs_1 : List UInt8 := [154, 0, 5, 2, 172, 19, 2, 16, 62, 3, 54, 4, 3, 54, 5, 21, 5, 19, 1, 240, 162, 0, 41]
abbrev dktX5_roofs_1 : List UInt8 := dkwX5_roofs_1 ++ dktX5_roofs_2
def dkwX5_roofs_0 : List UInt8 := [42, 3, 181, 0, 174, 27, 133, 9, 20, 2, 17, 184, 0, 194, 153, 0, 13, 28, 133, 9, 10, 184, 0, 194]
abbrev dktX5_roofs_0 : List UInt8 := dkwX5_roofs_0 ++ dktX5_roofs_1
theorem dksX5_roofs_0 : cX5_roofs.data.toList.drop 0 = dktX5_roofs_0 := by decide +kernel
theorem dksX5_roofs_1 : cX5_roofs.data.toList.drop 24 = dktX5_roofs_1 := dk_seg dksX5_roofs_0 24 rfl rfl
theorem dksX5_roofs_2 : cX5_roofs.data.toList.drop 47 = dktX5_roofs_2 := dk_seg dksX5_roofs_1 23 rfl rfl
theorem dksX5_roofs_3 : cX5_roofs.data.toList.drop 69 = dktX5_roofs_3 := dk_seg dksX5_roofs_2 22 rfl rfl
theorem dksX5_roofs_4 : cX5_roofs.data.toList.drop 93 = dktX5_roofs_4 := dk_seg dksX5_roofs_3 24 rfl rfl
theorem dX5_roofs_0 : decode cX5_roofs 0 = .ok (.aload_n 0, 1) := dk_42 (dk_at dksX5_roofs_0 0 rfl rfl)
theorem dX5_roofs_1 : decode cX5_roofs 1 = .ok (.iconst 0, 1) := dk_3 (dk_at dksX5_roofs_0 1 rfl rfl)
theorem dX5_roofs_2 : decode cX5_roofs 2 = .ok (.putfield 174, 3) := dk_181 0 174 (dk_at dksX5_roofs_0 2 rfl rfl)
theorem dX5_roofs_5 : decode cX5_roofs 5 = .ok (.iload_n 1, 1) := dk_27 (dk_at dksX5_roofs_0 5 rfl rfl)
theorem dX5_roofs_6 : decode cX5_roofs 6 = .ok (.i2l, 1) := dk_133 (dk_at dksX5_roofs_0 6 rfl rfl)
theorem dX5_roofs_7 : decode cX5_roofs 7 = .ok (.lconst 0, 1) := dk_9 (dk_at dksX5_roofs_0 7 rfl rfl)
theorem dX5_roofs_8 : decode cX5_roofs 8 = .ok (.ldc2_w 529, 3) := dk_20 2 17 (dk_at dksX5_roofs_0 8 rfl rfl)
theorem dX5_roofs_11 : decode cX5_roofs 11 = .ok (.invokestatic 194, 3) := dk_184 0 194 (dk_at dksX5_roofs_0 11 rfl rfl)
theorem dX5_roofs_14 : decode cX5_roofs 14 = .ok (.ifCond .eq 13, 3) := dk_153 0 13 (dk_at dksX5_roofs_0 14 rfl rfl)
theorem dX5_roofs_17 : decode cX5_roofs 17 = .ok (.iload_n 2, 1) := dk_28 (dk_at dksX5_roofs_0 17 rfl rfl)
theorem dX5_roofs_18 : decode cX5_roofs 18 = .ok (.i2l, 1) := dk_133 (dk_at dksX5_roofs_0 18 rfl rfl)
theorem dX5_roofs_19 : decode cX5_roofs 19 = .ok (.lconst 0, 1) := dk_9 (dk_at dksX5_roofs_0 19 rfl rfl)
theorem dX5_roofs_20 : decode cX5_roofs 20 = .ok (.lconst 1, 1) := dk_10 (dk_at dksX5_roofs_0 20 rfl rfl)
theorem dX5_roofs_21 : decode cX5_roofs 21 = .ok (.invokestatic 194, 3) := dk_184 0 194 (dk_at dksX5_roofs_0 21 rfl rfl)
theorem dX5_roofs_24 : decode cX5_roofs 24 = .ok (.ifCond .ne 5, 3) := dk_154 0 5 (dk_at dksX5_roofs_1 0 rfl rfl)
theorem dX5_roofs_27 : decode cX5_roofs 27 = .ok (.iconst (-1), 1) := dk_2 (dk_at dksX5_roofs_1 3 rfl rfl)
theorem dX5_roofs_28 : decode cX5_roofs 28 = .ok (.ireturn, 1) := dk_172 (dk_at dksX5_roofs_1 4 rfl rfl)
theorem dX5_roofs_29 : decode cX5_roofs 29 = .ok (.ldc_w 528, 3) := dk_19 2 16 (dk_at dksX5_roofs_1 5 rfl rfl)
theorem dX5_roofs_32 : decode cX5_roofs 32 = .ok (.istore_n 3, 1) := dk_62 (dk_at dksX5_roofs_1 8 rfl rfl)
theorem dX5_roofs_33 : decode cX5_roofs 33 = .ok (.iconst 0, 1) := dk_3 (dk_at dksX5_roofs_1 9 rfl rfl)
theorem dX5_roofs_34 : decode cX5_roofs 34 = .ok (.istore 4, 2) := dk_54 4 (dk_at dksX5_roofs_1 10 rfl rfl)
theorem dX5_roofs_36 : decode cX5_roofs 36 = .ok (.iconst 0, 1) := dk_3 (dk_at dksX5_roofs_1 12 rfl rfl)
theorem dX5_roofs_37 : decode cX5_roofs 37 = .ok (.istore 5, 2) := dk_54 5 (dk_at dksX5_roofs_1 13 rfl rfl)
theorem dX5_roofs_39 : decode cX5_roofs 39 = .ok (.iload 5, 2) := dk_21 5 (dk_at dksX5_roofs_1 15 rfl rfl)
theorem dX5_roofs_41 : decode cX5_roofs 41 = .ok (.ldc_w 496, 3) := dk_19 1 240 (dk_at dksX5_roofs_1 17 rfl rfl)
theorem dX5_roofs_44 : decode cX5_roofs 44 = .ok (.if_icmp .ge 41, 3) := dk_162 0 41 (dk_at dksX5_roofs_1 20 rfl rfl)
theorem dX5_roofs_47 : decode cX5_roofs 47 = .ok (.iload 5, 2) := dk_21 5 (dk_at dksX5_roofs_2 0 rfl rfl)
theorem dX5_roofs_49 : decode cX5_roofs 49 = .ok (.invokestatic 497, 3) := dk_184 1 241 (dk_at dksX5_roofs_2 2 rfl rfl)
theorem dX5_roofs_52 : decode cX5_roofs 52 = .ok (.istore 6, 2) := dk_54 6 (dk_at dksX5_roofs_2 5 rfl rfl)
theorem dX5_roofs_54 : decode cX5_roofs 54 = .ok (.iload 6, 2) := dk_21 6 (dk_at dksX5_roofs_2 7 rfl rfl)
theorem dX5_roofs_56 : decode cX5_roofs 56 = .ok (.iload_n 3, 1) := dk_29 (dk_at dksX5_roofs_2 9 rfl rfl)
theorem dX5_roofs_57 : decode cX5_roofs 57 = .ok (.if_icmp .ge 22, 3) := dk_162 0 22 (dk_at dksX5_roofs_2 10 rfl rfl)
theorem dX5_roofs_60 : decode cX5_roofs 60 = .ok (.iload_n 1, 1) := dk_27 (dk_at dksX5_roofs_2 13 rfl rfl)
theorem dX5_roofs_61 : decode cX5_roofs 61 = .ok (.iload 5, 2) := dk_21 5 (dk_at dksX5_roofs_2 14 rfl rfl)
theorem dX5_roofs_63 : decode cX5_roofs 63 = .ok (.invokestatic 531, 3) := dk_184 2 19 (dk_at dksX5_roofs_2 16 rfl rfl)
theorem dX5_roofs_66 : decode cX5_roofs 66 = .ok (.iconst (-1), 1) := dk_2 (dk_at dksX5_roofs_2 19 rfl rfl)
theorem dX5_roofs_67 : decode cX5_roofs 67 = .ok (.ixor, 1) := dk_130 (dk_at dksX5_roofs_2 20 rfl rfl)
theorem dX5_roofs_68 : decode cX5_roofs 68 = .ok (.iand, 1) := dk_126 (dk_at dksX5_roofs_2 21 rfl rfl)
theorem dX5_roofs_69 : decode cX5_roofs 69 = .ok (.ifCond .ne 10, 3) := dk_154 0 10 (dk_at dksX5_roofs_3 0 rfl rfl)
theorem dX5_roofs_72 : decode cX5_roofs 72 = .ok (.iload 6, 2) := dk_21 6 (dk_at dksX5_roofs_3 3 rfl rfl)
theorem dX5_roofs_74 : decode cX5_roofs 74 = .ok (.istore_n 3, 1) := dk_62 (dk_at dksX5_roofs_3 5 rfl rfl)
theorem dX5_roofs_75 : decode cX5_roofs 75 = .ok (.iload 5, 2) := dk_21 5 (dk_at dksX5_roofs_3 6 rfl rfl)
theorem dX5_roofs_77 : decode cX5_roofs 77 = .ok (.istore 4, 2) := dk_54 4 (dk_at dksX5_roofs_3 8 rfl rfl)
theorem dX5_roofs_79 : decode cX5_roofs 79 = .ok (.iinc 5 1, 3) := dk_132 5 1 (dk_at dksX5_roofs_3 10 rfl rfl)
theorem dX5_roofs_82 : decode cX5_roofs 82 = .ok (.goto (-43), 3) := dk_167 255 213 (dk_at dksX5_roofs_3 13 rfl rfl)
theorem dX5_roofs_85 : decode cX5_roofs 85 = .ok (.iload_n 2, 1) := dk_28 (dk_at dksX5_roofs_3 16 rfl rfl)
theorem dX5_roofs_86 : decode cX5_roofs 86 = .ok (.ifCond .ne 7, 3) := dk_154 0 7 (dk_at dksX5_roofs_3 17 rfl rfl)
theorem dX5_roofs_89 : decode cX5_roofs 89 = .ok (.iload_n 3, 1) := dk_29 (dk_at dksX5_roofs_3 20 rfl rfl)
theorem dX5_roofs_90 : decode cX5_roofs 90 = .ok (.goto 5, 3) := dk_167 0 5 (dk_at dksX5_roofs_3 21 rfl rfl)
theorem dX5_roofs_93 : decode cX5_roofs 93 = .ok (.iload 4, 2) := dk_21 4 (dk_at dksX5_roofs_4 0 rfl rfl)
theorem dX5_roofs_95 : decode cX5_roofs 95 = .ok (.ireturn, 1) := dk_172 (dk_at dksX5_roofs_4 2 rfl rfl)
abbrev cX5_lit : ByteArray := prog_22_method_105_code
def yX5_lit : MethodName := ⟨RX5, "lit", "(I)I"⟩
def dkwX5_lit_2 : List UInt8 := [167, 255, 221, 132, 2, 1, 167, 255, 207, 27, 172]
abbrev dktX5_lit_2 : List UInt8 := dkwX5_lit_2 ++ []
def dkwX5_lit_1 : List UInt8 := [153, 0, 17, 28, 29, 184, 1, 217, 153, 0, 9, 4, 29, 120, 167, 0, 4, 3, 128, 60, 132, 3, 1]
abbrev dktX5_lit_1 : List UInt8 := dkwX5_lit_1 ++ dktX5_lit_2
def dkwX5_lit_0 : List UInt8 := [26, 60, 3, 61, 28, 16, 16, 162, 0, 49, 3, 62, 29, 16, 16, 162, 0, 35, 27, 26, 28, 184, 1, 237]
abbrev dktX5_lit_0 : List UInt8 := dkwX5_lit_0 ++ dktX5_lit_1
theorem dksX5_lit_0 : cX5_lit.data.toList.drop 0 = dktX5_lit_0 := by decide +kernel
theorem dksX5_lit_1 : cX5_lit.data.toList.drop 24 = dktX5_lit_1 := dk_seg dksX5_lit_0 24 rfl rfl
theorem dksX5_lit_2 : cX5_lit.data.toList.drop 47 = dktX5_lit_2 := dk_seg dksX5_lit_1 23 rfl rfl
theorem dX5_lit_0 : decode cX5_lit 0 = .ok (.iload_n 0, 1) := dk_26 (dk_at dksX5_lit_0 0 rfl rfl)
theorem dX5_lit_1 : decode cX5_lit 1 = .ok (.istore_n 1, 1) := dk_60 (dk_at dksX5_lit_0 1 rfl rfl)
theorem dX5_lit_2 : decode cX5_lit 2 = .ok (.iconst 0, 1) := dk_3 (dk_at dksX5_lit_0 2 rfl rfl)
theorem dX5_lit_3 : decode cX5_lit 3 = .ok (.istore_n 2, 1) := dk_61 (dk_at dksX5_lit_0 3 rfl rfl)
theorem dX5_lit_4 : decode cX5_lit 4 = .ok (.iload_n 2, 1) := dk_28 (dk_at dksX5_lit_0 4 rfl rfl)
theorem dX5_lit_5 : decode cX5_lit 5 = .ok (.bipush 16, 2) := dk_16 16 (dk_at dksX5_lit_0 5 rfl rfl)
theorem dX5_lit_7 : decode cX5_lit 7 = .ok (.if_icmp .ge 49, 3) := dk_162 0 49 (dk_at dksX5_lit_0 7 rfl rfl)
theorem dX5_lit_10 : decode cX5_lit 10 = .ok (.iconst 0, 1) := dk_3 (dk_at dksX5_lit_0 10 rfl rfl)
theorem dX5_lit_11 : decode cX5_lit 11 = .ok (.istore_n 3, 1) := dk_62 (dk_at dksX5_lit_0 11 rfl rfl)
theorem dX5_lit_12 : decode cX5_lit 12 = .ok (.iload_n 3, 1) := dk_29 (dk_at dksX5_lit_0 12 rfl rfl)
theorem dX5_lit_13 : decode cX5_lit 13 = .ok (.bipush 16, 2) := dk_16 16 (dk_at dksX5_lit_0 13 rfl rfl)
theorem dX5_lit_15 : decode cX5_lit 15 = .ok (.if_icmp .ge 35, 3) := dk_162 0 35 (dk_at dksX5_lit_0 15 rfl rfl)
theorem dX5_lit_18 : decode cX5_lit 18 = .ok (.iload_n 1, 1) := dk_27 (dk_at dksX5_lit_0 18 rfl rfl)
theorem dX5_lit_19 : decode cX5_lit 19 = .ok (.iload_n 0, 1) := dk_26 (dk_at dksX5_lit_0 19 rfl rfl)
theorem dX5_lit_20 : decode cX5_lit 20 = .ok (.iload_n 2, 1) := dk_28 (dk_at dksX5_lit_0 20 rfl rfl)
theorem dX5_lit_21 : decode cX5_lit 21 = .ok (.invokestatic 493, 3) := dk_184 1 237 (dk_at dksX5_lit_0 21 rfl rfl)
theorem dX5_lit_24 : decode cX5_lit 24 = .ok (.ifCond .eq 17, 3) := dk_153 0 17 (dk_at dksX5_lit_1 0 rfl rfl)
theorem dX5_lit_27 : decode cX5_lit 27 = .ok (.iload_n 2, 1) := dk_28 (dk_at dksX5_lit_1 3 rfl rfl)
theorem dX5_lit_28 : decode cX5_lit 28 = .ok (.iload_n 3, 1) := dk_29 (dk_at dksX5_lit_1 4 rfl rfl)
theorem dX5_lit_29 : decode cX5_lit 29 = .ok (.invokestatic 473, 3) := dk_184 1 217 (dk_at dksX5_lit_1 5 rfl rfl)
theorem dX5_lit_32 : decode cX5_lit 32 = .ok (.ifCond .eq 9, 3) := dk_153 0 9 (dk_at dksX5_lit_1 8 rfl rfl)
theorem dX5_lit_35 : decode cX5_lit 35 = .ok (.iconst 1, 1) := dk_4 (dk_at dksX5_lit_1 11 rfl rfl)
theorem dX5_lit_36 : decode cX5_lit 36 = .ok (.iload_n 3, 1) := dk_29 (dk_at dksX5_lit_1 12 rfl rfl)
theorem dX5_lit_37 : decode cX5_lit 37 = .ok (.ishl, 1) := dk_120 (dk_at dksX5_lit_1 13 rfl rfl)
theorem dX5_lit_38 : decode cX5_lit 38 = .ok (.goto 4, 3) := dk_167 0 4 (dk_at dksX5_lit_1 14 rfl rfl)
theorem dX5_lit_41 : decode cX5_lit 41 = .ok (.iconst 0, 1) := dk_3 (dk_at dksX5_lit_1 17 rfl rfl)
theorem dX5_lit_42 : decode cX5_lit 42 = .ok (.ior, 1) := dk_128 (dk_at dksX5_lit_1 18 rfl rfl)
theorem dX5_lit_43 : decode cX5_lit 43 = .ok (.istore_n 1, 1) := dk_60 (dk_at dksX5_lit_1 19 rfl rfl)
theorem dX5_lit_44 : decode cX5_lit 44 = .ok (.iinc 3 1, 3) := dk_132 3 1 (dk_at dksX5_lit_1 20 rfl rfl)
theorem dX5_lit_47 : decode cX5_lit 47 = .ok (.goto (-35), 3) := dk_167 255 221 (dk_at dksX5_lit_2 0 rfl rfl)
theorem dX5_lit_50 : decode cX5_lit 50 = .ok (.iinc 2 1, 3) := dk_132 2 1 (dk_at dksX5_lit_2 3 rfl rfl)
theorem dX5_lit_53 : decode cX5_lit 53 = .ok (.goto (-49), 3) := dk_167 255 207 (dk_at dksX5_lit_2 6 rfl rfl)
theorem dX5_lit_56 : decode cX5_lit 56 = .ok (.iload_n 1, 1) := dk_27 (dk_at dksX5_lit_2 9 rfl rfl)
theorem dX5_lit_57 : decode cX5_lit 57 = .ok (.ireturn, 1) := dk_172 (dk_at dksX5_lit_2 10 rfl rfl)
abbrev cX5_way : ByteArray := prog_22_method_108_code
def yX5_way : MethodName := ⟨RX5, "way", "(I)I"⟩
def dkwX5_way_1 : List UInt8 := [19, 2, 16, 160, 0, 7, 2, 167, 0, 4, 28, 172]
abbrev dktX5_way_1 : List UInt8 := dkwX5_way_1 ++ []
def dkwX5_way_0 : List UInt8 := [42, 3, 181, 0, 174, 27, 184, 0, 205, 154, 0, 5, 2, 172, 42, 27, 3, 182, 2, 22, 61, 28]
abbrev dktX5_way_0 : List UInt8 := dkwX5_way_0 ++ dktX5_way_1
theorem dksX5_way_0 : cX5_way.data.toList.drop 0 = dktX5_way_0 := by decide +kernel
theorem dksX5_way_1 : cX5_way.data.toList.drop 22 = dktX5_way_1 := dk_seg dksX5_way_0 22 rfl rfl
theorem dX5_way_0 : decode cX5_way 0 = .ok (.aload_n 0, 1) := dk_42 (dk_at dksX5_way_0 0 rfl rfl)
theorem dX5_way_1 : decode cX5_way 1 = .ok (.iconst 0, 1) := dk_3 (dk_at dksX5_way_0 1 rfl rfl)
theorem dX5_way_2 : decode cX5_way 2 = .ok (.putfield 174, 3) := dk_181 0 174 (dk_at dksX5_way_0 2 rfl rfl)
theorem dX5_way_5 : decode cX5_way 5 = .ok (.iload_n 1, 1) := dk_27 (dk_at dksX5_way_0 5 rfl rfl)
theorem dX5_way_6 : decode cX5_way 6 = .ok (.invokestatic 205, 3) := dk_184 0 205 (dk_at dksX5_way_0 6 rfl rfl)
theorem dX5_way_9 : decode cX5_way 9 = .ok (.ifCond .ne 5, 3) := dk_154 0 5 (dk_at dksX5_way_0 9 rfl rfl)
theorem dX5_way_12 : decode cX5_way 12 = .ok (.iconst (-1), 1) := dk_2 (dk_at dksX5_way_0 12 rfl rfl)
theorem dX5_way_13 : decode cX5_way 13 = .ok (.ireturn, 1) := dk_172 (dk_at dksX5_way_0 13 rfl rfl)
theorem dX5_way_14 : decode cX5_way 14 = .ok (.aload_n 0, 1) := dk_42 (dk_at dksX5_way_0 14 rfl rfl)
theorem dX5_way_15 : decode cX5_way 15 = .ok (.iload_n 1, 1) := dk_27 (dk_at dksX5_way_0 15 rfl rfl)
theorem dX5_way_16 : decode cX5_way 16 = .ok (.iconst 0, 1) := dk_3 (dk_at dksX5_way_0 16 rfl rfl)
theorem dX5_way_17 : decode cX5_way 17 = .ok (.invokevirtual 534, 3) := dk_182 2 22 (dk_at dksX5_way_0 17 rfl rfl)
theorem dX5_way_20 : decode cX5_way 20 = .ok (.istore_n 2, 1) := dk_61 (dk_at dksX5_way_0 20 rfl rfl)
theorem dX5_way_21 : decode cX5_way 21 = .ok (.iload_n 2, 1) := dk_28 (dk_at dksX5_way_0 21 rfl rfl)
theorem dX5_way_22 : decode cX5_way 22 = .ok (.ldc_w 528, 3) := dk_19 2 16 (dk_at dksX5_way_1 0 rfl rfl)
theorem dX5_way_25 : decode cX5_way 25 = .ok (.if_icmp .ne 7, 3) := dk_160 0 7 (dk_at dksX5_way_1 3 rfl rfl)
theorem dX5_way_28 : decode cX5_way 28 = .ok (.iconst (-1), 1) := dk_2 (dk_at dksX5_way_1 6 rfl rfl)
theorem dX5_way_29 : decode cX5_way 29 = .ok (.goto 4, 3) := dk_167 0 4 (dk_at dksX5_way_1 7 rfl rfl)
theorem dX5_way_32 : decode cX5_way 32 = .ok (.iload_n 2, 1) := dk_28 (dk_at dksX5_way_1 10 rfl rfl)
theorem dX5_way_33 : decode cX5_way 33 = .ok (.ireturn, 1) := dk_172 (dk_at dksX5_way_1 11 rfl rfl)
abbrev cX5_stepsFrom : ByteArray := prog_22_method_107_code
def yX5_stepsFrom : MethodName := ⟨RX5, "stepsFrom", "(II)I"⟩
def dkwX5_stepsFrom_6 : List UInt8 := [19, 2, 16, 172]
abbrev dktX5_stepsFrom_6 : List UInt8 := dkwX5_stepsFrom_6 ++ []
def dkwX5_stepsFrom_5 : List UInt8 := [54, 4, 132, 5, 1, 167, 255, 212, 21, 4, 3, 184, 1, 237, 153, 0, 8, 21, 5, 167, 0, 6]
abbrev dktX5_stepsFrom_5 : List UInt8 := dkwX5_stepsFrom_5 ++ dktX5_stepsFrom_6
def dkwX5_stepsFrom_4 : List UInt8 := [184, 2, 19, 29, 126, 54, 7, 21, 7, 21, 4, 159, 0, 7, 4, 167, 0, 4, 3, 54, 6, 21, 7]
abbrev dktX5_stepsFrom_4 : List UInt8 := dkwX5_stepsFrom_4 ++ dktX5_stepsFrom_5
def dkwX5_stepsFrom_3 : List UInt8 := [167, 0, 4, 3, 54, 6, 21, 6, 153, 0, 45, 21, 4, 3, 184, 1, 237, 154, 0, 36, 21, 4]
abbrev dktX5_stepsFrom_3 : List UInt8 := dkwX5_stepsFrom_3 ++ dktX5_stepsFrom_4
def dkwX5_stepsFrom_2 : List UInt8 := [128, 62, 132, 4, 1, 167, 255, 208, 29, 4, 27, 120, 126, 54, 4, 3, 54, 5, 21, 4, 153, 0, 7, 4]
abbrev dktX5_stepsFrom_2 : List UInt8 := dkwX5_stepsFrom_2 ++ dktX5_stepsFrom_3
def dkwX5_stepsFrom_1 : List UInt8 := [5, 182, 1, 162, 163, 0, 19, 28, 21, 4, 184, 1, 237, 154, 0, 10, 4, 21, 4, 120, 167, 0, 4, 3]
abbrev dktX5_stepsFrom_1 : List UInt8 := dkwX5_stepsFrom_1 ++ dktX5_stepsFrom_2
def dkwX5_stepsFrom_0 : List UInt8 := [3, 62, 3, 54, 4, 21, 4, 16, 16, 162, 0, 47, 29, 42, 180, 0, 13, 16, 24, 21, 4, 96, 46, 42]
abbrev dktX5_stepsFrom_0 : List UInt8 := dkwX5_stepsFrom_0 ++ dktX5_stepsFrom_1
theorem dksX5_stepsFrom_0 : cX5_stepsFrom.data.toList.drop 0 = dktX5_stepsFrom_0 := by decide +kernel
theorem dksX5_stepsFrom_1 : cX5_stepsFrom.data.toList.drop 24 = dktX5_stepsFrom_1 := dk_seg dksX5_stepsFrom_0 24 rfl rfl
theorem dksX5_stepsFrom_2 : cX5_stepsFrom.data.toList.drop 48 = dktX5_stepsFrom_2 := dk_seg dksX5_stepsFrom_1 24 rfl rfl
theorem dksX5_stepsFrom_3 : cX5_stepsFrom.data.toList.drop 72 = dktX5_stepsFrom_3 := dk_seg dksX5_stepsFrom_2 24 rfl rfl
theorem dksX5_stepsFrom_4 : cX5_stepsFrom.data.toList.drop 94 = dktX5_stepsFrom_4 := dk_seg dksX5_stepsFrom_3 22 rfl rfl
theorem dksX5_stepsFrom_5 : cX5_stepsFrom.data.toList.drop 117 = dktX5_stepsFrom_5 := dk_seg dksX5_stepsFrom_4 23 rfl rfl
theorem dksX5_stepsFrom_6 : cX5_stepsFrom.data.toList.drop 139 = dktX5_stepsFrom_6 := dk_seg dksX5_stepsFrom_5 22 rfl rfl
theorem dX5_stepsFrom_0 : decode cX5_stepsFrom 0 = .ok (.iconst 0, 1) := dk_3 (dk_at dksX5_stepsFrom_0 0 rfl rfl)
theorem dX5_stepsFrom_1 : decode cX5_stepsFrom 1 = .ok (.istore_n 3, 1) := dk_62 (dk_at dksX5_stepsFrom_0 1 rfl rfl)
theorem dX5_stepsFrom_2 : decode cX5_stepsFrom 2 = .ok (.iconst 0, 1) := dk_3 (dk_at dksX5_stepsFrom_0 2 rfl rfl)
theorem dX5_stepsFrom_3 : decode cX5_stepsFrom 3 = .ok (.istore 4, 2) := dk_54 4 (dk_at dksX5_stepsFrom_0 3 rfl rfl)
theorem dX5_stepsFrom_5 : decode cX5_stepsFrom 5 = .ok (.iload 4, 2) := dk_21 4 (dk_at dksX5_stepsFrom_0 5 rfl rfl)
theorem dX5_stepsFrom_7 : decode cX5_stepsFrom 7 = .ok (.bipush 16, 2) := dk_16 16 (dk_at dksX5_stepsFrom_0 7 rfl rfl)
theorem dX5_stepsFrom_9 : decode cX5_stepsFrom 9 = .ok (.if_icmp .ge 47, 3) := dk_162 0 47 (dk_at dksX5_stepsFrom_0 9 rfl rfl)
theorem dX5_stepsFrom_12 : decode cX5_stepsFrom 12 = .ok (.iload_n 3, 1) := dk_29 (dk_at dksX5_stepsFrom_0 12 rfl rfl)
theorem dX5_stepsFrom_13 : decode cX5_stepsFrom 13 = .ok (.aload_n 0, 1) := dk_42 (dk_at dksX5_stepsFrom_0 13 rfl rfl)
theorem dX5_stepsFrom_14 : decode cX5_stepsFrom 14 = .ok (.getfield 13, 3) := dk_180 0 13 (dk_at dksX5_stepsFrom_0 14 rfl rfl)
theorem dX5_stepsFrom_17 : decode cX5_stepsFrom 17 = .ok (.bipush 24, 2) := dk_16 24 (dk_at dksX5_stepsFrom_0 17 rfl rfl)
theorem dX5_stepsFrom_19 : decode cX5_stepsFrom 19 = .ok (.iload 4, 2) := dk_21 4 (dk_at dksX5_stepsFrom_0 19 rfl rfl)
theorem dX5_stepsFrom_21 : decode cX5_stepsFrom 21 = .ok (.iadd, 1) := dk_96 (dk_at dksX5_stepsFrom_0 21 rfl rfl)
theorem dX5_stepsFrom_22 : decode cX5_stepsFrom 22 = .ok (.iaload, 1) := dk_46 (dk_at dksX5_stepsFrom_0 22 rfl rfl)
theorem dX5_stepsFrom_23 : decode cX5_stepsFrom 23 = .ok (.aload_n 0, 1) := dk_42 (dk_at dksX5_stepsFrom_0 23 rfl rfl)
theorem dX5_stepsFrom_24 : decode cX5_stepsFrom 24 = .ok (.iconst 2, 1) := dk_5 (dk_at dksX5_stepsFrom_1 0 rfl rfl)
theorem dX5_stepsFrom_25 : decode cX5_stepsFrom 25 = .ok (.invokevirtual 418, 3) := dk_182 1 162 (dk_at dksX5_stepsFrom_1 1 rfl rfl)
theorem dX5_stepsFrom_28 : decode cX5_stepsFrom 28 = .ok (.if_icmp .gt 19, 3) := dk_163 0 19 (dk_at dksX5_stepsFrom_1 4 rfl rfl)
theorem dX5_stepsFrom_31 : decode cX5_stepsFrom 31 = .ok (.iload_n 2, 1) := dk_28 (dk_at dksX5_stepsFrom_1 7 rfl rfl)
theorem dX5_stepsFrom_32 : decode cX5_stepsFrom 32 = .ok (.iload 4, 2) := dk_21 4 (dk_at dksX5_stepsFrom_1 8 rfl rfl)
theorem dX5_stepsFrom_34 : decode cX5_stepsFrom 34 = .ok (.invokestatic 493, 3) := dk_184 1 237 (dk_at dksX5_stepsFrom_1 10 rfl rfl)
theorem dX5_stepsFrom_37 : decode cX5_stepsFrom 37 = .ok (.ifCond .ne 10, 3) := dk_154 0 10 (dk_at dksX5_stepsFrom_1 13 rfl rfl)
theorem dX5_stepsFrom_40 : decode cX5_stepsFrom 40 = .ok (.iconst 1, 1) := dk_4 (dk_at dksX5_stepsFrom_1 16 rfl rfl)
theorem dX5_stepsFrom_41 : decode cX5_stepsFrom 41 = .ok (.iload 4, 2) := dk_21 4 (dk_at dksX5_stepsFrom_1 17 rfl rfl)
theorem dX5_stepsFrom_43 : decode cX5_stepsFrom 43 = .ok (.ishl, 1) := dk_120 (dk_at dksX5_stepsFrom_1 19 rfl rfl)
theorem dX5_stepsFrom_44 : decode cX5_stepsFrom 44 = .ok (.goto 4, 3) := dk_167 0 4 (dk_at dksX5_stepsFrom_1 20 rfl rfl)
theorem dX5_stepsFrom_47 : decode cX5_stepsFrom 47 = .ok (.iconst 0, 1) := dk_3 (dk_at dksX5_stepsFrom_1 23 rfl rfl)
theorem dX5_stepsFrom_48 : decode cX5_stepsFrom 48 = .ok (.ior, 1) := dk_128 (dk_at dksX5_stepsFrom_2 0 rfl rfl)
theorem dX5_stepsFrom_49 : decode cX5_stepsFrom 49 = .ok (.istore_n 3, 1) := dk_62 (dk_at dksX5_stepsFrom_2 1 rfl rfl)
theorem dX5_stepsFrom_50 : decode cX5_stepsFrom 50 = .ok (.iinc 4 1, 3) := dk_132 4 1 (dk_at dksX5_stepsFrom_2 2 rfl rfl)
theorem dX5_stepsFrom_53 : decode cX5_stepsFrom 53 = .ok (.goto (-48), 3) := dk_167 255 208 (dk_at dksX5_stepsFrom_2 5 rfl rfl)
theorem dX5_stepsFrom_56 : decode cX5_stepsFrom 56 = .ok (.iload_n 3, 1) := dk_29 (dk_at dksX5_stepsFrom_2 8 rfl rfl)
theorem dX5_stepsFrom_57 : decode cX5_stepsFrom 57 = .ok (.iconst 1, 1) := dk_4 (dk_at dksX5_stepsFrom_2 9 rfl rfl)
theorem dX5_stepsFrom_58 : decode cX5_stepsFrom 58 = .ok (.iload_n 1, 1) := dk_27 (dk_at dksX5_stepsFrom_2 10 rfl rfl)
theorem dX5_stepsFrom_59 : decode cX5_stepsFrom 59 = .ok (.ishl, 1) := dk_120 (dk_at dksX5_stepsFrom_2 11 rfl rfl)
theorem dX5_stepsFrom_60 : decode cX5_stepsFrom 60 = .ok (.iand, 1) := dk_126 (dk_at dksX5_stepsFrom_2 12 rfl rfl)
theorem dX5_stepsFrom_61 : decode cX5_stepsFrom 61 = .ok (.istore 4, 2) := dk_54 4 (dk_at dksX5_stepsFrom_2 13 rfl rfl)
theorem dX5_stepsFrom_63 : decode cX5_stepsFrom 63 = .ok (.iconst 0, 1) := dk_3 (dk_at dksX5_stepsFrom_2 15 rfl rfl)
theorem dX5_stepsFrom_64 : decode cX5_stepsFrom 64 = .ok (.istore 5, 2) := dk_54 5 (dk_at dksX5_stepsFrom_2 16 rfl rfl)
theorem dX5_stepsFrom_66 : decode cX5_stepsFrom 66 = .ok (.iload 4, 2) := dk_21 4 (dk_at dksX5_stepsFrom_2 18 rfl rfl)
theorem dX5_stepsFrom_68 : decode cX5_stepsFrom 68 = .ok (.ifCond .eq 7, 3) := dk_153 0 7 (dk_at dksX5_stepsFrom_2 20 rfl rfl)
theorem dX5_stepsFrom_71 : decode cX5_stepsFrom 71 = .ok (.iconst 1, 1) := dk_4 (dk_at dksX5_stepsFrom_2 23 rfl rfl)
theorem dX5_stepsFrom_72 : decode cX5_stepsFrom 72 = .ok (.goto 4, 3) := dk_167 0 4 (dk_at dksX5_stepsFrom_3 0 rfl rfl)
theorem dX5_stepsFrom_75 : decode cX5_stepsFrom 75 = .ok (.iconst 0, 1) := dk_3 (dk_at dksX5_stepsFrom_3 3 rfl rfl)
theorem dX5_stepsFrom_76 : decode cX5_stepsFrom 76 = .ok (.istore 6, 2) := dk_54 6 (dk_at dksX5_stepsFrom_3 4 rfl rfl)
theorem dX5_stepsFrom_78 : decode cX5_stepsFrom 78 = .ok (.iload 6, 2) := dk_21 6 (dk_at dksX5_stepsFrom_3 6 rfl rfl)
theorem dX5_stepsFrom_80 : decode cX5_stepsFrom 80 = .ok (.ifCond .eq 45, 3) := dk_153 0 45 (dk_at dksX5_stepsFrom_3 8 rfl rfl)
theorem dX5_stepsFrom_83 : decode cX5_stepsFrom 83 = .ok (.iload 4, 2) := dk_21 4 (dk_at dksX5_stepsFrom_3 11 rfl rfl)
theorem dX5_stepsFrom_85 : decode cX5_stepsFrom 85 = .ok (.iconst 0, 1) := dk_3 (dk_at dksX5_stepsFrom_3 13 rfl rfl)
theorem dX5_stepsFrom_86 : decode cX5_stepsFrom 86 = .ok (.invokestatic 493, 3) := dk_184 1 237 (dk_at dksX5_stepsFrom_3 14 rfl rfl)
theorem dX5_stepsFrom_89 : decode cX5_stepsFrom 89 = .ok (.ifCond .ne 36, 3) := dk_154 0 36 (dk_at dksX5_stepsFrom_3 17 rfl rfl)
theorem dX5_stepsFrom_92 : decode cX5_stepsFrom 92 = .ok (.iload 4, 2) := dk_21 4 (dk_at dksX5_stepsFrom_3 20 rfl rfl)
theorem dX5_stepsFrom_94 : decode cX5_stepsFrom 94 = .ok (.invokestatic 531, 3) := dk_184 2 19 (dk_at dksX5_stepsFrom_4 0 rfl rfl)
theorem dX5_stepsFrom_97 : decode cX5_stepsFrom 97 = .ok (.iload_n 3, 1) := dk_29 (dk_at dksX5_stepsFrom_4 3 rfl rfl)
theorem dX5_stepsFrom_98 : decode cX5_stepsFrom 98 = .ok (.iand, 1) := dk_126 (dk_at dksX5_stepsFrom_4 4 rfl rfl)
theorem dX5_stepsFrom_99 : decode cX5_stepsFrom 99 = .ok (.istore 7, 2) := dk_54 7 (dk_at dksX5_stepsFrom_4 5 rfl rfl)
theorem dX5_stepsFrom_101 : decode cX5_stepsFrom 101 = .ok (.iload 7, 2) := dk_21 7 (dk_at dksX5_stepsFrom_4 7 rfl rfl)
theorem dX5_stepsFrom_103 : decode cX5_stepsFrom 103 = .ok (.iload 4, 2) := dk_21 4 (dk_at dksX5_stepsFrom_4 9 rfl rfl)
theorem dX5_stepsFrom_105 : decode cX5_stepsFrom 105 = .ok (.if_icmp .eq 7, 3) := dk_159 0 7 (dk_at dksX5_stepsFrom_4 11 rfl rfl)
theorem dX5_stepsFrom_108 : decode cX5_stepsFrom 108 = .ok (.iconst 1, 1) := dk_4 (dk_at dksX5_stepsFrom_4 14 rfl rfl)
theorem dX5_stepsFrom_109 : decode cX5_stepsFrom 109 = .ok (.goto 4, 3) := dk_167 0 4 (dk_at dksX5_stepsFrom_4 15 rfl rfl)
theorem dX5_stepsFrom_112 : decode cX5_stepsFrom 112 = .ok (.iconst 0, 1) := dk_3 (dk_at dksX5_stepsFrom_4 18 rfl rfl)
theorem dX5_stepsFrom_113 : decode cX5_stepsFrom 113 = .ok (.istore 6, 2) := dk_54 6 (dk_at dksX5_stepsFrom_4 19 rfl rfl)
theorem dX5_stepsFrom_115 : decode cX5_stepsFrom 115 = .ok (.iload 7, 2) := dk_21 7 (dk_at dksX5_stepsFrom_4 21 rfl rfl)
theorem dX5_stepsFrom_117 : decode cX5_stepsFrom 117 = .ok (.istore 4, 2) := dk_54 4 (dk_at dksX5_stepsFrom_5 0 rfl rfl)
theorem dX5_stepsFrom_119 : decode cX5_stepsFrom 119 = .ok (.iinc 5 1, 3) := dk_132 5 1 (dk_at dksX5_stepsFrom_5 2 rfl rfl)
theorem dX5_stepsFrom_122 : decode cX5_stepsFrom 122 = .ok (.goto (-44), 3) := dk_167 255 212 (dk_at dksX5_stepsFrom_5 5 rfl rfl)
theorem dX5_stepsFrom_125 : decode cX5_stepsFrom 125 = .ok (.iload 4, 2) := dk_21 4 (dk_at dksX5_stepsFrom_5 8 rfl rfl)
theorem dX5_stepsFrom_127 : decode cX5_stepsFrom 127 = .ok (.iconst 0, 1) := dk_3 (dk_at dksX5_stepsFrom_5 10 rfl rfl)
theorem dX5_stepsFrom_128 : decode cX5_stepsFrom 128 = .ok (.invokestatic 493, 3) := dk_184 1 237 (dk_at dksX5_stepsFrom_5 11 rfl rfl)
theorem dX5_stepsFrom_131 : decode cX5_stepsFrom 131 = .ok (.ifCond .eq 8, 3) := dk_153 0 8 (dk_at dksX5_stepsFrom_5 14 rfl rfl)
theorem dX5_stepsFrom_134 : decode cX5_stepsFrom 134 = .ok (.iload 5, 2) := dk_21 5 (dk_at dksX5_stepsFrom_5 17 rfl rfl)
theorem dX5_stepsFrom_136 : decode cX5_stepsFrom 136 = .ok (.goto 6, 3) := dk_167 0 6 (dk_at dksX5_stepsFrom_5 19 rfl rfl)
theorem dX5_stepsFrom_139 : decode cX5_stepsFrom 139 = .ok (.ldc_w 528, 3) := dk_19 2 16 (dk_at dksX5_stepsFrom_6 0 rfl rfl)
theorem dX5_stepsFrom_142 : decode cX5_stepsFrom 142 = .ok (.ireturn, 1) := dk_172 (dk_at dksX5_stepsFrom_6 3 rfl rfl)
abbrev cX5_cut : ByteArray := prog_22_method_109_code
def yX5_cut : MethodName := ⟨RX5, "cut", "(II)I"⟩
def dkwX5_cut_4 : List UInt8 := [21, 4, 172, 132, 4, 1, 167, 255, 194, 132, 3, 1, 167, 255, 180, 2, 172]
abbrev dktX5_cut_4 : List UInt8 := dkwX5_cut_4 ++ []
def dkwX5_cut_3 : List UInt8 := [160, 0, 27, 42, 27, 21, 4, 182, 2, 22, 19, 2, 16, 160, 0, 14, 28, 154, 0, 7, 29, 167, 0, 5]
abbrev dktX5_cut_3 : List UInt8 := dkwX5_cut_3 ++ dktX5_cut_4
def dkwX5_cut_2 : List UInt8 := [21, 4, 3, 184, 1, 237, 154, 0, 45, 21, 4, 27, 184, 1, 237, 154, 0, 36, 21, 4, 184, 1, 241, 29]
abbrev dktX5_cut_2 : List UInt8 := dkwX5_cut_2 ++ dktX5_cut_3
def dkwX5_cut_1 : List UInt8 := [154, 0, 5, 2, 172, 3, 62, 29, 6, 162, 0, 77, 3, 54, 4, 21, 4, 19, 1, 240, 162, 0, 60]
abbrev dktX5_cut_1 : List UInt8 := dkwX5_cut_1 ++ dktX5_cut_2
def dkwX5_cut_0 : List UInt8 := [42, 3, 181, 0, 174, 27, 133, 10, 20, 0, 201, 184, 0, 194, 153, 0, 13, 28, 133, 9, 10, 184, 0, 194]
abbrev dktX5_cut_0 : List UInt8 := dkwX5_cut_0 ++ dktX5_cut_1
theorem dksX5_cut_0 : cX5_cut.data.toList.drop 0 = dktX5_cut_0 := by decide +kernel
theorem dksX5_cut_1 : cX5_cut.data.toList.drop 24 = dktX5_cut_1 := dk_seg dksX5_cut_0 24 rfl rfl
theorem dksX5_cut_2 : cX5_cut.data.toList.drop 47 = dktX5_cut_2 := dk_seg dksX5_cut_1 23 rfl rfl
theorem dksX5_cut_3 : cX5_cut.data.toList.drop 71 = dktX5_cut_3 := dk_seg dksX5_cut_2 24 rfl rfl
theorem dksX5_cut_4 : cX5_cut.data.toList.drop 95 = dktX5_cut_4 := dk_seg dksX5_cut_3 24 rfl rfl
theorem dX5_cut_0 : decode cX5_cut 0 = .ok (.aload_n 0, 1) := dk_42 (dk_at dksX5_cut_0 0 rfl rfl)
theorem dX5_cut_1 : decode cX5_cut 1 = .ok (.iconst 0, 1) := dk_3 (dk_at dksX5_cut_0 1 rfl rfl)
theorem dX5_cut_2 : decode cX5_cut 2 = .ok (.putfield 174, 3) := dk_181 0 174 (dk_at dksX5_cut_0 2 rfl rfl)
theorem dX5_cut_5 : decode cX5_cut 5 = .ok (.iload_n 1, 1) := dk_27 (dk_at dksX5_cut_0 5 rfl rfl)
theorem dX5_cut_6 : decode cX5_cut 6 = .ok (.i2l, 1) := dk_133 (dk_at dksX5_cut_0 6 rfl rfl)
theorem dX5_cut_7 : decode cX5_cut 7 = .ok (.lconst 1, 1) := dk_10 (dk_at dksX5_cut_0 7 rfl rfl)
theorem dX5_cut_8 : decode cX5_cut 8 = .ok (.ldc2_w 201, 3) := dk_20 0 201 (dk_at dksX5_cut_0 8 rfl rfl)
theorem dX5_cut_11 : decode cX5_cut 11 = .ok (.invokestatic 194, 3) := dk_184 0 194 (dk_at dksX5_cut_0 11 rfl rfl)
theorem dX5_cut_14 : decode cX5_cut 14 = .ok (.ifCond .eq 13, 3) := dk_153 0 13 (dk_at dksX5_cut_0 14 rfl rfl)
theorem dX5_cut_17 : decode cX5_cut 17 = .ok (.iload_n 2, 1) := dk_28 (dk_at dksX5_cut_0 17 rfl rfl)
theorem dX5_cut_18 : decode cX5_cut 18 = .ok (.i2l, 1) := dk_133 (dk_at dksX5_cut_0 18 rfl rfl)
theorem dX5_cut_19 : decode cX5_cut 19 = .ok (.lconst 0, 1) := dk_9 (dk_at dksX5_cut_0 19 rfl rfl)
theorem dX5_cut_20 : decode cX5_cut 20 = .ok (.lconst 1, 1) := dk_10 (dk_at dksX5_cut_0 20 rfl rfl)
theorem dX5_cut_21 : decode cX5_cut 21 = .ok (.invokestatic 194, 3) := dk_184 0 194 (dk_at dksX5_cut_0 21 rfl rfl)
theorem dX5_cut_24 : decode cX5_cut 24 = .ok (.ifCond .ne 5, 3) := dk_154 0 5 (dk_at dksX5_cut_1 0 rfl rfl)
theorem dX5_cut_27 : decode cX5_cut 27 = .ok (.iconst (-1), 1) := dk_2 (dk_at dksX5_cut_1 3 rfl rfl)
theorem dX5_cut_28 : decode cX5_cut 28 = .ok (.ireturn, 1) := dk_172 (dk_at dksX5_cut_1 4 rfl rfl)
theorem dX5_cut_29 : decode cX5_cut 29 = .ok (.iconst 0, 1) := dk_3 (dk_at dksX5_cut_1 5 rfl rfl)
theorem dX5_cut_30 : decode cX5_cut 30 = .ok (.istore_n 3, 1) := dk_62 (dk_at dksX5_cut_1 6 rfl rfl)
theorem dX5_cut_31 : decode cX5_cut 31 = .ok (.iload_n 3, 1) := dk_29 (dk_at dksX5_cut_1 7 rfl rfl)
theorem dX5_cut_32 : decode cX5_cut 32 = .ok (.iconst 3, 1) := dk_6 (dk_at dksX5_cut_1 8 rfl rfl)
theorem dX5_cut_33 : decode cX5_cut 33 = .ok (.if_icmp .ge 77, 3) := dk_162 0 77 (dk_at dksX5_cut_1 9 rfl rfl)
theorem dX5_cut_36 : decode cX5_cut 36 = .ok (.iconst 0, 1) := dk_3 (dk_at dksX5_cut_1 12 rfl rfl)
theorem dX5_cut_37 : decode cX5_cut 37 = .ok (.istore 4, 2) := dk_54 4 (dk_at dksX5_cut_1 13 rfl rfl)
theorem dX5_cut_39 : decode cX5_cut 39 = .ok (.iload 4, 2) := dk_21 4 (dk_at dksX5_cut_1 15 rfl rfl)
theorem dX5_cut_41 : decode cX5_cut 41 = .ok (.ldc_w 496, 3) := dk_19 1 240 (dk_at dksX5_cut_1 17 rfl rfl)
theorem dX5_cut_44 : decode cX5_cut 44 = .ok (.if_icmp .ge 60, 3) := dk_162 0 60 (dk_at dksX5_cut_1 20 rfl rfl)
theorem dX5_cut_47 : decode cX5_cut 47 = .ok (.iload 4, 2) := dk_21 4 (dk_at dksX5_cut_2 0 rfl rfl)
theorem dX5_cut_49 : decode cX5_cut 49 = .ok (.iconst 0, 1) := dk_3 (dk_at dksX5_cut_2 2 rfl rfl)
theorem dX5_cut_50 : decode cX5_cut 50 = .ok (.invokestatic 493, 3) := dk_184 1 237 (dk_at dksX5_cut_2 3 rfl rfl)
theorem dX5_cut_53 : decode cX5_cut 53 = .ok (.ifCond .ne 45, 3) := dk_154 0 45 (dk_at dksX5_cut_2 6 rfl rfl)
theorem dX5_cut_56 : decode cX5_cut 56 = .ok (.iload 4, 2) := dk_21 4 (dk_at dksX5_cut_2 9 rfl rfl)
theorem dX5_cut_58 : decode cX5_cut 58 = .ok (.iload_n 1, 1) := dk_27 (dk_at dksX5_cut_2 11 rfl rfl)
theorem dX5_cut_59 : decode cX5_cut 59 = .ok (.invokestatic 493, 3) := dk_184 1 237 (dk_at dksX5_cut_2 12 rfl rfl)
theorem dX5_cut_62 : decode cX5_cut 62 = .ok (.ifCond .ne 36, 3) := dk_154 0 36 (dk_at dksX5_cut_2 15 rfl rfl)
theorem dX5_cut_65 : decode cX5_cut 65 = .ok (.iload 4, 2) := dk_21 4 (dk_at dksX5_cut_2 18 rfl rfl)
theorem dX5_cut_67 : decode cX5_cut 67 = .ok (.invokestatic 497, 3) := dk_184 1 241 (dk_at dksX5_cut_2 20 rfl rfl)
theorem dX5_cut_70 : decode cX5_cut 70 = .ok (.iload_n 3, 1) := dk_29 (dk_at dksX5_cut_2 23 rfl rfl)
theorem dX5_cut_71 : decode cX5_cut 71 = .ok (.if_icmp .ne 27, 3) := dk_160 0 27 (dk_at dksX5_cut_3 0 rfl rfl)
theorem dX5_cut_74 : decode cX5_cut 74 = .ok (.aload_n 0, 1) := dk_42 (dk_at dksX5_cut_3 3 rfl rfl)
theorem dX5_cut_75 : decode cX5_cut 75 = .ok (.iload_n 1, 1) := dk_27 (dk_at dksX5_cut_3 4 rfl rfl)
theorem dX5_cut_76 : decode cX5_cut 76 = .ok (.iload 4, 2) := dk_21 4 (dk_at dksX5_cut_3 5 rfl rfl)
theorem dX5_cut_78 : decode cX5_cut 78 = .ok (.invokevirtual 534, 3) := dk_182 2 22 (dk_at dksX5_cut_3 7 rfl rfl)
theorem dX5_cut_81 : decode cX5_cut 81 = .ok (.ldc_w 528, 3) := dk_19 2 16 (dk_at dksX5_cut_3 10 rfl rfl)
theorem dX5_cut_84 : decode cX5_cut 84 = .ok (.if_icmp .ne 14, 3) := dk_160 0 14 (dk_at dksX5_cut_3 13 rfl rfl)
theorem dX5_cut_87 : decode cX5_cut 87 = .ok (.iload_n 2, 1) := dk_28 (dk_at dksX5_cut_3 16 rfl rfl)
theorem dX5_cut_88 : decode cX5_cut 88 = .ok (.ifCond .ne 7, 3) := dk_154 0 7 (dk_at dksX5_cut_3 17 rfl rfl)
theorem dX5_cut_91 : decode cX5_cut 91 = .ok (.iload_n 3, 1) := dk_29 (dk_at dksX5_cut_3 20 rfl rfl)
theorem dX5_cut_92 : decode cX5_cut 92 = .ok (.goto 5, 3) := dk_167 0 5 (dk_at dksX5_cut_3 21 rfl rfl)
theorem dX5_cut_95 : decode cX5_cut 95 = .ok (.iload 4, 2) := dk_21 4 (dk_at dksX5_cut_4 0 rfl rfl)
theorem dX5_cut_97 : decode cX5_cut 97 = .ok (.ireturn, 1) := dk_172 (dk_at dksX5_cut_4 2 rfl rfl)
theorem dX5_cut_98 : decode cX5_cut 98 = .ok (.iinc 4 1, 3) := dk_132 4 1 (dk_at dksX5_cut_4 3 rfl rfl)
theorem dX5_cut_101 : decode cX5_cut 101 = .ok (.goto (-62), 3) := dk_167 255 194 (dk_at dksX5_cut_4 6 rfl rfl)
theorem dX5_cut_104 : decode cX5_cut 104 = .ok (.iinc 3 1, 3) := dk_132 3 1 (dk_at dksX5_cut_4 9 rfl rfl)
theorem dX5_cut_107 : decode cX5_cut 107 = .ok (.goto (-76), 3) := dk_167 255 180 (dk_at dksX5_cut_4 12 rfl rfl)
theorem dX5_cut_110 : decode cX5_cut 110 = .ok (.iconst (-1), 1) := dk_2 (dk_at dksX5_cut_4 15 rfl rfl)
theorem dX5_cut_111 : decode cX5_cut 111 = .ok (.ireturn, 1) := dk_172 (dk_at dksX5_cut_4 16 rfl rfl)
abbrev cX5_share : ByteArray := prog_22_method_110_code
def yX5_share : MethodName := ⟨RX5, "share", "(II)I"⟩
def dkwX5_share_10 : List UInt8 := [167, 255, 181, 42, 180, 0, 146, 28, 46, 172]
abbrev dktX5_share_10 : List UInt8 := dkwX5_share_10 ++ []
def dkwX5_share_9 : List UInt8 := [180, 0, 146, 21, 6, 92, 46, 4, 96, 79, 42, 180, 0, 149, 21, 6, 20, 1, 20, 80, 132, 5, 255]
abbrev dktX5_share_9 : List UInt8 := dkwX5_share_9 ++ dktX5_share_10
def dkwX5_share_8 : List UInt8 := [21, 6, 47, 148, 158, 0, 8, 21, 7, 167, 0, 5, 21, 6, 54, 6, 132, 7, 1, 167, 255, 219, 42]
abbrev dktX5_share_8 : List UInt8 := dkwX5_share_8 ++ dktX5_share_9
def dkwX5_share_7 : List UInt8 := [54, 6, 4, 54, 7, 21, 7, 16, 16, 162, 0, 36, 42, 180, 0, 149, 21, 7, 47, 42, 180, 0, 149]
abbrev dktX5_share_7 : List UInt8 := dkwX5_share_7 ++ dktX5_share_8
def dkwX5_share_6 : List UInt8 := [21, 5, 42, 180, 0, 146, 21, 6, 46, 100, 54, 5, 132, 6, 1, 167, 255, 193, 21, 5, 158, 0, 76, 3]
abbrev dktX5_share_6 : List UInt8 := dkwX5_share_6 ++ dktX5_share_7
def dkwX5_share_5 : List UInt8 := [33, 113, 80, 42, 180, 0, 146, 21, 6, 27, 133, 42, 180, 0, 146, 21, 6, 46, 133, 105, 33, 109, 136, 79]
abbrev dktX5_share_5 : List UInt8 := dkwX5_share_5 ++ dktX5_share_6
def dkwX5_share_4 : List UInt8 := [21, 6, 16, 16, 162, 0, 62, 42, 180, 0, 149, 21, 6, 27, 133, 42, 180, 0, 146, 21, 6, 46, 133, 105]
abbrev dktX5_share_4 : List UInt8 := dkwX5_share_4 ++ dktX5_share_5
def dkwX5_share_3 : List UInt8 := [46, 133, 97, 66, 132, 5, 1, 167, 255, 209, 33, 9, 148, 154, 0, 5, 2, 172, 27, 54, 5, 3, 54, 6]
abbrev dktX5_share_3 : List UInt8 := dkwX5_share_3 ++ dktX5_share_4
def dkwX5_share_2 : List UInt8 := [182, 0, 220, 153, 0, 12, 42, 21, 5, 182, 0, 226, 167, 0, 4, 3, 79, 33, 42, 180, 0, 146, 21, 5]
abbrev dktX5_share_2 : List UInt8 := dkwX5_share_2 ++ dktX5_share_3
def dkwX5_share_1 : List UInt8 := [2, 172, 9, 66, 3, 54, 5, 21, 5, 16, 16, 162, 0, 46, 42, 180, 0, 146, 21, 5, 42, 21, 5]
abbrev dktX5_share_1 : List UInt8 := dkwX5_share_1 ++ dktX5_share_2
def dkwX5_share_0 : List UInt8 := [42, 3, 181, 0, 174, 27, 133, 9, 20, 2, 25, 184, 0, 194, 153, 0, 10, 28, 184, 0, 205, 154, 0, 5]
abbrev dktX5_share_0 : List UInt8 := dkwX5_share_0 ++ dktX5_share_1
theorem dksX5_share_0 : cX5_share.data.toList.drop 0 = dktX5_share_0 := by decide +kernel
theorem dksX5_share_1 : cX5_share.data.toList.drop 24 = dktX5_share_1 := dk_seg dksX5_share_0 24 rfl rfl
theorem dksX5_share_2 : cX5_share.data.toList.drop 47 = dktX5_share_2 := dk_seg dksX5_share_1 23 rfl rfl
theorem dksX5_share_3 : cX5_share.data.toList.drop 71 = dktX5_share_3 := dk_seg dksX5_share_2 24 rfl rfl
theorem dksX5_share_4 : cX5_share.data.toList.drop 95 = dktX5_share_4 := dk_seg dksX5_share_3 24 rfl rfl
theorem dksX5_share_5 : cX5_share.data.toList.drop 119 = dktX5_share_5 := dk_seg dksX5_share_4 24 rfl rfl
theorem dksX5_share_6 : cX5_share.data.toList.drop 143 = dktX5_share_6 := dk_seg dksX5_share_5 24 rfl rfl
theorem dksX5_share_7 : cX5_share.data.toList.drop 167 = dktX5_share_7 := dk_seg dksX5_share_6 24 rfl rfl
theorem dksX5_share_8 : cX5_share.data.toList.drop 190 = dktX5_share_8 := dk_seg dksX5_share_7 23 rfl rfl
theorem dksX5_share_9 : cX5_share.data.toList.drop 213 = dktX5_share_9 := dk_seg dksX5_share_8 23 rfl rfl
theorem dksX5_share_10 : cX5_share.data.toList.drop 236 = dktX5_share_10 := dk_seg dksX5_share_9 23 rfl rfl
theorem dX5_share_0 : decode cX5_share 0 = .ok (.aload_n 0, 1) := dk_42 (dk_at dksX5_share_0 0 rfl rfl)
theorem dX5_share_1 : decode cX5_share 1 = .ok (.iconst 0, 1) := dk_3 (dk_at dksX5_share_0 1 rfl rfl)
theorem dX5_share_2 : decode cX5_share 2 = .ok (.putfield 174, 3) := dk_181 0 174 (dk_at dksX5_share_0 2 rfl rfl)
theorem dX5_share_5 : decode cX5_share 5 = .ok (.iload_n 1, 1) := dk_27 (dk_at dksX5_share_0 5 rfl rfl)
theorem dX5_share_6 : decode cX5_share 6 = .ok (.i2l, 1) := dk_133 (dk_at dksX5_share_0 6 rfl rfl)
theorem dX5_share_7 : decode cX5_share 7 = .ok (.lconst 0, 1) := dk_9 (dk_at dksX5_share_0 7 rfl rfl)
theorem dX5_share_8 : decode cX5_share 8 = .ok (.ldc2_w 537, 3) := dk_20 2 25 (dk_at dksX5_share_0 8 rfl rfl)
theorem dX5_share_11 : decode cX5_share 11 = .ok (.invokestatic 194, 3) := dk_184 0 194 (dk_at dksX5_share_0 11 rfl rfl)
theorem dX5_share_14 : decode cX5_share 14 = .ok (.ifCond .eq 10, 3) := dk_153 0 10 (dk_at dksX5_share_0 14 rfl rfl)
theorem dX5_share_17 : decode cX5_share 17 = .ok (.iload_n 2, 1) := dk_28 (dk_at dksX5_share_0 17 rfl rfl)
theorem dX5_share_18 : decode cX5_share 18 = .ok (.invokestatic 205, 3) := dk_184 0 205 (dk_at dksX5_share_0 18 rfl rfl)
theorem dX5_share_21 : decode cX5_share 21 = .ok (.ifCond .ne 5, 3) := dk_154 0 5 (dk_at dksX5_share_0 21 rfl rfl)
theorem dX5_share_24 : decode cX5_share 24 = .ok (.iconst (-1), 1) := dk_2 (dk_at dksX5_share_1 0 rfl rfl)
theorem dX5_share_25 : decode cX5_share 25 = .ok (.ireturn, 1) := dk_172 (dk_at dksX5_share_1 1 rfl rfl)
theorem dX5_share_26 : decode cX5_share 26 = .ok (.lconst 0, 1) := dk_9 (dk_at dksX5_share_1 2 rfl rfl)
theorem dX5_share_27 : decode cX5_share 27 = .ok (.lstore_n 3, 1) := dk_66 (dk_at dksX5_share_1 3 rfl rfl)
theorem dX5_share_28 : decode cX5_share 28 = .ok (.iconst 0, 1) := dk_3 (dk_at dksX5_share_1 4 rfl rfl)
theorem dX5_share_29 : decode cX5_share 29 = .ok (.istore 5, 2) := dk_54 5 (dk_at dksX5_share_1 5 rfl rfl)
theorem dX5_share_31 : decode cX5_share 31 = .ok (.iload 5, 2) := dk_21 5 (dk_at dksX5_share_1 7 rfl rfl)
theorem dX5_share_33 : decode cX5_share 33 = .ok (.bipush 16, 2) := dk_16 16 (dk_at dksX5_share_1 9 rfl rfl)
theorem dX5_share_35 : decode cX5_share 35 = .ok (.if_icmp .ge 46, 3) := dk_162 0 46 (dk_at dksX5_share_1 11 rfl rfl)
theorem dX5_share_38 : decode cX5_share 38 = .ok (.aload_n 0, 1) := dk_42 (dk_at dksX5_share_1 14 rfl rfl)
theorem dX5_share_39 : decode cX5_share 39 = .ok (.getfield 146, 3) := dk_180 0 146 (dk_at dksX5_share_1 15 rfl rfl)
theorem dX5_share_42 : decode cX5_share 42 = .ok (.iload 5, 2) := dk_21 5 (dk_at dksX5_share_1 18 rfl rfl)
theorem dX5_share_44 : decode cX5_share 44 = .ok (.aload_n 0, 1) := dk_42 (dk_at dksX5_share_1 20 rfl rfl)
theorem dX5_share_45 : decode cX5_share 45 = .ok (.iload 5, 2) := dk_21 5 (dk_at dksX5_share_1 21 rfl rfl)
theorem dX5_share_47 : decode cX5_share 47 = .ok (.invokevirtual 220, 3) := dk_182 0 220 (dk_at dksX5_share_2 0 rfl rfl)
theorem dX5_share_50 : decode cX5_share 50 = .ok (.ifCond .eq 12, 3) := dk_153 0 12 (dk_at dksX5_share_2 3 rfl rfl)
theorem dX5_share_53 : decode cX5_share 53 = .ok (.aload_n 0, 1) := dk_42 (dk_at dksX5_share_2 6 rfl rfl)
theorem dX5_share_54 : decode cX5_share 54 = .ok (.iload 5, 2) := dk_21 5 (dk_at dksX5_share_2 7 rfl rfl)
theorem dX5_share_56 : decode cX5_share 56 = .ok (.invokevirtual 226, 3) := dk_182 0 226 (dk_at dksX5_share_2 9 rfl rfl)
theorem dX5_share_59 : decode cX5_share 59 = .ok (.goto 4, 3) := dk_167 0 4 (dk_at dksX5_share_2 12 rfl rfl)
theorem dX5_share_62 : decode cX5_share 62 = .ok (.iconst 0, 1) := dk_3 (dk_at dksX5_share_2 15 rfl rfl)
theorem dX5_share_63 : decode cX5_share 63 = .ok (.iastore, 1) := dk_79 (dk_at dksX5_share_2 16 rfl rfl)
theorem dX5_share_64 : decode cX5_share 64 = .ok (.lload_n 3, 1) := dk_33 (dk_at dksX5_share_2 17 rfl rfl)
theorem dX5_share_65 : decode cX5_share 65 = .ok (.aload_n 0, 1) := dk_42 (dk_at dksX5_share_2 18 rfl rfl)
theorem dX5_share_66 : decode cX5_share 66 = .ok (.getfield 146, 3) := dk_180 0 146 (dk_at dksX5_share_2 19 rfl rfl)
theorem dX5_share_69 : decode cX5_share 69 = .ok (.iload 5, 2) := dk_21 5 (dk_at dksX5_share_2 22 rfl rfl)
theorem dX5_share_71 : decode cX5_share 71 = .ok (.iaload, 1) := dk_46 (dk_at dksX5_share_3 0 rfl rfl)
theorem dX5_share_72 : decode cX5_share 72 = .ok (.i2l, 1) := dk_133 (dk_at dksX5_share_3 1 rfl rfl)
theorem dX5_share_73 : decode cX5_share 73 = .ok (.ladd, 1) := dk_97 (dk_at dksX5_share_3 2 rfl rfl)
theorem dX5_share_74 : decode cX5_share 74 = .ok (.lstore_n 3, 1) := dk_66 (dk_at dksX5_share_3 3 rfl rfl)
theorem dX5_share_75 : decode cX5_share 75 = .ok (.iinc 5 1, 3) := dk_132 5 1 (dk_at dksX5_share_3 4 rfl rfl)
theorem dX5_share_78 : decode cX5_share 78 = .ok (.goto (-47), 3) := dk_167 255 209 (dk_at dksX5_share_3 7 rfl rfl)
theorem dX5_share_81 : decode cX5_share 81 = .ok (.lload_n 3, 1) := dk_33 (dk_at dksX5_share_3 10 rfl rfl)
theorem dX5_share_82 : decode cX5_share 82 = .ok (.lconst 0, 1) := dk_9 (dk_at dksX5_share_3 11 rfl rfl)
theorem dX5_share_83 : decode cX5_share 83 = .ok (.lcmp, 1) := dk_148 (dk_at dksX5_share_3 12 rfl rfl)
theorem dX5_share_84 : decode cX5_share 84 = .ok (.ifCond .ne 5, 3) := dk_154 0 5 (dk_at dksX5_share_3 13 rfl rfl)
theorem dX5_share_87 : decode cX5_share 87 = .ok (.iconst (-1), 1) := dk_2 (dk_at dksX5_share_3 16 rfl rfl)
theorem dX5_share_88 : decode cX5_share 88 = .ok (.ireturn, 1) := dk_172 (dk_at dksX5_share_3 17 rfl rfl)
theorem dX5_share_89 : decode cX5_share 89 = .ok (.iload_n 1, 1) := dk_27 (dk_at dksX5_share_3 18 rfl rfl)
theorem dX5_share_90 : decode cX5_share 90 = .ok (.istore 5, 2) := dk_54 5 (dk_at dksX5_share_3 19 rfl rfl)
theorem dX5_share_92 : decode cX5_share 92 = .ok (.iconst 0, 1) := dk_3 (dk_at dksX5_share_3 21 rfl rfl)
theorem dX5_share_93 : decode cX5_share 93 = .ok (.istore 6, 2) := dk_54 6 (dk_at dksX5_share_3 22 rfl rfl)
theorem dX5_share_95 : decode cX5_share 95 = .ok (.iload 6, 2) := dk_21 6 (dk_at dksX5_share_4 0 rfl rfl)
theorem dX5_share_97 : decode cX5_share 97 = .ok (.bipush 16, 2) := dk_16 16 (dk_at dksX5_share_4 2 rfl rfl)
theorem dX5_share_99 : decode cX5_share 99 = .ok (.if_icmp .ge 62, 3) := dk_162 0 62 (dk_at dksX5_share_4 4 rfl rfl)
theorem dX5_share_102 : decode cX5_share 102 = .ok (.aload_n 0, 1) := dk_42 (dk_at dksX5_share_4 7 rfl rfl)
theorem dX5_share_103 : decode cX5_share 103 = .ok (.getfield 149, 3) := dk_180 0 149 (dk_at dksX5_share_4 8 rfl rfl)
theorem dX5_share_106 : decode cX5_share 106 = .ok (.iload 6, 2) := dk_21 6 (dk_at dksX5_share_4 11 rfl rfl)
theorem dX5_share_108 : decode cX5_share 108 = .ok (.iload_n 1, 1) := dk_27 (dk_at dksX5_share_4 13 rfl rfl)
theorem dX5_share_109 : decode cX5_share 109 = .ok (.i2l, 1) := dk_133 (dk_at dksX5_share_4 14 rfl rfl)
theorem dX5_share_110 : decode cX5_share 110 = .ok (.aload_n 0, 1) := dk_42 (dk_at dksX5_share_4 15 rfl rfl)
theorem dX5_share_111 : decode cX5_share 111 = .ok (.getfield 146, 3) := dk_180 0 146 (dk_at dksX5_share_4 16 rfl rfl)
theorem dX5_share_114 : decode cX5_share 114 = .ok (.iload 6, 2) := dk_21 6 (dk_at dksX5_share_4 19 rfl rfl)
theorem dX5_share_116 : decode cX5_share 116 = .ok (.iaload, 1) := dk_46 (dk_at dksX5_share_4 21 rfl rfl)
theorem dX5_share_117 : decode cX5_share 117 = .ok (.i2l, 1) := dk_133 (dk_at dksX5_share_4 22 rfl rfl)
theorem dX5_share_118 : decode cX5_share 118 = .ok (.lmul, 1) := dk_105 (dk_at dksX5_share_4 23 rfl rfl)
theorem dX5_share_119 : decode cX5_share 119 = .ok (.lload_n 3, 1) := dk_33 (dk_at dksX5_share_5 0 rfl rfl)
theorem dX5_share_120 : decode cX5_share 120 = .ok (.lrem, 1) := dk_113 (dk_at dksX5_share_5 1 rfl rfl)
theorem dX5_share_121 : decode cX5_share 121 = .ok (.lastore, 1) := dk_80 (dk_at dksX5_share_5 2 rfl rfl)
theorem dX5_share_122 : decode cX5_share 122 = .ok (.aload_n 0, 1) := dk_42 (dk_at dksX5_share_5 3 rfl rfl)
theorem dX5_share_123 : decode cX5_share 123 = .ok (.getfield 146, 3) := dk_180 0 146 (dk_at dksX5_share_5 4 rfl rfl)
theorem dX5_share_126 : decode cX5_share 126 = .ok (.iload 6, 2) := dk_21 6 (dk_at dksX5_share_5 7 rfl rfl)
theorem dX5_share_128 : decode cX5_share 128 = .ok (.iload_n 1, 1) := dk_27 (dk_at dksX5_share_5 9 rfl rfl)
theorem dX5_share_129 : decode cX5_share 129 = .ok (.i2l, 1) := dk_133 (dk_at dksX5_share_5 10 rfl rfl)
theorem dX5_share_130 : decode cX5_share 130 = .ok (.aload_n 0, 1) := dk_42 (dk_at dksX5_share_5 11 rfl rfl)
theorem dX5_share_131 : decode cX5_share 131 = .ok (.getfield 146, 3) := dk_180 0 146 (dk_at dksX5_share_5 12 rfl rfl)
theorem dX5_share_134 : decode cX5_share 134 = .ok (.iload 6, 2) := dk_21 6 (dk_at dksX5_share_5 15 rfl rfl)
theorem dX5_share_136 : decode cX5_share 136 = .ok (.iaload, 1) := dk_46 (dk_at dksX5_share_5 17 rfl rfl)
theorem dX5_share_137 : decode cX5_share 137 = .ok (.i2l, 1) := dk_133 (dk_at dksX5_share_5 18 rfl rfl)
theorem dX5_share_138 : decode cX5_share 138 = .ok (.lmul, 1) := dk_105 (dk_at dksX5_share_5 19 rfl rfl)
theorem dX5_share_139 : decode cX5_share 139 = .ok (.lload_n 3, 1) := dk_33 (dk_at dksX5_share_5 20 rfl rfl)
theorem dX5_share_140 : decode cX5_share 140 = .ok (.ldiv, 1) := dk_109 (dk_at dksX5_share_5 21 rfl rfl)
theorem dX5_share_141 : decode cX5_share 141 = .ok (.l2i, 1) := dk_136 (dk_at dksX5_share_5 22 rfl rfl)
theorem dX5_share_142 : decode cX5_share 142 = .ok (.iastore, 1) := dk_79 (dk_at dksX5_share_5 23 rfl rfl)
theorem dX5_share_143 : decode cX5_share 143 = .ok (.iload 5, 2) := dk_21 5 (dk_at dksX5_share_6 0 rfl rfl)
theorem dX5_share_145 : decode cX5_share 145 = .ok (.aload_n 0, 1) := dk_42 (dk_at dksX5_share_6 2 rfl rfl)
theorem dX5_share_146 : decode cX5_share 146 = .ok (.getfield 146, 3) := dk_180 0 146 (dk_at dksX5_share_6 3 rfl rfl)
theorem dX5_share_149 : decode cX5_share 149 = .ok (.iload 6, 2) := dk_21 6 (dk_at dksX5_share_6 6 rfl rfl)
theorem dX5_share_151 : decode cX5_share 151 = .ok (.iaload, 1) := dk_46 (dk_at dksX5_share_6 8 rfl rfl)
theorem dX5_share_152 : decode cX5_share 152 = .ok (.isub, 1) := dk_100 (dk_at dksX5_share_6 9 rfl rfl)
theorem dX5_share_153 : decode cX5_share 153 = .ok (.istore 5, 2) := dk_54 5 (dk_at dksX5_share_6 10 rfl rfl)
theorem dX5_share_155 : decode cX5_share 155 = .ok (.iinc 6 1, 3) := dk_132 6 1 (dk_at dksX5_share_6 12 rfl rfl)
theorem dX5_share_158 : decode cX5_share 158 = .ok (.goto (-63), 3) := dk_167 255 193 (dk_at dksX5_share_6 15 rfl rfl)
theorem dX5_share_161 : decode cX5_share 161 = .ok (.iload 5, 2) := dk_21 5 (dk_at dksX5_share_6 18 rfl rfl)
theorem dX5_share_163 : decode cX5_share 163 = .ok (.ifCond .le 76, 3) := dk_158 0 76 (dk_at dksX5_share_6 20 rfl rfl)
theorem dX5_share_166 : decode cX5_share 166 = .ok (.iconst 0, 1) := dk_3 (dk_at dksX5_share_6 23 rfl rfl)
theorem dX5_share_167 : decode cX5_share 167 = .ok (.istore 6, 2) := dk_54 6 (dk_at dksX5_share_7 0 rfl rfl)
theorem dX5_share_169 : decode cX5_share 169 = .ok (.iconst 1, 1) := dk_4 (dk_at dksX5_share_7 2 rfl rfl)
theorem dX5_share_170 : decode cX5_share 170 = .ok (.istore 7, 2) := dk_54 7 (dk_at dksX5_share_7 3 rfl rfl)
theorem dX5_share_172 : decode cX5_share 172 = .ok (.iload 7, 2) := dk_21 7 (dk_at dksX5_share_7 5 rfl rfl)
theorem dX5_share_174 : decode cX5_share 174 = .ok (.bipush 16, 2) := dk_16 16 (dk_at dksX5_share_7 7 rfl rfl)
theorem dX5_share_176 : decode cX5_share 176 = .ok (.if_icmp .ge 36, 3) := dk_162 0 36 (dk_at dksX5_share_7 9 rfl rfl)
theorem dX5_share_179 : decode cX5_share 179 = .ok (.aload_n 0, 1) := dk_42 (dk_at dksX5_share_7 12 rfl rfl)
theorem dX5_share_180 : decode cX5_share 180 = .ok (.getfield 149, 3) := dk_180 0 149 (dk_at dksX5_share_7 13 rfl rfl)
theorem dX5_share_183 : decode cX5_share 183 = .ok (.iload 7, 2) := dk_21 7 (dk_at dksX5_share_7 16 rfl rfl)
theorem dX5_share_185 : decode cX5_share 185 = .ok (.laload, 1) := dk_47 (dk_at dksX5_share_7 18 rfl rfl)
theorem dX5_share_186 : decode cX5_share 186 = .ok (.aload_n 0, 1) := dk_42 (dk_at dksX5_share_7 19 rfl rfl)
theorem dX5_share_187 : decode cX5_share 187 = .ok (.getfield 149, 3) := dk_180 0 149 (dk_at dksX5_share_7 20 rfl rfl)
theorem dX5_share_190 : decode cX5_share 190 = .ok (.iload 6, 2) := dk_21 6 (dk_at dksX5_share_8 0 rfl rfl)
theorem dX5_share_192 : decode cX5_share 192 = .ok (.laload, 1) := dk_47 (dk_at dksX5_share_8 2 rfl rfl)
theorem dX5_share_193 : decode cX5_share 193 = .ok (.lcmp, 1) := dk_148 (dk_at dksX5_share_8 3 rfl rfl)
theorem dX5_share_194 : decode cX5_share 194 = .ok (.ifCond .le 8, 3) := dk_158 0 8 (dk_at dksX5_share_8 4 rfl rfl)
theorem dX5_share_197 : decode cX5_share 197 = .ok (.iload 7, 2) := dk_21 7 (dk_at dksX5_share_8 7 rfl rfl)
theorem dX5_share_199 : decode cX5_share 199 = .ok (.goto 5, 3) := dk_167 0 5 (dk_at dksX5_share_8 9 rfl rfl)
theorem dX5_share_202 : decode cX5_share 202 = .ok (.iload 6, 2) := dk_21 6 (dk_at dksX5_share_8 12 rfl rfl)
theorem dX5_share_204 : decode cX5_share 204 = .ok (.istore 6, 2) := dk_54 6 (dk_at dksX5_share_8 14 rfl rfl)
theorem dX5_share_206 : decode cX5_share 206 = .ok (.iinc 7 1, 3) := dk_132 7 1 (dk_at dksX5_share_8 16 rfl rfl)
theorem dX5_share_209 : decode cX5_share 209 = .ok (.goto (-37), 3) := dk_167 255 219 (dk_at dksX5_share_8 19 rfl rfl)
theorem dX5_share_212 : decode cX5_share 212 = .ok (.aload_n 0, 1) := dk_42 (dk_at dksX5_share_8 22 rfl rfl)
theorem dX5_share_213 : decode cX5_share 213 = .ok (.getfield 146, 3) := dk_180 0 146 (dk_at dksX5_share_9 0 rfl rfl)
theorem dX5_share_216 : decode cX5_share 216 = .ok (.iload 6, 2) := dk_21 6 (dk_at dksX5_share_9 3 rfl rfl)
theorem dX5_share_218 : decode cX5_share 218 = .ok (.dup2, 1) := dk_92 (dk_at dksX5_share_9 5 rfl rfl)
theorem dX5_share_219 : decode cX5_share 219 = .ok (.iaload, 1) := dk_46 (dk_at dksX5_share_9 6 rfl rfl)
theorem dX5_share_220 : decode cX5_share 220 = .ok (.iconst 1, 1) := dk_4 (dk_at dksX5_share_9 7 rfl rfl)
theorem dX5_share_221 : decode cX5_share 221 = .ok (.iadd, 1) := dk_96 (dk_at dksX5_share_9 8 rfl rfl)
theorem dX5_share_222 : decode cX5_share 222 = .ok (.iastore, 1) := dk_79 (dk_at dksX5_share_9 9 rfl rfl)
theorem dX5_share_223 : decode cX5_share 223 = .ok (.aload_n 0, 1) := dk_42 (dk_at dksX5_share_9 10 rfl rfl)
theorem dX5_share_224 : decode cX5_share 224 = .ok (.getfield 149, 3) := dk_180 0 149 (dk_at dksX5_share_9 11 rfl rfl)
theorem dX5_share_227 : decode cX5_share 227 = .ok (.iload 6, 2) := dk_21 6 (dk_at dksX5_share_9 14 rfl rfl)
theorem dX5_share_229 : decode cX5_share 229 = .ok (.ldc2_w 276, 3) := dk_20 1 20 (dk_at dksX5_share_9 16 rfl rfl)
theorem dX5_share_232 : decode cX5_share 232 = .ok (.lastore, 1) := dk_80 (dk_at dksX5_share_9 19 rfl rfl)
theorem dX5_share_233 : decode cX5_share 233 = .ok (.iinc 5 (-1), 3) := dk_132 5 255 (dk_at dksX5_share_9 20 rfl rfl)
theorem dX5_share_236 : decode cX5_share 236 = .ok (.goto (-75), 3) := dk_167 255 181 (dk_at dksX5_share_10 0 rfl rfl)
theorem dX5_share_239 : decode cX5_share 239 = .ok (.aload_n 0, 1) := dk_42 (dk_at dksX5_share_10 3 rfl rfl)
theorem dX5_share_240 : decode cX5_share 240 = .ok (.getfield 146, 3) := dk_180 0 146 (dk_at dksX5_share_10 4 rfl rfl)
theorem dX5_share_243 : decode cX5_share 243 = .ok (.iload_n 2, 1) := dk_28 (dk_at dksX5_share_10 7 rfl rfl)
theorem dX5_share_244 : decode cX5_share 244 = .ok (.iaload, 1) := dk_46 (dk_at dksX5_share_10 8 rfl rfl)
theorem dX5_share_245 : decode cX5_share 245 = .ok (.ireturn, 1) := dk_172 (dk_at dksX5_share_10 9 rfl rfl)
abbrev cX5_game : ByteArray := prog_22_method_111_code
def yX5_game : MethodName := ⟨RX5, "game", "(II)I"⟩
def dkwX5_game_8 : List UInt8 := [172, 132, 5, 1, 167, 255, 183, 132, 4, 1, 167, 255, 167, 2, 172]
abbrev dktX5_game_8 : List UInt8 := dkwX5_game_8 ++ []
def dkwX5_game_7 : List UInt8 := [21, 5, 100, 7, 112, 130, 154, 0, 19, 28, 4, 160, 0, 8, 21, 4, 167, 0, 8, 16, 10, 21, 5, 104]
abbrev dktX5_game_7 : List UInt8 := dkwX5_game_7 ++ dktX5_game_8
def dkwX5_game_6 : List UInt8 := [21, 4, 96, 46, 16, 10, 108, 54, 6, 21, 6, 21, 5, 161, 0, 36, 29, 21, 6, 7, 112, 130, 21, 6]
abbrev dktX5_game_6 : List UInt8 := dkwX5_game_6 ++ dktX5_game_7
def dkwX5_game_5 : List UInt8 := [54, 5, 21, 5, 7, 162, 0, 73, 27, 21, 4, 184, 1, 237, 153, 0, 64, 42, 180, 0, 13, 16, 24]
abbrev dktX5_game_5 : List UInt8 := dkwX5_game_5 ++ dktX5_game_6
def dkwX5_game_4 : List UInt8 := [154, 0, 7, 3, 167, 0, 8, 4, 167, 0, 4, 2, 172, 3, 54, 4, 21, 4, 16, 16, 162, 0, 88, 4]
abbrev dktX5_game_4 : List UInt8 := dkwX5_game_4 ++ dktX5_game_5
def dkwX5_game_3 : List UInt8 := [3, 130, 62, 132, 4, 1, 167, 255, 215, 28, 153, 0, 7, 29, 154, 0, 21, 28, 154, 0, 15, 29]
abbrev dktX5_game_3 : List UInt8 := dkwX5_game_3 ++ dktX5_game_4
def dkwX5_game_2 : List UInt8 := [184, 1, 237, 153, 0, 21, 42, 180, 0, 13, 16, 24, 21, 4, 96, 46, 16, 10, 108, 7, 112, 167, 0, 4]
abbrev dktX5_game_2 : List UInt8 := dkwX5_game_2 ++ dktX5_game_3
def dkwX5_game_1 : List UInt8 := [184, 0, 194, 154, 0, 5, 2, 172, 3, 62, 3, 54, 4, 21, 4, 16, 16, 162, 0, 40, 29, 27, 21, 4]
abbrev dktX5_game_1 : List UInt8 := dkwX5_game_1 ++ dktX5_game_2
def dkwX5_game_0 : List UInt8 := [42, 3, 181, 0, 174, 27, 133, 9, 20, 2, 17, 184, 0, 194, 153, 0, 15, 28, 133, 9, 20, 1, 184]
abbrev dktX5_game_0 : List UInt8 := dkwX5_game_0 ++ dktX5_game_1
theorem dksX5_game_0 : cX5_game.data.toList.drop 0 = dktX5_game_0 := by decide +kernel
theorem dksX5_game_1 : cX5_game.data.toList.drop 23 = dktX5_game_1 := dk_seg dksX5_game_0 23 rfl rfl
theorem dksX5_game_2 : cX5_game.data.toList.drop 47 = dktX5_game_2 := dk_seg dksX5_game_1 24 rfl rfl
theorem dksX5_game_3 : cX5_game.data.toList.drop 71 = dktX5_game_3 := dk_seg dksX5_game_2 24 rfl rfl
theorem dksX5_game_4 : cX5_game.data.toList.drop 93 = dktX5_game_4 := dk_seg dksX5_game_3 22 rfl rfl
theorem dksX5_game_5 : cX5_game.data.toList.drop 117 = dktX5_game_5 := dk_seg dksX5_game_4 24 rfl rfl
theorem dksX5_game_6 : cX5_game.data.toList.drop 140 = dktX5_game_6 := dk_seg dksX5_game_5 23 rfl rfl
theorem dksX5_game_7 : cX5_game.data.toList.drop 164 = dktX5_game_7 := dk_seg dksX5_game_6 24 rfl rfl
theorem dksX5_game_8 : cX5_game.data.toList.drop 188 = dktX5_game_8 := dk_seg dksX5_game_7 24 rfl rfl
theorem dX5_game_0 : decode cX5_game 0 = .ok (.aload_n 0, 1) := dk_42 (dk_at dksX5_game_0 0 rfl rfl)
theorem dX5_game_1 : decode cX5_game 1 = .ok (.iconst 0, 1) := dk_3 (dk_at dksX5_game_0 1 rfl rfl)
theorem dX5_game_2 : decode cX5_game 2 = .ok (.putfield 174, 3) := dk_181 0 174 (dk_at dksX5_game_0 2 rfl rfl)
theorem dX5_game_5 : decode cX5_game 5 = .ok (.iload_n 1, 1) := dk_27 (dk_at dksX5_game_0 5 rfl rfl)
theorem dX5_game_6 : decode cX5_game 6 = .ok (.i2l, 1) := dk_133 (dk_at dksX5_game_0 6 rfl rfl)
theorem dX5_game_7 : decode cX5_game 7 = .ok (.lconst 0, 1) := dk_9 (dk_at dksX5_game_0 7 rfl rfl)
theorem dX5_game_8 : decode cX5_game 8 = .ok (.ldc2_w 529, 3) := dk_20 2 17 (dk_at dksX5_game_0 8 rfl rfl)
theorem dX5_game_11 : decode cX5_game 11 = .ok (.invokestatic 194, 3) := dk_184 0 194 (dk_at dksX5_game_0 11 rfl rfl)
theorem dX5_game_14 : decode cX5_game 14 = .ok (.ifCond .eq 15, 3) := dk_153 0 15 (dk_at dksX5_game_0 14 rfl rfl)
theorem dX5_game_17 : decode cX5_game 17 = .ok (.iload_n 2, 1) := dk_28 (dk_at dksX5_game_0 17 rfl rfl)
theorem dX5_game_18 : decode cX5_game 18 = .ok (.i2l, 1) := dk_133 (dk_at dksX5_game_0 18 rfl rfl)
theorem dX5_game_19 : decode cX5_game 19 = .ok (.lconst 0, 1) := dk_9 (dk_at dksX5_game_0 19 rfl rfl)
theorem dX5_game_20 : decode cX5_game 20 = .ok (.ldc2_w 440, 3) := dk_20 1 184 (dk_at dksX5_game_0 20 rfl rfl)
theorem dX5_game_23 : decode cX5_game 23 = .ok (.invokestatic 194, 3) := dk_184 0 194 (dk_at dksX5_game_1 0 rfl rfl)
theorem dX5_game_26 : decode cX5_game 26 = .ok (.ifCond .ne 5, 3) := dk_154 0 5 (dk_at dksX5_game_1 3 rfl rfl)
theorem dX5_game_29 : decode cX5_game 29 = .ok (.iconst (-1), 1) := dk_2 (dk_at dksX5_game_1 6 rfl rfl)
theorem dX5_game_30 : decode cX5_game 30 = .ok (.ireturn, 1) := dk_172 (dk_at dksX5_game_1 7 rfl rfl)
theorem dX5_game_31 : decode cX5_game 31 = .ok (.iconst 0, 1) := dk_3 (dk_at dksX5_game_1 8 rfl rfl)
theorem dX5_game_32 : decode cX5_game 32 = .ok (.istore_n 3, 1) := dk_62 (dk_at dksX5_game_1 9 rfl rfl)
theorem dX5_game_33 : decode cX5_game 33 = .ok (.iconst 0, 1) := dk_3 (dk_at dksX5_game_1 10 rfl rfl)
theorem dX5_game_34 : decode cX5_game 34 = .ok (.istore 4, 2) := dk_54 4 (dk_at dksX5_game_1 11 rfl rfl)
theorem dX5_game_36 : decode cX5_game 36 = .ok (.iload 4, 2) := dk_21 4 (dk_at dksX5_game_1 13 rfl rfl)
theorem dX5_game_38 : decode cX5_game 38 = .ok (.bipush 16, 2) := dk_16 16 (dk_at dksX5_game_1 15 rfl rfl)
theorem dX5_game_40 : decode cX5_game 40 = .ok (.if_icmp .ge 40, 3) := dk_162 0 40 (dk_at dksX5_game_1 17 rfl rfl)
theorem dX5_game_43 : decode cX5_game 43 = .ok (.iload_n 3, 1) := dk_29 (dk_at dksX5_game_1 20 rfl rfl)
theorem dX5_game_44 : decode cX5_game 44 = .ok (.iload_n 1, 1) := dk_27 (dk_at dksX5_game_1 21 rfl rfl)
theorem dX5_game_45 : decode cX5_game 45 = .ok (.iload 4, 2) := dk_21 4 (dk_at dksX5_game_1 22 rfl rfl)
theorem dX5_game_47 : decode cX5_game 47 = .ok (.invokestatic 493, 3) := dk_184 1 237 (dk_at dksX5_game_2 0 rfl rfl)
theorem dX5_game_50 : decode cX5_game 50 = .ok (.ifCond .eq 21, 3) := dk_153 0 21 (dk_at dksX5_game_2 3 rfl rfl)
theorem dX5_game_53 : decode cX5_game 53 = .ok (.aload_n 0, 1) := dk_42 (dk_at dksX5_game_2 6 rfl rfl)
theorem dX5_game_54 : decode cX5_game 54 = .ok (.getfield 13, 3) := dk_180 0 13 (dk_at dksX5_game_2 7 rfl rfl)
theorem dX5_game_57 : decode cX5_game 57 = .ok (.bipush 24, 2) := dk_16 24 (dk_at dksX5_game_2 10 rfl rfl)
theorem dX5_game_59 : decode cX5_game 59 = .ok (.iload 4, 2) := dk_21 4 (dk_at dksX5_game_2 12 rfl rfl)
theorem dX5_game_61 : decode cX5_game 61 = .ok (.iadd, 1) := dk_96 (dk_at dksX5_game_2 14 rfl rfl)
theorem dX5_game_62 : decode cX5_game 62 = .ok (.iaload, 1) := dk_46 (dk_at dksX5_game_2 15 rfl rfl)
theorem dX5_game_63 : decode cX5_game 63 = .ok (.bipush 10, 2) := dk_16 10 (dk_at dksX5_game_2 16 rfl rfl)
theorem dX5_game_65 : decode cX5_game 65 = .ok (.idiv, 1) := dk_108 (dk_at dksX5_game_2 18 rfl rfl)
theorem dX5_game_66 : decode cX5_game 66 = .ok (.iconst 4, 1) := dk_7 (dk_at dksX5_game_2 19 rfl rfl)
theorem dX5_game_67 : decode cX5_game 67 = .ok (.irem, 1) := dk_112 (dk_at dksX5_game_2 20 rfl rfl)
theorem dX5_game_68 : decode cX5_game 68 = .ok (.goto 4, 3) := dk_167 0 4 (dk_at dksX5_game_2 21 rfl rfl)
theorem dX5_game_71 : decode cX5_game 71 = .ok (.iconst 0, 1) := dk_3 (dk_at dksX5_game_3 0 rfl rfl)
theorem dX5_game_72 : decode cX5_game 72 = .ok (.ixor, 1) := dk_130 (dk_at dksX5_game_3 1 rfl rfl)
theorem dX5_game_73 : decode cX5_game 73 = .ok (.istore_n 3, 1) := dk_62 (dk_at dksX5_game_3 2 rfl rfl)
theorem dX5_game_74 : decode cX5_game 74 = .ok (.iinc 4 1, 3) := dk_132 4 1 (dk_at dksX5_game_3 3 rfl rfl)
theorem dX5_game_77 : decode cX5_game 77 = .ok (.goto (-41), 3) := dk_167 255 215 (dk_at dksX5_game_3 6 rfl rfl)
theorem dX5_game_80 : decode cX5_game 80 = .ok (.iload_n 2, 1) := dk_28 (dk_at dksX5_game_3 9 rfl rfl)
theorem dX5_game_81 : decode cX5_game 81 = .ok (.ifCond .eq 7, 3) := dk_153 0 7 (dk_at dksX5_game_3 10 rfl rfl)
theorem dX5_game_84 : decode cX5_game 84 = .ok (.iload_n 3, 1) := dk_29 (dk_at dksX5_game_3 13 rfl rfl)
theorem dX5_game_85 : decode cX5_game 85 = .ok (.ifCond .ne 21, 3) := dk_154 0 21 (dk_at dksX5_game_3 14 rfl rfl)
theorem dX5_game_88 : decode cX5_game 88 = .ok (.iload_n 2, 1) := dk_28 (dk_at dksX5_game_3 17 rfl rfl)
theorem dX5_game_89 : decode cX5_game 89 = .ok (.ifCond .ne 15, 3) := dk_154 0 15 (dk_at dksX5_game_3 18 rfl rfl)
theorem dX5_game_92 : decode cX5_game 92 = .ok (.iload_n 3, 1) := dk_29 (dk_at dksX5_game_3 21 rfl rfl)
theorem dX5_game_93 : decode cX5_game 93 = .ok (.ifCond .ne 7, 3) := dk_154 0 7 (dk_at dksX5_game_4 0 rfl rfl)
theorem dX5_game_96 : decode cX5_game 96 = .ok (.iconst 0, 1) := dk_3 (dk_at dksX5_game_4 3 rfl rfl)
theorem dX5_game_97 : decode cX5_game 97 = .ok (.goto 8, 3) := dk_167 0 8 (dk_at dksX5_game_4 4 rfl rfl)
theorem dX5_game_100 : decode cX5_game 100 = .ok (.iconst 1, 1) := dk_4 (dk_at dksX5_game_4 7 rfl rfl)
theorem dX5_game_101 : decode cX5_game 101 = .ok (.goto 4, 3) := dk_167 0 4 (dk_at dksX5_game_4 8 rfl rfl)
theorem dX5_game_104 : decode cX5_game 104 = .ok (.iconst (-1), 1) := dk_2 (dk_at dksX5_game_4 11 rfl rfl)
theorem dX5_game_105 : decode cX5_game 105 = .ok (.ireturn, 1) := dk_172 (dk_at dksX5_game_4 12 rfl rfl)
theorem dX5_game_106 : decode cX5_game 106 = .ok (.iconst 0, 1) := dk_3 (dk_at dksX5_game_4 13 rfl rfl)
theorem dX5_game_107 : decode cX5_game 107 = .ok (.istore 4, 2) := dk_54 4 (dk_at dksX5_game_4 14 rfl rfl)
theorem dX5_game_109 : decode cX5_game 109 = .ok (.iload 4, 2) := dk_21 4 (dk_at dksX5_game_4 16 rfl rfl)
theorem dX5_game_111 : decode cX5_game 111 = .ok (.bipush 16, 2) := dk_16 16 (dk_at dksX5_game_4 18 rfl rfl)
theorem dX5_game_113 : decode cX5_game 113 = .ok (.if_icmp .ge 88, 3) := dk_162 0 88 (dk_at dksX5_game_4 20 rfl rfl)
theorem dX5_game_116 : decode cX5_game 116 = .ok (.iconst 1, 1) := dk_4 (dk_at dksX5_game_4 23 rfl rfl)
theorem dX5_game_117 : decode cX5_game 117 = .ok (.istore 5, 2) := dk_54 5 (dk_at dksX5_game_5 0 rfl rfl)
theorem dX5_game_119 : decode cX5_game 119 = .ok (.iload 5, 2) := dk_21 5 (dk_at dksX5_game_5 2 rfl rfl)
theorem dX5_game_121 : decode cX5_game 121 = .ok (.iconst 4, 1) := dk_7 (dk_at dksX5_game_5 4 rfl rfl)
theorem dX5_game_122 : decode cX5_game 122 = .ok (.if_icmp .ge 73, 3) := dk_162 0 73 (dk_at dksX5_game_5 5 rfl rfl)
theorem dX5_game_125 : decode cX5_game 125 = .ok (.iload_n 1, 1) := dk_27 (dk_at dksX5_game_5 8 rfl rfl)
theorem dX5_game_126 : decode cX5_game 126 = .ok (.iload 4, 2) := dk_21 4 (dk_at dksX5_game_5 9 rfl rfl)
theorem dX5_game_128 : decode cX5_game 128 = .ok (.invokestatic 493, 3) := dk_184 1 237 (dk_at dksX5_game_5 11 rfl rfl)
theorem dX5_game_131 : decode cX5_game 131 = .ok (.ifCond .eq 64, 3) := dk_153 0 64 (dk_at dksX5_game_5 14 rfl rfl)
theorem dX5_game_134 : decode cX5_game 134 = .ok (.aload_n 0, 1) := dk_42 (dk_at dksX5_game_5 17 rfl rfl)
theorem dX5_game_135 : decode cX5_game 135 = .ok (.getfield 13, 3) := dk_180 0 13 (dk_at dksX5_game_5 18 rfl rfl)
theorem dX5_game_138 : decode cX5_game 138 = .ok (.bipush 24, 2) := dk_16 24 (dk_at dksX5_game_5 21 rfl rfl)
theorem dX5_game_140 : decode cX5_game 140 = .ok (.iload 4, 2) := dk_21 4 (dk_at dksX5_game_6 0 rfl rfl)
theorem dX5_game_142 : decode cX5_game 142 = .ok (.iadd, 1) := dk_96 (dk_at dksX5_game_6 2 rfl rfl)
theorem dX5_game_143 : decode cX5_game 143 = .ok (.iaload, 1) := dk_46 (dk_at dksX5_game_6 3 rfl rfl)
theorem dX5_game_144 : decode cX5_game 144 = .ok (.bipush 10, 2) := dk_16 10 (dk_at dksX5_game_6 4 rfl rfl)
theorem dX5_game_146 : decode cX5_game 146 = .ok (.idiv, 1) := dk_108 (dk_at dksX5_game_6 6 rfl rfl)
theorem dX5_game_147 : decode cX5_game 147 = .ok (.istore 6, 2) := dk_54 6 (dk_at dksX5_game_6 7 rfl rfl)
theorem dX5_game_149 : decode cX5_game 149 = .ok (.iload 6, 2) := dk_21 6 (dk_at dksX5_game_6 9 rfl rfl)
theorem dX5_game_151 : decode cX5_game 151 = .ok (.iload 5, 2) := dk_21 5 (dk_at dksX5_game_6 11 rfl rfl)
theorem dX5_game_153 : decode cX5_game 153 = .ok (.if_icmp .lt 36, 3) := dk_161 0 36 (dk_at dksX5_game_6 13 rfl rfl)
theorem dX5_game_156 : decode cX5_game 156 = .ok (.iload_n 3, 1) := dk_29 (dk_at dksX5_game_6 16 rfl rfl)
theorem dX5_game_157 : decode cX5_game 157 = .ok (.iload 6, 2) := dk_21 6 (dk_at dksX5_game_6 17 rfl rfl)
theorem dX5_game_159 : decode cX5_game 159 = .ok (.iconst 4, 1) := dk_7 (dk_at dksX5_game_6 19 rfl rfl)
theorem dX5_game_160 : decode cX5_game 160 = .ok (.irem, 1) := dk_112 (dk_at dksX5_game_6 20 rfl rfl)
theorem dX5_game_161 : decode cX5_game 161 = .ok (.ixor, 1) := dk_130 (dk_at dksX5_game_6 21 rfl rfl)
theorem dX5_game_162 : decode cX5_game 162 = .ok (.iload 6, 2) := dk_21 6 (dk_at dksX5_game_6 22 rfl rfl)
theorem dX5_game_164 : decode cX5_game 164 = .ok (.iload 5, 2) := dk_21 5 (dk_at dksX5_game_7 0 rfl rfl)
theorem dX5_game_166 : decode cX5_game 166 = .ok (.isub, 1) := dk_100 (dk_at dksX5_game_7 2 rfl rfl)
theorem dX5_game_167 : decode cX5_game 167 = .ok (.iconst 4, 1) := dk_7 (dk_at dksX5_game_7 3 rfl rfl)
theorem dX5_game_168 : decode cX5_game 168 = .ok (.irem, 1) := dk_112 (dk_at dksX5_game_7 4 rfl rfl)
theorem dX5_game_169 : decode cX5_game 169 = .ok (.ixor, 1) := dk_130 (dk_at dksX5_game_7 5 rfl rfl)
theorem dX5_game_170 : decode cX5_game 170 = .ok (.ifCond .ne 19, 3) := dk_154 0 19 (dk_at dksX5_game_7 6 rfl rfl)
theorem dX5_game_173 : decode cX5_game 173 = .ok (.iload_n 2, 1) := dk_28 (dk_at dksX5_game_7 9 rfl rfl)
theorem dX5_game_174 : decode cX5_game 174 = .ok (.iconst 1, 1) := dk_4 (dk_at dksX5_game_7 10 rfl rfl)
theorem dX5_game_175 : decode cX5_game 175 = .ok (.if_icmp .ne 8, 3) := dk_160 0 8 (dk_at dksX5_game_7 11 rfl rfl)
theorem dX5_game_178 : decode cX5_game 178 = .ok (.iload 4, 2) := dk_21 4 (dk_at dksX5_game_7 14 rfl rfl)
theorem dX5_game_180 : decode cX5_game 180 = .ok (.goto 8, 3) := dk_167 0 8 (dk_at dksX5_game_7 16 rfl rfl)
theorem dX5_game_183 : decode cX5_game 183 = .ok (.bipush 10, 2) := dk_16 10 (dk_at dksX5_game_7 19 rfl rfl)
theorem dX5_game_185 : decode cX5_game 185 = .ok (.iload 5, 2) := dk_21 5 (dk_at dksX5_game_7 21 rfl rfl)
theorem dX5_game_187 : decode cX5_game 187 = .ok (.imul, 1) := dk_104 (dk_at dksX5_game_7 23 rfl rfl)
theorem dX5_game_188 : decode cX5_game 188 = .ok (.ireturn, 1) := dk_172 (dk_at dksX5_game_8 0 rfl rfl)
theorem dX5_game_189 : decode cX5_game 189 = .ok (.iinc 5 1, 3) := dk_132 5 1 (dk_at dksX5_game_8 1 rfl rfl)
theorem dX5_game_192 : decode cX5_game 192 = .ok (.goto (-73), 3) := dk_167 255 183 (dk_at dksX5_game_8 4 rfl rfl)
theorem dX5_game_195 : decode cX5_game 195 = .ok (.iinc 4 1, 3) := dk_132 4 1 (dk_at dksX5_game_8 7 rfl rfl)
theorem dX5_game_198 : decode cX5_game 198 = .ok (.goto (-89), 3) := dk_167 255 167 (dk_at dksX5_game_8 10 rfl rfl)
theorem dX5_game_201 : decode cX5_game 201 = .ok (.iconst (-1), 1) := dk_2 (dk_at dksX5_game_8 13 rfl rfl)
theorem dX5_game_202 : decode cX5_game 202 = .ok (.ireturn, 1) := dk_172 (dk_at dksX5_game_8 14 rfl rfl)
abbrev cX5_orders : ByteArray := prog_22_method_118_code
def yX5_orders : MethodName := ⟨RX5, "orders", "()I"⟩
def dkwX5_orders_9 : List UInt8 := [172]
abbrev dktX5_orders_9 : List UInt8 := dkwX5_orders_9 ++ []
def dkwX5_orders_8 : List UInt8 := [182, 0, 183, 172, 132, 3, 1, 167, 255, 209, 132, 2, 1, 167, 255, 193, 42, 42, 180, 2, 44, 182, 0, 183]
abbrev dktX5_orders_8 : List UInt8 := dkwX5_orders_8 ++ dktX5_orders_9
def dkwX5_orders_7 : List UInt8 := [42, 16, 8, 28, 104, 182, 2, 60, 156, 0, 20, 42, 27, 182, 2, 63, 42, 28, 181, 0, 168, 42, 16, 253]
abbrev dktX5_orders_7 : List UInt8 := dkwX5_orders_7 ++ dktX5_orders_8
def dkwX5_orders_6 : List UInt8 := [180, 1, 122, 162, 0, 61, 3, 62, 29, 42, 180, 0, 165, 16, 8, 28, 104, 16, 7, 96, 46, 162, 0, 37]
abbrev dktX5_orders_6 : List UInt8 := dkwX5_orders_6 ++ dktX5_orders_7
def dkwX5_orders_5 : List UInt8 := [28, 46, 79, 132, 2, 1, 167, 255, 235, 42, 3, 181, 2, 44, 42, 2, 181, 2, 47, 3, 61, 28, 42]
abbrev dktX5_orders_5 : List UInt8 := dkwX5_orders_5 ++ dktX5_orders_6
def dkwX5_orders_4 : List UInt8 := [79, 132, 2, 1, 167, 255, 234, 3, 61, 28, 16, 16, 162, 0, 21, 42, 180, 0, 32, 28, 42, 180, 0, 26]
abbrev dktX5_orders_4 : List UInt8 := dkwX5_orders_4 ++ dktX5_orders_5
def dkwX5_orders_3 : List UInt8 := [180, 0, 180, 60, 3, 61, 28, 17, 3, 80, 162, 0, 21, 42, 180, 0, 29, 28, 42, 180, 0, 23, 28, 46]
abbrev dktX5_orders_3 : List UInt8 := dkwX5_orders_3 ++ dktX5_orders_4
def dkwX5_orders_2 : List UInt8 := [182, 1, 136, 42, 180, 0, 249, 153, 0, 10, 42, 16, 250, 182, 0, 183, 172, 42, 16, 17, 182, 0, 187, 42]
abbrev dktX5_orders_2 : List UInt8 := dkwX5_orders_2 ++ dktX5_orders_3
def dkwX5_orders_1 : List UInt8 := [154, 0, 23, 42, 16, 59, 182, 1, 64, 153, 0, 14, 42, 182, 0, 253, 42, 182, 2, 57, 167, 255, 232, 42]
abbrev dktX5_orders_1 : List UInt8 := dkwX5_orders_1 ++ dktX5_orders_2
def dkwX5_orders_0 : List UInt8 := [42, 3, 181, 0, 174, 42, 2, 181, 0, 168, 42, 4, 182, 1, 130, 42, 182, 2, 57, 42, 180, 0, 249]
abbrev dktX5_orders_0 : List UInt8 := dkwX5_orders_0 ++ dktX5_orders_1
theorem dksX5_orders_0 : cX5_orders.data.toList.drop 0 = dktX5_orders_0 := by decide +kernel
theorem dksX5_orders_1 : cX5_orders.data.toList.drop 23 = dktX5_orders_1 := dk_seg dksX5_orders_0 23 rfl rfl
theorem dksX5_orders_2 : cX5_orders.data.toList.drop 47 = dktX5_orders_2 := dk_seg dksX5_orders_1 24 rfl rfl
theorem dksX5_orders_3 : cX5_orders.data.toList.drop 71 = dktX5_orders_3 := dk_seg dksX5_orders_2 24 rfl rfl
theorem dksX5_orders_4 : cX5_orders.data.toList.drop 95 = dktX5_orders_4 := dk_seg dksX5_orders_3 24 rfl rfl
theorem dksX5_orders_5 : cX5_orders.data.toList.drop 119 = dktX5_orders_5 := dk_seg dksX5_orders_4 24 rfl rfl
theorem dksX5_orders_6 : cX5_orders.data.toList.drop 142 = dktX5_orders_6 := dk_seg dksX5_orders_5 23 rfl rfl
theorem dksX5_orders_7 : cX5_orders.data.toList.drop 166 = dktX5_orders_7 := dk_seg dksX5_orders_6 24 rfl rfl
theorem dksX5_orders_8 : cX5_orders.data.toList.drop 190 = dktX5_orders_8 := dk_seg dksX5_orders_7 24 rfl rfl
theorem dksX5_orders_9 : cX5_orders.data.toList.drop 214 = dktX5_orders_9 := dk_seg dksX5_orders_8 24 rfl rfl
theorem dX5_orders_0 : decode cX5_orders 0 = .ok (.aload_n 0, 1) := dk_42 (dk_at dksX5_orders_0 0 rfl rfl)
theorem dX5_orders_1 : decode cX5_orders 1 = .ok (.iconst 0, 1) := dk_3 (dk_at dksX5_orders_0 1 rfl rfl)
theorem dX5_orders_2 : decode cX5_orders 2 = .ok (.putfield 174, 3) := dk_181 0 174 (dk_at dksX5_orders_0 2 rfl rfl)
theorem dX5_orders_5 : decode cX5_orders 5 = .ok (.aload_n 0, 1) := dk_42 (dk_at dksX5_orders_0 5 rfl rfl)
theorem dX5_orders_6 : decode cX5_orders 6 = .ok (.iconst (-1), 1) := dk_2 (dk_at dksX5_orders_0 6 rfl rfl)
theorem dX5_orders_7 : decode cX5_orders 7 = .ok (.putfield 168, 3) := dk_181 0 168 (dk_at dksX5_orders_0 7 rfl rfl)
theorem dX5_orders_10 : decode cX5_orders 10 = .ok (.aload_n 0, 1) := dk_42 (dk_at dksX5_orders_0 10 rfl rfl)
theorem dX5_orders_11 : decode cX5_orders 11 = .ok (.iconst 1, 1) := dk_4 (dk_at dksX5_orders_0 11 rfl rfl)
theorem dX5_orders_12 : decode cX5_orders 12 = .ok (.invokevirtual 386, 3) := dk_182 1 130 (dk_at dksX5_orders_0 12 rfl rfl)
theorem dX5_orders_15 : decode cX5_orders 15 = .ok (.aload_n 0, 1) := dk_42 (dk_at dksX5_orders_0 15 rfl rfl)
theorem dX5_orders_16 : decode cX5_orders 16 = .ok (.invokevirtual 569, 3) := dk_182 2 57 (dk_at dksX5_orders_0 16 rfl rfl)
theorem dX5_orders_19 : decode cX5_orders 19 = .ok (.aload_n 0, 1) := dk_42 (dk_at dksX5_orders_0 19 rfl rfl)
theorem dX5_orders_20 : decode cX5_orders 20 = .ok (.getfield 249, 3) := dk_180 0 249 (dk_at dksX5_orders_0 20 rfl rfl)
theorem dX5_orders_23 : decode cX5_orders 23 = .ok (.ifCond .ne 23, 3) := dk_154 0 23 (dk_at dksX5_orders_1 0 rfl rfl)
theorem dX5_orders_26 : decode cX5_orders 26 = .ok (.aload_n 0, 1) := dk_42 (dk_at dksX5_orders_1 3 rfl rfl)
theorem dX5_orders_27 : decode cX5_orders 27 = .ok (.bipush 59, 2) := dk_16 59 (dk_at dksX5_orders_1 4 rfl rfl)
theorem dX5_orders_29 : decode cX5_orders 29 = .ok (.invokevirtual 320, 3) := dk_182 1 64 (dk_at dksX5_orders_1 6 rfl rfl)
theorem dX5_orders_32 : decode cX5_orders 32 = .ok (.ifCond .eq 14, 3) := dk_153 0 14 (dk_at dksX5_orders_1 9 rfl rfl)
theorem dX5_orders_35 : decode cX5_orders 35 = .ok (.aload_n 0, 1) := dk_42 (dk_at dksX5_orders_1 12 rfl rfl)
theorem dX5_orders_36 : decode cX5_orders 36 = .ok (.invokevirtual 253, 3) := dk_182 0 253 (dk_at dksX5_orders_1 13 rfl rfl)
theorem dX5_orders_39 : decode cX5_orders 39 = .ok (.aload_n 0, 1) := dk_42 (dk_at dksX5_orders_1 16 rfl rfl)
theorem dX5_orders_40 : decode cX5_orders 40 = .ok (.invokevirtual 569, 3) := dk_182 2 57 (dk_at dksX5_orders_1 17 rfl rfl)
theorem dX5_orders_43 : decode cX5_orders 43 = .ok (.goto (-24), 3) := dk_167 255 232 (dk_at dksX5_orders_1 20 rfl rfl)
theorem dX5_orders_46 : decode cX5_orders 46 = .ok (.aload_n 0, 1) := dk_42 (dk_at dksX5_orders_1 23 rfl rfl)
theorem dX5_orders_47 : decode cX5_orders 47 = .ok (.invokevirtual 392, 3) := dk_182 1 136 (dk_at dksX5_orders_2 0 rfl rfl)
theorem dX5_orders_50 : decode cX5_orders 50 = .ok (.aload_n 0, 1) := dk_42 (dk_at dksX5_orders_2 3 rfl rfl)
theorem dX5_orders_51 : decode cX5_orders 51 = .ok (.getfield 249, 3) := dk_180 0 249 (dk_at dksX5_orders_2 4 rfl rfl)
theorem dX5_orders_54 : decode cX5_orders 54 = .ok (.ifCond .eq 10, 3) := dk_153 0 10 (dk_at dksX5_orders_2 7 rfl rfl)
theorem dX5_orders_57 : decode cX5_orders 57 = .ok (.aload_n 0, 1) := dk_42 (dk_at dksX5_orders_2 10 rfl rfl)
theorem dX5_orders_58 : decode cX5_orders 58 = .ok (.bipush (-6), 2) := dk_16 250 (dk_at dksX5_orders_2 11 rfl rfl)
theorem dX5_orders_60 : decode cX5_orders 60 = .ok (.invokevirtual 183, 3) := dk_182 0 183 (dk_at dksX5_orders_2 13 rfl rfl)
theorem dX5_orders_63 : decode cX5_orders 63 = .ok (.ireturn, 1) := dk_172 (dk_at dksX5_orders_2 16 rfl rfl)
theorem dX5_orders_64 : decode cX5_orders 64 = .ok (.aload_n 0, 1) := dk_42 (dk_at dksX5_orders_2 17 rfl rfl)
theorem dX5_orders_65 : decode cX5_orders 65 = .ok (.bipush 17, 2) := dk_16 17 (dk_at dksX5_orders_2 18 rfl rfl)
theorem dX5_orders_67 : decode cX5_orders 67 = .ok (.invokevirtual 187, 3) := dk_182 0 187 (dk_at dksX5_orders_2 20 rfl rfl)
theorem dX5_orders_70 : decode cX5_orders 70 = .ok (.aload_n 0, 1) := dk_42 (dk_at dksX5_orders_2 23 rfl rfl)
theorem dX5_orders_71 : decode cX5_orders 71 = .ok (.getfield 180, 3) := dk_180 0 180 (dk_at dksX5_orders_3 0 rfl rfl)
theorem dX5_orders_74 : decode cX5_orders 74 = .ok (.istore_n 1, 1) := dk_60 (dk_at dksX5_orders_3 3 rfl rfl)
theorem dX5_orders_75 : decode cX5_orders 75 = .ok (.iconst 0, 1) := dk_3 (dk_at dksX5_orders_3 4 rfl rfl)
theorem dX5_orders_76 : decode cX5_orders 76 = .ok (.istore_n 2, 1) := dk_61 (dk_at dksX5_orders_3 5 rfl rfl)
theorem dX5_orders_77 : decode cX5_orders 77 = .ok (.iload_n 2, 1) := dk_28 (dk_at dksX5_orders_3 6 rfl rfl)
theorem dX5_orders_78 : decode cX5_orders 78 = .ok (.sipush 848, 3) := dk_17 3 80 (dk_at dksX5_orders_3 7 rfl rfl)
theorem dX5_orders_81 : decode cX5_orders 81 = .ok (.if_icmp .ge 21, 3) := dk_162 0 21 (dk_at dksX5_orders_3 10 rfl rfl)
theorem dX5_orders_84 : decode cX5_orders 84 = .ok (.aload_n 0, 1) := dk_42 (dk_at dksX5_orders_3 13 rfl rfl)
theorem dX5_orders_85 : decode cX5_orders 85 = .ok (.getfield 29, 3) := dk_180 0 29 (dk_at dksX5_orders_3 14 rfl rfl)
theorem dX5_orders_88 : decode cX5_orders 88 = .ok (.iload_n 2, 1) := dk_28 (dk_at dksX5_orders_3 17 rfl rfl)
theorem dX5_orders_89 : decode cX5_orders 89 = .ok (.aload_n 0, 1) := dk_42 (dk_at dksX5_orders_3 18 rfl rfl)
theorem dX5_orders_90 : decode cX5_orders 90 = .ok (.getfield 23, 3) := dk_180 0 23 (dk_at dksX5_orders_3 19 rfl rfl)
theorem dX5_orders_93 : decode cX5_orders 93 = .ok (.iload_n 2, 1) := dk_28 (dk_at dksX5_orders_3 22 rfl rfl)
theorem dX5_orders_94 : decode cX5_orders 94 = .ok (.iaload, 1) := dk_46 (dk_at dksX5_orders_3 23 rfl rfl)
theorem dX5_orders_95 : decode cX5_orders 95 = .ok (.iastore, 1) := dk_79 (dk_at dksX5_orders_4 0 rfl rfl)
theorem dX5_orders_96 : decode cX5_orders 96 = .ok (.iinc 2 1, 3) := dk_132 2 1 (dk_at dksX5_orders_4 1 rfl rfl)
theorem dX5_orders_99 : decode cX5_orders 99 = .ok (.goto (-22), 3) := dk_167 255 234 (dk_at dksX5_orders_4 4 rfl rfl)
theorem dX5_orders_102 : decode cX5_orders 102 = .ok (.iconst 0, 1) := dk_3 (dk_at dksX5_orders_4 7 rfl rfl)
theorem dX5_orders_103 : decode cX5_orders 103 = .ok (.istore_n 2, 1) := dk_61 (dk_at dksX5_orders_4 8 rfl rfl)
theorem dX5_orders_104 : decode cX5_orders 104 = .ok (.iload_n 2, 1) := dk_28 (dk_at dksX5_orders_4 9 rfl rfl)
theorem dX5_orders_105 : decode cX5_orders 105 = .ok (.bipush 16, 2) := dk_16 16 (dk_at dksX5_orders_4 10 rfl rfl)
theorem dX5_orders_107 : decode cX5_orders 107 = .ok (.if_icmp .ge 21, 3) := dk_162 0 21 (dk_at dksX5_orders_4 12 rfl rfl)
theorem dX5_orders_110 : decode cX5_orders 110 = .ok (.aload_n 0, 1) := dk_42 (dk_at dksX5_orders_4 15 rfl rfl)
theorem dX5_orders_111 : decode cX5_orders 111 = .ok (.getfield 32, 3) := dk_180 0 32 (dk_at dksX5_orders_4 16 rfl rfl)
theorem dX5_orders_114 : decode cX5_orders 114 = .ok (.iload_n 2, 1) := dk_28 (dk_at dksX5_orders_4 19 rfl rfl)
theorem dX5_orders_115 : decode cX5_orders 115 = .ok (.aload_n 0, 1) := dk_42 (dk_at dksX5_orders_4 20 rfl rfl)
theorem dX5_orders_116 : decode cX5_orders 116 = .ok (.getfield 26, 3) := dk_180 0 26 (dk_at dksX5_orders_4 21 rfl rfl)
theorem dX5_orders_119 : decode cX5_orders 119 = .ok (.iload_n 2, 1) := dk_28 (dk_at dksX5_orders_5 0 rfl rfl)
theorem dX5_orders_120 : decode cX5_orders 120 = .ok (.iaload, 1) := dk_46 (dk_at dksX5_orders_5 1 rfl rfl)
theorem dX5_orders_121 : decode cX5_orders 121 = .ok (.iastore, 1) := dk_79 (dk_at dksX5_orders_5 2 rfl rfl)
theorem dX5_orders_122 : decode cX5_orders 122 = .ok (.iinc 2 1, 3) := dk_132 2 1 (dk_at dksX5_orders_5 3 rfl rfl)
theorem dX5_orders_125 : decode cX5_orders 125 = .ok (.goto (-21), 3) := dk_167 255 235 (dk_at dksX5_orders_5 6 rfl rfl)
theorem dX5_orders_128 : decode cX5_orders 128 = .ok (.aload_n 0, 1) := dk_42 (dk_at dksX5_orders_5 9 rfl rfl)
theorem dX5_orders_129 : decode cX5_orders 129 = .ok (.iconst 0, 1) := dk_3 (dk_at dksX5_orders_5 10 rfl rfl)
theorem dX5_orders_130 : decode cX5_orders 130 = .ok (.putfield 556, 3) := dk_181 2 44 (dk_at dksX5_orders_5 11 rfl rfl)
theorem dX5_orders_133 : decode cX5_orders 133 = .ok (.aload_n 0, 1) := dk_42 (dk_at dksX5_orders_5 14 rfl rfl)
theorem dX5_orders_134 : decode cX5_orders 134 = .ok (.iconst (-1), 1) := dk_2 (dk_at dksX5_orders_5 15 rfl rfl)
theorem dX5_orders_135 : decode cX5_orders 135 = .ok (.putfield 559, 3) := dk_181 2 47 (dk_at dksX5_orders_5 16 rfl rfl)
theorem dX5_orders_138 : decode cX5_orders 138 = .ok (.iconst 0, 1) := dk_3 (dk_at dksX5_orders_5 19 rfl rfl)
theorem dX5_orders_139 : decode cX5_orders 139 = .ok (.istore_n 2, 1) := dk_61 (dk_at dksX5_orders_5 20 rfl rfl)
theorem dX5_orders_140 : decode cX5_orders 140 = .ok (.iload_n 2, 1) := dk_28 (dk_at dksX5_orders_5 21 rfl rfl)
theorem dX5_orders_141 : decode cX5_orders 141 = .ok (.aload_n 0, 1) := dk_42 (dk_at dksX5_orders_5 22 rfl rfl)
theorem dX5_orders_142 : decode cX5_orders 142 = .ok (.getfield 378, 3) := dk_180 1 122 (dk_at dksX5_orders_6 0 rfl rfl)
theorem dX5_orders_145 : decode cX5_orders 145 = .ok (.if_icmp .ge 61, 3) := dk_162 0 61 (dk_at dksX5_orders_6 3 rfl rfl)
theorem dX5_orders_148 : decode cX5_orders 148 = .ok (.iconst 0, 1) := dk_3 (dk_at dksX5_orders_6 6 rfl rfl)
theorem dX5_orders_149 : decode cX5_orders 149 = .ok (.istore_n 3, 1) := dk_62 (dk_at dksX5_orders_6 7 rfl rfl)
theorem dX5_orders_150 : decode cX5_orders 150 = .ok (.iload_n 3, 1) := dk_29 (dk_at dksX5_orders_6 8 rfl rfl)
theorem dX5_orders_151 : decode cX5_orders 151 = .ok (.aload_n 0, 1) := dk_42 (dk_at dksX5_orders_6 9 rfl rfl)
theorem dX5_orders_152 : decode cX5_orders 152 = .ok (.getfield 165, 3) := dk_180 0 165 (dk_at dksX5_orders_6 10 rfl rfl)
theorem dX5_orders_155 : decode cX5_orders 155 = .ok (.bipush 8, 2) := dk_16 8 (dk_at dksX5_orders_6 13 rfl rfl)
theorem dX5_orders_157 : decode cX5_orders 157 = .ok (.iload_n 2, 1) := dk_28 (dk_at dksX5_orders_6 15 rfl rfl)
theorem dX5_orders_158 : decode cX5_orders 158 = .ok (.imul, 1) := dk_104 (dk_at dksX5_orders_6 16 rfl rfl)
theorem dX5_orders_159 : decode cX5_orders 159 = .ok (.bipush 7, 2) := dk_16 7 (dk_at dksX5_orders_6 17 rfl rfl)
theorem dX5_orders_161 : decode cX5_orders 161 = .ok (.iadd, 1) := dk_96 (dk_at dksX5_orders_6 19 rfl rfl)
theorem dX5_orders_162 : decode cX5_orders 162 = .ok (.iaload, 1) := dk_46 (dk_at dksX5_orders_6 20 rfl rfl)
theorem dX5_orders_163 : decode cX5_orders 163 = .ok (.if_icmp .ge 37, 3) := dk_162 0 37 (dk_at dksX5_orders_6 21 rfl rfl)
theorem dX5_orders_166 : decode cX5_orders 166 = .ok (.aload_n 0, 1) := dk_42 (dk_at dksX5_orders_7 0 rfl rfl)
theorem dX5_orders_167 : decode cX5_orders 167 = .ok (.bipush 8, 2) := dk_16 8 (dk_at dksX5_orders_7 1 rfl rfl)
theorem dX5_orders_169 : decode cX5_orders 169 = .ok (.iload_n 2, 1) := dk_28 (dk_at dksX5_orders_7 3 rfl rfl)
theorem dX5_orders_170 : decode cX5_orders 170 = .ok (.imul, 1) := dk_104 (dk_at dksX5_orders_7 4 rfl rfl)
theorem dX5_orders_171 : decode cX5_orders 171 = .ok (.invokevirtual 572, 3) := dk_182 2 60 (dk_at dksX5_orders_7 5 rfl rfl)
theorem dX5_orders_174 : decode cX5_orders 174 = .ok (.ifCond .ge 20, 3) := dk_156 0 20 (dk_at dksX5_orders_7 8 rfl rfl)
theorem dX5_orders_177 : decode cX5_orders 177 = .ok (.aload_n 0, 1) := dk_42 (dk_at dksX5_orders_7 11 rfl rfl)
theorem dX5_orders_178 : decode cX5_orders 178 = .ok (.iload_n 1, 1) := dk_27 (dk_at dksX5_orders_7 12 rfl rfl)
theorem dX5_orders_179 : decode cX5_orders 179 = .ok (.invokevirtual 575, 3) := dk_182 2 63 (dk_at dksX5_orders_7 13 rfl rfl)
theorem dX5_orders_182 : decode cX5_orders 182 = .ok (.aload_n 0, 1) := dk_42 (dk_at dksX5_orders_7 16 rfl rfl)
theorem dX5_orders_183 : decode cX5_orders 183 = .ok (.iload_n 2, 1) := dk_28 (dk_at dksX5_orders_7 17 rfl rfl)
theorem dX5_orders_184 : decode cX5_orders 184 = .ok (.putfield 168, 3) := dk_181 0 168 (dk_at dksX5_orders_7 18 rfl rfl)
theorem dX5_orders_187 : decode cX5_orders 187 = .ok (.aload_n 0, 1) := dk_42 (dk_at dksX5_orders_7 21 rfl rfl)
theorem dX5_orders_188 : decode cX5_orders 188 = .ok (.bipush (-3), 2) := dk_16 253 (dk_at dksX5_orders_7 22 rfl rfl)
theorem dX5_orders_190 : decode cX5_orders 190 = .ok (.invokevirtual 183, 3) := dk_182 0 183 (dk_at dksX5_orders_8 0 rfl rfl)
theorem dX5_orders_193 : decode cX5_orders 193 = .ok (.ireturn, 1) := dk_172 (dk_at dksX5_orders_8 3 rfl rfl)
theorem dX5_orders_194 : decode cX5_orders 194 = .ok (.iinc 3 1, 3) := dk_132 3 1 (dk_at dksX5_orders_8 4 rfl rfl)
theorem dX5_orders_197 : decode cX5_orders 197 = .ok (.goto (-47), 3) := dk_167 255 209 (dk_at dksX5_orders_8 7 rfl rfl)
theorem dX5_orders_200 : decode cX5_orders 200 = .ok (.iinc 2 1, 3) := dk_132 2 1 (dk_at dksX5_orders_8 10 rfl rfl)
theorem dX5_orders_203 : decode cX5_orders 203 = .ok (.goto (-63), 3) := dk_167 255 193 (dk_at dksX5_orders_8 13 rfl rfl)
theorem dX5_orders_206 : decode cX5_orders 206 = .ok (.aload_n 0, 1) := dk_42 (dk_at dksX5_orders_8 16 rfl rfl)
theorem dX5_orders_207 : decode cX5_orders 207 = .ok (.aload_n 0, 1) := dk_42 (dk_at dksX5_orders_8 17 rfl rfl)
theorem dX5_orders_208 : decode cX5_orders 208 = .ok (.getfield 556, 3) := dk_180 2 44 (dk_at dksX5_orders_8 18 rfl rfl)
theorem dX5_orders_211 : decode cX5_orders 211 = .ok (.invokevirtual 183, 3) := dk_182 0 183 (dk_at dksX5_orders_8 21 rfl rfl)
theorem dX5_orders_214 : decode cX5_orders 214 = .ok (.ireturn, 1) := dk_172 (dk_at dksX5_orders_9 0 rfl rfl)
abbrev cX5_readOrder : ByteArray := prog_22_method_113_code
def yX5_readOrder : MethodName := ⟨RX5, "readOrder", "()V"⟩
def dkwX5_readOrder_11 : List UInt8 := [182, 1, 125, 42, 180, 0, 165, 28, 16, 6, 96, 42, 180, 1, 30, 79, 177]
abbrev dktX5_readOrder_11 : List UInt8 := dkwX5_readOrder_11 ++ []
def dkwX5_readOrder_10 : List UInt8 := [79, 42, 180, 0, 249, 154, 0, 22, 42, 20, 1, 128, 182, 1, 51, 153, 0, 12, 42, 182, 0, 253, 42, 4]
abbrev dktX5_readOrder_10 : List UInt8 := dkwX5_readOrder_10 ++ dktX5_readOrder_11
def dkwX5_readOrder_9 : List UInt8 := [28, 16, 7, 96, 42, 10, 20, 1, 43, 182, 1, 86, 79, 42, 180, 0, 165, 28, 8, 96, 42, 180, 1, 30]
abbrev dktX5_readOrder_9 : List UInt8 := dkwX5_readOrder_9 ++ dktX5_readOrder_10
def dkwX5_readOrder_8 : List UInt8 := [180, 0, 249, 154, 0, 34, 42, 20, 2, 36, 182, 1, 51, 153, 0, 24, 42, 182, 0, 253, 42, 180, 0, 165]
abbrev dktX5_readOrder_8 : List UInt8 := dkwX5_readOrder_8 ++ dktX5_readOrder_9
def dkwX5_readOrder_7 : List UInt8 := [182, 1, 51, 182, 1, 26, 42, 28, 6, 96, 182, 2, 27, 42, 180, 0, 165, 28, 16, 7, 96, 4, 79, 42]
abbrev dktX5_readOrder_7 : List UInt8 := dkwX5_readOrder_7 ++ dktX5_readOrder_8
def dkwX5_readOrder_6 : List UInt8 := [27, 154, 0, 9, 20, 2, 30, 167, 0, 17, 27, 4, 160, 0, 9, 20, 2, 32, 167, 0, 6, 20, 2, 34]
abbrev dktX5_readOrder_6 : List UInt8 := dkwX5_readOrder_6 ++ dktX5_readOrder_7
def dkwX5_readOrder_5 : List UInt8 := [159, 0, 10, 42, 28, 4, 96, 182, 2, 27, 27, 6, 162, 0, 49, 42, 180, 0, 249, 154, 0, 35, 42, 42]
abbrev dktX5_readOrder_5 : List UInt8 := dkwX5_readOrder_5 ++ dktX5_readOrder_6
def dkwX5_readOrder_4 : List UInt8 := [180, 0, 165, 28, 29, 96, 3, 79, 132, 3, 1, 167, 255, 238, 42, 180, 0, 165, 28, 27, 79, 27, 7]
abbrev dktX5_readOrder_4 : List UInt8 := dkwX5_readOrder_4 ++ dktX5_readOrder_5
def dkwX5_readOrder_3 : List UInt8 := [180, 1, 122, 104, 61, 42, 89, 180, 1, 122, 4, 96, 181, 1, 122, 3, 62, 29, 16, 8, 162, 0, 18, 42]
abbrev dktX5_readOrder_3 : List UInt8 := dkwX5_readOrder_3 ++ dktX5_readOrder_4
def dkwX5_readOrder_2 : List UInt8 := [162, 0, 7, 4, 167, 0, 4, 3, 182, 1, 26, 42, 180, 0, 249, 153, 0, 4, 177, 16, 8, 42]
abbrev dktX5_readOrder_2 : List UInt8 := dkwX5_readOrder_2 ++ dktX5_readOrder_3
def dkwX5_readOrder_1 : List UInt8 := [167, 0, 4, 27, 60, 132, 2, 1, 167, 255, 229, 42, 27, 2, 159, 0, 16, 42, 180, 1, 122, 16, 12]
abbrev dktX5_readOrder_1 : List UInt8 := dkwX5_readOrder_1 ++ dktX5_readOrder_2
def dkwX5_readOrder_0 : List UInt8 := [2, 60, 3, 61, 28, 8, 162, 0, 28, 42, 42, 180, 0, 162, 28, 47, 182, 1, 51, 153, 0, 7, 28]
abbrev dktX5_readOrder_0 : List UInt8 := dkwX5_readOrder_0 ++ dktX5_readOrder_1
theorem dksX5_readOrder_0 : cX5_readOrder.data.toList.drop 0 = dktX5_readOrder_0 := by decide +kernel
theorem dksX5_readOrder_1 : cX5_readOrder.data.toList.drop 23 = dktX5_readOrder_1 := dk_seg dksX5_readOrder_0 23 rfl rfl
theorem dksX5_readOrder_2 : cX5_readOrder.data.toList.drop 46 = dktX5_readOrder_2 := dk_seg dksX5_readOrder_1 23 rfl rfl
theorem dksX5_readOrder_3 : cX5_readOrder.data.toList.drop 68 = dktX5_readOrder_3 := dk_seg dksX5_readOrder_2 22 rfl rfl
theorem dksX5_readOrder_4 : cX5_readOrder.data.toList.drop 92 = dktX5_readOrder_4 := dk_seg dksX5_readOrder_3 24 rfl rfl
theorem dksX5_readOrder_5 : cX5_readOrder.data.toList.drop 115 = dktX5_readOrder_5 := dk_seg dksX5_readOrder_4 23 rfl rfl
theorem dksX5_readOrder_6 : cX5_readOrder.data.toList.drop 139 = dktX5_readOrder_6 := dk_seg dksX5_readOrder_5 24 rfl rfl
theorem dksX5_readOrder_7 : cX5_readOrder.data.toList.drop 163 = dktX5_readOrder_7 := dk_seg dksX5_readOrder_6 24 rfl rfl
theorem dksX5_readOrder_8 : cX5_readOrder.data.toList.drop 187 = dktX5_readOrder_8 := dk_seg dksX5_readOrder_7 24 rfl rfl
theorem dksX5_readOrder_9 : cX5_readOrder.data.toList.drop 211 = dktX5_readOrder_9 := dk_seg dksX5_readOrder_8 24 rfl rfl
theorem dksX5_readOrder_10 : cX5_readOrder.data.toList.drop 235 = dktX5_readOrder_10 := dk_seg dksX5_readOrder_9 24 rfl rfl
theorem dksX5_readOrder_11 : cX5_readOrder.data.toList.drop 259 = dktX5_readOrder_11 := dk_seg dksX5_readOrder_10 24 rfl rfl
theorem dX5_readOrder_0 : decode cX5_readOrder 0 = .ok (.iconst (-1), 1) := dk_2 (dk_at dksX5_readOrder_0 0 rfl rfl)
theorem dX5_readOrder_1 : decode cX5_readOrder 1 = .ok (.istore_n 1, 1) := dk_60 (dk_at dksX5_readOrder_0 1 rfl rfl)
theorem dX5_readOrder_2 : decode cX5_readOrder 2 = .ok (.iconst 0, 1) := dk_3 (dk_at dksX5_readOrder_0 2 rfl rfl)
theorem dX5_readOrder_3 : decode cX5_readOrder 3 = .ok (.istore_n 2, 1) := dk_61 (dk_at dksX5_readOrder_0 3 rfl rfl)
theorem dX5_readOrder_4 : decode cX5_readOrder 4 = .ok (.iload_n 2, 1) := dk_28 (dk_at dksX5_readOrder_0 4 rfl rfl)
theorem dX5_readOrder_5 : decode cX5_readOrder 5 = .ok (.iconst 5, 1) := dk_8 (dk_at dksX5_readOrder_0 5 rfl rfl)
theorem dX5_readOrder_6 : decode cX5_readOrder 6 = .ok (.if_icmp .ge 28, 3) := dk_162 0 28 (dk_at dksX5_readOrder_0 6 rfl rfl)
theorem dX5_readOrder_9 : decode cX5_readOrder 9 = .ok (.aload_n 0, 1) := dk_42 (dk_at dksX5_readOrder_0 9 rfl rfl)
theorem dX5_readOrder_10 : decode cX5_readOrder 10 = .ok (.aload_n 0, 1) := dk_42 (dk_at dksX5_readOrder_0 10 rfl rfl)
theorem dX5_readOrder_11 : decode cX5_readOrder 11 = .ok (.getfield 162, 3) := dk_180 0 162 (dk_at dksX5_readOrder_0 11 rfl rfl)
theorem dX5_readOrder_14 : decode cX5_readOrder 14 = .ok (.iload_n 2, 1) := dk_28 (dk_at dksX5_readOrder_0 14 rfl rfl)
theorem dX5_readOrder_15 : decode cX5_readOrder 15 = .ok (.laload, 1) := dk_47 (dk_at dksX5_readOrder_0 15 rfl rfl)
theorem dX5_readOrder_16 : decode cX5_readOrder 16 = .ok (.invokevirtual 307, 3) := dk_182 1 51 (dk_at dksX5_readOrder_0 16 rfl rfl)
theorem dX5_readOrder_19 : decode cX5_readOrder 19 = .ok (.ifCond .eq 7, 3) := dk_153 0 7 (dk_at dksX5_readOrder_0 19 rfl rfl)
theorem dX5_readOrder_22 : decode cX5_readOrder 22 = .ok (.iload_n 2, 1) := dk_28 (dk_at dksX5_readOrder_0 22 rfl rfl)
theorem dX5_readOrder_23 : decode cX5_readOrder 23 = .ok (.goto 4, 3) := dk_167 0 4 (dk_at dksX5_readOrder_1 0 rfl rfl)
theorem dX5_readOrder_26 : decode cX5_readOrder 26 = .ok (.iload_n 1, 1) := dk_27 (dk_at dksX5_readOrder_1 3 rfl rfl)
theorem dX5_readOrder_27 : decode cX5_readOrder 27 = .ok (.istore_n 1, 1) := dk_60 (dk_at dksX5_readOrder_1 4 rfl rfl)
theorem dX5_readOrder_28 : decode cX5_readOrder 28 = .ok (.iinc 2 1, 3) := dk_132 2 1 (dk_at dksX5_readOrder_1 5 rfl rfl)
theorem dX5_readOrder_31 : decode cX5_readOrder 31 = .ok (.goto (-27), 3) := dk_167 255 229 (dk_at dksX5_readOrder_1 8 rfl rfl)
theorem dX5_readOrder_34 : decode cX5_readOrder 34 = .ok (.aload_n 0, 1) := dk_42 (dk_at dksX5_readOrder_1 11 rfl rfl)
theorem dX5_readOrder_35 : decode cX5_readOrder 35 = .ok (.iload_n 1, 1) := dk_27 (dk_at dksX5_readOrder_1 12 rfl rfl)
theorem dX5_readOrder_36 : decode cX5_readOrder 36 = .ok (.iconst (-1), 1) := dk_2 (dk_at dksX5_readOrder_1 13 rfl rfl)
theorem dX5_readOrder_37 : decode cX5_readOrder 37 = .ok (.if_icmp .eq 16, 3) := dk_159 0 16 (dk_at dksX5_readOrder_1 14 rfl rfl)
theorem dX5_readOrder_40 : decode cX5_readOrder 40 = .ok (.aload_n 0, 1) := dk_42 (dk_at dksX5_readOrder_1 17 rfl rfl)
theorem dX5_readOrder_41 : decode cX5_readOrder 41 = .ok (.getfield 378, 3) := dk_180 1 122 (dk_at dksX5_readOrder_1 18 rfl rfl)
theorem dX5_readOrder_44 : decode cX5_readOrder 44 = .ok (.bipush 12, 2) := dk_16 12 (dk_at dksX5_readOrder_1 21 rfl rfl)
theorem dX5_readOrder_46 : decode cX5_readOrder 46 = .ok (.if_icmp .ge 7, 3) := dk_162 0 7 (dk_at dksX5_readOrder_2 0 rfl rfl)
theorem dX5_readOrder_49 : decode cX5_readOrder 49 = .ok (.iconst 1, 1) := dk_4 (dk_at dksX5_readOrder_2 3 rfl rfl)
theorem dX5_readOrder_50 : decode cX5_readOrder 50 = .ok (.goto 4, 3) := dk_167 0 4 (dk_at dksX5_readOrder_2 4 rfl rfl)
theorem dX5_readOrder_53 : decode cX5_readOrder 53 = .ok (.iconst 0, 1) := dk_3 (dk_at dksX5_readOrder_2 7 rfl rfl)
theorem dX5_readOrder_54 : decode cX5_readOrder 54 = .ok (.invokevirtual 282, 3) := dk_182 1 26 (dk_at dksX5_readOrder_2 8 rfl rfl)
theorem dX5_readOrder_57 : decode cX5_readOrder 57 = .ok (.aload_n 0, 1) := dk_42 (dk_at dksX5_readOrder_2 11 rfl rfl)
theorem dX5_readOrder_58 : decode cX5_readOrder 58 = .ok (.getfield 249, 3) := dk_180 0 249 (dk_at dksX5_readOrder_2 12 rfl rfl)
theorem dX5_readOrder_61 : decode cX5_readOrder 61 = .ok (.ifCond .eq 4, 3) := dk_153 0 4 (dk_at dksX5_readOrder_2 15 rfl rfl)
theorem dX5_readOrder_64 : decode cX5_readOrder 64 = .ok (.return_, 1) := dk_177 (dk_at dksX5_readOrder_2 18 rfl rfl)
theorem dX5_readOrder_65 : decode cX5_readOrder 65 = .ok (.bipush 8, 2) := dk_16 8 (dk_at dksX5_readOrder_2 19 rfl rfl)
theorem dX5_readOrder_67 : decode cX5_readOrder 67 = .ok (.aload_n 0, 1) := dk_42 (dk_at dksX5_readOrder_2 21 rfl rfl)
theorem dX5_readOrder_68 : decode cX5_readOrder 68 = .ok (.getfield 378, 3) := dk_180 1 122 (dk_at dksX5_readOrder_3 0 rfl rfl)
theorem dX5_readOrder_71 : decode cX5_readOrder 71 = .ok (.imul, 1) := dk_104 (dk_at dksX5_readOrder_3 3 rfl rfl)
theorem dX5_readOrder_72 : decode cX5_readOrder 72 = .ok (.istore_n 2, 1) := dk_61 (dk_at dksX5_readOrder_3 4 rfl rfl)
theorem dX5_readOrder_73 : decode cX5_readOrder 73 = .ok (.aload_n 0, 1) := dk_42 (dk_at dksX5_readOrder_3 5 rfl rfl)
theorem dX5_readOrder_74 : decode cX5_readOrder 74 = .ok (.dup, 1) := dk_89 (dk_at dksX5_readOrder_3 6 rfl rfl)
theorem dX5_readOrder_75 : decode cX5_readOrder 75 = .ok (.getfield 378, 3) := dk_180 1 122 (dk_at dksX5_readOrder_3 7 rfl rfl)
theorem dX5_readOrder_78 : decode cX5_readOrder 78 = .ok (.iconst 1, 1) := dk_4 (dk_at dksX5_readOrder_3 10 rfl rfl)
theorem dX5_readOrder_79 : decode cX5_readOrder 79 = .ok (.iadd, 1) := dk_96 (dk_at dksX5_readOrder_3 11 rfl rfl)
theorem dX5_readOrder_80 : decode cX5_readOrder 80 = .ok (.putfield 378, 3) := dk_181 1 122 (dk_at dksX5_readOrder_3 12 rfl rfl)
theorem dX5_readOrder_83 : decode cX5_readOrder 83 = .ok (.iconst 0, 1) := dk_3 (dk_at dksX5_readOrder_3 15 rfl rfl)
theorem dX5_readOrder_84 : decode cX5_readOrder 84 = .ok (.istore_n 3, 1) := dk_62 (dk_at dksX5_readOrder_3 16 rfl rfl)
theorem dX5_readOrder_85 : decode cX5_readOrder 85 = .ok (.iload_n 3, 1) := dk_29 (dk_at dksX5_readOrder_3 17 rfl rfl)
theorem dX5_readOrder_86 : decode cX5_readOrder 86 = .ok (.bipush 8, 2) := dk_16 8 (dk_at dksX5_readOrder_3 18 rfl rfl)
theorem dX5_readOrder_88 : decode cX5_readOrder 88 = .ok (.if_icmp .ge 18, 3) := dk_162 0 18 (dk_at dksX5_readOrder_3 20 rfl rfl)
theorem dX5_readOrder_91 : decode cX5_readOrder 91 = .ok (.aload_n 0, 1) := dk_42 (dk_at dksX5_readOrder_3 23 rfl rfl)
theorem dX5_readOrder_92 : decode cX5_readOrder 92 = .ok (.getfield 165, 3) := dk_180 0 165 (dk_at dksX5_readOrder_4 0 rfl rfl)
theorem dX5_readOrder_95 : decode cX5_readOrder 95 = .ok (.iload_n 2, 1) := dk_28 (dk_at dksX5_readOrder_4 3 rfl rfl)
theorem dX5_readOrder_96 : decode cX5_readOrder 96 = .ok (.iload_n 3, 1) := dk_29 (dk_at dksX5_readOrder_4 4 rfl rfl)
theorem dX5_readOrder_97 : decode cX5_readOrder 97 = .ok (.iadd, 1) := dk_96 (dk_at dksX5_readOrder_4 5 rfl rfl)
theorem dX5_readOrder_98 : decode cX5_readOrder 98 = .ok (.iconst 0, 1) := dk_3 (dk_at dksX5_readOrder_4 6 rfl rfl)
theorem dX5_readOrder_99 : decode cX5_readOrder 99 = .ok (.iastore, 1) := dk_79 (dk_at dksX5_readOrder_4 7 rfl rfl)
theorem dX5_readOrder_100 : decode cX5_readOrder 100 = .ok (.iinc 3 1, 3) := dk_132 3 1 (dk_at dksX5_readOrder_4 8 rfl rfl)
theorem dX5_readOrder_103 : decode cX5_readOrder 103 = .ok (.goto (-18), 3) := dk_167 255 238 (dk_at dksX5_readOrder_4 11 rfl rfl)
theorem dX5_readOrder_106 : decode cX5_readOrder 106 = .ok (.aload_n 0, 1) := dk_42 (dk_at dksX5_readOrder_4 14 rfl rfl)
theorem dX5_readOrder_107 : decode cX5_readOrder 107 = .ok (.getfield 165, 3) := dk_180 0 165 (dk_at dksX5_readOrder_4 15 rfl rfl)
theorem dX5_readOrder_110 : decode cX5_readOrder 110 = .ok (.iload_n 2, 1) := dk_28 (dk_at dksX5_readOrder_4 18 rfl rfl)
theorem dX5_readOrder_111 : decode cX5_readOrder 111 = .ok (.iload_n 1, 1) := dk_27 (dk_at dksX5_readOrder_4 19 rfl rfl)
theorem dX5_readOrder_112 : decode cX5_readOrder 112 = .ok (.iastore, 1) := dk_79 (dk_at dksX5_readOrder_4 20 rfl rfl)
theorem dX5_readOrder_113 : decode cX5_readOrder 113 = .ok (.iload_n 1, 1) := dk_27 (dk_at dksX5_readOrder_4 21 rfl rfl)
theorem dX5_readOrder_114 : decode cX5_readOrder 114 = .ok (.iconst 4, 1) := dk_7 (dk_at dksX5_readOrder_4 22 rfl rfl)
theorem dX5_readOrder_115 : decode cX5_readOrder 115 = .ok (.if_icmp .eq 10, 3) := dk_159 0 10 (dk_at dksX5_readOrder_5 0 rfl rfl)
theorem dX5_readOrder_118 : decode cX5_readOrder 118 = .ok (.aload_n 0, 1) := dk_42 (dk_at dksX5_readOrder_5 3 rfl rfl)
theorem dX5_readOrder_119 : decode cX5_readOrder 119 = .ok (.iload_n 2, 1) := dk_28 (dk_at dksX5_readOrder_5 4 rfl rfl)
theorem dX5_readOrder_120 : decode cX5_readOrder 120 = .ok (.iconst 1, 1) := dk_4 (dk_at dksX5_readOrder_5 5 rfl rfl)
theorem dX5_readOrder_121 : decode cX5_readOrder 121 = .ok (.iadd, 1) := dk_96 (dk_at dksX5_readOrder_5 6 rfl rfl)
theorem dX5_readOrder_122 : decode cX5_readOrder 122 = .ok (.invokevirtual 539, 3) := dk_182 2 27 (dk_at dksX5_readOrder_5 7 rfl rfl)
theorem dX5_readOrder_125 : decode cX5_readOrder 125 = .ok (.iload_n 1, 1) := dk_27 (dk_at dksX5_readOrder_5 10 rfl rfl)
theorem dX5_readOrder_126 : decode cX5_readOrder 126 = .ok (.iconst 3, 1) := dk_6 (dk_at dksX5_readOrder_5 11 rfl rfl)
theorem dX5_readOrder_127 : decode cX5_readOrder 127 = .ok (.if_icmp .ge 49, 3) := dk_162 0 49 (dk_at dksX5_readOrder_5 12 rfl rfl)
theorem dX5_readOrder_130 : decode cX5_readOrder 130 = .ok (.aload_n 0, 1) := dk_42 (dk_at dksX5_readOrder_5 15 rfl rfl)
theorem dX5_readOrder_131 : decode cX5_readOrder 131 = .ok (.getfield 249, 3) := dk_180 0 249 (dk_at dksX5_readOrder_5 16 rfl rfl)
theorem dX5_readOrder_134 : decode cX5_readOrder 134 = .ok (.ifCond .ne 35, 3) := dk_154 0 35 (dk_at dksX5_readOrder_5 19 rfl rfl)
theorem dX5_readOrder_137 : decode cX5_readOrder 137 = .ok (.aload_n 0, 1) := dk_42 (dk_at dksX5_readOrder_5 22 rfl rfl)
theorem dX5_readOrder_138 : decode cX5_readOrder 138 = .ok (.aload_n 0, 1) := dk_42 (dk_at dksX5_readOrder_5 23 rfl rfl)
theorem dX5_readOrder_139 : decode cX5_readOrder 139 = .ok (.iload_n 1, 1) := dk_27 (dk_at dksX5_readOrder_6 0 rfl rfl)
theorem dX5_readOrder_140 : decode cX5_readOrder 140 = .ok (.ifCond .ne 9, 3) := dk_154 0 9 (dk_at dksX5_readOrder_6 1 rfl rfl)
theorem dX5_readOrder_143 : decode cX5_readOrder 143 = .ok (.ldc2_w 542, 3) := dk_20 2 30 (dk_at dksX5_readOrder_6 4 rfl rfl)
theorem dX5_readOrder_146 : decode cX5_readOrder 146 = .ok (.goto 17, 3) := dk_167 0 17 (dk_at dksX5_readOrder_6 7 rfl rfl)
theorem dX5_readOrder_149 : decode cX5_readOrder 149 = .ok (.iload_n 1, 1) := dk_27 (dk_at dksX5_readOrder_6 10 rfl rfl)
theorem dX5_readOrder_150 : decode cX5_readOrder 150 = .ok (.iconst 1, 1) := dk_4 (dk_at dksX5_readOrder_6 11 rfl rfl)
theorem dX5_readOrder_151 : decode cX5_readOrder 151 = .ok (.if_icmp .ne 9, 3) := dk_160 0 9 (dk_at dksX5_readOrder_6 12 rfl rfl)
theorem dX5_readOrder_154 : decode cX5_readOrder 154 = .ok (.ldc2_w 544, 3) := dk_20 2 32 (dk_at dksX5_readOrder_6 15 rfl rfl)
theorem dX5_readOrder_157 : decode cX5_readOrder 157 = .ok (.goto 6, 3) := dk_167 0 6 (dk_at dksX5_readOrder_6 18 rfl rfl)
theorem dX5_readOrder_160 : decode cX5_readOrder 160 = .ok (.ldc2_w 546, 3) := dk_20 2 34 (dk_at dksX5_readOrder_6 21 rfl rfl)
theorem dX5_readOrder_163 : decode cX5_readOrder 163 = .ok (.invokevirtual 307, 3) := dk_182 1 51 (dk_at dksX5_readOrder_7 0 rfl rfl)
theorem dX5_readOrder_166 : decode cX5_readOrder 166 = .ok (.invokevirtual 282, 3) := dk_182 1 26 (dk_at dksX5_readOrder_7 3 rfl rfl)
theorem dX5_readOrder_169 : decode cX5_readOrder 169 = .ok (.aload_n 0, 1) := dk_42 (dk_at dksX5_readOrder_7 6 rfl rfl)
theorem dX5_readOrder_170 : decode cX5_readOrder 170 = .ok (.iload_n 2, 1) := dk_28 (dk_at dksX5_readOrder_7 7 rfl rfl)
theorem dX5_readOrder_171 : decode cX5_readOrder 171 = .ok (.iconst 3, 1) := dk_6 (dk_at dksX5_readOrder_7 8 rfl rfl)
theorem dX5_readOrder_172 : decode cX5_readOrder 172 = .ok (.iadd, 1) := dk_96 (dk_at dksX5_readOrder_7 9 rfl rfl)
theorem dX5_readOrder_173 : decode cX5_readOrder 173 = .ok (.invokevirtual 539, 3) := dk_182 2 27 (dk_at dksX5_readOrder_7 10 rfl rfl)
theorem dX5_readOrder_176 : decode cX5_readOrder 176 = .ok (.aload_n 0, 1) := dk_42 (dk_at dksX5_readOrder_7 13 rfl rfl)
theorem dX5_readOrder_177 : decode cX5_readOrder 177 = .ok (.getfield 165, 3) := dk_180 0 165 (dk_at dksX5_readOrder_7 14 rfl rfl)
theorem dX5_readOrder_180 : decode cX5_readOrder 180 = .ok (.iload_n 2, 1) := dk_28 (dk_at dksX5_readOrder_7 17 rfl rfl)
theorem dX5_readOrder_181 : decode cX5_readOrder 181 = .ok (.bipush 7, 2) := dk_16 7 (dk_at dksX5_readOrder_7 18 rfl rfl)
theorem dX5_readOrder_183 : decode cX5_readOrder 183 = .ok (.iadd, 1) := dk_96 (dk_at dksX5_readOrder_7 20 rfl rfl)
theorem dX5_readOrder_184 : decode cX5_readOrder 184 = .ok (.iconst 1, 1) := dk_4 (dk_at dksX5_readOrder_7 21 rfl rfl)
theorem dX5_readOrder_185 : decode cX5_readOrder 185 = .ok (.iastore, 1) := dk_79 (dk_at dksX5_readOrder_7 22 rfl rfl)
theorem dX5_readOrder_186 : decode cX5_readOrder 186 = .ok (.aload_n 0, 1) := dk_42 (dk_at dksX5_readOrder_7 23 rfl rfl)
theorem dX5_readOrder_187 : decode cX5_readOrder 187 = .ok (.getfield 249, 3) := dk_180 0 249 (dk_at dksX5_readOrder_8 0 rfl rfl)
theorem dX5_readOrder_190 : decode cX5_readOrder 190 = .ok (.ifCond .ne 34, 3) := dk_154 0 34 (dk_at dksX5_readOrder_8 3 rfl rfl)
theorem dX5_readOrder_193 : decode cX5_readOrder 193 = .ok (.aload_n 0, 1) := dk_42 (dk_at dksX5_readOrder_8 6 rfl rfl)
theorem dX5_readOrder_194 : decode cX5_readOrder 194 = .ok (.ldc2_w 548, 3) := dk_20 2 36 (dk_at dksX5_readOrder_8 7 rfl rfl)
theorem dX5_readOrder_197 : decode cX5_readOrder 197 = .ok (.invokevirtual 307, 3) := dk_182 1 51 (dk_at dksX5_readOrder_8 10 rfl rfl)
theorem dX5_readOrder_200 : decode cX5_readOrder 200 = .ok (.ifCond .eq 24, 3) := dk_153 0 24 (dk_at dksX5_readOrder_8 13 rfl rfl)
theorem dX5_readOrder_203 : decode cX5_readOrder 203 = .ok (.aload_n 0, 1) := dk_42 (dk_at dksX5_readOrder_8 16 rfl rfl)
theorem dX5_readOrder_204 : decode cX5_readOrder 204 = .ok (.invokevirtual 253, 3) := dk_182 0 253 (dk_at dksX5_readOrder_8 17 rfl rfl)
theorem dX5_readOrder_207 : decode cX5_readOrder 207 = .ok (.aload_n 0, 1) := dk_42 (dk_at dksX5_readOrder_8 20 rfl rfl)
theorem dX5_readOrder_208 : decode cX5_readOrder 208 = .ok (.getfield 165, 3) := dk_180 0 165 (dk_at dksX5_readOrder_8 21 rfl rfl)
theorem dX5_readOrder_211 : decode cX5_readOrder 211 = .ok (.iload_n 2, 1) := dk_28 (dk_at dksX5_readOrder_9 0 rfl rfl)
theorem dX5_readOrder_212 : decode cX5_readOrder 212 = .ok (.bipush 7, 2) := dk_16 7 (dk_at dksX5_readOrder_9 1 rfl rfl)
theorem dX5_readOrder_214 : decode cX5_readOrder 214 = .ok (.iadd, 1) := dk_96 (dk_at dksX5_readOrder_9 3 rfl rfl)
theorem dX5_readOrder_215 : decode cX5_readOrder 215 = .ok (.aload_n 0, 1) := dk_42 (dk_at dksX5_readOrder_9 4 rfl rfl)
theorem dX5_readOrder_216 : decode cX5_readOrder 216 = .ok (.lconst 1, 1) := dk_10 (dk_at dksX5_readOrder_9 5 rfl rfl)
theorem dX5_readOrder_217 : decode cX5_readOrder 217 = .ok (.ldc2_w 299, 3) := dk_20 1 43 (dk_at dksX5_readOrder_9 6 rfl rfl)
theorem dX5_readOrder_220 : decode cX5_readOrder 220 = .ok (.invokevirtual 342, 3) := dk_182 1 86 (dk_at dksX5_readOrder_9 9 rfl rfl)
theorem dX5_readOrder_223 : decode cX5_readOrder 223 = .ok (.iastore, 1) := dk_79 (dk_at dksX5_readOrder_9 12 rfl rfl)
theorem dX5_readOrder_224 : decode cX5_readOrder 224 = .ok (.aload_n 0, 1) := dk_42 (dk_at dksX5_readOrder_9 13 rfl rfl)
theorem dX5_readOrder_225 : decode cX5_readOrder 225 = .ok (.getfield 165, 3) := dk_180 0 165 (dk_at dksX5_readOrder_9 14 rfl rfl)
theorem dX5_readOrder_228 : decode cX5_readOrder 228 = .ok (.iload_n 2, 1) := dk_28 (dk_at dksX5_readOrder_9 17 rfl rfl)
theorem dX5_readOrder_229 : decode cX5_readOrder 229 = .ok (.iconst 5, 1) := dk_8 (dk_at dksX5_readOrder_9 18 rfl rfl)
theorem dX5_readOrder_230 : decode cX5_readOrder 230 = .ok (.iadd, 1) := dk_96 (dk_at dksX5_readOrder_9 19 rfl rfl)
theorem dX5_readOrder_231 : decode cX5_readOrder 231 = .ok (.aload_n 0, 1) := dk_42 (dk_at dksX5_readOrder_9 20 rfl rfl)
theorem dX5_readOrder_232 : decode cX5_readOrder 232 = .ok (.getfield 286, 3) := dk_180 1 30 (dk_at dksX5_readOrder_9 21 rfl rfl)
theorem dX5_readOrder_235 : decode cX5_readOrder 235 = .ok (.iastore, 1) := dk_79 (dk_at dksX5_readOrder_10 0 rfl rfl)
theorem dX5_readOrder_236 : decode cX5_readOrder 236 = .ok (.aload_n 0, 1) := dk_42 (dk_at dksX5_readOrder_10 1 rfl rfl)
theorem dX5_readOrder_237 : decode cX5_readOrder 237 = .ok (.getfield 249, 3) := dk_180 0 249 (dk_at dksX5_readOrder_10 2 rfl rfl)
theorem dX5_readOrder_240 : decode cX5_readOrder 240 = .ok (.ifCond .ne 22, 3) := dk_154 0 22 (dk_at dksX5_readOrder_10 5 rfl rfl)
theorem dX5_readOrder_243 : decode cX5_readOrder 243 = .ok (.aload_n 0, 1) := dk_42 (dk_at dksX5_readOrder_10 8 rfl rfl)
theorem dX5_readOrder_244 : decode cX5_readOrder 244 = .ok (.ldc2_w 384, 3) := dk_20 1 128 (dk_at dksX5_readOrder_10 9 rfl rfl)
theorem dX5_readOrder_247 : decode cX5_readOrder 247 = .ok (.invokevirtual 307, 3) := dk_182 1 51 (dk_at dksX5_readOrder_10 12 rfl rfl)
theorem dX5_readOrder_250 : decode cX5_readOrder 250 = .ok (.ifCond .eq 12, 3) := dk_153 0 12 (dk_at dksX5_readOrder_10 15 rfl rfl)
theorem dX5_readOrder_253 : decode cX5_readOrder 253 = .ok (.aload_n 0, 1) := dk_42 (dk_at dksX5_readOrder_10 18 rfl rfl)
theorem dX5_readOrder_254 : decode cX5_readOrder 254 = .ok (.invokevirtual 253, 3) := dk_182 0 253 (dk_at dksX5_readOrder_10 19 rfl rfl)
theorem dX5_readOrder_257 : decode cX5_readOrder 257 = .ok (.aload_n 0, 1) := dk_42 (dk_at dksX5_readOrder_10 22 rfl rfl)
theorem dX5_readOrder_258 : decode cX5_readOrder 258 = .ok (.iconst 1, 1) := dk_4 (dk_at dksX5_readOrder_10 23 rfl rfl)
theorem dX5_readOrder_259 : decode cX5_readOrder 259 = .ok (.invokevirtual 381, 3) := dk_182 1 125 (dk_at dksX5_readOrder_11 0 rfl rfl)
theorem dX5_readOrder_262 : decode cX5_readOrder 262 = .ok (.aload_n 0, 1) := dk_42 (dk_at dksX5_readOrder_11 3 rfl rfl)
theorem dX5_readOrder_263 : decode cX5_readOrder 263 = .ok (.getfield 165, 3) := dk_180 0 165 (dk_at dksX5_readOrder_11 4 rfl rfl)
theorem dX5_readOrder_266 : decode cX5_readOrder 266 = .ok (.iload_n 2, 1) := dk_28 (dk_at dksX5_readOrder_11 7 rfl rfl)
theorem dX5_readOrder_267 : decode cX5_readOrder 267 = .ok (.bipush 6, 2) := dk_16 6 (dk_at dksX5_readOrder_11 8 rfl rfl)
theorem dX5_readOrder_269 : decode cX5_readOrder 269 = .ok (.iadd, 1) := dk_96 (dk_at dksX5_readOrder_11 10 rfl rfl)
theorem dX5_readOrder_270 : decode cX5_readOrder 270 = .ok (.aload_n 0, 1) := dk_42 (dk_at dksX5_readOrder_11 11 rfl rfl)
theorem dX5_readOrder_271 : decode cX5_readOrder 271 = .ok (.getfield 286, 3) := dk_180 1 30 (dk_at dksX5_readOrder_11 12 rfl rfl)
theorem dX5_readOrder_274 : decode cX5_readOrder 274 = .ok (.iastore, 1) := dk_79 (dk_at dksX5_readOrder_11 15 rfl rfl)
theorem dX5_readOrder_275 : decode cX5_readOrder 275 = .ok (.return_, 1) := dk_177 (dk_at dksX5_readOrder_11 16 rfl rfl)
abbrev cX5_readSum : ByteArray := prog_22_method_112_code
def yX5_readSum : MethodName := ⟨RX5, "readSum", "(I)V"⟩
def dkwX5_readSum_1 : List UInt8 := [180, 0, 165, 27, 4, 96, 42, 180, 1, 30, 79, 177]
abbrev dktX5_readSum_1 : List UInt8 := dkwX5_readSum_1 ++ []
def dkwX5_readSum_0 : List UInt8 := [42, 180, 0, 165, 27, 42, 180, 1, 30, 79, 42, 180, 0, 249, 154, 0, 8, 42, 3, 182, 1, 125, 42]
abbrev dktX5_readSum_0 : List UInt8 := dkwX5_readSum_0 ++ dktX5_readSum_1
theorem dksX5_readSum_0 : cX5_readSum.data.toList.drop 0 = dktX5_readSum_0 := by decide +kernel
theorem dksX5_readSum_1 : cX5_readSum.data.toList.drop 23 = dktX5_readSum_1 := dk_seg dksX5_readSum_0 23 rfl rfl
theorem dX5_readSum_0 : decode cX5_readSum 0 = .ok (.aload_n 0, 1) := dk_42 (dk_at dksX5_readSum_0 0 rfl rfl)
theorem dX5_readSum_1 : decode cX5_readSum 1 = .ok (.getfield 165, 3) := dk_180 0 165 (dk_at dksX5_readSum_0 1 rfl rfl)
theorem dX5_readSum_4 : decode cX5_readSum 4 = .ok (.iload_n 1, 1) := dk_27 (dk_at dksX5_readSum_0 4 rfl rfl)
theorem dX5_readSum_5 : decode cX5_readSum 5 = .ok (.aload_n 0, 1) := dk_42 (dk_at dksX5_readSum_0 5 rfl rfl)
theorem dX5_readSum_6 : decode cX5_readSum 6 = .ok (.getfield 286, 3) := dk_180 1 30 (dk_at dksX5_readSum_0 6 rfl rfl)
theorem dX5_readSum_9 : decode cX5_readSum 9 = .ok (.iastore, 1) := dk_79 (dk_at dksX5_readSum_0 9 rfl rfl)
theorem dX5_readSum_10 : decode cX5_readSum 10 = .ok (.aload_n 0, 1) := dk_42 (dk_at dksX5_readSum_0 10 rfl rfl)
theorem dX5_readSum_11 : decode cX5_readSum 11 = .ok (.getfield 249, 3) := dk_180 0 249 (dk_at dksX5_readSum_0 11 rfl rfl)
theorem dX5_readSum_14 : decode cX5_readSum 14 = .ok (.ifCond .ne 8, 3) := dk_154 0 8 (dk_at dksX5_readSum_0 14 rfl rfl)
theorem dX5_readSum_17 : decode cX5_readSum 17 = .ok (.aload_n 0, 1) := dk_42 (dk_at dksX5_readSum_0 17 rfl rfl)
theorem dX5_readSum_18 : decode cX5_readSum 18 = .ok (.iconst 0, 1) := dk_3 (dk_at dksX5_readSum_0 18 rfl rfl)
theorem dX5_readSum_19 : decode cX5_readSum 19 = .ok (.invokevirtual 381, 3) := dk_182 1 125 (dk_at dksX5_readSum_0 19 rfl rfl)
theorem dX5_readSum_22 : decode cX5_readSum 22 = .ok (.aload_n 0, 1) := dk_42 (dk_at dksX5_readSum_0 22 rfl rfl)
theorem dX5_readSum_23 : decode cX5_readSum 23 = .ok (.getfield 165, 3) := dk_180 0 165 (dk_at dksX5_readSum_1 0 rfl rfl)
theorem dX5_readSum_26 : decode cX5_readSum 26 = .ok (.iload_n 1, 1) := dk_27 (dk_at dksX5_readSum_1 3 rfl rfl)
theorem dX5_readSum_27 : decode cX5_readSum 27 = .ok (.iconst 1, 1) := dk_4 (dk_at dksX5_readSum_1 4 rfl rfl)
theorem dX5_readSum_28 : decode cX5_readSum 28 = .ok (.iadd, 1) := dk_96 (dk_at dksX5_readSum_1 5 rfl rfl)
theorem dX5_readSum_29 : decode cX5_readSum 29 = .ok (.aload_n 0, 1) := dk_42 (dk_at dksX5_readSum_1 6 rfl rfl)
theorem dX5_readSum_30 : decode cX5_readSum 30 = .ok (.getfield 286, 3) := dk_180 1 30 (dk_at dksX5_readSum_1 7 rfl rfl)
theorem dX5_readSum_33 : decode cX5_readSum 33 = .ok (.iastore, 1) := dk_79 (dk_at dksX5_readSum_1 10 rfl rfl)
theorem dX5_readSum_34 : decode cX5_readSum 34 = .ok (.return_, 1) := dk_177 (dk_at dksX5_readSum_1 11 rfl rfl)
abbrev cX5_run : ByteArray := prog_22_method_117_code
def yX5_run : MethodName := ⟨RX5, "run", "(I)I"⟩
def dkwX5_run_7 : List UInt8 := [89, 180, 2, 44, 4, 96, 181, 2, 44, 3, 172]
abbrev dktX5_run_7 : List UInt8 := dkwX5_run_7 ++ []
def dkwX5_run_6 : List UInt8 := [180, 0, 165, 27, 46, 7, 160, 0, 10, 42, 182, 1, 234, 167, 0, 7, 42, 180, 2, 47, 181, 2, 47, 42]
abbrev dktX5_run_6 : List UInt8 := dkwX5_run_6 ++ dktX5_run_7
def dkwX5_run_5 : List UInt8 := [180, 0, 165, 27, 46, 28, 29, 182, 2, 53, 54, 4, 21, 4, 156, 0, 6, 16, 253, 172, 42, 42]
abbrev dktX5_run_5 : List UInt8 := dkwX5_run_5 ++ dktX5_run_6
def dkwX5_run_4 : List UInt8 := [182, 2, 50, 61, 42, 27, 6, 96, 182, 2, 50, 62, 42, 180, 2, 38, 153, 0, 6, 16, 253, 172, 42, 42]
abbrev dktX5_run_4 : List UInt8 := dkwX5_run_4 ++ dktX5_run_5
def dkwX5_run_3 : List UInt8 := [27, 8, 96, 182, 2, 50, 61, 42, 180, 2, 38, 154, 0, 7, 28, 154, 0, 5, 3, 172, 42, 27, 4, 96]
abbrev dktX5_run_3 : List UInt8 := dkwX5_run_3 ++ dktX5_run_4
def dkwX5_run_2 : List UInt8 := [181, 2, 38, 42, 180, 0, 165, 27, 8, 96, 46, 42, 180, 0, 165, 27, 16, 6, 96, 46, 162, 0, 24, 42]
abbrev dktX5_run_2 : List UInt8 := dkwX5_run_2 ++ dktX5_run_3
def dkwX5_run_1 : List UInt8 := [180, 0, 110, 6, 42, 180, 2, 44, 133, 80, 42, 180, 0, 110, 7, 42, 180, 2, 47, 133, 80, 42, 3]
abbrev dktX5_run_1 : List UInt8 := dkwX5_run_1 ++ dktX5_run_2
def dkwX5_run_0 : List UInt8 := [42, 180, 0, 110, 4, 42, 3, 182, 1, 162, 133, 80, 42, 180, 0, 110, 5, 42, 182, 2, 41, 133, 80, 42]
abbrev dktX5_run_0 : List UInt8 := dkwX5_run_0 ++ dktX5_run_1
theorem dksX5_run_0 : cX5_run.data.toList.drop 0 = dktX5_run_0 := by decide +kernel
theorem dksX5_run_1 : cX5_run.data.toList.drop 24 = dktX5_run_1 := dk_seg dksX5_run_0 24 rfl rfl
theorem dksX5_run_2 : cX5_run.data.toList.drop 47 = dktX5_run_2 := dk_seg dksX5_run_1 23 rfl rfl
theorem dksX5_run_3 : cX5_run.data.toList.drop 71 = dktX5_run_3 := dk_seg dksX5_run_2 24 rfl rfl
theorem dksX5_run_4 : cX5_run.data.toList.drop 95 = dktX5_run_4 := dk_seg dksX5_run_3 24 rfl rfl
theorem dksX5_run_5 : cX5_run.data.toList.drop 119 = dktX5_run_5 := dk_seg dksX5_run_4 24 rfl rfl
theorem dksX5_run_6 : cX5_run.data.toList.drop 141 = dktX5_run_6 := dk_seg dksX5_run_5 22 rfl rfl
theorem dksX5_run_7 : cX5_run.data.toList.drop 165 = dktX5_run_7 := dk_seg dksX5_run_6 24 rfl rfl
theorem dX5_run_0 : decode cX5_run 0 = .ok (.aload_n 0, 1) := dk_42 (dk_at dksX5_run_0 0 rfl rfl)
theorem dX5_run_1 : decode cX5_run 1 = .ok (.getfield 110, 3) := dk_180 0 110 (dk_at dksX5_run_0 1 rfl rfl)
theorem dX5_run_4 : decode cX5_run 4 = .ok (.iconst 1, 1) := dk_4 (dk_at dksX5_run_0 4 rfl rfl)
theorem dX5_run_5 : decode cX5_run 5 = .ok (.aload_n 0, 1) := dk_42 (dk_at dksX5_run_0 5 rfl rfl)
theorem dX5_run_6 : decode cX5_run 6 = .ok (.iconst 0, 1) := dk_3 (dk_at dksX5_run_0 6 rfl rfl)
theorem dX5_run_7 : decode cX5_run 7 = .ok (.invokevirtual 418, 3) := dk_182 1 162 (dk_at dksX5_run_0 7 rfl rfl)
theorem dX5_run_10 : decode cX5_run 10 = .ok (.i2l, 1) := dk_133 (dk_at dksX5_run_0 10 rfl rfl)
theorem dX5_run_11 : decode cX5_run 11 = .ok (.lastore, 1) := dk_80 (dk_at dksX5_run_0 11 rfl rfl)
theorem dX5_run_12 : decode cX5_run 12 = .ok (.aload_n 0, 1) := dk_42 (dk_at dksX5_run_0 12 rfl rfl)
theorem dX5_run_13 : decode cX5_run 13 = .ok (.getfield 110, 3) := dk_180 0 110 (dk_at dksX5_run_0 13 rfl rfl)
theorem dX5_run_16 : decode cX5_run 16 = .ok (.iconst 2, 1) := dk_5 (dk_at dksX5_run_0 16 rfl rfl)
theorem dX5_run_17 : decode cX5_run 17 = .ok (.aload_n 0, 1) := dk_42 (dk_at dksX5_run_0 17 rfl rfl)
theorem dX5_run_18 : decode cX5_run 18 = .ok (.invokevirtual 553, 3) := dk_182 2 41 (dk_at dksX5_run_0 18 rfl rfl)
theorem dX5_run_21 : decode cX5_run 21 = .ok (.i2l, 1) := dk_133 (dk_at dksX5_run_0 21 rfl rfl)
theorem dX5_run_22 : decode cX5_run 22 = .ok (.lastore, 1) := dk_80 (dk_at dksX5_run_0 22 rfl rfl)
theorem dX5_run_23 : decode cX5_run 23 = .ok (.aload_n 0, 1) := dk_42 (dk_at dksX5_run_0 23 rfl rfl)
theorem dX5_run_24 : decode cX5_run 24 = .ok (.getfield 110, 3) := dk_180 0 110 (dk_at dksX5_run_1 0 rfl rfl)
theorem dX5_run_27 : decode cX5_run 27 = .ok (.iconst 3, 1) := dk_6 (dk_at dksX5_run_1 3 rfl rfl)
theorem dX5_run_28 : decode cX5_run 28 = .ok (.aload_n 0, 1) := dk_42 (dk_at dksX5_run_1 4 rfl rfl)
theorem dX5_run_29 : decode cX5_run 29 = .ok (.getfield 556, 3) := dk_180 2 44 (dk_at dksX5_run_1 5 rfl rfl)
theorem dX5_run_32 : decode cX5_run 32 = .ok (.i2l, 1) := dk_133 (dk_at dksX5_run_1 8 rfl rfl)
theorem dX5_run_33 : decode cX5_run 33 = .ok (.lastore, 1) := dk_80 (dk_at dksX5_run_1 9 rfl rfl)
theorem dX5_run_34 : decode cX5_run 34 = .ok (.aload_n 0, 1) := dk_42 (dk_at dksX5_run_1 10 rfl rfl)
theorem dX5_run_35 : decode cX5_run 35 = .ok (.getfield 110, 3) := dk_180 0 110 (dk_at dksX5_run_1 11 rfl rfl)
theorem dX5_run_38 : decode cX5_run 38 = .ok (.iconst 4, 1) := dk_7 (dk_at dksX5_run_1 14 rfl rfl)
theorem dX5_run_39 : decode cX5_run 39 = .ok (.aload_n 0, 1) := dk_42 (dk_at dksX5_run_1 15 rfl rfl)
theorem dX5_run_40 : decode cX5_run 40 = .ok (.getfield 559, 3) := dk_180 2 47 (dk_at dksX5_run_1 16 rfl rfl)
theorem dX5_run_43 : decode cX5_run 43 = .ok (.i2l, 1) := dk_133 (dk_at dksX5_run_1 19 rfl rfl)
theorem dX5_run_44 : decode cX5_run 44 = .ok (.lastore, 1) := dk_80 (dk_at dksX5_run_1 20 rfl rfl)
theorem dX5_run_45 : decode cX5_run 45 = .ok (.aload_n 0, 1) := dk_42 (dk_at dksX5_run_1 21 rfl rfl)
theorem dX5_run_46 : decode cX5_run 46 = .ok (.iconst 0, 1) := dk_3 (dk_at dksX5_run_1 22 rfl rfl)
theorem dX5_run_47 : decode cX5_run 47 = .ok (.putfield 550, 3) := dk_181 2 38 (dk_at dksX5_run_2 0 rfl rfl)
theorem dX5_run_50 : decode cX5_run 50 = .ok (.aload_n 0, 1) := dk_42 (dk_at dksX5_run_2 3 rfl rfl)
theorem dX5_run_51 : decode cX5_run 51 = .ok (.getfield 165, 3) := dk_180 0 165 (dk_at dksX5_run_2 4 rfl rfl)
theorem dX5_run_54 : decode cX5_run 54 = .ok (.iload_n 1, 1) := dk_27 (dk_at dksX5_run_2 7 rfl rfl)
theorem dX5_run_55 : decode cX5_run 55 = .ok (.iconst 5, 1) := dk_8 (dk_at dksX5_run_2 8 rfl rfl)
theorem dX5_run_56 : decode cX5_run 56 = .ok (.iadd, 1) := dk_96 (dk_at dksX5_run_2 9 rfl rfl)
theorem dX5_run_57 : decode cX5_run 57 = .ok (.iaload, 1) := dk_46 (dk_at dksX5_run_2 10 rfl rfl)
theorem dX5_run_58 : decode cX5_run 58 = .ok (.aload_n 0, 1) := dk_42 (dk_at dksX5_run_2 11 rfl rfl)
theorem dX5_run_59 : decode cX5_run 59 = .ok (.getfield 165, 3) := dk_180 0 165 (dk_at dksX5_run_2 12 rfl rfl)
theorem dX5_run_62 : decode cX5_run 62 = .ok (.iload_n 1, 1) := dk_27 (dk_at dksX5_run_2 15 rfl rfl)
theorem dX5_run_63 : decode cX5_run 63 = .ok (.bipush 6, 2) := dk_16 6 (dk_at dksX5_run_2 16 rfl rfl)
theorem dX5_run_65 : decode cX5_run 65 = .ok (.iadd, 1) := dk_96 (dk_at dksX5_run_2 18 rfl rfl)
theorem dX5_run_66 : decode cX5_run 66 = .ok (.iaload, 1) := dk_46 (dk_at dksX5_run_2 19 rfl rfl)
theorem dX5_run_67 : decode cX5_run 67 = .ok (.if_icmp .ge 24, 3) := dk_162 0 24 (dk_at dksX5_run_2 20 rfl rfl)
theorem dX5_run_70 : decode cX5_run 70 = .ok (.aload_n 0, 1) := dk_42 (dk_at dksX5_run_2 23 rfl rfl)
theorem dX5_run_71 : decode cX5_run 71 = .ok (.iload_n 1, 1) := dk_27 (dk_at dksX5_run_3 0 rfl rfl)
theorem dX5_run_72 : decode cX5_run 72 = .ok (.iconst 5, 1) := dk_8 (dk_at dksX5_run_3 1 rfl rfl)
theorem dX5_run_73 : decode cX5_run 73 = .ok (.iadd, 1) := dk_96 (dk_at dksX5_run_3 2 rfl rfl)
theorem dX5_run_74 : decode cX5_run 74 = .ok (.invokevirtual 562, 3) := dk_182 2 50 (dk_at dksX5_run_3 3 rfl rfl)
theorem dX5_run_77 : decode cX5_run 77 = .ok (.istore_n 2, 1) := dk_61 (dk_at dksX5_run_3 6 rfl rfl)
theorem dX5_run_78 : decode cX5_run 78 = .ok (.aload_n 0, 1) := dk_42 (dk_at dksX5_run_3 7 rfl rfl)
theorem dX5_run_79 : decode cX5_run 79 = .ok (.getfield 550, 3) := dk_180 2 38 (dk_at dksX5_run_3 8 rfl rfl)
theorem dX5_run_82 : decode cX5_run 82 = .ok (.ifCond .ne 7, 3) := dk_154 0 7 (dk_at dksX5_run_3 11 rfl rfl)
theorem dX5_run_85 : decode cX5_run 85 = .ok (.iload_n 2, 1) := dk_28 (dk_at dksX5_run_3 14 rfl rfl)
theorem dX5_run_86 : decode cX5_run 86 = .ok (.ifCond .ne 5, 3) := dk_154 0 5 (dk_at dksX5_run_3 15 rfl rfl)
theorem dX5_run_89 : decode cX5_run 89 = .ok (.iconst 0, 1) := dk_3 (dk_at dksX5_run_3 18 rfl rfl)
theorem dX5_run_90 : decode cX5_run 90 = .ok (.ireturn, 1) := dk_172 (dk_at dksX5_run_3 19 rfl rfl)
theorem dX5_run_91 : decode cX5_run 91 = .ok (.aload_n 0, 1) := dk_42 (dk_at dksX5_run_3 20 rfl rfl)
theorem dX5_run_92 : decode cX5_run 92 = .ok (.iload_n 1, 1) := dk_27 (dk_at dksX5_run_3 21 rfl rfl)
theorem dX5_run_93 : decode cX5_run 93 = .ok (.iconst 1, 1) := dk_4 (dk_at dksX5_run_3 22 rfl rfl)
theorem dX5_run_94 : decode cX5_run 94 = .ok (.iadd, 1) := dk_96 (dk_at dksX5_run_3 23 rfl rfl)
theorem dX5_run_95 : decode cX5_run 95 = .ok (.invokevirtual 562, 3) := dk_182 2 50 (dk_at dksX5_run_4 0 rfl rfl)
theorem dX5_run_98 : decode cX5_run 98 = .ok (.istore_n 2, 1) := dk_61 (dk_at dksX5_run_4 3 rfl rfl)
theorem dX5_run_99 : decode cX5_run 99 = .ok (.aload_n 0, 1) := dk_42 (dk_at dksX5_run_4 4 rfl rfl)
theorem dX5_run_100 : decode cX5_run 100 = .ok (.iload_n 1, 1) := dk_27 (dk_at dksX5_run_4 5 rfl rfl)
theorem dX5_run_101 : decode cX5_run 101 = .ok (.iconst 3, 1) := dk_6 (dk_at dksX5_run_4 6 rfl rfl)
theorem dX5_run_102 : decode cX5_run 102 = .ok (.iadd, 1) := dk_96 (dk_at dksX5_run_4 7 rfl rfl)
theorem dX5_run_103 : decode cX5_run 103 = .ok (.invokevirtual 562, 3) := dk_182 2 50 (dk_at dksX5_run_4 8 rfl rfl)
theorem dX5_run_106 : decode cX5_run 106 = .ok (.istore_n 3, 1) := dk_62 (dk_at dksX5_run_4 11 rfl rfl)
theorem dX5_run_107 : decode cX5_run 107 = .ok (.aload_n 0, 1) := dk_42 (dk_at dksX5_run_4 12 rfl rfl)
theorem dX5_run_108 : decode cX5_run 108 = .ok (.getfield 550, 3) := dk_180 2 38 (dk_at dksX5_run_4 13 rfl rfl)
theorem dX5_run_111 : decode cX5_run 111 = .ok (.ifCond .eq 6, 3) := dk_153 0 6 (dk_at dksX5_run_4 16 rfl rfl)
theorem dX5_run_114 : decode cX5_run 114 = .ok (.bipush (-3), 2) := dk_16 253 (dk_at dksX5_run_4 19 rfl rfl)
theorem dX5_run_116 : decode cX5_run 116 = .ok (.ireturn, 1) := dk_172 (dk_at dksX5_run_4 21 rfl rfl)
theorem dX5_run_117 : decode cX5_run 117 = .ok (.aload_n 0, 1) := dk_42 (dk_at dksX5_run_4 22 rfl rfl)
theorem dX5_run_118 : decode cX5_run 118 = .ok (.aload_n 0, 1) := dk_42 (dk_at dksX5_run_4 23 rfl rfl)
theorem dX5_run_119 : decode cX5_run 119 = .ok (.getfield 165, 3) := dk_180 0 165 (dk_at dksX5_run_5 0 rfl rfl)
theorem dX5_run_122 : decode cX5_run 122 = .ok (.iload_n 1, 1) := dk_27 (dk_at dksX5_run_5 3 rfl rfl)
theorem dX5_run_123 : decode cX5_run 123 = .ok (.iaload, 1) := dk_46 (dk_at dksX5_run_5 4 rfl rfl)
theorem dX5_run_124 : decode cX5_run 124 = .ok (.iload_n 2, 1) := dk_28 (dk_at dksX5_run_5 5 rfl rfl)
theorem dX5_run_125 : decode cX5_run 125 = .ok (.iload_n 3, 1) := dk_29 (dk_at dksX5_run_5 6 rfl rfl)
theorem dX5_run_126 : decode cX5_run 126 = .ok (.invokevirtual 565, 3) := dk_182 2 53 (dk_at dksX5_run_5 7 rfl rfl)
theorem dX5_run_129 : decode cX5_run 129 = .ok (.istore 4, 2) := dk_54 4 (dk_at dksX5_run_5 10 rfl rfl)
theorem dX5_run_131 : decode cX5_run 131 = .ok (.iload 4, 2) := dk_21 4 (dk_at dksX5_run_5 12 rfl rfl)
theorem dX5_run_133 : decode cX5_run 133 = .ok (.ifCond .ge 6, 3) := dk_156 0 6 (dk_at dksX5_run_5 14 rfl rfl)
theorem dX5_run_136 : decode cX5_run 136 = .ok (.bipush (-3), 2) := dk_16 253 (dk_at dksX5_run_5 17 rfl rfl)
theorem dX5_run_138 : decode cX5_run 138 = .ok (.ireturn, 1) := dk_172 (dk_at dksX5_run_5 19 rfl rfl)
theorem dX5_run_139 : decode cX5_run 139 = .ok (.aload_n 0, 1) := dk_42 (dk_at dksX5_run_5 20 rfl rfl)
theorem dX5_run_140 : decode cX5_run 140 = .ok (.aload_n 0, 1) := dk_42 (dk_at dksX5_run_5 21 rfl rfl)
theorem dX5_run_141 : decode cX5_run 141 = .ok (.getfield 165, 3) := dk_180 0 165 (dk_at dksX5_run_6 0 rfl rfl)
theorem dX5_run_144 : decode cX5_run 144 = .ok (.iload_n 1, 1) := dk_27 (dk_at dksX5_run_6 3 rfl rfl)
theorem dX5_run_145 : decode cX5_run 145 = .ok (.iaload, 1) := dk_46 (dk_at dksX5_run_6 4 rfl rfl)
theorem dX5_run_146 : decode cX5_run 146 = .ok (.iconst 4, 1) := dk_7 (dk_at dksX5_run_6 5 rfl rfl)
theorem dX5_run_147 : decode cX5_run 147 = .ok (.if_icmp .ne 10, 3) := dk_160 0 10 (dk_at dksX5_run_6 6 rfl rfl)
theorem dX5_run_150 : decode cX5_run 150 = .ok (.aload_n 0, 1) := dk_42 (dk_at dksX5_run_6 9 rfl rfl)
theorem dX5_run_151 : decode cX5_run 151 = .ok (.invokevirtual 490, 3) := dk_182 1 234 (dk_at dksX5_run_6 10 rfl rfl)
theorem dX5_run_154 : decode cX5_run 154 = .ok (.goto 7, 3) := dk_167 0 7 (dk_at dksX5_run_6 13 rfl rfl)
theorem dX5_run_157 : decode cX5_run 157 = .ok (.aload_n 0, 1) := dk_42 (dk_at dksX5_run_6 16 rfl rfl)
theorem dX5_run_158 : decode cX5_run 158 = .ok (.getfield 559, 3) := dk_180 2 47 (dk_at dksX5_run_6 17 rfl rfl)
theorem dX5_run_161 : decode cX5_run 161 = .ok (.putfield 559, 3) := dk_181 2 47 (dk_at dksX5_run_6 20 rfl rfl)
theorem dX5_run_164 : decode cX5_run 164 = .ok (.aload_n 0, 1) := dk_42 (dk_at dksX5_run_6 23 rfl rfl)
theorem dX5_run_165 : decode cX5_run 165 = .ok (.dup, 1) := dk_89 (dk_at dksX5_run_7 0 rfl rfl)
theorem dX5_run_166 : decode cX5_run 166 = .ok (.getfield 556, 3) := dk_180 2 44 (dk_at dksX5_run_7 1 rfl rfl)
theorem dX5_run_169 : decode cX5_run 169 = .ok (.iconst 1, 1) := dk_4 (dk_at dksX5_run_7 4 rfl rfl)
theorem dX5_run_170 : decode cX5_run 170 = .ok (.iadd, 1) := dk_96 (dk_at dksX5_run_7 5 rfl rfl)
theorem dX5_run_171 : decode cX5_run 171 = .ok (.putfield 556, 3) := dk_181 2 44 (dk_at dksX5_run_7 6 rfl rfl)
theorem dX5_run_174 : decode cX5_run 174 = .ok (.iconst 0, 1) := dk_3 (dk_at dksX5_run_7 9 rfl rfl)
theorem dX5_run_175 : decode cX5_run 175 = .ok (.ireturn, 1) := dk_172 (dk_at dksX5_run_7 10 rfl rfl)
abbrev cX5_trees : ByteArray := prog_22_method_115_code
def yX5_trees : MethodName := ⟨RX5, "trees", "()I"⟩
def dkwX5_trees_1 : List UInt8 := [96, 60, 132, 2, 1, 167, 255, 231, 27, 172]
abbrev dktX5_trees_1 : List UInt8 := dkwX5_trees_1 ++ []
def dkwX5_trees_0 : List UInt8 := [3, 60, 3, 61, 28, 16, 16, 162, 0, 25, 27, 42, 28, 182, 0, 220, 153, 0, 7, 4, 167, 0, 4, 3]
abbrev dktX5_trees_0 : List UInt8 := dkwX5_trees_0 ++ dktX5_trees_1
theorem dksX5_trees_0 : cX5_trees.data.toList.drop 0 = dktX5_trees_0 := by decide +kernel
theorem dksX5_trees_1 : cX5_trees.data.toList.drop 24 = dktX5_trees_1 := dk_seg dksX5_trees_0 24 rfl rfl
theorem dX5_trees_0 : decode cX5_trees 0 = .ok (.iconst 0, 1) := dk_3 (dk_at dksX5_trees_0 0 rfl rfl)
theorem dX5_trees_1 : decode cX5_trees 1 = .ok (.istore_n 1, 1) := dk_60 (dk_at dksX5_trees_0 1 rfl rfl)
theorem dX5_trees_2 : decode cX5_trees 2 = .ok (.iconst 0, 1) := dk_3 (dk_at dksX5_trees_0 2 rfl rfl)
theorem dX5_trees_3 : decode cX5_trees 3 = .ok (.istore_n 2, 1) := dk_61 (dk_at dksX5_trees_0 3 rfl rfl)
theorem dX5_trees_4 : decode cX5_trees 4 = .ok (.iload_n 2, 1) := dk_28 (dk_at dksX5_trees_0 4 rfl rfl)
theorem dX5_trees_5 : decode cX5_trees 5 = .ok (.bipush 16, 2) := dk_16 16 (dk_at dksX5_trees_0 5 rfl rfl)
theorem dX5_trees_7 : decode cX5_trees 7 = .ok (.if_icmp .ge 25, 3) := dk_162 0 25 (dk_at dksX5_trees_0 7 rfl rfl)
theorem dX5_trees_10 : decode cX5_trees 10 = .ok (.iload_n 1, 1) := dk_27 (dk_at dksX5_trees_0 10 rfl rfl)
theorem dX5_trees_11 : decode cX5_trees 11 = .ok (.aload_n 0, 1) := dk_42 (dk_at dksX5_trees_0 11 rfl rfl)
theorem dX5_trees_12 : decode cX5_trees 12 = .ok (.iload_n 2, 1) := dk_28 (dk_at dksX5_trees_0 12 rfl rfl)
theorem dX5_trees_13 : decode cX5_trees 13 = .ok (.invokevirtual 220, 3) := dk_182 0 220 (dk_at dksX5_trees_0 13 rfl rfl)
theorem dX5_trees_16 : decode cX5_trees 16 = .ok (.ifCond .eq 7, 3) := dk_153 0 7 (dk_at dksX5_trees_0 16 rfl rfl)
theorem dX5_trees_19 : decode cX5_trees 19 = .ok (.iconst 1, 1) := dk_4 (dk_at dksX5_trees_0 19 rfl rfl)
theorem dX5_trees_20 : decode cX5_trees 20 = .ok (.goto 4, 3) := dk_167 0 4 (dk_at dksX5_trees_0 20 rfl rfl)
theorem dX5_trees_23 : decode cX5_trees 23 = .ok (.iconst 0, 1) := dk_3 (dk_at dksX5_trees_0 23 rfl rfl)
theorem dX5_trees_24 : decode cX5_trees 24 = .ok (.iadd, 1) := dk_96 (dk_at dksX5_trees_1 0 rfl rfl)
theorem dX5_trees_25 : decode cX5_trees 25 = .ok (.istore_n 1, 1) := dk_60 (dk_at dksX5_trees_1 1 rfl rfl)
theorem dX5_trees_26 : decode cX5_trees 26 = .ok (.iinc 2 1, 3) := dk_132 2 1 (dk_at dksX5_trees_1 2 rfl rfl)
theorem dX5_trees_29 : decode cX5_trees 29 = .ok (.goto (-25), 3) := dk_167 255 231 (dk_at dksX5_trees_1 5 rfl rfl)
theorem dX5_trees_32 : decode cX5_trees 32 = .ok (.iload_n 1, 1) := dk_27 (dk_at dksX5_trees_1 8 rfl rfl)
theorem dX5_trees_33 : decode cX5_trees 33 = .ok (.ireturn, 1) := dk_172 (dk_at dksX5_trees_1 9 rfl rfl)
abbrev cX5_sumOf : ByteArray := prog_22_method_114_code
def yX5_sumOf : MethodName := ⟨RX5, "sumOf", "(I)I"⟩
def dkwX5_sumOf_2 : List UInt8 := [182, 1, 156, 42, 3, 181, 1, 70, 42, 42, 180, 1, 139, 181, 2, 38, 42, 180, 1, 153, 136, 172]
abbrev dktX5_sumOf_2 : List UInt8 := dkwX5_sumOf_2 ++ []
def dkwX5_sumOf_1 : List UInt8 := [2, 172, 42, 4, 181, 1, 70, 42, 42, 180, 0, 165, 27, 46, 42, 180, 0, 165, 27, 4, 96, 46]
abbrev dktX5_sumOf_1 : List UInt8 := dkwX5_sumOf_1 ++ dktX5_sumOf_2
def dkwX5_sumOf_0 : List UInt8 := [42, 180, 2, 38, 154, 0, 20, 42, 180, 0, 165, 27, 46, 42, 180, 0, 165, 27, 4, 96, 46, 160, 0, 5]
abbrev dktX5_sumOf_0 : List UInt8 := dkwX5_sumOf_0 ++ dktX5_sumOf_1
theorem dksX5_sumOf_0 : cX5_sumOf.data.toList.drop 0 = dktX5_sumOf_0 := by decide +kernel
theorem dksX5_sumOf_1 : cX5_sumOf.data.toList.drop 24 = dktX5_sumOf_1 := dk_seg dksX5_sumOf_0 24 rfl rfl
theorem dksX5_sumOf_2 : cX5_sumOf.data.toList.drop 46 = dktX5_sumOf_2 := dk_seg dksX5_sumOf_1 22 rfl rfl
theorem dX5_sumOf_0 : decode cX5_sumOf 0 = .ok (.aload_n 0, 1) := dk_42 (dk_at dksX5_sumOf_0 0 rfl rfl)
theorem dX5_sumOf_1 : decode cX5_sumOf 1 = .ok (.getfield 550, 3) := dk_180 2 38 (dk_at dksX5_sumOf_0 1 rfl rfl)
theorem dX5_sumOf_4 : decode cX5_sumOf 4 = .ok (.ifCond .ne 20, 3) := dk_154 0 20 (dk_at dksX5_sumOf_0 4 rfl rfl)
theorem dX5_sumOf_7 : decode cX5_sumOf 7 = .ok (.aload_n 0, 1) := dk_42 (dk_at dksX5_sumOf_0 7 rfl rfl)
theorem dX5_sumOf_8 : decode cX5_sumOf 8 = .ok (.getfield 165, 3) := dk_180 0 165 (dk_at dksX5_sumOf_0 8 rfl rfl)
theorem dX5_sumOf_11 : decode cX5_sumOf 11 = .ok (.iload_n 1, 1) := dk_27 (dk_at dksX5_sumOf_0 11 rfl rfl)
theorem dX5_sumOf_12 : decode cX5_sumOf 12 = .ok (.iaload, 1) := dk_46 (dk_at dksX5_sumOf_0 12 rfl rfl)
theorem dX5_sumOf_13 : decode cX5_sumOf 13 = .ok (.aload_n 0, 1) := dk_42 (dk_at dksX5_sumOf_0 13 rfl rfl)
theorem dX5_sumOf_14 : decode cX5_sumOf 14 = .ok (.getfield 165, 3) := dk_180 0 165 (dk_at dksX5_sumOf_0 14 rfl rfl)
theorem dX5_sumOf_17 : decode cX5_sumOf 17 = .ok (.iload_n 1, 1) := dk_27 (dk_at dksX5_sumOf_0 17 rfl rfl)
theorem dX5_sumOf_18 : decode cX5_sumOf 18 = .ok (.iconst 1, 1) := dk_4 (dk_at dksX5_sumOf_0 18 rfl rfl)
theorem dX5_sumOf_19 : decode cX5_sumOf 19 = .ok (.iadd, 1) := dk_96 (dk_at dksX5_sumOf_0 19 rfl rfl)
theorem dX5_sumOf_20 : decode cX5_sumOf 20 = .ok (.iaload, 1) := dk_46 (dk_at dksX5_sumOf_0 20 rfl rfl)
theorem dX5_sumOf_21 : decode cX5_sumOf 21 = .ok (.if_icmp .ne 5, 3) := dk_160 0 5 (dk_at dksX5_sumOf_0 21 rfl rfl)
theorem dX5_sumOf_24 : decode cX5_sumOf 24 = .ok (.iconst (-1), 1) := dk_2 (dk_at dksX5_sumOf_1 0 rfl rfl)
theorem dX5_sumOf_25 : decode cX5_sumOf 25 = .ok (.ireturn, 1) := dk_172 (dk_at dksX5_sumOf_1 1 rfl rfl)
theorem dX5_sumOf_26 : decode cX5_sumOf 26 = .ok (.aload_n 0, 1) := dk_42 (dk_at dksX5_sumOf_1 2 rfl rfl)
theorem dX5_sumOf_27 : decode cX5_sumOf 27 = .ok (.iconst 1, 1) := dk_4 (dk_at dksX5_sumOf_1 3 rfl rfl)
theorem dX5_sumOf_28 : decode cX5_sumOf 28 = .ok (.putfield 326, 3) := dk_181 1 70 (dk_at dksX5_sumOf_1 4 rfl rfl)
theorem dX5_sumOf_31 : decode cX5_sumOf 31 = .ok (.aload_n 0, 1) := dk_42 (dk_at dksX5_sumOf_1 7 rfl rfl)
theorem dX5_sumOf_32 : decode cX5_sumOf 32 = .ok (.aload_n 0, 1) := dk_42 (dk_at dksX5_sumOf_1 8 rfl rfl)
theorem dX5_sumOf_33 : decode cX5_sumOf 33 = .ok (.getfield 165, 3) := dk_180 0 165 (dk_at dksX5_sumOf_1 9 rfl rfl)
theorem dX5_sumOf_36 : decode cX5_sumOf 36 = .ok (.iload_n 1, 1) := dk_27 (dk_at dksX5_sumOf_1 12 rfl rfl)
theorem dX5_sumOf_37 : decode cX5_sumOf 37 = .ok (.iaload, 1) := dk_46 (dk_at dksX5_sumOf_1 13 rfl rfl)
theorem dX5_sumOf_38 : decode cX5_sumOf 38 = .ok (.aload_n 0, 1) := dk_42 (dk_at dksX5_sumOf_1 14 rfl rfl)
theorem dX5_sumOf_39 : decode cX5_sumOf 39 = .ok (.getfield 165, 3) := dk_180 0 165 (dk_at dksX5_sumOf_1 15 rfl rfl)
theorem dX5_sumOf_42 : decode cX5_sumOf 42 = .ok (.iload_n 1, 1) := dk_27 (dk_at dksX5_sumOf_1 18 rfl rfl)
theorem dX5_sumOf_43 : decode cX5_sumOf 43 = .ok (.iconst 1, 1) := dk_4 (dk_at dksX5_sumOf_1 19 rfl rfl)
theorem dX5_sumOf_44 : decode cX5_sumOf 44 = .ok (.iadd, 1) := dk_96 (dk_at dksX5_sumOf_1 20 rfl rfl)
theorem dX5_sumOf_45 : decode cX5_sumOf 45 = .ok (.iaload, 1) := dk_46 (dk_at dksX5_sumOf_1 21 rfl rfl)
theorem dX5_sumOf_46 : decode cX5_sumOf 46 = .ok (.invokevirtual 412, 3) := dk_182 1 156 (dk_at dksX5_sumOf_2 0 rfl rfl)
theorem dX5_sumOf_49 : decode cX5_sumOf 49 = .ok (.aload_n 0, 1) := dk_42 (dk_at dksX5_sumOf_2 3 rfl rfl)
theorem dX5_sumOf_50 : decode cX5_sumOf 50 = .ok (.iconst 0, 1) := dk_3 (dk_at dksX5_sumOf_2 4 rfl rfl)
theorem dX5_sumOf_51 : decode cX5_sumOf 51 = .ok (.putfield 326, 3) := dk_181 1 70 (dk_at dksX5_sumOf_2 5 rfl rfl)
theorem dX5_sumOf_54 : decode cX5_sumOf 54 = .ok (.aload_n 0, 1) := dk_42 (dk_at dksX5_sumOf_2 8 rfl rfl)
theorem dX5_sumOf_55 : decode cX5_sumOf 55 = .ok (.aload_n 0, 1) := dk_42 (dk_at dksX5_sumOf_2 9 rfl rfl)
theorem dX5_sumOf_56 : decode cX5_sumOf 56 = .ok (.getfield 395, 3) := dk_180 1 139 (dk_at dksX5_sumOf_2 10 rfl rfl)
theorem dX5_sumOf_59 : decode cX5_sumOf 59 = .ok (.putfield 550, 3) := dk_181 2 38 (dk_at dksX5_sumOf_2 13 rfl rfl)
theorem dX5_sumOf_62 : decode cX5_sumOf 62 = .ok (.aload_n 0, 1) := dk_42 (dk_at dksX5_sumOf_2 16 rfl rfl)
theorem dX5_sumOf_63 : decode cX5_sumOf 63 = .ok (.getfield 409, 3) := dk_180 1 153 (dk_at dksX5_sumOf_2 17 rfl rfl)
theorem dX5_sumOf_66 : decode cX5_sumOf 66 = .ok (.l2i, 1) := dk_136 (dk_at dksX5_sumOf_2 20 rfl rfl)
theorem dX5_sumOf_67 : decode cX5_sumOf 67 = .ok (.ireturn, 1) := dk_172 (dk_at dksX5_sumOf_2 21 rfl rfl)
abbrev cX5_act : ByteArray := prog_22_method_116_code
def yX5_act : MethodName := ⟨RX5, "act", "(III)I"⟩
def dkwX5_act_3 : List UInt8 := [182, 1, 214, 172, 42, 182, 1, 226, 172]
abbrev dktX5_act_3 : List UInt8 := dkwX5_act_3 ++ []
def dkwX5_act_2 : List UInt8 := [42, 28, 29, 182, 1, 202, 172, 42, 28, 29, 182, 1, 208, 172, 42, 28, 29, 182, 1, 211, 172, 42, 28]
abbrev dktX5_act_2 : List UInt8 := dkwX5_act_2 ++ dktX5_act_3
def dkwX5_act_1 : List UInt8 := [170, 0, 0, 0, 0, 0, 58, 0, 0, 0, 0, 0, 0, 0, 3, 0, 0, 0, 31, 0, 0, 0, 38, 0, 0, 0, 45, 0, 0, 0, 52]
abbrev dktX5_act_1 : List UInt8 := dkwX5_act_1 ++ dktX5_act_2
def dkwX5_act_0 : List UInt8 := [27]
abbrev dktX5_act_0 : List UInt8 := dkwX5_act_0 ++ dktX5_act_1
theorem dksX5_act_0 : cX5_act.data.toList.drop 0 = dktX5_act_0 := by decide +kernel
theorem dksX5_act_1 : cX5_act.data.toList.drop 1 = dktX5_act_1 := dk_seg dksX5_act_0 1 rfl rfl
theorem dksX5_act_2 : cX5_act.data.toList.drop 32 = dktX5_act_2 := dk_seg dksX5_act_1 31 rfl rfl
theorem dksX5_act_3 : cX5_act.data.toList.drop 55 = dktX5_act_3 := dk_seg dksX5_act_2 23 rfl rfl
theorem dX5_act_0 : decode cX5_act 0 = .ok (.iload_n 1, 1) := dk_27 (dk_at dksX5_act_0 0 rfl rfl)
theorem dX5_act_1 : decode cX5_act 1 = .ok (.tableswitch 58 0 3 #[31, 38, 45, 52], 31) := by decide +kernel
theorem dX5_act_32 : decode cX5_act 32 = .ok (.aload_n 0, 1) := dk_42 (dk_at dksX5_act_2 0 rfl rfl)
theorem dX5_act_33 : decode cX5_act 33 = .ok (.iload_n 2, 1) := dk_28 (dk_at dksX5_act_2 1 rfl rfl)
theorem dX5_act_34 : decode cX5_act 34 = .ok (.iload_n 3, 1) := dk_29 (dk_at dksX5_act_2 2 rfl rfl)
theorem dX5_act_35 : decode cX5_act 35 = .ok (.invokevirtual 458, 3) := dk_182 1 202 (dk_at dksX5_act_2 3 rfl rfl)
theorem dX5_act_38 : decode cX5_act 38 = .ok (.ireturn, 1) := dk_172 (dk_at dksX5_act_2 6 rfl rfl)
theorem dX5_act_39 : decode cX5_act 39 = .ok (.aload_n 0, 1) := dk_42 (dk_at dksX5_act_2 7 rfl rfl)
theorem dX5_act_40 : decode cX5_act 40 = .ok (.iload_n 2, 1) := dk_28 (dk_at dksX5_act_2 8 rfl rfl)
theorem dX5_act_41 : decode cX5_act 41 = .ok (.iload_n 3, 1) := dk_29 (dk_at dksX5_act_2 9 rfl rfl)
theorem dX5_act_42 : decode cX5_act 42 = .ok (.invokevirtual 464, 3) := dk_182 1 208 (dk_at dksX5_act_2 10 rfl rfl)
theorem dX5_act_45 : decode cX5_act 45 = .ok (.ireturn, 1) := dk_172 (dk_at dksX5_act_2 13 rfl rfl)
theorem dX5_act_46 : decode cX5_act 46 = .ok (.aload_n 0, 1) := dk_42 (dk_at dksX5_act_2 14 rfl rfl)
theorem dX5_act_47 : decode cX5_act 47 = .ok (.iload_n 2, 1) := dk_28 (dk_at dksX5_act_2 15 rfl rfl)
theorem dX5_act_48 : decode cX5_act 48 = .ok (.iload_n 3, 1) := dk_29 (dk_at dksX5_act_2 16 rfl rfl)
theorem dX5_act_49 : decode cX5_act 49 = .ok (.invokevirtual 467, 3) := dk_182 1 211 (dk_at dksX5_act_2 17 rfl rfl)
theorem dX5_act_52 : decode cX5_act 52 = .ok (.ireturn, 1) := dk_172 (dk_at dksX5_act_2 20 rfl rfl)
theorem dX5_act_53 : decode cX5_act 53 = .ok (.aload_n 0, 1) := dk_42 (dk_at dksX5_act_2 21 rfl rfl)
theorem dX5_act_54 : decode cX5_act 54 = .ok (.iload_n 2, 1) := dk_28 (dk_at dksX5_act_2 22 rfl rfl)
theorem dX5_act_55 : decode cX5_act 55 = .ok (.invokevirtual 470, 3) := dk_182 1 214 (dk_at dksX5_act_3 0 rfl rfl)
theorem dX5_act_58 : decode cX5_act 58 = .ok (.ireturn, 1) := dk_172 (dk_at dksX5_act_3 3 rfl rfl)
theorem dX5_act_59 : decode cX5_act 59 = .ok (.aload_n 0, 1) := dk_42 (dk_at dksX5_act_3 4 rfl rfl)
theorem dX5_act_60 : decode cX5_act 60 = .ok (.invokevirtual 482, 3) := dk_182 1 226 (dk_at dksX5_act_3 5 rfl rfl)
theorem dX5_act_63 : decode cX5_act 63 = .ok (.ireturn, 1) := dk_172 (dk_at dksX5_act_3 8 rfl rfl)
abbrev cX5_giveBack : ByteArray := prog_22_method_119_code
def yX5_giveBack : MethodName := ⟨RX5, "giveBack", "(I)V"⟩
def dkwX5_giveBack_2 : List UInt8 := [180, 0, 32, 28, 46, 79, 132, 2, 1, 167, 255, 235, 42, 27, 181, 0, 180, 177]
abbrev dktX5_giveBack_2 : List UInt8 := dkwX5_giveBack_2 ++ []
def dkwX5_giveBack_1 : List UInt8 := [28, 46, 79, 132, 2, 1, 167, 255, 234, 3, 61, 28, 16, 16, 162, 0, 21, 42, 180, 0, 26, 28, 42]
abbrev dktX5_giveBack_1 : List UInt8 := dkwX5_giveBack_1 ++ dktX5_giveBack_2
def dkwX5_giveBack_0 : List UInt8 := [42, 16, 17, 182, 0, 191, 3, 61, 28, 17, 3, 80, 162, 0, 21, 42, 180, 0, 23, 28, 42, 180, 0, 29]
abbrev dktX5_giveBack_0 : List UInt8 := dkwX5_giveBack_0 ++ dktX5_giveBack_1
theorem dksX5_giveBack_0 : cX5_giveBack.data.toList.drop 0 = dktX5_giveBack_0 := by decide +kernel
theorem dksX5_giveBack_1 : cX5_giveBack.data.toList.drop 24 = dktX5_giveBack_1 := dk_seg dksX5_giveBack_0 24 rfl rfl
theorem dksX5_giveBack_2 : cX5_giveBack.data.toList.drop 47 = dktX5_giveBack_2 := dk_seg dksX5_giveBack_1 23 rfl rfl
theorem dX5_giveBack_0 : decode cX5_giveBack 0 = .ok (.aload_n 0, 1) := dk_42 (dk_at dksX5_giveBack_0 0 rfl rfl)
theorem dX5_giveBack_1 : decode cX5_giveBack 1 = .ok (.bipush 17, 2) := dk_16 17 (dk_at dksX5_giveBack_0 1 rfl rfl)
theorem dX5_giveBack_3 : decode cX5_giveBack 3 = .ok (.invokevirtual 191, 3) := dk_182 0 191 (dk_at dksX5_giveBack_0 3 rfl rfl)
theorem dX5_giveBack_6 : decode cX5_giveBack 6 = .ok (.iconst 0, 1) := dk_3 (dk_at dksX5_giveBack_0 6 rfl rfl)
theorem dX5_giveBack_7 : decode cX5_giveBack 7 = .ok (.istore_n 2, 1) := dk_61 (dk_at dksX5_giveBack_0 7 rfl rfl)
theorem dX5_giveBack_8 : decode cX5_giveBack 8 = .ok (.iload_n 2, 1) := dk_28 (dk_at dksX5_giveBack_0 8 rfl rfl)
theorem dX5_giveBack_9 : decode cX5_giveBack 9 = .ok (.sipush 848, 3) := dk_17 3 80 (dk_at dksX5_giveBack_0 9 rfl rfl)
theorem dX5_giveBack_12 : decode cX5_giveBack 12 = .ok (.if_icmp .ge 21, 3) := dk_162 0 21 (dk_at dksX5_giveBack_0 12 rfl rfl)
theorem dX5_giveBack_15 : decode cX5_giveBack 15 = .ok (.aload_n 0, 1) := dk_42 (dk_at dksX5_giveBack_0 15 rfl rfl)
theorem dX5_giveBack_16 : decode cX5_giveBack 16 = .ok (.getfield 23, 3) := dk_180 0 23 (dk_at dksX5_giveBack_0 16 rfl rfl)
theorem dX5_giveBack_19 : decode cX5_giveBack 19 = .ok (.iload_n 2, 1) := dk_28 (dk_at dksX5_giveBack_0 19 rfl rfl)
theorem dX5_giveBack_20 : decode cX5_giveBack 20 = .ok (.aload_n 0, 1) := dk_42 (dk_at dksX5_giveBack_0 20 rfl rfl)
theorem dX5_giveBack_21 : decode cX5_giveBack 21 = .ok (.getfield 29, 3) := dk_180 0 29 (dk_at dksX5_giveBack_0 21 rfl rfl)
theorem dX5_giveBack_24 : decode cX5_giveBack 24 = .ok (.iload_n 2, 1) := dk_28 (dk_at dksX5_giveBack_1 0 rfl rfl)
theorem dX5_giveBack_25 : decode cX5_giveBack 25 = .ok (.iaload, 1) := dk_46 (dk_at dksX5_giveBack_1 1 rfl rfl)
theorem dX5_giveBack_26 : decode cX5_giveBack 26 = .ok (.iastore, 1) := dk_79 (dk_at dksX5_giveBack_1 2 rfl rfl)
theorem dX5_giveBack_27 : decode cX5_giveBack 27 = .ok (.iinc 2 1, 3) := dk_132 2 1 (dk_at dksX5_giveBack_1 3 rfl rfl)
theorem dX5_giveBack_30 : decode cX5_giveBack 30 = .ok (.goto (-22), 3) := dk_167 255 234 (dk_at dksX5_giveBack_1 6 rfl rfl)
theorem dX5_giveBack_33 : decode cX5_giveBack 33 = .ok (.iconst 0, 1) := dk_3 (dk_at dksX5_giveBack_1 9 rfl rfl)
theorem dX5_giveBack_34 : decode cX5_giveBack 34 = .ok (.istore_n 2, 1) := dk_61 (dk_at dksX5_giveBack_1 10 rfl rfl)
theorem dX5_giveBack_35 : decode cX5_giveBack 35 = .ok (.iload_n 2, 1) := dk_28 (dk_at dksX5_giveBack_1 11 rfl rfl)
theorem dX5_giveBack_36 : decode cX5_giveBack 36 = .ok (.bipush 16, 2) := dk_16 16 (dk_at dksX5_giveBack_1 12 rfl rfl)
theorem dX5_giveBack_38 : decode cX5_giveBack 38 = .ok (.if_icmp .ge 21, 3) := dk_162 0 21 (dk_at dksX5_giveBack_1 14 rfl rfl)
theorem dX5_giveBack_41 : decode cX5_giveBack 41 = .ok (.aload_n 0, 1) := dk_42 (dk_at dksX5_giveBack_1 17 rfl rfl)
theorem dX5_giveBack_42 : decode cX5_giveBack 42 = .ok (.getfield 26, 3) := dk_180 0 26 (dk_at dksX5_giveBack_1 18 rfl rfl)
theorem dX5_giveBack_45 : decode cX5_giveBack 45 = .ok (.iload_n 2, 1) := dk_28 (dk_at dksX5_giveBack_1 21 rfl rfl)
theorem dX5_giveBack_46 : decode cX5_giveBack 46 = .ok (.aload_n 0, 1) := dk_42 (dk_at dksX5_giveBack_1 22 rfl rfl)
theorem dX5_giveBack_47 : decode cX5_giveBack 47 = .ok (.getfield 32, 3) := dk_180 0 32 (dk_at dksX5_giveBack_2 0 rfl rfl)
theorem dX5_giveBack_50 : decode cX5_giveBack 50 = .ok (.iload_n 2, 1) := dk_28 (dk_at dksX5_giveBack_2 3 rfl rfl)
theorem dX5_giveBack_51 : decode cX5_giveBack 51 = .ok (.iaload, 1) := dk_46 (dk_at dksX5_giveBack_2 4 rfl rfl)
theorem dX5_giveBack_52 : decode cX5_giveBack 52 = .ok (.iastore, 1) := dk_79 (dk_at dksX5_giveBack_2 5 rfl rfl)
theorem dX5_giveBack_53 : decode cX5_giveBack 53 = .ok (.iinc 2 1, 3) := dk_132 2 1 (dk_at dksX5_giveBack_2 6 rfl rfl)
theorem dX5_giveBack_56 : decode cX5_giveBack 56 = .ok (.goto (-21), 3) := dk_167 255 235 (dk_at dksX5_giveBack_2 9 rfl rfl)
theorem dX5_giveBack_59 : decode cX5_giveBack 59 = .ok (.aload_n 0, 1) := dk_42 (dk_at dksX5_giveBack_2 12 rfl rfl)
theorem dX5_giveBack_60 : decode cX5_giveBack 60 = .ok (.iload_n 1, 1) := dk_27 (dk_at dksX5_giveBack_2 13 rfl rfl)
theorem dX5_giveBack_61 : decode cX5_giveBack 61 = .ok (.putfield 180, 3) := dk_181 0 180 (dk_at dksX5_giveBack_2 14 rfl rfl)
theorem dX5_giveBack_64 : decode cX5_giveBack 64 = .ok (.return_, 1) := dk_177 (dk_at dksX5_giveBack_2 17 rfl rfl)
abbrev cX5_stopped : ByteArray := prog_22_method_120_code
def yX5_stopped : MethodName := ⟨RX5, "stopped", "()I"⟩
def dkwX5_stopped_0 : List UInt8 := [42, 3, 181, 0, 174, 42, 180, 0, 168, 172]
abbrev dktX5_stopped_0 : List UInt8 := dkwX5_stopped_0 ++ []
theorem dksX5_stopped_0 : cX5_stopped.data.toList.drop 0 = dktX5_stopped_0 := by decide +kernel
theorem dX5_stopped_0 : decode cX5_stopped 0 = .ok (.aload_n 0, 1) := dk_42 (dk_at dksX5_stopped_0 0 rfl rfl)
theorem dX5_stopped_1 : decode cX5_stopped 1 = .ok (.iconst 0, 1) := dk_3 (dk_at dksX5_stopped_0 1 rfl rfl)
theorem dX5_stopped_2 : decode cX5_stopped 2 = .ok (.putfield 174, 3) := dk_181 0 174 (dk_at dksX5_stopped_0 2 rfl rfl)
theorem dX5_stopped_5 : decode cX5_stopped 5 = .ok (.aload_n 0, 1) := dk_42 (dk_at dksX5_stopped_0 5 rfl rfl)
theorem dX5_stopped_6 : decode cX5_stopped 6 = .ok (.getfield 168, 3) := dk_180 0 168 (dk_at dksX5_stopped_0 6 rfl rfl)
theorem dX5_stopped_9 : decode cX5_stopped 9 = .ok (.ireturn, 1) := dk_172 (dk_at dksX5_stopped_0 9 rfl rfl)
abbrev cX5_decade : ByteArray := prog_22_method_122_code
def yX5_decade : MethodName := ⟨RX5, "decade", "(II)I"⟩
def dkwX5_decade_7 : List UInt8 := [46, 79, 132, 4, 1, 167, 255, 206, 42, 16, 16, 182, 0, 191, 42, 29, 182, 0, 183, 172]
abbrev dktX5_decade_7 : List UInt8 := dkwX5_decade_7 ++ []
def dkwX5_decade_6 : List UInt8 := [21, 4, 96, 46, 79, 42, 180, 0, 171, 5, 21, 4, 104, 4, 96, 42, 180, 0, 13, 16, 24, 21, 4, 96]
abbrev dktX5_decade_6 : List UInt8 := dkwX5_decade_6 ++ dktX5_decade_7
def dkwX5_decade_5 : List UInt8 := [54, 4, 21, 4, 16, 16, 162, 0, 49, 42, 180, 0, 171, 5, 21, 4, 104, 42, 180, 0, 13, 16, 8]
abbrev dktX5_decade_5 : List UInt8 := dkwX5_decade_5 ++ dktX5_decade_6
def dkwX5_decade_4 : List UInt8 := [162, 0, 9, 42, 21, 5, 182, 1, 205, 29, 42, 182, 1, 223, 96, 62, 132, 4, 1, 167, 255, 201, 3]
abbrev dktX5_decade_4 : List UInt8 := dkwX5_decade_4 ++ dktX5_decade_5
def dkwX5_decade_3 : List UInt8 := [162, 0, 44, 42, 16, 16, 182, 2, 78, 54, 5, 42, 16, 10, 182, 2, 78, 42, 6, 182, 1, 162]
abbrev dktX5_decade_3 : List UInt8 := dkwX5_decade_3 ++ dktX5_decade_4
def dkwX5_decade_2 : List UInt8 := [42, 4, 181, 2, 75, 3, 62, 3, 54, 4, 21, 4, 28, 162, 0, 55, 42, 3, 182, 1, 162, 17, 3, 231]
abbrev dktX5_decade_2 : List UInt8 := dkwX5_decade_2 ++ dktX5_decade_3
def dkwX5_decade_1 : List UInt8 := [184, 0, 194, 154, 0, 9, 42, 2, 182, 0, 183, 172, 42, 16, 16, 182, 0, 187, 42, 27, 133, 181, 2, 66]
abbrev dktX5_decade_1 : List UInt8 := dkwX5_decade_1 ++ dktX5_decade_2
def dkwX5_decade_0 : List UInt8 := [42, 3, 181, 0, 174, 27, 133, 9, 20, 1, 22, 184, 0, 194, 153, 0, 15, 28, 133, 10, 20, 1, 229]
abbrev dktX5_decade_0 : List UInt8 := dkwX5_decade_0 ++ dktX5_decade_1
theorem dksX5_decade_0 : cX5_decade.data.toList.drop 0 = dktX5_decade_0 := by decide +kernel
theorem dksX5_decade_1 : cX5_decade.data.toList.drop 23 = dktX5_decade_1 := dk_seg dksX5_decade_0 23 rfl rfl
theorem dksX5_decade_2 : cX5_decade.data.toList.drop 47 = dktX5_decade_2 := dk_seg dksX5_decade_1 24 rfl rfl
theorem dksX5_decade_3 : cX5_decade.data.toList.drop 71 = dktX5_decade_3 := dk_seg dksX5_decade_2 24 rfl rfl
theorem dksX5_decade_4 : cX5_decade.data.toList.drop 93 = dktX5_decade_4 := dk_seg dksX5_decade_3 22 rfl rfl
theorem dksX5_decade_5 : cX5_decade.data.toList.drop 116 = dktX5_decade_5 := dk_seg dksX5_decade_4 23 rfl rfl
theorem dksX5_decade_6 : cX5_decade.data.toList.drop 139 = dktX5_decade_6 := dk_seg dksX5_decade_5 23 rfl rfl
theorem dksX5_decade_7 : cX5_decade.data.toList.drop 163 = dktX5_decade_7 := dk_seg dksX5_decade_6 24 rfl rfl
theorem dX5_decade_0 : decode cX5_decade 0 = .ok (.aload_n 0, 1) := dk_42 (dk_at dksX5_decade_0 0 rfl rfl)
theorem dX5_decade_1 : decode cX5_decade 1 = .ok (.iconst 0, 1) := dk_3 (dk_at dksX5_decade_0 1 rfl rfl)
theorem dX5_decade_2 : decode cX5_decade 2 = .ok (.putfield 174, 3) := dk_181 0 174 (dk_at dksX5_decade_0 2 rfl rfl)
theorem dX5_decade_5 : decode cX5_decade 5 = .ok (.iload_n 1, 1) := dk_27 (dk_at dksX5_decade_0 5 rfl rfl)
theorem dX5_decade_6 : decode cX5_decade 6 = .ok (.i2l, 1) := dk_133 (dk_at dksX5_decade_0 6 rfl rfl)
theorem dX5_decade_7 : decode cX5_decade 7 = .ok (.lconst 0, 1) := dk_9 (dk_at dksX5_decade_0 7 rfl rfl)
theorem dX5_decade_8 : decode cX5_decade 8 = .ok (.ldc2_w 278, 3) := dk_20 1 22 (dk_at dksX5_decade_0 8 rfl rfl)
theorem dX5_decade_11 : decode cX5_decade 11 = .ok (.invokestatic 194, 3) := dk_184 0 194 (dk_at dksX5_decade_0 11 rfl rfl)
theorem dX5_decade_14 : decode cX5_decade 14 = .ok (.ifCond .eq 15, 3) := dk_153 0 15 (dk_at dksX5_decade_0 14 rfl rfl)
theorem dX5_decade_17 : decode cX5_decade 17 = .ok (.iload_n 2, 1) := dk_28 (dk_at dksX5_decade_0 17 rfl rfl)
theorem dX5_decade_18 : decode cX5_decade 18 = .ok (.i2l, 1) := dk_133 (dk_at dksX5_decade_0 18 rfl rfl)
theorem dX5_decade_19 : decode cX5_decade 19 = .ok (.lconst 1, 1) := dk_10 (dk_at dksX5_decade_0 19 rfl rfl)
theorem dX5_decade_20 : decode cX5_decade 20 = .ok (.ldc2_w 485, 3) := dk_20 1 229 (dk_at dksX5_decade_0 20 rfl rfl)
theorem dX5_decade_23 : decode cX5_decade 23 = .ok (.invokestatic 194, 3) := dk_184 0 194 (dk_at dksX5_decade_1 0 rfl rfl)
theorem dX5_decade_26 : decode cX5_decade 26 = .ok (.ifCond .ne 9, 3) := dk_154 0 9 (dk_at dksX5_decade_1 3 rfl rfl)
theorem dX5_decade_29 : decode cX5_decade 29 = .ok (.aload_n 0, 1) := dk_42 (dk_at dksX5_decade_1 6 rfl rfl)
theorem dX5_decade_30 : decode cX5_decade 30 = .ok (.iconst (-1), 1) := dk_2 (dk_at dksX5_decade_1 7 rfl rfl)
theorem dX5_decade_31 : decode cX5_decade 31 = .ok (.invokevirtual 183, 3) := dk_182 0 183 (dk_at dksX5_decade_1 8 rfl rfl)
theorem dX5_decade_34 : decode cX5_decade 34 = .ok (.ireturn, 1) := dk_172 (dk_at dksX5_decade_1 11 rfl rfl)
theorem dX5_decade_35 : decode cX5_decade 35 = .ok (.aload_n 0, 1) := dk_42 (dk_at dksX5_decade_1 12 rfl rfl)
theorem dX5_decade_36 : decode cX5_decade 36 = .ok (.bipush 16, 2) := dk_16 16 (dk_at dksX5_decade_1 13 rfl rfl)
theorem dX5_decade_38 : decode cX5_decade 38 = .ok (.invokevirtual 187, 3) := dk_182 0 187 (dk_at dksX5_decade_1 15 rfl rfl)
theorem dX5_decade_41 : decode cX5_decade 41 = .ok (.aload_n 0, 1) := dk_42 (dk_at dksX5_decade_1 18 rfl rfl)
theorem dX5_decade_42 : decode cX5_decade 42 = .ok (.iload_n 1, 1) := dk_27 (dk_at dksX5_decade_1 19 rfl rfl)
theorem dX5_decade_43 : decode cX5_decade 43 = .ok (.i2l, 1) := dk_133 (dk_at dksX5_decade_1 20 rfl rfl)
theorem dX5_decade_44 : decode cX5_decade 44 = .ok (.putfield 578, 3) := dk_181 2 66 (dk_at dksX5_decade_1 21 rfl rfl)
theorem dX5_decade_47 : decode cX5_decade 47 = .ok (.aload_n 0, 1) := dk_42 (dk_at dksX5_decade_2 0 rfl rfl)
theorem dX5_decade_48 : decode cX5_decade 48 = .ok (.iconst 1, 1) := dk_4 (dk_at dksX5_decade_2 1 rfl rfl)
theorem dX5_decade_49 : decode cX5_decade 49 = .ok (.putfield 587, 3) := dk_181 2 75 (dk_at dksX5_decade_2 2 rfl rfl)
theorem dX5_decade_52 : decode cX5_decade 52 = .ok (.iconst 0, 1) := dk_3 (dk_at dksX5_decade_2 5 rfl rfl)
theorem dX5_decade_53 : decode cX5_decade 53 = .ok (.istore_n 3, 1) := dk_62 (dk_at dksX5_decade_2 6 rfl rfl)
theorem dX5_decade_54 : decode cX5_decade 54 = .ok (.iconst 0, 1) := dk_3 (dk_at dksX5_decade_2 7 rfl rfl)
theorem dX5_decade_55 : decode cX5_decade 55 = .ok (.istore 4, 2) := dk_54 4 (dk_at dksX5_decade_2 8 rfl rfl)
theorem dX5_decade_57 : decode cX5_decade 57 = .ok (.iload 4, 2) := dk_21 4 (dk_at dksX5_decade_2 10 rfl rfl)
theorem dX5_decade_59 : decode cX5_decade 59 = .ok (.iload_n 2, 1) := dk_28 (dk_at dksX5_decade_2 12 rfl rfl)
theorem dX5_decade_60 : decode cX5_decade 60 = .ok (.if_icmp .ge 55, 3) := dk_162 0 55 (dk_at dksX5_decade_2 13 rfl rfl)
theorem dX5_decade_63 : decode cX5_decade 63 = .ok (.aload_n 0, 1) := dk_42 (dk_at dksX5_decade_2 16 rfl rfl)
theorem dX5_decade_64 : decode cX5_decade 64 = .ok (.iconst 0, 1) := dk_3 (dk_at dksX5_decade_2 17 rfl rfl)
theorem dX5_decade_65 : decode cX5_decade 65 = .ok (.invokevirtual 418, 3) := dk_182 1 162 (dk_at dksX5_decade_2 18 rfl rfl)
theorem dX5_decade_68 : decode cX5_decade 68 = .ok (.sipush 999, 3) := dk_17 3 231 (dk_at dksX5_decade_2 21 rfl rfl)
theorem dX5_decade_71 : decode cX5_decade 71 = .ok (.if_icmp .ge 44, 3) := dk_162 0 44 (dk_at dksX5_decade_3 0 rfl rfl)
theorem dX5_decade_74 : decode cX5_decade 74 = .ok (.aload_n 0, 1) := dk_42 (dk_at dksX5_decade_3 3 rfl rfl)
theorem dX5_decade_75 : decode cX5_decade 75 = .ok (.bipush 16, 2) := dk_16 16 (dk_at dksX5_decade_3 4 rfl rfl)
theorem dX5_decade_77 : decode cX5_decade 77 = .ok (.invokevirtual 590, 3) := dk_182 2 78 (dk_at dksX5_decade_3 6 rfl rfl)
theorem dX5_decade_80 : decode cX5_decade 80 = .ok (.istore 5, 2) := dk_54 5 (dk_at dksX5_decade_3 9 rfl rfl)
theorem dX5_decade_82 : decode cX5_decade 82 = .ok (.aload_n 0, 1) := dk_42 (dk_at dksX5_decade_3 11 rfl rfl)
theorem dX5_decade_83 : decode cX5_decade 83 = .ok (.bipush 10, 2) := dk_16 10 (dk_at dksX5_decade_3 12 rfl rfl)
theorem dX5_decade_85 : decode cX5_decade 85 = .ok (.invokevirtual 590, 3) := dk_182 2 78 (dk_at dksX5_decade_3 14 rfl rfl)
theorem dX5_decade_88 : decode cX5_decade 88 = .ok (.aload_n 0, 1) := dk_42 (dk_at dksX5_decade_3 17 rfl rfl)
theorem dX5_decade_89 : decode cX5_decade 89 = .ok (.iconst 3, 1) := dk_6 (dk_at dksX5_decade_3 18 rfl rfl)
theorem dX5_decade_90 : decode cX5_decade 90 = .ok (.invokevirtual 418, 3) := dk_182 1 162 (dk_at dksX5_decade_3 19 rfl rfl)
theorem dX5_decade_93 : decode cX5_decade 93 = .ok (.if_icmp .ge 9, 3) := dk_162 0 9 (dk_at dksX5_decade_4 0 rfl rfl)
theorem dX5_decade_96 : decode cX5_decade 96 = .ok (.aload_n 0, 1) := dk_42 (dk_at dksX5_decade_4 3 rfl rfl)
theorem dX5_decade_97 : decode cX5_decade 97 = .ok (.iload 5, 2) := dk_21 5 (dk_at dksX5_decade_4 4 rfl rfl)
theorem dX5_decade_99 : decode cX5_decade 99 = .ok (.invokevirtual 461, 3) := dk_182 1 205 (dk_at dksX5_decade_4 6 rfl rfl)
theorem dX5_decade_102 : decode cX5_decade 102 = .ok (.iload_n 3, 1) := dk_29 (dk_at dksX5_decade_4 9 rfl rfl)
theorem dX5_decade_103 : decode cX5_decade 103 = .ok (.aload_n 0, 1) := dk_42 (dk_at dksX5_decade_4 10 rfl rfl)
theorem dX5_decade_104 : decode cX5_decade 104 = .ok (.invokevirtual 479, 3) := dk_182 1 223 (dk_at dksX5_decade_4 11 rfl rfl)
theorem dX5_decade_107 : decode cX5_decade 107 = .ok (.iadd, 1) := dk_96 (dk_at dksX5_decade_4 14 rfl rfl)
theorem dX5_decade_108 : decode cX5_decade 108 = .ok (.istore_n 3, 1) := dk_62 (dk_at dksX5_decade_4 15 rfl rfl)
theorem dX5_decade_109 : decode cX5_decade 109 = .ok (.iinc 4 1, 3) := dk_132 4 1 (dk_at dksX5_decade_4 16 rfl rfl)
theorem dX5_decade_112 : decode cX5_decade 112 = .ok (.goto (-55), 3) := dk_167 255 201 (dk_at dksX5_decade_4 19 rfl rfl)
theorem dX5_decade_115 : decode cX5_decade 115 = .ok (.iconst 0, 1) := dk_3 (dk_at dksX5_decade_4 22 rfl rfl)
theorem dX5_decade_116 : decode cX5_decade 116 = .ok (.istore 4, 2) := dk_54 4 (dk_at dksX5_decade_5 0 rfl rfl)
theorem dX5_decade_118 : decode cX5_decade 118 = .ok (.iload 4, 2) := dk_21 4 (dk_at dksX5_decade_5 2 rfl rfl)
theorem dX5_decade_120 : decode cX5_decade 120 = .ok (.bipush 16, 2) := dk_16 16 (dk_at dksX5_decade_5 4 rfl rfl)
theorem dX5_decade_122 : decode cX5_decade 122 = .ok (.if_icmp .ge 49, 3) := dk_162 0 49 (dk_at dksX5_decade_5 6 rfl rfl)
theorem dX5_decade_125 : decode cX5_decade 125 = .ok (.aload_n 0, 1) := dk_42 (dk_at dksX5_decade_5 9 rfl rfl)
theorem dX5_decade_126 : decode cX5_decade 126 = .ok (.getfield 171, 3) := dk_180 0 171 (dk_at dksX5_decade_5 10 rfl rfl)
theorem dX5_decade_129 : decode cX5_decade 129 = .ok (.iconst 2, 1) := dk_5 (dk_at dksX5_decade_5 13 rfl rfl)
theorem dX5_decade_130 : decode cX5_decade 130 = .ok (.iload 4, 2) := dk_21 4 (dk_at dksX5_decade_5 14 rfl rfl)
theorem dX5_decade_132 : decode cX5_decade 132 = .ok (.imul, 1) := dk_104 (dk_at dksX5_decade_5 16 rfl rfl)
theorem dX5_decade_133 : decode cX5_decade 133 = .ok (.aload_n 0, 1) := dk_42 (dk_at dksX5_decade_5 17 rfl rfl)
theorem dX5_decade_134 : decode cX5_decade 134 = .ok (.getfield 13, 3) := dk_180 0 13 (dk_at dksX5_decade_5 18 rfl rfl)
theorem dX5_decade_137 : decode cX5_decade 137 = .ok (.bipush 8, 2) := dk_16 8 (dk_at dksX5_decade_5 21 rfl rfl)
theorem dX5_decade_139 : decode cX5_decade 139 = .ok (.iload 4, 2) := dk_21 4 (dk_at dksX5_decade_6 0 rfl rfl)
theorem dX5_decade_141 : decode cX5_decade 141 = .ok (.iadd, 1) := dk_96 (dk_at dksX5_decade_6 2 rfl rfl)
theorem dX5_decade_142 : decode cX5_decade 142 = .ok (.iaload, 1) := dk_46 (dk_at dksX5_decade_6 3 rfl rfl)
theorem dX5_decade_143 : decode cX5_decade 143 = .ok (.iastore, 1) := dk_79 (dk_at dksX5_decade_6 4 rfl rfl)
theorem dX5_decade_144 : decode cX5_decade 144 = .ok (.aload_n 0, 1) := dk_42 (dk_at dksX5_decade_6 5 rfl rfl)
theorem dX5_decade_145 : decode cX5_decade 145 = .ok (.getfield 171, 3) := dk_180 0 171 (dk_at dksX5_decade_6 6 rfl rfl)
theorem dX5_decade_148 : decode cX5_decade 148 = .ok (.iconst 2, 1) := dk_5 (dk_at dksX5_decade_6 9 rfl rfl)
theorem dX5_decade_149 : decode cX5_decade 149 = .ok (.iload 4, 2) := dk_21 4 (dk_at dksX5_decade_6 10 rfl rfl)
theorem dX5_decade_151 : decode cX5_decade 151 = .ok (.imul, 1) := dk_104 (dk_at dksX5_decade_6 12 rfl rfl)
theorem dX5_decade_152 : decode cX5_decade 152 = .ok (.iconst 1, 1) := dk_4 (dk_at dksX5_decade_6 13 rfl rfl)
theorem dX5_decade_153 : decode cX5_decade 153 = .ok (.iadd, 1) := dk_96 (dk_at dksX5_decade_6 14 rfl rfl)
theorem dX5_decade_154 : decode cX5_decade 154 = .ok (.aload_n 0, 1) := dk_42 (dk_at dksX5_decade_6 15 rfl rfl)
theorem dX5_decade_155 : decode cX5_decade 155 = .ok (.getfield 13, 3) := dk_180 0 13 (dk_at dksX5_decade_6 16 rfl rfl)
theorem dX5_decade_158 : decode cX5_decade 158 = .ok (.bipush 24, 2) := dk_16 24 (dk_at dksX5_decade_6 19 rfl rfl)
theorem dX5_decade_160 : decode cX5_decade 160 = .ok (.iload 4, 2) := dk_21 4 (dk_at dksX5_decade_6 21 rfl rfl)
theorem dX5_decade_162 : decode cX5_decade 162 = .ok (.iadd, 1) := dk_96 (dk_at dksX5_decade_6 23 rfl rfl)
theorem dX5_decade_163 : decode cX5_decade 163 = .ok (.iaload, 1) := dk_46 (dk_at dksX5_decade_7 0 rfl rfl)
theorem dX5_decade_164 : decode cX5_decade 164 = .ok (.iastore, 1) := dk_79 (dk_at dksX5_decade_7 1 rfl rfl)
theorem dX5_decade_165 : decode cX5_decade 165 = .ok (.iinc 4 1, 3) := dk_132 4 1 (dk_at dksX5_decade_7 2 rfl rfl)
theorem dX5_decade_168 : decode cX5_decade 168 = .ok (.goto (-50), 3) := dk_167 255 206 (dk_at dksX5_decade_7 5 rfl rfl)
theorem dX5_decade_171 : decode cX5_decade 171 = .ok (.aload_n 0, 1) := dk_42 (dk_at dksX5_decade_7 8 rfl rfl)
theorem dX5_decade_172 : decode cX5_decade 172 = .ok (.bipush 16, 2) := dk_16 16 (dk_at dksX5_decade_7 9 rfl rfl)
theorem dX5_decade_174 : decode cX5_decade 174 = .ok (.invokevirtual 191, 3) := dk_182 0 191 (dk_at dksX5_decade_7 11 rfl rfl)
theorem dX5_decade_177 : decode cX5_decade 177 = .ok (.aload_n 0, 1) := dk_42 (dk_at dksX5_decade_7 14 rfl rfl)
theorem dX5_decade_178 : decode cX5_decade 178 = .ok (.iload_n 3, 1) := dk_29 (dk_at dksX5_decade_7 15 rfl rfl)
theorem dX5_decade_179 : decode cX5_decade 179 = .ok (.invokevirtual 183, 3) := dk_182 0 183 (dk_at dksX5_decade_7 16 rfl rfl)
theorem dX5_decade_182 : decode cX5_decade 182 = .ok (.ireturn, 1) := dk_172 (dk_at dksX5_decade_7 19 rfl rfl)
abbrev cX5_draw : ByteArray := prog_22_method_121_code
def yX5_draw : MethodName := ⟨RX5, "draw", "(I)I"⟩
def dkwX5_draw_1 : List UInt8 := [27, 133, 113, 136, 172]
abbrev dktX5_draw_1 : List UInt8 := dkwX5_draw_1 ++ []
def dkwX5_draw_0 : List UInt8 := [42, 42, 180, 2, 66, 20, 2, 69, 105, 20, 2, 71, 97, 20, 2, 73, 113, 181, 2, 66, 42, 180, 2, 66]
abbrev dktX5_draw_0 : List UInt8 := dkwX5_draw_0 ++ dktX5_draw_1
theorem dksX5_draw_0 : cX5_draw.data.toList.drop 0 = dktX5_draw_0 := by decide +kernel
theorem dksX5_draw_1 : cX5_draw.data.toList.drop 24 = dktX5_draw_1 := dk_seg dksX5_draw_0 24 rfl rfl
theorem dX5_draw_0 : decode cX5_draw 0 = .ok (.aload_n 0, 1) := dk_42 (dk_at dksX5_draw_0 0 rfl rfl)
theorem dX5_draw_1 : decode cX5_draw 1 = .ok (.aload_n 0, 1) := dk_42 (dk_at dksX5_draw_0 1 rfl rfl)
theorem dX5_draw_2 : decode cX5_draw 2 = .ok (.getfield 578, 3) := dk_180 2 66 (dk_at dksX5_draw_0 2 rfl rfl)
theorem dX5_draw_5 : decode cX5_draw 5 = .ok (.ldc2_w 581, 3) := dk_20 2 69 (dk_at dksX5_draw_0 5 rfl rfl)
theorem dX5_draw_8 : decode cX5_draw 8 = .ok (.lmul, 1) := dk_105 (dk_at dksX5_draw_0 8 rfl rfl)
theorem dX5_draw_9 : decode cX5_draw 9 = .ok (.ldc2_w 583, 3) := dk_20 2 71 (dk_at dksX5_draw_0 9 rfl rfl)
theorem dX5_draw_12 : decode cX5_draw 12 = .ok (.ladd, 1) := dk_97 (dk_at dksX5_draw_0 12 rfl rfl)
theorem dX5_draw_13 : decode cX5_draw 13 = .ok (.ldc2_w 585, 3) := dk_20 2 73 (dk_at dksX5_draw_0 13 rfl rfl)
theorem dX5_draw_16 : decode cX5_draw 16 = .ok (.lrem, 1) := dk_113 (dk_at dksX5_draw_0 16 rfl rfl)
theorem dX5_draw_17 : decode cX5_draw 17 = .ok (.putfield 578, 3) := dk_181 2 66 (dk_at dksX5_draw_0 17 rfl rfl)
theorem dX5_draw_20 : decode cX5_draw 20 = .ok (.aload_n 0, 1) := dk_42 (dk_at dksX5_draw_0 20 rfl rfl)
theorem dX5_draw_21 : decode cX5_draw 21 = .ok (.getfield 578, 3) := dk_180 2 66 (dk_at dksX5_draw_0 21 rfl rfl)
theorem dX5_draw_24 : decode cX5_draw 24 = .ok (.iload_n 1, 1) := dk_27 (dk_at dksX5_draw_1 0 rfl rfl)
theorem dX5_draw_25 : decode cX5_draw 25 = .ok (.i2l, 1) := dk_133 (dk_at dksX5_draw_1 1 rfl rfl)
theorem dX5_draw_26 : decode cX5_draw 26 = .ok (.lrem, 1) := dk_113 (dk_at dksX5_draw_1 2 rfl rfl)
theorem dX5_draw_27 : decode cX5_draw 27 = .ok (.l2i, 1) := dk_136 (dk_at dksX5_draw_1 3 rfl rfl)
theorem dX5_draw_28 : decode cX5_draw 28 = .ok (.ireturn, 1) := dk_172 (dk_at dksX5_draw_1 4 rfl rfl)
abbrev cX5_drawn : ByteArray := prog_22_method_123_code
def yX5_drawn : MethodName := ⟨RX5, "drawn", "(II)I"⟩
def dkwX5_drawn_1 : List UInt8 := [184, 0, 194, 153, 0, 16, 42, 180, 0, 171, 5, 27, 104, 28, 96, 46, 167, 0, 4, 2, 172]
abbrev dktX5_drawn_1 : List UInt8 := dkwX5_drawn_1 ++ []
def dkwX5_drawn_0 : List UInt8 := [42, 3, 181, 0, 174, 42, 180, 2, 75, 153, 0, 33, 27, 184, 0, 205, 153, 0, 26, 28, 133, 9, 10]
abbrev dktX5_drawn_0 : List UInt8 := dkwX5_drawn_0 ++ dktX5_drawn_1
theorem dksX5_drawn_0 : cX5_drawn.data.toList.drop 0 = dktX5_drawn_0 := by decide +kernel
theorem dksX5_drawn_1 : cX5_drawn.data.toList.drop 23 = dktX5_drawn_1 := dk_seg dksX5_drawn_0 23 rfl rfl
theorem dX5_drawn_0 : decode cX5_drawn 0 = .ok (.aload_n 0, 1) := dk_42 (dk_at dksX5_drawn_0 0 rfl rfl)
theorem dX5_drawn_1 : decode cX5_drawn 1 = .ok (.iconst 0, 1) := dk_3 (dk_at dksX5_drawn_0 1 rfl rfl)
theorem dX5_drawn_2 : decode cX5_drawn 2 = .ok (.putfield 174, 3) := dk_181 0 174 (dk_at dksX5_drawn_0 2 rfl rfl)
theorem dX5_drawn_5 : decode cX5_drawn 5 = .ok (.aload_n 0, 1) := dk_42 (dk_at dksX5_drawn_0 5 rfl rfl)
theorem dX5_drawn_6 : decode cX5_drawn 6 = .ok (.getfield 587, 3) := dk_180 2 75 (dk_at dksX5_drawn_0 6 rfl rfl)
theorem dX5_drawn_9 : decode cX5_drawn 9 = .ok (.ifCond .eq 33, 3) := dk_153 0 33 (dk_at dksX5_drawn_0 9 rfl rfl)
theorem dX5_drawn_12 : decode cX5_drawn 12 = .ok (.iload_n 1, 1) := dk_27 (dk_at dksX5_drawn_0 12 rfl rfl)
theorem dX5_drawn_13 : decode cX5_drawn 13 = .ok (.invokestatic 205, 3) := dk_184 0 205 (dk_at dksX5_drawn_0 13 rfl rfl)
theorem dX5_drawn_16 : decode cX5_drawn 16 = .ok (.ifCond .eq 26, 3) := dk_153 0 26 (dk_at dksX5_drawn_0 16 rfl rfl)
theorem dX5_drawn_19 : decode cX5_drawn 19 = .ok (.iload_n 2, 1) := dk_28 (dk_at dksX5_drawn_0 19 rfl rfl)
theorem dX5_drawn_20 : decode cX5_drawn 20 = .ok (.i2l, 1) := dk_133 (dk_at dksX5_drawn_0 20 rfl rfl)
theorem dX5_drawn_21 : decode cX5_drawn 21 = .ok (.lconst 0, 1) := dk_9 (dk_at dksX5_drawn_0 21 rfl rfl)
theorem dX5_drawn_22 : decode cX5_drawn 22 = .ok (.lconst 1, 1) := dk_10 (dk_at dksX5_drawn_0 22 rfl rfl)
theorem dX5_drawn_23 : decode cX5_drawn 23 = .ok (.invokestatic 194, 3) := dk_184 0 194 (dk_at dksX5_drawn_1 0 rfl rfl)
theorem dX5_drawn_26 : decode cX5_drawn 26 = .ok (.ifCond .eq 16, 3) := dk_153 0 16 (dk_at dksX5_drawn_1 3 rfl rfl)
theorem dX5_drawn_29 : decode cX5_drawn 29 = .ok (.aload_n 0, 1) := dk_42 (dk_at dksX5_drawn_1 6 rfl rfl)
theorem dX5_drawn_30 : decode cX5_drawn 30 = .ok (.getfield 171, 3) := dk_180 0 171 (dk_at dksX5_drawn_1 7 rfl rfl)
theorem dX5_drawn_33 : decode cX5_drawn 33 = .ok (.iconst 2, 1) := dk_5 (dk_at dksX5_drawn_1 10 rfl rfl)
theorem dX5_drawn_34 : decode cX5_drawn 34 = .ok (.iload_n 1, 1) := dk_27 (dk_at dksX5_drawn_1 11 rfl rfl)
theorem dX5_drawn_35 : decode cX5_drawn 35 = .ok (.imul, 1) := dk_104 (dk_at dksX5_drawn_1 12 rfl rfl)
theorem dX5_drawn_36 : decode cX5_drawn 36 = .ok (.iload_n 2, 1) := dk_28 (dk_at dksX5_drawn_1 13 rfl rfl)
theorem dX5_drawn_37 : decode cX5_drawn 37 = .ok (.iadd, 1) := dk_96 (dk_at dksX5_drawn_1 14 rfl rfl)
theorem dX5_drawn_38 : decode cX5_drawn 38 = .ok (.iaload, 1) := dk_46 (dk_at dksX5_drawn_1 15 rfl rfl)
theorem dX5_drawn_39 : decode cX5_drawn 39 = .ok (.goto 4, 3) := dk_167 0 4 (dk_at dksX5_drawn_1 16 rfl rfl)
theorem dX5_drawn_42 : decode cX5_drawn 42 = .ok (.iconst (-1), 1) := dk_2 (dk_at dksX5_drawn_1 19 rfl rfl)
theorem dX5_drawn_43 : decode cX5_drawn 43 = .ok (.ireturn, 1) := dk_172 (dk_at dksX5_drawn_1 20 rfl rfl)
abbrev cX5_count : ByteArray := prog_22_method_124_code
def yX5_count : MethodName := ⟨RX5, "count", "(I)I"⟩
def dkwX5_count_6 : List UInt8 := [153, 0, 17, 42, 180, 0, 13, 6, 27, 96, 16, 13, 100, 46, 167, 0, 4, 2, 172]
abbrev dktX5_count_6 : List UInt8 := dkwX5_count_6 ++ []
def dkwX5_count_5 : List UInt8 := [16, 6, 46, 172, 42, 180, 0, 13, 5, 46, 172, 27, 133, 20, 2, 81, 20, 2, 83, 184, 0, 194]
abbrev dktX5_count_5 : List UInt8 := dkwX5_count_5 ++ dktX5_count_6
def dkwX5_count_4 : List UInt8 := [180, 0, 7, 5, 46, 172, 42, 180, 0, 7, 6, 46, 172, 42, 180, 0, 7, 8, 46, 172, 42, 180, 0, 7]
abbrev dktX5_count_4 : List UInt8 := dkwX5_count_4 ++ dktX5_count_5
def dkwX5_count_3 : List UInt8 := [180, 0, 13, 4, 46, 172, 42, 180, 0, 180, 172, 42, 180, 0, 237, 172, 42, 180, 0, 7, 4, 46, 172, 42]
abbrev dktX5_count_3 : List UInt8 := dkwX5_count_3 ++ dktX5_count_4
def dkwX5_count_2 : List UInt8 := [42, 182, 2, 41, 172, 42, 182, 1, 231, 172, 42, 182, 1, 234, 172, 42, 180, 0, 13, 3, 46, 172, 42]
abbrev dktX5_count_2 : List UInt8 := dkwX5_count_2 ++ dktX5_count_3
def dkwX5_count_1 : List UInt8 := [170, 0, 0, 0, 0, 148, 0, 0, 0, 0, 0, 0, 0, 12, 0, 0, 0, 66, 0, 0, 0, 71, 0, 0, 0, 76, 0, 0, 0, 81, 0, 0, 0, 88, 0, 0, 0, 95, 0, 0, 0, 100, 0, 0, 0, 105, 0, 0, 0, 112, 0, 0, 0, 119, 0, 0, 0, 126, 0, 0, 0, 133, 0, 0, 0, 141]
abbrev dktX5_count_1 : List UInt8 := dkwX5_count_1 ++ dktX5_count_2
def dkwX5_count_0 : List UInt8 := [42, 3, 181, 0, 174, 27]
abbrev dktX5_count_0 : List UInt8 := dkwX5_count_0 ++ dktX5_count_1
theorem dksX5_count_0 : cX5_count.data.toList.drop 0 = dktX5_count_0 := by decide +kernel
theorem dksX5_count_1 : cX5_count.data.toList.drop 6 = dktX5_count_1 := dk_seg dksX5_count_0 6 rfl rfl
theorem dksX5_count_2 : cX5_count.data.toList.drop 72 = dktX5_count_2 := dk_seg dksX5_count_1 66 rfl rfl
theorem dksX5_count_3 : cX5_count.data.toList.drop 95 = dktX5_count_3 := dk_seg dksX5_count_2 23 rfl rfl
theorem dksX5_count_4 : cX5_count.data.toList.drop 119 = dktX5_count_4 := dk_seg dksX5_count_3 24 rfl rfl
theorem dksX5_count_5 : cX5_count.data.toList.drop 143 = dktX5_count_5 := dk_seg dksX5_count_4 24 rfl rfl
theorem dksX5_count_6 : cX5_count.data.toList.drop 165 = dktX5_count_6 := dk_seg dksX5_count_5 22 rfl rfl
theorem dX5_count_0 : decode cX5_count 0 = .ok (.aload_n 0, 1) := dk_42 (dk_at dksX5_count_0 0 rfl rfl)
theorem dX5_count_1 : decode cX5_count 1 = .ok (.iconst 0, 1) := dk_3 (dk_at dksX5_count_0 1 rfl rfl)
theorem dX5_count_2 : decode cX5_count 2 = .ok (.putfield 174, 3) := dk_181 0 174 (dk_at dksX5_count_0 2 rfl rfl)
theorem dX5_count_5 : decode cX5_count 5 = .ok (.iload_n 1, 1) := dk_27 (dk_at dksX5_count_0 5 rfl rfl)
theorem dX5_count_6 : decode cX5_count 6 = .ok (.tableswitch 148 0 12 #[66, 71, 76, 81, 88, 95, 100, 105, 112, 119, 126, 133, 141], 66) := by decide +kernel
theorem dX5_count_72 : decode cX5_count 72 = .ok (.aload_n 0, 1) := dk_42 (dk_at dksX5_count_2 0 rfl rfl)
theorem dX5_count_73 : decode cX5_count 73 = .ok (.invokevirtual 553, 3) := dk_182 2 41 (dk_at dksX5_count_2 1 rfl rfl)
theorem dX5_count_76 : decode cX5_count 76 = .ok (.ireturn, 1) := dk_172 (dk_at dksX5_count_2 4 rfl rfl)
theorem dX5_count_77 : decode cX5_count 77 = .ok (.aload_n 0, 1) := dk_42 (dk_at dksX5_count_2 5 rfl rfl)
theorem dX5_count_78 : decode cX5_count 78 = .ok (.invokevirtual 487, 3) := dk_182 1 231 (dk_at dksX5_count_2 6 rfl rfl)
theorem dX5_count_81 : decode cX5_count 81 = .ok (.ireturn, 1) := dk_172 (dk_at dksX5_count_2 9 rfl rfl)
theorem dX5_count_82 : decode cX5_count 82 = .ok (.aload_n 0, 1) := dk_42 (dk_at dksX5_count_2 10 rfl rfl)
theorem dX5_count_83 : decode cX5_count 83 = .ok (.invokevirtual 490, 3) := dk_182 1 234 (dk_at dksX5_count_2 11 rfl rfl)
theorem dX5_count_86 : decode cX5_count 86 = .ok (.ireturn, 1) := dk_172 (dk_at dksX5_count_2 14 rfl rfl)
theorem dX5_count_87 : decode cX5_count 87 = .ok (.aload_n 0, 1) := dk_42 (dk_at dksX5_count_2 15 rfl rfl)
theorem dX5_count_88 : decode cX5_count 88 = .ok (.getfield 13, 3) := dk_180 0 13 (dk_at dksX5_count_2 16 rfl rfl)
theorem dX5_count_91 : decode cX5_count 91 = .ok (.iconst 0, 1) := dk_3 (dk_at dksX5_count_2 19 rfl rfl)
theorem dX5_count_92 : decode cX5_count 92 = .ok (.iaload, 1) := dk_46 (dk_at dksX5_count_2 20 rfl rfl)
theorem dX5_count_93 : decode cX5_count 93 = .ok (.ireturn, 1) := dk_172 (dk_at dksX5_count_2 21 rfl rfl)
theorem dX5_count_94 : decode cX5_count 94 = .ok (.aload_n 0, 1) := dk_42 (dk_at dksX5_count_2 22 rfl rfl)
theorem dX5_count_95 : decode cX5_count 95 = .ok (.getfield 13, 3) := dk_180 0 13 (dk_at dksX5_count_3 0 rfl rfl)
theorem dX5_count_98 : decode cX5_count 98 = .ok (.iconst 1, 1) := dk_4 (dk_at dksX5_count_3 3 rfl rfl)
theorem dX5_count_99 : decode cX5_count 99 = .ok (.iaload, 1) := dk_46 (dk_at dksX5_count_3 4 rfl rfl)
theorem dX5_count_100 : decode cX5_count 100 = .ok (.ireturn, 1) := dk_172 (dk_at dksX5_count_3 5 rfl rfl)
theorem dX5_count_101 : decode cX5_count 101 = .ok (.aload_n 0, 1) := dk_42 (dk_at dksX5_count_3 6 rfl rfl)
theorem dX5_count_102 : decode cX5_count 102 = .ok (.getfield 180, 3) := dk_180 0 180 (dk_at dksX5_count_3 7 rfl rfl)
theorem dX5_count_105 : decode cX5_count 105 = .ok (.ireturn, 1) := dk_172 (dk_at dksX5_count_3 10 rfl rfl)
theorem dX5_count_106 : decode cX5_count 106 = .ok (.aload_n 0, 1) := dk_42 (dk_at dksX5_count_3 11 rfl rfl)
theorem dX5_count_107 : decode cX5_count 107 = .ok (.getfield 237, 3) := dk_180 0 237 (dk_at dksX5_count_3 12 rfl rfl)
theorem dX5_count_110 : decode cX5_count 110 = .ok (.ireturn, 1) := dk_172 (dk_at dksX5_count_3 15 rfl rfl)
theorem dX5_count_111 : decode cX5_count 111 = .ok (.aload_n 0, 1) := dk_42 (dk_at dksX5_count_3 16 rfl rfl)
theorem dX5_count_112 : decode cX5_count 112 = .ok (.getfield 7, 3) := dk_180 0 7 (dk_at dksX5_count_3 17 rfl rfl)
theorem dX5_count_115 : decode cX5_count 115 = .ok (.iconst 1, 1) := dk_4 (dk_at dksX5_count_3 20 rfl rfl)
theorem dX5_count_116 : decode cX5_count 116 = .ok (.iaload, 1) := dk_46 (dk_at dksX5_count_3 21 rfl rfl)
theorem dX5_count_117 : decode cX5_count 117 = .ok (.ireturn, 1) := dk_172 (dk_at dksX5_count_3 22 rfl rfl)
theorem dX5_count_118 : decode cX5_count 118 = .ok (.aload_n 0, 1) := dk_42 (dk_at dksX5_count_3 23 rfl rfl)
theorem dX5_count_119 : decode cX5_count 119 = .ok (.getfield 7, 3) := dk_180 0 7 (dk_at dksX5_count_4 0 rfl rfl)
theorem dX5_count_122 : decode cX5_count 122 = .ok (.iconst 2, 1) := dk_5 (dk_at dksX5_count_4 3 rfl rfl)
theorem dX5_count_123 : decode cX5_count 123 = .ok (.iaload, 1) := dk_46 (dk_at dksX5_count_4 4 rfl rfl)
theorem dX5_count_124 : decode cX5_count 124 = .ok (.ireturn, 1) := dk_172 (dk_at dksX5_count_4 5 rfl rfl)
theorem dX5_count_125 : decode cX5_count 125 = .ok (.aload_n 0, 1) := dk_42 (dk_at dksX5_count_4 6 rfl rfl)
theorem dX5_count_126 : decode cX5_count 126 = .ok (.getfield 7, 3) := dk_180 0 7 (dk_at dksX5_count_4 7 rfl rfl)
theorem dX5_count_129 : decode cX5_count 129 = .ok (.iconst 3, 1) := dk_6 (dk_at dksX5_count_4 10 rfl rfl)
theorem dX5_count_130 : decode cX5_count 130 = .ok (.iaload, 1) := dk_46 (dk_at dksX5_count_4 11 rfl rfl)
theorem dX5_count_131 : decode cX5_count 131 = .ok (.ireturn, 1) := dk_172 (dk_at dksX5_count_4 12 rfl rfl)
theorem dX5_count_132 : decode cX5_count 132 = .ok (.aload_n 0, 1) := dk_42 (dk_at dksX5_count_4 13 rfl rfl)
theorem dX5_count_133 : decode cX5_count 133 = .ok (.getfield 7, 3) := dk_180 0 7 (dk_at dksX5_count_4 14 rfl rfl)
theorem dX5_count_136 : decode cX5_count 136 = .ok (.iconst 5, 1) := dk_8 (dk_at dksX5_count_4 17 rfl rfl)
theorem dX5_count_137 : decode cX5_count 137 = .ok (.iaload, 1) := dk_46 (dk_at dksX5_count_4 18 rfl rfl)
theorem dX5_count_138 : decode cX5_count 138 = .ok (.ireturn, 1) := dk_172 (dk_at dksX5_count_4 19 rfl rfl)
theorem dX5_count_139 : decode cX5_count 139 = .ok (.aload_n 0, 1) := dk_42 (dk_at dksX5_count_4 20 rfl rfl)
theorem dX5_count_140 : decode cX5_count 140 = .ok (.getfield 7, 3) := dk_180 0 7 (dk_at dksX5_count_4 21 rfl rfl)
theorem dX5_count_143 : decode cX5_count 143 = .ok (.bipush 6, 2) := dk_16 6 (dk_at dksX5_count_5 0 rfl rfl)
theorem dX5_count_145 : decode cX5_count 145 = .ok (.iaload, 1) := dk_46 (dk_at dksX5_count_5 2 rfl rfl)
theorem dX5_count_146 : decode cX5_count 146 = .ok (.ireturn, 1) := dk_172 (dk_at dksX5_count_5 3 rfl rfl)
theorem dX5_count_147 : decode cX5_count 147 = .ok (.aload_n 0, 1) := dk_42 (dk_at dksX5_count_5 4 rfl rfl)
theorem dX5_count_148 : decode cX5_count 148 = .ok (.getfield 13, 3) := dk_180 0 13 (dk_at dksX5_count_5 5 rfl rfl)
theorem dX5_count_151 : decode cX5_count 151 = .ok (.iconst 2, 1) := dk_5 (dk_at dksX5_count_5 8 rfl rfl)
theorem dX5_count_152 : decode cX5_count 152 = .ok (.iaload, 1) := dk_46 (dk_at dksX5_count_5 9 rfl rfl)
theorem dX5_count_153 : decode cX5_count 153 = .ok (.ireturn, 1) := dk_172 (dk_at dksX5_count_5 10 rfl rfl)
theorem dX5_count_154 : decode cX5_count 154 = .ok (.iload_n 1, 1) := dk_27 (dk_at dksX5_count_5 11 rfl rfl)
theorem dX5_count_155 : decode cX5_count 155 = .ok (.i2l, 1) := dk_133 (dk_at dksX5_count_5 12 rfl rfl)
theorem dX5_count_156 : decode cX5_count 156 = .ok (.ldc2_w 593, 3) := dk_20 2 81 (dk_at dksX5_count_5 13 rfl rfl)
theorem dX5_count_159 : decode cX5_count 159 = .ok (.ldc2_w 595, 3) := dk_20 2 83 (dk_at dksX5_count_5 16 rfl rfl)
theorem dX5_count_162 : decode cX5_count 162 = .ok (.invokestatic 194, 3) := dk_184 0 194 (dk_at dksX5_count_5 19 rfl rfl)
theorem dX5_count_165 : decode cX5_count 165 = .ok (.ifCond .eq 17, 3) := dk_153 0 17 (dk_at dksX5_count_6 0 rfl rfl)
theorem dX5_count_168 : decode cX5_count 168 = .ok (.aload_n 0, 1) := dk_42 (dk_at dksX5_count_6 3 rfl rfl)
theorem dX5_count_169 : decode cX5_count 169 = .ok (.getfield 13, 3) := dk_180 0 13 (dk_at dksX5_count_6 4 rfl rfl)
theorem dX5_count_172 : decode cX5_count 172 = .ok (.iconst 3, 1) := dk_6 (dk_at dksX5_count_6 7 rfl rfl)
theorem dX5_count_173 : decode cX5_count 173 = .ok (.iload_n 1, 1) := dk_27 (dk_at dksX5_count_6 8 rfl rfl)
theorem dX5_count_174 : decode cX5_count 174 = .ok (.iadd, 1) := dk_96 (dk_at dksX5_count_6 9 rfl rfl)
theorem dX5_count_175 : decode cX5_count 175 = .ok (.bipush 13, 2) := dk_16 13 (dk_at dksX5_count_6 10 rfl rfl)
theorem dX5_count_177 : decode cX5_count 177 = .ok (.isub, 1) := dk_100 (dk_at dksX5_count_6 12 rfl rfl)
theorem dX5_count_178 : decode cX5_count 178 = .ok (.iaload, 1) := dk_46 (dk_at dksX5_count_6 13 rfl rfl)
theorem dX5_count_179 : decode cX5_count 179 = .ok (.goto 4, 3) := dk_167 0 4 (dk_at dksX5_count_6 14 rfl rfl)
theorem dX5_count_182 : decode cX5_count 182 = .ok (.iconst (-1), 1) := dk_2 (dk_at dksX5_count_6 17 rfl rfl)
theorem dX5_count_183 : decode cX5_count 183 = .ok (.ireturn, 1) := dk_172 (dk_at dksX5_count_6 18 rfl rfl)
abbrev cX5_status : ByteArray := prog_22_method_125_code
def yX5_status : MethodName := ⟨RX5, "status", "()I"⟩
def dkwX5_status_0 : List UInt8 := [42, 3, 181, 0, 174, 42, 180, 0, 177, 172]
abbrev dktX5_status_0 : List UInt8 := dkwX5_status_0 ++ []
theorem dksX5_status_0 : cX5_status.data.toList.drop 0 = dktX5_status_0 := by decide +kernel
theorem dX5_status_0 : decode cX5_status 0 = .ok (.aload_n 0, 1) := dk_42 (dk_at dksX5_status_0 0 rfl rfl)
theorem dX5_status_1 : decode cX5_status 1 = .ok (.iconst 0, 1) := dk_3 (dk_at dksX5_status_0 1 rfl rfl)
theorem dX5_status_2 : decode cX5_status 2 = .ok (.putfield 174, 3) := dk_181 0 174 (dk_at dksX5_status_0 2 rfl rfl)
theorem dX5_status_5 : decode cX5_status 5 = .ok (.aload_n 0, 1) := dk_42 (dk_at dksX5_status_0 5 rfl rfl)
theorem dX5_status_6 : decode cX5_status 6 = .ok (.getfield 177, 3) := dk_180 0 177 (dk_at dksX5_status_0 6 rfl rfl)
theorem dX5_status_9 : decode cX5_status 9 = .ok (.ireturn, 1) := dk_172 (dk_at dksX5_status_0 9 rfl rfl)
theorem q121 : (Jvm.Cond.initialized "ForestRoomsModel") ∈ lw_all := lw_g (lw_at lw_m1 11 rfl) rfl
theorem q500 : (Jvm.Cond.selects "ForestRoomsModel" ({ cls := "java/lang/Object", name := "getClass", desc := "()Ljava/lang/Class;" } : Jvm.MethodName) ({ cls := "java/lang/Object", name := "getClass", desc := "()Ljava/lang/Class;" } : Jvm.MethodName)) ∈ lw_all := lw_g (lw_at lw_m2 150 rfl) rfl
theorem q1488 : (Jvm.Cond.instantiable "ForestRoomsModel" (62 : Nat)) ∈ lw_all := lw_g (lw_at lw_m6 178 rfl) rfl
theorem q1490 : (Jvm.Cond.instanceMethod ({ cls := "ForestRoomsModel", name := "<init>", desc := "()V" } : Jvm.MethodName)) ∈ lw_all := lw_g (lw_at lw_m6 180 rfl) rfl
theorem q1491 : (Jvm.Cond.code ({ cls := "ForestRoomsModel", name := "<init>", desc := "()V" } : Jvm.MethodName) prog_22_method_1_code (2 : Nat) (Option.none : Option Jvm.ClassFile.FieldType)) ∈ lw_all := lw_g (lw_at lw_m6 181 rfl) rfl
theorem q1492 : (Jvm.Cond.methodLink "ForestRoomsModel" (1 : Nat) ({ cls := "java/lang/Object", name := "<init>", desc := "()V" } : Jvm.MethodName)) ∈ lw_all := lw_g (lw_at lw_m6 182 rfl) rfl
theorem q1493 : (Jvm.Cond.constantLong "ForestRoomsModel" (57 : Nat) (605677 : Int64)) ∈ lw_all := lw_g (lw_at lw_m6 183 rfl) rfl
theorem q1494 : (Jvm.Cond.constantLong "ForestRoomsModel" (59 : Nat) (12885268 : Int64)) ∈ lw_all := lw_g (lw_at lw_m6 184 rfl) rfl
theorem q1495 : (Jvm.Cond.constantLong "ForestRoomsModel" (61 : Nat) (23732 : Int64)) ∈ lw_all := lw_g (lw_at lw_m6 185 rfl) rfl
theorem q1496 : (Jvm.Cond.constantLong "ForestRoomsModel" (63 : Nat) (632645 : Int64)) ∈ lw_all := lw_g (lw_at lw_m6 186 rfl) rfl
theorem q1497 : (Jvm.Cond.constantLong "ForestRoomsModel" (65 : Nat) (370116 : Int64)) ∈ lw_all := lw_g (lw_at lw_m6 187 rfl) rfl
theorem q1498 : (Jvm.Cond.constantLong "ForestRoomsModel" (67 : Nat) (7945966 : Int64)) ∈ lw_all := lw_g (lw_at lw_m6 188 rfl) rfl
theorem q1499 : (Jvm.Cond.constantLong "ForestRoomsModel" (69 : Nat) (202810777 : Int64)) ∈ lw_all := lw_g (lw_at lw_m6 189 rfl) rfl
theorem q1500 : (Jvm.Cond.constantLong "ForestRoomsModel" (71 : Nat) (642829806 : Int64)) ∈ lw_all := lw_g (lw_at lw_m6 190 rfl) rfl
theorem q1501 : (Jvm.Cond.constantLong "ForestRoomsModel" (73 : Nat) (441828 : Int64)) ∈ lw_all := lw_g (lw_at lw_m6 191 rfl) rfl
theorem q1502 : (Jvm.Cond.constantLong "ForestRoomsModel" (75 : Nat) (14849171 : Int64)) ∈ lw_all := lw_g (lw_at lw_m6 192 rfl) rfl
theorem q1503 : (Jvm.Cond.constantLong "ForestRoomsModel" (77 : Nat) (153401715 : Int64)) ∈ lw_all := lw_g (lw_at lw_m6 193 rfl) rfl
theorem q1504 : (Jvm.Cond.constantLong "ForestRoomsModel" (83 : Nat) (21566643 : Int64)) ∈ lw_all := lw_g (lw_at lw_m6 194 rfl) rfl
theorem q1505 : (Jvm.Cond.constantLong "ForestRoomsModel" (85 : Nat) (146885 : Int64)) ∈ lw_all := lw_g (lw_at lw_m6 195 rfl) rfl
theorem q1506 : (Jvm.Cond.constantLong "ForestRoomsModel" (87 : Nat) (409204 : Int64)) ∈ lw_all := lw_g (lw_at lw_m6 196 rfl) rfl
theorem q1507 : (Jvm.Cond.constantLong "ForestRoomsModel" (89 : Nat) (23823 : Int64)) ∈ lw_all := lw_g (lw_at lw_m6 197 rfl) rfl
theorem q1508 : (Jvm.Cond.constantLong "ForestRoomsModel" (94 : Nat) (7945971 : Int64)) ∈ lw_all := lw_g (lw_at lw_m6 198 rfl) rfl
theorem q1509 : (Jvm.Cond.constantLong "ForestRoomsModel" (96 : Nat) (20620947 : Int64)) ∈ lw_all := lw_g (lw_at lw_m6 199 rfl) rfl
theorem q1510 : (Jvm.Cond.constantLong "ForestRoomsModel" (98 : Nat) (407951539 : Int64)) ∈ lw_all := lw_g (lw_at lw_m6 200 rfl) rfl
theorem q1511 : (Jvm.Cond.constantLong "ForestRoomsModel" (100 : Nat) (3650739 : Int64)) ∈ lw_all := lw_g (lw_at lw_m6 201 rfl) rfl
theorem q1512 : (Jvm.Cond.constantLong "ForestRoomsModel" (102 : Nat) (67155 : Int64)) ∈ lw_all := lw_g (lw_at lw_m6 202 rfl) rfl
theorem q1513 : (Jvm.Cond.constantLong "ForestRoomsModel" (152 : Nat) (17171924 : Int64)) ∈ lw_all := lw_g (lw_at lw_m6 203 rfl) rfl
theorem q1514 : (Jvm.Cond.constantLong "ForestRoomsModel" (154 : Nat) (17388997 : Int64)) ∈ lw_all := lw_g (lw_at lw_m6 204 rfl) rfl
theorem q1515 : (Jvm.Cond.constantLong "ForestRoomsModel" (156 : Nat) (12468 : Int64)) ∈ lw_all := lw_g (lw_at lw_m6 205 rfl) rfl
theorem q1516 : (Jvm.Cond.constantLong "ForestRoomsModel" (158 : Nat) (5685913 : Int64)) ∈ lw_all := lw_g (lw_at lw_m6 206 rfl) rfl
theorem q1517 : (Jvm.Cond.constantLong "ForestRoomsModel" (160 : Nat) (525939 : Int64)) ∈ lw_all := lw_g (lw_at lw_m6 207 rfl) rfl
theorem q1518 : (Jvm.Cond.fieldLink "ForestRoomsModel" (174 : Nat) "ForestRoomsModel" "thrown" "I") ∈ lw_all := lw_g (lw_at lw_m6 208 rfl) rfl
theorem q1519 : (Jvm.Cond.fieldLink "ForestRoomsModel" (177 : Nat) "ForestRoomsModel" "status" "I") ∈ lw_all := lw_g (lw_at lw_m6 209 rfl) rfl
theorem q1520 : (Jvm.Cond.fieldLink "ForestRoomsModel" (7 : Nat) "ForestRoomsModel" "refusals" "[I") ∈ lw_all := lw_g (lw_at lw_m6 210 rfl) rfl
theorem q1521 : (Jvm.Cond.fieldLink "ForestRoomsModel" (13 : Nat) "ForestRoomsModel" "row" "[I") ∈ lw_all := lw_g (lw_at lw_m6 211 rfl) rfl
theorem q1522 : (Jvm.Cond.fieldLink "ForestRoomsModel" (16 : Nat) "ForestRoomsModel" "images" "[I") ∈ lw_all := lw_g (lw_at lw_m6 212 rfl) rfl
theorem q1523 : (Jvm.Cond.fieldLink "ForestRoomsModel" (19 : Nat) "ForestRoomsModel" "isKept" "[Z") ∈ lw_all := lw_g (lw_at lw_m6 213 rfl) rfl
theorem q1524 : (Jvm.Cond.fieldLink "ForestRoomsModel" (23 : Nat) "ForestRoomsModel" "undos" "[I") ∈ lw_all := lw_g (lw_at lw_m6 214 rfl) rfl
theorem q1525 : (Jvm.Cond.fieldLink "ForestRoomsModel" (26 : Nat) "ForestRoomsModel" "sorts" "[I") ∈ lw_all := lw_g (lw_at lw_m6 215 rfl) rfl
theorem q1526 : (Jvm.Cond.fieldLink "ForestRoomsModel" (180 : Nat) "ForestRoomsModel" "nUndo" "I") ∈ lw_all := lw_g (lw_at lw_m6 216 rfl) rfl
theorem q1527 : (Jvm.Cond.fieldLink "ForestRoomsModel" (29 : Nat) "ForestRoomsModel" "undosBefore" "[I") ∈ lw_all := lw_g (lw_at lw_m6 217 rfl) rfl
theorem q1528 : (Jvm.Cond.fieldLink "ForestRoomsModel" (32 : Nat) "ForestRoomsModel" "sortsBefore" "[I") ∈ lw_all := lw_g (lw_at lw_m6 218 rfl) rfl
theorem q1529 : (Jvm.Cond.fieldLink "ForestRoomsModel" (240 : Nat) "ForestRoomsModel" "moss" "I") ∈ lw_all := lw_g (lw_at lw_m6 219 rfl) rfl
theorem q1530 : (Jvm.Cond.fieldLink "ForestRoomsModel" (35 : Nat) "ForestRoomsModel" "tape" "[I") ∈ lw_all := lw_g (lw_at lw_m6 220 rfl) rfl
theorem q1531 : (Jvm.Cond.fieldLink "ForestRoomsModel" (237 : Nat) "ForestRoomsModel" "taped" "I") ∈ lw_all := lw_g (lw_at lw_m6 221 rfl) rfl
theorem q1532 : (Jvm.Cond.fieldLink "ForestRoomsModel" (256 : Nat) "ForestRoomsModel" "from" "I") ∈ lw_all := lw_g (lw_at lw_m6 222 rfl) rfl
theorem q1533 : (Jvm.Cond.fieldLink "ForestRoomsModel" (246 : Nat) "ForestRoomsModel" "to" "I") ∈ lw_all := lw_g (lw_at lw_m6 223 rfl) rfl
theorem q1534 : (Jvm.Cond.fieldLink "ForestRoomsModel" (269 : Nat) "ForestRoomsModel" "sort" "I") ∈ lw_all := lw_g (lw_at lw_m6 224 rfl) rfl
theorem q1535 : (Jvm.Cond.fieldLink "ForestRoomsModel" (259 : Nat) "ForestRoomsModel" "worth" "J") ∈ lw_all := lw_g (lw_at lw_m6 225 rfl) rfl
theorem q1536 : (Jvm.Cond.fieldLink "ForestRoomsModel" (38 : Nat) "ForestRoomsModel" "fault" "I") ∈ lw_all := lw_g (lw_at lw_m6 226 rfl) rfl
theorem q1537 : (Jvm.Cond.fieldLink "ForestRoomsModel" (249 : Nat) "ForestRoomsModel" "bad" "Z") ∈ lw_all := lw_g (lw_at lw_m6 227 rfl) rfl
theorem q1538 : (Jvm.Cond.fieldLink "ForestRoomsModel" (326 : Nat) "ForestRoomsModel" "ordered" "Z") ∈ lw_all := lw_g (lw_at lw_m6 228 rfl) rfl
theorem q1539 : (Jvm.Cond.fieldLink "ForestRoomsModel" (378 : Nat) "ForestRoomsModel" "nClauses" "I") ∈ lw_all := lw_g (lw_at lw_m6 229 rfl) rfl
theorem q1540 : (Jvm.Cond.fieldLink "ForestRoomsModel" (42 : Nat) "ForestRoomsModel" "nClause" "[I") ∈ lw_all := lw_g (lw_at lw_m6 230 rfl) rfl
theorem q1541 : (Jvm.Cond.fieldLink "ForestRoomsModel" (286 : Nat) "ForestRoomsModel" "nCode" "I") ∈ lw_all := lw_g (lw_at lw_m6 231 rfl) rfl
theorem q1542 : (Jvm.Cond.fieldLink "ForestRoomsModel" (45 : Nat) "ForestRoomsModel" "nOp" "[I") ∈ lw_all := lw_g (lw_at lw_m6 232 rfl) rfl
theorem q1543 : (Jvm.Cond.fieldLink "ForestRoomsModel" (48 : Nat) "ForestRoomsModel" "nArg" "[I") ∈ lw_all := lw_g (lw_at lw_m6 233 rfl) rfl
theorem q1544 : (Jvm.Cond.fieldLink "ForestRoomsModel" (317 : Nat) "ForestRoomsModel" "nLeaves" "I") ∈ lw_all := lw_g (lw_at lw_m6 234 rfl) rfl
theorem q1545 : (Jvm.Cond.fieldLink "ForestRoomsModel" (51 : Nat) "ForestRoomsModel" "pile" "[I") ∈ lw_all := lw_g (lw_at lw_m6 235 rfl) rfl
theorem q1546 : (Jvm.Cond.fieldLink "ForestRoomsModel" (54 : Nat) "ForestRoomsModel" "pileAt" "[I") ∈ lw_all := lw_g (lw_at lw_m6 236 rfl) rfl
theorem q1547 : (Jvm.Cond.fieldLink "ForestRoomsModel" (289 : Nat) "ForestRoomsModel" "piled" "I") ∈ lw_all := lw_g (lw_at lw_m6 237 rfl) rfl
theorem q1548 : (Jvm.Cond.fieldLink "ForestRoomsModel" (311 : Nat) "ForestRoomsModel" "opened" "I") ∈ lw_all := lw_g (lw_at lw_m6 238 rfl) rfl
theorem q1549 : (Jvm.Cond.fieldLink "ForestRoomsModel" (79 : Nat) "ForestRoomsModel" "words" "[J") ∈ lw_all := lw_g (lw_at lw_m6 239 rfl) rfl
theorem q1550 : (Jvm.Cond.fieldLink "ForestRoomsModel" (91 : Nat) "ForestRoomsModel" "orderWords" "[J") ∈ lw_all := lw_g (lw_at lw_m7 0 rfl) rfl
theorem q1551 : (Jvm.Cond.fieldLink "ForestRoomsModel" (104 : Nat) "ForestRoomsModel" "heads" "[J") ∈ lw_all := lw_g (lw_at lw_m7 1 rfl) rfl
theorem q1552 : (Jvm.Cond.fieldLink "ForestRoomsModel" (398 : Nat) "ForestRoomsModel" "law" "I") ∈ lw_all := lw_g (lw_at lw_m7 2 rfl) rfl
theorem q1553 : (Jvm.Cond.fieldLink "ForestRoomsModel" (107 : Nat) "ForestRoomsModel" "set" "[J") ∈ lw_all := lw_g (lw_at lw_m7 3 rfl) rfl
theorem q1554 : (Jvm.Cond.fieldLink "ForestRoomsModel" (110 : Nat) "ForestRoomsModel" "now" "[J") ∈ lw_all := lw_g (lw_at lw_m7 4 rfl) rfl
theorem q1555 : (Jvm.Cond.fieldLink "ForestRoomsModel" (113 : Nat) "ForestRoomsModel" "rest" "[J") ∈ lw_all := lw_g (lw_at lw_m7 5 rfl) rfl
theorem q1556 : (Jvm.Cond.fieldLink "ForestRoomsModel" (395 : Nat) "ForestRoomsModel" "broken" "Z") ∈ lw_all := lw_g (lw_at lw_m7 6 rfl) rfl
theorem q1557 : (Jvm.Cond.fieldLink "ForestRoomsModel" (409 : Nat) "ForestRoomsModel" "value" "J") ∈ lw_all := lw_g (lw_at lw_m7 7 rfl) rfl
theorem q1558 : (Jvm.Cond.fieldLink "ForestRoomsModel" (415 : Nat) "ForestRoomsModel" "sum" "J") ∈ lw_all := lw_g (lw_at lw_m7 8 rfl) rfl
theorem q1559 : (Jvm.Cond.fieldLink "ForestRoomsModel" (116 : Nat) "ForestRoomsModel" "more" "[I") ∈ lw_all := lw_g (lw_at lw_m7 9 rfl) rfl
theorem q1560 : (Jvm.Cond.fieldLink "ForestRoomsModel" (119 : Nat) "ForestRoomsModel" "newcomer" "[I") ∈ lw_all := lw_g (lw_at lw_m7 10 rfl) rfl
theorem q1561 : (Jvm.Cond.fieldLink "ForestRoomsModel" (122 : Nat) "ForestRoomsModel" "greatest" "[I") ∈ lw_all := lw_g (lw_at lw_m7 11 rfl) rfl
theorem q1562 : (Jvm.Cond.fieldLink "ForestRoomsModel" (125 : Nat) "ForestRoomsModel" "suits" "[I") ∈ lw_all := lw_g (lw_at lw_m7 12 rfl) rfl
theorem q1563 : (Jvm.Cond.fieldLink "ForestRoomsModel" (128 : Nat) "ForestRoomsModel" "who" "[I") ∈ lw_all := lw_g (lw_at lw_m7 13 rfl) rfl
theorem q1564 : (Jvm.Cond.fieldLink "ForestRoomsModel" (131 : Nat) "ForestRoomsModel" "home" "[I") ∈ lw_all := lw_g (lw_at lw_m7 14 rfl) rfl
theorem q1565 : (Jvm.Cond.fieldLink "ForestRoomsModel" (134 : Nat) "ForestRoomsModel" "bestHome" "[I") ∈ lw_all := lw_g (lw_at lw_m7 15 rfl) rfl
theorem q1566 : (Jvm.Cond.fieldLink "ForestRoomsModel" (137 : Nat) "ForestRoomsModel" "bound" "[I") ∈ lw_all := lw_g (lw_at lw_m7 16 rfl) rfl
theorem q1567 : (Jvm.Cond.fieldLink "ForestRoomsModel" (140 : Nat) "ForestRoomsModel" "sumTo" "[I") ∈ lw_all := lw_g (lw_at lw_m7 17 rfl) rfl
theorem q1568 : (Jvm.Cond.fieldLink "ForestRoomsModel" (143 : Nat) "ForestRoomsModel" "shown" "[I") ∈ lw_all := lw_g (lw_at lw_m7 18 rfl) rfl
theorem q1569 : (Jvm.Cond.fieldLink "ForestRoomsModel" (146 : Nat) "ForestRoomsModel" "shares" "[I") ∈ lw_all := lw_g (lw_at lw_m7 19 rfl) rfl
theorem q1570 : (Jvm.Cond.fieldLink "ForestRoomsModel" (149 : Nat) "ForestRoomsModel" "rests" "[J") ∈ lw_all := lw_g (lw_at lw_m7 20 rfl) rfl
theorem q1571 : (Jvm.Cond.fieldLink "ForestRoomsModel" (162 : Nat) "ForestRoomsModel" "acts" "[J") ∈ lw_all := lw_g (lw_at lw_m7 21 rfl) rfl
theorem q1572 : (Jvm.Cond.fieldLink "ForestRoomsModel" (165 : Nat) "ForestRoomsModel" "nOrder" "[I") ∈ lw_all := lw_g (lw_at lw_m7 22 rfl) rfl
theorem q1573 : (Jvm.Cond.fieldLink "ForestRoomsModel" (556 : Nat) "ForestRoomsModel" "done" "I") ∈ lw_all := lw_g (lw_at lw_m7 23 rfl) rfl
theorem q1574 : (Jvm.Cond.fieldLink "ForestRoomsModel" (559 : Nat) "ForestRoomsModel" "lost" "I") ∈ lw_all := lw_g (lw_at lw_m7 24 rfl) rfl
theorem q1575 : (Jvm.Cond.fieldLink "ForestRoomsModel" (168 : Nat) "ForestRoomsModel" "stopped" "I") ∈ lw_all := lw_g (lw_at lw_m7 25 rfl) rfl
theorem q1576 : (Jvm.Cond.fieldLink "ForestRoomsModel" (550 : Nat) "ForestRoomsModel" "off" "Z") ∈ lw_all := lw_g (lw_at lw_m7 26 rfl) rfl
theorem q1577 : (Jvm.Cond.fieldLink "ForestRoomsModel" (578 : Nat) "ForestRoomsModel" "state" "J") ∈ lw_all := lw_g (lw_at lw_m7 27 rfl) rfl
theorem q1578 : (Jvm.Cond.fieldLink "ForestRoomsModel" (171 : Nat) "ForestRoomsModel" "drawn" "[I") ∈ lw_all := lw_g (lw_at lw_m7 28 rfl) rfl
theorem q1579 : (Jvm.Cond.fieldLink "ForestRoomsModel" (587 : Nat) "ForestRoomsModel" "isDrawn" "Z") ∈ lw_all := lw_g (lw_at lw_m7 29 rfl) rfl
theorem q1580 : (Jvm.Cond.lays "ForestRoomsModel" "ForestRoomsModel" "thrown" "I") ∈ lw_all := lw_g (lw_at lw_m7 30 rfl) rfl
theorem q1581 : (Jvm.Cond.soleField "ForestRoomsModel" "thrown") ∈ lw_all := lw_g (lw_at lw_m7 31 rfl) rfl
theorem q1582 : (Jvm.Cond.lays "ForestRoomsModel" "ForestRoomsModel" "status" "I") ∈ lw_all := lw_g (lw_at lw_m7 32 rfl) rfl
theorem q1583 : (Jvm.Cond.soleField "ForestRoomsModel" "status") ∈ lw_all := lw_g (lw_at lw_m7 33 rfl) rfl
theorem q1584 : (Jvm.Cond.laysFinal "ForestRoomsModel" "ForestRoomsModel" "refusals" "[I") ∈ lw_all := lw_g (lw_at lw_m7 34 rfl) rfl
theorem q1585 : (Jvm.Cond.soleField "ForestRoomsModel" "refusals") ∈ lw_all := lw_g (lw_at lw_m7 35 rfl) rfl
theorem q1586 : (Jvm.Cond.laysFinal "ForestRoomsModel" "ForestRoomsModel" "row" "[I") ∈ lw_all := lw_g (lw_at lw_m7 36 rfl) rfl
theorem q1587 : (Jvm.Cond.soleField "ForestRoomsModel" "row") ∈ lw_all := lw_g (lw_at lw_m7 37 rfl) rfl
theorem q1588 : (Jvm.Cond.laysFinal "ForestRoomsModel" "ForestRoomsModel" "images" "[I") ∈ lw_all := lw_g (lw_at lw_m7 38 rfl) rfl
theorem q1589 : (Jvm.Cond.soleField "ForestRoomsModel" "images") ∈ lw_all := lw_g (lw_at lw_m7 39 rfl) rfl
theorem q1590 : (Jvm.Cond.laysFinal "ForestRoomsModel" "ForestRoomsModel" "isKept" "[Z") ∈ lw_all := lw_g (lw_at lw_m7 40 rfl) rfl
theorem q1591 : (Jvm.Cond.soleField "ForestRoomsModel" "isKept") ∈ lw_all := lw_g (lw_at lw_m7 41 rfl) rfl
theorem q1592 : (Jvm.Cond.laysFinal "ForestRoomsModel" "ForestRoomsModel" "undos" "[I") ∈ lw_all := lw_g (lw_at lw_m7 42 rfl) rfl
theorem q1593 : (Jvm.Cond.soleField "ForestRoomsModel" "undos") ∈ lw_all := lw_g (lw_at lw_m7 43 rfl) rfl
theorem q1594 : (Jvm.Cond.laysFinal "ForestRoomsModel" "ForestRoomsModel" "sorts" "[I") ∈ lw_all := lw_g (lw_at lw_m7 44 rfl) rfl
theorem q1595 : (Jvm.Cond.soleField "ForestRoomsModel" "sorts") ∈ lw_all := lw_g (lw_at lw_m7 45 rfl) rfl
theorem q1596 : (Jvm.Cond.lays "ForestRoomsModel" "ForestRoomsModel" "nUndo" "I") ∈ lw_all := lw_g (lw_at lw_m7 46 rfl) rfl
theorem q1597 : (Jvm.Cond.soleField "ForestRoomsModel" "nUndo") ∈ lw_all := lw_g (lw_at lw_m7 47 rfl) rfl
theorem q1598 : (Jvm.Cond.laysFinal "ForestRoomsModel" "ForestRoomsModel" "undosBefore" "[I") ∈ lw_all := lw_g (lw_at lw_m7 48 rfl) rfl
theorem q1599 : (Jvm.Cond.soleField "ForestRoomsModel" "undosBefore") ∈ lw_all := lw_g (lw_at lw_m7 49 rfl) rfl
theorem q1600 : (Jvm.Cond.laysFinal "ForestRoomsModel" "ForestRoomsModel" "sortsBefore" "[I") ∈ lw_all := lw_g (lw_at lw_m7 50 rfl) rfl
theorem q1601 : (Jvm.Cond.soleField "ForestRoomsModel" "sortsBefore") ∈ lw_all := lw_g (lw_at lw_m7 51 rfl) rfl
theorem q1602 : (Jvm.Cond.lays "ForestRoomsModel" "ForestRoomsModel" "moss" "I") ∈ lw_all := lw_g (lw_at lw_m7 52 rfl) rfl
theorem q1603 : (Jvm.Cond.soleField "ForestRoomsModel" "moss") ∈ lw_all := lw_g (lw_at lw_m7 53 rfl) rfl
theorem q1604 : (Jvm.Cond.laysFinal "ForestRoomsModel" "ForestRoomsModel" "tape" "[I") ∈ lw_all := lw_g (lw_at lw_m7 54 rfl) rfl
theorem q1605 : (Jvm.Cond.soleField "ForestRoomsModel" "tape") ∈ lw_all := lw_g (lw_at lw_m7 55 rfl) rfl
theorem q1606 : (Jvm.Cond.lays "ForestRoomsModel" "ForestRoomsModel" "taped" "I") ∈ lw_all := lw_g (lw_at lw_m7 56 rfl) rfl
theorem q1607 : (Jvm.Cond.soleField "ForestRoomsModel" "taped") ∈ lw_all := lw_g (lw_at lw_m7 57 rfl) rfl
theorem q1608 : (Jvm.Cond.lays "ForestRoomsModel" "ForestRoomsModel" "from" "I") ∈ lw_all := lw_g (lw_at lw_m7 58 rfl) rfl
theorem q1609 : (Jvm.Cond.soleField "ForestRoomsModel" "from") ∈ lw_all := lw_g (lw_at lw_m7 59 rfl) rfl
theorem q1610 : (Jvm.Cond.lays "ForestRoomsModel" "ForestRoomsModel" "to" "I") ∈ lw_all := lw_g (lw_at lw_m7 60 rfl) rfl
theorem q1611 : (Jvm.Cond.soleField "ForestRoomsModel" "to") ∈ lw_all := lw_g (lw_at lw_m7 61 rfl) rfl
theorem q1612 : (Jvm.Cond.lays "ForestRoomsModel" "ForestRoomsModel" "sort" "I") ∈ lw_all := lw_g (lw_at lw_m7 62 rfl) rfl
theorem q1613 : (Jvm.Cond.soleField "ForestRoomsModel" "sort") ∈ lw_all := lw_g (lw_at lw_m7 63 rfl) rfl
theorem q1614 : (Jvm.Cond.lays "ForestRoomsModel" "ForestRoomsModel" "worth" "J") ∈ lw_all := lw_g (lw_at lw_m7 64 rfl) rfl
theorem q1615 : (Jvm.Cond.soleField "ForestRoomsModel" "worth") ∈ lw_all := lw_g (lw_at lw_m7 65 rfl) rfl
theorem q1616 : (Jvm.Cond.lays "ForestRoomsModel" "ForestRoomsModel" "fault" "I") ∈ lw_all := lw_g (lw_at lw_m7 66 rfl) rfl
theorem q1617 : (Jvm.Cond.soleField "ForestRoomsModel" "fault") ∈ lw_all := lw_g (lw_at lw_m7 67 rfl) rfl
theorem q1618 : (Jvm.Cond.lays "ForestRoomsModel" "ForestRoomsModel" "bad" "Z") ∈ lw_all := lw_g (lw_at lw_m7 68 rfl) rfl
theorem q1619 : (Jvm.Cond.soleField "ForestRoomsModel" "bad") ∈ lw_all := lw_g (lw_at lw_m7 69 rfl) rfl
theorem q1620 : (Jvm.Cond.lays "ForestRoomsModel" "ForestRoomsModel" "ordered" "Z") ∈ lw_all := lw_g (lw_at lw_m7 70 rfl) rfl
theorem q1621 : (Jvm.Cond.soleField "ForestRoomsModel" "ordered") ∈ lw_all := lw_g (lw_at lw_m7 71 rfl) rfl
theorem q1622 : (Jvm.Cond.lays "ForestRoomsModel" "ForestRoomsModel" "nClauses" "I") ∈ lw_all := lw_g (lw_at lw_m7 72 rfl) rfl
theorem q1623 : (Jvm.Cond.soleField "ForestRoomsModel" "nClauses") ∈ lw_all := lw_g (lw_at lw_m7 73 rfl) rfl
theorem q1624 : (Jvm.Cond.laysFinal "ForestRoomsModel" "ForestRoomsModel" "nClause" "[I") ∈ lw_all := lw_g (lw_at lw_m7 74 rfl) rfl
theorem q1625 : (Jvm.Cond.soleField "ForestRoomsModel" "nClause") ∈ lw_all := lw_g (lw_at lw_m7 75 rfl) rfl
theorem q1626 : (Jvm.Cond.lays "ForestRoomsModel" "ForestRoomsModel" "nCode" "I") ∈ lw_all := lw_g (lw_at lw_m7 76 rfl) rfl
theorem q1627 : (Jvm.Cond.soleField "ForestRoomsModel" "nCode") ∈ lw_all := lw_g (lw_at lw_m7 77 rfl) rfl
theorem q1628 : (Jvm.Cond.laysFinal "ForestRoomsModel" "ForestRoomsModel" "nOp" "[I") ∈ lw_all := lw_g (lw_at lw_m7 78 rfl) rfl
theorem q1629 : (Jvm.Cond.soleField "ForestRoomsModel" "nOp") ∈ lw_all := lw_g (lw_at lw_m7 79 rfl) rfl
theorem q1630 : (Jvm.Cond.laysFinal "ForestRoomsModel" "ForestRoomsModel" "nArg" "[I") ∈ lw_all := lw_g (lw_at lw_m7 80 rfl) rfl
theorem q1631 : (Jvm.Cond.soleField "ForestRoomsModel" "nArg") ∈ lw_all := lw_g (lw_at lw_m7 81 rfl) rfl
theorem q1632 : (Jvm.Cond.lays "ForestRoomsModel" "ForestRoomsModel" "nLeaves" "I") ∈ lw_all := lw_g (lw_at lw_m7 82 rfl) rfl
theorem q1633 : (Jvm.Cond.soleField "ForestRoomsModel" "nLeaves") ∈ lw_all := lw_g (lw_at lw_m7 83 rfl) rfl
theorem q1634 : (Jvm.Cond.laysFinal "ForestRoomsModel" "ForestRoomsModel" "pile" "[I") ∈ lw_all := lw_g (lw_at lw_m7 84 rfl) rfl
theorem q1635 : (Jvm.Cond.soleField "ForestRoomsModel" "pile") ∈ lw_all := lw_g (lw_at lw_m7 85 rfl) rfl
theorem q1636 : (Jvm.Cond.laysFinal "ForestRoomsModel" "ForestRoomsModel" "pileAt" "[I") ∈ lw_all := lw_g (lw_at lw_m7 86 rfl) rfl
theorem q1637 : (Jvm.Cond.soleField "ForestRoomsModel" "pileAt") ∈ lw_all := lw_g (lw_at lw_m7 87 rfl) rfl
theorem q1638 : (Jvm.Cond.lays "ForestRoomsModel" "ForestRoomsModel" "piled" "I") ∈ lw_all := lw_g (lw_at lw_m7 88 rfl) rfl
theorem q1639 : (Jvm.Cond.soleField "ForestRoomsModel" "piled") ∈ lw_all := lw_g (lw_at lw_m7 89 rfl) rfl
theorem q1640 : (Jvm.Cond.lays "ForestRoomsModel" "ForestRoomsModel" "opened" "I") ∈ lw_all := lw_g (lw_at lw_m7 90 rfl) rfl
theorem q1641 : (Jvm.Cond.soleField "ForestRoomsModel" "opened") ∈ lw_all := lw_g (lw_at lw_m7 91 rfl) rfl
theorem q1642 : (Jvm.Cond.laysFinal "ForestRoomsModel" "ForestRoomsModel" "words" "[J") ∈ lw_all := lw_g (lw_at lw_m7 92 rfl) rfl
theorem q1643 : (Jvm.Cond.soleField "ForestRoomsModel" "words") ∈ lw_all := lw_g (lw_at lw_m7 93 rfl) rfl
theorem q1644 : (Jvm.Cond.laysFinal "ForestRoomsModel" "ForestRoomsModel" "orderWords" "[J") ∈ lw_all := lw_g (lw_at lw_m7 94 rfl) rfl
theorem q1645 : (Jvm.Cond.soleField "ForestRoomsModel" "orderWords") ∈ lw_all := lw_g (lw_at lw_m7 95 rfl) rfl
theorem q1646 : (Jvm.Cond.laysFinal "ForestRoomsModel" "ForestRoomsModel" "heads" "[J") ∈ lw_all := lw_g (lw_at lw_m7 96 rfl) rfl
theorem q1647 : (Jvm.Cond.soleField "ForestRoomsModel" "heads") ∈ lw_all := lw_g (lw_at lw_m7 97 rfl) rfl
theorem q1648 : (Jvm.Cond.lays "ForestRoomsModel" "ForestRoomsModel" "law" "I") ∈ lw_all := lw_g (lw_at lw_m7 98 rfl) rfl
theorem q1649 : (Jvm.Cond.soleField "ForestRoomsModel" "law") ∈ lw_all := lw_g (lw_at lw_m7 99 rfl) rfl
theorem q1650 : (Jvm.Cond.laysFinal "ForestRoomsModel" "ForestRoomsModel" "set" "[J") ∈ lw_all := lw_g (lw_at lw_m7 100 rfl) rfl
theorem q1651 : (Jvm.Cond.soleField "ForestRoomsModel" "set") ∈ lw_all := lw_g (lw_at lw_m7 101 rfl) rfl
theorem q1652 : (Jvm.Cond.laysFinal "ForestRoomsModel" "ForestRoomsModel" "now" "[J") ∈ lw_all := lw_g (lw_at lw_m7 102 rfl) rfl
theorem q1653 : (Jvm.Cond.soleField "ForestRoomsModel" "now") ∈ lw_all := lw_g (lw_at lw_m7 103 rfl) rfl
theorem q1654 : (Jvm.Cond.laysFinal "ForestRoomsModel" "ForestRoomsModel" "rest" "[J") ∈ lw_all := lw_g (lw_at lw_m7 104 rfl) rfl
theorem q1655 : (Jvm.Cond.soleField "ForestRoomsModel" "rest") ∈ lw_all := lw_g (lw_at lw_m7 105 rfl) rfl
theorem q1656 : (Jvm.Cond.lays "ForestRoomsModel" "ForestRoomsModel" "broken" "Z") ∈ lw_all := lw_g (lw_at lw_m7 106 rfl) rfl
theorem q1657 : (Jvm.Cond.soleField "ForestRoomsModel" "broken") ∈ lw_all := lw_g (lw_at lw_m7 107 rfl) rfl
theorem q1658 : (Jvm.Cond.lays "ForestRoomsModel" "ForestRoomsModel" "value" "J") ∈ lw_all := lw_g (lw_at lw_m7 108 rfl) rfl
theorem q1659 : (Jvm.Cond.soleField "ForestRoomsModel" "value") ∈ lw_all := lw_g (lw_at lw_m7 109 rfl) rfl
theorem q1660 : (Jvm.Cond.lays "ForestRoomsModel" "ForestRoomsModel" "sum" "J") ∈ lw_all := lw_g (lw_at lw_m7 110 rfl) rfl
theorem q1661 : (Jvm.Cond.soleField "ForestRoomsModel" "sum") ∈ lw_all := lw_g (lw_at lw_m7 111 rfl) rfl
theorem q1662 : (Jvm.Cond.laysFinal "ForestRoomsModel" "ForestRoomsModel" "more" "[I") ∈ lw_all := lw_g (lw_at lw_m7 112 rfl) rfl
theorem q1663 : (Jvm.Cond.soleField "ForestRoomsModel" "more") ∈ lw_all := lw_g (lw_at lw_m7 113 rfl) rfl
theorem q1664 : (Jvm.Cond.laysFinal "ForestRoomsModel" "ForestRoomsModel" "newcomer" "[I") ∈ lw_all := lw_g (lw_at lw_m7 114 rfl) rfl
theorem q1665 : (Jvm.Cond.soleField "ForestRoomsModel" "newcomer") ∈ lw_all := lw_g (lw_at lw_m7 115 rfl) rfl
theorem q1666 : (Jvm.Cond.laysFinal "ForestRoomsModel" "ForestRoomsModel" "greatest" "[I") ∈ lw_all := lw_g (lw_at lw_m7 116 rfl) rfl
theorem q1667 : (Jvm.Cond.soleField "ForestRoomsModel" "greatest") ∈ lw_all := lw_g (lw_at lw_m7 117 rfl) rfl
theorem q1668 : (Jvm.Cond.laysFinal "ForestRoomsModel" "ForestRoomsModel" "suits" "[I") ∈ lw_all := lw_g (lw_at lw_m7 118 rfl) rfl
theorem q1669 : (Jvm.Cond.soleField "ForestRoomsModel" "suits") ∈ lw_all := lw_g (lw_at lw_m7 119 rfl) rfl
theorem q1670 : (Jvm.Cond.laysFinal "ForestRoomsModel" "ForestRoomsModel" "who" "[I") ∈ lw_all := lw_g (lw_at lw_m7 120 rfl) rfl
theorem q1671 : (Jvm.Cond.soleField "ForestRoomsModel" "who") ∈ lw_all := lw_g (lw_at lw_m7 121 rfl) rfl
theorem q1672 : (Jvm.Cond.laysFinal "ForestRoomsModel" "ForestRoomsModel" "home" "[I") ∈ lw_all := lw_g (lw_at lw_m7 122 rfl) rfl
theorem q1673 : (Jvm.Cond.soleField "ForestRoomsModel" "home") ∈ lw_all := lw_g (lw_at lw_m7 123 rfl) rfl
theorem q1674 : (Jvm.Cond.laysFinal "ForestRoomsModel" "ForestRoomsModel" "bestHome" "[I") ∈ lw_all := lw_g (lw_at lw_m7 124 rfl) rfl
theorem q1675 : (Jvm.Cond.soleField "ForestRoomsModel" "bestHome") ∈ lw_all := lw_g (lw_at lw_m7 125 rfl) rfl
theorem q1676 : (Jvm.Cond.laysFinal "ForestRoomsModel" "ForestRoomsModel" "bound" "[I") ∈ lw_all := lw_g (lw_at lw_m7 126 rfl) rfl
theorem q1677 : (Jvm.Cond.soleField "ForestRoomsModel" "bound") ∈ lw_all := lw_g (lw_at lw_m7 127 rfl) rfl
theorem q1678 : (Jvm.Cond.laysFinal "ForestRoomsModel" "ForestRoomsModel" "sumTo" "[I") ∈ lw_all := lw_g (lw_at lw_m7 128 rfl) rfl
theorem q1679 : (Jvm.Cond.soleField "ForestRoomsModel" "sumTo") ∈ lw_all := lw_g (lw_at lw_m7 129 rfl) rfl
theorem q1680 : (Jvm.Cond.laysFinal "ForestRoomsModel" "ForestRoomsModel" "shown" "[I") ∈ lw_all := lw_g (lw_at lw_m7 130 rfl) rfl
theorem q1681 : (Jvm.Cond.soleField "ForestRoomsModel" "shown") ∈ lw_all := lw_g (lw_at lw_m7 131 rfl) rfl
theorem q1682 : (Jvm.Cond.laysFinal "ForestRoomsModel" "ForestRoomsModel" "shares" "[I") ∈ lw_all := lw_g (lw_at lw_m7 132 rfl) rfl
theorem q1683 : (Jvm.Cond.soleField "ForestRoomsModel" "shares") ∈ lw_all := lw_g (lw_at lw_m7 133 rfl) rfl
theorem q1684 : (Jvm.Cond.laysFinal "ForestRoomsModel" "ForestRoomsModel" "rests" "[J") ∈ lw_all := lw_g (lw_at lw_m7 134 rfl) rfl
theorem q1685 : (Jvm.Cond.soleField "ForestRoomsModel" "rests") ∈ lw_all := lw_g (lw_at lw_m7 135 rfl) rfl
theorem q1686 : (Jvm.Cond.laysFinal "ForestRoomsModel" "ForestRoomsModel" "acts" "[J") ∈ lw_all := lw_g (lw_at lw_m7 136 rfl) rfl
theorem q1687 : (Jvm.Cond.soleField "ForestRoomsModel" "acts") ∈ lw_all := lw_g (lw_at lw_m7 137 rfl) rfl
theorem q1688 : (Jvm.Cond.laysFinal "ForestRoomsModel" "ForestRoomsModel" "nOrder" "[I") ∈ lw_all := lw_g (lw_at lw_m7 138 rfl) rfl
theorem q1689 : (Jvm.Cond.soleField "ForestRoomsModel" "nOrder") ∈ lw_all := lw_g (lw_at lw_m7 139 rfl) rfl
theorem q1690 : (Jvm.Cond.lays "ForestRoomsModel" "ForestRoomsModel" "done" "I") ∈ lw_all := lw_g (lw_at lw_m7 140 rfl) rfl
theorem q1691 : (Jvm.Cond.soleField "ForestRoomsModel" "done") ∈ lw_all := lw_g (lw_at lw_m7 141 rfl) rfl
theorem q1692 : (Jvm.Cond.lays "ForestRoomsModel" "ForestRoomsModel" "lost" "I") ∈ lw_all := lw_g (lw_at lw_m7 142 rfl) rfl
theorem q1693 : (Jvm.Cond.soleField "ForestRoomsModel" "lost") ∈ lw_all := lw_g (lw_at lw_m7 143 rfl) rfl
theorem q1694 : (Jvm.Cond.lays "ForestRoomsModel" "ForestRoomsModel" "stopped" "I") ∈ lw_all := lw_g (lw_at lw_m7 144 rfl) rfl
theorem q1695 : (Jvm.Cond.soleField "ForestRoomsModel" "stopped") ∈ lw_all := lw_g (lw_at lw_m7 145 rfl) rfl
theorem q1696 : (Jvm.Cond.lays "ForestRoomsModel" "ForestRoomsModel" "off" "Z") ∈ lw_all := lw_g (lw_at lw_m7 146 rfl) rfl
theorem q1697 : (Jvm.Cond.soleField "ForestRoomsModel" "off") ∈ lw_all := lw_g (lw_at lw_m7 147 rfl) rfl
theorem q1698 : (Jvm.Cond.lays "ForestRoomsModel" "ForestRoomsModel" "state" "J") ∈ lw_all := lw_g (lw_at lw_m7 148 rfl) rfl
theorem q1699 : (Jvm.Cond.soleField "ForestRoomsModel" "state") ∈ lw_all := lw_g (lw_at lw_m7 149 rfl) rfl
theorem q1700 : (Jvm.Cond.laysFinal "ForestRoomsModel" "ForestRoomsModel" "drawn" "[I") ∈ lw_all := lw_g (lw_at lw_m7 150 rfl) rfl
theorem q1701 : (Jvm.Cond.soleField "ForestRoomsModel" "drawn") ∈ lw_all := lw_g (lw_at lw_m7 151 rfl) rfl
theorem q1702 : (Jvm.Cond.lays "ForestRoomsModel" "ForestRoomsModel" "isDrawn" "Z") ∈ lw_all := lw_g (lw_at lw_m7 152 rfl) rfl
theorem q1703 : (Jvm.Cond.soleField "ForestRoomsModel" "isDrawn") ∈ lw_all := lw_g (lw_at lw_m7 153 rfl) rfl
theorem q1704 : (Jvm.Cond.superclass "ForestRoomsModel" "java/lang/Object") ∈ lw_all := lw_g (lw_at lw_m7 154 rfl) rfl
theorem q1707 : (Jvm.Cond.instanceMethod ({ cls := "ForestRoomsModel", name := "undo", desc := "()I" } : Jvm.MethodName)) ∈ lw_all := lw_g (lw_at lw_m7 157 rfl) rfl
theorem q1708 : (Jvm.Cond.selects "ForestRoomsModel" ({ cls := "ForestRoomsModel", name := "undo", desc := "()I" } : Jvm.MethodName) ({ cls := "ForestRoomsModel", name := "undo", desc := "()I" } : Jvm.MethodName)) ∈ lw_all := lw_g (lw_at lw_m7 158 rfl) rfl
theorem q1709 : (Jvm.Cond.code ({ cls := "ForestRoomsModel", name := "undo", desc := "()I" } : Jvm.MethodName) prog_22_method_13_code (1 : Nat) (Option.some Jvm.ClassFile.FieldType.int)) ∈ lw_all := lw_g (lw_at lw_m7 159 rfl) rfl
theorem q1710 : (Jvm.Cond.methodLink "ForestRoomsModel" (183 : Nat) ({ cls := "ForestRoomsModel", name := "tell", desc := "(I)I" } : Jvm.MethodName)) ∈ lw_all := lw_g (lw_at lw_m7 160 rfl) rfl
theorem q1711 : (Jvm.Cond.privateMethod ({ cls := "ForestRoomsModel", name := "tell", desc := "(I)I" } : Jvm.MethodName)) ∈ lw_tbl := lw_at lw_m7 161 rfl
theorem q1712 : (Jvm.Cond.instanceMethod ({ cls := "ForestRoomsModel", name := "tell", desc := "(I)I" } : Jvm.MethodName)) ∈ lw_all := lw_g (lw_at lw_m7 162 rfl) rfl
theorem q1713 : (Jvm.Cond.code ({ cls := "ForestRoomsModel", name := "tell", desc := "(I)I" } : Jvm.MethodName) prog_22_method_7_code (2 : Nat) (Option.some Jvm.ClassFile.FieldType.int)) ∈ lw_all := lw_g (lw_at lw_m7 163 rfl) rfl
theorem q1714 : (Jvm.Cond.methodLink "ForestRoomsModel" (191 : Nat) ({ cls := "ForestRoomsModel", name := "putBack", desc := "(I)V" } : Jvm.MethodName)) ∈ lw_all := lw_g (lw_at lw_m7 164 rfl) rfl
theorem q1715 : (Jvm.Cond.privateMethod ({ cls := "ForestRoomsModel", name := "putBack", desc := "(I)V" } : Jvm.MethodName)) ∈ lw_tbl := lw_at lw_m7 165 rfl
theorem q1716 : (Jvm.Cond.instanceMethod ({ cls := "ForestRoomsModel", name := "putBack", desc := "(I)V" } : Jvm.MethodName)) ∈ lw_all := lw_g (lw_at lw_m7 166 rfl) rfl
theorem q1717 : (Jvm.Cond.code ({ cls := "ForestRoomsModel", name := "putBack", desc := "(I)V" } : Jvm.MethodName) prog_22_method_11_code (3 : Nat) (Option.none : Option Jvm.ClassFile.FieldType)) ∈ lw_all := lw_g (lw_at lw_m7 167 rfl) rfl
theorem q1719 : (Jvm.Cond.instanceMethod ({ cls := "ForestRoomsModel", name := "image", desc := "(I)I" } : Jvm.MethodName)) ∈ lw_all := lw_g (lw_at lw_m7 169 rfl) rfl
theorem q1720 : (Jvm.Cond.selects "ForestRoomsModel" ({ cls := "ForestRoomsModel", name := "image", desc := "(I)I" } : Jvm.MethodName) ({ cls := "ForestRoomsModel", name := "image", desc := "(I)I" } : Jvm.MethodName)) ∈ lw_all := lw_g (lw_at lw_m7 170 rfl) rfl
theorem q1721 : (Jvm.Cond.code ({ cls := "ForestRoomsModel", name := "image", desc := "(I)I" } : Jvm.MethodName) prog_22_method_14_code (3 : Nat) (Option.some Jvm.ClassFile.FieldType.int)) ∈ lw_all := lw_g (lw_at lw_m7 171 rfl) rfl
theorem q1722 : (Jvm.Cond.methodLink "ForestRoomsModel" (194 : Nat) ({ cls := "ForestRoomsModel", name := "in", desc := "(JJJ)Z" } : Jvm.MethodName)) ∈ lw_all := lw_g (lw_at lw_m7 172 rfl) rfl
theorem q1723 : (Jvm.Cond.static ({ cls := "ForestRoomsModel", name := "in", desc := "(JJJ)Z" } : Jvm.MethodName)) ∈ lw_all := lw_g (lw_at lw_m7 173 rfl) rfl
theorem q1724 : (Jvm.Cond.code ({ cls := "ForestRoomsModel", name := "in", desc := "(JJJ)Z" } : Jvm.MethodName) prog_22_method_3_code (6 : Nat) (Option.some Jvm.ClassFile.FieldType.boolean)) ∈ lw_all := lw_g (lw_at lw_m7 174 rfl) rfl
theorem q1726 : (Jvm.Cond.instanceMethod ({ cls := "ForestRoomsModel", name := "back", desc := "(I)I" } : Jvm.MethodName)) ∈ lw_all := lw_g (lw_at lw_m7 176 rfl) rfl
theorem q1727 : (Jvm.Cond.selects "ForestRoomsModel" ({ cls := "ForestRoomsModel", name := "back", desc := "(I)I" } : Jvm.MethodName) ({ cls := "ForestRoomsModel", name := "back", desc := "(I)I" } : Jvm.MethodName)) ∈ lw_all := lw_g (lw_at lw_m7 177 rfl) rfl
theorem q1728 : (Jvm.Cond.code ({ cls := "ForestRoomsModel", name := "back", desc := "(I)I" } : Jvm.MethodName) prog_22_method_15_code (3 : Nat) (Option.some Jvm.ClassFile.FieldType.int)) ∈ lw_all := lw_g (lw_at lw_m7 178 rfl) rfl
theorem q1729 : (Jvm.Cond.methodLink "ForestRoomsModel" (198 : Nat) ({ cls := "ForestRoomsModel", name := "settled", desc := "(I)I" } : Jvm.MethodName)) ∈ lw_all := lw_g (lw_at lw_m7 179 rfl) rfl
theorem q1730 : (Jvm.Cond.privateMethod ({ cls := "ForestRoomsModel", name := "settled", desc := "(I)I" } : Jvm.MethodName)) ∈ lw_tbl := lw_at lw_m7 180 rfl
theorem q1731 : (Jvm.Cond.instanceMethod ({ cls := "ForestRoomsModel", name := "settled", desc := "(I)I" } : Jvm.MethodName)) ∈ lw_all := lw_g (lw_at lw_m7 181 rfl) rfl
theorem q1732 : (Jvm.Cond.code ({ cls := "ForestRoomsModel", name := "settled", desc := "(I)I" } : Jvm.MethodName) prog_22_method_9_code (2 : Nat) (Option.some Jvm.ClassFile.FieldType.int)) ∈ lw_all := lw_g (lw_at lw_m7 182 rfl) rfl
theorem q1734 : (Jvm.Cond.instanceMethod ({ cls := "ForestRoomsModel", name := "put", desc := "(III)I" } : Jvm.MethodName)) ∈ lw_all := lw_g (lw_at lw_m7 184 rfl) rfl
theorem q1735 : (Jvm.Cond.selects "ForestRoomsModel" ({ cls := "ForestRoomsModel", name := "put", desc := "(III)I" } : Jvm.MethodName) ({ cls := "ForestRoomsModel", name := "put", desc := "(III)I" } : Jvm.MethodName)) ∈ lw_all := lw_g (lw_at lw_m7 185 rfl) rfl
theorem q1736 : (Jvm.Cond.code ({ cls := "ForestRoomsModel", name := "put", desc := "(III)I" } : Jvm.MethodName) prog_22_method_23_code (4 : Nat) (Option.some Jvm.ClassFile.FieldType.int)) ∈ lw_all := lw_g (lw_at lw_m7 186 rfl) rfl
theorem q1737 : (Jvm.Cond.methodLink "ForestRoomsModel" (205 : Nat) ({ cls := "ForestRoomsModel", name := "isRoom", desc := "(I)Z" } : Jvm.MethodName)) ∈ lw_all := lw_g (lw_at lw_m7 187 rfl) rfl
theorem q1738 : (Jvm.Cond.static ({ cls := "ForestRoomsModel", name := "isRoom", desc := "(I)Z" } : Jvm.MethodName)) ∈ lw_all := lw_g (lw_at lw_m7 188 rfl) rfl
theorem q1739 : (Jvm.Cond.code ({ cls := "ForestRoomsModel", name := "isRoom", desc := "(I)Z" } : Jvm.MethodName) prog_22_method_17_code (1 : Nat) (Option.some Jvm.ClassFile.FieldType.boolean)) ∈ lw_all := lw_g (lw_at lw_m7 189 rfl) rfl
theorem q1740 : (Jvm.Cond.constantLong "ForestRoomsModel" (201 : Nat) (15 : Int64)) ∈ lw_all := lw_g (lw_at lw_m7 190 rfl) rfl
theorem q1741 : (Jvm.Cond.methodLink "ForestRoomsModel" (209 : Nat) ({ cls := "ForestRoomsModel", name := "canBe", desc := "(II)Z" } : Jvm.MethodName)) ∈ lw_all := lw_g (lw_at lw_m7 191 rfl) rfl
theorem q1742 : (Jvm.Cond.static ({ cls := "ForestRoomsModel", name := "canBe", desc := "(II)Z" } : Jvm.MethodName)) ∈ lw_all := lw_g (lw_at lw_m7 192 rfl) rfl
theorem q1743 : (Jvm.Cond.code ({ cls := "ForestRoomsModel", name := "canBe", desc := "(II)Z" } : Jvm.MethodName) prog_22_method_22_code (2 : Nat) (Option.some Jvm.ClassFile.FieldType.boolean)) ∈ lw_all := lw_g (lw_at lw_m7 193 rfl) rfl
theorem q1744 : (Jvm.Cond.constantLong "ForestRoomsModel" (203 : Nat) (9 : Int64)) ∈ lw_all := lw_g (lw_at lw_m7 194 rfl) rfl
theorem q1745 : (Jvm.Cond.methodLink "ForestRoomsModel" (213 : Nat) ({ cls := "ForestRoomsModel", name := "change", desc := "(II)I" } : Jvm.MethodName)) ∈ lw_all := lw_g (lw_at lw_m7 195 rfl) rfl
theorem q1746 : (Jvm.Cond.privateMethod ({ cls := "ForestRoomsModel", name := "change", desc := "(II)I" } : Jvm.MethodName)) ∈ lw_tbl := lw_at lw_m7 196 rfl
theorem q1747 : (Jvm.Cond.instanceMethod ({ cls := "ForestRoomsModel", name := "change", desc := "(II)I" } : Jvm.MethodName)) ∈ lw_all := lw_g (lw_at lw_m7 197 rfl) rfl
theorem q1748 : (Jvm.Cond.code ({ cls := "ForestRoomsModel", name := "change", desc := "(II)I" } : Jvm.MethodName) prog_22_method_8_code (4 : Nat) (Option.some Jvm.ClassFile.FieldType.int)) ∈ lw_all := lw_g (lw_at lw_m7 198 rfl) rfl
theorem q1750 : (Jvm.Cond.instanceMethod ({ cls := "ForestRoomsModel", name := "at", desc := "(II)I" } : Jvm.MethodName)) ∈ lw_all := lw_g (lw_at lw_m7 200 rfl) rfl
theorem q1751 : (Jvm.Cond.selects "ForestRoomsModel" ({ cls := "ForestRoomsModel", name := "at", desc := "(II)I" } : Jvm.MethodName) ({ cls := "ForestRoomsModel", name := "at", desc := "(II)I" } : Jvm.MethodName)) ∈ lw_all := lw_g (lw_at lw_m7 201 rfl) rfl
theorem q1752 : (Jvm.Cond.code ({ cls := "ForestRoomsModel", name := "at", desc := "(II)I" } : Jvm.MethodName) prog_22_method_24_code (3 : Nat) (Option.some Jvm.ClassFile.FieldType.int)) ∈ lw_all := lw_g (lw_at lw_m7 202 rfl) rfl
theorem q1753 : (Jvm.Cond.methodLink "ForestRoomsModel" (217 : Nat) ({ cls := "ForestRoomsModel", name := "isLost", desc := "(I)Z" } : Jvm.MethodName)) ∈ lw_all := lw_g (lw_at lw_m7 203 rfl) rfl
theorem q1754 : (Jvm.Cond.privateMethod ({ cls := "ForestRoomsModel", name := "isLost", desc := "(I)Z" } : Jvm.MethodName)) ∈ lw_tbl := lw_at lw_m7 204 rfl
theorem q1755 : (Jvm.Cond.instanceMethod ({ cls := "ForestRoomsModel", name := "isLost", desc := "(I)Z" } : Jvm.MethodName)) ∈ lw_all := lw_g (lw_at lw_m7 205 rfl) rfl
theorem q1756 : (Jvm.Cond.code ({ cls := "ForestRoomsModel", name := "isLost", desc := "(I)Z" } : Jvm.MethodName) prog_22_method_20_code (2 : Nat) (Option.some Jvm.ClassFile.FieldType.boolean)) ∈ lw_all := lw_g (lw_at lw_m7 206 rfl) rfl
theorem q1757 : (Jvm.Cond.methodLink "ForestRoomsModel" (220 : Nat) ({ cls := "ForestRoomsModel", name := "isTree", desc := "(I)Z" } : Jvm.MethodName)) ∈ lw_all := lw_g (lw_at lw_m7 207 rfl) rfl
theorem q1758 : (Jvm.Cond.privateMethod ({ cls := "ForestRoomsModel", name := "isTree", desc := "(I)Z" } : Jvm.MethodName)) ∈ lw_tbl := lw_at lw_m7 208 rfl
theorem q1759 : (Jvm.Cond.instanceMethod ({ cls := "ForestRoomsModel", name := "isTree", desc := "(I)Z" } : Jvm.MethodName)) ∈ lw_all := lw_g (lw_at lw_m7 209 rfl) rfl
theorem q1760 : (Jvm.Cond.code ({ cls := "ForestRoomsModel", name := "isTree", desc := "(I)Z" } : Jvm.MethodName) prog_22_method_19_code (2 : Nat) (Option.some Jvm.ClassFile.FieldType.boolean)) ∈ lw_all := lw_g (lw_at lw_m7 210 rfl) rfl
theorem q1761 : (Jvm.Cond.methodLink "ForestRoomsModel" (223 : Nat) ({ cls := "ForestRoomsModel", name := "growsOf", desc := "(I)I" } : Jvm.MethodName)) ∈ lw_all := lw_g (lw_at lw_m7 211 rfl) rfl
theorem q1762 : (Jvm.Cond.privateMethod ({ cls := "ForestRoomsModel", name := "growsOf", desc := "(I)I" } : Jvm.MethodName)) ∈ lw_tbl := lw_at lw_m7 212 rfl
theorem q1763 : (Jvm.Cond.instanceMethod ({ cls := "ForestRoomsModel", name := "growsOf", desc := "(I)I" } : Jvm.MethodName)) ∈ lw_all := lw_g (lw_at lw_m7 213 rfl) rfl
theorem q1764 : (Jvm.Cond.code ({ cls := "ForestRoomsModel", name := "growsOf", desc := "(I)I" } : Jvm.MethodName) prog_22_method_67_code (3 : Nat) (Option.some Jvm.ClassFile.FieldType.int)) ∈ lw_all := lw_g (lw_at lw_m7 214 rfl) rfl
theorem q1765 : (Jvm.Cond.methodLink "ForestRoomsModel" (424 : Nat) ({ cls := "ForestRoomsModel", name := "hasItsNeeds", desc := "(II)Z" } : Jvm.MethodName)) ∈ lw_all := lw_g (lw_at lw_m7 215 rfl) rfl
theorem q1766 : (Jvm.Cond.privateMethod ({ cls := "ForestRoomsModel", name := "hasItsNeeds", desc := "(II)Z" } : Jvm.MethodName)) ∈ lw_tbl := lw_at lw_m7 216 rfl
theorem q1767 : (Jvm.Cond.instanceMethod ({ cls := "ForestRoomsModel", name := "hasItsNeeds", desc := "(II)Z" } : Jvm.MethodName)) ∈ lw_all := lw_g (lw_at lw_m7 217 rfl) rfl
theorem q1768 : (Jvm.Cond.code ({ cls := "ForestRoomsModel", name := "hasItsNeeds", desc := "(II)Z" } : Jvm.MethodName) prog_22_method_66_code (3 : Nat) (Option.some Jvm.ClassFile.FieldType.boolean)) ∈ lw_all := lw_g (lw_at lw_m7 218 rfl) rfl
theorem q1769 : (Jvm.Cond.constantLong "ForestRoomsModel" (427 : Nat) (3 : Int64)) ∈ lw_all := lw_g (lw_at lw_m7 219 rfl) rfl
theorem q1770 : (Jvm.Cond.methodLink "ForestRoomsModel" (429 : Nat) ({ cls := "ForestRoomsModel", name := "tells", desc := "(IIIIIJ)J" } : Jvm.MethodName)) ∈ lw_all := lw_g (lw_at lw_m7 220 rfl) rfl
theorem q1771 : (Jvm.Cond.privateMethod ({ cls := "ForestRoomsModel", name := "tells", desc := "(IIIIIJ)J" } : Jvm.MethodName)) ∈ lw_tbl := lw_at lw_m7 221 rfl
theorem q1772 : (Jvm.Cond.instanceMethod ({ cls := "ForestRoomsModel", name := "tells", desc := "(IIIIIJ)J" } : Jvm.MethodName)) ∈ lw_all := lw_g (lw_at lw_m7 222 rfl) rfl
theorem q1773 : (Jvm.Cond.code ({ cls := "ForestRoomsModel", name := "tells", desc := "(IIIIIJ)J" } : Jvm.MethodName) prog_22_method_64_code (12 : Nat) (Option.some Jvm.ClassFile.FieldType.long)) ∈ lw_all := lw_g (lw_at lw_m7 223 rfl) rfl
theorem q1774 : (Jvm.Cond.methodLink "ForestRoomsModel" (418 : Nat) ({ cls := "ForestRoomsModel", name := "term", desc := "(I)I" } : Jvm.MethodName)) ∈ lw_all := lw_g (lw_at lw_m7 224 rfl) rfl
theorem q1775 : (Jvm.Cond.privateMethod ({ cls := "ForestRoomsModel", name := "term", desc := "(I)I" } : Jvm.MethodName)) ∈ lw_tbl := lw_at lw_m7 225 rfl
theorem q1776 : (Jvm.Cond.instanceMethod ({ cls := "ForestRoomsModel", name := "term", desc := "(I)I" } : Jvm.MethodName)) ∈ lw_all := lw_g (lw_at lw_m7 226 rfl) rfl
theorem q1777 : (Jvm.Cond.code ({ cls := "ForestRoomsModel", name := "term", desc := "(I)I" } : Jvm.MethodName) prog_22_method_16_code (2 : Nat) (Option.some Jvm.ClassFile.FieldType.int)) ∈ lw_all := lw_g (lw_at lw_m7 227 rfl) rfl
theorem q1778 : (Jvm.Cond.constantLong "ForestRoomsModel" (276 : Nat) (-1 : Int64)) ∈ lw_all := lw_g (lw_at lw_m7 228 rfl) rfl
theorem q1779 : (Jvm.Cond.methodLink "ForestRoomsModel" (421 : Nat) ({ cls := "ForestRoomsModel", name := "isSo", desc := "(I)Z" } : Jvm.MethodName)) ∈ lw_all := lw_g (lw_at lw_m7 229 rfl) rfl
theorem q1780 : (Jvm.Cond.privateMethod ({ cls := "ForestRoomsModel", name := "isSo", desc := "(I)Z" } : Jvm.MethodName)) ∈ lw_tbl := lw_at lw_m7 230 rfl
theorem q1781 : (Jvm.Cond.instanceMethod ({ cls := "ForestRoomsModel", name := "isSo", desc := "(I)Z" } : Jvm.MethodName)) ∈ lw_all := lw_g (lw_at lw_m7 231 rfl) rfl
theorem q1782 : (Jvm.Cond.code ({ cls := "ForestRoomsModel", name := "isSo", desc := "(I)Z" } : Jvm.MethodName) prog_22_method_63_code (2 : Nat) (Option.some Jvm.ClassFile.FieldType.boolean)) ∈ lw_all := lw_g (lw_at lw_m7 232 rfl) rfl
theorem q1783 : (Jvm.Cond.methodLink "ForestRoomsModel" (412 : Nat) ({ cls := "ForestRoomsModel", name := "reckonAll", desc := "(II)V" } : Jvm.MethodName)) ∈ lw_all := lw_g (lw_at lw_m7 233 rfl) rfl
theorem q1784 : (Jvm.Cond.privateMethod ({ cls := "ForestRoomsModel", name := "reckonAll", desc := "(II)V" } : Jvm.MethodName)) ∈ lw_tbl := lw_at lw_m7 234 rfl
theorem q1785 : (Jvm.Cond.instanceMethod ({ cls := "ForestRoomsModel", name := "reckonAll", desc := "(II)V" } : Jvm.MethodName)) ∈ lw_all := lw_g (lw_at lw_m7 235 rfl) rfl
theorem q1786 : (Jvm.Cond.code ({ cls := "ForestRoomsModel", name := "reckonAll", desc := "(II)V" } : Jvm.MethodName) prog_22_method_62_code (7 : Nat) (Option.none : Option Jvm.ClassFile.FieldType)) ∈ lw_all := lw_g (lw_at lw_m7 236 rfl) rfl
theorem q1787 : (Jvm.Cond.methodLink "ForestRoomsModel" (401 : Nat) ({ cls := "ForestRoomsModel", name := "reckon", desc := "(IJJ)J" } : Jvm.MethodName)) ∈ lw_all := lw_g (lw_at lw_m7 237 rfl) rfl
theorem q1788 : (Jvm.Cond.privateMethod ({ cls := "ForestRoomsModel", name := "reckon", desc := "(IJJ)J" } : Jvm.MethodName)) ∈ lw_tbl := lw_at lw_m7 238 rfl
theorem q1789 : (Jvm.Cond.instanceMethod ({ cls := "ForestRoomsModel", name := "reckon", desc := "(IJJ)J" } : Jvm.MethodName)) ∈ lw_all := lw_g (lw_at lw_m7 239 rfl) rfl
theorem q1790 : (Jvm.Cond.code ({ cls := "ForestRoomsModel", name := "reckon", desc := "(IJJ)J" } : Jvm.MethodName) prog_22_method_61_code (6 : Nat) (Option.some Jvm.ClassFile.FieldType.long)) ∈ lw_all := lw_g (lw_at lw_m8 0 rfl) rfl
theorem q1791 : (Jvm.Cond.constantLong "ForestRoomsModel" (405 : Nat) (-1000000000 : Int64)) ∈ lw_all := lw_g (lw_at lw_m8 1 rfl) rfl
theorem q1792 : (Jvm.Cond.constantLong "ForestRoomsModel" (407 : Nat) (1000000000 : Int64)) ∈ lw_all := lw_g (lw_at lw_m8 2 rfl) rfl
theorem q1793 : (Jvm.Cond.methodLink "ForestRoomsModel" (433 : Nat) ({ cls := "ForestRoomsModel", name := "within", desc := "(JII)I" } : Jvm.MethodName)) ∈ lw_all := lw_g (lw_at lw_m8 3 rfl) rfl
theorem q1794 : (Jvm.Cond.static ({ cls := "ForestRoomsModel", name := "within", desc := "(JII)I" } : Jvm.MethodName)) ∈ lw_all := lw_g (lw_at lw_m8 4 rfl) rfl
theorem q1795 : (Jvm.Cond.code ({ cls := "ForestRoomsModel", name := "within", desc := "(JII)I" } : Jvm.MethodName) prog_22_method_6_code (4 : Nat) (Option.some Jvm.ClassFile.FieldType.int)) ∈ lw_all := lw_g (lw_at lw_m8 5 rfl) rfl
theorem q1796 : (Jvm.Cond.methodLink "ForestRoomsModel" (226 : Nat) ({ cls := "ForestRoomsModel", name := "leavesOf", desc := "(I)I" } : Jvm.MethodName)) ∈ lw_all := lw_g (lw_at lw_m8 6 rfl) rfl
theorem q1797 : (Jvm.Cond.privateMethod ({ cls := "ForestRoomsModel", name := "leavesOf", desc := "(I)I" } : Jvm.MethodName)) ∈ lw_tbl := lw_at lw_m8 7 rfl
theorem q1798 : (Jvm.Cond.instanceMethod ({ cls := "ForestRoomsModel", name := "leavesOf", desc := "(I)I" } : Jvm.MethodName)) ∈ lw_all := lw_g (lw_at lw_m8 8 rfl) rfl
theorem q1799 : (Jvm.Cond.code ({ cls := "ForestRoomsModel", name := "leavesOf", desc := "(I)I" } : Jvm.MethodName) prog_22_method_68_code (2 : Nat) (Option.some Jvm.ClassFile.FieldType.int)) ∈ lw_all := lw_g (lw_at lw_m8 9 rfl) rfl
theorem q1801 : (Jvm.Cond.instanceMethod ({ cls := "ForestRoomsModel", name := "needs", desc := "(III)I" } : Jvm.MethodName)) ∈ lw_all := lw_g (lw_at lw_m8 11 rfl) rfl
theorem q1802 : (Jvm.Cond.selects "ForestRoomsModel" ({ cls := "ForestRoomsModel", name := "needs", desc := "(III)I" } : Jvm.MethodName) ({ cls := "ForestRoomsModel", name := "needs", desc := "(III)I" } : Jvm.MethodName)) ∈ lw_all := lw_g (lw_at lw_m8 12 rfl) rfl
theorem q1803 : (Jvm.Cond.code ({ cls := "ForestRoomsModel", name := "needs", desc := "(III)I" } : Jvm.MethodName) prog_22_method_25_code (4 : Nat) (Option.some Jvm.ClassFile.FieldType.int)) ∈ lw_all := lw_g (lw_at lw_m8 13 rfl) rfl
theorem q1804 : (Jvm.Cond.constantLong "ForestRoomsModel" (229 : Nat) (5 : Int64)) ∈ lw_all := lw_g (lw_at lw_m8 14 rfl) rfl
theorem q1806 : (Jvm.Cond.instanceMethod ({ cls := "ForestRoomsModel", name := "terms", desc := "(II)I" } : Jvm.MethodName)) ∈ lw_all := lw_g (lw_at lw_m8 16 rfl) rfl
theorem q1807 : (Jvm.Cond.selects "ForestRoomsModel" ({ cls := "ForestRoomsModel", name := "terms", desc := "(II)I" } : Jvm.MethodName) ({ cls := "ForestRoomsModel", name := "terms", desc := "(II)I" } : Jvm.MethodName)) ∈ lw_all := lw_g (lw_at lw_m8 17 rfl) rfl
theorem q1808 : (Jvm.Cond.code ({ cls := "ForestRoomsModel", name := "terms", desc := "(II)I" } : Jvm.MethodName) prog_22_method_26_code (4 : Nat) (Option.some Jvm.ClassFile.FieldType.int)) ∈ lw_all := lw_g (lw_at lw_m8 18 rfl) rfl
theorem q1809 : (Jvm.Cond.constantLong "ForestRoomsModel" (231 : Nat) (999 : Int64)) ∈ lw_all := lw_g (lw_at lw_m8 19 rfl) rfl
theorem q1810 : (Jvm.Cond.constantLong "ForestRoomsModel" (233 : Nat) (99 : Int64)) ∈ lw_all := lw_g (lw_at lw_m8 20 rfl) rfl
theorem q1811 : (Jvm.Cond.constantLong "ForestRoomsModel" (235 : Nat) (10 : Int64)) ∈ lw_all := lw_g (lw_at lw_m8 21 rfl) rfl
theorem q1813 : (Jvm.Cond.instanceMethod ({ cls := "ForestRoomsModel", name := "row", desc := "()I" } : Jvm.MethodName)) ∈ lw_all := lw_g (lw_at lw_m8 23 rfl) rfl
theorem q1814 : (Jvm.Cond.selects "ForestRoomsModel" ({ cls := "ForestRoomsModel", name := "row", desc := "()I" } : Jvm.MethodName) ({ cls := "ForestRoomsModel", name := "row", desc := "()I" } : Jvm.MethodName)) ∈ lw_all := lw_g (lw_at lw_m8 24 rfl) rfl
theorem q1815 : (Jvm.Cond.code ({ cls := "ForestRoomsModel", name := "row", desc := "()I" } : Jvm.MethodName) prog_22_method_27_code (5 : Nat) (Option.some Jvm.ClassFile.FieldType.int)) ∈ lw_all := lw_g (lw_at lw_m8 25 rfl) rfl
theorem q1817 : (Jvm.Cond.instanceMethod ({ cls := "ForestRoomsModel", name := "moss", desc := "()I" } : Jvm.MethodName)) ∈ lw_all := lw_g (lw_at lw_m8 27 rfl) rfl
theorem q1818 : (Jvm.Cond.selects "ForestRoomsModel" ({ cls := "ForestRoomsModel", name := "moss", desc := "()I" } : Jvm.MethodName) ({ cls := "ForestRoomsModel", name := "moss", desc := "()I" } : Jvm.MethodName)) ∈ lw_all := lw_g (lw_at lw_m8 28 rfl) rfl
theorem q1819 : (Jvm.Cond.code ({ cls := "ForestRoomsModel", name := "moss", desc := "()I" } : Jvm.MethodName) prog_22_method_28_code (1 : Nat) (Option.some Jvm.ClassFile.FieldType.int)) ∈ lw_all := lw_g (lw_at lw_m8 29 rfl) rfl
theorem q1821 : (Jvm.Cond.instanceMethod ({ cls := "ForestRoomsModel", name := "feed", desc := "(IIIII)I" } : Jvm.MethodName)) ∈ lw_all := lw_g (lw_at lw_m8 31 rfl) rfl
theorem q1822 : (Jvm.Cond.selects "ForestRoomsModel" ({ cls := "ForestRoomsModel", name := "feed", desc := "(IIIII)I" } : Jvm.MethodName) ({ cls := "ForestRoomsModel", name := "feed", desc := "(IIIII)I" } : Jvm.MethodName)) ∈ lw_all := lw_g (lw_at lw_m8 32 rfl) rfl
theorem q1823 : (Jvm.Cond.code ({ cls := "ForestRoomsModel", name := "feed", desc := "(IIIII)I" } : Jvm.MethodName) prog_22_method_30_code (6 : Nat) (Option.some Jvm.ClassFile.FieldType.int)) ∈ lw_all := lw_g (lw_at lw_m8 33 rfl) rfl
theorem q1824 : (Jvm.Cond.methodLink "ForestRoomsModel" (243 : Nat) ({ cls := "ForestRoomsModel", name := "four", desc := "(I)V" } : Jvm.MethodName)) ∈ lw_all := lw_g (lw_at lw_m8 34 rfl) rfl
theorem q1825 : (Jvm.Cond.privateMethod ({ cls := "ForestRoomsModel", name := "four", desc := "(I)V" } : Jvm.MethodName)) ∈ lw_tbl := lw_at lw_m8 35 rfl
theorem q1826 : (Jvm.Cond.instanceMethod ({ cls := "ForestRoomsModel", name := "four", desc := "(I)V" } : Jvm.MethodName)) ∈ lw_all := lw_g (lw_at lw_m8 36 rfl) rfl
theorem q1827 : (Jvm.Cond.code ({ cls := "ForestRoomsModel", name := "four", desc := "(I)V" } : Jvm.MethodName) prog_22_method_29_code (3 : Nat) (Option.none : Option Jvm.ClassFile.FieldType)) ∈ lw_all := lw_g (lw_at lw_m8 37 rfl) rfl
theorem q1829 : (Jvm.Cond.instanceMethod ({ cls := "ForestRoomsModel", name := "end", desc := "(I)I" } : Jvm.MethodName)) ∈ lw_all := lw_g (lw_at lw_m8 39 rfl) rfl
theorem q1830 : (Jvm.Cond.selects "ForestRoomsModel" ({ cls := "ForestRoomsModel", name := "end", desc := "(I)I" } : Jvm.MethodName) ({ cls := "ForestRoomsModel", name := "end", desc := "(I)I" } : Jvm.MethodName)) ∈ lw_all := lw_g (lw_at lw_m8 40 rfl) rfl
theorem q1831 : (Jvm.Cond.code ({ cls := "ForestRoomsModel", name := "end", desc := "(I)I" } : Jvm.MethodName) prog_22_method_31_code (2 : Nat) (Option.some Jvm.ClassFile.FieldType.int)) ∈ lw_all := lw_g (lw_at lw_m8 41 rfl) rfl
theorem q1833 : (Jvm.Cond.instanceMethod ({ cls := "ForestRoomsModel", name := "fault", desc := "()I" } : Jvm.MethodName)) ∈ lw_all := lw_g (lw_at lw_m8 43 rfl) rfl
theorem q1834 : (Jvm.Cond.selects "ForestRoomsModel" ({ cls := "ForestRoomsModel", name := "fault", desc := "()I" } : Jvm.MethodName) ({ cls := "ForestRoomsModel", name := "fault", desc := "()I" } : Jvm.MethodName)) ∈ lw_all := lw_g (lw_at lw_m8 44 rfl) rfl
theorem q1835 : (Jvm.Cond.code ({ cls := "ForestRoomsModel", name := "fault", desc := "()I" } : Jvm.MethodName) prog_22_method_40_code (1 : Nat) (Option.some Jvm.ClassFile.FieldType.int)) ∈ lw_all := lw_g (lw_at lw_m8 45 rfl) rfl
theorem q1837 : (Jvm.Cond.instanceMethod ({ cls := "ForestRoomsModel", name := "law", desc := "()I" } : Jvm.MethodName)) ∈ lw_all := lw_g (lw_at lw_m8 47 rfl) rfl
theorem q1838 : (Jvm.Cond.selects "ForestRoomsModel" ({ cls := "ForestRoomsModel", name := "law", desc := "()I" } : Jvm.MethodName) ({ cls := "ForestRoomsModel", name := "law", desc := "()I" } : Jvm.MethodName)) ∈ lw_all := lw_g (lw_at lw_m8 48 rfl) rfl
theorem q1839 : (Jvm.Cond.code ({ cls := "ForestRoomsModel", name := "law", desc := "()I" } : Jvm.MethodName) prog_22_method_59_code (3 : Nat) (Option.some Jvm.ClassFile.FieldType.int)) ∈ lw_all := lw_g (lw_at lw_m8 49 rfl) rfl
theorem q1840 : (Jvm.Cond.methodLink "ForestRoomsModel" (386 : Nat) ({ cls := "ForestRoomsModel", name := "beginText", desc := "(Z)V" } : Jvm.MethodName)) ∈ lw_all := lw_g (lw_at lw_m8 50 rfl) rfl
theorem q1841 : (Jvm.Cond.privateMethod ({ cls := "ForestRoomsModel", name := "beginText", desc := "(Z)V" } : Jvm.MethodName)) ∈ lw_tbl := lw_at lw_m8 51 rfl
theorem q1842 : (Jvm.Cond.instanceMethod ({ cls := "ForestRoomsModel", name := "beginText", desc := "(Z)V" } : Jvm.MethodName)) ∈ lw_all := lw_g (lw_at lw_m8 52 rfl) rfl
theorem q1843 : (Jvm.Cond.code ({ cls := "ForestRoomsModel", name := "beginText", desc := "(Z)V" } : Jvm.MethodName) prog_22_method_56_code (2 : Nat) (Option.none : Option Jvm.ClassFile.FieldType)) ∈ lw_all := lw_g (lw_at lw_m8 53 rfl) rfl
theorem q1844 : (Jvm.Cond.methodLink "ForestRoomsModel" (375 : Nat) ({ cls := "ForestRoomsModel", name := "begin", desc := "()V" } : Jvm.MethodName)) ∈ lw_all := lw_g (lw_at lw_m8 54 rfl) rfl
theorem q1845 : (Jvm.Cond.privateMethod ({ cls := "ForestRoomsModel", name := "begin", desc := "()V" } : Jvm.MethodName)) ∈ lw_tbl := lw_at lw_m8 55 rfl
theorem q1846 : (Jvm.Cond.instanceMethod ({ cls := "ForestRoomsModel", name := "begin", desc := "()V" } : Jvm.MethodName)) ∈ lw_all := lw_g (lw_at lw_m8 56 rfl) rfl
theorem q1847 : (Jvm.Cond.code ({ cls := "ForestRoomsModel", name := "begin", desc := "()V" } : Jvm.MethodName) prog_22_method_34_code (1 : Nat) (Option.none : Option Jvm.ClassFile.FieldType)) ∈ lw_all := lw_g (lw_at lw_m8 57 rfl) rfl
theorem q1848 : (Jvm.Cond.methodLink "ForestRoomsModel" (253 : Nat) ({ cls := "ForestRoomsModel", name := "nextToken", desc := "()V" } : Jvm.MethodName)) ∈ lw_all := lw_g (lw_at lw_m8 58 rfl) rfl
theorem q1849 : (Jvm.Cond.privateMethod ({ cls := "ForestRoomsModel", name := "nextToken", desc := "()V" } : Jvm.MethodName)) ∈ lw_tbl := lw_at lw_m8 59 rfl
theorem q1850 : (Jvm.Cond.instanceMethod ({ cls := "ForestRoomsModel", name := "nextToken", desc := "()V" } : Jvm.MethodName)) ∈ lw_all := lw_g (lw_at lw_m8 60 rfl) rfl
theorem q1851 : (Jvm.Cond.code ({ cls := "ForestRoomsModel", name := "nextToken", desc := "()V" } : Jvm.MethodName) prog_22_method_35_code (1 : Nat) (Option.none : Option Jvm.ClassFile.FieldType)) ∈ lw_all := lw_g (lw_at lw_m8 61 rfl) rfl
theorem q1852 : (Jvm.Cond.methodLink "ForestRoomsModel" (263 : Nat) ({ cls := "ForestRoomsModel", name := "isSmall", desc := "(I)Z" } : Jvm.MethodName)) ∈ lw_all := lw_g (lw_at lw_m8 62 rfl) rfl
theorem q1853 : (Jvm.Cond.static ({ cls := "ForestRoomsModel", name := "isSmall", desc := "(I)Z" } : Jvm.MethodName)) ∈ lw_all := lw_g (lw_at lw_m8 63 rfl) rfl
theorem q1854 : (Jvm.Cond.code ({ cls := "ForestRoomsModel", name := "isSmall", desc := "(I)Z" } : Jvm.MethodName) prog_22_method_32_code (1 : Nat) (Option.some Jvm.ClassFile.FieldType.boolean)) ∈ lw_all := lw_g (lw_at lw_m8 64 rfl) rfl
theorem q1855 : (Jvm.Cond.methodLink "ForestRoomsModel" (266 : Nat) ({ cls := "ForestRoomsModel", name := "isDigit", desc := "(I)Z" } : Jvm.MethodName)) ∈ lw_all := lw_g (lw_at lw_m8 65 rfl) rfl
theorem q1856 : (Jvm.Cond.static ({ cls := "ForestRoomsModel", name := "isDigit", desc := "(I)Z" } : Jvm.MethodName)) ∈ lw_all := lw_g (lw_at lw_m8 66 rfl) rfl
theorem q1857 : (Jvm.Cond.code ({ cls := "ForestRoomsModel", name := "isDigit", desc := "(I)Z" } : Jvm.MethodName) prog_22_method_33_code (1 : Nat) (Option.some Jvm.ClassFile.FieldType.boolean)) ∈ lw_all := lw_g (lw_at lw_m8 67 rfl) rfl
theorem q1858 : (Jvm.Cond.constantLong "ForestRoomsModel" (272 : Nat) (32 : Int64)) ∈ lw_all := lw_g (lw_at lw_m8 68 rfl) rfl
theorem q1859 : (Jvm.Cond.constantLong "ForestRoomsModel" (274 : Nat) (96 : Int64)) ∈ lw_all := lw_g (lw_at lw_m8 69 rfl) rfl
theorem q1860 : (Jvm.Cond.constantLong "ForestRoomsModel" (278 : Nat) (1000000 : Int64)) ∈ lw_all := lw_g (lw_at lw_m8 70 rfl) rfl
theorem q1861 : (Jvm.Cond.constantLong "ForestRoomsModel" (280 : Nat) (48 : Int64)) ∈ lw_all := lw_g (lw_at lw_m8 71 rfl) rfl
theorem q1862 : (Jvm.Cond.methodLink "ForestRoomsModel" (389 : Nat) ({ cls := "ForestRoomsModel", name := "readLaw", desc := "()V" } : Jvm.MethodName)) ∈ lw_all := lw_g (lw_at lw_m8 72 rfl) rfl
theorem q1863 : (Jvm.Cond.privateMethod ({ cls := "ForestRoomsModel", name := "readLaw", desc := "()V" } : Jvm.MethodName)) ∈ lw_tbl := lw_at lw_m8 73 rfl
theorem q1864 : (Jvm.Cond.instanceMethod ({ cls := "ForestRoomsModel", name := "readLaw", desc := "()V" } : Jvm.MethodName)) ∈ lw_all := lw_g (lw_at lw_m8 74 rfl) rfl
theorem q1865 : (Jvm.Cond.code ({ cls := "ForestRoomsModel", name := "readLaw", desc := "()V" } : Jvm.MethodName) prog_22_method_58_code (4 : Nat) (Option.none : Option Jvm.ClassFile.FieldType)) ∈ lw_all := lw_g (lw_at lw_m8 75 rfl) rfl
theorem q1866 : (Jvm.Cond.methodLink "ForestRoomsModel" (307 : Nat) ({ cls := "ForestRoomsModel", name := "isWord", desc := "(J)Z" } : Jvm.MethodName)) ∈ lw_all := lw_g (lw_at lw_m8 76 rfl) rfl
theorem q1867 : (Jvm.Cond.privateMethod ({ cls := "ForestRoomsModel", name := "isWord", desc := "(J)Z" } : Jvm.MethodName)) ∈ lw_tbl := lw_at lw_m8 77 rfl
theorem q1868 : (Jvm.Cond.instanceMethod ({ cls := "ForestRoomsModel", name := "isWord", desc := "(J)Z" } : Jvm.MethodName)) ∈ lw_all := lw_g (lw_at lw_m8 78 rfl) rfl
theorem q1869 : (Jvm.Cond.code ({ cls := "ForestRoomsModel", name := "isWord", desc := "(J)Z" } : Jvm.MethodName) prog_22_method_36_code (3 : Nat) (Option.some Jvm.ClassFile.FieldType.boolean)) ∈ lw_all := lw_g (lw_at lw_m8 79 rfl) rfl
theorem q1870 : (Jvm.Cond.methodLink "ForestRoomsModel" (282 : Nat) ({ cls := "ForestRoomsModel", name := "must", desc := "(Z)V" } : Jvm.MethodName)) ∈ lw_all := lw_g (lw_at lw_m8 80 rfl) rfl
theorem q1871 : (Jvm.Cond.privateMethod ({ cls := "ForestRoomsModel", name := "must", desc := "(Z)V" } : Jvm.MethodName)) ∈ lw_tbl := lw_at lw_m8 81 rfl
theorem q1872 : (Jvm.Cond.instanceMethod ({ cls := "ForestRoomsModel", name := "must", desc := "(Z)V" } : Jvm.MethodName)) ∈ lw_all := lw_g (lw_at lw_m8 82 rfl) rfl
theorem q1873 : (Jvm.Cond.code ({ cls := "ForestRoomsModel", name := "must", desc := "(Z)V" } : Jvm.MethodName) prog_22_method_38_code (2 : Nat) (Option.none : Option Jvm.ClassFile.FieldType)) ∈ lw_all := lw_g (lw_at lw_m8 83 rfl) rfl
theorem q1874 : (Jvm.Cond.methodLink "ForestRoomsModel" (381 : Nat) ({ cls := "ForestRoomsModel", name := "readExpression", desc := "(Z)V" } : Jvm.MethodName)) ∈ lw_all := lw_g (lw_at lw_m8 84 rfl) rfl
theorem q1875 : (Jvm.Cond.privateMethod ({ cls := "ForestRoomsModel", name := "readExpression", desc := "(Z)V" } : Jvm.MethodName)) ∈ lw_tbl := lw_at lw_m8 85 rfl
theorem q1876 : (Jvm.Cond.instanceMethod ({ cls := "ForestRoomsModel", name := "readExpression", desc := "(Z)V" } : Jvm.MethodName)) ∈ lw_all := lw_g (lw_at lw_m8 86 rfl) rfl
theorem q1877 : (Jvm.Cond.code ({ cls := "ForestRoomsModel", name := "readExpression", desc := "(Z)V" } : Jvm.MethodName) prog_22_method_55_code (3 : Nat) (Option.none : Option Jvm.ClassFile.FieldType)) ∈ lw_all := lw_g (lw_at lw_m8 87 rfl) rfl
theorem q1878 : (Jvm.Cond.methodLink "ForestRoomsModel" (365 : Nat) ({ cls := "ForestRoomsModel", name := "readPlain", desc := "()I" } : Jvm.MethodName)) ∈ lw_all := lw_g (lw_at lw_m8 88 rfl) rfl
theorem q1879 : (Jvm.Cond.privateMethod ({ cls := "ForestRoomsModel", name := "readPlain", desc := "()I" } : Jvm.MethodName)) ∈ lw_tbl := lw_at lw_m8 89 rfl
theorem q1880 : (Jvm.Cond.instanceMethod ({ cls := "ForestRoomsModel", name := "readPlain", desc := "()I" } : Jvm.MethodName)) ∈ lw_all := lw_g (lw_at lw_m8 90 rfl) rfl
theorem q1881 : (Jvm.Cond.code ({ cls := "ForestRoomsModel", name := "readPlain", desc := "()I" } : Jvm.MethodName) prog_22_method_52_code (1 : Nat) (Option.some Jvm.ClassFile.FieldType.int)) ∈ lw_all := lw_g (lw_at lw_m8 91 rfl) rfl
theorem q1882 : (Jvm.Cond.constantLong "ForestRoomsModel" (346 : Nat) (14836 : Int64)) ∈ lw_all := lw_g (lw_at lw_m8 92 rfl) rfl
theorem q1883 : (Jvm.Cond.methodLink "ForestRoomsModel" (314 : Nat) ({ cls := "ForestRoomsModel", name := "push", desc := "(II)V" } : Jvm.MethodName)) ∈ lw_all := lw_g (lw_at lw_m8 93 rfl) rfl
theorem q1884 : (Jvm.Cond.privateMethod ({ cls := "ForestRoomsModel", name := "push", desc := "(II)V" } : Jvm.MethodName)) ∈ lw_tbl := lw_at lw_m8 94 rfl
theorem q1885 : (Jvm.Cond.instanceMethod ({ cls := "ForestRoomsModel", name := "push", desc := "(II)V" } : Jvm.MethodName)) ∈ lw_all := lw_g (lw_at lw_m8 95 rfl) rfl
theorem q1886 : (Jvm.Cond.code ({ cls := "ForestRoomsModel", name := "push", desc := "(II)V" } : Jvm.MethodName) prog_22_method_42_code (3 : Nat) (Option.none : Option Jvm.ClassFile.FieldType)) ∈ lw_all := lw_g (lw_at lw_m8 96 rfl) rfl
theorem q1887 : (Jvm.Cond.methodLink "ForestRoomsModel" (320 : Nat) ({ cls := "ForestRoomsModel", name := "isSign", desc := "(I)Z" } : Jvm.MethodName)) ∈ lw_all := lw_g (lw_at lw_m8 97 rfl) rfl
theorem q1888 : (Jvm.Cond.privateMethod ({ cls := "ForestRoomsModel", name := "isSign", desc := "(I)Z" } : Jvm.MethodName)) ∈ lw_tbl := lw_at lw_m8 98 rfl
theorem q1889 : (Jvm.Cond.instanceMethod ({ cls := "ForestRoomsModel", name := "isSign", desc := "(I)Z" } : Jvm.MethodName)) ∈ lw_all := lw_g (lw_at lw_m8 99 rfl) rfl
theorem q1890 : (Jvm.Cond.code ({ cls := "ForestRoomsModel", name := "isSign", desc := "(I)Z" } : Jvm.MethodName) prog_22_method_37_code (2 : Nat) (Option.some Jvm.ClassFile.FieldType.boolean)) ∈ lw_all := lw_g (lw_at lw_m8 100 rfl) rfl
theorem q1891 : (Jvm.Cond.methodLink "ForestRoomsModel" (323 : Nat) ({ cls := "ForestRoomsModel", name := "openBracket", desc := "(I)V" } : Jvm.MethodName)) ∈ lw_all := lw_g (lw_at lw_m8 101 rfl) rfl
theorem q1892 : (Jvm.Cond.privateMethod ({ cls := "ForestRoomsModel", name := "openBracket", desc := "(I)V" } : Jvm.MethodName)) ∈ lw_tbl := lw_at lw_m8 102 rfl
theorem q1893 : (Jvm.Cond.instanceMethod ({ cls := "ForestRoomsModel", name := "openBracket", desc := "(I)V" } : Jvm.MethodName)) ∈ lw_all := lw_g (lw_at lw_m8 103 rfl) rfl
theorem q1894 : (Jvm.Cond.code ({ cls := "ForestRoomsModel", name := "openBracket", desc := "(I)V" } : Jvm.MethodName) prog_22_method_49_code (2 : Nat) (Option.none : Option Jvm.ClassFile.FieldType)) ∈ lw_all := lw_g (lw_at lw_m8 104 rfl) rfl
theorem q1895 : (Jvm.Cond.methodLink "ForestRoomsModel" (348 : Nat) ({ cls := "ForestRoomsModel", name := "readPart", desc := "()I" } : Jvm.MethodName)) ∈ lw_all := lw_g (lw_at lw_m8 105 rfl) rfl
theorem q1896 : (Jvm.Cond.privateMethod ({ cls := "ForestRoomsModel", name := "readPart", desc := "()I" } : Jvm.MethodName)) ∈ lw_tbl := lw_at lw_m8 106 rfl
theorem q1897 : (Jvm.Cond.instanceMethod ({ cls := "ForestRoomsModel", name := "readPart", desc := "()I" } : Jvm.MethodName)) ∈ lw_all := lw_g (lw_at lw_m8 107 rfl) rfl
theorem q1898 : (Jvm.Cond.code ({ cls := "ForestRoomsModel", name := "readPart", desc := "()I" } : Jvm.MethodName) prog_22_method_51_code (4 : Nat) (Option.some Jvm.ClassFile.FieldType.int)) ∈ lw_all := lw_g (lw_at lw_m8 108 rfl) rfl
theorem q1899 : (Jvm.Cond.methodLink "ForestRoomsModel" (329 : Nat) ({ cls := "ForestRoomsModel", name := "orderPartAt", desc := "()I" } : Jvm.MethodName)) ∈ lw_all := lw_g (lw_at lw_m8 109 rfl) rfl
theorem q1900 : (Jvm.Cond.privateMethod ({ cls := "ForestRoomsModel", name := "orderPartAt", desc := "()I" } : Jvm.MethodName)) ∈ lw_tbl := lw_at lw_m8 110 rfl
theorem q1901 : (Jvm.Cond.instanceMethod ({ cls := "ForestRoomsModel", name := "orderPartAt", desc := "()I" } : Jvm.MethodName)) ∈ lw_all := lw_g (lw_at lw_m8 111 rfl) rfl
theorem q1902 : (Jvm.Cond.code ({ cls := "ForestRoomsModel", name := "orderPartAt", desc := "()I" } : Jvm.MethodName) prog_22_method_48_code (3 : Nat) (Option.some Jvm.ClassFile.FieldType.int)) ∈ lw_all := lw_g (lw_at lw_m8 112 rfl) rfl
theorem q1903 : (Jvm.Cond.methodLink "ForestRoomsModel" (333 : Nat) ({ cls := "ForestRoomsModel", name := "partAt", desc := "()I" } : Jvm.MethodName)) ∈ lw_all := lw_g (lw_at lw_m8 113 rfl) rfl
theorem q1904 : (Jvm.Cond.privateMethod ({ cls := "ForestRoomsModel", name := "partAt", desc := "()I" } : Jvm.MethodName)) ∈ lw_tbl := lw_at lw_m8 114 rfl
theorem q1905 : (Jvm.Cond.instanceMethod ({ cls := "ForestRoomsModel", name := "partAt", desc := "()I" } : Jvm.MethodName)) ∈ lw_all := lw_g (lw_at lw_m8 115 rfl) rfl
theorem q1906 : (Jvm.Cond.code ({ cls := "ForestRoomsModel", name := "partAt", desc := "()I" } : Jvm.MethodName) prog_22_method_47_code (3 : Nat) (Option.some Jvm.ClassFile.FieldType.int)) ∈ lw_all := lw_g (lw_at lw_m8 116 rfl) rfl
theorem q1907 : (Jvm.Cond.constantLong "ForestRoomsModel" (336 : Nat) (1000 : Int64)) ∈ lw_all := lw_g (lw_at lw_m8 117 rfl) rfl
theorem q1908 : (Jvm.Cond.methodLink "ForestRoomsModel" (338 : Nat) ({ cls := "ForestRoomsModel", name := "leaf", desc := "(ZII)V" } : Jvm.MethodName)) ∈ lw_all := lw_g (lw_at lw_m8 118 rfl) rfl
theorem q1909 : (Jvm.Cond.privateMethod ({ cls := "ForestRoomsModel", name := "leaf", desc := "(ZII)V" } : Jvm.MethodName)) ∈ lw_tbl := lw_at lw_m8 119 rfl
theorem q1910 : (Jvm.Cond.instanceMethod ({ cls := "ForestRoomsModel", name := "leaf", desc := "(ZII)V" } : Jvm.MethodName)) ∈ lw_all := lw_g (lw_at lw_m8 120 rfl) rfl
theorem q1911 : (Jvm.Cond.code ({ cls := "ForestRoomsModel", name := "leaf", desc := "(ZII)V" } : Jvm.MethodName) prog_22_method_50_code (4 : Nat) (Option.none : Option Jvm.ClassFile.FieldType)) ∈ lw_all := lw_g (lw_at lw_m8 121 rfl) rfl
theorem q1912 : (Jvm.Cond.methodLink "ForestRoomsModel" (295 : Nat) ({ cls := "ForestRoomsModel", name := "emit", desc := "(II)V" } : Jvm.MethodName)) ∈ lw_all := lw_g (lw_at lw_m8 122 rfl) rfl
theorem q1913 : (Jvm.Cond.privateMethod ({ cls := "ForestRoomsModel", name := "emit", desc := "(II)V" } : Jvm.MethodName)) ∈ lw_tbl := lw_at lw_m8 123 rfl
theorem q1914 : (Jvm.Cond.instanceMethod ({ cls := "ForestRoomsModel", name := "emit", desc := "(II)V" } : Jvm.MethodName)) ∈ lw_all := lw_g (lw_at lw_m8 124 rfl) rfl
theorem q1915 : (Jvm.Cond.code ({ cls := "ForestRoomsModel", name := "emit", desc := "(II)V" } : Jvm.MethodName) prog_22_method_41_code (3 : Nat) (Option.none : Option Jvm.ClassFile.FieldType)) ∈ lw_all := lw_g (lw_at lw_m8 125 rfl) rfl
theorem q1916 : (Jvm.Cond.methodLink "ForestRoomsModel" (342 : Nat) ({ cls := "ForestRoomsModel", name := "number", desc := "(JJ)I" } : Jvm.MethodName)) ∈ lw_all := lw_g (lw_at lw_m8 126 rfl) rfl
theorem q1917 : (Jvm.Cond.privateMethod ({ cls := "ForestRoomsModel", name := "number", desc := "(JJ)I" } : Jvm.MethodName)) ∈ lw_tbl := lw_at lw_m8 127 rfl
theorem q1918 : (Jvm.Cond.instanceMethod ({ cls := "ForestRoomsModel", name := "number", desc := "(JJ)I" } : Jvm.MethodName)) ∈ lw_all := lw_g (lw_at lw_m8 128 rfl) rfl
theorem q1919 : (Jvm.Cond.code ({ cls := "ForestRoomsModel", name := "number", desc := "(JJ)I" } : Jvm.MethodName) prog_22_method_39_code (6 : Nat) (Option.some Jvm.ClassFile.FieldType.int)) ∈ lw_all := lw_g (lw_at lw_m8 129 rfl) rfl
theorem q1920 : (Jvm.Cond.methodLink "ForestRoomsModel" (368 : Nat) ({ cls := "ForestRoomsModel", name := "behindSum", desc := "(Z)I" } : Jvm.MethodName)) ∈ lw_all := lw_g (lw_at lw_m8 130 rfl) rfl
theorem q1921 : (Jvm.Cond.privateMethod ({ cls := "ForestRoomsModel", name := "behindSum", desc := "(Z)I" } : Jvm.MethodName)) ∈ lw_tbl := lw_at lw_m8 131 rfl
theorem q1922 : (Jvm.Cond.instanceMethod ({ cls := "ForestRoomsModel", name := "behindSum", desc := "(Z)I" } : Jvm.MethodName)) ∈ lw_all := lw_g (lw_at lw_m8 132 rfl) rfl
theorem q1923 : (Jvm.Cond.code ({ cls := "ForestRoomsModel", name := "behindSum", desc := "(Z)I" } : Jvm.MethodName) prog_22_method_53_code (4 : Nat) (Option.some Jvm.ClassFile.FieldType.int)) ∈ lw_all := lw_g (lw_at lw_m8 133 rfl) rfl
theorem q1924 : (Jvm.Cond.methodLink "ForestRoomsModel" (292 : Nat) ({ cls := "ForestRoomsModel", name := "binds", desc := "(I)I" } : Jvm.MethodName)) ∈ lw_all := lw_g (lw_at lw_m8 134 rfl) rfl
theorem q1925 : (Jvm.Cond.static ({ cls := "ForestRoomsModel", name := "binds", desc := "(I)I" } : Jvm.MethodName)) ∈ lw_all := lw_g (lw_at lw_m8 135 rfl) rfl
theorem q1926 : (Jvm.Cond.code ({ cls := "ForestRoomsModel", name := "binds", desc := "(I)I" } : Jvm.MethodName) prog_22_method_43_code (1 : Nat) (Option.some Jvm.ClassFile.FieldType.int)) ∈ lw_all := lw_g (lw_at lw_m8 136 rfl) rfl
theorem q1927 : (Jvm.Cond.methodLink "ForestRoomsModel" (351 : Nat) ({ cls := "ForestRoomsModel", name := "settle", desc := "(I)V" } : Jvm.MethodName)) ∈ lw_all := lw_g (lw_at lw_m8 137 rfl) rfl
theorem q1928 : (Jvm.Cond.privateMethod ({ cls := "ForestRoomsModel", name := "settle", desc := "(I)V" } : Jvm.MethodName)) ∈ lw_tbl := lw_at lw_m8 138 rfl
theorem q1929 : (Jvm.Cond.instanceMethod ({ cls := "ForestRoomsModel", name := "settle", desc := "(I)V" } : Jvm.MethodName)) ∈ lw_all := lw_g (lw_at lw_m8 139 rfl) rfl
theorem q1930 : (Jvm.Cond.code ({ cls := "ForestRoomsModel", name := "settle", desc := "(I)V" } : Jvm.MethodName) prog_22_method_44_code (2 : Nat) (Option.none : Option Jvm.ClassFile.FieldType)) ∈ lw_all := lw_g (lw_at lw_m8 140 rfl) rfl
theorem q1931 : (Jvm.Cond.methodLink "ForestRoomsModel" (354 : Nat) ({ cls := "ForestRoomsModel", name := "inner", desc := "()I" } : Jvm.MethodName)) ∈ lw_all := lw_g (lw_at lw_m8 141 rfl) rfl
theorem q1932 : (Jvm.Cond.privateMethod ({ cls := "ForestRoomsModel", name := "inner", desc := "()I" } : Jvm.MethodName)) ∈ lw_tbl := lw_at lw_m8 142 rfl
theorem q1933 : (Jvm.Cond.instanceMethod ({ cls := "ForestRoomsModel", name := "inner", desc := "()I" } : Jvm.MethodName)) ∈ lw_all := lw_g (lw_at lw_m8 143 rfl) rfl
theorem q1934 : (Jvm.Cond.code ({ cls := "ForestRoomsModel", name := "inner", desc := "()I" } : Jvm.MethodName) prog_22_method_45_code (3 : Nat) (Option.some Jvm.ClassFile.FieldType.int)) ∈ lw_all := lw_g (lw_at lw_m8 144 rfl) rfl
theorem q1935 : (Jvm.Cond.methodLink "ForestRoomsModel" (357 : Nat) ({ cls := "ForestRoomsModel", name := "isCompared", desc := "()Z" } : Jvm.MethodName)) ∈ lw_all := lw_g (lw_at lw_m8 145 rfl) rfl
theorem q1936 : (Jvm.Cond.privateMethod ({ cls := "ForestRoomsModel", name := "isCompared", desc := "()Z" } : Jvm.MethodName)) ∈ lw_tbl := lw_at lw_m8 146 rfl
theorem q1937 : (Jvm.Cond.instanceMethod ({ cls := "ForestRoomsModel", name := "isCompared", desc := "()Z" } : Jvm.MethodName)) ∈ lw_all := lw_g (lw_at lw_m8 147 rfl) rfl
theorem q1938 : (Jvm.Cond.code ({ cls := "ForestRoomsModel", name := "isCompared", desc := "()Z" } : Jvm.MethodName) prog_22_method_46_code (2 : Nat) (Option.some Jvm.ClassFile.FieldType.boolean)) ∈ lw_all := lw_g (lw_at lw_m8 148 rfl) rfl
theorem q1939 : (Jvm.Cond.constantLong "ForestRoomsModel" (299 : Nat) (20 : Int64)) ∈ lw_all := lw_g (lw_at lw_m8 149 rfl) rfl
theorem q1940 : (Jvm.Cond.constantLong "ForestRoomsModel" (301 : Nat) (24 : Int64)) ∈ lw_all := lw_g (lw_at lw_m8 150 rfl) rfl
theorem q1941 : (Jvm.Cond.constantLong "ForestRoomsModel" (303 : Nat) (25 : Int64)) ∈ lw_all := lw_g (lw_at lw_m8 151 rfl) rfl
theorem q1942 : (Jvm.Cond.constantLong "ForestRoomsModel" (305 : Nat) (27 : Int64)) ∈ lw_all := lw_g (lw_at lw_m8 152 rfl) rfl
theorem q1943 : (Jvm.Cond.methodLink "ForestRoomsModel" (372 : Nat) ({ cls := "ForestRoomsModel", name := "behindTest", desc := "()I" } : Jvm.MethodName)) ∈ lw_all := lw_g (lw_at lw_m8 153 rfl) rfl
theorem q1944 : (Jvm.Cond.privateMethod ({ cls := "ForestRoomsModel", name := "behindTest", desc := "()I" } : Jvm.MethodName)) ∈ lw_tbl := lw_at lw_m8 154 rfl
theorem q1945 : (Jvm.Cond.instanceMethod ({ cls := "ForestRoomsModel", name := "behindTest", desc := "()I" } : Jvm.MethodName)) ∈ lw_all := lw_g (lw_at lw_m8 155 rfl) rfl
theorem q1946 : (Jvm.Cond.code ({ cls := "ForestRoomsModel", name := "behindTest", desc := "()I" } : Jvm.MethodName) prog_22_method_54_code (2 : Nat) (Option.some Jvm.ClassFile.FieldType.int)) ∈ lw_all := lw_g (lw_at lw_m8 156 rfl) rfl
theorem q1947 : (Jvm.Cond.constantLong "ForestRoomsModel" (361 : Nat) (1476 : Int64)) ∈ lw_all := lw_g (lw_at lw_m8 157 rfl) rfl
theorem q1948 : (Jvm.Cond.constantLong "ForestRoomsModel" (363 : Nat) (498 : Int64)) ∈ lw_all := lw_g (lw_at lw_m8 158 rfl) rfl
theorem q1949 : (Jvm.Cond.constantLong "ForestRoomsModel" (384 : Nat) (294 : Int64)) ∈ lw_all := lw_g (lw_at lw_m8 159 rfl) rfl
theorem q1950 : (Jvm.Cond.methodLink "ForestRoomsModel" (392 : Nat) ({ cls := "ForestRoomsModel", name := "endText", desc := "()V" } : Jvm.MethodName)) ∈ lw_all := lw_g (lw_at lw_m8 160 rfl) rfl
theorem q1951 : (Jvm.Cond.privateMethod ({ cls := "ForestRoomsModel", name := "endText", desc := "()V" } : Jvm.MethodName)) ∈ lw_tbl := lw_at lw_m8 161 rfl
theorem q1952 : (Jvm.Cond.instanceMethod ({ cls := "ForestRoomsModel", name := "endText", desc := "()V" } : Jvm.MethodName)) ∈ lw_all := lw_g (lw_at lw_m8 162 rfl) rfl
theorem q1953 : (Jvm.Cond.code ({ cls := "ForestRoomsModel", name := "endText", desc := "()V" } : Jvm.MethodName) prog_22_method_57_code (1 : Nat) (Option.none : Option Jvm.ClassFile.FieldType)) ∈ lw_all := lw_g (lw_at lw_m8 163 rfl) rfl
theorem q1955 : (Jvm.Cond.instanceMethod ({ cls := "ForestRoomsModel", name := "force", desc := "(I)I" } : Jvm.MethodName)) ∈ lw_all := lw_g (lw_at lw_m8 165 rfl) rfl
theorem q1956 : (Jvm.Cond.selects "ForestRoomsModel" ({ cls := "ForestRoomsModel", name := "force", desc := "(I)I" } : Jvm.MethodName) ({ cls := "ForestRoomsModel", name := "force", desc := "(I)I" } : Jvm.MethodName)) ∈ lw_all := lw_g (lw_at lw_m8 166 rfl) rfl
theorem q1957 : (Jvm.Cond.code ({ cls := "ForestRoomsModel", name := "force", desc := "(I)I" } : Jvm.MethodName) prog_22_method_60_code (2 : Nat) (Option.some Jvm.ClassFile.FieldType.int)) ∈ lw_all := lw_g (lw_at lw_m8 167 rfl) rfl
theorem q1959 : (Jvm.Cond.instanceMethod ({ cls := "ForestRoomsModel", name := "asks", desc := "(III)I" } : Jvm.MethodName)) ∈ lw_all := lw_g (lw_at lw_m8 169 rfl) rfl
theorem q1960 : (Jvm.Cond.selects "ForestRoomsModel" ({ cls := "ForestRoomsModel", name := "asks", desc := "(III)I" } : Jvm.MethodName) ({ cls := "ForestRoomsModel", name := "asks", desc := "(III)I" } : Jvm.MethodName)) ∈ lw_all := lw_g (lw_at lw_m8 170 rfl) rfl
theorem q1961 : (Jvm.Cond.code ({ cls := "ForestRoomsModel", name := "asks", desc := "(III)I" } : Jvm.MethodName) prog_22_method_73_code (4 : Nat) (Option.some Jvm.ClassFile.FieldType.int)) ∈ lw_all := lw_g (lw_at lw_m8 171 rfl) rfl
theorem q1962 : (Jvm.Cond.constantLong "ForestRoomsModel" (440 : Nat) (2 : Int64)) ∈ lw_all := lw_g (lw_at lw_m8 172 rfl) rfl
theorem q1963 : (Jvm.Cond.methodLink "ForestRoomsModel" (442 : Nat) ({ cls := "ForestRoomsModel", name := "suitsOf", desc := "(II)I" } : Jvm.MethodName)) ∈ lw_all := lw_g (lw_at lw_m8 173 rfl) rfl
theorem q1964 : (Jvm.Cond.privateMethod ({ cls := "ForestRoomsModel", name := "suitsOf", desc := "(II)I" } : Jvm.MethodName)) ∈ lw_tbl := lw_at lw_m8 174 rfl
theorem q1965 : (Jvm.Cond.instanceMethod ({ cls := "ForestRoomsModel", name := "suitsOf", desc := "(II)I" } : Jvm.MethodName)) ∈ lw_all := lw_g (lw_at lw_m8 175 rfl) rfl
theorem q1966 : (Jvm.Cond.code ({ cls := "ForestRoomsModel", name := "suitsOf", desc := "(II)I" } : Jvm.MethodName) prog_22_method_70_code (3 : Nat) (Option.some Jvm.ClassFile.FieldType.int)) ∈ lw_all := lw_g (lw_at lw_m8 176 rfl) rfl
theorem q1967 : (Jvm.Cond.methodLink "ForestRoomsModel" (445 : Nat) ({ cls := "ForestRoomsModel", name := "isBarred", desc := "(II)Z" } : Jvm.MethodName)) ∈ lw_all := lw_g (lw_at lw_m8 177 rfl) rfl
theorem q1968 : (Jvm.Cond.privateMethod ({ cls := "ForestRoomsModel", name := "isBarred", desc := "(II)Z" } : Jvm.MethodName)) ∈ lw_tbl := lw_at lw_m8 178 rfl
theorem q1969 : (Jvm.Cond.instanceMethod ({ cls := "ForestRoomsModel", name := "isBarred", desc := "(II)Z" } : Jvm.MethodName)) ∈ lw_all := lw_g (lw_at lw_m8 179 rfl) rfl
theorem q1970 : (Jvm.Cond.code ({ cls := "ForestRoomsModel", name := "isBarred", desc := "(II)Z" } : Jvm.MethodName) prog_22_method_71_code (3 : Nat) (Option.some Jvm.ClassFile.FieldType.boolean)) ∈ lw_all := lw_g (lw_at lw_m8 180 rfl) rfl
theorem q1971 : (Jvm.Cond.methodLink "ForestRoomsModel" (448 : Nat) ({ cls := "ForestRoomsModel", name := "roomOf", desc := "(I)I" } : Jvm.MethodName)) ∈ lw_all := lw_g (lw_at lw_m8 181 rfl) rfl
theorem q1972 : (Jvm.Cond.privateMethod ({ cls := "ForestRoomsModel", name := "roomOf", desc := "(I)I" } : Jvm.MethodName)) ∈ lw_tbl := lw_at lw_m8 182 rfl
theorem q1973 : (Jvm.Cond.instanceMethod ({ cls := "ForestRoomsModel", name := "roomOf", desc := "(I)I" } : Jvm.MethodName)) ∈ lw_all := lw_g (lw_at lw_m8 183 rfl) rfl
theorem q1974 : (Jvm.Cond.code ({ cls := "ForestRoomsModel", name := "roomOf", desc := "(I)I" } : Jvm.MethodName) prog_22_method_72_code (4 : Nat) (Option.some Jvm.ClassFile.FieldType.int)) ∈ lw_all := lw_g (lw_at lw_m8 184 rfl) rfl
theorem q1976 : (Jvm.Cond.instanceMethod ({ cls := "ForestRoomsModel", name := "comes", desc := "(III)I" } : Jvm.MethodName)) ∈ lw_all := lw_g (lw_at lw_m8 186 rfl) rfl
theorem q1977 : (Jvm.Cond.selects "ForestRoomsModel" ({ cls := "ForestRoomsModel", name := "comes", desc := "(III)I" } : Jvm.MethodName) ({ cls := "ForestRoomsModel", name := "comes", desc := "(III)I" } : Jvm.MethodName)) ∈ lw_all := lw_g (lw_at lw_m8 187 rfl) rfl
theorem q1978 : (Jvm.Cond.code ({ cls := "ForestRoomsModel", name := "comes", desc := "(III)I" } : Jvm.MethodName) prog_22_method_74_code (4 : Nat) (Option.some Jvm.ClassFile.FieldType.int)) ∈ lw_all := lw_g (lw_at lw_m8 188 rfl) rfl
theorem q1979 : (Jvm.Cond.methodLink "ForestRoomsModel" (451 : Nat) ({ cls := "ForestRoomsModel", name := "canCome", desc := "(III)Z" } : Jvm.MethodName)) ∈ lw_all := lw_g (lw_at lw_m8 189 rfl) rfl
theorem q1980 : (Jvm.Cond.privateMethod ({ cls := "ForestRoomsModel", name := "canCome", desc := "(III)Z" } : Jvm.MethodName)) ∈ lw_tbl := lw_at lw_m8 190 rfl
theorem q1981 : (Jvm.Cond.instanceMethod ({ cls := "ForestRoomsModel", name := "canCome", desc := "(III)Z" } : Jvm.MethodName)) ∈ lw_all := lw_g (lw_at lw_m8 191 rfl) rfl
theorem q1982 : (Jvm.Cond.code ({ cls := "ForestRoomsModel", name := "canCome", desc := "(III)Z" } : Jvm.MethodName) prog_22_method_69_code (4 : Nat) (Option.some Jvm.ClassFile.FieldType.boolean)) ∈ lw_all := lw_g (lw_at lw_m8 192 rfl) rfl
theorem q1983 : (Jvm.Cond.methodLink "ForestRoomsModel" (437 : Nat) ({ cls := "ForestRoomsModel", name := "tellsComing", desc := "()Z" } : Jvm.MethodName)) ∈ lw_all := lw_g (lw_at lw_m8 193 rfl) rfl
theorem q1984 : (Jvm.Cond.privateMethod ({ cls := "ForestRoomsModel", name := "tellsComing", desc := "()Z" } : Jvm.MethodName)) ∈ lw_tbl := lw_at lw_m8 194 rfl
theorem q1985 : (Jvm.Cond.instanceMethod ({ cls := "ForestRoomsModel", name := "tellsComing", desc := "()Z" } : Jvm.MethodName)) ∈ lw_all := lw_g (lw_at lw_m8 195 rfl) rfl
theorem q1986 : (Jvm.Cond.code ({ cls := "ForestRoomsModel", name := "tellsComing", desc := "()Z" } : Jvm.MethodName) prog_22_method_65_code (3 : Nat) (Option.some Jvm.ClassFile.FieldType.boolean)) ∈ lw_all := lw_g (lw_at lw_m8 196 rfl) rfl
theorem q1988 : (Jvm.Cond.instanceMethod ({ cls := "ForestRoomsModel", name := "plant", desc := "(II)I" } : Jvm.MethodName)) ∈ lw_all := lw_g (lw_at lw_m8 198 rfl) rfl
theorem q1989 : (Jvm.Cond.selects "ForestRoomsModel" ({ cls := "ForestRoomsModel", name := "plant", desc := "(II)I" } : Jvm.MethodName) ({ cls := "ForestRoomsModel", name := "plant", desc := "(II)I" } : Jvm.MethodName)) ∈ lw_all := lw_g (lw_at lw_m8 199 rfl) rfl
theorem q1990 : (Jvm.Cond.code ({ cls := "ForestRoomsModel", name := "plant", desc := "(II)I" } : Jvm.MethodName) prog_22_method_76_code (3 : Nat) (Option.some Jvm.ClassFile.FieldType.int)) ∈ lw_all := lw_g (lw_at lw_m8 200 rfl) rfl
theorem q1991 : (Jvm.Cond.methodLink "ForestRoomsModel" (458 : Nat) ({ cls := "ForestRoomsModel", name := "plantNow", desc := "(II)I" } : Jvm.MethodName)) ∈ lw_all := lw_g (lw_at lw_m8 201 rfl) rfl
theorem q1992 : (Jvm.Cond.privateMethod ({ cls := "ForestRoomsModel", name := "plantNow", desc := "(II)I" } : Jvm.MethodName)) ∈ lw_tbl := lw_at lw_m8 202 rfl
theorem q1993 : (Jvm.Cond.instanceMethod ({ cls := "ForestRoomsModel", name := "plantNow", desc := "(II)I" } : Jvm.MethodName)) ∈ lw_all := lw_g (lw_at lw_m8 203 rfl) rfl
theorem q1994 : (Jvm.Cond.code ({ cls := "ForestRoomsModel", name := "plantNow", desc := "(II)I" } : Jvm.MethodName) prog_22_method_75_code (3 : Nat) (Option.some Jvm.ClassFile.FieldType.int)) ∈ lw_all := lw_g (lw_at lw_m8 204 rfl) rfl
theorem q1995 : (Jvm.Cond.methodLink "ForestRoomsModel" (455 : Nat) ({ cls := "ForestRoomsModel", name := "remember", desc := "(I)V" } : Jvm.MethodName)) ∈ lw_all := lw_g (lw_at lw_m8 205 rfl) rfl
theorem q1996 : (Jvm.Cond.privateMethod ({ cls := "ForestRoomsModel", name := "remember", desc := "(I)V" } : Jvm.MethodName)) ∈ lw_tbl := lw_at lw_m8 206 rfl
theorem q1997 : (Jvm.Cond.instanceMethod ({ cls := "ForestRoomsModel", name := "remember", desc := "(I)V" } : Jvm.MethodName)) ∈ lw_all := lw_g (lw_at lw_m8 207 rfl) rfl
theorem q1998 : (Jvm.Cond.code ({ cls := "ForestRoomsModel", name := "remember", desc := "(I)V" } : Jvm.MethodName) prog_22_method_12_code (3 : Nat) (Option.none : Option Jvm.ClassFile.FieldType)) ∈ lw_all := lw_g (lw_at lw_m8 208 rfl) rfl
theorem q1999 : (Jvm.Cond.methodLink "ForestRoomsModel" (187 : Nat) ({ cls := "ForestRoomsModel", name := "keepAll", desc := "(I)V" } : Jvm.MethodName)) ∈ lw_all := lw_g (lw_at lw_m8 209 rfl) rfl
theorem q2000 : (Jvm.Cond.privateMethod ({ cls := "ForestRoomsModel", name := "keepAll", desc := "(I)V" } : Jvm.MethodName)) ∈ lw_tbl := lw_at lw_m8 210 rfl
theorem q2001 : (Jvm.Cond.instanceMethod ({ cls := "ForestRoomsModel", name := "keepAll", desc := "(I)V" } : Jvm.MethodName)) ∈ lw_all := lw_g (lw_at lw_m8 211 rfl) rfl
theorem q2002 : (Jvm.Cond.code ({ cls := "ForestRoomsModel", name := "keepAll", desc := "(I)V" } : Jvm.MethodName) prog_22_method_10_code (3 : Nat) (Option.none : Option Jvm.ClassFile.FieldType)) ∈ lw_all := lw_g (lw_at lw_m8 212 rfl) rfl
theorem q2004 : (Jvm.Cond.instanceMethod ({ cls := "ForestRoomsModel", name := "prune", desc := "(II)I" } : Jvm.MethodName)) ∈ lw_all := lw_g (lw_at lw_m8 214 rfl) rfl
theorem q2005 : (Jvm.Cond.selects "ForestRoomsModel" ({ cls := "ForestRoomsModel", name := "prune", desc := "(II)I" } : Jvm.MethodName) ({ cls := "ForestRoomsModel", name := "prune", desc := "(II)I" } : Jvm.MethodName)) ∈ lw_all := lw_g (lw_at lw_m8 215 rfl) rfl
theorem q2006 : (Jvm.Cond.code ({ cls := "ForestRoomsModel", name := "prune", desc := "(II)I" } : Jvm.MethodName) prog_22_method_78_code (3 : Nat) (Option.some Jvm.ClassFile.FieldType.int)) ∈ lw_all := lw_g (lw_at lw_m8 216 rfl) rfl
theorem q2007 : (Jvm.Cond.methodLink "ForestRoomsModel" (464 : Nat) ({ cls := "ForestRoomsModel", name := "pruneNow", desc := "(II)I" } : Jvm.MethodName)) ∈ lw_all := lw_g (lw_at lw_m8 217 rfl) rfl
theorem q2008 : (Jvm.Cond.privateMethod ({ cls := "ForestRoomsModel", name := "pruneNow", desc := "(II)I" } : Jvm.MethodName)) ∈ lw_tbl := lw_at lw_m8 218 rfl
theorem q2009 : (Jvm.Cond.instanceMethod ({ cls := "ForestRoomsModel", name := "pruneNow", desc := "(II)I" } : Jvm.MethodName)) ∈ lw_all := lw_g (lw_at lw_m8 219 rfl) rfl
theorem q2010 : (Jvm.Cond.code ({ cls := "ForestRoomsModel", name := "pruneNow", desc := "(II)I" } : Jvm.MethodName) prog_22_method_77_code (3 : Nat) (Option.some Jvm.ClassFile.FieldType.int)) ∈ lw_all := lw_g (lw_at lw_m8 220 rfl) rfl
theorem q2011 : (Jvm.Cond.methodLink "ForestRoomsModel" (461 : Nat) ({ cls := "ForestRoomsModel", name := "fell", desc := "(I)V" } : Jvm.MethodName)) ∈ lw_all := lw_g (lw_at lw_m8 221 rfl) rfl
theorem q2012 : (Jvm.Cond.privateMethod ({ cls := "ForestRoomsModel", name := "fell", desc := "(I)V" } : Jvm.MethodName)) ∈ lw_tbl := lw_at lw_m8 222 rfl
theorem q2013 : (Jvm.Cond.instanceMethod ({ cls := "ForestRoomsModel", name := "fell", desc := "(I)V" } : Jvm.MethodName)) ∈ lw_all := lw_g (lw_at lw_m8 223 rfl) rfl
theorem q2014 : (Jvm.Cond.code ({ cls := "ForestRoomsModel", name := "fell", desc := "(I)V" } : Jvm.MethodName) prog_22_method_21_code (2 : Nat) (Option.none : Option Jvm.ClassFile.FieldType)) ∈ lw_all := lw_g (lw_at lw_m8 224 rfl) rfl
theorem q2016 : (Jvm.Cond.instanceMethod ({ cls := "ForestRoomsModel", name := "let", desc := "(II)I" } : Jvm.MethodName)) ∈ lw_all := lw_g (lw_at lw_m8 226 rfl) rfl
theorem q2017 : (Jvm.Cond.selects "ForestRoomsModel" ({ cls := "ForestRoomsModel", name := "let", desc := "(II)I" } : Jvm.MethodName) ({ cls := "ForestRoomsModel", name := "let", desc := "(II)I" } : Jvm.MethodName)) ∈ lw_all := lw_g (lw_at lw_m8 227 rfl) rfl
theorem q2018 : (Jvm.Cond.code ({ cls := "ForestRoomsModel", name := "let", desc := "(II)I" } : Jvm.MethodName) prog_22_method_80_code (3 : Nat) (Option.some Jvm.ClassFile.FieldType.int)) ∈ lw_all := lw_g (lw_at lw_m8 228 rfl) rfl
theorem q2019 : (Jvm.Cond.methodLink "ForestRoomsModel" (467 : Nat) ({ cls := "ForestRoomsModel", name := "letNow", desc := "(II)I" } : Jvm.MethodName)) ∈ lw_all := lw_g (lw_at lw_m8 229 rfl) rfl
theorem q2020 : (Jvm.Cond.privateMethod ({ cls := "ForestRoomsModel", name := "letNow", desc := "(II)I" } : Jvm.MethodName)) ∈ lw_tbl := lw_at lw_m8 230 rfl
theorem q2021 : (Jvm.Cond.instanceMethod ({ cls := "ForestRoomsModel", name := "letNow", desc := "(II)I" } : Jvm.MethodName)) ∈ lw_all := lw_g (lw_at lw_m8 231 rfl) rfl
theorem q2022 : (Jvm.Cond.code ({ cls := "ForestRoomsModel", name := "letNow", desc := "(II)I" } : Jvm.MethodName) prog_22_method_79_code (3 : Nat) (Option.some Jvm.ClassFile.FieldType.int)) ∈ lw_all := lw_g (lw_at lw_m8 232 rfl) rfl
theorem q2024 : (Jvm.Cond.instanceMethod ({ cls := "ForestRoomsModel", name := "empty", desc := "(I)I" } : Jvm.MethodName)) ∈ lw_all := lw_g (lw_at lw_m8 234 rfl) rfl
theorem q2025 : (Jvm.Cond.selects "ForestRoomsModel" ({ cls := "ForestRoomsModel", name := "empty", desc := "(I)I" } : Jvm.MethodName) ({ cls := "ForestRoomsModel", name := "empty", desc := "(I)I" } : Jvm.MethodName)) ∈ lw_all := lw_g (lw_at lw_m8 235 rfl) rfl
theorem q2026 : (Jvm.Cond.code ({ cls := "ForestRoomsModel", name := "empty", desc := "(I)I" } : Jvm.MethodName) prog_22_method_82_code (2 : Nat) (Option.some Jvm.ClassFile.FieldType.int)) ∈ lw_all := lw_g (lw_at lw_m8 236 rfl) rfl
theorem q2027 : (Jvm.Cond.methodLink "ForestRoomsModel" (470 : Nat) ({ cls := "ForestRoomsModel", name := "emptyNow", desc := "(I)I" } : Jvm.MethodName)) ∈ lw_all := lw_g (lw_at lw_m8 237 rfl) rfl
theorem q2028 : (Jvm.Cond.privateMethod ({ cls := "ForestRoomsModel", name := "emptyNow", desc := "(I)I" } : Jvm.MethodName)) ∈ lw_tbl := lw_at lw_m8 238 rfl
theorem q2029 : (Jvm.Cond.instanceMethod ({ cls := "ForestRoomsModel", name := "emptyNow", desc := "(I)I" } : Jvm.MethodName)) ∈ lw_all := lw_g (lw_at lw_m8 239 rfl) rfl
theorem q2030 : (Jvm.Cond.code ({ cls := "ForestRoomsModel", name := "emptyNow", desc := "(I)I" } : Jvm.MethodName) prog_22_method_81_code (3 : Nat) (Option.some Jvm.ClassFile.FieldType.int)) ∈ lw_all := lw_g (lw_at lw_m9 0 rfl) rfl
theorem q2032 : (Jvm.Cond.instanceMethod ({ cls := "ForestRoomsModel", name := "pass", desc := "()I" } : Jvm.MethodName)) ∈ lw_all := lw_g (lw_at lw_m9 2 rfl) rfl
theorem q2033 : (Jvm.Cond.selects "ForestRoomsModel" ({ cls := "ForestRoomsModel", name := "pass", desc := "()I" } : Jvm.MethodName) ({ cls := "ForestRoomsModel", name := "pass", desc := "()I" } : Jvm.MethodName)) ∈ lw_all := lw_g (lw_at lw_m9 3 rfl) rfl
theorem q2034 : (Jvm.Cond.code ({ cls := "ForestRoomsModel", name := "pass", desc := "()I" } : Jvm.MethodName) prog_22_method_86_code (1 : Nat) (Option.some Jvm.ClassFile.FieldType.int)) ∈ lw_all := lw_g (lw_at lw_m9 4 rfl) rfl
theorem q2035 : (Jvm.Cond.methodLink "ForestRoomsModel" (482 : Nat) ({ cls := "ForestRoomsModel", name := "passNow", desc := "()I" } : Jvm.MethodName)) ∈ lw_all := lw_g (lw_at lw_m9 5 rfl) rfl
theorem q2036 : (Jvm.Cond.privateMethod ({ cls := "ForestRoomsModel", name := "passNow", desc := "()I" } : Jvm.MethodName)) ∈ lw_tbl := lw_at lw_m9 6 rfl
theorem q2037 : (Jvm.Cond.instanceMethod ({ cls := "ForestRoomsModel", name := "passNow", desc := "()I" } : Jvm.MethodName)) ∈ lw_all := lw_g (lw_at lw_m9 7 rfl) rfl
theorem q2038 : (Jvm.Cond.code ({ cls := "ForestRoomsModel", name := "passNow", desc := "()I" } : Jvm.MethodName) prog_22_method_85_code (1 : Nat) (Option.some Jvm.ClassFile.FieldType.int)) ∈ lw_all := lw_g (lw_at lw_m9 8 rfl) rfl
theorem q2039 : (Jvm.Cond.methodLink "ForestRoomsModel" (479 : Nat) ({ cls := "ForestRoomsModel", name := "passIt", desc := "()I" } : Jvm.MethodName)) ∈ lw_all := lw_g (lw_at lw_m9 9 rfl) rfl
theorem q2040 : (Jvm.Cond.privateMethod ({ cls := "ForestRoomsModel", name := "passIt", desc := "()I" } : Jvm.MethodName)) ∈ lw_tbl := lw_at lw_m9 10 rfl
theorem q2041 : (Jvm.Cond.instanceMethod ({ cls := "ForestRoomsModel", name := "passIt", desc := "()I" } : Jvm.MethodName)) ∈ lw_all := lw_g (lw_at lw_m9 11 rfl) rfl
theorem q2042 : (Jvm.Cond.code ({ cls := "ForestRoomsModel", name := "passIt", desc := "()I" } : Jvm.MethodName) prog_22_method_84_code (3 : Nat) (Option.some Jvm.ClassFile.FieldType.int)) ∈ lw_all := lw_g (lw_at lw_m9 12 rfl) rfl
theorem q2043 : (Jvm.Cond.methodLink "ForestRoomsModel" (476 : Nat) ({ cls := "ForestRoomsModel", name := "comerOf", desc := "(I)I" } : Jvm.MethodName)) ∈ lw_all := lw_g (lw_at lw_m9 13 rfl) rfl
theorem q2044 : (Jvm.Cond.privateMethod ({ cls := "ForestRoomsModel", name := "comerOf", desc := "(I)I" } : Jvm.MethodName)) ∈ lw_tbl := lw_at lw_m9 14 rfl
theorem q2045 : (Jvm.Cond.instanceMethod ({ cls := "ForestRoomsModel", name := "comerOf", desc := "(I)I" } : Jvm.MethodName)) ∈ lw_all := lw_g (lw_at lw_m9 15 rfl) rfl
theorem q2046 : (Jvm.Cond.code ({ cls := "ForestRoomsModel", name := "comerOf", desc := "(I)I" } : Jvm.MethodName) prog_22_method_83_code (4 : Nat) (Option.some Jvm.ClassFile.FieldType.int)) ∈ lw_all := lw_g (lw_at lw_m9 16 rfl) rfl
theorem q2047 : (Jvm.Cond.methodLink "ForestRoomsModel" (473 : Nat) ({ cls := "ForestRoomsModel", name := "areBeside", desc := "(II)Z" } : Jvm.MethodName)) ∈ lw_all := lw_g (lw_at lw_m9 17 rfl) rfl
theorem q2048 : (Jvm.Cond.static ({ cls := "ForestRoomsModel", name := "areBeside", desc := "(II)Z" } : Jvm.MethodName)) ∈ lw_all := lw_g (lw_at lw_m9 18 rfl) rfl
theorem q2049 : (Jvm.Cond.code ({ cls := "ForestRoomsModel", name := "areBeside", desc := "(II)Z" } : Jvm.MethodName) prog_22_method_18_code (4 : Nat) (Option.some Jvm.ClassFile.FieldType.boolean)) ∈ lw_all := lw_g (lw_at lw_m9 19 rfl) rfl
theorem q2051 : (Jvm.Cond.instanceMethod ({ cls := "ForestRoomsModel", name := "will", desc := "(III)I" } : Jvm.MethodName)) ∈ lw_all := lw_g (lw_at lw_m9 21 rfl) rfl
theorem q2052 : (Jvm.Cond.selects "ForestRoomsModel" ({ cls := "ForestRoomsModel", name := "will", desc := "(III)I" } : Jvm.MethodName) ({ cls := "ForestRoomsModel", name := "will", desc := "(III)I" } : Jvm.MethodName)) ∈ lw_all := lw_g (lw_at lw_m9 22 rfl) rfl
theorem q2053 : (Jvm.Cond.code ({ cls := "ForestRoomsModel", name := "will", desc := "(III)I" } : Jvm.MethodName) prog_22_method_88_code (5 : Nat) (Option.some Jvm.ClassFile.FieldType.int)) ∈ lw_all := lw_g (lw_at lw_m9 23 rfl) rfl
theorem q2054 : (Jvm.Cond.constantLong "ForestRoomsModel" (485 : Nat) (60 : Int64)) ∈ lw_all := lw_g (lw_at lw_m9 24 rfl) rfl
theorem q2055 : (Jvm.Cond.methodLink "ForestRoomsModel" (487 : Nat) ({ cls := "ForestRoomsModel", name := "housed", desc := "()I" } : Jvm.MethodName)) ∈ lw_all := lw_g (lw_at lw_m9 25 rfl) rfl
theorem q2056 : (Jvm.Cond.privateMethod ({ cls := "ForestRoomsModel", name := "housed", desc := "()I" } : Jvm.MethodName)) ∈ lw_tbl := lw_at lw_m9 26 rfl
theorem q2057 : (Jvm.Cond.instanceMethod ({ cls := "ForestRoomsModel", name := "housed", desc := "()I" } : Jvm.MethodName)) ∈ lw_all := lw_g (lw_at lw_m9 27 rfl) rfl
theorem q2058 : (Jvm.Cond.code ({ cls := "ForestRoomsModel", name := "housed", desc := "()I" } : Jvm.MethodName) prog_22_method_87_code (3 : Nat) (Option.some Jvm.ClassFile.FieldType.int)) ∈ lw_all := lw_g (lw_at lw_m9 28 rfl) rfl
theorem q2060 : (Jvm.Cond.instanceMethod ({ cls := "ForestRoomsModel", name := "wood", desc := "()I" } : Jvm.MethodName)) ∈ lw_all := lw_g (lw_at lw_m9 30 rfl) rfl
theorem q2061 : (Jvm.Cond.selects "ForestRoomsModel" ({ cls := "ForestRoomsModel", name := "wood", desc := "()I" } : Jvm.MethodName) ({ cls := "ForestRoomsModel", name := "wood", desc := "()I" } : Jvm.MethodName)) ∈ lw_all := lw_g (lw_at lw_m9 31 rfl) rfl
theorem q2062 : (Jvm.Cond.code ({ cls := "ForestRoomsModel", name := "wood", desc := "()I" } : Jvm.MethodName) prog_22_method_90_code (2 : Nat) (Option.some Jvm.ClassFile.FieldType.int)) ∈ lw_all := lw_g (lw_at lw_m9 32 rfl) rfl
theorem q2063 : (Jvm.Cond.methodLink "ForestRoomsModel" (490 : Nat) ({ cls := "ForestRoomsModel", name := "lostRooms", desc := "()I" } : Jvm.MethodName)) ∈ lw_all := lw_g (lw_at lw_m9 33 rfl) rfl
theorem q2064 : (Jvm.Cond.privateMethod ({ cls := "ForestRoomsModel", name := "lostRooms", desc := "()I" } : Jvm.MethodName)) ∈ lw_tbl := lw_at lw_m9 34 rfl
theorem q2065 : (Jvm.Cond.instanceMethod ({ cls := "ForestRoomsModel", name := "lostRooms", desc := "()I" } : Jvm.MethodName)) ∈ lw_all := lw_g (lw_at lw_m9 35 rfl) rfl
theorem q2066 : (Jvm.Cond.code ({ cls := "ForestRoomsModel", name := "lostRooms", desc := "()I" } : Jvm.MethodName) prog_22_method_89_code (3 : Nat) (Option.some Jvm.ClassFile.FieldType.int)) ∈ lw_all := lw_g (lw_at lw_m9 36 rfl) rfl
theorem q2068 : (Jvm.Cond.instanceMethod ({ cls := "ForestRoomsModel", name := "keep", desc := "(III)I" } : Jvm.MethodName)) ∈ lw_all := lw_g (lw_at lw_m9 38 rfl) rfl
theorem q2069 : (Jvm.Cond.selects "ForestRoomsModel" ({ cls := "ForestRoomsModel", name := "keep", desc := "(III)I" } : Jvm.MethodName) ({ cls := "ForestRoomsModel", name := "keep", desc := "(III)I" } : Jvm.MethodName)) ∈ lw_all := lw_g (lw_at lw_m9 39 rfl) rfl
theorem q2070 : (Jvm.Cond.code ({ cls := "ForestRoomsModel", name := "keep", desc := "(III)I" } : Jvm.MethodName) prog_22_method_92_code (7 : Nat) (Option.some Jvm.ClassFile.FieldType.int)) ∈ lw_all := lw_g (lw_at lw_m9 40 rfl) rfl
theorem q2071 : (Jvm.Cond.constant "ForestRoomsModel" (496 : Nat) (65536 : Int32)) ∈ lw_all := lw_g (lw_at lw_m9 41 rfl) rfl
theorem q2072 : (Jvm.Cond.methodLink "ForestRoomsModel" (497 : Nat) ({ cls := "ForestRoomsModel", name := "ones", desc := "(I)I" } : Jvm.MethodName)) ∈ lw_all := lw_g (lw_at lw_m9 42 rfl) rfl
theorem q2073 : (Jvm.Cond.static ({ cls := "ForestRoomsModel", name := "ones", desc := "(I)I" } : Jvm.MethodName)) ∈ lw_all := lw_g (lw_at lw_m9 43 rfl) rfl
theorem q2074 : (Jvm.Cond.code ({ cls := "ForestRoomsModel", name := "ones", desc := "(I)I" } : Jvm.MethodName) prog_22_method_5_code (3 : Nat) (Option.some Jvm.ClassFile.FieldType.int)) ∈ lw_all := lw_g (lw_at lw_m9 44 rfl) rfl
theorem q2075 : (Jvm.Cond.methodLink "ForestRoomsModel" (500 : Nat) ({ cls := "ForestRoomsModel", name := "isKeptBy", desc := "(III)Z" } : Jvm.MethodName)) ∈ lw_all := lw_g (lw_at lw_m9 45 rfl) rfl
theorem q2076 : (Jvm.Cond.privateMethod ({ cls := "ForestRoomsModel", name := "isKeptBy", desc := "(III)Z" } : Jvm.MethodName)) ∈ lw_tbl := lw_at lw_m9 46 rfl
theorem q2077 : (Jvm.Cond.instanceMethod ({ cls := "ForestRoomsModel", name := "isKeptBy", desc := "(III)Z" } : Jvm.MethodName)) ∈ lw_all := lw_g (lw_at lw_m9 47 rfl) rfl
theorem q2078 : (Jvm.Cond.code ({ cls := "ForestRoomsModel", name := "isKeptBy", desc := "(III)Z" } : Jvm.MethodName) prog_22_method_91_code (6 : Nat) (Option.some Jvm.ClassFile.FieldType.boolean)) ∈ lw_all := lw_g (lw_at lw_m9 48 rfl) rfl
theorem q2079 : (Jvm.Cond.methodLink "ForestRoomsModel" (493 : Nat) ({ cls := "ForestRoomsModel", name := "is", desc := "(II)Z" } : Jvm.MethodName)) ∈ lw_all := lw_g (lw_at lw_m9 49 rfl) rfl
theorem q2080 : (Jvm.Cond.static ({ cls := "ForestRoomsModel", name := "is", desc := "(II)Z" } : Jvm.MethodName)) ∈ lw_all := lw_g (lw_at lw_m9 50 rfl) rfl
theorem q2081 : (Jvm.Cond.code ({ cls := "ForestRoomsModel", name := "is", desc := "(II)Z" } : Jvm.MethodName) prog_22_method_4_code (2 : Nat) (Option.some Jvm.ClassFile.FieldType.boolean)) ∈ lw_all := lw_g (lw_at lw_m9 51 rfl) rfl
theorem q2083 : (Jvm.Cond.instanceMethod ({ cls := "ForestRoomsModel", name := "homes", desc := "(II)I" } : Jvm.MethodName)) ∈ lw_all := lw_g (lw_at lw_m9 53 rfl) rfl
theorem q2084 : (Jvm.Cond.selects "ForestRoomsModel" ({ cls := "ForestRoomsModel", name := "homes", desc := "(II)I" } : Jvm.MethodName) ({ cls := "ForestRoomsModel", name := "homes", desc := "(II)I" } : Jvm.MethodName)) ∈ lw_all := lw_g (lw_at lw_m9 54 rfl) rfl
theorem q2085 : (Jvm.Cond.code ({ cls := "ForestRoomsModel", name := "homes", desc := "(II)I" } : Jvm.MethodName) prog_22_method_96_code (6 : Nat) (Option.some Jvm.ClassFile.FieldType.int)) ∈ lw_all := lw_g (lw_at lw_m9 55 rfl) rfl
theorem q2086 : (Jvm.Cond.constantLong "ForestRoomsModel" (509 : Nat) (63 : Int64)) ∈ lw_all := lw_g (lw_at lw_m9 56 rfl) rfl
theorem q2087 : (Jvm.Cond.constantLong "ForestRoomsModel" (511 : Nat) (6 : Int64)) ∈ lw_all := lw_g (lw_at lw_m9 57 rfl) rfl
theorem q2088 : (Jvm.Cond.methodLink "ForestRoomsModel" (513 : Nat) ({ cls := "ForestRoomsModel", name := "findHomes", desc := "(I)I" } : Jvm.MethodName)) ∈ lw_all := lw_g (lw_at lw_m9 58 rfl) rfl
theorem q2089 : (Jvm.Cond.privateMethod ({ cls := "ForestRoomsModel", name := "findHomes", desc := "(I)I" } : Jvm.MethodName)) ∈ lw_tbl := lw_at lw_m9 59 rfl
theorem q2090 : (Jvm.Cond.instanceMethod ({ cls := "ForestRoomsModel", name := "findHomes", desc := "(I)I" } : Jvm.MethodName)) ∈ lw_all := lw_g (lw_at lw_m9 60 rfl) rfl
theorem q2091 : (Jvm.Cond.code ({ cls := "ForestRoomsModel", name := "findHomes", desc := "(I)I" } : Jvm.MethodName) prog_22_method_95_code (5 : Nat) (Option.some Jvm.ClassFile.FieldType.int)) ∈ lw_all := lw_g (lw_at lw_m9 61 rfl) rfl
theorem q2092 : (Jvm.Cond.methodLink "ForestRoomsModel" (503 : Nat) ({ cls := "ForestRoomsModel", name := "laySuits", desc := "(I)V" } : Jvm.MethodName)) ∈ lw_all := lw_g (lw_at lw_m9 62 rfl) rfl
theorem q2093 : (Jvm.Cond.privateMethod ({ cls := "ForestRoomsModel", name := "laySuits", desc := "(I)V" } : Jvm.MethodName)) ∈ lw_tbl := lw_at lw_m9 63 rfl
theorem q2094 : (Jvm.Cond.instanceMethod ({ cls := "ForestRoomsModel", name := "laySuits", desc := "(I)V" } : Jvm.MethodName)) ∈ lw_all := lw_g (lw_at lw_m9 64 rfl) rfl
theorem q2095 : (Jvm.Cond.code ({ cls := "ForestRoomsModel", name := "laySuits", desc := "(I)V" } : Jvm.MethodName) prog_22_method_93_code (5 : Nat) (Option.none : Option Jvm.ClassFile.FieldType)) ∈ lw_all := lw_g (lw_at lw_m9 65 rfl) rfl
theorem q2096 : (Jvm.Cond.methodLink "ForestRoomsModel" (506 : Nat) ({ cls := "ForestRoomsModel", name := "isSpare", desc := "(I)Z" } : Jvm.MethodName)) ∈ lw_all := lw_g (lw_at lw_m9 66 rfl) rfl
theorem q2097 : (Jvm.Cond.privateMethod ({ cls := "ForestRoomsModel", name := "isSpare", desc := "(I)Z" } : Jvm.MethodName)) ∈ lw_tbl := lw_at lw_m9 67 rfl
theorem q2098 : (Jvm.Cond.instanceMethod ({ cls := "ForestRoomsModel", name := "isSpare", desc := "(I)Z" } : Jvm.MethodName)) ∈ lw_all := lw_g (lw_at lw_m9 68 rfl) rfl
theorem q2099 : (Jvm.Cond.code ({ cls := "ForestRoomsModel", name := "isSpare", desc := "(I)Z" } : Jvm.MethodName) prog_22_method_94_code (4 : Nat) (Option.some Jvm.ClassFile.FieldType.boolean)) ∈ lw_all := lw_g (lw_at lw_m9 69 rfl) rfl
theorem q2101 : (Jvm.Cond.instanceMethod ({ cls := "ForestRoomsModel", name := "sight", desc := "(III)I" } : Jvm.MethodName)) ∈ lw_all := lw_g (lw_at lw_m9 71 rfl) rfl
theorem q2102 : (Jvm.Cond.selects "ForestRoomsModel" ({ cls := "ForestRoomsModel", name := "sight", desc := "(III)I" } : Jvm.MethodName) ({ cls := "ForestRoomsModel", name := "sight", desc := "(III)I" } : Jvm.MethodName)) ∈ lw_all := lw_g (lw_at lw_m9 72 rfl) rfl
theorem q2103 : (Jvm.Cond.code ({ cls := "ForestRoomsModel", name := "sight", desc := "(III)I" } : Jvm.MethodName) prog_22_method_97_code (5 : Nat) (Option.some Jvm.ClassFile.FieldType.int)) ∈ lw_all := lw_g (lw_at lw_m9 73 rfl) rfl
theorem q2105 : (Jvm.Cond.instanceMethod ({ cls := "ForestRoomsModel", name := "forget", desc := "()I" } : Jvm.MethodName)) ∈ lw_all := lw_g (lw_at lw_m9 75 rfl) rfl
theorem q2106 : (Jvm.Cond.selects "ForestRoomsModel" ({ cls := "ForestRoomsModel", name := "forget", desc := "()I" } : Jvm.MethodName) ({ cls := "ForestRoomsModel", name := "forget", desc := "()I" } : Jvm.MethodName)) ∈ lw_all := lw_g (lw_at lw_m9 76 rfl) rfl
theorem q2107 : (Jvm.Cond.code ({ cls := "ForestRoomsModel", name := "forget", desc := "()I" } : Jvm.MethodName) prog_22_method_98_code (2 : Nat) (Option.some Jvm.ClassFile.FieldType.int)) ∈ lw_all := lw_g (lw_at lw_m9 77 rfl) rfl
theorem q2109 : (Jvm.Cond.instanceMethod ({ cls := "ForestRoomsModel", name := "hidden", desc := "(I)I" } : Jvm.MethodName)) ∈ lw_all := lw_g (lw_at lw_m9 79 rfl) rfl
theorem q2110 : (Jvm.Cond.selects "ForestRoomsModel" ({ cls := "ForestRoomsModel", name := "hidden", desc := "(I)I" } : Jvm.MethodName) ({ cls := "ForestRoomsModel", name := "hidden", desc := "(I)I" } : Jvm.MethodName)) ∈ lw_all := lw_g (lw_at lw_m9 80 rfl) rfl
theorem q2111 : (Jvm.Cond.code ({ cls := "ForestRoomsModel", name := "hidden", desc := "(I)I" } : Jvm.MethodName) prog_22_method_102_code (5 : Nat) (Option.some Jvm.ClassFile.FieldType.int)) ∈ lw_all := lw_g (lw_at lw_m9 81 rfl) rfl
theorem q2112 : (Jvm.Cond.methodLink "ForestRoomsModel" (522 : Nat) ({ cls := "ForestRoomsModel", name := "isHidden", desc := "(I)Z" } : Jvm.MethodName)) ∈ lw_all := lw_g (lw_at lw_m9 82 rfl) rfl
theorem q2113 : (Jvm.Cond.privateMethod ({ cls := "ForestRoomsModel", name := "isHidden", desc := "(I)Z" } : Jvm.MethodName)) ∈ lw_tbl := lw_at lw_m9 83 rfl
theorem q2114 : (Jvm.Cond.instanceMethod ({ cls := "ForestRoomsModel", name := "isHidden", desc := "(I)Z" } : Jvm.MethodName)) ∈ lw_all := lw_g (lw_at lw_m9 84 rfl) rfl
theorem q2115 : (Jvm.Cond.code ({ cls := "ForestRoomsModel", name := "isHidden", desc := "(I)Z" } : Jvm.MethodName) prog_22_method_101_code (5 : Nat) (Option.some Jvm.ClassFile.FieldType.boolean)) ∈ lw_all := lw_g (lw_at lw_m9 85 rfl) rfl
theorem q2116 : (Jvm.Cond.methodLink "ForestRoomsModel" (516 : Nat) ({ cls := "ForestRoomsModel", name := "hide", desc := "(I)V" } : Jvm.MethodName)) ∈ lw_all := lw_g (lw_at lw_m9 86 rfl) rfl
theorem q2117 : (Jvm.Cond.privateMethod ({ cls := "ForestRoomsModel", name := "hide", desc := "(I)V" } : Jvm.MethodName)) ∈ lw_tbl := lw_at lw_m9 87 rfl
theorem q2118 : (Jvm.Cond.instanceMethod ({ cls := "ForestRoomsModel", name := "hide", desc := "(I)V" } : Jvm.MethodName)) ∈ lw_all := lw_g (lw_at lw_m9 88 rfl) rfl
theorem q2119 : (Jvm.Cond.code ({ cls := "ForestRoomsModel", name := "hide", desc := "(I)V" } : Jvm.MethodName) prog_22_method_100_code (2 : Nat) (Option.none : Option Jvm.ClassFile.FieldType)) ∈ lw_all := lw_g (lw_at lw_m9 89 rfl) rfl
theorem q2120 : (Jvm.Cond.methodLink "ForestRoomsModel" (519 : Nat) ({ cls := "ForestRoomsModel", name := "isAsSeen", desc := "(I)Z" } : Jvm.MethodName)) ∈ lw_all := lw_g (lw_at lw_m9 90 rfl) rfl
theorem q2121 : (Jvm.Cond.privateMethod ({ cls := "ForestRoomsModel", name := "isAsSeen", desc := "(I)Z" } : Jvm.MethodName)) ∈ lw_tbl := lw_at lw_m9 91 rfl
theorem q2122 : (Jvm.Cond.instanceMethod ({ cls := "ForestRoomsModel", name := "isAsSeen", desc := "(I)Z" } : Jvm.MethodName)) ∈ lw_all := lw_g (lw_at lw_m9 92 rfl) rfl
theorem q2123 : (Jvm.Cond.code ({ cls := "ForestRoomsModel", name := "isAsSeen", desc := "(I)Z" } : Jvm.MethodName) prog_22_method_99_code (5 : Nat) (Option.some Jvm.ClassFile.FieldType.boolean)) ∈ lw_all := lw_g (lw_at lw_m9 93 rfl) rfl
theorem q2125 : (Jvm.Cond.instanceMethod ({ cls := "ForestRoomsModel", name := "next", desc := "(II)I" } : Jvm.MethodName)) ∈ lw_all := lw_g (lw_at lw_m9 95 rfl) rfl
theorem q2126 : (Jvm.Cond.selects "ForestRoomsModel" ({ cls := "ForestRoomsModel", name := "next", desc := "(II)I" } : Jvm.MethodName) ({ cls := "ForestRoomsModel", name := "next", desc := "(II)I" } : Jvm.MethodName)) ∈ lw_all := lw_g (lw_at lw_m9 96 rfl) rfl
theorem q2127 : (Jvm.Cond.code ({ cls := "ForestRoomsModel", name := "next", desc := "(II)I" } : Jvm.MethodName) prog_22_method_104_code (9 : Nat) (Option.some Jvm.ClassFile.FieldType.int)) ∈ lw_all := lw_g (lw_at lw_m9 97 rfl) rfl
theorem q2128 : (Jvm.Cond.methodLink "ForestRoomsModel" (525 : Nat) ({ cls := "ForestRoomsModel", name := "show", desc := "(II)V" } : Jvm.MethodName)) ∈ lw_all := lw_g (lw_at lw_m9 98 rfl) rfl
theorem q2129 : (Jvm.Cond.privateMethod ({ cls := "ForestRoomsModel", name := "show", desc := "(II)V" } : Jvm.MethodName)) ∈ lw_tbl := lw_at lw_m9 99 rfl
theorem q2130 : (Jvm.Cond.instanceMethod ({ cls := "ForestRoomsModel", name := "show", desc := "(II)V" } : Jvm.MethodName)) ∈ lw_all := lw_g (lw_at lw_m9 100 rfl) rfl
theorem q2131 : (Jvm.Cond.code ({ cls := "ForestRoomsModel", name := "show", desc := "(II)V" } : Jvm.MethodName) prog_22_method_103_code (4 : Nat) (Option.none : Option Jvm.ClassFile.FieldType)) ∈ lw_all := lw_g (lw_at lw_m9 101 rfl) rfl
theorem q2132 : (Jvm.Cond.constant "ForestRoomsModel" (528 : Nat) (100000000 : Int32)) ∈ lw_all := lw_g (lw_at lw_m9 102 rfl) rfl
theorem q2134 : (Jvm.Cond.instanceMethod ({ cls := "ForestRoomsModel", name := "roofs", desc := "(II)I" } : Jvm.MethodName)) ∈ lw_all := lw_g (lw_at lw_m9 104 rfl) rfl
theorem q2135 : (Jvm.Cond.selects "ForestRoomsModel" ({ cls := "ForestRoomsModel", name := "roofs", desc := "(II)I" } : Jvm.MethodName) ({ cls := "ForestRoomsModel", name := "roofs", desc := "(II)I" } : Jvm.MethodName)) ∈ lw_all := lw_g (lw_at lw_m9 105 rfl) rfl
theorem q2136 : (Jvm.Cond.code ({ cls := "ForestRoomsModel", name := "roofs", desc := "(II)I" } : Jvm.MethodName) prog_22_method_106_code (7 : Nat) (Option.some Jvm.ClassFile.FieldType.int)) ∈ lw_all := lw_g (lw_at lw_m9 106 rfl) rfl
theorem q2137 : (Jvm.Cond.constantLong "ForestRoomsModel" (529 : Nat) (65535 : Int64)) ∈ lw_all := lw_g (lw_at lw_m9 107 rfl) rfl
theorem q2138 : (Jvm.Cond.methodLink "ForestRoomsModel" (531 : Nat) ({ cls := "ForestRoomsModel", name := "lit", desc := "(I)I" } : Jvm.MethodName)) ∈ lw_all := lw_g (lw_at lw_m9 108 rfl) rfl
theorem q2139 : (Jvm.Cond.static ({ cls := "ForestRoomsModel", name := "lit", desc := "(I)I" } : Jvm.MethodName)) ∈ lw_all := lw_g (lw_at lw_m9 109 rfl) rfl
theorem q2140 : (Jvm.Cond.code ({ cls := "ForestRoomsModel", name := "lit", desc := "(I)I" } : Jvm.MethodName) prog_22_method_105_code (4 : Nat) (Option.some Jvm.ClassFile.FieldType.int)) ∈ lw_all := lw_g (lw_at lw_m9 110 rfl) rfl
theorem q2142 : (Jvm.Cond.instanceMethod ({ cls := "ForestRoomsModel", name := "way", desc := "(I)I" } : Jvm.MethodName)) ∈ lw_all := lw_g (lw_at lw_m9 112 rfl) rfl
theorem q2143 : (Jvm.Cond.selects "ForestRoomsModel" ({ cls := "ForestRoomsModel", name := "way", desc := "(I)I" } : Jvm.MethodName) ({ cls := "ForestRoomsModel", name := "way", desc := "(I)I" } : Jvm.MethodName)) ∈ lw_all := lw_g (lw_at lw_m9 113 rfl) rfl
theorem q2144 : (Jvm.Cond.code ({ cls := "ForestRoomsModel", name := "way", desc := "(I)I" } : Jvm.MethodName) prog_22_method_108_code (3 : Nat) (Option.some Jvm.ClassFile.FieldType.int)) ∈ lw_all := lw_g (lw_at lw_m9 114 rfl) rfl
theorem q2145 : (Jvm.Cond.methodLink "ForestRoomsModel" (534 : Nat) ({ cls := "ForestRoomsModel", name := "stepsFrom", desc := "(II)I" } : Jvm.MethodName)) ∈ lw_all := lw_g (lw_at lw_m9 115 rfl) rfl
theorem q2146 : (Jvm.Cond.privateMethod ({ cls := "ForestRoomsModel", name := "stepsFrom", desc := "(II)I" } : Jvm.MethodName)) ∈ lw_tbl := lw_at lw_m9 116 rfl
theorem q2147 : (Jvm.Cond.instanceMethod ({ cls := "ForestRoomsModel", name := "stepsFrom", desc := "(II)I" } : Jvm.MethodName)) ∈ lw_all := lw_g (lw_at lw_m9 117 rfl) rfl
theorem q2148 : (Jvm.Cond.code ({ cls := "ForestRoomsModel", name := "stepsFrom", desc := "(II)I" } : Jvm.MethodName) prog_22_method_107_code (8 : Nat) (Option.some Jvm.ClassFile.FieldType.int)) ∈ lw_all := lw_g (lw_at lw_m9 118 rfl) rfl
theorem q2150 : (Jvm.Cond.instanceMethod ({ cls := "ForestRoomsModel", name := "cut", desc := "(II)I" } : Jvm.MethodName)) ∈ lw_all := lw_g (lw_at lw_m9 120 rfl) rfl
theorem q2151 : (Jvm.Cond.selects "ForestRoomsModel" ({ cls := "ForestRoomsModel", name := "cut", desc := "(II)I" } : Jvm.MethodName) ({ cls := "ForestRoomsModel", name := "cut", desc := "(II)I" } : Jvm.MethodName)) ∈ lw_all := lw_g (lw_at lw_m9 121 rfl) rfl
theorem q2152 : (Jvm.Cond.code ({ cls := "ForestRoomsModel", name := "cut", desc := "(II)I" } : Jvm.MethodName) prog_22_method_109_code (5 : Nat) (Option.some Jvm.ClassFile.FieldType.int)) ∈ lw_all := lw_g (lw_at lw_m9 122 rfl) rfl
theorem q2154 : (Jvm.Cond.instanceMethod ({ cls := "ForestRoomsModel", name := "share", desc := "(II)I" } : Jvm.MethodName)) ∈ lw_all := lw_g (lw_at lw_m9 124 rfl) rfl
theorem q2155 : (Jvm.Cond.selects "ForestRoomsModel" ({ cls := "ForestRoomsModel", name := "share", desc := "(II)I" } : Jvm.MethodName) ({ cls := "ForestRoomsModel", name := "share", desc := "(II)I" } : Jvm.MethodName)) ∈ lw_all := lw_g (lw_at lw_m9 125 rfl) rfl
theorem q2156 : (Jvm.Cond.code ({ cls := "ForestRoomsModel", name := "share", desc := "(II)I" } : Jvm.MethodName) prog_22_method_110_code (8 : Nat) (Option.some Jvm.ClassFile.FieldType.int)) ∈ lw_all := lw_g (lw_at lw_m9 126 rfl) rfl
theorem q2157 : (Jvm.Cond.constantLong "ForestRoomsModel" (537 : Nat) (99999 : Int64)) ∈ lw_all := lw_g (lw_at lw_m9 127 rfl) rfl
theorem q2159 : (Jvm.Cond.instanceMethod ({ cls := "ForestRoomsModel", name := "game", desc := "(II)I" } : Jvm.MethodName)) ∈ lw_all := lw_g (lw_at lw_m9 129 rfl) rfl
theorem q2160 : (Jvm.Cond.selects "ForestRoomsModel" ({ cls := "ForestRoomsModel", name := "game", desc := "(II)I" } : Jvm.MethodName) ({ cls := "ForestRoomsModel", name := "game", desc := "(II)I" } : Jvm.MethodName)) ∈ lw_all := lw_g (lw_at lw_m9 130 rfl) rfl
theorem q2161 : (Jvm.Cond.code ({ cls := "ForestRoomsModel", name := "game", desc := "(II)I" } : Jvm.MethodName) prog_22_method_111_code (7 : Nat) (Option.some Jvm.ClassFile.FieldType.int)) ∈ lw_all := lw_g (lw_at lw_m9 131 rfl) rfl
theorem q2163 : (Jvm.Cond.instanceMethod ({ cls := "ForestRoomsModel", name := "orders", desc := "()I" } : Jvm.MethodName)) ∈ lw_all := lw_g (lw_at lw_m9 133 rfl) rfl
theorem q2164 : (Jvm.Cond.selects "ForestRoomsModel" ({ cls := "ForestRoomsModel", name := "orders", desc := "()I" } : Jvm.MethodName) ({ cls := "ForestRoomsModel", name := "orders", desc := "()I" } : Jvm.MethodName)) ∈ lw_all := lw_g (lw_at lw_m9 134 rfl) rfl
theorem q2165 : (Jvm.Cond.code ({ cls := "ForestRoomsModel", name := "orders", desc := "()I" } : Jvm.MethodName) prog_22_method_118_code (4 : Nat) (Option.some Jvm.ClassFile.FieldType.int)) ∈ lw_all := lw_g (lw_at lw_m9 135 rfl) rfl
theorem q2166 : (Jvm.Cond.methodLink "ForestRoomsModel" (569 : Nat) ({ cls := "ForestRoomsModel", name := "readOrder", desc := "()V" } : Jvm.MethodName)) ∈ lw_all := lw_g (lw_at lw_m9 136 rfl) rfl
theorem q2167 : (Jvm.Cond.privateMethod ({ cls := "ForestRoomsModel", name := "readOrder", desc := "()V" } : Jvm.MethodName)) ∈ lw_tbl := lw_at lw_m9 137 rfl
theorem q2168 : (Jvm.Cond.instanceMethod ({ cls := "ForestRoomsModel", name := "readOrder", desc := "()V" } : Jvm.MethodName)) ∈ lw_all := lw_g (lw_at lw_m9 138 rfl) rfl
theorem q2169 : (Jvm.Cond.code ({ cls := "ForestRoomsModel", name := "readOrder", desc := "()V" } : Jvm.MethodName) prog_22_method_113_code (4 : Nat) (Option.none : Option Jvm.ClassFile.FieldType)) ∈ lw_all := lw_g (lw_at lw_m9 139 rfl) rfl
theorem q2170 : (Jvm.Cond.methodLink "ForestRoomsModel" (539 : Nat) ({ cls := "ForestRoomsModel", name := "readSum", desc := "(I)V" } : Jvm.MethodName)) ∈ lw_all := lw_g (lw_at lw_m9 140 rfl) rfl
theorem q2171 : (Jvm.Cond.privateMethod ({ cls := "ForestRoomsModel", name := "readSum", desc := "(I)V" } : Jvm.MethodName)) ∈ lw_tbl := lw_at lw_m9 141 rfl
theorem q2172 : (Jvm.Cond.instanceMethod ({ cls := "ForestRoomsModel", name := "readSum", desc := "(I)V" } : Jvm.MethodName)) ∈ lw_all := lw_g (lw_at lw_m9 142 rfl) rfl
theorem q2173 : (Jvm.Cond.code ({ cls := "ForestRoomsModel", name := "readSum", desc := "(I)V" } : Jvm.MethodName) prog_22_method_112_code (2 : Nat) (Option.none : Option Jvm.ClassFile.FieldType)) ∈ lw_all := lw_g (lw_at lw_m9 143 rfl) rfl
theorem q2174 : (Jvm.Cond.constantLong "ForestRoomsModel" (542 : Nat) (302 : Int64)) ∈ lw_all := lw_g (lw_at lw_m9 144 rfl) rfl
theorem q2175 : (Jvm.Cond.constantLong "ForestRoomsModel" (544 : Nat) (89 : Int64)) ∈ lw_all := lw_g (lw_at lw_m9 145 rfl) rfl
theorem q2176 : (Jvm.Cond.constantLong "ForestRoomsModel" (546 : Nat) (655 : Int64)) ∈ lw_all := lw_g (lw_at lw_m9 146 rfl) rfl
theorem q2177 : (Jvm.Cond.constantLong "ForestRoomsModel" (548 : Nat) (21279923 : Int64)) ∈ lw_all := lw_g (lw_at lw_m9 147 rfl) rfl
theorem q2178 : (Jvm.Cond.methodLink "ForestRoomsModel" (572 : Nat) ({ cls := "ForestRoomsModel", name := "run", desc := "(I)I" } : Jvm.MethodName)) ∈ lw_all := lw_g (lw_at lw_m9 148 rfl) rfl
theorem q2179 : (Jvm.Cond.privateMethod ({ cls := "ForestRoomsModel", name := "run", desc := "(I)I" } : Jvm.MethodName)) ∈ lw_tbl := lw_at lw_m9 149 rfl
theorem q2180 : (Jvm.Cond.instanceMethod ({ cls := "ForestRoomsModel", name := "run", desc := "(I)I" } : Jvm.MethodName)) ∈ lw_all := lw_g (lw_at lw_m9 150 rfl) rfl
theorem q2181 : (Jvm.Cond.code ({ cls := "ForestRoomsModel", name := "run", desc := "(I)I" } : Jvm.MethodName) prog_22_method_117_code (5 : Nat) (Option.some Jvm.ClassFile.FieldType.int)) ∈ lw_all := lw_g (lw_at lw_m9 151 rfl) rfl
theorem q2182 : (Jvm.Cond.methodLink "ForestRoomsModel" (553 : Nat) ({ cls := "ForestRoomsModel", name := "trees", desc := "()I" } : Jvm.MethodName)) ∈ lw_all := lw_g (lw_at lw_m9 152 rfl) rfl
theorem q2183 : (Jvm.Cond.privateMethod ({ cls := "ForestRoomsModel", name := "trees", desc := "()I" } : Jvm.MethodName)) ∈ lw_tbl := lw_at lw_m9 153 rfl
theorem q2184 : (Jvm.Cond.instanceMethod ({ cls := "ForestRoomsModel", name := "trees", desc := "()I" } : Jvm.MethodName)) ∈ lw_all := lw_g (lw_at lw_m9 154 rfl) rfl
theorem q2185 : (Jvm.Cond.code ({ cls := "ForestRoomsModel", name := "trees", desc := "()I" } : Jvm.MethodName) prog_22_method_115_code (3 : Nat) (Option.some Jvm.ClassFile.FieldType.int)) ∈ lw_all := lw_g (lw_at lw_m9 155 rfl) rfl
theorem q2186 : (Jvm.Cond.methodLink "ForestRoomsModel" (562 : Nat) ({ cls := "ForestRoomsModel", name := "sumOf", desc := "(I)I" } : Jvm.MethodName)) ∈ lw_all := lw_g (lw_at lw_m9 156 rfl) rfl
theorem q2187 : (Jvm.Cond.privateMethod ({ cls := "ForestRoomsModel", name := "sumOf", desc := "(I)I" } : Jvm.MethodName)) ∈ lw_tbl := lw_at lw_m9 157 rfl
theorem q2188 : (Jvm.Cond.instanceMethod ({ cls := "ForestRoomsModel", name := "sumOf", desc := "(I)I" } : Jvm.MethodName)) ∈ lw_all := lw_g (lw_at lw_m9 158 rfl) rfl
theorem q2189 : (Jvm.Cond.code ({ cls := "ForestRoomsModel", name := "sumOf", desc := "(I)I" } : Jvm.MethodName) prog_22_method_114_code (2 : Nat) (Option.some Jvm.ClassFile.FieldType.int)) ∈ lw_all := lw_g (lw_at lw_m9 159 rfl) rfl
theorem q2190 : (Jvm.Cond.methodLink "ForestRoomsModel" (565 : Nat) ({ cls := "ForestRoomsModel", name := "act", desc := "(III)I" } : Jvm.MethodName)) ∈ lw_all := lw_g (lw_at lw_m9 160 rfl) rfl
theorem q2191 : (Jvm.Cond.privateMethod ({ cls := "ForestRoomsModel", name := "act", desc := "(III)I" } : Jvm.MethodName)) ∈ lw_tbl := lw_at lw_m9 161 rfl
theorem q2192 : (Jvm.Cond.instanceMethod ({ cls := "ForestRoomsModel", name := "act", desc := "(III)I" } : Jvm.MethodName)) ∈ lw_all := lw_g (lw_at lw_m9 162 rfl) rfl
theorem q2193 : (Jvm.Cond.code ({ cls := "ForestRoomsModel", name := "act", desc := "(III)I" } : Jvm.MethodName) prog_22_method_116_code (4 : Nat) (Option.some Jvm.ClassFile.FieldType.int)) ∈ lw_all := lw_g (lw_at lw_m9 163 rfl) rfl
theorem q2194 : (Jvm.Cond.methodLink "ForestRoomsModel" (575 : Nat) ({ cls := "ForestRoomsModel", name := "giveBack", desc := "(I)V" } : Jvm.MethodName)) ∈ lw_all := lw_g (lw_at lw_m9 164 rfl) rfl
theorem q2195 : (Jvm.Cond.privateMethod ({ cls := "ForestRoomsModel", name := "giveBack", desc := "(I)V" } : Jvm.MethodName)) ∈ lw_tbl := lw_at lw_m9 165 rfl
theorem q2196 : (Jvm.Cond.instanceMethod ({ cls := "ForestRoomsModel", name := "giveBack", desc := "(I)V" } : Jvm.MethodName)) ∈ lw_all := lw_g (lw_at lw_m9 166 rfl) rfl
theorem q2197 : (Jvm.Cond.code ({ cls := "ForestRoomsModel", name := "giveBack", desc := "(I)V" } : Jvm.MethodName) prog_22_method_119_code (3 : Nat) (Option.none : Option Jvm.ClassFile.FieldType)) ∈ lw_all := lw_g (lw_at lw_m9 167 rfl) rfl
theorem q2199 : (Jvm.Cond.instanceMethod ({ cls := "ForestRoomsModel", name := "stopped", desc := "()I" } : Jvm.MethodName)) ∈ lw_all := lw_g (lw_at lw_m9 169 rfl) rfl
theorem q2200 : (Jvm.Cond.selects "ForestRoomsModel" ({ cls := "ForestRoomsModel", name := "stopped", desc := "()I" } : Jvm.MethodName) ({ cls := "ForestRoomsModel", name := "stopped", desc := "()I" } : Jvm.MethodName)) ∈ lw_all := lw_g (lw_at lw_m9 170 rfl) rfl
theorem q2201 : (Jvm.Cond.code ({ cls := "ForestRoomsModel", name := "stopped", desc := "()I" } : Jvm.MethodName) prog_22_method_120_code (1 : Nat) (Option.some Jvm.ClassFile.FieldType.int)) ∈ lw_all := lw_g (lw_at lw_m9 171 rfl) rfl
theorem q2203 : (Jvm.Cond.instanceMethod ({ cls := "ForestRoomsModel", name := "decade", desc := "(II)I" } : Jvm.MethodName)) ∈ lw_all := lw_g (lw_at lw_m9 173 rfl) rfl
theorem q2204 : (Jvm.Cond.selects "ForestRoomsModel" ({ cls := "ForestRoomsModel", name := "decade", desc := "(II)I" } : Jvm.MethodName) ({ cls := "ForestRoomsModel", name := "decade", desc := "(II)I" } : Jvm.MethodName)) ∈ lw_all := lw_g (lw_at lw_m9 174 rfl) rfl
theorem q2205 : (Jvm.Cond.code ({ cls := "ForestRoomsModel", name := "decade", desc := "(II)I" } : Jvm.MethodName) prog_22_method_122_code (6 : Nat) (Option.some Jvm.ClassFile.FieldType.int)) ∈ lw_all := lw_g (lw_at lw_m9 175 rfl) rfl
theorem q2206 : (Jvm.Cond.methodLink "ForestRoomsModel" (590 : Nat) ({ cls := "ForestRoomsModel", name := "draw", desc := "(I)I" } : Jvm.MethodName)) ∈ lw_all := lw_g (lw_at lw_m9 176 rfl) rfl
theorem q2207 : (Jvm.Cond.privateMethod ({ cls := "ForestRoomsModel", name := "draw", desc := "(I)I" } : Jvm.MethodName)) ∈ lw_tbl := lw_at lw_m9 177 rfl
theorem q2208 : (Jvm.Cond.instanceMethod ({ cls := "ForestRoomsModel", name := "draw", desc := "(I)I" } : Jvm.MethodName)) ∈ lw_all := lw_g (lw_at lw_m9 178 rfl) rfl
theorem q2209 : (Jvm.Cond.code ({ cls := "ForestRoomsModel", name := "draw", desc := "(I)I" } : Jvm.MethodName) prog_22_method_121_code (2 : Nat) (Option.some Jvm.ClassFile.FieldType.int)) ∈ lw_all := lw_g (lw_at lw_m9 179 rfl) rfl
theorem q2210 : (Jvm.Cond.constantLong "ForestRoomsModel" (581 : Nat) (1103 : Int64)) ∈ lw_all := lw_g (lw_at lw_m9 180 rfl) rfl
theorem q2211 : (Jvm.Cond.constantLong "ForestRoomsModel" (583 : Nat) (12345 : Int64)) ∈ lw_all := lw_g (lw_at lw_m9 181 rfl) rfl
theorem q2212 : (Jvm.Cond.constantLong "ForestRoomsModel" (585 : Nat) (1000003 : Int64)) ∈ lw_all := lw_g (lw_at lw_m9 182 rfl) rfl
theorem q2214 : (Jvm.Cond.instanceMethod ({ cls := "ForestRoomsModel", name := "drawn", desc := "(II)I" } : Jvm.MethodName)) ∈ lw_all := lw_g (lw_at lw_m9 184 rfl) rfl
theorem q2215 : (Jvm.Cond.selects "ForestRoomsModel" ({ cls := "ForestRoomsModel", name := "drawn", desc := "(II)I" } : Jvm.MethodName) ({ cls := "ForestRoomsModel", name := "drawn", desc := "(II)I" } : Jvm.MethodName)) ∈ lw_all := lw_g (lw_at lw_m9 185 rfl) rfl
theorem q2216 : (Jvm.Cond.code ({ cls := "ForestRoomsModel", name := "drawn", desc := "(II)I" } : Jvm.MethodName) prog_22_method_123_code (3 : Nat) (Option.some Jvm.ClassFile.FieldType.int)) ∈ lw_all := lw_g (lw_at lw_m9 186 rfl) rfl
theorem q2218 : (Jvm.Cond.instanceMethod ({ cls := "ForestRoomsModel", name := "count", desc := "(I)I" } : Jvm.MethodName)) ∈ lw_all := lw_g (lw_at lw_m9 188 rfl) rfl
theorem q2219 : (Jvm.Cond.selects "ForestRoomsModel" ({ cls := "ForestRoomsModel", name := "count", desc := "(I)I" } : Jvm.MethodName) ({ cls := "ForestRoomsModel", name := "count", desc := "(I)I" } : Jvm.MethodName)) ∈ lw_all := lw_g (lw_at lw_m9 189 rfl) rfl
theorem q2220 : (Jvm.Cond.code ({ cls := "ForestRoomsModel", name := "count", desc := "(I)I" } : Jvm.MethodName) prog_22_method_124_code (2 : Nat) (Option.some Jvm.ClassFile.FieldType.int)) ∈ lw_all := lw_g (lw_at lw_m9 190 rfl) rfl
theorem q2221 : (Jvm.Cond.constantLong "ForestRoomsModel" (593 : Nat) (13 : Int64)) ∈ lw_all := lw_g (lw_at lw_m9 191 rfl) rfl
theorem q2222 : (Jvm.Cond.constantLong "ForestRoomsModel" (595 : Nat) (17 : Int64)) ∈ lw_all := lw_g (lw_at lw_m9 192 rfl) rfl
theorem q2224 : (Jvm.Cond.instanceMethod ({ cls := "ForestRoomsModel", name := "status", desc := "()I" } : Jvm.MethodName)) ∈ lw_all := lw_g (lw_at lw_m9 194 rfl) rfl
theorem q2225 : (Jvm.Cond.selects "ForestRoomsModel" ({ cls := "ForestRoomsModel", name := "status", desc := "()I" } : Jvm.MethodName) ({ cls := "ForestRoomsModel", name := "status", desc := "()I" } : Jvm.MethodName)) ∈ lw_all := lw_g (lw_at lw_m9 195 rfl) rfl
theorem q2226 : (Jvm.Cond.code ({ cls := "ForestRoomsModel", name := "status", desc := "()I" } : Jvm.MethodName) prog_22_method_125_code (1 : Nat) (Option.some Jvm.ClassFile.FieldType.int)) ∈ lw_all := lw_g (lw_at lw_m9 196 rfl) rfl
theorem q2247 : (Jvm.Cond.castable "ForestRoomsModel" "java/lang/Object") ∈ lw_tbl := lw_at lw_m9 217 rfl
theorem in_X5 : ∀ w ∈ wsX50, w ∈ lw_all := lw_in wsX50 [1580, 1582, 1584, 1586, 1588, 1590, 1592, 1594, 1596, 1598, 1600, 1602, 1604, 1606, 1608, 1610, 1612, 1614, 1616, 1618, 1620, 1622, 1624, 1626, 1628, 1630, 1632, 1634, 1636, 1638, 1640, 1642, 1644, 1646, 1648, 1650, 1652, 1654, 1656, 1658, 1660, 1662, 1664, 1666, 1668, 1670, 1672, 1674, 1676, 1678, 1680, 1682, 1684, 1686, 1688, 1690, 1692, 1694, 1696, 1698, 1700, 1702] (by decide +kernel) (by decide +kernel)
