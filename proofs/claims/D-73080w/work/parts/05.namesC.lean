/-! LostLanesModel -/
set_option maxRecDepth 100000
def RX5 : String := "LostLanesModel"
def TX5 : u_T := fun k => match k with
  | 0 => ("LostLanesModel", "thrown", "I", false)
  | 1 => ("LostLanesModel", "status", "I", false)
  | 2 => ("LostLanesModel", "refusals", "[I", true)
  | 3 => ("LostLanesModel", "row", "[I", true)
  | 4 => ("LostLanesModel", "images", "[I", true)
  | 5 => ("LostLanesModel", "isKept", "[Z", true)
  | 6 => ("LostLanesModel", "undos", "[I", true)
  | 7 => ("LostLanesModel", "sorts", "[I", true)
  | 8 => ("LostLanesModel", "nUndo", "I", false)
  | 9 => ("LostLanesModel", "undosBefore", "[I", true)
  | 10 => ("LostLanesModel", "sortsBefore", "[I", true)
  | 11 => ("LostLanesModel", "gravel", "I", false)
  | 12 => ("LostLanesModel", "tape", "[I", true)
  | 13 => ("LostLanesModel", "taped", "I", false)
  | 14 => ("LostLanesModel", "from", "I", false)
  | 15 => ("LostLanesModel", "to", "I", false)
  | 16 => ("LostLanesModel", "sort", "I", false)
  | 17 => ("LostLanesModel", "worth", "J", false)
  | 18 => ("LostLanesModel", "fault", "I", false)
  | 19 => ("LostLanesModel", "bad", "Z", false)
  | 20 => ("LostLanesModel", "ordered", "Z", false)
  | 21 => ("LostLanesModel", "nClauses", "I", false)
  | 22 => ("LostLanesModel", "nClause", "[I", true)
  | 23 => ("LostLanesModel", "nCode", "I", false)
  | 24 => ("LostLanesModel", "nOp", "[I", true)
  | 25 => ("LostLanesModel", "nArg", "[I", true)
  | 26 => ("LostLanesModel", "nLeaves", "I", false)
  | 27 => ("LostLanesModel", "pile", "[I", true)
  | 28 => ("LostLanesModel", "pileAt", "[I", true)
  | 29 => ("LostLanesModel", "piled", "I", false)
  | 30 => ("LostLanesModel", "opened", "I", false)
  | 31 => ("LostLanesModel", "words", "[J", true)
  | 32 => ("LostLanesModel", "orderWords", "[J", true)
  | 33 => ("LostLanesModel", "heads", "[J", true)
  | 34 => ("LostLanesModel", "law", "I", false)
  | 35 => ("LostLanesModel", "set", "[J", true)
  | 36 => ("LostLanesModel", "now", "[J", true)
  | 37 => ("LostLanesModel", "rest", "[J", true)
  | 38 => ("LostLanesModel", "broken", "Z", false)
  | 39 => ("LostLanesModel", "value", "J", false)
  | 40 => ("LostLanesModel", "sum", "J", false)
  | 41 => ("LostLanesModel", "going", "[I", true)
  | 42 => ("LostLanesModel", "between", "[I", true)
  | 43 => ("LostLanesModel", "ways", "[I", true)
  | 44 => ("LostLanesModel", "waysThen", "[I", true)
  | 45 => ("LostLanesModel", "tried", "[I", true)
  | 46 => ("LostLanesModel", "paired", "[I", true)
  | 47 => ("LostLanesModel", "parts", "[J", true)
  | 48 => ("LostLanesModel", "acts", "[J", true)
  | 49 => ("LostLanesModel", "nOrder", "[I", true)
  | 50 => ("LostLanesModel", "done", "I", false)
  | 51 => ("LostLanesModel", "latest", "I", false)
  | 52 => ("LostLanesModel", "stopped", "I", false)
  | 53 => ("LostLanesModel", "off", "Z", false)
  | 54 => ("LostLanesModel", "state", "J", false)
  | 55 => ("LostLanesModel", "drawn", "[I", true)
  | 56 => ("LostLanesModel", "drawnLanes", "I", false)
  | _ => ("LostLanesModel", "drawnChildren", "I", false)
def tyX5 : Nat → FieldType := fun k => match k with
  | 0 => .int
  | 1 => .int
  | 2 => .array .int
  | 3 => .array .int
  | 4 => .array .int
  | 5 => .array .boolean
  | 6 => .array .int
  | 7 => .array .int
  | 8 => .int
  | 9 => .array .int
  | 10 => .array .int
  | 11 => .int
  | 12 => .array .int
  | 13 => .int
  | 14 => .int
  | 15 => .int
  | 16 => .int
  | 17 => .long
  | 18 => .int
  | 19 => .boolean
  | 20 => .boolean
  | 21 => .int
  | 22 => .array .int
  | 23 => .int
  | 24 => .array .int
  | 25 => .array .int
  | 26 => .int
  | 27 => .array .int
  | 28 => .array .int
  | 29 => .int
  | 30 => .int
  | 31 => .array .long
  | 32 => .array .long
  | 33 => .array .long
  | 34 => .int
  | 35 => .array .long
  | 36 => .array .long
  | 37 => .array .long
  | 38 => .boolean
  | 39 => .long
  | 40 => .long
  | 41 => .array .int
  | 42 => .array .int
  | 43 => .array .int
  | 44 => .array .int
  | 45 => .array .int
  | 46 => .array .int
  | 47 => .array .long
  | 48 => .array .long
  | 49 => .array .int
  | 50 => .int
  | 51 => .int
  | 52 => .int
  | 53 => .boolean
  | 54 => .long
  | 55 => .array .int
  | 56 => .int
  | _ => .int
abbrev wsX50 : List Cond := u_ws RX5 TX5 58
set_option maxRecDepth 100000 in
theorem nmX5 : ∀ a, a < 58 → ∀ b, b < 58 → a ≠ b → (TX5 a).2.1 ≠ (TX5 b).2.1 := by decide +kernel
set_option maxRecDepth 100000 in
theorem tyX5_ok : ∀ k, k < 58 → parseFieldDescriptor (TX5 k).2.2.1 = some (tyX5 k) := by decide +kernel
abbrev cX5_init : ByteArray := prog_22_method_1_code
def yX5_init : MethodName := ⟨RX5, "<init>", "()V"⟩
def dkwX5_init_18 : List UInt8 := [180, 0, 13, 16, 6, 4, 79, 177]
abbrev dktX5_init_18 : List UInt8 := dkwX5_init_18 ++ []
def dkwX5_init_17 : List UInt8 := [188, 10, 181, 0, 150, 42, 2, 181, 0, 153, 42, 2, 181, 0, 156, 42, 180, 0, 13, 7, 2, 79, 42]
abbrev dktX5_init_17 : List UInt8 := dkwX5_init_17 ++ dktX5_init_18
def dkwX5_init_16 : List UInt8 := [20, 0, 139, 80, 181, 0, 141, 42, 16, 96, 188, 10, 181, 0, 144, 42, 2, 181, 0, 147, 42, 16, 21]
abbrev dktX5_init_16 : List UInt8 := dkwX5_init_16 ++ dktX5_init_17
def dkwX5_init_15 : List UInt8 := [42, 7, 188, 11, 89, 3, 20, 0, 133, 80, 89, 4, 20, 0, 135, 80, 89, 5, 20, 0, 137, 80, 89, 6]
abbrev dktX5_init_15 : List UInt8 := dkwX5_init_15 ++ dktX5_init_16
def dkwX5_init_14 : List UInt8 := [16, 11, 188, 10, 181, 0, 124, 42, 17, 1, 0, 188, 10, 181, 0, 127, 42, 16, 21, 188, 11, 181, 0, 130]
abbrev dktX5_init_14 : List UInt8 := dkwX5_init_14 ++ dktX5_init_15
def dkwX5_init_13 : List UInt8 := [16, 64, 188, 10, 181, 0, 115, 42, 16, 8, 188, 10, 181, 0, 118, 42, 16, 8, 188, 10, 181, 0, 121, 42]
abbrev dktX5_init_13 : List UInt8 := dkwX5_init_13 ++ dktX5_init_14
def dkwX5_init_12 : List UInt8 := [16, 13, 188, 11, 181, 0, 106, 42, 17, 1, 144, 188, 11, 181, 0, 109, 42, 7, 188, 10, 181, 0, 112, 42]
abbrev dktX5_init_12 : List UInt8 := dkwX5_init_12 ++ dktX5_init_13
def dkwX5_init_11 : List UInt8 := [89, 4, 20, 0, 96, 80, 89, 5, 20, 0, 98, 80, 181, 0, 100, 42, 16, 13, 188, 11, 181, 0, 103, 42]
abbrev dktX5_init_11 : List UInt8 := dkwX5_init_11 ++ dktX5_init_12
def dkwX5_init_10 : List UInt8 := [20, 0, 87, 80, 89, 16, 6, 20, 0, 89, 80, 181, 0, 91, 42, 6, 188, 11, 89, 3, 20, 0, 94, 80]
abbrev dktX5_init_10 : List UInt8 := dkwX5_init_10 ++ dktX5_init_11
def dkwX5_init_9 : List UInt8 := [20, 0, 79, 80, 89, 5, 20, 0, 81, 80, 89, 6, 20, 0, 83, 80, 89, 7, 20, 0, 85, 80, 89, 8]
abbrev dktX5_init_9 : List UInt8 := dkwX5_init_9 ++ dktX5_init_10
def dkwX5_init_8 : List UInt8 := [89, 16, 8, 20, 0, 73, 80, 181, 0, 75, 42, 16, 7, 188, 11, 89, 3, 20, 0, 71, 80, 89, 4]
abbrev dktX5_init_8 : List UInt8 := dkwX5_init_8 ++ dktX5_init_9
def dkwX5_init_7 : List UInt8 := [20, 0, 65, 80, 89, 8, 20, 0, 67, 80, 89, 16, 6, 20, 0, 69, 80, 89, 16, 7, 20, 0, 71, 80]
abbrev dktX5_init_7 : List UInt8 := dkwX5_init_7 ++ dktX5_init_8
def dkwX5_init_6 : List UInt8 := [20, 0, 57, 80, 89, 4, 20, 0, 59, 80, 89, 5, 20, 0, 61, 80, 89, 6, 20, 0, 63, 80, 89, 7]
abbrev dktX5_init_6 : List UInt8 := dkwX5_init_6 ++ dktX5_init_7
def dkwX5_init_5 : List UInt8 := [17, 1, 144, 188, 10, 181, 0, 51, 42, 17, 1, 144, 188, 10, 181, 0, 54, 42, 16, 9, 188, 11, 89, 3]
abbrev dktX5_init_5 : List UInt8 := dkwX5_init_5 ++ dktX5_init_6
def dkwX5_init_4 : List UInt8 := [181, 0, 42, 42, 17, 1, 144, 188, 10, 181, 0, 45, 42, 17, 1, 144, 188, 10, 181, 0, 48, 42]
abbrev dktX5_init_4 : List UInt8 := dkwX5_init_4 ++ dktX5_init_5
def dkwX5_init_3 : List UInt8 := [181, 0, 32, 42, 17, 1, 144, 188, 10, 181, 0, 35, 42, 2, 181, 0, 38, 42, 16, 96, 188, 10]
abbrev dktX5_init_3 : List UInt8 := dkwX5_init_3 ++ dktX5_init_4
def dkwX5_init_2 : List UInt8 := [42, 16, 16, 188, 10, 181, 0, 26, 42, 17, 1, 80, 188, 10, 181, 0, 29, 42, 16, 16, 188, 10]
abbrev dktX5_init_2 : List UInt8 := dkwX5_init_2 ++ dktX5_init_3
def dkwX5_init_1 : List UInt8 := [17, 42, 200, 188, 10, 181, 0, 16, 42, 5, 188, 4, 181, 0, 19, 42, 17, 1, 122, 188, 10, 181, 0, 23]
abbrev dktX5_init_1 : List UInt8 := dkwX5_init_1 ++ dktX5_init_2
def dkwX5_init_0 : List UInt8 := [42, 183, 0, 1, 42, 16, 7, 188, 10, 181, 0, 7, 42, 17, 21, 100, 188, 10, 181, 0, 13, 42]
abbrev dktX5_init_0 : List UInt8 := dkwX5_init_0 ++ dktX5_init_1
theorem dksX5_init_0 : cX5_init.data.toList.drop 0 = dktX5_init_0 := by decide +kernel
theorem dksX5_init_1 : cX5_init.data.toList.drop 22 = dktX5_init_1 := dk_seg dksX5_init_0 22 rfl rfl
theorem dksX5_init_2 : cX5_init.data.toList.drop 46 = dktX5_init_2 := dk_seg dksX5_init_1 24 rfl rfl
theorem dksX5_init_3 : cX5_init.data.toList.drop 68 = dktX5_init_3 := dk_seg dksX5_init_2 22 rfl rfl
theorem dksX5_init_4 : cX5_init.data.toList.drop 90 = dktX5_init_4 := dk_seg dksX5_init_3 22 rfl rfl
theorem dksX5_init_5 : cX5_init.data.toList.drop 112 = dktX5_init_5 := dk_seg dksX5_init_4 22 rfl rfl
theorem dksX5_init_6 : cX5_init.data.toList.drop 136 = dktX5_init_6 := dk_seg dksX5_init_5 24 rfl rfl
theorem dksX5_init_7 : cX5_init.data.toList.drop 160 = dktX5_init_7 := dk_seg dksX5_init_6 24 rfl rfl
theorem dksX5_init_8 : cX5_init.data.toList.drop 184 = dktX5_init_8 := dk_seg dksX5_init_7 24 rfl rfl
theorem dksX5_init_9 : cX5_init.data.toList.drop 207 = dktX5_init_9 := dk_seg dksX5_init_8 23 rfl rfl
theorem dksX5_init_10 : cX5_init.data.toList.drop 231 = dktX5_init_10 := dk_seg dksX5_init_9 24 rfl rfl
theorem dksX5_init_11 : cX5_init.data.toList.drop 255 = dktX5_init_11 := dk_seg dksX5_init_10 24 rfl rfl
theorem dksX5_init_12 : cX5_init.data.toList.drop 279 = dktX5_init_12 := dk_seg dksX5_init_11 24 rfl rfl
theorem dksX5_init_13 : cX5_init.data.toList.drop 303 = dktX5_init_13 := dk_seg dksX5_init_12 24 rfl rfl
theorem dksX5_init_14 : cX5_init.data.toList.drop 327 = dktX5_init_14 := dk_seg dksX5_init_13 24 rfl rfl
theorem dksX5_init_15 : cX5_init.data.toList.drop 351 = dktX5_init_15 := dk_seg dksX5_init_14 24 rfl rfl
theorem dksX5_init_16 : cX5_init.data.toList.drop 375 = dktX5_init_16 := dk_seg dksX5_init_15 24 rfl rfl
theorem dksX5_init_17 : cX5_init.data.toList.drop 398 = dktX5_init_17 := dk_seg dksX5_init_16 23 rfl rfl
theorem dksX5_init_18 : cX5_init.data.toList.drop 421 = dktX5_init_18 := dk_seg dksX5_init_17 23 rfl rfl
theorem dX5_init_0 : decode cX5_init 0 = .ok (.aload_n 0, 1) := dk_42 (dk_at dksX5_init_0 0 rfl rfl)
theorem dX5_init_1 : decode cX5_init 1 = .ok (.invokespecial 1, 3) := dk_183 0 1 (dk_at dksX5_init_0 1 rfl rfl)
theorem dX5_init_4 : decode cX5_init 4 = .ok (.aload_n 0, 1) := dk_42 (dk_at dksX5_init_0 4 rfl rfl)
theorem dX5_init_5 : decode cX5_init 5 = .ok (.bipush 7, 2) := dk_16 7 (dk_at dksX5_init_0 5 rfl rfl)
theorem dX5_init_7 : decode cX5_init 7 = .ok (.newarray .int, 2) := dk_188_10 (dk_at dksX5_init_0 7 rfl rfl)
theorem dX5_init_9 : decode cX5_init 9 = .ok (.putfield 7, 3) := dk_181 0 7 (dk_at dksX5_init_0 9 rfl rfl)
theorem dX5_init_12 : decode cX5_init 12 = .ok (.aload_n 0, 1) := dk_42 (dk_at dksX5_init_0 12 rfl rfl)
theorem dX5_init_13 : decode cX5_init 13 = .ok (.sipush 5476, 3) := dk_17 21 100 (dk_at dksX5_init_0 13 rfl rfl)
theorem dX5_init_16 : decode cX5_init 16 = .ok (.newarray .int, 2) := dk_188_10 (dk_at dksX5_init_0 16 rfl rfl)
theorem dX5_init_18 : decode cX5_init 18 = .ok (.putfield 13, 3) := dk_181 0 13 (dk_at dksX5_init_0 18 rfl rfl)
theorem dX5_init_21 : decode cX5_init 21 = .ok (.aload_n 0, 1) := dk_42 (dk_at dksX5_init_0 21 rfl rfl)
theorem dX5_init_22 : decode cX5_init 22 = .ok (.sipush 10952, 3) := dk_17 42 200 (dk_at dksX5_init_1 0 rfl rfl)
theorem dX5_init_25 : decode cX5_init 25 = .ok (.newarray .int, 2) := dk_188_10 (dk_at dksX5_init_1 3 rfl rfl)
theorem dX5_init_27 : decode cX5_init 27 = .ok (.putfield 16, 3) := dk_181 0 16 (dk_at dksX5_init_1 5 rfl rfl)
theorem dX5_init_30 : decode cX5_init 30 = .ok (.aload_n 0, 1) := dk_42 (dk_at dksX5_init_1 8 rfl rfl)
theorem dX5_init_31 : decode cX5_init 31 = .ok (.iconst 2, 1) := dk_5 (dk_at dksX5_init_1 9 rfl rfl)
theorem dX5_init_32 : decode cX5_init 32 = .ok (.newarray .boolean, 2) := dk_188_4 (dk_at dksX5_init_1 10 rfl rfl)
theorem dX5_init_34 : decode cX5_init 34 = .ok (.putfield 19, 3) := dk_181 0 19 (dk_at dksX5_init_1 12 rfl rfl)
theorem dX5_init_37 : decode cX5_init 37 = .ok (.aload_n 0, 1) := dk_42 (dk_at dksX5_init_1 15 rfl rfl)
theorem dX5_init_38 : decode cX5_init 38 = .ok (.sipush 378, 3) := dk_17 1 122 (dk_at dksX5_init_1 16 rfl rfl)
theorem dX5_init_41 : decode cX5_init 41 = .ok (.newarray .int, 2) := dk_188_10 (dk_at dksX5_init_1 19 rfl rfl)
theorem dX5_init_43 : decode cX5_init 43 = .ok (.putfield 23, 3) := dk_181 0 23 (dk_at dksX5_init_1 21 rfl rfl)
theorem dX5_init_46 : decode cX5_init 46 = .ok (.aload_n 0, 1) := dk_42 (dk_at dksX5_init_2 0 rfl rfl)
theorem dX5_init_47 : decode cX5_init 47 = .ok (.bipush 16, 2) := dk_16 16 (dk_at dksX5_init_2 1 rfl rfl)
theorem dX5_init_49 : decode cX5_init 49 = .ok (.newarray .int, 2) := dk_188_10 (dk_at dksX5_init_2 3 rfl rfl)
theorem dX5_init_51 : decode cX5_init 51 = .ok (.putfield 26, 3) := dk_181 0 26 (dk_at dksX5_init_2 5 rfl rfl)
theorem dX5_init_54 : decode cX5_init 54 = .ok (.aload_n 0, 1) := dk_42 (dk_at dksX5_init_2 8 rfl rfl)
theorem dX5_init_55 : decode cX5_init 55 = .ok (.sipush 336, 3) := dk_17 1 80 (dk_at dksX5_init_2 9 rfl rfl)
theorem dX5_init_58 : decode cX5_init 58 = .ok (.newarray .int, 2) := dk_188_10 (dk_at dksX5_init_2 12 rfl rfl)
theorem dX5_init_60 : decode cX5_init 60 = .ok (.putfield 29, 3) := dk_181 0 29 (dk_at dksX5_init_2 14 rfl rfl)
theorem dX5_init_63 : decode cX5_init 63 = .ok (.aload_n 0, 1) := dk_42 (dk_at dksX5_init_2 17 rfl rfl)
theorem dX5_init_64 : decode cX5_init 64 = .ok (.bipush 16, 2) := dk_16 16 (dk_at dksX5_init_2 18 rfl rfl)
theorem dX5_init_66 : decode cX5_init 66 = .ok (.newarray .int, 2) := dk_188_10 (dk_at dksX5_init_2 20 rfl rfl)
theorem dX5_init_68 : decode cX5_init 68 = .ok (.putfield 32, 3) := dk_181 0 32 (dk_at dksX5_init_3 0 rfl rfl)
theorem dX5_init_71 : decode cX5_init 71 = .ok (.aload_n 0, 1) := dk_42 (dk_at dksX5_init_3 3 rfl rfl)
theorem dX5_init_72 : decode cX5_init 72 = .ok (.sipush 400, 3) := dk_17 1 144 (dk_at dksX5_init_3 4 rfl rfl)
theorem dX5_init_75 : decode cX5_init 75 = .ok (.newarray .int, 2) := dk_188_10 (dk_at dksX5_init_3 7 rfl rfl)
theorem dX5_init_77 : decode cX5_init 77 = .ok (.putfield 35, 3) := dk_181 0 35 (dk_at dksX5_init_3 9 rfl rfl)
theorem dX5_init_80 : decode cX5_init 80 = .ok (.aload_n 0, 1) := dk_42 (dk_at dksX5_init_3 12 rfl rfl)
theorem dX5_init_81 : decode cX5_init 81 = .ok (.iconst (-1), 1) := dk_2 (dk_at dksX5_init_3 13 rfl rfl)
theorem dX5_init_82 : decode cX5_init 82 = .ok (.putfield 38, 3) := dk_181 0 38 (dk_at dksX5_init_3 14 rfl rfl)
theorem dX5_init_85 : decode cX5_init 85 = .ok (.aload_n 0, 1) := dk_42 (dk_at dksX5_init_3 17 rfl rfl)
theorem dX5_init_86 : decode cX5_init 86 = .ok (.bipush 96, 2) := dk_16 96 (dk_at dksX5_init_3 18 rfl rfl)
theorem dX5_init_88 : decode cX5_init 88 = .ok (.newarray .int, 2) := dk_188_10 (dk_at dksX5_init_3 20 rfl rfl)
theorem dX5_init_90 : decode cX5_init 90 = .ok (.putfield 42, 3) := dk_181 0 42 (dk_at dksX5_init_4 0 rfl rfl)
theorem dX5_init_93 : decode cX5_init 93 = .ok (.aload_n 0, 1) := dk_42 (dk_at dksX5_init_4 3 rfl rfl)
theorem dX5_init_94 : decode cX5_init 94 = .ok (.sipush 400, 3) := dk_17 1 144 (dk_at dksX5_init_4 4 rfl rfl)
theorem dX5_init_97 : decode cX5_init 97 = .ok (.newarray .int, 2) := dk_188_10 (dk_at dksX5_init_4 7 rfl rfl)
theorem dX5_init_99 : decode cX5_init 99 = .ok (.putfield 45, 3) := dk_181 0 45 (dk_at dksX5_init_4 9 rfl rfl)
theorem dX5_init_102 : decode cX5_init 102 = .ok (.aload_n 0, 1) := dk_42 (dk_at dksX5_init_4 12 rfl rfl)
theorem dX5_init_103 : decode cX5_init 103 = .ok (.sipush 400, 3) := dk_17 1 144 (dk_at dksX5_init_4 13 rfl rfl)
theorem dX5_init_106 : decode cX5_init 106 = .ok (.newarray .int, 2) := dk_188_10 (dk_at dksX5_init_4 16 rfl rfl)
theorem dX5_init_108 : decode cX5_init 108 = .ok (.putfield 48, 3) := dk_181 0 48 (dk_at dksX5_init_4 18 rfl rfl)
theorem dX5_init_111 : decode cX5_init 111 = .ok (.aload_n 0, 1) := dk_42 (dk_at dksX5_init_4 21 rfl rfl)
theorem dX5_init_112 : decode cX5_init 112 = .ok (.sipush 400, 3) := dk_17 1 144 (dk_at dksX5_init_5 0 rfl rfl)
theorem dX5_init_115 : decode cX5_init 115 = .ok (.newarray .int, 2) := dk_188_10 (dk_at dksX5_init_5 3 rfl rfl)
theorem dX5_init_117 : decode cX5_init 117 = .ok (.putfield 51, 3) := dk_181 0 51 (dk_at dksX5_init_5 5 rfl rfl)
theorem dX5_init_120 : decode cX5_init 120 = .ok (.aload_n 0, 1) := dk_42 (dk_at dksX5_init_5 8 rfl rfl)
theorem dX5_init_121 : decode cX5_init 121 = .ok (.sipush 400, 3) := dk_17 1 144 (dk_at dksX5_init_5 9 rfl rfl)
theorem dX5_init_124 : decode cX5_init 124 = .ok (.newarray .int, 2) := dk_188_10 (dk_at dksX5_init_5 12 rfl rfl)
theorem dX5_init_126 : decode cX5_init 126 = .ok (.putfield 54, 3) := dk_181 0 54 (dk_at dksX5_init_5 14 rfl rfl)
theorem dX5_init_129 : decode cX5_init 129 = .ok (.aload_n 0, 1) := dk_42 (dk_at dksX5_init_5 17 rfl rfl)
theorem dX5_init_130 : decode cX5_init 130 = .ok (.bipush 9, 2) := dk_16 9 (dk_at dksX5_init_5 18 rfl rfl)
theorem dX5_init_132 : decode cX5_init 132 = .ok (.newarray .long, 2) := dk_188_11 (dk_at dksX5_init_5 20 rfl rfl)
theorem dX5_init_134 : decode cX5_init 134 = .ok (.dup, 1) := dk_89 (dk_at dksX5_init_5 22 rfl rfl)
theorem dX5_init_135 : decode cX5_init 135 = .ok (.iconst 0, 1) := dk_3 (dk_at dksX5_init_5 23 rfl rfl)
theorem dX5_init_136 : decode cX5_init 136 = .ok (.ldc2_w 57, 3) := dk_20 0 57 (dk_at dksX5_init_6 0 rfl rfl)
theorem dX5_init_139 : decode cX5_init 139 = .ok (.lastore, 1) := dk_80 (dk_at dksX5_init_6 3 rfl rfl)
theorem dX5_init_140 : decode cX5_init 140 = .ok (.dup, 1) := dk_89 (dk_at dksX5_init_6 4 rfl rfl)
theorem dX5_init_141 : decode cX5_init 141 = .ok (.iconst 1, 1) := dk_4 (dk_at dksX5_init_6 5 rfl rfl)
theorem dX5_init_142 : decode cX5_init 142 = .ok (.ldc2_w 59, 3) := dk_20 0 59 (dk_at dksX5_init_6 6 rfl rfl)
theorem dX5_init_145 : decode cX5_init 145 = .ok (.lastore, 1) := dk_80 (dk_at dksX5_init_6 9 rfl rfl)
theorem dX5_init_146 : decode cX5_init 146 = .ok (.dup, 1) := dk_89 (dk_at dksX5_init_6 10 rfl rfl)
theorem dX5_init_147 : decode cX5_init 147 = .ok (.iconst 2, 1) := dk_5 (dk_at dksX5_init_6 11 rfl rfl)
theorem dX5_init_148 : decode cX5_init 148 = .ok (.ldc2_w 61, 3) := dk_20 0 61 (dk_at dksX5_init_6 12 rfl rfl)
theorem dX5_init_151 : decode cX5_init 151 = .ok (.lastore, 1) := dk_80 (dk_at dksX5_init_6 15 rfl rfl)
theorem dX5_init_152 : decode cX5_init 152 = .ok (.dup, 1) := dk_89 (dk_at dksX5_init_6 16 rfl rfl)
theorem dX5_init_153 : decode cX5_init 153 = .ok (.iconst 3, 1) := dk_6 (dk_at dksX5_init_6 17 rfl rfl)
theorem dX5_init_154 : decode cX5_init 154 = .ok (.ldc2_w 63, 3) := dk_20 0 63 (dk_at dksX5_init_6 18 rfl rfl)
theorem dX5_init_157 : decode cX5_init 157 = .ok (.lastore, 1) := dk_80 (dk_at dksX5_init_6 21 rfl rfl)
theorem dX5_init_158 : decode cX5_init 158 = .ok (.dup, 1) := dk_89 (dk_at dksX5_init_6 22 rfl rfl)
theorem dX5_init_159 : decode cX5_init 159 = .ok (.iconst 4, 1) := dk_7 (dk_at dksX5_init_6 23 rfl rfl)
theorem dX5_init_160 : decode cX5_init 160 = .ok (.ldc2_w 65, 3) := dk_20 0 65 (dk_at dksX5_init_7 0 rfl rfl)
theorem dX5_init_163 : decode cX5_init 163 = .ok (.lastore, 1) := dk_80 (dk_at dksX5_init_7 3 rfl rfl)
theorem dX5_init_164 : decode cX5_init 164 = .ok (.dup, 1) := dk_89 (dk_at dksX5_init_7 4 rfl rfl)
theorem dX5_init_165 : decode cX5_init 165 = .ok (.iconst 5, 1) := dk_8 (dk_at dksX5_init_7 5 rfl rfl)
theorem dX5_init_166 : decode cX5_init 166 = .ok (.ldc2_w 67, 3) := dk_20 0 67 (dk_at dksX5_init_7 6 rfl rfl)
theorem dX5_init_169 : decode cX5_init 169 = .ok (.lastore, 1) := dk_80 (dk_at dksX5_init_7 9 rfl rfl)
theorem dX5_init_170 : decode cX5_init 170 = .ok (.dup, 1) := dk_89 (dk_at dksX5_init_7 10 rfl rfl)
theorem dX5_init_171 : decode cX5_init 171 = .ok (.bipush 6, 2) := dk_16 6 (dk_at dksX5_init_7 11 rfl rfl)
theorem dX5_init_173 : decode cX5_init 173 = .ok (.ldc2_w 69, 3) := dk_20 0 69 (dk_at dksX5_init_7 13 rfl rfl)
theorem dX5_init_176 : decode cX5_init 176 = .ok (.lastore, 1) := dk_80 (dk_at dksX5_init_7 16 rfl rfl)
theorem dX5_init_177 : decode cX5_init 177 = .ok (.dup, 1) := dk_89 (dk_at dksX5_init_7 17 rfl rfl)
theorem dX5_init_178 : decode cX5_init 178 = .ok (.bipush 7, 2) := dk_16 7 (dk_at dksX5_init_7 18 rfl rfl)
theorem dX5_init_180 : decode cX5_init 180 = .ok (.ldc2_w 71, 3) := dk_20 0 71 (dk_at dksX5_init_7 20 rfl rfl)
theorem dX5_init_183 : decode cX5_init 183 = .ok (.lastore, 1) := dk_80 (dk_at dksX5_init_7 23 rfl rfl)
theorem dX5_init_184 : decode cX5_init 184 = .ok (.dup, 1) := dk_89 (dk_at dksX5_init_8 0 rfl rfl)
theorem dX5_init_185 : decode cX5_init 185 = .ok (.bipush 8, 2) := dk_16 8 (dk_at dksX5_init_8 1 rfl rfl)
theorem dX5_init_187 : decode cX5_init 187 = .ok (.ldc2_w 73, 3) := dk_20 0 73 (dk_at dksX5_init_8 3 rfl rfl)
theorem dX5_init_190 : decode cX5_init 190 = .ok (.lastore, 1) := dk_80 (dk_at dksX5_init_8 6 rfl rfl)
theorem dX5_init_191 : decode cX5_init 191 = .ok (.putfield 75, 3) := dk_181 0 75 (dk_at dksX5_init_8 7 rfl rfl)
theorem dX5_init_194 : decode cX5_init 194 = .ok (.aload_n 0, 1) := dk_42 (dk_at dksX5_init_8 10 rfl rfl)
theorem dX5_init_195 : decode cX5_init 195 = .ok (.bipush 7, 2) := dk_16 7 (dk_at dksX5_init_8 11 rfl rfl)
theorem dX5_init_197 : decode cX5_init 197 = .ok (.newarray .long, 2) := dk_188_11 (dk_at dksX5_init_8 13 rfl rfl)
theorem dX5_init_199 : decode cX5_init 199 = .ok (.dup, 1) := dk_89 (dk_at dksX5_init_8 15 rfl rfl)
theorem dX5_init_200 : decode cX5_init 200 = .ok (.iconst 0, 1) := dk_3 (dk_at dksX5_init_8 16 rfl rfl)
theorem dX5_init_201 : decode cX5_init 201 = .ok (.ldc2_w 71, 3) := dk_20 0 71 (dk_at dksX5_init_8 17 rfl rfl)
theorem dX5_init_204 : decode cX5_init 204 = .ok (.lastore, 1) := dk_80 (dk_at dksX5_init_8 20 rfl rfl)
theorem dX5_init_205 : decode cX5_init 205 = .ok (.dup, 1) := dk_89 (dk_at dksX5_init_8 21 rfl rfl)
theorem dX5_init_206 : decode cX5_init 206 = .ok (.iconst 1, 1) := dk_4 (dk_at dksX5_init_8 22 rfl rfl)
theorem dX5_init_207 : decode cX5_init 207 = .ok (.ldc2_w 79, 3) := dk_20 0 79 (dk_at dksX5_init_9 0 rfl rfl)
theorem dX5_init_210 : decode cX5_init 210 = .ok (.lastore, 1) := dk_80 (dk_at dksX5_init_9 3 rfl rfl)
theorem dX5_init_211 : decode cX5_init 211 = .ok (.dup, 1) := dk_89 (dk_at dksX5_init_9 4 rfl rfl)
theorem dX5_init_212 : decode cX5_init 212 = .ok (.iconst 2, 1) := dk_5 (dk_at dksX5_init_9 5 rfl rfl)
theorem dX5_init_213 : decode cX5_init 213 = .ok (.ldc2_w 81, 3) := dk_20 0 81 (dk_at dksX5_init_9 6 rfl rfl)
theorem dX5_init_216 : decode cX5_init 216 = .ok (.lastore, 1) := dk_80 (dk_at dksX5_init_9 9 rfl rfl)
theorem dX5_init_217 : decode cX5_init 217 = .ok (.dup, 1) := dk_89 (dk_at dksX5_init_9 10 rfl rfl)
theorem dX5_init_218 : decode cX5_init 218 = .ok (.iconst 3, 1) := dk_6 (dk_at dksX5_init_9 11 rfl rfl)
theorem dX5_init_219 : decode cX5_init 219 = .ok (.ldc2_w 83, 3) := dk_20 0 83 (dk_at dksX5_init_9 12 rfl rfl)
theorem dX5_init_222 : decode cX5_init 222 = .ok (.lastore, 1) := dk_80 (dk_at dksX5_init_9 15 rfl rfl)
theorem dX5_init_223 : decode cX5_init 223 = .ok (.dup, 1) := dk_89 (dk_at dksX5_init_9 16 rfl rfl)
theorem dX5_init_224 : decode cX5_init 224 = .ok (.iconst 4, 1) := dk_7 (dk_at dksX5_init_9 17 rfl rfl)
theorem dX5_init_225 : decode cX5_init 225 = .ok (.ldc2_w 85, 3) := dk_20 0 85 (dk_at dksX5_init_9 18 rfl rfl)
theorem dX5_init_228 : decode cX5_init 228 = .ok (.lastore, 1) := dk_80 (dk_at dksX5_init_9 21 rfl rfl)
theorem dX5_init_229 : decode cX5_init 229 = .ok (.dup, 1) := dk_89 (dk_at dksX5_init_9 22 rfl rfl)
theorem dX5_init_230 : decode cX5_init 230 = .ok (.iconst 5, 1) := dk_8 (dk_at dksX5_init_9 23 rfl rfl)
theorem dX5_init_231 : decode cX5_init 231 = .ok (.ldc2_w 87, 3) := dk_20 0 87 (dk_at dksX5_init_10 0 rfl rfl)
theorem dX5_init_234 : decode cX5_init 234 = .ok (.lastore, 1) := dk_80 (dk_at dksX5_init_10 3 rfl rfl)
theorem dX5_init_235 : decode cX5_init 235 = .ok (.dup, 1) := dk_89 (dk_at dksX5_init_10 4 rfl rfl)
theorem dX5_init_236 : decode cX5_init 236 = .ok (.bipush 6, 2) := dk_16 6 (dk_at dksX5_init_10 5 rfl rfl)
theorem dX5_init_238 : decode cX5_init 238 = .ok (.ldc2_w 89, 3) := dk_20 0 89 (dk_at dksX5_init_10 7 rfl rfl)
theorem dX5_init_241 : decode cX5_init 241 = .ok (.lastore, 1) := dk_80 (dk_at dksX5_init_10 10 rfl rfl)
theorem dX5_init_242 : decode cX5_init 242 = .ok (.putfield 91, 3) := dk_181 0 91 (dk_at dksX5_init_10 11 rfl rfl)
theorem dX5_init_245 : decode cX5_init 245 = .ok (.aload_n 0, 1) := dk_42 (dk_at dksX5_init_10 14 rfl rfl)
theorem dX5_init_246 : decode cX5_init 246 = .ok (.iconst 3, 1) := dk_6 (dk_at dksX5_init_10 15 rfl rfl)
theorem dX5_init_247 : decode cX5_init 247 = .ok (.newarray .long, 2) := dk_188_11 (dk_at dksX5_init_10 16 rfl rfl)
theorem dX5_init_249 : decode cX5_init 249 = .ok (.dup, 1) := dk_89 (dk_at dksX5_init_10 18 rfl rfl)
theorem dX5_init_250 : decode cX5_init 250 = .ok (.iconst 0, 1) := dk_3 (dk_at dksX5_init_10 19 rfl rfl)
theorem dX5_init_251 : decode cX5_init 251 = .ok (.ldc2_w 94, 3) := dk_20 0 94 (dk_at dksX5_init_10 20 rfl rfl)
theorem dX5_init_254 : decode cX5_init 254 = .ok (.lastore, 1) := dk_80 (dk_at dksX5_init_10 23 rfl rfl)
theorem dX5_init_255 : decode cX5_init 255 = .ok (.dup, 1) := dk_89 (dk_at dksX5_init_11 0 rfl rfl)
theorem dX5_init_256 : decode cX5_init 256 = .ok (.iconst 1, 1) := dk_4 (dk_at dksX5_init_11 1 rfl rfl)
theorem dX5_init_257 : decode cX5_init 257 = .ok (.ldc2_w 96, 3) := dk_20 0 96 (dk_at dksX5_init_11 2 rfl rfl)
theorem dX5_init_260 : decode cX5_init 260 = .ok (.lastore, 1) := dk_80 (dk_at dksX5_init_11 5 rfl rfl)
theorem dX5_init_261 : decode cX5_init 261 = .ok (.dup, 1) := dk_89 (dk_at dksX5_init_11 6 rfl rfl)
theorem dX5_init_262 : decode cX5_init 262 = .ok (.iconst 2, 1) := dk_5 (dk_at dksX5_init_11 7 rfl rfl)
theorem dX5_init_263 : decode cX5_init 263 = .ok (.ldc2_w 98, 3) := dk_20 0 98 (dk_at dksX5_init_11 8 rfl rfl)
theorem dX5_init_266 : decode cX5_init 266 = .ok (.lastore, 1) := dk_80 (dk_at dksX5_init_11 11 rfl rfl)
theorem dX5_init_267 : decode cX5_init 267 = .ok (.putfield 100, 3) := dk_181 0 100 (dk_at dksX5_init_11 12 rfl rfl)
theorem dX5_init_270 : decode cX5_init 270 = .ok (.aload_n 0, 1) := dk_42 (dk_at dksX5_init_11 15 rfl rfl)
theorem dX5_init_271 : decode cX5_init 271 = .ok (.bipush 13, 2) := dk_16 13 (dk_at dksX5_init_11 16 rfl rfl)
theorem dX5_init_273 : decode cX5_init 273 = .ok (.newarray .long, 2) := dk_188_11 (dk_at dksX5_init_11 18 rfl rfl)
theorem dX5_init_275 : decode cX5_init 275 = .ok (.putfield 103, 3) := dk_181 0 103 (dk_at dksX5_init_11 20 rfl rfl)
theorem dX5_init_278 : decode cX5_init 278 = .ok (.aload_n 0, 1) := dk_42 (dk_at dksX5_init_11 23 rfl rfl)
theorem dX5_init_279 : decode cX5_init 279 = .ok (.bipush 13, 2) := dk_16 13 (dk_at dksX5_init_12 0 rfl rfl)
theorem dX5_init_281 : decode cX5_init 281 = .ok (.newarray .long, 2) := dk_188_11 (dk_at dksX5_init_12 2 rfl rfl)
theorem dX5_init_283 : decode cX5_init 283 = .ok (.putfield 106, 3) := dk_181 0 106 (dk_at dksX5_init_12 4 rfl rfl)
theorem dX5_init_286 : decode cX5_init 286 = .ok (.aload_n 0, 1) := dk_42 (dk_at dksX5_init_12 7 rfl rfl)
theorem dX5_init_287 : decode cX5_init 287 = .ok (.sipush 400, 3) := dk_17 1 144 (dk_at dksX5_init_12 8 rfl rfl)
theorem dX5_init_290 : decode cX5_init 290 = .ok (.newarray .long, 2) := dk_188_11 (dk_at dksX5_init_12 11 rfl rfl)
theorem dX5_init_292 : decode cX5_init 292 = .ok (.putfield 109, 3) := dk_181 0 109 (dk_at dksX5_init_12 13 rfl rfl)
theorem dX5_init_295 : decode cX5_init 295 = .ok (.aload_n 0, 1) := dk_42 (dk_at dksX5_init_12 16 rfl rfl)
theorem dX5_init_296 : decode cX5_init 296 = .ok (.iconst 4, 1) := dk_7 (dk_at dksX5_init_12 17 rfl rfl)
theorem dX5_init_297 : decode cX5_init 297 = .ok (.newarray .int, 2) := dk_188_10 (dk_at dksX5_init_12 18 rfl rfl)
theorem dX5_init_299 : decode cX5_init 299 = .ok (.putfield 112, 3) := dk_181 0 112 (dk_at dksX5_init_12 20 rfl rfl)
theorem dX5_init_302 : decode cX5_init 302 = .ok (.aload_n 0, 1) := dk_42 (dk_at dksX5_init_12 23 rfl rfl)
theorem dX5_init_303 : decode cX5_init 303 = .ok (.bipush 64, 2) := dk_16 64 (dk_at dksX5_init_13 0 rfl rfl)
theorem dX5_init_305 : decode cX5_init 305 = .ok (.newarray .int, 2) := dk_188_10 (dk_at dksX5_init_13 2 rfl rfl)
theorem dX5_init_307 : decode cX5_init 307 = .ok (.putfield 115, 3) := dk_181 0 115 (dk_at dksX5_init_13 4 rfl rfl)
theorem dX5_init_310 : decode cX5_init 310 = .ok (.aload_n 0, 1) := dk_42 (dk_at dksX5_init_13 7 rfl rfl)
theorem dX5_init_311 : decode cX5_init 311 = .ok (.bipush 8, 2) := dk_16 8 (dk_at dksX5_init_13 8 rfl rfl)
theorem dX5_init_313 : decode cX5_init 313 = .ok (.newarray .int, 2) := dk_188_10 (dk_at dksX5_init_13 10 rfl rfl)
theorem dX5_init_315 : decode cX5_init 315 = .ok (.putfield 118, 3) := dk_181 0 118 (dk_at dksX5_init_13 12 rfl rfl)
theorem dX5_init_318 : decode cX5_init 318 = .ok (.aload_n 0, 1) := dk_42 (dk_at dksX5_init_13 15 rfl rfl)
theorem dX5_init_319 : decode cX5_init 319 = .ok (.bipush 8, 2) := dk_16 8 (dk_at dksX5_init_13 16 rfl rfl)
theorem dX5_init_321 : decode cX5_init 321 = .ok (.newarray .int, 2) := dk_188_10 (dk_at dksX5_init_13 18 rfl rfl)
theorem dX5_init_323 : decode cX5_init 323 = .ok (.putfield 121, 3) := dk_181 0 121 (dk_at dksX5_init_13 20 rfl rfl)
theorem dX5_init_326 : decode cX5_init 326 = .ok (.aload_n 0, 1) := dk_42 (dk_at dksX5_init_13 23 rfl rfl)
theorem dX5_init_327 : decode cX5_init 327 = .ok (.bipush 11, 2) := dk_16 11 (dk_at dksX5_init_14 0 rfl rfl)
theorem dX5_init_329 : decode cX5_init 329 = .ok (.newarray .int, 2) := dk_188_10 (dk_at dksX5_init_14 2 rfl rfl)
theorem dX5_init_331 : decode cX5_init 331 = .ok (.putfield 124, 3) := dk_181 0 124 (dk_at dksX5_init_14 4 rfl rfl)
theorem dX5_init_334 : decode cX5_init 334 = .ok (.aload_n 0, 1) := dk_42 (dk_at dksX5_init_14 7 rfl rfl)
theorem dX5_init_335 : decode cX5_init 335 = .ok (.sipush 256, 3) := dk_17 1 0 (dk_at dksX5_init_14 8 rfl rfl)
theorem dX5_init_338 : decode cX5_init 338 = .ok (.newarray .int, 2) := dk_188_10 (dk_at dksX5_init_14 11 rfl rfl)
theorem dX5_init_340 : decode cX5_init 340 = .ok (.putfield 127, 3) := dk_181 0 127 (dk_at dksX5_init_14 13 rfl rfl)
theorem dX5_init_343 : decode cX5_init 343 = .ok (.aload_n 0, 1) := dk_42 (dk_at dksX5_init_14 16 rfl rfl)
theorem dX5_init_344 : decode cX5_init 344 = .ok (.bipush 21, 2) := dk_16 21 (dk_at dksX5_init_14 17 rfl rfl)
theorem dX5_init_346 : decode cX5_init 346 = .ok (.newarray .long, 2) := dk_188_11 (dk_at dksX5_init_14 19 rfl rfl)
theorem dX5_init_348 : decode cX5_init 348 = .ok (.putfield 130, 3) := dk_181 0 130 (dk_at dksX5_init_14 21 rfl rfl)
theorem dX5_init_351 : decode cX5_init 351 = .ok (.aload_n 0, 1) := dk_42 (dk_at dksX5_init_15 0 rfl rfl)
theorem dX5_init_352 : decode cX5_init 352 = .ok (.iconst 4, 1) := dk_7 (dk_at dksX5_init_15 1 rfl rfl)
theorem dX5_init_353 : decode cX5_init 353 = .ok (.newarray .long, 2) := dk_188_11 (dk_at dksX5_init_15 2 rfl rfl)
theorem dX5_init_355 : decode cX5_init 355 = .ok (.dup, 1) := dk_89 (dk_at dksX5_init_15 4 rfl rfl)
theorem dX5_init_356 : decode cX5_init 356 = .ok (.iconst 0, 1) := dk_3 (dk_at dksX5_init_15 5 rfl rfl)
theorem dX5_init_357 : decode cX5_init 357 = .ok (.ldc2_w 133, 3) := dk_20 0 133 (dk_at dksX5_init_15 6 rfl rfl)
theorem dX5_init_360 : decode cX5_init 360 = .ok (.lastore, 1) := dk_80 (dk_at dksX5_init_15 9 rfl rfl)
theorem dX5_init_361 : decode cX5_init 361 = .ok (.dup, 1) := dk_89 (dk_at dksX5_init_15 10 rfl rfl)
theorem dX5_init_362 : decode cX5_init 362 = .ok (.iconst 1, 1) := dk_4 (dk_at dksX5_init_15 11 rfl rfl)
theorem dX5_init_363 : decode cX5_init 363 = .ok (.ldc2_w 135, 3) := dk_20 0 135 (dk_at dksX5_init_15 12 rfl rfl)
theorem dX5_init_366 : decode cX5_init 366 = .ok (.lastore, 1) := dk_80 (dk_at dksX5_init_15 15 rfl rfl)
theorem dX5_init_367 : decode cX5_init 367 = .ok (.dup, 1) := dk_89 (dk_at dksX5_init_15 16 rfl rfl)
theorem dX5_init_368 : decode cX5_init 368 = .ok (.iconst 2, 1) := dk_5 (dk_at dksX5_init_15 17 rfl rfl)
theorem dX5_init_369 : decode cX5_init 369 = .ok (.ldc2_w 137, 3) := dk_20 0 137 (dk_at dksX5_init_15 18 rfl rfl)
theorem dX5_init_372 : decode cX5_init 372 = .ok (.lastore, 1) := dk_80 (dk_at dksX5_init_15 21 rfl rfl)
theorem dX5_init_373 : decode cX5_init 373 = .ok (.dup, 1) := dk_89 (dk_at dksX5_init_15 22 rfl rfl)
theorem dX5_init_374 : decode cX5_init 374 = .ok (.iconst 3, 1) := dk_6 (dk_at dksX5_init_15 23 rfl rfl)
theorem dX5_init_375 : decode cX5_init 375 = .ok (.ldc2_w 139, 3) := dk_20 0 139 (dk_at dksX5_init_16 0 rfl rfl)
theorem dX5_init_378 : decode cX5_init 378 = .ok (.lastore, 1) := dk_80 (dk_at dksX5_init_16 3 rfl rfl)
theorem dX5_init_379 : decode cX5_init 379 = .ok (.putfield 141, 3) := dk_181 0 141 (dk_at dksX5_init_16 4 rfl rfl)
theorem dX5_init_382 : decode cX5_init 382 = .ok (.aload_n 0, 1) := dk_42 (dk_at dksX5_init_16 7 rfl rfl)
theorem dX5_init_383 : decode cX5_init 383 = .ok (.bipush 96, 2) := dk_16 96 (dk_at dksX5_init_16 8 rfl rfl)
theorem dX5_init_385 : decode cX5_init 385 = .ok (.newarray .int, 2) := dk_188_10 (dk_at dksX5_init_16 10 rfl rfl)
theorem dX5_init_387 : decode cX5_init 387 = .ok (.putfield 144, 3) := dk_181 0 144 (dk_at dksX5_init_16 12 rfl rfl)
theorem dX5_init_390 : decode cX5_init 390 = .ok (.aload_n 0, 1) := dk_42 (dk_at dksX5_init_16 15 rfl rfl)
theorem dX5_init_391 : decode cX5_init 391 = .ok (.iconst (-1), 1) := dk_2 (dk_at dksX5_init_16 16 rfl rfl)
theorem dX5_init_392 : decode cX5_init 392 = .ok (.putfield 147, 3) := dk_181 0 147 (dk_at dksX5_init_16 17 rfl rfl)
theorem dX5_init_395 : decode cX5_init 395 = .ok (.aload_n 0, 1) := dk_42 (dk_at dksX5_init_16 20 rfl rfl)
theorem dX5_init_396 : decode cX5_init 396 = .ok (.bipush 21, 2) := dk_16 21 (dk_at dksX5_init_16 21 rfl rfl)
theorem dX5_init_398 : decode cX5_init 398 = .ok (.newarray .int, 2) := dk_188_10 (dk_at dksX5_init_17 0 rfl rfl)
theorem dX5_init_400 : decode cX5_init 400 = .ok (.putfield 150, 3) := dk_181 0 150 (dk_at dksX5_init_17 2 rfl rfl)
theorem dX5_init_403 : decode cX5_init 403 = .ok (.aload_n 0, 1) := dk_42 (dk_at dksX5_init_17 5 rfl rfl)
theorem dX5_init_404 : decode cX5_init 404 = .ok (.iconst (-1), 1) := dk_2 (dk_at dksX5_init_17 6 rfl rfl)
theorem dX5_init_405 : decode cX5_init 405 = .ok (.putfield 153, 3) := dk_181 0 153 (dk_at dksX5_init_17 7 rfl rfl)
theorem dX5_init_408 : decode cX5_init 408 = .ok (.aload_n 0, 1) := dk_42 (dk_at dksX5_init_17 10 rfl rfl)
theorem dX5_init_409 : decode cX5_init 409 = .ok (.iconst (-1), 1) := dk_2 (dk_at dksX5_init_17 11 rfl rfl)
theorem dX5_init_410 : decode cX5_init 410 = .ok (.putfield 156, 3) := dk_181 0 156 (dk_at dksX5_init_17 12 rfl rfl)
theorem dX5_init_413 : decode cX5_init 413 = .ok (.aload_n 0, 1) := dk_42 (dk_at dksX5_init_17 15 rfl rfl)
theorem dX5_init_414 : decode cX5_init 414 = .ok (.getfield 13, 3) := dk_180 0 13 (dk_at dksX5_init_17 16 rfl rfl)
theorem dX5_init_417 : decode cX5_init 417 = .ok (.iconst 4, 1) := dk_7 (dk_at dksX5_init_17 19 rfl rfl)
theorem dX5_init_418 : decode cX5_init 418 = .ok (.iconst (-1), 1) := dk_2 (dk_at dksX5_init_17 20 rfl rfl)
theorem dX5_init_419 : decode cX5_init 419 = .ok (.iastore, 1) := dk_79 (dk_at dksX5_init_17 21 rfl rfl)
theorem dX5_init_420 : decode cX5_init 420 = .ok (.aload_n 0, 1) := dk_42 (dk_at dksX5_init_17 22 rfl rfl)
theorem dX5_init_421 : decode cX5_init 421 = .ok (.getfield 13, 3) := dk_180 0 13 (dk_at dksX5_init_18 0 rfl rfl)
theorem dX5_init_424 : decode cX5_init 424 = .ok (.bipush 6, 2) := dk_16 6 (dk_at dksX5_init_18 3 rfl rfl)
theorem dX5_init_426 : decode cX5_init 426 = .ok (.iconst 1, 1) := dk_4 (dk_at dksX5_init_18 5 rfl rfl)
theorem dX5_init_427 : decode cX5_init 427 = .ok (.iastore, 1) := dk_79 (dk_at dksX5_init_18 6 rfl rfl)
theorem dX5_init_428 : decode cX5_init 428 = .ok (.return_, 1) := dk_177 (dk_at dksX5_init_18 7 rfl rfl)
abbrev cX5_undo : ByteArray := prog_22_method_13_code
def yX5_undo : MethodName := ⟨RX5, "undo", "()I"⟩
def dkwX5_undo_2 : List UInt8 := [182, 0, 168, 172]
abbrev dktX5_undo_2 : List UInt8 := dkwX5_undo_2 ++ []
def dkwX5_undo_1 : List UInt8 := [4, 100, 181, 0, 165, 42, 42, 180, 0, 165, 182, 0, 176, 42, 42, 180, 0, 26, 42, 180, 0, 165, 46]
abbrev dktX5_undo_1 : List UInt8 := dkwX5_undo_1 ++ dktX5_undo_2
def dkwX5_undo_0 : List UInt8 := [42, 3, 181, 0, 159, 42, 180, 0, 165, 154, 0, 10, 42, 16, 253, 182, 0, 168, 172, 42, 89, 180, 0, 165]
abbrev dktX5_undo_0 : List UInt8 := dkwX5_undo_0 ++ dktX5_undo_1
theorem dksX5_undo_0 : cX5_undo.data.toList.drop 0 = dktX5_undo_0 := by decide +kernel
theorem dksX5_undo_1 : cX5_undo.data.toList.drop 24 = dktX5_undo_1 := dk_seg dksX5_undo_0 24 rfl rfl
theorem dksX5_undo_2 : cX5_undo.data.toList.drop 47 = dktX5_undo_2 := dk_seg dksX5_undo_1 23 rfl rfl
theorem dX5_undo_0 : decode cX5_undo 0 = .ok (.aload_n 0, 1) := dk_42 (dk_at dksX5_undo_0 0 rfl rfl)
theorem dX5_undo_1 : decode cX5_undo 1 = .ok (.iconst 0, 1) := dk_3 (dk_at dksX5_undo_0 1 rfl rfl)
theorem dX5_undo_2 : decode cX5_undo 2 = .ok (.putfield 159, 3) := dk_181 0 159 (dk_at dksX5_undo_0 2 rfl rfl)
theorem dX5_undo_5 : decode cX5_undo 5 = .ok (.aload_n 0, 1) := dk_42 (dk_at dksX5_undo_0 5 rfl rfl)
theorem dX5_undo_6 : decode cX5_undo 6 = .ok (.getfield 165, 3) := dk_180 0 165 (dk_at dksX5_undo_0 6 rfl rfl)
theorem dX5_undo_9 : decode cX5_undo 9 = .ok (.ifCond .ne 10, 3) := dk_154 0 10 (dk_at dksX5_undo_0 9 rfl rfl)
theorem dX5_undo_12 : decode cX5_undo 12 = .ok (.aload_n 0, 1) := dk_42 (dk_at dksX5_undo_0 12 rfl rfl)
theorem dX5_undo_13 : decode cX5_undo 13 = .ok (.bipush (-3), 2) := dk_16 253 (dk_at dksX5_undo_0 13 rfl rfl)
theorem dX5_undo_15 : decode cX5_undo 15 = .ok (.invokevirtual 168, 3) := dk_182 0 168 (dk_at dksX5_undo_0 15 rfl rfl)
theorem dX5_undo_18 : decode cX5_undo 18 = .ok (.ireturn, 1) := dk_172 (dk_at dksX5_undo_0 18 rfl rfl)
theorem dX5_undo_19 : decode cX5_undo 19 = .ok (.aload_n 0, 1) := dk_42 (dk_at dksX5_undo_0 19 rfl rfl)
theorem dX5_undo_20 : decode cX5_undo 20 = .ok (.dup, 1) := dk_89 (dk_at dksX5_undo_0 20 rfl rfl)
theorem dX5_undo_21 : decode cX5_undo 21 = .ok (.getfield 165, 3) := dk_180 0 165 (dk_at dksX5_undo_0 21 rfl rfl)
theorem dX5_undo_24 : decode cX5_undo 24 = .ok (.iconst 1, 1) := dk_4 (dk_at dksX5_undo_1 0 rfl rfl)
theorem dX5_undo_25 : decode cX5_undo 25 = .ok (.isub, 1) := dk_100 (dk_at dksX5_undo_1 1 rfl rfl)
theorem dX5_undo_26 : decode cX5_undo 26 = .ok (.putfield 165, 3) := dk_181 0 165 (dk_at dksX5_undo_1 2 rfl rfl)
theorem dX5_undo_29 : decode cX5_undo 29 = .ok (.aload_n 0, 1) := dk_42 (dk_at dksX5_undo_1 5 rfl rfl)
theorem dX5_undo_30 : decode cX5_undo 30 = .ok (.aload_n 0, 1) := dk_42 (dk_at dksX5_undo_1 6 rfl rfl)
theorem dX5_undo_31 : decode cX5_undo 31 = .ok (.getfield 165, 3) := dk_180 0 165 (dk_at dksX5_undo_1 7 rfl rfl)
theorem dX5_undo_34 : decode cX5_undo 34 = .ok (.invokevirtual 176, 3) := dk_182 0 176 (dk_at dksX5_undo_1 10 rfl rfl)
theorem dX5_undo_37 : decode cX5_undo 37 = .ok (.aload_n 0, 1) := dk_42 (dk_at dksX5_undo_1 13 rfl rfl)
theorem dX5_undo_38 : decode cX5_undo 38 = .ok (.aload_n 0, 1) := dk_42 (dk_at dksX5_undo_1 14 rfl rfl)
theorem dX5_undo_39 : decode cX5_undo 39 = .ok (.getfield 26, 3) := dk_180 0 26 (dk_at dksX5_undo_1 15 rfl rfl)
theorem dX5_undo_42 : decode cX5_undo 42 = .ok (.aload_n 0, 1) := dk_42 (dk_at dksX5_undo_1 18 rfl rfl)
theorem dX5_undo_43 : decode cX5_undo 43 = .ok (.getfield 165, 3) := dk_180 0 165 (dk_at dksX5_undo_1 19 rfl rfl)
theorem dX5_undo_46 : decode cX5_undo 46 = .ok (.iaload, 1) := dk_46 (dk_at dksX5_undo_1 22 rfl rfl)
theorem dX5_undo_47 : decode cX5_undo 47 = .ok (.invokevirtual 168, 3) := dk_182 0 168 (dk_at dksX5_undo_2 0 rfl rfl)
theorem dX5_undo_50 : decode cX5_undo 50 = .ok (.ireturn, 1) := dk_172 (dk_at dksX5_undo_2 3 rfl rfl)
abbrev cX5_tell : ByteArray := prog_22_method_7_code
def yX5_tell : MethodName := ⟨RX5, "tell", "(I)I"⟩
def dkwX5_tell_1 : List UInt8 := [46, 4, 96, 79, 27, 172]
abbrev dktX5_tell_1 : List UInt8 := dkwX5_tell_1 ++ []
def dkwX5_tell_0 : List UInt8 := [42, 27, 156, 0, 7, 27, 167, 0, 4, 3, 181, 0, 162, 27, 156, 0, 14, 42, 180, 0, 7, 27, 116, 92]
abbrev dktX5_tell_0 : List UInt8 := dkwX5_tell_0 ++ dktX5_tell_1
theorem dksX5_tell_0 : cX5_tell.data.toList.drop 0 = dktX5_tell_0 := by decide +kernel
theorem dksX5_tell_1 : cX5_tell.data.toList.drop 24 = dktX5_tell_1 := dk_seg dksX5_tell_0 24 rfl rfl
theorem dX5_tell_0 : decode cX5_tell 0 = .ok (.aload_n 0, 1) := dk_42 (dk_at dksX5_tell_0 0 rfl rfl)
theorem dX5_tell_1 : decode cX5_tell 1 = .ok (.iload_n 1, 1) := dk_27 (dk_at dksX5_tell_0 1 rfl rfl)
theorem dX5_tell_2 : decode cX5_tell 2 = .ok (.ifCond .ge 7, 3) := dk_156 0 7 (dk_at dksX5_tell_0 2 rfl rfl)
theorem dX5_tell_5 : decode cX5_tell 5 = .ok (.iload_n 1, 1) := dk_27 (dk_at dksX5_tell_0 5 rfl rfl)
theorem dX5_tell_6 : decode cX5_tell 6 = .ok (.goto 4, 3) := dk_167 0 4 (dk_at dksX5_tell_0 6 rfl rfl)
theorem dX5_tell_9 : decode cX5_tell 9 = .ok (.iconst 0, 1) := dk_3 (dk_at dksX5_tell_0 9 rfl rfl)
theorem dX5_tell_10 : decode cX5_tell 10 = .ok (.putfield 162, 3) := dk_181 0 162 (dk_at dksX5_tell_0 10 rfl rfl)
theorem dX5_tell_13 : decode cX5_tell 13 = .ok (.iload_n 1, 1) := dk_27 (dk_at dksX5_tell_0 13 rfl rfl)
theorem dX5_tell_14 : decode cX5_tell 14 = .ok (.ifCond .ge 14, 3) := dk_156 0 14 (dk_at dksX5_tell_0 14 rfl rfl)
theorem dX5_tell_17 : decode cX5_tell 17 = .ok (.aload_n 0, 1) := dk_42 (dk_at dksX5_tell_0 17 rfl rfl)
theorem dX5_tell_18 : decode cX5_tell 18 = .ok (.getfield 7, 3) := dk_180 0 7 (dk_at dksX5_tell_0 18 rfl rfl)
theorem dX5_tell_21 : decode cX5_tell 21 = .ok (.iload_n 1, 1) := dk_27 (dk_at dksX5_tell_0 21 rfl rfl)
theorem dX5_tell_22 : decode cX5_tell 22 = .ok (.ineg, 1) := dk_116 (dk_at dksX5_tell_0 22 rfl rfl)
theorem dX5_tell_23 : decode cX5_tell 23 = .ok (.dup2, 1) := dk_92 (dk_at dksX5_tell_0 23 rfl rfl)
theorem dX5_tell_24 : decode cX5_tell 24 = .ok (.iaload, 1) := dk_46 (dk_at dksX5_tell_1 0 rfl rfl)
theorem dX5_tell_25 : decode cX5_tell 25 = .ok (.iconst 1, 1) := dk_4 (dk_at dksX5_tell_1 1 rfl rfl)
theorem dX5_tell_26 : decode cX5_tell 26 = .ok (.iadd, 1) := dk_96 (dk_at dksX5_tell_1 2 rfl rfl)
theorem dX5_tell_27 : decode cX5_tell 27 = .ok (.iastore, 1) := dk_79 (dk_at dksX5_tell_1 3 rfl rfl)
theorem dX5_tell_28 : decode cX5_tell 28 = .ok (.iload_n 1, 1) := dk_27 (dk_at dksX5_tell_1 4 rfl rfl)
theorem dX5_tell_29 : decode cX5_tell 29 = .ok (.ireturn, 1) := dk_172 (dk_at dksX5_tell_1 5 rfl rfl)
abbrev cX5_putBack : ByteArray := prog_22_method_11_code
def yX5_putBack : MethodName := ⟨RX5, "putBack", "(I)V"⟩
def dkwX5_putBack_1 : List UInt8 := [96, 46, 79, 132, 2, 1, 167, 255, 228, 177]
abbrev dktX5_putBack_1 : List UInt8 := dkwX5_putBack_1 ++ []
def dkwX5_putBack_0 : List UInt8 := [3, 61, 28, 16, 21, 162, 0, 28, 42, 180, 0, 13, 8, 28, 96, 42, 180, 0, 23, 16, 21, 27, 104, 28]
abbrev dktX5_putBack_0 : List UInt8 := dkwX5_putBack_0 ++ dktX5_putBack_1
theorem dksX5_putBack_0 : cX5_putBack.data.toList.drop 0 = dktX5_putBack_0 := by decide +kernel
theorem dksX5_putBack_1 : cX5_putBack.data.toList.drop 24 = dktX5_putBack_1 := dk_seg dksX5_putBack_0 24 rfl rfl
theorem dX5_putBack_0 : decode cX5_putBack 0 = .ok (.iconst 0, 1) := dk_3 (dk_at dksX5_putBack_0 0 rfl rfl)
theorem dX5_putBack_1 : decode cX5_putBack 1 = .ok (.istore_n 2, 1) := dk_61 (dk_at dksX5_putBack_0 1 rfl rfl)
theorem dX5_putBack_2 : decode cX5_putBack 2 = .ok (.iload_n 2, 1) := dk_28 (dk_at dksX5_putBack_0 2 rfl rfl)
theorem dX5_putBack_3 : decode cX5_putBack 3 = .ok (.bipush 21, 2) := dk_16 21 (dk_at dksX5_putBack_0 3 rfl rfl)
theorem dX5_putBack_5 : decode cX5_putBack 5 = .ok (.if_icmp .ge 28, 3) := dk_162 0 28 (dk_at dksX5_putBack_0 5 rfl rfl)
theorem dX5_putBack_8 : decode cX5_putBack 8 = .ok (.aload_n 0, 1) := dk_42 (dk_at dksX5_putBack_0 8 rfl rfl)
theorem dX5_putBack_9 : decode cX5_putBack 9 = .ok (.getfield 13, 3) := dk_180 0 13 (dk_at dksX5_putBack_0 9 rfl rfl)
theorem dX5_putBack_12 : decode cX5_putBack 12 = .ok (.iconst 5, 1) := dk_8 (dk_at dksX5_putBack_0 12 rfl rfl)
theorem dX5_putBack_13 : decode cX5_putBack 13 = .ok (.iload_n 2, 1) := dk_28 (dk_at dksX5_putBack_0 13 rfl rfl)
theorem dX5_putBack_14 : decode cX5_putBack 14 = .ok (.iadd, 1) := dk_96 (dk_at dksX5_putBack_0 14 rfl rfl)
theorem dX5_putBack_15 : decode cX5_putBack 15 = .ok (.aload_n 0, 1) := dk_42 (dk_at dksX5_putBack_0 15 rfl rfl)
theorem dX5_putBack_16 : decode cX5_putBack 16 = .ok (.getfield 23, 3) := dk_180 0 23 (dk_at dksX5_putBack_0 16 rfl rfl)
theorem dX5_putBack_19 : decode cX5_putBack 19 = .ok (.bipush 21, 2) := dk_16 21 (dk_at dksX5_putBack_0 19 rfl rfl)
theorem dX5_putBack_21 : decode cX5_putBack 21 = .ok (.iload_n 1, 1) := dk_27 (dk_at dksX5_putBack_0 21 rfl rfl)
theorem dX5_putBack_22 : decode cX5_putBack 22 = .ok (.imul, 1) := dk_104 (dk_at dksX5_putBack_0 22 rfl rfl)
theorem dX5_putBack_23 : decode cX5_putBack 23 = .ok (.iload_n 2, 1) := dk_28 (dk_at dksX5_putBack_0 23 rfl rfl)
theorem dX5_putBack_24 : decode cX5_putBack 24 = .ok (.iadd, 1) := dk_96 (dk_at dksX5_putBack_1 0 rfl rfl)
theorem dX5_putBack_25 : decode cX5_putBack 25 = .ok (.iaload, 1) := dk_46 (dk_at dksX5_putBack_1 1 rfl rfl)
theorem dX5_putBack_26 : decode cX5_putBack 26 = .ok (.iastore, 1) := dk_79 (dk_at dksX5_putBack_1 2 rfl rfl)
theorem dX5_putBack_27 : decode cX5_putBack 27 = .ok (.iinc 2 1, 3) := dk_132 2 1 (dk_at dksX5_putBack_1 3 rfl rfl)
theorem dX5_putBack_30 : decode cX5_putBack 30 = .ok (.goto (-28), 3) := dk_167 255 228 (dk_at dksX5_putBack_1 6 rfl rfl)
theorem dX5_putBack_33 : decode cX5_putBack 33 = .ok (.return_, 1) := dk_177 (dk_at dksX5_putBack_1 9 rfl rfl)
abbrev cX5_image : ByteArray := prog_22_method_14_code
def yX5_image : MethodName := ⟨RX5, "image", "(I)I"⟩
def dkwX5_image_2 : List UInt8 := [132, 2, 1, 167, 255, 228, 42, 180, 0, 19, 27, 4, 84, 42, 3, 182, 0, 168, 172]
abbrev dktX5_image_2 : List UInt8 := dkwX5_image_2 ++ []
def dkwX5_image_1 : List UInt8 := [17, 21, 100, 162, 0, 27, 42, 180, 0, 16, 17, 21, 100, 27, 104, 28, 96, 42, 180, 0, 13, 28, 46, 79]
abbrev dktX5_image_1 : List UInt8 := dkwX5_image_1 ++ dktX5_image_2
def dkwX5_image_0 : List UInt8 := [42, 3, 181, 0, 159, 27, 133, 9, 10, 184, 0, 179, 154, 0, 9, 42, 2, 182, 0, 168, 172, 3, 61, 28]
abbrev dktX5_image_0 : List UInt8 := dkwX5_image_0 ++ dktX5_image_1
theorem dksX5_image_0 : cX5_image.data.toList.drop 0 = dktX5_image_0 := by decide +kernel
theorem dksX5_image_1 : cX5_image.data.toList.drop 24 = dktX5_image_1 := dk_seg dksX5_image_0 24 rfl rfl
theorem dksX5_image_2 : cX5_image.data.toList.drop 48 = dktX5_image_2 := dk_seg dksX5_image_1 24 rfl rfl
theorem dX5_image_0 : decode cX5_image 0 = .ok (.aload_n 0, 1) := dk_42 (dk_at dksX5_image_0 0 rfl rfl)
theorem dX5_image_1 : decode cX5_image 1 = .ok (.iconst 0, 1) := dk_3 (dk_at dksX5_image_0 1 rfl rfl)
theorem dX5_image_2 : decode cX5_image 2 = .ok (.putfield 159, 3) := dk_181 0 159 (dk_at dksX5_image_0 2 rfl rfl)
theorem dX5_image_5 : decode cX5_image 5 = .ok (.iload_n 1, 1) := dk_27 (dk_at dksX5_image_0 5 rfl rfl)
theorem dX5_image_6 : decode cX5_image 6 = .ok (.i2l, 1) := dk_133 (dk_at dksX5_image_0 6 rfl rfl)
theorem dX5_image_7 : decode cX5_image 7 = .ok (.lconst 0, 1) := dk_9 (dk_at dksX5_image_0 7 rfl rfl)
theorem dX5_image_8 : decode cX5_image 8 = .ok (.lconst 1, 1) := dk_10 (dk_at dksX5_image_0 8 rfl rfl)
theorem dX5_image_9 : decode cX5_image 9 = .ok (.invokestatic 179, 3) := dk_184 0 179 (dk_at dksX5_image_0 9 rfl rfl)
theorem dX5_image_12 : decode cX5_image 12 = .ok (.ifCond .ne 9, 3) := dk_154 0 9 (dk_at dksX5_image_0 12 rfl rfl)
theorem dX5_image_15 : decode cX5_image 15 = .ok (.aload_n 0, 1) := dk_42 (dk_at dksX5_image_0 15 rfl rfl)
theorem dX5_image_16 : decode cX5_image 16 = .ok (.iconst (-1), 1) := dk_2 (dk_at dksX5_image_0 16 rfl rfl)
theorem dX5_image_17 : decode cX5_image 17 = .ok (.invokevirtual 168, 3) := dk_182 0 168 (dk_at dksX5_image_0 17 rfl rfl)
theorem dX5_image_20 : decode cX5_image 20 = .ok (.ireturn, 1) := dk_172 (dk_at dksX5_image_0 20 rfl rfl)
theorem dX5_image_21 : decode cX5_image 21 = .ok (.iconst 0, 1) := dk_3 (dk_at dksX5_image_0 21 rfl rfl)
theorem dX5_image_22 : decode cX5_image 22 = .ok (.istore_n 2, 1) := dk_61 (dk_at dksX5_image_0 22 rfl rfl)
theorem dX5_image_23 : decode cX5_image 23 = .ok (.iload_n 2, 1) := dk_28 (dk_at dksX5_image_0 23 rfl rfl)
theorem dX5_image_24 : decode cX5_image 24 = .ok (.sipush 5476, 3) := dk_17 21 100 (dk_at dksX5_image_1 0 rfl rfl)
theorem dX5_image_27 : decode cX5_image 27 = .ok (.if_icmp .ge 27, 3) := dk_162 0 27 (dk_at dksX5_image_1 3 rfl rfl)
theorem dX5_image_30 : decode cX5_image 30 = .ok (.aload_n 0, 1) := dk_42 (dk_at dksX5_image_1 6 rfl rfl)
theorem dX5_image_31 : decode cX5_image 31 = .ok (.getfield 16, 3) := dk_180 0 16 (dk_at dksX5_image_1 7 rfl rfl)
theorem dX5_image_34 : decode cX5_image 34 = .ok (.sipush 5476, 3) := dk_17 21 100 (dk_at dksX5_image_1 10 rfl rfl)
theorem dX5_image_37 : decode cX5_image 37 = .ok (.iload_n 1, 1) := dk_27 (dk_at dksX5_image_1 13 rfl rfl)
theorem dX5_image_38 : decode cX5_image 38 = .ok (.imul, 1) := dk_104 (dk_at dksX5_image_1 14 rfl rfl)
theorem dX5_image_39 : decode cX5_image 39 = .ok (.iload_n 2, 1) := dk_28 (dk_at dksX5_image_1 15 rfl rfl)
theorem dX5_image_40 : decode cX5_image 40 = .ok (.iadd, 1) := dk_96 (dk_at dksX5_image_1 16 rfl rfl)
theorem dX5_image_41 : decode cX5_image 41 = .ok (.aload_n 0, 1) := dk_42 (dk_at dksX5_image_1 17 rfl rfl)
theorem dX5_image_42 : decode cX5_image 42 = .ok (.getfield 13, 3) := dk_180 0 13 (dk_at dksX5_image_1 18 rfl rfl)
theorem dX5_image_45 : decode cX5_image 45 = .ok (.iload_n 2, 1) := dk_28 (dk_at dksX5_image_1 21 rfl rfl)
theorem dX5_image_46 : decode cX5_image 46 = .ok (.iaload, 1) := dk_46 (dk_at dksX5_image_1 22 rfl rfl)
theorem dX5_image_47 : decode cX5_image 47 = .ok (.iastore, 1) := dk_79 (dk_at dksX5_image_1 23 rfl rfl)
theorem dX5_image_48 : decode cX5_image 48 = .ok (.iinc 2 1, 3) := dk_132 2 1 (dk_at dksX5_image_2 0 rfl rfl)
theorem dX5_image_51 : decode cX5_image 51 = .ok (.goto (-28), 3) := dk_167 255 228 (dk_at dksX5_image_2 3 rfl rfl)
theorem dX5_image_54 : decode cX5_image 54 = .ok (.aload_n 0, 1) := dk_42 (dk_at dksX5_image_2 6 rfl rfl)
theorem dX5_image_55 : decode cX5_image 55 = .ok (.getfield 19, 3) := dk_180 0 19 (dk_at dksX5_image_2 7 rfl rfl)
theorem dX5_image_58 : decode cX5_image 58 = .ok (.iload_n 1, 1) := dk_27 (dk_at dksX5_image_2 10 rfl rfl)
theorem dX5_image_59 : decode cX5_image 59 = .ok (.iconst 1, 1) := dk_4 (dk_at dksX5_image_2 11 rfl rfl)
theorem dX5_image_60 : decode cX5_image 60 = .ok (.bastore, 1) := dk_84 (dk_at dksX5_image_2 12 rfl rfl)
theorem dX5_image_61 : decode cX5_image 61 = .ok (.aload_n 0, 1) := dk_42 (dk_at dksX5_image_2 13 rfl rfl)
theorem dX5_image_62 : decode cX5_image 62 = .ok (.iconst 0, 1) := dk_3 (dk_at dksX5_image_2 14 rfl rfl)
theorem dX5_image_63 : decode cX5_image 63 = .ok (.invokevirtual 168, 3) := dk_182 0 168 (dk_at dksX5_image_2 15 rfl rfl)
theorem dX5_image_66 : decode cX5_image 66 = .ok (.ireturn, 1) := dk_172 (dk_at dksX5_image_2 18 rfl rfl)
abbrev cX5_in : ByteArray := prog_22_method_3_code
def yX5_in : MethodName := ⟨RX5, "in", "(JJJ)Z"⟩
def dkwX5_in_0 : List UInt8 := [30, 32, 148, 155, 0, 14, 30, 22, 4, 148, 157, 0, 7, 4, 167, 0, 4, 3, 172]
abbrev dktX5_in_0 : List UInt8 := dkwX5_in_0 ++ []
theorem dksX5_in_0 : cX5_in.data.toList.drop 0 = dktX5_in_0 := by decide +kernel
theorem dX5_in_0 : decode cX5_in 0 = .ok (.lload_n 0, 1) := dk_30 (dk_at dksX5_in_0 0 rfl rfl)
theorem dX5_in_1 : decode cX5_in 1 = .ok (.lload_n 2, 1) := dk_32 (dk_at dksX5_in_0 1 rfl rfl)
theorem dX5_in_2 : decode cX5_in 2 = .ok (.lcmp, 1) := dk_148 (dk_at dksX5_in_0 2 rfl rfl)
theorem dX5_in_3 : decode cX5_in 3 = .ok (.ifCond .lt 14, 3) := dk_155 0 14 (dk_at dksX5_in_0 3 rfl rfl)
theorem dX5_in_6 : decode cX5_in 6 = .ok (.lload_n 0, 1) := dk_30 (dk_at dksX5_in_0 6 rfl rfl)
theorem dX5_in_7 : decode cX5_in 7 = .ok (.lload 4, 2) := dk_22 4 (dk_at dksX5_in_0 7 rfl rfl)
theorem dX5_in_9 : decode cX5_in 9 = .ok (.lcmp, 1) := dk_148 (dk_at dksX5_in_0 9 rfl rfl)
theorem dX5_in_10 : decode cX5_in 10 = .ok (.ifCond .gt 7, 3) := dk_157 0 7 (dk_at dksX5_in_0 10 rfl rfl)
theorem dX5_in_13 : decode cX5_in 13 = .ok (.iconst 1, 1) := dk_4 (dk_at dksX5_in_0 13 rfl rfl)
theorem dX5_in_14 : decode cX5_in 14 = .ok (.goto 4, 3) := dk_167 0 4 (dk_at dksX5_in_0 14 rfl rfl)
theorem dX5_in_17 : decode cX5_in 17 = .ok (.iconst 0, 1) := dk_3 (dk_at dksX5_in_0 17 rfl rfl)
theorem dX5_in_18 : decode cX5_in 18 = .ok (.ireturn, 1) := dk_172 (dk_at dksX5_in_0 18 rfl rfl)
abbrev cX5_back : ByteArray := prog_22_method_15_code
def yX5_back : MethodName := ⟨RX5, "back", "(I)I"⟩
def dkwX5_back_3 : List UInt8 := [42, 3, 182, 0, 183, 172]
abbrev dktX5_back_3 : List UInt8 := dkwX5_back_3 ++ []
def dkwX5_back_2 : List UInt8 := [42, 180, 0, 13, 28, 42, 180, 0, 16, 17, 21, 100, 27, 104, 28, 96, 46, 79, 132, 2, 1, 167, 255, 228]
abbrev dktX5_back_2 : List UInt8 := dkwX5_back_2 ++ dktX5_back_3
def dkwX5_back_1 : List UInt8 := [180, 0, 19, 27, 51, 154, 0, 10, 42, 16, 254, 182, 0, 168, 172, 3, 61, 28, 17, 21, 100, 162, 0, 27]
abbrev dktX5_back_1 : List UInt8 := dkwX5_back_1 ++ dktX5_back_2
def dkwX5_back_0 : List UInt8 := [42, 3, 181, 0, 159, 27, 133, 9, 10, 184, 0, 179, 154, 0, 9, 42, 2, 182, 0, 168, 172, 42]
abbrev dktX5_back_0 : List UInt8 := dkwX5_back_0 ++ dktX5_back_1
theorem dksX5_back_0 : cX5_back.data.toList.drop 0 = dktX5_back_0 := by decide +kernel
theorem dksX5_back_1 : cX5_back.data.toList.drop 22 = dktX5_back_1 := dk_seg dksX5_back_0 22 rfl rfl
theorem dksX5_back_2 : cX5_back.data.toList.drop 46 = dktX5_back_2 := dk_seg dksX5_back_1 24 rfl rfl
theorem dksX5_back_3 : cX5_back.data.toList.drop 70 = dktX5_back_3 := dk_seg dksX5_back_2 24 rfl rfl
theorem dX5_back_0 : decode cX5_back 0 = .ok (.aload_n 0, 1) := dk_42 (dk_at dksX5_back_0 0 rfl rfl)
theorem dX5_back_1 : decode cX5_back 1 = .ok (.iconst 0, 1) := dk_3 (dk_at dksX5_back_0 1 rfl rfl)
theorem dX5_back_2 : decode cX5_back 2 = .ok (.putfield 159, 3) := dk_181 0 159 (dk_at dksX5_back_0 2 rfl rfl)
theorem dX5_back_5 : decode cX5_back 5 = .ok (.iload_n 1, 1) := dk_27 (dk_at dksX5_back_0 5 rfl rfl)
theorem dX5_back_6 : decode cX5_back 6 = .ok (.i2l, 1) := dk_133 (dk_at dksX5_back_0 6 rfl rfl)
theorem dX5_back_7 : decode cX5_back 7 = .ok (.lconst 0, 1) := dk_9 (dk_at dksX5_back_0 7 rfl rfl)
theorem dX5_back_8 : decode cX5_back 8 = .ok (.lconst 1, 1) := dk_10 (dk_at dksX5_back_0 8 rfl rfl)
theorem dX5_back_9 : decode cX5_back 9 = .ok (.invokestatic 179, 3) := dk_184 0 179 (dk_at dksX5_back_0 9 rfl rfl)
theorem dX5_back_12 : decode cX5_back 12 = .ok (.ifCond .ne 9, 3) := dk_154 0 9 (dk_at dksX5_back_0 12 rfl rfl)
theorem dX5_back_15 : decode cX5_back 15 = .ok (.aload_n 0, 1) := dk_42 (dk_at dksX5_back_0 15 rfl rfl)
theorem dX5_back_16 : decode cX5_back 16 = .ok (.iconst (-1), 1) := dk_2 (dk_at dksX5_back_0 16 rfl rfl)
theorem dX5_back_17 : decode cX5_back 17 = .ok (.invokevirtual 168, 3) := dk_182 0 168 (dk_at dksX5_back_0 17 rfl rfl)
theorem dX5_back_20 : decode cX5_back 20 = .ok (.ireturn, 1) := dk_172 (dk_at dksX5_back_0 20 rfl rfl)
theorem dX5_back_21 : decode cX5_back 21 = .ok (.aload_n 0, 1) := dk_42 (dk_at dksX5_back_0 21 rfl rfl)
theorem dX5_back_22 : decode cX5_back 22 = .ok (.getfield 19, 3) := dk_180 0 19 (dk_at dksX5_back_1 0 rfl rfl)
theorem dX5_back_25 : decode cX5_back 25 = .ok (.iload_n 1, 1) := dk_27 (dk_at dksX5_back_1 3 rfl rfl)
theorem dX5_back_26 : decode cX5_back 26 = .ok (.baload, 1) := dk_51 (dk_at dksX5_back_1 4 rfl rfl)
theorem dX5_back_27 : decode cX5_back 27 = .ok (.ifCond .ne 10, 3) := dk_154 0 10 (dk_at dksX5_back_1 5 rfl rfl)
theorem dX5_back_30 : decode cX5_back 30 = .ok (.aload_n 0, 1) := dk_42 (dk_at dksX5_back_1 8 rfl rfl)
theorem dX5_back_31 : decode cX5_back 31 = .ok (.bipush (-2), 2) := dk_16 254 (dk_at dksX5_back_1 9 rfl rfl)
theorem dX5_back_33 : decode cX5_back 33 = .ok (.invokevirtual 168, 3) := dk_182 0 168 (dk_at dksX5_back_1 11 rfl rfl)
theorem dX5_back_36 : decode cX5_back 36 = .ok (.ireturn, 1) := dk_172 (dk_at dksX5_back_1 14 rfl rfl)
theorem dX5_back_37 : decode cX5_back 37 = .ok (.iconst 0, 1) := dk_3 (dk_at dksX5_back_1 15 rfl rfl)
theorem dX5_back_38 : decode cX5_back 38 = .ok (.istore_n 2, 1) := dk_61 (dk_at dksX5_back_1 16 rfl rfl)
theorem dX5_back_39 : decode cX5_back 39 = .ok (.iload_n 2, 1) := dk_28 (dk_at dksX5_back_1 17 rfl rfl)
theorem dX5_back_40 : decode cX5_back 40 = .ok (.sipush 5476, 3) := dk_17 21 100 (dk_at dksX5_back_1 18 rfl rfl)
theorem dX5_back_43 : decode cX5_back 43 = .ok (.if_icmp .ge 27, 3) := dk_162 0 27 (dk_at dksX5_back_1 21 rfl rfl)
theorem dX5_back_46 : decode cX5_back 46 = .ok (.aload_n 0, 1) := dk_42 (dk_at dksX5_back_2 0 rfl rfl)
theorem dX5_back_47 : decode cX5_back 47 = .ok (.getfield 13, 3) := dk_180 0 13 (dk_at dksX5_back_2 1 rfl rfl)
theorem dX5_back_50 : decode cX5_back 50 = .ok (.iload_n 2, 1) := dk_28 (dk_at dksX5_back_2 4 rfl rfl)
theorem dX5_back_51 : decode cX5_back 51 = .ok (.aload_n 0, 1) := dk_42 (dk_at dksX5_back_2 5 rfl rfl)
theorem dX5_back_52 : decode cX5_back 52 = .ok (.getfield 16, 3) := dk_180 0 16 (dk_at dksX5_back_2 6 rfl rfl)
theorem dX5_back_55 : decode cX5_back 55 = .ok (.sipush 5476, 3) := dk_17 21 100 (dk_at dksX5_back_2 9 rfl rfl)
theorem dX5_back_58 : decode cX5_back 58 = .ok (.iload_n 1, 1) := dk_27 (dk_at dksX5_back_2 12 rfl rfl)
theorem dX5_back_59 : decode cX5_back 59 = .ok (.imul, 1) := dk_104 (dk_at dksX5_back_2 13 rfl rfl)
theorem dX5_back_60 : decode cX5_back 60 = .ok (.iload_n 2, 1) := dk_28 (dk_at dksX5_back_2 14 rfl rfl)
theorem dX5_back_61 : decode cX5_back 61 = .ok (.iadd, 1) := dk_96 (dk_at dksX5_back_2 15 rfl rfl)
theorem dX5_back_62 : decode cX5_back 62 = .ok (.iaload, 1) := dk_46 (dk_at dksX5_back_2 16 rfl rfl)
theorem dX5_back_63 : decode cX5_back 63 = .ok (.iastore, 1) := dk_79 (dk_at dksX5_back_2 17 rfl rfl)
theorem dX5_back_64 : decode cX5_back 64 = .ok (.iinc 2 1, 3) := dk_132 2 1 (dk_at dksX5_back_2 18 rfl rfl)
theorem dX5_back_67 : decode cX5_back 67 = .ok (.goto (-28), 3) := dk_167 255 228 (dk_at dksX5_back_2 21 rfl rfl)
theorem dX5_back_70 : decode cX5_back 70 = .ok (.aload_n 0, 1) := dk_42 (dk_at dksX5_back_3 0 rfl rfl)
theorem dX5_back_71 : decode cX5_back 71 = .ok (.iconst 0, 1) := dk_3 (dk_at dksX5_back_3 1 rfl rfl)
theorem dX5_back_72 : decode cX5_back 72 = .ok (.invokevirtual 183, 3) := dk_182 0 183 (dk_at dksX5_back_3 2 rfl rfl)
theorem dX5_back_75 : decode cX5_back 75 = .ok (.ireturn, 1) := dk_172 (dk_at dksX5_back_3 5 rfl rfl)
abbrev cX5_lasting : ByteArray := prog_22_method_9_code
def yX5_lasting : MethodName := ⟨RX5, "lasting", "(I)I"⟩
def dkwX5_lasting_0 : List UInt8 := [42, 27, 156, 0, 10, 42, 180, 0, 165, 167, 0, 4, 3, 181, 0, 165, 42, 27, 182, 0, 168, 172]
abbrev dktX5_lasting_0 : List UInt8 := dkwX5_lasting_0 ++ []
theorem dksX5_lasting_0 : cX5_lasting.data.toList.drop 0 = dktX5_lasting_0 := by decide +kernel
theorem dX5_lasting_0 : decode cX5_lasting 0 = .ok (.aload_n 0, 1) := dk_42 (dk_at dksX5_lasting_0 0 rfl rfl)
theorem dX5_lasting_1 : decode cX5_lasting 1 = .ok (.iload_n 1, 1) := dk_27 (dk_at dksX5_lasting_0 1 rfl rfl)
theorem dX5_lasting_2 : decode cX5_lasting 2 = .ok (.ifCond .ge 10, 3) := dk_156 0 10 (dk_at dksX5_lasting_0 2 rfl rfl)
theorem dX5_lasting_5 : decode cX5_lasting 5 = .ok (.aload_n 0, 1) := dk_42 (dk_at dksX5_lasting_0 5 rfl rfl)
theorem dX5_lasting_6 : decode cX5_lasting 6 = .ok (.getfield 165, 3) := dk_180 0 165 (dk_at dksX5_lasting_0 6 rfl rfl)
theorem dX5_lasting_9 : decode cX5_lasting 9 = .ok (.goto 4, 3) := dk_167 0 4 (dk_at dksX5_lasting_0 9 rfl rfl)
theorem dX5_lasting_12 : decode cX5_lasting 12 = .ok (.iconst 0, 1) := dk_3 (dk_at dksX5_lasting_0 12 rfl rfl)
theorem dX5_lasting_13 : decode cX5_lasting 13 = .ok (.putfield 165, 3) := dk_181 0 165 (dk_at dksX5_lasting_0 13 rfl rfl)
theorem dX5_lasting_16 : decode cX5_lasting 16 = .ok (.aload_n 0, 1) := dk_42 (dk_at dksX5_lasting_0 16 rfl rfl)
theorem dX5_lasting_17 : decode cX5_lasting 17 = .ok (.iload_n 1, 1) := dk_27 (dk_at dksX5_lasting_0 17 rfl rfl)
theorem dX5_lasting_18 : decode cX5_lasting 18 = .ok (.invokevirtual 168, 3) := dk_182 0 168 (dk_at dksX5_lasting_0 18 rfl rfl)
theorem dX5_lasting_21 : decode cX5_lasting 21 = .ok (.ireturn, 1) := dk_172 (dk_at dksX5_lasting_0 21 rfl rfl)
abbrev cX5_lane : ByteArray := prog_22_method_23_code
def yX5_lane : MethodName := ⟨RX5, "lane", "(IIII)I"⟩
def dkwX5_lane_0 : List UInt8 := [42, 3, 181, 0, 159, 42, 42, 27, 28, 29, 21, 4, 182, 0, 196, 182, 0, 183, 172]
abbrev dktX5_lane_0 : List UInt8 := dkwX5_lane_0 ++ []
theorem dksX5_lane_0 : cX5_lane.data.toList.drop 0 = dktX5_lane_0 := by decide +kernel
theorem dX5_lane_0 : decode cX5_lane 0 = .ok (.aload_n 0, 1) := dk_42 (dk_at dksX5_lane_0 0 rfl rfl)
theorem dX5_lane_1 : decode cX5_lane 1 = .ok (.iconst 0, 1) := dk_3 (dk_at dksX5_lane_0 1 rfl rfl)
theorem dX5_lane_2 : decode cX5_lane 2 = .ok (.putfield 159, 3) := dk_181 0 159 (dk_at dksX5_lane_0 2 rfl rfl)
theorem dX5_lane_5 : decode cX5_lane 5 = .ok (.aload_n 0, 1) := dk_42 (dk_at dksX5_lane_0 5 rfl rfl)
theorem dX5_lane_6 : decode cX5_lane 6 = .ok (.aload_n 0, 1) := dk_42 (dk_at dksX5_lane_0 6 rfl rfl)
theorem dX5_lane_7 : decode cX5_lane 7 = .ok (.iload_n 1, 1) := dk_27 (dk_at dksX5_lane_0 7 rfl rfl)
theorem dX5_lane_8 : decode cX5_lane 8 = .ok (.iload_n 2, 1) := dk_28 (dk_at dksX5_lane_0 8 rfl rfl)
theorem dX5_lane_9 : decode cX5_lane 9 = .ok (.iload_n 3, 1) := dk_29 (dk_at dksX5_lane_0 9 rfl rfl)
theorem dX5_lane_10 : decode cX5_lane 10 = .ok (.iload 4, 2) := dk_21 4 (dk_at dksX5_lane_0 10 rfl rfl)
theorem dX5_lane_12 : decode cX5_lane 12 = .ok (.invokevirtual 196, 3) := dk_182 0 196 (dk_at dksX5_lane_0 12 rfl rfl)
theorem dX5_lane_15 : decode cX5_lane 15 = .ok (.invokevirtual 183, 3) := dk_182 0 183 (dk_at dksX5_lane_0 15 rfl rfl)
theorem dX5_lane_18 : decode cX5_lane 18 = .ok (.ireturn, 1) := dk_172 (dk_at dksX5_lane_0 18 rfl rfl)
abbrev cX5_come : ByteArray := prog_22_method_22_code
def yX5_come : MethodName := ⟨RX5, "come", "(IIII)I"⟩
def dkwX5_come_5 : List UInt8 := [2, 79, 42, 180, 0, 13, 3, 92, 46, 4, 96, 79, 21, 5, 172]
abbrev dktX5_come_5 : List UInt8 := dkwX5_come_5 ++ []
def dkwX5_come_4 : List UInt8 := [96, 29, 79, 42, 180, 0, 13, 16, 56, 21, 5, 96, 21, 4, 79, 42, 180, 0, 13, 16, 8, 21, 5, 96]
abbrev dktX5_come_4 : List UInt8 := dkwX5_come_4 ++ dktX5_come_5
def dkwX5_come_3 : List UInt8 := [21, 5, 96, 27, 79, 42, 180, 0, 13, 16, 36, 21, 5, 96, 28, 79, 42, 180, 0, 13, 16, 46, 21, 5]
abbrev dktX5_come_3 : List UInt8 := dkwX5_come_3 ++ dktX5_come_4
def dkwX5_come_2 : List UInt8 := [42, 180, 0, 13, 3, 46, 54, 5, 21, 5, 16, 10, 160, 0, 6, 16, 251, 172, 42, 180, 0, 13, 16, 26]
abbrev dktX5_come_2 : List UInt8 := dkwX5_come_2 ++ dktX5_come_3
def dkwX5_come_1 : List UInt8 := [20, 0, 192, 184, 0, 179, 153, 0, 16, 21, 4, 133, 9, 20, 0, 194, 184, 0, 179, 154, 0, 5, 2, 172]
abbrev dktX5_come_1 : List UInt8 := dkwX5_come_1 ++ dktX5_come_2
def dkwX5_come_0 : List UInt8 := [27, 184, 0, 188, 153, 0, 40, 28, 184, 0, 188, 153, 0, 33, 27, 28, 159, 0, 28, 29, 133, 10]
abbrev dktX5_come_0 : List UInt8 := dkwX5_come_0 ++ dktX5_come_1
theorem dksX5_come_0 : cX5_come.data.toList.drop 0 = dktX5_come_0 := by decide +kernel
theorem dksX5_come_1 : cX5_come.data.toList.drop 22 = dktX5_come_1 := dk_seg dksX5_come_0 22 rfl rfl
theorem dksX5_come_2 : cX5_come.data.toList.drop 46 = dktX5_come_2 := dk_seg dksX5_come_1 24 rfl rfl
theorem dksX5_come_3 : cX5_come.data.toList.drop 70 = dktX5_come_3 := dk_seg dksX5_come_2 24 rfl rfl
theorem dksX5_come_4 : cX5_come.data.toList.drop 94 = dktX5_come_4 := dk_seg dksX5_come_3 24 rfl rfl
theorem dksX5_come_5 : cX5_come.data.toList.drop 118 = dktX5_come_5 := dk_seg dksX5_come_4 24 rfl rfl
theorem dX5_come_0 : decode cX5_come 0 = .ok (.iload_n 1, 1) := dk_27 (dk_at dksX5_come_0 0 rfl rfl)
theorem dX5_come_1 : decode cX5_come 1 = .ok (.invokestatic 188, 3) := dk_184 0 188 (dk_at dksX5_come_0 1 rfl rfl)
theorem dX5_come_4 : decode cX5_come 4 = .ok (.ifCond .eq 40, 3) := dk_153 0 40 (dk_at dksX5_come_0 4 rfl rfl)
theorem dX5_come_7 : decode cX5_come 7 = .ok (.iload_n 2, 1) := dk_28 (dk_at dksX5_come_0 7 rfl rfl)
theorem dX5_come_8 : decode cX5_come 8 = .ok (.invokestatic 188, 3) := dk_184 0 188 (dk_at dksX5_come_0 8 rfl rfl)
theorem dX5_come_11 : decode cX5_come 11 = .ok (.ifCond .eq 33, 3) := dk_153 0 33 (dk_at dksX5_come_0 11 rfl rfl)
theorem dX5_come_14 : decode cX5_come 14 = .ok (.iload_n 1, 1) := dk_27 (dk_at dksX5_come_0 14 rfl rfl)
theorem dX5_come_15 : decode cX5_come 15 = .ok (.iload_n 2, 1) := dk_28 (dk_at dksX5_come_0 15 rfl rfl)
theorem dX5_come_16 : decode cX5_come 16 = .ok (.if_icmp .eq 28, 3) := dk_159 0 28 (dk_at dksX5_come_0 16 rfl rfl)
theorem dX5_come_19 : decode cX5_come 19 = .ok (.iload_n 3, 1) := dk_29 (dk_at dksX5_come_0 19 rfl rfl)
theorem dX5_come_20 : decode cX5_come 20 = .ok (.i2l, 1) := dk_133 (dk_at dksX5_come_0 20 rfl rfl)
theorem dX5_come_21 : decode cX5_come 21 = .ok (.lconst 1, 1) := dk_10 (dk_at dksX5_come_0 21 rfl rfl)
theorem dX5_come_22 : decode cX5_come 22 = .ok (.ldc2_w 192, 3) := dk_20 0 192 (dk_at dksX5_come_1 0 rfl rfl)
theorem dX5_come_25 : decode cX5_come 25 = .ok (.invokestatic 179, 3) := dk_184 0 179 (dk_at dksX5_come_1 3 rfl rfl)
theorem dX5_come_28 : decode cX5_come 28 = .ok (.ifCond .eq 16, 3) := dk_153 0 16 (dk_at dksX5_come_1 6 rfl rfl)
theorem dX5_come_31 : decode cX5_come 31 = .ok (.iload 4, 2) := dk_21 4 (dk_at dksX5_come_1 9 rfl rfl)
theorem dX5_come_33 : decode cX5_come 33 = .ok (.i2l, 1) := dk_133 (dk_at dksX5_come_1 11 rfl rfl)
theorem dX5_come_34 : decode cX5_come 34 = .ok (.lconst 0, 1) := dk_9 (dk_at dksX5_come_1 12 rfl rfl)
theorem dX5_come_35 : decode cX5_come 35 = .ok (.ldc2_w 194, 3) := dk_20 0 194 (dk_at dksX5_come_1 13 rfl rfl)
theorem dX5_come_38 : decode cX5_come 38 = .ok (.invokestatic 179, 3) := dk_184 0 179 (dk_at dksX5_come_1 16 rfl rfl)
theorem dX5_come_41 : decode cX5_come 41 = .ok (.ifCond .ne 5, 3) := dk_154 0 5 (dk_at dksX5_come_1 19 rfl rfl)
theorem dX5_come_44 : decode cX5_come 44 = .ok (.iconst (-1), 1) := dk_2 (dk_at dksX5_come_1 22 rfl rfl)
theorem dX5_come_45 : decode cX5_come 45 = .ok (.ireturn, 1) := dk_172 (dk_at dksX5_come_1 23 rfl rfl)
theorem dX5_come_46 : decode cX5_come 46 = .ok (.aload_n 0, 1) := dk_42 (dk_at dksX5_come_2 0 rfl rfl)
theorem dX5_come_47 : decode cX5_come 47 = .ok (.getfield 13, 3) := dk_180 0 13 (dk_at dksX5_come_2 1 rfl rfl)
theorem dX5_come_50 : decode cX5_come 50 = .ok (.iconst 0, 1) := dk_3 (dk_at dksX5_come_2 4 rfl rfl)
theorem dX5_come_51 : decode cX5_come 51 = .ok (.iaload, 1) := dk_46 (dk_at dksX5_come_2 5 rfl rfl)
theorem dX5_come_52 : decode cX5_come 52 = .ok (.istore 5, 2) := dk_54 5 (dk_at dksX5_come_2 6 rfl rfl)
theorem dX5_come_54 : decode cX5_come 54 = .ok (.iload 5, 2) := dk_21 5 (dk_at dksX5_come_2 8 rfl rfl)
theorem dX5_come_56 : decode cX5_come 56 = .ok (.bipush 10, 2) := dk_16 10 (dk_at dksX5_come_2 10 rfl rfl)
theorem dX5_come_58 : decode cX5_come 58 = .ok (.if_icmp .ne 6, 3) := dk_160 0 6 (dk_at dksX5_come_2 12 rfl rfl)
theorem dX5_come_61 : decode cX5_come 61 = .ok (.bipush (-5), 2) := dk_16 251 (dk_at dksX5_come_2 15 rfl rfl)
theorem dX5_come_63 : decode cX5_come 63 = .ok (.ireturn, 1) := dk_172 (dk_at dksX5_come_2 17 rfl rfl)
theorem dX5_come_64 : decode cX5_come 64 = .ok (.aload_n 0, 1) := dk_42 (dk_at dksX5_come_2 18 rfl rfl)
theorem dX5_come_65 : decode cX5_come 65 = .ok (.getfield 13, 3) := dk_180 0 13 (dk_at dksX5_come_2 19 rfl rfl)
theorem dX5_come_68 : decode cX5_come 68 = .ok (.bipush 26, 2) := dk_16 26 (dk_at dksX5_come_2 22 rfl rfl)
theorem dX5_come_70 : decode cX5_come 70 = .ok (.iload 5, 2) := dk_21 5 (dk_at dksX5_come_3 0 rfl rfl)
theorem dX5_come_72 : decode cX5_come 72 = .ok (.iadd, 1) := dk_96 (dk_at dksX5_come_3 2 rfl rfl)
theorem dX5_come_73 : decode cX5_come 73 = .ok (.iload_n 1, 1) := dk_27 (dk_at dksX5_come_3 3 rfl rfl)
theorem dX5_come_74 : decode cX5_come 74 = .ok (.iastore, 1) := dk_79 (dk_at dksX5_come_3 4 rfl rfl)
theorem dX5_come_75 : decode cX5_come 75 = .ok (.aload_n 0, 1) := dk_42 (dk_at dksX5_come_3 5 rfl rfl)
theorem dX5_come_76 : decode cX5_come 76 = .ok (.getfield 13, 3) := dk_180 0 13 (dk_at dksX5_come_3 6 rfl rfl)
theorem dX5_come_79 : decode cX5_come 79 = .ok (.bipush 36, 2) := dk_16 36 (dk_at dksX5_come_3 9 rfl rfl)
theorem dX5_come_81 : decode cX5_come 81 = .ok (.iload 5, 2) := dk_21 5 (dk_at dksX5_come_3 11 rfl rfl)
theorem dX5_come_83 : decode cX5_come 83 = .ok (.iadd, 1) := dk_96 (dk_at dksX5_come_3 13 rfl rfl)
theorem dX5_come_84 : decode cX5_come 84 = .ok (.iload_n 2, 1) := dk_28 (dk_at dksX5_come_3 14 rfl rfl)
theorem dX5_come_85 : decode cX5_come 85 = .ok (.iastore, 1) := dk_79 (dk_at dksX5_come_3 15 rfl rfl)
theorem dX5_come_86 : decode cX5_come 86 = .ok (.aload_n 0, 1) := dk_42 (dk_at dksX5_come_3 16 rfl rfl)
theorem dX5_come_87 : decode cX5_come 87 = .ok (.getfield 13, 3) := dk_180 0 13 (dk_at dksX5_come_3 17 rfl rfl)
theorem dX5_come_90 : decode cX5_come 90 = .ok (.bipush 46, 2) := dk_16 46 (dk_at dksX5_come_3 20 rfl rfl)
theorem dX5_come_92 : decode cX5_come 92 = .ok (.iload 5, 2) := dk_21 5 (dk_at dksX5_come_3 22 rfl rfl)
theorem dX5_come_94 : decode cX5_come 94 = .ok (.iadd, 1) := dk_96 (dk_at dksX5_come_4 0 rfl rfl)
theorem dX5_come_95 : decode cX5_come 95 = .ok (.iload_n 3, 1) := dk_29 (dk_at dksX5_come_4 1 rfl rfl)
theorem dX5_come_96 : decode cX5_come 96 = .ok (.iastore, 1) := dk_79 (dk_at dksX5_come_4 2 rfl rfl)
theorem dX5_come_97 : decode cX5_come 97 = .ok (.aload_n 0, 1) := dk_42 (dk_at dksX5_come_4 3 rfl rfl)
theorem dX5_come_98 : decode cX5_come 98 = .ok (.getfield 13, 3) := dk_180 0 13 (dk_at dksX5_come_4 4 rfl rfl)
theorem dX5_come_101 : decode cX5_come 101 = .ok (.bipush 56, 2) := dk_16 56 (dk_at dksX5_come_4 7 rfl rfl)
theorem dX5_come_103 : decode cX5_come 103 = .ok (.iload 5, 2) := dk_21 5 (dk_at dksX5_come_4 9 rfl rfl)
theorem dX5_come_105 : decode cX5_come 105 = .ok (.iadd, 1) := dk_96 (dk_at dksX5_come_4 11 rfl rfl)
theorem dX5_come_106 : decode cX5_come 106 = .ok (.iload 4, 2) := dk_21 4 (dk_at dksX5_come_4 12 rfl rfl)
theorem dX5_come_108 : decode cX5_come 108 = .ok (.iastore, 1) := dk_79 (dk_at dksX5_come_4 14 rfl rfl)
theorem dX5_come_109 : decode cX5_come 109 = .ok (.aload_n 0, 1) := dk_42 (dk_at dksX5_come_4 15 rfl rfl)
theorem dX5_come_110 : decode cX5_come 110 = .ok (.getfield 13, 3) := dk_180 0 13 (dk_at dksX5_come_4 16 rfl rfl)
theorem dX5_come_113 : decode cX5_come 113 = .ok (.bipush 8, 2) := dk_16 8 (dk_at dksX5_come_4 19 rfl rfl)
theorem dX5_come_115 : decode cX5_come 115 = .ok (.iload 5, 2) := dk_21 5 (dk_at dksX5_come_4 21 rfl rfl)
theorem dX5_come_117 : decode cX5_come 117 = .ok (.iadd, 1) := dk_96 (dk_at dksX5_come_4 23 rfl rfl)
theorem dX5_come_118 : decode cX5_come 118 = .ok (.iconst (-1), 1) := dk_2 (dk_at dksX5_come_5 0 rfl rfl)
theorem dX5_come_119 : decode cX5_come 119 = .ok (.iastore, 1) := dk_79 (dk_at dksX5_come_5 1 rfl rfl)
theorem dX5_come_120 : decode cX5_come 120 = .ok (.aload_n 0, 1) := dk_42 (dk_at dksX5_come_5 2 rfl rfl)
theorem dX5_come_121 : decode cX5_come 121 = .ok (.getfield 13, 3) := dk_180 0 13 (dk_at dksX5_come_5 3 rfl rfl)
theorem dX5_come_124 : decode cX5_come 124 = .ok (.iconst 0, 1) := dk_3 (dk_at dksX5_come_5 6 rfl rfl)
theorem dX5_come_125 : decode cX5_come 125 = .ok (.dup2, 1) := dk_92 (dk_at dksX5_come_5 7 rfl rfl)
theorem dX5_come_126 : decode cX5_come 126 = .ok (.iaload, 1) := dk_46 (dk_at dksX5_come_5 8 rfl rfl)
theorem dX5_come_127 : decode cX5_come 127 = .ok (.iconst 1, 1) := dk_4 (dk_at dksX5_come_5 9 rfl rfl)
theorem dX5_come_128 : decode cX5_come 128 = .ok (.iadd, 1) := dk_96 (dk_at dksX5_come_5 10 rfl rfl)
theorem dX5_come_129 : decode cX5_come 129 = .ok (.iastore, 1) := dk_79 (dk_at dksX5_come_5 11 rfl rfl)
theorem dX5_come_130 : decode cX5_come 130 = .ok (.iload 5, 2) := dk_21 5 (dk_at dksX5_come_5 12 rfl rfl)
theorem dX5_come_132 : decode cX5_come 132 = .ok (.ireturn, 1) := dk_172 (dk_at dksX5_come_5 14 rfl rfl)
abbrev cX5_isCorner : ByteArray := prog_22_method_18_code
def yX5_isCorner : MethodName := ⟨RX5, "isCorner", "(I)Z"⟩
def dkwX5_isCorner_0 : List UInt8 := [26, 133, 9, 20, 0, 186, 184, 0, 179, 172]
abbrev dktX5_isCorner_0 : List UInt8 := dkwX5_isCorner_0 ++ []
theorem dksX5_isCorner_0 : cX5_isCorner.data.toList.drop 0 = dktX5_isCorner_0 := by decide +kernel
theorem dX5_isCorner_0 : decode cX5_isCorner 0 = .ok (.iload_n 0, 1) := dk_26 (dk_at dksX5_isCorner_0 0 rfl rfl)
theorem dX5_isCorner_1 : decode cX5_isCorner 1 = .ok (.i2l, 1) := dk_133 (dk_at dksX5_isCorner_0 1 rfl rfl)
theorem dX5_isCorner_2 : decode cX5_isCorner 2 = .ok (.lconst 0, 1) := dk_9 (dk_at dksX5_isCorner_0 2 rfl rfl)
theorem dX5_isCorner_3 : decode cX5_isCorner 3 = .ok (.ldc2_w 186, 3) := dk_20 0 186 (dk_at dksX5_isCorner_0 3 rfl rfl)
theorem dX5_isCorner_6 : decode cX5_isCorner 6 = .ok (.invokestatic 179, 3) := dk_184 0 179 (dk_at dksX5_isCorner_0 6 rfl rfl)
theorem dX5_isCorner_9 : decode cX5_isCorner 9 = .ok (.ireturn, 1) := dk_172 (dk_at dksX5_isCorner_0 9 rfl rfl)
abbrev cX5_at : ByteArray := prog_22_method_24_code
def yX5_at : MethodName := ⟨RX5, "at", "(II)I"⟩
def dkwX5_at_4 : List UInt8 := [46, 172, 2, 172]
abbrev dktX5_at_4 : List UInt8 := dkwX5_at_4 ++ []
def dkwX5_at_3 : List UInt8 := [16, 46, 27, 96, 46, 172, 42, 180, 0, 13, 16, 56, 27, 96, 46, 172, 42, 180, 0, 13, 16, 8, 27, 96]
abbrev dktX5_at_3 : List UInt8 := dkwX5_at_3 ++ dktX5_at_4
def dkwX5_at_2 : List UInt8 := [42, 180, 0, 13, 16, 26, 27, 96, 46, 172, 42, 180, 0, 13, 16, 36, 27, 96, 46, 172, 42, 180, 0, 13]
abbrev dktX5_at_2 : List UInt8 := dkwX5_at_2 ++ dktX5_at_3
def dkwX5_at_1 : List UInt8 := [170, 0, 0, 0, 0, 0, 0, 86, 0, 0, 0, 0, 0, 0, 0, 4, 0, 0, 0, 36, 0, 0, 0, 46, 0, 0, 0, 56, 0, 0, 0, 66, 0, 0, 0, 76]
abbrev dktX5_at_1 : List UInt8 := dkwX5_at_1 ++ dktX5_at_2
def dkwX5_at_0 : List UInt8 := [42, 3, 181, 0, 159, 42, 27, 182, 0, 200, 154, 0, 5, 2, 172, 28]
abbrev dktX5_at_0 : List UInt8 := dkwX5_at_0 ++ dktX5_at_1
theorem dksX5_at_0 : cX5_at.data.toList.drop 0 = dktX5_at_0 := by decide +kernel
theorem dksX5_at_1 : cX5_at.data.toList.drop 16 = dktX5_at_1 := dk_seg dksX5_at_0 16 rfl rfl
theorem dksX5_at_2 : cX5_at.data.toList.drop 52 = dktX5_at_2 := dk_seg dksX5_at_1 36 rfl rfl
theorem dksX5_at_3 : cX5_at.data.toList.drop 76 = dktX5_at_3 := dk_seg dksX5_at_2 24 rfl rfl
theorem dksX5_at_4 : cX5_at.data.toList.drop 100 = dktX5_at_4 := dk_seg dksX5_at_3 24 rfl rfl
theorem dX5_at_0 : decode cX5_at 0 = .ok (.aload_n 0, 1) := dk_42 (dk_at dksX5_at_0 0 rfl rfl)
theorem dX5_at_1 : decode cX5_at 1 = .ok (.iconst 0, 1) := dk_3 (dk_at dksX5_at_0 1 rfl rfl)
theorem dX5_at_2 : decode cX5_at 2 = .ok (.putfield 159, 3) := dk_181 0 159 (dk_at dksX5_at_0 2 rfl rfl)
theorem dX5_at_5 : decode cX5_at 5 = .ok (.aload_n 0, 1) := dk_42 (dk_at dksX5_at_0 5 rfl rfl)
theorem dX5_at_6 : decode cX5_at 6 = .ok (.iload_n 1, 1) := dk_27 (dk_at dksX5_at_0 6 rfl rfl)
theorem dX5_at_7 : decode cX5_at 7 = .ok (.invokevirtual 200, 3) := dk_182 0 200 (dk_at dksX5_at_0 7 rfl rfl)
theorem dX5_at_10 : decode cX5_at 10 = .ok (.ifCond .ne 5, 3) := dk_154 0 5 (dk_at dksX5_at_0 10 rfl rfl)
theorem dX5_at_13 : decode cX5_at 13 = .ok (.iconst (-1), 1) := dk_2 (dk_at dksX5_at_0 13 rfl rfl)
theorem dX5_at_14 : decode cX5_at 14 = .ok (.ireturn, 1) := dk_172 (dk_at dksX5_at_0 14 rfl rfl)
theorem dX5_at_15 : decode cX5_at 15 = .ok (.iload_n 2, 1) := dk_28 (dk_at dksX5_at_0 15 rfl rfl)
theorem dX5_at_16 : decode cX5_at 16 = .ok (.tableswitch 86 0 4 #[36, 46, 56, 66, 76], 36) := by decide +kernel
theorem dX5_at_52 : decode cX5_at 52 = .ok (.aload_n 0, 1) := dk_42 (dk_at dksX5_at_2 0 rfl rfl)
theorem dX5_at_53 : decode cX5_at 53 = .ok (.getfield 13, 3) := dk_180 0 13 (dk_at dksX5_at_2 1 rfl rfl)
theorem dX5_at_56 : decode cX5_at 56 = .ok (.bipush 26, 2) := dk_16 26 (dk_at dksX5_at_2 4 rfl rfl)
theorem dX5_at_58 : decode cX5_at 58 = .ok (.iload_n 1, 1) := dk_27 (dk_at dksX5_at_2 6 rfl rfl)
theorem dX5_at_59 : decode cX5_at 59 = .ok (.iadd, 1) := dk_96 (dk_at dksX5_at_2 7 rfl rfl)
theorem dX5_at_60 : decode cX5_at 60 = .ok (.iaload, 1) := dk_46 (dk_at dksX5_at_2 8 rfl rfl)
theorem dX5_at_61 : decode cX5_at 61 = .ok (.ireturn, 1) := dk_172 (dk_at dksX5_at_2 9 rfl rfl)
theorem dX5_at_62 : decode cX5_at 62 = .ok (.aload_n 0, 1) := dk_42 (dk_at dksX5_at_2 10 rfl rfl)
theorem dX5_at_63 : decode cX5_at 63 = .ok (.getfield 13, 3) := dk_180 0 13 (dk_at dksX5_at_2 11 rfl rfl)
theorem dX5_at_66 : decode cX5_at 66 = .ok (.bipush 36, 2) := dk_16 36 (dk_at dksX5_at_2 14 rfl rfl)
theorem dX5_at_68 : decode cX5_at 68 = .ok (.iload_n 1, 1) := dk_27 (dk_at dksX5_at_2 16 rfl rfl)
theorem dX5_at_69 : decode cX5_at 69 = .ok (.iadd, 1) := dk_96 (dk_at dksX5_at_2 17 rfl rfl)
theorem dX5_at_70 : decode cX5_at 70 = .ok (.iaload, 1) := dk_46 (dk_at dksX5_at_2 18 rfl rfl)
theorem dX5_at_71 : decode cX5_at 71 = .ok (.ireturn, 1) := dk_172 (dk_at dksX5_at_2 19 rfl rfl)
theorem dX5_at_72 : decode cX5_at 72 = .ok (.aload_n 0, 1) := dk_42 (dk_at dksX5_at_2 20 rfl rfl)
theorem dX5_at_73 : decode cX5_at 73 = .ok (.getfield 13, 3) := dk_180 0 13 (dk_at dksX5_at_2 21 rfl rfl)
theorem dX5_at_76 : decode cX5_at 76 = .ok (.bipush 46, 2) := dk_16 46 (dk_at dksX5_at_3 0 rfl rfl)
theorem dX5_at_78 : decode cX5_at 78 = .ok (.iload_n 1, 1) := dk_27 (dk_at dksX5_at_3 2 rfl rfl)
theorem dX5_at_79 : decode cX5_at 79 = .ok (.iadd, 1) := dk_96 (dk_at dksX5_at_3 3 rfl rfl)
theorem dX5_at_80 : decode cX5_at 80 = .ok (.iaload, 1) := dk_46 (dk_at dksX5_at_3 4 rfl rfl)
theorem dX5_at_81 : decode cX5_at 81 = .ok (.ireturn, 1) := dk_172 (dk_at dksX5_at_3 5 rfl rfl)
theorem dX5_at_82 : decode cX5_at 82 = .ok (.aload_n 0, 1) := dk_42 (dk_at dksX5_at_3 6 rfl rfl)
theorem dX5_at_83 : decode cX5_at 83 = .ok (.getfield 13, 3) := dk_180 0 13 (dk_at dksX5_at_3 7 rfl rfl)
theorem dX5_at_86 : decode cX5_at 86 = .ok (.bipush 56, 2) := dk_16 56 (dk_at dksX5_at_3 10 rfl rfl)
theorem dX5_at_88 : decode cX5_at 88 = .ok (.iload_n 1, 1) := dk_27 (dk_at dksX5_at_3 12 rfl rfl)
theorem dX5_at_89 : decode cX5_at 89 = .ok (.iadd, 1) := dk_96 (dk_at dksX5_at_3 13 rfl rfl)
theorem dX5_at_90 : decode cX5_at 90 = .ok (.iaload, 1) := dk_46 (dk_at dksX5_at_3 14 rfl rfl)
theorem dX5_at_91 : decode cX5_at 91 = .ok (.ireturn, 1) := dk_172 (dk_at dksX5_at_3 15 rfl rfl)
theorem dX5_at_92 : decode cX5_at 92 = .ok (.aload_n 0, 1) := dk_42 (dk_at dksX5_at_3 16 rfl rfl)
theorem dX5_at_93 : decode cX5_at 93 = .ok (.getfield 13, 3) := dk_180 0 13 (dk_at dksX5_at_3 17 rfl rfl)
theorem dX5_at_96 : decode cX5_at 96 = .ok (.bipush 8, 2) := dk_16 8 (dk_at dksX5_at_3 20 rfl rfl)
theorem dX5_at_98 : decode cX5_at 98 = .ok (.iload_n 1, 1) := dk_27 (dk_at dksX5_at_3 22 rfl rfl)
theorem dX5_at_99 : decode cX5_at 99 = .ok (.iadd, 1) := dk_96 (dk_at dksX5_at_3 23 rfl rfl)
theorem dX5_at_100 : decode cX5_at 100 = .ok (.iaload, 1) := dk_46 (dk_at dksX5_at_4 0 rfl rfl)
theorem dX5_at_101 : decode cX5_at 101 = .ok (.ireturn, 1) := dk_172 (dk_at dksX5_at_4 1 rfl rfl)
theorem dX5_at_102 : decode cX5_at 102 = .ok (.iconst (-1), 1) := dk_2 (dk_at dksX5_at_4 2 rfl rfl)
theorem dX5_at_103 : decode cX5_at 103 = .ok (.ireturn, 1) := dk_172 (dk_at dksX5_at_4 3 rfl rfl)
abbrev cX5_isLane : ByteArray := prog_22_method_16_code
def yX5_isLane : MethodName := ⟨RX5, "isLane", "(I)Z"⟩
def dkwX5_isLane_0 : List UInt8 := [27, 133, 9, 42, 180, 0, 13, 3, 46, 133, 10, 101, 184, 0, 179, 172]
abbrev dktX5_isLane_0 : List UInt8 := dkwX5_isLane_0 ++ []
theorem dksX5_isLane_0 : cX5_isLane.data.toList.drop 0 = dktX5_isLane_0 := by decide +kernel
theorem dX5_isLane_0 : decode cX5_isLane 0 = .ok (.iload_n 1, 1) := dk_27 (dk_at dksX5_isLane_0 0 rfl rfl)
theorem dX5_isLane_1 : decode cX5_isLane 1 = .ok (.i2l, 1) := dk_133 (dk_at dksX5_isLane_0 1 rfl rfl)
theorem dX5_isLane_2 : decode cX5_isLane 2 = .ok (.lconst 0, 1) := dk_9 (dk_at dksX5_isLane_0 2 rfl rfl)
theorem dX5_isLane_3 : decode cX5_isLane 3 = .ok (.aload_n 0, 1) := dk_42 (dk_at dksX5_isLane_0 3 rfl rfl)
theorem dX5_isLane_4 : decode cX5_isLane 4 = .ok (.getfield 13, 3) := dk_180 0 13 (dk_at dksX5_isLane_0 4 rfl rfl)
theorem dX5_isLane_7 : decode cX5_isLane 7 = .ok (.iconst 0, 1) := dk_3 (dk_at dksX5_isLane_0 7 rfl rfl)
theorem dX5_isLane_8 : decode cX5_isLane 8 = .ok (.iaload, 1) := dk_46 (dk_at dksX5_isLane_0 8 rfl rfl)
theorem dX5_isLane_9 : decode cX5_isLane 9 = .ok (.i2l, 1) := dk_133 (dk_at dksX5_isLane_0 9 rfl rfl)
theorem dX5_isLane_10 : decode cX5_isLane 10 = .ok (.lconst 1, 1) := dk_10 (dk_at dksX5_isLane_0 10 rfl rfl)
theorem dX5_isLane_11 : decode cX5_isLane 11 = .ok (.lsub, 1) := dk_101 (dk_at dksX5_isLane_0 11 rfl rfl)
theorem dX5_isLane_12 : decode cX5_isLane 12 = .ok (.invokestatic 179, 3) := dk_184 0 179 (dk_at dksX5_isLane_0 12 rfl rfl)
theorem dX5_isLane_15 : decode cX5_isLane 15 = .ok (.ireturn, 1) := dk_172 (dk_at dksX5_isLane_0 15 rfl rfl)
abbrev cX5_child : ByteArray := prog_22_method_25_code
def yX5_child : MethodName := ⟨RX5, "child", "(II)I"⟩
def dkwX5_child_4 : List UInt8 := [172]
abbrev dktX5_child_4 : List UInt8 := dkwX5_child_4 ++ []
def dkwX5_child_3 : List UInt8 := [180, 0, 13, 16, 22, 29, 96, 2, 79, 42, 180, 0, 13, 4, 92, 46, 4, 96, 79, 42, 29, 182, 0, 183]
abbrev dktX5_child_3 : List UInt8 := dkwX5_child_3 ++ dktX5_child_4
def dkwX5_child_2 : List UInt8 := [172, 42, 180, 0, 13, 16, 66, 29, 96, 27, 79, 42, 180, 0, 13, 16, 18, 29, 96, 28, 79, 42]
abbrev dktX5_child_2 : List UInt8 := dkwX5_child_2 ++ dktX5_child_3
def dkwX5_child_1 : List UInt8 := [42, 2, 182, 0, 168, 172, 42, 180, 0, 13, 4, 46, 62, 29, 7, 160, 0, 10, 42, 16, 251, 182, 0, 168]
abbrev dktX5_child_1 : List UInt8 := dkwX5_child_1 ++ dktX5_child_2
def dkwX5_child_0 : List UInt8 := [42, 3, 181, 0, 159, 27, 133, 10, 20, 0, 192, 184, 0, 179, 153, 0, 10, 28, 184, 0, 188, 154, 0, 9]
abbrev dktX5_child_0 : List UInt8 := dkwX5_child_0 ++ dktX5_child_1
theorem dksX5_child_0 : cX5_child.data.toList.drop 0 = dktX5_child_0 := by decide +kernel
theorem dksX5_child_1 : cX5_child.data.toList.drop 24 = dktX5_child_1 := dk_seg dksX5_child_0 24 rfl rfl
theorem dksX5_child_2 : cX5_child.data.toList.drop 48 = dktX5_child_2 := dk_seg dksX5_child_1 24 rfl rfl
theorem dksX5_child_3 : cX5_child.data.toList.drop 70 = dktX5_child_3 := dk_seg dksX5_child_2 22 rfl rfl
theorem dksX5_child_4 : cX5_child.data.toList.drop 94 = dktX5_child_4 := dk_seg dksX5_child_3 24 rfl rfl
theorem dX5_child_0 : decode cX5_child 0 = .ok (.aload_n 0, 1) := dk_42 (dk_at dksX5_child_0 0 rfl rfl)
theorem dX5_child_1 : decode cX5_child 1 = .ok (.iconst 0, 1) := dk_3 (dk_at dksX5_child_0 1 rfl rfl)
theorem dX5_child_2 : decode cX5_child 2 = .ok (.putfield 159, 3) := dk_181 0 159 (dk_at dksX5_child_0 2 rfl rfl)
theorem dX5_child_5 : decode cX5_child 5 = .ok (.iload_n 1, 1) := dk_27 (dk_at dksX5_child_0 5 rfl rfl)
theorem dX5_child_6 : decode cX5_child 6 = .ok (.i2l, 1) := dk_133 (dk_at dksX5_child_0 6 rfl rfl)
theorem dX5_child_7 : decode cX5_child 7 = .ok (.lconst 1, 1) := dk_10 (dk_at dksX5_child_0 7 rfl rfl)
theorem dX5_child_8 : decode cX5_child 8 = .ok (.ldc2_w 192, 3) := dk_20 0 192 (dk_at dksX5_child_0 8 rfl rfl)
theorem dX5_child_11 : decode cX5_child 11 = .ok (.invokestatic 179, 3) := dk_184 0 179 (dk_at dksX5_child_0 11 rfl rfl)
theorem dX5_child_14 : decode cX5_child 14 = .ok (.ifCond .eq 10, 3) := dk_153 0 10 (dk_at dksX5_child_0 14 rfl rfl)
theorem dX5_child_17 : decode cX5_child 17 = .ok (.iload_n 2, 1) := dk_28 (dk_at dksX5_child_0 17 rfl rfl)
theorem dX5_child_18 : decode cX5_child 18 = .ok (.invokestatic 188, 3) := dk_184 0 188 (dk_at dksX5_child_0 18 rfl rfl)
theorem dX5_child_21 : decode cX5_child 21 = .ok (.ifCond .ne 9, 3) := dk_154 0 9 (dk_at dksX5_child_0 21 rfl rfl)
theorem dX5_child_24 : decode cX5_child 24 = .ok (.aload_n 0, 1) := dk_42 (dk_at dksX5_child_1 0 rfl rfl)
theorem dX5_child_25 : decode cX5_child 25 = .ok (.iconst (-1), 1) := dk_2 (dk_at dksX5_child_1 1 rfl rfl)
theorem dX5_child_26 : decode cX5_child 26 = .ok (.invokevirtual 168, 3) := dk_182 0 168 (dk_at dksX5_child_1 2 rfl rfl)
theorem dX5_child_29 : decode cX5_child 29 = .ok (.ireturn, 1) := dk_172 (dk_at dksX5_child_1 5 rfl rfl)
theorem dX5_child_30 : decode cX5_child 30 = .ok (.aload_n 0, 1) := dk_42 (dk_at dksX5_child_1 6 rfl rfl)
theorem dX5_child_31 : decode cX5_child 31 = .ok (.getfield 13, 3) := dk_180 0 13 (dk_at dksX5_child_1 7 rfl rfl)
theorem dX5_child_34 : decode cX5_child 34 = .ok (.iconst 1, 1) := dk_4 (dk_at dksX5_child_1 10 rfl rfl)
theorem dX5_child_35 : decode cX5_child 35 = .ok (.iaload, 1) := dk_46 (dk_at dksX5_child_1 11 rfl rfl)
theorem dX5_child_36 : decode cX5_child 36 = .ok (.istore_n 3, 1) := dk_62 (dk_at dksX5_child_1 12 rfl rfl)
theorem dX5_child_37 : decode cX5_child 37 = .ok (.iload_n 3, 1) := dk_29 (dk_at dksX5_child_1 13 rfl rfl)
theorem dX5_child_38 : decode cX5_child 38 = .ok (.iconst 4, 1) := dk_7 (dk_at dksX5_child_1 14 rfl rfl)
theorem dX5_child_39 : decode cX5_child 39 = .ok (.if_icmp .ne 10, 3) := dk_160 0 10 (dk_at dksX5_child_1 15 rfl rfl)
theorem dX5_child_42 : decode cX5_child 42 = .ok (.aload_n 0, 1) := dk_42 (dk_at dksX5_child_1 18 rfl rfl)
theorem dX5_child_43 : decode cX5_child 43 = .ok (.bipush (-5), 2) := dk_16 251 (dk_at dksX5_child_1 19 rfl rfl)
theorem dX5_child_45 : decode cX5_child 45 = .ok (.invokevirtual 168, 3) := dk_182 0 168 (dk_at dksX5_child_1 21 rfl rfl)
theorem dX5_child_48 : decode cX5_child 48 = .ok (.ireturn, 1) := dk_172 (dk_at dksX5_child_2 0 rfl rfl)
theorem dX5_child_49 : decode cX5_child 49 = .ok (.aload_n 0, 1) := dk_42 (dk_at dksX5_child_2 1 rfl rfl)
theorem dX5_child_50 : decode cX5_child 50 = .ok (.getfield 13, 3) := dk_180 0 13 (dk_at dksX5_child_2 2 rfl rfl)
theorem dX5_child_53 : decode cX5_child 53 = .ok (.bipush 66, 2) := dk_16 66 (dk_at dksX5_child_2 5 rfl rfl)
theorem dX5_child_55 : decode cX5_child 55 = .ok (.iload_n 3, 1) := dk_29 (dk_at dksX5_child_2 7 rfl rfl)
theorem dX5_child_56 : decode cX5_child 56 = .ok (.iadd, 1) := dk_96 (dk_at dksX5_child_2 8 rfl rfl)
theorem dX5_child_57 : decode cX5_child 57 = .ok (.iload_n 1, 1) := dk_27 (dk_at dksX5_child_2 9 rfl rfl)
theorem dX5_child_58 : decode cX5_child 58 = .ok (.iastore, 1) := dk_79 (dk_at dksX5_child_2 10 rfl rfl)
theorem dX5_child_59 : decode cX5_child 59 = .ok (.aload_n 0, 1) := dk_42 (dk_at dksX5_child_2 11 rfl rfl)
theorem dX5_child_60 : decode cX5_child 60 = .ok (.getfield 13, 3) := dk_180 0 13 (dk_at dksX5_child_2 12 rfl rfl)
theorem dX5_child_63 : decode cX5_child 63 = .ok (.bipush 18, 2) := dk_16 18 (dk_at dksX5_child_2 15 rfl rfl)
theorem dX5_child_65 : decode cX5_child 65 = .ok (.iload_n 3, 1) := dk_29 (dk_at dksX5_child_2 17 rfl rfl)
theorem dX5_child_66 : decode cX5_child 66 = .ok (.iadd, 1) := dk_96 (dk_at dksX5_child_2 18 rfl rfl)
theorem dX5_child_67 : decode cX5_child 67 = .ok (.iload_n 2, 1) := dk_28 (dk_at dksX5_child_2 19 rfl rfl)
theorem dX5_child_68 : decode cX5_child 68 = .ok (.iastore, 1) := dk_79 (dk_at dksX5_child_2 20 rfl rfl)
theorem dX5_child_69 : decode cX5_child 69 = .ok (.aload_n 0, 1) := dk_42 (dk_at dksX5_child_2 21 rfl rfl)
theorem dX5_child_70 : decode cX5_child 70 = .ok (.getfield 13, 3) := dk_180 0 13 (dk_at dksX5_child_3 0 rfl rfl)
theorem dX5_child_73 : decode cX5_child 73 = .ok (.bipush 22, 2) := dk_16 22 (dk_at dksX5_child_3 3 rfl rfl)
theorem dX5_child_75 : decode cX5_child 75 = .ok (.iload_n 3, 1) := dk_29 (dk_at dksX5_child_3 5 rfl rfl)
theorem dX5_child_76 : decode cX5_child 76 = .ok (.iadd, 1) := dk_96 (dk_at dksX5_child_3 6 rfl rfl)
theorem dX5_child_77 : decode cX5_child 77 = .ok (.iconst (-1), 1) := dk_2 (dk_at dksX5_child_3 7 rfl rfl)
theorem dX5_child_78 : decode cX5_child 78 = .ok (.iastore, 1) := dk_79 (dk_at dksX5_child_3 8 rfl rfl)
theorem dX5_child_79 : decode cX5_child 79 = .ok (.aload_n 0, 1) := dk_42 (dk_at dksX5_child_3 9 rfl rfl)
theorem dX5_child_80 : decode cX5_child 80 = .ok (.getfield 13, 3) := dk_180 0 13 (dk_at dksX5_child_3 10 rfl rfl)
theorem dX5_child_83 : decode cX5_child 83 = .ok (.iconst 1, 1) := dk_4 (dk_at dksX5_child_3 13 rfl rfl)
theorem dX5_child_84 : decode cX5_child 84 = .ok (.dup2, 1) := dk_92 (dk_at dksX5_child_3 14 rfl rfl)
theorem dX5_child_85 : decode cX5_child 85 = .ok (.iaload, 1) := dk_46 (dk_at dksX5_child_3 15 rfl rfl)
theorem dX5_child_86 : decode cX5_child 86 = .ok (.iconst 1, 1) := dk_4 (dk_at dksX5_child_3 16 rfl rfl)
theorem dX5_child_87 : decode cX5_child 87 = .ok (.iadd, 1) := dk_96 (dk_at dksX5_child_3 17 rfl rfl)
theorem dX5_child_88 : decode cX5_child 88 = .ok (.iastore, 1) := dk_79 (dk_at dksX5_child_3 18 rfl rfl)
theorem dX5_child_89 : decode cX5_child 89 = .ok (.aload_n 0, 1) := dk_42 (dk_at dksX5_child_3 19 rfl rfl)
theorem dX5_child_90 : decode cX5_child 90 = .ok (.iload_n 3, 1) := dk_29 (dk_at dksX5_child_3 20 rfl rfl)
theorem dX5_child_91 : decode cX5_child 91 = .ok (.invokevirtual 183, 3) := dk_182 0 183 (dk_at dksX5_child_3 21 rfl rfl)
theorem dX5_child_94 : decode cX5_child 94 = .ok (.ireturn, 1) := dk_172 (dk_at dksX5_child_4 0 rfl rfl)
abbrev cX5_of : ByteArray := prog_22_method_26_code
def yX5_of : MethodName := ⟨RX5, "of", "(II)I"⟩
def dkwX5_of_3 : List UInt8 := [16, 22, 27, 96, 46, 172, 42, 27, 182, 0, 206, 172, 42, 27, 182, 0, 209, 172, 2, 172]
abbrev dktX5_of_3 : List UInt8 := dkwX5_of_3 ++ []
def dkwX5_of_2 : List UInt8 := [42, 180, 0, 13, 16, 66, 27, 96, 46, 172, 42, 180, 0, 13, 16, 18, 27, 96, 46, 172, 42, 180, 0, 13]
abbrev dktX5_of_2 : List UInt8 := dkwX5_of_2 ++ dktX5_of_3
def dkwX5_of_1 : List UInt8 := [170, 0, 0, 0, 0, 0, 0, 78, 0, 0, 0, 0, 0, 0, 0, 4, 0, 0, 0, 36, 0, 0, 0, 46, 0, 0, 0, 56, 0, 0, 0, 66, 0, 0, 0, 72]
abbrev dktX5_of_1 : List UInt8 := dkwX5_of_1 ++ dktX5_of_2
def dkwX5_of_0 : List UInt8 := [42, 3, 181, 0, 159, 42, 27, 182, 0, 203, 154, 0, 5, 2, 172, 28]
abbrev dktX5_of_0 : List UInt8 := dkwX5_of_0 ++ dktX5_of_1
theorem dksX5_of_0 : cX5_of.data.toList.drop 0 = dktX5_of_0 := by decide +kernel
theorem dksX5_of_1 : cX5_of.data.toList.drop 16 = dktX5_of_1 := dk_seg dksX5_of_0 16 rfl rfl
theorem dksX5_of_2 : cX5_of.data.toList.drop 52 = dktX5_of_2 := dk_seg dksX5_of_1 36 rfl rfl
theorem dksX5_of_3 : cX5_of.data.toList.drop 76 = dktX5_of_3 := dk_seg dksX5_of_2 24 rfl rfl
theorem dX5_of_0 : decode cX5_of 0 = .ok (.aload_n 0, 1) := dk_42 (dk_at dksX5_of_0 0 rfl rfl)
theorem dX5_of_1 : decode cX5_of 1 = .ok (.iconst 0, 1) := dk_3 (dk_at dksX5_of_0 1 rfl rfl)
theorem dX5_of_2 : decode cX5_of 2 = .ok (.putfield 159, 3) := dk_181 0 159 (dk_at dksX5_of_0 2 rfl rfl)
theorem dX5_of_5 : decode cX5_of 5 = .ok (.aload_n 0, 1) := dk_42 (dk_at dksX5_of_0 5 rfl rfl)
theorem dX5_of_6 : decode cX5_of 6 = .ok (.iload_n 1, 1) := dk_27 (dk_at dksX5_of_0 6 rfl rfl)
theorem dX5_of_7 : decode cX5_of 7 = .ok (.invokevirtual 203, 3) := dk_182 0 203 (dk_at dksX5_of_0 7 rfl rfl)
theorem dX5_of_10 : decode cX5_of 10 = .ok (.ifCond .ne 5, 3) := dk_154 0 5 (dk_at dksX5_of_0 10 rfl rfl)
theorem dX5_of_13 : decode cX5_of 13 = .ok (.iconst (-1), 1) := dk_2 (dk_at dksX5_of_0 13 rfl rfl)
theorem dX5_of_14 : decode cX5_of 14 = .ok (.ireturn, 1) := dk_172 (dk_at dksX5_of_0 14 rfl rfl)
theorem dX5_of_15 : decode cX5_of 15 = .ok (.iload_n 2, 1) := dk_28 (dk_at dksX5_of_0 15 rfl rfl)
theorem dX5_of_16 : decode cX5_of 16 = .ok (.tableswitch 78 0 4 #[36, 46, 56, 66, 72], 36) := by decide +kernel
theorem dX5_of_52 : decode cX5_of 52 = .ok (.aload_n 0, 1) := dk_42 (dk_at dksX5_of_2 0 rfl rfl)
theorem dX5_of_53 : decode cX5_of 53 = .ok (.getfield 13, 3) := dk_180 0 13 (dk_at dksX5_of_2 1 rfl rfl)
theorem dX5_of_56 : decode cX5_of 56 = .ok (.bipush 66, 2) := dk_16 66 (dk_at dksX5_of_2 4 rfl rfl)
theorem dX5_of_58 : decode cX5_of 58 = .ok (.iload_n 1, 1) := dk_27 (dk_at dksX5_of_2 6 rfl rfl)
theorem dX5_of_59 : decode cX5_of 59 = .ok (.iadd, 1) := dk_96 (dk_at dksX5_of_2 7 rfl rfl)
theorem dX5_of_60 : decode cX5_of 60 = .ok (.iaload, 1) := dk_46 (dk_at dksX5_of_2 8 rfl rfl)
theorem dX5_of_61 : decode cX5_of 61 = .ok (.ireturn, 1) := dk_172 (dk_at dksX5_of_2 9 rfl rfl)
theorem dX5_of_62 : decode cX5_of 62 = .ok (.aload_n 0, 1) := dk_42 (dk_at dksX5_of_2 10 rfl rfl)
theorem dX5_of_63 : decode cX5_of 63 = .ok (.getfield 13, 3) := dk_180 0 13 (dk_at dksX5_of_2 11 rfl rfl)
theorem dX5_of_66 : decode cX5_of 66 = .ok (.bipush 18, 2) := dk_16 18 (dk_at dksX5_of_2 14 rfl rfl)
theorem dX5_of_68 : decode cX5_of 68 = .ok (.iload_n 1, 1) := dk_27 (dk_at dksX5_of_2 16 rfl rfl)
theorem dX5_of_69 : decode cX5_of 69 = .ok (.iadd, 1) := dk_96 (dk_at dksX5_of_2 17 rfl rfl)
theorem dX5_of_70 : decode cX5_of 70 = .ok (.iaload, 1) := dk_46 (dk_at dksX5_of_2 18 rfl rfl)
theorem dX5_of_71 : decode cX5_of 71 = .ok (.ireturn, 1) := dk_172 (dk_at dksX5_of_2 19 rfl rfl)
theorem dX5_of_72 : decode cX5_of 72 = .ok (.aload_n 0, 1) := dk_42 (dk_at dksX5_of_2 20 rfl rfl)
theorem dX5_of_73 : decode cX5_of 73 = .ok (.getfield 13, 3) := dk_180 0 13 (dk_at dksX5_of_2 21 rfl rfl)
theorem dX5_of_76 : decode cX5_of 76 = .ok (.bipush 22, 2) := dk_16 22 (dk_at dksX5_of_3 0 rfl rfl)
theorem dX5_of_78 : decode cX5_of 78 = .ok (.iload_n 1, 1) := dk_27 (dk_at dksX5_of_3 2 rfl rfl)
theorem dX5_of_79 : decode cX5_of 79 = .ok (.iadd, 1) := dk_96 (dk_at dksX5_of_3 3 rfl rfl)
theorem dX5_of_80 : decode cX5_of 80 = .ok (.iaload, 1) := dk_46 (dk_at dksX5_of_3 4 rfl rfl)
theorem dX5_of_81 : decode cX5_of 81 = .ok (.ireturn, 1) := dk_172 (dk_at dksX5_of_3 5 rfl rfl)
theorem dX5_of_82 : decode cX5_of 82 = .ok (.aload_n 0, 1) := dk_42 (dk_at dksX5_of_3 6 rfl rfl)
theorem dX5_of_83 : decode cX5_of 83 = .ok (.iload_n 1, 1) := dk_27 (dk_at dksX5_of_3 7 rfl rfl)
theorem dX5_of_84 : decode cX5_of 84 = .ok (.invokevirtual 206, 3) := dk_182 0 206 (dk_at dksX5_of_3 8 rfl rfl)
theorem dX5_of_87 : decode cX5_of 87 = .ok (.ireturn, 1) := dk_172 (dk_at dksX5_of_3 11 rfl rfl)
theorem dX5_of_88 : decode cX5_of 88 = .ok (.aload_n 0, 1) := dk_42 (dk_at dksX5_of_3 12 rfl rfl)
theorem dX5_of_89 : decode cX5_of 89 = .ok (.iload_n 1, 1) := dk_27 (dk_at dksX5_of_3 13 rfl rfl)
theorem dX5_of_90 : decode cX5_of 90 = .ok (.invokevirtual 209, 3) := dk_182 0 209 (dk_at dksX5_of_3 14 rfl rfl)
theorem dX5_of_93 : decode cX5_of 93 = .ok (.ireturn, 1) := dk_172 (dk_at dksX5_of_3 17 rfl rfl)
theorem dX5_of_94 : decode cX5_of 94 = .ok (.iconst (-1), 1) := dk_2 (dk_at dksX5_of_3 18 rfl rfl)
theorem dX5_of_95 : decode cX5_of 95 = .ok (.ireturn, 1) := dk_172 (dk_at dksX5_of_3 19 rfl rfl)
abbrev cX5_isChild : ByteArray := prog_22_method_17_code
def yX5_isChild : MethodName := ⟨RX5, "isChild", "(I)Z"⟩
def dkwX5_isChild_0 : List UInt8 := [27, 133, 9, 42, 180, 0, 13, 4, 46, 133, 10, 101, 184, 0, 179, 172]
abbrev dktX5_isChild_0 : List UInt8 := dkwX5_isChild_0 ++ []
theorem dksX5_isChild_0 : cX5_isChild.data.toList.drop 0 = dktX5_isChild_0 := by decide +kernel
theorem dX5_isChild_0 : decode cX5_isChild 0 = .ok (.iload_n 1, 1) := dk_27 (dk_at dksX5_isChild_0 0 rfl rfl)
theorem dX5_isChild_1 : decode cX5_isChild 1 = .ok (.i2l, 1) := dk_133 (dk_at dksX5_isChild_0 1 rfl rfl)
theorem dX5_isChild_2 : decode cX5_isChild 2 = .ok (.lconst 0, 1) := dk_9 (dk_at dksX5_isChild_0 2 rfl rfl)
theorem dX5_isChild_3 : decode cX5_isChild 3 = .ok (.aload_n 0, 1) := dk_42 (dk_at dksX5_isChild_0 3 rfl rfl)
theorem dX5_isChild_4 : decode cX5_isChild 4 = .ok (.getfield 13, 3) := dk_180 0 13 (dk_at dksX5_isChild_0 4 rfl rfl)
theorem dX5_isChild_7 : decode cX5_isChild 7 = .ok (.iconst 1, 1) := dk_4 (dk_at dksX5_isChild_0 7 rfl rfl)
theorem dX5_isChild_8 : decode cX5_isChild 8 = .ok (.iaload, 1) := dk_46 (dk_at dksX5_isChild_0 8 rfl rfl)
theorem dX5_isChild_9 : decode cX5_isChild 9 = .ok (.i2l, 1) := dk_133 (dk_at dksX5_isChild_0 9 rfl rfl)
theorem dX5_isChild_10 : decode cX5_isChild 10 = .ok (.lconst 1, 1) := dk_10 (dk_at dksX5_isChild_0 10 rfl rfl)
theorem dX5_isChild_11 : decode cX5_isChild 11 = .ok (.lsub, 1) := dk_101 (dk_at dksX5_isChild_0 11 rfl rfl)
theorem dX5_isChild_12 : decode cX5_isChild 12 = .ok (.invokestatic 179, 3) := dk_184 0 179 (dk_at dksX5_isChild_0 12 rfl rfl)
theorem dX5_isChild_15 : decode cX5_isChild 15 = .ok (.ireturn, 1) := dk_172 (dk_at dksX5_isChild_0 15 rfl rfl)
abbrev cX5_turnsTo : ByteArray := prog_22_method_68_code
def yX5_turnsTo : MethodName := ⟨RX5, "turnsTo", "(I)I"⟩
def dkwX5_turnsTo_0 : List UInt8 := [42, 3, 27, 2, 9, 182, 1, 160, 3, 16, 99, 184, 1, 164, 172]
abbrev dktX5_turnsTo_0 : List UInt8 := dkwX5_turnsTo_0 ++ []
theorem dksX5_turnsTo_0 : cX5_turnsTo.data.toList.drop 0 = dktX5_turnsTo_0 := by decide +kernel
theorem dX5_turnsTo_0 : decode cX5_turnsTo 0 = .ok (.aload_n 0, 1) := dk_42 (dk_at dksX5_turnsTo_0 0 rfl rfl)
theorem dX5_turnsTo_1 : decode cX5_turnsTo 1 = .ok (.iconst 0, 1) := dk_3 (dk_at dksX5_turnsTo_0 1 rfl rfl)
theorem dX5_turnsTo_2 : decode cX5_turnsTo 2 = .ok (.iload_n 1, 1) := dk_27 (dk_at dksX5_turnsTo_0 2 rfl rfl)
theorem dX5_turnsTo_3 : decode cX5_turnsTo 3 = .ok (.iconst (-1), 1) := dk_2 (dk_at dksX5_turnsTo_0 3 rfl rfl)
theorem dX5_turnsTo_4 : decode cX5_turnsTo 4 = .ok (.lconst 0, 1) := dk_9 (dk_at dksX5_turnsTo_0 4 rfl rfl)
theorem dX5_turnsTo_5 : decode cX5_turnsTo 5 = .ok (.invokevirtual 416, 3) := dk_182 1 160 (dk_at dksX5_turnsTo_0 5 rfl rfl)
theorem dX5_turnsTo_8 : decode cX5_turnsTo 8 = .ok (.iconst 0, 1) := dk_3 (dk_at dksX5_turnsTo_0 8 rfl rfl)
theorem dX5_turnsTo_9 : decode cX5_turnsTo 9 = .ok (.bipush 99, 2) := dk_16 99 (dk_at dksX5_turnsTo_0 9 rfl rfl)
theorem dX5_turnsTo_11 : decode cX5_turnsTo 11 = .ok (.invokestatic 420, 3) := dk_184 1 164 (dk_at dksX5_turnsTo_0 11 rfl rfl)
theorem dX5_turnsTo_14 : decode cX5_turnsTo 14 = .ok (.ireturn, 1) := dk_172 (dk_at dksX5_turnsTo_0 14 rfl rfl)
abbrev cX5_tells : ByteArray := prog_22_method_67_code
def yX5_tells : MethodName := ⟨RX5, "tells", "(IIIJ)J"⟩
def dkwX5_tells_10 : List UInt8 := [27, 5, 160, 0, 7, 10, 167, 0, 7, 42, 180, 1, 154, 55, 6, 132, 8, 1, 167, 255, 188, 22, 6, 173]
abbrev dktX5_tells_10 : List UInt8 := dkwX5_tells_10 ++ []
def dkwX5_tells_9 : List UInt8 := [104, 96, 54, 9, 42, 180, 0, 13, 21, 9, 46, 27, 160, 0, 27, 42, 21, 9, 182, 1, 157, 153, 0, 18]
abbrev dktX5_tells_9 : List UInt8 := dkwX5_tells_9 ++ dktX5_tells_10
def dkwX5_tells_8 : List UInt8 := [42, 180, 0, 13, 42, 180, 1, 137, 4, 96, 46, 162, 0, 58, 42, 180, 1, 137, 5, 96, 16, 8, 21, 8]
abbrev dktX5_tells_8 : List UInt8 := dkwX5_tells_8 ++ dktX5_tells_9
def dkwX5_tells_7 : List UInt8 := [42, 180, 0, 103, 16, 9, 42, 180, 0, 13, 16, 7, 46, 133, 80, 22, 4, 55, 6, 3, 54, 8, 21, 8]
abbrev dktX5_tells_7 : List UInt8 := dkwX5_tells_7 ++ dktX5_tells_8
def dkwX5_tells_6 : List UInt8 := [180, 0, 13, 16, 22, 28, 96, 46, 133, 80, 42, 180, 0, 103, 16, 8, 42, 180, 0, 13, 8, 46, 133, 80]
abbrev dktX5_tells_6 : List UInt8 := dkwX5_tells_6 ++ dktX5_tells_7
def dkwX5_tells_5 : List UInt8 := [180, 0, 103, 16, 6, 42, 180, 0, 13, 16, 18, 28, 96, 46, 133, 80, 42, 180, 0, 103, 16, 7, 42]
abbrev dktX5_tells_5 : List UInt8 := dkwX5_tells_5 ++ dktX5_tells_6
def dkwX5_tells_4 : List UInt8 := [8, 29, 2, 160, 0, 9, 20, 1, 10, 167, 0, 13, 42, 180, 0, 13, 16, 56, 29, 96, 46, 133, 80, 42]
abbrev dktX5_tells_4 : List UInt8 := dkwX5_tells_4 ++ dktX5_tells_5
def dkwX5_tells_3 : List UInt8 := [160, 0, 9, 20, 1, 10, 167, 0, 13, 42, 180, 0, 13, 16, 46, 29, 96, 46, 133, 80, 42, 180, 0, 103]
abbrev dktX5_tells_3 : List UInt8 := dkwX5_tells_3 ++ dktX5_tells_4
def dkwX5_tells_2 : List UInt8 := [16, 66, 28, 96, 46, 133, 80, 42, 180, 0, 103, 6, 29, 133, 80, 42, 180, 0, 103, 7, 29, 2]
abbrev dktX5_tells_2 : List UInt8 := dkwX5_tells_2 ++ dktX5_tells_3
def dkwX5_tells_1 : List UInt8 := [46, 104, 96, 181, 1, 137, 42, 180, 0, 103, 4, 28, 133, 80, 42, 180, 0, 103, 5, 42, 180, 0, 13]
abbrev dktX5_tells_1 : List UInt8 := dkwX5_tells_1 ++ dktX5_tells_2
def dkwX5_tells_0 : List UInt8 := [42, 180, 0, 13, 7, 46, 2, 160, 0, 6, 22, 4, 173, 42, 16, 76, 17, 3, 132, 42, 180, 0, 13, 7]
abbrev dktX5_tells_0 : List UInt8 := dkwX5_tells_0 ++ dktX5_tells_1
theorem dksX5_tells_0 : cX5_tells.data.toList.drop 0 = dktX5_tells_0 := by decide +kernel
theorem dksX5_tells_1 : cX5_tells.data.toList.drop 24 = dktX5_tells_1 := dk_seg dksX5_tells_0 24 rfl rfl
theorem dksX5_tells_2 : cX5_tells.data.toList.drop 47 = dktX5_tells_2 := dk_seg dksX5_tells_1 23 rfl rfl
theorem dksX5_tells_3 : cX5_tells.data.toList.drop 69 = dktX5_tells_3 := dk_seg dksX5_tells_2 22 rfl rfl
theorem dksX5_tells_4 : cX5_tells.data.toList.drop 93 = dktX5_tells_4 := dk_seg dksX5_tells_3 24 rfl rfl
theorem dksX5_tells_5 : cX5_tells.data.toList.drop 117 = dktX5_tells_5 := dk_seg dksX5_tells_4 24 rfl rfl
theorem dksX5_tells_6 : cX5_tells.data.toList.drop 140 = dktX5_tells_6 := dk_seg dksX5_tells_5 23 rfl rfl
theorem dksX5_tells_7 : cX5_tells.data.toList.drop 164 = dktX5_tells_7 := dk_seg dksX5_tells_6 24 rfl rfl
theorem dksX5_tells_8 : cX5_tells.data.toList.drop 188 = dktX5_tells_8 := dk_seg dksX5_tells_7 24 rfl rfl
theorem dksX5_tells_9 : cX5_tells.data.toList.drop 212 = dktX5_tells_9 := dk_seg dksX5_tells_8 24 rfl rfl
theorem dksX5_tells_10 : cX5_tells.data.toList.drop 236 = dktX5_tells_10 := dk_seg dksX5_tells_9 24 rfl rfl
theorem dX5_tells_0 : decode cX5_tells 0 = .ok (.aload_n 0, 1) := dk_42 (dk_at dksX5_tells_0 0 rfl rfl)
theorem dX5_tells_1 : decode cX5_tells 1 = .ok (.getfield 13, 3) := dk_180 0 13 (dk_at dksX5_tells_0 1 rfl rfl)
theorem dX5_tells_4 : decode cX5_tells 4 = .ok (.iconst 4, 1) := dk_7 (dk_at dksX5_tells_0 4 rfl rfl)
theorem dX5_tells_5 : decode cX5_tells 5 = .ok (.iaload, 1) := dk_46 (dk_at dksX5_tells_0 5 rfl rfl)
theorem dX5_tells_6 : decode cX5_tells 6 = .ok (.iconst (-1), 1) := dk_2 (dk_at dksX5_tells_0 6 rfl rfl)
theorem dX5_tells_7 : decode cX5_tells 7 = .ok (.if_icmp .ne 6, 3) := dk_160 0 6 (dk_at dksX5_tells_0 7 rfl rfl)
theorem dX5_tells_10 : decode cX5_tells 10 = .ok (.lload 4, 2) := dk_22 4 (dk_at dksX5_tells_0 10 rfl rfl)
theorem dX5_tells_12 : decode cX5_tells 12 = .ok (.lreturn, 1) := dk_173 (dk_at dksX5_tells_0 12 rfl rfl)
theorem dX5_tells_13 : decode cX5_tells 13 = .ok (.aload_n 0, 1) := dk_42 (dk_at dksX5_tells_0 13 rfl rfl)
theorem dX5_tells_14 : decode cX5_tells 14 = .ok (.bipush 76, 2) := dk_16 76 (dk_at dksX5_tells_0 14 rfl rfl)
theorem dX5_tells_16 : decode cX5_tells 16 = .ok (.sipush 900, 3) := dk_17 3 132 (dk_at dksX5_tells_0 16 rfl rfl)
theorem dX5_tells_19 : decode cX5_tells 19 = .ok (.aload_n 0, 1) := dk_42 (dk_at dksX5_tells_0 19 rfl rfl)
theorem dX5_tells_20 : decode cX5_tells 20 = .ok (.getfield 13, 3) := dk_180 0 13 (dk_at dksX5_tells_0 20 rfl rfl)
theorem dX5_tells_23 : decode cX5_tells 23 = .ok (.iconst 4, 1) := dk_7 (dk_at dksX5_tells_0 23 rfl rfl)
theorem dX5_tells_24 : decode cX5_tells 24 = .ok (.iaload, 1) := dk_46 (dk_at dksX5_tells_1 0 rfl rfl)
theorem dX5_tells_25 : decode cX5_tells 25 = .ok (.imul, 1) := dk_104 (dk_at dksX5_tells_1 1 rfl rfl)
theorem dX5_tells_26 : decode cX5_tells 26 = .ok (.iadd, 1) := dk_96 (dk_at dksX5_tells_1 2 rfl rfl)
theorem dX5_tells_27 : decode cX5_tells 27 = .ok (.putfield 393, 3) := dk_181 1 137 (dk_at dksX5_tells_1 3 rfl rfl)
theorem dX5_tells_30 : decode cX5_tells 30 = .ok (.aload_n 0, 1) := dk_42 (dk_at dksX5_tells_1 6 rfl rfl)
theorem dX5_tells_31 : decode cX5_tells 31 = .ok (.getfield 103, 3) := dk_180 0 103 (dk_at dksX5_tells_1 7 rfl rfl)
theorem dX5_tells_34 : decode cX5_tells 34 = .ok (.iconst 1, 1) := dk_4 (dk_at dksX5_tells_1 10 rfl rfl)
theorem dX5_tells_35 : decode cX5_tells 35 = .ok (.iload_n 2, 1) := dk_28 (dk_at dksX5_tells_1 11 rfl rfl)
theorem dX5_tells_36 : decode cX5_tells 36 = .ok (.i2l, 1) := dk_133 (dk_at dksX5_tells_1 12 rfl rfl)
theorem dX5_tells_37 : decode cX5_tells 37 = .ok (.lastore, 1) := dk_80 (dk_at dksX5_tells_1 13 rfl rfl)
theorem dX5_tells_38 : decode cX5_tells 38 = .ok (.aload_n 0, 1) := dk_42 (dk_at dksX5_tells_1 14 rfl rfl)
theorem dX5_tells_39 : decode cX5_tells 39 = .ok (.getfield 103, 3) := dk_180 0 103 (dk_at dksX5_tells_1 15 rfl rfl)
theorem dX5_tells_42 : decode cX5_tells 42 = .ok (.iconst 2, 1) := dk_5 (dk_at dksX5_tells_1 18 rfl rfl)
theorem dX5_tells_43 : decode cX5_tells 43 = .ok (.aload_n 0, 1) := dk_42 (dk_at dksX5_tells_1 19 rfl rfl)
theorem dX5_tells_44 : decode cX5_tells 44 = .ok (.getfield 13, 3) := dk_180 0 13 (dk_at dksX5_tells_1 20 rfl rfl)
theorem dX5_tells_47 : decode cX5_tells 47 = .ok (.bipush 66, 2) := dk_16 66 (dk_at dksX5_tells_2 0 rfl rfl)
theorem dX5_tells_49 : decode cX5_tells 49 = .ok (.iload_n 2, 1) := dk_28 (dk_at dksX5_tells_2 2 rfl rfl)
theorem dX5_tells_50 : decode cX5_tells 50 = .ok (.iadd, 1) := dk_96 (dk_at dksX5_tells_2 3 rfl rfl)
theorem dX5_tells_51 : decode cX5_tells 51 = .ok (.iaload, 1) := dk_46 (dk_at dksX5_tells_2 4 rfl rfl)
theorem dX5_tells_52 : decode cX5_tells 52 = .ok (.i2l, 1) := dk_133 (dk_at dksX5_tells_2 5 rfl rfl)
theorem dX5_tells_53 : decode cX5_tells 53 = .ok (.lastore, 1) := dk_80 (dk_at dksX5_tells_2 6 rfl rfl)
theorem dX5_tells_54 : decode cX5_tells 54 = .ok (.aload_n 0, 1) := dk_42 (dk_at dksX5_tells_2 7 rfl rfl)
theorem dX5_tells_55 : decode cX5_tells 55 = .ok (.getfield 103, 3) := dk_180 0 103 (dk_at dksX5_tells_2 8 rfl rfl)
theorem dX5_tells_58 : decode cX5_tells 58 = .ok (.iconst 3, 1) := dk_6 (dk_at dksX5_tells_2 11 rfl rfl)
theorem dX5_tells_59 : decode cX5_tells 59 = .ok (.iload_n 3, 1) := dk_29 (dk_at dksX5_tells_2 12 rfl rfl)
theorem dX5_tells_60 : decode cX5_tells 60 = .ok (.i2l, 1) := dk_133 (dk_at dksX5_tells_2 13 rfl rfl)
theorem dX5_tells_61 : decode cX5_tells 61 = .ok (.lastore, 1) := dk_80 (dk_at dksX5_tells_2 14 rfl rfl)
theorem dX5_tells_62 : decode cX5_tells 62 = .ok (.aload_n 0, 1) := dk_42 (dk_at dksX5_tells_2 15 rfl rfl)
theorem dX5_tells_63 : decode cX5_tells 63 = .ok (.getfield 103, 3) := dk_180 0 103 (dk_at dksX5_tells_2 16 rfl rfl)
theorem dX5_tells_66 : decode cX5_tells 66 = .ok (.iconst 4, 1) := dk_7 (dk_at dksX5_tells_2 19 rfl rfl)
theorem dX5_tells_67 : decode cX5_tells 67 = .ok (.iload_n 3, 1) := dk_29 (dk_at dksX5_tells_2 20 rfl rfl)
theorem dX5_tells_68 : decode cX5_tells 68 = .ok (.iconst (-1), 1) := dk_2 (dk_at dksX5_tells_2 21 rfl rfl)
theorem dX5_tells_69 : decode cX5_tells 69 = .ok (.if_icmp .ne 9, 3) := dk_160 0 9 (dk_at dksX5_tells_3 0 rfl rfl)
theorem dX5_tells_72 : decode cX5_tells 72 = .ok (.ldc2_w 266, 3) := dk_20 1 10 (dk_at dksX5_tells_3 3 rfl rfl)
theorem dX5_tells_75 : decode cX5_tells 75 = .ok (.goto 13, 3) := dk_167 0 13 (dk_at dksX5_tells_3 6 rfl rfl)
theorem dX5_tells_78 : decode cX5_tells 78 = .ok (.aload_n 0, 1) := dk_42 (dk_at dksX5_tells_3 9 rfl rfl)
theorem dX5_tells_79 : decode cX5_tells 79 = .ok (.getfield 13, 3) := dk_180 0 13 (dk_at dksX5_tells_3 10 rfl rfl)
theorem dX5_tells_82 : decode cX5_tells 82 = .ok (.bipush 46, 2) := dk_16 46 (dk_at dksX5_tells_3 13 rfl rfl)
theorem dX5_tells_84 : decode cX5_tells 84 = .ok (.iload_n 3, 1) := dk_29 (dk_at dksX5_tells_3 15 rfl rfl)
theorem dX5_tells_85 : decode cX5_tells 85 = .ok (.iadd, 1) := dk_96 (dk_at dksX5_tells_3 16 rfl rfl)
theorem dX5_tells_86 : decode cX5_tells 86 = .ok (.iaload, 1) := dk_46 (dk_at dksX5_tells_3 17 rfl rfl)
theorem dX5_tells_87 : decode cX5_tells 87 = .ok (.i2l, 1) := dk_133 (dk_at dksX5_tells_3 18 rfl rfl)
theorem dX5_tells_88 : decode cX5_tells 88 = .ok (.lastore, 1) := dk_80 (dk_at dksX5_tells_3 19 rfl rfl)
theorem dX5_tells_89 : decode cX5_tells 89 = .ok (.aload_n 0, 1) := dk_42 (dk_at dksX5_tells_3 20 rfl rfl)
theorem dX5_tells_90 : decode cX5_tells 90 = .ok (.getfield 103, 3) := dk_180 0 103 (dk_at dksX5_tells_3 21 rfl rfl)
theorem dX5_tells_93 : decode cX5_tells 93 = .ok (.iconst 5, 1) := dk_8 (dk_at dksX5_tells_4 0 rfl rfl)
theorem dX5_tells_94 : decode cX5_tells 94 = .ok (.iload_n 3, 1) := dk_29 (dk_at dksX5_tells_4 1 rfl rfl)
theorem dX5_tells_95 : decode cX5_tells 95 = .ok (.iconst (-1), 1) := dk_2 (dk_at dksX5_tells_4 2 rfl rfl)
theorem dX5_tells_96 : decode cX5_tells 96 = .ok (.if_icmp .ne 9, 3) := dk_160 0 9 (dk_at dksX5_tells_4 3 rfl rfl)
theorem dX5_tells_99 : decode cX5_tells 99 = .ok (.ldc2_w 266, 3) := dk_20 1 10 (dk_at dksX5_tells_4 6 rfl rfl)
theorem dX5_tells_102 : decode cX5_tells 102 = .ok (.goto 13, 3) := dk_167 0 13 (dk_at dksX5_tells_4 9 rfl rfl)
theorem dX5_tells_105 : decode cX5_tells 105 = .ok (.aload_n 0, 1) := dk_42 (dk_at dksX5_tells_4 12 rfl rfl)
theorem dX5_tells_106 : decode cX5_tells 106 = .ok (.getfield 13, 3) := dk_180 0 13 (dk_at dksX5_tells_4 13 rfl rfl)
theorem dX5_tells_109 : decode cX5_tells 109 = .ok (.bipush 56, 2) := dk_16 56 (dk_at dksX5_tells_4 16 rfl rfl)
theorem dX5_tells_111 : decode cX5_tells 111 = .ok (.iload_n 3, 1) := dk_29 (dk_at dksX5_tells_4 18 rfl rfl)
theorem dX5_tells_112 : decode cX5_tells 112 = .ok (.iadd, 1) := dk_96 (dk_at dksX5_tells_4 19 rfl rfl)
theorem dX5_tells_113 : decode cX5_tells 113 = .ok (.iaload, 1) := dk_46 (dk_at dksX5_tells_4 20 rfl rfl)
theorem dX5_tells_114 : decode cX5_tells 114 = .ok (.i2l, 1) := dk_133 (dk_at dksX5_tells_4 21 rfl rfl)
theorem dX5_tells_115 : decode cX5_tells 115 = .ok (.lastore, 1) := dk_80 (dk_at dksX5_tells_4 22 rfl rfl)
theorem dX5_tells_116 : decode cX5_tells 116 = .ok (.aload_n 0, 1) := dk_42 (dk_at dksX5_tells_4 23 rfl rfl)
theorem dX5_tells_117 : decode cX5_tells 117 = .ok (.getfield 103, 3) := dk_180 0 103 (dk_at dksX5_tells_5 0 rfl rfl)
theorem dX5_tells_120 : decode cX5_tells 120 = .ok (.bipush 6, 2) := dk_16 6 (dk_at dksX5_tells_5 3 rfl rfl)
theorem dX5_tells_122 : decode cX5_tells 122 = .ok (.aload_n 0, 1) := dk_42 (dk_at dksX5_tells_5 5 rfl rfl)
theorem dX5_tells_123 : decode cX5_tells 123 = .ok (.getfield 13, 3) := dk_180 0 13 (dk_at dksX5_tells_5 6 rfl rfl)
theorem dX5_tells_126 : decode cX5_tells 126 = .ok (.bipush 18, 2) := dk_16 18 (dk_at dksX5_tells_5 9 rfl rfl)
theorem dX5_tells_128 : decode cX5_tells 128 = .ok (.iload_n 2, 1) := dk_28 (dk_at dksX5_tells_5 11 rfl rfl)
theorem dX5_tells_129 : decode cX5_tells 129 = .ok (.iadd, 1) := dk_96 (dk_at dksX5_tells_5 12 rfl rfl)
theorem dX5_tells_130 : decode cX5_tells 130 = .ok (.iaload, 1) := dk_46 (dk_at dksX5_tells_5 13 rfl rfl)
theorem dX5_tells_131 : decode cX5_tells 131 = .ok (.i2l, 1) := dk_133 (dk_at dksX5_tells_5 14 rfl rfl)
theorem dX5_tells_132 : decode cX5_tells 132 = .ok (.lastore, 1) := dk_80 (dk_at dksX5_tells_5 15 rfl rfl)
theorem dX5_tells_133 : decode cX5_tells 133 = .ok (.aload_n 0, 1) := dk_42 (dk_at dksX5_tells_5 16 rfl rfl)
theorem dX5_tells_134 : decode cX5_tells 134 = .ok (.getfield 103, 3) := dk_180 0 103 (dk_at dksX5_tells_5 17 rfl rfl)
theorem dX5_tells_137 : decode cX5_tells 137 = .ok (.bipush 7, 2) := dk_16 7 (dk_at dksX5_tells_5 20 rfl rfl)
theorem dX5_tells_139 : decode cX5_tells 139 = .ok (.aload_n 0, 1) := dk_42 (dk_at dksX5_tells_5 22 rfl rfl)
theorem dX5_tells_140 : decode cX5_tells 140 = .ok (.getfield 13, 3) := dk_180 0 13 (dk_at dksX5_tells_6 0 rfl rfl)
theorem dX5_tells_143 : decode cX5_tells 143 = .ok (.bipush 22, 2) := dk_16 22 (dk_at dksX5_tells_6 3 rfl rfl)
theorem dX5_tells_145 : decode cX5_tells 145 = .ok (.iload_n 2, 1) := dk_28 (dk_at dksX5_tells_6 5 rfl rfl)
theorem dX5_tells_146 : decode cX5_tells 146 = .ok (.iadd, 1) := dk_96 (dk_at dksX5_tells_6 6 rfl rfl)
theorem dX5_tells_147 : decode cX5_tells 147 = .ok (.iaload, 1) := dk_46 (dk_at dksX5_tells_6 7 rfl rfl)
theorem dX5_tells_148 : decode cX5_tells 148 = .ok (.i2l, 1) := dk_133 (dk_at dksX5_tells_6 8 rfl rfl)
theorem dX5_tells_149 : decode cX5_tells 149 = .ok (.lastore, 1) := dk_80 (dk_at dksX5_tells_6 9 rfl rfl)
theorem dX5_tells_150 : decode cX5_tells 150 = .ok (.aload_n 0, 1) := dk_42 (dk_at dksX5_tells_6 10 rfl rfl)
theorem dX5_tells_151 : decode cX5_tells 151 = .ok (.getfield 103, 3) := dk_180 0 103 (dk_at dksX5_tells_6 11 rfl rfl)
theorem dX5_tells_154 : decode cX5_tells 154 = .ok (.bipush 8, 2) := dk_16 8 (dk_at dksX5_tells_6 14 rfl rfl)
theorem dX5_tells_156 : decode cX5_tells 156 = .ok (.aload_n 0, 1) := dk_42 (dk_at dksX5_tells_6 16 rfl rfl)
theorem dX5_tells_157 : decode cX5_tells 157 = .ok (.getfield 13, 3) := dk_180 0 13 (dk_at dksX5_tells_6 17 rfl rfl)
theorem dX5_tells_160 : decode cX5_tells 160 = .ok (.iconst 5, 1) := dk_8 (dk_at dksX5_tells_6 20 rfl rfl)
theorem dX5_tells_161 : decode cX5_tells 161 = .ok (.iaload, 1) := dk_46 (dk_at dksX5_tells_6 21 rfl rfl)
theorem dX5_tells_162 : decode cX5_tells 162 = .ok (.i2l, 1) := dk_133 (dk_at dksX5_tells_6 22 rfl rfl)
theorem dX5_tells_163 : decode cX5_tells 163 = .ok (.lastore, 1) := dk_80 (dk_at dksX5_tells_6 23 rfl rfl)
theorem dX5_tells_164 : decode cX5_tells 164 = .ok (.aload_n 0, 1) := dk_42 (dk_at dksX5_tells_7 0 rfl rfl)
theorem dX5_tells_165 : decode cX5_tells 165 = .ok (.getfield 103, 3) := dk_180 0 103 (dk_at dksX5_tells_7 1 rfl rfl)
theorem dX5_tells_168 : decode cX5_tells 168 = .ok (.bipush 9, 2) := dk_16 9 (dk_at dksX5_tells_7 4 rfl rfl)
theorem dX5_tells_170 : decode cX5_tells 170 = .ok (.aload_n 0, 1) := dk_42 (dk_at dksX5_tells_7 6 rfl rfl)
theorem dX5_tells_171 : decode cX5_tells 171 = .ok (.getfield 13, 3) := dk_180 0 13 (dk_at dksX5_tells_7 7 rfl rfl)
theorem dX5_tells_174 : decode cX5_tells 174 = .ok (.bipush 7, 2) := dk_16 7 (dk_at dksX5_tells_7 10 rfl rfl)
theorem dX5_tells_176 : decode cX5_tells 176 = .ok (.iaload, 1) := dk_46 (dk_at dksX5_tells_7 12 rfl rfl)
theorem dX5_tells_177 : decode cX5_tells 177 = .ok (.i2l, 1) := dk_133 (dk_at dksX5_tells_7 13 rfl rfl)
theorem dX5_tells_178 : decode cX5_tells 178 = .ok (.lastore, 1) := dk_80 (dk_at dksX5_tells_7 14 rfl rfl)
theorem dX5_tells_179 : decode cX5_tells 179 = .ok (.lload 4, 2) := dk_22 4 (dk_at dksX5_tells_7 15 rfl rfl)
theorem dX5_tells_181 : decode cX5_tells 181 = .ok (.lstore 6, 2) := dk_55 6 (dk_at dksX5_tells_7 17 rfl rfl)
theorem dX5_tells_183 : decode cX5_tells 183 = .ok (.iconst 0, 1) := dk_3 (dk_at dksX5_tells_7 19 rfl rfl)
theorem dX5_tells_184 : decode cX5_tells 184 = .ok (.istore 8, 2) := dk_54 8 (dk_at dksX5_tells_7 20 rfl rfl)
theorem dX5_tells_186 : decode cX5_tells 186 = .ok (.iload 8, 2) := dk_21 8 (dk_at dksX5_tells_7 22 rfl rfl)
theorem dX5_tells_188 : decode cX5_tells 188 = .ok (.aload_n 0, 1) := dk_42 (dk_at dksX5_tells_8 0 rfl rfl)
theorem dX5_tells_189 : decode cX5_tells 189 = .ok (.getfield 13, 3) := dk_180 0 13 (dk_at dksX5_tells_8 1 rfl rfl)
theorem dX5_tells_192 : decode cX5_tells 192 = .ok (.aload_n 0, 1) := dk_42 (dk_at dksX5_tells_8 4 rfl rfl)
theorem dX5_tells_193 : decode cX5_tells 193 = .ok (.getfield 393, 3) := dk_180 1 137 (dk_at dksX5_tells_8 5 rfl rfl)
theorem dX5_tells_196 : decode cX5_tells 196 = .ok (.iconst 1, 1) := dk_4 (dk_at dksX5_tells_8 8 rfl rfl)
theorem dX5_tells_197 : decode cX5_tells 197 = .ok (.iadd, 1) := dk_96 (dk_at dksX5_tells_8 9 rfl rfl)
theorem dX5_tells_198 : decode cX5_tells 198 = .ok (.iaload, 1) := dk_46 (dk_at dksX5_tells_8 10 rfl rfl)
theorem dX5_tells_199 : decode cX5_tells 199 = .ok (.if_icmp .ge 58, 3) := dk_162 0 58 (dk_at dksX5_tells_8 11 rfl rfl)
theorem dX5_tells_202 : decode cX5_tells 202 = .ok (.aload_n 0, 1) := dk_42 (dk_at dksX5_tells_8 14 rfl rfl)
theorem dX5_tells_203 : decode cX5_tells 203 = .ok (.getfield 393, 3) := dk_180 1 137 (dk_at dksX5_tells_8 15 rfl rfl)
theorem dX5_tells_206 : decode cX5_tells 206 = .ok (.iconst 2, 1) := dk_5 (dk_at dksX5_tells_8 18 rfl rfl)
theorem dX5_tells_207 : decode cX5_tells 207 = .ok (.iadd, 1) := dk_96 (dk_at dksX5_tells_8 19 rfl rfl)
theorem dX5_tells_208 : decode cX5_tells 208 = .ok (.bipush 8, 2) := dk_16 8 (dk_at dksX5_tells_8 20 rfl rfl)
theorem dX5_tells_210 : decode cX5_tells 210 = .ok (.iload 8, 2) := dk_21 8 (dk_at dksX5_tells_8 22 rfl rfl)
theorem dX5_tells_212 : decode cX5_tells 212 = .ok (.imul, 1) := dk_104 (dk_at dksX5_tells_9 0 rfl rfl)
theorem dX5_tells_213 : decode cX5_tells 213 = .ok (.iadd, 1) := dk_96 (dk_at dksX5_tells_9 1 rfl rfl)
theorem dX5_tells_214 : decode cX5_tells 214 = .ok (.istore 9, 2) := dk_54 9 (dk_at dksX5_tells_9 2 rfl rfl)
theorem dX5_tells_216 : decode cX5_tells 216 = .ok (.aload_n 0, 1) := dk_42 (dk_at dksX5_tells_9 4 rfl rfl)
theorem dX5_tells_217 : decode cX5_tells 217 = .ok (.getfield 13, 3) := dk_180 0 13 (dk_at dksX5_tells_9 5 rfl rfl)
theorem dX5_tells_220 : decode cX5_tells 220 = .ok (.iload 9, 2) := dk_21 9 (dk_at dksX5_tells_9 8 rfl rfl)
theorem dX5_tells_222 : decode cX5_tells 222 = .ok (.iaload, 1) := dk_46 (dk_at dksX5_tells_9 10 rfl rfl)
theorem dX5_tells_223 : decode cX5_tells 223 = .ok (.iload_n 1, 1) := dk_27 (dk_at dksX5_tells_9 11 rfl rfl)
theorem dX5_tells_224 : decode cX5_tells 224 = .ok (.if_icmp .ne 27, 3) := dk_160 0 27 (dk_at dksX5_tells_9 12 rfl rfl)
theorem dX5_tells_227 : decode cX5_tells 227 = .ok (.aload_n 0, 1) := dk_42 (dk_at dksX5_tells_9 15 rfl rfl)
theorem dX5_tells_228 : decode cX5_tells 228 = .ok (.iload 9, 2) := dk_21 9 (dk_at dksX5_tells_9 16 rfl rfl)
theorem dX5_tells_230 : decode cX5_tells 230 = .ok (.invokevirtual 413, 3) := dk_182 1 157 (dk_at dksX5_tells_9 18 rfl rfl)
theorem dX5_tells_233 : decode cX5_tells 233 = .ok (.ifCond .eq 18, 3) := dk_153 0 18 (dk_at dksX5_tells_9 21 rfl rfl)
theorem dX5_tells_236 : decode cX5_tells 236 = .ok (.iload_n 1, 1) := dk_27 (dk_at dksX5_tells_10 0 rfl rfl)
theorem dX5_tells_237 : decode cX5_tells 237 = .ok (.iconst 2, 1) := dk_5 (dk_at dksX5_tells_10 1 rfl rfl)
theorem dX5_tells_238 : decode cX5_tells 238 = .ok (.if_icmp .ne 7, 3) := dk_160 0 7 (dk_at dksX5_tells_10 2 rfl rfl)
theorem dX5_tells_241 : decode cX5_tells 241 = .ok (.lconst 1, 1) := dk_10 (dk_at dksX5_tells_10 5 rfl rfl)
theorem dX5_tells_242 : decode cX5_tells 242 = .ok (.goto 7, 3) := dk_167 0 7 (dk_at dksX5_tells_10 6 rfl rfl)
theorem dX5_tells_245 : decode cX5_tells 245 = .ok (.aload_n 0, 1) := dk_42 (dk_at dksX5_tells_10 9 rfl rfl)
theorem dX5_tells_246 : decode cX5_tells 246 = .ok (.getfield 410, 3) := dk_180 1 154 (dk_at dksX5_tells_10 10 rfl rfl)
theorem dX5_tells_249 : decode cX5_tells 249 = .ok (.lstore 6, 2) := dk_55 6 (dk_at dksX5_tells_10 13 rfl rfl)
theorem dX5_tells_251 : decode cX5_tells 251 = .ok (.iinc 8 1, 3) := dk_132 8 1 (dk_at dksX5_tells_10 15 rfl rfl)
theorem dX5_tells_254 : decode cX5_tells 254 = .ok (.goto (-68), 3) := dk_167 255 188 (dk_at dksX5_tells_10 18 rfl rfl)
theorem dX5_tells_257 : decode cX5_tells 257 = .ok (.lload 6, 2) := dk_22 6 (dk_at dksX5_tells_10 21 rfl rfl)
theorem dX5_tells_259 : decode cX5_tells 259 = .ok (.lreturn, 1) := dk_173 (dk_at dksX5_tells_10 23 rfl rfl)
abbrev cX5_isSo : ByteArray := prog_22_method_66_code
def yX5_isSo : MethodName := ⟨RX5, "isSo", "(I)Z"⟩
def dkwX5_isSo_4 : List UInt8 := [180, 1, 148, 181, 1, 154, 42, 180, 1, 134, 154, 0, 7, 4, 167, 0, 4, 3, 172, 4, 172]
abbrev dktX5_isSo_4 : List UInt8 := dkwX5_isSo_4 ++ []
def dkwX5_isSo_3 : List UInt8 := [42, 42, 180, 0, 13, 27, 6, 96, 46, 42, 180, 0, 13, 27, 7, 96, 46, 182, 1, 151, 42, 42]
abbrev dktX5_isSo_3 : List UInt8 := dkwX5_isSo_3 ++ dktX5_isSo_4
def dkwX5_isSo_2 : List UInt8 := [154, 0, 12, 42, 180, 1, 148, 9, 148, 154, 0, 5, 3, 172, 42, 180, 0, 13, 27, 46, 5, 159, 0, 44]
abbrev dktX5_isSo_2 : List UInt8 := dkwX5_isSo_2 ++ dktX5_isSo_3
def dkwX5_isSo_1 : List UInt8 := [180, 0, 13, 27, 8, 96, 46, 42, 180, 0, 13, 27, 16, 6, 96, 46, 182, 1, 151, 42, 180, 1, 134]
abbrev dktX5_isSo_1 : List UInt8 := dkwX5_isSo_1 ++ dktX5_isSo_2
def dkwX5_isSo_0 : List UInt8 := [42, 180, 0, 13, 27, 8, 96, 46, 42, 180, 0, 13, 27, 16, 6, 96, 46, 162, 0, 42, 42, 42]
abbrev dktX5_isSo_0 : List UInt8 := dkwX5_isSo_0 ++ dktX5_isSo_1
theorem dksX5_isSo_0 : cX5_isSo.data.toList.drop 0 = dktX5_isSo_0 := by decide +kernel
theorem dksX5_isSo_1 : cX5_isSo.data.toList.drop 22 = dktX5_isSo_1 := dk_seg dksX5_isSo_0 22 rfl rfl
theorem dksX5_isSo_2 : cX5_isSo.data.toList.drop 45 = dktX5_isSo_2 := dk_seg dksX5_isSo_1 23 rfl rfl
theorem dksX5_isSo_3 : cX5_isSo.data.toList.drop 69 = dktX5_isSo_3 := dk_seg dksX5_isSo_2 24 rfl rfl
theorem dksX5_isSo_4 : cX5_isSo.data.toList.drop 91 = dktX5_isSo_4 := dk_seg dksX5_isSo_3 22 rfl rfl
theorem dX5_isSo_0 : decode cX5_isSo 0 = .ok (.aload_n 0, 1) := dk_42 (dk_at dksX5_isSo_0 0 rfl rfl)
theorem dX5_isSo_1 : decode cX5_isSo 1 = .ok (.getfield 13, 3) := dk_180 0 13 (dk_at dksX5_isSo_0 1 rfl rfl)
theorem dX5_isSo_4 : decode cX5_isSo 4 = .ok (.iload_n 1, 1) := dk_27 (dk_at dksX5_isSo_0 4 rfl rfl)
theorem dX5_isSo_5 : decode cX5_isSo 5 = .ok (.iconst 5, 1) := dk_8 (dk_at dksX5_isSo_0 5 rfl rfl)
theorem dX5_isSo_6 : decode cX5_isSo 6 = .ok (.iadd, 1) := dk_96 (dk_at dksX5_isSo_0 6 rfl rfl)
theorem dX5_isSo_7 : decode cX5_isSo 7 = .ok (.iaload, 1) := dk_46 (dk_at dksX5_isSo_0 7 rfl rfl)
theorem dX5_isSo_8 : decode cX5_isSo 8 = .ok (.aload_n 0, 1) := dk_42 (dk_at dksX5_isSo_0 8 rfl rfl)
theorem dX5_isSo_9 : decode cX5_isSo 9 = .ok (.getfield 13, 3) := dk_180 0 13 (dk_at dksX5_isSo_0 9 rfl rfl)
theorem dX5_isSo_12 : decode cX5_isSo 12 = .ok (.iload_n 1, 1) := dk_27 (dk_at dksX5_isSo_0 12 rfl rfl)
theorem dX5_isSo_13 : decode cX5_isSo 13 = .ok (.bipush 6, 2) := dk_16 6 (dk_at dksX5_isSo_0 13 rfl rfl)
theorem dX5_isSo_15 : decode cX5_isSo 15 = .ok (.iadd, 1) := dk_96 (dk_at dksX5_isSo_0 15 rfl rfl)
theorem dX5_isSo_16 : decode cX5_isSo 16 = .ok (.iaload, 1) := dk_46 (dk_at dksX5_isSo_0 16 rfl rfl)
theorem dX5_isSo_17 : decode cX5_isSo 17 = .ok (.if_icmp .ge 42, 3) := dk_162 0 42 (dk_at dksX5_isSo_0 17 rfl rfl)
theorem dX5_isSo_20 : decode cX5_isSo 20 = .ok (.aload_n 0, 1) := dk_42 (dk_at dksX5_isSo_0 20 rfl rfl)
theorem dX5_isSo_21 : decode cX5_isSo 21 = .ok (.aload_n 0, 1) := dk_42 (dk_at dksX5_isSo_0 21 rfl rfl)
theorem dX5_isSo_22 : decode cX5_isSo 22 = .ok (.getfield 13, 3) := dk_180 0 13 (dk_at dksX5_isSo_1 0 rfl rfl)
theorem dX5_isSo_25 : decode cX5_isSo 25 = .ok (.iload_n 1, 1) := dk_27 (dk_at dksX5_isSo_1 3 rfl rfl)
theorem dX5_isSo_26 : decode cX5_isSo 26 = .ok (.iconst 5, 1) := dk_8 (dk_at dksX5_isSo_1 4 rfl rfl)
theorem dX5_isSo_27 : decode cX5_isSo 27 = .ok (.iadd, 1) := dk_96 (dk_at dksX5_isSo_1 5 rfl rfl)
theorem dX5_isSo_28 : decode cX5_isSo 28 = .ok (.iaload, 1) := dk_46 (dk_at dksX5_isSo_1 6 rfl rfl)
theorem dX5_isSo_29 : decode cX5_isSo 29 = .ok (.aload_n 0, 1) := dk_42 (dk_at dksX5_isSo_1 7 rfl rfl)
theorem dX5_isSo_30 : decode cX5_isSo 30 = .ok (.getfield 13, 3) := dk_180 0 13 (dk_at dksX5_isSo_1 8 rfl rfl)
theorem dX5_isSo_33 : decode cX5_isSo 33 = .ok (.iload_n 1, 1) := dk_27 (dk_at dksX5_isSo_1 11 rfl rfl)
theorem dX5_isSo_34 : decode cX5_isSo 34 = .ok (.bipush 6, 2) := dk_16 6 (dk_at dksX5_isSo_1 12 rfl rfl)
theorem dX5_isSo_36 : decode cX5_isSo 36 = .ok (.iadd, 1) := dk_96 (dk_at dksX5_isSo_1 14 rfl rfl)
theorem dX5_isSo_37 : decode cX5_isSo 37 = .ok (.iaload, 1) := dk_46 (dk_at dksX5_isSo_1 15 rfl rfl)
theorem dX5_isSo_38 : decode cX5_isSo 38 = .ok (.invokevirtual 407, 3) := dk_182 1 151 (dk_at dksX5_isSo_1 16 rfl rfl)
theorem dX5_isSo_41 : decode cX5_isSo 41 = .ok (.aload_n 0, 1) := dk_42 (dk_at dksX5_isSo_1 19 rfl rfl)
theorem dX5_isSo_42 : decode cX5_isSo 42 = .ok (.getfield 390, 3) := dk_180 1 134 (dk_at dksX5_isSo_1 20 rfl rfl)
theorem dX5_isSo_45 : decode cX5_isSo 45 = .ok (.ifCond .ne 12, 3) := dk_154 0 12 (dk_at dksX5_isSo_2 0 rfl rfl)
theorem dX5_isSo_48 : decode cX5_isSo 48 = .ok (.aload_n 0, 1) := dk_42 (dk_at dksX5_isSo_2 3 rfl rfl)
theorem dX5_isSo_49 : decode cX5_isSo 49 = .ok (.getfield 404, 3) := dk_180 1 148 (dk_at dksX5_isSo_2 4 rfl rfl)
theorem dX5_isSo_52 : decode cX5_isSo 52 = .ok (.lconst 0, 1) := dk_9 (dk_at dksX5_isSo_2 7 rfl rfl)
theorem dX5_isSo_53 : decode cX5_isSo 53 = .ok (.lcmp, 1) := dk_148 (dk_at dksX5_isSo_2 8 rfl rfl)
theorem dX5_isSo_54 : decode cX5_isSo 54 = .ok (.ifCond .ne 5, 3) := dk_154 0 5 (dk_at dksX5_isSo_2 9 rfl rfl)
theorem dX5_isSo_57 : decode cX5_isSo 57 = .ok (.iconst 0, 1) := dk_3 (dk_at dksX5_isSo_2 12 rfl rfl)
theorem dX5_isSo_58 : decode cX5_isSo 58 = .ok (.ireturn, 1) := dk_172 (dk_at dksX5_isSo_2 13 rfl rfl)
theorem dX5_isSo_59 : decode cX5_isSo 59 = .ok (.aload_n 0, 1) := dk_42 (dk_at dksX5_isSo_2 14 rfl rfl)
theorem dX5_isSo_60 : decode cX5_isSo 60 = .ok (.getfield 13, 3) := dk_180 0 13 (dk_at dksX5_isSo_2 15 rfl rfl)
theorem dX5_isSo_63 : decode cX5_isSo 63 = .ok (.iload_n 1, 1) := dk_27 (dk_at dksX5_isSo_2 18 rfl rfl)
theorem dX5_isSo_64 : decode cX5_isSo 64 = .ok (.iaload, 1) := dk_46 (dk_at dksX5_isSo_2 19 rfl rfl)
theorem dX5_isSo_65 : decode cX5_isSo 65 = .ok (.iconst 2, 1) := dk_5 (dk_at dksX5_isSo_2 20 rfl rfl)
theorem dX5_isSo_66 : decode cX5_isSo 66 = .ok (.if_icmp .eq 44, 3) := dk_159 0 44 (dk_at dksX5_isSo_2 21 rfl rfl)
theorem dX5_isSo_69 : decode cX5_isSo 69 = .ok (.aload_n 0, 1) := dk_42 (dk_at dksX5_isSo_3 0 rfl rfl)
theorem dX5_isSo_70 : decode cX5_isSo 70 = .ok (.aload_n 0, 1) := dk_42 (dk_at dksX5_isSo_3 1 rfl rfl)
theorem dX5_isSo_71 : decode cX5_isSo 71 = .ok (.getfield 13, 3) := dk_180 0 13 (dk_at dksX5_isSo_3 2 rfl rfl)
theorem dX5_isSo_74 : decode cX5_isSo 74 = .ok (.iload_n 1, 1) := dk_27 (dk_at dksX5_isSo_3 5 rfl rfl)
theorem dX5_isSo_75 : decode cX5_isSo 75 = .ok (.iconst 3, 1) := dk_6 (dk_at dksX5_isSo_3 6 rfl rfl)
theorem dX5_isSo_76 : decode cX5_isSo 76 = .ok (.iadd, 1) := dk_96 (dk_at dksX5_isSo_3 7 rfl rfl)
theorem dX5_isSo_77 : decode cX5_isSo 77 = .ok (.iaload, 1) := dk_46 (dk_at dksX5_isSo_3 8 rfl rfl)
theorem dX5_isSo_78 : decode cX5_isSo 78 = .ok (.aload_n 0, 1) := dk_42 (dk_at dksX5_isSo_3 9 rfl rfl)
theorem dX5_isSo_79 : decode cX5_isSo 79 = .ok (.getfield 13, 3) := dk_180 0 13 (dk_at dksX5_isSo_3 10 rfl rfl)
theorem dX5_isSo_82 : decode cX5_isSo 82 = .ok (.iload_n 1, 1) := dk_27 (dk_at dksX5_isSo_3 13 rfl rfl)
theorem dX5_isSo_83 : decode cX5_isSo 83 = .ok (.iconst 4, 1) := dk_7 (dk_at dksX5_isSo_3 14 rfl rfl)
theorem dX5_isSo_84 : decode cX5_isSo 84 = .ok (.iadd, 1) := dk_96 (dk_at dksX5_isSo_3 15 rfl rfl)
theorem dX5_isSo_85 : decode cX5_isSo 85 = .ok (.iaload, 1) := dk_46 (dk_at dksX5_isSo_3 16 rfl rfl)
theorem dX5_isSo_86 : decode cX5_isSo 86 = .ok (.invokevirtual 407, 3) := dk_182 1 151 (dk_at dksX5_isSo_3 17 rfl rfl)
theorem dX5_isSo_89 : decode cX5_isSo 89 = .ok (.aload_n 0, 1) := dk_42 (dk_at dksX5_isSo_3 20 rfl rfl)
theorem dX5_isSo_90 : decode cX5_isSo 90 = .ok (.aload_n 0, 1) := dk_42 (dk_at dksX5_isSo_3 21 rfl rfl)
theorem dX5_isSo_91 : decode cX5_isSo 91 = .ok (.getfield 404, 3) := dk_180 1 148 (dk_at dksX5_isSo_4 0 rfl rfl)
theorem dX5_isSo_94 : decode cX5_isSo 94 = .ok (.putfield 410, 3) := dk_181 1 154 (dk_at dksX5_isSo_4 3 rfl rfl)
theorem dX5_isSo_97 : decode cX5_isSo 97 = .ok (.aload_n 0, 1) := dk_42 (dk_at dksX5_isSo_4 6 rfl rfl)
theorem dX5_isSo_98 : decode cX5_isSo 98 = .ok (.getfield 390, 3) := dk_180 1 134 (dk_at dksX5_isSo_4 7 rfl rfl)
theorem dX5_isSo_101 : decode cX5_isSo 101 = .ok (.ifCond .ne 7, 3) := dk_154 0 7 (dk_at dksX5_isSo_4 10 rfl rfl)
theorem dX5_isSo_104 : decode cX5_isSo 104 = .ok (.iconst 1, 1) := dk_4 (dk_at dksX5_isSo_4 13 rfl rfl)
theorem dX5_isSo_105 : decode cX5_isSo 105 = .ok (.goto 4, 3) := dk_167 0 4 (dk_at dksX5_isSo_4 14 rfl rfl)
theorem dX5_isSo_108 : decode cX5_isSo 108 = .ok (.iconst 0, 1) := dk_3 (dk_at dksX5_isSo_4 17 rfl rfl)
theorem dX5_isSo_109 : decode cX5_isSo 109 = .ok (.ireturn, 1) := dk_172 (dk_at dksX5_isSo_4 18 rfl rfl)
theorem dX5_isSo_110 : decode cX5_isSo 110 = .ok (.iconst 1, 1) := dk_4 (dk_at dksX5_isSo_4 19 rfl rfl)
theorem dX5_isSo_111 : decode cX5_isSo 111 = .ok (.ireturn, 1) := dk_172 (dk_at dksX5_isSo_4 20 rfl rfl)
abbrev cX5_reckonAll : ByteArray := prog_22_method_65_code
def yX5_reckonAll : MethodName := ⟨RX5, "reckonAll", "(II)V"⟩
def dkwX5_reckonAll_16 : List UInt8 := [167, 0, 4, 9, 181, 1, 148, 177]
abbrev dktX5_reckonAll_16 : List UInt8 := dkwX5_reckonAll_16 ++ []
def dkwX5_reckonAll_15 : List UInt8 := [21, 6, 54, 4, 167, 0, 6, 132, 3, 255, 167, 254, 159, 42, 29, 158, 0, 12, 42, 180, 0, 109, 3, 47]
abbrev dktX5_reckonAll_15 : List UInt8 := dkwX5_reckonAll_15 ++ dktX5_reckonAll_16
def dkwX5_reckonAll_14 : List UInt8 := [42, 180, 0, 109, 29, 4, 100, 47, 21, 5, 16, 29, 160, 0, 7, 9, 167, 0, 4, 10, 148, 154, 0, 10]
abbrev dktX5_reckonAll_14 : List UInt8 := dkwX5_reckonAll_14 ++ dktX5_reckonAll_15
def dkwX5_reckonAll_13 : List UInt8 := [160, 0, 24, 42, 180, 0, 109, 29, 4, 100, 10, 42, 180, 0, 109, 29, 4, 100, 47, 101, 80, 167, 0, 37]
abbrev dktX5_reckonAll_13 : List UInt8 := dkwX5_reckonAll_13 ++ dktX5_reckonAll_14
def dkwX5_reckonAll_12 : List UInt8 := [20, 1, 146, 184, 0, 179, 154, 0, 7, 4, 167, 0, 4, 3, 181, 1, 134, 167, 0, 65, 21, 5, 16, 28]
abbrev dktX5_reckonAll_12 : List UInt8 := dkwX5_reckonAll_12 ++ dktX5_reckonAll_13
def dkwX5_reckonAll_11 : List UInt8 := [182, 1, 140, 80, 42, 42, 180, 1, 134, 154, 0, 23, 42, 180, 0, 109, 29, 4, 100, 47, 20, 1, 144]
abbrev dktX5_reckonAll_11 : List UInt8 := dkwX5_reckonAll_11 ++ dktX5_reckonAll_12
def dkwX5_reckonAll_10 : List UInt8 := [180, 0, 109, 29, 4, 100, 42, 21, 5, 42, 180, 0, 109, 29, 4, 100, 47, 42, 180, 0, 109, 29, 47]
abbrev dktX5_reckonAll_10 : List UInt8 := dkwX5_reckonAll_10 ++ dktX5_reckonAll_11
def dkwX5_reckonAll_9 : List UInt8 := [167, 0, 6, 20, 1, 10, 80, 132, 3, 1, 167, 0, 142, 21, 5, 16, 28, 162, 0, 73, 132, 3, 255, 42]
abbrev dktX5_reckonAll_9 : List UInt8 := dkwX5_reckonAll_9 ++ dktX5_reckonAll_10
def dkwX5_reckonAll_8 : List UInt8 := [167, 0, 29, 42, 21, 6, 182, 0, 200, 153, 0, 17, 42, 180, 0, 13, 16, 8, 21, 6, 96, 46, 133]
abbrev dktX5_reckonAll_8 : List UInt8 := dkwX5_reckonAll_8 ++ dktX5_reckonAll_9
def dkwX5_reckonAll_7 : List UInt8 := [21, 6, 182, 0, 203, 153, 0, 16, 42, 180, 0, 13, 16, 18, 21, 6, 96, 46, 167, 0, 4, 2, 133]
abbrev dktX5_reckonAll_7 : List UInt8 := dkwX5_reckonAll_7 ++ dktX5_reckonAll_8
def dkwX5_reckonAll_6 : List UInt8 := [16, 6, 162, 0, 13, 42, 180, 0, 106, 21, 5, 47, 167, 0, 63, 21, 5, 16, 6, 160, 0, 30, 42]
abbrev dktX5_reckonAll_6 : List UInt8 := dkwX5_reckonAll_6 ++ dktX5_reckonAll_7
def dkwX5_reckonAll_5 : List UInt8 := [133, 167, 0, 97, 42, 180, 1, 60, 154, 0, 13, 42, 180, 0, 103, 21, 5, 47, 167, 0, 80, 21, 5]
abbrev dktX5_reckonAll_5 : List UInt8 := dkwX5_reckonAll_5 ++ dktX5_reckonAll_6
def dkwX5_reckonAll_4 : List UInt8 := [54, 6, 132, 4, 1, 21, 5, 16, 20, 162, 0, 120, 42, 180, 0, 109, 29, 21, 5, 154, 0, 9, 21, 6]
abbrev dktX5_reckonAll_4 : List UInt8 := dkwX5_reckonAll_4 ++ dktX5_reckonAll_5
def dkwX5_reckonAll_3 : List UInt8 := [46, 167, 0, 22, 42, 180, 0, 13, 42, 180, 1, 137, 16, 98, 96, 5, 21, 4, 104, 96, 4, 96, 46]
abbrev dktX5_reckonAll_3 : List UInt8 := dkwX5_reckonAll_3 ++ dktX5_reckonAll_4
def dkwX5_reckonAll_2 : List UInt8 := [16, 98, 96, 5, 21, 4, 104, 96, 46, 54, 5, 42, 180, 1, 60, 153, 0, 13, 42, 180, 0, 48, 21, 4]
abbrev dktX5_reckonAll_2 : List UInt8 := dkwX5_reckonAll_2 ++ dktX5_reckonAll_3
def dkwX5_reckonAll_1 : List UInt8 := [180, 1, 60, 153, 0, 13, 42, 180, 0, 45, 21, 4, 46, 167, 0, 20, 42, 180, 0, 13, 42, 180, 1, 137]
abbrev dktX5_reckonAll_1 : List UInt8 := dkwX5_reckonAll_1 ++ dktX5_reckonAll_2
def dkwX5_reckonAll_0 : List UInt8 := [42, 3, 181, 1, 134, 3, 62, 27, 54, 4, 21, 4, 28, 162, 1, 97, 42, 180, 1, 134, 154, 1, 90, 42]
abbrev dktX5_reckonAll_0 : List UInt8 := dkwX5_reckonAll_0 ++ dktX5_reckonAll_1
theorem dksX5_reckonAll_0 : cX5_reckonAll.data.toList.drop 0 = dktX5_reckonAll_0 := by decide +kernel
theorem dksX5_reckonAll_1 : cX5_reckonAll.data.toList.drop 24 = dktX5_reckonAll_1 := dk_seg dksX5_reckonAll_0 24 rfl rfl
theorem dksX5_reckonAll_2 : cX5_reckonAll.data.toList.drop 48 = dktX5_reckonAll_2 := dk_seg dksX5_reckonAll_1 24 rfl rfl
theorem dksX5_reckonAll_3 : cX5_reckonAll.data.toList.drop 72 = dktX5_reckonAll_3 := dk_seg dksX5_reckonAll_2 24 rfl rfl
theorem dksX5_reckonAll_4 : cX5_reckonAll.data.toList.drop 95 = dktX5_reckonAll_4 := dk_seg dksX5_reckonAll_3 23 rfl rfl
theorem dksX5_reckonAll_5 : cX5_reckonAll.data.toList.drop 119 = dktX5_reckonAll_5 := dk_seg dksX5_reckonAll_4 24 rfl rfl
theorem dksX5_reckonAll_6 : cX5_reckonAll.data.toList.drop 142 = dktX5_reckonAll_6 := dk_seg dksX5_reckonAll_5 23 rfl rfl
theorem dksX5_reckonAll_7 : cX5_reckonAll.data.toList.drop 165 = dktX5_reckonAll_7 := dk_seg dksX5_reckonAll_6 23 rfl rfl
theorem dksX5_reckonAll_8 : cX5_reckonAll.data.toList.drop 188 = dktX5_reckonAll_8 := dk_seg dksX5_reckonAll_7 23 rfl rfl
theorem dksX5_reckonAll_9 : cX5_reckonAll.data.toList.drop 211 = dktX5_reckonAll_9 := dk_seg dksX5_reckonAll_8 23 rfl rfl
theorem dksX5_reckonAll_10 : cX5_reckonAll.data.toList.drop 235 = dktX5_reckonAll_10 := dk_seg dksX5_reckonAll_9 24 rfl rfl
theorem dksX5_reckonAll_11 : cX5_reckonAll.data.toList.drop 258 = dktX5_reckonAll_11 := dk_seg dksX5_reckonAll_10 23 rfl rfl
theorem dksX5_reckonAll_12 : cX5_reckonAll.data.toList.drop 281 = dktX5_reckonAll_12 := dk_seg dksX5_reckonAll_11 23 rfl rfl
theorem dksX5_reckonAll_13 : cX5_reckonAll.data.toList.drop 305 = dktX5_reckonAll_13 := dk_seg dksX5_reckonAll_12 24 rfl rfl
theorem dksX5_reckonAll_14 : cX5_reckonAll.data.toList.drop 329 = dktX5_reckonAll_14 := dk_seg dksX5_reckonAll_13 24 rfl rfl
theorem dksX5_reckonAll_15 : cX5_reckonAll.data.toList.drop 353 = dktX5_reckonAll_15 := dk_seg dksX5_reckonAll_14 24 rfl rfl
theorem dksX5_reckonAll_16 : cX5_reckonAll.data.toList.drop 377 = dktX5_reckonAll_16 := dk_seg dksX5_reckonAll_15 24 rfl rfl
theorem dX5_reckonAll_0 : decode cX5_reckonAll 0 = .ok (.aload_n 0, 1) := dk_42 (dk_at dksX5_reckonAll_0 0 rfl rfl)
theorem dX5_reckonAll_1 : decode cX5_reckonAll 1 = .ok (.iconst 0, 1) := dk_3 (dk_at dksX5_reckonAll_0 1 rfl rfl)
theorem dX5_reckonAll_2 : decode cX5_reckonAll 2 = .ok (.putfield 390, 3) := dk_181 1 134 (dk_at dksX5_reckonAll_0 2 rfl rfl)
theorem dX5_reckonAll_5 : decode cX5_reckonAll 5 = .ok (.iconst 0, 1) := dk_3 (dk_at dksX5_reckonAll_0 5 rfl rfl)
theorem dX5_reckonAll_6 : decode cX5_reckonAll 6 = .ok (.istore_n 3, 1) := dk_62 (dk_at dksX5_reckonAll_0 6 rfl rfl)
theorem dX5_reckonAll_7 : decode cX5_reckonAll 7 = .ok (.iload_n 1, 1) := dk_27 (dk_at dksX5_reckonAll_0 7 rfl rfl)
theorem dX5_reckonAll_8 : decode cX5_reckonAll 8 = .ok (.istore 4, 2) := dk_54 4 (dk_at dksX5_reckonAll_0 8 rfl rfl)
theorem dX5_reckonAll_10 : decode cX5_reckonAll 10 = .ok (.iload 4, 2) := dk_21 4 (dk_at dksX5_reckonAll_0 10 rfl rfl)
theorem dX5_reckonAll_12 : decode cX5_reckonAll 12 = .ok (.iload_n 2, 1) := dk_28 (dk_at dksX5_reckonAll_0 12 rfl rfl)
theorem dX5_reckonAll_13 : decode cX5_reckonAll 13 = .ok (.if_icmp .ge 353, 3) := dk_162 1 97 (dk_at dksX5_reckonAll_0 13 rfl rfl)
theorem dX5_reckonAll_16 : decode cX5_reckonAll 16 = .ok (.aload_n 0, 1) := dk_42 (dk_at dksX5_reckonAll_0 16 rfl rfl)
theorem dX5_reckonAll_17 : decode cX5_reckonAll 17 = .ok (.getfield 390, 3) := dk_180 1 134 (dk_at dksX5_reckonAll_0 17 rfl rfl)
theorem dX5_reckonAll_20 : decode cX5_reckonAll 20 = .ok (.ifCond .ne 346, 3) := dk_154 1 90 (dk_at dksX5_reckonAll_0 20 rfl rfl)
theorem dX5_reckonAll_23 : decode cX5_reckonAll 23 = .ok (.aload_n 0, 1) := dk_42 (dk_at dksX5_reckonAll_0 23 rfl rfl)
theorem dX5_reckonAll_24 : decode cX5_reckonAll 24 = .ok (.getfield 316, 3) := dk_180 1 60 (dk_at dksX5_reckonAll_1 0 rfl rfl)
theorem dX5_reckonAll_27 : decode cX5_reckonAll 27 = .ok (.ifCond .eq 13, 3) := dk_153 0 13 (dk_at dksX5_reckonAll_1 3 rfl rfl)
theorem dX5_reckonAll_30 : decode cX5_reckonAll 30 = .ok (.aload_n 0, 1) := dk_42 (dk_at dksX5_reckonAll_1 6 rfl rfl)
theorem dX5_reckonAll_31 : decode cX5_reckonAll 31 = .ok (.getfield 45, 3) := dk_180 0 45 (dk_at dksX5_reckonAll_1 7 rfl rfl)
theorem dX5_reckonAll_34 : decode cX5_reckonAll 34 = .ok (.iload 4, 2) := dk_21 4 (dk_at dksX5_reckonAll_1 10 rfl rfl)
theorem dX5_reckonAll_36 : decode cX5_reckonAll 36 = .ok (.iaload, 1) := dk_46 (dk_at dksX5_reckonAll_1 12 rfl rfl)
theorem dX5_reckonAll_37 : decode cX5_reckonAll 37 = .ok (.goto 20, 3) := dk_167 0 20 (dk_at dksX5_reckonAll_1 13 rfl rfl)
theorem dX5_reckonAll_40 : decode cX5_reckonAll 40 = .ok (.aload_n 0, 1) := dk_42 (dk_at dksX5_reckonAll_1 16 rfl rfl)
theorem dX5_reckonAll_41 : decode cX5_reckonAll 41 = .ok (.getfield 13, 3) := dk_180 0 13 (dk_at dksX5_reckonAll_1 17 rfl rfl)
theorem dX5_reckonAll_44 : decode cX5_reckonAll 44 = .ok (.aload_n 0, 1) := dk_42 (dk_at dksX5_reckonAll_1 20 rfl rfl)
theorem dX5_reckonAll_45 : decode cX5_reckonAll 45 = .ok (.getfield 393, 3) := dk_180 1 137 (dk_at dksX5_reckonAll_1 21 rfl rfl)
theorem dX5_reckonAll_48 : decode cX5_reckonAll 48 = .ok (.bipush 98, 2) := dk_16 98 (dk_at dksX5_reckonAll_2 0 rfl rfl)
theorem dX5_reckonAll_50 : decode cX5_reckonAll 50 = .ok (.iadd, 1) := dk_96 (dk_at dksX5_reckonAll_2 2 rfl rfl)
theorem dX5_reckonAll_51 : decode cX5_reckonAll 51 = .ok (.iconst 2, 1) := dk_5 (dk_at dksX5_reckonAll_2 3 rfl rfl)
theorem dX5_reckonAll_52 : decode cX5_reckonAll 52 = .ok (.iload 4, 2) := dk_21 4 (dk_at dksX5_reckonAll_2 4 rfl rfl)
theorem dX5_reckonAll_54 : decode cX5_reckonAll 54 = .ok (.imul, 1) := dk_104 (dk_at dksX5_reckonAll_2 6 rfl rfl)
theorem dX5_reckonAll_55 : decode cX5_reckonAll 55 = .ok (.iadd, 1) := dk_96 (dk_at dksX5_reckonAll_2 7 rfl rfl)
theorem dX5_reckonAll_56 : decode cX5_reckonAll 56 = .ok (.iaload, 1) := dk_46 (dk_at dksX5_reckonAll_2 8 rfl rfl)
theorem dX5_reckonAll_57 : decode cX5_reckonAll 57 = .ok (.istore 5, 2) := dk_54 5 (dk_at dksX5_reckonAll_2 9 rfl rfl)
theorem dX5_reckonAll_59 : decode cX5_reckonAll 59 = .ok (.aload_n 0, 1) := dk_42 (dk_at dksX5_reckonAll_2 11 rfl rfl)
theorem dX5_reckonAll_60 : decode cX5_reckonAll 60 = .ok (.getfield 316, 3) := dk_180 1 60 (dk_at dksX5_reckonAll_2 12 rfl rfl)
theorem dX5_reckonAll_63 : decode cX5_reckonAll 63 = .ok (.ifCond .eq 13, 3) := dk_153 0 13 (dk_at dksX5_reckonAll_2 15 rfl rfl)
theorem dX5_reckonAll_66 : decode cX5_reckonAll 66 = .ok (.aload_n 0, 1) := dk_42 (dk_at dksX5_reckonAll_2 18 rfl rfl)
theorem dX5_reckonAll_67 : decode cX5_reckonAll 67 = .ok (.getfield 48, 3) := dk_180 0 48 (dk_at dksX5_reckonAll_2 19 rfl rfl)
theorem dX5_reckonAll_70 : decode cX5_reckonAll 70 = .ok (.iload 4, 2) := dk_21 4 (dk_at dksX5_reckonAll_2 22 rfl rfl)
theorem dX5_reckonAll_72 : decode cX5_reckonAll 72 = .ok (.iaload, 1) := dk_46 (dk_at dksX5_reckonAll_3 0 rfl rfl)
theorem dX5_reckonAll_73 : decode cX5_reckonAll 73 = .ok (.goto 22, 3) := dk_167 0 22 (dk_at dksX5_reckonAll_3 1 rfl rfl)
theorem dX5_reckonAll_76 : decode cX5_reckonAll 76 = .ok (.aload_n 0, 1) := dk_42 (dk_at dksX5_reckonAll_3 4 rfl rfl)
theorem dX5_reckonAll_77 : decode cX5_reckonAll 77 = .ok (.getfield 13, 3) := dk_180 0 13 (dk_at dksX5_reckonAll_3 5 rfl rfl)
theorem dX5_reckonAll_80 : decode cX5_reckonAll 80 = .ok (.aload_n 0, 1) := dk_42 (dk_at dksX5_reckonAll_3 8 rfl rfl)
theorem dX5_reckonAll_81 : decode cX5_reckonAll 81 = .ok (.getfield 393, 3) := dk_180 1 137 (dk_at dksX5_reckonAll_3 9 rfl rfl)
theorem dX5_reckonAll_84 : decode cX5_reckonAll 84 = .ok (.bipush 98, 2) := dk_16 98 (dk_at dksX5_reckonAll_3 12 rfl rfl)
theorem dX5_reckonAll_86 : decode cX5_reckonAll 86 = .ok (.iadd, 1) := dk_96 (dk_at dksX5_reckonAll_3 14 rfl rfl)
theorem dX5_reckonAll_87 : decode cX5_reckonAll 87 = .ok (.iconst 2, 1) := dk_5 (dk_at dksX5_reckonAll_3 15 rfl rfl)
theorem dX5_reckonAll_88 : decode cX5_reckonAll 88 = .ok (.iload 4, 2) := dk_21 4 (dk_at dksX5_reckonAll_3 16 rfl rfl)
theorem dX5_reckonAll_90 : decode cX5_reckonAll 90 = .ok (.imul, 1) := dk_104 (dk_at dksX5_reckonAll_3 18 rfl rfl)
theorem dX5_reckonAll_91 : decode cX5_reckonAll 91 = .ok (.iadd, 1) := dk_96 (dk_at dksX5_reckonAll_3 19 rfl rfl)
theorem dX5_reckonAll_92 : decode cX5_reckonAll 92 = .ok (.iconst 1, 1) := dk_4 (dk_at dksX5_reckonAll_3 20 rfl rfl)
theorem dX5_reckonAll_93 : decode cX5_reckonAll 93 = .ok (.iadd, 1) := dk_96 (dk_at dksX5_reckonAll_3 21 rfl rfl)
theorem dX5_reckonAll_94 : decode cX5_reckonAll 94 = .ok (.iaload, 1) := dk_46 (dk_at dksX5_reckonAll_3 22 rfl rfl)
theorem dX5_reckonAll_95 : decode cX5_reckonAll 95 = .ok (.istore 6, 2) := dk_54 6 (dk_at dksX5_reckonAll_4 0 rfl rfl)
theorem dX5_reckonAll_97 : decode cX5_reckonAll 97 = .ok (.iinc 4 1, 3) := dk_132 4 1 (dk_at dksX5_reckonAll_4 2 rfl rfl)
theorem dX5_reckonAll_100 : decode cX5_reckonAll 100 = .ok (.iload 5, 2) := dk_21 5 (dk_at dksX5_reckonAll_4 5 rfl rfl)
theorem dX5_reckonAll_102 : decode cX5_reckonAll 102 = .ok (.bipush 20, 2) := dk_16 20 (dk_at dksX5_reckonAll_4 7 rfl rfl)
theorem dX5_reckonAll_104 : decode cX5_reckonAll 104 = .ok (.if_icmp .ge 120, 3) := dk_162 0 120 (dk_at dksX5_reckonAll_4 9 rfl rfl)
theorem dX5_reckonAll_107 : decode cX5_reckonAll 107 = .ok (.aload_n 0, 1) := dk_42 (dk_at dksX5_reckonAll_4 12 rfl rfl)
theorem dX5_reckonAll_108 : decode cX5_reckonAll 108 = .ok (.getfield 109, 3) := dk_180 0 109 (dk_at dksX5_reckonAll_4 13 rfl rfl)
theorem dX5_reckonAll_111 : decode cX5_reckonAll 111 = .ok (.iload_n 3, 1) := dk_29 (dk_at dksX5_reckonAll_4 16 rfl rfl)
theorem dX5_reckonAll_112 : decode cX5_reckonAll 112 = .ok (.iload 5, 2) := dk_21 5 (dk_at dksX5_reckonAll_4 17 rfl rfl)
theorem dX5_reckonAll_114 : decode cX5_reckonAll 114 = .ok (.ifCond .ne 9, 3) := dk_154 0 9 (dk_at dksX5_reckonAll_4 19 rfl rfl)
theorem dX5_reckonAll_117 : decode cX5_reckonAll 117 = .ok (.iload 6, 2) := dk_21 6 (dk_at dksX5_reckonAll_4 22 rfl rfl)
theorem dX5_reckonAll_119 : decode cX5_reckonAll 119 = .ok (.i2l, 1) := dk_133 (dk_at dksX5_reckonAll_5 0 rfl rfl)
theorem dX5_reckonAll_120 : decode cX5_reckonAll 120 = .ok (.goto 97, 3) := dk_167 0 97 (dk_at dksX5_reckonAll_5 1 rfl rfl)
theorem dX5_reckonAll_123 : decode cX5_reckonAll 123 = .ok (.aload_n 0, 1) := dk_42 (dk_at dksX5_reckonAll_5 4 rfl rfl)
theorem dX5_reckonAll_124 : decode cX5_reckonAll 124 = .ok (.getfield 316, 3) := dk_180 1 60 (dk_at dksX5_reckonAll_5 5 rfl rfl)
theorem dX5_reckonAll_127 : decode cX5_reckonAll 127 = .ok (.ifCond .ne 13, 3) := dk_154 0 13 (dk_at dksX5_reckonAll_5 8 rfl rfl)
theorem dX5_reckonAll_130 : decode cX5_reckonAll 130 = .ok (.aload_n 0, 1) := dk_42 (dk_at dksX5_reckonAll_5 11 rfl rfl)
theorem dX5_reckonAll_131 : decode cX5_reckonAll 131 = .ok (.getfield 103, 3) := dk_180 0 103 (dk_at dksX5_reckonAll_5 12 rfl rfl)
theorem dX5_reckonAll_134 : decode cX5_reckonAll 134 = .ok (.iload 5, 2) := dk_21 5 (dk_at dksX5_reckonAll_5 15 rfl rfl)
theorem dX5_reckonAll_136 : decode cX5_reckonAll 136 = .ok (.laload, 1) := dk_47 (dk_at dksX5_reckonAll_5 17 rfl rfl)
theorem dX5_reckonAll_137 : decode cX5_reckonAll 137 = .ok (.goto 80, 3) := dk_167 0 80 (dk_at dksX5_reckonAll_5 18 rfl rfl)
theorem dX5_reckonAll_140 : decode cX5_reckonAll 140 = .ok (.iload 5, 2) := dk_21 5 (dk_at dksX5_reckonAll_5 21 rfl rfl)
theorem dX5_reckonAll_142 : decode cX5_reckonAll 142 = .ok (.bipush 6, 2) := dk_16 6 (dk_at dksX5_reckonAll_6 0 rfl rfl)
theorem dX5_reckonAll_144 : decode cX5_reckonAll 144 = .ok (.if_icmp .ge 13, 3) := dk_162 0 13 (dk_at dksX5_reckonAll_6 2 rfl rfl)
theorem dX5_reckonAll_147 : decode cX5_reckonAll 147 = .ok (.aload_n 0, 1) := dk_42 (dk_at dksX5_reckonAll_6 5 rfl rfl)
theorem dX5_reckonAll_148 : decode cX5_reckonAll 148 = .ok (.getfield 106, 3) := dk_180 0 106 (dk_at dksX5_reckonAll_6 6 rfl rfl)
theorem dX5_reckonAll_151 : decode cX5_reckonAll 151 = .ok (.iload 5, 2) := dk_21 5 (dk_at dksX5_reckonAll_6 9 rfl rfl)
theorem dX5_reckonAll_153 : decode cX5_reckonAll 153 = .ok (.laload, 1) := dk_47 (dk_at dksX5_reckonAll_6 11 rfl rfl)
theorem dX5_reckonAll_154 : decode cX5_reckonAll 154 = .ok (.goto 63, 3) := dk_167 0 63 (dk_at dksX5_reckonAll_6 12 rfl rfl)
theorem dX5_reckonAll_157 : decode cX5_reckonAll 157 = .ok (.iload 5, 2) := dk_21 5 (dk_at dksX5_reckonAll_6 15 rfl rfl)
theorem dX5_reckonAll_159 : decode cX5_reckonAll 159 = .ok (.bipush 6, 2) := dk_16 6 (dk_at dksX5_reckonAll_6 17 rfl rfl)
theorem dX5_reckonAll_161 : decode cX5_reckonAll 161 = .ok (.if_icmp .ne 30, 3) := dk_160 0 30 (dk_at dksX5_reckonAll_6 19 rfl rfl)
theorem dX5_reckonAll_164 : decode cX5_reckonAll 164 = .ok (.aload_n 0, 1) := dk_42 (dk_at dksX5_reckonAll_6 22 rfl rfl)
theorem dX5_reckonAll_165 : decode cX5_reckonAll 165 = .ok (.iload 6, 2) := dk_21 6 (dk_at dksX5_reckonAll_7 0 rfl rfl)
theorem dX5_reckonAll_167 : decode cX5_reckonAll 167 = .ok (.invokevirtual 203, 3) := dk_182 0 203 (dk_at dksX5_reckonAll_7 2 rfl rfl)
theorem dX5_reckonAll_170 : decode cX5_reckonAll 170 = .ok (.ifCond .eq 16, 3) := dk_153 0 16 (dk_at dksX5_reckonAll_7 5 rfl rfl)
theorem dX5_reckonAll_173 : decode cX5_reckonAll 173 = .ok (.aload_n 0, 1) := dk_42 (dk_at dksX5_reckonAll_7 8 rfl rfl)
theorem dX5_reckonAll_174 : decode cX5_reckonAll 174 = .ok (.getfield 13, 3) := dk_180 0 13 (dk_at dksX5_reckonAll_7 9 rfl rfl)
theorem dX5_reckonAll_177 : decode cX5_reckonAll 177 = .ok (.bipush 18, 2) := dk_16 18 (dk_at dksX5_reckonAll_7 12 rfl rfl)
theorem dX5_reckonAll_179 : decode cX5_reckonAll 179 = .ok (.iload 6, 2) := dk_21 6 (dk_at dksX5_reckonAll_7 14 rfl rfl)
theorem dX5_reckonAll_181 : decode cX5_reckonAll 181 = .ok (.iadd, 1) := dk_96 (dk_at dksX5_reckonAll_7 16 rfl rfl)
theorem dX5_reckonAll_182 : decode cX5_reckonAll 182 = .ok (.iaload, 1) := dk_46 (dk_at dksX5_reckonAll_7 17 rfl rfl)
theorem dX5_reckonAll_183 : decode cX5_reckonAll 183 = .ok (.goto 4, 3) := dk_167 0 4 (dk_at dksX5_reckonAll_7 18 rfl rfl)
theorem dX5_reckonAll_186 : decode cX5_reckonAll 186 = .ok (.iconst (-1), 1) := dk_2 (dk_at dksX5_reckonAll_7 21 rfl rfl)
theorem dX5_reckonAll_187 : decode cX5_reckonAll 187 = .ok (.i2l, 1) := dk_133 (dk_at dksX5_reckonAll_7 22 rfl rfl)
theorem dX5_reckonAll_188 : decode cX5_reckonAll 188 = .ok (.goto 29, 3) := dk_167 0 29 (dk_at dksX5_reckonAll_8 0 rfl rfl)
theorem dX5_reckonAll_191 : decode cX5_reckonAll 191 = .ok (.aload_n 0, 1) := dk_42 (dk_at dksX5_reckonAll_8 3 rfl rfl)
theorem dX5_reckonAll_192 : decode cX5_reckonAll 192 = .ok (.iload 6, 2) := dk_21 6 (dk_at dksX5_reckonAll_8 4 rfl rfl)
theorem dX5_reckonAll_194 : decode cX5_reckonAll 194 = .ok (.invokevirtual 200, 3) := dk_182 0 200 (dk_at dksX5_reckonAll_8 6 rfl rfl)
theorem dX5_reckonAll_197 : decode cX5_reckonAll 197 = .ok (.ifCond .eq 17, 3) := dk_153 0 17 (dk_at dksX5_reckonAll_8 9 rfl rfl)
theorem dX5_reckonAll_200 : decode cX5_reckonAll 200 = .ok (.aload_n 0, 1) := dk_42 (dk_at dksX5_reckonAll_8 12 rfl rfl)
theorem dX5_reckonAll_201 : decode cX5_reckonAll 201 = .ok (.getfield 13, 3) := dk_180 0 13 (dk_at dksX5_reckonAll_8 13 rfl rfl)
theorem dX5_reckonAll_204 : decode cX5_reckonAll 204 = .ok (.bipush 8, 2) := dk_16 8 (dk_at dksX5_reckonAll_8 16 rfl rfl)
theorem dX5_reckonAll_206 : decode cX5_reckonAll 206 = .ok (.iload 6, 2) := dk_21 6 (dk_at dksX5_reckonAll_8 18 rfl rfl)
theorem dX5_reckonAll_208 : decode cX5_reckonAll 208 = .ok (.iadd, 1) := dk_96 (dk_at dksX5_reckonAll_8 20 rfl rfl)
theorem dX5_reckonAll_209 : decode cX5_reckonAll 209 = .ok (.iaload, 1) := dk_46 (dk_at dksX5_reckonAll_8 21 rfl rfl)
theorem dX5_reckonAll_210 : decode cX5_reckonAll 210 = .ok (.i2l, 1) := dk_133 (dk_at dksX5_reckonAll_8 22 rfl rfl)
theorem dX5_reckonAll_211 : decode cX5_reckonAll 211 = .ok (.goto 6, 3) := dk_167 0 6 (dk_at dksX5_reckonAll_9 0 rfl rfl)
theorem dX5_reckonAll_214 : decode cX5_reckonAll 214 = .ok (.ldc2_w 266, 3) := dk_20 1 10 (dk_at dksX5_reckonAll_9 3 rfl rfl)
theorem dX5_reckonAll_217 : decode cX5_reckonAll 217 = .ok (.lastore, 1) := dk_80 (dk_at dksX5_reckonAll_9 6 rfl rfl)
theorem dX5_reckonAll_218 : decode cX5_reckonAll 218 = .ok (.iinc 3 1, 3) := dk_132 3 1 (dk_at dksX5_reckonAll_9 7 rfl rfl)
theorem dX5_reckonAll_221 : decode cX5_reckonAll 221 = .ok (.goto 142, 3) := dk_167 0 142 (dk_at dksX5_reckonAll_9 10 rfl rfl)
theorem dX5_reckonAll_224 : decode cX5_reckonAll 224 = .ok (.iload 5, 2) := dk_21 5 (dk_at dksX5_reckonAll_9 13 rfl rfl)
theorem dX5_reckonAll_226 : decode cX5_reckonAll 226 = .ok (.bipush 28, 2) := dk_16 28 (dk_at dksX5_reckonAll_9 15 rfl rfl)
theorem dX5_reckonAll_228 : decode cX5_reckonAll 228 = .ok (.if_icmp .ge 73, 3) := dk_162 0 73 (dk_at dksX5_reckonAll_9 17 rfl rfl)
theorem dX5_reckonAll_231 : decode cX5_reckonAll 231 = .ok (.iinc 3 (-1), 3) := dk_132 3 255 (dk_at dksX5_reckonAll_9 20 rfl rfl)
theorem dX5_reckonAll_234 : decode cX5_reckonAll 234 = .ok (.aload_n 0, 1) := dk_42 (dk_at dksX5_reckonAll_9 23 rfl rfl)
theorem dX5_reckonAll_235 : decode cX5_reckonAll 235 = .ok (.getfield 109, 3) := dk_180 0 109 (dk_at dksX5_reckonAll_10 0 rfl rfl)
theorem dX5_reckonAll_238 : decode cX5_reckonAll 238 = .ok (.iload_n 3, 1) := dk_29 (dk_at dksX5_reckonAll_10 3 rfl rfl)
theorem dX5_reckonAll_239 : decode cX5_reckonAll 239 = .ok (.iconst 1, 1) := dk_4 (dk_at dksX5_reckonAll_10 4 rfl rfl)
theorem dX5_reckonAll_240 : decode cX5_reckonAll 240 = .ok (.isub, 1) := dk_100 (dk_at dksX5_reckonAll_10 5 rfl rfl)
theorem dX5_reckonAll_241 : decode cX5_reckonAll 241 = .ok (.aload_n 0, 1) := dk_42 (dk_at dksX5_reckonAll_10 6 rfl rfl)
theorem dX5_reckonAll_242 : decode cX5_reckonAll 242 = .ok (.iload 5, 2) := dk_21 5 (dk_at dksX5_reckonAll_10 7 rfl rfl)
theorem dX5_reckonAll_244 : decode cX5_reckonAll 244 = .ok (.aload_n 0, 1) := dk_42 (dk_at dksX5_reckonAll_10 9 rfl rfl)
theorem dX5_reckonAll_245 : decode cX5_reckonAll 245 = .ok (.getfield 109, 3) := dk_180 0 109 (dk_at dksX5_reckonAll_10 10 rfl rfl)
theorem dX5_reckonAll_248 : decode cX5_reckonAll 248 = .ok (.iload_n 3, 1) := dk_29 (dk_at dksX5_reckonAll_10 13 rfl rfl)
theorem dX5_reckonAll_249 : decode cX5_reckonAll 249 = .ok (.iconst 1, 1) := dk_4 (dk_at dksX5_reckonAll_10 14 rfl rfl)
theorem dX5_reckonAll_250 : decode cX5_reckonAll 250 = .ok (.isub, 1) := dk_100 (dk_at dksX5_reckonAll_10 15 rfl rfl)
theorem dX5_reckonAll_251 : decode cX5_reckonAll 251 = .ok (.laload, 1) := dk_47 (dk_at dksX5_reckonAll_10 16 rfl rfl)
theorem dX5_reckonAll_252 : decode cX5_reckonAll 252 = .ok (.aload_n 0, 1) := dk_42 (dk_at dksX5_reckonAll_10 17 rfl rfl)
theorem dX5_reckonAll_253 : decode cX5_reckonAll 253 = .ok (.getfield 109, 3) := dk_180 0 109 (dk_at dksX5_reckonAll_10 18 rfl rfl)
theorem dX5_reckonAll_256 : decode cX5_reckonAll 256 = .ok (.iload_n 3, 1) := dk_29 (dk_at dksX5_reckonAll_10 21 rfl rfl)
theorem dX5_reckonAll_257 : decode cX5_reckonAll 257 = .ok (.laload, 1) := dk_47 (dk_at dksX5_reckonAll_10 22 rfl rfl)
theorem dX5_reckonAll_258 : decode cX5_reckonAll 258 = .ok (.invokevirtual 396, 3) := dk_182 1 140 (dk_at dksX5_reckonAll_11 0 rfl rfl)
theorem dX5_reckonAll_261 : decode cX5_reckonAll 261 = .ok (.lastore, 1) := dk_80 (dk_at dksX5_reckonAll_11 3 rfl rfl)
theorem dX5_reckonAll_262 : decode cX5_reckonAll 262 = .ok (.aload_n 0, 1) := dk_42 (dk_at dksX5_reckonAll_11 4 rfl rfl)
theorem dX5_reckonAll_263 : decode cX5_reckonAll 263 = .ok (.aload_n 0, 1) := dk_42 (dk_at dksX5_reckonAll_11 5 rfl rfl)
theorem dX5_reckonAll_264 : decode cX5_reckonAll 264 = .ok (.getfield 390, 3) := dk_180 1 134 (dk_at dksX5_reckonAll_11 6 rfl rfl)
theorem dX5_reckonAll_267 : decode cX5_reckonAll 267 = .ok (.ifCond .ne 23, 3) := dk_154 0 23 (dk_at dksX5_reckonAll_11 9 rfl rfl)
theorem dX5_reckonAll_270 : decode cX5_reckonAll 270 = .ok (.aload_n 0, 1) := dk_42 (dk_at dksX5_reckonAll_11 12 rfl rfl)
theorem dX5_reckonAll_271 : decode cX5_reckonAll 271 = .ok (.getfield 109, 3) := dk_180 0 109 (dk_at dksX5_reckonAll_11 13 rfl rfl)
theorem dX5_reckonAll_274 : decode cX5_reckonAll 274 = .ok (.iload_n 3, 1) := dk_29 (dk_at dksX5_reckonAll_11 16 rfl rfl)
theorem dX5_reckonAll_275 : decode cX5_reckonAll 275 = .ok (.iconst 1, 1) := dk_4 (dk_at dksX5_reckonAll_11 17 rfl rfl)
theorem dX5_reckonAll_276 : decode cX5_reckonAll 276 = .ok (.isub, 1) := dk_100 (dk_at dksX5_reckonAll_11 18 rfl rfl)
theorem dX5_reckonAll_277 : decode cX5_reckonAll 277 = .ok (.laload, 1) := dk_47 (dk_at dksX5_reckonAll_11 19 rfl rfl)
theorem dX5_reckonAll_278 : decode cX5_reckonAll 278 = .ok (.ldc2_w 400, 3) := dk_20 1 144 (dk_at dksX5_reckonAll_11 20 rfl rfl)
theorem dX5_reckonAll_281 : decode cX5_reckonAll 281 = .ok (.ldc2_w 402, 3) := dk_20 1 146 (dk_at dksX5_reckonAll_12 0 rfl rfl)
theorem dX5_reckonAll_284 : decode cX5_reckonAll 284 = .ok (.invokestatic 179, 3) := dk_184 0 179 (dk_at dksX5_reckonAll_12 3 rfl rfl)
theorem dX5_reckonAll_287 : decode cX5_reckonAll 287 = .ok (.ifCond .ne 7, 3) := dk_154 0 7 (dk_at dksX5_reckonAll_12 6 rfl rfl)
theorem dX5_reckonAll_290 : decode cX5_reckonAll 290 = .ok (.iconst 1, 1) := dk_4 (dk_at dksX5_reckonAll_12 9 rfl rfl)
theorem dX5_reckonAll_291 : decode cX5_reckonAll 291 = .ok (.goto 4, 3) := dk_167 0 4 (dk_at dksX5_reckonAll_12 10 rfl rfl)
theorem dX5_reckonAll_294 : decode cX5_reckonAll 294 = .ok (.iconst 0, 1) := dk_3 (dk_at dksX5_reckonAll_12 13 rfl rfl)
theorem dX5_reckonAll_295 : decode cX5_reckonAll 295 = .ok (.putfield 390, 3) := dk_181 1 134 (dk_at dksX5_reckonAll_12 14 rfl rfl)
theorem dX5_reckonAll_298 : decode cX5_reckonAll 298 = .ok (.goto 65, 3) := dk_167 0 65 (dk_at dksX5_reckonAll_12 17 rfl rfl)
theorem dX5_reckonAll_301 : decode cX5_reckonAll 301 = .ok (.iload 5, 2) := dk_21 5 (dk_at dksX5_reckonAll_12 20 rfl rfl)
theorem dX5_reckonAll_303 : decode cX5_reckonAll 303 = .ok (.bipush 28, 2) := dk_16 28 (dk_at dksX5_reckonAll_12 22 rfl rfl)
theorem dX5_reckonAll_305 : decode cX5_reckonAll 305 = .ok (.if_icmp .ne 24, 3) := dk_160 0 24 (dk_at dksX5_reckonAll_13 0 rfl rfl)
theorem dX5_reckonAll_308 : decode cX5_reckonAll 308 = .ok (.aload_n 0, 1) := dk_42 (dk_at dksX5_reckonAll_13 3 rfl rfl)
theorem dX5_reckonAll_309 : decode cX5_reckonAll 309 = .ok (.getfield 109, 3) := dk_180 0 109 (dk_at dksX5_reckonAll_13 4 rfl rfl)
theorem dX5_reckonAll_312 : decode cX5_reckonAll 312 = .ok (.iload_n 3, 1) := dk_29 (dk_at dksX5_reckonAll_13 7 rfl rfl)
theorem dX5_reckonAll_313 : decode cX5_reckonAll 313 = .ok (.iconst 1, 1) := dk_4 (dk_at dksX5_reckonAll_13 8 rfl rfl)
theorem dX5_reckonAll_314 : decode cX5_reckonAll 314 = .ok (.isub, 1) := dk_100 (dk_at dksX5_reckonAll_13 9 rfl rfl)
theorem dX5_reckonAll_315 : decode cX5_reckonAll 315 = .ok (.lconst 1, 1) := dk_10 (dk_at dksX5_reckonAll_13 10 rfl rfl)
theorem dX5_reckonAll_316 : decode cX5_reckonAll 316 = .ok (.aload_n 0, 1) := dk_42 (dk_at dksX5_reckonAll_13 11 rfl rfl)
theorem dX5_reckonAll_317 : decode cX5_reckonAll 317 = .ok (.getfield 109, 3) := dk_180 0 109 (dk_at dksX5_reckonAll_13 12 rfl rfl)
theorem dX5_reckonAll_320 : decode cX5_reckonAll 320 = .ok (.iload_n 3, 1) := dk_29 (dk_at dksX5_reckonAll_13 15 rfl rfl)
theorem dX5_reckonAll_321 : decode cX5_reckonAll 321 = .ok (.iconst 1, 1) := dk_4 (dk_at dksX5_reckonAll_13 16 rfl rfl)
theorem dX5_reckonAll_322 : decode cX5_reckonAll 322 = .ok (.isub, 1) := dk_100 (dk_at dksX5_reckonAll_13 17 rfl rfl)
theorem dX5_reckonAll_323 : decode cX5_reckonAll 323 = .ok (.laload, 1) := dk_47 (dk_at dksX5_reckonAll_13 18 rfl rfl)
theorem dX5_reckonAll_324 : decode cX5_reckonAll 324 = .ok (.lsub, 1) := dk_101 (dk_at dksX5_reckonAll_13 19 rfl rfl)
theorem dX5_reckonAll_325 : decode cX5_reckonAll 325 = .ok (.lastore, 1) := dk_80 (dk_at dksX5_reckonAll_13 20 rfl rfl)
theorem dX5_reckonAll_326 : decode cX5_reckonAll 326 = .ok (.goto 37, 3) := dk_167 0 37 (dk_at dksX5_reckonAll_13 21 rfl rfl)
theorem dX5_reckonAll_329 : decode cX5_reckonAll 329 = .ok (.aload_n 0, 1) := dk_42 (dk_at dksX5_reckonAll_14 0 rfl rfl)
theorem dX5_reckonAll_330 : decode cX5_reckonAll 330 = .ok (.getfield 109, 3) := dk_180 0 109 (dk_at dksX5_reckonAll_14 1 rfl rfl)
theorem dX5_reckonAll_333 : decode cX5_reckonAll 333 = .ok (.iload_n 3, 1) := dk_29 (dk_at dksX5_reckonAll_14 4 rfl rfl)
theorem dX5_reckonAll_334 : decode cX5_reckonAll 334 = .ok (.iconst 1, 1) := dk_4 (dk_at dksX5_reckonAll_14 5 rfl rfl)
theorem dX5_reckonAll_335 : decode cX5_reckonAll 335 = .ok (.isub, 1) := dk_100 (dk_at dksX5_reckonAll_14 6 rfl rfl)
theorem dX5_reckonAll_336 : decode cX5_reckonAll 336 = .ok (.laload, 1) := dk_47 (dk_at dksX5_reckonAll_14 7 rfl rfl)
theorem dX5_reckonAll_337 : decode cX5_reckonAll 337 = .ok (.iload 5, 2) := dk_21 5 (dk_at dksX5_reckonAll_14 8 rfl rfl)
theorem dX5_reckonAll_339 : decode cX5_reckonAll 339 = .ok (.bipush 29, 2) := dk_16 29 (dk_at dksX5_reckonAll_14 10 rfl rfl)
theorem dX5_reckonAll_341 : decode cX5_reckonAll 341 = .ok (.if_icmp .ne 7, 3) := dk_160 0 7 (dk_at dksX5_reckonAll_14 12 rfl rfl)
theorem dX5_reckonAll_344 : decode cX5_reckonAll 344 = .ok (.lconst 0, 1) := dk_9 (dk_at dksX5_reckonAll_14 15 rfl rfl)
theorem dX5_reckonAll_345 : decode cX5_reckonAll 345 = .ok (.goto 4, 3) := dk_167 0 4 (dk_at dksX5_reckonAll_14 16 rfl rfl)
theorem dX5_reckonAll_348 : decode cX5_reckonAll 348 = .ok (.lconst 1, 1) := dk_10 (dk_at dksX5_reckonAll_14 19 rfl rfl)
theorem dX5_reckonAll_349 : decode cX5_reckonAll 349 = .ok (.lcmp, 1) := dk_148 (dk_at dksX5_reckonAll_14 20 rfl rfl)
theorem dX5_reckonAll_350 : decode cX5_reckonAll 350 = .ok (.ifCond .ne 10, 3) := dk_154 0 10 (dk_at dksX5_reckonAll_14 21 rfl rfl)
theorem dX5_reckonAll_353 : decode cX5_reckonAll 353 = .ok (.iload 6, 2) := dk_21 6 (dk_at dksX5_reckonAll_15 0 rfl rfl)
theorem dX5_reckonAll_355 : decode cX5_reckonAll 355 = .ok (.istore 4, 2) := dk_54 4 (dk_at dksX5_reckonAll_15 2 rfl rfl)
theorem dX5_reckonAll_357 : decode cX5_reckonAll 357 = .ok (.goto 6, 3) := dk_167 0 6 (dk_at dksX5_reckonAll_15 4 rfl rfl)
theorem dX5_reckonAll_360 : decode cX5_reckonAll 360 = .ok (.iinc 3 (-1), 3) := dk_132 3 255 (dk_at dksX5_reckonAll_15 7 rfl rfl)
theorem dX5_reckonAll_363 : decode cX5_reckonAll 363 = .ok (.goto (-353), 3) := dk_167 254 159 (dk_at dksX5_reckonAll_15 10 rfl rfl)
theorem dX5_reckonAll_366 : decode cX5_reckonAll 366 = .ok (.aload_n 0, 1) := dk_42 (dk_at dksX5_reckonAll_15 13 rfl rfl)
theorem dX5_reckonAll_367 : decode cX5_reckonAll 367 = .ok (.iload_n 3, 1) := dk_29 (dk_at dksX5_reckonAll_15 14 rfl rfl)
theorem dX5_reckonAll_368 : decode cX5_reckonAll 368 = .ok (.ifCond .le 12, 3) := dk_158 0 12 (dk_at dksX5_reckonAll_15 15 rfl rfl)
theorem dX5_reckonAll_371 : decode cX5_reckonAll 371 = .ok (.aload_n 0, 1) := dk_42 (dk_at dksX5_reckonAll_15 18 rfl rfl)
theorem dX5_reckonAll_372 : decode cX5_reckonAll 372 = .ok (.getfield 109, 3) := dk_180 0 109 (dk_at dksX5_reckonAll_15 19 rfl rfl)
theorem dX5_reckonAll_375 : decode cX5_reckonAll 375 = .ok (.iconst 0, 1) := dk_3 (dk_at dksX5_reckonAll_15 22 rfl rfl)
theorem dX5_reckonAll_376 : decode cX5_reckonAll 376 = .ok (.laload, 1) := dk_47 (dk_at dksX5_reckonAll_15 23 rfl rfl)
theorem dX5_reckonAll_377 : decode cX5_reckonAll 377 = .ok (.goto 4, 3) := dk_167 0 4 (dk_at dksX5_reckonAll_16 0 rfl rfl)
theorem dX5_reckonAll_380 : decode cX5_reckonAll 380 = .ok (.lconst 0, 1) := dk_9 (dk_at dksX5_reckonAll_16 3 rfl rfl)
theorem dX5_reckonAll_381 : decode cX5_reckonAll 381 = .ok (.putfield 404, 3) := dk_181 1 148 (dk_at dksX5_reckonAll_16 4 rfl rfl)
theorem dX5_reckonAll_384 : decode cX5_reckonAll 384 = .ok (.return_, 1) := dk_177 (dk_at dksX5_reckonAll_16 7 rfl rfl)
abbrev cX5_reckon : ByteArray := prog_22_method_64_code
def yX5_reckon : MethodName := ⟨RX5, "reckon", "(IJJ)J"⟩
def dkwX5_reckon_6 : List UInt8 := [148, 158, 0, 7, 10, 167, 0, 4, 9, 173, 32, 22, 4, 148, 154, 0, 7, 10, 167, 0, 4, 9, 173]
abbrev dktX5_reckon_6 : List UInt8 := dkwX5_reckon_6 ++ []
def dkwX5_reckon_5 : List UInt8 := [167, 0, 7, 32, 22, 4, 113, 173, 32, 22, 4, 148, 156, 0, 7, 10, 167, 0, 4, 9, 173, 32, 22, 4]
abbrev dktX5_reckon_5 : List UInt8 := dkwX5_reckon_5 ++ dktX5_reckon_6
def dkwX5_reckon_4 : List UInt8 := [22, 4, 9, 148, 154, 0, 7, 4, 167, 0, 4, 3, 181, 1, 134, 42, 180, 1, 134, 153, 0, 7, 9]
abbrev dktX5_reckon_4 : List UInt8 := dkwX5_reckon_4 ++ dktX5_reckon_5
def dkwX5_reckon_3 : List UInt8 := [167, 0, 4, 3, 181, 1, 134, 42, 180, 1, 134, 153, 0, 7, 9, 167, 0, 7, 32, 22, 4, 109, 173, 42]
abbrev dktX5_reckon_3 : List UInt8 := dkwX5_reckon_3 ++ dktX5_reckon_4
def dkwX5_reckon_2 : List UInt8 := [32, 22, 4, 97, 173, 32, 22, 4, 101, 173, 32, 22, 4, 105, 173, 42, 22, 4, 9, 148, 154, 0, 7, 4]
abbrev dktX5_reckon_2 : List UInt8 := dkwX5_reckon_2 ++ dktX5_reckon_3
def dkwX5_reckon_1 : List UInt8 := [170, 0, 0, 0, 0, 0, 148, 0, 0, 0, 20, 0, 0, 0, 26, 0, 0, 0, 43, 0, 0, 0, 48, 0, 0, 0, 53, 0, 0, 0, 58, 0, 0, 0, 90, 0, 0, 0, 122, 0, 0, 0, 135]
abbrev dktX5_reckon_1 : List UInt8 := dkwX5_reckon_1 ++ dktX5_reckon_2
def dkwX5_reckon_0 : List UInt8 := [27]
abbrev dktX5_reckon_0 : List UInt8 := dkwX5_reckon_0 ++ dktX5_reckon_1
theorem dksX5_reckon_0 : cX5_reckon.data.toList.drop 0 = dktX5_reckon_0 := by decide +kernel
theorem dksX5_reckon_1 : cX5_reckon.data.toList.drop 1 = dktX5_reckon_1 := dk_seg dksX5_reckon_0 1 rfl rfl
theorem dksX5_reckon_2 : cX5_reckon.data.toList.drop 44 = dktX5_reckon_2 := dk_seg dksX5_reckon_1 43 rfl rfl
theorem dksX5_reckon_3 : cX5_reckon.data.toList.drop 68 = dktX5_reckon_3 := dk_seg dksX5_reckon_2 24 rfl rfl
theorem dksX5_reckon_4 : cX5_reckon.data.toList.drop 92 = dktX5_reckon_4 := dk_seg dksX5_reckon_3 24 rfl rfl
theorem dksX5_reckon_5 : cX5_reckon.data.toList.drop 115 = dktX5_reckon_5 := dk_seg dksX5_reckon_4 23 rfl rfl
theorem dksX5_reckon_6 : cX5_reckon.data.toList.drop 139 = dktX5_reckon_6 := dk_seg dksX5_reckon_5 24 rfl rfl
theorem dX5_reckon_0 : decode cX5_reckon 0 = .ok (.iload_n 1, 1) := dk_27 (dk_at dksX5_reckon_0 0 rfl rfl)
theorem dX5_reckon_1 : decode cX5_reckon 1 = .ok (.tableswitch 148 20 26 #[43, 48, 53, 58, 90, 122, 135], 43) := by decide +kernel
theorem dX5_reckon_44 : decode cX5_reckon 44 = .ok (.lload_n 2, 1) := dk_32 (dk_at dksX5_reckon_2 0 rfl rfl)
theorem dX5_reckon_45 : decode cX5_reckon 45 = .ok (.lload 4, 2) := dk_22 4 (dk_at dksX5_reckon_2 1 rfl rfl)
theorem dX5_reckon_47 : decode cX5_reckon 47 = .ok (.ladd, 1) := dk_97 (dk_at dksX5_reckon_2 3 rfl rfl)
theorem dX5_reckon_48 : decode cX5_reckon 48 = .ok (.lreturn, 1) := dk_173 (dk_at dksX5_reckon_2 4 rfl rfl)
theorem dX5_reckon_49 : decode cX5_reckon 49 = .ok (.lload_n 2, 1) := dk_32 (dk_at dksX5_reckon_2 5 rfl rfl)
theorem dX5_reckon_50 : decode cX5_reckon 50 = .ok (.lload 4, 2) := dk_22 4 (dk_at dksX5_reckon_2 6 rfl rfl)
theorem dX5_reckon_52 : decode cX5_reckon 52 = .ok (.lsub, 1) := dk_101 (dk_at dksX5_reckon_2 8 rfl rfl)
theorem dX5_reckon_53 : decode cX5_reckon 53 = .ok (.lreturn, 1) := dk_173 (dk_at dksX5_reckon_2 9 rfl rfl)
theorem dX5_reckon_54 : decode cX5_reckon 54 = .ok (.lload_n 2, 1) := dk_32 (dk_at dksX5_reckon_2 10 rfl rfl)
theorem dX5_reckon_55 : decode cX5_reckon 55 = .ok (.lload 4, 2) := dk_22 4 (dk_at dksX5_reckon_2 11 rfl rfl)
theorem dX5_reckon_57 : decode cX5_reckon 57 = .ok (.lmul, 1) := dk_105 (dk_at dksX5_reckon_2 13 rfl rfl)
theorem dX5_reckon_58 : decode cX5_reckon 58 = .ok (.lreturn, 1) := dk_173 (dk_at dksX5_reckon_2 14 rfl rfl)
theorem dX5_reckon_59 : decode cX5_reckon 59 = .ok (.aload_n 0, 1) := dk_42 (dk_at dksX5_reckon_2 15 rfl rfl)
theorem dX5_reckon_60 : decode cX5_reckon 60 = .ok (.lload 4, 2) := dk_22 4 (dk_at dksX5_reckon_2 16 rfl rfl)
theorem dX5_reckon_62 : decode cX5_reckon 62 = .ok (.lconst 0, 1) := dk_9 (dk_at dksX5_reckon_2 18 rfl rfl)
theorem dX5_reckon_63 : decode cX5_reckon 63 = .ok (.lcmp, 1) := dk_148 (dk_at dksX5_reckon_2 19 rfl rfl)
theorem dX5_reckon_64 : decode cX5_reckon 64 = .ok (.ifCond .ne 7, 3) := dk_154 0 7 (dk_at dksX5_reckon_2 20 rfl rfl)
theorem dX5_reckon_67 : decode cX5_reckon 67 = .ok (.iconst 1, 1) := dk_4 (dk_at dksX5_reckon_2 23 rfl rfl)
theorem dX5_reckon_68 : decode cX5_reckon 68 = .ok (.goto 4, 3) := dk_167 0 4 (dk_at dksX5_reckon_3 0 rfl rfl)
theorem dX5_reckon_71 : decode cX5_reckon 71 = .ok (.iconst 0, 1) := dk_3 (dk_at dksX5_reckon_3 3 rfl rfl)
theorem dX5_reckon_72 : decode cX5_reckon 72 = .ok (.putfield 390, 3) := dk_181 1 134 (dk_at dksX5_reckon_3 4 rfl rfl)
theorem dX5_reckon_75 : decode cX5_reckon 75 = .ok (.aload_n 0, 1) := dk_42 (dk_at dksX5_reckon_3 7 rfl rfl)
theorem dX5_reckon_76 : decode cX5_reckon 76 = .ok (.getfield 390, 3) := dk_180 1 134 (dk_at dksX5_reckon_3 8 rfl rfl)
theorem dX5_reckon_79 : decode cX5_reckon 79 = .ok (.ifCond .eq 7, 3) := dk_153 0 7 (dk_at dksX5_reckon_3 11 rfl rfl)
theorem dX5_reckon_82 : decode cX5_reckon 82 = .ok (.lconst 0, 1) := dk_9 (dk_at dksX5_reckon_3 14 rfl rfl)
theorem dX5_reckon_83 : decode cX5_reckon 83 = .ok (.goto 7, 3) := dk_167 0 7 (dk_at dksX5_reckon_3 15 rfl rfl)
theorem dX5_reckon_86 : decode cX5_reckon 86 = .ok (.lload_n 2, 1) := dk_32 (dk_at dksX5_reckon_3 18 rfl rfl)
theorem dX5_reckon_87 : decode cX5_reckon 87 = .ok (.lload 4, 2) := dk_22 4 (dk_at dksX5_reckon_3 19 rfl rfl)
theorem dX5_reckon_89 : decode cX5_reckon 89 = .ok (.ldiv, 1) := dk_109 (dk_at dksX5_reckon_3 21 rfl rfl)
theorem dX5_reckon_90 : decode cX5_reckon 90 = .ok (.lreturn, 1) := dk_173 (dk_at dksX5_reckon_3 22 rfl rfl)
theorem dX5_reckon_91 : decode cX5_reckon 91 = .ok (.aload_n 0, 1) := dk_42 (dk_at dksX5_reckon_3 23 rfl rfl)
theorem dX5_reckon_92 : decode cX5_reckon 92 = .ok (.lload 4, 2) := dk_22 4 (dk_at dksX5_reckon_4 0 rfl rfl)
theorem dX5_reckon_94 : decode cX5_reckon 94 = .ok (.lconst 0, 1) := dk_9 (dk_at dksX5_reckon_4 2 rfl rfl)
theorem dX5_reckon_95 : decode cX5_reckon 95 = .ok (.lcmp, 1) := dk_148 (dk_at dksX5_reckon_4 3 rfl rfl)
theorem dX5_reckon_96 : decode cX5_reckon 96 = .ok (.ifCond .ne 7, 3) := dk_154 0 7 (dk_at dksX5_reckon_4 4 rfl rfl)
theorem dX5_reckon_99 : decode cX5_reckon 99 = .ok (.iconst 1, 1) := dk_4 (dk_at dksX5_reckon_4 7 rfl rfl)
theorem dX5_reckon_100 : decode cX5_reckon 100 = .ok (.goto 4, 3) := dk_167 0 4 (dk_at dksX5_reckon_4 8 rfl rfl)
theorem dX5_reckon_103 : decode cX5_reckon 103 = .ok (.iconst 0, 1) := dk_3 (dk_at dksX5_reckon_4 11 rfl rfl)
theorem dX5_reckon_104 : decode cX5_reckon 104 = .ok (.putfield 390, 3) := dk_181 1 134 (dk_at dksX5_reckon_4 12 rfl rfl)
theorem dX5_reckon_107 : decode cX5_reckon 107 = .ok (.aload_n 0, 1) := dk_42 (dk_at dksX5_reckon_4 15 rfl rfl)
theorem dX5_reckon_108 : decode cX5_reckon 108 = .ok (.getfield 390, 3) := dk_180 1 134 (dk_at dksX5_reckon_4 16 rfl rfl)
theorem dX5_reckon_111 : decode cX5_reckon 111 = .ok (.ifCond .eq 7, 3) := dk_153 0 7 (dk_at dksX5_reckon_4 19 rfl rfl)
theorem dX5_reckon_114 : decode cX5_reckon 114 = .ok (.lconst 0, 1) := dk_9 (dk_at dksX5_reckon_4 22 rfl rfl)
theorem dX5_reckon_115 : decode cX5_reckon 115 = .ok (.goto 7, 3) := dk_167 0 7 (dk_at dksX5_reckon_5 0 rfl rfl)
theorem dX5_reckon_118 : decode cX5_reckon 118 = .ok (.lload_n 2, 1) := dk_32 (dk_at dksX5_reckon_5 3 rfl rfl)
theorem dX5_reckon_119 : decode cX5_reckon 119 = .ok (.lload 4, 2) := dk_22 4 (dk_at dksX5_reckon_5 4 rfl rfl)
theorem dX5_reckon_121 : decode cX5_reckon 121 = .ok (.lrem, 1) := dk_113 (dk_at dksX5_reckon_5 6 rfl rfl)
theorem dX5_reckon_122 : decode cX5_reckon 122 = .ok (.lreturn, 1) := dk_173 (dk_at dksX5_reckon_5 7 rfl rfl)
theorem dX5_reckon_123 : decode cX5_reckon 123 = .ok (.lload_n 2, 1) := dk_32 (dk_at dksX5_reckon_5 8 rfl rfl)
theorem dX5_reckon_124 : decode cX5_reckon 124 = .ok (.lload 4, 2) := dk_22 4 (dk_at dksX5_reckon_5 9 rfl rfl)
theorem dX5_reckon_126 : decode cX5_reckon 126 = .ok (.lcmp, 1) := dk_148 (dk_at dksX5_reckon_5 11 rfl rfl)
theorem dX5_reckon_127 : decode cX5_reckon 127 = .ok (.ifCond .ge 7, 3) := dk_156 0 7 (dk_at dksX5_reckon_5 12 rfl rfl)
theorem dX5_reckon_130 : decode cX5_reckon 130 = .ok (.lconst 1, 1) := dk_10 (dk_at dksX5_reckon_5 15 rfl rfl)
theorem dX5_reckon_131 : decode cX5_reckon 131 = .ok (.goto 4, 3) := dk_167 0 4 (dk_at dksX5_reckon_5 16 rfl rfl)
theorem dX5_reckon_134 : decode cX5_reckon 134 = .ok (.lconst 0, 1) := dk_9 (dk_at dksX5_reckon_5 19 rfl rfl)
theorem dX5_reckon_135 : decode cX5_reckon 135 = .ok (.lreturn, 1) := dk_173 (dk_at dksX5_reckon_5 20 rfl rfl)
theorem dX5_reckon_136 : decode cX5_reckon 136 = .ok (.lload_n 2, 1) := dk_32 (dk_at dksX5_reckon_5 21 rfl rfl)
theorem dX5_reckon_137 : decode cX5_reckon 137 = .ok (.lload 4, 2) := dk_22 4 (dk_at dksX5_reckon_5 22 rfl rfl)
theorem dX5_reckon_139 : decode cX5_reckon 139 = .ok (.lcmp, 1) := dk_148 (dk_at dksX5_reckon_6 0 rfl rfl)
theorem dX5_reckon_140 : decode cX5_reckon 140 = .ok (.ifCond .le 7, 3) := dk_158 0 7 (dk_at dksX5_reckon_6 1 rfl rfl)
theorem dX5_reckon_143 : decode cX5_reckon 143 = .ok (.lconst 1, 1) := dk_10 (dk_at dksX5_reckon_6 4 rfl rfl)
theorem dX5_reckon_144 : decode cX5_reckon 144 = .ok (.goto 4, 3) := dk_167 0 4 (dk_at dksX5_reckon_6 5 rfl rfl)
theorem dX5_reckon_147 : decode cX5_reckon 147 = .ok (.lconst 0, 1) := dk_9 (dk_at dksX5_reckon_6 8 rfl rfl)
theorem dX5_reckon_148 : decode cX5_reckon 148 = .ok (.lreturn, 1) := dk_173 (dk_at dksX5_reckon_6 9 rfl rfl)
theorem dX5_reckon_149 : decode cX5_reckon 149 = .ok (.lload_n 2, 1) := dk_32 (dk_at dksX5_reckon_6 10 rfl rfl)
theorem dX5_reckon_150 : decode cX5_reckon 150 = .ok (.lload 4, 2) := dk_22 4 (dk_at dksX5_reckon_6 11 rfl rfl)
theorem dX5_reckon_152 : decode cX5_reckon 152 = .ok (.lcmp, 1) := dk_148 (dk_at dksX5_reckon_6 13 rfl rfl)
theorem dX5_reckon_153 : decode cX5_reckon 153 = .ok (.ifCond .ne 7, 3) := dk_154 0 7 (dk_at dksX5_reckon_6 14 rfl rfl)
theorem dX5_reckon_156 : decode cX5_reckon 156 = .ok (.lconst 1, 1) := dk_10 (dk_at dksX5_reckon_6 17 rfl rfl)
theorem dX5_reckon_157 : decode cX5_reckon 157 = .ok (.goto 4, 3) := dk_167 0 4 (dk_at dksX5_reckon_6 18 rfl rfl)
theorem dX5_reckon_160 : decode cX5_reckon 160 = .ok (.lconst 0, 1) := dk_9 (dk_at dksX5_reckon_6 21 rfl rfl)
theorem dX5_reckon_161 : decode cX5_reckon 161 = .ok (.lreturn, 1) := dk_173 (dk_at dksX5_reckon_6 22 rfl rfl)
abbrev cX5_bounded : ByteArray := prog_22_method_6_code
def yX5_bounded : MethodName := ⟨RX5, "bounded", "(JII)I"⟩
def dkwX5_bounded_1 : List UInt8 := [172]
abbrev dktX5_bounded_1 : List UInt8 := dkwX5_bounded_1 ++ []
def dkwX5_bounded_0 : List UInt8 := [30, 28, 133, 148, 156, 0, 7, 28, 167, 0, 16, 30, 29, 133, 148, 158, 0, 7, 29, 167, 0, 5, 30, 136]
abbrev dktX5_bounded_0 : List UInt8 := dkwX5_bounded_0 ++ dktX5_bounded_1
theorem dksX5_bounded_0 : cX5_bounded.data.toList.drop 0 = dktX5_bounded_0 := by decide +kernel
theorem dksX5_bounded_1 : cX5_bounded.data.toList.drop 24 = dktX5_bounded_1 := dk_seg dksX5_bounded_0 24 rfl rfl
theorem dX5_bounded_0 : decode cX5_bounded 0 = .ok (.lload_n 0, 1) := dk_30 (dk_at dksX5_bounded_0 0 rfl rfl)
theorem dX5_bounded_1 : decode cX5_bounded 1 = .ok (.iload_n 2, 1) := dk_28 (dk_at dksX5_bounded_0 1 rfl rfl)
theorem dX5_bounded_2 : decode cX5_bounded 2 = .ok (.i2l, 1) := dk_133 (dk_at dksX5_bounded_0 2 rfl rfl)
theorem dX5_bounded_3 : decode cX5_bounded 3 = .ok (.lcmp, 1) := dk_148 (dk_at dksX5_bounded_0 3 rfl rfl)
theorem dX5_bounded_4 : decode cX5_bounded 4 = .ok (.ifCond .ge 7, 3) := dk_156 0 7 (dk_at dksX5_bounded_0 4 rfl rfl)
theorem dX5_bounded_7 : decode cX5_bounded 7 = .ok (.iload_n 2, 1) := dk_28 (dk_at dksX5_bounded_0 7 rfl rfl)
theorem dX5_bounded_8 : decode cX5_bounded 8 = .ok (.goto 16, 3) := dk_167 0 16 (dk_at dksX5_bounded_0 8 rfl rfl)
theorem dX5_bounded_11 : decode cX5_bounded 11 = .ok (.lload_n 0, 1) := dk_30 (dk_at dksX5_bounded_0 11 rfl rfl)
theorem dX5_bounded_12 : decode cX5_bounded 12 = .ok (.iload_n 3, 1) := dk_29 (dk_at dksX5_bounded_0 12 rfl rfl)
theorem dX5_bounded_13 : decode cX5_bounded 13 = .ok (.i2l, 1) := dk_133 (dk_at dksX5_bounded_0 13 rfl rfl)
theorem dX5_bounded_14 : decode cX5_bounded 14 = .ok (.lcmp, 1) := dk_148 (dk_at dksX5_bounded_0 14 rfl rfl)
theorem dX5_bounded_15 : decode cX5_bounded 15 = .ok (.ifCond .le 7, 3) := dk_158 0 7 (dk_at dksX5_bounded_0 15 rfl rfl)
theorem dX5_bounded_18 : decode cX5_bounded 18 = .ok (.iload_n 3, 1) := dk_29 (dk_at dksX5_bounded_0 18 rfl rfl)
theorem dX5_bounded_19 : decode cX5_bounded 19 = .ok (.goto 5, 3) := dk_167 0 5 (dk_at dksX5_bounded_0 19 rfl rfl)
theorem dX5_bounded_22 : decode cX5_bounded 22 = .ok (.lload_n 0, 1) := dk_30 (dk_at dksX5_bounded_0 22 rfl rfl)
theorem dX5_bounded_23 : decode cX5_bounded 23 = .ok (.l2i, 1) := dk_136 (dk_at dksX5_bounded_0 23 rfl rfl)
theorem dX5_bounded_24 : decode cX5_bounded 24 = .ok (.ireturn, 1) := dk_172 (dk_at dksX5_bounded_1 0 rfl rfl)
abbrev cX5_laneOf : ByteArray := prog_22_method_72_code
def yX5_laneOf : MethodName := ⟨RX5, "laneOf", "(I)I"⟩
def dkwX5_laneOf_4 : List UInt8 := [132, 5, 1, 167, 255, 216, 21, 4, 172]
abbrev dktX5_laneOf_4 : List UInt8 := dkwX5_laneOf_4 ++ []
def dkwX5_laneOf_3 : List UInt8 := [182, 1, 171, 153, 0, 19, 29, 154, 0, 8, 21, 5, 167, 0, 5, 21, 4, 54, 4, 132, 3, 255]
abbrev dktX5_laneOf_3 : List UInt8 := dkwX5_laneOf_3 ++ dktX5_laneOf_4
def dkwX5_laneOf_2 : List UInt8 := [28, 112, 62, 2, 54, 4, 3, 54, 5, 21, 5, 42, 180, 0, 13, 3, 46, 162, 0, 35, 42, 27, 21, 5]
abbrev dktX5_laneOf_2 : List UInt8 := dkwX5_laneOf_2 ++ dktX5_laneOf_3
def dkwX5_laneOf_1 : List UInt8 := [4, 167, 0, 4, 3, 96, 61, 132, 3, 1, 167, 255, 226, 28, 154, 0, 5, 2, 172, 42, 27, 182, 0, 206]
abbrev dktX5_laneOf_1 : List UInt8 := dkwX5_laneOf_1 ++ dktX5_laneOf_2
def dkwX5_laneOf_0 : List UInt8 := [3, 61, 3, 62, 29, 42, 180, 0, 13, 3, 46, 162, 0, 26, 28, 42, 27, 29, 182, 1, 171, 153, 0, 7]
abbrev dktX5_laneOf_0 : List UInt8 := dkwX5_laneOf_0 ++ dktX5_laneOf_1
theorem dksX5_laneOf_0 : cX5_laneOf.data.toList.drop 0 = dktX5_laneOf_0 := by decide +kernel
theorem dksX5_laneOf_1 : cX5_laneOf.data.toList.drop 24 = dktX5_laneOf_1 := dk_seg dksX5_laneOf_0 24 rfl rfl
theorem dksX5_laneOf_2 : cX5_laneOf.data.toList.drop 48 = dktX5_laneOf_2 := dk_seg dksX5_laneOf_1 24 rfl rfl
theorem dksX5_laneOf_3 : cX5_laneOf.data.toList.drop 72 = dktX5_laneOf_3 := dk_seg dksX5_laneOf_2 24 rfl rfl
theorem dksX5_laneOf_4 : cX5_laneOf.data.toList.drop 94 = dktX5_laneOf_4 := dk_seg dksX5_laneOf_3 22 rfl rfl
theorem dX5_laneOf_0 : decode cX5_laneOf 0 = .ok (.iconst 0, 1) := dk_3 (dk_at dksX5_laneOf_0 0 rfl rfl)
theorem dX5_laneOf_1 : decode cX5_laneOf 1 = .ok (.istore_n 2, 1) := dk_61 (dk_at dksX5_laneOf_0 1 rfl rfl)
theorem dX5_laneOf_2 : decode cX5_laneOf 2 = .ok (.iconst 0, 1) := dk_3 (dk_at dksX5_laneOf_0 2 rfl rfl)
theorem dX5_laneOf_3 : decode cX5_laneOf 3 = .ok (.istore_n 3, 1) := dk_62 (dk_at dksX5_laneOf_0 3 rfl rfl)
theorem dX5_laneOf_4 : decode cX5_laneOf 4 = .ok (.iload_n 3, 1) := dk_29 (dk_at dksX5_laneOf_0 4 rfl rfl)
theorem dX5_laneOf_5 : decode cX5_laneOf 5 = .ok (.aload_n 0, 1) := dk_42 (dk_at dksX5_laneOf_0 5 rfl rfl)
theorem dX5_laneOf_6 : decode cX5_laneOf 6 = .ok (.getfield 13, 3) := dk_180 0 13 (dk_at dksX5_laneOf_0 6 rfl rfl)
theorem dX5_laneOf_9 : decode cX5_laneOf 9 = .ok (.iconst 0, 1) := dk_3 (dk_at dksX5_laneOf_0 9 rfl rfl)
theorem dX5_laneOf_10 : decode cX5_laneOf 10 = .ok (.iaload, 1) := dk_46 (dk_at dksX5_laneOf_0 10 rfl rfl)
theorem dX5_laneOf_11 : decode cX5_laneOf 11 = .ok (.if_icmp .ge 26, 3) := dk_162 0 26 (dk_at dksX5_laneOf_0 11 rfl rfl)
theorem dX5_laneOf_14 : decode cX5_laneOf 14 = .ok (.iload_n 2, 1) := dk_28 (dk_at dksX5_laneOf_0 14 rfl rfl)
theorem dX5_laneOf_15 : decode cX5_laneOf 15 = .ok (.aload_n 0, 1) := dk_42 (dk_at dksX5_laneOf_0 15 rfl rfl)
theorem dX5_laneOf_16 : decode cX5_laneOf 16 = .ok (.iload_n 1, 1) := dk_27 (dk_at dksX5_laneOf_0 16 rfl rfl)
theorem dX5_laneOf_17 : decode cX5_laneOf 17 = .ok (.iload_n 3, 1) := dk_29 (dk_at dksX5_laneOf_0 17 rfl rfl)
theorem dX5_laneOf_18 : decode cX5_laneOf 18 = .ok (.invokevirtual 427, 3) := dk_182 1 171 (dk_at dksX5_laneOf_0 18 rfl rfl)
theorem dX5_laneOf_21 : decode cX5_laneOf 21 = .ok (.ifCond .eq 7, 3) := dk_153 0 7 (dk_at dksX5_laneOf_0 21 rfl rfl)
theorem dX5_laneOf_24 : decode cX5_laneOf 24 = .ok (.iconst 1, 1) := dk_4 (dk_at dksX5_laneOf_1 0 rfl rfl)
theorem dX5_laneOf_25 : decode cX5_laneOf 25 = .ok (.goto 4, 3) := dk_167 0 4 (dk_at dksX5_laneOf_1 1 rfl rfl)
theorem dX5_laneOf_28 : decode cX5_laneOf 28 = .ok (.iconst 0, 1) := dk_3 (dk_at dksX5_laneOf_1 4 rfl rfl)
theorem dX5_laneOf_29 : decode cX5_laneOf 29 = .ok (.iadd, 1) := dk_96 (dk_at dksX5_laneOf_1 5 rfl rfl)
theorem dX5_laneOf_30 : decode cX5_laneOf 30 = .ok (.istore_n 2, 1) := dk_61 (dk_at dksX5_laneOf_1 6 rfl rfl)
theorem dX5_laneOf_31 : decode cX5_laneOf 31 = .ok (.iinc 3 1, 3) := dk_132 3 1 (dk_at dksX5_laneOf_1 7 rfl rfl)
theorem dX5_laneOf_34 : decode cX5_laneOf 34 = .ok (.goto (-30), 3) := dk_167 255 226 (dk_at dksX5_laneOf_1 10 rfl rfl)
theorem dX5_laneOf_37 : decode cX5_laneOf 37 = .ok (.iload_n 2, 1) := dk_28 (dk_at dksX5_laneOf_1 13 rfl rfl)
theorem dX5_laneOf_38 : decode cX5_laneOf 38 = .ok (.ifCond .ne 5, 3) := dk_154 0 5 (dk_at dksX5_laneOf_1 14 rfl rfl)
theorem dX5_laneOf_41 : decode cX5_laneOf 41 = .ok (.iconst (-1), 1) := dk_2 (dk_at dksX5_laneOf_1 17 rfl rfl)
theorem dX5_laneOf_42 : decode cX5_laneOf 42 = .ok (.ireturn, 1) := dk_172 (dk_at dksX5_laneOf_1 18 rfl rfl)
theorem dX5_laneOf_43 : decode cX5_laneOf 43 = .ok (.aload_n 0, 1) := dk_42 (dk_at dksX5_laneOf_1 19 rfl rfl)
theorem dX5_laneOf_44 : decode cX5_laneOf 44 = .ok (.iload_n 1, 1) := dk_27 (dk_at dksX5_laneOf_1 20 rfl rfl)
theorem dX5_laneOf_45 : decode cX5_laneOf 45 = .ok (.invokevirtual 206, 3) := dk_182 0 206 (dk_at dksX5_laneOf_1 21 rfl rfl)
theorem dX5_laneOf_48 : decode cX5_laneOf 48 = .ok (.iload_n 2, 1) := dk_28 (dk_at dksX5_laneOf_2 0 rfl rfl)
theorem dX5_laneOf_49 : decode cX5_laneOf 49 = .ok (.irem, 1) := dk_112 (dk_at dksX5_laneOf_2 1 rfl rfl)
theorem dX5_laneOf_50 : decode cX5_laneOf 50 = .ok (.istore_n 3, 1) := dk_62 (dk_at dksX5_laneOf_2 2 rfl rfl)
theorem dX5_laneOf_51 : decode cX5_laneOf 51 = .ok (.iconst (-1), 1) := dk_2 (dk_at dksX5_laneOf_2 3 rfl rfl)
theorem dX5_laneOf_52 : decode cX5_laneOf 52 = .ok (.istore 4, 2) := dk_54 4 (dk_at dksX5_laneOf_2 4 rfl rfl)
theorem dX5_laneOf_54 : decode cX5_laneOf 54 = .ok (.iconst 0, 1) := dk_3 (dk_at dksX5_laneOf_2 6 rfl rfl)
theorem dX5_laneOf_55 : decode cX5_laneOf 55 = .ok (.istore 5, 2) := dk_54 5 (dk_at dksX5_laneOf_2 7 rfl rfl)
theorem dX5_laneOf_57 : decode cX5_laneOf 57 = .ok (.iload 5, 2) := dk_21 5 (dk_at dksX5_laneOf_2 9 rfl rfl)
theorem dX5_laneOf_59 : decode cX5_laneOf 59 = .ok (.aload_n 0, 1) := dk_42 (dk_at dksX5_laneOf_2 11 rfl rfl)
theorem dX5_laneOf_60 : decode cX5_laneOf 60 = .ok (.getfield 13, 3) := dk_180 0 13 (dk_at dksX5_laneOf_2 12 rfl rfl)
theorem dX5_laneOf_63 : decode cX5_laneOf 63 = .ok (.iconst 0, 1) := dk_3 (dk_at dksX5_laneOf_2 15 rfl rfl)
theorem dX5_laneOf_64 : decode cX5_laneOf 64 = .ok (.iaload, 1) := dk_46 (dk_at dksX5_laneOf_2 16 rfl rfl)
theorem dX5_laneOf_65 : decode cX5_laneOf 65 = .ok (.if_icmp .ge 35, 3) := dk_162 0 35 (dk_at dksX5_laneOf_2 17 rfl rfl)
theorem dX5_laneOf_68 : decode cX5_laneOf 68 = .ok (.aload_n 0, 1) := dk_42 (dk_at dksX5_laneOf_2 20 rfl rfl)
theorem dX5_laneOf_69 : decode cX5_laneOf 69 = .ok (.iload_n 1, 1) := dk_27 (dk_at dksX5_laneOf_2 21 rfl rfl)
theorem dX5_laneOf_70 : decode cX5_laneOf 70 = .ok (.iload 5, 2) := dk_21 5 (dk_at dksX5_laneOf_2 22 rfl rfl)
theorem dX5_laneOf_72 : decode cX5_laneOf 72 = .ok (.invokevirtual 427, 3) := dk_182 1 171 (dk_at dksX5_laneOf_3 0 rfl rfl)
theorem dX5_laneOf_75 : decode cX5_laneOf 75 = .ok (.ifCond .eq 19, 3) := dk_153 0 19 (dk_at dksX5_laneOf_3 3 rfl rfl)
theorem dX5_laneOf_78 : decode cX5_laneOf 78 = .ok (.iload_n 3, 1) := dk_29 (dk_at dksX5_laneOf_3 6 rfl rfl)
theorem dX5_laneOf_79 : decode cX5_laneOf 79 = .ok (.ifCond .ne 8, 3) := dk_154 0 8 (dk_at dksX5_laneOf_3 7 rfl rfl)
theorem dX5_laneOf_82 : decode cX5_laneOf 82 = .ok (.iload 5, 2) := dk_21 5 (dk_at dksX5_laneOf_3 10 rfl rfl)
theorem dX5_laneOf_84 : decode cX5_laneOf 84 = .ok (.goto 5, 3) := dk_167 0 5 (dk_at dksX5_laneOf_3 12 rfl rfl)
theorem dX5_laneOf_87 : decode cX5_laneOf 87 = .ok (.iload 4, 2) := dk_21 4 (dk_at dksX5_laneOf_3 15 rfl rfl)
theorem dX5_laneOf_89 : decode cX5_laneOf 89 = .ok (.istore 4, 2) := dk_54 4 (dk_at dksX5_laneOf_3 17 rfl rfl)
theorem dX5_laneOf_91 : decode cX5_laneOf 91 = .ok (.iinc 3 (-1), 3) := dk_132 3 255 (dk_at dksX5_laneOf_3 19 rfl rfl)
theorem dX5_laneOf_94 : decode cX5_laneOf 94 = .ok (.iinc 5 1, 3) := dk_132 5 1 (dk_at dksX5_laneOf_4 0 rfl rfl)
theorem dX5_laneOf_97 : decode cX5_laneOf 97 = .ok (.goto (-40), 3) := dk_167 255 216 (dk_at dksX5_laneOf_4 3 rfl rfl)
theorem dX5_laneOf_100 : decode cX5_laneOf 100 = .ok (.iload 4, 2) := dk_21 4 (dk_at dksX5_laneOf_4 6 rfl rfl)
theorem dX5_laneOf_102 : decode cX5_laneOf 102 = .ok (.ireturn, 1) := dk_172 (dk_at dksX5_laneOf_4 8 rfl rfl)
abbrev cX5_canGo : ByteArray := prog_22_method_71_code
def yX5_canGo : MethodName := ⟨RX5, "canGo", "(II)Z"⟩
def dkwX5_canGo_1 : List UInt8 := [154, 0, 7, 4, 167, 0, 4, 3, 172]
abbrev dktX5_canGo_1 : List UInt8 := dkwX5_canGo_1 ++ []
def dkwX5_canGo_0 : List UInt8 := [42, 28, 42, 180, 0, 13, 16, 18, 27, 96, 46, 182, 1, 168, 153, 0, 16, 42, 27, 28, 182, 0, 216]
abbrev dktX5_canGo_0 : List UInt8 := dkwX5_canGo_0 ++ dktX5_canGo_1
theorem dksX5_canGo_0 : cX5_canGo.data.toList.drop 0 = dktX5_canGo_0 := by decide +kernel
theorem dksX5_canGo_1 : cX5_canGo.data.toList.drop 23 = dktX5_canGo_1 := dk_seg dksX5_canGo_0 23 rfl rfl
theorem dX5_canGo_0 : decode cX5_canGo 0 = .ok (.aload_n 0, 1) := dk_42 (dk_at dksX5_canGo_0 0 rfl rfl)
theorem dX5_canGo_1 : decode cX5_canGo 1 = .ok (.iload_n 2, 1) := dk_28 (dk_at dksX5_canGo_0 1 rfl rfl)
theorem dX5_canGo_2 : decode cX5_canGo 2 = .ok (.aload_n 0, 1) := dk_42 (dk_at dksX5_canGo_0 2 rfl rfl)
theorem dX5_canGo_3 : decode cX5_canGo 3 = .ok (.getfield 13, 3) := dk_180 0 13 (dk_at dksX5_canGo_0 3 rfl rfl)
theorem dX5_canGo_6 : decode cX5_canGo 6 = .ok (.bipush 18, 2) := dk_16 18 (dk_at dksX5_canGo_0 6 rfl rfl)
theorem dX5_canGo_8 : decode cX5_canGo 8 = .ok (.iload_n 1, 1) := dk_27 (dk_at dksX5_canGo_0 8 rfl rfl)
theorem dX5_canGo_9 : decode cX5_canGo 9 = .ok (.iadd, 1) := dk_96 (dk_at dksX5_canGo_0 9 rfl rfl)
theorem dX5_canGo_10 : decode cX5_canGo 10 = .ok (.iaload, 1) := dk_46 (dk_at dksX5_canGo_0 10 rfl rfl)
theorem dX5_canGo_11 : decode cX5_canGo 11 = .ok (.invokevirtual 424, 3) := dk_182 1 168 (dk_at dksX5_canGo_0 11 rfl rfl)
theorem dX5_canGo_14 : decode cX5_canGo 14 = .ok (.ifCond .eq 16, 3) := dk_153 0 16 (dk_at dksX5_canGo_0 14 rfl rfl)
theorem dX5_canGo_17 : decode cX5_canGo 17 = .ok (.aload_n 0, 1) := dk_42 (dk_at dksX5_canGo_0 17 rfl rfl)
theorem dX5_canGo_18 : decode cX5_canGo 18 = .ok (.iload_n 1, 1) := dk_27 (dk_at dksX5_canGo_0 18 rfl rfl)
theorem dX5_canGo_19 : decode cX5_canGo 19 = .ok (.iload_n 2, 1) := dk_28 (dk_at dksX5_canGo_0 19 rfl rfl)
theorem dX5_canGo_20 : decode cX5_canGo 20 = .ok (.invokevirtual 216, 3) := dk_182 0 216 (dk_at dksX5_canGo_0 20 rfl rfl)
theorem dX5_canGo_23 : decode cX5_canGo 23 = .ok (.ifCond .ne 7, 3) := dk_154 0 7 (dk_at dksX5_canGo_1 0 rfl rfl)
theorem dX5_canGo_26 : decode cX5_canGo 26 = .ok (.iconst 1, 1) := dk_4 (dk_at dksX5_canGo_1 3 rfl rfl)
theorem dX5_canGo_27 : decode cX5_canGo 27 = .ok (.goto 4, 3) := dk_167 0 4 (dk_at dksX5_canGo_1 4 rfl rfl)
theorem dX5_canGo_30 : decode cX5_canGo 30 = .ok (.iconst 0, 1) := dk_3 (dk_at dksX5_canGo_1 7 rfl rfl)
theorem dX5_canGo_31 : decode cX5_canGo 31 = .ok (.ireturn, 1) := dk_172 (dk_at dksX5_canGo_1 8 rfl rfl)
abbrev cX5_ends : ByteArray := prog_22_method_19_code
def yX5_ends : MethodName := ⟨RX5, "ends", "(II)Z"⟩
def dkwX5_ends_1 : List UInt8 := [160, 0, 7, 4, 167, 0, 4, 3, 172]
abbrev dktX5_ends_1 : List UInt8 := dkwX5_ends_1 ++ []
def dkwX5_ends_0 : List UInt8 := [42, 180, 0, 13, 16, 26, 27, 96, 46, 28, 159, 0, 16, 42, 180, 0, 13, 16, 36, 27, 96, 46, 28]
abbrev dktX5_ends_0 : List UInt8 := dkwX5_ends_0 ++ dktX5_ends_1
theorem dksX5_ends_0 : cX5_ends.data.toList.drop 0 = dktX5_ends_0 := by decide +kernel
theorem dksX5_ends_1 : cX5_ends.data.toList.drop 23 = dktX5_ends_1 := dk_seg dksX5_ends_0 23 rfl rfl
theorem dX5_ends_0 : decode cX5_ends 0 = .ok (.aload_n 0, 1) := dk_42 (dk_at dksX5_ends_0 0 rfl rfl)
theorem dX5_ends_1 : decode cX5_ends 1 = .ok (.getfield 13, 3) := dk_180 0 13 (dk_at dksX5_ends_0 1 rfl rfl)
theorem dX5_ends_4 : decode cX5_ends 4 = .ok (.bipush 26, 2) := dk_16 26 (dk_at dksX5_ends_0 4 rfl rfl)
theorem dX5_ends_6 : decode cX5_ends 6 = .ok (.iload_n 1, 1) := dk_27 (dk_at dksX5_ends_0 6 rfl rfl)
theorem dX5_ends_7 : decode cX5_ends 7 = .ok (.iadd, 1) := dk_96 (dk_at dksX5_ends_0 7 rfl rfl)
theorem dX5_ends_8 : decode cX5_ends 8 = .ok (.iaload, 1) := dk_46 (dk_at dksX5_ends_0 8 rfl rfl)
theorem dX5_ends_9 : decode cX5_ends 9 = .ok (.iload_n 2, 1) := dk_28 (dk_at dksX5_ends_0 9 rfl rfl)
theorem dX5_ends_10 : decode cX5_ends 10 = .ok (.if_icmp .eq 16, 3) := dk_159 0 16 (dk_at dksX5_ends_0 10 rfl rfl)
theorem dX5_ends_13 : decode cX5_ends 13 = .ok (.aload_n 0, 1) := dk_42 (dk_at dksX5_ends_0 13 rfl rfl)
theorem dX5_ends_14 : decode cX5_ends 14 = .ok (.getfield 13, 3) := dk_180 0 13 (dk_at dksX5_ends_0 14 rfl rfl)
theorem dX5_ends_17 : decode cX5_ends 17 = .ok (.bipush 36, 2) := dk_16 36 (dk_at dksX5_ends_0 17 rfl rfl)
theorem dX5_ends_19 : decode cX5_ends 19 = .ok (.iload_n 1, 1) := dk_27 (dk_at dksX5_ends_0 19 rfl rfl)
theorem dX5_ends_20 : decode cX5_ends 20 = .ok (.iadd, 1) := dk_96 (dk_at dksX5_ends_0 20 rfl rfl)
theorem dX5_ends_21 : decode cX5_ends 21 = .ok (.iaload, 1) := dk_46 (dk_at dksX5_ends_0 21 rfl rfl)
theorem dX5_ends_22 : decode cX5_ends 22 = .ok (.iload_n 2, 1) := dk_28 (dk_at dksX5_ends_0 22 rfl rfl)
theorem dX5_ends_23 : decode cX5_ends 23 = .ok (.if_icmp .ne 7, 3) := dk_160 0 7 (dk_at dksX5_ends_1 0 rfl rfl)
theorem dX5_ends_26 : decode cX5_ends 26 = .ok (.iconst 1, 1) := dk_4 (dk_at dksX5_ends_1 3 rfl rfl)
theorem dX5_ends_27 : decode cX5_ends 27 = .ok (.goto 4, 3) := dk_167 0 4 (dk_at dksX5_ends_1 4 rfl rfl)
theorem dX5_ends_30 : decode cX5_ends 30 = .ok (.iconst 0, 1) := dk_3 (dk_at dksX5_ends_1 7 rfl rfl)
theorem dX5_ends_31 : decode cX5_ends 31 = .ok (.ireturn, 1) := dk_172 (dk_at dksX5_ends_1 8 rfl rfl)
abbrev cX5_isBarred : ByteArray := prog_22_method_70_code
def yX5_isBarred : MethodName := ⟨RX5, "isBarred", "(II)Z"⟩
def dkwX5_isBarred_0 : List UInt8 := [42, 5, 27, 28, 9, 182, 1, 160, 10, 148, 154, 0, 7, 4, 167, 0, 4, 3, 172]
abbrev dktX5_isBarred_0 : List UInt8 := dkwX5_isBarred_0 ++ []
theorem dksX5_isBarred_0 : cX5_isBarred.data.toList.drop 0 = dktX5_isBarred_0 := by decide +kernel
theorem dX5_isBarred_0 : decode cX5_isBarred 0 = .ok (.aload_n 0, 1) := dk_42 (dk_at dksX5_isBarred_0 0 rfl rfl)
theorem dX5_isBarred_1 : decode cX5_isBarred 1 = .ok (.iconst 2, 1) := dk_5 (dk_at dksX5_isBarred_0 1 rfl rfl)
theorem dX5_isBarred_2 : decode cX5_isBarred 2 = .ok (.iload_n 1, 1) := dk_27 (dk_at dksX5_isBarred_0 2 rfl rfl)
theorem dX5_isBarred_3 : decode cX5_isBarred 3 = .ok (.iload_n 2, 1) := dk_28 (dk_at dksX5_isBarred_0 3 rfl rfl)
theorem dX5_isBarred_4 : decode cX5_isBarred 4 = .ok (.lconst 0, 1) := dk_9 (dk_at dksX5_isBarred_0 4 rfl rfl)
theorem dX5_isBarred_5 : decode cX5_isBarred 5 = .ok (.invokevirtual 416, 3) := dk_182 1 160 (dk_at dksX5_isBarred_0 5 rfl rfl)
theorem dX5_isBarred_8 : decode cX5_isBarred 8 = .ok (.lconst 1, 1) := dk_10 (dk_at dksX5_isBarred_0 8 rfl rfl)
theorem dX5_isBarred_9 : decode cX5_isBarred 9 = .ok (.lcmp, 1) := dk_148 (dk_at dksX5_isBarred_0 9 rfl rfl)
theorem dX5_isBarred_10 : decode cX5_isBarred 10 = .ok (.ifCond .ne 7, 3) := dk_154 0 7 (dk_at dksX5_isBarred_0 10 rfl rfl)
theorem dX5_isBarred_13 : decode cX5_isBarred 13 = .ok (.iconst 1, 1) := dk_4 (dk_at dksX5_isBarred_0 13 rfl rfl)
theorem dX5_isBarred_14 : decode cX5_isBarred 14 = .ok (.goto 4, 3) := dk_167 0 4 (dk_at dksX5_isBarred_0 14 rfl rfl)
theorem dX5_isBarred_17 : decode cX5_isBarred 17 = .ok (.iconst 0, 1) := dk_3 (dk_at dksX5_isBarred_0 17 rfl rfl)
theorem dX5_isBarred_18 : decode cX5_isBarred 18 = .ok (.ireturn, 1) := dk_172 (dk_at dksX5_isBarred_0 18 rfl rfl)
abbrev cX5_asks : ByteArray := prog_22_method_27_code
def yX5_asks : MethodName := ⟨RX5, "asks", "(III)I"⟩
def dkwX5_asks_2 : List UInt8 := [28, 182, 0, 216, 153, 0, 7, 4, 167, 0, 4, 3, 172]
abbrev dktX5_asks_2 : List UInt8 := dkwX5_asks_2 ++ []
def dkwX5_asks_1 : List UInt8 := [10, 184, 0, 179, 154, 0, 5, 2, 172, 29, 154, 0, 12, 42, 27, 28, 182, 0, 212, 167, 0, 17, 42, 27]
abbrev dktX5_asks_1 : List UInt8 := dkwX5_asks_1 ++ dktX5_asks_2
def dkwX5_asks_0 : List UInt8 := [42, 3, 181, 0, 159, 42, 27, 182, 0, 203, 153, 0, 21, 42, 28, 182, 0, 200, 153, 0, 13, 29, 133, 9]
abbrev dktX5_asks_0 : List UInt8 := dkwX5_asks_0 ++ dktX5_asks_1
theorem dksX5_asks_0 : cX5_asks.data.toList.drop 0 = dktX5_asks_0 := by decide +kernel
theorem dksX5_asks_1 : cX5_asks.data.toList.drop 24 = dktX5_asks_1 := dk_seg dksX5_asks_0 24 rfl rfl
theorem dksX5_asks_2 : cX5_asks.data.toList.drop 48 = dktX5_asks_2 := dk_seg dksX5_asks_1 24 rfl rfl
theorem dX5_asks_0 : decode cX5_asks 0 = .ok (.aload_n 0, 1) := dk_42 (dk_at dksX5_asks_0 0 rfl rfl)
theorem dX5_asks_1 : decode cX5_asks 1 = .ok (.iconst 0, 1) := dk_3 (dk_at dksX5_asks_0 1 rfl rfl)
theorem dX5_asks_2 : decode cX5_asks 2 = .ok (.putfield 159, 3) := dk_181 0 159 (dk_at dksX5_asks_0 2 rfl rfl)
theorem dX5_asks_5 : decode cX5_asks 5 = .ok (.aload_n 0, 1) := dk_42 (dk_at dksX5_asks_0 5 rfl rfl)
theorem dX5_asks_6 : decode cX5_asks 6 = .ok (.iload_n 1, 1) := dk_27 (dk_at dksX5_asks_0 6 rfl rfl)
theorem dX5_asks_7 : decode cX5_asks 7 = .ok (.invokevirtual 203, 3) := dk_182 0 203 (dk_at dksX5_asks_0 7 rfl rfl)
theorem dX5_asks_10 : decode cX5_asks 10 = .ok (.ifCond .eq 21, 3) := dk_153 0 21 (dk_at dksX5_asks_0 10 rfl rfl)
theorem dX5_asks_13 : decode cX5_asks 13 = .ok (.aload_n 0, 1) := dk_42 (dk_at dksX5_asks_0 13 rfl rfl)
theorem dX5_asks_14 : decode cX5_asks 14 = .ok (.iload_n 2, 1) := dk_28 (dk_at dksX5_asks_0 14 rfl rfl)
theorem dX5_asks_15 : decode cX5_asks 15 = .ok (.invokevirtual 200, 3) := dk_182 0 200 (dk_at dksX5_asks_0 15 rfl rfl)
theorem dX5_asks_18 : decode cX5_asks 18 = .ok (.ifCond .eq 13, 3) := dk_153 0 13 (dk_at dksX5_asks_0 18 rfl rfl)
theorem dX5_asks_21 : decode cX5_asks 21 = .ok (.iload_n 3, 1) := dk_29 (dk_at dksX5_asks_0 21 rfl rfl)
theorem dX5_asks_22 : decode cX5_asks 22 = .ok (.i2l, 1) := dk_133 (dk_at dksX5_asks_0 22 rfl rfl)
theorem dX5_asks_23 : decode cX5_asks 23 = .ok (.lconst 0, 1) := dk_9 (dk_at dksX5_asks_0 23 rfl rfl)
theorem dX5_asks_24 : decode cX5_asks 24 = .ok (.lconst 1, 1) := dk_10 (dk_at dksX5_asks_1 0 rfl rfl)
theorem dX5_asks_25 : decode cX5_asks 25 = .ok (.invokestatic 179, 3) := dk_184 0 179 (dk_at dksX5_asks_1 1 rfl rfl)
theorem dX5_asks_28 : decode cX5_asks 28 = .ok (.ifCond .ne 5, 3) := dk_154 0 5 (dk_at dksX5_asks_1 4 rfl rfl)
theorem dX5_asks_31 : decode cX5_asks 31 = .ok (.iconst (-1), 1) := dk_2 (dk_at dksX5_asks_1 7 rfl rfl)
theorem dX5_asks_32 : decode cX5_asks 32 = .ok (.ireturn, 1) := dk_172 (dk_at dksX5_asks_1 8 rfl rfl)
theorem dX5_asks_33 : decode cX5_asks 33 = .ok (.iload_n 3, 1) := dk_29 (dk_at dksX5_asks_1 9 rfl rfl)
theorem dX5_asks_34 : decode cX5_asks 34 = .ok (.ifCond .ne 12, 3) := dk_154 0 12 (dk_at dksX5_asks_1 10 rfl rfl)
theorem dX5_asks_37 : decode cX5_asks 37 = .ok (.aload_n 0, 1) := dk_42 (dk_at dksX5_asks_1 13 rfl rfl)
theorem dX5_asks_38 : decode cX5_asks 38 = .ok (.iload_n 1, 1) := dk_27 (dk_at dksX5_asks_1 14 rfl rfl)
theorem dX5_asks_39 : decode cX5_asks 39 = .ok (.iload_n 2, 1) := dk_28 (dk_at dksX5_asks_1 15 rfl rfl)
theorem dX5_asks_40 : decode cX5_asks 40 = .ok (.invokevirtual 212, 3) := dk_182 0 212 (dk_at dksX5_asks_1 16 rfl rfl)
theorem dX5_asks_43 : decode cX5_asks 43 = .ok (.goto 17, 3) := dk_167 0 17 (dk_at dksX5_asks_1 19 rfl rfl)
theorem dX5_asks_46 : decode cX5_asks 46 = .ok (.aload_n 0, 1) := dk_42 (dk_at dksX5_asks_1 22 rfl rfl)
theorem dX5_asks_47 : decode cX5_asks 47 = .ok (.iload_n 1, 1) := dk_27 (dk_at dksX5_asks_1 23 rfl rfl)
theorem dX5_asks_48 : decode cX5_asks 48 = .ok (.iload_n 2, 1) := dk_28 (dk_at dksX5_asks_2 0 rfl rfl)
theorem dX5_asks_49 : decode cX5_asks 49 = .ok (.invokevirtual 216, 3) := dk_182 0 216 (dk_at dksX5_asks_2 1 rfl rfl)
theorem dX5_asks_52 : decode cX5_asks 52 = .ok (.ifCond .eq 7, 3) := dk_153 0 7 (dk_at dksX5_asks_2 4 rfl rfl)
theorem dX5_asks_55 : decode cX5_asks 55 = .ok (.iconst 1, 1) := dk_4 (dk_at dksX5_asks_2 7 rfl rfl)
theorem dX5_asks_56 : decode cX5_asks 56 = .ok (.goto 4, 3) := dk_167 0 4 (dk_at dksX5_asks_2 8 rfl rfl)
theorem dX5_asks_59 : decode cX5_asks 59 = .ok (.iconst 0, 1) := dk_3 (dk_at dksX5_asks_2 11 rfl rfl)
theorem dX5_asks_60 : decode cX5_asks 60 = .ok (.ireturn, 1) := dk_172 (dk_at dksX5_asks_2 12 rfl rfl)
abbrev cX5_saysOf : ByteArray := prog_22_method_69_code
def yX5_saysOf : MethodName := ⟨RX5, "saysOf", "(II)I"⟩
def dkwX5_saysOf_0 : List UInt8 := [42, 4, 27, 28, 42, 180, 0, 13, 16, 56, 28, 96, 46, 133, 182, 1, 160, 3, 16, 19, 184, 1, 164, 172]
abbrev dktX5_saysOf_0 : List UInt8 := dkwX5_saysOf_0 ++ []
theorem dksX5_saysOf_0 : cX5_saysOf.data.toList.drop 0 = dktX5_saysOf_0 := by decide +kernel
theorem dX5_saysOf_0 : decode cX5_saysOf 0 = .ok (.aload_n 0, 1) := dk_42 (dk_at dksX5_saysOf_0 0 rfl rfl)
theorem dX5_saysOf_1 : decode cX5_saysOf 1 = .ok (.iconst 1, 1) := dk_4 (dk_at dksX5_saysOf_0 1 rfl rfl)
theorem dX5_saysOf_2 : decode cX5_saysOf 2 = .ok (.iload_n 1, 1) := dk_27 (dk_at dksX5_saysOf_0 2 rfl rfl)
theorem dX5_saysOf_3 : decode cX5_saysOf 3 = .ok (.iload_n 2, 1) := dk_28 (dk_at dksX5_saysOf_0 3 rfl rfl)
theorem dX5_saysOf_4 : decode cX5_saysOf 4 = .ok (.aload_n 0, 1) := dk_42 (dk_at dksX5_saysOf_0 4 rfl rfl)
theorem dX5_saysOf_5 : decode cX5_saysOf 5 = .ok (.getfield 13, 3) := dk_180 0 13 (dk_at dksX5_saysOf_0 5 rfl rfl)
theorem dX5_saysOf_8 : decode cX5_saysOf 8 = .ok (.bipush 56, 2) := dk_16 56 (dk_at dksX5_saysOf_0 8 rfl rfl)
theorem dX5_saysOf_10 : decode cX5_saysOf 10 = .ok (.iload_n 2, 1) := dk_28 (dk_at dksX5_saysOf_0 10 rfl rfl)
theorem dX5_saysOf_11 : decode cX5_saysOf 11 = .ok (.iadd, 1) := dk_96 (dk_at dksX5_saysOf_0 11 rfl rfl)
theorem dX5_saysOf_12 : decode cX5_saysOf 12 = .ok (.iaload, 1) := dk_46 (dk_at dksX5_saysOf_0 12 rfl rfl)
theorem dX5_saysOf_13 : decode cX5_saysOf 13 = .ok (.i2l, 1) := dk_133 (dk_at dksX5_saysOf_0 13 rfl rfl)
theorem dX5_saysOf_14 : decode cX5_saysOf 14 = .ok (.invokevirtual 416, 3) := dk_182 1 160 (dk_at dksX5_saysOf_0 14 rfl rfl)
theorem dX5_saysOf_17 : decode cX5_saysOf 17 = .ok (.iconst 0, 1) := dk_3 (dk_at dksX5_saysOf_0 17 rfl rfl)
theorem dX5_saysOf_18 : decode cX5_saysOf 18 = .ok (.bipush 19, 2) := dk_16 19 (dk_at dksX5_saysOf_0 18 rfl rfl)
theorem dX5_saysOf_20 : decode cX5_saysOf 20 = .ok (.invokestatic 420, 3) := dk_184 1 164 (dk_at dksX5_saysOf_0 20 rfl rfl)
theorem dX5_saysOf_23 : decode cX5_saysOf 23 = .ok (.ireturn, 1) := dk_172 (dk_at dksX5_saysOf_0 23 rfl rfl)
abbrev cX5_terms : ByteArray := prog_22_method_28_code
def yX5_terms : MethodName := ⟨RX5, "terms", "(II)I"⟩
def dkwX5_terms_3 : List UInt8 := [172, 42, 3, 181, 0, 165, 42, 8, 27, 96, 28, 182, 0, 224, 172]
abbrev dktX5_terms_3 : List UInt8 := dkwX5_terms_3 ++ []
def dkwX5_terms_2 : List UInt8 := [20, 0, 192, 184, 0, 179, 153, 0, 7, 4, 167, 0, 4, 3, 62, 29, 154, 0, 9, 42, 2, 182, 0, 168]
abbrev dktX5_terms_2 : List UInt8 := dkwX5_terms_2 ++ dktX5_terms_3
def dkwX5_terms_1 : List UInt8 := [160, 0, 15, 28, 133, 9, 20, 0, 222, 184, 0, 179, 167, 0, 25, 27, 5, 160, 0, 19, 28, 133, 9]
abbrev dktX5_terms_1 : List UInt8 := dkwX5_terms_1 ++ dktX5_terms_2
def dkwX5_terms_0 : List UInt8 := [42, 3, 181, 0, 159, 27, 154, 0, 15, 28, 133, 9, 20, 0, 220, 184, 0, 179, 167, 0, 42, 27, 4]
abbrev dktX5_terms_0 : List UInt8 := dkwX5_terms_0 ++ dktX5_terms_1
theorem dksX5_terms_0 : cX5_terms.data.toList.drop 0 = dktX5_terms_0 := by decide +kernel
theorem dksX5_terms_1 : cX5_terms.data.toList.drop 23 = dktX5_terms_1 := dk_seg dksX5_terms_0 23 rfl rfl
theorem dksX5_terms_2 : cX5_terms.data.toList.drop 46 = dktX5_terms_2 := dk_seg dksX5_terms_1 23 rfl rfl
theorem dksX5_terms_3 : cX5_terms.data.toList.drop 70 = dktX5_terms_3 := dk_seg dksX5_terms_2 24 rfl rfl
theorem dX5_terms_0 : decode cX5_terms 0 = .ok (.aload_n 0, 1) := dk_42 (dk_at dksX5_terms_0 0 rfl rfl)
theorem dX5_terms_1 : decode cX5_terms 1 = .ok (.iconst 0, 1) := dk_3 (dk_at dksX5_terms_0 1 rfl rfl)
theorem dX5_terms_2 : decode cX5_terms 2 = .ok (.putfield 159, 3) := dk_181 0 159 (dk_at dksX5_terms_0 2 rfl rfl)
theorem dX5_terms_5 : decode cX5_terms 5 = .ok (.iload_n 1, 1) := dk_27 (dk_at dksX5_terms_0 5 rfl rfl)
theorem dX5_terms_6 : decode cX5_terms 6 = .ok (.ifCond .ne 15, 3) := dk_154 0 15 (dk_at dksX5_terms_0 6 rfl rfl)
theorem dX5_terms_9 : decode cX5_terms 9 = .ok (.iload_n 2, 1) := dk_28 (dk_at dksX5_terms_0 9 rfl rfl)
theorem dX5_terms_10 : decode cX5_terms 10 = .ok (.i2l, 1) := dk_133 (dk_at dksX5_terms_0 10 rfl rfl)
theorem dX5_terms_11 : decode cX5_terms 11 = .ok (.lconst 0, 1) := dk_9 (dk_at dksX5_terms_0 11 rfl rfl)
theorem dX5_terms_12 : decode cX5_terms 12 = .ok (.ldc2_w 220, 3) := dk_20 0 220 (dk_at dksX5_terms_0 12 rfl rfl)
theorem dX5_terms_15 : decode cX5_terms 15 = .ok (.invokestatic 179, 3) := dk_184 0 179 (dk_at dksX5_terms_0 15 rfl rfl)
theorem dX5_terms_18 : decode cX5_terms 18 = .ok (.goto 42, 3) := dk_167 0 42 (dk_at dksX5_terms_0 18 rfl rfl)
theorem dX5_terms_21 : decode cX5_terms 21 = .ok (.iload_n 1, 1) := dk_27 (dk_at dksX5_terms_0 21 rfl rfl)
theorem dX5_terms_22 : decode cX5_terms 22 = .ok (.iconst 1, 1) := dk_4 (dk_at dksX5_terms_0 22 rfl rfl)
theorem dX5_terms_23 : decode cX5_terms 23 = .ok (.if_icmp .ne 15, 3) := dk_160 0 15 (dk_at dksX5_terms_1 0 rfl rfl)
theorem dX5_terms_26 : decode cX5_terms 26 = .ok (.iload_n 2, 1) := dk_28 (dk_at dksX5_terms_1 3 rfl rfl)
theorem dX5_terms_27 : decode cX5_terms 27 = .ok (.i2l, 1) := dk_133 (dk_at dksX5_terms_1 4 rfl rfl)
theorem dX5_terms_28 : decode cX5_terms 28 = .ok (.lconst 0, 1) := dk_9 (dk_at dksX5_terms_1 5 rfl rfl)
theorem dX5_terms_29 : decode cX5_terms 29 = .ok (.ldc2_w 222, 3) := dk_20 0 222 (dk_at dksX5_terms_1 6 rfl rfl)
theorem dX5_terms_32 : decode cX5_terms 32 = .ok (.invokestatic 179, 3) := dk_184 0 179 (dk_at dksX5_terms_1 9 rfl rfl)
theorem dX5_terms_35 : decode cX5_terms 35 = .ok (.goto 25, 3) := dk_167 0 25 (dk_at dksX5_terms_1 12 rfl rfl)
theorem dX5_terms_38 : decode cX5_terms 38 = .ok (.iload_n 1, 1) := dk_27 (dk_at dksX5_terms_1 15 rfl rfl)
theorem dX5_terms_39 : decode cX5_terms 39 = .ok (.iconst 2, 1) := dk_5 (dk_at dksX5_terms_1 16 rfl rfl)
theorem dX5_terms_40 : decode cX5_terms 40 = .ok (.if_icmp .ne 19, 3) := dk_160 0 19 (dk_at dksX5_terms_1 17 rfl rfl)
theorem dX5_terms_43 : decode cX5_terms 43 = .ok (.iload_n 2, 1) := dk_28 (dk_at dksX5_terms_1 20 rfl rfl)
theorem dX5_terms_44 : decode cX5_terms 44 = .ok (.i2l, 1) := dk_133 (dk_at dksX5_terms_1 21 rfl rfl)
theorem dX5_terms_45 : decode cX5_terms 45 = .ok (.lconst 0, 1) := dk_9 (dk_at dksX5_terms_1 22 rfl rfl)
theorem dX5_terms_46 : decode cX5_terms 46 = .ok (.ldc2_w 192, 3) := dk_20 0 192 (dk_at dksX5_terms_2 0 rfl rfl)
theorem dX5_terms_49 : decode cX5_terms 49 = .ok (.invokestatic 179, 3) := dk_184 0 179 (dk_at dksX5_terms_2 3 rfl rfl)
theorem dX5_terms_52 : decode cX5_terms 52 = .ok (.ifCond .eq 7, 3) := dk_153 0 7 (dk_at dksX5_terms_2 6 rfl rfl)
theorem dX5_terms_55 : decode cX5_terms 55 = .ok (.iconst 1, 1) := dk_4 (dk_at dksX5_terms_2 9 rfl rfl)
theorem dX5_terms_56 : decode cX5_terms 56 = .ok (.goto 4, 3) := dk_167 0 4 (dk_at dksX5_terms_2 10 rfl rfl)
theorem dX5_terms_59 : decode cX5_terms 59 = .ok (.iconst 0, 1) := dk_3 (dk_at dksX5_terms_2 13 rfl rfl)
theorem dX5_terms_60 : decode cX5_terms 60 = .ok (.istore_n 3, 1) := dk_62 (dk_at dksX5_terms_2 14 rfl rfl)
theorem dX5_terms_61 : decode cX5_terms 61 = .ok (.iload_n 3, 1) := dk_29 (dk_at dksX5_terms_2 15 rfl rfl)
theorem dX5_terms_62 : decode cX5_terms 62 = .ok (.ifCond .ne 9, 3) := dk_154 0 9 (dk_at dksX5_terms_2 16 rfl rfl)
theorem dX5_terms_65 : decode cX5_terms 65 = .ok (.aload_n 0, 1) := dk_42 (dk_at dksX5_terms_2 19 rfl rfl)
theorem dX5_terms_66 : decode cX5_terms 66 = .ok (.iconst (-1), 1) := dk_2 (dk_at dksX5_terms_2 20 rfl rfl)
theorem dX5_terms_67 : decode cX5_terms 67 = .ok (.invokevirtual 168, 3) := dk_182 0 168 (dk_at dksX5_terms_2 21 rfl rfl)
theorem dX5_terms_70 : decode cX5_terms 70 = .ok (.ireturn, 1) := dk_172 (dk_at dksX5_terms_3 0 rfl rfl)
theorem dX5_terms_71 : decode cX5_terms 71 = .ok (.aload_n 0, 1) := dk_42 (dk_at dksX5_terms_3 1 rfl rfl)
theorem dX5_terms_72 : decode cX5_terms 72 = .ok (.iconst 0, 1) := dk_3 (dk_at dksX5_terms_3 2 rfl rfl)
theorem dX5_terms_73 : decode cX5_terms 73 = .ok (.putfield 165, 3) := dk_181 0 165 (dk_at dksX5_terms_3 3 rfl rfl)
theorem dX5_terms_76 : decode cX5_terms 76 = .ok (.aload_n 0, 1) := dk_42 (dk_at dksX5_terms_3 6 rfl rfl)
theorem dX5_terms_77 : decode cX5_terms 77 = .ok (.iconst 5, 1) := dk_8 (dk_at dksX5_terms_3 7 rfl rfl)
theorem dX5_terms_78 : decode cX5_terms 78 = .ok (.iload_n 1, 1) := dk_27 (dk_at dksX5_terms_3 8 rfl rfl)
theorem dX5_terms_79 : decode cX5_terms 79 = .ok (.iadd, 1) := dk_96 (dk_at dksX5_terms_3 9 rfl rfl)
theorem dX5_terms_80 : decode cX5_terms 80 = .ok (.iload_n 2, 1) := dk_28 (dk_at dksX5_terms_3 10 rfl rfl)
theorem dX5_terms_81 : decode cX5_terms 81 = .ok (.invokevirtual 224, 3) := dk_182 0 224 (dk_at dksX5_terms_3 11 rfl rfl)
theorem dX5_terms_84 : decode cX5_terms 84 = .ok (.ireturn, 1) := dk_172 (dk_at dksX5_terms_3 14 rfl rfl)
abbrev cX5_change : ByteArray := prog_22_method_8_code
def yX5_change : MethodName := ⟨RX5, "change", "(II)I"⟩
def dkwX5_change_0 : List UInt8 := [42, 180, 0, 13, 27, 46, 62, 42, 180, 0, 13, 27, 28, 79, 42, 3, 181, 0, 162, 29, 172]
abbrev dktX5_change_0 : List UInt8 := dkwX5_change_0 ++ []
theorem dksX5_change_0 : cX5_change.data.toList.drop 0 = dktX5_change_0 := by decide +kernel
theorem dX5_change_0 : decode cX5_change 0 = .ok (.aload_n 0, 1) := dk_42 (dk_at dksX5_change_0 0 rfl rfl)
theorem dX5_change_1 : decode cX5_change 1 = .ok (.getfield 13, 3) := dk_180 0 13 (dk_at dksX5_change_0 1 rfl rfl)
theorem dX5_change_4 : decode cX5_change 4 = .ok (.iload_n 1, 1) := dk_27 (dk_at dksX5_change_0 4 rfl rfl)
theorem dX5_change_5 : decode cX5_change 5 = .ok (.iaload, 1) := dk_46 (dk_at dksX5_change_0 5 rfl rfl)
theorem dX5_change_6 : decode cX5_change 6 = .ok (.istore_n 3, 1) := dk_62 (dk_at dksX5_change_0 6 rfl rfl)
theorem dX5_change_7 : decode cX5_change 7 = .ok (.aload_n 0, 1) := dk_42 (dk_at dksX5_change_0 7 rfl rfl)
theorem dX5_change_8 : decode cX5_change 8 = .ok (.getfield 13, 3) := dk_180 0 13 (dk_at dksX5_change_0 8 rfl rfl)
theorem dX5_change_11 : decode cX5_change 11 = .ok (.iload_n 1, 1) := dk_27 (dk_at dksX5_change_0 11 rfl rfl)
theorem dX5_change_12 : decode cX5_change 12 = .ok (.iload_n 2, 1) := dk_28 (dk_at dksX5_change_0 12 rfl rfl)
theorem dX5_change_13 : decode cX5_change 13 = .ok (.iastore, 1) := dk_79 (dk_at dksX5_change_0 13 rfl rfl)
theorem dX5_change_14 : decode cX5_change 14 = .ok (.aload_n 0, 1) := dk_42 (dk_at dksX5_change_0 14 rfl rfl)
theorem dX5_change_15 : decode cX5_change 15 = .ok (.iconst 0, 1) := dk_3 (dk_at dksX5_change_0 15 rfl rfl)
theorem dX5_change_16 : decode cX5_change 16 = .ok (.putfield 162, 3) := dk_181 0 162 (dk_at dksX5_change_0 16 rfl rfl)
theorem dX5_change_19 : decode cX5_change 19 = .ok (.iload_n 3, 1) := dk_29 (dk_at dksX5_change_0 19 rfl rfl)
theorem dX5_change_20 : decode cX5_change 20 = .ok (.ireturn, 1) := dk_172 (dk_at dksX5_change_0 20 rfl rfl)
abbrev cX5_row : ByteArray := prog_22_method_29_code
def yX5_row : MethodName := ⟨RX5, "row", "()I"⟩
def dkwX5_row_4 : List UInt8 := [180, 0, 230, 4, 96, 181, 0, 230, 132, 3, 4, 167, 255, 188, 42, 28, 182, 0, 183, 172]
abbrev dktX5_row_4 : List UInt8 := dkwX5_row_4 ++ []
def dkwX5_row_3 : List UInt8 := [96, 46, 42, 180, 0, 35, 29, 6, 96, 46, 182, 0, 196, 155, 0, 9, 132, 2, 1, 167, 0, 13, 42, 89]
abbrev dktX5_row_3 : List UInt8 := dkwX5_row_3 ++ dktX5_row_4
def dkwX5_row_2 : List UInt8 := [162, 0, 46, 42, 42, 180, 0, 35, 29, 46, 42, 180, 0, 35, 29, 4, 96, 46, 42, 180, 0, 35, 29, 5]
abbrev dktX5_row_2 : List UInt8 := dkwX5_row_2 ++ dktX5_row_3
def dkwX5_row_1 : List UInt8 := [182, 0, 168, 172, 42, 3, 181, 0, 230, 3, 61, 3, 62, 29, 27, 162, 0, 69, 29, 6, 96, 27]
abbrev dktX5_row_1 : List UInt8 := dkwX5_row_1 ++ dktX5_row_2
def dkwX5_row_0 : List UInt8 := [42, 3, 181, 0, 159, 42, 180, 0, 227, 60, 42, 3, 181, 0, 227, 27, 154, 0, 10, 42, 16, 250]
abbrev dktX5_row_0 : List UInt8 := dkwX5_row_0 ++ dktX5_row_1
theorem dksX5_row_0 : cX5_row.data.toList.drop 0 = dktX5_row_0 := by decide +kernel
theorem dksX5_row_1 : cX5_row.data.toList.drop 22 = dktX5_row_1 := dk_seg dksX5_row_0 22 rfl rfl
theorem dksX5_row_2 : cX5_row.data.toList.drop 44 = dktX5_row_2 := dk_seg dksX5_row_1 22 rfl rfl
theorem dksX5_row_3 : cX5_row.data.toList.drop 68 = dktX5_row_3 := dk_seg dksX5_row_2 24 rfl rfl
theorem dksX5_row_4 : cX5_row.data.toList.drop 92 = dktX5_row_4 := dk_seg dksX5_row_3 24 rfl rfl
theorem dX5_row_0 : decode cX5_row 0 = .ok (.aload_n 0, 1) := dk_42 (dk_at dksX5_row_0 0 rfl rfl)
theorem dX5_row_1 : decode cX5_row 1 = .ok (.iconst 0, 1) := dk_3 (dk_at dksX5_row_0 1 rfl rfl)
theorem dX5_row_2 : decode cX5_row 2 = .ok (.putfield 159, 3) := dk_181 0 159 (dk_at dksX5_row_0 2 rfl rfl)
theorem dX5_row_5 : decode cX5_row 5 = .ok (.aload_n 0, 1) := dk_42 (dk_at dksX5_row_0 5 rfl rfl)
theorem dX5_row_6 : decode cX5_row 6 = .ok (.getfield 227, 3) := dk_180 0 227 (dk_at dksX5_row_0 6 rfl rfl)
theorem dX5_row_9 : decode cX5_row 9 = .ok (.istore_n 1, 1) := dk_60 (dk_at dksX5_row_0 9 rfl rfl)
theorem dX5_row_10 : decode cX5_row 10 = .ok (.aload_n 0, 1) := dk_42 (dk_at dksX5_row_0 10 rfl rfl)
theorem dX5_row_11 : decode cX5_row 11 = .ok (.iconst 0, 1) := dk_3 (dk_at dksX5_row_0 11 rfl rfl)
theorem dX5_row_12 : decode cX5_row 12 = .ok (.putfield 227, 3) := dk_181 0 227 (dk_at dksX5_row_0 12 rfl rfl)
theorem dX5_row_15 : decode cX5_row 15 = .ok (.iload_n 1, 1) := dk_27 (dk_at dksX5_row_0 15 rfl rfl)
theorem dX5_row_16 : decode cX5_row 16 = .ok (.ifCond .ne 10, 3) := dk_154 0 10 (dk_at dksX5_row_0 16 rfl rfl)
theorem dX5_row_19 : decode cX5_row 19 = .ok (.aload_n 0, 1) := dk_42 (dk_at dksX5_row_0 19 rfl rfl)
theorem dX5_row_20 : decode cX5_row 20 = .ok (.bipush (-6), 2) := dk_16 250 (dk_at dksX5_row_0 20 rfl rfl)
theorem dX5_row_22 : decode cX5_row 22 = .ok (.invokevirtual 168, 3) := dk_182 0 168 (dk_at dksX5_row_1 0 rfl rfl)
theorem dX5_row_25 : decode cX5_row 25 = .ok (.ireturn, 1) := dk_172 (dk_at dksX5_row_1 3 rfl rfl)
theorem dX5_row_26 : decode cX5_row 26 = .ok (.aload_n 0, 1) := dk_42 (dk_at dksX5_row_1 4 rfl rfl)
theorem dX5_row_27 : decode cX5_row 27 = .ok (.iconst 0, 1) := dk_3 (dk_at dksX5_row_1 5 rfl rfl)
theorem dX5_row_28 : decode cX5_row 28 = .ok (.putfield 230, 3) := dk_181 0 230 (dk_at dksX5_row_1 6 rfl rfl)
theorem dX5_row_31 : decode cX5_row 31 = .ok (.iconst 0, 1) := dk_3 (dk_at dksX5_row_1 9 rfl rfl)
theorem dX5_row_32 : decode cX5_row 32 = .ok (.istore_n 2, 1) := dk_61 (dk_at dksX5_row_1 10 rfl rfl)
theorem dX5_row_33 : decode cX5_row 33 = .ok (.iconst 0, 1) := dk_3 (dk_at dksX5_row_1 11 rfl rfl)
theorem dX5_row_34 : decode cX5_row 34 = .ok (.istore_n 3, 1) := dk_62 (dk_at dksX5_row_1 12 rfl rfl)
theorem dX5_row_35 : decode cX5_row 35 = .ok (.iload_n 3, 1) := dk_29 (dk_at dksX5_row_1 13 rfl rfl)
theorem dX5_row_36 : decode cX5_row 36 = .ok (.iload_n 1, 1) := dk_27 (dk_at dksX5_row_1 14 rfl rfl)
theorem dX5_row_37 : decode cX5_row 37 = .ok (.if_icmp .ge 69, 3) := dk_162 0 69 (dk_at dksX5_row_1 15 rfl rfl)
theorem dX5_row_40 : decode cX5_row 40 = .ok (.iload_n 3, 1) := dk_29 (dk_at dksX5_row_1 18 rfl rfl)
theorem dX5_row_41 : decode cX5_row 41 = .ok (.iconst 3, 1) := dk_6 (dk_at dksX5_row_1 19 rfl rfl)
theorem dX5_row_42 : decode cX5_row 42 = .ok (.iadd, 1) := dk_96 (dk_at dksX5_row_1 20 rfl rfl)
theorem dX5_row_43 : decode cX5_row 43 = .ok (.iload_n 1, 1) := dk_27 (dk_at dksX5_row_1 21 rfl rfl)
theorem dX5_row_44 : decode cX5_row 44 = .ok (.if_icmp .ge 46, 3) := dk_162 0 46 (dk_at dksX5_row_2 0 rfl rfl)
theorem dX5_row_47 : decode cX5_row 47 = .ok (.aload_n 0, 1) := dk_42 (dk_at dksX5_row_2 3 rfl rfl)
theorem dX5_row_48 : decode cX5_row 48 = .ok (.aload_n 0, 1) := dk_42 (dk_at dksX5_row_2 4 rfl rfl)
theorem dX5_row_49 : decode cX5_row 49 = .ok (.getfield 35, 3) := dk_180 0 35 (dk_at dksX5_row_2 5 rfl rfl)
theorem dX5_row_52 : decode cX5_row 52 = .ok (.iload_n 3, 1) := dk_29 (dk_at dksX5_row_2 8 rfl rfl)
theorem dX5_row_53 : decode cX5_row 53 = .ok (.iaload, 1) := dk_46 (dk_at dksX5_row_2 9 rfl rfl)
theorem dX5_row_54 : decode cX5_row 54 = .ok (.aload_n 0, 1) := dk_42 (dk_at dksX5_row_2 10 rfl rfl)
theorem dX5_row_55 : decode cX5_row 55 = .ok (.getfield 35, 3) := dk_180 0 35 (dk_at dksX5_row_2 11 rfl rfl)
theorem dX5_row_58 : decode cX5_row 58 = .ok (.iload_n 3, 1) := dk_29 (dk_at dksX5_row_2 14 rfl rfl)
theorem dX5_row_59 : decode cX5_row 59 = .ok (.iconst 1, 1) := dk_4 (dk_at dksX5_row_2 15 rfl rfl)
theorem dX5_row_60 : decode cX5_row 60 = .ok (.iadd, 1) := dk_96 (dk_at dksX5_row_2 16 rfl rfl)
theorem dX5_row_61 : decode cX5_row 61 = .ok (.iaload, 1) := dk_46 (dk_at dksX5_row_2 17 rfl rfl)
theorem dX5_row_62 : decode cX5_row 62 = .ok (.aload_n 0, 1) := dk_42 (dk_at dksX5_row_2 18 rfl rfl)
theorem dX5_row_63 : decode cX5_row 63 = .ok (.getfield 35, 3) := dk_180 0 35 (dk_at dksX5_row_2 19 rfl rfl)
theorem dX5_row_66 : decode cX5_row 66 = .ok (.iload_n 3, 1) := dk_29 (dk_at dksX5_row_2 22 rfl rfl)
theorem dX5_row_67 : decode cX5_row 67 = .ok (.iconst 2, 1) := dk_5 (dk_at dksX5_row_2 23 rfl rfl)
theorem dX5_row_68 : decode cX5_row 68 = .ok (.iadd, 1) := dk_96 (dk_at dksX5_row_3 0 rfl rfl)
theorem dX5_row_69 : decode cX5_row 69 = .ok (.iaload, 1) := dk_46 (dk_at dksX5_row_3 1 rfl rfl)
theorem dX5_row_70 : decode cX5_row 70 = .ok (.aload_n 0, 1) := dk_42 (dk_at dksX5_row_3 2 rfl rfl)
theorem dX5_row_71 : decode cX5_row 71 = .ok (.getfield 35, 3) := dk_180 0 35 (dk_at dksX5_row_3 3 rfl rfl)
theorem dX5_row_74 : decode cX5_row 74 = .ok (.iload_n 3, 1) := dk_29 (dk_at dksX5_row_3 6 rfl rfl)
theorem dX5_row_75 : decode cX5_row 75 = .ok (.iconst 3, 1) := dk_6 (dk_at dksX5_row_3 7 rfl rfl)
theorem dX5_row_76 : decode cX5_row 76 = .ok (.iadd, 1) := dk_96 (dk_at dksX5_row_3 8 rfl rfl)
theorem dX5_row_77 : decode cX5_row 77 = .ok (.iaload, 1) := dk_46 (dk_at dksX5_row_3 9 rfl rfl)
theorem dX5_row_78 : decode cX5_row 78 = .ok (.invokevirtual 196, 3) := dk_182 0 196 (dk_at dksX5_row_3 10 rfl rfl)
theorem dX5_row_81 : decode cX5_row 81 = .ok (.ifCond .lt 9, 3) := dk_155 0 9 (dk_at dksX5_row_3 13 rfl rfl)
theorem dX5_row_84 : decode cX5_row 84 = .ok (.iinc 2 1, 3) := dk_132 2 1 (dk_at dksX5_row_3 16 rfl rfl)
theorem dX5_row_87 : decode cX5_row 87 = .ok (.goto 13, 3) := dk_167 0 13 (dk_at dksX5_row_3 19 rfl rfl)
theorem dX5_row_90 : decode cX5_row 90 = .ok (.aload_n 0, 1) := dk_42 (dk_at dksX5_row_3 22 rfl rfl)
theorem dX5_row_91 : decode cX5_row 91 = .ok (.dup, 1) := dk_89 (dk_at dksX5_row_3 23 rfl rfl)
theorem dX5_row_92 : decode cX5_row 92 = .ok (.getfield 230, 3) := dk_180 0 230 (dk_at dksX5_row_4 0 rfl rfl)
theorem dX5_row_95 : decode cX5_row 95 = .ok (.iconst 1, 1) := dk_4 (dk_at dksX5_row_4 3 rfl rfl)
theorem dX5_row_96 : decode cX5_row 96 = .ok (.iadd, 1) := dk_96 (dk_at dksX5_row_4 4 rfl rfl)
theorem dX5_row_97 : decode cX5_row 97 = .ok (.putfield 230, 3) := dk_181 0 230 (dk_at dksX5_row_4 5 rfl rfl)
theorem dX5_row_100 : decode cX5_row 100 = .ok (.iinc 3 4, 3) := dk_132 3 4 (dk_at dksX5_row_4 8 rfl rfl)
theorem dX5_row_103 : decode cX5_row 103 = .ok (.goto (-68), 3) := dk_167 255 188 (dk_at dksX5_row_4 11 rfl rfl)
theorem dX5_row_106 : decode cX5_row 106 = .ok (.aload_n 0, 1) := dk_42 (dk_at dksX5_row_4 14 rfl rfl)
theorem dX5_row_107 : decode cX5_row 107 = .ok (.iload_n 2, 1) := dk_28 (dk_at dksX5_row_4 15 rfl rfl)
theorem dX5_row_108 : decode cX5_row 108 = .ok (.invokevirtual 183, 3) := dk_182 0 183 (dk_at dksX5_row_4 16 rfl rfl)
theorem dX5_row_111 : decode cX5_row 111 = .ok (.ireturn, 1) := dk_172 (dk_at dksX5_row_4 19 rfl rfl)
abbrev cX5_gravel : ByteArray := prog_22_method_30_code
def yX5_gravel : MethodName := ⟨RX5, "gravel", "()I"⟩
def dkwX5_gravel_0 : List UInt8 := [42, 3, 181, 0, 159, 42, 180, 0, 230, 172]
abbrev dktX5_gravel_0 : List UInt8 := dkwX5_gravel_0 ++ []
theorem dksX5_gravel_0 : cX5_gravel.data.toList.drop 0 = dktX5_gravel_0 := by decide +kernel
theorem dX5_gravel_0 : decode cX5_gravel 0 = .ok (.aload_n 0, 1) := dk_42 (dk_at dksX5_gravel_0 0 rfl rfl)
theorem dX5_gravel_1 : decode cX5_gravel 1 = .ok (.iconst 0, 1) := dk_3 (dk_at dksX5_gravel_0 1 rfl rfl)
theorem dX5_gravel_2 : decode cX5_gravel 2 = .ok (.putfield 159, 3) := dk_181 0 159 (dk_at dksX5_gravel_0 2 rfl rfl)
theorem dX5_gravel_5 : decode cX5_gravel 5 = .ok (.aload_n 0, 1) := dk_42 (dk_at dksX5_gravel_0 5 rfl rfl)
theorem dX5_gravel_6 : decode cX5_gravel 6 = .ok (.getfield 230, 3) := dk_180 0 230 (dk_at dksX5_gravel_0 6 rfl rfl)
theorem dX5_gravel_9 : decode cX5_gravel 9 = .ok (.ireturn, 1) := dk_172 (dk_at dksX5_gravel_0 9 rfl rfl)
abbrev cX5_feed : ByteArray := prog_22_method_32_code
def yX5_feed : MethodName := ⟨RX5, "feed", "(IIIII)I"⟩
def dkwX5_feed_2 : List UInt8 := [182, 0, 233, 42, 180, 0, 227, 172]
abbrev dktX5_feed_2 : List UInt8 := dkwX5_feed_2 ++ []
def dkwX5_feed_1 : List UInt8 := [182, 0, 233, 42, 28, 182, 0, 233, 42, 29, 182, 0, 233, 42, 21, 4, 182, 0, 233, 42, 21, 5]
abbrev dktX5_feed_1 : List UInt8 := dkwX5_feed_1 ++ dktX5_feed_2
def dkwX5_feed_0 : List UInt8 := [42, 3, 181, 0, 159, 42, 180, 0, 227, 16, 20, 96, 17, 1, 144, 164, 0, 5, 2, 172, 42, 27]
abbrev dktX5_feed_0 : List UInt8 := dkwX5_feed_0 ++ dktX5_feed_1
theorem dksX5_feed_0 : cX5_feed.data.toList.drop 0 = dktX5_feed_0 := by decide +kernel
theorem dksX5_feed_1 : cX5_feed.data.toList.drop 22 = dktX5_feed_1 := dk_seg dksX5_feed_0 22 rfl rfl
theorem dksX5_feed_2 : cX5_feed.data.toList.drop 44 = dktX5_feed_2 := dk_seg dksX5_feed_1 22 rfl rfl
theorem dX5_feed_0 : decode cX5_feed 0 = .ok (.aload_n 0, 1) := dk_42 (dk_at dksX5_feed_0 0 rfl rfl)
theorem dX5_feed_1 : decode cX5_feed 1 = .ok (.iconst 0, 1) := dk_3 (dk_at dksX5_feed_0 1 rfl rfl)
theorem dX5_feed_2 : decode cX5_feed 2 = .ok (.putfield 159, 3) := dk_181 0 159 (dk_at dksX5_feed_0 2 rfl rfl)
theorem dX5_feed_5 : decode cX5_feed 5 = .ok (.aload_n 0, 1) := dk_42 (dk_at dksX5_feed_0 5 rfl rfl)
theorem dX5_feed_6 : decode cX5_feed 6 = .ok (.getfield 227, 3) := dk_180 0 227 (dk_at dksX5_feed_0 6 rfl rfl)
theorem dX5_feed_9 : decode cX5_feed 9 = .ok (.bipush 20, 2) := dk_16 20 (dk_at dksX5_feed_0 9 rfl rfl)
theorem dX5_feed_11 : decode cX5_feed 11 = .ok (.iadd, 1) := dk_96 (dk_at dksX5_feed_0 11 rfl rfl)
theorem dX5_feed_12 : decode cX5_feed 12 = .ok (.sipush 400, 3) := dk_17 1 144 (dk_at dksX5_feed_0 12 rfl rfl)
theorem dX5_feed_15 : decode cX5_feed 15 = .ok (.if_icmp .le 5, 3) := dk_164 0 5 (dk_at dksX5_feed_0 15 rfl rfl)
theorem dX5_feed_18 : decode cX5_feed 18 = .ok (.iconst (-1), 1) := dk_2 (dk_at dksX5_feed_0 18 rfl rfl)
theorem dX5_feed_19 : decode cX5_feed 19 = .ok (.ireturn, 1) := dk_172 (dk_at dksX5_feed_0 19 rfl rfl)
theorem dX5_feed_20 : decode cX5_feed 20 = .ok (.aload_n 0, 1) := dk_42 (dk_at dksX5_feed_0 20 rfl rfl)
theorem dX5_feed_21 : decode cX5_feed 21 = .ok (.iload_n 1, 1) := dk_27 (dk_at dksX5_feed_0 21 rfl rfl)
theorem dX5_feed_22 : decode cX5_feed 22 = .ok (.invokevirtual 233, 3) := dk_182 0 233 (dk_at dksX5_feed_1 0 rfl rfl)
theorem dX5_feed_25 : decode cX5_feed 25 = .ok (.aload_n 0, 1) := dk_42 (dk_at dksX5_feed_1 3 rfl rfl)
theorem dX5_feed_26 : decode cX5_feed 26 = .ok (.iload_n 2, 1) := dk_28 (dk_at dksX5_feed_1 4 rfl rfl)
theorem dX5_feed_27 : decode cX5_feed 27 = .ok (.invokevirtual 233, 3) := dk_182 0 233 (dk_at dksX5_feed_1 5 rfl rfl)
theorem dX5_feed_30 : decode cX5_feed 30 = .ok (.aload_n 0, 1) := dk_42 (dk_at dksX5_feed_1 8 rfl rfl)
theorem dX5_feed_31 : decode cX5_feed 31 = .ok (.iload_n 3, 1) := dk_29 (dk_at dksX5_feed_1 9 rfl rfl)
theorem dX5_feed_32 : decode cX5_feed 32 = .ok (.invokevirtual 233, 3) := dk_182 0 233 (dk_at dksX5_feed_1 10 rfl rfl)
theorem dX5_feed_35 : decode cX5_feed 35 = .ok (.aload_n 0, 1) := dk_42 (dk_at dksX5_feed_1 13 rfl rfl)
theorem dX5_feed_36 : decode cX5_feed 36 = .ok (.iload 4, 2) := dk_21 4 (dk_at dksX5_feed_1 14 rfl rfl)
theorem dX5_feed_38 : decode cX5_feed 38 = .ok (.invokevirtual 233, 3) := dk_182 0 233 (dk_at dksX5_feed_1 16 rfl rfl)
theorem dX5_feed_41 : decode cX5_feed 41 = .ok (.aload_n 0, 1) := dk_42 (dk_at dksX5_feed_1 19 rfl rfl)
theorem dX5_feed_42 : decode cX5_feed 42 = .ok (.iload 5, 2) := dk_21 5 (dk_at dksX5_feed_1 20 rfl rfl)
theorem dX5_feed_44 : decode cX5_feed 44 = .ok (.invokevirtual 233, 3) := dk_182 0 233 (dk_at dksX5_feed_2 0 rfl rfl)
theorem dX5_feed_47 : decode cX5_feed 47 = .ok (.aload_n 0, 1) := dk_42 (dk_at dksX5_feed_2 3 rfl rfl)
theorem dX5_feed_48 : decode cX5_feed 48 = .ok (.getfield 227, 3) := dk_180 0 227 (dk_at dksX5_feed_2 4 rfl rfl)
theorem dX5_feed_51 : decode cX5_feed 51 = .ok (.ireturn, 1) := dk_172 (dk_at dksX5_feed_2 7 rfl rfl)
abbrev cX5_four : ByteArray := prog_22_method_31_code
def yX5_four : MethodName := ⟨RX5, "four", "(I)V"⟩
def dkwX5_four_1 : List UInt8 := [89, 180, 0, 227, 4, 96, 181, 0, 227, 132, 2, 248, 167, 255, 223, 177]
abbrev dktX5_four_1 : List UInt8 := dkwX5_four_1 ++ []
def dkwX5_four_0 : List UInt8 := [16, 24, 61, 28, 155, 0, 35, 42, 180, 0, 35, 42, 180, 0, 227, 27, 28, 122, 17, 0, 255, 126, 79, 42]
abbrev dktX5_four_0 : List UInt8 := dkwX5_four_0 ++ dktX5_four_1
theorem dksX5_four_0 : cX5_four.data.toList.drop 0 = dktX5_four_0 := by decide +kernel
theorem dksX5_four_1 : cX5_four.data.toList.drop 24 = dktX5_four_1 := dk_seg dksX5_four_0 24 rfl rfl
theorem dX5_four_0 : decode cX5_four 0 = .ok (.bipush 24, 2) := dk_16 24 (dk_at dksX5_four_0 0 rfl rfl)
theorem dX5_four_2 : decode cX5_four 2 = .ok (.istore_n 2, 1) := dk_61 (dk_at dksX5_four_0 2 rfl rfl)
theorem dX5_four_3 : decode cX5_four 3 = .ok (.iload_n 2, 1) := dk_28 (dk_at dksX5_four_0 3 rfl rfl)
theorem dX5_four_4 : decode cX5_four 4 = .ok (.ifCond .lt 35, 3) := dk_155 0 35 (dk_at dksX5_four_0 4 rfl rfl)
theorem dX5_four_7 : decode cX5_four 7 = .ok (.aload_n 0, 1) := dk_42 (dk_at dksX5_four_0 7 rfl rfl)
theorem dX5_four_8 : decode cX5_four 8 = .ok (.getfield 35, 3) := dk_180 0 35 (dk_at dksX5_four_0 8 rfl rfl)
theorem dX5_four_11 : decode cX5_four 11 = .ok (.aload_n 0, 1) := dk_42 (dk_at dksX5_four_0 11 rfl rfl)
theorem dX5_four_12 : decode cX5_four 12 = .ok (.getfield 227, 3) := dk_180 0 227 (dk_at dksX5_four_0 12 rfl rfl)
theorem dX5_four_15 : decode cX5_four 15 = .ok (.iload_n 1, 1) := dk_27 (dk_at dksX5_four_0 15 rfl rfl)
theorem dX5_four_16 : decode cX5_four 16 = .ok (.iload_n 2, 1) := dk_28 (dk_at dksX5_four_0 16 rfl rfl)
theorem dX5_four_17 : decode cX5_four 17 = .ok (.ishr, 1) := dk_122 (dk_at dksX5_four_0 17 rfl rfl)
theorem dX5_four_18 : decode cX5_four 18 = .ok (.sipush 255, 3) := dk_17 0 255 (dk_at dksX5_four_0 18 rfl rfl)
theorem dX5_four_21 : decode cX5_four 21 = .ok (.iand, 1) := dk_126 (dk_at dksX5_four_0 21 rfl rfl)
theorem dX5_four_22 : decode cX5_four 22 = .ok (.iastore, 1) := dk_79 (dk_at dksX5_four_0 22 rfl rfl)
theorem dX5_four_23 : decode cX5_four 23 = .ok (.aload_n 0, 1) := dk_42 (dk_at dksX5_four_0 23 rfl rfl)
theorem dX5_four_24 : decode cX5_four 24 = .ok (.dup, 1) := dk_89 (dk_at dksX5_four_1 0 rfl rfl)
theorem dX5_four_25 : decode cX5_four 25 = .ok (.getfield 227, 3) := dk_180 0 227 (dk_at dksX5_four_1 1 rfl rfl)
theorem dX5_four_28 : decode cX5_four 28 = .ok (.iconst 1, 1) := dk_4 (dk_at dksX5_four_1 4 rfl rfl)
theorem dX5_four_29 : decode cX5_four 29 = .ok (.iadd, 1) := dk_96 (dk_at dksX5_four_1 5 rfl rfl)
theorem dX5_four_30 : decode cX5_four 30 = .ok (.putfield 227, 3) := dk_181 0 227 (dk_at dksX5_four_1 6 rfl rfl)
theorem dX5_four_33 : decode cX5_four 33 = .ok (.iinc 2 (-8), 3) := dk_132 2 248 (dk_at dksX5_four_1 9 rfl rfl)
theorem dX5_four_36 : decode cX5_four 36 = .ok (.goto (-33), 3) := dk_167 255 223 (dk_at dksX5_four_1 12 rfl rfl)
theorem dX5_four_39 : decode cX5_four 39 = .ok (.return_, 1) := dk_177 (dk_at dksX5_four_1 15 rfl rfl)
abbrev cX5_end : ByteArray := prog_22_method_33_code
def yX5_end : MethodName := ⟨RX5, "end", "(I)I"⟩
def dkwX5_end_1 : List UInt8 := [27, 172]
abbrev dktX5_end_1 : List UInt8 := dkwX5_end_1 ++ []
def dkwX5_end_0 : List UInt8 := [42, 3, 181, 0, 159, 27, 155, 0, 11, 27, 42, 180, 0, 227, 164, 0, 5, 2, 172, 42, 27, 181, 0, 227]
abbrev dktX5_end_0 : List UInt8 := dkwX5_end_0 ++ dktX5_end_1
theorem dksX5_end_0 : cX5_end.data.toList.drop 0 = dktX5_end_0 := by decide +kernel
theorem dksX5_end_1 : cX5_end.data.toList.drop 24 = dktX5_end_1 := dk_seg dksX5_end_0 24 rfl rfl
theorem dX5_end_0 : decode cX5_end 0 = .ok (.aload_n 0, 1) := dk_42 (dk_at dksX5_end_0 0 rfl rfl)
theorem dX5_end_1 : decode cX5_end 1 = .ok (.iconst 0, 1) := dk_3 (dk_at dksX5_end_0 1 rfl rfl)
theorem dX5_end_2 : decode cX5_end 2 = .ok (.putfield 159, 3) := dk_181 0 159 (dk_at dksX5_end_0 2 rfl rfl)
theorem dX5_end_5 : decode cX5_end 5 = .ok (.iload_n 1, 1) := dk_27 (dk_at dksX5_end_0 5 rfl rfl)
theorem dX5_end_6 : decode cX5_end 6 = .ok (.ifCond .lt 11, 3) := dk_155 0 11 (dk_at dksX5_end_0 6 rfl rfl)
theorem dX5_end_9 : decode cX5_end 9 = .ok (.iload_n 1, 1) := dk_27 (dk_at dksX5_end_0 9 rfl rfl)
theorem dX5_end_10 : decode cX5_end 10 = .ok (.aload_n 0, 1) := dk_42 (dk_at dksX5_end_0 10 rfl rfl)
theorem dX5_end_11 : decode cX5_end 11 = .ok (.getfield 227, 3) := dk_180 0 227 (dk_at dksX5_end_0 11 rfl rfl)
theorem dX5_end_14 : decode cX5_end 14 = .ok (.if_icmp .le 5, 3) := dk_164 0 5 (dk_at dksX5_end_0 14 rfl rfl)
theorem dX5_end_17 : decode cX5_end 17 = .ok (.iconst (-1), 1) := dk_2 (dk_at dksX5_end_0 17 rfl rfl)
theorem dX5_end_18 : decode cX5_end 18 = .ok (.ireturn, 1) := dk_172 (dk_at dksX5_end_0 18 rfl rfl)
theorem dX5_end_19 : decode cX5_end 19 = .ok (.aload_n 0, 1) := dk_42 (dk_at dksX5_end_0 19 rfl rfl)
theorem dX5_end_20 : decode cX5_end 20 = .ok (.iload_n 1, 1) := dk_27 (dk_at dksX5_end_0 20 rfl rfl)
theorem dX5_end_21 : decode cX5_end 21 = .ok (.putfield 227, 3) := dk_181 0 227 (dk_at dksX5_end_0 21 rfl rfl)
theorem dX5_end_24 : decode cX5_end 24 = .ok (.iload_n 1, 1) := dk_27 (dk_at dksX5_end_1 0 rfl rfl)
theorem dX5_end_25 : decode cX5_end 25 = .ok (.ireturn, 1) := dk_172 (dk_at dksX5_end_1 1 rfl rfl)
abbrev cX5_fault : ByteArray := prog_22_method_42_code
def yX5_fault : MethodName := ⟨RX5, "fault", "()I"⟩
def dkwX5_fault_0 : List UInt8 := [42, 3, 181, 0, 159, 42, 180, 0, 38, 172]
abbrev dktX5_fault_0 : List UInt8 := dkwX5_fault_0 ++ []
theorem dksX5_fault_0 : cX5_fault.data.toList.drop 0 = dktX5_fault_0 := by decide +kernel
theorem dX5_fault_0 : decode cX5_fault 0 = .ok (.aload_n 0, 1) := dk_42 (dk_at dksX5_fault_0 0 rfl rfl)
theorem dX5_fault_1 : decode cX5_fault 1 = .ok (.iconst 0, 1) := dk_3 (dk_at dksX5_fault_0 1 rfl rfl)
theorem dX5_fault_2 : decode cX5_fault 2 = .ok (.putfield 159, 3) := dk_181 0 159 (dk_at dksX5_fault_0 2 rfl rfl)
theorem dX5_fault_5 : decode cX5_fault 5 = .ok (.aload_n 0, 1) := dk_42 (dk_at dksX5_fault_0 5 rfl rfl)
theorem dX5_fault_6 : decode cX5_fault 6 = .ok (.getfield 38, 3) := dk_180 0 38 (dk_at dksX5_fault_0 6 rfl rfl)
theorem dX5_fault_9 : decode cX5_fault 9 = .ok (.ireturn, 1) := dk_172 (dk_at dksX5_fault_0 9 rfl rfl)
abbrev cX5_law : ByteArray := prog_22_method_61_code
def yX5_law : MethodName := ⟨RX5, "law", "()I"⟩
def dkwX5_law_9 : List UInt8 := [180, 0, 13, 6, 46, 4, 100, 182, 0, 168, 172]
abbrev dktX5_law_9 : List UInt8 := dkwX5_law_9 ++ []
def dkwX5_law_8 : List UInt8 := [180, 0, 48, 28, 46, 79, 132, 2, 1, 167, 255, 205, 42, 180, 0, 13, 6, 92, 46, 4, 96, 79, 42, 42]
abbrev dktX5_law_8 : List UInt8 := dkwX5_law_8 ++ dktX5_law_9
def dkwX5_law_7 : List UInt8 := [96, 42, 180, 0, 45, 28, 46, 79, 42, 180, 0, 13, 27, 16, 98, 96, 5, 28, 104, 96, 4, 96, 42]
abbrev dktX5_law_7 : List UInt8 := dkwX5_law_7 ++ dktX5_law_8
def dkwX5_law_6 : List UInt8 := [167, 255, 226, 3, 61, 28, 42, 180, 1, 20, 162, 0, 49, 42, 180, 0, 13, 27, 16, 98, 96, 5, 28, 104]
abbrev dktX5_law_6 : List UInt8 := dkwX5_law_6 ++ dktX5_law_7
def dkwX5_law_5 : List UInt8 := [104, 162, 0, 25, 42, 180, 0, 13, 27, 5, 96, 28, 96, 42, 180, 0, 42, 28, 46, 79, 132, 2, 1]
abbrev dktX5_law_5 : List UInt8 := dkwX5_law_5 ++ dktX5_law_6
def dkwX5_law_4 : List UInt8 := [104, 96, 60, 42, 180, 0, 13, 27, 4, 96, 42, 180, 1, 114, 79, 3, 61, 28, 16, 8, 42, 180, 1, 114]
abbrev dktX5_law_4 : List UInt8 := dkwX5_law_4 ++ dktX5_law_5
def dkwX5_law_3 : List UInt8 := [180, 0, 239, 153, 0, 10, 42, 16, 250, 182, 0, 168, 172, 16, 76, 17, 3, 132, 42, 180, 0, 13, 6, 46]
abbrev dktX5_law_3 : List UInt8 := dkwX5_law_3 ++ dktX5_law_4
def dkwX5_law_2 : List UInt8 := [182, 1, 54, 153, 0, 14, 42, 182, 0, 243, 42, 182, 1, 125, 167, 255, 232, 42, 182, 1, 128, 42]
abbrev dktX5_law_2 : List UInt8 := dkwX5_law_2 ++ dktX5_law_3
def dkwX5_law_1 : List UInt8 := [182, 0, 168, 172, 42, 3, 182, 1, 122, 42, 182, 1, 125, 42, 180, 0, 239, 154, 0, 23, 42, 16, 59]
abbrev dktX5_law_1 : List UInt8 := dkwX5_law_1 ++ dktX5_law_2
def dkwX5_law_0 : List UInt8 := [42, 3, 181, 0, 159, 42, 180, 0, 13, 6, 46, 16, 6, 160, 0, 15, 42, 3, 181, 0, 227, 42, 16, 251]
abbrev dktX5_law_0 : List UInt8 := dkwX5_law_0 ++ dktX5_law_1
theorem dksX5_law_0 : cX5_law.data.toList.drop 0 = dktX5_law_0 := by decide +kernel
theorem dksX5_law_1 : cX5_law.data.toList.drop 24 = dktX5_law_1 := dk_seg dksX5_law_0 24 rfl rfl
theorem dksX5_law_2 : cX5_law.data.toList.drop 47 = dktX5_law_2 := dk_seg dksX5_law_1 23 rfl rfl
theorem dksX5_law_3 : cX5_law.data.toList.drop 69 = dktX5_law_3 := dk_seg dksX5_law_2 22 rfl rfl
theorem dksX5_law_4 : cX5_law.data.toList.drop 93 = dktX5_law_4 := dk_seg dksX5_law_3 24 rfl rfl
theorem dksX5_law_5 : cX5_law.data.toList.drop 117 = dktX5_law_5 := dk_seg dksX5_law_4 24 rfl rfl
theorem dksX5_law_6 : cX5_law.data.toList.drop 140 = dktX5_law_6 := dk_seg dksX5_law_5 23 rfl rfl
theorem dksX5_law_7 : cX5_law.data.toList.drop 164 = dktX5_law_7 := dk_seg dksX5_law_6 24 rfl rfl
theorem dksX5_law_8 : cX5_law.data.toList.drop 187 = dktX5_law_8 := dk_seg dksX5_law_7 23 rfl rfl
theorem dksX5_law_9 : cX5_law.data.toList.drop 211 = dktX5_law_9 := dk_seg dksX5_law_8 24 rfl rfl
theorem dX5_law_0 : decode cX5_law 0 = .ok (.aload_n 0, 1) := dk_42 (dk_at dksX5_law_0 0 rfl rfl)
theorem dX5_law_1 : decode cX5_law 1 = .ok (.iconst 0, 1) := dk_3 (dk_at dksX5_law_0 1 rfl rfl)
theorem dX5_law_2 : decode cX5_law 2 = .ok (.putfield 159, 3) := dk_181 0 159 (dk_at dksX5_law_0 2 rfl rfl)
theorem dX5_law_5 : decode cX5_law 5 = .ok (.aload_n 0, 1) := dk_42 (dk_at dksX5_law_0 5 rfl rfl)
theorem dX5_law_6 : decode cX5_law 6 = .ok (.getfield 13, 3) := dk_180 0 13 (dk_at dksX5_law_0 6 rfl rfl)
theorem dX5_law_9 : decode cX5_law 9 = .ok (.iconst 3, 1) := dk_6 (dk_at dksX5_law_0 9 rfl rfl)
theorem dX5_law_10 : decode cX5_law 10 = .ok (.iaload, 1) := dk_46 (dk_at dksX5_law_0 10 rfl rfl)
theorem dX5_law_11 : decode cX5_law 11 = .ok (.bipush 6, 2) := dk_16 6 (dk_at dksX5_law_0 11 rfl rfl)
theorem dX5_law_13 : decode cX5_law 13 = .ok (.if_icmp .ne 15, 3) := dk_160 0 15 (dk_at dksX5_law_0 13 rfl rfl)
theorem dX5_law_16 : decode cX5_law 16 = .ok (.aload_n 0, 1) := dk_42 (dk_at dksX5_law_0 16 rfl rfl)
theorem dX5_law_17 : decode cX5_law 17 = .ok (.iconst 0, 1) := dk_3 (dk_at dksX5_law_0 17 rfl rfl)
theorem dX5_law_18 : decode cX5_law 18 = .ok (.putfield 227, 3) := dk_181 0 227 (dk_at dksX5_law_0 18 rfl rfl)
theorem dX5_law_21 : decode cX5_law 21 = .ok (.aload_n 0, 1) := dk_42 (dk_at dksX5_law_0 21 rfl rfl)
theorem dX5_law_22 : decode cX5_law 22 = .ok (.bipush (-5), 2) := dk_16 251 (dk_at dksX5_law_0 22 rfl rfl)
theorem dX5_law_24 : decode cX5_law 24 = .ok (.invokevirtual 168, 3) := dk_182 0 168 (dk_at dksX5_law_1 0 rfl rfl)
theorem dX5_law_27 : decode cX5_law 27 = .ok (.ireturn, 1) := dk_172 (dk_at dksX5_law_1 3 rfl rfl)
theorem dX5_law_28 : decode cX5_law 28 = .ok (.aload_n 0, 1) := dk_42 (dk_at dksX5_law_1 4 rfl rfl)
theorem dX5_law_29 : decode cX5_law 29 = .ok (.iconst 0, 1) := dk_3 (dk_at dksX5_law_1 5 rfl rfl)
theorem dX5_law_30 : decode cX5_law 30 = .ok (.invokevirtual 378, 3) := dk_182 1 122 (dk_at dksX5_law_1 6 rfl rfl)
theorem dX5_law_33 : decode cX5_law 33 = .ok (.aload_n 0, 1) := dk_42 (dk_at dksX5_law_1 9 rfl rfl)
theorem dX5_law_34 : decode cX5_law 34 = .ok (.invokevirtual 381, 3) := dk_182 1 125 (dk_at dksX5_law_1 10 rfl rfl)
theorem dX5_law_37 : decode cX5_law 37 = .ok (.aload_n 0, 1) := dk_42 (dk_at dksX5_law_1 13 rfl rfl)
theorem dX5_law_38 : decode cX5_law 38 = .ok (.getfield 239, 3) := dk_180 0 239 (dk_at dksX5_law_1 14 rfl rfl)
theorem dX5_law_41 : decode cX5_law 41 = .ok (.ifCond .ne 23, 3) := dk_154 0 23 (dk_at dksX5_law_1 17 rfl rfl)
theorem dX5_law_44 : decode cX5_law 44 = .ok (.aload_n 0, 1) := dk_42 (dk_at dksX5_law_1 20 rfl rfl)
theorem dX5_law_45 : decode cX5_law 45 = .ok (.bipush 59, 2) := dk_16 59 (dk_at dksX5_law_1 21 rfl rfl)
theorem dX5_law_47 : decode cX5_law 47 = .ok (.invokevirtual 310, 3) := dk_182 1 54 (dk_at dksX5_law_2 0 rfl rfl)
theorem dX5_law_50 : decode cX5_law 50 = .ok (.ifCond .eq 14, 3) := dk_153 0 14 (dk_at dksX5_law_2 3 rfl rfl)
theorem dX5_law_53 : decode cX5_law 53 = .ok (.aload_n 0, 1) := dk_42 (dk_at dksX5_law_2 6 rfl rfl)
theorem dX5_law_54 : decode cX5_law 54 = .ok (.invokevirtual 243, 3) := dk_182 0 243 (dk_at dksX5_law_2 7 rfl rfl)
theorem dX5_law_57 : decode cX5_law 57 = .ok (.aload_n 0, 1) := dk_42 (dk_at dksX5_law_2 10 rfl rfl)
theorem dX5_law_58 : decode cX5_law 58 = .ok (.invokevirtual 381, 3) := dk_182 1 125 (dk_at dksX5_law_2 11 rfl rfl)
theorem dX5_law_61 : decode cX5_law 61 = .ok (.goto (-24), 3) := dk_167 255 232 (dk_at dksX5_law_2 14 rfl rfl)
theorem dX5_law_64 : decode cX5_law 64 = .ok (.aload_n 0, 1) := dk_42 (dk_at dksX5_law_2 17 rfl rfl)
theorem dX5_law_65 : decode cX5_law 65 = .ok (.invokevirtual 384, 3) := dk_182 1 128 (dk_at dksX5_law_2 18 rfl rfl)
theorem dX5_law_68 : decode cX5_law 68 = .ok (.aload_n 0, 1) := dk_42 (dk_at dksX5_law_2 21 rfl rfl)
theorem dX5_law_69 : decode cX5_law 69 = .ok (.getfield 239, 3) := dk_180 0 239 (dk_at dksX5_law_3 0 rfl rfl)
theorem dX5_law_72 : decode cX5_law 72 = .ok (.ifCond .eq 10, 3) := dk_153 0 10 (dk_at dksX5_law_3 3 rfl rfl)
theorem dX5_law_75 : decode cX5_law 75 = .ok (.aload_n 0, 1) := dk_42 (dk_at dksX5_law_3 6 rfl rfl)
theorem dX5_law_76 : decode cX5_law 76 = .ok (.bipush (-6), 2) := dk_16 250 (dk_at dksX5_law_3 7 rfl rfl)
theorem dX5_law_78 : decode cX5_law 78 = .ok (.invokevirtual 168, 3) := dk_182 0 168 (dk_at dksX5_law_3 9 rfl rfl)
theorem dX5_law_81 : decode cX5_law 81 = .ok (.ireturn, 1) := dk_172 (dk_at dksX5_law_3 12 rfl rfl)
theorem dX5_law_82 : decode cX5_law 82 = .ok (.bipush 76, 2) := dk_16 76 (dk_at dksX5_law_3 13 rfl rfl)
theorem dX5_law_84 : decode cX5_law 84 = .ok (.sipush 900, 3) := dk_17 3 132 (dk_at dksX5_law_3 15 rfl rfl)
theorem dX5_law_87 : decode cX5_law 87 = .ok (.aload_n 0, 1) := dk_42 (dk_at dksX5_law_3 18 rfl rfl)
theorem dX5_law_88 : decode cX5_law 88 = .ok (.getfield 13, 3) := dk_180 0 13 (dk_at dksX5_law_3 19 rfl rfl)
theorem dX5_law_91 : decode cX5_law 91 = .ok (.iconst 3, 1) := dk_6 (dk_at dksX5_law_3 22 rfl rfl)
theorem dX5_law_92 : decode cX5_law 92 = .ok (.iaload, 1) := dk_46 (dk_at dksX5_law_3 23 rfl rfl)
theorem dX5_law_93 : decode cX5_law 93 = .ok (.imul, 1) := dk_104 (dk_at dksX5_law_4 0 rfl rfl)
theorem dX5_law_94 : decode cX5_law 94 = .ok (.iadd, 1) := dk_96 (dk_at dksX5_law_4 1 rfl rfl)
theorem dX5_law_95 : decode cX5_law 95 = .ok (.istore_n 1, 1) := dk_60 (dk_at dksX5_law_4 2 rfl rfl)
theorem dX5_law_96 : decode cX5_law 96 = .ok (.aload_n 0, 1) := dk_42 (dk_at dksX5_law_4 3 rfl rfl)
theorem dX5_law_97 : decode cX5_law 97 = .ok (.getfield 13, 3) := dk_180 0 13 (dk_at dksX5_law_4 4 rfl rfl)
theorem dX5_law_100 : decode cX5_law 100 = .ok (.iload_n 1, 1) := dk_27 (dk_at dksX5_law_4 7 rfl rfl)
theorem dX5_law_101 : decode cX5_law 101 = .ok (.iconst 1, 1) := dk_4 (dk_at dksX5_law_4 8 rfl rfl)
theorem dX5_law_102 : decode cX5_law 102 = .ok (.iadd, 1) := dk_96 (dk_at dksX5_law_4 9 rfl rfl)
theorem dX5_law_103 : decode cX5_law 103 = .ok (.aload_n 0, 1) := dk_42 (dk_at dksX5_law_4 10 rfl rfl)
theorem dX5_law_104 : decode cX5_law 104 = .ok (.getfield 370, 3) := dk_180 1 114 (dk_at dksX5_law_4 11 rfl rfl)
theorem dX5_law_107 : decode cX5_law 107 = .ok (.iastore, 1) := dk_79 (dk_at dksX5_law_4 14 rfl rfl)
theorem dX5_law_108 : decode cX5_law 108 = .ok (.iconst 0, 1) := dk_3 (dk_at dksX5_law_4 15 rfl rfl)
theorem dX5_law_109 : decode cX5_law 109 = .ok (.istore_n 2, 1) := dk_61 (dk_at dksX5_law_4 16 rfl rfl)
theorem dX5_law_110 : decode cX5_law 110 = .ok (.iload_n 2, 1) := dk_28 (dk_at dksX5_law_4 17 rfl rfl)
theorem dX5_law_111 : decode cX5_law 111 = .ok (.bipush 8, 2) := dk_16 8 (dk_at dksX5_law_4 18 rfl rfl)
theorem dX5_law_113 : decode cX5_law 113 = .ok (.aload_n 0, 1) := dk_42 (dk_at dksX5_law_4 20 rfl rfl)
theorem dX5_law_114 : decode cX5_law 114 = .ok (.getfield 370, 3) := dk_180 1 114 (dk_at dksX5_law_4 21 rfl rfl)
theorem dX5_law_117 : decode cX5_law 117 = .ok (.imul, 1) := dk_104 (dk_at dksX5_law_5 0 rfl rfl)
theorem dX5_law_118 : decode cX5_law 118 = .ok (.if_icmp .ge 25, 3) := dk_162 0 25 (dk_at dksX5_law_5 1 rfl rfl)
theorem dX5_law_121 : decode cX5_law 121 = .ok (.aload_n 0, 1) := dk_42 (dk_at dksX5_law_5 4 rfl rfl)
theorem dX5_law_122 : decode cX5_law 122 = .ok (.getfield 13, 3) := dk_180 0 13 (dk_at dksX5_law_5 5 rfl rfl)
theorem dX5_law_125 : decode cX5_law 125 = .ok (.iload_n 1, 1) := dk_27 (dk_at dksX5_law_5 8 rfl rfl)
theorem dX5_law_126 : decode cX5_law 126 = .ok (.iconst 2, 1) := dk_5 (dk_at dksX5_law_5 9 rfl rfl)
theorem dX5_law_127 : decode cX5_law 127 = .ok (.iadd, 1) := dk_96 (dk_at dksX5_law_5 10 rfl rfl)
theorem dX5_law_128 : decode cX5_law 128 = .ok (.iload_n 2, 1) := dk_28 (dk_at dksX5_law_5 11 rfl rfl)
theorem dX5_law_129 : decode cX5_law 129 = .ok (.iadd, 1) := dk_96 (dk_at dksX5_law_5 12 rfl rfl)
theorem dX5_law_130 : decode cX5_law 130 = .ok (.aload_n 0, 1) := dk_42 (dk_at dksX5_law_5 13 rfl rfl)
theorem dX5_law_131 : decode cX5_law 131 = .ok (.getfield 42, 3) := dk_180 0 42 (dk_at dksX5_law_5 14 rfl rfl)
theorem dX5_law_134 : decode cX5_law 134 = .ok (.iload_n 2, 1) := dk_28 (dk_at dksX5_law_5 17 rfl rfl)
theorem dX5_law_135 : decode cX5_law 135 = .ok (.iaload, 1) := dk_46 (dk_at dksX5_law_5 18 rfl rfl)
theorem dX5_law_136 : decode cX5_law 136 = .ok (.iastore, 1) := dk_79 (dk_at dksX5_law_5 19 rfl rfl)
theorem dX5_law_137 : decode cX5_law 137 = .ok (.iinc 2 1, 3) := dk_132 2 1 (dk_at dksX5_law_5 20 rfl rfl)
theorem dX5_law_140 : decode cX5_law 140 = .ok (.goto (-30), 3) := dk_167 255 226 (dk_at dksX5_law_6 0 rfl rfl)
theorem dX5_law_143 : decode cX5_law 143 = .ok (.iconst 0, 1) := dk_3 (dk_at dksX5_law_6 3 rfl rfl)
theorem dX5_law_144 : decode cX5_law 144 = .ok (.istore_n 2, 1) := dk_61 (dk_at dksX5_law_6 4 rfl rfl)
theorem dX5_law_145 : decode cX5_law 145 = .ok (.iload_n 2, 1) := dk_28 (dk_at dksX5_law_6 5 rfl rfl)
theorem dX5_law_146 : decode cX5_law 146 = .ok (.aload_n 0, 1) := dk_42 (dk_at dksX5_law_6 6 rfl rfl)
theorem dX5_law_147 : decode cX5_law 147 = .ok (.getfield 276, 3) := dk_180 1 20 (dk_at dksX5_law_6 7 rfl rfl)
theorem dX5_law_150 : decode cX5_law 150 = .ok (.if_icmp .ge 49, 3) := dk_162 0 49 (dk_at dksX5_law_6 10 rfl rfl)
theorem dX5_law_153 : decode cX5_law 153 = .ok (.aload_n 0, 1) := dk_42 (dk_at dksX5_law_6 13 rfl rfl)
theorem dX5_law_154 : decode cX5_law 154 = .ok (.getfield 13, 3) := dk_180 0 13 (dk_at dksX5_law_6 14 rfl rfl)
theorem dX5_law_157 : decode cX5_law 157 = .ok (.iload_n 1, 1) := dk_27 (dk_at dksX5_law_6 17 rfl rfl)
theorem dX5_law_158 : decode cX5_law 158 = .ok (.bipush 98, 2) := dk_16 98 (dk_at dksX5_law_6 18 rfl rfl)
theorem dX5_law_160 : decode cX5_law 160 = .ok (.iadd, 1) := dk_96 (dk_at dksX5_law_6 20 rfl rfl)
theorem dX5_law_161 : decode cX5_law 161 = .ok (.iconst 2, 1) := dk_5 (dk_at dksX5_law_6 21 rfl rfl)
theorem dX5_law_162 : decode cX5_law 162 = .ok (.iload_n 2, 1) := dk_28 (dk_at dksX5_law_6 22 rfl rfl)
theorem dX5_law_163 : decode cX5_law 163 = .ok (.imul, 1) := dk_104 (dk_at dksX5_law_6 23 rfl rfl)
theorem dX5_law_164 : decode cX5_law 164 = .ok (.iadd, 1) := dk_96 (dk_at dksX5_law_7 0 rfl rfl)
theorem dX5_law_165 : decode cX5_law 165 = .ok (.aload_n 0, 1) := dk_42 (dk_at dksX5_law_7 1 rfl rfl)
theorem dX5_law_166 : decode cX5_law 166 = .ok (.getfield 45, 3) := dk_180 0 45 (dk_at dksX5_law_7 2 rfl rfl)
theorem dX5_law_169 : decode cX5_law 169 = .ok (.iload_n 2, 1) := dk_28 (dk_at dksX5_law_7 5 rfl rfl)
theorem dX5_law_170 : decode cX5_law 170 = .ok (.iaload, 1) := dk_46 (dk_at dksX5_law_7 6 rfl rfl)
theorem dX5_law_171 : decode cX5_law 171 = .ok (.iastore, 1) := dk_79 (dk_at dksX5_law_7 7 rfl rfl)
theorem dX5_law_172 : decode cX5_law 172 = .ok (.aload_n 0, 1) := dk_42 (dk_at dksX5_law_7 8 rfl rfl)
theorem dX5_law_173 : decode cX5_law 173 = .ok (.getfield 13, 3) := dk_180 0 13 (dk_at dksX5_law_7 9 rfl rfl)
theorem dX5_law_176 : decode cX5_law 176 = .ok (.iload_n 1, 1) := dk_27 (dk_at dksX5_law_7 12 rfl rfl)
theorem dX5_law_177 : decode cX5_law 177 = .ok (.bipush 98, 2) := dk_16 98 (dk_at dksX5_law_7 13 rfl rfl)
theorem dX5_law_179 : decode cX5_law 179 = .ok (.iadd, 1) := dk_96 (dk_at dksX5_law_7 15 rfl rfl)
theorem dX5_law_180 : decode cX5_law 180 = .ok (.iconst 2, 1) := dk_5 (dk_at dksX5_law_7 16 rfl rfl)
theorem dX5_law_181 : decode cX5_law 181 = .ok (.iload_n 2, 1) := dk_28 (dk_at dksX5_law_7 17 rfl rfl)
theorem dX5_law_182 : decode cX5_law 182 = .ok (.imul, 1) := dk_104 (dk_at dksX5_law_7 18 rfl rfl)
theorem dX5_law_183 : decode cX5_law 183 = .ok (.iadd, 1) := dk_96 (dk_at dksX5_law_7 19 rfl rfl)
theorem dX5_law_184 : decode cX5_law 184 = .ok (.iconst 1, 1) := dk_4 (dk_at dksX5_law_7 20 rfl rfl)
theorem dX5_law_185 : decode cX5_law 185 = .ok (.iadd, 1) := dk_96 (dk_at dksX5_law_7 21 rfl rfl)
theorem dX5_law_186 : decode cX5_law 186 = .ok (.aload_n 0, 1) := dk_42 (dk_at dksX5_law_7 22 rfl rfl)
theorem dX5_law_187 : decode cX5_law 187 = .ok (.getfield 48, 3) := dk_180 0 48 (dk_at dksX5_law_8 0 rfl rfl)
theorem dX5_law_190 : decode cX5_law 190 = .ok (.iload_n 2, 1) := dk_28 (dk_at dksX5_law_8 3 rfl rfl)
theorem dX5_law_191 : decode cX5_law 191 = .ok (.iaload, 1) := dk_46 (dk_at dksX5_law_8 4 rfl rfl)
theorem dX5_law_192 : decode cX5_law 192 = .ok (.iastore, 1) := dk_79 (dk_at dksX5_law_8 5 rfl rfl)
theorem dX5_law_193 : decode cX5_law 193 = .ok (.iinc 2 1, 3) := dk_132 2 1 (dk_at dksX5_law_8 6 rfl rfl)
theorem dX5_law_196 : decode cX5_law 196 = .ok (.goto (-51), 3) := dk_167 255 205 (dk_at dksX5_law_8 9 rfl rfl)
theorem dX5_law_199 : decode cX5_law 199 = .ok (.aload_n 0, 1) := dk_42 (dk_at dksX5_law_8 12 rfl rfl)
theorem dX5_law_200 : decode cX5_law 200 = .ok (.getfield 13, 3) := dk_180 0 13 (dk_at dksX5_law_8 13 rfl rfl)
theorem dX5_law_203 : decode cX5_law 203 = .ok (.iconst 3, 1) := dk_6 (dk_at dksX5_law_8 16 rfl rfl)
theorem dX5_law_204 : decode cX5_law 204 = .ok (.dup2, 1) := dk_92 (dk_at dksX5_law_8 17 rfl rfl)
theorem dX5_law_205 : decode cX5_law 205 = .ok (.iaload, 1) := dk_46 (dk_at dksX5_law_8 18 rfl rfl)
theorem dX5_law_206 : decode cX5_law 206 = .ok (.iconst 1, 1) := dk_4 (dk_at dksX5_law_8 19 rfl rfl)
theorem dX5_law_207 : decode cX5_law 207 = .ok (.iadd, 1) := dk_96 (dk_at dksX5_law_8 20 rfl rfl)
theorem dX5_law_208 : decode cX5_law 208 = .ok (.iastore, 1) := dk_79 (dk_at dksX5_law_8 21 rfl rfl)
theorem dX5_law_209 : decode cX5_law 209 = .ok (.aload_n 0, 1) := dk_42 (dk_at dksX5_law_8 22 rfl rfl)
theorem dX5_law_210 : decode cX5_law 210 = .ok (.aload_n 0, 1) := dk_42 (dk_at dksX5_law_8 23 rfl rfl)
theorem dX5_law_211 : decode cX5_law 211 = .ok (.getfield 13, 3) := dk_180 0 13 (dk_at dksX5_law_9 0 rfl rfl)
theorem dX5_law_214 : decode cX5_law 214 = .ok (.iconst 3, 1) := dk_6 (dk_at dksX5_law_9 3 rfl rfl)
theorem dX5_law_215 : decode cX5_law 215 = .ok (.iaload, 1) := dk_46 (dk_at dksX5_law_9 4 rfl rfl)
theorem dX5_law_216 : decode cX5_law 216 = .ok (.iconst 1, 1) := dk_4 (dk_at dksX5_law_9 5 rfl rfl)
theorem dX5_law_217 : decode cX5_law 217 = .ok (.isub, 1) := dk_100 (dk_at dksX5_law_9 6 rfl rfl)
theorem dX5_law_218 : decode cX5_law 218 = .ok (.invokevirtual 168, 3) := dk_182 0 168 (dk_at dksX5_law_9 7 rfl rfl)
theorem dX5_law_221 : decode cX5_law 221 = .ok (.ireturn, 1) := dk_172 (dk_at dksX5_law_9 10 rfl rfl)
abbrev cX5_beginText : ByteArray := prog_22_method_58_code
def yX5_beginText : MethodName := ⟨RX5, "beginText", "(Z)V"⟩
def dkwX5_beginText_1 : List UInt8 := [177]
abbrev dktX5_beginText_1 : List UInt8 := dkwX5_beginText_1 ++ []
def dkwX5_beginText_0 : List UInt8 := [42, 27, 181, 1, 60, 42, 182, 1, 111, 42, 3, 181, 1, 114, 42, 3, 181, 1, 20, 42, 3, 181, 1, 51]
abbrev dktX5_beginText_0 : List UInt8 := dkwX5_beginText_0 ++ dktX5_beginText_1
theorem dksX5_beginText_0 : cX5_beginText.data.toList.drop 0 = dktX5_beginText_0 := by decide +kernel
theorem dksX5_beginText_1 : cX5_beginText.data.toList.drop 24 = dktX5_beginText_1 := dk_seg dksX5_beginText_0 24 rfl rfl
theorem dX5_beginText_0 : decode cX5_beginText 0 = .ok (.aload_n 0, 1) := dk_42 (dk_at dksX5_beginText_0 0 rfl rfl)
theorem dX5_beginText_1 : decode cX5_beginText 1 = .ok (.iload_n 1, 1) := dk_27 (dk_at dksX5_beginText_0 1 rfl rfl)
theorem dX5_beginText_2 : decode cX5_beginText 2 = .ok (.putfield 316, 3) := dk_181 1 60 (dk_at dksX5_beginText_0 2 rfl rfl)
theorem dX5_beginText_5 : decode cX5_beginText 5 = .ok (.aload_n 0, 1) := dk_42 (dk_at dksX5_beginText_0 5 rfl rfl)
theorem dX5_beginText_6 : decode cX5_beginText 6 = .ok (.invokevirtual 367, 3) := dk_182 1 111 (dk_at dksX5_beginText_0 6 rfl rfl)
theorem dX5_beginText_9 : decode cX5_beginText 9 = .ok (.aload_n 0, 1) := dk_42 (dk_at dksX5_beginText_0 9 rfl rfl)
theorem dX5_beginText_10 : decode cX5_beginText 10 = .ok (.iconst 0, 1) := dk_3 (dk_at dksX5_beginText_0 10 rfl rfl)
theorem dX5_beginText_11 : decode cX5_beginText 11 = .ok (.putfield 370, 3) := dk_181 1 114 (dk_at dksX5_beginText_0 11 rfl rfl)
theorem dX5_beginText_14 : decode cX5_beginText 14 = .ok (.aload_n 0, 1) := dk_42 (dk_at dksX5_beginText_0 14 rfl rfl)
theorem dX5_beginText_15 : decode cX5_beginText 15 = .ok (.iconst 0, 1) := dk_3 (dk_at dksX5_beginText_0 15 rfl rfl)
theorem dX5_beginText_16 : decode cX5_beginText 16 = .ok (.putfield 276, 3) := dk_181 1 20 (dk_at dksX5_beginText_0 16 rfl rfl)
theorem dX5_beginText_19 : decode cX5_beginText 19 = .ok (.aload_n 0, 1) := dk_42 (dk_at dksX5_beginText_0 19 rfl rfl)
theorem dX5_beginText_20 : decode cX5_beginText 20 = .ok (.iconst 0, 1) := dk_3 (dk_at dksX5_beginText_0 20 rfl rfl)
theorem dX5_beginText_21 : decode cX5_beginText 21 = .ok (.putfield 307, 3) := dk_181 1 51 (dk_at dksX5_beginText_0 21 rfl rfl)
theorem dX5_beginText_24 : decode cX5_beginText 24 = .ok (.return_, 1) := dk_177 (dk_at dksX5_beginText_1 0 rfl rfl)
abbrev cX5_begin : ByteArray := prog_22_method_36_code
def yX5_begin : MethodName := ⟨RX5, "begin", "()V"⟩
def dkwX5_begin_0 : List UInt8 := [42, 3, 181, 0, 236, 42, 3, 181, 0, 239, 42, 2, 181, 0, 38, 42, 182, 0, 243, 177]
abbrev dktX5_begin_0 : List UInt8 := dkwX5_begin_0 ++ []
theorem dksX5_begin_0 : cX5_begin.data.toList.drop 0 = dktX5_begin_0 := by decide +kernel
theorem dX5_begin_0 : decode cX5_begin 0 = .ok (.aload_n 0, 1) := dk_42 (dk_at dksX5_begin_0 0 rfl rfl)
theorem dX5_begin_1 : decode cX5_begin 1 = .ok (.iconst 0, 1) := dk_3 (dk_at dksX5_begin_0 1 rfl rfl)
theorem dX5_begin_2 : decode cX5_begin 2 = .ok (.putfield 236, 3) := dk_181 0 236 (dk_at dksX5_begin_0 2 rfl rfl)
theorem dX5_begin_5 : decode cX5_begin 5 = .ok (.aload_n 0, 1) := dk_42 (dk_at dksX5_begin_0 5 rfl rfl)
theorem dX5_begin_6 : decode cX5_begin 6 = .ok (.iconst 0, 1) := dk_3 (dk_at dksX5_begin_0 6 rfl rfl)
theorem dX5_begin_7 : decode cX5_begin 7 = .ok (.putfield 239, 3) := dk_181 0 239 (dk_at dksX5_begin_0 7 rfl rfl)
theorem dX5_begin_10 : decode cX5_begin 10 = .ok (.aload_n 0, 1) := dk_42 (dk_at dksX5_begin_0 10 rfl rfl)
theorem dX5_begin_11 : decode cX5_begin 11 = .ok (.iconst (-1), 1) := dk_2 (dk_at dksX5_begin_0 11 rfl rfl)
theorem dX5_begin_12 : decode cX5_begin 12 = .ok (.putfield 38, 3) := dk_181 0 38 (dk_at dksX5_begin_0 12 rfl rfl)
theorem dX5_begin_15 : decode cX5_begin 15 = .ok (.aload_n 0, 1) := dk_42 (dk_at dksX5_begin_0 15 rfl rfl)
theorem dX5_begin_16 : decode cX5_begin 16 = .ok (.invokevirtual 243, 3) := dk_182 0 243 (dk_at dksX5_begin_0 16 rfl rfl)
theorem dX5_begin_19 : decode cX5_begin 19 = .ok (.return_, 1) := dk_177 (dk_at dksX5_begin_0 19 rfl rfl)
abbrev cX5_next : ByteArray := prog_22_method_37_code
def yX5_next : MethodName := ⟨RX5, "next", "()V"⟩
def dkwX5_next_14 : List UInt8 := [181, 0, 236, 167, 255, 167, 177]
abbrev dktX5_next_14 : List UInt8 := dkwX5_next_14 ++ []
def dkwX5_next_13 : List UInt8 := [180, 0, 35, 42, 180, 0, 236, 46, 133, 97, 20, 1, 14, 101, 181, 0, 249, 42, 89, 180, 0, 236, 4, 96]
abbrev dktX5_next_13 : List UInt8 := dkwX5_next_13 ++ dktX5_next_14
def dkwX5_next_12 : List UInt8 := [20, 1, 12, 148, 158, 0, 10, 42, 180, 0, 249, 167, 0, 26, 42, 180, 0, 249, 20, 0, 222, 105, 42]
abbrev dktX5_next_12 : List UInt8 := dkwX5_next_12 ++ dktX5_next_13
def dkwX5_next_11 : List UInt8 := [162, 0, 76, 42, 180, 0, 35, 42, 180, 0, 236, 46, 184, 1, 0, 153, 0, 61, 42, 42, 180, 0, 249]
abbrev dktX5_next_11 : List UInt8 := dkwX5_next_11 ++ dktX5_next_12
def dkwX5_next_10 : List UInt8 := [4, 96, 181, 0, 236, 167, 255, 165, 42, 180, 1, 3, 5, 160, 0, 87, 42, 180, 0, 236, 42, 180, 0, 227]
abbrev dktX5_next_10 : List UInt8 := dkwX5_next_10 ++ dktX5_next_11
def dkwX5_next_9 : List UInt8 := [180, 0, 236, 46, 133, 97, 20, 1, 8, 101, 167, 0, 6, 20, 1, 10, 181, 0, 249, 42, 89, 180, 0, 236]
abbrev dktX5_next_9 : List UInt8 := dkwX5_next_9 ++ dktX5_next_10
def dkwX5_next_8 : List UInt8 := [180, 0, 246, 100, 16, 10, 162, 0, 29, 42, 180, 0, 249, 20, 1, 6, 105, 42, 180, 0, 35, 42]
abbrev dktX5_next_8 : List UInt8 := dkwX5_next_8 ++ dktX5_next_9
def dkwX5_next_7 : List UInt8 := [162, 0, 78, 42, 180, 0, 35, 42, 180, 0, 236, 46, 184, 0, 253, 153, 0, 63, 42, 42, 180, 0, 236, 42]
abbrev dktX5_next_7 : List UInt8 := dkwX5_next_7 ++ dktX5_next_8
def dkwX5_next_6 : List UInt8 := [180, 0, 236, 4, 96, 181, 0, 236, 42, 180, 1, 3, 4, 160, 0, 89, 42, 180, 0, 236, 42, 180, 0, 227]
abbrev dktX5_next_6 : List UInt8 := dkwX5_next_6 ++ dktX5_next_7
def dkwX5_next_5 : List UInt8 := [180, 1, 3, 6, 160, 0, 27, 42, 42, 180, 0, 35, 42, 180, 0, 246, 46, 133, 181, 0, 249, 42, 89]
abbrev dktX5_next_5 : List UInt8 := dkwX5_next_5 ++ dktX5_next_6
def dkwX5_next_4 : List UInt8 := [180, 0, 35, 42, 180, 0, 246, 46, 184, 1, 0, 153, 0, 7, 5, 167, 0, 4, 6, 181, 1, 3, 42]
abbrev dktX5_next_4 : List UInt8 := dkwX5_next_4 ++ dktX5_next_5
def dkwX5_next_3 : List UInt8 := [167, 0, 42, 42, 180, 0, 35, 42, 180, 0, 246, 46, 184, 0, 253, 153, 0, 7, 4, 167, 0, 23, 42]
abbrev dktX5_next_3 : List UInt8 := dkwX5_next_3 ++ dktX5_next_4
def dkwX5_next_2 : List UInt8 := [180, 0, 246, 181, 0, 236, 42, 9, 181, 0, 249, 42, 42, 180, 0, 246, 42, 180, 0, 227, 160, 0, 7, 3]
abbrev dktX5_next_2 : List UInt8 := dkwX5_next_2 ++ dktX5_next_3
def dkwX5_next_1 : List UInt8 := [180, 0, 246, 46, 16, 32, 160, 0, 16, 42, 89, 180, 0, 246, 4, 96, 181, 0, 246, 167, 255, 221, 42, 42]
abbrev dktX5_next_1 : List UInt8 := dkwX5_next_1 ++ dktX5_next_2
def dkwX5_next_0 : List UInt8 := [42, 42, 180, 0, 236, 181, 0, 246, 42, 180, 0, 246, 42, 180, 0, 227, 162, 0, 30, 42, 180, 0, 35, 42]
abbrev dktX5_next_0 : List UInt8 := dkwX5_next_0 ++ dktX5_next_1
theorem dksX5_next_0 : cX5_next.data.toList.drop 0 = dktX5_next_0 := by decide +kernel
theorem dksX5_next_1 : cX5_next.data.toList.drop 24 = dktX5_next_1 := dk_seg dksX5_next_0 24 rfl rfl
theorem dksX5_next_2 : cX5_next.data.toList.drop 48 = dktX5_next_2 := dk_seg dksX5_next_1 24 rfl rfl
theorem dksX5_next_3 : cX5_next.data.toList.drop 72 = dktX5_next_3 := dk_seg dksX5_next_2 24 rfl rfl
theorem dksX5_next_4 : cX5_next.data.toList.drop 95 = dktX5_next_4 := dk_seg dksX5_next_3 23 rfl rfl
theorem dksX5_next_5 : cX5_next.data.toList.drop 118 = dktX5_next_5 := dk_seg dksX5_next_4 23 rfl rfl
theorem dksX5_next_6 : cX5_next.data.toList.drop 141 = dktX5_next_6 := dk_seg dksX5_next_5 23 rfl rfl
theorem dksX5_next_7 : cX5_next.data.toList.drop 165 = dktX5_next_7 := dk_seg dksX5_next_6 24 rfl rfl
theorem dksX5_next_8 : cX5_next.data.toList.drop 189 = dktX5_next_8 := dk_seg dksX5_next_7 24 rfl rfl
theorem dksX5_next_9 : cX5_next.data.toList.drop 211 = dktX5_next_9 := dk_seg dksX5_next_8 22 rfl rfl
theorem dksX5_next_10 : cX5_next.data.toList.drop 235 = dktX5_next_10 := dk_seg dksX5_next_9 24 rfl rfl
theorem dksX5_next_11 : cX5_next.data.toList.drop 259 = dktX5_next_11 := dk_seg dksX5_next_10 24 rfl rfl
theorem dksX5_next_12 : cX5_next.data.toList.drop 282 = dktX5_next_12 := dk_seg dksX5_next_11 23 rfl rfl
theorem dksX5_next_13 : cX5_next.data.toList.drop 305 = dktX5_next_13 := dk_seg dksX5_next_12 23 rfl rfl
theorem dksX5_next_14 : cX5_next.data.toList.drop 329 = dktX5_next_14 := dk_seg dksX5_next_13 24 rfl rfl
theorem dX5_next_0 : decode cX5_next 0 = .ok (.aload_n 0, 1) := dk_42 (dk_at dksX5_next_0 0 rfl rfl)
theorem dX5_next_1 : decode cX5_next 1 = .ok (.aload_n 0, 1) := dk_42 (dk_at dksX5_next_0 1 rfl rfl)
theorem dX5_next_2 : decode cX5_next 2 = .ok (.getfield 236, 3) := dk_180 0 236 (dk_at dksX5_next_0 2 rfl rfl)
theorem dX5_next_5 : decode cX5_next 5 = .ok (.putfield 246, 3) := dk_181 0 246 (dk_at dksX5_next_0 5 rfl rfl)
theorem dX5_next_8 : decode cX5_next 8 = .ok (.aload_n 0, 1) := dk_42 (dk_at dksX5_next_0 8 rfl rfl)
theorem dX5_next_9 : decode cX5_next 9 = .ok (.getfield 246, 3) := dk_180 0 246 (dk_at dksX5_next_0 9 rfl rfl)
theorem dX5_next_12 : decode cX5_next 12 = .ok (.aload_n 0, 1) := dk_42 (dk_at dksX5_next_0 12 rfl rfl)
theorem dX5_next_13 : decode cX5_next 13 = .ok (.getfield 227, 3) := dk_180 0 227 (dk_at dksX5_next_0 13 rfl rfl)
theorem dX5_next_16 : decode cX5_next 16 = .ok (.if_icmp .ge 30, 3) := dk_162 0 30 (dk_at dksX5_next_0 16 rfl rfl)
theorem dX5_next_19 : decode cX5_next 19 = .ok (.aload_n 0, 1) := dk_42 (dk_at dksX5_next_0 19 rfl rfl)
theorem dX5_next_20 : decode cX5_next 20 = .ok (.getfield 35, 3) := dk_180 0 35 (dk_at dksX5_next_0 20 rfl rfl)
theorem dX5_next_23 : decode cX5_next 23 = .ok (.aload_n 0, 1) := dk_42 (dk_at dksX5_next_0 23 rfl rfl)
theorem dX5_next_24 : decode cX5_next 24 = .ok (.getfield 246, 3) := dk_180 0 246 (dk_at dksX5_next_1 0 rfl rfl)
theorem dX5_next_27 : decode cX5_next 27 = .ok (.iaload, 1) := dk_46 (dk_at dksX5_next_1 3 rfl rfl)
theorem dX5_next_28 : decode cX5_next 28 = .ok (.bipush 32, 2) := dk_16 32 (dk_at dksX5_next_1 4 rfl rfl)
theorem dX5_next_30 : decode cX5_next 30 = .ok (.if_icmp .ne 16, 3) := dk_160 0 16 (dk_at dksX5_next_1 6 rfl rfl)
theorem dX5_next_33 : decode cX5_next 33 = .ok (.aload_n 0, 1) := dk_42 (dk_at dksX5_next_1 9 rfl rfl)
theorem dX5_next_34 : decode cX5_next 34 = .ok (.dup, 1) := dk_89 (dk_at dksX5_next_1 10 rfl rfl)
theorem dX5_next_35 : decode cX5_next 35 = .ok (.getfield 246, 3) := dk_180 0 246 (dk_at dksX5_next_1 11 rfl rfl)
theorem dX5_next_38 : decode cX5_next 38 = .ok (.iconst 1, 1) := dk_4 (dk_at dksX5_next_1 14 rfl rfl)
theorem dX5_next_39 : decode cX5_next 39 = .ok (.iadd, 1) := dk_96 (dk_at dksX5_next_1 15 rfl rfl)
theorem dX5_next_40 : decode cX5_next 40 = .ok (.putfield 246, 3) := dk_181 0 246 (dk_at dksX5_next_1 16 rfl rfl)
theorem dX5_next_43 : decode cX5_next 43 = .ok (.goto (-35), 3) := dk_167 255 221 (dk_at dksX5_next_1 19 rfl rfl)
theorem dX5_next_46 : decode cX5_next 46 = .ok (.aload_n 0, 1) := dk_42 (dk_at dksX5_next_1 22 rfl rfl)
theorem dX5_next_47 : decode cX5_next 47 = .ok (.aload_n 0, 1) := dk_42 (dk_at dksX5_next_1 23 rfl rfl)
theorem dX5_next_48 : decode cX5_next 48 = .ok (.getfield 246, 3) := dk_180 0 246 (dk_at dksX5_next_2 0 rfl rfl)
theorem dX5_next_51 : decode cX5_next 51 = .ok (.putfield 236, 3) := dk_181 0 236 (dk_at dksX5_next_2 3 rfl rfl)
theorem dX5_next_54 : decode cX5_next 54 = .ok (.aload_n 0, 1) := dk_42 (dk_at dksX5_next_2 6 rfl rfl)
theorem dX5_next_55 : decode cX5_next 55 = .ok (.lconst 0, 1) := dk_9 (dk_at dksX5_next_2 7 rfl rfl)
theorem dX5_next_56 : decode cX5_next 56 = .ok (.putfield 249, 3) := dk_181 0 249 (dk_at dksX5_next_2 8 rfl rfl)
theorem dX5_next_59 : decode cX5_next 59 = .ok (.aload_n 0, 1) := dk_42 (dk_at dksX5_next_2 11 rfl rfl)
theorem dX5_next_60 : decode cX5_next 60 = .ok (.aload_n 0, 1) := dk_42 (dk_at dksX5_next_2 12 rfl rfl)
theorem dX5_next_61 : decode cX5_next 61 = .ok (.getfield 246, 3) := dk_180 0 246 (dk_at dksX5_next_2 13 rfl rfl)
theorem dX5_next_64 : decode cX5_next 64 = .ok (.aload_n 0, 1) := dk_42 (dk_at dksX5_next_2 16 rfl rfl)
theorem dX5_next_65 : decode cX5_next 65 = .ok (.getfield 227, 3) := dk_180 0 227 (dk_at dksX5_next_2 17 rfl rfl)
theorem dX5_next_68 : decode cX5_next 68 = .ok (.if_icmp .ne 7, 3) := dk_160 0 7 (dk_at dksX5_next_2 20 rfl rfl)
theorem dX5_next_71 : decode cX5_next 71 = .ok (.iconst 0, 1) := dk_3 (dk_at dksX5_next_2 23 rfl rfl)
theorem dX5_next_72 : decode cX5_next 72 = .ok (.goto 42, 3) := dk_167 0 42 (dk_at dksX5_next_3 0 rfl rfl)
theorem dX5_next_75 : decode cX5_next 75 = .ok (.aload_n 0, 1) := dk_42 (dk_at dksX5_next_3 3 rfl rfl)
theorem dX5_next_76 : decode cX5_next 76 = .ok (.getfield 35, 3) := dk_180 0 35 (dk_at dksX5_next_3 4 rfl rfl)
theorem dX5_next_79 : decode cX5_next 79 = .ok (.aload_n 0, 1) := dk_42 (dk_at dksX5_next_3 7 rfl rfl)
theorem dX5_next_80 : decode cX5_next 80 = .ok (.getfield 246, 3) := dk_180 0 246 (dk_at dksX5_next_3 8 rfl rfl)
theorem dX5_next_83 : decode cX5_next 83 = .ok (.iaload, 1) := dk_46 (dk_at dksX5_next_3 11 rfl rfl)
theorem dX5_next_84 : decode cX5_next 84 = .ok (.invokestatic 253, 3) := dk_184 0 253 (dk_at dksX5_next_3 12 rfl rfl)
theorem dX5_next_87 : decode cX5_next 87 = .ok (.ifCond .eq 7, 3) := dk_153 0 7 (dk_at dksX5_next_3 15 rfl rfl)
theorem dX5_next_90 : decode cX5_next 90 = .ok (.iconst 1, 1) := dk_4 (dk_at dksX5_next_3 18 rfl rfl)
theorem dX5_next_91 : decode cX5_next 91 = .ok (.goto 23, 3) := dk_167 0 23 (dk_at dksX5_next_3 19 rfl rfl)
theorem dX5_next_94 : decode cX5_next 94 = .ok (.aload_n 0, 1) := dk_42 (dk_at dksX5_next_3 22 rfl rfl)
theorem dX5_next_95 : decode cX5_next 95 = .ok (.getfield 35, 3) := dk_180 0 35 (dk_at dksX5_next_4 0 rfl rfl)
theorem dX5_next_98 : decode cX5_next 98 = .ok (.aload_n 0, 1) := dk_42 (dk_at dksX5_next_4 3 rfl rfl)
theorem dX5_next_99 : decode cX5_next 99 = .ok (.getfield 246, 3) := dk_180 0 246 (dk_at dksX5_next_4 4 rfl rfl)
theorem dX5_next_102 : decode cX5_next 102 = .ok (.iaload, 1) := dk_46 (dk_at dksX5_next_4 7 rfl rfl)
theorem dX5_next_103 : decode cX5_next 103 = .ok (.invokestatic 256, 3) := dk_184 1 0 (dk_at dksX5_next_4 8 rfl rfl)
theorem dX5_next_106 : decode cX5_next 106 = .ok (.ifCond .eq 7, 3) := dk_153 0 7 (dk_at dksX5_next_4 11 rfl rfl)
theorem dX5_next_109 : decode cX5_next 109 = .ok (.iconst 2, 1) := dk_5 (dk_at dksX5_next_4 14 rfl rfl)
theorem dX5_next_110 : decode cX5_next 110 = .ok (.goto 4, 3) := dk_167 0 4 (dk_at dksX5_next_4 15 rfl rfl)
theorem dX5_next_113 : decode cX5_next 113 = .ok (.iconst 3, 1) := dk_6 (dk_at dksX5_next_4 18 rfl rfl)
theorem dX5_next_114 : decode cX5_next 114 = .ok (.putfield 259, 3) := dk_181 1 3 (dk_at dksX5_next_4 19 rfl rfl)
theorem dX5_next_117 : decode cX5_next 117 = .ok (.aload_n 0, 1) := dk_42 (dk_at dksX5_next_4 22 rfl rfl)
theorem dX5_next_118 : decode cX5_next 118 = .ok (.getfield 259, 3) := dk_180 1 3 (dk_at dksX5_next_5 0 rfl rfl)
theorem dX5_next_121 : decode cX5_next 121 = .ok (.iconst 3, 1) := dk_6 (dk_at dksX5_next_5 3 rfl rfl)
theorem dX5_next_122 : decode cX5_next 122 = .ok (.if_icmp .ne 27, 3) := dk_160 0 27 (dk_at dksX5_next_5 4 rfl rfl)
theorem dX5_next_125 : decode cX5_next 125 = .ok (.aload_n 0, 1) := dk_42 (dk_at dksX5_next_5 7 rfl rfl)
theorem dX5_next_126 : decode cX5_next 126 = .ok (.aload_n 0, 1) := dk_42 (dk_at dksX5_next_5 8 rfl rfl)
theorem dX5_next_127 : decode cX5_next 127 = .ok (.getfield 35, 3) := dk_180 0 35 (dk_at dksX5_next_5 9 rfl rfl)
theorem dX5_next_130 : decode cX5_next 130 = .ok (.aload_n 0, 1) := dk_42 (dk_at dksX5_next_5 12 rfl rfl)
theorem dX5_next_131 : decode cX5_next 131 = .ok (.getfield 246, 3) := dk_180 0 246 (dk_at dksX5_next_5 13 rfl rfl)
theorem dX5_next_134 : decode cX5_next 134 = .ok (.iaload, 1) := dk_46 (dk_at dksX5_next_5 16 rfl rfl)
theorem dX5_next_135 : decode cX5_next 135 = .ok (.i2l, 1) := dk_133 (dk_at dksX5_next_5 17 rfl rfl)
theorem dX5_next_136 : decode cX5_next 136 = .ok (.putfield 249, 3) := dk_181 0 249 (dk_at dksX5_next_5 18 rfl rfl)
theorem dX5_next_139 : decode cX5_next 139 = .ok (.aload_n 0, 1) := dk_42 (dk_at dksX5_next_5 21 rfl rfl)
theorem dX5_next_140 : decode cX5_next 140 = .ok (.dup, 1) := dk_89 (dk_at dksX5_next_5 22 rfl rfl)
theorem dX5_next_141 : decode cX5_next 141 = .ok (.getfield 236, 3) := dk_180 0 236 (dk_at dksX5_next_6 0 rfl rfl)
theorem dX5_next_144 : decode cX5_next 144 = .ok (.iconst 1, 1) := dk_4 (dk_at dksX5_next_6 3 rfl rfl)
theorem dX5_next_145 : decode cX5_next 145 = .ok (.iadd, 1) := dk_96 (dk_at dksX5_next_6 4 rfl rfl)
theorem dX5_next_146 : decode cX5_next 146 = .ok (.putfield 236, 3) := dk_181 0 236 (dk_at dksX5_next_6 5 rfl rfl)
theorem dX5_next_149 : decode cX5_next 149 = .ok (.aload_n 0, 1) := dk_42 (dk_at dksX5_next_6 8 rfl rfl)
theorem dX5_next_150 : decode cX5_next 150 = .ok (.getfield 259, 3) := dk_180 1 3 (dk_at dksX5_next_6 9 rfl rfl)
theorem dX5_next_153 : decode cX5_next 153 = .ok (.iconst 1, 1) := dk_4 (dk_at dksX5_next_6 12 rfl rfl)
theorem dX5_next_154 : decode cX5_next 154 = .ok (.if_icmp .ne 89, 3) := dk_160 0 89 (dk_at dksX5_next_6 13 rfl rfl)
theorem dX5_next_157 : decode cX5_next 157 = .ok (.aload_n 0, 1) := dk_42 (dk_at dksX5_next_6 16 rfl rfl)
theorem dX5_next_158 : decode cX5_next 158 = .ok (.getfield 236, 3) := dk_180 0 236 (dk_at dksX5_next_6 17 rfl rfl)
theorem dX5_next_161 : decode cX5_next 161 = .ok (.aload_n 0, 1) := dk_42 (dk_at dksX5_next_6 20 rfl rfl)
theorem dX5_next_162 : decode cX5_next 162 = .ok (.getfield 227, 3) := dk_180 0 227 (dk_at dksX5_next_6 21 rfl rfl)
theorem dX5_next_165 : decode cX5_next 165 = .ok (.if_icmp .ge 78, 3) := dk_162 0 78 (dk_at dksX5_next_7 0 rfl rfl)
theorem dX5_next_168 : decode cX5_next 168 = .ok (.aload_n 0, 1) := dk_42 (dk_at dksX5_next_7 3 rfl rfl)
theorem dX5_next_169 : decode cX5_next 169 = .ok (.getfield 35, 3) := dk_180 0 35 (dk_at dksX5_next_7 4 rfl rfl)
theorem dX5_next_172 : decode cX5_next 172 = .ok (.aload_n 0, 1) := dk_42 (dk_at dksX5_next_7 7 rfl rfl)
theorem dX5_next_173 : decode cX5_next 173 = .ok (.getfield 236, 3) := dk_180 0 236 (dk_at dksX5_next_7 8 rfl rfl)
theorem dX5_next_176 : decode cX5_next 176 = .ok (.iaload, 1) := dk_46 (dk_at dksX5_next_7 11 rfl rfl)
theorem dX5_next_177 : decode cX5_next 177 = .ok (.invokestatic 253, 3) := dk_184 0 253 (dk_at dksX5_next_7 12 rfl rfl)
theorem dX5_next_180 : decode cX5_next 180 = .ok (.ifCond .eq 63, 3) := dk_153 0 63 (dk_at dksX5_next_7 15 rfl rfl)
theorem dX5_next_183 : decode cX5_next 183 = .ok (.aload_n 0, 1) := dk_42 (dk_at dksX5_next_7 18 rfl rfl)
theorem dX5_next_184 : decode cX5_next 184 = .ok (.aload_n 0, 1) := dk_42 (dk_at dksX5_next_7 19 rfl rfl)
theorem dX5_next_185 : decode cX5_next 185 = .ok (.getfield 236, 3) := dk_180 0 236 (dk_at dksX5_next_7 20 rfl rfl)
theorem dX5_next_188 : decode cX5_next 188 = .ok (.aload_n 0, 1) := dk_42 (dk_at dksX5_next_7 23 rfl rfl)
theorem dX5_next_189 : decode cX5_next 189 = .ok (.getfield 246, 3) := dk_180 0 246 (dk_at dksX5_next_8 0 rfl rfl)
theorem dX5_next_192 : decode cX5_next 192 = .ok (.isub, 1) := dk_100 (dk_at dksX5_next_8 3 rfl rfl)
theorem dX5_next_193 : decode cX5_next 193 = .ok (.bipush 10, 2) := dk_16 10 (dk_at dksX5_next_8 4 rfl rfl)
theorem dX5_next_195 : decode cX5_next 195 = .ok (.if_icmp .ge 29, 3) := dk_162 0 29 (dk_at dksX5_next_8 6 rfl rfl)
theorem dX5_next_198 : decode cX5_next 198 = .ok (.aload_n 0, 1) := dk_42 (dk_at dksX5_next_8 9 rfl rfl)
theorem dX5_next_199 : decode cX5_next 199 = .ok (.getfield 249, 3) := dk_180 0 249 (dk_at dksX5_next_8 10 rfl rfl)
theorem dX5_next_202 : decode cX5_next 202 = .ok (.ldc2_w 262, 3) := dk_20 1 6 (dk_at dksX5_next_8 13 rfl rfl)
theorem dX5_next_205 : decode cX5_next 205 = .ok (.lmul, 1) := dk_105 (dk_at dksX5_next_8 16 rfl rfl)
theorem dX5_next_206 : decode cX5_next 206 = .ok (.aload_n 0, 1) := dk_42 (dk_at dksX5_next_8 17 rfl rfl)
theorem dX5_next_207 : decode cX5_next 207 = .ok (.getfield 35, 3) := dk_180 0 35 (dk_at dksX5_next_8 18 rfl rfl)
theorem dX5_next_210 : decode cX5_next 210 = .ok (.aload_n 0, 1) := dk_42 (dk_at dksX5_next_8 21 rfl rfl)
theorem dX5_next_211 : decode cX5_next 211 = .ok (.getfield 236, 3) := dk_180 0 236 (dk_at dksX5_next_9 0 rfl rfl)
theorem dX5_next_214 : decode cX5_next 214 = .ok (.iaload, 1) := dk_46 (dk_at dksX5_next_9 3 rfl rfl)
theorem dX5_next_215 : decode cX5_next 215 = .ok (.i2l, 1) := dk_133 (dk_at dksX5_next_9 4 rfl rfl)
theorem dX5_next_216 : decode cX5_next 216 = .ok (.ladd, 1) := dk_97 (dk_at dksX5_next_9 5 rfl rfl)
theorem dX5_next_217 : decode cX5_next 217 = .ok (.ldc2_w 264, 3) := dk_20 1 8 (dk_at dksX5_next_9 6 rfl rfl)
theorem dX5_next_220 : decode cX5_next 220 = .ok (.lsub, 1) := dk_101 (dk_at dksX5_next_9 9 rfl rfl)
theorem dX5_next_221 : decode cX5_next 221 = .ok (.goto 6, 3) := dk_167 0 6 (dk_at dksX5_next_9 10 rfl rfl)
theorem dX5_next_224 : decode cX5_next 224 = .ok (.ldc2_w 266, 3) := dk_20 1 10 (dk_at dksX5_next_9 13 rfl rfl)
theorem dX5_next_227 : decode cX5_next 227 = .ok (.putfield 249, 3) := dk_181 0 249 (dk_at dksX5_next_9 16 rfl rfl)
theorem dX5_next_230 : decode cX5_next 230 = .ok (.aload_n 0, 1) := dk_42 (dk_at dksX5_next_9 19 rfl rfl)
theorem dX5_next_231 : decode cX5_next 231 = .ok (.dup, 1) := dk_89 (dk_at dksX5_next_9 20 rfl rfl)
theorem dX5_next_232 : decode cX5_next 232 = .ok (.getfield 236, 3) := dk_180 0 236 (dk_at dksX5_next_9 21 rfl rfl)
theorem dX5_next_235 : decode cX5_next 235 = .ok (.iconst 1, 1) := dk_4 (dk_at dksX5_next_10 0 rfl rfl)
theorem dX5_next_236 : decode cX5_next 236 = .ok (.iadd, 1) := dk_96 (dk_at dksX5_next_10 1 rfl rfl)
theorem dX5_next_237 : decode cX5_next 237 = .ok (.putfield 236, 3) := dk_181 0 236 (dk_at dksX5_next_10 2 rfl rfl)
theorem dX5_next_240 : decode cX5_next 240 = .ok (.goto (-91), 3) := dk_167 255 165 (dk_at dksX5_next_10 5 rfl rfl)
theorem dX5_next_243 : decode cX5_next 243 = .ok (.aload_n 0, 1) := dk_42 (dk_at dksX5_next_10 8 rfl rfl)
theorem dX5_next_244 : decode cX5_next 244 = .ok (.getfield 259, 3) := dk_180 1 3 (dk_at dksX5_next_10 9 rfl rfl)
theorem dX5_next_247 : decode cX5_next 247 = .ok (.iconst 2, 1) := dk_5 (dk_at dksX5_next_10 12 rfl rfl)
theorem dX5_next_248 : decode cX5_next 248 = .ok (.if_icmp .ne 87, 3) := dk_160 0 87 (dk_at dksX5_next_10 13 rfl rfl)
theorem dX5_next_251 : decode cX5_next 251 = .ok (.aload_n 0, 1) := dk_42 (dk_at dksX5_next_10 16 rfl rfl)
theorem dX5_next_252 : decode cX5_next 252 = .ok (.getfield 236, 3) := dk_180 0 236 (dk_at dksX5_next_10 17 rfl rfl)
theorem dX5_next_255 : decode cX5_next 255 = .ok (.aload_n 0, 1) := dk_42 (dk_at dksX5_next_10 20 rfl rfl)
theorem dX5_next_256 : decode cX5_next 256 = .ok (.getfield 227, 3) := dk_180 0 227 (dk_at dksX5_next_10 21 rfl rfl)
theorem dX5_next_259 : decode cX5_next 259 = .ok (.if_icmp .ge 76, 3) := dk_162 0 76 (dk_at dksX5_next_11 0 rfl rfl)
theorem dX5_next_262 : decode cX5_next 262 = .ok (.aload_n 0, 1) := dk_42 (dk_at dksX5_next_11 3 rfl rfl)
theorem dX5_next_263 : decode cX5_next 263 = .ok (.getfield 35, 3) := dk_180 0 35 (dk_at dksX5_next_11 4 rfl rfl)
theorem dX5_next_266 : decode cX5_next 266 = .ok (.aload_n 0, 1) := dk_42 (dk_at dksX5_next_11 7 rfl rfl)
theorem dX5_next_267 : decode cX5_next 267 = .ok (.getfield 236, 3) := dk_180 0 236 (dk_at dksX5_next_11 8 rfl rfl)
theorem dX5_next_270 : decode cX5_next 270 = .ok (.iaload, 1) := dk_46 (dk_at dksX5_next_11 11 rfl rfl)
theorem dX5_next_271 : decode cX5_next 271 = .ok (.invokestatic 256, 3) := dk_184 1 0 (dk_at dksX5_next_11 12 rfl rfl)
theorem dX5_next_274 : decode cX5_next 274 = .ok (.ifCond .eq 61, 3) := dk_153 0 61 (dk_at dksX5_next_11 15 rfl rfl)
theorem dX5_next_277 : decode cX5_next 277 = .ok (.aload_n 0, 1) := dk_42 (dk_at dksX5_next_11 18 rfl rfl)
theorem dX5_next_278 : decode cX5_next 278 = .ok (.aload_n 0, 1) := dk_42 (dk_at dksX5_next_11 19 rfl rfl)
theorem dX5_next_279 : decode cX5_next 279 = .ok (.getfield 249, 3) := dk_180 0 249 (dk_at dksX5_next_11 20 rfl rfl)
theorem dX5_next_282 : decode cX5_next 282 = .ok (.ldc2_w 268, 3) := dk_20 1 12 (dk_at dksX5_next_12 0 rfl rfl)
theorem dX5_next_285 : decode cX5_next 285 = .ok (.lcmp, 1) := dk_148 (dk_at dksX5_next_12 3 rfl rfl)
theorem dX5_next_286 : decode cX5_next 286 = .ok (.ifCond .le 10, 3) := dk_158 0 10 (dk_at dksX5_next_12 4 rfl rfl)
theorem dX5_next_289 : decode cX5_next 289 = .ok (.aload_n 0, 1) := dk_42 (dk_at dksX5_next_12 7 rfl rfl)
theorem dX5_next_290 : decode cX5_next 290 = .ok (.getfield 249, 3) := dk_180 0 249 (dk_at dksX5_next_12 8 rfl rfl)
theorem dX5_next_293 : decode cX5_next 293 = .ok (.goto 26, 3) := dk_167 0 26 (dk_at dksX5_next_12 11 rfl rfl)
theorem dX5_next_296 : decode cX5_next 296 = .ok (.aload_n 0, 1) := dk_42 (dk_at dksX5_next_12 14 rfl rfl)
theorem dX5_next_297 : decode cX5_next 297 = .ok (.getfield 249, 3) := dk_180 0 249 (dk_at dksX5_next_12 15 rfl rfl)
theorem dX5_next_300 : decode cX5_next 300 = .ok (.ldc2_w 222, 3) := dk_20 0 222 (dk_at dksX5_next_12 18 rfl rfl)
theorem dX5_next_303 : decode cX5_next 303 = .ok (.lmul, 1) := dk_105 (dk_at dksX5_next_12 21 rfl rfl)
theorem dX5_next_304 : decode cX5_next 304 = .ok (.aload_n 0, 1) := dk_42 (dk_at dksX5_next_12 22 rfl rfl)
theorem dX5_next_305 : decode cX5_next 305 = .ok (.getfield 35, 3) := dk_180 0 35 (dk_at dksX5_next_13 0 rfl rfl)
theorem dX5_next_308 : decode cX5_next 308 = .ok (.aload_n 0, 1) := dk_42 (dk_at dksX5_next_13 3 rfl rfl)
theorem dX5_next_309 : decode cX5_next 309 = .ok (.getfield 236, 3) := dk_180 0 236 (dk_at dksX5_next_13 4 rfl rfl)
theorem dX5_next_312 : decode cX5_next 312 = .ok (.iaload, 1) := dk_46 (dk_at dksX5_next_13 7 rfl rfl)
theorem dX5_next_313 : decode cX5_next 313 = .ok (.i2l, 1) := dk_133 (dk_at dksX5_next_13 8 rfl rfl)
theorem dX5_next_314 : decode cX5_next 314 = .ok (.ladd, 1) := dk_97 (dk_at dksX5_next_13 9 rfl rfl)
theorem dX5_next_315 : decode cX5_next 315 = .ok (.ldc2_w 270, 3) := dk_20 1 14 (dk_at dksX5_next_13 10 rfl rfl)
theorem dX5_next_318 : decode cX5_next 318 = .ok (.lsub, 1) := dk_101 (dk_at dksX5_next_13 13 rfl rfl)
theorem dX5_next_319 : decode cX5_next 319 = .ok (.putfield 249, 3) := dk_181 0 249 (dk_at dksX5_next_13 14 rfl rfl)
theorem dX5_next_322 : decode cX5_next 322 = .ok (.aload_n 0, 1) := dk_42 (dk_at dksX5_next_13 17 rfl rfl)
theorem dX5_next_323 : decode cX5_next 323 = .ok (.dup, 1) := dk_89 (dk_at dksX5_next_13 18 rfl rfl)
theorem dX5_next_324 : decode cX5_next 324 = .ok (.getfield 236, 3) := dk_180 0 236 (dk_at dksX5_next_13 19 rfl rfl)
theorem dX5_next_327 : decode cX5_next 327 = .ok (.iconst 1, 1) := dk_4 (dk_at dksX5_next_13 22 rfl rfl)
theorem dX5_next_328 : decode cX5_next 328 = .ok (.iadd, 1) := dk_96 (dk_at dksX5_next_13 23 rfl rfl)
theorem dX5_next_329 : decode cX5_next 329 = .ok (.putfield 236, 3) := dk_181 0 236 (dk_at dksX5_next_14 0 rfl rfl)
theorem dX5_next_332 : decode cX5_next 332 = .ok (.goto (-89), 3) := dk_167 255 167 (dk_at dksX5_next_14 3 rfl rfl)
theorem dX5_next_335 : decode cX5_next 335 = .ok (.return_, 1) := dk_177 (dk_at dksX5_next_14 6 rfl rfl)
abbrev cX5_isSmall : ByteArray := prog_22_method_34_code
def yX5_isSmall : MethodName := ⟨RX5, "isSmall", "(I)Z"⟩
def dkwX5_isSmall_0 : List UInt8 := [26, 16, 97, 161, 0, 13, 26, 16, 122, 163, 0, 7, 4, 167, 0, 4, 3, 172]
abbrev dktX5_isSmall_0 : List UInt8 := dkwX5_isSmall_0 ++ []
theorem dksX5_isSmall_0 : cX5_isSmall.data.toList.drop 0 = dktX5_isSmall_0 := by decide +kernel
theorem dX5_isSmall_0 : decode cX5_isSmall 0 = .ok (.iload_n 0, 1) := dk_26 (dk_at dksX5_isSmall_0 0 rfl rfl)
theorem dX5_isSmall_1 : decode cX5_isSmall 1 = .ok (.bipush 97, 2) := dk_16 97 (dk_at dksX5_isSmall_0 1 rfl rfl)
theorem dX5_isSmall_3 : decode cX5_isSmall 3 = .ok (.if_icmp .lt 13, 3) := dk_161 0 13 (dk_at dksX5_isSmall_0 3 rfl rfl)
theorem dX5_isSmall_6 : decode cX5_isSmall 6 = .ok (.iload_n 0, 1) := dk_26 (dk_at dksX5_isSmall_0 6 rfl rfl)
theorem dX5_isSmall_7 : decode cX5_isSmall 7 = .ok (.bipush 122, 2) := dk_16 122 (dk_at dksX5_isSmall_0 7 rfl rfl)
theorem dX5_isSmall_9 : decode cX5_isSmall 9 = .ok (.if_icmp .gt 7, 3) := dk_163 0 7 (dk_at dksX5_isSmall_0 9 rfl rfl)
theorem dX5_isSmall_12 : decode cX5_isSmall 12 = .ok (.iconst 1, 1) := dk_4 (dk_at dksX5_isSmall_0 12 rfl rfl)
theorem dX5_isSmall_13 : decode cX5_isSmall 13 = .ok (.goto 4, 3) := dk_167 0 4 (dk_at dksX5_isSmall_0 13 rfl rfl)
theorem dX5_isSmall_16 : decode cX5_isSmall 16 = .ok (.iconst 0, 1) := dk_3 (dk_at dksX5_isSmall_0 16 rfl rfl)
theorem dX5_isSmall_17 : decode cX5_isSmall 17 = .ok (.ireturn, 1) := dk_172 (dk_at dksX5_isSmall_0 17 rfl rfl)
abbrev cX5_isDigit : ByteArray := prog_22_method_35_code
def yX5_isDigit : MethodName := ⟨RX5, "isDigit", "(I)Z"⟩
def dkwX5_isDigit_0 : List UInt8 := [26, 16, 48, 161, 0, 13, 26, 16, 57, 163, 0, 7, 4, 167, 0, 4, 3, 172]
abbrev dktX5_isDigit_0 : List UInt8 := dkwX5_isDigit_0 ++ []
theorem dksX5_isDigit_0 : cX5_isDigit.data.toList.drop 0 = dktX5_isDigit_0 := by decide +kernel
theorem dX5_isDigit_0 : decode cX5_isDigit 0 = .ok (.iload_n 0, 1) := dk_26 (dk_at dksX5_isDigit_0 0 rfl rfl)
theorem dX5_isDigit_1 : decode cX5_isDigit 1 = .ok (.bipush 48, 2) := dk_16 48 (dk_at dksX5_isDigit_0 1 rfl rfl)
theorem dX5_isDigit_3 : decode cX5_isDigit 3 = .ok (.if_icmp .lt 13, 3) := dk_161 0 13 (dk_at dksX5_isDigit_0 3 rfl rfl)
theorem dX5_isDigit_6 : decode cX5_isDigit 6 = .ok (.iload_n 0, 1) := dk_26 (dk_at dksX5_isDigit_0 6 rfl rfl)
theorem dX5_isDigit_7 : decode cX5_isDigit 7 = .ok (.bipush 57, 2) := dk_16 57 (dk_at dksX5_isDigit_0 7 rfl rfl)
theorem dX5_isDigit_9 : decode cX5_isDigit 9 = .ok (.if_icmp .gt 7, 3) := dk_163 0 7 (dk_at dksX5_isDigit_0 9 rfl rfl)
theorem dX5_isDigit_12 : decode cX5_isDigit 12 = .ok (.iconst 1, 1) := dk_4 (dk_at dksX5_isDigit_0 12 rfl rfl)
theorem dX5_isDigit_13 : decode cX5_isDigit 13 = .ok (.goto 4, 3) := dk_167 0 4 (dk_at dksX5_isDigit_0 13 rfl rfl)
theorem dX5_isDigit_16 : decode cX5_isDigit 16 = .ok (.iconst 0, 1) := dk_3 (dk_at dksX5_isDigit_0 16 rfl rfl)
theorem dX5_isDigit_17 : decode cX5_isDigit 17 = .ok (.ireturn, 1) := dk_172 (dk_at dksX5_isDigit_0 17 rfl rfl)
abbrev cX5_readLaw : ByteArray := prog_22_method_60_code
def yX5_readLaw : MethodName := ⟨RX5, "readLaw", "()V"⟩
def dkwX5_readLaw_8 : List UInt8 := [182, 1, 117, 42, 180, 0, 42, 28, 16, 6, 96, 42, 180, 1, 20, 79, 177]
abbrev dktX5_readLaw_8 : List UInt8 := dkwX5_readLaw_8 ++ []
def dkwX5_readLaw_7 : List UInt8 := [180, 0, 239, 154, 0, 22, 42, 20, 1, 120, 182, 1, 41, 153, 0, 12, 42, 182, 0, 243, 42, 4]
abbrev dktX5_readLaw_7 : List UInt8 := dkwX5_readLaw_7 ++ dktX5_readLaw_8
def dkwX5_readLaw_6 : List UInt8 := [180, 0, 42, 28, 7, 96, 42, 180, 1, 20, 79, 42, 180, 0, 42, 28, 8, 96, 42, 180, 1, 20, 79, 42]
abbrev dktX5_readLaw_6 : List UInt8 := dkwX5_readLaw_6 ++ dktX5_readLaw_7
def dkwX5_readLaw_5 : List UInt8 := [180, 0, 42, 28, 6, 96, 42, 180, 1, 20, 79, 27, 5, 159, 0, 8, 42, 3, 182, 1, 117, 42]
abbrev dktX5_readLaw_5 : List UInt8 := dkwX5_readLaw_5 ++ dktX5_readLaw_6
def dkwX5_readLaw_4 : List UInt8 := [132, 3, 1, 167, 255, 238, 42, 180, 0, 42, 28, 27, 79, 42, 89, 180, 1, 114, 4, 96, 181, 1, 114, 42]
abbrev dktX5_readLaw_4 : List UInt8 := dkwX5_readLaw_4 ++ dktX5_readLaw_5
def dkwX5_readLaw_3 : List UInt8 := [180, 1, 114, 104, 61, 3, 62, 29, 16, 8, 162, 0, 18, 42, 180, 0, 42, 28, 29, 96, 3, 79]
abbrev dktX5_readLaw_3 : List UInt8 := dkwX5_readLaw_3 ++ dktX5_readLaw_4
def dkwX5_readLaw_2 : List UInt8 := [162, 0, 7, 4, 167, 0, 4, 3, 182, 1, 16, 42, 180, 0, 239, 153, 0, 4, 177, 16, 8, 42]
abbrev dktX5_readLaw_2 : List UInt8 := dkwX5_readLaw_2 ++ dktX5_readLaw_3
def dkwX5_readLaw_1 : List UInt8 := [167, 0, 4, 27, 60, 132, 2, 1, 167, 255, 229, 42, 27, 2, 159, 0, 16, 42, 180, 1, 114, 16, 12]
abbrev dktX5_readLaw_1 : List UInt8 := dkwX5_readLaw_1 ++ dktX5_readLaw_2
def dkwX5_readLaw_0 : List UInt8 := [2, 60, 3, 61, 28, 6, 162, 0, 28, 42, 42, 180, 0, 100, 28, 47, 182, 1, 41, 153, 0, 7, 28]
abbrev dktX5_readLaw_0 : List UInt8 := dkwX5_readLaw_0 ++ dktX5_readLaw_1
theorem dksX5_readLaw_0 : cX5_readLaw.data.toList.drop 0 = dktX5_readLaw_0 := by decide +kernel
theorem dksX5_readLaw_1 : cX5_readLaw.data.toList.drop 23 = dktX5_readLaw_1 := dk_seg dksX5_readLaw_0 23 rfl rfl
theorem dksX5_readLaw_2 : cX5_readLaw.data.toList.drop 46 = dktX5_readLaw_2 := dk_seg dksX5_readLaw_1 23 rfl rfl
theorem dksX5_readLaw_3 : cX5_readLaw.data.toList.drop 68 = dktX5_readLaw_3 := dk_seg dksX5_readLaw_2 22 rfl rfl
theorem dksX5_readLaw_4 : cX5_readLaw.data.toList.drop 90 = dktX5_readLaw_4 := dk_seg dksX5_readLaw_3 22 rfl rfl
theorem dksX5_readLaw_5 : cX5_readLaw.data.toList.drop 114 = dktX5_readLaw_5 := dk_seg dksX5_readLaw_4 24 rfl rfl
theorem dksX5_readLaw_6 : cX5_readLaw.data.toList.drop 136 = dktX5_readLaw_6 := dk_seg dksX5_readLaw_5 22 rfl rfl
theorem dksX5_readLaw_7 : cX5_readLaw.data.toList.drop 160 = dktX5_readLaw_7 := dk_seg dksX5_readLaw_6 24 rfl rfl
theorem dksX5_readLaw_8 : cX5_readLaw.data.toList.drop 182 = dktX5_readLaw_8 := dk_seg dksX5_readLaw_7 22 rfl rfl
theorem dX5_readLaw_0 : decode cX5_readLaw 0 = .ok (.iconst (-1), 1) := dk_2 (dk_at dksX5_readLaw_0 0 rfl rfl)
theorem dX5_readLaw_1 : decode cX5_readLaw 1 = .ok (.istore_n 1, 1) := dk_60 (dk_at dksX5_readLaw_0 1 rfl rfl)
theorem dX5_readLaw_2 : decode cX5_readLaw 2 = .ok (.iconst 0, 1) := dk_3 (dk_at dksX5_readLaw_0 2 rfl rfl)
theorem dX5_readLaw_3 : decode cX5_readLaw 3 = .ok (.istore_n 2, 1) := dk_61 (dk_at dksX5_readLaw_0 3 rfl rfl)
theorem dX5_readLaw_4 : decode cX5_readLaw 4 = .ok (.iload_n 2, 1) := dk_28 (dk_at dksX5_readLaw_0 4 rfl rfl)
theorem dX5_readLaw_5 : decode cX5_readLaw 5 = .ok (.iconst 3, 1) := dk_6 (dk_at dksX5_readLaw_0 5 rfl rfl)
theorem dX5_readLaw_6 : decode cX5_readLaw 6 = .ok (.if_icmp .ge 28, 3) := dk_162 0 28 (dk_at dksX5_readLaw_0 6 rfl rfl)
theorem dX5_readLaw_9 : decode cX5_readLaw 9 = .ok (.aload_n 0, 1) := dk_42 (dk_at dksX5_readLaw_0 9 rfl rfl)
theorem dX5_readLaw_10 : decode cX5_readLaw 10 = .ok (.aload_n 0, 1) := dk_42 (dk_at dksX5_readLaw_0 10 rfl rfl)
theorem dX5_readLaw_11 : decode cX5_readLaw 11 = .ok (.getfield 100, 3) := dk_180 0 100 (dk_at dksX5_readLaw_0 11 rfl rfl)
theorem dX5_readLaw_14 : decode cX5_readLaw 14 = .ok (.iload_n 2, 1) := dk_28 (dk_at dksX5_readLaw_0 14 rfl rfl)
theorem dX5_readLaw_15 : decode cX5_readLaw 15 = .ok (.laload, 1) := dk_47 (dk_at dksX5_readLaw_0 15 rfl rfl)
theorem dX5_readLaw_16 : decode cX5_readLaw 16 = .ok (.invokevirtual 297, 3) := dk_182 1 41 (dk_at dksX5_readLaw_0 16 rfl rfl)
theorem dX5_readLaw_19 : decode cX5_readLaw 19 = .ok (.ifCond .eq 7, 3) := dk_153 0 7 (dk_at dksX5_readLaw_0 19 rfl rfl)
theorem dX5_readLaw_22 : decode cX5_readLaw 22 = .ok (.iload_n 2, 1) := dk_28 (dk_at dksX5_readLaw_0 22 rfl rfl)
theorem dX5_readLaw_23 : decode cX5_readLaw 23 = .ok (.goto 4, 3) := dk_167 0 4 (dk_at dksX5_readLaw_1 0 rfl rfl)
theorem dX5_readLaw_26 : decode cX5_readLaw 26 = .ok (.iload_n 1, 1) := dk_27 (dk_at dksX5_readLaw_1 3 rfl rfl)
theorem dX5_readLaw_27 : decode cX5_readLaw 27 = .ok (.istore_n 1, 1) := dk_60 (dk_at dksX5_readLaw_1 4 rfl rfl)
theorem dX5_readLaw_28 : decode cX5_readLaw 28 = .ok (.iinc 2 1, 3) := dk_132 2 1 (dk_at dksX5_readLaw_1 5 rfl rfl)
theorem dX5_readLaw_31 : decode cX5_readLaw 31 = .ok (.goto (-27), 3) := dk_167 255 229 (dk_at dksX5_readLaw_1 8 rfl rfl)
theorem dX5_readLaw_34 : decode cX5_readLaw 34 = .ok (.aload_n 0, 1) := dk_42 (dk_at dksX5_readLaw_1 11 rfl rfl)
theorem dX5_readLaw_35 : decode cX5_readLaw 35 = .ok (.iload_n 1, 1) := dk_27 (dk_at dksX5_readLaw_1 12 rfl rfl)
theorem dX5_readLaw_36 : decode cX5_readLaw 36 = .ok (.iconst (-1), 1) := dk_2 (dk_at dksX5_readLaw_1 13 rfl rfl)
theorem dX5_readLaw_37 : decode cX5_readLaw 37 = .ok (.if_icmp .eq 16, 3) := dk_159 0 16 (dk_at dksX5_readLaw_1 14 rfl rfl)
theorem dX5_readLaw_40 : decode cX5_readLaw 40 = .ok (.aload_n 0, 1) := dk_42 (dk_at dksX5_readLaw_1 17 rfl rfl)
theorem dX5_readLaw_41 : decode cX5_readLaw 41 = .ok (.getfield 370, 3) := dk_180 1 114 (dk_at dksX5_readLaw_1 18 rfl rfl)
theorem dX5_readLaw_44 : decode cX5_readLaw 44 = .ok (.bipush 12, 2) := dk_16 12 (dk_at dksX5_readLaw_1 21 rfl rfl)
theorem dX5_readLaw_46 : decode cX5_readLaw 46 = .ok (.if_icmp .ge 7, 3) := dk_162 0 7 (dk_at dksX5_readLaw_2 0 rfl rfl)
theorem dX5_readLaw_49 : decode cX5_readLaw 49 = .ok (.iconst 1, 1) := dk_4 (dk_at dksX5_readLaw_2 3 rfl rfl)
theorem dX5_readLaw_50 : decode cX5_readLaw 50 = .ok (.goto 4, 3) := dk_167 0 4 (dk_at dksX5_readLaw_2 4 rfl rfl)
theorem dX5_readLaw_53 : decode cX5_readLaw 53 = .ok (.iconst 0, 1) := dk_3 (dk_at dksX5_readLaw_2 7 rfl rfl)
theorem dX5_readLaw_54 : decode cX5_readLaw 54 = .ok (.invokevirtual 272, 3) := dk_182 1 16 (dk_at dksX5_readLaw_2 8 rfl rfl)
theorem dX5_readLaw_57 : decode cX5_readLaw 57 = .ok (.aload_n 0, 1) := dk_42 (dk_at dksX5_readLaw_2 11 rfl rfl)
theorem dX5_readLaw_58 : decode cX5_readLaw 58 = .ok (.getfield 239, 3) := dk_180 0 239 (dk_at dksX5_readLaw_2 12 rfl rfl)
theorem dX5_readLaw_61 : decode cX5_readLaw 61 = .ok (.ifCond .eq 4, 3) := dk_153 0 4 (dk_at dksX5_readLaw_2 15 rfl rfl)
theorem dX5_readLaw_64 : decode cX5_readLaw 64 = .ok (.return_, 1) := dk_177 (dk_at dksX5_readLaw_2 18 rfl rfl)
theorem dX5_readLaw_65 : decode cX5_readLaw 65 = .ok (.bipush 8, 2) := dk_16 8 (dk_at dksX5_readLaw_2 19 rfl rfl)
theorem dX5_readLaw_67 : decode cX5_readLaw 67 = .ok (.aload_n 0, 1) := dk_42 (dk_at dksX5_readLaw_2 21 rfl rfl)
theorem dX5_readLaw_68 : decode cX5_readLaw 68 = .ok (.getfield 370, 3) := dk_180 1 114 (dk_at dksX5_readLaw_3 0 rfl rfl)
theorem dX5_readLaw_71 : decode cX5_readLaw 71 = .ok (.imul, 1) := dk_104 (dk_at dksX5_readLaw_3 3 rfl rfl)
theorem dX5_readLaw_72 : decode cX5_readLaw 72 = .ok (.istore_n 2, 1) := dk_61 (dk_at dksX5_readLaw_3 4 rfl rfl)
theorem dX5_readLaw_73 : decode cX5_readLaw 73 = .ok (.iconst 0, 1) := dk_3 (dk_at dksX5_readLaw_3 5 rfl rfl)
theorem dX5_readLaw_74 : decode cX5_readLaw 74 = .ok (.istore_n 3, 1) := dk_62 (dk_at dksX5_readLaw_3 6 rfl rfl)
theorem dX5_readLaw_75 : decode cX5_readLaw 75 = .ok (.iload_n 3, 1) := dk_29 (dk_at dksX5_readLaw_3 7 rfl rfl)
theorem dX5_readLaw_76 : decode cX5_readLaw 76 = .ok (.bipush 8, 2) := dk_16 8 (dk_at dksX5_readLaw_3 8 rfl rfl)
theorem dX5_readLaw_78 : decode cX5_readLaw 78 = .ok (.if_icmp .ge 18, 3) := dk_162 0 18 (dk_at dksX5_readLaw_3 10 rfl rfl)
theorem dX5_readLaw_81 : decode cX5_readLaw 81 = .ok (.aload_n 0, 1) := dk_42 (dk_at dksX5_readLaw_3 13 rfl rfl)
theorem dX5_readLaw_82 : decode cX5_readLaw 82 = .ok (.getfield 42, 3) := dk_180 0 42 (dk_at dksX5_readLaw_3 14 rfl rfl)
theorem dX5_readLaw_85 : decode cX5_readLaw 85 = .ok (.iload_n 2, 1) := dk_28 (dk_at dksX5_readLaw_3 17 rfl rfl)
theorem dX5_readLaw_86 : decode cX5_readLaw 86 = .ok (.iload_n 3, 1) := dk_29 (dk_at dksX5_readLaw_3 18 rfl rfl)
theorem dX5_readLaw_87 : decode cX5_readLaw 87 = .ok (.iadd, 1) := dk_96 (dk_at dksX5_readLaw_3 19 rfl rfl)
theorem dX5_readLaw_88 : decode cX5_readLaw 88 = .ok (.iconst 0, 1) := dk_3 (dk_at dksX5_readLaw_3 20 rfl rfl)
theorem dX5_readLaw_89 : decode cX5_readLaw 89 = .ok (.iastore, 1) := dk_79 (dk_at dksX5_readLaw_3 21 rfl rfl)
theorem dX5_readLaw_90 : decode cX5_readLaw 90 = .ok (.iinc 3 1, 3) := dk_132 3 1 (dk_at dksX5_readLaw_4 0 rfl rfl)
theorem dX5_readLaw_93 : decode cX5_readLaw 93 = .ok (.goto (-18), 3) := dk_167 255 238 (dk_at dksX5_readLaw_4 3 rfl rfl)
theorem dX5_readLaw_96 : decode cX5_readLaw 96 = .ok (.aload_n 0, 1) := dk_42 (dk_at dksX5_readLaw_4 6 rfl rfl)
theorem dX5_readLaw_97 : decode cX5_readLaw 97 = .ok (.getfield 42, 3) := dk_180 0 42 (dk_at dksX5_readLaw_4 7 rfl rfl)
theorem dX5_readLaw_100 : decode cX5_readLaw 100 = .ok (.iload_n 2, 1) := dk_28 (dk_at dksX5_readLaw_4 10 rfl rfl)
theorem dX5_readLaw_101 : decode cX5_readLaw 101 = .ok (.iload_n 1, 1) := dk_27 (dk_at dksX5_readLaw_4 11 rfl rfl)
theorem dX5_readLaw_102 : decode cX5_readLaw 102 = .ok (.iastore, 1) := dk_79 (dk_at dksX5_readLaw_4 12 rfl rfl)
theorem dX5_readLaw_103 : decode cX5_readLaw 103 = .ok (.aload_n 0, 1) := dk_42 (dk_at dksX5_readLaw_4 13 rfl rfl)
theorem dX5_readLaw_104 : decode cX5_readLaw 104 = .ok (.dup, 1) := dk_89 (dk_at dksX5_readLaw_4 14 rfl rfl)
theorem dX5_readLaw_105 : decode cX5_readLaw 105 = .ok (.getfield 370, 3) := dk_180 1 114 (dk_at dksX5_readLaw_4 15 rfl rfl)
theorem dX5_readLaw_108 : decode cX5_readLaw 108 = .ok (.iconst 1, 1) := dk_4 (dk_at dksX5_readLaw_4 18 rfl rfl)
theorem dX5_readLaw_109 : decode cX5_readLaw 109 = .ok (.iadd, 1) := dk_96 (dk_at dksX5_readLaw_4 19 rfl rfl)
theorem dX5_readLaw_110 : decode cX5_readLaw 110 = .ok (.putfield 370, 3) := dk_181 1 114 (dk_at dksX5_readLaw_4 20 rfl rfl)
theorem dX5_readLaw_113 : decode cX5_readLaw 113 = .ok (.aload_n 0, 1) := dk_42 (dk_at dksX5_readLaw_4 23 rfl rfl)
theorem dX5_readLaw_114 : decode cX5_readLaw 114 = .ok (.getfield 42, 3) := dk_180 0 42 (dk_at dksX5_readLaw_5 0 rfl rfl)
theorem dX5_readLaw_117 : decode cX5_readLaw 117 = .ok (.iload_n 2, 1) := dk_28 (dk_at dksX5_readLaw_5 3 rfl rfl)
theorem dX5_readLaw_118 : decode cX5_readLaw 118 = .ok (.iconst 3, 1) := dk_6 (dk_at dksX5_readLaw_5 4 rfl rfl)
theorem dX5_readLaw_119 : decode cX5_readLaw 119 = .ok (.iadd, 1) := dk_96 (dk_at dksX5_readLaw_5 5 rfl rfl)
theorem dX5_readLaw_120 : decode cX5_readLaw 120 = .ok (.aload_n 0, 1) := dk_42 (dk_at dksX5_readLaw_5 6 rfl rfl)
theorem dX5_readLaw_121 : decode cX5_readLaw 121 = .ok (.getfield 276, 3) := dk_180 1 20 (dk_at dksX5_readLaw_5 7 rfl rfl)
theorem dX5_readLaw_124 : decode cX5_readLaw 124 = .ok (.iastore, 1) := dk_79 (dk_at dksX5_readLaw_5 10 rfl rfl)
theorem dX5_readLaw_125 : decode cX5_readLaw 125 = .ok (.iload_n 1, 1) := dk_27 (dk_at dksX5_readLaw_5 11 rfl rfl)
theorem dX5_readLaw_126 : decode cX5_readLaw 126 = .ok (.iconst 2, 1) := dk_5 (dk_at dksX5_readLaw_5 12 rfl rfl)
theorem dX5_readLaw_127 : decode cX5_readLaw 127 = .ok (.if_icmp .eq 8, 3) := dk_159 0 8 (dk_at dksX5_readLaw_5 13 rfl rfl)
theorem dX5_readLaw_130 : decode cX5_readLaw 130 = .ok (.aload_n 0, 1) := dk_42 (dk_at dksX5_readLaw_5 16 rfl rfl)
theorem dX5_readLaw_131 : decode cX5_readLaw 131 = .ok (.iconst 0, 1) := dk_3 (dk_at dksX5_readLaw_5 17 rfl rfl)
theorem dX5_readLaw_132 : decode cX5_readLaw 132 = .ok (.invokevirtual 373, 3) := dk_182 1 117 (dk_at dksX5_readLaw_5 18 rfl rfl)
theorem dX5_readLaw_135 : decode cX5_readLaw 135 = .ok (.aload_n 0, 1) := dk_42 (dk_at dksX5_readLaw_5 21 rfl rfl)
theorem dX5_readLaw_136 : decode cX5_readLaw 136 = .ok (.getfield 42, 3) := dk_180 0 42 (dk_at dksX5_readLaw_6 0 rfl rfl)
theorem dX5_readLaw_139 : decode cX5_readLaw 139 = .ok (.iload_n 2, 1) := dk_28 (dk_at dksX5_readLaw_6 3 rfl rfl)
theorem dX5_readLaw_140 : decode cX5_readLaw 140 = .ok (.iconst 4, 1) := dk_7 (dk_at dksX5_readLaw_6 4 rfl rfl)
theorem dX5_readLaw_141 : decode cX5_readLaw 141 = .ok (.iadd, 1) := dk_96 (dk_at dksX5_readLaw_6 5 rfl rfl)
theorem dX5_readLaw_142 : decode cX5_readLaw 142 = .ok (.aload_n 0, 1) := dk_42 (dk_at dksX5_readLaw_6 6 rfl rfl)
theorem dX5_readLaw_143 : decode cX5_readLaw 143 = .ok (.getfield 276, 3) := dk_180 1 20 (dk_at dksX5_readLaw_6 7 rfl rfl)
theorem dX5_readLaw_146 : decode cX5_readLaw 146 = .ok (.iastore, 1) := dk_79 (dk_at dksX5_readLaw_6 10 rfl rfl)
theorem dX5_readLaw_147 : decode cX5_readLaw 147 = .ok (.aload_n 0, 1) := dk_42 (dk_at dksX5_readLaw_6 11 rfl rfl)
theorem dX5_readLaw_148 : decode cX5_readLaw 148 = .ok (.getfield 42, 3) := dk_180 0 42 (dk_at dksX5_readLaw_6 12 rfl rfl)
theorem dX5_readLaw_151 : decode cX5_readLaw 151 = .ok (.iload_n 2, 1) := dk_28 (dk_at dksX5_readLaw_6 15 rfl rfl)
theorem dX5_readLaw_152 : decode cX5_readLaw 152 = .ok (.iconst 5, 1) := dk_8 (dk_at dksX5_readLaw_6 16 rfl rfl)
theorem dX5_readLaw_153 : decode cX5_readLaw 153 = .ok (.iadd, 1) := dk_96 (dk_at dksX5_readLaw_6 17 rfl rfl)
theorem dX5_readLaw_154 : decode cX5_readLaw 154 = .ok (.aload_n 0, 1) := dk_42 (dk_at dksX5_readLaw_6 18 rfl rfl)
theorem dX5_readLaw_155 : decode cX5_readLaw 155 = .ok (.getfield 276, 3) := dk_180 1 20 (dk_at dksX5_readLaw_6 19 rfl rfl)
theorem dX5_readLaw_158 : decode cX5_readLaw 158 = .ok (.iastore, 1) := dk_79 (dk_at dksX5_readLaw_6 22 rfl rfl)
theorem dX5_readLaw_159 : decode cX5_readLaw 159 = .ok (.aload_n 0, 1) := dk_42 (dk_at dksX5_readLaw_6 23 rfl rfl)
theorem dX5_readLaw_160 : decode cX5_readLaw 160 = .ok (.getfield 239, 3) := dk_180 0 239 (dk_at dksX5_readLaw_7 0 rfl rfl)
theorem dX5_readLaw_163 : decode cX5_readLaw 163 = .ok (.ifCond .ne 22, 3) := dk_154 0 22 (dk_at dksX5_readLaw_7 3 rfl rfl)
theorem dX5_readLaw_166 : decode cX5_readLaw 166 = .ok (.aload_n 0, 1) := dk_42 (dk_at dksX5_readLaw_7 6 rfl rfl)
theorem dX5_readLaw_167 : decode cX5_readLaw 167 = .ok (.ldc2_w 376, 3) := dk_20 1 120 (dk_at dksX5_readLaw_7 7 rfl rfl)
theorem dX5_readLaw_170 : decode cX5_readLaw 170 = .ok (.invokevirtual 297, 3) := dk_182 1 41 (dk_at dksX5_readLaw_7 10 rfl rfl)
theorem dX5_readLaw_173 : decode cX5_readLaw 173 = .ok (.ifCond .eq 12, 3) := dk_153 0 12 (dk_at dksX5_readLaw_7 13 rfl rfl)
theorem dX5_readLaw_176 : decode cX5_readLaw 176 = .ok (.aload_n 0, 1) := dk_42 (dk_at dksX5_readLaw_7 16 rfl rfl)
theorem dX5_readLaw_177 : decode cX5_readLaw 177 = .ok (.invokevirtual 243, 3) := dk_182 0 243 (dk_at dksX5_readLaw_7 17 rfl rfl)
theorem dX5_readLaw_180 : decode cX5_readLaw 180 = .ok (.aload_n 0, 1) := dk_42 (dk_at dksX5_readLaw_7 20 rfl rfl)
theorem dX5_readLaw_181 : decode cX5_readLaw 181 = .ok (.iconst 1, 1) := dk_4 (dk_at dksX5_readLaw_7 21 rfl rfl)
theorem dX5_readLaw_182 : decode cX5_readLaw 182 = .ok (.invokevirtual 373, 3) := dk_182 1 117 (dk_at dksX5_readLaw_8 0 rfl rfl)
theorem dX5_readLaw_185 : decode cX5_readLaw 185 = .ok (.aload_n 0, 1) := dk_42 (dk_at dksX5_readLaw_8 3 rfl rfl)
theorem dX5_readLaw_186 : decode cX5_readLaw 186 = .ok (.getfield 42, 3) := dk_180 0 42 (dk_at dksX5_readLaw_8 4 rfl rfl)
theorem dX5_readLaw_189 : decode cX5_readLaw 189 = .ok (.iload_n 2, 1) := dk_28 (dk_at dksX5_readLaw_8 7 rfl rfl)
theorem dX5_readLaw_190 : decode cX5_readLaw 190 = .ok (.bipush 6, 2) := dk_16 6 (dk_at dksX5_readLaw_8 8 rfl rfl)
theorem dX5_readLaw_192 : decode cX5_readLaw 192 = .ok (.iadd, 1) := dk_96 (dk_at dksX5_readLaw_8 10 rfl rfl)
theorem dX5_readLaw_193 : decode cX5_readLaw 193 = .ok (.aload_n 0, 1) := dk_42 (dk_at dksX5_readLaw_8 11 rfl rfl)
theorem dX5_readLaw_194 : decode cX5_readLaw 194 = .ok (.getfield 276, 3) := dk_180 1 20 (dk_at dksX5_readLaw_8 12 rfl rfl)
theorem dX5_readLaw_197 : decode cX5_readLaw 197 = .ok (.iastore, 1) := dk_79 (dk_at dksX5_readLaw_8 15 rfl rfl)
theorem dX5_readLaw_198 : decode cX5_readLaw 198 = .ok (.return_, 1) := dk_177 (dk_at dksX5_readLaw_8 16 rfl rfl)
abbrev cX5_isWord : ByteArray := prog_22_method_38_code
def yX5_isWord : MethodName := ⟨RX5, "isWord", "(J)Z"⟩
def dkwX5_isWord_0 : List UInt8 := [42, 180, 1, 3, 4, 160, 0, 16, 42, 180, 0, 249, 31, 148, 154, 0, 7, 4, 167, 0, 4, 3, 172]
abbrev dktX5_isWord_0 : List UInt8 := dkwX5_isWord_0 ++ []
theorem dksX5_isWord_0 : cX5_isWord.data.toList.drop 0 = dktX5_isWord_0 := by decide +kernel
theorem dX5_isWord_0 : decode cX5_isWord 0 = .ok (.aload_n 0, 1) := dk_42 (dk_at dksX5_isWord_0 0 rfl rfl)
theorem dX5_isWord_1 : decode cX5_isWord 1 = .ok (.getfield 259, 3) := dk_180 1 3 (dk_at dksX5_isWord_0 1 rfl rfl)
theorem dX5_isWord_4 : decode cX5_isWord 4 = .ok (.iconst 1, 1) := dk_4 (dk_at dksX5_isWord_0 4 rfl rfl)
theorem dX5_isWord_5 : decode cX5_isWord 5 = .ok (.if_icmp .ne 16, 3) := dk_160 0 16 (dk_at dksX5_isWord_0 5 rfl rfl)
theorem dX5_isWord_8 : decode cX5_isWord 8 = .ok (.aload_n 0, 1) := dk_42 (dk_at dksX5_isWord_0 8 rfl rfl)
theorem dX5_isWord_9 : decode cX5_isWord 9 = .ok (.getfield 249, 3) := dk_180 0 249 (dk_at dksX5_isWord_0 9 rfl rfl)
theorem dX5_isWord_12 : decode cX5_isWord 12 = .ok (.lload_n 1, 1) := dk_31 (dk_at dksX5_isWord_0 12 rfl rfl)
theorem dX5_isWord_13 : decode cX5_isWord 13 = .ok (.lcmp, 1) := dk_148 (dk_at dksX5_isWord_0 13 rfl rfl)
theorem dX5_isWord_14 : decode cX5_isWord 14 = .ok (.ifCond .ne 7, 3) := dk_154 0 7 (dk_at dksX5_isWord_0 14 rfl rfl)
theorem dX5_isWord_17 : decode cX5_isWord 17 = .ok (.iconst 1, 1) := dk_4 (dk_at dksX5_isWord_0 17 rfl rfl)
theorem dX5_isWord_18 : decode cX5_isWord 18 = .ok (.goto 4, 3) := dk_167 0 4 (dk_at dksX5_isWord_0 18 rfl rfl)
theorem dX5_isWord_21 : decode cX5_isWord 21 = .ok (.iconst 0, 1) := dk_3 (dk_at dksX5_isWord_0 21 rfl rfl)
theorem dX5_isWord_22 : decode cX5_isWord 22 = .ok (.ireturn, 1) := dk_172 (dk_at dksX5_isWord_0 22 rfl rfl)
abbrev cX5_must : ByteArray := prog_22_method_40_code
def yX5_must : MethodName := ⟨RX5, "must", "(Z)V"⟩
def dkwX5_must_1 : List UInt8 := [42, 180, 0, 239, 154, 0, 7, 42, 182, 0, 243, 177]
abbrev dktX5_must_1 : List UInt8 := dkwX5_must_1 ++ []
def dkwX5_must_0 : List UInt8 := [42, 180, 0, 239, 154, 0, 20, 27, 154, 0, 16, 42, 4, 181, 0, 239, 42, 42, 180, 0, 246, 181, 0, 38]
abbrev dktX5_must_0 : List UInt8 := dkwX5_must_0 ++ dktX5_must_1
theorem dksX5_must_0 : cX5_must.data.toList.drop 0 = dktX5_must_0 := by decide +kernel
theorem dksX5_must_1 : cX5_must.data.toList.drop 24 = dktX5_must_1 := dk_seg dksX5_must_0 24 rfl rfl
theorem dX5_must_0 : decode cX5_must 0 = .ok (.aload_n 0, 1) := dk_42 (dk_at dksX5_must_0 0 rfl rfl)
theorem dX5_must_1 : decode cX5_must 1 = .ok (.getfield 239, 3) := dk_180 0 239 (dk_at dksX5_must_0 1 rfl rfl)
theorem dX5_must_4 : decode cX5_must 4 = .ok (.ifCond .ne 20, 3) := dk_154 0 20 (dk_at dksX5_must_0 4 rfl rfl)
theorem dX5_must_7 : decode cX5_must 7 = .ok (.iload_n 1, 1) := dk_27 (dk_at dksX5_must_0 7 rfl rfl)
theorem dX5_must_8 : decode cX5_must 8 = .ok (.ifCond .ne 16, 3) := dk_154 0 16 (dk_at dksX5_must_0 8 rfl rfl)
theorem dX5_must_11 : decode cX5_must 11 = .ok (.aload_n 0, 1) := dk_42 (dk_at dksX5_must_0 11 rfl rfl)
theorem dX5_must_12 : decode cX5_must 12 = .ok (.iconst 1, 1) := dk_4 (dk_at dksX5_must_0 12 rfl rfl)
theorem dX5_must_13 : decode cX5_must 13 = .ok (.putfield 239, 3) := dk_181 0 239 (dk_at dksX5_must_0 13 rfl rfl)
theorem dX5_must_16 : decode cX5_must 16 = .ok (.aload_n 0, 1) := dk_42 (dk_at dksX5_must_0 16 rfl rfl)
theorem dX5_must_17 : decode cX5_must 17 = .ok (.aload_n 0, 1) := dk_42 (dk_at dksX5_must_0 17 rfl rfl)
theorem dX5_must_18 : decode cX5_must 18 = .ok (.getfield 246, 3) := dk_180 0 246 (dk_at dksX5_must_0 18 rfl rfl)
theorem dX5_must_21 : decode cX5_must 21 = .ok (.putfield 38, 3) := dk_181 0 38 (dk_at dksX5_must_0 21 rfl rfl)
theorem dX5_must_24 : decode cX5_must 24 = .ok (.aload_n 0, 1) := dk_42 (dk_at dksX5_must_1 0 rfl rfl)
theorem dX5_must_25 : decode cX5_must 25 = .ok (.getfield 239, 3) := dk_180 0 239 (dk_at dksX5_must_1 1 rfl rfl)
theorem dX5_must_28 : decode cX5_must 28 = .ok (.ifCond .ne 7, 3) := dk_154 0 7 (dk_at dksX5_must_1 4 rfl rfl)
theorem dX5_must_31 : decode cX5_must 31 = .ok (.aload_n 0, 1) := dk_42 (dk_at dksX5_must_1 7 rfl rfl)
theorem dX5_must_32 : decode cX5_must 32 = .ok (.invokevirtual 243, 3) := dk_182 0 243 (dk_at dksX5_must_1 8 rfl rfl)
theorem dX5_must_35 : decode cX5_must 35 = .ok (.return_, 1) := dk_177 (dk_at dksX5_must_1 11 rfl rfl)
abbrev cX5_readExpression : ByteArray := prog_22_method_57_code
def yX5_readExpression : MethodName := ⟨RX5, "readExpression", "(Z)V"⟩
def dkwX5_readExpression_3 : List UInt8 := [61, 167, 255, 203, 42, 4, 182, 1, 87, 177]
abbrev dktX5_readExpression_3 : List UInt8 := dkwX5_readExpression_3 ++ []
def dkwX5_readExpression_2 : List UInt8 := [42, 182, 1, 84, 167, 0, 20, 28, 6, 160, 0, 11, 42, 27, 182, 1, 104, 167, 0, 7, 42, 182, 1, 108]
abbrev dktX5_readExpression_2 : List UInt8 := dkwX5_readExpression_2 ++ dktX5_readExpression_3
def dkwX5_readExpression_1 : List UInt8 := [154, 0, 52, 28, 7, 159, 0, 47, 28, 154, 0, 10, 42, 182, 1, 101, 167, 0, 32, 28, 4, 160, 0, 10]
abbrev dktX5_readExpression_1 : List UInt8 := dkwX5_readExpression_1 ++ dktX5_readExpression_2
def dkwX5_readExpression_0 : List UInt8 := [42, 3, 181, 1, 23, 42, 3, 181, 1, 45, 27, 153, 0, 7, 3, 167, 0, 4, 4, 61, 42, 180, 0, 239]
abbrev dktX5_readExpression_0 : List UInt8 := dkwX5_readExpression_0 ++ dktX5_readExpression_1
theorem dksX5_readExpression_0 : cX5_readExpression.data.toList.drop 0 = dktX5_readExpression_0 := by decide +kernel
theorem dksX5_readExpression_1 : cX5_readExpression.data.toList.drop 24 = dktX5_readExpression_1 := dk_seg dksX5_readExpression_0 24 rfl rfl
theorem dksX5_readExpression_2 : cX5_readExpression.data.toList.drop 48 = dktX5_readExpression_2 := dk_seg dksX5_readExpression_1 24 rfl rfl
theorem dksX5_readExpression_3 : cX5_readExpression.data.toList.drop 72 = dktX5_readExpression_3 := dk_seg dksX5_readExpression_2 24 rfl rfl
theorem dX5_readExpression_0 : decode cX5_readExpression 0 = .ok (.aload_n 0, 1) := dk_42 (dk_at dksX5_readExpression_0 0 rfl rfl)
theorem dX5_readExpression_1 : decode cX5_readExpression 1 = .ok (.iconst 0, 1) := dk_3 (dk_at dksX5_readExpression_0 1 rfl rfl)
theorem dX5_readExpression_2 : decode cX5_readExpression 2 = .ok (.putfield 279, 3) := dk_181 1 23 (dk_at dksX5_readExpression_0 2 rfl rfl)
theorem dX5_readExpression_5 : decode cX5_readExpression 5 = .ok (.aload_n 0, 1) := dk_42 (dk_at dksX5_readExpression_0 5 rfl rfl)
theorem dX5_readExpression_6 : decode cX5_readExpression 6 = .ok (.iconst 0, 1) := dk_3 (dk_at dksX5_readExpression_0 6 rfl rfl)
theorem dX5_readExpression_7 : decode cX5_readExpression 7 = .ok (.putfield 301, 3) := dk_181 1 45 (dk_at dksX5_readExpression_0 7 rfl rfl)
theorem dX5_readExpression_10 : decode cX5_readExpression 10 = .ok (.iload_n 1, 1) := dk_27 (dk_at dksX5_readExpression_0 10 rfl rfl)
theorem dX5_readExpression_11 : decode cX5_readExpression 11 = .ok (.ifCond .eq 7, 3) := dk_153 0 7 (dk_at dksX5_readExpression_0 11 rfl rfl)
theorem dX5_readExpression_14 : decode cX5_readExpression 14 = .ok (.iconst 0, 1) := dk_3 (dk_at dksX5_readExpression_0 14 rfl rfl)
theorem dX5_readExpression_15 : decode cX5_readExpression 15 = .ok (.goto 4, 3) := dk_167 0 4 (dk_at dksX5_readExpression_0 15 rfl rfl)
theorem dX5_readExpression_18 : decode cX5_readExpression 18 = .ok (.iconst 1, 1) := dk_4 (dk_at dksX5_readExpression_0 18 rfl rfl)
theorem dX5_readExpression_19 : decode cX5_readExpression 19 = .ok (.istore_n 2, 1) := dk_61 (dk_at dksX5_readExpression_0 19 rfl rfl)
theorem dX5_readExpression_20 : decode cX5_readExpression 20 = .ok (.aload_n 0, 1) := dk_42 (dk_at dksX5_readExpression_0 20 rfl rfl)
theorem dX5_readExpression_21 : decode cX5_readExpression 21 = .ok (.getfield 239, 3) := dk_180 0 239 (dk_at dksX5_readExpression_0 21 rfl rfl)
theorem dX5_readExpression_24 : decode cX5_readExpression 24 = .ok (.ifCond .ne 52, 3) := dk_154 0 52 (dk_at dksX5_readExpression_1 0 rfl rfl)
theorem dX5_readExpression_27 : decode cX5_readExpression 27 = .ok (.iload_n 2, 1) := dk_28 (dk_at dksX5_readExpression_1 3 rfl rfl)
theorem dX5_readExpression_28 : decode cX5_readExpression 28 = .ok (.iconst 4, 1) := dk_7 (dk_at dksX5_readExpression_1 4 rfl rfl)
theorem dX5_readExpression_29 : decode cX5_readExpression 29 = .ok (.if_icmp .eq 47, 3) := dk_159 0 47 (dk_at dksX5_readExpression_1 5 rfl rfl)
theorem dX5_readExpression_32 : decode cX5_readExpression 32 = .ok (.iload_n 2, 1) := dk_28 (dk_at dksX5_readExpression_1 8 rfl rfl)
theorem dX5_readExpression_33 : decode cX5_readExpression 33 = .ok (.ifCond .ne 10, 3) := dk_154 0 10 (dk_at dksX5_readExpression_1 9 rfl rfl)
theorem dX5_readExpression_36 : decode cX5_readExpression 36 = .ok (.aload_n 0, 1) := dk_42 (dk_at dksX5_readExpression_1 12 rfl rfl)
theorem dX5_readExpression_37 : decode cX5_readExpression 37 = .ok (.invokevirtual 357, 3) := dk_182 1 101 (dk_at dksX5_readExpression_1 13 rfl rfl)
theorem dX5_readExpression_40 : decode cX5_readExpression 40 = .ok (.goto 32, 3) := dk_167 0 32 (dk_at dksX5_readExpression_1 16 rfl rfl)
theorem dX5_readExpression_43 : decode cX5_readExpression 43 = .ok (.iload_n 2, 1) := dk_28 (dk_at dksX5_readExpression_1 19 rfl rfl)
theorem dX5_readExpression_44 : decode cX5_readExpression 44 = .ok (.iconst 1, 1) := dk_4 (dk_at dksX5_readExpression_1 20 rfl rfl)
theorem dX5_readExpression_45 : decode cX5_readExpression 45 = .ok (.if_icmp .ne 10, 3) := dk_160 0 10 (dk_at dksX5_readExpression_1 21 rfl rfl)
theorem dX5_readExpression_48 : decode cX5_readExpression 48 = .ok (.aload_n 0, 1) := dk_42 (dk_at dksX5_readExpression_2 0 rfl rfl)
theorem dX5_readExpression_49 : decode cX5_readExpression 49 = .ok (.invokevirtual 340, 3) := dk_182 1 84 (dk_at dksX5_readExpression_2 1 rfl rfl)
theorem dX5_readExpression_52 : decode cX5_readExpression 52 = .ok (.goto 20, 3) := dk_167 0 20 (dk_at dksX5_readExpression_2 4 rfl rfl)
theorem dX5_readExpression_55 : decode cX5_readExpression 55 = .ok (.iload_n 2, 1) := dk_28 (dk_at dksX5_readExpression_2 7 rfl rfl)
theorem dX5_readExpression_56 : decode cX5_readExpression 56 = .ok (.iconst 3, 1) := dk_6 (dk_at dksX5_readExpression_2 8 rfl rfl)
theorem dX5_readExpression_57 : decode cX5_readExpression 57 = .ok (.if_icmp .ne 11, 3) := dk_160 0 11 (dk_at dksX5_readExpression_2 9 rfl rfl)
theorem dX5_readExpression_60 : decode cX5_readExpression 60 = .ok (.aload_n 0, 1) := dk_42 (dk_at dksX5_readExpression_2 12 rfl rfl)
theorem dX5_readExpression_61 : decode cX5_readExpression 61 = .ok (.iload_n 1, 1) := dk_27 (dk_at dksX5_readExpression_2 13 rfl rfl)
theorem dX5_readExpression_62 : decode cX5_readExpression 62 = .ok (.invokevirtual 360, 3) := dk_182 1 104 (dk_at dksX5_readExpression_2 14 rfl rfl)
theorem dX5_readExpression_65 : decode cX5_readExpression 65 = .ok (.goto 7, 3) := dk_167 0 7 (dk_at dksX5_readExpression_2 17 rfl rfl)
theorem dX5_readExpression_68 : decode cX5_readExpression 68 = .ok (.aload_n 0, 1) := dk_42 (dk_at dksX5_readExpression_2 20 rfl rfl)
theorem dX5_readExpression_69 : decode cX5_readExpression 69 = .ok (.invokevirtual 364, 3) := dk_182 1 108 (dk_at dksX5_readExpression_2 21 rfl rfl)
theorem dX5_readExpression_72 : decode cX5_readExpression 72 = .ok (.istore_n 2, 1) := dk_61 (dk_at dksX5_readExpression_3 0 rfl rfl)
theorem dX5_readExpression_73 : decode cX5_readExpression 73 = .ok (.goto (-53), 3) := dk_167 255 203 (dk_at dksX5_readExpression_3 1 rfl rfl)
theorem dX5_readExpression_76 : decode cX5_readExpression 76 = .ok (.aload_n 0, 1) := dk_42 (dk_at dksX5_readExpression_3 4 rfl rfl)
theorem dX5_readExpression_77 : decode cX5_readExpression 77 = .ok (.iconst 1, 1) := dk_4 (dk_at dksX5_readExpression_3 5 rfl rfl)
theorem dX5_readExpression_78 : decode cX5_readExpression 78 = .ok (.invokevirtual 343, 3) := dk_182 1 87 (dk_at dksX5_readExpression_3 6 rfl rfl)
theorem dX5_readExpression_81 : decode cX5_readExpression 81 = .ok (.return_, 1) := dk_177 (dk_at dksX5_readExpression_3 9 rfl rfl)
abbrev cX5_readPlain : ByteArray := prog_22_method_54_code
def yX5_readPlain : MethodName := ⟨RX5, "readPlain", "()I"⟩
def dkwX5_readPlain_1 : List UInt8 := [16, 40, 182, 1, 54, 153, 0, 11, 42, 16, 31, 182, 1, 57, 3, 172, 42, 182, 1, 84, 172]
abbrev dktX5_readPlain_1 : List UInt8 := dkwX5_readPlain_1 ++ []
def dkwX5_readPlain_0 : List UInt8 := [42, 20, 1, 82, 182, 1, 41, 153, 0, 16, 42, 16, 28, 3, 182, 1, 48, 42, 182, 0, 243, 3, 172, 42]
abbrev dktX5_readPlain_0 : List UInt8 := dkwX5_readPlain_0 ++ dktX5_readPlain_1
theorem dksX5_readPlain_0 : cX5_readPlain.data.toList.drop 0 = dktX5_readPlain_0 := by decide +kernel
theorem dksX5_readPlain_1 : cX5_readPlain.data.toList.drop 24 = dktX5_readPlain_1 := dk_seg dksX5_readPlain_0 24 rfl rfl
theorem dX5_readPlain_0 : decode cX5_readPlain 0 = .ok (.aload_n 0, 1) := dk_42 (dk_at dksX5_readPlain_0 0 rfl rfl)
theorem dX5_readPlain_1 : decode cX5_readPlain 1 = .ok (.ldc2_w 338, 3) := dk_20 1 82 (dk_at dksX5_readPlain_0 1 rfl rfl)
theorem dX5_readPlain_4 : decode cX5_readPlain 4 = .ok (.invokevirtual 297, 3) := dk_182 1 41 (dk_at dksX5_readPlain_0 4 rfl rfl)
theorem dX5_readPlain_7 : decode cX5_readPlain 7 = .ok (.ifCond .eq 16, 3) := dk_153 0 16 (dk_at dksX5_readPlain_0 7 rfl rfl)
theorem dX5_readPlain_10 : decode cX5_readPlain 10 = .ok (.aload_n 0, 1) := dk_42 (dk_at dksX5_readPlain_0 10 rfl rfl)
theorem dX5_readPlain_11 : decode cX5_readPlain 11 = .ok (.bipush 28, 2) := dk_16 28 (dk_at dksX5_readPlain_0 11 rfl rfl)
theorem dX5_readPlain_13 : decode cX5_readPlain 13 = .ok (.iconst 0, 1) := dk_3 (dk_at dksX5_readPlain_0 13 rfl rfl)
theorem dX5_readPlain_14 : decode cX5_readPlain 14 = .ok (.invokevirtual 304, 3) := dk_182 1 48 (dk_at dksX5_readPlain_0 14 rfl rfl)
theorem dX5_readPlain_17 : decode cX5_readPlain 17 = .ok (.aload_n 0, 1) := dk_42 (dk_at dksX5_readPlain_0 17 rfl rfl)
theorem dX5_readPlain_18 : decode cX5_readPlain 18 = .ok (.invokevirtual 243, 3) := dk_182 0 243 (dk_at dksX5_readPlain_0 18 rfl rfl)
theorem dX5_readPlain_21 : decode cX5_readPlain 21 = .ok (.iconst 0, 1) := dk_3 (dk_at dksX5_readPlain_0 21 rfl rfl)
theorem dX5_readPlain_22 : decode cX5_readPlain 22 = .ok (.ireturn, 1) := dk_172 (dk_at dksX5_readPlain_0 22 rfl rfl)
theorem dX5_readPlain_23 : decode cX5_readPlain 23 = .ok (.aload_n 0, 1) := dk_42 (dk_at dksX5_readPlain_0 23 rfl rfl)
theorem dX5_readPlain_24 : decode cX5_readPlain 24 = .ok (.bipush 40, 2) := dk_16 40 (dk_at dksX5_readPlain_1 0 rfl rfl)
theorem dX5_readPlain_26 : decode cX5_readPlain 26 = .ok (.invokevirtual 310, 3) := dk_182 1 54 (dk_at dksX5_readPlain_1 2 rfl rfl)
theorem dX5_readPlain_29 : decode cX5_readPlain 29 = .ok (.ifCond .eq 11, 3) := dk_153 0 11 (dk_at dksX5_readPlain_1 5 rfl rfl)
theorem dX5_readPlain_32 : decode cX5_readPlain 32 = .ok (.aload_n 0, 1) := dk_42 (dk_at dksX5_readPlain_1 8 rfl rfl)
theorem dX5_readPlain_33 : decode cX5_readPlain 33 = .ok (.bipush 31, 2) := dk_16 31 (dk_at dksX5_readPlain_1 9 rfl rfl)
theorem dX5_readPlain_35 : decode cX5_readPlain 35 = .ok (.invokevirtual 313, 3) := dk_182 1 57 (dk_at dksX5_readPlain_1 11 rfl rfl)
theorem dX5_readPlain_38 : decode cX5_readPlain 38 = .ok (.iconst 0, 1) := dk_3 (dk_at dksX5_readPlain_1 14 rfl rfl)
theorem dX5_readPlain_39 : decode cX5_readPlain 39 = .ok (.ireturn, 1) := dk_172 (dk_at dksX5_readPlain_1 15 rfl rfl)
theorem dX5_readPlain_40 : decode cX5_readPlain 40 = .ok (.aload_n 0, 1) := dk_42 (dk_at dksX5_readPlain_1 16 rfl rfl)
theorem dX5_readPlain_41 : decode cX5_readPlain 41 = .ok (.invokevirtual 340, 3) := dk_182 1 84 (dk_at dksX5_readPlain_1 17 rfl rfl)
theorem dX5_readPlain_44 : decode cX5_readPlain 44 = .ok (.ireturn, 1) := dk_172 (dk_at dksX5_readPlain_1 20 rfl rfl)
abbrev cX5_push : ByteArray := prog_22_method_44_code
def yX5_push : MethodName := ⟨RX5, "push", "(II)V"⟩
def dkwX5_push_1 : List UInt8 := [180, 1, 23, 4, 96, 181, 1, 23, 177]
abbrev dktX5_push_1 : List UInt8 := dkwX5_push_1 ++ []
def dkwX5_push_0 : List UInt8 := [42, 180, 0, 51, 42, 180, 1, 23, 27, 79, 42, 180, 0, 54, 42, 180, 1, 23, 28, 79, 42, 89]
abbrev dktX5_push_0 : List UInt8 := dkwX5_push_0 ++ dktX5_push_1
theorem dksX5_push_0 : cX5_push.data.toList.drop 0 = dktX5_push_0 := by decide +kernel
theorem dksX5_push_1 : cX5_push.data.toList.drop 22 = dktX5_push_1 := dk_seg dksX5_push_0 22 rfl rfl
theorem dX5_push_0 : decode cX5_push 0 = .ok (.aload_n 0, 1) := dk_42 (dk_at dksX5_push_0 0 rfl rfl)
theorem dX5_push_1 : decode cX5_push 1 = .ok (.getfield 51, 3) := dk_180 0 51 (dk_at dksX5_push_0 1 rfl rfl)
theorem dX5_push_4 : decode cX5_push 4 = .ok (.aload_n 0, 1) := dk_42 (dk_at dksX5_push_0 4 rfl rfl)
theorem dX5_push_5 : decode cX5_push 5 = .ok (.getfield 279, 3) := dk_180 1 23 (dk_at dksX5_push_0 5 rfl rfl)
theorem dX5_push_8 : decode cX5_push 8 = .ok (.iload_n 1, 1) := dk_27 (dk_at dksX5_push_0 8 rfl rfl)
theorem dX5_push_9 : decode cX5_push 9 = .ok (.iastore, 1) := dk_79 (dk_at dksX5_push_0 9 rfl rfl)
theorem dX5_push_10 : decode cX5_push 10 = .ok (.aload_n 0, 1) := dk_42 (dk_at dksX5_push_0 10 rfl rfl)
theorem dX5_push_11 : decode cX5_push 11 = .ok (.getfield 54, 3) := dk_180 0 54 (dk_at dksX5_push_0 11 rfl rfl)
theorem dX5_push_14 : decode cX5_push 14 = .ok (.aload_n 0, 1) := dk_42 (dk_at dksX5_push_0 14 rfl rfl)
theorem dX5_push_15 : decode cX5_push 15 = .ok (.getfield 279, 3) := dk_180 1 23 (dk_at dksX5_push_0 15 rfl rfl)
theorem dX5_push_18 : decode cX5_push 18 = .ok (.iload_n 2, 1) := dk_28 (dk_at dksX5_push_0 18 rfl rfl)
theorem dX5_push_19 : decode cX5_push 19 = .ok (.iastore, 1) := dk_79 (dk_at dksX5_push_0 19 rfl rfl)
theorem dX5_push_20 : decode cX5_push 20 = .ok (.aload_n 0, 1) := dk_42 (dk_at dksX5_push_0 20 rfl rfl)
theorem dX5_push_21 : decode cX5_push 21 = .ok (.dup, 1) := dk_89 (dk_at dksX5_push_0 21 rfl rfl)
theorem dX5_push_22 : decode cX5_push 22 = .ok (.getfield 279, 3) := dk_180 1 23 (dk_at dksX5_push_1 0 rfl rfl)
theorem dX5_push_25 : decode cX5_push 25 = .ok (.iconst 1, 1) := dk_4 (dk_at dksX5_push_1 3 rfl rfl)
theorem dX5_push_26 : decode cX5_push 26 = .ok (.iadd, 1) := dk_96 (dk_at dksX5_push_1 4 rfl rfl)
theorem dX5_push_27 : decode cX5_push 27 = .ok (.putfield 279, 3) := dk_181 1 23 (dk_at dksX5_push_1 5 rfl rfl)
theorem dX5_push_30 : decode cX5_push 30 = .ok (.return_, 1) := dk_177 (dk_at dksX5_push_1 8 rfl rfl)
abbrev cX5_isSign : ByteArray := prog_22_method_39_code
def yX5_isSign : MethodName := ⟨RX5, "isSign", "(I)Z"⟩
def dkwX5_isSign_0 : List UInt8 := [42, 180, 1, 3, 6, 160, 0, 17, 42, 180, 0, 249, 27, 133, 148, 154, 0, 7, 4, 167, 0, 4, 3, 172]
abbrev dktX5_isSign_0 : List UInt8 := dkwX5_isSign_0 ++ []
theorem dksX5_isSign_0 : cX5_isSign.data.toList.drop 0 = dktX5_isSign_0 := by decide +kernel
theorem dX5_isSign_0 : decode cX5_isSign 0 = .ok (.aload_n 0, 1) := dk_42 (dk_at dksX5_isSign_0 0 rfl rfl)
theorem dX5_isSign_1 : decode cX5_isSign 1 = .ok (.getfield 259, 3) := dk_180 1 3 (dk_at dksX5_isSign_0 1 rfl rfl)
theorem dX5_isSign_4 : decode cX5_isSign 4 = .ok (.iconst 3, 1) := dk_6 (dk_at dksX5_isSign_0 4 rfl rfl)
theorem dX5_isSign_5 : decode cX5_isSign 5 = .ok (.if_icmp .ne 17, 3) := dk_160 0 17 (dk_at dksX5_isSign_0 5 rfl rfl)
theorem dX5_isSign_8 : decode cX5_isSign 8 = .ok (.aload_n 0, 1) := dk_42 (dk_at dksX5_isSign_0 8 rfl rfl)
theorem dX5_isSign_9 : decode cX5_isSign 9 = .ok (.getfield 249, 3) := dk_180 0 249 (dk_at dksX5_isSign_0 9 rfl rfl)
theorem dX5_isSign_12 : decode cX5_isSign 12 = .ok (.iload_n 1, 1) := dk_27 (dk_at dksX5_isSign_0 12 rfl rfl)
theorem dX5_isSign_13 : decode cX5_isSign 13 = .ok (.i2l, 1) := dk_133 (dk_at dksX5_isSign_0 13 rfl rfl)
theorem dX5_isSign_14 : decode cX5_isSign 14 = .ok (.lcmp, 1) := dk_148 (dk_at dksX5_isSign_0 14 rfl rfl)
theorem dX5_isSign_15 : decode cX5_isSign 15 = .ok (.ifCond .ne 7, 3) := dk_154 0 7 (dk_at dksX5_isSign_0 15 rfl rfl)
theorem dX5_isSign_18 : decode cX5_isSign 18 = .ok (.iconst 1, 1) := dk_4 (dk_at dksX5_isSign_0 18 rfl rfl)
theorem dX5_isSign_19 : decode cX5_isSign 19 = .ok (.goto 4, 3) := dk_167 0 4 (dk_at dksX5_isSign_0 19 rfl rfl)
theorem dX5_isSign_22 : decode cX5_isSign 22 = .ok (.iconst 0, 1) := dk_3 (dk_at dksX5_isSign_0 22 rfl rfl)
theorem dX5_isSign_23 : decode cX5_isSign 23 = .ok (.ireturn, 1) := dk_172 (dk_at dksX5_isSign_0 23 rfl rfl)
abbrev cX5_openBracket : ByteArray := prog_22_method_51_code
def yX5_openBracket : MethodName := ⟨RX5, "openBracket", "(I)V"⟩
def dkwX5_openBracket_1 : List UInt8 := [154, 0, 19, 42, 89, 180, 1, 45, 4, 96, 181, 1, 45, 42, 27, 3, 182, 1, 48, 177]
abbrev dktX5_openBracket_1 : List UInt8 := dkwX5_openBracket_1 ++ []
def dkwX5_openBracket_0 : List UInt8 := [42, 42, 180, 1, 45, 16, 8, 162, 0, 7, 4, 167, 0, 4, 3, 182, 1, 16, 42, 180, 0, 239]
abbrev dktX5_openBracket_0 : List UInt8 := dkwX5_openBracket_0 ++ dktX5_openBracket_1
theorem dksX5_openBracket_0 : cX5_openBracket.data.toList.drop 0 = dktX5_openBracket_0 := by decide +kernel
theorem dksX5_openBracket_1 : cX5_openBracket.data.toList.drop 22 = dktX5_openBracket_1 := dk_seg dksX5_openBracket_0 22 rfl rfl
theorem dX5_openBracket_0 : decode cX5_openBracket 0 = .ok (.aload_n 0, 1) := dk_42 (dk_at dksX5_openBracket_0 0 rfl rfl)
theorem dX5_openBracket_1 : decode cX5_openBracket 1 = .ok (.aload_n 0, 1) := dk_42 (dk_at dksX5_openBracket_0 1 rfl rfl)
theorem dX5_openBracket_2 : decode cX5_openBracket 2 = .ok (.getfield 301, 3) := dk_180 1 45 (dk_at dksX5_openBracket_0 2 rfl rfl)
theorem dX5_openBracket_5 : decode cX5_openBracket 5 = .ok (.bipush 8, 2) := dk_16 8 (dk_at dksX5_openBracket_0 5 rfl rfl)
theorem dX5_openBracket_7 : decode cX5_openBracket 7 = .ok (.if_icmp .ge 7, 3) := dk_162 0 7 (dk_at dksX5_openBracket_0 7 rfl rfl)
theorem dX5_openBracket_10 : decode cX5_openBracket 10 = .ok (.iconst 1, 1) := dk_4 (dk_at dksX5_openBracket_0 10 rfl rfl)
theorem dX5_openBracket_11 : decode cX5_openBracket 11 = .ok (.goto 4, 3) := dk_167 0 4 (dk_at dksX5_openBracket_0 11 rfl rfl)
theorem dX5_openBracket_14 : decode cX5_openBracket 14 = .ok (.iconst 0, 1) := dk_3 (dk_at dksX5_openBracket_0 14 rfl rfl)
theorem dX5_openBracket_15 : decode cX5_openBracket 15 = .ok (.invokevirtual 272, 3) := dk_182 1 16 (dk_at dksX5_openBracket_0 15 rfl rfl)
theorem dX5_openBracket_18 : decode cX5_openBracket 18 = .ok (.aload_n 0, 1) := dk_42 (dk_at dksX5_openBracket_0 18 rfl rfl)
theorem dX5_openBracket_19 : decode cX5_openBracket 19 = .ok (.getfield 239, 3) := dk_180 0 239 (dk_at dksX5_openBracket_0 19 rfl rfl)
theorem dX5_openBracket_22 : decode cX5_openBracket 22 = .ok (.ifCond .ne 19, 3) := dk_154 0 19 (dk_at dksX5_openBracket_1 0 rfl rfl)
theorem dX5_openBracket_25 : decode cX5_openBracket 25 = .ok (.aload_n 0, 1) := dk_42 (dk_at dksX5_openBracket_1 3 rfl rfl)
theorem dX5_openBracket_26 : decode cX5_openBracket 26 = .ok (.dup, 1) := dk_89 (dk_at dksX5_openBracket_1 4 rfl rfl)
theorem dX5_openBracket_27 : decode cX5_openBracket 27 = .ok (.getfield 301, 3) := dk_180 1 45 (dk_at dksX5_openBracket_1 5 rfl rfl)
theorem dX5_openBracket_30 : decode cX5_openBracket 30 = .ok (.iconst 1, 1) := dk_4 (dk_at dksX5_openBracket_1 8 rfl rfl)
theorem dX5_openBracket_31 : decode cX5_openBracket 31 = .ok (.iadd, 1) := dk_96 (dk_at dksX5_openBracket_1 9 rfl rfl)
theorem dX5_openBracket_32 : decode cX5_openBracket 32 = .ok (.putfield 301, 3) := dk_181 1 45 (dk_at dksX5_openBracket_1 10 rfl rfl)
theorem dX5_openBracket_35 : decode cX5_openBracket 35 = .ok (.aload_n 0, 1) := dk_42 (dk_at dksX5_openBracket_1 13 rfl rfl)
theorem dX5_openBracket_36 : decode cX5_openBracket 36 = .ok (.iload_n 1, 1) := dk_27 (dk_at dksX5_openBracket_1 14 rfl rfl)
theorem dX5_openBracket_37 : decode cX5_openBracket 37 = .ok (.iconst 0, 1) := dk_3 (dk_at dksX5_openBracket_1 15 rfl rfl)
theorem dX5_openBracket_38 : decode cX5_openBracket 38 = .ok (.invokevirtual 304, 3) := dk_182 1 48 (dk_at dksX5_openBracket_1 16 rfl rfl)
theorem dX5_openBracket_41 : decode cX5_openBracket 41 = .ok (.return_, 1) := dk_177 (dk_at dksX5_openBracket_1 19 rfl rfl)
abbrev cX5_readPart : ByteArray := prog_22_method_53_code
def yX5_readPart : MethodName := ⟨RX5, "readPart", "()I"⟩
def dkwX5_readPart_6 : List UInt8 := [20, 1, 76, 167, 0, 6, 20, 0, 192, 182, 1, 78, 79, 6, 172]
abbrev dktX5_readPart_6 : List UInt8 := dkwX5_readPart_6 ++ []
def dkwX5_readPart_5 : List UInt8 := [154, 0, 36, 42, 180, 1, 20, 4, 100, 62, 42, 180, 0, 48, 29, 42, 9, 27, 16, 6, 160, 0, 9]
abbrev dktX5_readPart_5 : List UInt8 := dkwX5_readPart_5 ++ dktX5_readPart_6
def dkwX5_readPart_4 : List UInt8 := [167, 0, 4, 3, 182, 1, 72, 42, 180, 1, 60, 153, 0, 49, 27, 16, 6, 161, 0, 43, 42, 180, 0, 239]
abbrev dktX5_readPart_4 : List UInt8 := dkwX5_readPart_4 ++ dktX5_readPart_5
def dkwX5_readPart_3 : List UInt8 := [167, 0, 4, 3, 27, 2, 160, 0, 7, 3, 167, 0, 4, 27, 28, 153, 0, 11, 42, 180, 0, 249, 136]
abbrev dktX5_readPart_3 : List UInt8 := dkwX5_readPart_3 ++ dktX5_readPart_4
def dkwX5_readPart_2 : List UInt8 := [20, 1, 70, 148, 157, 0, 7, 4, 167, 0, 4, 3, 61, 42, 27, 2, 160, 0, 7, 28, 153, 0, 7, 4]
abbrev dktX5_readPart_2 : List UInt8 := dkwX5_readPart_2 ++ dktX5_readPart_3
def dkwX5_readPart_1 : List UInt8 := [42, 182, 1, 63, 167, 0, 7, 42, 182, 1, 67, 60, 42, 180, 1, 3, 5, 160, 0, 18, 42, 180, 0, 249]
abbrev dktX5_readPart_1 : List UInt8 := dkwX5_readPart_1 ++ dktX5_readPart_2
def dkwX5_readPart_0 : List UInt8 := [42, 16, 91, 182, 1, 54, 153, 0, 11, 42, 16, 32, 182, 1, 57, 4, 172, 42, 180, 1, 60, 153, 0, 10]
abbrev dktX5_readPart_0 : List UInt8 := dkwX5_readPart_0 ++ dktX5_readPart_1
theorem dksX5_readPart_0 : cX5_readPart.data.toList.drop 0 = dktX5_readPart_0 := by decide +kernel
theorem dksX5_readPart_1 : cX5_readPart.data.toList.drop 24 = dktX5_readPart_1 := dk_seg dksX5_readPart_0 24 rfl rfl
theorem dksX5_readPart_2 : cX5_readPart.data.toList.drop 48 = dktX5_readPart_2 := dk_seg dksX5_readPart_1 24 rfl rfl
theorem dksX5_readPart_3 : cX5_readPart.data.toList.drop 72 = dktX5_readPart_3 := dk_seg dksX5_readPart_2 24 rfl rfl
theorem dksX5_readPart_4 : cX5_readPart.data.toList.drop 95 = dktX5_readPart_4 := dk_seg dksX5_readPart_3 23 rfl rfl
theorem dksX5_readPart_5 : cX5_readPart.data.toList.drop 119 = dktX5_readPart_5 := dk_seg dksX5_readPart_4 24 rfl rfl
theorem dksX5_readPart_6 : cX5_readPart.data.toList.drop 142 = dktX5_readPart_6 := dk_seg dksX5_readPart_5 23 rfl rfl
theorem dX5_readPart_0 : decode cX5_readPart 0 = .ok (.aload_n 0, 1) := dk_42 (dk_at dksX5_readPart_0 0 rfl rfl)
theorem dX5_readPart_1 : decode cX5_readPart 1 = .ok (.bipush 91, 2) := dk_16 91 (dk_at dksX5_readPart_0 1 rfl rfl)
theorem dX5_readPart_3 : decode cX5_readPart 3 = .ok (.invokevirtual 310, 3) := dk_182 1 54 (dk_at dksX5_readPart_0 3 rfl rfl)
theorem dX5_readPart_6 : decode cX5_readPart 6 = .ok (.ifCond .eq 11, 3) := dk_153 0 11 (dk_at dksX5_readPart_0 6 rfl rfl)
theorem dX5_readPart_9 : decode cX5_readPart 9 = .ok (.aload_n 0, 1) := dk_42 (dk_at dksX5_readPart_0 9 rfl rfl)
theorem dX5_readPart_10 : decode cX5_readPart 10 = .ok (.bipush 32, 2) := dk_16 32 (dk_at dksX5_readPart_0 10 rfl rfl)
theorem dX5_readPart_12 : decode cX5_readPart 12 = .ok (.invokevirtual 313, 3) := dk_182 1 57 (dk_at dksX5_readPart_0 12 rfl rfl)
theorem dX5_readPart_15 : decode cX5_readPart 15 = .ok (.iconst 1, 1) := dk_4 (dk_at dksX5_readPart_0 15 rfl rfl)
theorem dX5_readPart_16 : decode cX5_readPart 16 = .ok (.ireturn, 1) := dk_172 (dk_at dksX5_readPart_0 16 rfl rfl)
theorem dX5_readPart_17 : decode cX5_readPart 17 = .ok (.aload_n 0, 1) := dk_42 (dk_at dksX5_readPart_0 17 rfl rfl)
theorem dX5_readPart_18 : decode cX5_readPart 18 = .ok (.getfield 316, 3) := dk_180 1 60 (dk_at dksX5_readPart_0 18 rfl rfl)
theorem dX5_readPart_21 : decode cX5_readPart 21 = .ok (.ifCond .eq 10, 3) := dk_153 0 10 (dk_at dksX5_readPart_0 21 rfl rfl)
theorem dX5_readPart_24 : decode cX5_readPart 24 = .ok (.aload_n 0, 1) := dk_42 (dk_at dksX5_readPart_1 0 rfl rfl)
theorem dX5_readPart_25 : decode cX5_readPart 25 = .ok (.invokevirtual 319, 3) := dk_182 1 63 (dk_at dksX5_readPart_1 1 rfl rfl)
theorem dX5_readPart_28 : decode cX5_readPart 28 = .ok (.goto 7, 3) := dk_167 0 7 (dk_at dksX5_readPart_1 4 rfl rfl)
theorem dX5_readPart_31 : decode cX5_readPart 31 = .ok (.aload_n 0, 1) := dk_42 (dk_at dksX5_readPart_1 7 rfl rfl)
theorem dX5_readPart_32 : decode cX5_readPart 32 = .ok (.invokevirtual 323, 3) := dk_182 1 67 (dk_at dksX5_readPart_1 8 rfl rfl)
theorem dX5_readPart_35 : decode cX5_readPart 35 = .ok (.istore_n 1, 1) := dk_60 (dk_at dksX5_readPart_1 11 rfl rfl)
theorem dX5_readPart_36 : decode cX5_readPart 36 = .ok (.aload_n 0, 1) := dk_42 (dk_at dksX5_readPart_1 12 rfl rfl)
theorem dX5_readPart_37 : decode cX5_readPart 37 = .ok (.getfield 259, 3) := dk_180 1 3 (dk_at dksX5_readPart_1 13 rfl rfl)
theorem dX5_readPart_40 : decode cX5_readPart 40 = .ok (.iconst 2, 1) := dk_5 (dk_at dksX5_readPart_1 16 rfl rfl)
theorem dX5_readPart_41 : decode cX5_readPart 41 = .ok (.if_icmp .ne 18, 3) := dk_160 0 18 (dk_at dksX5_readPart_1 17 rfl rfl)
theorem dX5_readPart_44 : decode cX5_readPart 44 = .ok (.aload_n 0, 1) := dk_42 (dk_at dksX5_readPart_1 20 rfl rfl)
theorem dX5_readPart_45 : decode cX5_readPart 45 = .ok (.getfield 249, 3) := dk_180 0 249 (dk_at dksX5_readPart_1 21 rfl rfl)
theorem dX5_readPart_48 : decode cX5_readPart 48 = .ok (.ldc2_w 326, 3) := dk_20 1 70 (dk_at dksX5_readPart_2 0 rfl rfl)
theorem dX5_readPart_51 : decode cX5_readPart 51 = .ok (.lcmp, 1) := dk_148 (dk_at dksX5_readPart_2 3 rfl rfl)
theorem dX5_readPart_52 : decode cX5_readPart 52 = .ok (.ifCond .gt 7, 3) := dk_157 0 7 (dk_at dksX5_readPart_2 4 rfl rfl)
theorem dX5_readPart_55 : decode cX5_readPart 55 = .ok (.iconst 1, 1) := dk_4 (dk_at dksX5_readPart_2 7 rfl rfl)
theorem dX5_readPart_56 : decode cX5_readPart 56 = .ok (.goto 4, 3) := dk_167 0 4 (dk_at dksX5_readPart_2 8 rfl rfl)
theorem dX5_readPart_59 : decode cX5_readPart 59 = .ok (.iconst 0, 1) := dk_3 (dk_at dksX5_readPart_2 11 rfl rfl)
theorem dX5_readPart_60 : decode cX5_readPart 60 = .ok (.istore_n 2, 1) := dk_61 (dk_at dksX5_readPart_2 12 rfl rfl)
theorem dX5_readPart_61 : decode cX5_readPart 61 = .ok (.aload_n 0, 1) := dk_42 (dk_at dksX5_readPart_2 13 rfl rfl)
theorem dX5_readPart_62 : decode cX5_readPart 62 = .ok (.iload_n 1, 1) := dk_27 (dk_at dksX5_readPart_2 14 rfl rfl)
theorem dX5_readPart_63 : decode cX5_readPart 63 = .ok (.iconst (-1), 1) := dk_2 (dk_at dksX5_readPart_2 15 rfl rfl)
theorem dX5_readPart_64 : decode cX5_readPart 64 = .ok (.if_icmp .ne 7, 3) := dk_160 0 7 (dk_at dksX5_readPart_2 16 rfl rfl)
theorem dX5_readPart_67 : decode cX5_readPart 67 = .ok (.iload_n 2, 1) := dk_28 (dk_at dksX5_readPart_2 19 rfl rfl)
theorem dX5_readPart_68 : decode cX5_readPart 68 = .ok (.ifCond .eq 7, 3) := dk_153 0 7 (dk_at dksX5_readPart_2 20 rfl rfl)
theorem dX5_readPart_71 : decode cX5_readPart 71 = .ok (.iconst 1, 1) := dk_4 (dk_at dksX5_readPart_2 23 rfl rfl)
theorem dX5_readPart_72 : decode cX5_readPart 72 = .ok (.goto 4, 3) := dk_167 0 4 (dk_at dksX5_readPart_3 0 rfl rfl)
theorem dX5_readPart_75 : decode cX5_readPart 75 = .ok (.iconst 0, 1) := dk_3 (dk_at dksX5_readPart_3 3 rfl rfl)
theorem dX5_readPart_76 : decode cX5_readPart 76 = .ok (.iload_n 1, 1) := dk_27 (dk_at dksX5_readPart_3 4 rfl rfl)
theorem dX5_readPart_77 : decode cX5_readPart 77 = .ok (.iconst (-1), 1) := dk_2 (dk_at dksX5_readPart_3 5 rfl rfl)
theorem dX5_readPart_78 : decode cX5_readPart 78 = .ok (.if_icmp .ne 7, 3) := dk_160 0 7 (dk_at dksX5_readPart_3 6 rfl rfl)
theorem dX5_readPart_81 : decode cX5_readPart 81 = .ok (.iconst 0, 1) := dk_3 (dk_at dksX5_readPart_3 9 rfl rfl)
theorem dX5_readPart_82 : decode cX5_readPart 82 = .ok (.goto 4, 3) := dk_167 0 4 (dk_at dksX5_readPart_3 10 rfl rfl)
theorem dX5_readPart_85 : decode cX5_readPart 85 = .ok (.iload_n 1, 1) := dk_27 (dk_at dksX5_readPart_3 13 rfl rfl)
theorem dX5_readPart_86 : decode cX5_readPart 86 = .ok (.iload_n 2, 1) := dk_28 (dk_at dksX5_readPart_3 14 rfl rfl)
theorem dX5_readPart_87 : decode cX5_readPart 87 = .ok (.ifCond .eq 11, 3) := dk_153 0 11 (dk_at dksX5_readPart_3 15 rfl rfl)
theorem dX5_readPart_90 : decode cX5_readPart 90 = .ok (.aload_n 0, 1) := dk_42 (dk_at dksX5_readPart_3 18 rfl rfl)
theorem dX5_readPart_91 : decode cX5_readPart 91 = .ok (.getfield 249, 3) := dk_180 0 249 (dk_at dksX5_readPart_3 19 rfl rfl)
theorem dX5_readPart_94 : decode cX5_readPart 94 = .ok (.l2i, 1) := dk_136 (dk_at dksX5_readPart_3 22 rfl rfl)
theorem dX5_readPart_95 : decode cX5_readPart 95 = .ok (.goto 4, 3) := dk_167 0 4 (dk_at dksX5_readPart_4 0 rfl rfl)
theorem dX5_readPart_98 : decode cX5_readPart 98 = .ok (.iconst 0, 1) := dk_3 (dk_at dksX5_readPart_4 3 rfl rfl)
theorem dX5_readPart_99 : decode cX5_readPart 99 = .ok (.invokevirtual 328, 3) := dk_182 1 72 (dk_at dksX5_readPart_4 4 rfl rfl)
theorem dX5_readPart_102 : decode cX5_readPart 102 = .ok (.aload_n 0, 1) := dk_42 (dk_at dksX5_readPart_4 7 rfl rfl)
theorem dX5_readPart_103 : decode cX5_readPart 103 = .ok (.getfield 316, 3) := dk_180 1 60 (dk_at dksX5_readPart_4 8 rfl rfl)
theorem dX5_readPart_106 : decode cX5_readPart 106 = .ok (.ifCond .eq 49, 3) := dk_153 0 49 (dk_at dksX5_readPart_4 11 rfl rfl)
theorem dX5_readPart_109 : decode cX5_readPart 109 = .ok (.iload_n 1, 1) := dk_27 (dk_at dksX5_readPart_4 14 rfl rfl)
theorem dX5_readPart_110 : decode cX5_readPart 110 = .ok (.bipush 6, 2) := dk_16 6 (dk_at dksX5_readPart_4 15 rfl rfl)
theorem dX5_readPart_112 : decode cX5_readPart 112 = .ok (.if_icmp .lt 43, 3) := dk_161 0 43 (dk_at dksX5_readPart_4 17 rfl rfl)
theorem dX5_readPart_115 : decode cX5_readPart 115 = .ok (.aload_n 0, 1) := dk_42 (dk_at dksX5_readPart_4 20 rfl rfl)
theorem dX5_readPart_116 : decode cX5_readPart 116 = .ok (.getfield 239, 3) := dk_180 0 239 (dk_at dksX5_readPart_4 21 rfl rfl)
theorem dX5_readPart_119 : decode cX5_readPart 119 = .ok (.ifCond .ne 36, 3) := dk_154 0 36 (dk_at dksX5_readPart_5 0 rfl rfl)
theorem dX5_readPart_122 : decode cX5_readPart 122 = .ok (.aload_n 0, 1) := dk_42 (dk_at dksX5_readPart_5 3 rfl rfl)
theorem dX5_readPart_123 : decode cX5_readPart 123 = .ok (.getfield 276, 3) := dk_180 1 20 (dk_at dksX5_readPart_5 4 rfl rfl)
theorem dX5_readPart_126 : decode cX5_readPart 126 = .ok (.iconst 1, 1) := dk_4 (dk_at dksX5_readPart_5 7 rfl rfl)
theorem dX5_readPart_127 : decode cX5_readPart 127 = .ok (.isub, 1) := dk_100 (dk_at dksX5_readPart_5 8 rfl rfl)
theorem dX5_readPart_128 : decode cX5_readPart 128 = .ok (.istore_n 3, 1) := dk_62 (dk_at dksX5_readPart_5 9 rfl rfl)
theorem dX5_readPart_129 : decode cX5_readPart 129 = .ok (.aload_n 0, 1) := dk_42 (dk_at dksX5_readPart_5 10 rfl rfl)
theorem dX5_readPart_130 : decode cX5_readPart 130 = .ok (.getfield 48, 3) := dk_180 0 48 (dk_at dksX5_readPart_5 11 rfl rfl)
theorem dX5_readPart_133 : decode cX5_readPart 133 = .ok (.iload_n 3, 1) := dk_29 (dk_at dksX5_readPart_5 14 rfl rfl)
theorem dX5_readPart_134 : decode cX5_readPart 134 = .ok (.aload_n 0, 1) := dk_42 (dk_at dksX5_readPart_5 15 rfl rfl)
theorem dX5_readPart_135 : decode cX5_readPart 135 = .ok (.lconst 0, 1) := dk_9 (dk_at dksX5_readPart_5 16 rfl rfl)
theorem dX5_readPart_136 : decode cX5_readPart 136 = .ok (.iload_n 1, 1) := dk_27 (dk_at dksX5_readPart_5 17 rfl rfl)
theorem dX5_readPart_137 : decode cX5_readPart 137 = .ok (.bipush 6, 2) := dk_16 6 (dk_at dksX5_readPart_5 18 rfl rfl)
theorem dX5_readPart_139 : decode cX5_readPart 139 = .ok (.if_icmp .ne 9, 3) := dk_160 0 9 (dk_at dksX5_readPart_5 20 rfl rfl)
theorem dX5_readPart_142 : decode cX5_readPart 142 = .ok (.ldc2_w 332, 3) := dk_20 1 76 (dk_at dksX5_readPart_6 0 rfl rfl)
theorem dX5_readPart_145 : decode cX5_readPart 145 = .ok (.goto 6, 3) := dk_167 0 6 (dk_at dksX5_readPart_6 3 rfl rfl)
theorem dX5_readPart_148 : decode cX5_readPart 148 = .ok (.ldc2_w 192, 3) := dk_20 0 192 (dk_at dksX5_readPart_6 6 rfl rfl)
theorem dX5_readPart_151 : decode cX5_readPart 151 = .ok (.invokevirtual 334, 3) := dk_182 1 78 (dk_at dksX5_readPart_6 9 rfl rfl)
theorem dX5_readPart_154 : decode cX5_readPart 154 = .ok (.iastore, 1) := dk_79 (dk_at dksX5_readPart_6 12 rfl rfl)
theorem dX5_readPart_155 : decode cX5_readPart 155 = .ok (.iconst 3, 1) := dk_6 (dk_at dksX5_readPart_6 13 rfl rfl)
theorem dX5_readPart_156 : decode cX5_readPart 156 = .ok (.ireturn, 1) := dk_172 (dk_at dksX5_readPart_6 14 rfl rfl)
abbrev cX5_orderPartAt : ByteArray := prog_22_method_50_code
def yX5_orderPartAt : MethodName := ⟨RX5, "orderPartAt", "()I"⟩
def dkwX5_orderPartAt_1 : List UInt8 := [4, 96, 167, 0, 4, 27, 60, 132, 2, 1, 167, 255, 226, 27, 172]
abbrev dktX5_orderPartAt_1 : List UInt8 := dkwX5_orderPartAt_1 ++ []
def dkwX5_orderPartAt_0 : List UInt8 := [2, 60, 3, 61, 28, 16, 7, 162, 0, 30, 42, 42, 180, 0, 91, 28, 47, 182, 1, 41, 153, 0, 9, 28]
abbrev dktX5_orderPartAt_0 : List UInt8 := dkwX5_orderPartAt_0 ++ dktX5_orderPartAt_1
theorem dksX5_orderPartAt_0 : cX5_orderPartAt.data.toList.drop 0 = dktX5_orderPartAt_0 := by decide +kernel
theorem dksX5_orderPartAt_1 : cX5_orderPartAt.data.toList.drop 24 = dktX5_orderPartAt_1 := dk_seg dksX5_orderPartAt_0 24 rfl rfl
theorem dX5_orderPartAt_0 : decode cX5_orderPartAt 0 = .ok (.iconst (-1), 1) := dk_2 (dk_at dksX5_orderPartAt_0 0 rfl rfl)
theorem dX5_orderPartAt_1 : decode cX5_orderPartAt 1 = .ok (.istore_n 1, 1) := dk_60 (dk_at dksX5_orderPartAt_0 1 rfl rfl)
theorem dX5_orderPartAt_2 : decode cX5_orderPartAt 2 = .ok (.iconst 0, 1) := dk_3 (dk_at dksX5_orderPartAt_0 2 rfl rfl)
theorem dX5_orderPartAt_3 : decode cX5_orderPartAt 3 = .ok (.istore_n 2, 1) := dk_61 (dk_at dksX5_orderPartAt_0 3 rfl rfl)
theorem dX5_orderPartAt_4 : decode cX5_orderPartAt 4 = .ok (.iload_n 2, 1) := dk_28 (dk_at dksX5_orderPartAt_0 4 rfl rfl)
theorem dX5_orderPartAt_5 : decode cX5_orderPartAt 5 = .ok (.bipush 7, 2) := dk_16 7 (dk_at dksX5_orderPartAt_0 5 rfl rfl)
theorem dX5_orderPartAt_7 : decode cX5_orderPartAt 7 = .ok (.if_icmp .ge 30, 3) := dk_162 0 30 (dk_at dksX5_orderPartAt_0 7 rfl rfl)
theorem dX5_orderPartAt_10 : decode cX5_orderPartAt 10 = .ok (.aload_n 0, 1) := dk_42 (dk_at dksX5_orderPartAt_0 10 rfl rfl)
theorem dX5_orderPartAt_11 : decode cX5_orderPartAt 11 = .ok (.aload_n 0, 1) := dk_42 (dk_at dksX5_orderPartAt_0 11 rfl rfl)
theorem dX5_orderPartAt_12 : decode cX5_orderPartAt 12 = .ok (.getfield 91, 3) := dk_180 0 91 (dk_at dksX5_orderPartAt_0 12 rfl rfl)
theorem dX5_orderPartAt_15 : decode cX5_orderPartAt 15 = .ok (.iload_n 2, 1) := dk_28 (dk_at dksX5_orderPartAt_0 15 rfl rfl)
theorem dX5_orderPartAt_16 : decode cX5_orderPartAt 16 = .ok (.laload, 1) := dk_47 (dk_at dksX5_orderPartAt_0 16 rfl rfl)
theorem dX5_orderPartAt_17 : decode cX5_orderPartAt 17 = .ok (.invokevirtual 297, 3) := dk_182 1 41 (dk_at dksX5_orderPartAt_0 17 rfl rfl)
theorem dX5_orderPartAt_20 : decode cX5_orderPartAt 20 = .ok (.ifCond .eq 9, 3) := dk_153 0 9 (dk_at dksX5_orderPartAt_0 20 rfl rfl)
theorem dX5_orderPartAt_23 : decode cX5_orderPartAt 23 = .ok (.iload_n 2, 1) := dk_28 (dk_at dksX5_orderPartAt_0 23 rfl rfl)
theorem dX5_orderPartAt_24 : decode cX5_orderPartAt 24 = .ok (.iconst 1, 1) := dk_4 (dk_at dksX5_orderPartAt_1 0 rfl rfl)
theorem dX5_orderPartAt_25 : decode cX5_orderPartAt 25 = .ok (.iadd, 1) := dk_96 (dk_at dksX5_orderPartAt_1 1 rfl rfl)
theorem dX5_orderPartAt_26 : decode cX5_orderPartAt 26 = .ok (.goto 4, 3) := dk_167 0 4 (dk_at dksX5_orderPartAt_1 2 rfl rfl)
theorem dX5_orderPartAt_29 : decode cX5_orderPartAt 29 = .ok (.iload_n 1, 1) := dk_27 (dk_at dksX5_orderPartAt_1 5 rfl rfl)
theorem dX5_orderPartAt_30 : decode cX5_orderPartAt 30 = .ok (.istore_n 1, 1) := dk_60 (dk_at dksX5_orderPartAt_1 6 rfl rfl)
theorem dX5_orderPartAt_31 : decode cX5_orderPartAt 31 = .ok (.iinc 2 1, 3) := dk_132 2 1 (dk_at dksX5_orderPartAt_1 7 rfl rfl)
theorem dX5_orderPartAt_34 : decode cX5_orderPartAt 34 = .ok (.goto (-30), 3) := dk_167 255 226 (dk_at dksX5_orderPartAt_1 10 rfl rfl)
theorem dX5_orderPartAt_37 : decode cX5_orderPartAt 37 = .ok (.iload_n 1, 1) := dk_27 (dk_at dksX5_orderPartAt_1 13 rfl rfl)
theorem dX5_orderPartAt_38 : decode cX5_orderPartAt 38 = .ok (.ireturn, 1) := dk_172 (dk_at dksX5_orderPartAt_1 14 rfl rfl)
abbrev cX5_partAt : ByteArray := prog_22_method_49_code
def yX5_partAt : MethodName := ⟨RX5, "partAt", "()I"⟩
def dkwX5_partAt_1 : List UInt8 := [4, 96, 167, 0, 4, 27, 60, 132, 2, 1, 167, 255, 226, 27, 172]
abbrev dktX5_partAt_1 : List UInt8 := dkwX5_partAt_1 ++ []
def dkwX5_partAt_0 : List UInt8 := [2, 60, 3, 61, 28, 16, 9, 162, 0, 30, 42, 42, 180, 0, 75, 28, 47, 182, 1, 41, 153, 0, 9, 28]
abbrev dktX5_partAt_0 : List UInt8 := dkwX5_partAt_0 ++ dktX5_partAt_1
theorem dksX5_partAt_0 : cX5_partAt.data.toList.drop 0 = dktX5_partAt_0 := by decide +kernel
theorem dksX5_partAt_1 : cX5_partAt.data.toList.drop 24 = dktX5_partAt_1 := dk_seg dksX5_partAt_0 24 rfl rfl
theorem dX5_partAt_0 : decode cX5_partAt 0 = .ok (.iconst (-1), 1) := dk_2 (dk_at dksX5_partAt_0 0 rfl rfl)
theorem dX5_partAt_1 : decode cX5_partAt 1 = .ok (.istore_n 1, 1) := dk_60 (dk_at dksX5_partAt_0 1 rfl rfl)
theorem dX5_partAt_2 : decode cX5_partAt 2 = .ok (.iconst 0, 1) := dk_3 (dk_at dksX5_partAt_0 2 rfl rfl)
theorem dX5_partAt_3 : decode cX5_partAt 3 = .ok (.istore_n 2, 1) := dk_61 (dk_at dksX5_partAt_0 3 rfl rfl)
theorem dX5_partAt_4 : decode cX5_partAt 4 = .ok (.iload_n 2, 1) := dk_28 (dk_at dksX5_partAt_0 4 rfl rfl)
theorem dX5_partAt_5 : decode cX5_partAt 5 = .ok (.bipush 9, 2) := dk_16 9 (dk_at dksX5_partAt_0 5 rfl rfl)
theorem dX5_partAt_7 : decode cX5_partAt 7 = .ok (.if_icmp .ge 30, 3) := dk_162 0 30 (dk_at dksX5_partAt_0 7 rfl rfl)
theorem dX5_partAt_10 : decode cX5_partAt 10 = .ok (.aload_n 0, 1) := dk_42 (dk_at dksX5_partAt_0 10 rfl rfl)
theorem dX5_partAt_11 : decode cX5_partAt 11 = .ok (.aload_n 0, 1) := dk_42 (dk_at dksX5_partAt_0 11 rfl rfl)
theorem dX5_partAt_12 : decode cX5_partAt 12 = .ok (.getfield 75, 3) := dk_180 0 75 (dk_at dksX5_partAt_0 12 rfl rfl)
theorem dX5_partAt_15 : decode cX5_partAt 15 = .ok (.iload_n 2, 1) := dk_28 (dk_at dksX5_partAt_0 15 rfl rfl)
theorem dX5_partAt_16 : decode cX5_partAt 16 = .ok (.laload, 1) := dk_47 (dk_at dksX5_partAt_0 16 rfl rfl)
theorem dX5_partAt_17 : decode cX5_partAt 17 = .ok (.invokevirtual 297, 3) := dk_182 1 41 (dk_at dksX5_partAt_0 17 rfl rfl)
theorem dX5_partAt_20 : decode cX5_partAt 20 = .ok (.ifCond .eq 9, 3) := dk_153 0 9 (dk_at dksX5_partAt_0 20 rfl rfl)
theorem dX5_partAt_23 : decode cX5_partAt 23 = .ok (.iload_n 2, 1) := dk_28 (dk_at dksX5_partAt_0 23 rfl rfl)
theorem dX5_partAt_24 : decode cX5_partAt 24 = .ok (.iconst 1, 1) := dk_4 (dk_at dksX5_partAt_1 0 rfl rfl)
theorem dX5_partAt_25 : decode cX5_partAt 25 = .ok (.iadd, 1) := dk_96 (dk_at dksX5_partAt_1 1 rfl rfl)
theorem dX5_partAt_26 : decode cX5_partAt 26 = .ok (.goto 4, 3) := dk_167 0 4 (dk_at dksX5_partAt_1 2 rfl rfl)
theorem dX5_partAt_29 : decode cX5_partAt 29 = .ok (.iload_n 1, 1) := dk_27 (dk_at dksX5_partAt_1 5 rfl rfl)
theorem dX5_partAt_30 : decode cX5_partAt 30 = .ok (.istore_n 1, 1) := dk_60 (dk_at dksX5_partAt_1 6 rfl rfl)
theorem dX5_partAt_31 : decode cX5_partAt 31 = .ok (.iinc 2 1, 3) := dk_132 2 1 (dk_at dksX5_partAt_1 7 rfl rfl)
theorem dX5_partAt_34 : decode cX5_partAt 34 = .ok (.goto (-30), 3) := dk_167 255 226 (dk_at dksX5_partAt_1 10 rfl rfl)
theorem dX5_partAt_37 : decode cX5_partAt 37 = .ok (.iload_n 1, 1) := dk_27 (dk_at dksX5_partAt_1 13 rfl rfl)
theorem dX5_partAt_38 : decode cX5_partAt 38 = .ok (.ireturn, 1) := dk_172 (dk_at dksX5_partAt_1 14 rfl rfl)
abbrev cX5_leaf : ByteArray := prog_22_method_52_code
def yX5_leaf : MethodName := ⟨RX5, "leaf", "(ZII)V"⟩
def dkwX5_leaf_1 : List UInt8 := [180, 0, 239, 154, 0, 19, 42, 28, 29, 182, 1, 29, 42, 89, 180, 1, 51, 4, 96, 181, 1, 51, 177]
abbrev dktX5_leaf_1 : List UInt8 := dkwX5_leaf_1 ++ []
def dkwX5_leaf_0 : List UInt8 := [42, 27, 153, 0, 16, 42, 180, 1, 51, 16, 50, 162, 0, 7, 4, 167, 0, 4, 3, 182, 1, 16, 42]
abbrev dktX5_leaf_0 : List UInt8 := dkwX5_leaf_0 ++ dktX5_leaf_1
theorem dksX5_leaf_0 : cX5_leaf.data.toList.drop 0 = dktX5_leaf_0 := by decide +kernel
theorem dksX5_leaf_1 : cX5_leaf.data.toList.drop 23 = dktX5_leaf_1 := dk_seg dksX5_leaf_0 23 rfl rfl
theorem dX5_leaf_0 : decode cX5_leaf 0 = .ok (.aload_n 0, 1) := dk_42 (dk_at dksX5_leaf_0 0 rfl rfl)
theorem dX5_leaf_1 : decode cX5_leaf 1 = .ok (.iload_n 1, 1) := dk_27 (dk_at dksX5_leaf_0 1 rfl rfl)
theorem dX5_leaf_2 : decode cX5_leaf 2 = .ok (.ifCond .eq 16, 3) := dk_153 0 16 (dk_at dksX5_leaf_0 2 rfl rfl)
theorem dX5_leaf_5 : decode cX5_leaf 5 = .ok (.aload_n 0, 1) := dk_42 (dk_at dksX5_leaf_0 5 rfl rfl)
theorem dX5_leaf_6 : decode cX5_leaf 6 = .ok (.getfield 307, 3) := dk_180 1 51 (dk_at dksX5_leaf_0 6 rfl rfl)
theorem dX5_leaf_9 : decode cX5_leaf 9 = .ok (.bipush 50, 2) := dk_16 50 (dk_at dksX5_leaf_0 9 rfl rfl)
theorem dX5_leaf_11 : decode cX5_leaf 11 = .ok (.if_icmp .ge 7, 3) := dk_162 0 7 (dk_at dksX5_leaf_0 11 rfl rfl)
theorem dX5_leaf_14 : decode cX5_leaf 14 = .ok (.iconst 1, 1) := dk_4 (dk_at dksX5_leaf_0 14 rfl rfl)
theorem dX5_leaf_15 : decode cX5_leaf 15 = .ok (.goto 4, 3) := dk_167 0 4 (dk_at dksX5_leaf_0 15 rfl rfl)
theorem dX5_leaf_18 : decode cX5_leaf 18 = .ok (.iconst 0, 1) := dk_3 (dk_at dksX5_leaf_0 18 rfl rfl)
theorem dX5_leaf_19 : decode cX5_leaf 19 = .ok (.invokevirtual 272, 3) := dk_182 1 16 (dk_at dksX5_leaf_0 19 rfl rfl)
theorem dX5_leaf_22 : decode cX5_leaf 22 = .ok (.aload_n 0, 1) := dk_42 (dk_at dksX5_leaf_0 22 rfl rfl)
theorem dX5_leaf_23 : decode cX5_leaf 23 = .ok (.getfield 239, 3) := dk_180 0 239 (dk_at dksX5_leaf_1 0 rfl rfl)
theorem dX5_leaf_26 : decode cX5_leaf 26 = .ok (.ifCond .ne 19, 3) := dk_154 0 19 (dk_at dksX5_leaf_1 3 rfl rfl)
theorem dX5_leaf_29 : decode cX5_leaf 29 = .ok (.aload_n 0, 1) := dk_42 (dk_at dksX5_leaf_1 6 rfl rfl)
theorem dX5_leaf_30 : decode cX5_leaf 30 = .ok (.iload_n 2, 1) := dk_28 (dk_at dksX5_leaf_1 7 rfl rfl)
theorem dX5_leaf_31 : decode cX5_leaf 31 = .ok (.iload_n 3, 1) := dk_29 (dk_at dksX5_leaf_1 8 rfl rfl)
theorem dX5_leaf_32 : decode cX5_leaf 32 = .ok (.invokevirtual 285, 3) := dk_182 1 29 (dk_at dksX5_leaf_1 9 rfl rfl)
theorem dX5_leaf_35 : decode cX5_leaf 35 = .ok (.aload_n 0, 1) := dk_42 (dk_at dksX5_leaf_1 12 rfl rfl)
theorem dX5_leaf_36 : decode cX5_leaf 36 = .ok (.dup, 1) := dk_89 (dk_at dksX5_leaf_1 13 rfl rfl)
theorem dX5_leaf_37 : decode cX5_leaf 37 = .ok (.getfield 307, 3) := dk_180 1 51 (dk_at dksX5_leaf_1 14 rfl rfl)
theorem dX5_leaf_40 : decode cX5_leaf 40 = .ok (.iconst 1, 1) := dk_4 (dk_at dksX5_leaf_1 17 rfl rfl)
theorem dX5_leaf_41 : decode cX5_leaf 41 = .ok (.iadd, 1) := dk_96 (dk_at dksX5_leaf_1 18 rfl rfl)
theorem dX5_leaf_42 : decode cX5_leaf 42 = .ok (.putfield 307, 3) := dk_181 1 51 (dk_at dksX5_leaf_1 19 rfl rfl)
theorem dX5_leaf_45 : decode cX5_leaf 45 = .ok (.return_, 1) := dk_177 (dk_at dksX5_leaf_1 22 rfl rfl)
abbrev cX5_emit : ByteArray := prog_22_method_43_code
def yX5_emit : MethodName := ⟨RX5, "emit", "(II)V"⟩
def dkwX5_emit_1 : List UInt8 := [180, 1, 20, 4, 96, 181, 1, 20, 177]
abbrev dktX5_emit_1 : List UInt8 := dkwX5_emit_1 ++ []
def dkwX5_emit_0 : List UInt8 := [42, 180, 0, 45, 42, 180, 1, 20, 27, 79, 42, 180, 0, 48, 42, 180, 1, 20, 28, 79, 42, 89]
abbrev dktX5_emit_0 : List UInt8 := dkwX5_emit_0 ++ dktX5_emit_1
theorem dksX5_emit_0 : cX5_emit.data.toList.drop 0 = dktX5_emit_0 := by decide +kernel
theorem dksX5_emit_1 : cX5_emit.data.toList.drop 22 = dktX5_emit_1 := dk_seg dksX5_emit_0 22 rfl rfl
theorem dX5_emit_0 : decode cX5_emit 0 = .ok (.aload_n 0, 1) := dk_42 (dk_at dksX5_emit_0 0 rfl rfl)
theorem dX5_emit_1 : decode cX5_emit 1 = .ok (.getfield 45, 3) := dk_180 0 45 (dk_at dksX5_emit_0 1 rfl rfl)
theorem dX5_emit_4 : decode cX5_emit 4 = .ok (.aload_n 0, 1) := dk_42 (dk_at dksX5_emit_0 4 rfl rfl)
theorem dX5_emit_5 : decode cX5_emit 5 = .ok (.getfield 276, 3) := dk_180 1 20 (dk_at dksX5_emit_0 5 rfl rfl)
theorem dX5_emit_8 : decode cX5_emit 8 = .ok (.iload_n 1, 1) := dk_27 (dk_at dksX5_emit_0 8 rfl rfl)
theorem dX5_emit_9 : decode cX5_emit 9 = .ok (.iastore, 1) := dk_79 (dk_at dksX5_emit_0 9 rfl rfl)
theorem dX5_emit_10 : decode cX5_emit 10 = .ok (.aload_n 0, 1) := dk_42 (dk_at dksX5_emit_0 10 rfl rfl)
theorem dX5_emit_11 : decode cX5_emit 11 = .ok (.getfield 48, 3) := dk_180 0 48 (dk_at dksX5_emit_0 11 rfl rfl)
theorem dX5_emit_14 : decode cX5_emit 14 = .ok (.aload_n 0, 1) := dk_42 (dk_at dksX5_emit_0 14 rfl rfl)
theorem dX5_emit_15 : decode cX5_emit 15 = .ok (.getfield 276, 3) := dk_180 1 20 (dk_at dksX5_emit_0 15 rfl rfl)
theorem dX5_emit_18 : decode cX5_emit 18 = .ok (.iload_n 2, 1) := dk_28 (dk_at dksX5_emit_0 18 rfl rfl)
theorem dX5_emit_19 : decode cX5_emit 19 = .ok (.iastore, 1) := dk_79 (dk_at dksX5_emit_0 19 rfl rfl)
theorem dX5_emit_20 : decode cX5_emit 20 = .ok (.aload_n 0, 1) := dk_42 (dk_at dksX5_emit_0 20 rfl rfl)
theorem dX5_emit_21 : decode cX5_emit 21 = .ok (.dup, 1) := dk_89 (dk_at dksX5_emit_0 21 rfl rfl)
theorem dX5_emit_22 : decode cX5_emit 22 = .ok (.getfield 276, 3) := dk_180 1 20 (dk_at dksX5_emit_1 0 rfl rfl)
theorem dX5_emit_25 : decode cX5_emit 25 = .ok (.iconst 1, 1) := dk_4 (dk_at dksX5_emit_1 3 rfl rfl)
theorem dX5_emit_26 : decode cX5_emit 26 = .ok (.iadd, 1) := dk_96 (dk_at dksX5_emit_1 4 rfl rfl)
theorem dX5_emit_27 : decode cX5_emit 27 = .ok (.putfield 276, 3) := dk_181 1 20 (dk_at dksX5_emit_1 5 rfl rfl)
theorem dX5_emit_30 : decode cX5_emit 30 = .ok (.return_, 1) := dk_177 (dk_at dksX5_emit_1 8 rfl rfl)
abbrev cX5_number : ByteArray := prog_22_method_41_code
def yX5_number : MethodName := ⟨RX5, "number", "(JJ)I"⟩
def dkwX5_number_1 : List UInt8 := [184, 0, 179, 153, 0, 7, 4, 167, 0, 4, 3, 182, 1, 16, 21, 5, 172]
abbrev dktX5_number_1 : List UInt8 := dkwX5_number_1 ++ []
def dkwX5_number_0 : List UInt8 := [42, 180, 0, 249, 136, 54, 5, 42, 42, 180, 1, 3, 5, 160, 0, 19, 42, 180, 0, 249, 31, 33]
abbrev dktX5_number_0 : List UInt8 := dkwX5_number_0 ++ dktX5_number_1
theorem dksX5_number_0 : cX5_number.data.toList.drop 0 = dktX5_number_0 := by decide +kernel
theorem dksX5_number_1 : cX5_number.data.toList.drop 22 = dktX5_number_1 := dk_seg dksX5_number_0 22 rfl rfl
theorem dX5_number_0 : decode cX5_number 0 = .ok (.aload_n 0, 1) := dk_42 (dk_at dksX5_number_0 0 rfl rfl)
theorem dX5_number_1 : decode cX5_number 1 = .ok (.getfield 249, 3) := dk_180 0 249 (dk_at dksX5_number_0 1 rfl rfl)
theorem dX5_number_4 : decode cX5_number 4 = .ok (.l2i, 1) := dk_136 (dk_at dksX5_number_0 4 rfl rfl)
theorem dX5_number_5 : decode cX5_number 5 = .ok (.istore 5, 2) := dk_54 5 (dk_at dksX5_number_0 5 rfl rfl)
theorem dX5_number_7 : decode cX5_number 7 = .ok (.aload_n 0, 1) := dk_42 (dk_at dksX5_number_0 7 rfl rfl)
theorem dX5_number_8 : decode cX5_number 8 = .ok (.aload_n 0, 1) := dk_42 (dk_at dksX5_number_0 8 rfl rfl)
theorem dX5_number_9 : decode cX5_number 9 = .ok (.getfield 259, 3) := dk_180 1 3 (dk_at dksX5_number_0 9 rfl rfl)
theorem dX5_number_12 : decode cX5_number 12 = .ok (.iconst 2, 1) := dk_5 (dk_at dksX5_number_0 12 rfl rfl)
theorem dX5_number_13 : decode cX5_number 13 = .ok (.if_icmp .ne 19, 3) := dk_160 0 19 (dk_at dksX5_number_0 13 rfl rfl)
theorem dX5_number_16 : decode cX5_number 16 = .ok (.aload_n 0, 1) := dk_42 (dk_at dksX5_number_0 16 rfl rfl)
theorem dX5_number_17 : decode cX5_number 17 = .ok (.getfield 249, 3) := dk_180 0 249 (dk_at dksX5_number_0 17 rfl rfl)
theorem dX5_number_20 : decode cX5_number 20 = .ok (.lload_n 1, 1) := dk_31 (dk_at dksX5_number_0 20 rfl rfl)
theorem dX5_number_21 : decode cX5_number 21 = .ok (.lload_n 3, 1) := dk_33 (dk_at dksX5_number_0 21 rfl rfl)
theorem dX5_number_22 : decode cX5_number 22 = .ok (.invokestatic 179, 3) := dk_184 0 179 (dk_at dksX5_number_1 0 rfl rfl)
theorem dX5_number_25 : decode cX5_number 25 = .ok (.ifCond .eq 7, 3) := dk_153 0 7 (dk_at dksX5_number_1 3 rfl rfl)
theorem dX5_number_28 : decode cX5_number 28 = .ok (.iconst 1, 1) := dk_4 (dk_at dksX5_number_1 6 rfl rfl)
theorem dX5_number_29 : decode cX5_number 29 = .ok (.goto 4, 3) := dk_167 0 4 (dk_at dksX5_number_1 7 rfl rfl)
theorem dX5_number_32 : decode cX5_number 32 = .ok (.iconst 0, 1) := dk_3 (dk_at dksX5_number_1 10 rfl rfl)
theorem dX5_number_33 : decode cX5_number 33 = .ok (.invokevirtual 272, 3) := dk_182 1 16 (dk_at dksX5_number_1 11 rfl rfl)
theorem dX5_number_36 : decode cX5_number 36 = .ok (.iload 5, 2) := dk_21 5 (dk_at dksX5_number_1 14 rfl rfl)
theorem dX5_number_38 : decode cX5_number 38 = .ok (.ireturn, 1) := dk_172 (dk_at dksX5_number_1 16 rfl rfl)
abbrev cX5_behindSum : ByteArray := prog_22_method_55_code
def yX5_behindSum : MethodName := ⟨RX5, "behindSum", "(Z)I"⟩
def dkwX5_behindSum_10 : List UInt8 := [154, 0, 14, 42, 8, 182, 1, 87, 42, 28, 3, 182, 1, 48, 4, 172]
abbrev dktX5_behindSum_10 : List UInt8 := dkwX5_behindSum_10 ++ []
def dkwX5_behindSum_9 : List UInt8 := [160, 0, 12, 42, 16, 61, 182, 1, 54, 153, 0, 7, 4, 167, 0, 4, 3, 182, 1, 16, 42, 180, 0, 239]
abbrev dktX5_behindSum_9 : List UInt8 := dkwX5_behindSum_9 ++ dktX5_behindSum_10
def dkwX5_behindSum_8 : List UInt8 := [167, 0, 19, 42, 16, 62, 182, 1, 54, 153, 0, 8, 16, 26, 167, 0, 5, 16, 27, 61, 42, 28, 16, 27]
abbrev dktX5_behindSum_8 : List UInt8 := dkwX5_behindSum_8 ++ dktX5_behindSum_9
def dkwX5_behindSum_7 : List UInt8 := [7, 172, 42, 182, 1, 93, 153, 0, 5, 5, 172, 42, 16, 60, 182, 1, 54, 153, 0, 8, 16, 25]
abbrev dktX5_behindSum_7 : List UInt8 := dkwX5_behindSum_7 ++ dktX5_behindSum_8
def dkwX5_behindSum_6 : List UInt8 := [181, 1, 23, 42, 89, 180, 1, 45, 4, 100, 181, 1, 45, 6, 172, 29, 2, 160, 0, 9, 27, 154, 0, 5]
abbrev dktX5_behindSum_6 : List UInt8 := dkwX5_behindSum_6 ++ dktX5_behindSum_7
def dkwX5_behindSum_5 : List UInt8 := [182, 1, 16, 42, 180, 0, 239, 154, 0, 28, 42, 8, 182, 1, 87, 42, 89, 180, 1, 23, 4, 100]
abbrev dktX5_behindSum_5 : List UInt8 := dkwX5_behindSum_5 ++ dktX5_behindSum_6
def dkwX5_behindSum_4 : List UInt8 := [42, 182, 0, 243, 4, 172, 42, 182, 1, 90, 62, 29, 16, 32, 160, 0, 47, 42, 42, 16, 93, 182, 1, 54]
abbrev dktX5_behindSum_4 : List UInt8 := dkwX5_behindSum_4 ++ dktX5_behindSum_5
def dkwX5_behindSum_3 : List UInt8 := [167, 0, 4, 2, 61, 28, 2, 159, 0, 23, 42, 28, 184, 1, 26, 182, 1, 87, 42, 28, 3, 182, 1, 48]
abbrev dktX5_behindSum_3 : List UInt8 := dkwX5_behindSum_3 ++ dktX5_behindSum_4
def dkwX5_behindSum_2 : List UInt8 := [182, 1, 54, 153, 0, 8, 16, 23, 167, 0, 18, 42, 16, 37, 182, 1, 54, 153, 0, 8, 16, 24]
abbrev dktX5_behindSum_2 : List UInt8 := dkwX5_behindSum_2 ++ dktX5_behindSum_3
def dkwX5_behindSum_1 : List UInt8 := [16, 21, 167, 0, 46, 42, 16, 42, 182, 1, 54, 153, 0, 8, 16, 22, 167, 0, 32, 42, 16, 47]
abbrev dktX5_behindSum_1 : List UInt8 := dkwX5_behindSum_1 ++ dktX5_behindSum_2
def dkwX5_behindSum_0 : List UInt8 := [42, 16, 43, 182, 1, 54, 153, 0, 8, 16, 20, 167, 0, 60, 42, 16, 45, 182, 1, 54, 153, 0, 8]
abbrev dktX5_behindSum_0 : List UInt8 := dkwX5_behindSum_0 ++ dktX5_behindSum_1
theorem dksX5_behindSum_0 : cX5_behindSum.data.toList.drop 0 = dktX5_behindSum_0 := by decide +kernel
theorem dksX5_behindSum_1 : cX5_behindSum.data.toList.drop 23 = dktX5_behindSum_1 := dk_seg dksX5_behindSum_0 23 rfl rfl
theorem dksX5_behindSum_2 : cX5_behindSum.data.toList.drop 45 = dktX5_behindSum_2 := dk_seg dksX5_behindSum_1 22 rfl rfl
theorem dksX5_behindSum_3 : cX5_behindSum.data.toList.drop 67 = dktX5_behindSum_3 := dk_seg dksX5_behindSum_2 22 rfl rfl
theorem dksX5_behindSum_4 : cX5_behindSum.data.toList.drop 91 = dktX5_behindSum_4 := dk_seg dksX5_behindSum_3 24 rfl rfl
theorem dksX5_behindSum_5 : cX5_behindSum.data.toList.drop 115 = dktX5_behindSum_5 := dk_seg dksX5_behindSum_4 24 rfl rfl
theorem dksX5_behindSum_6 : cX5_behindSum.data.toList.drop 137 = dktX5_behindSum_6 := dk_seg dksX5_behindSum_5 22 rfl rfl
theorem dksX5_behindSum_7 : cX5_behindSum.data.toList.drop 161 = dktX5_behindSum_7 := dk_seg dksX5_behindSum_6 24 rfl rfl
theorem dksX5_behindSum_8 : cX5_behindSum.data.toList.drop 183 = dktX5_behindSum_8 := dk_seg dksX5_behindSum_7 22 rfl rfl
theorem dksX5_behindSum_9 : cX5_behindSum.data.toList.drop 207 = dktX5_behindSum_9 := dk_seg dksX5_behindSum_8 24 rfl rfl
theorem dksX5_behindSum_10 : cX5_behindSum.data.toList.drop 231 = dktX5_behindSum_10 := dk_seg dksX5_behindSum_9 24 rfl rfl
theorem dX5_behindSum_0 : decode cX5_behindSum 0 = .ok (.aload_n 0, 1) := dk_42 (dk_at dksX5_behindSum_0 0 rfl rfl)
theorem dX5_behindSum_1 : decode cX5_behindSum 1 = .ok (.bipush 43, 2) := dk_16 43 (dk_at dksX5_behindSum_0 1 rfl rfl)
theorem dX5_behindSum_3 : decode cX5_behindSum 3 = .ok (.invokevirtual 310, 3) := dk_182 1 54 (dk_at dksX5_behindSum_0 3 rfl rfl)
theorem dX5_behindSum_6 : decode cX5_behindSum 6 = .ok (.ifCond .eq 8, 3) := dk_153 0 8 (dk_at dksX5_behindSum_0 6 rfl rfl)
theorem dX5_behindSum_9 : decode cX5_behindSum 9 = .ok (.bipush 20, 2) := dk_16 20 (dk_at dksX5_behindSum_0 9 rfl rfl)
theorem dX5_behindSum_11 : decode cX5_behindSum 11 = .ok (.goto 60, 3) := dk_167 0 60 (dk_at dksX5_behindSum_0 11 rfl rfl)
theorem dX5_behindSum_14 : decode cX5_behindSum 14 = .ok (.aload_n 0, 1) := dk_42 (dk_at dksX5_behindSum_0 14 rfl rfl)
theorem dX5_behindSum_15 : decode cX5_behindSum 15 = .ok (.bipush 45, 2) := dk_16 45 (dk_at dksX5_behindSum_0 15 rfl rfl)
theorem dX5_behindSum_17 : decode cX5_behindSum 17 = .ok (.invokevirtual 310, 3) := dk_182 1 54 (dk_at dksX5_behindSum_0 17 rfl rfl)
theorem dX5_behindSum_20 : decode cX5_behindSum 20 = .ok (.ifCond .eq 8, 3) := dk_153 0 8 (dk_at dksX5_behindSum_0 20 rfl rfl)
theorem dX5_behindSum_23 : decode cX5_behindSum 23 = .ok (.bipush 21, 2) := dk_16 21 (dk_at dksX5_behindSum_1 0 rfl rfl)
theorem dX5_behindSum_25 : decode cX5_behindSum 25 = .ok (.goto 46, 3) := dk_167 0 46 (dk_at dksX5_behindSum_1 2 rfl rfl)
theorem dX5_behindSum_28 : decode cX5_behindSum 28 = .ok (.aload_n 0, 1) := dk_42 (dk_at dksX5_behindSum_1 5 rfl rfl)
theorem dX5_behindSum_29 : decode cX5_behindSum 29 = .ok (.bipush 42, 2) := dk_16 42 (dk_at dksX5_behindSum_1 6 rfl rfl)
theorem dX5_behindSum_31 : decode cX5_behindSum 31 = .ok (.invokevirtual 310, 3) := dk_182 1 54 (dk_at dksX5_behindSum_1 8 rfl rfl)
theorem dX5_behindSum_34 : decode cX5_behindSum 34 = .ok (.ifCond .eq 8, 3) := dk_153 0 8 (dk_at dksX5_behindSum_1 11 rfl rfl)
theorem dX5_behindSum_37 : decode cX5_behindSum 37 = .ok (.bipush 22, 2) := dk_16 22 (dk_at dksX5_behindSum_1 14 rfl rfl)
theorem dX5_behindSum_39 : decode cX5_behindSum 39 = .ok (.goto 32, 3) := dk_167 0 32 (dk_at dksX5_behindSum_1 16 rfl rfl)
theorem dX5_behindSum_42 : decode cX5_behindSum 42 = .ok (.aload_n 0, 1) := dk_42 (dk_at dksX5_behindSum_1 19 rfl rfl)
theorem dX5_behindSum_43 : decode cX5_behindSum 43 = .ok (.bipush 47, 2) := dk_16 47 (dk_at dksX5_behindSum_1 20 rfl rfl)
theorem dX5_behindSum_45 : decode cX5_behindSum 45 = .ok (.invokevirtual 310, 3) := dk_182 1 54 (dk_at dksX5_behindSum_2 0 rfl rfl)
theorem dX5_behindSum_48 : decode cX5_behindSum 48 = .ok (.ifCond .eq 8, 3) := dk_153 0 8 (dk_at dksX5_behindSum_2 3 rfl rfl)
theorem dX5_behindSum_51 : decode cX5_behindSum 51 = .ok (.bipush 23, 2) := dk_16 23 (dk_at dksX5_behindSum_2 6 rfl rfl)
theorem dX5_behindSum_53 : decode cX5_behindSum 53 = .ok (.goto 18, 3) := dk_167 0 18 (dk_at dksX5_behindSum_2 8 rfl rfl)
theorem dX5_behindSum_56 : decode cX5_behindSum 56 = .ok (.aload_n 0, 1) := dk_42 (dk_at dksX5_behindSum_2 11 rfl rfl)
theorem dX5_behindSum_57 : decode cX5_behindSum 57 = .ok (.bipush 37, 2) := dk_16 37 (dk_at dksX5_behindSum_2 12 rfl rfl)
theorem dX5_behindSum_59 : decode cX5_behindSum 59 = .ok (.invokevirtual 310, 3) := dk_182 1 54 (dk_at dksX5_behindSum_2 14 rfl rfl)
theorem dX5_behindSum_62 : decode cX5_behindSum 62 = .ok (.ifCond .eq 8, 3) := dk_153 0 8 (dk_at dksX5_behindSum_2 17 rfl rfl)
theorem dX5_behindSum_65 : decode cX5_behindSum 65 = .ok (.bipush 24, 2) := dk_16 24 (dk_at dksX5_behindSum_2 20 rfl rfl)
theorem dX5_behindSum_67 : decode cX5_behindSum 67 = .ok (.goto 4, 3) := dk_167 0 4 (dk_at dksX5_behindSum_3 0 rfl rfl)
theorem dX5_behindSum_70 : decode cX5_behindSum 70 = .ok (.iconst (-1), 1) := dk_2 (dk_at dksX5_behindSum_3 3 rfl rfl)
theorem dX5_behindSum_71 : decode cX5_behindSum 71 = .ok (.istore_n 2, 1) := dk_61 (dk_at dksX5_behindSum_3 4 rfl rfl)
theorem dX5_behindSum_72 : decode cX5_behindSum 72 = .ok (.iload_n 2, 1) := dk_28 (dk_at dksX5_behindSum_3 5 rfl rfl)
theorem dX5_behindSum_73 : decode cX5_behindSum 73 = .ok (.iconst (-1), 1) := dk_2 (dk_at dksX5_behindSum_3 6 rfl rfl)
theorem dX5_behindSum_74 : decode cX5_behindSum 74 = .ok (.if_icmp .eq 23, 3) := dk_159 0 23 (dk_at dksX5_behindSum_3 7 rfl rfl)
theorem dX5_behindSum_77 : decode cX5_behindSum 77 = .ok (.aload_n 0, 1) := dk_42 (dk_at dksX5_behindSum_3 10 rfl rfl)
theorem dX5_behindSum_78 : decode cX5_behindSum 78 = .ok (.iload_n 2, 1) := dk_28 (dk_at dksX5_behindSum_3 11 rfl rfl)
theorem dX5_behindSum_79 : decode cX5_behindSum 79 = .ok (.invokestatic 282, 3) := dk_184 1 26 (dk_at dksX5_behindSum_3 12 rfl rfl)
theorem dX5_behindSum_82 : decode cX5_behindSum 82 = .ok (.invokevirtual 343, 3) := dk_182 1 87 (dk_at dksX5_behindSum_3 15 rfl rfl)
theorem dX5_behindSum_85 : decode cX5_behindSum 85 = .ok (.aload_n 0, 1) := dk_42 (dk_at dksX5_behindSum_3 18 rfl rfl)
theorem dX5_behindSum_86 : decode cX5_behindSum 86 = .ok (.iload_n 2, 1) := dk_28 (dk_at dksX5_behindSum_3 19 rfl rfl)
theorem dX5_behindSum_87 : decode cX5_behindSum 87 = .ok (.iconst 0, 1) := dk_3 (dk_at dksX5_behindSum_3 20 rfl rfl)
theorem dX5_behindSum_88 : decode cX5_behindSum 88 = .ok (.invokevirtual 304, 3) := dk_182 1 48 (dk_at dksX5_behindSum_3 21 rfl rfl)
theorem dX5_behindSum_91 : decode cX5_behindSum 91 = .ok (.aload_n 0, 1) := dk_42 (dk_at dksX5_behindSum_4 0 rfl rfl)
theorem dX5_behindSum_92 : decode cX5_behindSum 92 = .ok (.invokevirtual 243, 3) := dk_182 0 243 (dk_at dksX5_behindSum_4 1 rfl rfl)
theorem dX5_behindSum_95 : decode cX5_behindSum 95 = .ok (.iconst 1, 1) := dk_4 (dk_at dksX5_behindSum_4 4 rfl rfl)
theorem dX5_behindSum_96 : decode cX5_behindSum 96 = .ok (.ireturn, 1) := dk_172 (dk_at dksX5_behindSum_4 5 rfl rfl)
theorem dX5_behindSum_97 : decode cX5_behindSum 97 = .ok (.aload_n 0, 1) := dk_42 (dk_at dksX5_behindSum_4 6 rfl rfl)
theorem dX5_behindSum_98 : decode cX5_behindSum 98 = .ok (.invokevirtual 346, 3) := dk_182 1 90 (dk_at dksX5_behindSum_4 7 rfl rfl)
theorem dX5_behindSum_101 : decode cX5_behindSum 101 = .ok (.istore_n 3, 1) := dk_62 (dk_at dksX5_behindSum_4 10 rfl rfl)
theorem dX5_behindSum_102 : decode cX5_behindSum 102 = .ok (.iload_n 3, 1) := dk_29 (dk_at dksX5_behindSum_4 11 rfl rfl)
theorem dX5_behindSum_103 : decode cX5_behindSum 103 = .ok (.bipush 32, 2) := dk_16 32 (dk_at dksX5_behindSum_4 12 rfl rfl)
theorem dX5_behindSum_105 : decode cX5_behindSum 105 = .ok (.if_icmp .ne 47, 3) := dk_160 0 47 (dk_at dksX5_behindSum_4 14 rfl rfl)
theorem dX5_behindSum_108 : decode cX5_behindSum 108 = .ok (.aload_n 0, 1) := dk_42 (dk_at dksX5_behindSum_4 17 rfl rfl)
theorem dX5_behindSum_109 : decode cX5_behindSum 109 = .ok (.aload_n 0, 1) := dk_42 (dk_at dksX5_behindSum_4 18 rfl rfl)
theorem dX5_behindSum_110 : decode cX5_behindSum 110 = .ok (.bipush 93, 2) := dk_16 93 (dk_at dksX5_behindSum_4 19 rfl rfl)
theorem dX5_behindSum_112 : decode cX5_behindSum 112 = .ok (.invokevirtual 310, 3) := dk_182 1 54 (dk_at dksX5_behindSum_4 21 rfl rfl)
theorem dX5_behindSum_115 : decode cX5_behindSum 115 = .ok (.invokevirtual 272, 3) := dk_182 1 16 (dk_at dksX5_behindSum_5 0 rfl rfl)
theorem dX5_behindSum_118 : decode cX5_behindSum 118 = .ok (.aload_n 0, 1) := dk_42 (dk_at dksX5_behindSum_5 3 rfl rfl)
theorem dX5_behindSum_119 : decode cX5_behindSum 119 = .ok (.getfield 239, 3) := dk_180 0 239 (dk_at dksX5_behindSum_5 4 rfl rfl)
theorem dX5_behindSum_122 : decode cX5_behindSum 122 = .ok (.ifCond .ne 28, 3) := dk_154 0 28 (dk_at dksX5_behindSum_5 7 rfl rfl)
theorem dX5_behindSum_125 : decode cX5_behindSum 125 = .ok (.aload_n 0, 1) := dk_42 (dk_at dksX5_behindSum_5 10 rfl rfl)
theorem dX5_behindSum_126 : decode cX5_behindSum 126 = .ok (.iconst 5, 1) := dk_8 (dk_at dksX5_behindSum_5 11 rfl rfl)
theorem dX5_behindSum_127 : decode cX5_behindSum 127 = .ok (.invokevirtual 343, 3) := dk_182 1 87 (dk_at dksX5_behindSum_5 12 rfl rfl)
theorem dX5_behindSum_130 : decode cX5_behindSum 130 = .ok (.aload_n 0, 1) := dk_42 (dk_at dksX5_behindSum_5 15 rfl rfl)
theorem dX5_behindSum_131 : decode cX5_behindSum 131 = .ok (.dup, 1) := dk_89 (dk_at dksX5_behindSum_5 16 rfl rfl)
theorem dX5_behindSum_132 : decode cX5_behindSum 132 = .ok (.getfield 279, 3) := dk_180 1 23 (dk_at dksX5_behindSum_5 17 rfl rfl)
theorem dX5_behindSum_135 : decode cX5_behindSum 135 = .ok (.iconst 1, 1) := dk_4 (dk_at dksX5_behindSum_5 20 rfl rfl)
theorem dX5_behindSum_136 : decode cX5_behindSum 136 = .ok (.isub, 1) := dk_100 (dk_at dksX5_behindSum_5 21 rfl rfl)
theorem dX5_behindSum_137 : decode cX5_behindSum 137 = .ok (.putfield 279, 3) := dk_181 1 23 (dk_at dksX5_behindSum_6 0 rfl rfl)
theorem dX5_behindSum_140 : decode cX5_behindSum 140 = .ok (.aload_n 0, 1) := dk_42 (dk_at dksX5_behindSum_6 3 rfl rfl)
theorem dX5_behindSum_141 : decode cX5_behindSum 141 = .ok (.dup, 1) := dk_89 (dk_at dksX5_behindSum_6 4 rfl rfl)
theorem dX5_behindSum_142 : decode cX5_behindSum 142 = .ok (.getfield 301, 3) := dk_180 1 45 (dk_at dksX5_behindSum_6 5 rfl rfl)
theorem dX5_behindSum_145 : decode cX5_behindSum 145 = .ok (.iconst 1, 1) := dk_4 (dk_at dksX5_behindSum_6 8 rfl rfl)
theorem dX5_behindSum_146 : decode cX5_behindSum 146 = .ok (.isub, 1) := dk_100 (dk_at dksX5_behindSum_6 9 rfl rfl)
theorem dX5_behindSum_147 : decode cX5_behindSum 147 = .ok (.putfield 301, 3) := dk_181 1 45 (dk_at dksX5_behindSum_6 10 rfl rfl)
theorem dX5_behindSum_150 : decode cX5_behindSum 150 = .ok (.iconst 3, 1) := dk_6 (dk_at dksX5_behindSum_6 13 rfl rfl)
theorem dX5_behindSum_151 : decode cX5_behindSum 151 = .ok (.ireturn, 1) := dk_172 (dk_at dksX5_behindSum_6 14 rfl rfl)
theorem dX5_behindSum_152 : decode cX5_behindSum 152 = .ok (.iload_n 3, 1) := dk_29 (dk_at dksX5_behindSum_6 15 rfl rfl)
theorem dX5_behindSum_153 : decode cX5_behindSum 153 = .ok (.iconst (-1), 1) := dk_2 (dk_at dksX5_behindSum_6 16 rfl rfl)
theorem dX5_behindSum_154 : decode cX5_behindSum 154 = .ok (.if_icmp .ne 9, 3) := dk_160 0 9 (dk_at dksX5_behindSum_6 17 rfl rfl)
theorem dX5_behindSum_157 : decode cX5_behindSum 157 = .ok (.iload_n 1, 1) := dk_27 (dk_at dksX5_behindSum_6 20 rfl rfl)
theorem dX5_behindSum_158 : decode cX5_behindSum 158 = .ok (.ifCond .ne 5, 3) := dk_154 0 5 (dk_at dksX5_behindSum_6 21 rfl rfl)
theorem dX5_behindSum_161 : decode cX5_behindSum 161 = .ok (.iconst 4, 1) := dk_7 (dk_at dksX5_behindSum_7 0 rfl rfl)
theorem dX5_behindSum_162 : decode cX5_behindSum 162 = .ok (.ireturn, 1) := dk_172 (dk_at dksX5_behindSum_7 1 rfl rfl)
theorem dX5_behindSum_163 : decode cX5_behindSum 163 = .ok (.aload_n 0, 1) := dk_42 (dk_at dksX5_behindSum_7 2 rfl rfl)
theorem dX5_behindSum_164 : decode cX5_behindSum 164 = .ok (.invokevirtual 349, 3) := dk_182 1 93 (dk_at dksX5_behindSum_7 3 rfl rfl)
theorem dX5_behindSum_167 : decode cX5_behindSum 167 = .ok (.ifCond .eq 5, 3) := dk_153 0 5 (dk_at dksX5_behindSum_7 6 rfl rfl)
theorem dX5_behindSum_170 : decode cX5_behindSum 170 = .ok (.iconst 2, 1) := dk_5 (dk_at dksX5_behindSum_7 9 rfl rfl)
theorem dX5_behindSum_171 : decode cX5_behindSum 171 = .ok (.ireturn, 1) := dk_172 (dk_at dksX5_behindSum_7 10 rfl rfl)
theorem dX5_behindSum_172 : decode cX5_behindSum 172 = .ok (.aload_n 0, 1) := dk_42 (dk_at dksX5_behindSum_7 11 rfl rfl)
theorem dX5_behindSum_173 : decode cX5_behindSum 173 = .ok (.bipush 60, 2) := dk_16 60 (dk_at dksX5_behindSum_7 12 rfl rfl)
theorem dX5_behindSum_175 : decode cX5_behindSum 175 = .ok (.invokevirtual 310, 3) := dk_182 1 54 (dk_at dksX5_behindSum_7 14 rfl rfl)
theorem dX5_behindSum_178 : decode cX5_behindSum 178 = .ok (.ifCond .eq 8, 3) := dk_153 0 8 (dk_at dksX5_behindSum_7 17 rfl rfl)
theorem dX5_behindSum_181 : decode cX5_behindSum 181 = .ok (.bipush 25, 2) := dk_16 25 (dk_at dksX5_behindSum_7 20 rfl rfl)
theorem dX5_behindSum_183 : decode cX5_behindSum 183 = .ok (.goto 19, 3) := dk_167 0 19 (dk_at dksX5_behindSum_8 0 rfl rfl)
theorem dX5_behindSum_186 : decode cX5_behindSum 186 = .ok (.aload_n 0, 1) := dk_42 (dk_at dksX5_behindSum_8 3 rfl rfl)
theorem dX5_behindSum_187 : decode cX5_behindSum 187 = .ok (.bipush 62, 2) := dk_16 62 (dk_at dksX5_behindSum_8 4 rfl rfl)
theorem dX5_behindSum_189 : decode cX5_behindSum 189 = .ok (.invokevirtual 310, 3) := dk_182 1 54 (dk_at dksX5_behindSum_8 6 rfl rfl)
theorem dX5_behindSum_192 : decode cX5_behindSum 192 = .ok (.ifCond .eq 8, 3) := dk_153 0 8 (dk_at dksX5_behindSum_8 9 rfl rfl)
theorem dX5_behindSum_195 : decode cX5_behindSum 195 = .ok (.bipush 26, 2) := dk_16 26 (dk_at dksX5_behindSum_8 12 rfl rfl)
theorem dX5_behindSum_197 : decode cX5_behindSum 197 = .ok (.goto 5, 3) := dk_167 0 5 (dk_at dksX5_behindSum_8 14 rfl rfl)
theorem dX5_behindSum_200 : decode cX5_behindSum 200 = .ok (.bipush 27, 2) := dk_16 27 (dk_at dksX5_behindSum_8 17 rfl rfl)
theorem dX5_behindSum_202 : decode cX5_behindSum 202 = .ok (.istore_n 2, 1) := dk_61 (dk_at dksX5_behindSum_8 19 rfl rfl)
theorem dX5_behindSum_203 : decode cX5_behindSum 203 = .ok (.aload_n 0, 1) := dk_42 (dk_at dksX5_behindSum_8 20 rfl rfl)
theorem dX5_behindSum_204 : decode cX5_behindSum 204 = .ok (.iload_n 2, 1) := dk_28 (dk_at dksX5_behindSum_8 21 rfl rfl)
theorem dX5_behindSum_205 : decode cX5_behindSum 205 = .ok (.bipush 27, 2) := dk_16 27 (dk_at dksX5_behindSum_8 22 rfl rfl)
theorem dX5_behindSum_207 : decode cX5_behindSum 207 = .ok (.if_icmp .ne 12, 3) := dk_160 0 12 (dk_at dksX5_behindSum_9 0 rfl rfl)
theorem dX5_behindSum_210 : decode cX5_behindSum 210 = .ok (.aload_n 0, 1) := dk_42 (dk_at dksX5_behindSum_9 3 rfl rfl)
theorem dX5_behindSum_211 : decode cX5_behindSum 211 = .ok (.bipush 61, 2) := dk_16 61 (dk_at dksX5_behindSum_9 4 rfl rfl)
theorem dX5_behindSum_213 : decode cX5_behindSum 213 = .ok (.invokevirtual 310, 3) := dk_182 1 54 (dk_at dksX5_behindSum_9 6 rfl rfl)
theorem dX5_behindSum_216 : decode cX5_behindSum 216 = .ok (.ifCond .eq 7, 3) := dk_153 0 7 (dk_at dksX5_behindSum_9 9 rfl rfl)
theorem dX5_behindSum_219 : decode cX5_behindSum 219 = .ok (.iconst 1, 1) := dk_4 (dk_at dksX5_behindSum_9 12 rfl rfl)
theorem dX5_behindSum_220 : decode cX5_behindSum 220 = .ok (.goto 4, 3) := dk_167 0 4 (dk_at dksX5_behindSum_9 13 rfl rfl)
theorem dX5_behindSum_223 : decode cX5_behindSum 223 = .ok (.iconst 0, 1) := dk_3 (dk_at dksX5_behindSum_9 16 rfl rfl)
theorem dX5_behindSum_224 : decode cX5_behindSum 224 = .ok (.invokevirtual 272, 3) := dk_182 1 16 (dk_at dksX5_behindSum_9 17 rfl rfl)
theorem dX5_behindSum_227 : decode cX5_behindSum 227 = .ok (.aload_n 0, 1) := dk_42 (dk_at dksX5_behindSum_9 20 rfl rfl)
theorem dX5_behindSum_228 : decode cX5_behindSum 228 = .ok (.getfield 239, 3) := dk_180 0 239 (dk_at dksX5_behindSum_9 21 rfl rfl)
theorem dX5_behindSum_231 : decode cX5_behindSum 231 = .ok (.ifCond .ne 14, 3) := dk_154 0 14 (dk_at dksX5_behindSum_10 0 rfl rfl)
theorem dX5_behindSum_234 : decode cX5_behindSum 234 = .ok (.aload_n 0, 1) := dk_42 (dk_at dksX5_behindSum_10 3 rfl rfl)
theorem dX5_behindSum_235 : decode cX5_behindSum 235 = .ok (.iconst 5, 1) := dk_8 (dk_at dksX5_behindSum_10 4 rfl rfl)
theorem dX5_behindSum_236 : decode cX5_behindSum 236 = .ok (.invokevirtual 343, 3) := dk_182 1 87 (dk_at dksX5_behindSum_10 5 rfl rfl)
theorem dX5_behindSum_239 : decode cX5_behindSum 239 = .ok (.aload_n 0, 1) := dk_42 (dk_at dksX5_behindSum_10 8 rfl rfl)
theorem dX5_behindSum_240 : decode cX5_behindSum 240 = .ok (.iload_n 2, 1) := dk_28 (dk_at dksX5_behindSum_10 9 rfl rfl)
theorem dX5_behindSum_241 : decode cX5_behindSum 241 = .ok (.iconst 0, 1) := dk_3 (dk_at dksX5_behindSum_10 10 rfl rfl)
theorem dX5_behindSum_242 : decode cX5_behindSum 242 = .ok (.invokevirtual 304, 3) := dk_182 1 48 (dk_at dksX5_behindSum_10 11 rfl rfl)
theorem dX5_behindSum_245 : decode cX5_behindSum 245 = .ok (.iconst 1, 1) := dk_4 (dk_at dksX5_behindSum_10 14 rfl rfl)
theorem dX5_behindSum_246 : decode cX5_behindSum 246 = .ok (.ireturn, 1) := dk_172 (dk_at dksX5_behindSum_10 15 rfl rfl)
abbrev cX5_binds : ByteArray := prog_22_method_45_code
def yX5_binds : MethodName := ⟨RX5, "binds", "(I)I"⟩
def dkwX5_binds_2 : List UInt8 := [167, 0, 15, 26, 16, 22, 161, 0, 8, 16, 6, 167, 0, 4, 8, 172]
abbrev dktX5_binds_2 : List UInt8 := dkwX5_binds_2 ++ []
def dkwX5_binds_1 : List UInt8 := [160, 0, 7, 5, 167, 0, 35, 26, 16, 28, 160, 0, 7, 6, 167, 0, 25, 26, 16, 25, 161, 0, 7, 7]
abbrev dktX5_binds_1 : List UInt8 := dkwX5_binds_1 ++ dktX5_binds_2
def dkwX5_binds_0 : List UInt8 := [26, 16, 31, 161, 0, 7, 3, 167, 0, 55, 26, 16, 30, 160, 0, 7, 4, 167, 0, 45, 26, 16, 29]
abbrev dktX5_binds_0 : List UInt8 := dkwX5_binds_0 ++ dktX5_binds_1
theorem dksX5_binds_0 : cX5_binds.data.toList.drop 0 = dktX5_binds_0 := by decide +kernel
theorem dksX5_binds_1 : cX5_binds.data.toList.drop 23 = dktX5_binds_1 := dk_seg dksX5_binds_0 23 rfl rfl
theorem dksX5_binds_2 : cX5_binds.data.toList.drop 47 = dktX5_binds_2 := dk_seg dksX5_binds_1 24 rfl rfl
theorem dX5_binds_0 : decode cX5_binds 0 = .ok (.iload_n 0, 1) := dk_26 (dk_at dksX5_binds_0 0 rfl rfl)
theorem dX5_binds_1 : decode cX5_binds 1 = .ok (.bipush 31, 2) := dk_16 31 (dk_at dksX5_binds_0 1 rfl rfl)
theorem dX5_binds_3 : decode cX5_binds 3 = .ok (.if_icmp .lt 7, 3) := dk_161 0 7 (dk_at dksX5_binds_0 3 rfl rfl)
theorem dX5_binds_6 : decode cX5_binds 6 = .ok (.iconst 0, 1) := dk_3 (dk_at dksX5_binds_0 6 rfl rfl)
theorem dX5_binds_7 : decode cX5_binds 7 = .ok (.goto 55, 3) := dk_167 0 55 (dk_at dksX5_binds_0 7 rfl rfl)
theorem dX5_binds_10 : decode cX5_binds 10 = .ok (.iload_n 0, 1) := dk_26 (dk_at dksX5_binds_0 10 rfl rfl)
theorem dX5_binds_11 : decode cX5_binds 11 = .ok (.bipush 30, 2) := dk_16 30 (dk_at dksX5_binds_0 11 rfl rfl)
theorem dX5_binds_13 : decode cX5_binds 13 = .ok (.if_icmp .ne 7, 3) := dk_160 0 7 (dk_at dksX5_binds_0 13 rfl rfl)
theorem dX5_binds_16 : decode cX5_binds 16 = .ok (.iconst 1, 1) := dk_4 (dk_at dksX5_binds_0 16 rfl rfl)
theorem dX5_binds_17 : decode cX5_binds 17 = .ok (.goto 45, 3) := dk_167 0 45 (dk_at dksX5_binds_0 17 rfl rfl)
theorem dX5_binds_20 : decode cX5_binds 20 = .ok (.iload_n 0, 1) := dk_26 (dk_at dksX5_binds_0 20 rfl rfl)
theorem dX5_binds_21 : decode cX5_binds 21 = .ok (.bipush 29, 2) := dk_16 29 (dk_at dksX5_binds_0 21 rfl rfl)
theorem dX5_binds_23 : decode cX5_binds 23 = .ok (.if_icmp .ne 7, 3) := dk_160 0 7 (dk_at dksX5_binds_1 0 rfl rfl)
theorem dX5_binds_26 : decode cX5_binds 26 = .ok (.iconst 2, 1) := dk_5 (dk_at dksX5_binds_1 3 rfl rfl)
theorem dX5_binds_27 : decode cX5_binds 27 = .ok (.goto 35, 3) := dk_167 0 35 (dk_at dksX5_binds_1 4 rfl rfl)
theorem dX5_binds_30 : decode cX5_binds 30 = .ok (.iload_n 0, 1) := dk_26 (dk_at dksX5_binds_1 7 rfl rfl)
theorem dX5_binds_31 : decode cX5_binds 31 = .ok (.bipush 28, 2) := dk_16 28 (dk_at dksX5_binds_1 8 rfl rfl)
theorem dX5_binds_33 : decode cX5_binds 33 = .ok (.if_icmp .ne 7, 3) := dk_160 0 7 (dk_at dksX5_binds_1 10 rfl rfl)
theorem dX5_binds_36 : decode cX5_binds 36 = .ok (.iconst 3, 1) := dk_6 (dk_at dksX5_binds_1 13 rfl rfl)
theorem dX5_binds_37 : decode cX5_binds 37 = .ok (.goto 25, 3) := dk_167 0 25 (dk_at dksX5_binds_1 14 rfl rfl)
theorem dX5_binds_40 : decode cX5_binds 40 = .ok (.iload_n 0, 1) := dk_26 (dk_at dksX5_binds_1 17 rfl rfl)
theorem dX5_binds_41 : decode cX5_binds 41 = .ok (.bipush 25, 2) := dk_16 25 (dk_at dksX5_binds_1 18 rfl rfl)
theorem dX5_binds_43 : decode cX5_binds 43 = .ok (.if_icmp .lt 7, 3) := dk_161 0 7 (dk_at dksX5_binds_1 20 rfl rfl)
theorem dX5_binds_46 : decode cX5_binds 46 = .ok (.iconst 4, 1) := dk_7 (dk_at dksX5_binds_1 23 rfl rfl)
theorem dX5_binds_47 : decode cX5_binds 47 = .ok (.goto 15, 3) := dk_167 0 15 (dk_at dksX5_binds_2 0 rfl rfl)
theorem dX5_binds_50 : decode cX5_binds 50 = .ok (.iload_n 0, 1) := dk_26 (dk_at dksX5_binds_2 3 rfl rfl)
theorem dX5_binds_51 : decode cX5_binds 51 = .ok (.bipush 22, 2) := dk_16 22 (dk_at dksX5_binds_2 4 rfl rfl)
theorem dX5_binds_53 : decode cX5_binds 53 = .ok (.if_icmp .lt 8, 3) := dk_161 0 8 (dk_at dksX5_binds_2 6 rfl rfl)
theorem dX5_binds_56 : decode cX5_binds 56 = .ok (.bipush 6, 2) := dk_16 6 (dk_at dksX5_binds_2 9 rfl rfl)
theorem dX5_binds_58 : decode cX5_binds 58 = .ok (.goto 4, 3) := dk_167 0 4 (dk_at dksX5_binds_2 11 rfl rfl)
theorem dX5_binds_61 : decode cX5_binds 61 = .ok (.iconst 5, 1) := dk_8 (dk_at dksX5_binds_2 14 rfl rfl)
theorem dX5_binds_62 : decode cX5_binds 62 = .ok (.ireturn, 1) := dk_172 (dk_at dksX5_binds_2 15 rfl rfl)
abbrev cX5_settle : ByteArray := prog_22_method_46_code
def yX5_settle : MethodName := ⟨RX5, "settle", "(I)V"⟩
def dkwX5_settle_4 : List UInt8 := [180, 1, 23, 46, 3, 182, 1, 29, 167, 255, 158, 177]
abbrev dktX5_settle_4 : List UInt8 := dkwX5_settle_4 ++ []
def dkwX5_settle_3 : List UInt8 := [180, 0, 54, 42, 180, 1, 23, 46, 42, 180, 1, 20, 79, 167, 255, 175, 42, 42, 180, 0, 51, 42]
abbrev dktX5_settle_3 : List UInt8 := dkwX5_settle_3 ++ dktX5_settle_4
def dkwX5_settle_2 : List UInt8 := [159, 0, 17, 42, 180, 0, 51, 42, 180, 1, 23, 46, 16, 30, 160, 0, 24, 42, 180, 0, 48, 42]
abbrev dktX5_settle_2 : List UInt8 := dkwX5_settle_2 ++ dktX5_settle_3
def dkwX5_settle_1 : List UInt8 := [161, 0, 79, 42, 89, 180, 1, 23, 4, 100, 181, 1, 23, 42, 180, 0, 51, 42, 180, 1, 23, 46, 16, 29]
abbrev dktX5_settle_1 : List UInt8 := dkwX5_settle_1 ++ dktX5_settle_2
def dkwX5_settle_0 : List UInt8 := [42, 180, 1, 23, 158, 0, 97, 42, 180, 0, 51, 42, 180, 1, 23, 4, 100, 46, 184, 1, 26, 27]
abbrev dktX5_settle_0 : List UInt8 := dkwX5_settle_0 ++ dktX5_settle_1
theorem dksX5_settle_0 : cX5_settle.data.toList.drop 0 = dktX5_settle_0 := by decide +kernel
theorem dksX5_settle_1 : cX5_settle.data.toList.drop 22 = dktX5_settle_1 := dk_seg dksX5_settle_0 22 rfl rfl
theorem dksX5_settle_2 : cX5_settle.data.toList.drop 46 = dktX5_settle_2 := dk_seg dksX5_settle_1 24 rfl rfl
theorem dksX5_settle_3 : cX5_settle.data.toList.drop 68 = dktX5_settle_3 := dk_seg dksX5_settle_2 22 rfl rfl
theorem dksX5_settle_4 : cX5_settle.data.toList.drop 90 = dktX5_settle_4 := dk_seg dksX5_settle_3 22 rfl rfl
theorem dX5_settle_0 : decode cX5_settle 0 = .ok (.aload_n 0, 1) := dk_42 (dk_at dksX5_settle_0 0 rfl rfl)
theorem dX5_settle_1 : decode cX5_settle 1 = .ok (.getfield 279, 3) := dk_180 1 23 (dk_at dksX5_settle_0 1 rfl rfl)
theorem dX5_settle_4 : decode cX5_settle 4 = .ok (.ifCond .le 97, 3) := dk_158 0 97 (dk_at dksX5_settle_0 4 rfl rfl)
theorem dX5_settle_7 : decode cX5_settle 7 = .ok (.aload_n 0, 1) := dk_42 (dk_at dksX5_settle_0 7 rfl rfl)
theorem dX5_settle_8 : decode cX5_settle 8 = .ok (.getfield 51, 3) := dk_180 0 51 (dk_at dksX5_settle_0 8 rfl rfl)
theorem dX5_settle_11 : decode cX5_settle 11 = .ok (.aload_n 0, 1) := dk_42 (dk_at dksX5_settle_0 11 rfl rfl)
theorem dX5_settle_12 : decode cX5_settle 12 = .ok (.getfield 279, 3) := dk_180 1 23 (dk_at dksX5_settle_0 12 rfl rfl)
theorem dX5_settle_15 : decode cX5_settle 15 = .ok (.iconst 1, 1) := dk_4 (dk_at dksX5_settle_0 15 rfl rfl)
theorem dX5_settle_16 : decode cX5_settle 16 = .ok (.isub, 1) := dk_100 (dk_at dksX5_settle_0 16 rfl rfl)
theorem dX5_settle_17 : decode cX5_settle 17 = .ok (.iaload, 1) := dk_46 (dk_at dksX5_settle_0 17 rfl rfl)
theorem dX5_settle_18 : decode cX5_settle 18 = .ok (.invokestatic 282, 3) := dk_184 1 26 (dk_at dksX5_settle_0 18 rfl rfl)
theorem dX5_settle_21 : decode cX5_settle 21 = .ok (.iload_n 1, 1) := dk_27 (dk_at dksX5_settle_0 21 rfl rfl)
theorem dX5_settle_22 : decode cX5_settle 22 = .ok (.if_icmp .lt 79, 3) := dk_161 0 79 (dk_at dksX5_settle_1 0 rfl rfl)
theorem dX5_settle_25 : decode cX5_settle 25 = .ok (.aload_n 0, 1) := dk_42 (dk_at dksX5_settle_1 3 rfl rfl)
theorem dX5_settle_26 : decode cX5_settle 26 = .ok (.dup, 1) := dk_89 (dk_at dksX5_settle_1 4 rfl rfl)
theorem dX5_settle_27 : decode cX5_settle 27 = .ok (.getfield 279, 3) := dk_180 1 23 (dk_at dksX5_settle_1 5 rfl rfl)
theorem dX5_settle_30 : decode cX5_settle 30 = .ok (.iconst 1, 1) := dk_4 (dk_at dksX5_settle_1 8 rfl rfl)
theorem dX5_settle_31 : decode cX5_settle 31 = .ok (.isub, 1) := dk_100 (dk_at dksX5_settle_1 9 rfl rfl)
theorem dX5_settle_32 : decode cX5_settle 32 = .ok (.putfield 279, 3) := dk_181 1 23 (dk_at dksX5_settle_1 10 rfl rfl)
theorem dX5_settle_35 : decode cX5_settle 35 = .ok (.aload_n 0, 1) := dk_42 (dk_at dksX5_settle_1 13 rfl rfl)
theorem dX5_settle_36 : decode cX5_settle 36 = .ok (.getfield 51, 3) := dk_180 0 51 (dk_at dksX5_settle_1 14 rfl rfl)
theorem dX5_settle_39 : decode cX5_settle 39 = .ok (.aload_n 0, 1) := dk_42 (dk_at dksX5_settle_1 17 rfl rfl)
theorem dX5_settle_40 : decode cX5_settle 40 = .ok (.getfield 279, 3) := dk_180 1 23 (dk_at dksX5_settle_1 18 rfl rfl)
theorem dX5_settle_43 : decode cX5_settle 43 = .ok (.iaload, 1) := dk_46 (dk_at dksX5_settle_1 21 rfl rfl)
theorem dX5_settle_44 : decode cX5_settle 44 = .ok (.bipush 29, 2) := dk_16 29 (dk_at dksX5_settle_1 22 rfl rfl)
theorem dX5_settle_46 : decode cX5_settle 46 = .ok (.if_icmp .eq 17, 3) := dk_159 0 17 (dk_at dksX5_settle_2 0 rfl rfl)
theorem dX5_settle_49 : decode cX5_settle 49 = .ok (.aload_n 0, 1) := dk_42 (dk_at dksX5_settle_2 3 rfl rfl)
theorem dX5_settle_50 : decode cX5_settle 50 = .ok (.getfield 51, 3) := dk_180 0 51 (dk_at dksX5_settle_2 4 rfl rfl)
theorem dX5_settle_53 : decode cX5_settle 53 = .ok (.aload_n 0, 1) := dk_42 (dk_at dksX5_settle_2 7 rfl rfl)
theorem dX5_settle_54 : decode cX5_settle 54 = .ok (.getfield 279, 3) := dk_180 1 23 (dk_at dksX5_settle_2 8 rfl rfl)
theorem dX5_settle_57 : decode cX5_settle 57 = .ok (.iaload, 1) := dk_46 (dk_at dksX5_settle_2 11 rfl rfl)
theorem dX5_settle_58 : decode cX5_settle 58 = .ok (.bipush 30, 2) := dk_16 30 (dk_at dksX5_settle_2 12 rfl rfl)
theorem dX5_settle_60 : decode cX5_settle 60 = .ok (.if_icmp .ne 24, 3) := dk_160 0 24 (dk_at dksX5_settle_2 14 rfl rfl)
theorem dX5_settle_63 : decode cX5_settle 63 = .ok (.aload_n 0, 1) := dk_42 (dk_at dksX5_settle_2 17 rfl rfl)
theorem dX5_settle_64 : decode cX5_settle 64 = .ok (.getfield 48, 3) := dk_180 0 48 (dk_at dksX5_settle_2 18 rfl rfl)
theorem dX5_settle_67 : decode cX5_settle 67 = .ok (.aload_n 0, 1) := dk_42 (dk_at dksX5_settle_2 21 rfl rfl)
theorem dX5_settle_68 : decode cX5_settle 68 = .ok (.getfield 54, 3) := dk_180 0 54 (dk_at dksX5_settle_3 0 rfl rfl)
theorem dX5_settle_71 : decode cX5_settle 71 = .ok (.aload_n 0, 1) := dk_42 (dk_at dksX5_settle_3 3 rfl rfl)
theorem dX5_settle_72 : decode cX5_settle 72 = .ok (.getfield 279, 3) := dk_180 1 23 (dk_at dksX5_settle_3 4 rfl rfl)
theorem dX5_settle_75 : decode cX5_settle 75 = .ok (.iaload, 1) := dk_46 (dk_at dksX5_settle_3 7 rfl rfl)
theorem dX5_settle_76 : decode cX5_settle 76 = .ok (.aload_n 0, 1) := dk_42 (dk_at dksX5_settle_3 8 rfl rfl)
theorem dX5_settle_77 : decode cX5_settle 77 = .ok (.getfield 276, 3) := dk_180 1 20 (dk_at dksX5_settle_3 9 rfl rfl)
theorem dX5_settle_80 : decode cX5_settle 80 = .ok (.iastore, 1) := dk_79 (dk_at dksX5_settle_3 12 rfl rfl)
theorem dX5_settle_81 : decode cX5_settle 81 = .ok (.goto (-81), 3) := dk_167 255 175 (dk_at dksX5_settle_3 13 rfl rfl)
theorem dX5_settle_84 : decode cX5_settle 84 = .ok (.aload_n 0, 1) := dk_42 (dk_at dksX5_settle_3 16 rfl rfl)
theorem dX5_settle_85 : decode cX5_settle 85 = .ok (.aload_n 0, 1) := dk_42 (dk_at dksX5_settle_3 17 rfl rfl)
theorem dX5_settle_86 : decode cX5_settle 86 = .ok (.getfield 51, 3) := dk_180 0 51 (dk_at dksX5_settle_3 18 rfl rfl)
theorem dX5_settle_89 : decode cX5_settle 89 = .ok (.aload_n 0, 1) := dk_42 (dk_at dksX5_settle_3 21 rfl rfl)
theorem dX5_settle_90 : decode cX5_settle 90 = .ok (.getfield 279, 3) := dk_180 1 23 (dk_at dksX5_settle_4 0 rfl rfl)
theorem dX5_settle_93 : decode cX5_settle 93 = .ok (.iaload, 1) := dk_46 (dk_at dksX5_settle_4 3 rfl rfl)
theorem dX5_settle_94 : decode cX5_settle 94 = .ok (.iconst 0, 1) := dk_3 (dk_at dksX5_settle_4 4 rfl rfl)
theorem dX5_settle_95 : decode cX5_settle 95 = .ok (.invokevirtual 285, 3) := dk_182 1 29 (dk_at dksX5_settle_4 5 rfl rfl)
theorem dX5_settle_98 : decode cX5_settle 98 = .ok (.goto (-98), 3) := dk_167 255 158 (dk_at dksX5_settle_4 8 rfl rfl)
theorem dX5_settle_101 : decode cX5_settle 101 = .ok (.return_, 1) := dk_177 (dk_at dksX5_settle_4 11 rfl rfl)
abbrev cX5_inner : ByteArray := prog_22_method_47_code
def yX5_inner : MethodName := ⟨RX5, "inner", "()I"⟩
def dkwX5_inner_1 : List UInt8 := [180, 0, 51, 28, 46, 167, 0, 4, 27, 60, 132, 2, 1, 167, 255, 223, 27, 172]
abbrev dktX5_inner_1 : List UInt8 := dkwX5_inner_1 ++ []
def dkwX5_inner_0 : List UInt8 := [2, 60, 3, 61, 28, 42, 180, 1, 23, 162, 0, 31, 42, 180, 0, 51, 28, 46, 16, 31, 161, 0, 12, 42]
abbrev dktX5_inner_0 : List UInt8 := dkwX5_inner_0 ++ dktX5_inner_1
theorem dksX5_inner_0 : cX5_inner.data.toList.drop 0 = dktX5_inner_0 := by decide +kernel
theorem dksX5_inner_1 : cX5_inner.data.toList.drop 24 = dktX5_inner_1 := dk_seg dksX5_inner_0 24 rfl rfl
theorem dX5_inner_0 : decode cX5_inner 0 = .ok (.iconst (-1), 1) := dk_2 (dk_at dksX5_inner_0 0 rfl rfl)
theorem dX5_inner_1 : decode cX5_inner 1 = .ok (.istore_n 1, 1) := dk_60 (dk_at dksX5_inner_0 1 rfl rfl)
theorem dX5_inner_2 : decode cX5_inner 2 = .ok (.iconst 0, 1) := dk_3 (dk_at dksX5_inner_0 2 rfl rfl)
theorem dX5_inner_3 : decode cX5_inner 3 = .ok (.istore_n 2, 1) := dk_61 (dk_at dksX5_inner_0 3 rfl rfl)
theorem dX5_inner_4 : decode cX5_inner 4 = .ok (.iload_n 2, 1) := dk_28 (dk_at dksX5_inner_0 4 rfl rfl)
theorem dX5_inner_5 : decode cX5_inner 5 = .ok (.aload_n 0, 1) := dk_42 (dk_at dksX5_inner_0 5 rfl rfl)
theorem dX5_inner_6 : decode cX5_inner 6 = .ok (.getfield 279, 3) := dk_180 1 23 (dk_at dksX5_inner_0 6 rfl rfl)
theorem dX5_inner_9 : decode cX5_inner 9 = .ok (.if_icmp .ge 31, 3) := dk_162 0 31 (dk_at dksX5_inner_0 9 rfl rfl)
theorem dX5_inner_12 : decode cX5_inner 12 = .ok (.aload_n 0, 1) := dk_42 (dk_at dksX5_inner_0 12 rfl rfl)
theorem dX5_inner_13 : decode cX5_inner 13 = .ok (.getfield 51, 3) := dk_180 0 51 (dk_at dksX5_inner_0 13 rfl rfl)
theorem dX5_inner_16 : decode cX5_inner 16 = .ok (.iload_n 2, 1) := dk_28 (dk_at dksX5_inner_0 16 rfl rfl)
theorem dX5_inner_17 : decode cX5_inner 17 = .ok (.iaload, 1) := dk_46 (dk_at dksX5_inner_0 17 rfl rfl)
theorem dX5_inner_18 : decode cX5_inner 18 = .ok (.bipush 31, 2) := dk_16 31 (dk_at dksX5_inner_0 18 rfl rfl)
theorem dX5_inner_20 : decode cX5_inner 20 = .ok (.if_icmp .lt 12, 3) := dk_161 0 12 (dk_at dksX5_inner_0 20 rfl rfl)
theorem dX5_inner_23 : decode cX5_inner 23 = .ok (.aload_n 0, 1) := dk_42 (dk_at dksX5_inner_0 23 rfl rfl)
theorem dX5_inner_24 : decode cX5_inner 24 = .ok (.getfield 51, 3) := dk_180 0 51 (dk_at dksX5_inner_1 0 rfl rfl)
theorem dX5_inner_27 : decode cX5_inner 27 = .ok (.iload_n 2, 1) := dk_28 (dk_at dksX5_inner_1 3 rfl rfl)
theorem dX5_inner_28 : decode cX5_inner 28 = .ok (.iaload, 1) := dk_46 (dk_at dksX5_inner_1 4 rfl rfl)
theorem dX5_inner_29 : decode cX5_inner 29 = .ok (.goto 4, 3) := dk_167 0 4 (dk_at dksX5_inner_1 5 rfl rfl)
theorem dX5_inner_32 : decode cX5_inner 32 = .ok (.iload_n 1, 1) := dk_27 (dk_at dksX5_inner_1 8 rfl rfl)
theorem dX5_inner_33 : decode cX5_inner 33 = .ok (.istore_n 1, 1) := dk_60 (dk_at dksX5_inner_1 9 rfl rfl)
theorem dX5_inner_34 : decode cX5_inner 34 = .ok (.iinc 2 1, 3) := dk_132 2 1 (dk_at dksX5_inner_1 10 rfl rfl)
theorem dX5_inner_37 : decode cX5_inner 37 = .ok (.goto (-33), 3) := dk_167 255 223 (dk_at dksX5_inner_1 13 rfl rfl)
theorem dX5_inner_40 : decode cX5_inner 40 = .ok (.iload_n 1, 1) := dk_27 (dk_at dksX5_inner_1 16 rfl rfl)
theorem dX5_inner_41 : decode cX5_inner 41 = .ok (.ireturn, 1) := dk_172 (dk_at dksX5_inner_1 17 rfl rfl)
abbrev cX5_isCompared : ByteArray := prog_22_method_48_code
def yX5_isCompared : MethodName := ⟨RX5, "isCompared", "()Z"⟩
def dkwX5_isCompared_2 : List UInt8 := [20, 1, 37, 20, 1, 39, 184, 0, 179, 153, 0, 7, 4, 167, 0, 4, 3, 172]
abbrev dktX5_isCompared_2 : List UInt8 := dkwX5_isCompared_2 ++ []
def dkwX5_isCompared_1 : List UInt8 := [184, 0, 179, 153, 0, 9, 132, 1, 255, 167, 255, 230, 27, 155, 0, 26, 42, 180, 0, 51, 27, 46, 133]
abbrev dktX5_isCompared_1 : List UInt8 := dkwX5_isCompared_1 ++ dktX5_isCompared_2
def dkwX5_isCompared_0 : List UInt8 := [42, 180, 1, 23, 4, 100, 60, 27, 155, 0, 28, 42, 180, 0, 51, 27, 46, 133, 20, 1, 33, 20, 1, 35]
abbrev dktX5_isCompared_0 : List UInt8 := dkwX5_isCompared_0 ++ dktX5_isCompared_1
theorem dksX5_isCompared_0 : cX5_isCompared.data.toList.drop 0 = dktX5_isCompared_0 := by decide +kernel
theorem dksX5_isCompared_1 : cX5_isCompared.data.toList.drop 24 = dktX5_isCompared_1 := dk_seg dksX5_isCompared_0 24 rfl rfl
theorem dksX5_isCompared_2 : cX5_isCompared.data.toList.drop 47 = dktX5_isCompared_2 := dk_seg dksX5_isCompared_1 23 rfl rfl
theorem dX5_isCompared_0 : decode cX5_isCompared 0 = .ok (.aload_n 0, 1) := dk_42 (dk_at dksX5_isCompared_0 0 rfl rfl)
theorem dX5_isCompared_1 : decode cX5_isCompared 1 = .ok (.getfield 279, 3) := dk_180 1 23 (dk_at dksX5_isCompared_0 1 rfl rfl)
theorem dX5_isCompared_4 : decode cX5_isCompared 4 = .ok (.iconst 1, 1) := dk_4 (dk_at dksX5_isCompared_0 4 rfl rfl)
theorem dX5_isCompared_5 : decode cX5_isCompared 5 = .ok (.isub, 1) := dk_100 (dk_at dksX5_isCompared_0 5 rfl rfl)
theorem dX5_isCompared_6 : decode cX5_isCompared 6 = .ok (.istore_n 1, 1) := dk_60 (dk_at dksX5_isCompared_0 6 rfl rfl)
theorem dX5_isCompared_7 : decode cX5_isCompared 7 = .ok (.iload_n 1, 1) := dk_27 (dk_at dksX5_isCompared_0 7 rfl rfl)
theorem dX5_isCompared_8 : decode cX5_isCompared 8 = .ok (.ifCond .lt 28, 3) := dk_155 0 28 (dk_at dksX5_isCompared_0 8 rfl rfl)
theorem dX5_isCompared_11 : decode cX5_isCompared 11 = .ok (.aload_n 0, 1) := dk_42 (dk_at dksX5_isCompared_0 11 rfl rfl)
theorem dX5_isCompared_12 : decode cX5_isCompared 12 = .ok (.getfield 51, 3) := dk_180 0 51 (dk_at dksX5_isCompared_0 12 rfl rfl)
theorem dX5_isCompared_15 : decode cX5_isCompared 15 = .ok (.iload_n 1, 1) := dk_27 (dk_at dksX5_isCompared_0 15 rfl rfl)
theorem dX5_isCompared_16 : decode cX5_isCompared 16 = .ok (.iaload, 1) := dk_46 (dk_at dksX5_isCompared_0 16 rfl rfl)
theorem dX5_isCompared_17 : decode cX5_isCompared 17 = .ok (.i2l, 1) := dk_133 (dk_at dksX5_isCompared_0 17 rfl rfl)
theorem dX5_isCompared_18 : decode cX5_isCompared 18 = .ok (.ldc2_w 289, 3) := dk_20 1 33 (dk_at dksX5_isCompared_0 18 rfl rfl)
theorem dX5_isCompared_21 : decode cX5_isCompared 21 = .ok (.ldc2_w 291, 3) := dk_20 1 35 (dk_at dksX5_isCompared_0 21 rfl rfl)
theorem dX5_isCompared_24 : decode cX5_isCompared 24 = .ok (.invokestatic 179, 3) := dk_184 0 179 (dk_at dksX5_isCompared_1 0 rfl rfl)
theorem dX5_isCompared_27 : decode cX5_isCompared 27 = .ok (.ifCond .eq 9, 3) := dk_153 0 9 (dk_at dksX5_isCompared_1 3 rfl rfl)
theorem dX5_isCompared_30 : decode cX5_isCompared 30 = .ok (.iinc 1 (-1), 3) := dk_132 1 255 (dk_at dksX5_isCompared_1 6 rfl rfl)
theorem dX5_isCompared_33 : decode cX5_isCompared 33 = .ok (.goto (-26), 3) := dk_167 255 230 (dk_at dksX5_isCompared_1 9 rfl rfl)
theorem dX5_isCompared_36 : decode cX5_isCompared 36 = .ok (.iload_n 1, 1) := dk_27 (dk_at dksX5_isCompared_1 12 rfl rfl)
theorem dX5_isCompared_37 : decode cX5_isCompared 37 = .ok (.ifCond .lt 26, 3) := dk_155 0 26 (dk_at dksX5_isCompared_1 13 rfl rfl)
theorem dX5_isCompared_40 : decode cX5_isCompared 40 = .ok (.aload_n 0, 1) := dk_42 (dk_at dksX5_isCompared_1 16 rfl rfl)
theorem dX5_isCompared_41 : decode cX5_isCompared 41 = .ok (.getfield 51, 3) := dk_180 0 51 (dk_at dksX5_isCompared_1 17 rfl rfl)
theorem dX5_isCompared_44 : decode cX5_isCompared 44 = .ok (.iload_n 1, 1) := dk_27 (dk_at dksX5_isCompared_1 20 rfl rfl)
theorem dX5_isCompared_45 : decode cX5_isCompared 45 = .ok (.iaload, 1) := dk_46 (dk_at dksX5_isCompared_1 21 rfl rfl)
theorem dX5_isCompared_46 : decode cX5_isCompared 46 = .ok (.i2l, 1) := dk_133 (dk_at dksX5_isCompared_1 22 rfl rfl)
theorem dX5_isCompared_47 : decode cX5_isCompared 47 = .ok (.ldc2_w 293, 3) := dk_20 1 37 (dk_at dksX5_isCompared_2 0 rfl rfl)
theorem dX5_isCompared_50 : decode cX5_isCompared 50 = .ok (.ldc2_w 295, 3) := dk_20 1 39 (dk_at dksX5_isCompared_2 3 rfl rfl)
theorem dX5_isCompared_53 : decode cX5_isCompared 53 = .ok (.invokestatic 179, 3) := dk_184 0 179 (dk_at dksX5_isCompared_2 6 rfl rfl)
theorem dX5_isCompared_56 : decode cX5_isCompared 56 = .ok (.ifCond .eq 7, 3) := dk_153 0 7 (dk_at dksX5_isCompared_2 9 rfl rfl)
theorem dX5_isCompared_59 : decode cX5_isCompared 59 = .ok (.iconst 1, 1) := dk_4 (dk_at dksX5_isCompared_2 12 rfl rfl)
theorem dX5_isCompared_60 : decode cX5_isCompared 60 = .ok (.goto 4, 3) := dk_167 0 4 (dk_at dksX5_isCompared_2 13 rfl rfl)
theorem dX5_isCompared_63 : decode cX5_isCompared 63 = .ok (.iconst 0, 1) := dk_3 (dk_at dksX5_isCompared_2 16 rfl rfl)
theorem dX5_isCompared_64 : decode cX5_isCompared 64 = .ok (.ireturn, 1) := dk_172 (dk_at dksX5_isCompared_2 17 rfl rfl)
abbrev cX5_behindTest : ByteArray := prog_22_method_56_code
def yX5_behindTest : MethodName := ⟨RX5, "behindTest", "()I"⟩
def dkwX5_behindTest_5 : List UInt8 := [181, 1, 23, 42, 89, 180, 1, 45, 4, 100, 181, 1, 45, 5, 172]
abbrev dktX5_behindTest_5 : List UInt8 := dkwX5_behindTest_5 ++ []
def dkwX5_behindTest_4 : List UInt8 := [182, 1, 16, 42, 180, 0, 239, 154, 0, 28, 42, 4, 182, 1, 87, 42, 89, 180, 1, 23, 4, 100]
abbrev dktX5_behindTest_4 : List UInt8 := dkwX5_behindTest_4 ++ dktX5_behindTest_5
def dkwX5_behindTest_3 : List UInt8 := [182, 0, 243, 3, 172, 42, 182, 1, 90, 2, 160, 0, 5, 7, 172, 42, 42, 16, 41, 182, 1, 54]
abbrev dktX5_behindTest_3 : List UInt8 := dkwX5_behindTest_3 ++ dktX5_behindTest_4
def dkwX5_behindTest_2 : List UInt8 := [180, 1, 20, 182, 1, 48, 42, 27, 153, 0, 8, 16, 29, 167, 0, 5, 16, 30, 3, 182, 1, 29, 42]
abbrev dktX5_behindTest_2 : List UInt8 := dkwX5_behindTest_2 ++ dktX5_behindTest_3
def dkwX5_behindTest_1 : List UInt8 := [153, 0, 7, 5, 167, 0, 4, 4, 182, 1, 87, 42, 27, 153, 0, 8, 16, 29, 167, 0, 5, 16, 30, 42]
abbrev dktX5_behindTest_1 : List UInt8 := dkwX5_behindTest_1 ++ dktX5_behindTest_2
def dkwX5_behindTest_0 : List UInt8 := [42, 20, 1, 97, 182, 1, 41, 60, 27, 154, 0, 13, 42, 20, 1, 99, 182, 1, 41, 153, 0, 57, 42, 27]
abbrev dktX5_behindTest_0 : List UInt8 := dkwX5_behindTest_0 ++ dktX5_behindTest_1
theorem dksX5_behindTest_0 : cX5_behindTest.data.toList.drop 0 = dktX5_behindTest_0 := by decide +kernel
theorem dksX5_behindTest_1 : cX5_behindTest.data.toList.drop 24 = dktX5_behindTest_1 := dk_seg dksX5_behindTest_0 24 rfl rfl
theorem dksX5_behindTest_2 : cX5_behindTest.data.toList.drop 48 = dktX5_behindTest_2 := dk_seg dksX5_behindTest_1 24 rfl rfl
theorem dksX5_behindTest_3 : cX5_behindTest.data.toList.drop 71 = dktX5_behindTest_3 := dk_seg dksX5_behindTest_2 23 rfl rfl
theorem dksX5_behindTest_4 : cX5_behindTest.data.toList.drop 93 = dktX5_behindTest_4 := dk_seg dksX5_behindTest_3 22 rfl rfl
theorem dksX5_behindTest_5 : cX5_behindTest.data.toList.drop 115 = dktX5_behindTest_5 := dk_seg dksX5_behindTest_4 22 rfl rfl
theorem dX5_behindTest_0 : decode cX5_behindTest 0 = .ok (.aload_n 0, 1) := dk_42 (dk_at dksX5_behindTest_0 0 rfl rfl)
theorem dX5_behindTest_1 : decode cX5_behindTest 1 = .ok (.ldc2_w 353, 3) := dk_20 1 97 (dk_at dksX5_behindTest_0 1 rfl rfl)
theorem dX5_behindTest_4 : decode cX5_behindTest 4 = .ok (.invokevirtual 297, 3) := dk_182 1 41 (dk_at dksX5_behindTest_0 4 rfl rfl)
theorem dX5_behindTest_7 : decode cX5_behindTest 7 = .ok (.istore_n 1, 1) := dk_60 (dk_at dksX5_behindTest_0 7 rfl rfl)
theorem dX5_behindTest_8 : decode cX5_behindTest 8 = .ok (.iload_n 1, 1) := dk_27 (dk_at dksX5_behindTest_0 8 rfl rfl)
theorem dX5_behindTest_9 : decode cX5_behindTest 9 = .ok (.ifCond .ne 13, 3) := dk_154 0 13 (dk_at dksX5_behindTest_0 9 rfl rfl)
theorem dX5_behindTest_12 : decode cX5_behindTest 12 = .ok (.aload_n 0, 1) := dk_42 (dk_at dksX5_behindTest_0 12 rfl rfl)
theorem dX5_behindTest_13 : decode cX5_behindTest 13 = .ok (.ldc2_w 355, 3) := dk_20 1 99 (dk_at dksX5_behindTest_0 13 rfl rfl)
theorem dX5_behindTest_16 : decode cX5_behindTest 16 = .ok (.invokevirtual 297, 3) := dk_182 1 41 (dk_at dksX5_behindTest_0 16 rfl rfl)
theorem dX5_behindTest_19 : decode cX5_behindTest 19 = .ok (.ifCond .eq 57, 3) := dk_153 0 57 (dk_at dksX5_behindTest_0 19 rfl rfl)
theorem dX5_behindTest_22 : decode cX5_behindTest 22 = .ok (.aload_n 0, 1) := dk_42 (dk_at dksX5_behindTest_0 22 rfl rfl)
theorem dX5_behindTest_23 : decode cX5_behindTest 23 = .ok (.iload_n 1, 1) := dk_27 (dk_at dksX5_behindTest_0 23 rfl rfl)
theorem dX5_behindTest_24 : decode cX5_behindTest 24 = .ok (.ifCond .eq 7, 3) := dk_153 0 7 (dk_at dksX5_behindTest_1 0 rfl rfl)
theorem dX5_behindTest_27 : decode cX5_behindTest 27 = .ok (.iconst 2, 1) := dk_5 (dk_at dksX5_behindTest_1 3 rfl rfl)
theorem dX5_behindTest_28 : decode cX5_behindTest 28 = .ok (.goto 4, 3) := dk_167 0 4 (dk_at dksX5_behindTest_1 4 rfl rfl)
theorem dX5_behindTest_31 : decode cX5_behindTest 31 = .ok (.iconst 1, 1) := dk_4 (dk_at dksX5_behindTest_1 7 rfl rfl)
theorem dX5_behindTest_32 : decode cX5_behindTest 32 = .ok (.invokevirtual 343, 3) := dk_182 1 87 (dk_at dksX5_behindTest_1 8 rfl rfl)
theorem dX5_behindTest_35 : decode cX5_behindTest 35 = .ok (.aload_n 0, 1) := dk_42 (dk_at dksX5_behindTest_1 11 rfl rfl)
theorem dX5_behindTest_36 : decode cX5_behindTest 36 = .ok (.iload_n 1, 1) := dk_27 (dk_at dksX5_behindTest_1 12 rfl rfl)
theorem dX5_behindTest_37 : decode cX5_behindTest 37 = .ok (.ifCond .eq 8, 3) := dk_153 0 8 (dk_at dksX5_behindTest_1 13 rfl rfl)
theorem dX5_behindTest_40 : decode cX5_behindTest 40 = .ok (.bipush 29, 2) := dk_16 29 (dk_at dksX5_behindTest_1 16 rfl rfl)
theorem dX5_behindTest_42 : decode cX5_behindTest 42 = .ok (.goto 5, 3) := dk_167 0 5 (dk_at dksX5_behindTest_1 18 rfl rfl)
theorem dX5_behindTest_45 : decode cX5_behindTest 45 = .ok (.bipush 30, 2) := dk_16 30 (dk_at dksX5_behindTest_1 21 rfl rfl)
theorem dX5_behindTest_47 : decode cX5_behindTest 47 = .ok (.aload_n 0, 1) := dk_42 (dk_at dksX5_behindTest_1 23 rfl rfl)
theorem dX5_behindTest_48 : decode cX5_behindTest 48 = .ok (.getfield 276, 3) := dk_180 1 20 (dk_at dksX5_behindTest_2 0 rfl rfl)
theorem dX5_behindTest_51 : decode cX5_behindTest 51 = .ok (.invokevirtual 304, 3) := dk_182 1 48 (dk_at dksX5_behindTest_2 3 rfl rfl)
theorem dX5_behindTest_54 : decode cX5_behindTest 54 = .ok (.aload_n 0, 1) := dk_42 (dk_at dksX5_behindTest_2 6 rfl rfl)
theorem dX5_behindTest_55 : decode cX5_behindTest 55 = .ok (.iload_n 1, 1) := dk_27 (dk_at dksX5_behindTest_2 7 rfl rfl)
theorem dX5_behindTest_56 : decode cX5_behindTest 56 = .ok (.ifCond .eq 8, 3) := dk_153 0 8 (dk_at dksX5_behindTest_2 8 rfl rfl)
theorem dX5_behindTest_59 : decode cX5_behindTest 59 = .ok (.bipush 29, 2) := dk_16 29 (dk_at dksX5_behindTest_2 11 rfl rfl)
theorem dX5_behindTest_61 : decode cX5_behindTest 61 = .ok (.goto 5, 3) := dk_167 0 5 (dk_at dksX5_behindTest_2 13 rfl rfl)
theorem dX5_behindTest_64 : decode cX5_behindTest 64 = .ok (.bipush 30, 2) := dk_16 30 (dk_at dksX5_behindTest_2 16 rfl rfl)
theorem dX5_behindTest_66 : decode cX5_behindTest 66 = .ok (.iconst 0, 1) := dk_3 (dk_at dksX5_behindTest_2 18 rfl rfl)
theorem dX5_behindTest_67 : decode cX5_behindTest 67 = .ok (.invokevirtual 285, 3) := dk_182 1 29 (dk_at dksX5_behindTest_2 19 rfl rfl)
theorem dX5_behindTest_70 : decode cX5_behindTest 70 = .ok (.aload_n 0, 1) := dk_42 (dk_at dksX5_behindTest_2 22 rfl rfl)
theorem dX5_behindTest_71 : decode cX5_behindTest 71 = .ok (.invokevirtual 243, 3) := dk_182 0 243 (dk_at dksX5_behindTest_3 0 rfl rfl)
theorem dX5_behindTest_74 : decode cX5_behindTest 74 = .ok (.iconst 0, 1) := dk_3 (dk_at dksX5_behindTest_3 3 rfl rfl)
theorem dX5_behindTest_75 : decode cX5_behindTest 75 = .ok (.ireturn, 1) := dk_172 (dk_at dksX5_behindTest_3 4 rfl rfl)
theorem dX5_behindTest_76 : decode cX5_behindTest 76 = .ok (.aload_n 0, 1) := dk_42 (dk_at dksX5_behindTest_3 5 rfl rfl)
theorem dX5_behindTest_77 : decode cX5_behindTest 77 = .ok (.invokevirtual 346, 3) := dk_182 1 90 (dk_at dksX5_behindTest_3 6 rfl rfl)
theorem dX5_behindTest_80 : decode cX5_behindTest 80 = .ok (.iconst (-1), 1) := dk_2 (dk_at dksX5_behindTest_3 9 rfl rfl)
theorem dX5_behindTest_81 : decode cX5_behindTest 81 = .ok (.if_icmp .ne 5, 3) := dk_160 0 5 (dk_at dksX5_behindTest_3 10 rfl rfl)
theorem dX5_behindTest_84 : decode cX5_behindTest 84 = .ok (.iconst 4, 1) := dk_7 (dk_at dksX5_behindTest_3 13 rfl rfl)
theorem dX5_behindTest_85 : decode cX5_behindTest 85 = .ok (.ireturn, 1) := dk_172 (dk_at dksX5_behindTest_3 14 rfl rfl)
theorem dX5_behindTest_86 : decode cX5_behindTest 86 = .ok (.aload_n 0, 1) := dk_42 (dk_at dksX5_behindTest_3 15 rfl rfl)
theorem dX5_behindTest_87 : decode cX5_behindTest 87 = .ok (.aload_n 0, 1) := dk_42 (dk_at dksX5_behindTest_3 16 rfl rfl)
theorem dX5_behindTest_88 : decode cX5_behindTest 88 = .ok (.bipush 41, 2) := dk_16 41 (dk_at dksX5_behindTest_3 17 rfl rfl)
theorem dX5_behindTest_90 : decode cX5_behindTest 90 = .ok (.invokevirtual 310, 3) := dk_182 1 54 (dk_at dksX5_behindTest_3 19 rfl rfl)
theorem dX5_behindTest_93 : decode cX5_behindTest 93 = .ok (.invokevirtual 272, 3) := dk_182 1 16 (dk_at dksX5_behindTest_4 0 rfl rfl)
theorem dX5_behindTest_96 : decode cX5_behindTest 96 = .ok (.aload_n 0, 1) := dk_42 (dk_at dksX5_behindTest_4 3 rfl rfl)
theorem dX5_behindTest_97 : decode cX5_behindTest 97 = .ok (.getfield 239, 3) := dk_180 0 239 (dk_at dksX5_behindTest_4 4 rfl rfl)
theorem dX5_behindTest_100 : decode cX5_behindTest 100 = .ok (.ifCond .ne 28, 3) := dk_154 0 28 (dk_at dksX5_behindTest_4 7 rfl rfl)
theorem dX5_behindTest_103 : decode cX5_behindTest 103 = .ok (.aload_n 0, 1) := dk_42 (dk_at dksX5_behindTest_4 10 rfl rfl)
theorem dX5_behindTest_104 : decode cX5_behindTest 104 = .ok (.iconst 1, 1) := dk_4 (dk_at dksX5_behindTest_4 11 rfl rfl)
theorem dX5_behindTest_105 : decode cX5_behindTest 105 = .ok (.invokevirtual 343, 3) := dk_182 1 87 (dk_at dksX5_behindTest_4 12 rfl rfl)
theorem dX5_behindTest_108 : decode cX5_behindTest 108 = .ok (.aload_n 0, 1) := dk_42 (dk_at dksX5_behindTest_4 15 rfl rfl)
theorem dX5_behindTest_109 : decode cX5_behindTest 109 = .ok (.dup, 1) := dk_89 (dk_at dksX5_behindTest_4 16 rfl rfl)
theorem dX5_behindTest_110 : decode cX5_behindTest 110 = .ok (.getfield 279, 3) := dk_180 1 23 (dk_at dksX5_behindTest_4 17 rfl rfl)
theorem dX5_behindTest_113 : decode cX5_behindTest 113 = .ok (.iconst 1, 1) := dk_4 (dk_at dksX5_behindTest_4 20 rfl rfl)
theorem dX5_behindTest_114 : decode cX5_behindTest 114 = .ok (.isub, 1) := dk_100 (dk_at dksX5_behindTest_4 21 rfl rfl)
theorem dX5_behindTest_115 : decode cX5_behindTest 115 = .ok (.putfield 279, 3) := dk_181 1 23 (dk_at dksX5_behindTest_5 0 rfl rfl)
theorem dX5_behindTest_118 : decode cX5_behindTest 118 = .ok (.aload_n 0, 1) := dk_42 (dk_at dksX5_behindTest_5 3 rfl rfl)
theorem dX5_behindTest_119 : decode cX5_behindTest 119 = .ok (.dup, 1) := dk_89 (dk_at dksX5_behindTest_5 4 rfl rfl)
theorem dX5_behindTest_120 : decode cX5_behindTest 120 = .ok (.getfield 301, 3) := dk_180 1 45 (dk_at dksX5_behindTest_5 5 rfl rfl)
theorem dX5_behindTest_123 : decode cX5_behindTest 123 = .ok (.iconst 1, 1) := dk_4 (dk_at dksX5_behindTest_5 8 rfl rfl)
theorem dX5_behindTest_124 : decode cX5_behindTest 124 = .ok (.isub, 1) := dk_100 (dk_at dksX5_behindTest_5 9 rfl rfl)
theorem dX5_behindTest_125 : decode cX5_behindTest 125 = .ok (.putfield 301, 3) := dk_181 1 45 (dk_at dksX5_behindTest_5 10 rfl rfl)
theorem dX5_behindTest_128 : decode cX5_behindTest 128 = .ok (.iconst 2, 1) := dk_5 (dk_at dksX5_behindTest_5 13 rfl rfl)
theorem dX5_behindTest_129 : decode cX5_behindTest 129 = .ok (.ireturn, 1) := dk_172 (dk_at dksX5_behindTest_5 14 rfl rfl)
abbrev cX5_endText : ByteArray := prog_22_method_59_code
def yX5_endText : MethodName := ⟨RX5, "endText", "()V"⟩
def dkwX5_endText_1 : List UInt8 := [42, 3, 181, 0, 227, 177]
abbrev dktX5_endText_1 : List UInt8 := dkwX5_endText_1 ++ []
def dkwX5_endText_0 : List UInt8 := [42, 180, 0, 239, 154, 0, 15, 42, 180, 1, 3, 153, 0, 8, 42, 3, 182, 1, 16, 42, 3, 181, 1, 60]
abbrev dktX5_endText_0 : List UInt8 := dkwX5_endText_0 ++ dktX5_endText_1
theorem dksX5_endText_0 : cX5_endText.data.toList.drop 0 = dktX5_endText_0 := by decide +kernel
theorem dksX5_endText_1 : cX5_endText.data.toList.drop 24 = dktX5_endText_1 := dk_seg dksX5_endText_0 24 rfl rfl
theorem dX5_endText_0 : decode cX5_endText 0 = .ok (.aload_n 0, 1) := dk_42 (dk_at dksX5_endText_0 0 rfl rfl)
theorem dX5_endText_1 : decode cX5_endText 1 = .ok (.getfield 239, 3) := dk_180 0 239 (dk_at dksX5_endText_0 1 rfl rfl)
theorem dX5_endText_4 : decode cX5_endText 4 = .ok (.ifCond .ne 15, 3) := dk_154 0 15 (dk_at dksX5_endText_0 4 rfl rfl)
theorem dX5_endText_7 : decode cX5_endText 7 = .ok (.aload_n 0, 1) := dk_42 (dk_at dksX5_endText_0 7 rfl rfl)
theorem dX5_endText_8 : decode cX5_endText 8 = .ok (.getfield 259, 3) := dk_180 1 3 (dk_at dksX5_endText_0 8 rfl rfl)
theorem dX5_endText_11 : decode cX5_endText 11 = .ok (.ifCond .eq 8, 3) := dk_153 0 8 (dk_at dksX5_endText_0 11 rfl rfl)
theorem dX5_endText_14 : decode cX5_endText 14 = .ok (.aload_n 0, 1) := dk_42 (dk_at dksX5_endText_0 14 rfl rfl)
theorem dX5_endText_15 : decode cX5_endText 15 = .ok (.iconst 0, 1) := dk_3 (dk_at dksX5_endText_0 15 rfl rfl)
theorem dX5_endText_16 : decode cX5_endText 16 = .ok (.invokevirtual 272, 3) := dk_182 1 16 (dk_at dksX5_endText_0 16 rfl rfl)
theorem dX5_endText_19 : decode cX5_endText 19 = .ok (.aload_n 0, 1) := dk_42 (dk_at dksX5_endText_0 19 rfl rfl)
theorem dX5_endText_20 : decode cX5_endText 20 = .ok (.iconst 0, 1) := dk_3 (dk_at dksX5_endText_0 20 rfl rfl)
theorem dX5_endText_21 : decode cX5_endText 21 = .ok (.putfield 316, 3) := dk_181 1 60 (dk_at dksX5_endText_0 21 rfl rfl)
theorem dX5_endText_24 : decode cX5_endText 24 = .ok (.aload_n 0, 1) := dk_42 (dk_at dksX5_endText_1 0 rfl rfl)
theorem dX5_endText_25 : decode cX5_endText 25 = .ok (.iconst 0, 1) := dk_3 (dk_at dksX5_endText_1 1 rfl rfl)
theorem dX5_endText_26 : decode cX5_endText 26 = .ok (.putfield 227, 3) := dk_181 0 227 (dk_at dksX5_endText_1 2 rfl rfl)
theorem dX5_endText_29 : decode cX5_endText 29 = .ok (.return_, 1) := dk_177 (dk_at dksX5_endText_1 5 rfl rfl)
abbrev cX5_force : ByteArray := prog_22_method_63_code
def yX5_force : MethodName := ⟨RX5, "force", "(I)I"⟩
def dkwX5_force_1 : List UInt8 := [16, 254, 182, 0, 168, 172]
abbrev dktX5_force_1 : List UInt8 := dkwX5_force_1 ++ []
def dkwX5_force_0 : List UInt8 := [42, 3, 181, 0, 159, 42, 27, 182, 1, 131, 153, 0, 12, 42, 7, 27, 182, 0, 224, 167, 0, 9, 42]
abbrev dktX5_force_0 : List UInt8 := dkwX5_force_0 ++ dktX5_force_1
theorem dksX5_force_0 : cX5_force.data.toList.drop 0 = dktX5_force_0 := by decide +kernel
theorem dksX5_force_1 : cX5_force.data.toList.drop 23 = dktX5_force_1 := dk_seg dksX5_force_0 23 rfl rfl
theorem dX5_force_0 : decode cX5_force 0 = .ok (.aload_n 0, 1) := dk_42 (dk_at dksX5_force_0 0 rfl rfl)
theorem dX5_force_1 : decode cX5_force 1 = .ok (.iconst 0, 1) := dk_3 (dk_at dksX5_force_0 1 rfl rfl)
theorem dX5_force_2 : decode cX5_force 2 = .ok (.putfield 159, 3) := dk_181 0 159 (dk_at dksX5_force_0 2 rfl rfl)
theorem dX5_force_5 : decode cX5_force 5 = .ok (.aload_n 0, 1) := dk_42 (dk_at dksX5_force_0 5 rfl rfl)
theorem dX5_force_6 : decode cX5_force 6 = .ok (.iload_n 1, 1) := dk_27 (dk_at dksX5_force_0 6 rfl rfl)
theorem dX5_force_7 : decode cX5_force 7 = .ok (.invokevirtual 387, 3) := dk_182 1 131 (dk_at dksX5_force_0 7 rfl rfl)
theorem dX5_force_10 : decode cX5_force 10 = .ok (.ifCond .eq 12, 3) := dk_153 0 12 (dk_at dksX5_force_0 10 rfl rfl)
theorem dX5_force_13 : decode cX5_force 13 = .ok (.aload_n 0, 1) := dk_42 (dk_at dksX5_force_0 13 rfl rfl)
theorem dX5_force_14 : decode cX5_force 14 = .ok (.iconst 4, 1) := dk_7 (dk_at dksX5_force_0 14 rfl rfl)
theorem dX5_force_15 : decode cX5_force 15 = .ok (.iload_n 1, 1) := dk_27 (dk_at dksX5_force_0 15 rfl rfl)
theorem dX5_force_16 : decode cX5_force 16 = .ok (.invokevirtual 224, 3) := dk_182 0 224 (dk_at dksX5_force_0 16 rfl rfl)
theorem dX5_force_19 : decode cX5_force 19 = .ok (.goto 9, 3) := dk_167 0 9 (dk_at dksX5_force_0 19 rfl rfl)
theorem dX5_force_22 : decode cX5_force 22 = .ok (.aload_n 0, 1) := dk_42 (dk_at dksX5_force_0 22 rfl rfl)
theorem dX5_force_23 : decode cX5_force 23 = .ok (.bipush (-2), 2) := dk_16 254 (dk_at dksX5_force_1 0 rfl rfl)
theorem dX5_force_25 : decode cX5_force 25 = .ok (.invokevirtual 168, 3) := dk_182 0 168 (dk_at dksX5_force_1 2 rfl rfl)
theorem dX5_force_28 : decode cX5_force 28 = .ok (.ireturn, 1) := dk_172 (dk_at dksX5_force_1 5 rfl rfl)
abbrev cX5_isLaw : ByteArray := prog_22_method_62_code
def yX5_isLaw : MethodName := ⟨RX5, "isLaw", "(I)Z"⟩
def dkwX5_isLaw_1 : List UInt8 := [167, 0, 4, 3, 172]
abbrev dktX5_isLaw_1 : List UInt8 := dkwX5_isLaw_1 ++ []
def dkwX5_isLaw_0 : List UInt8 := [27, 2, 159, 0, 21, 27, 133, 9, 42, 180, 0, 13, 6, 46, 133, 10, 101, 184, 0, 179, 153, 0, 7, 4]
abbrev dktX5_isLaw_0 : List UInt8 := dkwX5_isLaw_0 ++ dktX5_isLaw_1
theorem dksX5_isLaw_0 : cX5_isLaw.data.toList.drop 0 = dktX5_isLaw_0 := by decide +kernel
theorem dksX5_isLaw_1 : cX5_isLaw.data.toList.drop 24 = dktX5_isLaw_1 := dk_seg dksX5_isLaw_0 24 rfl rfl
theorem dX5_isLaw_0 : decode cX5_isLaw 0 = .ok (.iload_n 1, 1) := dk_27 (dk_at dksX5_isLaw_0 0 rfl rfl)
theorem dX5_isLaw_1 : decode cX5_isLaw 1 = .ok (.iconst (-1), 1) := dk_2 (dk_at dksX5_isLaw_0 1 rfl rfl)
theorem dX5_isLaw_2 : decode cX5_isLaw 2 = .ok (.if_icmp .eq 21, 3) := dk_159 0 21 (dk_at dksX5_isLaw_0 2 rfl rfl)
theorem dX5_isLaw_5 : decode cX5_isLaw 5 = .ok (.iload_n 1, 1) := dk_27 (dk_at dksX5_isLaw_0 5 rfl rfl)
theorem dX5_isLaw_6 : decode cX5_isLaw 6 = .ok (.i2l, 1) := dk_133 (dk_at dksX5_isLaw_0 6 rfl rfl)
theorem dX5_isLaw_7 : decode cX5_isLaw 7 = .ok (.lconst 0, 1) := dk_9 (dk_at dksX5_isLaw_0 7 rfl rfl)
theorem dX5_isLaw_8 : decode cX5_isLaw 8 = .ok (.aload_n 0, 1) := dk_42 (dk_at dksX5_isLaw_0 8 rfl rfl)
theorem dX5_isLaw_9 : decode cX5_isLaw 9 = .ok (.getfield 13, 3) := dk_180 0 13 (dk_at dksX5_isLaw_0 9 rfl rfl)
theorem dX5_isLaw_12 : decode cX5_isLaw 12 = .ok (.iconst 3, 1) := dk_6 (dk_at dksX5_isLaw_0 12 rfl rfl)
theorem dX5_isLaw_13 : decode cX5_isLaw 13 = .ok (.iaload, 1) := dk_46 (dk_at dksX5_isLaw_0 13 rfl rfl)
theorem dX5_isLaw_14 : decode cX5_isLaw 14 = .ok (.i2l, 1) := dk_133 (dk_at dksX5_isLaw_0 14 rfl rfl)
theorem dX5_isLaw_15 : decode cX5_isLaw 15 = .ok (.lconst 1, 1) := dk_10 (dk_at dksX5_isLaw_0 15 rfl rfl)
theorem dX5_isLaw_16 : decode cX5_isLaw 16 = .ok (.lsub, 1) := dk_101 (dk_at dksX5_isLaw_0 16 rfl rfl)
theorem dX5_isLaw_17 : decode cX5_isLaw 17 = .ok (.invokestatic 179, 3) := dk_184 0 179 (dk_at dksX5_isLaw_0 17 rfl rfl)
theorem dX5_isLaw_20 : decode cX5_isLaw 20 = .ok (.ifCond .eq 7, 3) := dk_153 0 7 (dk_at dksX5_isLaw_0 20 rfl rfl)
theorem dX5_isLaw_23 : decode cX5_isLaw 23 = .ok (.iconst 1, 1) := dk_4 (dk_at dksX5_isLaw_0 23 rfl rfl)
theorem dX5_isLaw_24 : decode cX5_isLaw 24 = .ok (.goto 4, 3) := dk_167 0 4 (dk_at dksX5_isLaw_1 0 rfl rfl)
theorem dX5_isLaw_27 : decode cX5_isLaw 27 = .ok (.iconst 0, 1) := dk_3 (dk_at dksX5_isLaw_1 3 rfl rfl)
theorem dX5_isLaw_28 : decode cX5_isLaw 28 = .ok (.ireturn, 1) := dk_172 (dk_at dksX5_isLaw_1 4 rfl rfl)
abbrev cX5_wander : ByteArray := prog_22_method_75_code
def yX5_wander : MethodName := ⟨RX5, "wander", "(I)I"⟩
def dkwX5_wander_0 : List UInt8 := [42, 3, 181, 0, 159, 42, 42, 27, 182, 1, 183, 182, 0, 168, 172]
abbrev dktX5_wander_0 : List UInt8 := dkwX5_wander_0 ++ []
theorem dksX5_wander_0 : cX5_wander.data.toList.drop 0 = dktX5_wander_0 := by decide +kernel
theorem dX5_wander_0 : decode cX5_wander 0 = .ok (.aload_n 0, 1) := dk_42 (dk_at dksX5_wander_0 0 rfl rfl)
theorem dX5_wander_1 : decode cX5_wander 1 = .ok (.iconst 0, 1) := dk_3 (dk_at dksX5_wander_0 1 rfl rfl)
theorem dX5_wander_2 : decode cX5_wander 2 = .ok (.putfield 159, 3) := dk_181 0 159 (dk_at dksX5_wander_0 2 rfl rfl)
theorem dX5_wander_5 : decode cX5_wander 5 = .ok (.aload_n 0, 1) := dk_42 (dk_at dksX5_wander_0 5 rfl rfl)
theorem dX5_wander_6 : decode cX5_wander 6 = .ok (.aload_n 0, 1) := dk_42 (dk_at dksX5_wander_0 6 rfl rfl)
theorem dX5_wander_7 : decode cX5_wander 7 = .ok (.iload_n 1, 1) := dk_27 (dk_at dksX5_wander_0 7 rfl rfl)
theorem dX5_wander_8 : decode cX5_wander 8 = .ok (.invokevirtual 439, 3) := dk_182 1 183 (dk_at dksX5_wander_0 8 rfl rfl)
theorem dX5_wander_11 : decode cX5_wander 11 = .ok (.invokevirtual 168, 3) := dk_182 0 168 (dk_at dksX5_wander_0 11 rfl rfl)
theorem dX5_wander_14 : decode cX5_wander 14 = .ok (.ireturn, 1) := dk_172 (dk_at dksX5_wander_0 14 rfl rfl)
abbrev cX5_wanderNow : ByteArray := prog_22_method_74_code
def yX5_wanderNow : MethodName := ⟨RX5, "wanderNow", "(I)I"⟩
def dkwX5_wanderNow_1 : List UInt8 := [172, 42, 3, 182, 1, 177, 42, 27, 28, 182, 1, 180, 42, 180, 0, 13, 16, 18, 27, 96, 46, 172]
abbrev dktX5_wanderNow_1 : List UInt8 := dkwX5_wanderNow_1 ++ []
def dkwX5_wanderNow_0 : List UInt8 := [42, 27, 182, 0, 203, 154, 0, 6, 16, 254, 172, 42, 27, 182, 0, 209, 61, 28, 2, 160, 0, 6, 16, 253]
abbrev dktX5_wanderNow_0 : List UInt8 := dkwX5_wanderNow_0 ++ dktX5_wanderNow_1
theorem dksX5_wanderNow_0 : cX5_wanderNow.data.toList.drop 0 = dktX5_wanderNow_0 := by decide +kernel
theorem dksX5_wanderNow_1 : cX5_wanderNow.data.toList.drop 24 = dktX5_wanderNow_1 := dk_seg dksX5_wanderNow_0 24 rfl rfl
theorem dX5_wanderNow_0 : decode cX5_wanderNow 0 = .ok (.aload_n 0, 1) := dk_42 (dk_at dksX5_wanderNow_0 0 rfl rfl)
theorem dX5_wanderNow_1 : decode cX5_wanderNow 1 = .ok (.iload_n 1, 1) := dk_27 (dk_at dksX5_wanderNow_0 1 rfl rfl)
theorem dX5_wanderNow_2 : decode cX5_wanderNow 2 = .ok (.invokevirtual 203, 3) := dk_182 0 203 (dk_at dksX5_wanderNow_0 2 rfl rfl)
theorem dX5_wanderNow_5 : decode cX5_wanderNow 5 = .ok (.ifCond .ne 6, 3) := dk_154 0 6 (dk_at dksX5_wanderNow_0 5 rfl rfl)
theorem dX5_wanderNow_8 : decode cX5_wanderNow 8 = .ok (.bipush (-2), 2) := dk_16 254 (dk_at dksX5_wanderNow_0 8 rfl rfl)
theorem dX5_wanderNow_10 : decode cX5_wanderNow 10 = .ok (.ireturn, 1) := dk_172 (dk_at dksX5_wanderNow_0 10 rfl rfl)
theorem dX5_wanderNow_11 : decode cX5_wanderNow 11 = .ok (.aload_n 0, 1) := dk_42 (dk_at dksX5_wanderNow_0 11 rfl rfl)
theorem dX5_wanderNow_12 : decode cX5_wanderNow 12 = .ok (.iload_n 1, 1) := dk_27 (dk_at dksX5_wanderNow_0 12 rfl rfl)
theorem dX5_wanderNow_13 : decode cX5_wanderNow 13 = .ok (.invokevirtual 209, 3) := dk_182 0 209 (dk_at dksX5_wanderNow_0 13 rfl rfl)
theorem dX5_wanderNow_16 : decode cX5_wanderNow 16 = .ok (.istore_n 2, 1) := dk_61 (dk_at dksX5_wanderNow_0 16 rfl rfl)
theorem dX5_wanderNow_17 : decode cX5_wanderNow 17 = .ok (.iload_n 2, 1) := dk_28 (dk_at dksX5_wanderNow_0 17 rfl rfl)
theorem dX5_wanderNow_18 : decode cX5_wanderNow 18 = .ok (.iconst (-1), 1) := dk_2 (dk_at dksX5_wanderNow_0 18 rfl rfl)
theorem dX5_wanderNow_19 : decode cX5_wanderNow 19 = .ok (.if_icmp .ne 6, 3) := dk_160 0 6 (dk_at dksX5_wanderNow_0 19 rfl rfl)
theorem dX5_wanderNow_22 : decode cX5_wanderNow 22 = .ok (.bipush (-3), 2) := dk_16 253 (dk_at dksX5_wanderNow_0 22 rfl rfl)
theorem dX5_wanderNow_24 : decode cX5_wanderNow 24 = .ok (.ireturn, 1) := dk_172 (dk_at dksX5_wanderNow_1 0 rfl rfl)
theorem dX5_wanderNow_25 : decode cX5_wanderNow 25 = .ok (.aload_n 0, 1) := dk_42 (dk_at dksX5_wanderNow_1 1 rfl rfl)
theorem dX5_wanderNow_26 : decode cX5_wanderNow 26 = .ok (.iconst 0, 1) := dk_3 (dk_at dksX5_wanderNow_1 2 rfl rfl)
theorem dX5_wanderNow_27 : decode cX5_wanderNow 27 = .ok (.invokevirtual 433, 3) := dk_182 1 177 (dk_at dksX5_wanderNow_1 3 rfl rfl)
theorem dX5_wanderNow_30 : decode cX5_wanderNow 30 = .ok (.aload_n 0, 1) := dk_42 (dk_at dksX5_wanderNow_1 6 rfl rfl)
theorem dX5_wanderNow_31 : decode cX5_wanderNow 31 = .ok (.iload_n 1, 1) := dk_27 (dk_at dksX5_wanderNow_1 7 rfl rfl)
theorem dX5_wanderNow_32 : decode cX5_wanderNow 32 = .ok (.iload_n 2, 1) := dk_28 (dk_at dksX5_wanderNow_1 8 rfl rfl)
theorem dX5_wanderNow_33 : decode cX5_wanderNow 33 = .ok (.invokevirtual 436, 3) := dk_182 1 180 (dk_at dksX5_wanderNow_1 9 rfl rfl)
theorem dX5_wanderNow_36 : decode cX5_wanderNow 36 = .ok (.aload_n 0, 1) := dk_42 (dk_at dksX5_wanderNow_1 12 rfl rfl)
theorem dX5_wanderNow_37 : decode cX5_wanderNow 37 = .ok (.getfield 13, 3) := dk_180 0 13 (dk_at dksX5_wanderNow_1 13 rfl rfl)
theorem dX5_wanderNow_40 : decode cX5_wanderNow 40 = .ok (.bipush 18, 2) := dk_16 18 (dk_at dksX5_wanderNow_1 16 rfl rfl)
theorem dX5_wanderNow_42 : decode cX5_wanderNow 42 = .ok (.iload_n 1, 1) := dk_27 (dk_at dksX5_wanderNow_1 18 rfl rfl)
theorem dX5_wanderNow_43 : decode cX5_wanderNow 43 = .ok (.iadd, 1) := dk_96 (dk_at dksX5_wanderNow_1 19 rfl rfl)
theorem dX5_wanderNow_44 : decode cX5_wanderNow 44 = .ok (.iaload, 1) := dk_46 (dk_at dksX5_wanderNow_1 20 rfl rfl)
theorem dX5_wanderNow_45 : decode cX5_wanderNow 45 = .ok (.ireturn, 1) := dk_172 (dk_at dksX5_wanderNow_1 21 rfl rfl)
abbrev cX5_remember : ByteArray := prog_22_method_12_code
def yX5_remember : MethodName := ⟨RX5, "remember", "(I)V"⟩
def dkwX5_remember_4 : List UInt8 := [89, 180, 0, 165, 4, 96, 181, 0, 165, 177]
abbrev dktX5_remember_4 : List UInt8 := dkwX5_remember_4 ++ []
def dkwX5_remember_3 : List UInt8 := [4, 100, 181, 0, 165, 42, 42, 180, 0, 165, 182, 0, 172, 42, 180, 0, 26, 42, 180, 0, 165, 27, 79, 42]
abbrev dktX5_remember_3 : List UInt8 := dkwX5_remember_3 ++ dktX5_remember_4
def dkwX5_remember_2 : List UInt8 := [180, 0, 26, 28, 42, 180, 0, 26, 28, 4, 96, 46, 79, 132, 2, 1, 167, 255, 233, 42, 89, 180, 0, 165]
abbrev dktX5_remember_2 : List UInt8 := dkwX5_remember_2 ++ dktX5_remember_3
def dkwX5_remember_1 : List UInt8 := [180, 0, 23, 28, 16, 21, 96, 46, 79, 132, 2, 1, 167, 255, 231, 3, 61, 28, 16, 15, 162, 0, 23, 42]
abbrev dktX5_remember_1 : List UInt8 := dkwX5_remember_1 ++ dktX5_remember_2
def dkwX5_remember_0 : List UInt8 := [42, 180, 0, 165, 16, 16, 160, 0, 71, 3, 61, 28, 17, 1, 59, 162, 0, 24, 42, 180, 0, 23, 28, 42]
abbrev dktX5_remember_0 : List UInt8 := dkwX5_remember_0 ++ dktX5_remember_1
theorem dksX5_remember_0 : cX5_remember.data.toList.drop 0 = dktX5_remember_0 := by decide +kernel
theorem dksX5_remember_1 : cX5_remember.data.toList.drop 24 = dktX5_remember_1 := dk_seg dksX5_remember_0 24 rfl rfl
theorem dksX5_remember_2 : cX5_remember.data.toList.drop 48 = dktX5_remember_2 := dk_seg dksX5_remember_1 24 rfl rfl
theorem dksX5_remember_3 : cX5_remember.data.toList.drop 72 = dktX5_remember_3 := dk_seg dksX5_remember_2 24 rfl rfl
theorem dksX5_remember_4 : cX5_remember.data.toList.drop 96 = dktX5_remember_4 := dk_seg dksX5_remember_3 24 rfl rfl
theorem dX5_remember_0 : decode cX5_remember 0 = .ok (.aload_n 0, 1) := dk_42 (dk_at dksX5_remember_0 0 rfl rfl)
theorem dX5_remember_1 : decode cX5_remember 1 = .ok (.getfield 165, 3) := dk_180 0 165 (dk_at dksX5_remember_0 1 rfl rfl)
theorem dX5_remember_4 : decode cX5_remember 4 = .ok (.bipush 16, 2) := dk_16 16 (dk_at dksX5_remember_0 4 rfl rfl)
theorem dX5_remember_6 : decode cX5_remember 6 = .ok (.if_icmp .ne 71, 3) := dk_160 0 71 (dk_at dksX5_remember_0 6 rfl rfl)
theorem dX5_remember_9 : decode cX5_remember 9 = .ok (.iconst 0, 1) := dk_3 (dk_at dksX5_remember_0 9 rfl rfl)
theorem dX5_remember_10 : decode cX5_remember 10 = .ok (.istore_n 2, 1) := dk_61 (dk_at dksX5_remember_0 10 rfl rfl)
theorem dX5_remember_11 : decode cX5_remember 11 = .ok (.iload_n 2, 1) := dk_28 (dk_at dksX5_remember_0 11 rfl rfl)
theorem dX5_remember_12 : decode cX5_remember 12 = .ok (.sipush 315, 3) := dk_17 1 59 (dk_at dksX5_remember_0 12 rfl rfl)
theorem dX5_remember_15 : decode cX5_remember 15 = .ok (.if_icmp .ge 24, 3) := dk_162 0 24 (dk_at dksX5_remember_0 15 rfl rfl)
theorem dX5_remember_18 : decode cX5_remember 18 = .ok (.aload_n 0, 1) := dk_42 (dk_at dksX5_remember_0 18 rfl rfl)
theorem dX5_remember_19 : decode cX5_remember 19 = .ok (.getfield 23, 3) := dk_180 0 23 (dk_at dksX5_remember_0 19 rfl rfl)
theorem dX5_remember_22 : decode cX5_remember 22 = .ok (.iload_n 2, 1) := dk_28 (dk_at dksX5_remember_0 22 rfl rfl)
theorem dX5_remember_23 : decode cX5_remember 23 = .ok (.aload_n 0, 1) := dk_42 (dk_at dksX5_remember_0 23 rfl rfl)
theorem dX5_remember_24 : decode cX5_remember 24 = .ok (.getfield 23, 3) := dk_180 0 23 (dk_at dksX5_remember_1 0 rfl rfl)
theorem dX5_remember_27 : decode cX5_remember 27 = .ok (.iload_n 2, 1) := dk_28 (dk_at dksX5_remember_1 3 rfl rfl)
theorem dX5_remember_28 : decode cX5_remember 28 = .ok (.bipush 21, 2) := dk_16 21 (dk_at dksX5_remember_1 4 rfl rfl)
theorem dX5_remember_30 : decode cX5_remember 30 = .ok (.iadd, 1) := dk_96 (dk_at dksX5_remember_1 6 rfl rfl)
theorem dX5_remember_31 : decode cX5_remember 31 = .ok (.iaload, 1) := dk_46 (dk_at dksX5_remember_1 7 rfl rfl)
theorem dX5_remember_32 : decode cX5_remember 32 = .ok (.iastore, 1) := dk_79 (dk_at dksX5_remember_1 8 rfl rfl)
theorem dX5_remember_33 : decode cX5_remember 33 = .ok (.iinc 2 1, 3) := dk_132 2 1 (dk_at dksX5_remember_1 9 rfl rfl)
theorem dX5_remember_36 : decode cX5_remember 36 = .ok (.goto (-25), 3) := dk_167 255 231 (dk_at dksX5_remember_1 12 rfl rfl)
theorem dX5_remember_39 : decode cX5_remember 39 = .ok (.iconst 0, 1) := dk_3 (dk_at dksX5_remember_1 15 rfl rfl)
theorem dX5_remember_40 : decode cX5_remember 40 = .ok (.istore_n 2, 1) := dk_61 (dk_at dksX5_remember_1 16 rfl rfl)
theorem dX5_remember_41 : decode cX5_remember 41 = .ok (.iload_n 2, 1) := dk_28 (dk_at dksX5_remember_1 17 rfl rfl)
theorem dX5_remember_42 : decode cX5_remember 42 = .ok (.bipush 15, 2) := dk_16 15 (dk_at dksX5_remember_1 18 rfl rfl)
theorem dX5_remember_44 : decode cX5_remember 44 = .ok (.if_icmp .ge 23, 3) := dk_162 0 23 (dk_at dksX5_remember_1 20 rfl rfl)
theorem dX5_remember_47 : decode cX5_remember 47 = .ok (.aload_n 0, 1) := dk_42 (dk_at dksX5_remember_1 23 rfl rfl)
theorem dX5_remember_48 : decode cX5_remember 48 = .ok (.getfield 26, 3) := dk_180 0 26 (dk_at dksX5_remember_2 0 rfl rfl)
theorem dX5_remember_51 : decode cX5_remember 51 = .ok (.iload_n 2, 1) := dk_28 (dk_at dksX5_remember_2 3 rfl rfl)
theorem dX5_remember_52 : decode cX5_remember 52 = .ok (.aload_n 0, 1) := dk_42 (dk_at dksX5_remember_2 4 rfl rfl)
theorem dX5_remember_53 : decode cX5_remember 53 = .ok (.getfield 26, 3) := dk_180 0 26 (dk_at dksX5_remember_2 5 rfl rfl)
theorem dX5_remember_56 : decode cX5_remember 56 = .ok (.iload_n 2, 1) := dk_28 (dk_at dksX5_remember_2 8 rfl rfl)
theorem dX5_remember_57 : decode cX5_remember 57 = .ok (.iconst 1, 1) := dk_4 (dk_at dksX5_remember_2 9 rfl rfl)
theorem dX5_remember_58 : decode cX5_remember 58 = .ok (.iadd, 1) := dk_96 (dk_at dksX5_remember_2 10 rfl rfl)
theorem dX5_remember_59 : decode cX5_remember 59 = .ok (.iaload, 1) := dk_46 (dk_at dksX5_remember_2 11 rfl rfl)
theorem dX5_remember_60 : decode cX5_remember 60 = .ok (.iastore, 1) := dk_79 (dk_at dksX5_remember_2 12 rfl rfl)
theorem dX5_remember_61 : decode cX5_remember 61 = .ok (.iinc 2 1, 3) := dk_132 2 1 (dk_at dksX5_remember_2 13 rfl rfl)
theorem dX5_remember_64 : decode cX5_remember 64 = .ok (.goto (-23), 3) := dk_167 255 233 (dk_at dksX5_remember_2 16 rfl rfl)
theorem dX5_remember_67 : decode cX5_remember 67 = .ok (.aload_n 0, 1) := dk_42 (dk_at dksX5_remember_2 19 rfl rfl)
theorem dX5_remember_68 : decode cX5_remember 68 = .ok (.dup, 1) := dk_89 (dk_at dksX5_remember_2 20 rfl rfl)
theorem dX5_remember_69 : decode cX5_remember 69 = .ok (.getfield 165, 3) := dk_180 0 165 (dk_at dksX5_remember_2 21 rfl rfl)
theorem dX5_remember_72 : decode cX5_remember 72 = .ok (.iconst 1, 1) := dk_4 (dk_at dksX5_remember_3 0 rfl rfl)
theorem dX5_remember_73 : decode cX5_remember 73 = .ok (.isub, 1) := dk_100 (dk_at dksX5_remember_3 1 rfl rfl)
theorem dX5_remember_74 : decode cX5_remember 74 = .ok (.putfield 165, 3) := dk_181 0 165 (dk_at dksX5_remember_3 2 rfl rfl)
theorem dX5_remember_77 : decode cX5_remember 77 = .ok (.aload_n 0, 1) := dk_42 (dk_at dksX5_remember_3 5 rfl rfl)
theorem dX5_remember_78 : decode cX5_remember 78 = .ok (.aload_n 0, 1) := dk_42 (dk_at dksX5_remember_3 6 rfl rfl)
theorem dX5_remember_79 : decode cX5_remember 79 = .ok (.getfield 165, 3) := dk_180 0 165 (dk_at dksX5_remember_3 7 rfl rfl)
theorem dX5_remember_82 : decode cX5_remember 82 = .ok (.invokevirtual 172, 3) := dk_182 0 172 (dk_at dksX5_remember_3 10 rfl rfl)
theorem dX5_remember_85 : decode cX5_remember 85 = .ok (.aload_n 0, 1) := dk_42 (dk_at dksX5_remember_3 13 rfl rfl)
theorem dX5_remember_86 : decode cX5_remember 86 = .ok (.getfield 26, 3) := dk_180 0 26 (dk_at dksX5_remember_3 14 rfl rfl)
theorem dX5_remember_89 : decode cX5_remember 89 = .ok (.aload_n 0, 1) := dk_42 (dk_at dksX5_remember_3 17 rfl rfl)
theorem dX5_remember_90 : decode cX5_remember 90 = .ok (.getfield 165, 3) := dk_180 0 165 (dk_at dksX5_remember_3 18 rfl rfl)
theorem dX5_remember_93 : decode cX5_remember 93 = .ok (.iload_n 1, 1) := dk_27 (dk_at dksX5_remember_3 21 rfl rfl)
theorem dX5_remember_94 : decode cX5_remember 94 = .ok (.iastore, 1) := dk_79 (dk_at dksX5_remember_3 22 rfl rfl)
theorem dX5_remember_95 : decode cX5_remember 95 = .ok (.aload_n 0, 1) := dk_42 (dk_at dksX5_remember_3 23 rfl rfl)
theorem dX5_remember_96 : decode cX5_remember 96 = .ok (.dup, 1) := dk_89 (dk_at dksX5_remember_4 0 rfl rfl)
theorem dX5_remember_97 : decode cX5_remember 97 = .ok (.getfield 165, 3) := dk_180 0 165 (dk_at dksX5_remember_4 1 rfl rfl)
theorem dX5_remember_100 : decode cX5_remember 100 = .ok (.iconst 1, 1) := dk_4 (dk_at dksX5_remember_4 4 rfl rfl)
theorem dX5_remember_101 : decode cX5_remember 101 = .ok (.iadd, 1) := dk_96 (dk_at dksX5_remember_4 5 rfl rfl)
theorem dX5_remember_102 : decode cX5_remember 102 = .ok (.putfield 165, 3) := dk_181 0 165 (dk_at dksX5_remember_4 6 rfl rfl)
theorem dX5_remember_105 : decode cX5_remember 105 = .ok (.return_, 1) := dk_177 (dk_at dksX5_remember_4 9 rfl rfl)
abbrev cX5_keepAll : ByteArray := prog_22_method_10_code
def yX5_keepAll : MethodName := ⟨RX5, "keepAll", "(I)V"⟩
def dkwX5_keepAll_1 : List UInt8 := [96, 46, 79, 132, 2, 1, 167, 255, 228, 177]
abbrev dktX5_keepAll_1 : List UInt8 := dkwX5_keepAll_1 ++ []
def dkwX5_keepAll_0 : List UInt8 := [3, 61, 28, 16, 21, 162, 0, 28, 42, 180, 0, 23, 16, 21, 27, 104, 28, 96, 42, 180, 0, 13, 8, 28]
abbrev dktX5_keepAll_0 : List UInt8 := dkwX5_keepAll_0 ++ dktX5_keepAll_1
theorem dksX5_keepAll_0 : cX5_keepAll.data.toList.drop 0 = dktX5_keepAll_0 := by decide +kernel
theorem dksX5_keepAll_1 : cX5_keepAll.data.toList.drop 24 = dktX5_keepAll_1 := dk_seg dksX5_keepAll_0 24 rfl rfl
theorem dX5_keepAll_0 : decode cX5_keepAll 0 = .ok (.iconst 0, 1) := dk_3 (dk_at dksX5_keepAll_0 0 rfl rfl)
theorem dX5_keepAll_1 : decode cX5_keepAll 1 = .ok (.istore_n 2, 1) := dk_61 (dk_at dksX5_keepAll_0 1 rfl rfl)
theorem dX5_keepAll_2 : decode cX5_keepAll 2 = .ok (.iload_n 2, 1) := dk_28 (dk_at dksX5_keepAll_0 2 rfl rfl)
theorem dX5_keepAll_3 : decode cX5_keepAll 3 = .ok (.bipush 21, 2) := dk_16 21 (dk_at dksX5_keepAll_0 3 rfl rfl)
theorem dX5_keepAll_5 : decode cX5_keepAll 5 = .ok (.if_icmp .ge 28, 3) := dk_162 0 28 (dk_at dksX5_keepAll_0 5 rfl rfl)
theorem dX5_keepAll_8 : decode cX5_keepAll 8 = .ok (.aload_n 0, 1) := dk_42 (dk_at dksX5_keepAll_0 8 rfl rfl)
theorem dX5_keepAll_9 : decode cX5_keepAll 9 = .ok (.getfield 23, 3) := dk_180 0 23 (dk_at dksX5_keepAll_0 9 rfl rfl)
theorem dX5_keepAll_12 : decode cX5_keepAll 12 = .ok (.bipush 21, 2) := dk_16 21 (dk_at dksX5_keepAll_0 12 rfl rfl)
theorem dX5_keepAll_14 : decode cX5_keepAll 14 = .ok (.iload_n 1, 1) := dk_27 (dk_at dksX5_keepAll_0 14 rfl rfl)
theorem dX5_keepAll_15 : decode cX5_keepAll 15 = .ok (.imul, 1) := dk_104 (dk_at dksX5_keepAll_0 15 rfl rfl)
theorem dX5_keepAll_16 : decode cX5_keepAll 16 = .ok (.iload_n 2, 1) := dk_28 (dk_at dksX5_keepAll_0 16 rfl rfl)
theorem dX5_keepAll_17 : decode cX5_keepAll 17 = .ok (.iadd, 1) := dk_96 (dk_at dksX5_keepAll_0 17 rfl rfl)
theorem dX5_keepAll_18 : decode cX5_keepAll 18 = .ok (.aload_n 0, 1) := dk_42 (dk_at dksX5_keepAll_0 18 rfl rfl)
theorem dX5_keepAll_19 : decode cX5_keepAll 19 = .ok (.getfield 13, 3) := dk_180 0 13 (dk_at dksX5_keepAll_0 19 rfl rfl)
theorem dX5_keepAll_22 : decode cX5_keepAll 22 = .ok (.iconst 5, 1) := dk_8 (dk_at dksX5_keepAll_0 22 rfl rfl)
theorem dX5_keepAll_23 : decode cX5_keepAll 23 = .ok (.iload_n 2, 1) := dk_28 (dk_at dksX5_keepAll_0 23 rfl rfl)
theorem dX5_keepAll_24 : decode cX5_keepAll 24 = .ok (.iadd, 1) := dk_96 (dk_at dksX5_keepAll_1 0 rfl rfl)
theorem dX5_keepAll_25 : decode cX5_keepAll 25 = .ok (.iaload, 1) := dk_46 (dk_at dksX5_keepAll_1 1 rfl rfl)
theorem dX5_keepAll_26 : decode cX5_keepAll 26 = .ok (.iastore, 1) := dk_79 (dk_at dksX5_keepAll_1 2 rfl rfl)
theorem dX5_keepAll_27 : decode cX5_keepAll 27 = .ok (.iinc 2 1, 3) := dk_132 2 1 (dk_at dksX5_keepAll_1 3 rfl rfl)
theorem dX5_keepAll_30 : decode cX5_keepAll 30 = .ok (.goto (-28), 3) := dk_167 255 228 (dk_at dksX5_keepAll_1 6 rfl rfl)
theorem dX5_keepAll_33 : decode cX5_keepAll 33 = .ok (.return_, 1) := dk_177 (dk_at dksX5_keepAll_1 9 rfl rfl)
abbrev cX5_goAlong : ByteArray := prog_22_method_73_code
def yX5_goAlong : MethodName := ⟨RX5, "goAlong", "(II)V"⟩
def dkwX5_goAlong_1 : List UInt8 := [180, 0, 13, 16, 22, 27, 96, 28, 79, 177]
abbrev dktX5_goAlong_1 : List UInt8 := dkwX5_goAlong_1 ++ []
def dkwX5_goAlong_0 : List UInt8 := [42, 180, 0, 13, 16, 18, 27, 96, 42, 28, 42, 180, 0, 13, 16, 18, 27, 96, 46, 182, 1, 174, 79, 42]
abbrev dktX5_goAlong_0 : List UInt8 := dkwX5_goAlong_0 ++ dktX5_goAlong_1
theorem dksX5_goAlong_0 : cX5_goAlong.data.toList.drop 0 = dktX5_goAlong_0 := by decide +kernel
theorem dksX5_goAlong_1 : cX5_goAlong.data.toList.drop 24 = dktX5_goAlong_1 := dk_seg dksX5_goAlong_0 24 rfl rfl
theorem dX5_goAlong_0 : decode cX5_goAlong 0 = .ok (.aload_n 0, 1) := dk_42 (dk_at dksX5_goAlong_0 0 rfl rfl)
theorem dX5_goAlong_1 : decode cX5_goAlong 1 = .ok (.getfield 13, 3) := dk_180 0 13 (dk_at dksX5_goAlong_0 1 rfl rfl)
theorem dX5_goAlong_4 : decode cX5_goAlong 4 = .ok (.bipush 18, 2) := dk_16 18 (dk_at dksX5_goAlong_0 4 rfl rfl)
theorem dX5_goAlong_6 : decode cX5_goAlong 6 = .ok (.iload_n 1, 1) := dk_27 (dk_at dksX5_goAlong_0 6 rfl rfl)
theorem dX5_goAlong_7 : decode cX5_goAlong 7 = .ok (.iadd, 1) := dk_96 (dk_at dksX5_goAlong_0 7 rfl rfl)
theorem dX5_goAlong_8 : decode cX5_goAlong 8 = .ok (.aload_n 0, 1) := dk_42 (dk_at dksX5_goAlong_0 8 rfl rfl)
theorem dX5_goAlong_9 : decode cX5_goAlong 9 = .ok (.iload_n 2, 1) := dk_28 (dk_at dksX5_goAlong_0 9 rfl rfl)
theorem dX5_goAlong_10 : decode cX5_goAlong 10 = .ok (.aload_n 0, 1) := dk_42 (dk_at dksX5_goAlong_0 10 rfl rfl)
theorem dX5_goAlong_11 : decode cX5_goAlong 11 = .ok (.getfield 13, 3) := dk_180 0 13 (dk_at dksX5_goAlong_0 11 rfl rfl)
theorem dX5_goAlong_14 : decode cX5_goAlong 14 = .ok (.bipush 18, 2) := dk_16 18 (dk_at dksX5_goAlong_0 14 rfl rfl)
theorem dX5_goAlong_16 : decode cX5_goAlong 16 = .ok (.iload_n 1, 1) := dk_27 (dk_at dksX5_goAlong_0 16 rfl rfl)
theorem dX5_goAlong_17 : decode cX5_goAlong 17 = .ok (.iadd, 1) := dk_96 (dk_at dksX5_goAlong_0 17 rfl rfl)
theorem dX5_goAlong_18 : decode cX5_goAlong 18 = .ok (.iaload, 1) := dk_46 (dk_at dksX5_goAlong_0 18 rfl rfl)
theorem dX5_goAlong_19 : decode cX5_goAlong 19 = .ok (.invokevirtual 430, 3) := dk_182 1 174 (dk_at dksX5_goAlong_0 19 rfl rfl)
theorem dX5_goAlong_22 : decode cX5_goAlong 22 = .ok (.iastore, 1) := dk_79 (dk_at dksX5_goAlong_0 22 rfl rfl)
theorem dX5_goAlong_23 : decode cX5_goAlong 23 = .ok (.aload_n 0, 1) := dk_42 (dk_at dksX5_goAlong_0 23 rfl rfl)
theorem dX5_goAlong_24 : decode cX5_goAlong 24 = .ok (.getfield 13, 3) := dk_180 0 13 (dk_at dksX5_goAlong_1 0 rfl rfl)
theorem dX5_goAlong_27 : decode cX5_goAlong 27 = .ok (.bipush 22, 2) := dk_16 22 (dk_at dksX5_goAlong_1 3 rfl rfl)
theorem dX5_goAlong_29 : decode cX5_goAlong 29 = .ok (.iload_n 1, 1) := dk_27 (dk_at dksX5_goAlong_1 5 rfl rfl)
theorem dX5_goAlong_30 : decode cX5_goAlong 30 = .ok (.iadd, 1) := dk_96 (dk_at dksX5_goAlong_1 6 rfl rfl)
theorem dX5_goAlong_31 : decode cX5_goAlong 31 = .ok (.iload_n 2, 1) := dk_28 (dk_at dksX5_goAlong_1 7 rfl rfl)
theorem dX5_goAlong_32 : decode cX5_goAlong 32 = .ok (.iastore, 1) := dk_79 (dk_at dksX5_goAlong_1 8 rfl rfl)
theorem dX5_goAlong_33 : decode cX5_goAlong 33 = .ok (.return_, 1) := dk_177 (dk_at dksX5_goAlong_1 9 rfl rfl)
abbrev cX5_across : ByteArray := prog_22_method_20_code
def yX5_across : MethodName := ⟨RX5, "across", "(II)I"⟩
def dkwX5_across_1 : List UInt8 := [167, 0, 12, 42, 180, 0, 13, 16, 26, 27, 96, 46, 172]
abbrev dktX5_across_1 : List UInt8 := dkwX5_across_1 ++ []
def dkwX5_across_0 : List UInt8 := [42, 180, 0, 13, 16, 26, 27, 96, 46, 28, 160, 0, 15, 42, 180, 0, 13, 16, 36, 27, 96, 46]
abbrev dktX5_across_0 : List UInt8 := dkwX5_across_0 ++ dktX5_across_1
theorem dksX5_across_0 : cX5_across.data.toList.drop 0 = dktX5_across_0 := by decide +kernel
theorem dksX5_across_1 : cX5_across.data.toList.drop 22 = dktX5_across_1 := dk_seg dksX5_across_0 22 rfl rfl
theorem dX5_across_0 : decode cX5_across 0 = .ok (.aload_n 0, 1) := dk_42 (dk_at dksX5_across_0 0 rfl rfl)
theorem dX5_across_1 : decode cX5_across 1 = .ok (.getfield 13, 3) := dk_180 0 13 (dk_at dksX5_across_0 1 rfl rfl)
theorem dX5_across_4 : decode cX5_across 4 = .ok (.bipush 26, 2) := dk_16 26 (dk_at dksX5_across_0 4 rfl rfl)
theorem dX5_across_6 : decode cX5_across 6 = .ok (.iload_n 1, 1) := dk_27 (dk_at dksX5_across_0 6 rfl rfl)
theorem dX5_across_7 : decode cX5_across 7 = .ok (.iadd, 1) := dk_96 (dk_at dksX5_across_0 7 rfl rfl)
theorem dX5_across_8 : decode cX5_across 8 = .ok (.iaload, 1) := dk_46 (dk_at dksX5_across_0 8 rfl rfl)
theorem dX5_across_9 : decode cX5_across 9 = .ok (.iload_n 2, 1) := dk_28 (dk_at dksX5_across_0 9 rfl rfl)
theorem dX5_across_10 : decode cX5_across 10 = .ok (.if_icmp .ne 15, 3) := dk_160 0 15 (dk_at dksX5_across_0 10 rfl rfl)
theorem dX5_across_13 : decode cX5_across 13 = .ok (.aload_n 0, 1) := dk_42 (dk_at dksX5_across_0 13 rfl rfl)
theorem dX5_across_14 : decode cX5_across 14 = .ok (.getfield 13, 3) := dk_180 0 13 (dk_at dksX5_across_0 14 rfl rfl)
theorem dX5_across_17 : decode cX5_across 17 = .ok (.bipush 36, 2) := dk_16 36 (dk_at dksX5_across_0 17 rfl rfl)
theorem dX5_across_19 : decode cX5_across 19 = .ok (.iload_n 1, 1) := dk_27 (dk_at dksX5_across_0 19 rfl rfl)
theorem dX5_across_20 : decode cX5_across 20 = .ok (.iadd, 1) := dk_96 (dk_at dksX5_across_0 20 rfl rfl)
theorem dX5_across_21 : decode cX5_across 21 = .ok (.iaload, 1) := dk_46 (dk_at dksX5_across_0 21 rfl rfl)
theorem dX5_across_22 : decode cX5_across 22 = .ok (.goto 12, 3) := dk_167 0 12 (dk_at dksX5_across_1 0 rfl rfl)
theorem dX5_across_25 : decode cX5_across 25 = .ok (.aload_n 0, 1) := dk_42 (dk_at dksX5_across_1 3 rfl rfl)
theorem dX5_across_26 : decode cX5_across 26 = .ok (.getfield 13, 3) := dk_180 0 13 (dk_at dksX5_across_1 4 rfl rfl)
theorem dX5_across_29 : decode cX5_across 29 = .ok (.bipush 26, 2) := dk_16 26 (dk_at dksX5_across_1 7 rfl rfl)
theorem dX5_across_31 : decode cX5_across 31 = .ok (.iload_n 1, 1) := dk_27 (dk_at dksX5_across_1 9 rfl rfl)
theorem dX5_across_32 : decode cX5_across 32 = .ok (.iadd, 1) := dk_96 (dk_at dksX5_across_1 10 rfl rfl)
theorem dX5_across_33 : decode cX5_across 33 = .ok (.iaload, 1) := dk_46 (dk_at dksX5_across_1 11 rfl rfl)
theorem dX5_across_34 : decode cX5_across 34 = .ok (.ireturn, 1) := dk_172 (dk_at dksX5_across_1 12 rfl rfl)
abbrev cX5_cry : ByteArray := prog_22_method_78_code
def yX5_cry : MethodName := ⟨RX5, "cry", "(I)I"⟩
def dkwX5_cry_0 : List UInt8 := [42, 3, 181, 0, 159, 42, 42, 27, 182, 1, 189, 182, 0, 168, 172]
abbrev dktX5_cry_0 : List UInt8 := dkwX5_cry_0 ++ []
theorem dksX5_cry_0 : cX5_cry.data.toList.drop 0 = dktX5_cry_0 := by decide +kernel
theorem dX5_cry_0 : decode cX5_cry 0 = .ok (.aload_n 0, 1) := dk_42 (dk_at dksX5_cry_0 0 rfl rfl)
theorem dX5_cry_1 : decode cX5_cry 1 = .ok (.iconst 0, 1) := dk_3 (dk_at dksX5_cry_0 1 rfl rfl)
theorem dX5_cry_2 : decode cX5_cry 2 = .ok (.putfield 159, 3) := dk_181 0 159 (dk_at dksX5_cry_0 2 rfl rfl)
theorem dX5_cry_5 : decode cX5_cry 5 = .ok (.aload_n 0, 1) := dk_42 (dk_at dksX5_cry_0 5 rfl rfl)
theorem dX5_cry_6 : decode cX5_cry 6 = .ok (.aload_n 0, 1) := dk_42 (dk_at dksX5_cry_0 6 rfl rfl)
theorem dX5_cry_7 : decode cX5_cry 7 = .ok (.iload_n 1, 1) := dk_27 (dk_at dksX5_cry_0 7 rfl rfl)
theorem dX5_cry_8 : decode cX5_cry 8 = .ok (.invokevirtual 445, 3) := dk_182 1 189 (dk_at dksX5_cry_0 8 rfl rfl)
theorem dX5_cry_11 : decode cX5_cry 11 = .ok (.invokevirtual 168, 3) := dk_182 0 168 (dk_at dksX5_cry_0 11 rfl rfl)
theorem dX5_cry_14 : decode cX5_cry 14 = .ok (.ireturn, 1) := dk_172 (dk_at dksX5_cry_0 14 rfl rfl)
abbrev cX5_cryNow : ByteArray := prog_22_method_77_code
def yX5_cryNow : MethodName := ⟨RX5, "cryNow", "(I)I"⟩
def dkwX5_cryNow_1 : List UInt8 := [16, 253, 172, 42, 4, 182, 1, 177, 42, 27, 182, 1, 186, 172]
abbrev dktX5_cryNow_1 : List UInt8 := dkwX5_cryNow_1 ++ []
def dkwX5_cryNow_0 : List UInt8 := [42, 27, 182, 0, 203, 154, 0, 6, 16, 254, 172, 42, 180, 0, 13, 16, 22, 27, 96, 46, 2, 160, 0, 6]
abbrev dktX5_cryNow_0 : List UInt8 := dkwX5_cryNow_0 ++ dktX5_cryNow_1
theorem dksX5_cryNow_0 : cX5_cryNow.data.toList.drop 0 = dktX5_cryNow_0 := by decide +kernel
theorem dksX5_cryNow_1 : cX5_cryNow.data.toList.drop 24 = dktX5_cryNow_1 := dk_seg dksX5_cryNow_0 24 rfl rfl
theorem dX5_cryNow_0 : decode cX5_cryNow 0 = .ok (.aload_n 0, 1) := dk_42 (dk_at dksX5_cryNow_0 0 rfl rfl)
theorem dX5_cryNow_1 : decode cX5_cryNow 1 = .ok (.iload_n 1, 1) := dk_27 (dk_at dksX5_cryNow_0 1 rfl rfl)
theorem dX5_cryNow_2 : decode cX5_cryNow 2 = .ok (.invokevirtual 203, 3) := dk_182 0 203 (dk_at dksX5_cryNow_0 2 rfl rfl)
theorem dX5_cryNow_5 : decode cX5_cryNow 5 = .ok (.ifCond .ne 6, 3) := dk_154 0 6 (dk_at dksX5_cryNow_0 5 rfl rfl)
theorem dX5_cryNow_8 : decode cX5_cryNow 8 = .ok (.bipush (-2), 2) := dk_16 254 (dk_at dksX5_cryNow_0 8 rfl rfl)
theorem dX5_cryNow_10 : decode cX5_cryNow 10 = .ok (.ireturn, 1) := dk_172 (dk_at dksX5_cryNow_0 10 rfl rfl)
theorem dX5_cryNow_11 : decode cX5_cryNow 11 = .ok (.aload_n 0, 1) := dk_42 (dk_at dksX5_cryNow_0 11 rfl rfl)
theorem dX5_cryNow_12 : decode cX5_cryNow 12 = .ok (.getfield 13, 3) := dk_180 0 13 (dk_at dksX5_cryNow_0 12 rfl rfl)
theorem dX5_cryNow_15 : decode cX5_cryNow 15 = .ok (.bipush 22, 2) := dk_16 22 (dk_at dksX5_cryNow_0 15 rfl rfl)
theorem dX5_cryNow_17 : decode cX5_cryNow 17 = .ok (.iload_n 1, 1) := dk_27 (dk_at dksX5_cryNow_0 17 rfl rfl)
theorem dX5_cryNow_18 : decode cX5_cryNow 18 = .ok (.iadd, 1) := dk_96 (dk_at dksX5_cryNow_0 18 rfl rfl)
theorem dX5_cryNow_19 : decode cX5_cryNow 19 = .ok (.iaload, 1) := dk_46 (dk_at dksX5_cryNow_0 19 rfl rfl)
theorem dX5_cryNow_20 : decode cX5_cryNow 20 = .ok (.iconst (-1), 1) := dk_2 (dk_at dksX5_cryNow_0 20 rfl rfl)
theorem dX5_cryNow_21 : decode cX5_cryNow 21 = .ok (.if_icmp .ne 6, 3) := dk_160 0 6 (dk_at dksX5_cryNow_0 21 rfl rfl)
theorem dX5_cryNow_24 : decode cX5_cryNow 24 = .ok (.bipush (-3), 2) := dk_16 253 (dk_at dksX5_cryNow_1 0 rfl rfl)
theorem dX5_cryNow_26 : decode cX5_cryNow 26 = .ok (.ireturn, 1) := dk_172 (dk_at dksX5_cryNow_1 2 rfl rfl)
theorem dX5_cryNow_27 : decode cX5_cryNow 27 = .ok (.aload_n 0, 1) := dk_42 (dk_at dksX5_cryNow_1 3 rfl rfl)
theorem dX5_cryNow_28 : decode cX5_cryNow 28 = .ok (.iconst 1, 1) := dk_4 (dk_at dksX5_cryNow_1 4 rfl rfl)
theorem dX5_cryNow_29 : decode cX5_cryNow 29 = .ok (.invokevirtual 433, 3) := dk_182 1 177 (dk_at dksX5_cryNow_1 5 rfl rfl)
theorem dX5_cryNow_32 : decode cX5_cryNow 32 = .ok (.aload_n 0, 1) := dk_42 (dk_at dksX5_cryNow_1 8 rfl rfl)
theorem dX5_cryNow_33 : decode cX5_cryNow 33 = .ok (.iload_n 1, 1) := dk_27 (dk_at dksX5_cryNow_1 9 rfl rfl)
theorem dX5_cryNow_34 : decode cX5_cryNow 34 = .ok (.invokevirtual 442, 3) := dk_182 1 186 (dk_at dksX5_cryNow_1 10 rfl rfl)
theorem dX5_cryNow_37 : decode cX5_cryNow 37 = .ok (.ireturn, 1) := dk_172 (dk_at dksX5_cryNow_1 13 rfl rfl)
abbrev cX5_cryIt : ByteArray := prog_22_method_76_code
def yX5_cryIt : MethodName := ⟨RX5, "cryIt", "(I)I"⟩
def dkwX5_cryIt_1 : List UInt8 := [79, 42, 180, 0, 13, 16, 8, 28, 96, 46, 172]
abbrev dktX5_cryIt_1 : List UInt8 := dkwX5_cryIt_1 ++ []
def dkwX5_cryIt_0 : List UInt8 := [42, 180, 0, 13, 16, 22, 27, 96, 46, 61, 42, 180, 0, 13, 16, 8, 28, 96, 42, 27, 28, 182, 0, 212]
abbrev dktX5_cryIt_0 : List UInt8 := dkwX5_cryIt_0 ++ dktX5_cryIt_1
theorem dksX5_cryIt_0 : cX5_cryIt.data.toList.drop 0 = dktX5_cryIt_0 := by decide +kernel
theorem dksX5_cryIt_1 : cX5_cryIt.data.toList.drop 24 = dktX5_cryIt_1 := dk_seg dksX5_cryIt_0 24 rfl rfl
theorem dX5_cryIt_0 : decode cX5_cryIt 0 = .ok (.aload_n 0, 1) := dk_42 (dk_at dksX5_cryIt_0 0 rfl rfl)
theorem dX5_cryIt_1 : decode cX5_cryIt 1 = .ok (.getfield 13, 3) := dk_180 0 13 (dk_at dksX5_cryIt_0 1 rfl rfl)
theorem dX5_cryIt_4 : decode cX5_cryIt 4 = .ok (.bipush 22, 2) := dk_16 22 (dk_at dksX5_cryIt_0 4 rfl rfl)
theorem dX5_cryIt_6 : decode cX5_cryIt 6 = .ok (.iload_n 1, 1) := dk_27 (dk_at dksX5_cryIt_0 6 rfl rfl)
theorem dX5_cryIt_7 : decode cX5_cryIt 7 = .ok (.iadd, 1) := dk_96 (dk_at dksX5_cryIt_0 7 rfl rfl)
theorem dX5_cryIt_8 : decode cX5_cryIt 8 = .ok (.iaload, 1) := dk_46 (dk_at dksX5_cryIt_0 8 rfl rfl)
theorem dX5_cryIt_9 : decode cX5_cryIt 9 = .ok (.istore_n 2, 1) := dk_61 (dk_at dksX5_cryIt_0 9 rfl rfl)
theorem dX5_cryIt_10 : decode cX5_cryIt 10 = .ok (.aload_n 0, 1) := dk_42 (dk_at dksX5_cryIt_0 10 rfl rfl)
theorem dX5_cryIt_11 : decode cX5_cryIt 11 = .ok (.getfield 13, 3) := dk_180 0 13 (dk_at dksX5_cryIt_0 11 rfl rfl)
theorem dX5_cryIt_14 : decode cX5_cryIt 14 = .ok (.bipush 8, 2) := dk_16 8 (dk_at dksX5_cryIt_0 14 rfl rfl)
theorem dX5_cryIt_16 : decode cX5_cryIt 16 = .ok (.iload_n 2, 1) := dk_28 (dk_at dksX5_cryIt_0 16 rfl rfl)
theorem dX5_cryIt_17 : decode cX5_cryIt 17 = .ok (.iadd, 1) := dk_96 (dk_at dksX5_cryIt_0 17 rfl rfl)
theorem dX5_cryIt_18 : decode cX5_cryIt 18 = .ok (.aload_n 0, 1) := dk_42 (dk_at dksX5_cryIt_0 18 rfl rfl)
theorem dX5_cryIt_19 : decode cX5_cryIt 19 = .ok (.iload_n 1, 1) := dk_27 (dk_at dksX5_cryIt_0 19 rfl rfl)
theorem dX5_cryIt_20 : decode cX5_cryIt 20 = .ok (.iload_n 2, 1) := dk_28 (dk_at dksX5_cryIt_0 20 rfl rfl)
theorem dX5_cryIt_21 : decode cX5_cryIt 21 = .ok (.invokevirtual 212, 3) := dk_182 0 212 (dk_at dksX5_cryIt_0 21 rfl rfl)
theorem dX5_cryIt_24 : decode cX5_cryIt 24 = .ok (.iastore, 1) := dk_79 (dk_at dksX5_cryIt_1 0 rfl rfl)
theorem dX5_cryIt_25 : decode cX5_cryIt 25 = .ok (.aload_n 0, 1) := dk_42 (dk_at dksX5_cryIt_1 1 rfl rfl)
theorem dX5_cryIt_26 : decode cX5_cryIt 26 = .ok (.getfield 13, 3) := dk_180 0 13 (dk_at dksX5_cryIt_1 2 rfl rfl)
theorem dX5_cryIt_29 : decode cX5_cryIt 29 = .ok (.bipush 8, 2) := dk_16 8 (dk_at dksX5_cryIt_1 5 rfl rfl)
theorem dX5_cryIt_31 : decode cX5_cryIt 31 = .ok (.iload_n 2, 1) := dk_28 (dk_at dksX5_cryIt_1 7 rfl rfl)
theorem dX5_cryIt_32 : decode cX5_cryIt 32 = .ok (.iadd, 1) := dk_96 (dk_at dksX5_cryIt_1 8 rfl rfl)
theorem dX5_cryIt_33 : decode cX5_cryIt 33 = .ok (.iaload, 1) := dk_46 (dk_at dksX5_cryIt_1 9 rfl rfl)
theorem dX5_cryIt_34 : decode cX5_cryIt 34 = .ok (.ireturn, 1) := dk_172 (dk_at dksX5_cryIt_1 10 rfl rfl)
abbrev cX5_lead : ByteArray := prog_22_method_80_code
def yX5_lead : MethodName := ⟨RX5, "lead", "(II)I"⟩
def dkwX5_lead_0 : List UInt8 := [42, 3, 181, 0, 159, 42, 42, 27, 28, 182, 1, 192, 182, 0, 168, 172]
abbrev dktX5_lead_0 : List UInt8 := dkwX5_lead_0 ++ []
theorem dksX5_lead_0 : cX5_lead.data.toList.drop 0 = dktX5_lead_0 := by decide +kernel
theorem dX5_lead_0 : decode cX5_lead 0 = .ok (.aload_n 0, 1) := dk_42 (dk_at dksX5_lead_0 0 rfl rfl)
theorem dX5_lead_1 : decode cX5_lead 1 = .ok (.iconst 0, 1) := dk_3 (dk_at dksX5_lead_0 1 rfl rfl)
theorem dX5_lead_2 : decode cX5_lead 2 = .ok (.putfield 159, 3) := dk_181 0 159 (dk_at dksX5_lead_0 2 rfl rfl)
theorem dX5_lead_5 : decode cX5_lead 5 = .ok (.aload_n 0, 1) := dk_42 (dk_at dksX5_lead_0 5 rfl rfl)
theorem dX5_lead_6 : decode cX5_lead 6 = .ok (.aload_n 0, 1) := dk_42 (dk_at dksX5_lead_0 6 rfl rfl)
theorem dX5_lead_7 : decode cX5_lead 7 = .ok (.iload_n 1, 1) := dk_27 (dk_at dksX5_lead_0 7 rfl rfl)
theorem dX5_lead_8 : decode cX5_lead 8 = .ok (.iload_n 2, 1) := dk_28 (dk_at dksX5_lead_0 8 rfl rfl)
theorem dX5_lead_9 : decode cX5_lead 9 = .ok (.invokevirtual 448, 3) := dk_182 1 192 (dk_at dksX5_lead_0 9 rfl rfl)
theorem dX5_lead_12 : decode cX5_lead 12 = .ok (.invokevirtual 168, 3) := dk_182 0 168 (dk_at dksX5_lead_0 12 rfl rfl)
theorem dX5_lead_15 : decode cX5_lead 15 = .ok (.ireturn, 1) := dk_172 (dk_at dksX5_lead_0 15 rfl rfl)
abbrev cX5_leadNow : ByteArray := prog_22_method_79_code
def yX5_leadNow : MethodName := ⟨RX5, "leadNow", "(II)I"⟩
def dkwX5_leadNow_2 : List UInt8 := [16, 18, 27, 96, 28, 79, 29, 172]
abbrev dktX5_leadNow_2 : List UInt8 := dkwX5_leadNow_2 ++ []
def dkwX5_leadNow_1 : List UInt8 := [16, 18, 27, 96, 46, 62, 29, 28, 160, 0, 6, 16, 253, 172, 42, 5, 182, 1, 177, 42, 180, 0, 13]
abbrev dktX5_leadNow_1 : List UInt8 := dkwX5_leadNow_1 ++ dktX5_leadNow_2
def dkwX5_leadNow_0 : List UInt8 := [28, 184, 0, 188, 154, 0, 5, 2, 172, 42, 27, 182, 0, 203, 154, 0, 6, 16, 254, 172, 42, 180, 0, 13]
abbrev dktX5_leadNow_0 : List UInt8 := dkwX5_leadNow_0 ++ dktX5_leadNow_1
theorem dksX5_leadNow_0 : cX5_leadNow.data.toList.drop 0 = dktX5_leadNow_0 := by decide +kernel
theorem dksX5_leadNow_1 : cX5_leadNow.data.toList.drop 24 = dktX5_leadNow_1 := dk_seg dksX5_leadNow_0 24 rfl rfl
theorem dksX5_leadNow_2 : cX5_leadNow.data.toList.drop 47 = dktX5_leadNow_2 := dk_seg dksX5_leadNow_1 23 rfl rfl
theorem dX5_leadNow_0 : decode cX5_leadNow 0 = .ok (.iload_n 2, 1) := dk_28 (dk_at dksX5_leadNow_0 0 rfl rfl)
theorem dX5_leadNow_1 : decode cX5_leadNow 1 = .ok (.invokestatic 188, 3) := dk_184 0 188 (dk_at dksX5_leadNow_0 1 rfl rfl)
theorem dX5_leadNow_4 : decode cX5_leadNow 4 = .ok (.ifCond .ne 5, 3) := dk_154 0 5 (dk_at dksX5_leadNow_0 4 rfl rfl)
theorem dX5_leadNow_7 : decode cX5_leadNow 7 = .ok (.iconst (-1), 1) := dk_2 (dk_at dksX5_leadNow_0 7 rfl rfl)
theorem dX5_leadNow_8 : decode cX5_leadNow 8 = .ok (.ireturn, 1) := dk_172 (dk_at dksX5_leadNow_0 8 rfl rfl)
theorem dX5_leadNow_9 : decode cX5_leadNow 9 = .ok (.aload_n 0, 1) := dk_42 (dk_at dksX5_leadNow_0 9 rfl rfl)
theorem dX5_leadNow_10 : decode cX5_leadNow 10 = .ok (.iload_n 1, 1) := dk_27 (dk_at dksX5_leadNow_0 10 rfl rfl)
theorem dX5_leadNow_11 : decode cX5_leadNow 11 = .ok (.invokevirtual 203, 3) := dk_182 0 203 (dk_at dksX5_leadNow_0 11 rfl rfl)
theorem dX5_leadNow_14 : decode cX5_leadNow 14 = .ok (.ifCond .ne 6, 3) := dk_154 0 6 (dk_at dksX5_leadNow_0 14 rfl rfl)
theorem dX5_leadNow_17 : decode cX5_leadNow 17 = .ok (.bipush (-2), 2) := dk_16 254 (dk_at dksX5_leadNow_0 17 rfl rfl)
theorem dX5_leadNow_19 : decode cX5_leadNow 19 = .ok (.ireturn, 1) := dk_172 (dk_at dksX5_leadNow_0 19 rfl rfl)
theorem dX5_leadNow_20 : decode cX5_leadNow 20 = .ok (.aload_n 0, 1) := dk_42 (dk_at dksX5_leadNow_0 20 rfl rfl)
theorem dX5_leadNow_21 : decode cX5_leadNow 21 = .ok (.getfield 13, 3) := dk_180 0 13 (dk_at dksX5_leadNow_0 21 rfl rfl)
theorem dX5_leadNow_24 : decode cX5_leadNow 24 = .ok (.bipush 18, 2) := dk_16 18 (dk_at dksX5_leadNow_1 0 rfl rfl)
theorem dX5_leadNow_26 : decode cX5_leadNow 26 = .ok (.iload_n 1, 1) := dk_27 (dk_at dksX5_leadNow_1 2 rfl rfl)
theorem dX5_leadNow_27 : decode cX5_leadNow 27 = .ok (.iadd, 1) := dk_96 (dk_at dksX5_leadNow_1 3 rfl rfl)
theorem dX5_leadNow_28 : decode cX5_leadNow 28 = .ok (.iaload, 1) := dk_46 (dk_at dksX5_leadNow_1 4 rfl rfl)
theorem dX5_leadNow_29 : decode cX5_leadNow 29 = .ok (.istore_n 3, 1) := dk_62 (dk_at dksX5_leadNow_1 5 rfl rfl)
theorem dX5_leadNow_30 : decode cX5_leadNow 30 = .ok (.iload_n 3, 1) := dk_29 (dk_at dksX5_leadNow_1 6 rfl rfl)
theorem dX5_leadNow_31 : decode cX5_leadNow 31 = .ok (.iload_n 2, 1) := dk_28 (dk_at dksX5_leadNow_1 7 rfl rfl)
theorem dX5_leadNow_32 : decode cX5_leadNow 32 = .ok (.if_icmp .ne 6, 3) := dk_160 0 6 (dk_at dksX5_leadNow_1 8 rfl rfl)
theorem dX5_leadNow_35 : decode cX5_leadNow 35 = .ok (.bipush (-3), 2) := dk_16 253 (dk_at dksX5_leadNow_1 11 rfl rfl)
theorem dX5_leadNow_37 : decode cX5_leadNow 37 = .ok (.ireturn, 1) := dk_172 (dk_at dksX5_leadNow_1 13 rfl rfl)
theorem dX5_leadNow_38 : decode cX5_leadNow 38 = .ok (.aload_n 0, 1) := dk_42 (dk_at dksX5_leadNow_1 14 rfl rfl)
theorem dX5_leadNow_39 : decode cX5_leadNow 39 = .ok (.iconst 2, 1) := dk_5 (dk_at dksX5_leadNow_1 15 rfl rfl)
theorem dX5_leadNow_40 : decode cX5_leadNow 40 = .ok (.invokevirtual 433, 3) := dk_182 1 177 (dk_at dksX5_leadNow_1 16 rfl rfl)
theorem dX5_leadNow_43 : decode cX5_leadNow 43 = .ok (.aload_n 0, 1) := dk_42 (dk_at dksX5_leadNow_1 19 rfl rfl)
theorem dX5_leadNow_44 : decode cX5_leadNow 44 = .ok (.getfield 13, 3) := dk_180 0 13 (dk_at dksX5_leadNow_1 20 rfl rfl)
theorem dX5_leadNow_47 : decode cX5_leadNow 47 = .ok (.bipush 18, 2) := dk_16 18 (dk_at dksX5_leadNow_2 0 rfl rfl)
theorem dX5_leadNow_49 : decode cX5_leadNow 49 = .ok (.iload_n 1, 1) := dk_27 (dk_at dksX5_leadNow_2 2 rfl rfl)
theorem dX5_leadNow_50 : decode cX5_leadNow 50 = .ok (.iadd, 1) := dk_96 (dk_at dksX5_leadNow_2 3 rfl rfl)
theorem dX5_leadNow_51 : decode cX5_leadNow 51 = .ok (.iload_n 2, 1) := dk_28 (dk_at dksX5_leadNow_2 4 rfl rfl)
theorem dX5_leadNow_52 : decode cX5_leadNow 52 = .ok (.iastore, 1) := dk_79 (dk_at dksX5_leadNow_2 5 rfl rfl)
theorem dX5_leadNow_53 : decode cX5_leadNow 53 = .ok (.iload_n 3, 1) := dk_29 (dk_at dksX5_leadNow_2 6 rfl rfl)
theorem dX5_leadNow_54 : decode cX5_leadNow 54 = .ok (.ireturn, 1) := dk_172 (dk_at dksX5_leadNow_2 7 rfl rfl)
abbrev cX5_pass : ByteArray := prog_22_method_83_code
def yX5_pass : MethodName := ⟨RX5, "pass", "()I"⟩
def dkwX5_pass_0 : List UInt8 := [42, 3, 181, 0, 159, 42, 42, 182, 1, 198, 182, 0, 168, 172]
abbrev dktX5_pass_0 : List UInt8 := dkwX5_pass_0 ++ []
theorem dksX5_pass_0 : cX5_pass.data.toList.drop 0 = dktX5_pass_0 := by decide +kernel
theorem dX5_pass_0 : decode cX5_pass 0 = .ok (.aload_n 0, 1) := dk_42 (dk_at dksX5_pass_0 0 rfl rfl)
theorem dX5_pass_1 : decode cX5_pass 1 = .ok (.iconst 0, 1) := dk_3 (dk_at dksX5_pass_0 1 rfl rfl)
theorem dX5_pass_2 : decode cX5_pass 2 = .ok (.putfield 159, 3) := dk_181 0 159 (dk_at dksX5_pass_0 2 rfl rfl)
theorem dX5_pass_5 : decode cX5_pass 5 = .ok (.aload_n 0, 1) := dk_42 (dk_at dksX5_pass_0 5 rfl rfl)
theorem dX5_pass_6 : decode cX5_pass 6 = .ok (.aload_n 0, 1) := dk_42 (dk_at dksX5_pass_0 6 rfl rfl)
theorem dX5_pass_7 : decode cX5_pass 7 = .ok (.invokevirtual 454, 3) := dk_182 1 198 (dk_at dksX5_pass_0 7 rfl rfl)
theorem dX5_pass_10 : decode cX5_pass 10 = .ok (.invokevirtual 168, 3) := dk_182 0 168 (dk_at dksX5_pass_0 10 rfl rfl)
theorem dX5_pass_13 : decode cX5_pass 13 = .ok (.ireturn, 1) := dk_172 (dk_at dksX5_pass_0 13 rfl rfl)
abbrev cX5_passNow : ByteArray := prog_22_method_82_code
def yX5_passNow : MethodName := ⟨RX5, "passNow", "()I"⟩
def dkwX5_passNow_1 : List UInt8 := [172]
abbrev dktX5_passNow_1 : List UInt8 := dkwX5_passNow_1 ++ []
def dkwX5_passNow_0 : List UInt8 := [42, 180, 0, 13, 8, 46, 17, 3, 231, 160, 0, 6, 16, 253, 172, 42, 6, 182, 1, 177, 42, 182, 1, 195]
abbrev dktX5_passNow_0 : List UInt8 := dkwX5_passNow_0 ++ dktX5_passNow_1
theorem dksX5_passNow_0 : cX5_passNow.data.toList.drop 0 = dktX5_passNow_0 := by decide +kernel
theorem dksX5_passNow_1 : cX5_passNow.data.toList.drop 24 = dktX5_passNow_1 := dk_seg dksX5_passNow_0 24 rfl rfl
theorem dX5_passNow_0 : decode cX5_passNow 0 = .ok (.aload_n 0, 1) := dk_42 (dk_at dksX5_passNow_0 0 rfl rfl)
theorem dX5_passNow_1 : decode cX5_passNow 1 = .ok (.getfield 13, 3) := dk_180 0 13 (dk_at dksX5_passNow_0 1 rfl rfl)
theorem dX5_passNow_4 : decode cX5_passNow 4 = .ok (.iconst 5, 1) := dk_8 (dk_at dksX5_passNow_0 4 rfl rfl)
theorem dX5_passNow_5 : decode cX5_passNow 5 = .ok (.iaload, 1) := dk_46 (dk_at dksX5_passNow_0 5 rfl rfl)
theorem dX5_passNow_6 : decode cX5_passNow 6 = .ok (.sipush 999, 3) := dk_17 3 231 (dk_at dksX5_passNow_0 6 rfl rfl)
theorem dX5_passNow_9 : decode cX5_passNow 9 = .ok (.if_icmp .ne 6, 3) := dk_160 0 6 (dk_at dksX5_passNow_0 9 rfl rfl)
theorem dX5_passNow_12 : decode cX5_passNow 12 = .ok (.bipush (-3), 2) := dk_16 253 (dk_at dksX5_passNow_0 12 rfl rfl)
theorem dX5_passNow_14 : decode cX5_passNow 14 = .ok (.ireturn, 1) := dk_172 (dk_at dksX5_passNow_0 14 rfl rfl)
theorem dX5_passNow_15 : decode cX5_passNow 15 = .ok (.aload_n 0, 1) := dk_42 (dk_at dksX5_passNow_0 15 rfl rfl)
theorem dX5_passNow_16 : decode cX5_passNow 16 = .ok (.iconst 3, 1) := dk_6 (dk_at dksX5_passNow_0 16 rfl rfl)
theorem dX5_passNow_17 : decode cX5_passNow 17 = .ok (.invokevirtual 433, 3) := dk_182 1 177 (dk_at dksX5_passNow_0 17 rfl rfl)
theorem dX5_passNow_20 : decode cX5_passNow 20 = .ok (.aload_n 0, 1) := dk_42 (dk_at dksX5_passNow_0 20 rfl rfl)
theorem dX5_passNow_21 : decode cX5_passNow 21 = .ok (.invokevirtual 451, 3) := dk_182 1 195 (dk_at dksX5_passNow_0 21 rfl rfl)
theorem dX5_passNow_24 : decode cX5_passNow 24 = .ok (.ireturn, 1) := dk_172 (dk_at dksX5_passNow_1 0 rfl rfl)
abbrev cX5_passIt : ByteArray := prog_22_method_81_code
def yX5_passIt : MethodName := ⟨RX5, "passIt", "()I"⟩
def dkwX5_passIt_3 : List UInt8 := [167, 255, 219, 42, 180, 0, 13, 8, 92, 46, 4, 96, 79, 27, 172]
abbrev dktX5_passIt_3 : List UInt8 := dkwX5_passIt_3 ++ []
def dkwX5_passIt_2 : List UInt8 := [46, 2, 159, 0, 17, 42, 28, 42, 180, 0, 112, 28, 46, 182, 1, 180, 132, 1, 1, 132, 2, 1]
abbrev dktX5_passIt_2 : List UInt8 := dkwX5_passIt_2 ++ dktX5_passIt_3
def dkwX5_passIt_1 : List UInt8 := [79, 132, 2, 1, 167, 255, 232, 3, 61, 28, 42, 180, 0, 13, 4, 46, 162, 0, 33, 42, 180, 0, 112, 28]
abbrev dktX5_passIt_1 : List UInt8 := dkwX5_passIt_1 ++ dktX5_passIt_2
def dkwX5_passIt_0 : List UInt8 := [3, 60, 3, 61, 28, 42, 180, 0, 13, 4, 46, 162, 0, 20, 42, 180, 0, 112, 28, 42, 28, 182, 0, 209]
abbrev dktX5_passIt_0 : List UInt8 := dkwX5_passIt_0 ++ dktX5_passIt_1
theorem dksX5_passIt_0 : cX5_passIt.data.toList.drop 0 = dktX5_passIt_0 := by decide +kernel
theorem dksX5_passIt_1 : cX5_passIt.data.toList.drop 24 = dktX5_passIt_1 := dk_seg dksX5_passIt_0 24 rfl rfl
theorem dksX5_passIt_2 : cX5_passIt.data.toList.drop 48 = dktX5_passIt_2 := dk_seg dksX5_passIt_1 24 rfl rfl
theorem dksX5_passIt_3 : cX5_passIt.data.toList.drop 70 = dktX5_passIt_3 := dk_seg dksX5_passIt_2 22 rfl rfl
theorem dX5_passIt_0 : decode cX5_passIt 0 = .ok (.iconst 0, 1) := dk_3 (dk_at dksX5_passIt_0 0 rfl rfl)
theorem dX5_passIt_1 : decode cX5_passIt 1 = .ok (.istore_n 1, 1) := dk_60 (dk_at dksX5_passIt_0 1 rfl rfl)
theorem dX5_passIt_2 : decode cX5_passIt 2 = .ok (.iconst 0, 1) := dk_3 (dk_at dksX5_passIt_0 2 rfl rfl)
theorem dX5_passIt_3 : decode cX5_passIt 3 = .ok (.istore_n 2, 1) := dk_61 (dk_at dksX5_passIt_0 3 rfl rfl)
theorem dX5_passIt_4 : decode cX5_passIt 4 = .ok (.iload_n 2, 1) := dk_28 (dk_at dksX5_passIt_0 4 rfl rfl)
theorem dX5_passIt_5 : decode cX5_passIt 5 = .ok (.aload_n 0, 1) := dk_42 (dk_at dksX5_passIt_0 5 rfl rfl)
theorem dX5_passIt_6 : decode cX5_passIt 6 = .ok (.getfield 13, 3) := dk_180 0 13 (dk_at dksX5_passIt_0 6 rfl rfl)
theorem dX5_passIt_9 : decode cX5_passIt 9 = .ok (.iconst 1, 1) := dk_4 (dk_at dksX5_passIt_0 9 rfl rfl)
theorem dX5_passIt_10 : decode cX5_passIt 10 = .ok (.iaload, 1) := dk_46 (dk_at dksX5_passIt_0 10 rfl rfl)
theorem dX5_passIt_11 : decode cX5_passIt 11 = .ok (.if_icmp .ge 20, 3) := dk_162 0 20 (dk_at dksX5_passIt_0 11 rfl rfl)
theorem dX5_passIt_14 : decode cX5_passIt 14 = .ok (.aload_n 0, 1) := dk_42 (dk_at dksX5_passIt_0 14 rfl rfl)
theorem dX5_passIt_15 : decode cX5_passIt 15 = .ok (.getfield 112, 3) := dk_180 0 112 (dk_at dksX5_passIt_0 15 rfl rfl)
theorem dX5_passIt_18 : decode cX5_passIt 18 = .ok (.iload_n 2, 1) := dk_28 (dk_at dksX5_passIt_0 18 rfl rfl)
theorem dX5_passIt_19 : decode cX5_passIt 19 = .ok (.aload_n 0, 1) := dk_42 (dk_at dksX5_passIt_0 19 rfl rfl)
theorem dX5_passIt_20 : decode cX5_passIt 20 = .ok (.iload_n 2, 1) := dk_28 (dk_at dksX5_passIt_0 20 rfl rfl)
theorem dX5_passIt_21 : decode cX5_passIt 21 = .ok (.invokevirtual 209, 3) := dk_182 0 209 (dk_at dksX5_passIt_0 21 rfl rfl)
theorem dX5_passIt_24 : decode cX5_passIt 24 = .ok (.iastore, 1) := dk_79 (dk_at dksX5_passIt_1 0 rfl rfl)
theorem dX5_passIt_25 : decode cX5_passIt 25 = .ok (.iinc 2 1, 3) := dk_132 2 1 (dk_at dksX5_passIt_1 1 rfl rfl)
theorem dX5_passIt_28 : decode cX5_passIt 28 = .ok (.goto (-24), 3) := dk_167 255 232 (dk_at dksX5_passIt_1 4 rfl rfl)
theorem dX5_passIt_31 : decode cX5_passIt 31 = .ok (.iconst 0, 1) := dk_3 (dk_at dksX5_passIt_1 7 rfl rfl)
theorem dX5_passIt_32 : decode cX5_passIt 32 = .ok (.istore_n 2, 1) := dk_61 (dk_at dksX5_passIt_1 8 rfl rfl)
theorem dX5_passIt_33 : decode cX5_passIt 33 = .ok (.iload_n 2, 1) := dk_28 (dk_at dksX5_passIt_1 9 rfl rfl)
theorem dX5_passIt_34 : decode cX5_passIt 34 = .ok (.aload_n 0, 1) := dk_42 (dk_at dksX5_passIt_1 10 rfl rfl)
theorem dX5_passIt_35 : decode cX5_passIt 35 = .ok (.getfield 13, 3) := dk_180 0 13 (dk_at dksX5_passIt_1 11 rfl rfl)
theorem dX5_passIt_38 : decode cX5_passIt 38 = .ok (.iconst 1, 1) := dk_4 (dk_at dksX5_passIt_1 14 rfl rfl)
theorem dX5_passIt_39 : decode cX5_passIt 39 = .ok (.iaload, 1) := dk_46 (dk_at dksX5_passIt_1 15 rfl rfl)
theorem dX5_passIt_40 : decode cX5_passIt 40 = .ok (.if_icmp .ge 33, 3) := dk_162 0 33 (dk_at dksX5_passIt_1 16 rfl rfl)
theorem dX5_passIt_43 : decode cX5_passIt 43 = .ok (.aload_n 0, 1) := dk_42 (dk_at dksX5_passIt_1 19 rfl rfl)
theorem dX5_passIt_44 : decode cX5_passIt 44 = .ok (.getfield 112, 3) := dk_180 0 112 (dk_at dksX5_passIt_1 20 rfl rfl)
theorem dX5_passIt_47 : decode cX5_passIt 47 = .ok (.iload_n 2, 1) := dk_28 (dk_at dksX5_passIt_1 23 rfl rfl)
theorem dX5_passIt_48 : decode cX5_passIt 48 = .ok (.iaload, 1) := dk_46 (dk_at dksX5_passIt_2 0 rfl rfl)
theorem dX5_passIt_49 : decode cX5_passIt 49 = .ok (.iconst (-1), 1) := dk_2 (dk_at dksX5_passIt_2 1 rfl rfl)
theorem dX5_passIt_50 : decode cX5_passIt 50 = .ok (.if_icmp .eq 17, 3) := dk_159 0 17 (dk_at dksX5_passIt_2 2 rfl rfl)
theorem dX5_passIt_53 : decode cX5_passIt 53 = .ok (.aload_n 0, 1) := dk_42 (dk_at dksX5_passIt_2 5 rfl rfl)
theorem dX5_passIt_54 : decode cX5_passIt 54 = .ok (.iload_n 2, 1) := dk_28 (dk_at dksX5_passIt_2 6 rfl rfl)
theorem dX5_passIt_55 : decode cX5_passIt 55 = .ok (.aload_n 0, 1) := dk_42 (dk_at dksX5_passIt_2 7 rfl rfl)
theorem dX5_passIt_56 : decode cX5_passIt 56 = .ok (.getfield 112, 3) := dk_180 0 112 (dk_at dksX5_passIt_2 8 rfl rfl)
theorem dX5_passIt_59 : decode cX5_passIt 59 = .ok (.iload_n 2, 1) := dk_28 (dk_at dksX5_passIt_2 11 rfl rfl)
theorem dX5_passIt_60 : decode cX5_passIt 60 = .ok (.iaload, 1) := dk_46 (dk_at dksX5_passIt_2 12 rfl rfl)
theorem dX5_passIt_61 : decode cX5_passIt 61 = .ok (.invokevirtual 436, 3) := dk_182 1 180 (dk_at dksX5_passIt_2 13 rfl rfl)
theorem dX5_passIt_64 : decode cX5_passIt 64 = .ok (.iinc 1 1, 3) := dk_132 1 1 (dk_at dksX5_passIt_2 16 rfl rfl)
theorem dX5_passIt_67 : decode cX5_passIt 67 = .ok (.iinc 2 1, 3) := dk_132 2 1 (dk_at dksX5_passIt_2 19 rfl rfl)
theorem dX5_passIt_70 : decode cX5_passIt 70 = .ok (.goto (-37), 3) := dk_167 255 219 (dk_at dksX5_passIt_3 0 rfl rfl)
theorem dX5_passIt_73 : decode cX5_passIt 73 = .ok (.aload_n 0, 1) := dk_42 (dk_at dksX5_passIt_3 3 rfl rfl)
theorem dX5_passIt_74 : decode cX5_passIt 74 = .ok (.getfield 13, 3) := dk_180 0 13 (dk_at dksX5_passIt_3 4 rfl rfl)
theorem dX5_passIt_77 : decode cX5_passIt 77 = .ok (.iconst 5, 1) := dk_8 (dk_at dksX5_passIt_3 7 rfl rfl)
theorem dX5_passIt_78 : decode cX5_passIt 78 = .ok (.dup2, 1) := dk_92 (dk_at dksX5_passIt_3 8 rfl rfl)
theorem dX5_passIt_79 : decode cX5_passIt 79 = .ok (.iaload, 1) := dk_46 (dk_at dksX5_passIt_3 9 rfl rfl)
theorem dX5_passIt_80 : decode cX5_passIt 80 = .ok (.iconst 1, 1) := dk_4 (dk_at dksX5_passIt_3 10 rfl rfl)
theorem dX5_passIt_81 : decode cX5_passIt 81 = .ok (.iadd, 1) := dk_96 (dk_at dksX5_passIt_3 11 rfl rfl)
theorem dX5_passIt_82 : decode cX5_passIt 82 = .ok (.iastore, 1) := dk_79 (dk_at dksX5_passIt_3 12 rfl rfl)
theorem dX5_passIt_83 : decode cX5_passIt 83 = .ok (.iload_n 1, 1) := dk_27 (dk_at dksX5_passIt_3 13 rfl rfl)
theorem dX5_passIt_84 : decode cX5_passIt 84 = .ok (.ireturn, 1) := dk_172 (dk_at dksX5_passIt_3 14 rfl rfl)
abbrev cX5_where : ByteArray := prog_22_method_84_code
def yX5_where : MethodName := ⟨RX5, "where", "(II)I"⟩
def dkwX5_where_2 : List UInt8 := [132, 3, 1, 167, 255, 243, 42, 180, 0, 13, 16, 18, 27, 96, 46, 62, 42, 16, 16, 182, 0, 176, 29, 172]
abbrev dktX5_where_2 : List UInt8 := dkwX5_where_2 ++ []
def dkwX5_where_1 : List UInt8 := [154, 0, 5, 2, 172, 42, 16, 16, 182, 0, 172, 3, 62, 29, 28, 162, 0, 14, 42, 182, 1, 195, 87]
abbrev dktX5_where_1 : List UInt8 := dkwX5_where_1 ++ dktX5_where_2
def dkwX5_where_0 : List UInt8 := [42, 3, 181, 0, 159, 42, 27, 182, 0, 203, 153, 0, 15, 28, 133, 9, 20, 1, 201, 184, 0, 179]
abbrev dktX5_where_0 : List UInt8 := dkwX5_where_0 ++ dktX5_where_1
theorem dksX5_where_0 : cX5_where.data.toList.drop 0 = dktX5_where_0 := by decide +kernel
theorem dksX5_where_1 : cX5_where.data.toList.drop 22 = dktX5_where_1 := dk_seg dksX5_where_0 22 rfl rfl
theorem dksX5_where_2 : cX5_where.data.toList.drop 45 = dktX5_where_2 := dk_seg dksX5_where_1 23 rfl rfl
theorem dX5_where_0 : decode cX5_where 0 = .ok (.aload_n 0, 1) := dk_42 (dk_at dksX5_where_0 0 rfl rfl)
theorem dX5_where_1 : decode cX5_where 1 = .ok (.iconst 0, 1) := dk_3 (dk_at dksX5_where_0 1 rfl rfl)
theorem dX5_where_2 : decode cX5_where 2 = .ok (.putfield 159, 3) := dk_181 0 159 (dk_at dksX5_where_0 2 rfl rfl)
theorem dX5_where_5 : decode cX5_where 5 = .ok (.aload_n 0, 1) := dk_42 (dk_at dksX5_where_0 5 rfl rfl)
theorem dX5_where_6 : decode cX5_where 6 = .ok (.iload_n 1, 1) := dk_27 (dk_at dksX5_where_0 6 rfl rfl)
theorem dX5_where_7 : decode cX5_where 7 = .ok (.invokevirtual 203, 3) := dk_182 0 203 (dk_at dksX5_where_0 7 rfl rfl)
theorem dX5_where_10 : decode cX5_where 10 = .ok (.ifCond .eq 15, 3) := dk_153 0 15 (dk_at dksX5_where_0 10 rfl rfl)
theorem dX5_where_13 : decode cX5_where 13 = .ok (.iload_n 2, 1) := dk_28 (dk_at dksX5_where_0 13 rfl rfl)
theorem dX5_where_14 : decode cX5_where 14 = .ok (.i2l, 1) := dk_133 (dk_at dksX5_where_0 14 rfl rfl)
theorem dX5_where_15 : decode cX5_where 15 = .ok (.lconst 0, 1) := dk_9 (dk_at dksX5_where_0 15 rfl rfl)
theorem dX5_where_16 : decode cX5_where 16 = .ok (.ldc2_w 457, 3) := dk_20 1 201 (dk_at dksX5_where_0 16 rfl rfl)
theorem dX5_where_19 : decode cX5_where 19 = .ok (.invokestatic 179, 3) := dk_184 0 179 (dk_at dksX5_where_0 19 rfl rfl)
theorem dX5_where_22 : decode cX5_where 22 = .ok (.ifCond .ne 5, 3) := dk_154 0 5 (dk_at dksX5_where_1 0 rfl rfl)
theorem dX5_where_25 : decode cX5_where 25 = .ok (.iconst (-1), 1) := dk_2 (dk_at dksX5_where_1 3 rfl rfl)
theorem dX5_where_26 : decode cX5_where 26 = .ok (.ireturn, 1) := dk_172 (dk_at dksX5_where_1 4 rfl rfl)
theorem dX5_where_27 : decode cX5_where 27 = .ok (.aload_n 0, 1) := dk_42 (dk_at dksX5_where_1 5 rfl rfl)
theorem dX5_where_28 : decode cX5_where 28 = .ok (.bipush 16, 2) := dk_16 16 (dk_at dksX5_where_1 6 rfl rfl)
theorem dX5_where_30 : decode cX5_where 30 = .ok (.invokevirtual 172, 3) := dk_182 0 172 (dk_at dksX5_where_1 8 rfl rfl)
theorem dX5_where_33 : decode cX5_where 33 = .ok (.iconst 0, 1) := dk_3 (dk_at dksX5_where_1 11 rfl rfl)
theorem dX5_where_34 : decode cX5_where 34 = .ok (.istore_n 3, 1) := dk_62 (dk_at dksX5_where_1 12 rfl rfl)
theorem dX5_where_35 : decode cX5_where 35 = .ok (.iload_n 3, 1) := dk_29 (dk_at dksX5_where_1 13 rfl rfl)
theorem dX5_where_36 : decode cX5_where 36 = .ok (.iload_n 2, 1) := dk_28 (dk_at dksX5_where_1 14 rfl rfl)
theorem dX5_where_37 : decode cX5_where 37 = .ok (.if_icmp .ge 14, 3) := dk_162 0 14 (dk_at dksX5_where_1 15 rfl rfl)
theorem dX5_where_40 : decode cX5_where 40 = .ok (.aload_n 0, 1) := dk_42 (dk_at dksX5_where_1 18 rfl rfl)
theorem dX5_where_41 : decode cX5_where 41 = .ok (.invokevirtual 451, 3) := dk_182 1 195 (dk_at dksX5_where_1 19 rfl rfl)
theorem dX5_where_44 : decode cX5_where 44 = .ok (.pop, 1) := dk_87 (dk_at dksX5_where_1 22 rfl rfl)
theorem dX5_where_45 : decode cX5_where 45 = .ok (.iinc 3 1, 3) := dk_132 3 1 (dk_at dksX5_where_2 0 rfl rfl)
theorem dX5_where_48 : decode cX5_where 48 = .ok (.goto (-13), 3) := dk_167 255 243 (dk_at dksX5_where_2 3 rfl rfl)
theorem dX5_where_51 : decode cX5_where 51 = .ok (.aload_n 0, 1) := dk_42 (dk_at dksX5_where_2 6 rfl rfl)
theorem dX5_where_52 : decode cX5_where 52 = .ok (.getfield 13, 3) := dk_180 0 13 (dk_at dksX5_where_2 7 rfl rfl)
theorem dX5_where_55 : decode cX5_where 55 = .ok (.bipush 18, 2) := dk_16 18 (dk_at dksX5_where_2 10 rfl rfl)
theorem dX5_where_57 : decode cX5_where 57 = .ok (.iload_n 1, 1) := dk_27 (dk_at dksX5_where_2 12 rfl rfl)
theorem dX5_where_58 : decode cX5_where 58 = .ok (.iadd, 1) := dk_96 (dk_at dksX5_where_2 13 rfl rfl)
theorem dX5_where_59 : decode cX5_where 59 = .ok (.iaload, 1) := dk_46 (dk_at dksX5_where_2 14 rfl rfl)
theorem dX5_where_60 : decode cX5_where 60 = .ok (.istore_n 3, 1) := dk_62 (dk_at dksX5_where_2 15 rfl rfl)
theorem dX5_where_61 : decode cX5_where 61 = .ok (.aload_n 0, 1) := dk_42 (dk_at dksX5_where_2 16 rfl rfl)
theorem dX5_where_62 : decode cX5_where 62 = .ok (.bipush 16, 2) := dk_16 16 (dk_at dksX5_where_2 17 rfl rfl)
theorem dX5_where_64 : decode cX5_where 64 = .ok (.invokevirtual 176, 3) := dk_182 0 176 (dk_at dksX5_where_2 19 rfl rfl)
theorem dX5_where_67 : decode cX5_where 67 = .ok (.iload_n 3, 1) := dk_29 (dk_at dksX5_where_2 22 rfl rfl)
theorem dX5_where_68 : decode cX5_where 68 = .ok (.ireturn, 1) := dk_172 (dk_at dksX5_where_2 23 rfl rfl)
abbrev cX5_far : ByteArray := prog_22_method_87_code
def yX5_far : MethodName := ⟨RX5, "far", "(II)I"⟩
def dkwX5_far_2 : List UInt8 := [182, 1, 207, 172]
abbrev dktX5_far_2 : List UInt8 := dkwX5_far_2 ++ []
def dkwX5_far_1 : List UInt8 := [182, 1, 204, 42, 27, 28, 182, 1, 207, 19, 1, 203, 160, 0, 7, 2, 167, 0, 9, 42, 27, 28]
abbrev dktX5_far_1 : List UInt8 := dkwX5_far_1 ++ dktX5_far_2
def dkwX5_far_0 : List UInt8 := [42, 3, 181, 0, 159, 27, 184, 0, 188, 153, 0, 10, 28, 184, 0, 188, 154, 0, 5, 2, 172, 42]
abbrev dktX5_far_0 : List UInt8 := dkwX5_far_0 ++ dktX5_far_1
theorem dksX5_far_0 : cX5_far.data.toList.drop 0 = dktX5_far_0 := by decide +kernel
theorem dksX5_far_1 : cX5_far.data.toList.drop 22 = dktX5_far_1 := dk_seg dksX5_far_0 22 rfl rfl
theorem dksX5_far_2 : cX5_far.data.toList.drop 44 = dktX5_far_2 := dk_seg dksX5_far_1 22 rfl rfl
theorem dX5_far_0 : decode cX5_far 0 = .ok (.aload_n 0, 1) := dk_42 (dk_at dksX5_far_0 0 rfl rfl)
theorem dX5_far_1 : decode cX5_far 1 = .ok (.iconst 0, 1) := dk_3 (dk_at dksX5_far_0 1 rfl rfl)
theorem dX5_far_2 : decode cX5_far 2 = .ok (.putfield 159, 3) := dk_181 0 159 (dk_at dksX5_far_0 2 rfl rfl)
theorem dX5_far_5 : decode cX5_far 5 = .ok (.iload_n 1, 1) := dk_27 (dk_at dksX5_far_0 5 rfl rfl)
theorem dX5_far_6 : decode cX5_far 6 = .ok (.invokestatic 188, 3) := dk_184 0 188 (dk_at dksX5_far_0 6 rfl rfl)
theorem dX5_far_9 : decode cX5_far 9 = .ok (.ifCond .eq 10, 3) := dk_153 0 10 (dk_at dksX5_far_0 9 rfl rfl)
theorem dX5_far_12 : decode cX5_far 12 = .ok (.iload_n 2, 1) := dk_28 (dk_at dksX5_far_0 12 rfl rfl)
theorem dX5_far_13 : decode cX5_far 13 = .ok (.invokestatic 188, 3) := dk_184 0 188 (dk_at dksX5_far_0 13 rfl rfl)
theorem dX5_far_16 : decode cX5_far 16 = .ok (.ifCond .ne 5, 3) := dk_154 0 5 (dk_at dksX5_far_0 16 rfl rfl)
theorem dX5_far_19 : decode cX5_far 19 = .ok (.iconst (-1), 1) := dk_2 (dk_at dksX5_far_0 19 rfl rfl)
theorem dX5_far_20 : decode cX5_far 20 = .ok (.ireturn, 1) := dk_172 (dk_at dksX5_far_0 20 rfl rfl)
theorem dX5_far_21 : decode cX5_far 21 = .ok (.aload_n 0, 1) := dk_42 (dk_at dksX5_far_0 21 rfl rfl)
theorem dX5_far_22 : decode cX5_far 22 = .ok (.invokevirtual 460, 3) := dk_182 1 204 (dk_at dksX5_far_1 0 rfl rfl)
theorem dX5_far_25 : decode cX5_far 25 = .ok (.aload_n 0, 1) := dk_42 (dk_at dksX5_far_1 3 rfl rfl)
theorem dX5_far_26 : decode cX5_far 26 = .ok (.iload_n 1, 1) := dk_27 (dk_at dksX5_far_1 4 rfl rfl)
theorem dX5_far_27 : decode cX5_far 27 = .ok (.iload_n 2, 1) := dk_28 (dk_at dksX5_far_1 5 rfl rfl)
theorem dX5_far_28 : decode cX5_far 28 = .ok (.invokevirtual 463, 3) := dk_182 1 207 (dk_at dksX5_far_1 6 rfl rfl)
theorem dX5_far_31 : decode cX5_far 31 = .ok (.ldc_w 459, 3) := dk_19 1 203 (dk_at dksX5_far_1 9 rfl rfl)
theorem dX5_far_34 : decode cX5_far 34 = .ok (.if_icmp .ne 7, 3) := dk_160 0 7 (dk_at dksX5_far_1 12 rfl rfl)
theorem dX5_far_37 : decode cX5_far 37 = .ok (.iconst (-1), 1) := dk_2 (dk_at dksX5_far_1 15 rfl rfl)
theorem dX5_far_38 : decode cX5_far 38 = .ok (.goto 9, 3) := dk_167 0 9 (dk_at dksX5_far_1 16 rfl rfl)
theorem dX5_far_41 : decode cX5_far 41 = .ok (.aload_n 0, 1) := dk_42 (dk_at dksX5_far_1 19 rfl rfl)
theorem dX5_far_42 : decode cX5_far 42 = .ok (.iload_n 1, 1) := dk_27 (dk_at dksX5_far_1 20 rfl rfl)
theorem dX5_far_43 : decode cX5_far 43 = .ok (.iload_n 2, 1) := dk_28 (dk_at dksX5_far_1 21 rfl rfl)
theorem dX5_far_44 : decode cX5_far 44 = .ok (.invokevirtual 463, 3) := dk_182 1 207 (dk_at dksX5_far_2 0 rfl rfl)
theorem dX5_far_47 : decode cX5_far 47 = .ok (.ireturn, 1) := dk_172 (dk_at dksX5_far_2 3 rfl rfl)
abbrev cX5_layFar : ByteArray := prog_22_method_85_code
def yX5_layFar : MethodName := ⟨RX5, "layFar", "()V"⟩
def dkwX5_layFar_11 : List UInt8 := [132, 1, 1, 167, 255, 151, 177]
abbrev dktX5_layFar_11 : List UInt8 := dkwX5_layFar_11 ++ []
def dkwX5_layFar_10 : List UInt8 := [180, 0, 115, 16, 8, 28, 104, 29, 96, 46, 79, 132, 3, 1, 167, 255, 179, 132, 2, 1, 167, 255, 165]
abbrev dktX5_layFar_10 : List UInt8 := dkwX5_layFar_10 ++ dktX5_layFar_11
def dkwX5_layFar_9 : List UInt8 := [21, 4, 42, 180, 0, 115, 16, 8, 28, 104, 29, 96, 46, 162, 0, 8, 21, 4, 167, 0, 14, 42]
abbrev dktX5_layFar_9 : List UInt8 := dkwX5_layFar_9 ++ dktX5_layFar_10
def dkwX5_layFar_8 : List UInt8 := [180, 0, 115, 16, 8, 27, 104, 29, 96, 46, 96, 54, 4, 42, 180, 0, 115, 16, 8, 28, 104, 29, 96]
abbrev dktX5_layFar_8 : List UInt8 := dkwX5_layFar_8 ++ dktX5_layFar_9
def dkwX5_layFar_7 : List UInt8 := [162, 0, 91, 3, 62, 29, 16, 8, 162, 0, 77, 42, 180, 0, 115, 16, 8, 28, 104, 27, 96, 46, 42]
abbrev dktX5_layFar_7 : List UInt8 := dkwX5_layFar_7 ++ dktX5_layFar_8
def dkwX5_layFar_6 : List UInt8 := [29, 96, 46, 79, 132, 1, 1, 167, 255, 147, 3, 60, 27, 16, 8, 162, 0, 105, 3, 61, 28, 16, 8]
abbrev dktX5_layFar_6 : List UInt8 := dkwX5_layFar_6 ++ dktX5_layFar_7
def dkwX5_layFar_5 : List UInt8 := [28, 104, 29, 96, 46, 79, 42, 180, 0, 115, 16, 8, 29, 104, 28, 96, 42, 180, 0, 115, 16, 8, 28, 104]
abbrev dktX5_layFar_5 : List UInt8 := dkwX5_layFar_5 ++ dktX5_layFar_6
def dkwX5_layFar_4 : List UInt8 := [180, 0, 115, 16, 8, 28, 104, 29, 96, 46, 162, 0, 8, 21, 4, 167, 0, 14, 42, 180, 0, 115, 16, 8]
abbrev dktX5_layFar_4 : List UInt8 := dkwX5_layFar_4 ++ dktX5_layFar_5
def dkwX5_layFar_3 : List UInt8 := [180, 0, 13, 16, 46, 27, 96, 46, 54, 4, 42, 180, 0, 115, 16, 8, 28, 104, 29, 96, 21, 4, 42]
abbrev dktX5_layFar_3 : List UInt8 := dkwX5_layFar_3 ++ dktX5_layFar_4
def dkwX5_layFar_2 : List UInt8 := [162, 0, 105, 42, 180, 0, 13, 16, 26, 27, 96, 46, 61, 42, 180, 0, 13, 16, 36, 27, 96, 46, 62, 42]
abbrev dktX5_layFar_2 : List UInt8 := dkwX5_layFar_2 ++ dktX5_layFar_3
def dkwX5_layFar_1 : List UInt8 := [3, 167, 0, 6, 19, 1, 203, 79, 132, 1, 1, 167, 255, 223, 3, 60, 27, 42, 180, 0, 13, 3, 46]
abbrev dktX5_layFar_1 : List UInt8 := dkwX5_layFar_1 ++ dktX5_layFar_2
def dkwX5_layFar_0 : List UInt8 := [3, 60, 27, 16, 64, 162, 0, 33, 42, 180, 0, 115, 27, 27, 16, 8, 108, 27, 16, 8, 112, 160, 0, 7]
abbrev dktX5_layFar_0 : List UInt8 := dkwX5_layFar_0 ++ dktX5_layFar_1
theorem dksX5_layFar_0 : cX5_layFar.data.toList.drop 0 = dktX5_layFar_0 := by decide +kernel
theorem dksX5_layFar_1 : cX5_layFar.data.toList.drop 24 = dktX5_layFar_1 := dk_seg dksX5_layFar_0 24 rfl rfl
theorem dksX5_layFar_2 : cX5_layFar.data.toList.drop 47 = dktX5_layFar_2 := dk_seg dksX5_layFar_1 23 rfl rfl
theorem dksX5_layFar_3 : cX5_layFar.data.toList.drop 71 = dktX5_layFar_3 := dk_seg dksX5_layFar_2 24 rfl rfl
theorem dksX5_layFar_4 : cX5_layFar.data.toList.drop 94 = dktX5_layFar_4 := dk_seg dksX5_layFar_3 23 rfl rfl
theorem dksX5_layFar_5 : cX5_layFar.data.toList.drop 118 = dktX5_layFar_5 := dk_seg dksX5_layFar_4 24 rfl rfl
theorem dksX5_layFar_6 : cX5_layFar.data.toList.drop 142 = dktX5_layFar_6 := dk_seg dksX5_layFar_5 24 rfl rfl
theorem dksX5_layFar_7 : cX5_layFar.data.toList.drop 165 = dktX5_layFar_7 := dk_seg dksX5_layFar_6 23 rfl rfl
theorem dksX5_layFar_8 : cX5_layFar.data.toList.drop 188 = dktX5_layFar_8 := dk_seg dksX5_layFar_7 23 rfl rfl
theorem dksX5_layFar_9 : cX5_layFar.data.toList.drop 211 = dktX5_layFar_9 := dk_seg dksX5_layFar_8 23 rfl rfl
theorem dksX5_layFar_10 : cX5_layFar.data.toList.drop 233 = dktX5_layFar_10 := dk_seg dksX5_layFar_9 22 rfl rfl
theorem dksX5_layFar_11 : cX5_layFar.data.toList.drop 256 = dktX5_layFar_11 := dk_seg dksX5_layFar_10 23 rfl rfl
theorem dX5_layFar_0 : decode cX5_layFar 0 = .ok (.iconst 0, 1) := dk_3 (dk_at dksX5_layFar_0 0 rfl rfl)
theorem dX5_layFar_1 : decode cX5_layFar 1 = .ok (.istore_n 1, 1) := dk_60 (dk_at dksX5_layFar_0 1 rfl rfl)
theorem dX5_layFar_2 : decode cX5_layFar 2 = .ok (.iload_n 1, 1) := dk_27 (dk_at dksX5_layFar_0 2 rfl rfl)
theorem dX5_layFar_3 : decode cX5_layFar 3 = .ok (.bipush 64, 2) := dk_16 64 (dk_at dksX5_layFar_0 3 rfl rfl)
theorem dX5_layFar_5 : decode cX5_layFar 5 = .ok (.if_icmp .ge 33, 3) := dk_162 0 33 (dk_at dksX5_layFar_0 5 rfl rfl)
theorem dX5_layFar_8 : decode cX5_layFar 8 = .ok (.aload_n 0, 1) := dk_42 (dk_at dksX5_layFar_0 8 rfl rfl)
theorem dX5_layFar_9 : decode cX5_layFar 9 = .ok (.getfield 115, 3) := dk_180 0 115 (dk_at dksX5_layFar_0 9 rfl rfl)
theorem dX5_layFar_12 : decode cX5_layFar 12 = .ok (.iload_n 1, 1) := dk_27 (dk_at dksX5_layFar_0 12 rfl rfl)
theorem dX5_layFar_13 : decode cX5_layFar 13 = .ok (.iload_n 1, 1) := dk_27 (dk_at dksX5_layFar_0 13 rfl rfl)
theorem dX5_layFar_14 : decode cX5_layFar 14 = .ok (.bipush 8, 2) := dk_16 8 (dk_at dksX5_layFar_0 14 rfl rfl)
theorem dX5_layFar_16 : decode cX5_layFar 16 = .ok (.idiv, 1) := dk_108 (dk_at dksX5_layFar_0 16 rfl rfl)
theorem dX5_layFar_17 : decode cX5_layFar 17 = .ok (.iload_n 1, 1) := dk_27 (dk_at dksX5_layFar_0 17 rfl rfl)
theorem dX5_layFar_18 : decode cX5_layFar 18 = .ok (.bipush 8, 2) := dk_16 8 (dk_at dksX5_layFar_0 18 rfl rfl)
theorem dX5_layFar_20 : decode cX5_layFar 20 = .ok (.irem, 1) := dk_112 (dk_at dksX5_layFar_0 20 rfl rfl)
theorem dX5_layFar_21 : decode cX5_layFar 21 = .ok (.if_icmp .ne 7, 3) := dk_160 0 7 (dk_at dksX5_layFar_0 21 rfl rfl)
theorem dX5_layFar_24 : decode cX5_layFar 24 = .ok (.iconst 0, 1) := dk_3 (dk_at dksX5_layFar_1 0 rfl rfl)
theorem dX5_layFar_25 : decode cX5_layFar 25 = .ok (.goto 6, 3) := dk_167 0 6 (dk_at dksX5_layFar_1 1 rfl rfl)
theorem dX5_layFar_28 : decode cX5_layFar 28 = .ok (.ldc_w 459, 3) := dk_19 1 203 (dk_at dksX5_layFar_1 4 rfl rfl)
theorem dX5_layFar_31 : decode cX5_layFar 31 = .ok (.iastore, 1) := dk_79 (dk_at dksX5_layFar_1 7 rfl rfl)
theorem dX5_layFar_32 : decode cX5_layFar 32 = .ok (.iinc 1 1, 3) := dk_132 1 1 (dk_at dksX5_layFar_1 8 rfl rfl)
theorem dX5_layFar_35 : decode cX5_layFar 35 = .ok (.goto (-33), 3) := dk_167 255 223 (dk_at dksX5_layFar_1 11 rfl rfl)
theorem dX5_layFar_38 : decode cX5_layFar 38 = .ok (.iconst 0, 1) := dk_3 (dk_at dksX5_layFar_1 14 rfl rfl)
theorem dX5_layFar_39 : decode cX5_layFar 39 = .ok (.istore_n 1, 1) := dk_60 (dk_at dksX5_layFar_1 15 rfl rfl)
theorem dX5_layFar_40 : decode cX5_layFar 40 = .ok (.iload_n 1, 1) := dk_27 (dk_at dksX5_layFar_1 16 rfl rfl)
theorem dX5_layFar_41 : decode cX5_layFar 41 = .ok (.aload_n 0, 1) := dk_42 (dk_at dksX5_layFar_1 17 rfl rfl)
theorem dX5_layFar_42 : decode cX5_layFar 42 = .ok (.getfield 13, 3) := dk_180 0 13 (dk_at dksX5_layFar_1 18 rfl rfl)
theorem dX5_layFar_45 : decode cX5_layFar 45 = .ok (.iconst 0, 1) := dk_3 (dk_at dksX5_layFar_1 21 rfl rfl)
theorem dX5_layFar_46 : decode cX5_layFar 46 = .ok (.iaload, 1) := dk_46 (dk_at dksX5_layFar_1 22 rfl rfl)
theorem dX5_layFar_47 : decode cX5_layFar 47 = .ok (.if_icmp .ge 105, 3) := dk_162 0 105 (dk_at dksX5_layFar_2 0 rfl rfl)
theorem dX5_layFar_50 : decode cX5_layFar 50 = .ok (.aload_n 0, 1) := dk_42 (dk_at dksX5_layFar_2 3 rfl rfl)
theorem dX5_layFar_51 : decode cX5_layFar 51 = .ok (.getfield 13, 3) := dk_180 0 13 (dk_at dksX5_layFar_2 4 rfl rfl)
theorem dX5_layFar_54 : decode cX5_layFar 54 = .ok (.bipush 26, 2) := dk_16 26 (dk_at dksX5_layFar_2 7 rfl rfl)
theorem dX5_layFar_56 : decode cX5_layFar 56 = .ok (.iload_n 1, 1) := dk_27 (dk_at dksX5_layFar_2 9 rfl rfl)
theorem dX5_layFar_57 : decode cX5_layFar 57 = .ok (.iadd, 1) := dk_96 (dk_at dksX5_layFar_2 10 rfl rfl)
theorem dX5_layFar_58 : decode cX5_layFar 58 = .ok (.iaload, 1) := dk_46 (dk_at dksX5_layFar_2 11 rfl rfl)
theorem dX5_layFar_59 : decode cX5_layFar 59 = .ok (.istore_n 2, 1) := dk_61 (dk_at dksX5_layFar_2 12 rfl rfl)
theorem dX5_layFar_60 : decode cX5_layFar 60 = .ok (.aload_n 0, 1) := dk_42 (dk_at dksX5_layFar_2 13 rfl rfl)
theorem dX5_layFar_61 : decode cX5_layFar 61 = .ok (.getfield 13, 3) := dk_180 0 13 (dk_at dksX5_layFar_2 14 rfl rfl)
theorem dX5_layFar_64 : decode cX5_layFar 64 = .ok (.bipush 36, 2) := dk_16 36 (dk_at dksX5_layFar_2 17 rfl rfl)
theorem dX5_layFar_66 : decode cX5_layFar 66 = .ok (.iload_n 1, 1) := dk_27 (dk_at dksX5_layFar_2 19 rfl rfl)
theorem dX5_layFar_67 : decode cX5_layFar 67 = .ok (.iadd, 1) := dk_96 (dk_at dksX5_layFar_2 20 rfl rfl)
theorem dX5_layFar_68 : decode cX5_layFar 68 = .ok (.iaload, 1) := dk_46 (dk_at dksX5_layFar_2 21 rfl rfl)
theorem dX5_layFar_69 : decode cX5_layFar 69 = .ok (.istore_n 3, 1) := dk_62 (dk_at dksX5_layFar_2 22 rfl rfl)
theorem dX5_layFar_70 : decode cX5_layFar 70 = .ok (.aload_n 0, 1) := dk_42 (dk_at dksX5_layFar_2 23 rfl rfl)
theorem dX5_layFar_71 : decode cX5_layFar 71 = .ok (.getfield 13, 3) := dk_180 0 13 (dk_at dksX5_layFar_3 0 rfl rfl)
theorem dX5_layFar_74 : decode cX5_layFar 74 = .ok (.bipush 46, 2) := dk_16 46 (dk_at dksX5_layFar_3 3 rfl rfl)
theorem dX5_layFar_76 : decode cX5_layFar 76 = .ok (.iload_n 1, 1) := dk_27 (dk_at dksX5_layFar_3 5 rfl rfl)
theorem dX5_layFar_77 : decode cX5_layFar 77 = .ok (.iadd, 1) := dk_96 (dk_at dksX5_layFar_3 6 rfl rfl)
theorem dX5_layFar_78 : decode cX5_layFar 78 = .ok (.iaload, 1) := dk_46 (dk_at dksX5_layFar_3 7 rfl rfl)
theorem dX5_layFar_79 : decode cX5_layFar 79 = .ok (.istore 4, 2) := dk_54 4 (dk_at dksX5_layFar_3 8 rfl rfl)
theorem dX5_layFar_81 : decode cX5_layFar 81 = .ok (.aload_n 0, 1) := dk_42 (dk_at dksX5_layFar_3 10 rfl rfl)
theorem dX5_layFar_82 : decode cX5_layFar 82 = .ok (.getfield 115, 3) := dk_180 0 115 (dk_at dksX5_layFar_3 11 rfl rfl)
theorem dX5_layFar_85 : decode cX5_layFar 85 = .ok (.bipush 8, 2) := dk_16 8 (dk_at dksX5_layFar_3 14 rfl rfl)
theorem dX5_layFar_87 : decode cX5_layFar 87 = .ok (.iload_n 2, 1) := dk_28 (dk_at dksX5_layFar_3 16 rfl rfl)
theorem dX5_layFar_88 : decode cX5_layFar 88 = .ok (.imul, 1) := dk_104 (dk_at dksX5_layFar_3 17 rfl rfl)
theorem dX5_layFar_89 : decode cX5_layFar 89 = .ok (.iload_n 3, 1) := dk_29 (dk_at dksX5_layFar_3 18 rfl rfl)
theorem dX5_layFar_90 : decode cX5_layFar 90 = .ok (.iadd, 1) := dk_96 (dk_at dksX5_layFar_3 19 rfl rfl)
theorem dX5_layFar_91 : decode cX5_layFar 91 = .ok (.iload 4, 2) := dk_21 4 (dk_at dksX5_layFar_3 20 rfl rfl)
theorem dX5_layFar_93 : decode cX5_layFar 93 = .ok (.aload_n 0, 1) := dk_42 (dk_at dksX5_layFar_3 22 rfl rfl)
theorem dX5_layFar_94 : decode cX5_layFar 94 = .ok (.getfield 115, 3) := dk_180 0 115 (dk_at dksX5_layFar_4 0 rfl rfl)
theorem dX5_layFar_97 : decode cX5_layFar 97 = .ok (.bipush 8, 2) := dk_16 8 (dk_at dksX5_layFar_4 3 rfl rfl)
theorem dX5_layFar_99 : decode cX5_layFar 99 = .ok (.iload_n 2, 1) := dk_28 (dk_at dksX5_layFar_4 5 rfl rfl)
theorem dX5_layFar_100 : decode cX5_layFar 100 = .ok (.imul, 1) := dk_104 (dk_at dksX5_layFar_4 6 rfl rfl)
theorem dX5_layFar_101 : decode cX5_layFar 101 = .ok (.iload_n 3, 1) := dk_29 (dk_at dksX5_layFar_4 7 rfl rfl)
theorem dX5_layFar_102 : decode cX5_layFar 102 = .ok (.iadd, 1) := dk_96 (dk_at dksX5_layFar_4 8 rfl rfl)
theorem dX5_layFar_103 : decode cX5_layFar 103 = .ok (.iaload, 1) := dk_46 (dk_at dksX5_layFar_4 9 rfl rfl)
theorem dX5_layFar_104 : decode cX5_layFar 104 = .ok (.if_icmp .ge 8, 3) := dk_162 0 8 (dk_at dksX5_layFar_4 10 rfl rfl)
theorem dX5_layFar_107 : decode cX5_layFar 107 = .ok (.iload 4, 2) := dk_21 4 (dk_at dksX5_layFar_4 13 rfl rfl)
theorem dX5_layFar_109 : decode cX5_layFar 109 = .ok (.goto 14, 3) := dk_167 0 14 (dk_at dksX5_layFar_4 15 rfl rfl)
theorem dX5_layFar_112 : decode cX5_layFar 112 = .ok (.aload_n 0, 1) := dk_42 (dk_at dksX5_layFar_4 18 rfl rfl)
theorem dX5_layFar_113 : decode cX5_layFar 113 = .ok (.getfield 115, 3) := dk_180 0 115 (dk_at dksX5_layFar_4 19 rfl rfl)
theorem dX5_layFar_116 : decode cX5_layFar 116 = .ok (.bipush 8, 2) := dk_16 8 (dk_at dksX5_layFar_4 22 rfl rfl)
theorem dX5_layFar_118 : decode cX5_layFar 118 = .ok (.iload_n 2, 1) := dk_28 (dk_at dksX5_layFar_5 0 rfl rfl)
theorem dX5_layFar_119 : decode cX5_layFar 119 = .ok (.imul, 1) := dk_104 (dk_at dksX5_layFar_5 1 rfl rfl)
theorem dX5_layFar_120 : decode cX5_layFar 120 = .ok (.iload_n 3, 1) := dk_29 (dk_at dksX5_layFar_5 2 rfl rfl)
theorem dX5_layFar_121 : decode cX5_layFar 121 = .ok (.iadd, 1) := dk_96 (dk_at dksX5_layFar_5 3 rfl rfl)
theorem dX5_layFar_122 : decode cX5_layFar 122 = .ok (.iaload, 1) := dk_46 (dk_at dksX5_layFar_5 4 rfl rfl)
theorem dX5_layFar_123 : decode cX5_layFar 123 = .ok (.iastore, 1) := dk_79 (dk_at dksX5_layFar_5 5 rfl rfl)
theorem dX5_layFar_124 : decode cX5_layFar 124 = .ok (.aload_n 0, 1) := dk_42 (dk_at dksX5_layFar_5 6 rfl rfl)
theorem dX5_layFar_125 : decode cX5_layFar 125 = .ok (.getfield 115, 3) := dk_180 0 115 (dk_at dksX5_layFar_5 7 rfl rfl)
theorem dX5_layFar_128 : decode cX5_layFar 128 = .ok (.bipush 8, 2) := dk_16 8 (dk_at dksX5_layFar_5 10 rfl rfl)
theorem dX5_layFar_130 : decode cX5_layFar 130 = .ok (.iload_n 3, 1) := dk_29 (dk_at dksX5_layFar_5 12 rfl rfl)
theorem dX5_layFar_131 : decode cX5_layFar 131 = .ok (.imul, 1) := dk_104 (dk_at dksX5_layFar_5 13 rfl rfl)
theorem dX5_layFar_132 : decode cX5_layFar 132 = .ok (.iload_n 2, 1) := dk_28 (dk_at dksX5_layFar_5 14 rfl rfl)
theorem dX5_layFar_133 : decode cX5_layFar 133 = .ok (.iadd, 1) := dk_96 (dk_at dksX5_layFar_5 15 rfl rfl)
theorem dX5_layFar_134 : decode cX5_layFar 134 = .ok (.aload_n 0, 1) := dk_42 (dk_at dksX5_layFar_5 16 rfl rfl)
theorem dX5_layFar_135 : decode cX5_layFar 135 = .ok (.getfield 115, 3) := dk_180 0 115 (dk_at dksX5_layFar_5 17 rfl rfl)
theorem dX5_layFar_138 : decode cX5_layFar 138 = .ok (.bipush 8, 2) := dk_16 8 (dk_at dksX5_layFar_5 20 rfl rfl)
theorem dX5_layFar_140 : decode cX5_layFar 140 = .ok (.iload_n 2, 1) := dk_28 (dk_at dksX5_layFar_5 22 rfl rfl)
theorem dX5_layFar_141 : decode cX5_layFar 141 = .ok (.imul, 1) := dk_104 (dk_at dksX5_layFar_5 23 rfl rfl)
theorem dX5_layFar_142 : decode cX5_layFar 142 = .ok (.iload_n 3, 1) := dk_29 (dk_at dksX5_layFar_6 0 rfl rfl)
theorem dX5_layFar_143 : decode cX5_layFar 143 = .ok (.iadd, 1) := dk_96 (dk_at dksX5_layFar_6 1 rfl rfl)
theorem dX5_layFar_144 : decode cX5_layFar 144 = .ok (.iaload, 1) := dk_46 (dk_at dksX5_layFar_6 2 rfl rfl)
theorem dX5_layFar_145 : decode cX5_layFar 145 = .ok (.iastore, 1) := dk_79 (dk_at dksX5_layFar_6 3 rfl rfl)
theorem dX5_layFar_146 : decode cX5_layFar 146 = .ok (.iinc 1 1, 3) := dk_132 1 1 (dk_at dksX5_layFar_6 4 rfl rfl)
theorem dX5_layFar_149 : decode cX5_layFar 149 = .ok (.goto (-109), 3) := dk_167 255 147 (dk_at dksX5_layFar_6 7 rfl rfl)
theorem dX5_layFar_152 : decode cX5_layFar 152 = .ok (.iconst 0, 1) := dk_3 (dk_at dksX5_layFar_6 10 rfl rfl)
theorem dX5_layFar_153 : decode cX5_layFar 153 = .ok (.istore_n 1, 1) := dk_60 (dk_at dksX5_layFar_6 11 rfl rfl)
theorem dX5_layFar_154 : decode cX5_layFar 154 = .ok (.iload_n 1, 1) := dk_27 (dk_at dksX5_layFar_6 12 rfl rfl)
theorem dX5_layFar_155 : decode cX5_layFar 155 = .ok (.bipush 8, 2) := dk_16 8 (dk_at dksX5_layFar_6 13 rfl rfl)
theorem dX5_layFar_157 : decode cX5_layFar 157 = .ok (.if_icmp .ge 105, 3) := dk_162 0 105 (dk_at dksX5_layFar_6 15 rfl rfl)
theorem dX5_layFar_160 : decode cX5_layFar 160 = .ok (.iconst 0, 1) := dk_3 (dk_at dksX5_layFar_6 18 rfl rfl)
theorem dX5_layFar_161 : decode cX5_layFar 161 = .ok (.istore_n 2, 1) := dk_61 (dk_at dksX5_layFar_6 19 rfl rfl)
theorem dX5_layFar_162 : decode cX5_layFar 162 = .ok (.iload_n 2, 1) := dk_28 (dk_at dksX5_layFar_6 20 rfl rfl)
theorem dX5_layFar_163 : decode cX5_layFar 163 = .ok (.bipush 8, 2) := dk_16 8 (dk_at dksX5_layFar_6 21 rfl rfl)
theorem dX5_layFar_165 : decode cX5_layFar 165 = .ok (.if_icmp .ge 91, 3) := dk_162 0 91 (dk_at dksX5_layFar_7 0 rfl rfl)
theorem dX5_layFar_168 : decode cX5_layFar 168 = .ok (.iconst 0, 1) := dk_3 (dk_at dksX5_layFar_7 3 rfl rfl)
theorem dX5_layFar_169 : decode cX5_layFar 169 = .ok (.istore_n 3, 1) := dk_62 (dk_at dksX5_layFar_7 4 rfl rfl)
theorem dX5_layFar_170 : decode cX5_layFar 170 = .ok (.iload_n 3, 1) := dk_29 (dk_at dksX5_layFar_7 5 rfl rfl)
theorem dX5_layFar_171 : decode cX5_layFar 171 = .ok (.bipush 8, 2) := dk_16 8 (dk_at dksX5_layFar_7 6 rfl rfl)
theorem dX5_layFar_173 : decode cX5_layFar 173 = .ok (.if_icmp .ge 77, 3) := dk_162 0 77 (dk_at dksX5_layFar_7 8 rfl rfl)
theorem dX5_layFar_176 : decode cX5_layFar 176 = .ok (.aload_n 0, 1) := dk_42 (dk_at dksX5_layFar_7 11 rfl rfl)
theorem dX5_layFar_177 : decode cX5_layFar 177 = .ok (.getfield 115, 3) := dk_180 0 115 (dk_at dksX5_layFar_7 12 rfl rfl)
theorem dX5_layFar_180 : decode cX5_layFar 180 = .ok (.bipush 8, 2) := dk_16 8 (dk_at dksX5_layFar_7 15 rfl rfl)
theorem dX5_layFar_182 : decode cX5_layFar 182 = .ok (.iload_n 2, 1) := dk_28 (dk_at dksX5_layFar_7 17 rfl rfl)
theorem dX5_layFar_183 : decode cX5_layFar 183 = .ok (.imul, 1) := dk_104 (dk_at dksX5_layFar_7 18 rfl rfl)
theorem dX5_layFar_184 : decode cX5_layFar 184 = .ok (.iload_n 1, 1) := dk_27 (dk_at dksX5_layFar_7 19 rfl rfl)
theorem dX5_layFar_185 : decode cX5_layFar 185 = .ok (.iadd, 1) := dk_96 (dk_at dksX5_layFar_7 20 rfl rfl)
theorem dX5_layFar_186 : decode cX5_layFar 186 = .ok (.iaload, 1) := dk_46 (dk_at dksX5_layFar_7 21 rfl rfl)
theorem dX5_layFar_187 : decode cX5_layFar 187 = .ok (.aload_n 0, 1) := dk_42 (dk_at dksX5_layFar_7 22 rfl rfl)
theorem dX5_layFar_188 : decode cX5_layFar 188 = .ok (.getfield 115, 3) := dk_180 0 115 (dk_at dksX5_layFar_8 0 rfl rfl)
theorem dX5_layFar_191 : decode cX5_layFar 191 = .ok (.bipush 8, 2) := dk_16 8 (dk_at dksX5_layFar_8 3 rfl rfl)
theorem dX5_layFar_193 : decode cX5_layFar 193 = .ok (.iload_n 1, 1) := dk_27 (dk_at dksX5_layFar_8 5 rfl rfl)
theorem dX5_layFar_194 : decode cX5_layFar 194 = .ok (.imul, 1) := dk_104 (dk_at dksX5_layFar_8 6 rfl rfl)
theorem dX5_layFar_195 : decode cX5_layFar 195 = .ok (.iload_n 3, 1) := dk_29 (dk_at dksX5_layFar_8 7 rfl rfl)
theorem dX5_layFar_196 : decode cX5_layFar 196 = .ok (.iadd, 1) := dk_96 (dk_at dksX5_layFar_8 8 rfl rfl)
theorem dX5_layFar_197 : decode cX5_layFar 197 = .ok (.iaload, 1) := dk_46 (dk_at dksX5_layFar_8 9 rfl rfl)
theorem dX5_layFar_198 : decode cX5_layFar 198 = .ok (.iadd, 1) := dk_96 (dk_at dksX5_layFar_8 10 rfl rfl)
theorem dX5_layFar_199 : decode cX5_layFar 199 = .ok (.istore 4, 2) := dk_54 4 (dk_at dksX5_layFar_8 11 rfl rfl)
theorem dX5_layFar_201 : decode cX5_layFar 201 = .ok (.aload_n 0, 1) := dk_42 (dk_at dksX5_layFar_8 13 rfl rfl)
theorem dX5_layFar_202 : decode cX5_layFar 202 = .ok (.getfield 115, 3) := dk_180 0 115 (dk_at dksX5_layFar_8 14 rfl rfl)
theorem dX5_layFar_205 : decode cX5_layFar 205 = .ok (.bipush 8, 2) := dk_16 8 (dk_at dksX5_layFar_8 17 rfl rfl)
theorem dX5_layFar_207 : decode cX5_layFar 207 = .ok (.iload_n 2, 1) := dk_28 (dk_at dksX5_layFar_8 19 rfl rfl)
theorem dX5_layFar_208 : decode cX5_layFar 208 = .ok (.imul, 1) := dk_104 (dk_at dksX5_layFar_8 20 rfl rfl)
theorem dX5_layFar_209 : decode cX5_layFar 209 = .ok (.iload_n 3, 1) := dk_29 (dk_at dksX5_layFar_8 21 rfl rfl)
theorem dX5_layFar_210 : decode cX5_layFar 210 = .ok (.iadd, 1) := dk_96 (dk_at dksX5_layFar_8 22 rfl rfl)
theorem dX5_layFar_211 : decode cX5_layFar 211 = .ok (.iload 4, 2) := dk_21 4 (dk_at dksX5_layFar_9 0 rfl rfl)
theorem dX5_layFar_213 : decode cX5_layFar 213 = .ok (.aload_n 0, 1) := dk_42 (dk_at dksX5_layFar_9 2 rfl rfl)
theorem dX5_layFar_214 : decode cX5_layFar 214 = .ok (.getfield 115, 3) := dk_180 0 115 (dk_at dksX5_layFar_9 3 rfl rfl)
theorem dX5_layFar_217 : decode cX5_layFar 217 = .ok (.bipush 8, 2) := dk_16 8 (dk_at dksX5_layFar_9 6 rfl rfl)
theorem dX5_layFar_219 : decode cX5_layFar 219 = .ok (.iload_n 2, 1) := dk_28 (dk_at dksX5_layFar_9 8 rfl rfl)
theorem dX5_layFar_220 : decode cX5_layFar 220 = .ok (.imul, 1) := dk_104 (dk_at dksX5_layFar_9 9 rfl rfl)
theorem dX5_layFar_221 : decode cX5_layFar 221 = .ok (.iload_n 3, 1) := dk_29 (dk_at dksX5_layFar_9 10 rfl rfl)
theorem dX5_layFar_222 : decode cX5_layFar 222 = .ok (.iadd, 1) := dk_96 (dk_at dksX5_layFar_9 11 rfl rfl)
theorem dX5_layFar_223 : decode cX5_layFar 223 = .ok (.iaload, 1) := dk_46 (dk_at dksX5_layFar_9 12 rfl rfl)
theorem dX5_layFar_224 : decode cX5_layFar 224 = .ok (.if_icmp .ge 8, 3) := dk_162 0 8 (dk_at dksX5_layFar_9 13 rfl rfl)
theorem dX5_layFar_227 : decode cX5_layFar 227 = .ok (.iload 4, 2) := dk_21 4 (dk_at dksX5_layFar_9 16 rfl rfl)
theorem dX5_layFar_229 : decode cX5_layFar 229 = .ok (.goto 14, 3) := dk_167 0 14 (dk_at dksX5_layFar_9 18 rfl rfl)
theorem dX5_layFar_232 : decode cX5_layFar 232 = .ok (.aload_n 0, 1) := dk_42 (dk_at dksX5_layFar_9 21 rfl rfl)
theorem dX5_layFar_233 : decode cX5_layFar 233 = .ok (.getfield 115, 3) := dk_180 0 115 (dk_at dksX5_layFar_10 0 rfl rfl)
theorem dX5_layFar_236 : decode cX5_layFar 236 = .ok (.bipush 8, 2) := dk_16 8 (dk_at dksX5_layFar_10 3 rfl rfl)
theorem dX5_layFar_238 : decode cX5_layFar 238 = .ok (.iload_n 2, 1) := dk_28 (dk_at dksX5_layFar_10 5 rfl rfl)
theorem dX5_layFar_239 : decode cX5_layFar 239 = .ok (.imul, 1) := dk_104 (dk_at dksX5_layFar_10 6 rfl rfl)
theorem dX5_layFar_240 : decode cX5_layFar 240 = .ok (.iload_n 3, 1) := dk_29 (dk_at dksX5_layFar_10 7 rfl rfl)
theorem dX5_layFar_241 : decode cX5_layFar 241 = .ok (.iadd, 1) := dk_96 (dk_at dksX5_layFar_10 8 rfl rfl)
theorem dX5_layFar_242 : decode cX5_layFar 242 = .ok (.iaload, 1) := dk_46 (dk_at dksX5_layFar_10 9 rfl rfl)
theorem dX5_layFar_243 : decode cX5_layFar 243 = .ok (.iastore, 1) := dk_79 (dk_at dksX5_layFar_10 10 rfl rfl)
theorem dX5_layFar_244 : decode cX5_layFar 244 = .ok (.iinc 3 1, 3) := dk_132 3 1 (dk_at dksX5_layFar_10 11 rfl rfl)
theorem dX5_layFar_247 : decode cX5_layFar 247 = .ok (.goto (-77), 3) := dk_167 255 179 (dk_at dksX5_layFar_10 14 rfl rfl)
theorem dX5_layFar_250 : decode cX5_layFar 250 = .ok (.iinc 2 1, 3) := dk_132 2 1 (dk_at dksX5_layFar_10 17 rfl rfl)
theorem dX5_layFar_253 : decode cX5_layFar 253 = .ok (.goto (-91), 3) := dk_167 255 165 (dk_at dksX5_layFar_10 20 rfl rfl)
theorem dX5_layFar_256 : decode cX5_layFar 256 = .ok (.iinc 1 1, 3) := dk_132 1 1 (dk_at dksX5_layFar_11 0 rfl rfl)
theorem dX5_layFar_259 : decode cX5_layFar 259 = .ok (.goto (-105), 3) := dk_167 255 151 (dk_at dksX5_layFar_11 3 rfl rfl)
theorem dX5_layFar_262 : decode cX5_layFar 262 = .ok (.return_, 1) := dk_177 (dk_at dksX5_layFar_11 6 rfl rfl)
abbrev cX5_farOf : ByteArray := prog_22_method_86_code
def yX5_farOf : MethodName := ⟨RX5, "farOf", "(II)I"⟩
def dkwX5_farOf_1 : List UInt8 := [180, 0, 115, 16, 8, 27, 104, 28, 96, 46, 172]
abbrev dktX5_farOf_1 : List UInt8 := dkwX5_farOf_1 ++ []
def dkwX5_farOf_0 : List UInt8 := [42, 180, 0, 115, 16, 8, 27, 104, 28, 96, 46, 19, 1, 203, 161, 0, 9, 19, 1, 203, 167, 0, 14, 42]
abbrev dktX5_farOf_0 : List UInt8 := dkwX5_farOf_0 ++ dktX5_farOf_1
theorem dksX5_farOf_0 : cX5_farOf.data.toList.drop 0 = dktX5_farOf_0 := by decide +kernel
theorem dksX5_farOf_1 : cX5_farOf.data.toList.drop 24 = dktX5_farOf_1 := dk_seg dksX5_farOf_0 24 rfl rfl
theorem dX5_farOf_0 : decode cX5_farOf 0 = .ok (.aload_n 0, 1) := dk_42 (dk_at dksX5_farOf_0 0 rfl rfl)
theorem dX5_farOf_1 : decode cX5_farOf 1 = .ok (.getfield 115, 3) := dk_180 0 115 (dk_at dksX5_farOf_0 1 rfl rfl)
theorem dX5_farOf_4 : decode cX5_farOf 4 = .ok (.bipush 8, 2) := dk_16 8 (dk_at dksX5_farOf_0 4 rfl rfl)
theorem dX5_farOf_6 : decode cX5_farOf 6 = .ok (.iload_n 1, 1) := dk_27 (dk_at dksX5_farOf_0 6 rfl rfl)
theorem dX5_farOf_7 : decode cX5_farOf 7 = .ok (.imul, 1) := dk_104 (dk_at dksX5_farOf_0 7 rfl rfl)
theorem dX5_farOf_8 : decode cX5_farOf 8 = .ok (.iload_n 2, 1) := dk_28 (dk_at dksX5_farOf_0 8 rfl rfl)
theorem dX5_farOf_9 : decode cX5_farOf 9 = .ok (.iadd, 1) := dk_96 (dk_at dksX5_farOf_0 9 rfl rfl)
theorem dX5_farOf_10 : decode cX5_farOf 10 = .ok (.iaload, 1) := dk_46 (dk_at dksX5_farOf_0 10 rfl rfl)
theorem dX5_farOf_11 : decode cX5_farOf 11 = .ok (.ldc_w 459, 3) := dk_19 1 203 (dk_at dksX5_farOf_0 11 rfl rfl)
theorem dX5_farOf_14 : decode cX5_farOf 14 = .ok (.if_icmp .lt 9, 3) := dk_161 0 9 (dk_at dksX5_farOf_0 14 rfl rfl)
theorem dX5_farOf_17 : decode cX5_farOf 17 = .ok (.ldc_w 459, 3) := dk_19 1 203 (dk_at dksX5_farOf_0 17 rfl rfl)
theorem dX5_farOf_20 : decode cX5_farOf 20 = .ok (.goto 14, 3) := dk_167 0 14 (dk_at dksX5_farOf_0 20 rfl rfl)
theorem dX5_farOf_23 : decode cX5_farOf 23 = .ok (.aload_n 0, 1) := dk_42 (dk_at dksX5_farOf_0 23 rfl rfl)
theorem dX5_farOf_24 : decode cX5_farOf 24 = .ok (.getfield 115, 3) := dk_180 0 115 (dk_at dksX5_farOf_1 0 rfl rfl)
theorem dX5_farOf_27 : decode cX5_farOf 27 = .ok (.bipush 8, 2) := dk_16 8 (dk_at dksX5_farOf_1 3 rfl rfl)
theorem dX5_farOf_29 : decode cX5_farOf 29 = .ok (.iload_n 1, 1) := dk_27 (dk_at dksX5_farOf_1 5 rfl rfl)
theorem dX5_farOf_30 : decode cX5_farOf 30 = .ok (.imul, 1) := dk_104 (dk_at dksX5_farOf_1 6 rfl rfl)
theorem dX5_farOf_31 : decode cX5_farOf 31 = .ok (.iload_n 2, 1) := dk_28 (dk_at dksX5_farOf_1 7 rfl rfl)
theorem dX5_farOf_32 : decode cX5_farOf 32 = .ok (.iadd, 1) := dk_96 (dk_at dksX5_farOf_1 8 rfl rfl)
theorem dX5_farOf_33 : decode cX5_farOf 33 = .ok (.iaload, 1) := dk_46 (dk_at dksX5_farOf_1 9 rfl rfl)
theorem dX5_farOf_34 : decode cX5_farOf 34 = .ok (.ireturn, 1) := dk_172 (dk_at dksX5_farOf_1 10 rfl rfl)
abbrev cX5_found : ByteArray := prog_22_method_89_code
def yX5_found : MethodName := ⟨RX5, "found", "(II)I"⟩
def dkwX5_found_1 : List UInt8 := [182, 1, 204, 42, 27, 28, 182, 1, 210, 62, 29, 19, 1, 203, 160, 0, 7, 2, 167, 0, 4, 29, 172]
abbrev dktX5_found_1 : List UInt8 := dkwX5_found_1 ++ []
def dkwX5_found_0 : List UInt8 := [42, 3, 181, 0, 159, 27, 184, 0, 188, 153, 0, 11, 42, 28, 182, 0, 203, 154, 0, 5, 2, 172, 42]
abbrev dktX5_found_0 : List UInt8 := dkwX5_found_0 ++ dktX5_found_1
theorem dksX5_found_0 : cX5_found.data.toList.drop 0 = dktX5_found_0 := by decide +kernel
theorem dksX5_found_1 : cX5_found.data.toList.drop 23 = dktX5_found_1 := dk_seg dksX5_found_0 23 rfl rfl
theorem dX5_found_0 : decode cX5_found 0 = .ok (.aload_n 0, 1) := dk_42 (dk_at dksX5_found_0 0 rfl rfl)
theorem dX5_found_1 : decode cX5_found 1 = .ok (.iconst 0, 1) := dk_3 (dk_at dksX5_found_0 1 rfl rfl)
theorem dX5_found_2 : decode cX5_found 2 = .ok (.putfield 159, 3) := dk_181 0 159 (dk_at dksX5_found_0 2 rfl rfl)
theorem dX5_found_5 : decode cX5_found 5 = .ok (.iload_n 1, 1) := dk_27 (dk_at dksX5_found_0 5 rfl rfl)
theorem dX5_found_6 : decode cX5_found 6 = .ok (.invokestatic 188, 3) := dk_184 0 188 (dk_at dksX5_found_0 6 rfl rfl)
theorem dX5_found_9 : decode cX5_found 9 = .ok (.ifCond .eq 11, 3) := dk_153 0 11 (dk_at dksX5_found_0 9 rfl rfl)
theorem dX5_found_12 : decode cX5_found 12 = .ok (.aload_n 0, 1) := dk_42 (dk_at dksX5_found_0 12 rfl rfl)
theorem dX5_found_13 : decode cX5_found 13 = .ok (.iload_n 2, 1) := dk_28 (dk_at dksX5_found_0 13 rfl rfl)
theorem dX5_found_14 : decode cX5_found 14 = .ok (.invokevirtual 203, 3) := dk_182 0 203 (dk_at dksX5_found_0 14 rfl rfl)
theorem dX5_found_17 : decode cX5_found 17 = .ok (.ifCond .ne 5, 3) := dk_154 0 5 (dk_at dksX5_found_0 17 rfl rfl)
theorem dX5_found_20 : decode cX5_found 20 = .ok (.iconst (-1), 1) := dk_2 (dk_at dksX5_found_0 20 rfl rfl)
theorem dX5_found_21 : decode cX5_found 21 = .ok (.ireturn, 1) := dk_172 (dk_at dksX5_found_0 21 rfl rfl)
theorem dX5_found_22 : decode cX5_found 22 = .ok (.aload_n 0, 1) := dk_42 (dk_at dksX5_found_0 22 rfl rfl)
theorem dX5_found_23 : decode cX5_found 23 = .ok (.invokevirtual 460, 3) := dk_182 1 204 (dk_at dksX5_found_1 0 rfl rfl)
theorem dX5_found_26 : decode cX5_found 26 = .ok (.aload_n 0, 1) := dk_42 (dk_at dksX5_found_1 3 rfl rfl)
theorem dX5_found_27 : decode cX5_found 27 = .ok (.iload_n 1, 1) := dk_27 (dk_at dksX5_found_1 4 rfl rfl)
theorem dX5_found_28 : decode cX5_found 28 = .ok (.iload_n 2, 1) := dk_28 (dk_at dksX5_found_1 5 rfl rfl)
theorem dX5_found_29 : decode cX5_found 29 = .ok (.invokevirtual 466, 3) := dk_182 1 210 (dk_at dksX5_found_1 6 rfl rfl)
theorem dX5_found_32 : decode cX5_found 32 = .ok (.istore_n 3, 1) := dk_62 (dk_at dksX5_found_1 9 rfl rfl)
theorem dX5_found_33 : decode cX5_found 33 = .ok (.iload_n 3, 1) := dk_29 (dk_at dksX5_found_1 10 rfl rfl)
theorem dX5_found_34 : decode cX5_found 34 = .ok (.ldc_w 459, 3) := dk_19 1 203 (dk_at dksX5_found_1 11 rfl rfl)
theorem dX5_found_37 : decode cX5_found 37 = .ok (.if_icmp .ne 7, 3) := dk_160 0 7 (dk_at dksX5_found_1 14 rfl rfl)
theorem dX5_found_40 : decode cX5_found 40 = .ok (.iconst (-1), 1) := dk_2 (dk_at dksX5_found_1 17 rfl rfl)
theorem dX5_found_41 : decode cX5_found 41 = .ok (.goto 4, 3) := dk_167 0 4 (dk_at dksX5_found_1 18 rfl rfl)
theorem dX5_found_44 : decode cX5_found 44 = .ok (.iload_n 3, 1) := dk_29 (dk_at dksX5_found_1 21 rfl rfl)
theorem dX5_found_45 : decode cX5_found 45 = .ok (.ireturn, 1) := dk_172 (dk_at dksX5_found_1 22 rfl rfl)
abbrev cX5_foundAt : ByteArray := prog_22_method_88_code
def yX5_foundAt : MethodName := ⟨RX5, "foundAt", "(II)I"⟩
def dkwX5_foundAt_2 : List UInt8 := [182, 0, 176, 29, 16, 60, 164, 0, 9, 19, 1, 203, 167, 0, 4, 29, 172]
abbrev dktX5_foundAt_2 : List UInt8 := dkwX5_foundAt_2 ++ []
def dkwX5_foundAt_1 : List UInt8 := [46, 182, 1, 207, 29, 164, 0, 14, 42, 182, 1, 195, 87, 132, 3, 1, 167, 255, 224, 42, 16, 16]
abbrev dktX5_foundAt_1 : List UInt8 := dkwX5_foundAt_1 ++ dktX5_foundAt_2
def dkwX5_foundAt_0 : List UInt8 := [42, 16, 16, 182, 0, 172, 3, 62, 29, 16, 60, 163, 0, 32, 42, 27, 42, 180, 0, 13, 16, 18, 28, 96]
abbrev dktX5_foundAt_0 : List UInt8 := dkwX5_foundAt_0 ++ dktX5_foundAt_1
theorem dksX5_foundAt_0 : cX5_foundAt.data.toList.drop 0 = dktX5_foundAt_0 := by decide +kernel
theorem dksX5_foundAt_1 : cX5_foundAt.data.toList.drop 24 = dktX5_foundAt_1 := dk_seg dksX5_foundAt_0 24 rfl rfl
theorem dksX5_foundAt_2 : cX5_foundAt.data.toList.drop 46 = dktX5_foundAt_2 := dk_seg dksX5_foundAt_1 22 rfl rfl
theorem dX5_foundAt_0 : decode cX5_foundAt 0 = .ok (.aload_n 0, 1) := dk_42 (dk_at dksX5_foundAt_0 0 rfl rfl)
theorem dX5_foundAt_1 : decode cX5_foundAt 1 = .ok (.bipush 16, 2) := dk_16 16 (dk_at dksX5_foundAt_0 1 rfl rfl)
theorem dX5_foundAt_3 : decode cX5_foundAt 3 = .ok (.invokevirtual 172, 3) := dk_182 0 172 (dk_at dksX5_foundAt_0 3 rfl rfl)
theorem dX5_foundAt_6 : decode cX5_foundAt 6 = .ok (.iconst 0, 1) := dk_3 (dk_at dksX5_foundAt_0 6 rfl rfl)
theorem dX5_foundAt_7 : decode cX5_foundAt 7 = .ok (.istore_n 3, 1) := dk_62 (dk_at dksX5_foundAt_0 7 rfl rfl)
theorem dX5_foundAt_8 : decode cX5_foundAt 8 = .ok (.iload_n 3, 1) := dk_29 (dk_at dksX5_foundAt_0 8 rfl rfl)
theorem dX5_foundAt_9 : decode cX5_foundAt 9 = .ok (.bipush 60, 2) := dk_16 60 (dk_at dksX5_foundAt_0 9 rfl rfl)
theorem dX5_foundAt_11 : decode cX5_foundAt 11 = .ok (.if_icmp .gt 32, 3) := dk_163 0 32 (dk_at dksX5_foundAt_0 11 rfl rfl)
theorem dX5_foundAt_14 : decode cX5_foundAt 14 = .ok (.aload_n 0, 1) := dk_42 (dk_at dksX5_foundAt_0 14 rfl rfl)
theorem dX5_foundAt_15 : decode cX5_foundAt 15 = .ok (.iload_n 1, 1) := dk_27 (dk_at dksX5_foundAt_0 15 rfl rfl)
theorem dX5_foundAt_16 : decode cX5_foundAt 16 = .ok (.aload_n 0, 1) := dk_42 (dk_at dksX5_foundAt_0 16 rfl rfl)
theorem dX5_foundAt_17 : decode cX5_foundAt 17 = .ok (.getfield 13, 3) := dk_180 0 13 (dk_at dksX5_foundAt_0 17 rfl rfl)
theorem dX5_foundAt_20 : decode cX5_foundAt 20 = .ok (.bipush 18, 2) := dk_16 18 (dk_at dksX5_foundAt_0 20 rfl rfl)
theorem dX5_foundAt_22 : decode cX5_foundAt 22 = .ok (.iload_n 2, 1) := dk_28 (dk_at dksX5_foundAt_0 22 rfl rfl)
theorem dX5_foundAt_23 : decode cX5_foundAt 23 = .ok (.iadd, 1) := dk_96 (dk_at dksX5_foundAt_0 23 rfl rfl)
theorem dX5_foundAt_24 : decode cX5_foundAt 24 = .ok (.iaload, 1) := dk_46 (dk_at dksX5_foundAt_1 0 rfl rfl)
theorem dX5_foundAt_25 : decode cX5_foundAt 25 = .ok (.invokevirtual 463, 3) := dk_182 1 207 (dk_at dksX5_foundAt_1 1 rfl rfl)
theorem dX5_foundAt_28 : decode cX5_foundAt 28 = .ok (.iload_n 3, 1) := dk_29 (dk_at dksX5_foundAt_1 4 rfl rfl)
theorem dX5_foundAt_29 : decode cX5_foundAt 29 = .ok (.if_icmp .le 14, 3) := dk_164 0 14 (dk_at dksX5_foundAt_1 5 rfl rfl)
theorem dX5_foundAt_32 : decode cX5_foundAt 32 = .ok (.aload_n 0, 1) := dk_42 (dk_at dksX5_foundAt_1 8 rfl rfl)
theorem dX5_foundAt_33 : decode cX5_foundAt 33 = .ok (.invokevirtual 451, 3) := dk_182 1 195 (dk_at dksX5_foundAt_1 9 rfl rfl)
theorem dX5_foundAt_36 : decode cX5_foundAt 36 = .ok (.pop, 1) := dk_87 (dk_at dksX5_foundAt_1 12 rfl rfl)
theorem dX5_foundAt_37 : decode cX5_foundAt 37 = .ok (.iinc 3 1, 3) := dk_132 3 1 (dk_at dksX5_foundAt_1 13 rfl rfl)
theorem dX5_foundAt_40 : decode cX5_foundAt 40 = .ok (.goto (-32), 3) := dk_167 255 224 (dk_at dksX5_foundAt_1 16 rfl rfl)
theorem dX5_foundAt_43 : decode cX5_foundAt 43 = .ok (.aload_n 0, 1) := dk_42 (dk_at dksX5_foundAt_1 19 rfl rfl)
theorem dX5_foundAt_44 : decode cX5_foundAt 44 = .ok (.bipush 16, 2) := dk_16 16 (dk_at dksX5_foundAt_1 20 rfl rfl)
theorem dX5_foundAt_46 : decode cX5_foundAt 46 = .ok (.invokevirtual 176, 3) := dk_182 0 176 (dk_at dksX5_foundAt_2 0 rfl rfl)
theorem dX5_foundAt_49 : decode cX5_foundAt 49 = .ok (.iload_n 3, 1) := dk_29 (dk_at dksX5_foundAt_2 3 rfl rfl)
theorem dX5_foundAt_50 : decode cX5_foundAt 50 = .ok (.bipush 60, 2) := dk_16 60 (dk_at dksX5_foundAt_2 4 rfl rfl)
theorem dX5_foundAt_52 : decode cX5_foundAt 52 = .ok (.if_icmp .le 9, 3) := dk_164 0 9 (dk_at dksX5_foundAt_2 6 rfl rfl)
theorem dX5_foundAt_55 : decode cX5_foundAt 55 = .ok (.ldc_w 459, 3) := dk_19 1 203 (dk_at dksX5_foundAt_2 9 rfl rfl)
theorem dX5_foundAt_58 : decode cX5_foundAt 58 = .ok (.goto 4, 3) := dk_167 0 4 (dk_at dksX5_foundAt_2 12 rfl rfl)
theorem dX5_foundAt_61 : decode cX5_foundAt 61 = .ok (.iload_n 3, 1) := dk_29 (dk_at dksX5_foundAt_2 15 rfl rfl)
theorem dX5_foundAt_62 : decode cX5_foundAt 62 = .ok (.ireturn, 1) := dk_172 (dk_at dksX5_foundAt_2 16 rfl rfl)
abbrev cX5_post : ByteArray := prog_22_method_90_code
def yX5_post : MethodName := ⟨RX5, "post", "(I)I"⟩
def dkwX5_post_5 : List UInt8 := [28, 61, 132, 4, 1, 167, 255, 171, 29, 2, 159, 0, 7, 27, 154, 0, 7, 29, 167, 0, 4, 28, 172]
abbrev dktX5_post_5 : List UInt8 := dkwX5_post_5 ++ []
def dkwX5_post_4 : List UInt8 := [21, 5, 28, 162, 0, 8, 21, 4, 167, 0, 4, 29, 62, 21, 5, 28, 162, 0, 8, 21, 5, 167, 0, 4]
abbrev dktX5_post_4 : List UInt8 := dkwX5_post_4 ++ dktX5_post_5
def dkwX5_post_3 : List UInt8 := [54, 7, 21, 7, 21, 5, 164, 0, 8, 21, 7, 167, 0, 5, 21, 5, 54, 5, 132, 6, 1, 167, 255, 216]
abbrev dktX5_post_3 : List UInt8 := dkwX5_post_3 ++ dktX5_post_4
def dkwX5_post_2 : List UInt8 := [54, 5, 3, 54, 6, 21, 6, 42, 180, 0, 13, 4, 46, 162, 0, 35, 42, 21, 4, 21, 6, 182, 1, 210]
abbrev dktX5_post_2 : List UInt8 := dkwX5_post_2 ++ dktX5_post_3
def dkwX5_post_1 : List UInt8 := [2, 172, 42, 182, 1, 204, 19, 1, 203, 61, 2, 62, 3, 54, 4, 21, 4, 16, 8, 162, 0, 84, 3]
abbrev dktX5_post_1 : List UInt8 := dkwX5_post_1 ++ dktX5_post_2
def dkwX5_post_0 : List UInt8 := [42, 3, 181, 0, 159, 27, 133, 9, 10, 184, 0, 179, 153, 0, 12, 42, 180, 0, 13, 4, 46, 154, 0, 5]
abbrev dktX5_post_0 : List UInt8 := dkwX5_post_0 ++ dktX5_post_1
theorem dksX5_post_0 : cX5_post.data.toList.drop 0 = dktX5_post_0 := by decide +kernel
theorem dksX5_post_1 : cX5_post.data.toList.drop 24 = dktX5_post_1 := dk_seg dksX5_post_0 24 rfl rfl
theorem dksX5_post_2 : cX5_post.data.toList.drop 47 = dktX5_post_2 := dk_seg dksX5_post_1 23 rfl rfl
theorem dksX5_post_3 : cX5_post.data.toList.drop 71 = dktX5_post_3 := dk_seg dksX5_post_2 24 rfl rfl
theorem dksX5_post_4 : cX5_post.data.toList.drop 95 = dktX5_post_4 := dk_seg dksX5_post_3 24 rfl rfl
theorem dksX5_post_5 : cX5_post.data.toList.drop 119 = dktX5_post_5 := dk_seg dksX5_post_4 24 rfl rfl
theorem dX5_post_0 : decode cX5_post 0 = .ok (.aload_n 0, 1) := dk_42 (dk_at dksX5_post_0 0 rfl rfl)
theorem dX5_post_1 : decode cX5_post 1 = .ok (.iconst 0, 1) := dk_3 (dk_at dksX5_post_0 1 rfl rfl)
theorem dX5_post_2 : decode cX5_post 2 = .ok (.putfield 159, 3) := dk_181 0 159 (dk_at dksX5_post_0 2 rfl rfl)
theorem dX5_post_5 : decode cX5_post 5 = .ok (.iload_n 1, 1) := dk_27 (dk_at dksX5_post_0 5 rfl rfl)
theorem dX5_post_6 : decode cX5_post 6 = .ok (.i2l, 1) := dk_133 (dk_at dksX5_post_0 6 rfl rfl)
theorem dX5_post_7 : decode cX5_post 7 = .ok (.lconst 0, 1) := dk_9 (dk_at dksX5_post_0 7 rfl rfl)
theorem dX5_post_8 : decode cX5_post 8 = .ok (.lconst 1, 1) := dk_10 (dk_at dksX5_post_0 8 rfl rfl)
theorem dX5_post_9 : decode cX5_post 9 = .ok (.invokestatic 179, 3) := dk_184 0 179 (dk_at dksX5_post_0 9 rfl rfl)
theorem dX5_post_12 : decode cX5_post 12 = .ok (.ifCond .eq 12, 3) := dk_153 0 12 (dk_at dksX5_post_0 12 rfl rfl)
theorem dX5_post_15 : decode cX5_post 15 = .ok (.aload_n 0, 1) := dk_42 (dk_at dksX5_post_0 15 rfl rfl)
theorem dX5_post_16 : decode cX5_post 16 = .ok (.getfield 13, 3) := dk_180 0 13 (dk_at dksX5_post_0 16 rfl rfl)
theorem dX5_post_19 : decode cX5_post 19 = .ok (.iconst 1, 1) := dk_4 (dk_at dksX5_post_0 19 rfl rfl)
theorem dX5_post_20 : decode cX5_post 20 = .ok (.iaload, 1) := dk_46 (dk_at dksX5_post_0 20 rfl rfl)
theorem dX5_post_21 : decode cX5_post 21 = .ok (.ifCond .ne 5, 3) := dk_154 0 5 (dk_at dksX5_post_0 21 rfl rfl)
theorem dX5_post_24 : decode cX5_post 24 = .ok (.iconst (-1), 1) := dk_2 (dk_at dksX5_post_1 0 rfl rfl)
theorem dX5_post_25 : decode cX5_post 25 = .ok (.ireturn, 1) := dk_172 (dk_at dksX5_post_1 1 rfl rfl)
theorem dX5_post_26 : decode cX5_post 26 = .ok (.aload_n 0, 1) := dk_42 (dk_at dksX5_post_1 2 rfl rfl)
theorem dX5_post_27 : decode cX5_post 27 = .ok (.invokevirtual 460, 3) := dk_182 1 204 (dk_at dksX5_post_1 3 rfl rfl)
theorem dX5_post_30 : decode cX5_post 30 = .ok (.ldc_w 459, 3) := dk_19 1 203 (dk_at dksX5_post_1 6 rfl rfl)
theorem dX5_post_33 : decode cX5_post 33 = .ok (.istore_n 2, 1) := dk_61 (dk_at dksX5_post_1 9 rfl rfl)
theorem dX5_post_34 : decode cX5_post 34 = .ok (.iconst (-1), 1) := dk_2 (dk_at dksX5_post_1 10 rfl rfl)
theorem dX5_post_35 : decode cX5_post 35 = .ok (.istore_n 3, 1) := dk_62 (dk_at dksX5_post_1 11 rfl rfl)
theorem dX5_post_36 : decode cX5_post 36 = .ok (.iconst 0, 1) := dk_3 (dk_at dksX5_post_1 12 rfl rfl)
theorem dX5_post_37 : decode cX5_post 37 = .ok (.istore 4, 2) := dk_54 4 (dk_at dksX5_post_1 13 rfl rfl)
theorem dX5_post_39 : decode cX5_post 39 = .ok (.iload 4, 2) := dk_21 4 (dk_at dksX5_post_1 15 rfl rfl)
theorem dX5_post_41 : decode cX5_post 41 = .ok (.bipush 8, 2) := dk_16 8 (dk_at dksX5_post_1 17 rfl rfl)
theorem dX5_post_43 : decode cX5_post 43 = .ok (.if_icmp .ge 84, 3) := dk_162 0 84 (dk_at dksX5_post_1 19 rfl rfl)
theorem dX5_post_46 : decode cX5_post 46 = .ok (.iconst 0, 1) := dk_3 (dk_at dksX5_post_1 22 rfl rfl)
theorem dX5_post_47 : decode cX5_post 47 = .ok (.istore 5, 2) := dk_54 5 (dk_at dksX5_post_2 0 rfl rfl)
theorem dX5_post_49 : decode cX5_post 49 = .ok (.iconst 0, 1) := dk_3 (dk_at dksX5_post_2 2 rfl rfl)
theorem dX5_post_50 : decode cX5_post 50 = .ok (.istore 6, 2) := dk_54 6 (dk_at dksX5_post_2 3 rfl rfl)
theorem dX5_post_52 : decode cX5_post 52 = .ok (.iload 6, 2) := dk_21 6 (dk_at dksX5_post_2 5 rfl rfl)
theorem dX5_post_54 : decode cX5_post 54 = .ok (.aload_n 0, 1) := dk_42 (dk_at dksX5_post_2 7 rfl rfl)
theorem dX5_post_55 : decode cX5_post 55 = .ok (.getfield 13, 3) := dk_180 0 13 (dk_at dksX5_post_2 8 rfl rfl)
theorem dX5_post_58 : decode cX5_post 58 = .ok (.iconst 1, 1) := dk_4 (dk_at dksX5_post_2 11 rfl rfl)
theorem dX5_post_59 : decode cX5_post 59 = .ok (.iaload, 1) := dk_46 (dk_at dksX5_post_2 12 rfl rfl)
theorem dX5_post_60 : decode cX5_post 60 = .ok (.if_icmp .ge 35, 3) := dk_162 0 35 (dk_at dksX5_post_2 13 rfl rfl)
theorem dX5_post_63 : decode cX5_post 63 = .ok (.aload_n 0, 1) := dk_42 (dk_at dksX5_post_2 16 rfl rfl)
theorem dX5_post_64 : decode cX5_post 64 = .ok (.iload 4, 2) := dk_21 4 (dk_at dksX5_post_2 17 rfl rfl)
theorem dX5_post_66 : decode cX5_post 66 = .ok (.iload 6, 2) := dk_21 6 (dk_at dksX5_post_2 19 rfl rfl)
theorem dX5_post_68 : decode cX5_post 68 = .ok (.invokevirtual 466, 3) := dk_182 1 210 (dk_at dksX5_post_2 21 rfl rfl)
theorem dX5_post_71 : decode cX5_post 71 = .ok (.istore 7, 2) := dk_54 7 (dk_at dksX5_post_3 0 rfl rfl)
theorem dX5_post_73 : decode cX5_post 73 = .ok (.iload 7, 2) := dk_21 7 (dk_at dksX5_post_3 2 rfl rfl)
theorem dX5_post_75 : decode cX5_post 75 = .ok (.iload 5, 2) := dk_21 5 (dk_at dksX5_post_3 4 rfl rfl)
theorem dX5_post_77 : decode cX5_post 77 = .ok (.if_icmp .le 8, 3) := dk_164 0 8 (dk_at dksX5_post_3 6 rfl rfl)
theorem dX5_post_80 : decode cX5_post 80 = .ok (.iload 7, 2) := dk_21 7 (dk_at dksX5_post_3 9 rfl rfl)
theorem dX5_post_82 : decode cX5_post 82 = .ok (.goto 5, 3) := dk_167 0 5 (dk_at dksX5_post_3 11 rfl rfl)
theorem dX5_post_85 : decode cX5_post 85 = .ok (.iload 5, 2) := dk_21 5 (dk_at dksX5_post_3 14 rfl rfl)
theorem dX5_post_87 : decode cX5_post 87 = .ok (.istore 5, 2) := dk_54 5 (dk_at dksX5_post_3 16 rfl rfl)
theorem dX5_post_89 : decode cX5_post 89 = .ok (.iinc 6 1, 3) := dk_132 6 1 (dk_at dksX5_post_3 18 rfl rfl)
theorem dX5_post_92 : decode cX5_post 92 = .ok (.goto (-40), 3) := dk_167 255 216 (dk_at dksX5_post_3 21 rfl rfl)
theorem dX5_post_95 : decode cX5_post 95 = .ok (.iload 5, 2) := dk_21 5 (dk_at dksX5_post_4 0 rfl rfl)
theorem dX5_post_97 : decode cX5_post 97 = .ok (.iload_n 2, 1) := dk_28 (dk_at dksX5_post_4 2 rfl rfl)
theorem dX5_post_98 : decode cX5_post 98 = .ok (.if_icmp .ge 8, 3) := dk_162 0 8 (dk_at dksX5_post_4 3 rfl rfl)
theorem dX5_post_101 : decode cX5_post 101 = .ok (.iload 4, 2) := dk_21 4 (dk_at dksX5_post_4 6 rfl rfl)
theorem dX5_post_103 : decode cX5_post 103 = .ok (.goto 4, 3) := dk_167 0 4 (dk_at dksX5_post_4 8 rfl rfl)
theorem dX5_post_106 : decode cX5_post 106 = .ok (.iload_n 3, 1) := dk_29 (dk_at dksX5_post_4 11 rfl rfl)
theorem dX5_post_107 : decode cX5_post 107 = .ok (.istore_n 3, 1) := dk_62 (dk_at dksX5_post_4 12 rfl rfl)
theorem dX5_post_108 : decode cX5_post 108 = .ok (.iload 5, 2) := dk_21 5 (dk_at dksX5_post_4 13 rfl rfl)
theorem dX5_post_110 : decode cX5_post 110 = .ok (.iload_n 2, 1) := dk_28 (dk_at dksX5_post_4 15 rfl rfl)
theorem dX5_post_111 : decode cX5_post 111 = .ok (.if_icmp .ge 8, 3) := dk_162 0 8 (dk_at dksX5_post_4 16 rfl rfl)
theorem dX5_post_114 : decode cX5_post 114 = .ok (.iload 5, 2) := dk_21 5 (dk_at dksX5_post_4 19 rfl rfl)
theorem dX5_post_116 : decode cX5_post 116 = .ok (.goto 4, 3) := dk_167 0 4 (dk_at dksX5_post_4 21 rfl rfl)
theorem dX5_post_119 : decode cX5_post 119 = .ok (.iload_n 2, 1) := dk_28 (dk_at dksX5_post_5 0 rfl rfl)
theorem dX5_post_120 : decode cX5_post 120 = .ok (.istore_n 2, 1) := dk_61 (dk_at dksX5_post_5 1 rfl rfl)
theorem dX5_post_121 : decode cX5_post 121 = .ok (.iinc 4 1, 3) := dk_132 4 1 (dk_at dksX5_post_5 2 rfl rfl)
theorem dX5_post_124 : decode cX5_post 124 = .ok (.goto (-85), 3) := dk_167 255 171 (dk_at dksX5_post_5 5 rfl rfl)
theorem dX5_post_127 : decode cX5_post 127 = .ok (.iload_n 3, 1) := dk_29 (dk_at dksX5_post_5 8 rfl rfl)
theorem dX5_post_128 : decode cX5_post 128 = .ok (.iconst (-1), 1) := dk_2 (dk_at dksX5_post_5 9 rfl rfl)
theorem dX5_post_129 : decode cX5_post 129 = .ok (.if_icmp .eq 7, 3) := dk_159 0 7 (dk_at dksX5_post_5 10 rfl rfl)
theorem dX5_post_132 : decode cX5_post 132 = .ok (.iload_n 1, 1) := dk_27 (dk_at dksX5_post_5 13 rfl rfl)
theorem dX5_post_133 : decode cX5_post 133 = .ok (.ifCond .ne 7, 3) := dk_154 0 7 (dk_at dksX5_post_5 14 rfl rfl)
theorem dX5_post_136 : decode cX5_post 136 = .ok (.iload_n 3, 1) := dk_29 (dk_at dksX5_post_5 17 rfl rfl)
theorem dX5_post_137 : decode cX5_post 137 = .ok (.goto 4, 3) := dk_167 0 4 (dk_at dksX5_post_5 18 rfl rfl)
theorem dX5_post_140 : decode cX5_post 140 = .ok (.iload_n 2, 1) := dk_28 (dk_at dksX5_post_5 21 rfl rfl)
theorem dX5_post_141 : decode cX5_post 141 = .ok (.ireturn, 1) := dk_172 (dk_at dksX5_post_5 22 rfl rfl)
abbrev cX5_posts : ByteArray := prog_22_method_93_code
def yX5_posts : MethodName := ⟨RX5, "posts", "(II)I"⟩
def dkwX5_posts_4 : List UInt8 := [172]
abbrev dktX5_posts_4 : List UInt8 := dkwX5_posts_4 ++ []
def dkwX5_posts_3 : List UInt8 := [184, 1, 221, 62, 21, 5, 54, 4, 132, 5, 1, 167, 255, 216, 28, 154, 0, 7, 29, 167, 0, 5, 21, 4]
abbrev dktX5_posts_3 : List UInt8 := dkwX5_posts_3 ++ dktX5_posts_4
def dkwX5_posts_2 : List UInt8 := [162, 0, 38, 21, 5, 184, 1, 221, 29, 162, 0, 23, 42, 21, 5, 27, 182, 1, 224, 153, 0, 13, 21, 5]
abbrev dktX5_posts_2 : List UInt8 := dkwX5_posts_2 ++ dktX5_posts_3
def dkwX5_posts_1 : List UInt8 := [154, 0, 5, 2, 172, 42, 182, 1, 204, 19, 1, 203, 62, 3, 54, 4, 3, 54, 5, 21, 5, 17, 1, 0]
abbrev dktX5_posts_1 : List UInt8 := dkwX5_posts_1 ++ dktX5_posts_2
def dkwX5_posts_0 : List UInt8 := [42, 3, 181, 0, 159, 27, 133, 9, 20, 1, 219, 184, 0, 179, 153, 0, 13, 28, 133, 9, 10, 184, 0, 179]
abbrev dktX5_posts_0 : List UInt8 := dkwX5_posts_0 ++ dktX5_posts_1
theorem dksX5_posts_0 : cX5_posts.data.toList.drop 0 = dktX5_posts_0 := by decide +kernel
theorem dksX5_posts_1 : cX5_posts.data.toList.drop 24 = dktX5_posts_1 := dk_seg dksX5_posts_0 24 rfl rfl
theorem dksX5_posts_2 : cX5_posts.data.toList.drop 48 = dktX5_posts_2 := dk_seg dksX5_posts_1 24 rfl rfl
theorem dksX5_posts_3 : cX5_posts.data.toList.drop 72 = dktX5_posts_3 := dk_seg dksX5_posts_2 24 rfl rfl
theorem dksX5_posts_4 : cX5_posts.data.toList.drop 96 = dktX5_posts_4 := dk_seg dksX5_posts_3 24 rfl rfl
theorem dX5_posts_0 : decode cX5_posts 0 = .ok (.aload_n 0, 1) := dk_42 (dk_at dksX5_posts_0 0 rfl rfl)
theorem dX5_posts_1 : decode cX5_posts 1 = .ok (.iconst 0, 1) := dk_3 (dk_at dksX5_posts_0 1 rfl rfl)
theorem dX5_posts_2 : decode cX5_posts 2 = .ok (.putfield 159, 3) := dk_181 0 159 (dk_at dksX5_posts_0 2 rfl rfl)
theorem dX5_posts_5 : decode cX5_posts 5 = .ok (.iload_n 1, 1) := dk_27 (dk_at dksX5_posts_0 5 rfl rfl)
theorem dX5_posts_6 : decode cX5_posts 6 = .ok (.i2l, 1) := dk_133 (dk_at dksX5_posts_0 6 rfl rfl)
theorem dX5_posts_7 : decode cX5_posts 7 = .ok (.lconst 0, 1) := dk_9 (dk_at dksX5_posts_0 7 rfl rfl)
theorem dX5_posts_8 : decode cX5_posts 8 = .ok (.ldc2_w 475, 3) := dk_20 1 219 (dk_at dksX5_posts_0 8 rfl rfl)
theorem dX5_posts_11 : decode cX5_posts 11 = .ok (.invokestatic 179, 3) := dk_184 0 179 (dk_at dksX5_posts_0 11 rfl rfl)
theorem dX5_posts_14 : decode cX5_posts 14 = .ok (.ifCond .eq 13, 3) := dk_153 0 13 (dk_at dksX5_posts_0 14 rfl rfl)
theorem dX5_posts_17 : decode cX5_posts 17 = .ok (.iload_n 2, 1) := dk_28 (dk_at dksX5_posts_0 17 rfl rfl)
theorem dX5_posts_18 : decode cX5_posts 18 = .ok (.i2l, 1) := dk_133 (dk_at dksX5_posts_0 18 rfl rfl)
theorem dX5_posts_19 : decode cX5_posts 19 = .ok (.lconst 0, 1) := dk_9 (dk_at dksX5_posts_0 19 rfl rfl)
theorem dX5_posts_20 : decode cX5_posts 20 = .ok (.lconst 1, 1) := dk_10 (dk_at dksX5_posts_0 20 rfl rfl)
theorem dX5_posts_21 : decode cX5_posts 21 = .ok (.invokestatic 179, 3) := dk_184 0 179 (dk_at dksX5_posts_0 21 rfl rfl)
theorem dX5_posts_24 : decode cX5_posts 24 = .ok (.ifCond .ne 5, 3) := dk_154 0 5 (dk_at dksX5_posts_1 0 rfl rfl)
theorem dX5_posts_27 : decode cX5_posts 27 = .ok (.iconst (-1), 1) := dk_2 (dk_at dksX5_posts_1 3 rfl rfl)
theorem dX5_posts_28 : decode cX5_posts 28 = .ok (.ireturn, 1) := dk_172 (dk_at dksX5_posts_1 4 rfl rfl)
theorem dX5_posts_29 : decode cX5_posts 29 = .ok (.aload_n 0, 1) := dk_42 (dk_at dksX5_posts_1 5 rfl rfl)
theorem dX5_posts_30 : decode cX5_posts 30 = .ok (.invokevirtual 460, 3) := dk_182 1 204 (dk_at dksX5_posts_1 6 rfl rfl)
theorem dX5_posts_33 : decode cX5_posts 33 = .ok (.ldc_w 459, 3) := dk_19 1 203 (dk_at dksX5_posts_1 9 rfl rfl)
theorem dX5_posts_36 : decode cX5_posts 36 = .ok (.istore_n 3, 1) := dk_62 (dk_at dksX5_posts_1 12 rfl rfl)
theorem dX5_posts_37 : decode cX5_posts 37 = .ok (.iconst 0, 1) := dk_3 (dk_at dksX5_posts_1 13 rfl rfl)
theorem dX5_posts_38 : decode cX5_posts 38 = .ok (.istore 4, 2) := dk_54 4 (dk_at dksX5_posts_1 14 rfl rfl)
theorem dX5_posts_40 : decode cX5_posts 40 = .ok (.iconst 0, 1) := dk_3 (dk_at dksX5_posts_1 16 rfl rfl)
theorem dX5_posts_41 : decode cX5_posts 41 = .ok (.istore 5, 2) := dk_54 5 (dk_at dksX5_posts_1 17 rfl rfl)
theorem dX5_posts_43 : decode cX5_posts 43 = .ok (.iload 5, 2) := dk_21 5 (dk_at dksX5_posts_1 19 rfl rfl)
theorem dX5_posts_45 : decode cX5_posts 45 = .ok (.sipush 256, 3) := dk_17 1 0 (dk_at dksX5_posts_1 21 rfl rfl)
theorem dX5_posts_48 : decode cX5_posts 48 = .ok (.if_icmp .ge 38, 3) := dk_162 0 38 (dk_at dksX5_posts_2 0 rfl rfl)
theorem dX5_posts_51 : decode cX5_posts 51 = .ok (.iload 5, 2) := dk_21 5 (dk_at dksX5_posts_2 3 rfl rfl)
theorem dX5_posts_53 : decode cX5_posts 53 = .ok (.invokestatic 477, 3) := dk_184 1 221 (dk_at dksX5_posts_2 5 rfl rfl)
theorem dX5_posts_56 : decode cX5_posts 56 = .ok (.iload_n 3, 1) := dk_29 (dk_at dksX5_posts_2 8 rfl rfl)
theorem dX5_posts_57 : decode cX5_posts 57 = .ok (.if_icmp .ge 23, 3) := dk_162 0 23 (dk_at dksX5_posts_2 9 rfl rfl)
theorem dX5_posts_60 : decode cX5_posts 60 = .ok (.aload_n 0, 1) := dk_42 (dk_at dksX5_posts_2 12 rfl rfl)
theorem dX5_posts_61 : decode cX5_posts 61 = .ok (.iload 5, 2) := dk_21 5 (dk_at dksX5_posts_2 13 rfl rfl)
theorem dX5_posts_63 : decode cX5_posts 63 = .ok (.iload_n 1, 1) := dk_27 (dk_at dksX5_posts_2 15 rfl rfl)
theorem dX5_posts_64 : decode cX5_posts 64 = .ok (.invokevirtual 480, 3) := dk_182 1 224 (dk_at dksX5_posts_2 16 rfl rfl)
theorem dX5_posts_67 : decode cX5_posts 67 = .ok (.ifCond .eq 13, 3) := dk_153 0 13 (dk_at dksX5_posts_2 19 rfl rfl)
theorem dX5_posts_70 : decode cX5_posts 70 = .ok (.iload 5, 2) := dk_21 5 (dk_at dksX5_posts_2 22 rfl rfl)
theorem dX5_posts_72 : decode cX5_posts 72 = .ok (.invokestatic 477, 3) := dk_184 1 221 (dk_at dksX5_posts_3 0 rfl rfl)
theorem dX5_posts_75 : decode cX5_posts 75 = .ok (.istore_n 3, 1) := dk_62 (dk_at dksX5_posts_3 3 rfl rfl)
theorem dX5_posts_76 : decode cX5_posts 76 = .ok (.iload 5, 2) := dk_21 5 (dk_at dksX5_posts_3 4 rfl rfl)
theorem dX5_posts_78 : decode cX5_posts 78 = .ok (.istore 4, 2) := dk_54 4 (dk_at dksX5_posts_3 6 rfl rfl)
theorem dX5_posts_80 : decode cX5_posts 80 = .ok (.iinc 5 1, 3) := dk_132 5 1 (dk_at dksX5_posts_3 8 rfl rfl)
theorem dX5_posts_83 : decode cX5_posts 83 = .ok (.goto (-40), 3) := dk_167 255 216 (dk_at dksX5_posts_3 11 rfl rfl)
theorem dX5_posts_86 : decode cX5_posts 86 = .ok (.iload_n 2, 1) := dk_28 (dk_at dksX5_posts_3 14 rfl rfl)
theorem dX5_posts_87 : decode cX5_posts 87 = .ok (.ifCond .ne 7, 3) := dk_154 0 7 (dk_at dksX5_posts_3 15 rfl rfl)
theorem dX5_posts_90 : decode cX5_posts 90 = .ok (.iload_n 3, 1) := dk_29 (dk_at dksX5_posts_3 18 rfl rfl)
theorem dX5_posts_91 : decode cX5_posts 91 = .ok (.goto 5, 3) := dk_167 0 5 (dk_at dksX5_posts_3 19 rfl rfl)
theorem dX5_posts_94 : decode cX5_posts 94 = .ok (.iload 4, 2) := dk_21 4 (dk_at dksX5_posts_3 22 rfl rfl)
theorem dX5_posts_96 : decode cX5_posts 96 = .ok (.ireturn, 1) := dk_172 (dk_at dksX5_posts_4 0 rfl rfl)
abbrev cX5_ones : ByteArray := prog_22_method_5_code
def yX5_ones : MethodName := ⟨RX5, "ones", "(I)I"⟩
def dkwX5_ones_1 : List UInt8 := [27, 172]
abbrev dktX5_ones_1 : List UInt8 := dkwX5_ones_1 ++ []
def dkwX5_ones_0 : List UInt8 := [3, 60, 3, 61, 28, 16, 8, 162, 0, 17, 27, 26, 28, 122, 4, 126, 96, 60, 132, 2, 1, 167, 255, 239]
abbrev dktX5_ones_0 : List UInt8 := dkwX5_ones_0 ++ dktX5_ones_1
theorem dksX5_ones_0 : cX5_ones.data.toList.drop 0 = dktX5_ones_0 := by decide +kernel
theorem dksX5_ones_1 : cX5_ones.data.toList.drop 24 = dktX5_ones_1 := dk_seg dksX5_ones_0 24 rfl rfl
theorem dX5_ones_0 : decode cX5_ones 0 = .ok (.iconst 0, 1) := dk_3 (dk_at dksX5_ones_0 0 rfl rfl)
theorem dX5_ones_1 : decode cX5_ones 1 = .ok (.istore_n 1, 1) := dk_60 (dk_at dksX5_ones_0 1 rfl rfl)
theorem dX5_ones_2 : decode cX5_ones 2 = .ok (.iconst 0, 1) := dk_3 (dk_at dksX5_ones_0 2 rfl rfl)
theorem dX5_ones_3 : decode cX5_ones 3 = .ok (.istore_n 2, 1) := dk_61 (dk_at dksX5_ones_0 3 rfl rfl)
theorem dX5_ones_4 : decode cX5_ones 4 = .ok (.iload_n 2, 1) := dk_28 (dk_at dksX5_ones_0 4 rfl rfl)
theorem dX5_ones_5 : decode cX5_ones 5 = .ok (.bipush 8, 2) := dk_16 8 (dk_at dksX5_ones_0 5 rfl rfl)
theorem dX5_ones_7 : decode cX5_ones 7 = .ok (.if_icmp .ge 17, 3) := dk_162 0 17 (dk_at dksX5_ones_0 7 rfl rfl)
theorem dX5_ones_10 : decode cX5_ones 10 = .ok (.iload_n 1, 1) := dk_27 (dk_at dksX5_ones_0 10 rfl rfl)
theorem dX5_ones_11 : decode cX5_ones 11 = .ok (.iload_n 0, 1) := dk_26 (dk_at dksX5_ones_0 11 rfl rfl)
theorem dX5_ones_12 : decode cX5_ones 12 = .ok (.iload_n 2, 1) := dk_28 (dk_at dksX5_ones_0 12 rfl rfl)
theorem dX5_ones_13 : decode cX5_ones 13 = .ok (.ishr, 1) := dk_122 (dk_at dksX5_ones_0 13 rfl rfl)
theorem dX5_ones_14 : decode cX5_ones 14 = .ok (.iconst 1, 1) := dk_4 (dk_at dksX5_ones_0 14 rfl rfl)
theorem dX5_ones_15 : decode cX5_ones 15 = .ok (.iand, 1) := dk_126 (dk_at dksX5_ones_0 15 rfl rfl)
theorem dX5_ones_16 : decode cX5_ones 16 = .ok (.iadd, 1) := dk_96 (dk_at dksX5_ones_0 16 rfl rfl)
theorem dX5_ones_17 : decode cX5_ones 17 = .ok (.istore_n 1, 1) := dk_60 (dk_at dksX5_ones_0 17 rfl rfl)
theorem dX5_ones_18 : decode cX5_ones 18 = .ok (.iinc 2 1, 3) := dk_132 2 1 (dk_at dksX5_ones_0 18 rfl rfl)
theorem dX5_ones_21 : decode cX5_ones 21 = .ok (.goto (-17), 3) := dk_167 255 239 (dk_at dksX5_ones_0 21 rfl rfl)
theorem dX5_ones_24 : decode cX5_ones 24 = .ok (.iload_n 1, 1) := dk_27 (dk_at dksX5_ones_1 0 rfl rfl)
theorem dX5_ones_25 : decode cX5_ones 25 = .ok (.ireturn, 1) := dk_172 (dk_at dksX5_ones_1 1 rfl rfl)
abbrev cX5_allNear : ByteArray := prog_22_method_92_code
def yX5_allNear : MethodName := ⟨RX5, "allNear", "(II)Z"⟩
def dkwX5_allNear_4 : List UInt8 := [132, 4, 1, 167, 255, 166, 29, 172]
abbrev dktX5_allNear_4 : List UInt8 := dkwX5_allNear_4 ++ []
def dkwX5_allNear_3 : List UInt8 := [54, 5, 132, 6, 1, 167, 255, 213, 29, 153, 0, 12, 21, 5, 153, 0, 7, 4, 167, 0, 4, 3, 62]
abbrev dktX5_allNear_3 : List UInt8 := dkwX5_allNear_3 ++ dktX5_allNear_4
def dkwX5_allNear_2 : List UInt8 := [184, 1, 216, 153, 0, 19, 42, 21, 6, 21, 4, 182, 1, 207, 28, 163, 0, 7, 4, 167, 0, 4, 3]
abbrev dktX5_allNear_2 : List UInt8 := dkwX5_allNear_2 ++ dktX5_allNear_3
def dkwX5_allNear_1 : List UInt8 := [167, 0, 4, 3, 54, 5, 3, 54, 6, 21, 6, 16, 8, 162, 0, 42, 21, 5, 154, 0, 24, 27, 21, 6]
abbrev dktX5_allNear_1 : List UInt8 := dkwX5_allNear_1 ++ dktX5_allNear_2
def dkwX5_allNear_0 : List UInt8 := [4, 62, 3, 54, 4, 21, 4, 16, 8, 162, 0, 89, 42, 21, 4, 182, 1, 213, 154, 0, 7, 4]
abbrev dktX5_allNear_0 : List UInt8 := dkwX5_allNear_0 ++ dktX5_allNear_1
theorem dksX5_allNear_0 : cX5_allNear.data.toList.drop 0 = dktX5_allNear_0 := by decide +kernel
theorem dksX5_allNear_1 : cX5_allNear.data.toList.drop 22 = dktX5_allNear_1 := dk_seg dksX5_allNear_0 22 rfl rfl
theorem dksX5_allNear_2 : cX5_allNear.data.toList.drop 46 = dktX5_allNear_2 := dk_seg dksX5_allNear_1 24 rfl rfl
theorem dksX5_allNear_3 : cX5_allNear.data.toList.drop 69 = dktX5_allNear_3 := dk_seg dksX5_allNear_2 23 rfl rfl
theorem dksX5_allNear_4 : cX5_allNear.data.toList.drop 92 = dktX5_allNear_4 := dk_seg dksX5_allNear_3 23 rfl rfl
theorem dX5_allNear_0 : decode cX5_allNear 0 = .ok (.iconst 1, 1) := dk_4 (dk_at dksX5_allNear_0 0 rfl rfl)
theorem dX5_allNear_1 : decode cX5_allNear 1 = .ok (.istore_n 3, 1) := dk_62 (dk_at dksX5_allNear_0 1 rfl rfl)
theorem dX5_allNear_2 : decode cX5_allNear 2 = .ok (.iconst 0, 1) := dk_3 (dk_at dksX5_allNear_0 2 rfl rfl)
theorem dX5_allNear_3 : decode cX5_allNear 3 = .ok (.istore 4, 2) := dk_54 4 (dk_at dksX5_allNear_0 3 rfl rfl)
theorem dX5_allNear_5 : decode cX5_allNear 5 = .ok (.iload 4, 2) := dk_21 4 (dk_at dksX5_allNear_0 5 rfl rfl)
theorem dX5_allNear_7 : decode cX5_allNear 7 = .ok (.bipush 8, 2) := dk_16 8 (dk_at dksX5_allNear_0 7 rfl rfl)
theorem dX5_allNear_9 : decode cX5_allNear 9 = .ok (.if_icmp .ge 89, 3) := dk_162 0 89 (dk_at dksX5_allNear_0 9 rfl rfl)
theorem dX5_allNear_12 : decode cX5_allNear 12 = .ok (.aload_n 0, 1) := dk_42 (dk_at dksX5_allNear_0 12 rfl rfl)
theorem dX5_allNear_13 : decode cX5_allNear 13 = .ok (.iload 4, 2) := dk_21 4 (dk_at dksX5_allNear_0 13 rfl rfl)
theorem dX5_allNear_15 : decode cX5_allNear 15 = .ok (.invokevirtual 469, 3) := dk_182 1 213 (dk_at dksX5_allNear_0 15 rfl rfl)
theorem dX5_allNear_18 : decode cX5_allNear 18 = .ok (.ifCond .ne 7, 3) := dk_154 0 7 (dk_at dksX5_allNear_0 18 rfl rfl)
theorem dX5_allNear_21 : decode cX5_allNear 21 = .ok (.iconst 1, 1) := dk_4 (dk_at dksX5_allNear_0 21 rfl rfl)
theorem dX5_allNear_22 : decode cX5_allNear 22 = .ok (.goto 4, 3) := dk_167 0 4 (dk_at dksX5_allNear_1 0 rfl rfl)
theorem dX5_allNear_25 : decode cX5_allNear 25 = .ok (.iconst 0, 1) := dk_3 (dk_at dksX5_allNear_1 3 rfl rfl)
theorem dX5_allNear_26 : decode cX5_allNear 26 = .ok (.istore 5, 2) := dk_54 5 (dk_at dksX5_allNear_1 4 rfl rfl)
theorem dX5_allNear_28 : decode cX5_allNear 28 = .ok (.iconst 0, 1) := dk_3 (dk_at dksX5_allNear_1 6 rfl rfl)
theorem dX5_allNear_29 : decode cX5_allNear 29 = .ok (.istore 6, 2) := dk_54 6 (dk_at dksX5_allNear_1 7 rfl rfl)
theorem dX5_allNear_31 : decode cX5_allNear 31 = .ok (.iload 6, 2) := dk_21 6 (dk_at dksX5_allNear_1 9 rfl rfl)
theorem dX5_allNear_33 : decode cX5_allNear 33 = .ok (.bipush 8, 2) := dk_16 8 (dk_at dksX5_allNear_1 11 rfl rfl)
theorem dX5_allNear_35 : decode cX5_allNear 35 = .ok (.if_icmp .ge 42, 3) := dk_162 0 42 (dk_at dksX5_allNear_1 13 rfl rfl)
theorem dX5_allNear_38 : decode cX5_allNear 38 = .ok (.iload 5, 2) := dk_21 5 (dk_at dksX5_allNear_1 16 rfl rfl)
theorem dX5_allNear_40 : decode cX5_allNear 40 = .ok (.ifCond .ne 24, 3) := dk_154 0 24 (dk_at dksX5_allNear_1 18 rfl rfl)
theorem dX5_allNear_43 : decode cX5_allNear 43 = .ok (.iload_n 1, 1) := dk_27 (dk_at dksX5_allNear_1 21 rfl rfl)
theorem dX5_allNear_44 : decode cX5_allNear 44 = .ok (.iload 6, 2) := dk_21 6 (dk_at dksX5_allNear_1 22 rfl rfl)
theorem dX5_allNear_46 : decode cX5_allNear 46 = .ok (.invokestatic 472, 3) := dk_184 1 216 (dk_at dksX5_allNear_2 0 rfl rfl)
theorem dX5_allNear_49 : decode cX5_allNear 49 = .ok (.ifCond .eq 19, 3) := dk_153 0 19 (dk_at dksX5_allNear_2 3 rfl rfl)
theorem dX5_allNear_52 : decode cX5_allNear 52 = .ok (.aload_n 0, 1) := dk_42 (dk_at dksX5_allNear_2 6 rfl rfl)
theorem dX5_allNear_53 : decode cX5_allNear 53 = .ok (.iload 6, 2) := dk_21 6 (dk_at dksX5_allNear_2 7 rfl rfl)
theorem dX5_allNear_55 : decode cX5_allNear 55 = .ok (.iload 4, 2) := dk_21 4 (dk_at dksX5_allNear_2 9 rfl rfl)
theorem dX5_allNear_57 : decode cX5_allNear 57 = .ok (.invokevirtual 463, 3) := dk_182 1 207 (dk_at dksX5_allNear_2 11 rfl rfl)
theorem dX5_allNear_60 : decode cX5_allNear 60 = .ok (.iload_n 2, 1) := dk_28 (dk_at dksX5_allNear_2 14 rfl rfl)
theorem dX5_allNear_61 : decode cX5_allNear 61 = .ok (.if_icmp .gt 7, 3) := dk_163 0 7 (dk_at dksX5_allNear_2 15 rfl rfl)
theorem dX5_allNear_64 : decode cX5_allNear 64 = .ok (.iconst 1, 1) := dk_4 (dk_at dksX5_allNear_2 18 rfl rfl)
theorem dX5_allNear_65 : decode cX5_allNear 65 = .ok (.goto 4, 3) := dk_167 0 4 (dk_at dksX5_allNear_2 19 rfl rfl)
theorem dX5_allNear_68 : decode cX5_allNear 68 = .ok (.iconst 0, 1) := dk_3 (dk_at dksX5_allNear_2 22 rfl rfl)
theorem dX5_allNear_69 : decode cX5_allNear 69 = .ok (.istore 5, 2) := dk_54 5 (dk_at dksX5_allNear_3 0 rfl rfl)
theorem dX5_allNear_71 : decode cX5_allNear 71 = .ok (.iinc 6 1, 3) := dk_132 6 1 (dk_at dksX5_allNear_3 2 rfl rfl)
theorem dX5_allNear_74 : decode cX5_allNear 74 = .ok (.goto (-43), 3) := dk_167 255 213 (dk_at dksX5_allNear_3 5 rfl rfl)
theorem dX5_allNear_77 : decode cX5_allNear 77 = .ok (.iload_n 3, 1) := dk_29 (dk_at dksX5_allNear_3 8 rfl rfl)
theorem dX5_allNear_78 : decode cX5_allNear 78 = .ok (.ifCond .eq 12, 3) := dk_153 0 12 (dk_at dksX5_allNear_3 9 rfl rfl)
theorem dX5_allNear_81 : decode cX5_allNear 81 = .ok (.iload 5, 2) := dk_21 5 (dk_at dksX5_allNear_3 12 rfl rfl)
theorem dX5_allNear_83 : decode cX5_allNear 83 = .ok (.ifCond .eq 7, 3) := dk_153 0 7 (dk_at dksX5_allNear_3 14 rfl rfl)
theorem dX5_allNear_86 : decode cX5_allNear 86 = .ok (.iconst 1, 1) := dk_4 (dk_at dksX5_allNear_3 17 rfl rfl)
theorem dX5_allNear_87 : decode cX5_allNear 87 = .ok (.goto 4, 3) := dk_167 0 4 (dk_at dksX5_allNear_3 18 rfl rfl)
theorem dX5_allNear_90 : decode cX5_allNear 90 = .ok (.iconst 0, 1) := dk_3 (dk_at dksX5_allNear_3 21 rfl rfl)
theorem dX5_allNear_91 : decode cX5_allNear 91 = .ok (.istore_n 3, 1) := dk_62 (dk_at dksX5_allNear_3 22 rfl rfl)
theorem dX5_allNear_92 : decode cX5_allNear 92 = .ok (.iinc 4 1, 3) := dk_132 4 1 (dk_at dksX5_allNear_4 0 rfl rfl)
theorem dX5_allNear_95 : decode cX5_allNear 95 = .ok (.goto (-90), 3) := dk_167 255 166 (dk_at dksX5_allNear_4 3 rfl rfl)
theorem dX5_allNear_98 : decode cX5_allNear 98 = .ok (.iload_n 3, 1) := dk_29 (dk_at dksX5_allNear_4 6 rfl rfl)
theorem dX5_allNear_99 : decode cX5_allNear 99 = .ok (.ireturn, 1) := dk_172 (dk_at dksX5_allNear_4 7 rfl rfl)
abbrev cX5_laneEnds : ByteArray := prog_22_method_91_code
def yX5_laneEnds : MethodName := ⟨RX5, "laneEnds", "(I)I"⟩
def dkwX5_laneEnds_1 : List UInt8 := [4, 167, 0, 4, 3, 96, 61, 132, 3, 1, 167, 255, 226, 28, 172]
abbrev dktX5_laneEnds_1 : List UInt8 := dkwX5_laneEnds_1 ++ []
def dkwX5_laneEnds_0 : List UInt8 := [3, 61, 3, 62, 29, 42, 180, 0, 13, 3, 46, 162, 0, 26, 28, 42, 29, 27, 182, 1, 168, 153, 0, 7]
abbrev dktX5_laneEnds_0 : List UInt8 := dkwX5_laneEnds_0 ++ dktX5_laneEnds_1
theorem dksX5_laneEnds_0 : cX5_laneEnds.data.toList.drop 0 = dktX5_laneEnds_0 := by decide +kernel
theorem dksX5_laneEnds_1 : cX5_laneEnds.data.toList.drop 24 = dktX5_laneEnds_1 := dk_seg dksX5_laneEnds_0 24 rfl rfl
theorem dX5_laneEnds_0 : decode cX5_laneEnds 0 = .ok (.iconst 0, 1) := dk_3 (dk_at dksX5_laneEnds_0 0 rfl rfl)
theorem dX5_laneEnds_1 : decode cX5_laneEnds 1 = .ok (.istore_n 2, 1) := dk_61 (dk_at dksX5_laneEnds_0 1 rfl rfl)
theorem dX5_laneEnds_2 : decode cX5_laneEnds 2 = .ok (.iconst 0, 1) := dk_3 (dk_at dksX5_laneEnds_0 2 rfl rfl)
theorem dX5_laneEnds_3 : decode cX5_laneEnds 3 = .ok (.istore_n 3, 1) := dk_62 (dk_at dksX5_laneEnds_0 3 rfl rfl)
theorem dX5_laneEnds_4 : decode cX5_laneEnds 4 = .ok (.iload_n 3, 1) := dk_29 (dk_at dksX5_laneEnds_0 4 rfl rfl)
theorem dX5_laneEnds_5 : decode cX5_laneEnds 5 = .ok (.aload_n 0, 1) := dk_42 (dk_at dksX5_laneEnds_0 5 rfl rfl)
theorem dX5_laneEnds_6 : decode cX5_laneEnds 6 = .ok (.getfield 13, 3) := dk_180 0 13 (dk_at dksX5_laneEnds_0 6 rfl rfl)
theorem dX5_laneEnds_9 : decode cX5_laneEnds 9 = .ok (.iconst 0, 1) := dk_3 (dk_at dksX5_laneEnds_0 9 rfl rfl)
theorem dX5_laneEnds_10 : decode cX5_laneEnds 10 = .ok (.iaload, 1) := dk_46 (dk_at dksX5_laneEnds_0 10 rfl rfl)
theorem dX5_laneEnds_11 : decode cX5_laneEnds 11 = .ok (.if_icmp .ge 26, 3) := dk_162 0 26 (dk_at dksX5_laneEnds_0 11 rfl rfl)
theorem dX5_laneEnds_14 : decode cX5_laneEnds 14 = .ok (.iload_n 2, 1) := dk_28 (dk_at dksX5_laneEnds_0 14 rfl rfl)
theorem dX5_laneEnds_15 : decode cX5_laneEnds 15 = .ok (.aload_n 0, 1) := dk_42 (dk_at dksX5_laneEnds_0 15 rfl rfl)
theorem dX5_laneEnds_16 : decode cX5_laneEnds 16 = .ok (.iload_n 3, 1) := dk_29 (dk_at dksX5_laneEnds_0 16 rfl rfl)
theorem dX5_laneEnds_17 : decode cX5_laneEnds 17 = .ok (.iload_n 1, 1) := dk_27 (dk_at dksX5_laneEnds_0 17 rfl rfl)
theorem dX5_laneEnds_18 : decode cX5_laneEnds 18 = .ok (.invokevirtual 424, 3) := dk_182 1 168 (dk_at dksX5_laneEnds_0 18 rfl rfl)
theorem dX5_laneEnds_21 : decode cX5_laneEnds 21 = .ok (.ifCond .eq 7, 3) := dk_153 0 7 (dk_at dksX5_laneEnds_0 21 rfl rfl)
theorem dX5_laneEnds_24 : decode cX5_laneEnds 24 = .ok (.iconst 1, 1) := dk_4 (dk_at dksX5_laneEnds_1 0 rfl rfl)
theorem dX5_laneEnds_25 : decode cX5_laneEnds 25 = .ok (.goto 4, 3) := dk_167 0 4 (dk_at dksX5_laneEnds_1 1 rfl rfl)
theorem dX5_laneEnds_28 : decode cX5_laneEnds 28 = .ok (.iconst 0, 1) := dk_3 (dk_at dksX5_laneEnds_1 4 rfl rfl)
theorem dX5_laneEnds_29 : decode cX5_laneEnds 29 = .ok (.iadd, 1) := dk_96 (dk_at dksX5_laneEnds_1 5 rfl rfl)
theorem dX5_laneEnds_30 : decode cX5_laneEnds 30 = .ok (.istore_n 2, 1) := dk_61 (dk_at dksX5_laneEnds_1 6 rfl rfl)
theorem dX5_laneEnds_31 : decode cX5_laneEnds 31 = .ok (.iinc 3 1, 3) := dk_132 3 1 (dk_at dksX5_laneEnds_1 7 rfl rfl)
theorem dX5_laneEnds_34 : decode cX5_laneEnds 34 = .ok (.goto (-30), 3) := dk_167 255 226 (dk_at dksX5_laneEnds_1 10 rfl rfl)
theorem dX5_laneEnds_37 : decode cX5_laneEnds 37 = .ok (.iload_n 2, 1) := dk_28 (dk_at dksX5_laneEnds_1 13 rfl rfl)
theorem dX5_laneEnds_38 : decode cX5_laneEnds 38 = .ok (.ireturn, 1) := dk_172 (dk_at dksX5_laneEnds_1 14 rfl rfl)
abbrev cX5_is : ByteArray := prog_22_method_4_code
def yX5_is : MethodName := ⟨RX5, "is", "(II)Z"⟩
def dkwX5_is_0 : List UInt8 := [26, 27, 122, 4, 126, 4, 160, 0, 7, 4, 167, 0, 4, 3, 172]
abbrev dktX5_is_0 : List UInt8 := dkwX5_is_0 ++ []
theorem dksX5_is_0 : cX5_is.data.toList.drop 0 = dktX5_is_0 := by decide +kernel
theorem dX5_is_0 : decode cX5_is 0 = .ok (.iload_n 0, 1) := dk_26 (dk_at dksX5_is_0 0 rfl rfl)
theorem dX5_is_1 : decode cX5_is 1 = .ok (.iload_n 1, 1) := dk_27 (dk_at dksX5_is_0 1 rfl rfl)
theorem dX5_is_2 : decode cX5_is 2 = .ok (.ishr, 1) := dk_122 (dk_at dksX5_is_0 2 rfl rfl)
theorem dX5_is_3 : decode cX5_is 3 = .ok (.iconst 1, 1) := dk_4 (dk_at dksX5_is_0 3 rfl rfl)
theorem dX5_is_4 : decode cX5_is 4 = .ok (.iand, 1) := dk_126 (dk_at dksX5_is_0 4 rfl rfl)
theorem dX5_is_5 : decode cX5_is 5 = .ok (.iconst 1, 1) := dk_4 (dk_at dksX5_is_0 5 rfl rfl)
theorem dX5_is_6 : decode cX5_is 6 = .ok (.if_icmp .ne 7, 3) := dk_160 0 7 (dk_at dksX5_is_0 6 rfl rfl)
theorem dX5_is_9 : decode cX5_is 9 = .ok (.iconst 1, 1) := dk_4 (dk_at dksX5_is_0 9 rfl rfl)
theorem dX5_is_10 : decode cX5_is 10 = .ok (.goto 4, 3) := dk_167 0 4 (dk_at dksX5_is_0 10 rfl rfl)
theorem dX5_is_13 : decode cX5_is 13 = .ok (.iconst 0, 1) := dk_3 (dk_at dksX5_is_0 13 rfl rfl)
theorem dX5_is_14 : decode cX5_is 14 = .ok (.ireturn, 1) := dk_172 (dk_at dksX5_is_0 14 rfl rfl)
abbrev cX5_again : ByteArray := prog_22_method_94_code
def yX5_again : MethodName := ⟨RX5, "again", "(I)I"⟩
def dkwX5_again_3 : List UInt8 := [182, 0, 176, 29, 16, 60, 164, 0, 7, 2, 167, 0, 4, 29, 172]
abbrev dktX5_again_3 : List UInt8 := dkwX5_again_3 ++ []
def dkwX5_again_2 : List UInt8 := [16, 18, 27, 96, 46, 28, 159, 0, 14, 42, 182, 1, 195, 87, 132, 3, 1, 167, 255, 229, 42, 16, 16]
abbrev dktX5_again_2 : List UInt8 := dkwX5_again_2 ++ dktX5_again_3
def dkwX5_again_1 : List UInt8 := [61, 42, 16, 16, 182, 0, 172, 42, 182, 1, 195, 87, 4, 62, 29, 16, 60, 163, 0, 27, 42, 180, 0, 13]
abbrev dktX5_again_1 : List UInt8 := dkwX5_again_1 ++ dktX5_again_2
def dkwX5_again_0 : List UInt8 := [42, 3, 181, 0, 159, 42, 27, 182, 0, 203, 154, 0, 5, 2, 172, 42, 180, 0, 13, 16, 18, 27, 96, 46]
abbrev dktX5_again_0 : List UInt8 := dkwX5_again_0 ++ dktX5_again_1
theorem dksX5_again_0 : cX5_again.data.toList.drop 0 = dktX5_again_0 := by decide +kernel
theorem dksX5_again_1 : cX5_again.data.toList.drop 24 = dktX5_again_1 := dk_seg dksX5_again_0 24 rfl rfl
theorem dksX5_again_2 : cX5_again.data.toList.drop 48 = dktX5_again_2 := dk_seg dksX5_again_1 24 rfl rfl
theorem dksX5_again_3 : cX5_again.data.toList.drop 71 = dktX5_again_3 := dk_seg dksX5_again_2 23 rfl rfl
theorem dX5_again_0 : decode cX5_again 0 = .ok (.aload_n 0, 1) := dk_42 (dk_at dksX5_again_0 0 rfl rfl)
theorem dX5_again_1 : decode cX5_again 1 = .ok (.iconst 0, 1) := dk_3 (dk_at dksX5_again_0 1 rfl rfl)
theorem dX5_again_2 : decode cX5_again 2 = .ok (.putfield 159, 3) := dk_181 0 159 (dk_at dksX5_again_0 2 rfl rfl)
theorem dX5_again_5 : decode cX5_again 5 = .ok (.aload_n 0, 1) := dk_42 (dk_at dksX5_again_0 5 rfl rfl)
theorem dX5_again_6 : decode cX5_again 6 = .ok (.iload_n 1, 1) := dk_27 (dk_at dksX5_again_0 6 rfl rfl)
theorem dX5_again_7 : decode cX5_again 7 = .ok (.invokevirtual 203, 3) := dk_182 0 203 (dk_at dksX5_again_0 7 rfl rfl)
theorem dX5_again_10 : decode cX5_again 10 = .ok (.ifCond .ne 5, 3) := dk_154 0 5 (dk_at dksX5_again_0 10 rfl rfl)
theorem dX5_again_13 : decode cX5_again 13 = .ok (.iconst (-1), 1) := dk_2 (dk_at dksX5_again_0 13 rfl rfl)
theorem dX5_again_14 : decode cX5_again 14 = .ok (.ireturn, 1) := dk_172 (dk_at dksX5_again_0 14 rfl rfl)
theorem dX5_again_15 : decode cX5_again 15 = .ok (.aload_n 0, 1) := dk_42 (dk_at dksX5_again_0 15 rfl rfl)
theorem dX5_again_16 : decode cX5_again 16 = .ok (.getfield 13, 3) := dk_180 0 13 (dk_at dksX5_again_0 16 rfl rfl)
theorem dX5_again_19 : decode cX5_again 19 = .ok (.bipush 18, 2) := dk_16 18 (dk_at dksX5_again_0 19 rfl rfl)
theorem dX5_again_21 : decode cX5_again 21 = .ok (.iload_n 1, 1) := dk_27 (dk_at dksX5_again_0 21 rfl rfl)
theorem dX5_again_22 : decode cX5_again 22 = .ok (.iadd, 1) := dk_96 (dk_at dksX5_again_0 22 rfl rfl)
theorem dX5_again_23 : decode cX5_again 23 = .ok (.iaload, 1) := dk_46 (dk_at dksX5_again_0 23 rfl rfl)
theorem dX5_again_24 : decode cX5_again 24 = .ok (.istore_n 2, 1) := dk_61 (dk_at dksX5_again_1 0 rfl rfl)
theorem dX5_again_25 : decode cX5_again 25 = .ok (.aload_n 0, 1) := dk_42 (dk_at dksX5_again_1 1 rfl rfl)
theorem dX5_again_26 : decode cX5_again 26 = .ok (.bipush 16, 2) := dk_16 16 (dk_at dksX5_again_1 2 rfl rfl)
theorem dX5_again_28 : decode cX5_again 28 = .ok (.invokevirtual 172, 3) := dk_182 0 172 (dk_at dksX5_again_1 4 rfl rfl)
theorem dX5_again_31 : decode cX5_again 31 = .ok (.aload_n 0, 1) := dk_42 (dk_at dksX5_again_1 7 rfl rfl)
theorem dX5_again_32 : decode cX5_again 32 = .ok (.invokevirtual 451, 3) := dk_182 1 195 (dk_at dksX5_again_1 8 rfl rfl)
theorem dX5_again_35 : decode cX5_again 35 = .ok (.pop, 1) := dk_87 (dk_at dksX5_again_1 11 rfl rfl)
theorem dX5_again_36 : decode cX5_again 36 = .ok (.iconst 1, 1) := dk_4 (dk_at dksX5_again_1 12 rfl rfl)
theorem dX5_again_37 : decode cX5_again 37 = .ok (.istore_n 3, 1) := dk_62 (dk_at dksX5_again_1 13 rfl rfl)
theorem dX5_again_38 : decode cX5_again 38 = .ok (.iload_n 3, 1) := dk_29 (dk_at dksX5_again_1 14 rfl rfl)
theorem dX5_again_39 : decode cX5_again 39 = .ok (.bipush 60, 2) := dk_16 60 (dk_at dksX5_again_1 15 rfl rfl)
theorem dX5_again_41 : decode cX5_again 41 = .ok (.if_icmp .gt 27, 3) := dk_163 0 27 (dk_at dksX5_again_1 17 rfl rfl)
theorem dX5_again_44 : decode cX5_again 44 = .ok (.aload_n 0, 1) := dk_42 (dk_at dksX5_again_1 20 rfl rfl)
theorem dX5_again_45 : decode cX5_again 45 = .ok (.getfield 13, 3) := dk_180 0 13 (dk_at dksX5_again_1 21 rfl rfl)
theorem dX5_again_48 : decode cX5_again 48 = .ok (.bipush 18, 2) := dk_16 18 (dk_at dksX5_again_2 0 rfl rfl)
theorem dX5_again_50 : decode cX5_again 50 = .ok (.iload_n 1, 1) := dk_27 (dk_at dksX5_again_2 2 rfl rfl)
theorem dX5_again_51 : decode cX5_again 51 = .ok (.iadd, 1) := dk_96 (dk_at dksX5_again_2 3 rfl rfl)
theorem dX5_again_52 : decode cX5_again 52 = .ok (.iaload, 1) := dk_46 (dk_at dksX5_again_2 4 rfl rfl)
theorem dX5_again_53 : decode cX5_again 53 = .ok (.iload_n 2, 1) := dk_28 (dk_at dksX5_again_2 5 rfl rfl)
theorem dX5_again_54 : decode cX5_again 54 = .ok (.if_icmp .eq 14, 3) := dk_159 0 14 (dk_at dksX5_again_2 6 rfl rfl)
theorem dX5_again_57 : decode cX5_again 57 = .ok (.aload_n 0, 1) := dk_42 (dk_at dksX5_again_2 9 rfl rfl)
theorem dX5_again_58 : decode cX5_again 58 = .ok (.invokevirtual 451, 3) := dk_182 1 195 (dk_at dksX5_again_2 10 rfl rfl)
theorem dX5_again_61 : decode cX5_again 61 = .ok (.pop, 1) := dk_87 (dk_at dksX5_again_2 13 rfl rfl)
theorem dX5_again_62 : decode cX5_again 62 = .ok (.iinc 3 1, 3) := dk_132 3 1 (dk_at dksX5_again_2 14 rfl rfl)
theorem dX5_again_65 : decode cX5_again 65 = .ok (.goto (-27), 3) := dk_167 255 229 (dk_at dksX5_again_2 17 rfl rfl)
theorem dX5_again_68 : decode cX5_again 68 = .ok (.aload_n 0, 1) := dk_42 (dk_at dksX5_again_2 20 rfl rfl)
theorem dX5_again_69 : decode cX5_again 69 = .ok (.bipush 16, 2) := dk_16 16 (dk_at dksX5_again_2 21 rfl rfl)
theorem dX5_again_71 : decode cX5_again 71 = .ok (.invokevirtual 176, 3) := dk_182 0 176 (dk_at dksX5_again_3 0 rfl rfl)
theorem dX5_again_74 : decode cX5_again 74 = .ok (.iload_n 3, 1) := dk_29 (dk_at dksX5_again_3 3 rfl rfl)
theorem dX5_again_75 : decode cX5_again 75 = .ok (.bipush 60, 2) := dk_16 60 (dk_at dksX5_again_3 4 rfl rfl)
theorem dX5_again_77 : decode cX5_again 77 = .ok (.if_icmp .le 7, 3) := dk_164 0 7 (dk_at dksX5_again_3 6 rfl rfl)
theorem dX5_again_80 : decode cX5_again 80 = .ok (.iconst (-1), 1) := dk_2 (dk_at dksX5_again_3 9 rfl rfl)
theorem dX5_again_81 : decode cX5_again 81 = .ok (.goto 4, 3) := dk_167 0 4 (dk_at dksX5_again_3 10 rfl rfl)
theorem dX5_again_84 : decode cX5_again 84 = .ok (.iload_n 3, 1) := dk_29 (dk_at dksX5_again_3 13 rfl rfl)
theorem dX5_again_85 : decode cX5_again 85 = .ok (.ireturn, 1) := dk_172 (dk_at dksX5_again_3 14 rfl rfl)
abbrev cX5_hear : ByteArray := prog_22_method_95_code
def yX5_hear : MethodName := ⟨RX5, "hear", "(I)I"⟩
def dkwX5_hear_2 : List UInt8 := [16, 70, 28, 96, 27, 79, 42, 180, 0, 13, 5, 92, 46, 4, 96, 79, 42, 28, 4, 96, 182, 0, 168, 172]
abbrev dktX5_hear_2 : List UInt8 := dkwX5_hear_2 ++ []
def dkwX5_hear_1 : List UInt8 := [180, 0, 13, 5, 46, 61, 28, 16, 6, 160, 0, 10, 42, 16, 251, 182, 0, 168, 172, 42, 180, 0, 13]
abbrev dktX5_hear_1 : List UInt8 := dkwX5_hear_1 ++ dktX5_hear_2
def dkwX5_hear_0 : List UInt8 := [42, 3, 181, 0, 159, 27, 133, 9, 20, 1, 227, 184, 0, 179, 154, 0, 9, 42, 2, 182, 0, 168, 172, 42]
abbrev dktX5_hear_0 : List UInt8 := dkwX5_hear_0 ++ dktX5_hear_1
theorem dksX5_hear_0 : cX5_hear.data.toList.drop 0 = dktX5_hear_0 := by decide +kernel
theorem dksX5_hear_1 : cX5_hear.data.toList.drop 24 = dktX5_hear_1 := dk_seg dksX5_hear_0 24 rfl rfl
theorem dksX5_hear_2 : cX5_hear.data.toList.drop 47 = dktX5_hear_2 := dk_seg dksX5_hear_1 23 rfl rfl
theorem dX5_hear_0 : decode cX5_hear 0 = .ok (.aload_n 0, 1) := dk_42 (dk_at dksX5_hear_0 0 rfl rfl)
theorem dX5_hear_1 : decode cX5_hear 1 = .ok (.iconst 0, 1) := dk_3 (dk_at dksX5_hear_0 1 rfl rfl)
theorem dX5_hear_2 : decode cX5_hear 2 = .ok (.putfield 159, 3) := dk_181 0 159 (dk_at dksX5_hear_0 2 rfl rfl)
theorem dX5_hear_5 : decode cX5_hear 5 = .ok (.iload_n 1, 1) := dk_27 (dk_at dksX5_hear_0 5 rfl rfl)
theorem dX5_hear_6 : decode cX5_hear 6 = .ok (.i2l, 1) := dk_133 (dk_at dksX5_hear_0 6 rfl rfl)
theorem dX5_hear_7 : decode cX5_hear 7 = .ok (.lconst 0, 1) := dk_9 (dk_at dksX5_hear_0 7 rfl rfl)
theorem dX5_hear_8 : decode cX5_hear 8 = .ok (.ldc2_w 483, 3) := dk_20 1 227 (dk_at dksX5_hear_0 8 rfl rfl)
theorem dX5_hear_11 : decode cX5_hear 11 = .ok (.invokestatic 179, 3) := dk_184 0 179 (dk_at dksX5_hear_0 11 rfl rfl)
theorem dX5_hear_14 : decode cX5_hear 14 = .ok (.ifCond .ne 9, 3) := dk_154 0 9 (dk_at dksX5_hear_0 14 rfl rfl)
theorem dX5_hear_17 : decode cX5_hear 17 = .ok (.aload_n 0, 1) := dk_42 (dk_at dksX5_hear_0 17 rfl rfl)
theorem dX5_hear_18 : decode cX5_hear 18 = .ok (.iconst (-1), 1) := dk_2 (dk_at dksX5_hear_0 18 rfl rfl)
theorem dX5_hear_19 : decode cX5_hear 19 = .ok (.invokevirtual 168, 3) := dk_182 0 168 (dk_at dksX5_hear_0 19 rfl rfl)
theorem dX5_hear_22 : decode cX5_hear 22 = .ok (.ireturn, 1) := dk_172 (dk_at dksX5_hear_0 22 rfl rfl)
theorem dX5_hear_23 : decode cX5_hear 23 = .ok (.aload_n 0, 1) := dk_42 (dk_at dksX5_hear_0 23 rfl rfl)
theorem dX5_hear_24 : decode cX5_hear 24 = .ok (.getfield 13, 3) := dk_180 0 13 (dk_at dksX5_hear_1 0 rfl rfl)
theorem dX5_hear_27 : decode cX5_hear 27 = .ok (.iconst 2, 1) := dk_5 (dk_at dksX5_hear_1 3 rfl rfl)
theorem dX5_hear_28 : decode cX5_hear 28 = .ok (.iaload, 1) := dk_46 (dk_at dksX5_hear_1 4 rfl rfl)
theorem dX5_hear_29 : decode cX5_hear 29 = .ok (.istore_n 2, 1) := dk_61 (dk_at dksX5_hear_1 5 rfl rfl)
theorem dX5_hear_30 : decode cX5_hear 30 = .ok (.iload_n 2, 1) := dk_28 (dk_at dksX5_hear_1 6 rfl rfl)
theorem dX5_hear_31 : decode cX5_hear 31 = .ok (.bipush 6, 2) := dk_16 6 (dk_at dksX5_hear_1 7 rfl rfl)
theorem dX5_hear_33 : decode cX5_hear 33 = .ok (.if_icmp .ne 10, 3) := dk_160 0 10 (dk_at dksX5_hear_1 9 rfl rfl)
theorem dX5_hear_36 : decode cX5_hear 36 = .ok (.aload_n 0, 1) := dk_42 (dk_at dksX5_hear_1 12 rfl rfl)
theorem dX5_hear_37 : decode cX5_hear 37 = .ok (.bipush (-5), 2) := dk_16 251 (dk_at dksX5_hear_1 13 rfl rfl)
theorem dX5_hear_39 : decode cX5_hear 39 = .ok (.invokevirtual 168, 3) := dk_182 0 168 (dk_at dksX5_hear_1 15 rfl rfl)
theorem dX5_hear_42 : decode cX5_hear 42 = .ok (.ireturn, 1) := dk_172 (dk_at dksX5_hear_1 18 rfl rfl)
theorem dX5_hear_43 : decode cX5_hear 43 = .ok (.aload_n 0, 1) := dk_42 (dk_at dksX5_hear_1 19 rfl rfl)
theorem dX5_hear_44 : decode cX5_hear 44 = .ok (.getfield 13, 3) := dk_180 0 13 (dk_at dksX5_hear_1 20 rfl rfl)
theorem dX5_hear_47 : decode cX5_hear 47 = .ok (.bipush 70, 2) := dk_16 70 (dk_at dksX5_hear_2 0 rfl rfl)
theorem dX5_hear_49 : decode cX5_hear 49 = .ok (.iload_n 2, 1) := dk_28 (dk_at dksX5_hear_2 2 rfl rfl)
theorem dX5_hear_50 : decode cX5_hear 50 = .ok (.iadd, 1) := dk_96 (dk_at dksX5_hear_2 3 rfl rfl)
theorem dX5_hear_51 : decode cX5_hear 51 = .ok (.iload_n 1, 1) := dk_27 (dk_at dksX5_hear_2 4 rfl rfl)
theorem dX5_hear_52 : decode cX5_hear 52 = .ok (.iastore, 1) := dk_79 (dk_at dksX5_hear_2 5 rfl rfl)
theorem dX5_hear_53 : decode cX5_hear 53 = .ok (.aload_n 0, 1) := dk_42 (dk_at dksX5_hear_2 6 rfl rfl)
theorem dX5_hear_54 : decode cX5_hear 54 = .ok (.getfield 13, 3) := dk_180 0 13 (dk_at dksX5_hear_2 7 rfl rfl)
theorem dX5_hear_57 : decode cX5_hear 57 = .ok (.iconst 2, 1) := dk_5 (dk_at dksX5_hear_2 10 rfl rfl)
theorem dX5_hear_58 : decode cX5_hear 58 = .ok (.dup2, 1) := dk_92 (dk_at dksX5_hear_2 11 rfl rfl)
theorem dX5_hear_59 : decode cX5_hear 59 = .ok (.iaload, 1) := dk_46 (dk_at dksX5_hear_2 12 rfl rfl)
theorem dX5_hear_60 : decode cX5_hear 60 = .ok (.iconst 1, 1) := dk_4 (dk_at dksX5_hear_2 13 rfl rfl)
theorem dX5_hear_61 : decode cX5_hear 61 = .ok (.iadd, 1) := dk_96 (dk_at dksX5_hear_2 14 rfl rfl)
theorem dX5_hear_62 : decode cX5_hear 62 = .ok (.iastore, 1) := dk_79 (dk_at dksX5_hear_2 15 rfl rfl)
theorem dX5_hear_63 : decode cX5_hear 63 = .ok (.aload_n 0, 1) := dk_42 (dk_at dksX5_hear_2 16 rfl rfl)
theorem dX5_hear_64 : decode cX5_hear 64 = .ok (.iload_n 2, 1) := dk_28 (dk_at dksX5_hear_2 17 rfl rfl)
theorem dX5_hear_65 : decode cX5_hear 65 = .ok (.iconst 1, 1) := dk_4 (dk_at dksX5_hear_2 18 rfl rfl)
theorem dX5_hear_66 : decode cX5_hear 66 = .ok (.iadd, 1) := dk_96 (dk_at dksX5_hear_2 19 rfl rfl)
theorem dX5_hear_67 : decode cX5_hear 67 = .ok (.invokevirtual 168, 3) := dk_182 0 168 (dk_at dksX5_hear_2 20 rfl rfl)
theorem dX5_hear_70 : decode cX5_hear 70 = .ok (.ireturn, 1) := dk_172 (dk_at dksX5_hear_2 23 rfl rfl)
abbrev cX5_forget : ByteArray := prog_22_method_96_code
def yX5_forget : MethodName := ⟨RX5, "forget", "()I"⟩
def dkwX5_forget_0 : List UInt8 := [42, 3, 181, 0, 159, 42, 180, 0, 13, 5, 46, 60, 42, 180, 0, 13, 5, 3, 79, 27, 172]
abbrev dktX5_forget_0 : List UInt8 := dkwX5_forget_0 ++ []
theorem dksX5_forget_0 : cX5_forget.data.toList.drop 0 = dktX5_forget_0 := by decide +kernel
theorem dX5_forget_0 : decode cX5_forget 0 = .ok (.aload_n 0, 1) := dk_42 (dk_at dksX5_forget_0 0 rfl rfl)
theorem dX5_forget_1 : decode cX5_forget 1 = .ok (.iconst 0, 1) := dk_3 (dk_at dksX5_forget_0 1 rfl rfl)
theorem dX5_forget_2 : decode cX5_forget 2 = .ok (.putfield 159, 3) := dk_181 0 159 (dk_at dksX5_forget_0 2 rfl rfl)
theorem dX5_forget_5 : decode cX5_forget 5 = .ok (.aload_n 0, 1) := dk_42 (dk_at dksX5_forget_0 5 rfl rfl)
theorem dX5_forget_6 : decode cX5_forget 6 = .ok (.getfield 13, 3) := dk_180 0 13 (dk_at dksX5_forget_0 6 rfl rfl)
theorem dX5_forget_9 : decode cX5_forget 9 = .ok (.iconst 2, 1) := dk_5 (dk_at dksX5_forget_0 9 rfl rfl)
theorem dX5_forget_10 : decode cX5_forget 10 = .ok (.iaload, 1) := dk_46 (dk_at dksX5_forget_0 10 rfl rfl)
theorem dX5_forget_11 : decode cX5_forget 11 = .ok (.istore_n 1, 1) := dk_60 (dk_at dksX5_forget_0 11 rfl rfl)
theorem dX5_forget_12 : decode cX5_forget 12 = .ok (.aload_n 0, 1) := dk_42 (dk_at dksX5_forget_0 12 rfl rfl)
theorem dX5_forget_13 : decode cX5_forget 13 = .ok (.getfield 13, 3) := dk_180 0 13 (dk_at dksX5_forget_0 13 rfl rfl)
theorem dX5_forget_16 : decode cX5_forget 16 = .ok (.iconst 2, 1) := dk_5 (dk_at dksX5_forget_0 16 rfl rfl)
theorem dX5_forget_17 : decode cX5_forget 17 = .ok (.iconst 0, 1) := dk_3 (dk_at dksX5_forget_0 17 rfl rfl)
theorem dX5_forget_18 : decode cX5_forget 18 = .ok (.iastore, 1) := dk_79 (dk_at dksX5_forget_0 18 rfl rfl)
theorem dX5_forget_19 : decode cX5_forget 19 = .ok (.iload_n 1, 1) := dk_27 (dk_at dksX5_forget_0 19 rfl rfl)
theorem dX5_forget_20 : decode cX5_forget 20 = .ok (.ireturn, 1) := dk_172 (dk_at dksX5_forget_0 20 rfl rfl)
abbrev cX5_gone : ByteArray := prog_22_method_98_code
def yX5_gone : MethodName := ⟨RX5, "gone", "(I)I"⟩
def dkwX5_gone_5 : List UInt8 := [160, 0, 7, 29, 167, 0, 5, 21, 4, 172]
abbrev dktX5_gone_5 : List UInt8 := dkwX5_gone_5 ++ []
def dkwX5_gone_4 : List UInt8 := [54, 4, 132, 7, 1, 167, 255, 223, 132, 5, 1, 167, 255, 178, 27, 154, 0, 7, 28, 167, 0, 14, 27, 4]
abbrev dktX5_gone_4 : List UInt8 := dkwX5_gone_4 ++ dktX5_gone_5
def dkwX5_gone_3 : List UInt8 := [162, 0, 32, 21, 4, 42, 180, 0, 118, 21, 7, 46, 158, 0, 10, 4, 21, 7, 120, 167, 0, 4, 3, 128]
abbrev dktX5_gone_3 : List UInt8 := dkwX5_gone_3 ++ dktX5_gone_4
def dkwX5_gone_2 : List UInt8 := [61, 29, 21, 6, 158, 0, 10, 4, 21, 5, 120, 167, 0, 4, 3, 128, 62, 3, 54, 7, 21, 7, 16, 8]
abbrev dktX5_gone_2 : List UInt8 := dkwX5_gone_2 ++ dktX5_gone_3
def dkwX5_gone_1 : List UInt8 := [54, 4, 3, 54, 5, 21, 5, 16, 8, 162, 0, 77, 42, 21, 5, 182, 1, 231, 54, 6, 28, 21, 6, 96]
abbrev dktX5_gone_1 : List UInt8 := dkwX5_gone_1 ++ dktX5_gone_2
def dkwX5_gone_0 : List UInt8 := [42, 3, 181, 0, 159, 27, 133, 9, 20, 1, 229, 184, 0, 179, 154, 0, 5, 2, 172, 3, 61, 3, 62, 3]
abbrev dktX5_gone_0 : List UInt8 := dkwX5_gone_0 ++ dktX5_gone_1
theorem dksX5_gone_0 : cX5_gone.data.toList.drop 0 = dktX5_gone_0 := by decide +kernel
theorem dksX5_gone_1 : cX5_gone.data.toList.drop 24 = dktX5_gone_1 := dk_seg dksX5_gone_0 24 rfl rfl
theorem dksX5_gone_2 : cX5_gone.data.toList.drop 48 = dktX5_gone_2 := dk_seg dksX5_gone_1 24 rfl rfl
theorem dksX5_gone_3 : cX5_gone.data.toList.drop 72 = dktX5_gone_3 := dk_seg dksX5_gone_2 24 rfl rfl
theorem dksX5_gone_4 : cX5_gone.data.toList.drop 96 = dktX5_gone_4 := dk_seg dksX5_gone_3 24 rfl rfl
theorem dksX5_gone_5 : cX5_gone.data.toList.drop 120 = dktX5_gone_5 := dk_seg dksX5_gone_4 24 rfl rfl
theorem dX5_gone_0 : decode cX5_gone 0 = .ok (.aload_n 0, 1) := dk_42 (dk_at dksX5_gone_0 0 rfl rfl)
theorem dX5_gone_1 : decode cX5_gone 1 = .ok (.iconst 0, 1) := dk_3 (dk_at dksX5_gone_0 1 rfl rfl)
theorem dX5_gone_2 : decode cX5_gone 2 = .ok (.putfield 159, 3) := dk_181 0 159 (dk_at dksX5_gone_0 2 rfl rfl)
theorem dX5_gone_5 : decode cX5_gone 5 = .ok (.iload_n 1, 1) := dk_27 (dk_at dksX5_gone_0 5 rfl rfl)
theorem dX5_gone_6 : decode cX5_gone 6 = .ok (.i2l, 1) := dk_133 (dk_at dksX5_gone_0 6 rfl rfl)
theorem dX5_gone_7 : decode cX5_gone 7 = .ok (.lconst 0, 1) := dk_9 (dk_at dksX5_gone_0 7 rfl rfl)
theorem dX5_gone_8 : decode cX5_gone 8 = .ok (.ldc2_w 485, 3) := dk_20 1 229 (dk_at dksX5_gone_0 8 rfl rfl)
theorem dX5_gone_11 : decode cX5_gone 11 = .ok (.invokestatic 179, 3) := dk_184 0 179 (dk_at dksX5_gone_0 11 rfl rfl)
theorem dX5_gone_14 : decode cX5_gone 14 = .ok (.ifCond .ne 5, 3) := dk_154 0 5 (dk_at dksX5_gone_0 14 rfl rfl)
theorem dX5_gone_17 : decode cX5_gone 17 = .ok (.iconst (-1), 1) := dk_2 (dk_at dksX5_gone_0 17 rfl rfl)
theorem dX5_gone_18 : decode cX5_gone 18 = .ok (.ireturn, 1) := dk_172 (dk_at dksX5_gone_0 18 rfl rfl)
theorem dX5_gone_19 : decode cX5_gone 19 = .ok (.iconst 0, 1) := dk_3 (dk_at dksX5_gone_0 19 rfl rfl)
theorem dX5_gone_20 : decode cX5_gone 20 = .ok (.istore_n 2, 1) := dk_61 (dk_at dksX5_gone_0 20 rfl rfl)
theorem dX5_gone_21 : decode cX5_gone 21 = .ok (.iconst 0, 1) := dk_3 (dk_at dksX5_gone_0 21 rfl rfl)
theorem dX5_gone_22 : decode cX5_gone 22 = .ok (.istore_n 3, 1) := dk_62 (dk_at dksX5_gone_0 22 rfl rfl)
theorem dX5_gone_23 : decode cX5_gone 23 = .ok (.iconst 0, 1) := dk_3 (dk_at dksX5_gone_0 23 rfl rfl)
theorem dX5_gone_24 : decode cX5_gone 24 = .ok (.istore 4, 2) := dk_54 4 (dk_at dksX5_gone_1 0 rfl rfl)
theorem dX5_gone_26 : decode cX5_gone 26 = .ok (.iconst 0, 1) := dk_3 (dk_at dksX5_gone_1 2 rfl rfl)
theorem dX5_gone_27 : decode cX5_gone 27 = .ok (.istore 5, 2) := dk_54 5 (dk_at dksX5_gone_1 3 rfl rfl)
theorem dX5_gone_29 : decode cX5_gone 29 = .ok (.iload 5, 2) := dk_21 5 (dk_at dksX5_gone_1 5 rfl rfl)
theorem dX5_gone_31 : decode cX5_gone 31 = .ok (.bipush 8, 2) := dk_16 8 (dk_at dksX5_gone_1 7 rfl rfl)
theorem dX5_gone_33 : decode cX5_gone 33 = .ok (.if_icmp .ge 77, 3) := dk_162 0 77 (dk_at dksX5_gone_1 9 rfl rfl)
theorem dX5_gone_36 : decode cX5_gone 36 = .ok (.aload_n 0, 1) := dk_42 (dk_at dksX5_gone_1 12 rfl rfl)
theorem dX5_gone_37 : decode cX5_gone 37 = .ok (.iload 5, 2) := dk_21 5 (dk_at dksX5_gone_1 13 rfl rfl)
theorem dX5_gone_39 : decode cX5_gone 39 = .ok (.invokevirtual 487, 3) := dk_182 1 231 (dk_at dksX5_gone_1 15 rfl rfl)
theorem dX5_gone_42 : decode cX5_gone 42 = .ok (.istore 6, 2) := dk_54 6 (dk_at dksX5_gone_1 18 rfl rfl)
theorem dX5_gone_44 : decode cX5_gone 44 = .ok (.iload_n 2, 1) := dk_28 (dk_at dksX5_gone_1 20 rfl rfl)
theorem dX5_gone_45 : decode cX5_gone 45 = .ok (.iload 6, 2) := dk_21 6 (dk_at dksX5_gone_1 21 rfl rfl)
theorem dX5_gone_47 : decode cX5_gone 47 = .ok (.iadd, 1) := dk_96 (dk_at dksX5_gone_1 23 rfl rfl)
theorem dX5_gone_48 : decode cX5_gone 48 = .ok (.istore_n 2, 1) := dk_61 (dk_at dksX5_gone_2 0 rfl rfl)
theorem dX5_gone_49 : decode cX5_gone 49 = .ok (.iload_n 3, 1) := dk_29 (dk_at dksX5_gone_2 1 rfl rfl)
theorem dX5_gone_50 : decode cX5_gone 50 = .ok (.iload 6, 2) := dk_21 6 (dk_at dksX5_gone_2 2 rfl rfl)
theorem dX5_gone_52 : decode cX5_gone 52 = .ok (.ifCond .le 10, 3) := dk_158 0 10 (dk_at dksX5_gone_2 4 rfl rfl)
theorem dX5_gone_55 : decode cX5_gone 55 = .ok (.iconst 1, 1) := dk_4 (dk_at dksX5_gone_2 7 rfl rfl)
theorem dX5_gone_56 : decode cX5_gone 56 = .ok (.iload 5, 2) := dk_21 5 (dk_at dksX5_gone_2 8 rfl rfl)
theorem dX5_gone_58 : decode cX5_gone 58 = .ok (.ishl, 1) := dk_120 (dk_at dksX5_gone_2 10 rfl rfl)
theorem dX5_gone_59 : decode cX5_gone 59 = .ok (.goto 4, 3) := dk_167 0 4 (dk_at dksX5_gone_2 11 rfl rfl)
theorem dX5_gone_62 : decode cX5_gone 62 = .ok (.iconst 0, 1) := dk_3 (dk_at dksX5_gone_2 14 rfl rfl)
theorem dX5_gone_63 : decode cX5_gone 63 = .ok (.ior, 1) := dk_128 (dk_at dksX5_gone_2 15 rfl rfl)
theorem dX5_gone_64 : decode cX5_gone 64 = .ok (.istore_n 3, 1) := dk_62 (dk_at dksX5_gone_2 16 rfl rfl)
theorem dX5_gone_65 : decode cX5_gone 65 = .ok (.iconst 0, 1) := dk_3 (dk_at dksX5_gone_2 17 rfl rfl)
theorem dX5_gone_66 : decode cX5_gone 66 = .ok (.istore 7, 2) := dk_54 7 (dk_at dksX5_gone_2 18 rfl rfl)
theorem dX5_gone_68 : decode cX5_gone 68 = .ok (.iload 7, 2) := dk_21 7 (dk_at dksX5_gone_2 20 rfl rfl)
theorem dX5_gone_70 : decode cX5_gone 70 = .ok (.bipush 8, 2) := dk_16 8 (dk_at dksX5_gone_2 22 rfl rfl)
theorem dX5_gone_72 : decode cX5_gone 72 = .ok (.if_icmp .ge 32, 3) := dk_162 0 32 (dk_at dksX5_gone_3 0 rfl rfl)
theorem dX5_gone_75 : decode cX5_gone 75 = .ok (.iload 4, 2) := dk_21 4 (dk_at dksX5_gone_3 3 rfl rfl)
theorem dX5_gone_77 : decode cX5_gone 77 = .ok (.aload_n 0, 1) := dk_42 (dk_at dksX5_gone_3 5 rfl rfl)
theorem dX5_gone_78 : decode cX5_gone 78 = .ok (.getfield 118, 3) := dk_180 0 118 (dk_at dksX5_gone_3 6 rfl rfl)
theorem dX5_gone_81 : decode cX5_gone 81 = .ok (.iload 7, 2) := dk_21 7 (dk_at dksX5_gone_3 9 rfl rfl)
theorem dX5_gone_83 : decode cX5_gone 83 = .ok (.iaload, 1) := dk_46 (dk_at dksX5_gone_3 11 rfl rfl)
theorem dX5_gone_84 : decode cX5_gone 84 = .ok (.ifCond .le 10, 3) := dk_158 0 10 (dk_at dksX5_gone_3 12 rfl rfl)
theorem dX5_gone_87 : decode cX5_gone 87 = .ok (.iconst 1, 1) := dk_4 (dk_at dksX5_gone_3 15 rfl rfl)
theorem dX5_gone_88 : decode cX5_gone 88 = .ok (.iload 7, 2) := dk_21 7 (dk_at dksX5_gone_3 16 rfl rfl)
theorem dX5_gone_90 : decode cX5_gone 90 = .ok (.ishl, 1) := dk_120 (dk_at dksX5_gone_3 18 rfl rfl)
theorem dX5_gone_91 : decode cX5_gone 91 = .ok (.goto 4, 3) := dk_167 0 4 (dk_at dksX5_gone_3 19 rfl rfl)
theorem dX5_gone_94 : decode cX5_gone 94 = .ok (.iconst 0, 1) := dk_3 (dk_at dksX5_gone_3 22 rfl rfl)
theorem dX5_gone_95 : decode cX5_gone 95 = .ok (.ior, 1) := dk_128 (dk_at dksX5_gone_3 23 rfl rfl)
theorem dX5_gone_96 : decode cX5_gone 96 = .ok (.istore 4, 2) := dk_54 4 (dk_at dksX5_gone_4 0 rfl rfl)
theorem dX5_gone_98 : decode cX5_gone 98 = .ok (.iinc 7 1, 3) := dk_132 7 1 (dk_at dksX5_gone_4 2 rfl rfl)
theorem dX5_gone_101 : decode cX5_gone 101 = .ok (.goto (-33), 3) := dk_167 255 223 (dk_at dksX5_gone_4 5 rfl rfl)
theorem dX5_gone_104 : decode cX5_gone 104 = .ok (.iinc 5 1, 3) := dk_132 5 1 (dk_at dksX5_gone_4 8 rfl rfl)
theorem dX5_gone_107 : decode cX5_gone 107 = .ok (.goto (-78), 3) := dk_167 255 178 (dk_at dksX5_gone_4 11 rfl rfl)
theorem dX5_gone_110 : decode cX5_gone 110 = .ok (.iload_n 1, 1) := dk_27 (dk_at dksX5_gone_4 14 rfl rfl)
theorem dX5_gone_111 : decode cX5_gone 111 = .ok (.ifCond .ne 7, 3) := dk_154 0 7 (dk_at dksX5_gone_4 15 rfl rfl)
theorem dX5_gone_114 : decode cX5_gone 114 = .ok (.iload_n 2, 1) := dk_28 (dk_at dksX5_gone_4 18 rfl rfl)
theorem dX5_gone_115 : decode cX5_gone 115 = .ok (.goto 14, 3) := dk_167 0 14 (dk_at dksX5_gone_4 19 rfl rfl)
theorem dX5_gone_118 : decode cX5_gone 118 = .ok (.iload_n 1, 1) := dk_27 (dk_at dksX5_gone_4 22 rfl rfl)
theorem dX5_gone_119 : decode cX5_gone 119 = .ok (.iconst 1, 1) := dk_4 (dk_at dksX5_gone_4 23 rfl rfl)
theorem dX5_gone_120 : decode cX5_gone 120 = .ok (.if_icmp .ne 7, 3) := dk_160 0 7 (dk_at dksX5_gone_5 0 rfl rfl)
theorem dX5_gone_123 : decode cX5_gone 123 = .ok (.iload_n 3, 1) := dk_29 (dk_at dksX5_gone_5 3 rfl rfl)
theorem dX5_gone_124 : decode cX5_gone 124 = .ok (.goto 5, 3) := dk_167 0 5 (dk_at dksX5_gone_5 4 rfl rfl)
theorem dX5_gone_127 : decode cX5_gone 127 = .ok (.iload 4, 2) := dk_21 4 (dk_at dksX5_gone_5 7 rfl rfl)
theorem dX5_gone_129 : decode cX5_gone 129 = .ok (.ireturn, 1) := dk_172 (dk_at dksX5_gone_5 9 rfl rfl)
abbrev cX5_goneFrom : ByteArray := prog_22_method_97_code
def yX5_goneFrom : MethodName := ⟨RX5, "goneFrom", "(I)I"⟩
def dkwX5_goneFrom_9 : List UInt8 := [29, 46, 96, 61, 132, 3, 1, 167, 255, 238, 28, 172]
abbrev dktX5_goneFrom_9 : List UInt8 := dkwX5_goneFrom_9 ++ []
def dkwX5_goneFrom_8 : List UInt8 := [167, 255, 235, 132, 2, 1, 167, 255, 95, 3, 61, 3, 62, 29, 16, 8, 162, 0, 18, 28, 42, 180, 0, 118]
abbrev dktX5_goneFrom_8 : List UInt8 := dkwX5_goneFrom_8 ++ dktX5_goneFrom_9
def dkwX5_goneFrom_7 : List UInt8 := [3, 62, 29, 16, 8, 162, 0, 21, 42, 180, 0, 118, 29, 42, 180, 0, 121, 29, 46, 79, 132, 3, 1]
abbrev dktX5_goneFrom_7 : List UInt8 := dkwX5_goneFrom_7 ++ dktX5_goneFrom_8
def dkwX5_goneFrom_6 : List UInt8 := [92, 46, 42, 180, 0, 118, 42, 180, 0, 13, 16, 36, 29, 96, 46, 46, 96, 79, 132, 3, 1, 167, 255, 160]
abbrev dktX5_goneFrom_6 : List UInt8 := dkwX5_goneFrom_6 ++ dktX5_goneFrom_7
def dkwX5_goneFrom_5 : List UInt8 := [180, 0, 13, 16, 26, 29, 96, 46, 46, 96, 79, 42, 180, 0, 121, 42, 180, 0, 13, 16, 26, 29, 96, 46]
abbrev dktX5_goneFrom_5 : List UInt8 := dkwX5_goneFrom_5 ++ dktX5_goneFrom_6
def dkwX5_goneFrom_4 : List UInt8 := [160, 0, 65, 42, 180, 0, 121, 42, 180, 0, 13, 16, 36, 29, 96, 46, 92, 46, 42, 180, 0, 118, 42]
abbrev dktX5_goneFrom_4 : List UInt8 := dkwX5_goneFrom_4 ++ dktX5_goneFrom_5
def dkwX5_goneFrom_3 : List UInt8 := [46, 162, 0, 92, 42, 180, 0, 13, 16, 8, 29, 96, 46, 42, 180, 0, 13, 16, 70, 28, 96, 46]
abbrev dktX5_goneFrom_3 : List UInt8 := dkwX5_goneFrom_3 ++ dktX5_goneFrom_4
def dkwX5_goneFrom_2 : List UInt8 := [162, 0, 16, 42, 180, 0, 121, 29, 3, 79, 132, 3, 1, 167, 255, 240, 3, 62, 29, 42, 180, 0, 13, 3]
abbrev dktX5_goneFrom_2 : List UInt8 := dkwX5_goneFrom_2 ++ dktX5_goneFrom_3
def dkwX5_goneFrom_1 : List UInt8 := [132, 2, 1, 167, 255, 231, 3, 61, 28, 42, 180, 0, 13, 5, 46, 162, 0, 157, 3, 62, 29, 16, 8]
abbrev dktX5_goneFrom_1 : List UInt8 := dkwX5_goneFrom_1 ++ dktX5_goneFrom_2
def dkwX5_goneFrom_0 : List UInt8 := [3, 61, 28, 16, 8, 162, 0, 25, 42, 180, 0, 118, 28, 28, 27, 160, 0, 7, 4, 167, 0, 4, 3, 79]
abbrev dktX5_goneFrom_0 : List UInt8 := dkwX5_goneFrom_0 ++ dktX5_goneFrom_1
theorem dksX5_goneFrom_0 : cX5_goneFrom.data.toList.drop 0 = dktX5_goneFrom_0 := by decide +kernel
theorem dksX5_goneFrom_1 : cX5_goneFrom.data.toList.drop 24 = dktX5_goneFrom_1 := dk_seg dksX5_goneFrom_0 24 rfl rfl
theorem dksX5_goneFrom_2 : cX5_goneFrom.data.toList.drop 47 = dktX5_goneFrom_2 := dk_seg dksX5_goneFrom_1 23 rfl rfl
theorem dksX5_goneFrom_3 : cX5_goneFrom.data.toList.drop 71 = dktX5_goneFrom_3 := dk_seg dksX5_goneFrom_2 24 rfl rfl
theorem dksX5_goneFrom_4 : cX5_goneFrom.data.toList.drop 93 = dktX5_goneFrom_4 := dk_seg dksX5_goneFrom_3 22 rfl rfl
theorem dksX5_goneFrom_5 : cX5_goneFrom.data.toList.drop 116 = dktX5_goneFrom_5 := dk_seg dksX5_goneFrom_4 23 rfl rfl
theorem dksX5_goneFrom_6 : cX5_goneFrom.data.toList.drop 140 = dktX5_goneFrom_6 := dk_seg dksX5_goneFrom_5 24 rfl rfl
theorem dksX5_goneFrom_7 : cX5_goneFrom.data.toList.drop 164 = dktX5_goneFrom_7 := dk_seg dksX5_goneFrom_6 24 rfl rfl
theorem dksX5_goneFrom_8 : cX5_goneFrom.data.toList.drop 187 = dktX5_goneFrom_8 := dk_seg dksX5_goneFrom_7 23 rfl rfl
theorem dksX5_goneFrom_9 : cX5_goneFrom.data.toList.drop 211 = dktX5_goneFrom_9 := dk_seg dksX5_goneFrom_8 24 rfl rfl
theorem dX5_goneFrom_0 : decode cX5_goneFrom 0 = .ok (.iconst 0, 1) := dk_3 (dk_at dksX5_goneFrom_0 0 rfl rfl)
theorem dX5_goneFrom_1 : decode cX5_goneFrom 1 = .ok (.istore_n 2, 1) := dk_61 (dk_at dksX5_goneFrom_0 1 rfl rfl)
theorem dX5_goneFrom_2 : decode cX5_goneFrom 2 = .ok (.iload_n 2, 1) := dk_28 (dk_at dksX5_goneFrom_0 2 rfl rfl)
theorem dX5_goneFrom_3 : decode cX5_goneFrom 3 = .ok (.bipush 8, 2) := dk_16 8 (dk_at dksX5_goneFrom_0 3 rfl rfl)
theorem dX5_goneFrom_5 : decode cX5_goneFrom 5 = .ok (.if_icmp .ge 25, 3) := dk_162 0 25 (dk_at dksX5_goneFrom_0 5 rfl rfl)
theorem dX5_goneFrom_8 : decode cX5_goneFrom 8 = .ok (.aload_n 0, 1) := dk_42 (dk_at dksX5_goneFrom_0 8 rfl rfl)
theorem dX5_goneFrom_9 : decode cX5_goneFrom 9 = .ok (.getfield 118, 3) := dk_180 0 118 (dk_at dksX5_goneFrom_0 9 rfl rfl)
theorem dX5_goneFrom_12 : decode cX5_goneFrom 12 = .ok (.iload_n 2, 1) := dk_28 (dk_at dksX5_goneFrom_0 12 rfl rfl)
theorem dX5_goneFrom_13 : decode cX5_goneFrom 13 = .ok (.iload_n 2, 1) := dk_28 (dk_at dksX5_goneFrom_0 13 rfl rfl)
theorem dX5_goneFrom_14 : decode cX5_goneFrom 14 = .ok (.iload_n 1, 1) := dk_27 (dk_at dksX5_goneFrom_0 14 rfl rfl)
theorem dX5_goneFrom_15 : decode cX5_goneFrom 15 = .ok (.if_icmp .ne 7, 3) := dk_160 0 7 (dk_at dksX5_goneFrom_0 15 rfl rfl)
theorem dX5_goneFrom_18 : decode cX5_goneFrom 18 = .ok (.iconst 1, 1) := dk_4 (dk_at dksX5_goneFrom_0 18 rfl rfl)
theorem dX5_goneFrom_19 : decode cX5_goneFrom 19 = .ok (.goto 4, 3) := dk_167 0 4 (dk_at dksX5_goneFrom_0 19 rfl rfl)
theorem dX5_goneFrom_22 : decode cX5_goneFrom 22 = .ok (.iconst 0, 1) := dk_3 (dk_at dksX5_goneFrom_0 22 rfl rfl)
theorem dX5_goneFrom_23 : decode cX5_goneFrom 23 = .ok (.iastore, 1) := dk_79 (dk_at dksX5_goneFrom_0 23 rfl rfl)
theorem dX5_goneFrom_24 : decode cX5_goneFrom 24 = .ok (.iinc 2 1, 3) := dk_132 2 1 (dk_at dksX5_goneFrom_1 0 rfl rfl)
theorem dX5_goneFrom_27 : decode cX5_goneFrom 27 = .ok (.goto (-25), 3) := dk_167 255 231 (dk_at dksX5_goneFrom_1 3 rfl rfl)
theorem dX5_goneFrom_30 : decode cX5_goneFrom 30 = .ok (.iconst 0, 1) := dk_3 (dk_at dksX5_goneFrom_1 6 rfl rfl)
theorem dX5_goneFrom_31 : decode cX5_goneFrom 31 = .ok (.istore_n 2, 1) := dk_61 (dk_at dksX5_goneFrom_1 7 rfl rfl)
theorem dX5_goneFrom_32 : decode cX5_goneFrom 32 = .ok (.iload_n 2, 1) := dk_28 (dk_at dksX5_goneFrom_1 8 rfl rfl)
theorem dX5_goneFrom_33 : decode cX5_goneFrom 33 = .ok (.aload_n 0, 1) := dk_42 (dk_at dksX5_goneFrom_1 9 rfl rfl)
theorem dX5_goneFrom_34 : decode cX5_goneFrom 34 = .ok (.getfield 13, 3) := dk_180 0 13 (dk_at dksX5_goneFrom_1 10 rfl rfl)
theorem dX5_goneFrom_37 : decode cX5_goneFrom 37 = .ok (.iconst 2, 1) := dk_5 (dk_at dksX5_goneFrom_1 13 rfl rfl)
theorem dX5_goneFrom_38 : decode cX5_goneFrom 38 = .ok (.iaload, 1) := dk_46 (dk_at dksX5_goneFrom_1 14 rfl rfl)
theorem dX5_goneFrom_39 : decode cX5_goneFrom 39 = .ok (.if_icmp .ge 157, 3) := dk_162 0 157 (dk_at dksX5_goneFrom_1 15 rfl rfl)
theorem dX5_goneFrom_42 : decode cX5_goneFrom 42 = .ok (.iconst 0, 1) := dk_3 (dk_at dksX5_goneFrom_1 18 rfl rfl)
theorem dX5_goneFrom_43 : decode cX5_goneFrom 43 = .ok (.istore_n 3, 1) := dk_62 (dk_at dksX5_goneFrom_1 19 rfl rfl)
theorem dX5_goneFrom_44 : decode cX5_goneFrom 44 = .ok (.iload_n 3, 1) := dk_29 (dk_at dksX5_goneFrom_1 20 rfl rfl)
theorem dX5_goneFrom_45 : decode cX5_goneFrom 45 = .ok (.bipush 8, 2) := dk_16 8 (dk_at dksX5_goneFrom_1 21 rfl rfl)
theorem dX5_goneFrom_47 : decode cX5_goneFrom 47 = .ok (.if_icmp .ge 16, 3) := dk_162 0 16 (dk_at dksX5_goneFrom_2 0 rfl rfl)
theorem dX5_goneFrom_50 : decode cX5_goneFrom 50 = .ok (.aload_n 0, 1) := dk_42 (dk_at dksX5_goneFrom_2 3 rfl rfl)
theorem dX5_goneFrom_51 : decode cX5_goneFrom 51 = .ok (.getfield 121, 3) := dk_180 0 121 (dk_at dksX5_goneFrom_2 4 rfl rfl)
theorem dX5_goneFrom_54 : decode cX5_goneFrom 54 = .ok (.iload_n 3, 1) := dk_29 (dk_at dksX5_goneFrom_2 7 rfl rfl)
theorem dX5_goneFrom_55 : decode cX5_goneFrom 55 = .ok (.iconst 0, 1) := dk_3 (dk_at dksX5_goneFrom_2 8 rfl rfl)
theorem dX5_goneFrom_56 : decode cX5_goneFrom 56 = .ok (.iastore, 1) := dk_79 (dk_at dksX5_goneFrom_2 9 rfl rfl)
theorem dX5_goneFrom_57 : decode cX5_goneFrom 57 = .ok (.iinc 3 1, 3) := dk_132 3 1 (dk_at dksX5_goneFrom_2 10 rfl rfl)
theorem dX5_goneFrom_60 : decode cX5_goneFrom 60 = .ok (.goto (-16), 3) := dk_167 255 240 (dk_at dksX5_goneFrom_2 13 rfl rfl)
theorem dX5_goneFrom_63 : decode cX5_goneFrom 63 = .ok (.iconst 0, 1) := dk_3 (dk_at dksX5_goneFrom_2 16 rfl rfl)
theorem dX5_goneFrom_64 : decode cX5_goneFrom 64 = .ok (.istore_n 3, 1) := dk_62 (dk_at dksX5_goneFrom_2 17 rfl rfl)
theorem dX5_goneFrom_65 : decode cX5_goneFrom 65 = .ok (.iload_n 3, 1) := dk_29 (dk_at dksX5_goneFrom_2 18 rfl rfl)
theorem dX5_goneFrom_66 : decode cX5_goneFrom 66 = .ok (.aload_n 0, 1) := dk_42 (dk_at dksX5_goneFrom_2 19 rfl rfl)
theorem dX5_goneFrom_67 : decode cX5_goneFrom 67 = .ok (.getfield 13, 3) := dk_180 0 13 (dk_at dksX5_goneFrom_2 20 rfl rfl)
theorem dX5_goneFrom_70 : decode cX5_goneFrom 70 = .ok (.iconst 0, 1) := dk_3 (dk_at dksX5_goneFrom_2 23 rfl rfl)
theorem dX5_goneFrom_71 : decode cX5_goneFrom 71 = .ok (.iaload, 1) := dk_46 (dk_at dksX5_goneFrom_3 0 rfl rfl)
theorem dX5_goneFrom_72 : decode cX5_goneFrom 72 = .ok (.if_icmp .ge 92, 3) := dk_162 0 92 (dk_at dksX5_goneFrom_3 1 rfl rfl)
theorem dX5_goneFrom_75 : decode cX5_goneFrom 75 = .ok (.aload_n 0, 1) := dk_42 (dk_at dksX5_goneFrom_3 4 rfl rfl)
theorem dX5_goneFrom_76 : decode cX5_goneFrom 76 = .ok (.getfield 13, 3) := dk_180 0 13 (dk_at dksX5_goneFrom_3 5 rfl rfl)
theorem dX5_goneFrom_79 : decode cX5_goneFrom 79 = .ok (.bipush 8, 2) := dk_16 8 (dk_at dksX5_goneFrom_3 8 rfl rfl)
theorem dX5_goneFrom_81 : decode cX5_goneFrom 81 = .ok (.iload_n 3, 1) := dk_29 (dk_at dksX5_goneFrom_3 10 rfl rfl)
theorem dX5_goneFrom_82 : decode cX5_goneFrom 82 = .ok (.iadd, 1) := dk_96 (dk_at dksX5_goneFrom_3 11 rfl rfl)
theorem dX5_goneFrom_83 : decode cX5_goneFrom 83 = .ok (.iaload, 1) := dk_46 (dk_at dksX5_goneFrom_3 12 rfl rfl)
theorem dX5_goneFrom_84 : decode cX5_goneFrom 84 = .ok (.aload_n 0, 1) := dk_42 (dk_at dksX5_goneFrom_3 13 rfl rfl)
theorem dX5_goneFrom_85 : decode cX5_goneFrom 85 = .ok (.getfield 13, 3) := dk_180 0 13 (dk_at dksX5_goneFrom_3 14 rfl rfl)
theorem dX5_goneFrom_88 : decode cX5_goneFrom 88 = .ok (.bipush 70, 2) := dk_16 70 (dk_at dksX5_goneFrom_3 17 rfl rfl)
theorem dX5_goneFrom_90 : decode cX5_goneFrom 90 = .ok (.iload_n 2, 1) := dk_28 (dk_at dksX5_goneFrom_3 19 rfl rfl)
theorem dX5_goneFrom_91 : decode cX5_goneFrom 91 = .ok (.iadd, 1) := dk_96 (dk_at dksX5_goneFrom_3 20 rfl rfl)
theorem dX5_goneFrom_92 : decode cX5_goneFrom 92 = .ok (.iaload, 1) := dk_46 (dk_at dksX5_goneFrom_3 21 rfl rfl)
theorem dX5_goneFrom_93 : decode cX5_goneFrom 93 = .ok (.if_icmp .ne 65, 3) := dk_160 0 65 (dk_at dksX5_goneFrom_4 0 rfl rfl)
theorem dX5_goneFrom_96 : decode cX5_goneFrom 96 = .ok (.aload_n 0, 1) := dk_42 (dk_at dksX5_goneFrom_4 3 rfl rfl)
theorem dX5_goneFrom_97 : decode cX5_goneFrom 97 = .ok (.getfield 121, 3) := dk_180 0 121 (dk_at dksX5_goneFrom_4 4 rfl rfl)
theorem dX5_goneFrom_100 : decode cX5_goneFrom 100 = .ok (.aload_n 0, 1) := dk_42 (dk_at dksX5_goneFrom_4 7 rfl rfl)
theorem dX5_goneFrom_101 : decode cX5_goneFrom 101 = .ok (.getfield 13, 3) := dk_180 0 13 (dk_at dksX5_goneFrom_4 8 rfl rfl)
theorem dX5_goneFrom_104 : decode cX5_goneFrom 104 = .ok (.bipush 36, 2) := dk_16 36 (dk_at dksX5_goneFrom_4 11 rfl rfl)
theorem dX5_goneFrom_106 : decode cX5_goneFrom 106 = .ok (.iload_n 3, 1) := dk_29 (dk_at dksX5_goneFrom_4 13 rfl rfl)
theorem dX5_goneFrom_107 : decode cX5_goneFrom 107 = .ok (.iadd, 1) := dk_96 (dk_at dksX5_goneFrom_4 14 rfl rfl)
theorem dX5_goneFrom_108 : decode cX5_goneFrom 108 = .ok (.iaload, 1) := dk_46 (dk_at dksX5_goneFrom_4 15 rfl rfl)
theorem dX5_goneFrom_109 : decode cX5_goneFrom 109 = .ok (.dup2, 1) := dk_92 (dk_at dksX5_goneFrom_4 16 rfl rfl)
theorem dX5_goneFrom_110 : decode cX5_goneFrom 110 = .ok (.iaload, 1) := dk_46 (dk_at dksX5_goneFrom_4 17 rfl rfl)
theorem dX5_goneFrom_111 : decode cX5_goneFrom 111 = .ok (.aload_n 0, 1) := dk_42 (dk_at dksX5_goneFrom_4 18 rfl rfl)
theorem dX5_goneFrom_112 : decode cX5_goneFrom 112 = .ok (.getfield 118, 3) := dk_180 0 118 (dk_at dksX5_goneFrom_4 19 rfl rfl)
theorem dX5_goneFrom_115 : decode cX5_goneFrom 115 = .ok (.aload_n 0, 1) := dk_42 (dk_at dksX5_goneFrom_4 22 rfl rfl)
theorem dX5_goneFrom_116 : decode cX5_goneFrom 116 = .ok (.getfield 13, 3) := dk_180 0 13 (dk_at dksX5_goneFrom_5 0 rfl rfl)
theorem dX5_goneFrom_119 : decode cX5_goneFrom 119 = .ok (.bipush 26, 2) := dk_16 26 (dk_at dksX5_goneFrom_5 3 rfl rfl)
theorem dX5_goneFrom_121 : decode cX5_goneFrom 121 = .ok (.iload_n 3, 1) := dk_29 (dk_at dksX5_goneFrom_5 5 rfl rfl)
theorem dX5_goneFrom_122 : decode cX5_goneFrom 122 = .ok (.iadd, 1) := dk_96 (dk_at dksX5_goneFrom_5 6 rfl rfl)
theorem dX5_goneFrom_123 : decode cX5_goneFrom 123 = .ok (.iaload, 1) := dk_46 (dk_at dksX5_goneFrom_5 7 rfl rfl)
theorem dX5_goneFrom_124 : decode cX5_goneFrom 124 = .ok (.iaload, 1) := dk_46 (dk_at dksX5_goneFrom_5 8 rfl rfl)
theorem dX5_goneFrom_125 : decode cX5_goneFrom 125 = .ok (.iadd, 1) := dk_96 (dk_at dksX5_goneFrom_5 9 rfl rfl)
theorem dX5_goneFrom_126 : decode cX5_goneFrom 126 = .ok (.iastore, 1) := dk_79 (dk_at dksX5_goneFrom_5 10 rfl rfl)
theorem dX5_goneFrom_127 : decode cX5_goneFrom 127 = .ok (.aload_n 0, 1) := dk_42 (dk_at dksX5_goneFrom_5 11 rfl rfl)
theorem dX5_goneFrom_128 : decode cX5_goneFrom 128 = .ok (.getfield 121, 3) := dk_180 0 121 (dk_at dksX5_goneFrom_5 12 rfl rfl)
theorem dX5_goneFrom_131 : decode cX5_goneFrom 131 = .ok (.aload_n 0, 1) := dk_42 (dk_at dksX5_goneFrom_5 15 rfl rfl)
theorem dX5_goneFrom_132 : decode cX5_goneFrom 132 = .ok (.getfield 13, 3) := dk_180 0 13 (dk_at dksX5_goneFrom_5 16 rfl rfl)
theorem dX5_goneFrom_135 : decode cX5_goneFrom 135 = .ok (.bipush 26, 2) := dk_16 26 (dk_at dksX5_goneFrom_5 19 rfl rfl)
theorem dX5_goneFrom_137 : decode cX5_goneFrom 137 = .ok (.iload_n 3, 1) := dk_29 (dk_at dksX5_goneFrom_5 21 rfl rfl)
theorem dX5_goneFrom_138 : decode cX5_goneFrom 138 = .ok (.iadd, 1) := dk_96 (dk_at dksX5_goneFrom_5 22 rfl rfl)
theorem dX5_goneFrom_139 : decode cX5_goneFrom 139 = .ok (.iaload, 1) := dk_46 (dk_at dksX5_goneFrom_5 23 rfl rfl)
theorem dX5_goneFrom_140 : decode cX5_goneFrom 140 = .ok (.dup2, 1) := dk_92 (dk_at dksX5_goneFrom_6 0 rfl rfl)
theorem dX5_goneFrom_141 : decode cX5_goneFrom 141 = .ok (.iaload, 1) := dk_46 (dk_at dksX5_goneFrom_6 1 rfl rfl)
theorem dX5_goneFrom_142 : decode cX5_goneFrom 142 = .ok (.aload_n 0, 1) := dk_42 (dk_at dksX5_goneFrom_6 2 rfl rfl)
theorem dX5_goneFrom_143 : decode cX5_goneFrom 143 = .ok (.getfield 118, 3) := dk_180 0 118 (dk_at dksX5_goneFrom_6 3 rfl rfl)
theorem dX5_goneFrom_146 : decode cX5_goneFrom 146 = .ok (.aload_n 0, 1) := dk_42 (dk_at dksX5_goneFrom_6 6 rfl rfl)
theorem dX5_goneFrom_147 : decode cX5_goneFrom 147 = .ok (.getfield 13, 3) := dk_180 0 13 (dk_at dksX5_goneFrom_6 7 rfl rfl)
theorem dX5_goneFrom_150 : decode cX5_goneFrom 150 = .ok (.bipush 36, 2) := dk_16 36 (dk_at dksX5_goneFrom_6 10 rfl rfl)
theorem dX5_goneFrom_152 : decode cX5_goneFrom 152 = .ok (.iload_n 3, 1) := dk_29 (dk_at dksX5_goneFrom_6 12 rfl rfl)
theorem dX5_goneFrom_153 : decode cX5_goneFrom 153 = .ok (.iadd, 1) := dk_96 (dk_at dksX5_goneFrom_6 13 rfl rfl)
theorem dX5_goneFrom_154 : decode cX5_goneFrom 154 = .ok (.iaload, 1) := dk_46 (dk_at dksX5_goneFrom_6 14 rfl rfl)
theorem dX5_goneFrom_155 : decode cX5_goneFrom 155 = .ok (.iaload, 1) := dk_46 (dk_at dksX5_goneFrom_6 15 rfl rfl)
theorem dX5_goneFrom_156 : decode cX5_goneFrom 156 = .ok (.iadd, 1) := dk_96 (dk_at dksX5_goneFrom_6 16 rfl rfl)
theorem dX5_goneFrom_157 : decode cX5_goneFrom 157 = .ok (.iastore, 1) := dk_79 (dk_at dksX5_goneFrom_6 17 rfl rfl)
theorem dX5_goneFrom_158 : decode cX5_goneFrom 158 = .ok (.iinc 3 1, 3) := dk_132 3 1 (dk_at dksX5_goneFrom_6 18 rfl rfl)
theorem dX5_goneFrom_161 : decode cX5_goneFrom 161 = .ok (.goto (-96), 3) := dk_167 255 160 (dk_at dksX5_goneFrom_6 21 rfl rfl)
theorem dX5_goneFrom_164 : decode cX5_goneFrom 164 = .ok (.iconst 0, 1) := dk_3 (dk_at dksX5_goneFrom_7 0 rfl rfl)
theorem dX5_goneFrom_165 : decode cX5_goneFrom 165 = .ok (.istore_n 3, 1) := dk_62 (dk_at dksX5_goneFrom_7 1 rfl rfl)
theorem dX5_goneFrom_166 : decode cX5_goneFrom 166 = .ok (.iload_n 3, 1) := dk_29 (dk_at dksX5_goneFrom_7 2 rfl rfl)
theorem dX5_goneFrom_167 : decode cX5_goneFrom 167 = .ok (.bipush 8, 2) := dk_16 8 (dk_at dksX5_goneFrom_7 3 rfl rfl)
theorem dX5_goneFrom_169 : decode cX5_goneFrom 169 = .ok (.if_icmp .ge 21, 3) := dk_162 0 21 (dk_at dksX5_goneFrom_7 5 rfl rfl)
theorem dX5_goneFrom_172 : decode cX5_goneFrom 172 = .ok (.aload_n 0, 1) := dk_42 (dk_at dksX5_goneFrom_7 8 rfl rfl)
theorem dX5_goneFrom_173 : decode cX5_goneFrom 173 = .ok (.getfield 118, 3) := dk_180 0 118 (dk_at dksX5_goneFrom_7 9 rfl rfl)
theorem dX5_goneFrom_176 : decode cX5_goneFrom 176 = .ok (.iload_n 3, 1) := dk_29 (dk_at dksX5_goneFrom_7 12 rfl rfl)
theorem dX5_goneFrom_177 : decode cX5_goneFrom 177 = .ok (.aload_n 0, 1) := dk_42 (dk_at dksX5_goneFrom_7 13 rfl rfl)
theorem dX5_goneFrom_178 : decode cX5_goneFrom 178 = .ok (.getfield 121, 3) := dk_180 0 121 (dk_at dksX5_goneFrom_7 14 rfl rfl)
theorem dX5_goneFrom_181 : decode cX5_goneFrom 181 = .ok (.iload_n 3, 1) := dk_29 (dk_at dksX5_goneFrom_7 17 rfl rfl)
theorem dX5_goneFrom_182 : decode cX5_goneFrom 182 = .ok (.iaload, 1) := dk_46 (dk_at dksX5_goneFrom_7 18 rfl rfl)
theorem dX5_goneFrom_183 : decode cX5_goneFrom 183 = .ok (.iastore, 1) := dk_79 (dk_at dksX5_goneFrom_7 19 rfl rfl)
theorem dX5_goneFrom_184 : decode cX5_goneFrom 184 = .ok (.iinc 3 1, 3) := dk_132 3 1 (dk_at dksX5_goneFrom_7 20 rfl rfl)
theorem dX5_goneFrom_187 : decode cX5_goneFrom 187 = .ok (.goto (-21), 3) := dk_167 255 235 (dk_at dksX5_goneFrom_8 0 rfl rfl)
theorem dX5_goneFrom_190 : decode cX5_goneFrom 190 = .ok (.iinc 2 1, 3) := dk_132 2 1 (dk_at dksX5_goneFrom_8 3 rfl rfl)
theorem dX5_goneFrom_193 : decode cX5_goneFrom 193 = .ok (.goto (-161), 3) := dk_167 255 95 (dk_at dksX5_goneFrom_8 6 rfl rfl)
theorem dX5_goneFrom_196 : decode cX5_goneFrom 196 = .ok (.iconst 0, 1) := dk_3 (dk_at dksX5_goneFrom_8 9 rfl rfl)
theorem dX5_goneFrom_197 : decode cX5_goneFrom 197 = .ok (.istore_n 2, 1) := dk_61 (dk_at dksX5_goneFrom_8 10 rfl rfl)
theorem dX5_goneFrom_198 : decode cX5_goneFrom 198 = .ok (.iconst 0, 1) := dk_3 (dk_at dksX5_goneFrom_8 11 rfl rfl)
theorem dX5_goneFrom_199 : decode cX5_goneFrom 199 = .ok (.istore_n 3, 1) := dk_62 (dk_at dksX5_goneFrom_8 12 rfl rfl)
theorem dX5_goneFrom_200 : decode cX5_goneFrom 200 = .ok (.iload_n 3, 1) := dk_29 (dk_at dksX5_goneFrom_8 13 rfl rfl)
theorem dX5_goneFrom_201 : decode cX5_goneFrom 201 = .ok (.bipush 8, 2) := dk_16 8 (dk_at dksX5_goneFrom_8 14 rfl rfl)
theorem dX5_goneFrom_203 : decode cX5_goneFrom 203 = .ok (.if_icmp .ge 18, 3) := dk_162 0 18 (dk_at dksX5_goneFrom_8 16 rfl rfl)
theorem dX5_goneFrom_206 : decode cX5_goneFrom 206 = .ok (.iload_n 2, 1) := dk_28 (dk_at dksX5_goneFrom_8 19 rfl rfl)
theorem dX5_goneFrom_207 : decode cX5_goneFrom 207 = .ok (.aload_n 0, 1) := dk_42 (dk_at dksX5_goneFrom_8 20 rfl rfl)
theorem dX5_goneFrom_208 : decode cX5_goneFrom 208 = .ok (.getfield 118, 3) := dk_180 0 118 (dk_at dksX5_goneFrom_8 21 rfl rfl)
theorem dX5_goneFrom_211 : decode cX5_goneFrom 211 = .ok (.iload_n 3, 1) := dk_29 (dk_at dksX5_goneFrom_9 0 rfl rfl)
theorem dX5_goneFrom_212 : decode cX5_goneFrom 212 = .ok (.iaload, 1) := dk_46 (dk_at dksX5_goneFrom_9 1 rfl rfl)
theorem dX5_goneFrom_213 : decode cX5_goneFrom 213 = .ok (.iadd, 1) := dk_96 (dk_at dksX5_goneFrom_9 2 rfl rfl)
theorem dX5_goneFrom_214 : decode cX5_goneFrom 214 = .ok (.istore_n 2, 1) := dk_61 (dk_at dksX5_goneFrom_9 3 rfl rfl)
theorem dX5_goneFrom_215 : decode cX5_goneFrom 215 = .ok (.iinc 3 1, 3) := dk_132 3 1 (dk_at dksX5_goneFrom_9 4 rfl rfl)
theorem dX5_goneFrom_218 : decode cX5_goneFrom 218 = .ok (.goto (-18), 3) := dk_167 255 238 (dk_at dksX5_goneFrom_9 7 rfl rfl)
theorem dX5_goneFrom_221 : decode cX5_goneFrom 221 = .ok (.iload_n 2, 1) := dk_28 (dk_at dksX5_goneFrom_9 10 rfl rfl)
theorem dX5_goneFrom_222 : decode cX5_goneFrom 222 = .ok (.ireturn, 1) := dk_172 (dk_at dksX5_goneFrom_9 11 rfl rfl)
abbrev cX5_named : ByteArray := prog_22_method_99_code
def yX5_named : MethodName := ⟨RX5, "named", "(I)I"⟩
def dkwX5_named_2 : List UInt8 := [167, 0, 4, 28, 61, 132, 3, 255, 167, 255, 218, 28, 172]
abbrev dktX5_named_2 : List UInt8 := dkwX5_named_2 ++ []
def dkwX5_named_1 : List UInt8 := [20, 1, 227, 184, 0, 179, 153, 0, 20, 42, 180, 0, 13, 16, 8, 29, 96, 46, 27, 160, 0, 7, 29]
abbrev dktX5_named_1 : List UInt8 := dkwX5_named_1 ++ dktX5_named_2
def dkwX5_named_0 : List UInt8 := [42, 3, 181, 0, 159, 2, 61, 42, 180, 0, 13, 3, 46, 4, 100, 62, 29, 155, 0, 40, 27, 133, 9]
abbrev dktX5_named_0 : List UInt8 := dkwX5_named_0 ++ dktX5_named_1
theorem dksX5_named_0 : cX5_named.data.toList.drop 0 = dktX5_named_0 := by decide +kernel
theorem dksX5_named_1 : cX5_named.data.toList.drop 23 = dktX5_named_1 := dk_seg dksX5_named_0 23 rfl rfl
theorem dksX5_named_2 : cX5_named.data.toList.drop 46 = dktX5_named_2 := dk_seg dksX5_named_1 23 rfl rfl
theorem dX5_named_0 : decode cX5_named 0 = .ok (.aload_n 0, 1) := dk_42 (dk_at dksX5_named_0 0 rfl rfl)
theorem dX5_named_1 : decode cX5_named 1 = .ok (.iconst 0, 1) := dk_3 (dk_at dksX5_named_0 1 rfl rfl)
theorem dX5_named_2 : decode cX5_named 2 = .ok (.putfield 159, 3) := dk_181 0 159 (dk_at dksX5_named_0 2 rfl rfl)
theorem dX5_named_5 : decode cX5_named 5 = .ok (.iconst (-1), 1) := dk_2 (dk_at dksX5_named_0 5 rfl rfl)
theorem dX5_named_6 : decode cX5_named 6 = .ok (.istore_n 2, 1) := dk_61 (dk_at dksX5_named_0 6 rfl rfl)
theorem dX5_named_7 : decode cX5_named 7 = .ok (.aload_n 0, 1) := dk_42 (dk_at dksX5_named_0 7 rfl rfl)
theorem dX5_named_8 : decode cX5_named 8 = .ok (.getfield 13, 3) := dk_180 0 13 (dk_at dksX5_named_0 8 rfl rfl)
theorem dX5_named_11 : decode cX5_named 11 = .ok (.iconst 0, 1) := dk_3 (dk_at dksX5_named_0 11 rfl rfl)
theorem dX5_named_12 : decode cX5_named 12 = .ok (.iaload, 1) := dk_46 (dk_at dksX5_named_0 12 rfl rfl)
theorem dX5_named_13 : decode cX5_named 13 = .ok (.iconst 1, 1) := dk_4 (dk_at dksX5_named_0 13 rfl rfl)
theorem dX5_named_14 : decode cX5_named 14 = .ok (.isub, 1) := dk_100 (dk_at dksX5_named_0 14 rfl rfl)
theorem dX5_named_15 : decode cX5_named 15 = .ok (.istore_n 3, 1) := dk_62 (dk_at dksX5_named_0 15 rfl rfl)
theorem dX5_named_16 : decode cX5_named 16 = .ok (.iload_n 3, 1) := dk_29 (dk_at dksX5_named_0 16 rfl rfl)
theorem dX5_named_17 : decode cX5_named 17 = .ok (.ifCond .lt 40, 3) := dk_155 0 40 (dk_at dksX5_named_0 17 rfl rfl)
theorem dX5_named_20 : decode cX5_named 20 = .ok (.iload_n 1, 1) := dk_27 (dk_at dksX5_named_0 20 rfl rfl)
theorem dX5_named_21 : decode cX5_named 21 = .ok (.i2l, 1) := dk_133 (dk_at dksX5_named_0 21 rfl rfl)
theorem dX5_named_22 : decode cX5_named 22 = .ok (.lconst 0, 1) := dk_9 (dk_at dksX5_named_0 22 rfl rfl)
theorem dX5_named_23 : decode cX5_named 23 = .ok (.ldc2_w 483, 3) := dk_20 1 227 (dk_at dksX5_named_1 0 rfl rfl)
theorem dX5_named_26 : decode cX5_named 26 = .ok (.invokestatic 179, 3) := dk_184 0 179 (dk_at dksX5_named_1 3 rfl rfl)
theorem dX5_named_29 : decode cX5_named 29 = .ok (.ifCond .eq 20, 3) := dk_153 0 20 (dk_at dksX5_named_1 6 rfl rfl)
theorem dX5_named_32 : decode cX5_named 32 = .ok (.aload_n 0, 1) := dk_42 (dk_at dksX5_named_1 9 rfl rfl)
theorem dX5_named_33 : decode cX5_named 33 = .ok (.getfield 13, 3) := dk_180 0 13 (dk_at dksX5_named_1 10 rfl rfl)
theorem dX5_named_36 : decode cX5_named 36 = .ok (.bipush 8, 2) := dk_16 8 (dk_at dksX5_named_1 13 rfl rfl)
theorem dX5_named_38 : decode cX5_named 38 = .ok (.iload_n 3, 1) := dk_29 (dk_at dksX5_named_1 15 rfl rfl)
theorem dX5_named_39 : decode cX5_named 39 = .ok (.iadd, 1) := dk_96 (dk_at dksX5_named_1 16 rfl rfl)
theorem dX5_named_40 : decode cX5_named 40 = .ok (.iaload, 1) := dk_46 (dk_at dksX5_named_1 17 rfl rfl)
theorem dX5_named_41 : decode cX5_named 41 = .ok (.iload_n 1, 1) := dk_27 (dk_at dksX5_named_1 18 rfl rfl)
theorem dX5_named_42 : decode cX5_named 42 = .ok (.if_icmp .ne 7, 3) := dk_160 0 7 (dk_at dksX5_named_1 19 rfl rfl)
theorem dX5_named_45 : decode cX5_named 45 = .ok (.iload_n 3, 1) := dk_29 (dk_at dksX5_named_1 22 rfl rfl)
theorem dX5_named_46 : decode cX5_named 46 = .ok (.goto 4, 3) := dk_167 0 4 (dk_at dksX5_named_2 0 rfl rfl)
theorem dX5_named_49 : decode cX5_named 49 = .ok (.iload_n 2, 1) := dk_28 (dk_at dksX5_named_2 3 rfl rfl)
theorem dX5_named_50 : decode cX5_named 50 = .ok (.istore_n 2, 1) := dk_61 (dk_at dksX5_named_2 4 rfl rfl)
theorem dX5_named_51 : decode cX5_named 51 = .ok (.iinc 3 (-1), 3) := dk_132 3 255 (dk_at dksX5_named_2 5 rfl rfl)
theorem dX5_named_54 : decode cX5_named 54 = .ok (.goto (-38), 3) := dk_167 255 218 (dk_at dksX5_named_2 8 rfl rfl)
theorem dX5_named_57 : decode cX5_named 57 = .ok (.iload_n 2, 1) := dk_28 (dk_at dksX5_named_2 11 rfl rfl)
theorem dX5_named_58 : decode cX5_named 58 = .ok (.ireturn, 1) := dk_172 (dk_at dksX5_named_2 12 rfl rfl)
abbrev cX5_letter : ByteArray := prog_22_method_102_code
def yX5_letter : MethodName := ⟨RX5, "letter", "(III)I"⟩
def dkwX5_letter_10 : List UInt8 := [21, 9, 54, 7, 132, 8, 1, 167, 255, 183, 21, 7, 172]
abbrev dktX5_letter_10 : List UInt8 := dkwX5_letter_10 ++ []
def dkwX5_letter_9 : List UInt8 := [21, 6, 182, 1, 207, 96, 42, 21, 7, 21, 6, 182, 1, 207, 159, 0, 9, 132, 9, 1, 167, 255, 211]
abbrev dktX5_letter_9 : List UInt8 := dkwX5_letter_9 ++ dktX5_letter_10
def dkwX5_letter_8 : List UInt8 := [21, 7, 21, 9, 182, 1, 237, 19, 1, 203, 159, 0, 31, 42, 21, 7, 21, 9, 182, 1, 237, 42, 21, 9]
abbrev dktX5_letter_8 : List UInt8 := dkwX5_letter_8 ++ dktX5_letter_9
def dkwX5_letter_7 : List UInt8 := [54, 7, 3, 54, 8, 21, 8, 29, 163, 0, 73, 21, 7, 21, 6, 160, 0, 5, 2, 172, 3, 54, 9, 42]
abbrev dktX5_letter_7 : List UInt8 := dkwX5_letter_7 ++ dktX5_letter_8
def dkwX5_letter_6 : List UInt8 := [29, 16, 254, 160, 0, 8, 21, 5, 167, 0, 5, 21, 4, 172, 42, 27, 21, 5, 182, 1, 234, 54, 6, 27]
abbrev dktX5_letter_6 : List UInt8 := dkwX5_letter_6 ++ dktX5_letter_7
def dkwX5_letter_5 : List UInt8 := [54, 4, 132, 6, 1, 167, 255, 182, 21, 5, 2, 159, 0, 7, 29, 156, 0, 23, 21, 5, 2, 159, 0, 9]
abbrev dktX5_letter_5 : List UInt8 := dkwX5_letter_5 ++ dktX5_letter_6
def dkwX5_letter_4 : List UInt8 := [21, 6, 167, 0, 5, 21, 5, 54, 5, 21, 7, 21, 4, 162, 0, 8, 21, 7, 167, 0, 5, 21, 4]
abbrev dktX5_letter_4 : List UInt8 := dkwX5_letter_4 ++ dktX5_letter_5
def dkwX5_letter_3 : List UInt8 := [160, 0, 49, 42, 27, 42, 27, 21, 6, 182, 1, 234, 182, 1, 207, 54, 7, 21, 7, 21, 4, 162, 0, 8]
abbrev dktX5_letter_3 : List UInt8 := dkwX5_letter_3 ++ dktX5_letter_4
def dkwX5_letter_2 : List UInt8 := [21, 6, 42, 180, 0, 13, 3, 46, 162, 0, 69, 42, 180, 0, 13, 16, 8, 21, 6, 96, 46, 28]
abbrev dktX5_letter_2 : List UInt8 := dkwX5_letter_2 ++ dktX5_letter_3
def dkwX5_letter_1 : List UInt8 := [29, 16, 254, 162, 0, 5, 2, 172, 42, 182, 1, 204, 19, 1, 203, 54, 4, 2, 54, 5, 3, 54, 6]
abbrev dktX5_letter_1 : List UInt8 := dkwX5_letter_1 ++ dktX5_letter_2
def dkwX5_letter_0 : List UInt8 := [42, 3, 181, 0, 159, 27, 184, 0, 188, 153, 0, 21, 28, 133, 9, 20, 1, 227, 184, 0, 179, 153, 0, 9]
abbrev dktX5_letter_0 : List UInt8 := dkwX5_letter_0 ++ dktX5_letter_1
theorem dksX5_letter_0 : cX5_letter.data.toList.drop 0 = dktX5_letter_0 := by decide +kernel
theorem dksX5_letter_1 : cX5_letter.data.toList.drop 24 = dktX5_letter_1 := dk_seg dksX5_letter_0 24 rfl rfl
theorem dksX5_letter_2 : cX5_letter.data.toList.drop 47 = dktX5_letter_2 := dk_seg dksX5_letter_1 23 rfl rfl
theorem dksX5_letter_3 : cX5_letter.data.toList.drop 69 = dktX5_letter_3 := dk_seg dksX5_letter_2 22 rfl rfl
theorem dksX5_letter_4 : cX5_letter.data.toList.drop 93 = dktX5_letter_4 := dk_seg dksX5_letter_3 24 rfl rfl
theorem dksX5_letter_5 : cX5_letter.data.toList.drop 116 = dktX5_letter_5 := dk_seg dksX5_letter_4 23 rfl rfl
theorem dksX5_letter_6 : cX5_letter.data.toList.drop 140 = dktX5_letter_6 := dk_seg dksX5_letter_5 24 rfl rfl
theorem dksX5_letter_7 : cX5_letter.data.toList.drop 164 = dktX5_letter_7 := dk_seg dksX5_letter_6 24 rfl rfl
theorem dksX5_letter_8 : cX5_letter.data.toList.drop 188 = dktX5_letter_8 := dk_seg dksX5_letter_7 24 rfl rfl
theorem dksX5_letter_9 : cX5_letter.data.toList.drop 212 = dktX5_letter_9 := dk_seg dksX5_letter_8 24 rfl rfl
theorem dksX5_letter_10 : cX5_letter.data.toList.drop 235 = dktX5_letter_10 := dk_seg dksX5_letter_9 23 rfl rfl
theorem dX5_letter_0 : decode cX5_letter 0 = .ok (.aload_n 0, 1) := dk_42 (dk_at dksX5_letter_0 0 rfl rfl)
theorem dX5_letter_1 : decode cX5_letter 1 = .ok (.iconst 0, 1) := dk_3 (dk_at dksX5_letter_0 1 rfl rfl)
theorem dX5_letter_2 : decode cX5_letter 2 = .ok (.putfield 159, 3) := dk_181 0 159 (dk_at dksX5_letter_0 2 rfl rfl)
theorem dX5_letter_5 : decode cX5_letter 5 = .ok (.iload_n 1, 1) := dk_27 (dk_at dksX5_letter_0 5 rfl rfl)
theorem dX5_letter_6 : decode cX5_letter 6 = .ok (.invokestatic 188, 3) := dk_184 0 188 (dk_at dksX5_letter_0 6 rfl rfl)
theorem dX5_letter_9 : decode cX5_letter 9 = .ok (.ifCond .eq 21, 3) := dk_153 0 21 (dk_at dksX5_letter_0 9 rfl rfl)
theorem dX5_letter_12 : decode cX5_letter 12 = .ok (.iload_n 2, 1) := dk_28 (dk_at dksX5_letter_0 12 rfl rfl)
theorem dX5_letter_13 : decode cX5_letter 13 = .ok (.i2l, 1) := dk_133 (dk_at dksX5_letter_0 13 rfl rfl)
theorem dX5_letter_14 : decode cX5_letter 14 = .ok (.lconst 0, 1) := dk_9 (dk_at dksX5_letter_0 14 rfl rfl)
theorem dX5_letter_15 : decode cX5_letter 15 = .ok (.ldc2_w 483, 3) := dk_20 1 227 (dk_at dksX5_letter_0 15 rfl rfl)
theorem dX5_letter_18 : decode cX5_letter 18 = .ok (.invokestatic 179, 3) := dk_184 0 179 (dk_at dksX5_letter_0 18 rfl rfl)
theorem dX5_letter_21 : decode cX5_letter 21 = .ok (.ifCond .eq 9, 3) := dk_153 0 9 (dk_at dksX5_letter_0 21 rfl rfl)
theorem dX5_letter_24 : decode cX5_letter 24 = .ok (.iload_n 3, 1) := dk_29 (dk_at dksX5_letter_1 0 rfl rfl)
theorem dX5_letter_25 : decode cX5_letter 25 = .ok (.bipush (-2), 2) := dk_16 254 (dk_at dksX5_letter_1 1 rfl rfl)
theorem dX5_letter_27 : decode cX5_letter 27 = .ok (.if_icmp .ge 5, 3) := dk_162 0 5 (dk_at dksX5_letter_1 3 rfl rfl)
theorem dX5_letter_30 : decode cX5_letter 30 = .ok (.iconst (-1), 1) := dk_2 (dk_at dksX5_letter_1 6 rfl rfl)
theorem dX5_letter_31 : decode cX5_letter 31 = .ok (.ireturn, 1) := dk_172 (dk_at dksX5_letter_1 7 rfl rfl)
theorem dX5_letter_32 : decode cX5_letter 32 = .ok (.aload_n 0, 1) := dk_42 (dk_at dksX5_letter_1 8 rfl rfl)
theorem dX5_letter_33 : decode cX5_letter 33 = .ok (.invokevirtual 460, 3) := dk_182 1 204 (dk_at dksX5_letter_1 9 rfl rfl)
theorem dX5_letter_36 : decode cX5_letter 36 = .ok (.ldc_w 459, 3) := dk_19 1 203 (dk_at dksX5_letter_1 12 rfl rfl)
theorem dX5_letter_39 : decode cX5_letter 39 = .ok (.istore 4, 2) := dk_54 4 (dk_at dksX5_letter_1 15 rfl rfl)
theorem dX5_letter_41 : decode cX5_letter 41 = .ok (.iconst (-1), 1) := dk_2 (dk_at dksX5_letter_1 17 rfl rfl)
theorem dX5_letter_42 : decode cX5_letter 42 = .ok (.istore 5, 2) := dk_54 5 (dk_at dksX5_letter_1 18 rfl rfl)
theorem dX5_letter_44 : decode cX5_letter 44 = .ok (.iconst 0, 1) := dk_3 (dk_at dksX5_letter_1 20 rfl rfl)
theorem dX5_letter_45 : decode cX5_letter 45 = .ok (.istore 6, 2) := dk_54 6 (dk_at dksX5_letter_1 21 rfl rfl)
theorem dX5_letter_47 : decode cX5_letter 47 = .ok (.iload 6, 2) := dk_21 6 (dk_at dksX5_letter_2 0 rfl rfl)
theorem dX5_letter_49 : decode cX5_letter 49 = .ok (.aload_n 0, 1) := dk_42 (dk_at dksX5_letter_2 2 rfl rfl)
theorem dX5_letter_50 : decode cX5_letter 50 = .ok (.getfield 13, 3) := dk_180 0 13 (dk_at dksX5_letter_2 3 rfl rfl)
theorem dX5_letter_53 : decode cX5_letter 53 = .ok (.iconst 0, 1) := dk_3 (dk_at dksX5_letter_2 6 rfl rfl)
theorem dX5_letter_54 : decode cX5_letter 54 = .ok (.iaload, 1) := dk_46 (dk_at dksX5_letter_2 7 rfl rfl)
theorem dX5_letter_55 : decode cX5_letter 55 = .ok (.if_icmp .ge 69, 3) := dk_162 0 69 (dk_at dksX5_letter_2 8 rfl rfl)
theorem dX5_letter_58 : decode cX5_letter 58 = .ok (.aload_n 0, 1) := dk_42 (dk_at dksX5_letter_2 11 rfl rfl)
theorem dX5_letter_59 : decode cX5_letter 59 = .ok (.getfield 13, 3) := dk_180 0 13 (dk_at dksX5_letter_2 12 rfl rfl)
theorem dX5_letter_62 : decode cX5_letter 62 = .ok (.bipush 8, 2) := dk_16 8 (dk_at dksX5_letter_2 15 rfl rfl)
theorem dX5_letter_64 : decode cX5_letter 64 = .ok (.iload 6, 2) := dk_21 6 (dk_at dksX5_letter_2 17 rfl rfl)
theorem dX5_letter_66 : decode cX5_letter 66 = .ok (.iadd, 1) := dk_96 (dk_at dksX5_letter_2 19 rfl rfl)
theorem dX5_letter_67 : decode cX5_letter 67 = .ok (.iaload, 1) := dk_46 (dk_at dksX5_letter_2 20 rfl rfl)
theorem dX5_letter_68 : decode cX5_letter 68 = .ok (.iload_n 2, 1) := dk_28 (dk_at dksX5_letter_2 21 rfl rfl)
theorem dX5_letter_69 : decode cX5_letter 69 = .ok (.if_icmp .ne 49, 3) := dk_160 0 49 (dk_at dksX5_letter_3 0 rfl rfl)
theorem dX5_letter_72 : decode cX5_letter 72 = .ok (.aload_n 0, 1) := dk_42 (dk_at dksX5_letter_3 3 rfl rfl)
theorem dX5_letter_73 : decode cX5_letter 73 = .ok (.iload_n 1, 1) := dk_27 (dk_at dksX5_letter_3 4 rfl rfl)
theorem dX5_letter_74 : decode cX5_letter 74 = .ok (.aload_n 0, 1) := dk_42 (dk_at dksX5_letter_3 5 rfl rfl)
theorem dX5_letter_75 : decode cX5_letter 75 = .ok (.iload_n 1, 1) := dk_27 (dk_at dksX5_letter_3 6 rfl rfl)
theorem dX5_letter_76 : decode cX5_letter 76 = .ok (.iload 6, 2) := dk_21 6 (dk_at dksX5_letter_3 7 rfl rfl)
theorem dX5_letter_78 : decode cX5_letter 78 = .ok (.invokevirtual 490, 3) := dk_182 1 234 (dk_at dksX5_letter_3 9 rfl rfl)
theorem dX5_letter_81 : decode cX5_letter 81 = .ok (.invokevirtual 463, 3) := dk_182 1 207 (dk_at dksX5_letter_3 12 rfl rfl)
theorem dX5_letter_84 : decode cX5_letter 84 = .ok (.istore 7, 2) := dk_54 7 (dk_at dksX5_letter_3 15 rfl rfl)
theorem dX5_letter_86 : decode cX5_letter 86 = .ok (.iload 7, 2) := dk_21 7 (dk_at dksX5_letter_3 17 rfl rfl)
theorem dX5_letter_88 : decode cX5_letter 88 = .ok (.iload 4, 2) := dk_21 4 (dk_at dksX5_letter_3 19 rfl rfl)
theorem dX5_letter_90 : decode cX5_letter 90 = .ok (.if_icmp .ge 8, 3) := dk_162 0 8 (dk_at dksX5_letter_3 21 rfl rfl)
theorem dX5_letter_93 : decode cX5_letter 93 = .ok (.iload 6, 2) := dk_21 6 (dk_at dksX5_letter_4 0 rfl rfl)
theorem dX5_letter_95 : decode cX5_letter 95 = .ok (.goto 5, 3) := dk_167 0 5 (dk_at dksX5_letter_4 2 rfl rfl)
theorem dX5_letter_98 : decode cX5_letter 98 = .ok (.iload 5, 2) := dk_21 5 (dk_at dksX5_letter_4 5 rfl rfl)
theorem dX5_letter_100 : decode cX5_letter 100 = .ok (.istore 5, 2) := dk_54 5 (dk_at dksX5_letter_4 7 rfl rfl)
theorem dX5_letter_102 : decode cX5_letter 102 = .ok (.iload 7, 2) := dk_21 7 (dk_at dksX5_letter_4 9 rfl rfl)
theorem dX5_letter_104 : decode cX5_letter 104 = .ok (.iload 4, 2) := dk_21 4 (dk_at dksX5_letter_4 11 rfl rfl)
theorem dX5_letter_106 : decode cX5_letter 106 = .ok (.if_icmp .ge 8, 3) := dk_162 0 8 (dk_at dksX5_letter_4 13 rfl rfl)
theorem dX5_letter_109 : decode cX5_letter 109 = .ok (.iload 7, 2) := dk_21 7 (dk_at dksX5_letter_4 16 rfl rfl)
theorem dX5_letter_111 : decode cX5_letter 111 = .ok (.goto 5, 3) := dk_167 0 5 (dk_at dksX5_letter_4 18 rfl rfl)
theorem dX5_letter_114 : decode cX5_letter 114 = .ok (.iload 4, 2) := dk_21 4 (dk_at dksX5_letter_4 21 rfl rfl)
theorem dX5_letter_116 : decode cX5_letter 116 = .ok (.istore 4, 2) := dk_54 4 (dk_at dksX5_letter_5 0 rfl rfl)
theorem dX5_letter_118 : decode cX5_letter 118 = .ok (.iinc 6 1, 3) := dk_132 6 1 (dk_at dksX5_letter_5 2 rfl rfl)
theorem dX5_letter_121 : decode cX5_letter 121 = .ok (.goto (-74), 3) := dk_167 255 182 (dk_at dksX5_letter_5 5 rfl rfl)
theorem dX5_letter_124 : decode cX5_letter 124 = .ok (.iload 5, 2) := dk_21 5 (dk_at dksX5_letter_5 8 rfl rfl)
theorem dX5_letter_126 : decode cX5_letter 126 = .ok (.iconst (-1), 1) := dk_2 (dk_at dksX5_letter_5 10 rfl rfl)
theorem dX5_letter_127 : decode cX5_letter 127 = .ok (.if_icmp .eq 7, 3) := dk_159 0 7 (dk_at dksX5_letter_5 11 rfl rfl)
theorem dX5_letter_130 : decode cX5_letter 130 = .ok (.iload_n 3, 1) := dk_29 (dk_at dksX5_letter_5 14 rfl rfl)
theorem dX5_letter_131 : decode cX5_letter 131 = .ok (.ifCond .ge 23, 3) := dk_156 0 23 (dk_at dksX5_letter_5 15 rfl rfl)
theorem dX5_letter_134 : decode cX5_letter 134 = .ok (.iload 5, 2) := dk_21 5 (dk_at dksX5_letter_5 18 rfl rfl)
theorem dX5_letter_136 : decode cX5_letter 136 = .ok (.iconst (-1), 1) := dk_2 (dk_at dksX5_letter_5 20 rfl rfl)
theorem dX5_letter_137 : decode cX5_letter 137 = .ok (.if_icmp .eq 9, 3) := dk_159 0 9 (dk_at dksX5_letter_5 21 rfl rfl)
theorem dX5_letter_140 : decode cX5_letter 140 = .ok (.iload_n 3, 1) := dk_29 (dk_at dksX5_letter_6 0 rfl rfl)
theorem dX5_letter_141 : decode cX5_letter 141 = .ok (.bipush (-2), 2) := dk_16 254 (dk_at dksX5_letter_6 1 rfl rfl)
theorem dX5_letter_143 : decode cX5_letter 143 = .ok (.if_icmp .ne 8, 3) := dk_160 0 8 (dk_at dksX5_letter_6 3 rfl rfl)
theorem dX5_letter_146 : decode cX5_letter 146 = .ok (.iload 5, 2) := dk_21 5 (dk_at dksX5_letter_6 6 rfl rfl)
theorem dX5_letter_148 : decode cX5_letter 148 = .ok (.goto 5, 3) := dk_167 0 5 (dk_at dksX5_letter_6 8 rfl rfl)
theorem dX5_letter_151 : decode cX5_letter 151 = .ok (.iload 4, 2) := dk_21 4 (dk_at dksX5_letter_6 11 rfl rfl)
theorem dX5_letter_153 : decode cX5_letter 153 = .ok (.ireturn, 1) := dk_172 (dk_at dksX5_letter_6 13 rfl rfl)
theorem dX5_letter_154 : decode cX5_letter 154 = .ok (.aload_n 0, 1) := dk_42 (dk_at dksX5_letter_6 14 rfl rfl)
theorem dX5_letter_155 : decode cX5_letter 155 = .ok (.iload_n 1, 1) := dk_27 (dk_at dksX5_letter_6 15 rfl rfl)
theorem dX5_letter_156 : decode cX5_letter 156 = .ok (.iload 5, 2) := dk_21 5 (dk_at dksX5_letter_6 16 rfl rfl)
theorem dX5_letter_158 : decode cX5_letter 158 = .ok (.invokevirtual 490, 3) := dk_182 1 234 (dk_at dksX5_letter_6 18 rfl rfl)
theorem dX5_letter_161 : decode cX5_letter 161 = .ok (.istore 6, 2) := dk_54 6 (dk_at dksX5_letter_6 21 rfl rfl)
theorem dX5_letter_163 : decode cX5_letter 163 = .ok (.iload_n 1, 1) := dk_27 (dk_at dksX5_letter_6 23 rfl rfl)
theorem dX5_letter_164 : decode cX5_letter 164 = .ok (.istore 7, 2) := dk_54 7 (dk_at dksX5_letter_7 0 rfl rfl)
theorem dX5_letter_166 : decode cX5_letter 166 = .ok (.iconst 0, 1) := dk_3 (dk_at dksX5_letter_7 2 rfl rfl)
theorem dX5_letter_167 : decode cX5_letter 167 = .ok (.istore 8, 2) := dk_54 8 (dk_at dksX5_letter_7 3 rfl rfl)
theorem dX5_letter_169 : decode cX5_letter 169 = .ok (.iload 8, 2) := dk_21 8 (dk_at dksX5_letter_7 5 rfl rfl)
theorem dX5_letter_171 : decode cX5_letter 171 = .ok (.iload_n 3, 1) := dk_29 (dk_at dksX5_letter_7 7 rfl rfl)
theorem dX5_letter_172 : decode cX5_letter 172 = .ok (.if_icmp .gt 73, 3) := dk_163 0 73 (dk_at dksX5_letter_7 8 rfl rfl)
theorem dX5_letter_175 : decode cX5_letter 175 = .ok (.iload 7, 2) := dk_21 7 (dk_at dksX5_letter_7 11 rfl rfl)
theorem dX5_letter_177 : decode cX5_letter 177 = .ok (.iload 6, 2) := dk_21 6 (dk_at dksX5_letter_7 13 rfl rfl)
theorem dX5_letter_179 : decode cX5_letter 179 = .ok (.if_icmp .ne 5, 3) := dk_160 0 5 (dk_at dksX5_letter_7 15 rfl rfl)
theorem dX5_letter_182 : decode cX5_letter 182 = .ok (.iconst (-1), 1) := dk_2 (dk_at dksX5_letter_7 18 rfl rfl)
theorem dX5_letter_183 : decode cX5_letter 183 = .ok (.ireturn, 1) := dk_172 (dk_at dksX5_letter_7 19 rfl rfl)
theorem dX5_letter_184 : decode cX5_letter 184 = .ok (.iconst 0, 1) := dk_3 (dk_at dksX5_letter_7 20 rfl rfl)
theorem dX5_letter_185 : decode cX5_letter 185 = .ok (.istore 9, 2) := dk_54 9 (dk_at dksX5_letter_7 21 rfl rfl)
theorem dX5_letter_187 : decode cX5_letter 187 = .ok (.aload_n 0, 1) := dk_42 (dk_at dksX5_letter_7 23 rfl rfl)
theorem dX5_letter_188 : decode cX5_letter 188 = .ok (.iload 7, 2) := dk_21 7 (dk_at dksX5_letter_8 0 rfl rfl)
theorem dX5_letter_190 : decode cX5_letter 190 = .ok (.iload 9, 2) := dk_21 9 (dk_at dksX5_letter_8 2 rfl rfl)
theorem dX5_letter_192 : decode cX5_letter 192 = .ok (.invokevirtual 493, 3) := dk_182 1 237 (dk_at dksX5_letter_8 4 rfl rfl)
theorem dX5_letter_195 : decode cX5_letter 195 = .ok (.ldc_w 459, 3) := dk_19 1 203 (dk_at dksX5_letter_8 7 rfl rfl)
theorem dX5_letter_198 : decode cX5_letter 198 = .ok (.if_icmp .eq 31, 3) := dk_159 0 31 (dk_at dksX5_letter_8 10 rfl rfl)
theorem dX5_letter_201 : decode cX5_letter 201 = .ok (.aload_n 0, 1) := dk_42 (dk_at dksX5_letter_8 13 rfl rfl)
theorem dX5_letter_202 : decode cX5_letter 202 = .ok (.iload 7, 2) := dk_21 7 (dk_at dksX5_letter_8 14 rfl rfl)
theorem dX5_letter_204 : decode cX5_letter 204 = .ok (.iload 9, 2) := dk_21 9 (dk_at dksX5_letter_8 16 rfl rfl)
theorem dX5_letter_206 : decode cX5_letter 206 = .ok (.invokevirtual 493, 3) := dk_182 1 237 (dk_at dksX5_letter_8 18 rfl rfl)
theorem dX5_letter_209 : decode cX5_letter 209 = .ok (.aload_n 0, 1) := dk_42 (dk_at dksX5_letter_8 21 rfl rfl)
theorem dX5_letter_210 : decode cX5_letter 210 = .ok (.iload 9, 2) := dk_21 9 (dk_at dksX5_letter_8 22 rfl rfl)
theorem dX5_letter_212 : decode cX5_letter 212 = .ok (.iload 6, 2) := dk_21 6 (dk_at dksX5_letter_9 0 rfl rfl)
theorem dX5_letter_214 : decode cX5_letter 214 = .ok (.invokevirtual 463, 3) := dk_182 1 207 (dk_at dksX5_letter_9 2 rfl rfl)
theorem dX5_letter_217 : decode cX5_letter 217 = .ok (.iadd, 1) := dk_96 (dk_at dksX5_letter_9 5 rfl rfl)
theorem dX5_letter_218 : decode cX5_letter 218 = .ok (.aload_n 0, 1) := dk_42 (dk_at dksX5_letter_9 6 rfl rfl)
theorem dX5_letter_219 : decode cX5_letter 219 = .ok (.iload 7, 2) := dk_21 7 (dk_at dksX5_letter_9 7 rfl rfl)
theorem dX5_letter_221 : decode cX5_letter 221 = .ok (.iload 6, 2) := dk_21 6 (dk_at dksX5_letter_9 9 rfl rfl)
theorem dX5_letter_223 : decode cX5_letter 223 = .ok (.invokevirtual 463, 3) := dk_182 1 207 (dk_at dksX5_letter_9 11 rfl rfl)
theorem dX5_letter_226 : decode cX5_letter 226 = .ok (.if_icmp .eq 9, 3) := dk_159 0 9 (dk_at dksX5_letter_9 14 rfl rfl)
theorem dX5_letter_229 : decode cX5_letter 229 = .ok (.iinc 9 1, 3) := dk_132 9 1 (dk_at dksX5_letter_9 17 rfl rfl)
theorem dX5_letter_232 : decode cX5_letter 232 = .ok (.goto (-45), 3) := dk_167 255 211 (dk_at dksX5_letter_9 20 rfl rfl)
theorem dX5_letter_235 : decode cX5_letter 235 = .ok (.iload 9, 2) := dk_21 9 (dk_at dksX5_letter_10 0 rfl rfl)
theorem dX5_letter_237 : decode cX5_letter 237 = .ok (.istore 7, 2) := dk_54 7 (dk_at dksX5_letter_10 2 rfl rfl)
theorem dX5_letter_239 : decode cX5_letter 239 = .ok (.iinc 8 1, 3) := dk_132 8 1 (dk_at dksX5_letter_10 4 rfl rfl)
theorem dX5_letter_242 : decode cX5_letter 242 = .ok (.goto (-73), 3) := dk_167 255 183 (dk_at dksX5_letter_10 7 rfl rfl)
theorem dX5_letter_245 : decode cX5_letter 245 = .ok (.iload 7, 2) := dk_21 7 (dk_at dksX5_letter_10 10 rfl rfl)
theorem dX5_letter_247 : decode cX5_letter 247 = .ok (.ireturn, 1) := dk_172 (dk_at dksX5_letter_10 12 rfl rfl)
abbrev cX5_nearEnd : ByteArray := prog_22_method_100_code
def yX5_nearEnd : MethodName := ⟨RX5, "nearEnd", "(II)I"⟩
def dkwX5_nearEnd_2 : List UInt8 := [21, 4, 162, 0, 7, 29, 167, 0, 5, 21, 4, 172]
abbrev dktX5_nearEnd_2 : List UInt8 := dkwX5_nearEnd_2 ++ []
def dkwX5_nearEnd_1 : List UInt8 := [182, 1, 207, 42, 27, 21, 4, 182, 1, 207, 100, 54, 5, 21, 5, 155, 0, 14, 21, 5, 154, 0, 13, 29]
abbrev dktX5_nearEnd_1 : List UInt8 := dkwX5_nearEnd_1 ++ dktX5_nearEnd_2
def dkwX5_nearEnd_0 : List UInt8 := [42, 180, 0, 13, 16, 26, 28, 96, 46, 62, 42, 180, 0, 13, 16, 36, 28, 96, 46, 54, 4, 42, 27, 29]
abbrev dktX5_nearEnd_0 : List UInt8 := dkwX5_nearEnd_0 ++ dktX5_nearEnd_1
theorem dksX5_nearEnd_0 : cX5_nearEnd.data.toList.drop 0 = dktX5_nearEnd_0 := by decide +kernel
theorem dksX5_nearEnd_1 : cX5_nearEnd.data.toList.drop 24 = dktX5_nearEnd_1 := dk_seg dksX5_nearEnd_0 24 rfl rfl
theorem dksX5_nearEnd_2 : cX5_nearEnd.data.toList.drop 48 = dktX5_nearEnd_2 := dk_seg dksX5_nearEnd_1 24 rfl rfl
theorem dX5_nearEnd_0 : decode cX5_nearEnd 0 = .ok (.aload_n 0, 1) := dk_42 (dk_at dksX5_nearEnd_0 0 rfl rfl)
theorem dX5_nearEnd_1 : decode cX5_nearEnd 1 = .ok (.getfield 13, 3) := dk_180 0 13 (dk_at dksX5_nearEnd_0 1 rfl rfl)
theorem dX5_nearEnd_4 : decode cX5_nearEnd 4 = .ok (.bipush 26, 2) := dk_16 26 (dk_at dksX5_nearEnd_0 4 rfl rfl)
theorem dX5_nearEnd_6 : decode cX5_nearEnd 6 = .ok (.iload_n 2, 1) := dk_28 (dk_at dksX5_nearEnd_0 6 rfl rfl)
theorem dX5_nearEnd_7 : decode cX5_nearEnd 7 = .ok (.iadd, 1) := dk_96 (dk_at dksX5_nearEnd_0 7 rfl rfl)
theorem dX5_nearEnd_8 : decode cX5_nearEnd 8 = .ok (.iaload, 1) := dk_46 (dk_at dksX5_nearEnd_0 8 rfl rfl)
theorem dX5_nearEnd_9 : decode cX5_nearEnd 9 = .ok (.istore_n 3, 1) := dk_62 (dk_at dksX5_nearEnd_0 9 rfl rfl)
theorem dX5_nearEnd_10 : decode cX5_nearEnd 10 = .ok (.aload_n 0, 1) := dk_42 (dk_at dksX5_nearEnd_0 10 rfl rfl)
theorem dX5_nearEnd_11 : decode cX5_nearEnd 11 = .ok (.getfield 13, 3) := dk_180 0 13 (dk_at dksX5_nearEnd_0 11 rfl rfl)
theorem dX5_nearEnd_14 : decode cX5_nearEnd 14 = .ok (.bipush 36, 2) := dk_16 36 (dk_at dksX5_nearEnd_0 14 rfl rfl)
theorem dX5_nearEnd_16 : decode cX5_nearEnd 16 = .ok (.iload_n 2, 1) := dk_28 (dk_at dksX5_nearEnd_0 16 rfl rfl)
theorem dX5_nearEnd_17 : decode cX5_nearEnd 17 = .ok (.iadd, 1) := dk_96 (dk_at dksX5_nearEnd_0 17 rfl rfl)
theorem dX5_nearEnd_18 : decode cX5_nearEnd 18 = .ok (.iaload, 1) := dk_46 (dk_at dksX5_nearEnd_0 18 rfl rfl)
theorem dX5_nearEnd_19 : decode cX5_nearEnd 19 = .ok (.istore 4, 2) := dk_54 4 (dk_at dksX5_nearEnd_0 19 rfl rfl)
theorem dX5_nearEnd_21 : decode cX5_nearEnd 21 = .ok (.aload_n 0, 1) := dk_42 (dk_at dksX5_nearEnd_0 21 rfl rfl)
theorem dX5_nearEnd_22 : decode cX5_nearEnd 22 = .ok (.iload_n 1, 1) := dk_27 (dk_at dksX5_nearEnd_0 22 rfl rfl)
theorem dX5_nearEnd_23 : decode cX5_nearEnd 23 = .ok (.iload_n 3, 1) := dk_29 (dk_at dksX5_nearEnd_0 23 rfl rfl)
theorem dX5_nearEnd_24 : decode cX5_nearEnd 24 = .ok (.invokevirtual 463, 3) := dk_182 1 207 (dk_at dksX5_nearEnd_1 0 rfl rfl)
theorem dX5_nearEnd_27 : decode cX5_nearEnd 27 = .ok (.aload_n 0, 1) := dk_42 (dk_at dksX5_nearEnd_1 3 rfl rfl)
theorem dX5_nearEnd_28 : decode cX5_nearEnd 28 = .ok (.iload_n 1, 1) := dk_27 (dk_at dksX5_nearEnd_1 4 rfl rfl)
theorem dX5_nearEnd_29 : decode cX5_nearEnd 29 = .ok (.iload 4, 2) := dk_21 4 (dk_at dksX5_nearEnd_1 5 rfl rfl)
theorem dX5_nearEnd_31 : decode cX5_nearEnd 31 = .ok (.invokevirtual 463, 3) := dk_182 1 207 (dk_at dksX5_nearEnd_1 7 rfl rfl)
theorem dX5_nearEnd_34 : decode cX5_nearEnd 34 = .ok (.isub, 1) := dk_100 (dk_at dksX5_nearEnd_1 10 rfl rfl)
theorem dX5_nearEnd_35 : decode cX5_nearEnd 35 = .ok (.istore 5, 2) := dk_54 5 (dk_at dksX5_nearEnd_1 11 rfl rfl)
theorem dX5_nearEnd_37 : decode cX5_nearEnd 37 = .ok (.iload 5, 2) := dk_21 5 (dk_at dksX5_nearEnd_1 13 rfl rfl)
theorem dX5_nearEnd_39 : decode cX5_nearEnd 39 = .ok (.ifCond .lt 14, 3) := dk_155 0 14 (dk_at dksX5_nearEnd_1 15 rfl rfl)
theorem dX5_nearEnd_42 : decode cX5_nearEnd 42 = .ok (.iload 5, 2) := dk_21 5 (dk_at dksX5_nearEnd_1 18 rfl rfl)
theorem dX5_nearEnd_44 : decode cX5_nearEnd 44 = .ok (.ifCond .ne 13, 3) := dk_154 0 13 (dk_at dksX5_nearEnd_1 20 rfl rfl)
theorem dX5_nearEnd_47 : decode cX5_nearEnd 47 = .ok (.iload_n 3, 1) := dk_29 (dk_at dksX5_nearEnd_1 23 rfl rfl)
theorem dX5_nearEnd_48 : decode cX5_nearEnd 48 = .ok (.iload 4, 2) := dk_21 4 (dk_at dksX5_nearEnd_2 0 rfl rfl)
theorem dX5_nearEnd_50 : decode cX5_nearEnd 50 = .ok (.if_icmp .ge 7, 3) := dk_162 0 7 (dk_at dksX5_nearEnd_2 2 rfl rfl)
theorem dX5_nearEnd_53 : decode cX5_nearEnd 53 = .ok (.iload_n 3, 1) := dk_29 (dk_at dksX5_nearEnd_2 5 rfl rfl)
theorem dX5_nearEnd_54 : decode cX5_nearEnd 54 = .ok (.goto 5, 3) := dk_167 0 5 (dk_at dksX5_nearEnd_2 6 rfl rfl)
theorem dX5_nearEnd_57 : decode cX5_nearEnd 57 = .ok (.iload 4, 2) := dk_21 4 (dk_at dksX5_nearEnd_2 9 rfl rfl)
theorem dX5_nearEnd_59 : decode cX5_nearEnd 59 = .ok (.ireturn, 1) := dk_172 (dk_at dksX5_nearEnd_2 11 rfl rfl)
abbrev cX5_laneBetween : ByteArray := prog_22_method_101_code
def yX5_laneBetween : MethodName := ⟨RX5, "laneBetween", "(II)I"⟩
def dkwX5_laneBetween_4 : List UInt8 := [29, 172]
abbrev dktX5_laneBetween_4 : List UInt8 := dkwX5_laneBetween_4 ++ []
def dkwX5_laneBetween_3 : List UInt8 := [162, 0, 16, 42, 180, 0, 13, 16, 46, 21, 4, 96, 46, 167, 0, 4, 29, 62, 132, 4, 1, 167, 255, 176]
abbrev dktX5_laneBetween_3 : List UInt8 := dkwX5_laneBetween_3 ++ dktX5_laneBetween_4
def dkwX5_laneBetween_2 : List UInt8 := [167, 0, 4, 3, 54, 5, 21, 5, 153, 0, 30, 42, 180, 0, 13, 16, 46, 21, 4, 96, 46, 29]
abbrev dktX5_laneBetween_2 : List UInt8 := dkwX5_laneBetween_2 ++ dktX5_laneBetween_3
def dkwX5_laneBetween_1 : List UInt8 := [182, 1, 168, 153, 0, 22, 42, 21, 4, 28, 182, 1, 168, 153, 0, 12, 27, 28, 159, 0, 7, 4]
abbrev dktX5_laneBetween_1 : List UInt8 := dkwX5_laneBetween_1 ++ dktX5_laneBetween_2
def dkwX5_laneBetween_0 : List UInt8 := [19, 1, 203, 62, 3, 54, 4, 21, 4, 42, 180, 0, 13, 3, 46, 162, 0, 75, 42, 21, 4, 27]
abbrev dktX5_laneBetween_0 : List UInt8 := dkwX5_laneBetween_0 ++ dktX5_laneBetween_1
theorem dksX5_laneBetween_0 : cX5_laneBetween.data.toList.drop 0 = dktX5_laneBetween_0 := by decide +kernel
theorem dksX5_laneBetween_1 : cX5_laneBetween.data.toList.drop 22 = dktX5_laneBetween_1 := dk_seg dksX5_laneBetween_0 22 rfl rfl
theorem dksX5_laneBetween_2 : cX5_laneBetween.data.toList.drop 44 = dktX5_laneBetween_2 := dk_seg dksX5_laneBetween_1 22 rfl rfl
theorem dksX5_laneBetween_3 : cX5_laneBetween.data.toList.drop 66 = dktX5_laneBetween_3 := dk_seg dksX5_laneBetween_2 22 rfl rfl
theorem dksX5_laneBetween_4 : cX5_laneBetween.data.toList.drop 90 = dktX5_laneBetween_4 := dk_seg dksX5_laneBetween_3 24 rfl rfl
theorem dX5_laneBetween_0 : decode cX5_laneBetween 0 = .ok (.ldc_w 459, 3) := dk_19 1 203 (dk_at dksX5_laneBetween_0 0 rfl rfl)
theorem dX5_laneBetween_3 : decode cX5_laneBetween 3 = .ok (.istore_n 3, 1) := dk_62 (dk_at dksX5_laneBetween_0 3 rfl rfl)
theorem dX5_laneBetween_4 : decode cX5_laneBetween 4 = .ok (.iconst 0, 1) := dk_3 (dk_at dksX5_laneBetween_0 4 rfl rfl)
theorem dX5_laneBetween_5 : decode cX5_laneBetween 5 = .ok (.istore 4, 2) := dk_54 4 (dk_at dksX5_laneBetween_0 5 rfl rfl)
theorem dX5_laneBetween_7 : decode cX5_laneBetween 7 = .ok (.iload 4, 2) := dk_21 4 (dk_at dksX5_laneBetween_0 7 rfl rfl)
theorem dX5_laneBetween_9 : decode cX5_laneBetween 9 = .ok (.aload_n 0, 1) := dk_42 (dk_at dksX5_laneBetween_0 9 rfl rfl)
theorem dX5_laneBetween_10 : decode cX5_laneBetween 10 = .ok (.getfield 13, 3) := dk_180 0 13 (dk_at dksX5_laneBetween_0 10 rfl rfl)
theorem dX5_laneBetween_13 : decode cX5_laneBetween 13 = .ok (.iconst 0, 1) := dk_3 (dk_at dksX5_laneBetween_0 13 rfl rfl)
theorem dX5_laneBetween_14 : decode cX5_laneBetween 14 = .ok (.iaload, 1) := dk_46 (dk_at dksX5_laneBetween_0 14 rfl rfl)
theorem dX5_laneBetween_15 : decode cX5_laneBetween 15 = .ok (.if_icmp .ge 75, 3) := dk_162 0 75 (dk_at dksX5_laneBetween_0 15 rfl rfl)
theorem dX5_laneBetween_18 : decode cX5_laneBetween 18 = .ok (.aload_n 0, 1) := dk_42 (dk_at dksX5_laneBetween_0 18 rfl rfl)
theorem dX5_laneBetween_19 : decode cX5_laneBetween 19 = .ok (.iload 4, 2) := dk_21 4 (dk_at dksX5_laneBetween_0 19 rfl rfl)
theorem dX5_laneBetween_21 : decode cX5_laneBetween 21 = .ok (.iload_n 1, 1) := dk_27 (dk_at dksX5_laneBetween_0 21 rfl rfl)
theorem dX5_laneBetween_22 : decode cX5_laneBetween 22 = .ok (.invokevirtual 424, 3) := dk_182 1 168 (dk_at dksX5_laneBetween_1 0 rfl rfl)
theorem dX5_laneBetween_25 : decode cX5_laneBetween 25 = .ok (.ifCond .eq 22, 3) := dk_153 0 22 (dk_at dksX5_laneBetween_1 3 rfl rfl)
theorem dX5_laneBetween_28 : decode cX5_laneBetween 28 = .ok (.aload_n 0, 1) := dk_42 (dk_at dksX5_laneBetween_1 6 rfl rfl)
theorem dX5_laneBetween_29 : decode cX5_laneBetween 29 = .ok (.iload 4, 2) := dk_21 4 (dk_at dksX5_laneBetween_1 7 rfl rfl)
theorem dX5_laneBetween_31 : decode cX5_laneBetween 31 = .ok (.iload_n 2, 1) := dk_28 (dk_at dksX5_laneBetween_1 9 rfl rfl)
theorem dX5_laneBetween_32 : decode cX5_laneBetween 32 = .ok (.invokevirtual 424, 3) := dk_182 1 168 (dk_at dksX5_laneBetween_1 10 rfl rfl)
theorem dX5_laneBetween_35 : decode cX5_laneBetween 35 = .ok (.ifCond .eq 12, 3) := dk_153 0 12 (dk_at dksX5_laneBetween_1 13 rfl rfl)
theorem dX5_laneBetween_38 : decode cX5_laneBetween 38 = .ok (.iload_n 1, 1) := dk_27 (dk_at dksX5_laneBetween_1 16 rfl rfl)
theorem dX5_laneBetween_39 : decode cX5_laneBetween 39 = .ok (.iload_n 2, 1) := dk_28 (dk_at dksX5_laneBetween_1 17 rfl rfl)
theorem dX5_laneBetween_40 : decode cX5_laneBetween 40 = .ok (.if_icmp .eq 7, 3) := dk_159 0 7 (dk_at dksX5_laneBetween_1 18 rfl rfl)
theorem dX5_laneBetween_43 : decode cX5_laneBetween 43 = .ok (.iconst 1, 1) := dk_4 (dk_at dksX5_laneBetween_1 21 rfl rfl)
theorem dX5_laneBetween_44 : decode cX5_laneBetween 44 = .ok (.goto 4, 3) := dk_167 0 4 (dk_at dksX5_laneBetween_2 0 rfl rfl)
theorem dX5_laneBetween_47 : decode cX5_laneBetween 47 = .ok (.iconst 0, 1) := dk_3 (dk_at dksX5_laneBetween_2 3 rfl rfl)
theorem dX5_laneBetween_48 : decode cX5_laneBetween 48 = .ok (.istore 5, 2) := dk_54 5 (dk_at dksX5_laneBetween_2 4 rfl rfl)
theorem dX5_laneBetween_50 : decode cX5_laneBetween 50 = .ok (.iload 5, 2) := dk_21 5 (dk_at dksX5_laneBetween_2 6 rfl rfl)
theorem dX5_laneBetween_52 : decode cX5_laneBetween 52 = .ok (.ifCond .eq 30, 3) := dk_153 0 30 (dk_at dksX5_laneBetween_2 8 rfl rfl)
theorem dX5_laneBetween_55 : decode cX5_laneBetween 55 = .ok (.aload_n 0, 1) := dk_42 (dk_at dksX5_laneBetween_2 11 rfl rfl)
theorem dX5_laneBetween_56 : decode cX5_laneBetween 56 = .ok (.getfield 13, 3) := dk_180 0 13 (dk_at dksX5_laneBetween_2 12 rfl rfl)
theorem dX5_laneBetween_59 : decode cX5_laneBetween 59 = .ok (.bipush 46, 2) := dk_16 46 (dk_at dksX5_laneBetween_2 15 rfl rfl)
theorem dX5_laneBetween_61 : decode cX5_laneBetween 61 = .ok (.iload 4, 2) := dk_21 4 (dk_at dksX5_laneBetween_2 17 rfl rfl)
theorem dX5_laneBetween_63 : decode cX5_laneBetween 63 = .ok (.iadd, 1) := dk_96 (dk_at dksX5_laneBetween_2 19 rfl rfl)
theorem dX5_laneBetween_64 : decode cX5_laneBetween 64 = .ok (.iaload, 1) := dk_46 (dk_at dksX5_laneBetween_2 20 rfl rfl)
theorem dX5_laneBetween_65 : decode cX5_laneBetween 65 = .ok (.iload_n 3, 1) := dk_29 (dk_at dksX5_laneBetween_2 21 rfl rfl)
theorem dX5_laneBetween_66 : decode cX5_laneBetween 66 = .ok (.if_icmp .ge 16, 3) := dk_162 0 16 (dk_at dksX5_laneBetween_3 0 rfl rfl)
theorem dX5_laneBetween_69 : decode cX5_laneBetween 69 = .ok (.aload_n 0, 1) := dk_42 (dk_at dksX5_laneBetween_3 3 rfl rfl)
theorem dX5_laneBetween_70 : decode cX5_laneBetween 70 = .ok (.getfield 13, 3) := dk_180 0 13 (dk_at dksX5_laneBetween_3 4 rfl rfl)
theorem dX5_laneBetween_73 : decode cX5_laneBetween 73 = .ok (.bipush 46, 2) := dk_16 46 (dk_at dksX5_laneBetween_3 7 rfl rfl)
theorem dX5_laneBetween_75 : decode cX5_laneBetween 75 = .ok (.iload 4, 2) := dk_21 4 (dk_at dksX5_laneBetween_3 9 rfl rfl)
theorem dX5_laneBetween_77 : decode cX5_laneBetween 77 = .ok (.iadd, 1) := dk_96 (dk_at dksX5_laneBetween_3 11 rfl rfl)
theorem dX5_laneBetween_78 : decode cX5_laneBetween 78 = .ok (.iaload, 1) := dk_46 (dk_at dksX5_laneBetween_3 12 rfl rfl)
theorem dX5_laneBetween_79 : decode cX5_laneBetween 79 = .ok (.goto 4, 3) := dk_167 0 4 (dk_at dksX5_laneBetween_3 13 rfl rfl)
theorem dX5_laneBetween_82 : decode cX5_laneBetween 82 = .ok (.iload_n 3, 1) := dk_29 (dk_at dksX5_laneBetween_3 16 rfl rfl)
theorem dX5_laneBetween_83 : decode cX5_laneBetween 83 = .ok (.istore_n 3, 1) := dk_62 (dk_at dksX5_laneBetween_3 17 rfl rfl)
theorem dX5_laneBetween_84 : decode cX5_laneBetween 84 = .ok (.iinc 4 1, 3) := dk_132 4 1 (dk_at dksX5_laneBetween_3 18 rfl rfl)
theorem dX5_laneBetween_87 : decode cX5_laneBetween 87 = .ok (.goto (-80), 3) := dk_167 255 176 (dk_at dksX5_laneBetween_3 21 rfl rfl)
theorem dX5_laneBetween_90 : decode cX5_laneBetween 90 = .ok (.iload_n 3, 1) := dk_29 (dk_at dksX5_laneBetween_4 0 rfl rfl)
theorem dX5_laneBetween_91 : decode cX5_laneBetween 91 = .ok (.ireturn, 1) := dk_172 (dk_at dksX5_laneBetween_4 1 rfl rfl)
abbrev cX5_apart : ByteArray := prog_22_method_107_code
def yX5_apart : MethodName := ⟨RX5, "apart", "(I)I"⟩
def dkwX5_apart_2 : List UInt8 := [180, 0, 124, 27, 4, 100, 46, 172]
abbrev dktX5_apart_2 : List UInt8 := dkwX5_apart_2 ++ []
def dkwX5_apart_1 : List UInt8 := [61, 42, 28, 182, 1, 249, 154, 0, 9, 132, 2, 1, 167, 255, 245, 27, 154, 0, 7, 28, 167, 0, 11, 42]
abbrev dktX5_apart_1 : List UInt8 := dkwX5_apart_1 ++ dktX5_apart_2
def dkwX5_apart_0 : List UInt8 := [42, 3, 181, 0, 159, 27, 133, 9, 42, 180, 0, 13, 3, 46, 133, 184, 0, 179, 154, 0, 5, 2, 172, 3]
abbrev dktX5_apart_0 : List UInt8 := dkwX5_apart_0 ++ dktX5_apart_1
theorem dksX5_apart_0 : cX5_apart.data.toList.drop 0 = dktX5_apart_0 := by decide +kernel
theorem dksX5_apart_1 : cX5_apart.data.toList.drop 24 = dktX5_apart_1 := dk_seg dksX5_apart_0 24 rfl rfl
theorem dksX5_apart_2 : cX5_apart.data.toList.drop 48 = dktX5_apart_2 := dk_seg dksX5_apart_1 24 rfl rfl
theorem dX5_apart_0 : decode cX5_apart 0 = .ok (.aload_n 0, 1) := dk_42 (dk_at dksX5_apart_0 0 rfl rfl)
theorem dX5_apart_1 : decode cX5_apart 1 = .ok (.iconst 0, 1) := dk_3 (dk_at dksX5_apart_0 1 rfl rfl)
theorem dX5_apart_2 : decode cX5_apart 2 = .ok (.putfield 159, 3) := dk_181 0 159 (dk_at dksX5_apart_0 2 rfl rfl)
theorem dX5_apart_5 : decode cX5_apart 5 = .ok (.iload_n 1, 1) := dk_27 (dk_at dksX5_apart_0 5 rfl rfl)
theorem dX5_apart_6 : decode cX5_apart 6 = .ok (.i2l, 1) := dk_133 (dk_at dksX5_apart_0 6 rfl rfl)
theorem dX5_apart_7 : decode cX5_apart 7 = .ok (.lconst 0, 1) := dk_9 (dk_at dksX5_apart_0 7 rfl rfl)
theorem dX5_apart_8 : decode cX5_apart 8 = .ok (.aload_n 0, 1) := dk_42 (dk_at dksX5_apart_0 8 rfl rfl)
theorem dX5_apart_9 : decode cX5_apart 9 = .ok (.getfield 13, 3) := dk_180 0 13 (dk_at dksX5_apart_0 9 rfl rfl)
theorem dX5_apart_12 : decode cX5_apart 12 = .ok (.iconst 0, 1) := dk_3 (dk_at dksX5_apart_0 12 rfl rfl)
theorem dX5_apart_13 : decode cX5_apart 13 = .ok (.iaload, 1) := dk_46 (dk_at dksX5_apart_0 13 rfl rfl)
theorem dX5_apart_14 : decode cX5_apart 14 = .ok (.i2l, 1) := dk_133 (dk_at dksX5_apart_0 14 rfl rfl)
theorem dX5_apart_15 : decode cX5_apart 15 = .ok (.invokestatic 179, 3) := dk_184 0 179 (dk_at dksX5_apart_0 15 rfl rfl)
theorem dX5_apart_18 : decode cX5_apart 18 = .ok (.ifCond .ne 5, 3) := dk_154 0 5 (dk_at dksX5_apart_0 18 rfl rfl)
theorem dX5_apart_21 : decode cX5_apart 21 = .ok (.iconst (-1), 1) := dk_2 (dk_at dksX5_apart_0 21 rfl rfl)
theorem dX5_apart_22 : decode cX5_apart 22 = .ok (.ireturn, 1) := dk_172 (dk_at dksX5_apart_0 22 rfl rfl)
theorem dX5_apart_23 : decode cX5_apart 23 = .ok (.iconst 0, 1) := dk_3 (dk_at dksX5_apart_0 23 rfl rfl)
theorem dX5_apart_24 : decode cX5_apart 24 = .ok (.istore_n 2, 1) := dk_61 (dk_at dksX5_apart_1 0 rfl rfl)
theorem dX5_apart_25 : decode cX5_apart 25 = .ok (.aload_n 0, 1) := dk_42 (dk_at dksX5_apart_1 1 rfl rfl)
theorem dX5_apart_26 : decode cX5_apart 26 = .ok (.iload_n 2, 1) := dk_28 (dk_at dksX5_apart_1 2 rfl rfl)
theorem dX5_apart_27 : decode cX5_apart 27 = .ok (.invokevirtual 505, 3) := dk_182 1 249 (dk_at dksX5_apart_1 3 rfl rfl)
theorem dX5_apart_30 : decode cX5_apart 30 = .ok (.ifCond .ne 9, 3) := dk_154 0 9 (dk_at dksX5_apart_1 6 rfl rfl)
theorem dX5_apart_33 : decode cX5_apart 33 = .ok (.iinc 2 1, 3) := dk_132 2 1 (dk_at dksX5_apart_1 9 rfl rfl)
theorem dX5_apart_36 : decode cX5_apart 36 = .ok (.goto (-11), 3) := dk_167 255 245 (dk_at dksX5_apart_1 12 rfl rfl)
theorem dX5_apart_39 : decode cX5_apart 39 = .ok (.iload_n 1, 1) := dk_27 (dk_at dksX5_apart_1 15 rfl rfl)
theorem dX5_apart_40 : decode cX5_apart 40 = .ok (.ifCond .ne 7, 3) := dk_154 0 7 (dk_at dksX5_apart_1 16 rfl rfl)
theorem dX5_apart_43 : decode cX5_apart 43 = .ok (.iload_n 2, 1) := dk_28 (dk_at dksX5_apart_1 19 rfl rfl)
theorem dX5_apart_44 : decode cX5_apart 44 = .ok (.goto 11, 3) := dk_167 0 11 (dk_at dksX5_apart_1 20 rfl rfl)
theorem dX5_apart_47 : decode cX5_apart 47 = .ok (.aload_n 0, 1) := dk_42 (dk_at dksX5_apart_1 23 rfl rfl)
theorem dX5_apart_48 : decode cX5_apart 48 = .ok (.getfield 124, 3) := dk_180 0 124 (dk_at dksX5_apart_2 0 rfl rfl)
theorem dX5_apart_51 : decode cX5_apart 51 = .ok (.iload_n 1, 1) := dk_27 (dk_at dksX5_apart_2 3 rfl rfl)
theorem dX5_apart_52 : decode cX5_apart 52 = .ok (.iconst 1, 1) := dk_4 (dk_at dksX5_apart_2 4 rfl rfl)
theorem dX5_apart_53 : decode cX5_apart 53 = .ok (.isub, 1) := dk_100 (dk_at dksX5_apart_2 5 rfl rfl)
theorem dX5_apart_54 : decode cX5_apart 54 = .ok (.iaload, 1) := dk_46 (dk_at dksX5_apart_2 6 rfl rfl)
theorem dX5_apart_55 : decode cX5_apart 55 = .ok (.ireturn, 1) := dk_172 (dk_at dksX5_apart_2 7 rfl rfl)
abbrev cX5_findNames : ByteArray := prog_22_method_106_code
def yX5_findNames : MethodName := ⟨RX5, "findNames", "(I)Z"⟩
def dkwX5_findNames_4 : List UInt8 := [167, 0, 4, 3, 172]
abbrev dktX5_findNames_4 : List UInt8 := dkwX5_findNames_4 ++ []
def dkwX5_findNames_3 : List UInt8 := [153, 255, 202, 132, 3, 1, 42, 180, 0, 124, 29, 2, 79, 167, 255, 189, 29, 28, 160, 0, 7, 4]
abbrev dktX5_findNames_3 : List UInt8 := dkwX5_findNames_3 ++ dktX5_findNames_4
def dkwX5_findNames_2 : List UInt8 := [180, 0, 124, 29, 46, 42, 29, 182, 1, 243, 164, 0, 9, 132, 3, 255, 167, 255, 210, 42, 29, 182, 1, 246]
abbrev dktX5_findNames_2 : List UInt8 := dkwX5_findNames_2 ++ dktX5_findNames_3
def dkwX5_findNames_1 : List UInt8 := [162, 0, 64, 42, 180, 0, 124, 29, 92, 46, 4, 96, 79, 42, 180, 0, 124, 29, 46, 27, 162, 0, 17, 42]
abbrev dktX5_findNames_1 : List UInt8 := dkwX5_findNames_1 ++ dktX5_findNames_2
def dkwX5_findNames_0 : List UInt8 := [42, 180, 0, 13, 3, 46, 61, 3, 62, 42, 180, 0, 124, 3, 2, 79, 29, 155, 0, 69, 29, 28]
abbrev dktX5_findNames_0 : List UInt8 := dkwX5_findNames_0 ++ dktX5_findNames_1
theorem dksX5_findNames_0 : cX5_findNames.data.toList.drop 0 = dktX5_findNames_0 := by decide +kernel
theorem dksX5_findNames_1 : cX5_findNames.data.toList.drop 22 = dktX5_findNames_1 := dk_seg dksX5_findNames_0 22 rfl rfl
theorem dksX5_findNames_2 : cX5_findNames.data.toList.drop 46 = dktX5_findNames_2 := dk_seg dksX5_findNames_1 24 rfl rfl
theorem dksX5_findNames_3 : cX5_findNames.data.toList.drop 70 = dktX5_findNames_3 := dk_seg dksX5_findNames_2 24 rfl rfl
theorem dksX5_findNames_4 : cX5_findNames.data.toList.drop 92 = dktX5_findNames_4 := dk_seg dksX5_findNames_3 22 rfl rfl
theorem dX5_findNames_0 : decode cX5_findNames 0 = .ok (.aload_n 0, 1) := dk_42 (dk_at dksX5_findNames_0 0 rfl rfl)
theorem dX5_findNames_1 : decode cX5_findNames 1 = .ok (.getfield 13, 3) := dk_180 0 13 (dk_at dksX5_findNames_0 1 rfl rfl)
theorem dX5_findNames_4 : decode cX5_findNames 4 = .ok (.iconst 0, 1) := dk_3 (dk_at dksX5_findNames_0 4 rfl rfl)
theorem dX5_findNames_5 : decode cX5_findNames 5 = .ok (.iaload, 1) := dk_46 (dk_at dksX5_findNames_0 5 rfl rfl)
theorem dX5_findNames_6 : decode cX5_findNames 6 = .ok (.istore_n 2, 1) := dk_61 (dk_at dksX5_findNames_0 6 rfl rfl)
theorem dX5_findNames_7 : decode cX5_findNames 7 = .ok (.iconst 0, 1) := dk_3 (dk_at dksX5_findNames_0 7 rfl rfl)
theorem dX5_findNames_8 : decode cX5_findNames 8 = .ok (.istore_n 3, 1) := dk_62 (dk_at dksX5_findNames_0 8 rfl rfl)
theorem dX5_findNames_9 : decode cX5_findNames 9 = .ok (.aload_n 0, 1) := dk_42 (dk_at dksX5_findNames_0 9 rfl rfl)
theorem dX5_findNames_10 : decode cX5_findNames 10 = .ok (.getfield 124, 3) := dk_180 0 124 (dk_at dksX5_findNames_0 10 rfl rfl)
theorem dX5_findNames_13 : decode cX5_findNames 13 = .ok (.iconst 0, 1) := dk_3 (dk_at dksX5_findNames_0 13 rfl rfl)
theorem dX5_findNames_14 : decode cX5_findNames 14 = .ok (.iconst (-1), 1) := dk_2 (dk_at dksX5_findNames_0 14 rfl rfl)
theorem dX5_findNames_15 : decode cX5_findNames 15 = .ok (.iastore, 1) := dk_79 (dk_at dksX5_findNames_0 15 rfl rfl)
theorem dX5_findNames_16 : decode cX5_findNames 16 = .ok (.iload_n 3, 1) := dk_29 (dk_at dksX5_findNames_0 16 rfl rfl)
theorem dX5_findNames_17 : decode cX5_findNames 17 = .ok (.ifCond .lt 69, 3) := dk_155 0 69 (dk_at dksX5_findNames_0 17 rfl rfl)
theorem dX5_findNames_20 : decode cX5_findNames 20 = .ok (.iload_n 3, 1) := dk_29 (dk_at dksX5_findNames_0 20 rfl rfl)
theorem dX5_findNames_21 : decode cX5_findNames 21 = .ok (.iload_n 2, 1) := dk_28 (dk_at dksX5_findNames_0 21 rfl rfl)
theorem dX5_findNames_22 : decode cX5_findNames 22 = .ok (.if_icmp .ge 64, 3) := dk_162 0 64 (dk_at dksX5_findNames_1 0 rfl rfl)
theorem dX5_findNames_25 : decode cX5_findNames 25 = .ok (.aload_n 0, 1) := dk_42 (dk_at dksX5_findNames_1 3 rfl rfl)
theorem dX5_findNames_26 : decode cX5_findNames 26 = .ok (.getfield 124, 3) := dk_180 0 124 (dk_at dksX5_findNames_1 4 rfl rfl)
theorem dX5_findNames_29 : decode cX5_findNames 29 = .ok (.iload_n 3, 1) := dk_29 (dk_at dksX5_findNames_1 7 rfl rfl)
theorem dX5_findNames_30 : decode cX5_findNames 30 = .ok (.dup2, 1) := dk_92 (dk_at dksX5_findNames_1 8 rfl rfl)
theorem dX5_findNames_31 : decode cX5_findNames 31 = .ok (.iaload, 1) := dk_46 (dk_at dksX5_findNames_1 9 rfl rfl)
theorem dX5_findNames_32 : decode cX5_findNames 32 = .ok (.iconst 1, 1) := dk_4 (dk_at dksX5_findNames_1 10 rfl rfl)
theorem dX5_findNames_33 : decode cX5_findNames 33 = .ok (.iadd, 1) := dk_96 (dk_at dksX5_findNames_1 11 rfl rfl)
theorem dX5_findNames_34 : decode cX5_findNames 34 = .ok (.iastore, 1) := dk_79 (dk_at dksX5_findNames_1 12 rfl rfl)
theorem dX5_findNames_35 : decode cX5_findNames 35 = .ok (.aload_n 0, 1) := dk_42 (dk_at dksX5_findNames_1 13 rfl rfl)
theorem dX5_findNames_36 : decode cX5_findNames 36 = .ok (.getfield 124, 3) := dk_180 0 124 (dk_at dksX5_findNames_1 14 rfl rfl)
theorem dX5_findNames_39 : decode cX5_findNames 39 = .ok (.iload_n 3, 1) := dk_29 (dk_at dksX5_findNames_1 17 rfl rfl)
theorem dX5_findNames_40 : decode cX5_findNames 40 = .ok (.iaload, 1) := dk_46 (dk_at dksX5_findNames_1 18 rfl rfl)
theorem dX5_findNames_41 : decode cX5_findNames 41 = .ok (.iload_n 1, 1) := dk_27 (dk_at dksX5_findNames_1 19 rfl rfl)
theorem dX5_findNames_42 : decode cX5_findNames 42 = .ok (.if_icmp .ge 17, 3) := dk_162 0 17 (dk_at dksX5_findNames_1 20 rfl rfl)
theorem dX5_findNames_45 : decode cX5_findNames 45 = .ok (.aload_n 0, 1) := dk_42 (dk_at dksX5_findNames_1 23 rfl rfl)
theorem dX5_findNames_46 : decode cX5_findNames 46 = .ok (.getfield 124, 3) := dk_180 0 124 (dk_at dksX5_findNames_2 0 rfl rfl)
theorem dX5_findNames_49 : decode cX5_findNames 49 = .ok (.iload_n 3, 1) := dk_29 (dk_at dksX5_findNames_2 3 rfl rfl)
theorem dX5_findNames_50 : decode cX5_findNames 50 = .ok (.iaload, 1) := dk_46 (dk_at dksX5_findNames_2 4 rfl rfl)
theorem dX5_findNames_51 : decode cX5_findNames 51 = .ok (.aload_n 0, 1) := dk_42 (dk_at dksX5_findNames_2 5 rfl rfl)
theorem dX5_findNames_52 : decode cX5_findNames 52 = .ok (.iload_n 3, 1) := dk_29 (dk_at dksX5_findNames_2 6 rfl rfl)
theorem dX5_findNames_53 : decode cX5_findNames 53 = .ok (.invokevirtual 499, 3) := dk_182 1 243 (dk_at dksX5_findNames_2 7 rfl rfl)
theorem dX5_findNames_56 : decode cX5_findNames 56 = .ok (.if_icmp .le 9, 3) := dk_164 0 9 (dk_at dksX5_findNames_2 10 rfl rfl)
theorem dX5_findNames_59 : decode cX5_findNames 59 = .ok (.iinc 3 (-1), 3) := dk_132 3 255 (dk_at dksX5_findNames_2 13 rfl rfl)
theorem dX5_findNames_62 : decode cX5_findNames 62 = .ok (.goto (-46), 3) := dk_167 255 210 (dk_at dksX5_findNames_2 16 rfl rfl)
theorem dX5_findNames_65 : decode cX5_findNames 65 = .ok (.aload_n 0, 1) := dk_42 (dk_at dksX5_findNames_2 19 rfl rfl)
theorem dX5_findNames_66 : decode cX5_findNames 66 = .ok (.iload_n 3, 1) := dk_29 (dk_at dksX5_findNames_2 20 rfl rfl)
theorem dX5_findNames_67 : decode cX5_findNames 67 = .ok (.invokevirtual 502, 3) := dk_182 1 246 (dk_at dksX5_findNames_2 21 rfl rfl)
theorem dX5_findNames_70 : decode cX5_findNames 70 = .ok (.ifCond .eq (-54), 3) := dk_153 255 202 (dk_at dksX5_findNames_3 0 rfl rfl)
theorem dX5_findNames_73 : decode cX5_findNames 73 = .ok (.iinc 3 1, 3) := dk_132 3 1 (dk_at dksX5_findNames_3 3 rfl rfl)
theorem dX5_findNames_76 : decode cX5_findNames 76 = .ok (.aload_n 0, 1) := dk_42 (dk_at dksX5_findNames_3 6 rfl rfl)
theorem dX5_findNames_77 : decode cX5_findNames 77 = .ok (.getfield 124, 3) := dk_180 0 124 (dk_at dksX5_findNames_3 7 rfl rfl)
theorem dX5_findNames_80 : decode cX5_findNames 80 = .ok (.iload_n 3, 1) := dk_29 (dk_at dksX5_findNames_3 10 rfl rfl)
theorem dX5_findNames_81 : decode cX5_findNames 81 = .ok (.iconst (-1), 1) := dk_2 (dk_at dksX5_findNames_3 11 rfl rfl)
theorem dX5_findNames_82 : decode cX5_findNames 82 = .ok (.iastore, 1) := dk_79 (dk_at dksX5_findNames_3 12 rfl rfl)
theorem dX5_findNames_83 : decode cX5_findNames 83 = .ok (.goto (-67), 3) := dk_167 255 189 (dk_at dksX5_findNames_3 13 rfl rfl)
theorem dX5_findNames_86 : decode cX5_findNames 86 = .ok (.iload_n 3, 1) := dk_29 (dk_at dksX5_findNames_3 16 rfl rfl)
theorem dX5_findNames_87 : decode cX5_findNames 87 = .ok (.iload_n 2, 1) := dk_28 (dk_at dksX5_findNames_3 17 rfl rfl)
theorem dX5_findNames_88 : decode cX5_findNames 88 = .ok (.if_icmp .ne 7, 3) := dk_160 0 7 (dk_at dksX5_findNames_3 18 rfl rfl)
theorem dX5_findNames_91 : decode cX5_findNames 91 = .ok (.iconst 1, 1) := dk_4 (dk_at dksX5_findNames_3 21 rfl rfl)
theorem dX5_findNames_92 : decode cX5_findNames 92 = .ok (.goto 4, 3) := dk_167 0 4 (dk_at dksX5_findNames_4 0 rfl rfl)
theorem dX5_findNames_95 : decode cX5_findNames 95 = .ok (.iconst 0, 1) := dk_3 (dk_at dksX5_findNames_4 3 rfl rfl)
theorem dX5_findNames_96 : decode cX5_findNames 96 = .ok (.ireturn, 1) := dk_172 (dk_at dksX5_findNames_4 4 rfl rfl)
abbrev cX5_nameAhead : ByteArray := prog_22_method_105_code
def yX5_nameAhead : MethodName := ⟨RX5, "nameAhead", "(I)I"⟩
def dkwX5_nameAhead_1 : List UInt8 := [46, 4, 96, 167, 0, 4, 28, 61, 132, 3, 1, 167, 255, 225, 28, 172]
abbrev dktX5_nameAhead_1 : List UInt8 := dkwX5_nameAhead_1 ++ []
def dkwX5_nameAhead_0 : List UInt8 := [3, 61, 3, 62, 29, 27, 162, 0, 32, 42, 180, 0, 124, 29, 46, 28, 161, 0, 14, 42, 180, 0, 124, 29]
abbrev dktX5_nameAhead_0 : List UInt8 := dkwX5_nameAhead_0 ++ dktX5_nameAhead_1
theorem dksX5_nameAhead_0 : cX5_nameAhead.data.toList.drop 0 = dktX5_nameAhead_0 := by decide +kernel
theorem dksX5_nameAhead_1 : cX5_nameAhead.data.toList.drop 24 = dktX5_nameAhead_1 := dk_seg dksX5_nameAhead_0 24 rfl rfl
theorem dX5_nameAhead_0 : decode cX5_nameAhead 0 = .ok (.iconst 0, 1) := dk_3 (dk_at dksX5_nameAhead_0 0 rfl rfl)
theorem dX5_nameAhead_1 : decode cX5_nameAhead 1 = .ok (.istore_n 2, 1) := dk_61 (dk_at dksX5_nameAhead_0 1 rfl rfl)
theorem dX5_nameAhead_2 : decode cX5_nameAhead 2 = .ok (.iconst 0, 1) := dk_3 (dk_at dksX5_nameAhead_0 2 rfl rfl)
theorem dX5_nameAhead_3 : decode cX5_nameAhead 3 = .ok (.istore_n 3, 1) := dk_62 (dk_at dksX5_nameAhead_0 3 rfl rfl)
theorem dX5_nameAhead_4 : decode cX5_nameAhead 4 = .ok (.iload_n 3, 1) := dk_29 (dk_at dksX5_nameAhead_0 4 rfl rfl)
theorem dX5_nameAhead_5 : decode cX5_nameAhead 5 = .ok (.iload_n 1, 1) := dk_27 (dk_at dksX5_nameAhead_0 5 rfl rfl)
theorem dX5_nameAhead_6 : decode cX5_nameAhead 6 = .ok (.if_icmp .ge 32, 3) := dk_162 0 32 (dk_at dksX5_nameAhead_0 6 rfl rfl)
theorem dX5_nameAhead_9 : decode cX5_nameAhead 9 = .ok (.aload_n 0, 1) := dk_42 (dk_at dksX5_nameAhead_0 9 rfl rfl)
theorem dX5_nameAhead_10 : decode cX5_nameAhead 10 = .ok (.getfield 124, 3) := dk_180 0 124 (dk_at dksX5_nameAhead_0 10 rfl rfl)
theorem dX5_nameAhead_13 : decode cX5_nameAhead 13 = .ok (.iload_n 3, 1) := dk_29 (dk_at dksX5_nameAhead_0 13 rfl rfl)
theorem dX5_nameAhead_14 : decode cX5_nameAhead 14 = .ok (.iaload, 1) := dk_46 (dk_at dksX5_nameAhead_0 14 rfl rfl)
theorem dX5_nameAhead_15 : decode cX5_nameAhead 15 = .ok (.iload_n 2, 1) := dk_28 (dk_at dksX5_nameAhead_0 15 rfl rfl)
theorem dX5_nameAhead_16 : decode cX5_nameAhead 16 = .ok (.if_icmp .lt 14, 3) := dk_161 0 14 (dk_at dksX5_nameAhead_0 16 rfl rfl)
theorem dX5_nameAhead_19 : decode cX5_nameAhead 19 = .ok (.aload_n 0, 1) := dk_42 (dk_at dksX5_nameAhead_0 19 rfl rfl)
theorem dX5_nameAhead_20 : decode cX5_nameAhead 20 = .ok (.getfield 124, 3) := dk_180 0 124 (dk_at dksX5_nameAhead_0 20 rfl rfl)
theorem dX5_nameAhead_23 : decode cX5_nameAhead 23 = .ok (.iload_n 3, 1) := dk_29 (dk_at dksX5_nameAhead_0 23 rfl rfl)
theorem dX5_nameAhead_24 : decode cX5_nameAhead 24 = .ok (.iaload, 1) := dk_46 (dk_at dksX5_nameAhead_1 0 rfl rfl)
theorem dX5_nameAhead_25 : decode cX5_nameAhead 25 = .ok (.iconst 1, 1) := dk_4 (dk_at dksX5_nameAhead_1 1 rfl rfl)
theorem dX5_nameAhead_26 : decode cX5_nameAhead 26 = .ok (.iadd, 1) := dk_96 (dk_at dksX5_nameAhead_1 2 rfl rfl)
theorem dX5_nameAhead_27 : decode cX5_nameAhead 27 = .ok (.goto 4, 3) := dk_167 0 4 (dk_at dksX5_nameAhead_1 3 rfl rfl)
theorem dX5_nameAhead_30 : decode cX5_nameAhead 30 = .ok (.iload_n 2, 1) := dk_28 (dk_at dksX5_nameAhead_1 6 rfl rfl)
theorem dX5_nameAhead_31 : decode cX5_nameAhead 31 = .ok (.istore_n 2, 1) := dk_61 (dk_at dksX5_nameAhead_1 7 rfl rfl)
theorem dX5_nameAhead_32 : decode cX5_nameAhead 32 = .ok (.iinc 3 1, 3) := dk_132 3 1 (dk_at dksX5_nameAhead_1 8 rfl rfl)
theorem dX5_nameAhead_35 : decode cX5_nameAhead 35 = .ok (.goto (-31), 3) := dk_167 255 225 (dk_at dksX5_nameAhead_1 11 rfl rfl)
theorem dX5_nameAhead_38 : decode cX5_nameAhead 38 = .ok (.iload_n 2, 1) := dk_28 (dk_at dksX5_nameAhead_1 14 rfl rfl)
theorem dX5_nameAhead_39 : decode cX5_nameAhead 39 = .ok (.ireturn, 1) := dk_172 (dk_at dksX5_nameAhead_1 15 rfl rfl)
abbrev cX5_fitsName : ByteArray := prog_22_method_104_code
def yX5_fitsName : MethodName := ⟨RX5, "fitsName", "(I)Z"⟩
def dkwX5_fitsName_2 : List UInt8 := [167, 255, 214, 28, 172]
abbrev dktX5_fitsName_2 : List UInt8 := dkwX5_fitsName_2 ++ []
def dkwX5_fitsName_1 : List UInt8 := [46, 160, 0, 12, 42, 29, 27, 182, 1, 240, 154, 0, 7, 4, 167, 0, 4, 3, 61, 132, 3, 1]
abbrev dktX5_fitsName_1 : List UInt8 := dkwX5_fitsName_1 ++ dktX5_fitsName_2
def dkwX5_fitsName_0 : List UInt8 := [4, 61, 3, 62, 29, 27, 162, 0, 43, 28, 153, 0, 31, 42, 180, 0, 124, 29, 46, 42, 180, 0, 124, 27]
abbrev dktX5_fitsName_0 : List UInt8 := dkwX5_fitsName_0 ++ dktX5_fitsName_1
theorem dksX5_fitsName_0 : cX5_fitsName.data.toList.drop 0 = dktX5_fitsName_0 := by decide +kernel
theorem dksX5_fitsName_1 : cX5_fitsName.data.toList.drop 24 = dktX5_fitsName_1 := dk_seg dksX5_fitsName_0 24 rfl rfl
theorem dksX5_fitsName_2 : cX5_fitsName.data.toList.drop 46 = dktX5_fitsName_2 := dk_seg dksX5_fitsName_1 22 rfl rfl
theorem dX5_fitsName_0 : decode cX5_fitsName 0 = .ok (.iconst 1, 1) := dk_4 (dk_at dksX5_fitsName_0 0 rfl rfl)
theorem dX5_fitsName_1 : decode cX5_fitsName 1 = .ok (.istore_n 2, 1) := dk_61 (dk_at dksX5_fitsName_0 1 rfl rfl)
theorem dX5_fitsName_2 : decode cX5_fitsName 2 = .ok (.iconst 0, 1) := dk_3 (dk_at dksX5_fitsName_0 2 rfl rfl)
theorem dX5_fitsName_3 : decode cX5_fitsName 3 = .ok (.istore_n 3, 1) := dk_62 (dk_at dksX5_fitsName_0 3 rfl rfl)
theorem dX5_fitsName_4 : decode cX5_fitsName 4 = .ok (.iload_n 3, 1) := dk_29 (dk_at dksX5_fitsName_0 4 rfl rfl)
theorem dX5_fitsName_5 : decode cX5_fitsName 5 = .ok (.iload_n 1, 1) := dk_27 (dk_at dksX5_fitsName_0 5 rfl rfl)
theorem dX5_fitsName_6 : decode cX5_fitsName 6 = .ok (.if_icmp .ge 43, 3) := dk_162 0 43 (dk_at dksX5_fitsName_0 6 rfl rfl)
theorem dX5_fitsName_9 : decode cX5_fitsName 9 = .ok (.iload_n 2, 1) := dk_28 (dk_at dksX5_fitsName_0 9 rfl rfl)
theorem dX5_fitsName_10 : decode cX5_fitsName 10 = .ok (.ifCond .eq 31, 3) := dk_153 0 31 (dk_at dksX5_fitsName_0 10 rfl rfl)
theorem dX5_fitsName_13 : decode cX5_fitsName 13 = .ok (.aload_n 0, 1) := dk_42 (dk_at dksX5_fitsName_0 13 rfl rfl)
theorem dX5_fitsName_14 : decode cX5_fitsName 14 = .ok (.getfield 124, 3) := dk_180 0 124 (dk_at dksX5_fitsName_0 14 rfl rfl)
theorem dX5_fitsName_17 : decode cX5_fitsName 17 = .ok (.iload_n 3, 1) := dk_29 (dk_at dksX5_fitsName_0 17 rfl rfl)
theorem dX5_fitsName_18 : decode cX5_fitsName 18 = .ok (.iaload, 1) := dk_46 (dk_at dksX5_fitsName_0 18 rfl rfl)
theorem dX5_fitsName_19 : decode cX5_fitsName 19 = .ok (.aload_n 0, 1) := dk_42 (dk_at dksX5_fitsName_0 19 rfl rfl)
theorem dX5_fitsName_20 : decode cX5_fitsName 20 = .ok (.getfield 124, 3) := dk_180 0 124 (dk_at dksX5_fitsName_0 20 rfl rfl)
theorem dX5_fitsName_23 : decode cX5_fitsName 23 = .ok (.iload_n 1, 1) := dk_27 (dk_at dksX5_fitsName_0 23 rfl rfl)
theorem dX5_fitsName_24 : decode cX5_fitsName 24 = .ok (.iaload, 1) := dk_46 (dk_at dksX5_fitsName_1 0 rfl rfl)
theorem dX5_fitsName_25 : decode cX5_fitsName 25 = .ok (.if_icmp .ne 12, 3) := dk_160 0 12 (dk_at dksX5_fitsName_1 1 rfl rfl)
theorem dX5_fitsName_28 : decode cX5_fitsName 28 = .ok (.aload_n 0, 1) := dk_42 (dk_at dksX5_fitsName_1 4 rfl rfl)
theorem dX5_fitsName_29 : decode cX5_fitsName 29 = .ok (.iload_n 3, 1) := dk_29 (dk_at dksX5_fitsName_1 5 rfl rfl)
theorem dX5_fitsName_30 : decode cX5_fitsName 30 = .ok (.iload_n 1, 1) := dk_27 (dk_at dksX5_fitsName_1 6 rfl rfl)
theorem dX5_fitsName_31 : decode cX5_fitsName 31 = .ok (.invokevirtual 496, 3) := dk_182 1 240 (dk_at dksX5_fitsName_1 7 rfl rfl)
theorem dX5_fitsName_34 : decode cX5_fitsName 34 = .ok (.ifCond .ne 7, 3) := dk_154 0 7 (dk_at dksX5_fitsName_1 10 rfl rfl)
theorem dX5_fitsName_37 : decode cX5_fitsName 37 = .ok (.iconst 1, 1) := dk_4 (dk_at dksX5_fitsName_1 13 rfl rfl)
theorem dX5_fitsName_38 : decode cX5_fitsName 38 = .ok (.goto 4, 3) := dk_167 0 4 (dk_at dksX5_fitsName_1 14 rfl rfl)
theorem dX5_fitsName_41 : decode cX5_fitsName 41 = .ok (.iconst 0, 1) := dk_3 (dk_at dksX5_fitsName_1 17 rfl rfl)
theorem dX5_fitsName_42 : decode cX5_fitsName 42 = .ok (.istore_n 2, 1) := dk_61 (dk_at dksX5_fitsName_1 18 rfl rfl)
theorem dX5_fitsName_43 : decode cX5_fitsName 43 = .ok (.iinc 3 1, 3) := dk_132 3 1 (dk_at dksX5_fitsName_1 19 rfl rfl)
theorem dX5_fitsName_46 : decode cX5_fitsName 46 = .ok (.goto (-42), 3) := dk_167 255 214 (dk_at dksX5_fitsName_2 0 rfl rfl)
theorem dX5_fitsName_49 : decode cX5_fitsName 49 = .ok (.iload_n 2, 1) := dk_28 (dk_at dksX5_fitsName_2 3 rfl rfl)
theorem dX5_fitsName_50 : decode cX5_fitsName 50 = .ok (.ireturn, 1) := dk_172 (dk_at dksX5_fitsName_2 4 rfl rfl)
abbrev cX5_haveCorner : ByteArray := prog_22_method_103_code
def yX5_haveCorner : MethodName := ⟨RX5, "haveCorner", "(II)Z"⟩
def dkwX5_haveCorner_1 : List UInt8 := [16, 36, 28, 96, 46, 182, 1, 168, 153, 0, 7, 4, 167, 0, 4, 3, 172]
abbrev dktX5_haveCorner_1 : List UInt8 := dkwX5_haveCorner_1 ++ []
def dkwX5_haveCorner_0 : List UInt8 := [42, 27, 42, 180, 0, 13, 16, 26, 28, 96, 46, 182, 1, 168, 154, 0, 20, 42, 27, 42, 180, 0, 13]
abbrev dktX5_haveCorner_0 : List UInt8 := dkwX5_haveCorner_0 ++ dktX5_haveCorner_1
theorem dksX5_haveCorner_0 : cX5_haveCorner.data.toList.drop 0 = dktX5_haveCorner_0 := by decide +kernel
theorem dksX5_haveCorner_1 : cX5_haveCorner.data.toList.drop 23 = dktX5_haveCorner_1 := dk_seg dksX5_haveCorner_0 23 rfl rfl
theorem dX5_haveCorner_0 : decode cX5_haveCorner 0 = .ok (.aload_n 0, 1) := dk_42 (dk_at dksX5_haveCorner_0 0 rfl rfl)
theorem dX5_haveCorner_1 : decode cX5_haveCorner 1 = .ok (.iload_n 1, 1) := dk_27 (dk_at dksX5_haveCorner_0 1 rfl rfl)
theorem dX5_haveCorner_2 : decode cX5_haveCorner 2 = .ok (.aload_n 0, 1) := dk_42 (dk_at dksX5_haveCorner_0 2 rfl rfl)
theorem dX5_haveCorner_3 : decode cX5_haveCorner 3 = .ok (.getfield 13, 3) := dk_180 0 13 (dk_at dksX5_haveCorner_0 3 rfl rfl)
theorem dX5_haveCorner_6 : decode cX5_haveCorner 6 = .ok (.bipush 26, 2) := dk_16 26 (dk_at dksX5_haveCorner_0 6 rfl rfl)
theorem dX5_haveCorner_8 : decode cX5_haveCorner 8 = .ok (.iload_n 2, 1) := dk_28 (dk_at dksX5_haveCorner_0 8 rfl rfl)
theorem dX5_haveCorner_9 : decode cX5_haveCorner 9 = .ok (.iadd, 1) := dk_96 (dk_at dksX5_haveCorner_0 9 rfl rfl)
theorem dX5_haveCorner_10 : decode cX5_haveCorner 10 = .ok (.iaload, 1) := dk_46 (dk_at dksX5_haveCorner_0 10 rfl rfl)
theorem dX5_haveCorner_11 : decode cX5_haveCorner 11 = .ok (.invokevirtual 424, 3) := dk_182 1 168 (dk_at dksX5_haveCorner_0 11 rfl rfl)
theorem dX5_haveCorner_14 : decode cX5_haveCorner 14 = .ok (.ifCond .ne 20, 3) := dk_154 0 20 (dk_at dksX5_haveCorner_0 14 rfl rfl)
theorem dX5_haveCorner_17 : decode cX5_haveCorner 17 = .ok (.aload_n 0, 1) := dk_42 (dk_at dksX5_haveCorner_0 17 rfl rfl)
theorem dX5_haveCorner_18 : decode cX5_haveCorner 18 = .ok (.iload_n 1, 1) := dk_27 (dk_at dksX5_haveCorner_0 18 rfl rfl)
theorem dX5_haveCorner_19 : decode cX5_haveCorner 19 = .ok (.aload_n 0, 1) := dk_42 (dk_at dksX5_haveCorner_0 19 rfl rfl)
theorem dX5_haveCorner_20 : decode cX5_haveCorner 20 = .ok (.getfield 13, 3) := dk_180 0 13 (dk_at dksX5_haveCorner_0 20 rfl rfl)
theorem dX5_haveCorner_23 : decode cX5_haveCorner 23 = .ok (.bipush 36, 2) := dk_16 36 (dk_at dksX5_haveCorner_1 0 rfl rfl)
theorem dX5_haveCorner_25 : decode cX5_haveCorner 25 = .ok (.iload_n 2, 1) := dk_28 (dk_at dksX5_haveCorner_1 2 rfl rfl)
theorem dX5_haveCorner_26 : decode cX5_haveCorner 26 = .ok (.iadd, 1) := dk_96 (dk_at dksX5_haveCorner_1 3 rfl rfl)
theorem dX5_haveCorner_27 : decode cX5_haveCorner 27 = .ok (.iaload, 1) := dk_46 (dk_at dksX5_haveCorner_1 4 rfl rfl)
theorem dX5_haveCorner_28 : decode cX5_haveCorner 28 = .ok (.invokevirtual 424, 3) := dk_182 1 168 (dk_at dksX5_haveCorner_1 5 rfl rfl)
theorem dX5_haveCorner_31 : decode cX5_haveCorner 31 = .ok (.ifCond .eq 7, 3) := dk_153 0 7 (dk_at dksX5_haveCorner_1 8 rfl rfl)
theorem dX5_haveCorner_34 : decode cX5_haveCorner 34 = .ok (.iconst 1, 1) := dk_4 (dk_at dksX5_haveCorner_1 11 rfl rfl)
theorem dX5_haveCorner_35 : decode cX5_haveCorner 35 = .ok (.goto 4, 3) := dk_167 0 4 (dk_at dksX5_haveCorner_1 12 rfl rfl)
theorem dX5_haveCorner_38 : decode cX5_haveCorner 38 = .ok (.iconst 0, 1) := dk_3 (dk_at dksX5_haveCorner_1 15 rfl rfl)
theorem dX5_haveCorner_39 : decode cX5_haveCorner 39 = .ok (.ireturn, 1) := dk_172 (dk_at dksX5_haveCorner_1 16 rfl rfl)
abbrev cX5_alike : ByteArray := prog_22_method_108_code
def yX5_alike : MethodName := ⟨RX5, "alike", "()I"⟩
def dkwX5_alike_4 : List UInt8 := [167, 255, 172, 27, 172]
abbrev dktX5_alike_4 : List UInt8 := dkwX5_alike_4 ++ []
def dkwX5_alike_3 : List UInt8 := [182, 1, 240, 153, 0, 7, 4, 167, 0, 4, 3, 96, 60, 132, 3, 1, 167, 255, 192, 132, 2, 1]
abbrev dktX5_alike_3 : List UInt8 := dkwX5_alike_3 ++ dktX5_alike_4
def dkwX5_alike_2 : List UInt8 := [180, 0, 13, 16, 8, 28, 96, 46, 42, 180, 0, 13, 16, 8, 29, 96, 46, 160, 0, 16, 42, 28, 29]
abbrev dktX5_alike_2 : List UInt8 := dkwX5_alike_2 ++ dktX5_alike_3
def dkwX5_alike_1 : List UInt8 := [42, 180, 0, 13, 3, 46, 162, 0, 60, 27, 42, 180, 0, 13, 16, 8, 28, 96, 46, 2, 159, 0, 37, 42]
abbrev dktX5_alike_1 : List UInt8 := dkwX5_alike_1 ++ dktX5_alike_2
def dkwX5_alike_0 : List UInt8 := [42, 3, 181, 0, 159, 3, 60, 3, 61, 28, 42, 180, 0, 13, 3, 46, 162, 0, 80, 28, 4, 96, 62, 29]
abbrev dktX5_alike_0 : List UInt8 := dkwX5_alike_0 ++ dktX5_alike_1
theorem dksX5_alike_0 : cX5_alike.data.toList.drop 0 = dktX5_alike_0 := by decide +kernel
theorem dksX5_alike_1 : cX5_alike.data.toList.drop 24 = dktX5_alike_1 := dk_seg dksX5_alike_0 24 rfl rfl
theorem dksX5_alike_2 : cX5_alike.data.toList.drop 48 = dktX5_alike_2 := dk_seg dksX5_alike_1 24 rfl rfl
theorem dksX5_alike_3 : cX5_alike.data.toList.drop 71 = dktX5_alike_3 := dk_seg dksX5_alike_2 23 rfl rfl
theorem dksX5_alike_4 : cX5_alike.data.toList.drop 93 = dktX5_alike_4 := dk_seg dksX5_alike_3 22 rfl rfl
theorem dX5_alike_0 : decode cX5_alike 0 = .ok (.aload_n 0, 1) := dk_42 (dk_at dksX5_alike_0 0 rfl rfl)
theorem dX5_alike_1 : decode cX5_alike 1 = .ok (.iconst 0, 1) := dk_3 (dk_at dksX5_alike_0 1 rfl rfl)
theorem dX5_alike_2 : decode cX5_alike 2 = .ok (.putfield 159, 3) := dk_181 0 159 (dk_at dksX5_alike_0 2 rfl rfl)
theorem dX5_alike_5 : decode cX5_alike 5 = .ok (.iconst 0, 1) := dk_3 (dk_at dksX5_alike_0 5 rfl rfl)
theorem dX5_alike_6 : decode cX5_alike 6 = .ok (.istore_n 1, 1) := dk_60 (dk_at dksX5_alike_0 6 rfl rfl)
theorem dX5_alike_7 : decode cX5_alike 7 = .ok (.iconst 0, 1) := dk_3 (dk_at dksX5_alike_0 7 rfl rfl)
theorem dX5_alike_8 : decode cX5_alike 8 = .ok (.istore_n 2, 1) := dk_61 (dk_at dksX5_alike_0 8 rfl rfl)
theorem dX5_alike_9 : decode cX5_alike 9 = .ok (.iload_n 2, 1) := dk_28 (dk_at dksX5_alike_0 9 rfl rfl)
theorem dX5_alike_10 : decode cX5_alike 10 = .ok (.aload_n 0, 1) := dk_42 (dk_at dksX5_alike_0 10 rfl rfl)
theorem dX5_alike_11 : decode cX5_alike 11 = .ok (.getfield 13, 3) := dk_180 0 13 (dk_at dksX5_alike_0 11 rfl rfl)
theorem dX5_alike_14 : decode cX5_alike 14 = .ok (.iconst 0, 1) := dk_3 (dk_at dksX5_alike_0 14 rfl rfl)
theorem dX5_alike_15 : decode cX5_alike 15 = .ok (.iaload, 1) := dk_46 (dk_at dksX5_alike_0 15 rfl rfl)
theorem dX5_alike_16 : decode cX5_alike 16 = .ok (.if_icmp .ge 80, 3) := dk_162 0 80 (dk_at dksX5_alike_0 16 rfl rfl)
theorem dX5_alike_19 : decode cX5_alike 19 = .ok (.iload_n 2, 1) := dk_28 (dk_at dksX5_alike_0 19 rfl rfl)
theorem dX5_alike_20 : decode cX5_alike 20 = .ok (.iconst 1, 1) := dk_4 (dk_at dksX5_alike_0 20 rfl rfl)
theorem dX5_alike_21 : decode cX5_alike 21 = .ok (.iadd, 1) := dk_96 (dk_at dksX5_alike_0 21 rfl rfl)
theorem dX5_alike_22 : decode cX5_alike 22 = .ok (.istore_n 3, 1) := dk_62 (dk_at dksX5_alike_0 22 rfl rfl)
theorem dX5_alike_23 : decode cX5_alike 23 = .ok (.iload_n 3, 1) := dk_29 (dk_at dksX5_alike_0 23 rfl rfl)
theorem dX5_alike_24 : decode cX5_alike 24 = .ok (.aload_n 0, 1) := dk_42 (dk_at dksX5_alike_1 0 rfl rfl)
theorem dX5_alike_25 : decode cX5_alike 25 = .ok (.getfield 13, 3) := dk_180 0 13 (dk_at dksX5_alike_1 1 rfl rfl)
theorem dX5_alike_28 : decode cX5_alike 28 = .ok (.iconst 0, 1) := dk_3 (dk_at dksX5_alike_1 4 rfl rfl)
theorem dX5_alike_29 : decode cX5_alike 29 = .ok (.iaload, 1) := dk_46 (dk_at dksX5_alike_1 5 rfl rfl)
theorem dX5_alike_30 : decode cX5_alike 30 = .ok (.if_icmp .ge 60, 3) := dk_162 0 60 (dk_at dksX5_alike_1 6 rfl rfl)
theorem dX5_alike_33 : decode cX5_alike 33 = .ok (.iload_n 1, 1) := dk_27 (dk_at dksX5_alike_1 9 rfl rfl)
theorem dX5_alike_34 : decode cX5_alike 34 = .ok (.aload_n 0, 1) := dk_42 (dk_at dksX5_alike_1 10 rfl rfl)
theorem dX5_alike_35 : decode cX5_alike 35 = .ok (.getfield 13, 3) := dk_180 0 13 (dk_at dksX5_alike_1 11 rfl rfl)
theorem dX5_alike_38 : decode cX5_alike 38 = .ok (.bipush 8, 2) := dk_16 8 (dk_at dksX5_alike_1 14 rfl rfl)
theorem dX5_alike_40 : decode cX5_alike 40 = .ok (.iload_n 2, 1) := dk_28 (dk_at dksX5_alike_1 16 rfl rfl)
theorem dX5_alike_41 : decode cX5_alike 41 = .ok (.iadd, 1) := dk_96 (dk_at dksX5_alike_1 17 rfl rfl)
theorem dX5_alike_42 : decode cX5_alike 42 = .ok (.iaload, 1) := dk_46 (dk_at dksX5_alike_1 18 rfl rfl)
theorem dX5_alike_43 : decode cX5_alike 43 = .ok (.iconst (-1), 1) := dk_2 (dk_at dksX5_alike_1 19 rfl rfl)
theorem dX5_alike_44 : decode cX5_alike 44 = .ok (.if_icmp .eq 37, 3) := dk_159 0 37 (dk_at dksX5_alike_1 20 rfl rfl)
theorem dX5_alike_47 : decode cX5_alike 47 = .ok (.aload_n 0, 1) := dk_42 (dk_at dksX5_alike_1 23 rfl rfl)
theorem dX5_alike_48 : decode cX5_alike 48 = .ok (.getfield 13, 3) := dk_180 0 13 (dk_at dksX5_alike_2 0 rfl rfl)
theorem dX5_alike_51 : decode cX5_alike 51 = .ok (.bipush 8, 2) := dk_16 8 (dk_at dksX5_alike_2 3 rfl rfl)
theorem dX5_alike_53 : decode cX5_alike 53 = .ok (.iload_n 2, 1) := dk_28 (dk_at dksX5_alike_2 5 rfl rfl)
theorem dX5_alike_54 : decode cX5_alike 54 = .ok (.iadd, 1) := dk_96 (dk_at dksX5_alike_2 6 rfl rfl)
theorem dX5_alike_55 : decode cX5_alike 55 = .ok (.iaload, 1) := dk_46 (dk_at dksX5_alike_2 7 rfl rfl)
theorem dX5_alike_56 : decode cX5_alike 56 = .ok (.aload_n 0, 1) := dk_42 (dk_at dksX5_alike_2 8 rfl rfl)
theorem dX5_alike_57 : decode cX5_alike 57 = .ok (.getfield 13, 3) := dk_180 0 13 (dk_at dksX5_alike_2 9 rfl rfl)
theorem dX5_alike_60 : decode cX5_alike 60 = .ok (.bipush 8, 2) := dk_16 8 (dk_at dksX5_alike_2 12 rfl rfl)
theorem dX5_alike_62 : decode cX5_alike 62 = .ok (.iload_n 3, 1) := dk_29 (dk_at dksX5_alike_2 14 rfl rfl)
theorem dX5_alike_63 : decode cX5_alike 63 = .ok (.iadd, 1) := dk_96 (dk_at dksX5_alike_2 15 rfl rfl)
theorem dX5_alike_64 : decode cX5_alike 64 = .ok (.iaload, 1) := dk_46 (dk_at dksX5_alike_2 16 rfl rfl)
theorem dX5_alike_65 : decode cX5_alike 65 = .ok (.if_icmp .ne 16, 3) := dk_160 0 16 (dk_at dksX5_alike_2 17 rfl rfl)
theorem dX5_alike_68 : decode cX5_alike 68 = .ok (.aload_n 0, 1) := dk_42 (dk_at dksX5_alike_2 20 rfl rfl)
theorem dX5_alike_69 : decode cX5_alike 69 = .ok (.iload_n 2, 1) := dk_28 (dk_at dksX5_alike_2 21 rfl rfl)
theorem dX5_alike_70 : decode cX5_alike 70 = .ok (.iload_n 3, 1) := dk_29 (dk_at dksX5_alike_2 22 rfl rfl)
theorem dX5_alike_71 : decode cX5_alike 71 = .ok (.invokevirtual 496, 3) := dk_182 1 240 (dk_at dksX5_alike_3 0 rfl rfl)
theorem dX5_alike_74 : decode cX5_alike 74 = .ok (.ifCond .eq 7, 3) := dk_153 0 7 (dk_at dksX5_alike_3 3 rfl rfl)
theorem dX5_alike_77 : decode cX5_alike 77 = .ok (.iconst 1, 1) := dk_4 (dk_at dksX5_alike_3 6 rfl rfl)
theorem dX5_alike_78 : decode cX5_alike 78 = .ok (.goto 4, 3) := dk_167 0 4 (dk_at dksX5_alike_3 7 rfl rfl)
theorem dX5_alike_81 : decode cX5_alike 81 = .ok (.iconst 0, 1) := dk_3 (dk_at dksX5_alike_3 10 rfl rfl)
theorem dX5_alike_82 : decode cX5_alike 82 = .ok (.iadd, 1) := dk_96 (dk_at dksX5_alike_3 11 rfl rfl)
theorem dX5_alike_83 : decode cX5_alike 83 = .ok (.istore_n 1, 1) := dk_60 (dk_at dksX5_alike_3 12 rfl rfl)
theorem dX5_alike_84 : decode cX5_alike 84 = .ok (.iinc 3 1, 3) := dk_132 3 1 (dk_at dksX5_alike_3 13 rfl rfl)
theorem dX5_alike_87 : decode cX5_alike 87 = .ok (.goto (-64), 3) := dk_167 255 192 (dk_at dksX5_alike_3 16 rfl rfl)
theorem dX5_alike_90 : decode cX5_alike 90 = .ok (.iinc 2 1, 3) := dk_132 2 1 (dk_at dksX5_alike_3 19 rfl rfl)
theorem dX5_alike_93 : decode cX5_alike 93 = .ok (.goto (-84), 3) := dk_167 255 172 (dk_at dksX5_alike_4 0 rfl rfl)
theorem dX5_alike_96 : decode cX5_alike 96 = .ok (.iload_n 1, 1) := dk_27 (dk_at dksX5_alike_4 3 rfl rfl)
theorem dX5_alike_97 : decode cX5_alike 97 = .ok (.ireturn, 1) := dk_172 (dk_at dksX5_alike_4 4 rfl rfl)
abbrev cX5_round : ByteArray := prog_22_method_110_code
def yX5_round : MethodName := ⟨RX5, "round", "()I"⟩
def dkwX5_round_4 : List UInt8 := [160, 0, 5, 2, 172, 132, 3, 1, 167, 255, 203, 42, 182, 1, 252, 28, 42, 180, 0, 127, 27, 46, 96, 172]
abbrev dktX5_round_4 : List UInt8 := dkwX5_round_4 ++ []
def dkwX5_round_3 : List UInt8 := [42, 42, 180, 0, 13, 16, 26, 46, 42, 180, 0, 13, 16, 26, 29, 96, 46, 182, 1, 207, 19, 1, 203]
abbrev dktX5_round_3 : List UInt8 := dkwX5_round_3 ++ dktX5_round_4
def dkwX5_round_2 : List UInt8 := [3, 62, 29, 42, 180, 0, 13, 3, 46, 162, 0, 49, 28, 42, 180, 0, 13, 16, 46, 29, 96, 46, 96, 61]
abbrev dktX5_round_2 : List UInt8 := dkwX5_round_2 ++ dktX5_round_3
def dkwX5_round_1 : List UInt8 := [182, 1, 213, 5, 112, 4, 160, 0, 9, 4, 29, 120, 167, 0, 4, 3, 128, 60, 132, 3, 1, 167, 255, 226]
abbrev dktX5_round_1 : List UInt8 := dkwX5_round_1 ++ dktX5_round_2
def dkwX5_round_0 : List UInt8 := [42, 3, 181, 0, 159, 42, 182, 1, 204, 3, 60, 3, 61, 3, 62, 29, 16, 8, 162, 0, 30, 27, 42, 29]
abbrev dktX5_round_0 : List UInt8 := dkwX5_round_0 ++ dktX5_round_1
theorem dksX5_round_0 : cX5_round.data.toList.drop 0 = dktX5_round_0 := by decide +kernel
theorem dksX5_round_1 : cX5_round.data.toList.drop 24 = dktX5_round_1 := dk_seg dksX5_round_0 24 rfl rfl
theorem dksX5_round_2 : cX5_round.data.toList.drop 48 = dktX5_round_2 := dk_seg dksX5_round_1 24 rfl rfl
theorem dksX5_round_3 : cX5_round.data.toList.drop 72 = dktX5_round_3 := dk_seg dksX5_round_2 24 rfl rfl
theorem dksX5_round_4 : cX5_round.data.toList.drop 95 = dktX5_round_4 := dk_seg dksX5_round_3 23 rfl rfl
theorem dX5_round_0 : decode cX5_round 0 = .ok (.aload_n 0, 1) := dk_42 (dk_at dksX5_round_0 0 rfl rfl)
theorem dX5_round_1 : decode cX5_round 1 = .ok (.iconst 0, 1) := dk_3 (dk_at dksX5_round_0 1 rfl rfl)
theorem dX5_round_2 : decode cX5_round 2 = .ok (.putfield 159, 3) := dk_181 0 159 (dk_at dksX5_round_0 2 rfl rfl)
theorem dX5_round_5 : decode cX5_round 5 = .ok (.aload_n 0, 1) := dk_42 (dk_at dksX5_round_0 5 rfl rfl)
theorem dX5_round_6 : decode cX5_round 6 = .ok (.invokevirtual 460, 3) := dk_182 1 204 (dk_at dksX5_round_0 6 rfl rfl)
theorem dX5_round_9 : decode cX5_round 9 = .ok (.iconst 0, 1) := dk_3 (dk_at dksX5_round_0 9 rfl rfl)
theorem dX5_round_10 : decode cX5_round 10 = .ok (.istore_n 1, 1) := dk_60 (dk_at dksX5_round_0 10 rfl rfl)
theorem dX5_round_11 : decode cX5_round 11 = .ok (.iconst 0, 1) := dk_3 (dk_at dksX5_round_0 11 rfl rfl)
theorem dX5_round_12 : decode cX5_round 12 = .ok (.istore_n 2, 1) := dk_61 (dk_at dksX5_round_0 12 rfl rfl)
theorem dX5_round_13 : decode cX5_round 13 = .ok (.iconst 0, 1) := dk_3 (dk_at dksX5_round_0 13 rfl rfl)
theorem dX5_round_14 : decode cX5_round 14 = .ok (.istore_n 3, 1) := dk_62 (dk_at dksX5_round_0 14 rfl rfl)
theorem dX5_round_15 : decode cX5_round 15 = .ok (.iload_n 3, 1) := dk_29 (dk_at dksX5_round_0 15 rfl rfl)
theorem dX5_round_16 : decode cX5_round 16 = .ok (.bipush 8, 2) := dk_16 8 (dk_at dksX5_round_0 16 rfl rfl)
theorem dX5_round_18 : decode cX5_round 18 = .ok (.if_icmp .ge 30, 3) := dk_162 0 30 (dk_at dksX5_round_0 18 rfl rfl)
theorem dX5_round_21 : decode cX5_round 21 = .ok (.iload_n 1, 1) := dk_27 (dk_at dksX5_round_0 21 rfl rfl)
theorem dX5_round_22 : decode cX5_round 22 = .ok (.aload_n 0, 1) := dk_42 (dk_at dksX5_round_0 22 rfl rfl)
theorem dX5_round_23 : decode cX5_round 23 = .ok (.iload_n 3, 1) := dk_29 (dk_at dksX5_round_0 23 rfl rfl)
theorem dX5_round_24 : decode cX5_round 24 = .ok (.invokevirtual 469, 3) := dk_182 1 213 (dk_at dksX5_round_1 0 rfl rfl)
theorem dX5_round_27 : decode cX5_round 27 = .ok (.iconst 2, 1) := dk_5 (dk_at dksX5_round_1 3 rfl rfl)
theorem dX5_round_28 : decode cX5_round 28 = .ok (.irem, 1) := dk_112 (dk_at dksX5_round_1 4 rfl rfl)
theorem dX5_round_29 : decode cX5_round 29 = .ok (.iconst 1, 1) := dk_4 (dk_at dksX5_round_1 5 rfl rfl)
theorem dX5_round_30 : decode cX5_round 30 = .ok (.if_icmp .ne 9, 3) := dk_160 0 9 (dk_at dksX5_round_1 6 rfl rfl)
theorem dX5_round_33 : decode cX5_round 33 = .ok (.iconst 1, 1) := dk_4 (dk_at dksX5_round_1 9 rfl rfl)
theorem dX5_round_34 : decode cX5_round 34 = .ok (.iload_n 3, 1) := dk_29 (dk_at dksX5_round_1 10 rfl rfl)
theorem dX5_round_35 : decode cX5_round 35 = .ok (.ishl, 1) := dk_120 (dk_at dksX5_round_1 11 rfl rfl)
theorem dX5_round_36 : decode cX5_round 36 = .ok (.goto 4, 3) := dk_167 0 4 (dk_at dksX5_round_1 12 rfl rfl)
theorem dX5_round_39 : decode cX5_round 39 = .ok (.iconst 0, 1) := dk_3 (dk_at dksX5_round_1 15 rfl rfl)
theorem dX5_round_40 : decode cX5_round 40 = .ok (.ior, 1) := dk_128 (dk_at dksX5_round_1 16 rfl rfl)
theorem dX5_round_41 : decode cX5_round 41 = .ok (.istore_n 1, 1) := dk_60 (dk_at dksX5_round_1 17 rfl rfl)
theorem dX5_round_42 : decode cX5_round 42 = .ok (.iinc 3 1, 3) := dk_132 3 1 (dk_at dksX5_round_1 18 rfl rfl)
theorem dX5_round_45 : decode cX5_round 45 = .ok (.goto (-30), 3) := dk_167 255 226 (dk_at dksX5_round_1 21 rfl rfl)
theorem dX5_round_48 : decode cX5_round 48 = .ok (.iconst 0, 1) := dk_3 (dk_at dksX5_round_2 0 rfl rfl)
theorem dX5_round_49 : decode cX5_round 49 = .ok (.istore_n 3, 1) := dk_62 (dk_at dksX5_round_2 1 rfl rfl)
theorem dX5_round_50 : decode cX5_round 50 = .ok (.iload_n 3, 1) := dk_29 (dk_at dksX5_round_2 2 rfl rfl)
theorem dX5_round_51 : decode cX5_round 51 = .ok (.aload_n 0, 1) := dk_42 (dk_at dksX5_round_2 3 rfl rfl)
theorem dX5_round_52 : decode cX5_round 52 = .ok (.getfield 13, 3) := dk_180 0 13 (dk_at dksX5_round_2 4 rfl rfl)
theorem dX5_round_55 : decode cX5_round 55 = .ok (.iconst 0, 1) := dk_3 (dk_at dksX5_round_2 7 rfl rfl)
theorem dX5_round_56 : decode cX5_round 56 = .ok (.iaload, 1) := dk_46 (dk_at dksX5_round_2 8 rfl rfl)
theorem dX5_round_57 : decode cX5_round 57 = .ok (.if_icmp .ge 49, 3) := dk_162 0 49 (dk_at dksX5_round_2 9 rfl rfl)
theorem dX5_round_60 : decode cX5_round 60 = .ok (.iload_n 2, 1) := dk_28 (dk_at dksX5_round_2 12 rfl rfl)
theorem dX5_round_61 : decode cX5_round 61 = .ok (.aload_n 0, 1) := dk_42 (dk_at dksX5_round_2 13 rfl rfl)
theorem dX5_round_62 : decode cX5_round 62 = .ok (.getfield 13, 3) := dk_180 0 13 (dk_at dksX5_round_2 14 rfl rfl)
theorem dX5_round_65 : decode cX5_round 65 = .ok (.bipush 46, 2) := dk_16 46 (dk_at dksX5_round_2 17 rfl rfl)
theorem dX5_round_67 : decode cX5_round 67 = .ok (.iload_n 3, 1) := dk_29 (dk_at dksX5_round_2 19 rfl rfl)
theorem dX5_round_68 : decode cX5_round 68 = .ok (.iadd, 1) := dk_96 (dk_at dksX5_round_2 20 rfl rfl)
theorem dX5_round_69 : decode cX5_round 69 = .ok (.iaload, 1) := dk_46 (dk_at dksX5_round_2 21 rfl rfl)
theorem dX5_round_70 : decode cX5_round 70 = .ok (.iadd, 1) := dk_96 (dk_at dksX5_round_2 22 rfl rfl)
theorem dX5_round_71 : decode cX5_round 71 = .ok (.istore_n 2, 1) := dk_61 (dk_at dksX5_round_2 23 rfl rfl)
theorem dX5_round_72 : decode cX5_round 72 = .ok (.aload_n 0, 1) := dk_42 (dk_at dksX5_round_3 0 rfl rfl)
theorem dX5_round_73 : decode cX5_round 73 = .ok (.aload_n 0, 1) := dk_42 (dk_at dksX5_round_3 1 rfl rfl)
theorem dX5_round_74 : decode cX5_round 74 = .ok (.getfield 13, 3) := dk_180 0 13 (dk_at dksX5_round_3 2 rfl rfl)
theorem dX5_round_77 : decode cX5_round 77 = .ok (.bipush 26, 2) := dk_16 26 (dk_at dksX5_round_3 5 rfl rfl)
theorem dX5_round_79 : decode cX5_round 79 = .ok (.iaload, 1) := dk_46 (dk_at dksX5_round_3 7 rfl rfl)
theorem dX5_round_80 : decode cX5_round 80 = .ok (.aload_n 0, 1) := dk_42 (dk_at dksX5_round_3 8 rfl rfl)
theorem dX5_round_81 : decode cX5_round 81 = .ok (.getfield 13, 3) := dk_180 0 13 (dk_at dksX5_round_3 9 rfl rfl)
theorem dX5_round_84 : decode cX5_round 84 = .ok (.bipush 26, 2) := dk_16 26 (dk_at dksX5_round_3 12 rfl rfl)
theorem dX5_round_86 : decode cX5_round 86 = .ok (.iload_n 3, 1) := dk_29 (dk_at dksX5_round_3 14 rfl rfl)
theorem dX5_round_87 : decode cX5_round 87 = .ok (.iadd, 1) := dk_96 (dk_at dksX5_round_3 15 rfl rfl)
theorem dX5_round_88 : decode cX5_round 88 = .ok (.iaload, 1) := dk_46 (dk_at dksX5_round_3 16 rfl rfl)
theorem dX5_round_89 : decode cX5_round 89 = .ok (.invokevirtual 463, 3) := dk_182 1 207 (dk_at dksX5_round_3 17 rfl rfl)
theorem dX5_round_92 : decode cX5_round 92 = .ok (.ldc_w 459, 3) := dk_19 1 203 (dk_at dksX5_round_3 20 rfl rfl)
theorem dX5_round_95 : decode cX5_round 95 = .ok (.if_icmp .ne 5, 3) := dk_160 0 5 (dk_at dksX5_round_4 0 rfl rfl)
theorem dX5_round_98 : decode cX5_round 98 = .ok (.iconst (-1), 1) := dk_2 (dk_at dksX5_round_4 3 rfl rfl)
theorem dX5_round_99 : decode cX5_round 99 = .ok (.ireturn, 1) := dk_172 (dk_at dksX5_round_4 4 rfl rfl)
theorem dX5_round_100 : decode cX5_round 100 = .ok (.iinc 3 1, 3) := dk_132 3 1 (dk_at dksX5_round_4 5 rfl rfl)
theorem dX5_round_103 : decode cX5_round 103 = .ok (.goto (-53), 3) := dk_167 255 203 (dk_at dksX5_round_4 8 rfl rfl)
theorem dX5_round_106 : decode cX5_round 106 = .ok (.aload_n 0, 1) := dk_42 (dk_at dksX5_round_4 11 rfl rfl)
theorem dX5_round_107 : decode cX5_round 107 = .ok (.invokevirtual 508, 3) := dk_182 1 252 (dk_at dksX5_round_4 12 rfl rfl)
theorem dX5_round_110 : decode cX5_round 110 = .ok (.iload_n 2, 1) := dk_28 (dk_at dksX5_round_4 15 rfl rfl)
theorem dX5_round_111 : decode cX5_round 111 = .ok (.aload_n 0, 1) := dk_42 (dk_at dksX5_round_4 16 rfl rfl)
theorem dX5_round_112 : decode cX5_round 112 = .ok (.getfield 127, 3) := dk_180 0 127 (dk_at dksX5_round_4 17 rfl rfl)
theorem dX5_round_115 : decode cX5_round 115 = .ok (.iload_n 1, 1) := dk_27 (dk_at dksX5_round_4 20 rfl rfl)
theorem dX5_round_116 : decode cX5_round 116 = .ok (.iaload, 1) := dk_46 (dk_at dksX5_round_4 21 rfl rfl)
theorem dX5_round_117 : decode cX5_round 117 = .ok (.iadd, 1) := dk_96 (dk_at dksX5_round_4 22 rfl rfl)
theorem dX5_round_118 : decode cX5_round 118 = .ok (.ireturn, 1) := dk_172 (dk_at dksX5_round_4 23 rfl rfl)
abbrev cX5_layPaired : ByteArray := prog_22_method_109_code
def yX5_layPaired : MethodName := ⟨RX5, "layPaired", "()V"⟩
def dkwX5_layPaired_6 : List UInt8 := [177]
abbrev dktX5_layPaired_6 : List UInt8 := dkwX5_layPaired_6 ++ []
def dkwX5_layPaired_5 : List UInt8 := [180, 0, 127, 27, 46, 79, 132, 3, 1, 167, 255, 165, 132, 2, 1, 167, 255, 151, 132, 1, 1, 167, 255, 119]
abbrev dktX5_layPaired_5 : List UInt8 := dkwX5_layPaired_5 ++ dktX5_layPaired_6
def dkwX5_layPaired_4 : List UInt8 := [54, 4, 42, 180, 0, 127, 27, 21, 4, 42, 180, 0, 127, 27, 46, 162, 0, 8, 21, 4, 167, 0, 9, 42]
abbrev dktX5_layPaired_4 : List UInt8 := dkwX5_layPaired_4 ++ dktX5_layPaired_5
def dkwX5_layPaired_3 : List UInt8 := [180, 0, 127, 27, 4, 28, 120, 2, 130, 126, 4, 29, 120, 2, 130, 126, 46, 42, 28, 29, 182, 1, 207, 96]
abbrev dktX5_layPaired_3 : List UInt8 := dkwX5_layPaired_3 ++ dktX5_layPaired_4
def dkwX5_layPaired_2 : List UInt8 := [153, 0, 78, 27, 29, 184, 1, 216, 153, 0, 70, 42, 28, 29, 182, 1, 207, 19, 1, 203, 162, 0, 58, 42]
abbrev dktX5_layPaired_2 : List UInt8 := dkwX5_layPaired_2 ++ dktX5_layPaired_3
def dkwX5_layPaired_1 : List UInt8 := [19, 1, 203, 79, 3, 61, 28, 16, 8, 162, 0, 105, 3, 62, 29, 28, 162, 0, 92, 27, 28, 184, 1, 216]
abbrev dktX5_layPaired_1 : List UInt8 := dkwX5_layPaired_1 ++ dktX5_layPaired_2
def dkwX5_layPaired_0 : List UInt8 := [3, 60, 27, 17, 1, 0, 162, 0, 136, 42, 180, 0, 127, 27, 27, 154, 0, 7, 3, 167, 0, 6]
abbrev dktX5_layPaired_0 : List UInt8 := dkwX5_layPaired_0 ++ dktX5_layPaired_1
theorem dksX5_layPaired_0 : cX5_layPaired.data.toList.drop 0 = dktX5_layPaired_0 := by decide +kernel
theorem dksX5_layPaired_1 : cX5_layPaired.data.toList.drop 22 = dktX5_layPaired_1 := dk_seg dksX5_layPaired_0 22 rfl rfl
theorem dksX5_layPaired_2 : cX5_layPaired.data.toList.drop 46 = dktX5_layPaired_2 := dk_seg dksX5_layPaired_1 24 rfl rfl
theorem dksX5_layPaired_3 : cX5_layPaired.data.toList.drop 70 = dktX5_layPaired_3 := dk_seg dksX5_layPaired_2 24 rfl rfl
theorem dksX5_layPaired_4 : cX5_layPaired.data.toList.drop 94 = dktX5_layPaired_4 := dk_seg dksX5_layPaired_3 24 rfl rfl
theorem dksX5_layPaired_5 : cX5_layPaired.data.toList.drop 118 = dktX5_layPaired_5 := dk_seg dksX5_layPaired_4 24 rfl rfl
theorem dksX5_layPaired_6 : cX5_layPaired.data.toList.drop 142 = dktX5_layPaired_6 := dk_seg dksX5_layPaired_5 24 rfl rfl
theorem dX5_layPaired_0 : decode cX5_layPaired 0 = .ok (.iconst 0, 1) := dk_3 (dk_at dksX5_layPaired_0 0 rfl rfl)
theorem dX5_layPaired_1 : decode cX5_layPaired 1 = .ok (.istore_n 1, 1) := dk_60 (dk_at dksX5_layPaired_0 1 rfl rfl)
theorem dX5_layPaired_2 : decode cX5_layPaired 2 = .ok (.iload_n 1, 1) := dk_27 (dk_at dksX5_layPaired_0 2 rfl rfl)
theorem dX5_layPaired_3 : decode cX5_layPaired 3 = .ok (.sipush 256, 3) := dk_17 1 0 (dk_at dksX5_layPaired_0 3 rfl rfl)
theorem dX5_layPaired_6 : decode cX5_layPaired 6 = .ok (.if_icmp .ge 136, 3) := dk_162 0 136 (dk_at dksX5_layPaired_0 6 rfl rfl)
theorem dX5_layPaired_9 : decode cX5_layPaired 9 = .ok (.aload_n 0, 1) := dk_42 (dk_at dksX5_layPaired_0 9 rfl rfl)
theorem dX5_layPaired_10 : decode cX5_layPaired 10 = .ok (.getfield 127, 3) := dk_180 0 127 (dk_at dksX5_layPaired_0 10 rfl rfl)
theorem dX5_layPaired_13 : decode cX5_layPaired 13 = .ok (.iload_n 1, 1) := dk_27 (dk_at dksX5_layPaired_0 13 rfl rfl)
theorem dX5_layPaired_14 : decode cX5_layPaired 14 = .ok (.iload_n 1, 1) := dk_27 (dk_at dksX5_layPaired_0 14 rfl rfl)
theorem dX5_layPaired_15 : decode cX5_layPaired 15 = .ok (.ifCond .ne 7, 3) := dk_154 0 7 (dk_at dksX5_layPaired_0 15 rfl rfl)
theorem dX5_layPaired_18 : decode cX5_layPaired 18 = .ok (.iconst 0, 1) := dk_3 (dk_at dksX5_layPaired_0 18 rfl rfl)
theorem dX5_layPaired_19 : decode cX5_layPaired 19 = .ok (.goto 6, 3) := dk_167 0 6 (dk_at dksX5_layPaired_0 19 rfl rfl)
theorem dX5_layPaired_22 : decode cX5_layPaired 22 = .ok (.ldc_w 459, 3) := dk_19 1 203 (dk_at dksX5_layPaired_1 0 rfl rfl)
theorem dX5_layPaired_25 : decode cX5_layPaired 25 = .ok (.iastore, 1) := dk_79 (dk_at dksX5_layPaired_1 3 rfl rfl)
theorem dX5_layPaired_26 : decode cX5_layPaired 26 = .ok (.iconst 0, 1) := dk_3 (dk_at dksX5_layPaired_1 4 rfl rfl)
theorem dX5_layPaired_27 : decode cX5_layPaired 27 = .ok (.istore_n 2, 1) := dk_61 (dk_at dksX5_layPaired_1 5 rfl rfl)
theorem dX5_layPaired_28 : decode cX5_layPaired 28 = .ok (.iload_n 2, 1) := dk_28 (dk_at dksX5_layPaired_1 6 rfl rfl)
theorem dX5_layPaired_29 : decode cX5_layPaired 29 = .ok (.bipush 8, 2) := dk_16 8 (dk_at dksX5_layPaired_1 7 rfl rfl)
theorem dX5_layPaired_31 : decode cX5_layPaired 31 = .ok (.if_icmp .ge 105, 3) := dk_162 0 105 (dk_at dksX5_layPaired_1 9 rfl rfl)
theorem dX5_layPaired_34 : decode cX5_layPaired 34 = .ok (.iconst 0, 1) := dk_3 (dk_at dksX5_layPaired_1 12 rfl rfl)
theorem dX5_layPaired_35 : decode cX5_layPaired 35 = .ok (.istore_n 3, 1) := dk_62 (dk_at dksX5_layPaired_1 13 rfl rfl)
theorem dX5_layPaired_36 : decode cX5_layPaired 36 = .ok (.iload_n 3, 1) := dk_29 (dk_at dksX5_layPaired_1 14 rfl rfl)
theorem dX5_layPaired_37 : decode cX5_layPaired 37 = .ok (.iload_n 2, 1) := dk_28 (dk_at dksX5_layPaired_1 15 rfl rfl)
theorem dX5_layPaired_38 : decode cX5_layPaired 38 = .ok (.if_icmp .ge 92, 3) := dk_162 0 92 (dk_at dksX5_layPaired_1 16 rfl rfl)
theorem dX5_layPaired_41 : decode cX5_layPaired 41 = .ok (.iload_n 1, 1) := dk_27 (dk_at dksX5_layPaired_1 19 rfl rfl)
theorem dX5_layPaired_42 : decode cX5_layPaired 42 = .ok (.iload_n 2, 1) := dk_28 (dk_at dksX5_layPaired_1 20 rfl rfl)
theorem dX5_layPaired_43 : decode cX5_layPaired 43 = .ok (.invokestatic 472, 3) := dk_184 1 216 (dk_at dksX5_layPaired_1 21 rfl rfl)
theorem dX5_layPaired_46 : decode cX5_layPaired 46 = .ok (.ifCond .eq 78, 3) := dk_153 0 78 (dk_at dksX5_layPaired_2 0 rfl rfl)
theorem dX5_layPaired_49 : decode cX5_layPaired 49 = .ok (.iload_n 1, 1) := dk_27 (dk_at dksX5_layPaired_2 3 rfl rfl)
theorem dX5_layPaired_50 : decode cX5_layPaired 50 = .ok (.iload_n 3, 1) := dk_29 (dk_at dksX5_layPaired_2 4 rfl rfl)
theorem dX5_layPaired_51 : decode cX5_layPaired 51 = .ok (.invokestatic 472, 3) := dk_184 1 216 (dk_at dksX5_layPaired_2 5 rfl rfl)
theorem dX5_layPaired_54 : decode cX5_layPaired 54 = .ok (.ifCond .eq 70, 3) := dk_153 0 70 (dk_at dksX5_layPaired_2 8 rfl rfl)
theorem dX5_layPaired_57 : decode cX5_layPaired 57 = .ok (.aload_n 0, 1) := dk_42 (dk_at dksX5_layPaired_2 11 rfl rfl)
theorem dX5_layPaired_58 : decode cX5_layPaired 58 = .ok (.iload_n 2, 1) := dk_28 (dk_at dksX5_layPaired_2 12 rfl rfl)
theorem dX5_layPaired_59 : decode cX5_layPaired 59 = .ok (.iload_n 3, 1) := dk_29 (dk_at dksX5_layPaired_2 13 rfl rfl)
theorem dX5_layPaired_60 : decode cX5_layPaired 60 = .ok (.invokevirtual 463, 3) := dk_182 1 207 (dk_at dksX5_layPaired_2 14 rfl rfl)
theorem dX5_layPaired_63 : decode cX5_layPaired 63 = .ok (.ldc_w 459, 3) := dk_19 1 203 (dk_at dksX5_layPaired_2 17 rfl rfl)
theorem dX5_layPaired_66 : decode cX5_layPaired 66 = .ok (.if_icmp .ge 58, 3) := dk_162 0 58 (dk_at dksX5_layPaired_2 20 rfl rfl)
theorem dX5_layPaired_69 : decode cX5_layPaired 69 = .ok (.aload_n 0, 1) := dk_42 (dk_at dksX5_layPaired_2 23 rfl rfl)
theorem dX5_layPaired_70 : decode cX5_layPaired 70 = .ok (.getfield 127, 3) := dk_180 0 127 (dk_at dksX5_layPaired_3 0 rfl rfl)
theorem dX5_layPaired_73 : decode cX5_layPaired 73 = .ok (.iload_n 1, 1) := dk_27 (dk_at dksX5_layPaired_3 3 rfl rfl)
theorem dX5_layPaired_74 : decode cX5_layPaired 74 = .ok (.iconst 1, 1) := dk_4 (dk_at dksX5_layPaired_3 4 rfl rfl)
theorem dX5_layPaired_75 : decode cX5_layPaired 75 = .ok (.iload_n 2, 1) := dk_28 (dk_at dksX5_layPaired_3 5 rfl rfl)
theorem dX5_layPaired_76 : decode cX5_layPaired 76 = .ok (.ishl, 1) := dk_120 (dk_at dksX5_layPaired_3 6 rfl rfl)
theorem dX5_layPaired_77 : decode cX5_layPaired 77 = .ok (.iconst (-1), 1) := dk_2 (dk_at dksX5_layPaired_3 7 rfl rfl)
theorem dX5_layPaired_78 : decode cX5_layPaired 78 = .ok (.ixor, 1) := dk_130 (dk_at dksX5_layPaired_3 8 rfl rfl)
theorem dX5_layPaired_79 : decode cX5_layPaired 79 = .ok (.iand, 1) := dk_126 (dk_at dksX5_layPaired_3 9 rfl rfl)
theorem dX5_layPaired_80 : decode cX5_layPaired 80 = .ok (.iconst 1, 1) := dk_4 (dk_at dksX5_layPaired_3 10 rfl rfl)
theorem dX5_layPaired_81 : decode cX5_layPaired 81 = .ok (.iload_n 3, 1) := dk_29 (dk_at dksX5_layPaired_3 11 rfl rfl)
theorem dX5_layPaired_82 : decode cX5_layPaired 82 = .ok (.ishl, 1) := dk_120 (dk_at dksX5_layPaired_3 12 rfl rfl)
theorem dX5_layPaired_83 : decode cX5_layPaired 83 = .ok (.iconst (-1), 1) := dk_2 (dk_at dksX5_layPaired_3 13 rfl rfl)
theorem dX5_layPaired_84 : decode cX5_layPaired 84 = .ok (.ixor, 1) := dk_130 (dk_at dksX5_layPaired_3 14 rfl rfl)
theorem dX5_layPaired_85 : decode cX5_layPaired 85 = .ok (.iand, 1) := dk_126 (dk_at dksX5_layPaired_3 15 rfl rfl)
theorem dX5_layPaired_86 : decode cX5_layPaired 86 = .ok (.iaload, 1) := dk_46 (dk_at dksX5_layPaired_3 16 rfl rfl)
theorem dX5_layPaired_87 : decode cX5_layPaired 87 = .ok (.aload_n 0, 1) := dk_42 (dk_at dksX5_layPaired_3 17 rfl rfl)
theorem dX5_layPaired_88 : decode cX5_layPaired 88 = .ok (.iload_n 2, 1) := dk_28 (dk_at dksX5_layPaired_3 18 rfl rfl)
theorem dX5_layPaired_89 : decode cX5_layPaired 89 = .ok (.iload_n 3, 1) := dk_29 (dk_at dksX5_layPaired_3 19 rfl rfl)
theorem dX5_layPaired_90 : decode cX5_layPaired 90 = .ok (.invokevirtual 463, 3) := dk_182 1 207 (dk_at dksX5_layPaired_3 20 rfl rfl)
theorem dX5_layPaired_93 : decode cX5_layPaired 93 = .ok (.iadd, 1) := dk_96 (dk_at dksX5_layPaired_3 23 rfl rfl)
theorem dX5_layPaired_94 : decode cX5_layPaired 94 = .ok (.istore 4, 2) := dk_54 4 (dk_at dksX5_layPaired_4 0 rfl rfl)
theorem dX5_layPaired_96 : decode cX5_layPaired 96 = .ok (.aload_n 0, 1) := dk_42 (dk_at dksX5_layPaired_4 2 rfl rfl)
theorem dX5_layPaired_97 : decode cX5_layPaired 97 = .ok (.getfield 127, 3) := dk_180 0 127 (dk_at dksX5_layPaired_4 3 rfl rfl)
theorem dX5_layPaired_100 : decode cX5_layPaired 100 = .ok (.iload_n 1, 1) := dk_27 (dk_at dksX5_layPaired_4 6 rfl rfl)
theorem dX5_layPaired_101 : decode cX5_layPaired 101 = .ok (.iload 4, 2) := dk_21 4 (dk_at dksX5_layPaired_4 7 rfl rfl)
theorem dX5_layPaired_103 : decode cX5_layPaired 103 = .ok (.aload_n 0, 1) := dk_42 (dk_at dksX5_layPaired_4 9 rfl rfl)
theorem dX5_layPaired_104 : decode cX5_layPaired 104 = .ok (.getfield 127, 3) := dk_180 0 127 (dk_at dksX5_layPaired_4 10 rfl rfl)
theorem dX5_layPaired_107 : decode cX5_layPaired 107 = .ok (.iload_n 1, 1) := dk_27 (dk_at dksX5_layPaired_4 13 rfl rfl)
theorem dX5_layPaired_108 : decode cX5_layPaired 108 = .ok (.iaload, 1) := dk_46 (dk_at dksX5_layPaired_4 14 rfl rfl)
theorem dX5_layPaired_109 : decode cX5_layPaired 109 = .ok (.if_icmp .ge 8, 3) := dk_162 0 8 (dk_at dksX5_layPaired_4 15 rfl rfl)
theorem dX5_layPaired_112 : decode cX5_layPaired 112 = .ok (.iload 4, 2) := dk_21 4 (dk_at dksX5_layPaired_4 18 rfl rfl)
theorem dX5_layPaired_114 : decode cX5_layPaired 114 = .ok (.goto 9, 3) := dk_167 0 9 (dk_at dksX5_layPaired_4 20 rfl rfl)
theorem dX5_layPaired_117 : decode cX5_layPaired 117 = .ok (.aload_n 0, 1) := dk_42 (dk_at dksX5_layPaired_4 23 rfl rfl)
theorem dX5_layPaired_118 : decode cX5_layPaired 118 = .ok (.getfield 127, 3) := dk_180 0 127 (dk_at dksX5_layPaired_5 0 rfl rfl)
theorem dX5_layPaired_121 : decode cX5_layPaired 121 = .ok (.iload_n 1, 1) := dk_27 (dk_at dksX5_layPaired_5 3 rfl rfl)
theorem dX5_layPaired_122 : decode cX5_layPaired 122 = .ok (.iaload, 1) := dk_46 (dk_at dksX5_layPaired_5 4 rfl rfl)
theorem dX5_layPaired_123 : decode cX5_layPaired 123 = .ok (.iastore, 1) := dk_79 (dk_at dksX5_layPaired_5 5 rfl rfl)
theorem dX5_layPaired_124 : decode cX5_layPaired 124 = .ok (.iinc 3 1, 3) := dk_132 3 1 (dk_at dksX5_layPaired_5 6 rfl rfl)
theorem dX5_layPaired_127 : decode cX5_layPaired 127 = .ok (.goto (-91), 3) := dk_167 255 165 (dk_at dksX5_layPaired_5 9 rfl rfl)
theorem dX5_layPaired_130 : decode cX5_layPaired 130 = .ok (.iinc 2 1, 3) := dk_132 2 1 (dk_at dksX5_layPaired_5 12 rfl rfl)
theorem dX5_layPaired_133 : decode cX5_layPaired 133 = .ok (.goto (-105), 3) := dk_167 255 151 (dk_at dksX5_layPaired_5 15 rfl rfl)
theorem dX5_layPaired_136 : decode cX5_layPaired 136 = .ok (.iinc 1 1, 3) := dk_132 1 1 (dk_at dksX5_layPaired_5 18 rfl rfl)
theorem dX5_layPaired_139 : decode cX5_layPaired 139 = .ok (.goto (-137), 3) := dk_167 255 119 (dk_at dksX5_layPaired_5 21 rfl rfl)
theorem dX5_layPaired_142 : decode cX5_layPaired 142 = .ok (.return_, 1) := dk_177 (dk_at dksX5_layPaired_6 0 rfl rfl)
abbrev cX5_dead : ByteArray := prog_22_method_111_code
def yX5_dead : MethodName := ⟨RX5, "dead", "()I"⟩
def dkwX5_dead_1 : List UInt8 := [160, 0, 9, 4, 28, 120, 167, 0, 4, 3, 128, 60, 132, 2, 1, 167, 255, 228, 27, 172]
abbrev dktX5_dead_1 : List UInt8 := dkwX5_dead_1 ++ []
def dkwX5_dead_0 : List UInt8 := [42, 3, 181, 0, 159, 3, 60, 3, 61, 28, 16, 8, 162, 0, 28, 27, 42, 28, 182, 1, 213, 4]
abbrev dktX5_dead_0 : List UInt8 := dkwX5_dead_0 ++ dktX5_dead_1
theorem dksX5_dead_0 : cX5_dead.data.toList.drop 0 = dktX5_dead_0 := by decide +kernel
theorem dksX5_dead_1 : cX5_dead.data.toList.drop 22 = dktX5_dead_1 := dk_seg dksX5_dead_0 22 rfl rfl
theorem dX5_dead_0 : decode cX5_dead 0 = .ok (.aload_n 0, 1) := dk_42 (dk_at dksX5_dead_0 0 rfl rfl)
theorem dX5_dead_1 : decode cX5_dead 1 = .ok (.iconst 0, 1) := dk_3 (dk_at dksX5_dead_0 1 rfl rfl)
theorem dX5_dead_2 : decode cX5_dead 2 = .ok (.putfield 159, 3) := dk_181 0 159 (dk_at dksX5_dead_0 2 rfl rfl)
theorem dX5_dead_5 : decode cX5_dead 5 = .ok (.iconst 0, 1) := dk_3 (dk_at dksX5_dead_0 5 rfl rfl)
theorem dX5_dead_6 : decode cX5_dead 6 = .ok (.istore_n 1, 1) := dk_60 (dk_at dksX5_dead_0 6 rfl rfl)
theorem dX5_dead_7 : decode cX5_dead 7 = .ok (.iconst 0, 1) := dk_3 (dk_at dksX5_dead_0 7 rfl rfl)
theorem dX5_dead_8 : decode cX5_dead 8 = .ok (.istore_n 2, 1) := dk_61 (dk_at dksX5_dead_0 8 rfl rfl)
theorem dX5_dead_9 : decode cX5_dead 9 = .ok (.iload_n 2, 1) := dk_28 (dk_at dksX5_dead_0 9 rfl rfl)
theorem dX5_dead_10 : decode cX5_dead 10 = .ok (.bipush 8, 2) := dk_16 8 (dk_at dksX5_dead_0 10 rfl rfl)
theorem dX5_dead_12 : decode cX5_dead 12 = .ok (.if_icmp .ge 28, 3) := dk_162 0 28 (dk_at dksX5_dead_0 12 rfl rfl)
theorem dX5_dead_15 : decode cX5_dead 15 = .ok (.iload_n 1, 1) := dk_27 (dk_at dksX5_dead_0 15 rfl rfl)
theorem dX5_dead_16 : decode cX5_dead 16 = .ok (.aload_n 0, 1) := dk_42 (dk_at dksX5_dead_0 16 rfl rfl)
theorem dX5_dead_17 : decode cX5_dead 17 = .ok (.iload_n 2, 1) := dk_28 (dk_at dksX5_dead_0 17 rfl rfl)
theorem dX5_dead_18 : decode cX5_dead 18 = .ok (.invokevirtual 469, 3) := dk_182 1 213 (dk_at dksX5_dead_0 18 rfl rfl)
theorem dX5_dead_21 : decode cX5_dead 21 = .ok (.iconst 1, 1) := dk_4 (dk_at dksX5_dead_0 21 rfl rfl)
theorem dX5_dead_22 : decode cX5_dead 22 = .ok (.if_icmp .ne 9, 3) := dk_160 0 9 (dk_at dksX5_dead_1 0 rfl rfl)
theorem dX5_dead_25 : decode cX5_dead 25 = .ok (.iconst 1, 1) := dk_4 (dk_at dksX5_dead_1 3 rfl rfl)
theorem dX5_dead_26 : decode cX5_dead 26 = .ok (.iload_n 2, 1) := dk_28 (dk_at dksX5_dead_1 4 rfl rfl)
theorem dX5_dead_27 : decode cX5_dead 27 = .ok (.ishl, 1) := dk_120 (dk_at dksX5_dead_1 5 rfl rfl)
theorem dX5_dead_28 : decode cX5_dead 28 = .ok (.goto 4, 3) := dk_167 0 4 (dk_at dksX5_dead_1 6 rfl rfl)
theorem dX5_dead_31 : decode cX5_dead 31 = .ok (.iconst 0, 1) := dk_3 (dk_at dksX5_dead_1 9 rfl rfl)
theorem dX5_dead_32 : decode cX5_dead 32 = .ok (.ior, 1) := dk_128 (dk_at dksX5_dead_1 10 rfl rfl)
theorem dX5_dead_33 : decode cX5_dead 33 = .ok (.istore_n 1, 1) := dk_60 (dk_at dksX5_dead_1 11 rfl rfl)
theorem dX5_dead_34 : decode cX5_dead 34 = .ok (.iinc 2 1, 3) := dk_132 2 1 (dk_at dksX5_dead_1 12 rfl rfl)
theorem dX5_dead_37 : decode cX5_dead 37 = .ok (.goto (-28), 3) := dk_167 255 228 (dk_at dksX5_dead_1 15 rfl rfl)
theorem dX5_dead_40 : decode cX5_dead 40 = .ok (.iload_n 1, 1) := dk_27 (dk_at dksX5_dead_1 18 rfl rfl)
theorem dX5_dead_41 : decode cX5_dead 41 = .ok (.ireturn, 1) := dk_172 (dk_at dksX5_dead_1 19 rfl rfl)
abbrev cX5_few : ByteArray := prog_22_method_112_code
def yX5_few : MethodName := ⟨RX5, "few", "(II)J"⟩
def dkwX5_few_7 : List UInt8 := [180, 0, 130, 21, 6, 47, 97, 55, 4, 132, 6, 1, 167, 255, 235, 22, 4, 173]
abbrev dktX5_few_7 : List UInt8 := dkwX5_few_7 ++ []
def dkwX5_few_6 : List UInt8 := [167, 255, 199, 132, 4, 1, 167, 255, 182, 9, 55, 4, 3, 54, 6, 21, 6, 27, 162, 0, 21, 22, 4, 42]
abbrev dktX5_few_6 : List UInt8 := dkwX5_few_6 ++ dktX5_few_7
def dkwX5_few_5 : List UInt8 := [42, 180, 0, 130, 21, 5, 4, 96, 92, 47, 22, 6, 29, 133, 105, 20, 0, 222, 109, 97, 80, 132, 5, 255]
abbrev dktX5_few_5 : List UInt8 := dkwX5_few_5 ++ dktX5_few_6
def dkwX5_few_4 : List UInt8 := [21, 5, 47, 55, 6, 42, 180, 0, 130, 21, 5, 22, 6, 16, 10, 29, 100, 133, 105, 20, 0, 222, 109, 80]
abbrev dktX5_few_4 : List UInt8 := dkwX5_few_4 ++ dktX5_few_5
def dkwX5_few_3 : List UInt8 := [62, 3, 54, 4, 21, 4, 28, 162, 0, 74, 27, 4, 100, 54, 5, 21, 5, 155, 0, 58, 42, 180, 0, 130]
abbrev dktX5_few_3 : List UInt8 := dkwX5_few_3 ++ dktX5_few_4
def dkwX5_few_2 : List UInt8 := [154, 0, 9, 20, 2, 1, 167, 0, 4, 9, 80, 132, 3, 1, 167, 255, 230, 42, 180, 0, 13, 16, 6, 46]
abbrev dktX5_few_2 : List UInt8 := dkwX5_few_2 ++ dktX5_few_3
def dkwX5_few_1 : List UInt8 := [184, 0, 179, 154, 0, 7, 20, 1, 10, 173, 3, 62, 29, 16, 21, 162, 0, 26, 42, 180, 0, 130, 29, 29]
abbrev dktX5_few_1 : List UInt8 := dkwX5_few_1 ++ dktX5_few_2
def dkwX5_few_0 : List UInt8 := [42, 3, 181, 0, 159, 27, 133, 10, 20, 1, 33, 184, 0, 179, 153, 0, 15, 28, 133, 9, 20, 1, 255]
abbrev dktX5_few_0 : List UInt8 := dkwX5_few_0 ++ dktX5_few_1
theorem dksX5_few_0 : cX5_few.data.toList.drop 0 = dktX5_few_0 := by decide +kernel
theorem dksX5_few_1 : cX5_few.data.toList.drop 23 = dktX5_few_1 := dk_seg dksX5_few_0 23 rfl rfl
theorem dksX5_few_2 : cX5_few.data.toList.drop 47 = dktX5_few_2 := dk_seg dksX5_few_1 24 rfl rfl
theorem dksX5_few_3 : cX5_few.data.toList.drop 71 = dktX5_few_3 := dk_seg dksX5_few_2 24 rfl rfl
theorem dksX5_few_4 : cX5_few.data.toList.drop 95 = dktX5_few_4 := dk_seg dksX5_few_3 24 rfl rfl
theorem dksX5_few_5 : cX5_few.data.toList.drop 119 = dktX5_few_5 := dk_seg dksX5_few_4 24 rfl rfl
theorem dksX5_few_6 : cX5_few.data.toList.drop 143 = dktX5_few_6 := dk_seg dksX5_few_5 24 rfl rfl
theorem dksX5_few_7 : cX5_few.data.toList.drop 167 = dktX5_few_7 := dk_seg dksX5_few_6 24 rfl rfl
theorem dX5_few_0 : decode cX5_few 0 = .ok (.aload_n 0, 1) := dk_42 (dk_at dksX5_few_0 0 rfl rfl)
theorem dX5_few_1 : decode cX5_few 1 = .ok (.iconst 0, 1) := dk_3 (dk_at dksX5_few_0 1 rfl rfl)
theorem dX5_few_2 : decode cX5_few 2 = .ok (.putfield 159, 3) := dk_181 0 159 (dk_at dksX5_few_0 2 rfl rfl)
theorem dX5_few_5 : decode cX5_few 5 = .ok (.iload_n 1, 1) := dk_27 (dk_at dksX5_few_0 5 rfl rfl)
theorem dX5_few_6 : decode cX5_few 6 = .ok (.i2l, 1) := dk_133 (dk_at dksX5_few_0 6 rfl rfl)
theorem dX5_few_7 : decode cX5_few 7 = .ok (.lconst 1, 1) := dk_10 (dk_at dksX5_few_0 7 rfl rfl)
theorem dX5_few_8 : decode cX5_few 8 = .ok (.ldc2_w 289, 3) := dk_20 1 33 (dk_at dksX5_few_0 8 rfl rfl)
theorem dX5_few_11 : decode cX5_few 11 = .ok (.invokestatic 179, 3) := dk_184 0 179 (dk_at dksX5_few_0 11 rfl rfl)
theorem dX5_few_14 : decode cX5_few 14 = .ok (.ifCond .eq 15, 3) := dk_153 0 15 (dk_at dksX5_few_0 14 rfl rfl)
theorem dX5_few_17 : decode cX5_few 17 = .ok (.iload_n 2, 1) := dk_28 (dk_at dksX5_few_0 17 rfl rfl)
theorem dX5_few_18 : decode cX5_few 18 = .ok (.i2l, 1) := dk_133 (dk_at dksX5_few_0 18 rfl rfl)
theorem dX5_few_19 : decode cX5_few 19 = .ok (.lconst 0, 1) := dk_9 (dk_at dksX5_few_0 19 rfl rfl)
theorem dX5_few_20 : decode cX5_few 20 = .ok (.ldc2_w 511, 3) := dk_20 1 255 (dk_at dksX5_few_0 20 rfl rfl)
theorem dX5_few_23 : decode cX5_few 23 = .ok (.invokestatic 179, 3) := dk_184 0 179 (dk_at dksX5_few_1 0 rfl rfl)
theorem dX5_few_26 : decode cX5_few 26 = .ok (.ifCond .ne 7, 3) := dk_154 0 7 (dk_at dksX5_few_1 3 rfl rfl)
theorem dX5_few_29 : decode cX5_few 29 = .ok (.ldc2_w 266, 3) := dk_20 1 10 (dk_at dksX5_few_1 6 rfl rfl)
theorem dX5_few_32 : decode cX5_few 32 = .ok (.lreturn, 1) := dk_173 (dk_at dksX5_few_1 9 rfl rfl)
theorem dX5_few_33 : decode cX5_few 33 = .ok (.iconst 0, 1) := dk_3 (dk_at dksX5_few_1 10 rfl rfl)
theorem dX5_few_34 : decode cX5_few 34 = .ok (.istore_n 3, 1) := dk_62 (dk_at dksX5_few_1 11 rfl rfl)
theorem dX5_few_35 : decode cX5_few 35 = .ok (.iload_n 3, 1) := dk_29 (dk_at dksX5_few_1 12 rfl rfl)
theorem dX5_few_36 : decode cX5_few 36 = .ok (.bipush 21, 2) := dk_16 21 (dk_at dksX5_few_1 13 rfl rfl)
theorem dX5_few_38 : decode cX5_few 38 = .ok (.if_icmp .ge 26, 3) := dk_162 0 26 (dk_at dksX5_few_1 15 rfl rfl)
theorem dX5_few_41 : decode cX5_few 41 = .ok (.aload_n 0, 1) := dk_42 (dk_at dksX5_few_1 18 rfl rfl)
theorem dX5_few_42 : decode cX5_few 42 = .ok (.getfield 130, 3) := dk_180 0 130 (dk_at dksX5_few_1 19 rfl rfl)
theorem dX5_few_45 : decode cX5_few 45 = .ok (.iload_n 3, 1) := dk_29 (dk_at dksX5_few_1 22 rfl rfl)
theorem dX5_few_46 : decode cX5_few 46 = .ok (.iload_n 3, 1) := dk_29 (dk_at dksX5_few_1 23 rfl rfl)
theorem dX5_few_47 : decode cX5_few 47 = .ok (.ifCond .ne 9, 3) := dk_154 0 9 (dk_at dksX5_few_2 0 rfl rfl)
theorem dX5_few_50 : decode cX5_few 50 = .ok (.ldc2_w 513, 3) := dk_20 2 1 (dk_at dksX5_few_2 3 rfl rfl)
theorem dX5_few_53 : decode cX5_few 53 = .ok (.goto 4, 3) := dk_167 0 4 (dk_at dksX5_few_2 6 rfl rfl)
theorem dX5_few_56 : decode cX5_few 56 = .ok (.lconst 0, 1) := dk_9 (dk_at dksX5_few_2 9 rfl rfl)
theorem dX5_few_57 : decode cX5_few 57 = .ok (.lastore, 1) := dk_80 (dk_at dksX5_few_2 10 rfl rfl)
theorem dX5_few_58 : decode cX5_few 58 = .ok (.iinc 3 1, 3) := dk_132 3 1 (dk_at dksX5_few_2 11 rfl rfl)
theorem dX5_few_61 : decode cX5_few 61 = .ok (.goto (-26), 3) := dk_167 255 230 (dk_at dksX5_few_2 14 rfl rfl)
theorem dX5_few_64 : decode cX5_few 64 = .ok (.aload_n 0, 1) := dk_42 (dk_at dksX5_few_2 17 rfl rfl)
theorem dX5_few_65 : decode cX5_few 65 = .ok (.getfield 13, 3) := dk_180 0 13 (dk_at dksX5_few_2 18 rfl rfl)
theorem dX5_few_68 : decode cX5_few 68 = .ok (.bipush 6, 2) := dk_16 6 (dk_at dksX5_few_2 21 rfl rfl)
theorem dX5_few_70 : decode cX5_few 70 = .ok (.iaload, 1) := dk_46 (dk_at dksX5_few_2 23 rfl rfl)
theorem dX5_few_71 : decode cX5_few 71 = .ok (.istore_n 3, 1) := dk_62 (dk_at dksX5_few_3 0 rfl rfl)
theorem dX5_few_72 : decode cX5_few 72 = .ok (.iconst 0, 1) := dk_3 (dk_at dksX5_few_3 1 rfl rfl)
theorem dX5_few_73 : decode cX5_few 73 = .ok (.istore 4, 2) := dk_54 4 (dk_at dksX5_few_3 2 rfl rfl)
theorem dX5_few_75 : decode cX5_few 75 = .ok (.iload 4, 2) := dk_21 4 (dk_at dksX5_few_3 4 rfl rfl)
theorem dX5_few_77 : decode cX5_few 77 = .ok (.iload_n 2, 1) := dk_28 (dk_at dksX5_few_3 6 rfl rfl)
theorem dX5_few_78 : decode cX5_few 78 = .ok (.if_icmp .ge 74, 3) := dk_162 0 74 (dk_at dksX5_few_3 7 rfl rfl)
theorem dX5_few_81 : decode cX5_few 81 = .ok (.iload_n 1, 1) := dk_27 (dk_at dksX5_few_3 10 rfl rfl)
theorem dX5_few_82 : decode cX5_few 82 = .ok (.iconst 1, 1) := dk_4 (dk_at dksX5_few_3 11 rfl rfl)
theorem dX5_few_83 : decode cX5_few 83 = .ok (.isub, 1) := dk_100 (dk_at dksX5_few_3 12 rfl rfl)
theorem dX5_few_84 : decode cX5_few 84 = .ok (.istore 5, 2) := dk_54 5 (dk_at dksX5_few_3 13 rfl rfl)
theorem dX5_few_86 : decode cX5_few 86 = .ok (.iload 5, 2) := dk_21 5 (dk_at dksX5_few_3 15 rfl rfl)
theorem dX5_few_88 : decode cX5_few 88 = .ok (.ifCond .lt 58, 3) := dk_155 0 58 (dk_at dksX5_few_3 17 rfl rfl)
theorem dX5_few_91 : decode cX5_few 91 = .ok (.aload_n 0, 1) := dk_42 (dk_at dksX5_few_3 20 rfl rfl)
theorem dX5_few_92 : decode cX5_few 92 = .ok (.getfield 130, 3) := dk_180 0 130 (dk_at dksX5_few_3 21 rfl rfl)
theorem dX5_few_95 : decode cX5_few 95 = .ok (.iload 5, 2) := dk_21 5 (dk_at dksX5_few_4 0 rfl rfl)
theorem dX5_few_97 : decode cX5_few 97 = .ok (.laload, 1) := dk_47 (dk_at dksX5_few_4 2 rfl rfl)
theorem dX5_few_98 : decode cX5_few 98 = .ok (.lstore 6, 2) := dk_55 6 (dk_at dksX5_few_4 3 rfl rfl)
theorem dX5_few_100 : decode cX5_few 100 = .ok (.aload_n 0, 1) := dk_42 (dk_at dksX5_few_4 5 rfl rfl)
theorem dX5_few_101 : decode cX5_few 101 = .ok (.getfield 130, 3) := dk_180 0 130 (dk_at dksX5_few_4 6 rfl rfl)
theorem dX5_few_104 : decode cX5_few 104 = .ok (.iload 5, 2) := dk_21 5 (dk_at dksX5_few_4 9 rfl rfl)
theorem dX5_few_106 : decode cX5_few 106 = .ok (.lload 6, 2) := dk_22 6 (dk_at dksX5_few_4 11 rfl rfl)
theorem dX5_few_108 : decode cX5_few 108 = .ok (.bipush 10, 2) := dk_16 10 (dk_at dksX5_few_4 13 rfl rfl)
theorem dX5_few_110 : decode cX5_few 110 = .ok (.iload_n 3, 1) := dk_29 (dk_at dksX5_few_4 15 rfl rfl)
theorem dX5_few_111 : decode cX5_few 111 = .ok (.isub, 1) := dk_100 (dk_at dksX5_few_4 16 rfl rfl)
theorem dX5_few_112 : decode cX5_few 112 = .ok (.i2l, 1) := dk_133 (dk_at dksX5_few_4 17 rfl rfl)
theorem dX5_few_113 : decode cX5_few 113 = .ok (.lmul, 1) := dk_105 (dk_at dksX5_few_4 18 rfl rfl)
theorem dX5_few_114 : decode cX5_few 114 = .ok (.ldc2_w 222, 3) := dk_20 0 222 (dk_at dksX5_few_4 19 rfl rfl)
theorem dX5_few_117 : decode cX5_few 117 = .ok (.ldiv, 1) := dk_109 (dk_at dksX5_few_4 22 rfl rfl)
theorem dX5_few_118 : decode cX5_few 118 = .ok (.lastore, 1) := dk_80 (dk_at dksX5_few_4 23 rfl rfl)
theorem dX5_few_119 : decode cX5_few 119 = .ok (.aload_n 0, 1) := dk_42 (dk_at dksX5_few_5 0 rfl rfl)
theorem dX5_few_120 : decode cX5_few 120 = .ok (.getfield 130, 3) := dk_180 0 130 (dk_at dksX5_few_5 1 rfl rfl)
theorem dX5_few_123 : decode cX5_few 123 = .ok (.iload 5, 2) := dk_21 5 (dk_at dksX5_few_5 4 rfl rfl)
theorem dX5_few_125 : decode cX5_few 125 = .ok (.iconst 1, 1) := dk_4 (dk_at dksX5_few_5 6 rfl rfl)
theorem dX5_few_126 : decode cX5_few 126 = .ok (.iadd, 1) := dk_96 (dk_at dksX5_few_5 7 rfl rfl)
theorem dX5_few_127 : decode cX5_few 127 = .ok (.dup2, 1) := dk_92 (dk_at dksX5_few_5 8 rfl rfl)
theorem dX5_few_128 : decode cX5_few 128 = .ok (.laload, 1) := dk_47 (dk_at dksX5_few_5 9 rfl rfl)
theorem dX5_few_129 : decode cX5_few 129 = .ok (.lload 6, 2) := dk_22 6 (dk_at dksX5_few_5 10 rfl rfl)
theorem dX5_few_131 : decode cX5_few 131 = .ok (.iload_n 3, 1) := dk_29 (dk_at dksX5_few_5 12 rfl rfl)
theorem dX5_few_132 : decode cX5_few 132 = .ok (.i2l, 1) := dk_133 (dk_at dksX5_few_5 13 rfl rfl)
theorem dX5_few_133 : decode cX5_few 133 = .ok (.lmul, 1) := dk_105 (dk_at dksX5_few_5 14 rfl rfl)
theorem dX5_few_134 : decode cX5_few 134 = .ok (.ldc2_w 222, 3) := dk_20 0 222 (dk_at dksX5_few_5 15 rfl rfl)
theorem dX5_few_137 : decode cX5_few 137 = .ok (.ldiv, 1) := dk_109 (dk_at dksX5_few_5 18 rfl rfl)
theorem dX5_few_138 : decode cX5_few 138 = .ok (.ladd, 1) := dk_97 (dk_at dksX5_few_5 19 rfl rfl)
theorem dX5_few_139 : decode cX5_few 139 = .ok (.lastore, 1) := dk_80 (dk_at dksX5_few_5 20 rfl rfl)
theorem dX5_few_140 : decode cX5_few 140 = .ok (.iinc 5 (-1), 3) := dk_132 5 255 (dk_at dksX5_few_5 21 rfl rfl)
theorem dX5_few_143 : decode cX5_few 143 = .ok (.goto (-57), 3) := dk_167 255 199 (dk_at dksX5_few_6 0 rfl rfl)
theorem dX5_few_146 : decode cX5_few 146 = .ok (.iinc 4 1, 3) := dk_132 4 1 (dk_at dksX5_few_6 3 rfl rfl)
theorem dX5_few_149 : decode cX5_few 149 = .ok (.goto (-74), 3) := dk_167 255 182 (dk_at dksX5_few_6 6 rfl rfl)
theorem dX5_few_152 : decode cX5_few 152 = .ok (.lconst 0, 1) := dk_9 (dk_at dksX5_few_6 9 rfl rfl)
theorem dX5_few_153 : decode cX5_few 153 = .ok (.lstore 4, 2) := dk_55 4 (dk_at dksX5_few_6 10 rfl rfl)
theorem dX5_few_155 : decode cX5_few 155 = .ok (.iconst 0, 1) := dk_3 (dk_at dksX5_few_6 12 rfl rfl)
theorem dX5_few_156 : decode cX5_few 156 = .ok (.istore 6, 2) := dk_54 6 (dk_at dksX5_few_6 13 rfl rfl)
theorem dX5_few_158 : decode cX5_few 158 = .ok (.iload 6, 2) := dk_21 6 (dk_at dksX5_few_6 15 rfl rfl)
theorem dX5_few_160 : decode cX5_few 160 = .ok (.iload_n 1, 1) := dk_27 (dk_at dksX5_few_6 17 rfl rfl)
theorem dX5_few_161 : decode cX5_few 161 = .ok (.if_icmp .ge 21, 3) := dk_162 0 21 (dk_at dksX5_few_6 18 rfl rfl)
theorem dX5_few_164 : decode cX5_few 164 = .ok (.lload 4, 2) := dk_22 4 (dk_at dksX5_few_6 21 rfl rfl)
theorem dX5_few_166 : decode cX5_few 166 = .ok (.aload_n 0, 1) := dk_42 (dk_at dksX5_few_6 23 rfl rfl)
theorem dX5_few_167 : decode cX5_few 167 = .ok (.getfield 130, 3) := dk_180 0 130 (dk_at dksX5_few_7 0 rfl rfl)
theorem dX5_few_170 : decode cX5_few 170 = .ok (.iload 6, 2) := dk_21 6 (dk_at dksX5_few_7 3 rfl rfl)
theorem dX5_few_172 : decode cX5_few 172 = .ok (.laload, 1) := dk_47 (dk_at dksX5_few_7 5 rfl rfl)
theorem dX5_few_173 : decode cX5_few 173 = .ok (.ladd, 1) := dk_97 (dk_at dksX5_few_7 6 rfl rfl)
theorem dX5_few_174 : decode cX5_few 174 = .ok (.lstore 4, 2) := dk_55 4 (dk_at dksX5_few_7 7 rfl rfl)
theorem dX5_few_176 : decode cX5_few 176 = .ok (.iinc 6 1, 3) := dk_132 6 1 (dk_at dksX5_few_7 9 rfl rfl)
theorem dX5_few_179 : decode cX5_few 179 = .ok (.goto (-21), 3) := dk_167 255 235 (dk_at dksX5_few_7 12 rfl rfl)
theorem dX5_few_182 : decode cX5_few 182 = .ok (.lload 4, 2) := dk_22 4 (dk_at dksX5_few_7 15 rfl rfl)
theorem dX5_few_184 : decode cX5_few 184 = .ok (.lreturn, 1) := dk_173 (dk_at dksX5_few_7 17 rfl rfl)
abbrev cX5_compare : ByteArray := prog_22_method_113_code
def yX5_compare : MethodName := ⟨RX5, "compare", "(II)I"⟩
def dkwX5_compare_3 : List UInt8 := [42, 180, 0, 13, 16, 18, 28, 96, 46, 182, 1, 174, 172]
abbrev dktX5_compare_3 : List UInt8 := dkwX5_compare_3 ++ []
def dkwX5_compare_2 : List UInt8 := [7, 29, 79, 21, 4, 2, 160, 0, 15, 42, 180, 0, 13, 16, 18, 28, 96, 46, 167, 0, 18, 42, 21, 4]
abbrev dktX5_compare_2 : List UInt8 := dkwX5_compare_2 ++ dktX5_compare_3
def dkwX5_compare_1 : List UInt8 := [180, 0, 13, 7, 46, 62, 42, 180, 0, 13, 7, 27, 79, 42, 28, 182, 0, 209, 54, 4, 42, 180, 0, 13]
abbrev dktX5_compare_1 : List UInt8 := dkwX5_compare_1 ++ dktX5_compare_2
def dkwX5_compare_0 : List UInt8 := [42, 3, 181, 0, 159, 42, 27, 182, 1, 131, 153, 0, 11, 42, 28, 182, 0, 203, 154, 0, 5, 2, 172, 42]
abbrev dktX5_compare_0 : List UInt8 := dkwX5_compare_0 ++ dktX5_compare_1
theorem dksX5_compare_0 : cX5_compare.data.toList.drop 0 = dktX5_compare_0 := by decide +kernel
theorem dksX5_compare_1 : cX5_compare.data.toList.drop 24 = dktX5_compare_1 := dk_seg dksX5_compare_0 24 rfl rfl
theorem dksX5_compare_2 : cX5_compare.data.toList.drop 48 = dktX5_compare_2 := dk_seg dksX5_compare_1 24 rfl rfl
theorem dksX5_compare_3 : cX5_compare.data.toList.drop 72 = dktX5_compare_3 := dk_seg dksX5_compare_2 24 rfl rfl
theorem dX5_compare_0 : decode cX5_compare 0 = .ok (.aload_n 0, 1) := dk_42 (dk_at dksX5_compare_0 0 rfl rfl)
theorem dX5_compare_1 : decode cX5_compare 1 = .ok (.iconst 0, 1) := dk_3 (dk_at dksX5_compare_0 1 rfl rfl)
theorem dX5_compare_2 : decode cX5_compare 2 = .ok (.putfield 159, 3) := dk_181 0 159 (dk_at dksX5_compare_0 2 rfl rfl)
theorem dX5_compare_5 : decode cX5_compare 5 = .ok (.aload_n 0, 1) := dk_42 (dk_at dksX5_compare_0 5 rfl rfl)
theorem dX5_compare_6 : decode cX5_compare 6 = .ok (.iload_n 1, 1) := dk_27 (dk_at dksX5_compare_0 6 rfl rfl)
theorem dX5_compare_7 : decode cX5_compare 7 = .ok (.invokevirtual 387, 3) := dk_182 1 131 (dk_at dksX5_compare_0 7 rfl rfl)
theorem dX5_compare_10 : decode cX5_compare 10 = .ok (.ifCond .eq 11, 3) := dk_153 0 11 (dk_at dksX5_compare_0 10 rfl rfl)
theorem dX5_compare_13 : decode cX5_compare 13 = .ok (.aload_n 0, 1) := dk_42 (dk_at dksX5_compare_0 13 rfl rfl)
theorem dX5_compare_14 : decode cX5_compare 14 = .ok (.iload_n 2, 1) := dk_28 (dk_at dksX5_compare_0 14 rfl rfl)
theorem dX5_compare_15 : decode cX5_compare 15 = .ok (.invokevirtual 203, 3) := dk_182 0 203 (dk_at dksX5_compare_0 15 rfl rfl)
theorem dX5_compare_18 : decode cX5_compare 18 = .ok (.ifCond .ne 5, 3) := dk_154 0 5 (dk_at dksX5_compare_0 18 rfl rfl)
theorem dX5_compare_21 : decode cX5_compare 21 = .ok (.iconst (-1), 1) := dk_2 (dk_at dksX5_compare_0 21 rfl rfl)
theorem dX5_compare_22 : decode cX5_compare 22 = .ok (.ireturn, 1) := dk_172 (dk_at dksX5_compare_0 22 rfl rfl)
theorem dX5_compare_23 : decode cX5_compare 23 = .ok (.aload_n 0, 1) := dk_42 (dk_at dksX5_compare_0 23 rfl rfl)
theorem dX5_compare_24 : decode cX5_compare 24 = .ok (.getfield 13, 3) := dk_180 0 13 (dk_at dksX5_compare_1 0 rfl rfl)
theorem dX5_compare_27 : decode cX5_compare 27 = .ok (.iconst 4, 1) := dk_7 (dk_at dksX5_compare_1 3 rfl rfl)
theorem dX5_compare_28 : decode cX5_compare 28 = .ok (.iaload, 1) := dk_46 (dk_at dksX5_compare_1 4 rfl rfl)
theorem dX5_compare_29 : decode cX5_compare 29 = .ok (.istore_n 3, 1) := dk_62 (dk_at dksX5_compare_1 5 rfl rfl)
theorem dX5_compare_30 : decode cX5_compare 30 = .ok (.aload_n 0, 1) := dk_42 (dk_at dksX5_compare_1 6 rfl rfl)
theorem dX5_compare_31 : decode cX5_compare 31 = .ok (.getfield 13, 3) := dk_180 0 13 (dk_at dksX5_compare_1 7 rfl rfl)
theorem dX5_compare_34 : decode cX5_compare 34 = .ok (.iconst 4, 1) := dk_7 (dk_at dksX5_compare_1 10 rfl rfl)
theorem dX5_compare_35 : decode cX5_compare 35 = .ok (.iload_n 1, 1) := dk_27 (dk_at dksX5_compare_1 11 rfl rfl)
theorem dX5_compare_36 : decode cX5_compare 36 = .ok (.iastore, 1) := dk_79 (dk_at dksX5_compare_1 12 rfl rfl)
theorem dX5_compare_37 : decode cX5_compare 37 = .ok (.aload_n 0, 1) := dk_42 (dk_at dksX5_compare_1 13 rfl rfl)
theorem dX5_compare_38 : decode cX5_compare 38 = .ok (.iload_n 2, 1) := dk_28 (dk_at dksX5_compare_1 14 rfl rfl)
theorem dX5_compare_39 : decode cX5_compare 39 = .ok (.invokevirtual 209, 3) := dk_182 0 209 (dk_at dksX5_compare_1 15 rfl rfl)
theorem dX5_compare_42 : decode cX5_compare 42 = .ok (.istore 4, 2) := dk_54 4 (dk_at dksX5_compare_1 18 rfl rfl)
theorem dX5_compare_44 : decode cX5_compare 44 = .ok (.aload_n 0, 1) := dk_42 (dk_at dksX5_compare_1 20 rfl rfl)
theorem dX5_compare_45 : decode cX5_compare 45 = .ok (.getfield 13, 3) := dk_180 0 13 (dk_at dksX5_compare_1 21 rfl rfl)
theorem dX5_compare_48 : decode cX5_compare 48 = .ok (.iconst 4, 1) := dk_7 (dk_at dksX5_compare_2 0 rfl rfl)
theorem dX5_compare_49 : decode cX5_compare 49 = .ok (.iload_n 3, 1) := dk_29 (dk_at dksX5_compare_2 1 rfl rfl)
theorem dX5_compare_50 : decode cX5_compare 50 = .ok (.iastore, 1) := dk_79 (dk_at dksX5_compare_2 2 rfl rfl)
theorem dX5_compare_51 : decode cX5_compare 51 = .ok (.iload 4, 2) := dk_21 4 (dk_at dksX5_compare_2 3 rfl rfl)
theorem dX5_compare_53 : decode cX5_compare 53 = .ok (.iconst (-1), 1) := dk_2 (dk_at dksX5_compare_2 5 rfl rfl)
theorem dX5_compare_54 : decode cX5_compare 54 = .ok (.if_icmp .ne 15, 3) := dk_160 0 15 (dk_at dksX5_compare_2 6 rfl rfl)
theorem dX5_compare_57 : decode cX5_compare 57 = .ok (.aload_n 0, 1) := dk_42 (dk_at dksX5_compare_2 9 rfl rfl)
theorem dX5_compare_58 : decode cX5_compare 58 = .ok (.getfield 13, 3) := dk_180 0 13 (dk_at dksX5_compare_2 10 rfl rfl)
theorem dX5_compare_61 : decode cX5_compare 61 = .ok (.bipush 18, 2) := dk_16 18 (dk_at dksX5_compare_2 13 rfl rfl)
theorem dX5_compare_63 : decode cX5_compare 63 = .ok (.iload_n 2, 1) := dk_28 (dk_at dksX5_compare_2 15 rfl rfl)
theorem dX5_compare_64 : decode cX5_compare 64 = .ok (.iadd, 1) := dk_96 (dk_at dksX5_compare_2 16 rfl rfl)
theorem dX5_compare_65 : decode cX5_compare 65 = .ok (.iaload, 1) := dk_46 (dk_at dksX5_compare_2 17 rfl rfl)
theorem dX5_compare_66 : decode cX5_compare 66 = .ok (.goto 18, 3) := dk_167 0 18 (dk_at dksX5_compare_2 18 rfl rfl)
theorem dX5_compare_69 : decode cX5_compare 69 = .ok (.aload_n 0, 1) := dk_42 (dk_at dksX5_compare_2 21 rfl rfl)
theorem dX5_compare_70 : decode cX5_compare 70 = .ok (.iload 4, 2) := dk_21 4 (dk_at dksX5_compare_2 22 rfl rfl)
theorem dX5_compare_72 : decode cX5_compare 72 = .ok (.aload_n 0, 1) := dk_42 (dk_at dksX5_compare_3 0 rfl rfl)
theorem dX5_compare_73 : decode cX5_compare 73 = .ok (.getfield 13, 3) := dk_180 0 13 (dk_at dksX5_compare_3 1 rfl rfl)
theorem dX5_compare_76 : decode cX5_compare 76 = .ok (.bipush 18, 2) := dk_16 18 (dk_at dksX5_compare_3 4 rfl rfl)
theorem dX5_compare_78 : decode cX5_compare 78 = .ok (.iload_n 2, 1) := dk_28 (dk_at dksX5_compare_3 6 rfl rfl)
theorem dX5_compare_79 : decode cX5_compare 79 = .ok (.iadd, 1) := dk_96 (dk_at dksX5_compare_3 7 rfl rfl)
theorem dX5_compare_80 : decode cX5_compare 80 = .ok (.iaload, 1) := dk_46 (dk_at dksX5_compare_3 8 rfl rfl)
theorem dX5_compare_81 : decode cX5_compare 81 = .ok (.invokevirtual 430, 3) := dk_182 1 174 (dk_at dksX5_compare_3 9 rfl rfl)
theorem dX5_compare_84 : decode cX5_compare 84 = .ok (.ireturn, 1) := dk_172 (dk_at dksX5_compare_3 12 rfl rfl)
abbrev cX5_orders : ByteArray := prog_22_method_119_code
def yX5_orders : MethodName := ⟨RX5, "orders", "()I"⟩
def dkwX5_orders_9 : List UInt8 := [172]
abbrev dktX5_orders_9 : List UInt8 := dkwX5_orders_9 ++ []
def dkwX5_orders_8 : List UInt8 := [182, 0, 168, 172, 132, 3, 1, 167, 255, 209, 132, 2, 1, 167, 255, 193, 42, 42, 180, 2, 13, 182, 0, 168]
abbrev dktX5_orders_8 : List UInt8 := dkwX5_orders_8 ++ dktX5_orders_9
def dkwX5_orders_7 : List UInt8 := [42, 16, 8, 28, 104, 182, 2, 32, 156, 0, 20, 42, 27, 182, 2, 35, 42, 28, 181, 0, 147, 42, 16, 253]
abbrev dktX5_orders_7 : List UInt8 := dkwX5_orders_7 ++ dktX5_orders_8
def dkwX5_orders_6 : List UInt8 := [180, 1, 114, 162, 0, 61, 3, 62, 29, 42, 180, 0, 144, 16, 8, 28, 104, 16, 7, 96, 46, 162, 0, 37]
abbrev dktX5_orders_6 : List UInt8 := dkwX5_orders_6 ++ dktX5_orders_7
def dkwX5_orders_5 : List UInt8 := [28, 46, 79, 132, 2, 1, 167, 255, 235, 42, 3, 181, 2, 13, 42, 2, 181, 2, 16, 3, 61, 28, 42]
abbrev dktX5_orders_5 : List UInt8 := dkwX5_orders_5 ++ dktX5_orders_6
def dkwX5_orders_4 : List UInt8 := [79, 132, 2, 1, 167, 255, 234, 3, 61, 28, 16, 16, 162, 0, 21, 42, 180, 0, 32, 28, 42, 180, 0, 26]
abbrev dktX5_orders_4 : List UInt8 := dkwX5_orders_4 ++ dktX5_orders_5
def dkwX5_orders_3 : List UInt8 := [180, 0, 165, 60, 3, 61, 28, 17, 1, 80, 162, 0, 21, 42, 180, 0, 29, 28, 42, 180, 0, 23, 28, 46]
abbrev dktX5_orders_3 : List UInt8 := dkwX5_orders_3 ++ dktX5_orders_4
def dkwX5_orders_2 : List UInt8 := [182, 1, 128, 42, 180, 0, 239, 153, 0, 10, 42, 16, 250, 182, 0, 168, 172, 42, 16, 17, 182, 0, 172, 42]
abbrev dktX5_orders_2 : List UInt8 := dkwX5_orders_2 ++ dktX5_orders_3
def dkwX5_orders_1 : List UInt8 := [154, 0, 23, 42, 16, 59, 182, 1, 54, 153, 0, 14, 42, 182, 0, 243, 42, 182, 2, 29, 167, 255, 232, 42]
abbrev dktX5_orders_1 : List UInt8 := dkwX5_orders_1 ++ dktX5_orders_2
def dkwX5_orders_0 : List UInt8 := [42, 3, 181, 0, 159, 42, 2, 181, 0, 147, 42, 4, 182, 1, 122, 42, 182, 2, 29, 42, 180, 0, 239]
abbrev dktX5_orders_0 : List UInt8 := dkwX5_orders_0 ++ dktX5_orders_1
theorem dksX5_orders_0 : cX5_orders.data.toList.drop 0 = dktX5_orders_0 := by decide +kernel
theorem dksX5_orders_1 : cX5_orders.data.toList.drop 23 = dktX5_orders_1 := dk_seg dksX5_orders_0 23 rfl rfl
theorem dksX5_orders_2 : cX5_orders.data.toList.drop 47 = dktX5_orders_2 := dk_seg dksX5_orders_1 24 rfl rfl
theorem dksX5_orders_3 : cX5_orders.data.toList.drop 71 = dktX5_orders_3 := dk_seg dksX5_orders_2 24 rfl rfl
theorem dksX5_orders_4 : cX5_orders.data.toList.drop 95 = dktX5_orders_4 := dk_seg dksX5_orders_3 24 rfl rfl
theorem dksX5_orders_5 : cX5_orders.data.toList.drop 119 = dktX5_orders_5 := dk_seg dksX5_orders_4 24 rfl rfl
theorem dksX5_orders_6 : cX5_orders.data.toList.drop 142 = dktX5_orders_6 := dk_seg dksX5_orders_5 23 rfl rfl
theorem dksX5_orders_7 : cX5_orders.data.toList.drop 166 = dktX5_orders_7 := dk_seg dksX5_orders_6 24 rfl rfl
theorem dksX5_orders_8 : cX5_orders.data.toList.drop 190 = dktX5_orders_8 := dk_seg dksX5_orders_7 24 rfl rfl
theorem dksX5_orders_9 : cX5_orders.data.toList.drop 214 = dktX5_orders_9 := dk_seg dksX5_orders_8 24 rfl rfl
theorem dX5_orders_0 : decode cX5_orders 0 = .ok (.aload_n 0, 1) := dk_42 (dk_at dksX5_orders_0 0 rfl rfl)
theorem dX5_orders_1 : decode cX5_orders 1 = .ok (.iconst 0, 1) := dk_3 (dk_at dksX5_orders_0 1 rfl rfl)
theorem dX5_orders_2 : decode cX5_orders 2 = .ok (.putfield 159, 3) := dk_181 0 159 (dk_at dksX5_orders_0 2 rfl rfl)
theorem dX5_orders_5 : decode cX5_orders 5 = .ok (.aload_n 0, 1) := dk_42 (dk_at dksX5_orders_0 5 rfl rfl)
theorem dX5_orders_6 : decode cX5_orders 6 = .ok (.iconst (-1), 1) := dk_2 (dk_at dksX5_orders_0 6 rfl rfl)
theorem dX5_orders_7 : decode cX5_orders 7 = .ok (.putfield 147, 3) := dk_181 0 147 (dk_at dksX5_orders_0 7 rfl rfl)
theorem dX5_orders_10 : decode cX5_orders 10 = .ok (.aload_n 0, 1) := dk_42 (dk_at dksX5_orders_0 10 rfl rfl)
theorem dX5_orders_11 : decode cX5_orders 11 = .ok (.iconst 1, 1) := dk_4 (dk_at dksX5_orders_0 11 rfl rfl)
theorem dX5_orders_12 : decode cX5_orders 12 = .ok (.invokevirtual 378, 3) := dk_182 1 122 (dk_at dksX5_orders_0 12 rfl rfl)
theorem dX5_orders_15 : decode cX5_orders 15 = .ok (.aload_n 0, 1) := dk_42 (dk_at dksX5_orders_0 15 rfl rfl)
theorem dX5_orders_16 : decode cX5_orders 16 = .ok (.invokevirtual 541, 3) := dk_182 2 29 (dk_at dksX5_orders_0 16 rfl rfl)
theorem dX5_orders_19 : decode cX5_orders 19 = .ok (.aload_n 0, 1) := dk_42 (dk_at dksX5_orders_0 19 rfl rfl)
theorem dX5_orders_20 : decode cX5_orders 20 = .ok (.getfield 239, 3) := dk_180 0 239 (dk_at dksX5_orders_0 20 rfl rfl)
theorem dX5_orders_23 : decode cX5_orders 23 = .ok (.ifCond .ne 23, 3) := dk_154 0 23 (dk_at dksX5_orders_1 0 rfl rfl)
theorem dX5_orders_26 : decode cX5_orders 26 = .ok (.aload_n 0, 1) := dk_42 (dk_at dksX5_orders_1 3 rfl rfl)
theorem dX5_orders_27 : decode cX5_orders 27 = .ok (.bipush 59, 2) := dk_16 59 (dk_at dksX5_orders_1 4 rfl rfl)
theorem dX5_orders_29 : decode cX5_orders 29 = .ok (.invokevirtual 310, 3) := dk_182 1 54 (dk_at dksX5_orders_1 6 rfl rfl)
theorem dX5_orders_32 : decode cX5_orders 32 = .ok (.ifCond .eq 14, 3) := dk_153 0 14 (dk_at dksX5_orders_1 9 rfl rfl)
theorem dX5_orders_35 : decode cX5_orders 35 = .ok (.aload_n 0, 1) := dk_42 (dk_at dksX5_orders_1 12 rfl rfl)
theorem dX5_orders_36 : decode cX5_orders 36 = .ok (.invokevirtual 243, 3) := dk_182 0 243 (dk_at dksX5_orders_1 13 rfl rfl)
theorem dX5_orders_39 : decode cX5_orders 39 = .ok (.aload_n 0, 1) := dk_42 (dk_at dksX5_orders_1 16 rfl rfl)
theorem dX5_orders_40 : decode cX5_orders 40 = .ok (.invokevirtual 541, 3) := dk_182 2 29 (dk_at dksX5_orders_1 17 rfl rfl)
theorem dX5_orders_43 : decode cX5_orders 43 = .ok (.goto (-24), 3) := dk_167 255 232 (dk_at dksX5_orders_1 20 rfl rfl)
theorem dX5_orders_46 : decode cX5_orders 46 = .ok (.aload_n 0, 1) := dk_42 (dk_at dksX5_orders_1 23 rfl rfl)
theorem dX5_orders_47 : decode cX5_orders 47 = .ok (.invokevirtual 384, 3) := dk_182 1 128 (dk_at dksX5_orders_2 0 rfl rfl)
theorem dX5_orders_50 : decode cX5_orders 50 = .ok (.aload_n 0, 1) := dk_42 (dk_at dksX5_orders_2 3 rfl rfl)
theorem dX5_orders_51 : decode cX5_orders 51 = .ok (.getfield 239, 3) := dk_180 0 239 (dk_at dksX5_orders_2 4 rfl rfl)
theorem dX5_orders_54 : decode cX5_orders 54 = .ok (.ifCond .eq 10, 3) := dk_153 0 10 (dk_at dksX5_orders_2 7 rfl rfl)
theorem dX5_orders_57 : decode cX5_orders 57 = .ok (.aload_n 0, 1) := dk_42 (dk_at dksX5_orders_2 10 rfl rfl)
theorem dX5_orders_58 : decode cX5_orders 58 = .ok (.bipush (-6), 2) := dk_16 250 (dk_at dksX5_orders_2 11 rfl rfl)
theorem dX5_orders_60 : decode cX5_orders 60 = .ok (.invokevirtual 168, 3) := dk_182 0 168 (dk_at dksX5_orders_2 13 rfl rfl)
theorem dX5_orders_63 : decode cX5_orders 63 = .ok (.ireturn, 1) := dk_172 (dk_at dksX5_orders_2 16 rfl rfl)
theorem dX5_orders_64 : decode cX5_orders 64 = .ok (.aload_n 0, 1) := dk_42 (dk_at dksX5_orders_2 17 rfl rfl)
theorem dX5_orders_65 : decode cX5_orders 65 = .ok (.bipush 17, 2) := dk_16 17 (dk_at dksX5_orders_2 18 rfl rfl)
theorem dX5_orders_67 : decode cX5_orders 67 = .ok (.invokevirtual 172, 3) := dk_182 0 172 (dk_at dksX5_orders_2 20 rfl rfl)
theorem dX5_orders_70 : decode cX5_orders 70 = .ok (.aload_n 0, 1) := dk_42 (dk_at dksX5_orders_2 23 rfl rfl)
theorem dX5_orders_71 : decode cX5_orders 71 = .ok (.getfield 165, 3) := dk_180 0 165 (dk_at dksX5_orders_3 0 rfl rfl)
theorem dX5_orders_74 : decode cX5_orders 74 = .ok (.istore_n 1, 1) := dk_60 (dk_at dksX5_orders_3 3 rfl rfl)
theorem dX5_orders_75 : decode cX5_orders 75 = .ok (.iconst 0, 1) := dk_3 (dk_at dksX5_orders_3 4 rfl rfl)
theorem dX5_orders_76 : decode cX5_orders 76 = .ok (.istore_n 2, 1) := dk_61 (dk_at dksX5_orders_3 5 rfl rfl)
theorem dX5_orders_77 : decode cX5_orders 77 = .ok (.iload_n 2, 1) := dk_28 (dk_at dksX5_orders_3 6 rfl rfl)
theorem dX5_orders_78 : decode cX5_orders 78 = .ok (.sipush 336, 3) := dk_17 1 80 (dk_at dksX5_orders_3 7 rfl rfl)
theorem dX5_orders_81 : decode cX5_orders 81 = .ok (.if_icmp .ge 21, 3) := dk_162 0 21 (dk_at dksX5_orders_3 10 rfl rfl)
theorem dX5_orders_84 : decode cX5_orders 84 = .ok (.aload_n 0, 1) := dk_42 (dk_at dksX5_orders_3 13 rfl rfl)
theorem dX5_orders_85 : decode cX5_orders 85 = .ok (.getfield 29, 3) := dk_180 0 29 (dk_at dksX5_orders_3 14 rfl rfl)
theorem dX5_orders_88 : decode cX5_orders 88 = .ok (.iload_n 2, 1) := dk_28 (dk_at dksX5_orders_3 17 rfl rfl)
theorem dX5_orders_89 : decode cX5_orders 89 = .ok (.aload_n 0, 1) := dk_42 (dk_at dksX5_orders_3 18 rfl rfl)
theorem dX5_orders_90 : decode cX5_orders 90 = .ok (.getfield 23, 3) := dk_180 0 23 (dk_at dksX5_orders_3 19 rfl rfl)
theorem dX5_orders_93 : decode cX5_orders 93 = .ok (.iload_n 2, 1) := dk_28 (dk_at dksX5_orders_3 22 rfl rfl)
theorem dX5_orders_94 : decode cX5_orders 94 = .ok (.iaload, 1) := dk_46 (dk_at dksX5_orders_3 23 rfl rfl)
theorem dX5_orders_95 : decode cX5_orders 95 = .ok (.iastore, 1) := dk_79 (dk_at dksX5_orders_4 0 rfl rfl)
theorem dX5_orders_96 : decode cX5_orders 96 = .ok (.iinc 2 1, 3) := dk_132 2 1 (dk_at dksX5_orders_4 1 rfl rfl)
theorem dX5_orders_99 : decode cX5_orders 99 = .ok (.goto (-22), 3) := dk_167 255 234 (dk_at dksX5_orders_4 4 rfl rfl)
theorem dX5_orders_102 : decode cX5_orders 102 = .ok (.iconst 0, 1) := dk_3 (dk_at dksX5_orders_4 7 rfl rfl)
theorem dX5_orders_103 : decode cX5_orders 103 = .ok (.istore_n 2, 1) := dk_61 (dk_at dksX5_orders_4 8 rfl rfl)
theorem dX5_orders_104 : decode cX5_orders 104 = .ok (.iload_n 2, 1) := dk_28 (dk_at dksX5_orders_4 9 rfl rfl)
theorem dX5_orders_105 : decode cX5_orders 105 = .ok (.bipush 16, 2) := dk_16 16 (dk_at dksX5_orders_4 10 rfl rfl)
theorem dX5_orders_107 : decode cX5_orders 107 = .ok (.if_icmp .ge 21, 3) := dk_162 0 21 (dk_at dksX5_orders_4 12 rfl rfl)
theorem dX5_orders_110 : decode cX5_orders 110 = .ok (.aload_n 0, 1) := dk_42 (dk_at dksX5_orders_4 15 rfl rfl)
theorem dX5_orders_111 : decode cX5_orders 111 = .ok (.getfield 32, 3) := dk_180 0 32 (dk_at dksX5_orders_4 16 rfl rfl)
theorem dX5_orders_114 : decode cX5_orders 114 = .ok (.iload_n 2, 1) := dk_28 (dk_at dksX5_orders_4 19 rfl rfl)
theorem dX5_orders_115 : decode cX5_orders 115 = .ok (.aload_n 0, 1) := dk_42 (dk_at dksX5_orders_4 20 rfl rfl)
theorem dX5_orders_116 : decode cX5_orders 116 = .ok (.getfield 26, 3) := dk_180 0 26 (dk_at dksX5_orders_4 21 rfl rfl)
theorem dX5_orders_119 : decode cX5_orders 119 = .ok (.iload_n 2, 1) := dk_28 (dk_at dksX5_orders_5 0 rfl rfl)
theorem dX5_orders_120 : decode cX5_orders 120 = .ok (.iaload, 1) := dk_46 (dk_at dksX5_orders_5 1 rfl rfl)
theorem dX5_orders_121 : decode cX5_orders 121 = .ok (.iastore, 1) := dk_79 (dk_at dksX5_orders_5 2 rfl rfl)
theorem dX5_orders_122 : decode cX5_orders 122 = .ok (.iinc 2 1, 3) := dk_132 2 1 (dk_at dksX5_orders_5 3 rfl rfl)
theorem dX5_orders_125 : decode cX5_orders 125 = .ok (.goto (-21), 3) := dk_167 255 235 (dk_at dksX5_orders_5 6 rfl rfl)
theorem dX5_orders_128 : decode cX5_orders 128 = .ok (.aload_n 0, 1) := dk_42 (dk_at dksX5_orders_5 9 rfl rfl)
theorem dX5_orders_129 : decode cX5_orders 129 = .ok (.iconst 0, 1) := dk_3 (dk_at dksX5_orders_5 10 rfl rfl)
theorem dX5_orders_130 : decode cX5_orders 130 = .ok (.putfield 525, 3) := dk_181 2 13 (dk_at dksX5_orders_5 11 rfl rfl)
theorem dX5_orders_133 : decode cX5_orders 133 = .ok (.aload_n 0, 1) := dk_42 (dk_at dksX5_orders_5 14 rfl rfl)
theorem dX5_orders_134 : decode cX5_orders 134 = .ok (.iconst (-1), 1) := dk_2 (dk_at dksX5_orders_5 15 rfl rfl)
theorem dX5_orders_135 : decode cX5_orders 135 = .ok (.putfield 528, 3) := dk_181 2 16 (dk_at dksX5_orders_5 16 rfl rfl)
theorem dX5_orders_138 : decode cX5_orders 138 = .ok (.iconst 0, 1) := dk_3 (dk_at dksX5_orders_5 19 rfl rfl)
theorem dX5_orders_139 : decode cX5_orders 139 = .ok (.istore_n 2, 1) := dk_61 (dk_at dksX5_orders_5 20 rfl rfl)
theorem dX5_orders_140 : decode cX5_orders 140 = .ok (.iload_n 2, 1) := dk_28 (dk_at dksX5_orders_5 21 rfl rfl)
theorem dX5_orders_141 : decode cX5_orders 141 = .ok (.aload_n 0, 1) := dk_42 (dk_at dksX5_orders_5 22 rfl rfl)
theorem dX5_orders_142 : decode cX5_orders 142 = .ok (.getfield 370, 3) := dk_180 1 114 (dk_at dksX5_orders_6 0 rfl rfl)
theorem dX5_orders_145 : decode cX5_orders 145 = .ok (.if_icmp .ge 61, 3) := dk_162 0 61 (dk_at dksX5_orders_6 3 rfl rfl)
theorem dX5_orders_148 : decode cX5_orders 148 = .ok (.iconst 0, 1) := dk_3 (dk_at dksX5_orders_6 6 rfl rfl)
theorem dX5_orders_149 : decode cX5_orders 149 = .ok (.istore_n 3, 1) := dk_62 (dk_at dksX5_orders_6 7 rfl rfl)
theorem dX5_orders_150 : decode cX5_orders 150 = .ok (.iload_n 3, 1) := dk_29 (dk_at dksX5_orders_6 8 rfl rfl)
theorem dX5_orders_151 : decode cX5_orders 151 = .ok (.aload_n 0, 1) := dk_42 (dk_at dksX5_orders_6 9 rfl rfl)
theorem dX5_orders_152 : decode cX5_orders 152 = .ok (.getfield 144, 3) := dk_180 0 144 (dk_at dksX5_orders_6 10 rfl rfl)
theorem dX5_orders_155 : decode cX5_orders 155 = .ok (.bipush 8, 2) := dk_16 8 (dk_at dksX5_orders_6 13 rfl rfl)
theorem dX5_orders_157 : decode cX5_orders 157 = .ok (.iload_n 2, 1) := dk_28 (dk_at dksX5_orders_6 15 rfl rfl)
theorem dX5_orders_158 : decode cX5_orders 158 = .ok (.imul, 1) := dk_104 (dk_at dksX5_orders_6 16 rfl rfl)
theorem dX5_orders_159 : decode cX5_orders 159 = .ok (.bipush 7, 2) := dk_16 7 (dk_at dksX5_orders_6 17 rfl rfl)
theorem dX5_orders_161 : decode cX5_orders 161 = .ok (.iadd, 1) := dk_96 (dk_at dksX5_orders_6 19 rfl rfl)
theorem dX5_orders_162 : decode cX5_orders 162 = .ok (.iaload, 1) := dk_46 (dk_at dksX5_orders_6 20 rfl rfl)
theorem dX5_orders_163 : decode cX5_orders 163 = .ok (.if_icmp .ge 37, 3) := dk_162 0 37 (dk_at dksX5_orders_6 21 rfl rfl)
theorem dX5_orders_166 : decode cX5_orders 166 = .ok (.aload_n 0, 1) := dk_42 (dk_at dksX5_orders_7 0 rfl rfl)
theorem dX5_orders_167 : decode cX5_orders 167 = .ok (.bipush 8, 2) := dk_16 8 (dk_at dksX5_orders_7 1 rfl rfl)
theorem dX5_orders_169 : decode cX5_orders 169 = .ok (.iload_n 2, 1) := dk_28 (dk_at dksX5_orders_7 3 rfl rfl)
theorem dX5_orders_170 : decode cX5_orders 170 = .ok (.imul, 1) := dk_104 (dk_at dksX5_orders_7 4 rfl rfl)
theorem dX5_orders_171 : decode cX5_orders 171 = .ok (.invokevirtual 544, 3) := dk_182 2 32 (dk_at dksX5_orders_7 5 rfl rfl)
theorem dX5_orders_174 : decode cX5_orders 174 = .ok (.ifCond .ge 20, 3) := dk_156 0 20 (dk_at dksX5_orders_7 8 rfl rfl)
theorem dX5_orders_177 : decode cX5_orders 177 = .ok (.aload_n 0, 1) := dk_42 (dk_at dksX5_orders_7 11 rfl rfl)
theorem dX5_orders_178 : decode cX5_orders 178 = .ok (.iload_n 1, 1) := dk_27 (dk_at dksX5_orders_7 12 rfl rfl)
theorem dX5_orders_179 : decode cX5_orders 179 = .ok (.invokevirtual 547, 3) := dk_182 2 35 (dk_at dksX5_orders_7 13 rfl rfl)
theorem dX5_orders_182 : decode cX5_orders 182 = .ok (.aload_n 0, 1) := dk_42 (dk_at dksX5_orders_7 16 rfl rfl)
theorem dX5_orders_183 : decode cX5_orders 183 = .ok (.iload_n 2, 1) := dk_28 (dk_at dksX5_orders_7 17 rfl rfl)
theorem dX5_orders_184 : decode cX5_orders 184 = .ok (.putfield 147, 3) := dk_181 0 147 (dk_at dksX5_orders_7 18 rfl rfl)
theorem dX5_orders_187 : decode cX5_orders 187 = .ok (.aload_n 0, 1) := dk_42 (dk_at dksX5_orders_7 21 rfl rfl)
theorem dX5_orders_188 : decode cX5_orders 188 = .ok (.bipush (-3), 2) := dk_16 253 (dk_at dksX5_orders_7 22 rfl rfl)
theorem dX5_orders_190 : decode cX5_orders 190 = .ok (.invokevirtual 168, 3) := dk_182 0 168 (dk_at dksX5_orders_8 0 rfl rfl)
theorem dX5_orders_193 : decode cX5_orders 193 = .ok (.ireturn, 1) := dk_172 (dk_at dksX5_orders_8 3 rfl rfl)
theorem dX5_orders_194 : decode cX5_orders 194 = .ok (.iinc 3 1, 3) := dk_132 3 1 (dk_at dksX5_orders_8 4 rfl rfl)
theorem dX5_orders_197 : decode cX5_orders 197 = .ok (.goto (-47), 3) := dk_167 255 209 (dk_at dksX5_orders_8 7 rfl rfl)
theorem dX5_orders_200 : decode cX5_orders 200 = .ok (.iinc 2 1, 3) := dk_132 2 1 (dk_at dksX5_orders_8 10 rfl rfl)
theorem dX5_orders_203 : decode cX5_orders 203 = .ok (.goto (-63), 3) := dk_167 255 193 (dk_at dksX5_orders_8 13 rfl rfl)
theorem dX5_orders_206 : decode cX5_orders 206 = .ok (.aload_n 0, 1) := dk_42 (dk_at dksX5_orders_8 16 rfl rfl)
theorem dX5_orders_207 : decode cX5_orders 207 = .ok (.aload_n 0, 1) := dk_42 (dk_at dksX5_orders_8 17 rfl rfl)
theorem dX5_orders_208 : decode cX5_orders 208 = .ok (.getfield 525, 3) := dk_180 2 13 (dk_at dksX5_orders_8 18 rfl rfl)
theorem dX5_orders_211 : decode cX5_orders 211 = .ok (.invokevirtual 168, 3) := dk_182 0 168 (dk_at dksX5_orders_8 21 rfl rfl)
theorem dX5_orders_214 : decode cX5_orders 214 = .ok (.ireturn, 1) := dk_172 (dk_at dksX5_orders_9 0 rfl rfl)
abbrev cX5_readOrder : ByteArray := prog_22_method_115_code
def yX5_readOrder : MethodName := ⟨RX5, "readOrder", "()V"⟩
def dkwX5_readOrder_10 : List UInt8 := [182, 0, 243, 42, 4, 182, 1, 117, 42, 180, 0, 144, 28, 16, 6, 96, 42, 180, 1, 20, 79, 177]
abbrev dktX5_readOrder_10 : List UInt8 := dkwX5_readOrder_10 ++ []
def dkwX5_readOrder_9 : List UInt8 := [180, 1, 20, 79, 42, 180, 0, 239, 154, 0, 22, 42, 20, 1, 120, 182, 1, 41, 153, 0, 12, 42]
abbrev dktX5_readOrder_9 : List UInt8 := dkwX5_readOrder_9 ++ dktX5_readOrder_10
def dkwX5_readOrder_8 : List UInt8 := [180, 0, 144, 28, 16, 7, 96, 42, 10, 20, 1, 33, 182, 1, 78, 79, 42, 180, 0, 144, 28, 8, 96, 42]
abbrev dktX5_readOrder_8 : List UInt8 := dkwX5_readOrder_8 ++ dktX5_readOrder_9
def dkwX5_readOrder_7 : List UInt8 := [4, 79, 42, 180, 0, 239, 154, 0, 34, 42, 20, 2, 8, 182, 1, 41, 153, 0, 24, 42, 182, 0, 243, 42]
abbrev dktX5_readOrder_7 : List UInt8 := dkwX5_readOrder_7 ++ dktX5_readOrder_8
def dkwX5_readOrder_6 : List UInt8 := [20, 2, 6, 182, 1, 41, 182, 1, 16, 42, 28, 6, 96, 182, 2, 3, 42, 180, 0, 144, 28, 16, 7, 96]
abbrev dktX5_readOrder_6 : List UInt8 := dkwX5_readOrder_6 ++ dktX5_readOrder_7
def dkwX5_readOrder_5 : List UInt8 := [159, 0, 10, 42, 28, 4, 96, 182, 2, 3, 27, 5, 160, 0, 28, 42, 180, 0, 239, 154, 0, 14, 42, 42]
abbrev dktX5_readOrder_5 : List UInt8 := dkwX5_readOrder_5 ++ dktX5_readOrder_6
def dkwX5_readOrder_4 : List UInt8 := [180, 0, 144, 28, 29, 96, 3, 79, 132, 3, 1, 167, 255, 238, 42, 180, 0, 144, 28, 27, 79, 27, 6]
abbrev dktX5_readOrder_4 : List UInt8 := dkwX5_readOrder_4 ++ dktX5_readOrder_5
def dkwX5_readOrder_3 : List UInt8 := [180, 1, 114, 104, 61, 42, 89, 180, 1, 114, 4, 96, 181, 1, 114, 3, 62, 29, 16, 8, 162, 0, 18, 42]
abbrev dktX5_readOrder_3 : List UInt8 := dkwX5_readOrder_3 ++ dktX5_readOrder_4
def dkwX5_readOrder_2 : List UInt8 := [162, 0, 7, 4, 167, 0, 4, 3, 182, 1, 16, 42, 180, 0, 239, 153, 0, 4, 177, 16, 8, 42]
abbrev dktX5_readOrder_2 : List UInt8 := dkwX5_readOrder_2 ++ dktX5_readOrder_3
def dkwX5_readOrder_1 : List UInt8 := [167, 0, 4, 27, 60, 132, 2, 1, 167, 255, 229, 42, 27, 2, 159, 0, 16, 42, 180, 1, 114, 16, 12]
abbrev dktX5_readOrder_1 : List UInt8 := dkwX5_readOrder_1 ++ dktX5_readOrder_2
def dkwX5_readOrder_0 : List UInt8 := [2, 60, 3, 61, 28, 7, 162, 0, 28, 42, 42, 180, 0, 141, 28, 47, 182, 1, 41, 153, 0, 7, 28]
abbrev dktX5_readOrder_0 : List UInt8 := dkwX5_readOrder_0 ++ dktX5_readOrder_1
theorem dksX5_readOrder_0 : cX5_readOrder.data.toList.drop 0 = dktX5_readOrder_0 := by decide +kernel
theorem dksX5_readOrder_1 : cX5_readOrder.data.toList.drop 23 = dktX5_readOrder_1 := dk_seg dksX5_readOrder_0 23 rfl rfl
theorem dksX5_readOrder_2 : cX5_readOrder.data.toList.drop 46 = dktX5_readOrder_2 := dk_seg dksX5_readOrder_1 23 rfl rfl
theorem dksX5_readOrder_3 : cX5_readOrder.data.toList.drop 68 = dktX5_readOrder_3 := dk_seg dksX5_readOrder_2 22 rfl rfl
theorem dksX5_readOrder_4 : cX5_readOrder.data.toList.drop 92 = dktX5_readOrder_4 := dk_seg dksX5_readOrder_3 24 rfl rfl
theorem dksX5_readOrder_5 : cX5_readOrder.data.toList.drop 115 = dktX5_readOrder_5 := dk_seg dksX5_readOrder_4 23 rfl rfl
theorem dksX5_readOrder_6 : cX5_readOrder.data.toList.drop 139 = dktX5_readOrder_6 := dk_seg dksX5_readOrder_5 24 rfl rfl
theorem dksX5_readOrder_7 : cX5_readOrder.data.toList.drop 163 = dktX5_readOrder_7 := dk_seg dksX5_readOrder_6 24 rfl rfl
theorem dksX5_readOrder_8 : cX5_readOrder.data.toList.drop 187 = dktX5_readOrder_8 := dk_seg dksX5_readOrder_7 24 rfl rfl
theorem dksX5_readOrder_9 : cX5_readOrder.data.toList.drop 211 = dktX5_readOrder_9 := dk_seg dksX5_readOrder_8 24 rfl rfl
theorem dksX5_readOrder_10 : cX5_readOrder.data.toList.drop 233 = dktX5_readOrder_10 := dk_seg dksX5_readOrder_9 22 rfl rfl
theorem dX5_readOrder_0 : decode cX5_readOrder 0 = .ok (.iconst (-1), 1) := dk_2 (dk_at dksX5_readOrder_0 0 rfl rfl)
theorem dX5_readOrder_1 : decode cX5_readOrder 1 = .ok (.istore_n 1, 1) := dk_60 (dk_at dksX5_readOrder_0 1 rfl rfl)
theorem dX5_readOrder_2 : decode cX5_readOrder 2 = .ok (.iconst 0, 1) := dk_3 (dk_at dksX5_readOrder_0 2 rfl rfl)
theorem dX5_readOrder_3 : decode cX5_readOrder 3 = .ok (.istore_n 2, 1) := dk_61 (dk_at dksX5_readOrder_0 3 rfl rfl)
theorem dX5_readOrder_4 : decode cX5_readOrder 4 = .ok (.iload_n 2, 1) := dk_28 (dk_at dksX5_readOrder_0 4 rfl rfl)
theorem dX5_readOrder_5 : decode cX5_readOrder 5 = .ok (.iconst 4, 1) := dk_7 (dk_at dksX5_readOrder_0 5 rfl rfl)
theorem dX5_readOrder_6 : decode cX5_readOrder 6 = .ok (.if_icmp .ge 28, 3) := dk_162 0 28 (dk_at dksX5_readOrder_0 6 rfl rfl)
theorem dX5_readOrder_9 : decode cX5_readOrder 9 = .ok (.aload_n 0, 1) := dk_42 (dk_at dksX5_readOrder_0 9 rfl rfl)
theorem dX5_readOrder_10 : decode cX5_readOrder 10 = .ok (.aload_n 0, 1) := dk_42 (dk_at dksX5_readOrder_0 10 rfl rfl)
theorem dX5_readOrder_11 : decode cX5_readOrder 11 = .ok (.getfield 141, 3) := dk_180 0 141 (dk_at dksX5_readOrder_0 11 rfl rfl)
theorem dX5_readOrder_14 : decode cX5_readOrder 14 = .ok (.iload_n 2, 1) := dk_28 (dk_at dksX5_readOrder_0 14 rfl rfl)
theorem dX5_readOrder_15 : decode cX5_readOrder 15 = .ok (.laload, 1) := dk_47 (dk_at dksX5_readOrder_0 15 rfl rfl)
theorem dX5_readOrder_16 : decode cX5_readOrder 16 = .ok (.invokevirtual 297, 3) := dk_182 1 41 (dk_at dksX5_readOrder_0 16 rfl rfl)
theorem dX5_readOrder_19 : decode cX5_readOrder 19 = .ok (.ifCond .eq 7, 3) := dk_153 0 7 (dk_at dksX5_readOrder_0 19 rfl rfl)
theorem dX5_readOrder_22 : decode cX5_readOrder 22 = .ok (.iload_n 2, 1) := dk_28 (dk_at dksX5_readOrder_0 22 rfl rfl)
theorem dX5_readOrder_23 : decode cX5_readOrder 23 = .ok (.goto 4, 3) := dk_167 0 4 (dk_at dksX5_readOrder_1 0 rfl rfl)
theorem dX5_readOrder_26 : decode cX5_readOrder 26 = .ok (.iload_n 1, 1) := dk_27 (dk_at dksX5_readOrder_1 3 rfl rfl)
theorem dX5_readOrder_27 : decode cX5_readOrder 27 = .ok (.istore_n 1, 1) := dk_60 (dk_at dksX5_readOrder_1 4 rfl rfl)
theorem dX5_readOrder_28 : decode cX5_readOrder 28 = .ok (.iinc 2 1, 3) := dk_132 2 1 (dk_at dksX5_readOrder_1 5 rfl rfl)
theorem dX5_readOrder_31 : decode cX5_readOrder 31 = .ok (.goto (-27), 3) := dk_167 255 229 (dk_at dksX5_readOrder_1 8 rfl rfl)
theorem dX5_readOrder_34 : decode cX5_readOrder 34 = .ok (.aload_n 0, 1) := dk_42 (dk_at dksX5_readOrder_1 11 rfl rfl)
theorem dX5_readOrder_35 : decode cX5_readOrder 35 = .ok (.iload_n 1, 1) := dk_27 (dk_at dksX5_readOrder_1 12 rfl rfl)
theorem dX5_readOrder_36 : decode cX5_readOrder 36 = .ok (.iconst (-1), 1) := dk_2 (dk_at dksX5_readOrder_1 13 rfl rfl)
theorem dX5_readOrder_37 : decode cX5_readOrder 37 = .ok (.if_icmp .eq 16, 3) := dk_159 0 16 (dk_at dksX5_readOrder_1 14 rfl rfl)
theorem dX5_readOrder_40 : decode cX5_readOrder 40 = .ok (.aload_n 0, 1) := dk_42 (dk_at dksX5_readOrder_1 17 rfl rfl)
theorem dX5_readOrder_41 : decode cX5_readOrder 41 = .ok (.getfield 370, 3) := dk_180 1 114 (dk_at dksX5_readOrder_1 18 rfl rfl)
theorem dX5_readOrder_44 : decode cX5_readOrder 44 = .ok (.bipush 12, 2) := dk_16 12 (dk_at dksX5_readOrder_1 21 rfl rfl)
theorem dX5_readOrder_46 : decode cX5_readOrder 46 = .ok (.if_icmp .ge 7, 3) := dk_162 0 7 (dk_at dksX5_readOrder_2 0 rfl rfl)
theorem dX5_readOrder_49 : decode cX5_readOrder 49 = .ok (.iconst 1, 1) := dk_4 (dk_at dksX5_readOrder_2 3 rfl rfl)
theorem dX5_readOrder_50 : decode cX5_readOrder 50 = .ok (.goto 4, 3) := dk_167 0 4 (dk_at dksX5_readOrder_2 4 rfl rfl)
theorem dX5_readOrder_53 : decode cX5_readOrder 53 = .ok (.iconst 0, 1) := dk_3 (dk_at dksX5_readOrder_2 7 rfl rfl)
theorem dX5_readOrder_54 : decode cX5_readOrder 54 = .ok (.invokevirtual 272, 3) := dk_182 1 16 (dk_at dksX5_readOrder_2 8 rfl rfl)
theorem dX5_readOrder_57 : decode cX5_readOrder 57 = .ok (.aload_n 0, 1) := dk_42 (dk_at dksX5_readOrder_2 11 rfl rfl)
theorem dX5_readOrder_58 : decode cX5_readOrder 58 = .ok (.getfield 239, 3) := dk_180 0 239 (dk_at dksX5_readOrder_2 12 rfl rfl)
theorem dX5_readOrder_61 : decode cX5_readOrder 61 = .ok (.ifCond .eq 4, 3) := dk_153 0 4 (dk_at dksX5_readOrder_2 15 rfl rfl)
theorem dX5_readOrder_64 : decode cX5_readOrder 64 = .ok (.return_, 1) := dk_177 (dk_at dksX5_readOrder_2 18 rfl rfl)
theorem dX5_readOrder_65 : decode cX5_readOrder 65 = .ok (.bipush 8, 2) := dk_16 8 (dk_at dksX5_readOrder_2 19 rfl rfl)
theorem dX5_readOrder_67 : decode cX5_readOrder 67 = .ok (.aload_n 0, 1) := dk_42 (dk_at dksX5_readOrder_2 21 rfl rfl)
theorem dX5_readOrder_68 : decode cX5_readOrder 68 = .ok (.getfield 370, 3) := dk_180 1 114 (dk_at dksX5_readOrder_3 0 rfl rfl)
theorem dX5_readOrder_71 : decode cX5_readOrder 71 = .ok (.imul, 1) := dk_104 (dk_at dksX5_readOrder_3 3 rfl rfl)
theorem dX5_readOrder_72 : decode cX5_readOrder 72 = .ok (.istore_n 2, 1) := dk_61 (dk_at dksX5_readOrder_3 4 rfl rfl)
theorem dX5_readOrder_73 : decode cX5_readOrder 73 = .ok (.aload_n 0, 1) := dk_42 (dk_at dksX5_readOrder_3 5 rfl rfl)
theorem dX5_readOrder_74 : decode cX5_readOrder 74 = .ok (.dup, 1) := dk_89 (dk_at dksX5_readOrder_3 6 rfl rfl)
theorem dX5_readOrder_75 : decode cX5_readOrder 75 = .ok (.getfield 370, 3) := dk_180 1 114 (dk_at dksX5_readOrder_3 7 rfl rfl)
theorem dX5_readOrder_78 : decode cX5_readOrder 78 = .ok (.iconst 1, 1) := dk_4 (dk_at dksX5_readOrder_3 10 rfl rfl)
theorem dX5_readOrder_79 : decode cX5_readOrder 79 = .ok (.iadd, 1) := dk_96 (dk_at dksX5_readOrder_3 11 rfl rfl)
theorem dX5_readOrder_80 : decode cX5_readOrder 80 = .ok (.putfield 370, 3) := dk_181 1 114 (dk_at dksX5_readOrder_3 12 rfl rfl)
theorem dX5_readOrder_83 : decode cX5_readOrder 83 = .ok (.iconst 0, 1) := dk_3 (dk_at dksX5_readOrder_3 15 rfl rfl)
theorem dX5_readOrder_84 : decode cX5_readOrder 84 = .ok (.istore_n 3, 1) := dk_62 (dk_at dksX5_readOrder_3 16 rfl rfl)
theorem dX5_readOrder_85 : decode cX5_readOrder 85 = .ok (.iload_n 3, 1) := dk_29 (dk_at dksX5_readOrder_3 17 rfl rfl)
theorem dX5_readOrder_86 : decode cX5_readOrder 86 = .ok (.bipush 8, 2) := dk_16 8 (dk_at dksX5_readOrder_3 18 rfl rfl)
theorem dX5_readOrder_88 : decode cX5_readOrder 88 = .ok (.if_icmp .ge 18, 3) := dk_162 0 18 (dk_at dksX5_readOrder_3 20 rfl rfl)
theorem dX5_readOrder_91 : decode cX5_readOrder 91 = .ok (.aload_n 0, 1) := dk_42 (dk_at dksX5_readOrder_3 23 rfl rfl)
theorem dX5_readOrder_92 : decode cX5_readOrder 92 = .ok (.getfield 144, 3) := dk_180 0 144 (dk_at dksX5_readOrder_4 0 rfl rfl)
theorem dX5_readOrder_95 : decode cX5_readOrder 95 = .ok (.iload_n 2, 1) := dk_28 (dk_at dksX5_readOrder_4 3 rfl rfl)
theorem dX5_readOrder_96 : decode cX5_readOrder 96 = .ok (.iload_n 3, 1) := dk_29 (dk_at dksX5_readOrder_4 4 rfl rfl)
theorem dX5_readOrder_97 : decode cX5_readOrder 97 = .ok (.iadd, 1) := dk_96 (dk_at dksX5_readOrder_4 5 rfl rfl)
theorem dX5_readOrder_98 : decode cX5_readOrder 98 = .ok (.iconst 0, 1) := dk_3 (dk_at dksX5_readOrder_4 6 rfl rfl)
theorem dX5_readOrder_99 : decode cX5_readOrder 99 = .ok (.iastore, 1) := dk_79 (dk_at dksX5_readOrder_4 7 rfl rfl)
theorem dX5_readOrder_100 : decode cX5_readOrder 100 = .ok (.iinc 3 1, 3) := dk_132 3 1 (dk_at dksX5_readOrder_4 8 rfl rfl)
theorem dX5_readOrder_103 : decode cX5_readOrder 103 = .ok (.goto (-18), 3) := dk_167 255 238 (dk_at dksX5_readOrder_4 11 rfl rfl)
theorem dX5_readOrder_106 : decode cX5_readOrder 106 = .ok (.aload_n 0, 1) := dk_42 (dk_at dksX5_readOrder_4 14 rfl rfl)
theorem dX5_readOrder_107 : decode cX5_readOrder 107 = .ok (.getfield 144, 3) := dk_180 0 144 (dk_at dksX5_readOrder_4 15 rfl rfl)
theorem dX5_readOrder_110 : decode cX5_readOrder 110 = .ok (.iload_n 2, 1) := dk_28 (dk_at dksX5_readOrder_4 18 rfl rfl)
theorem dX5_readOrder_111 : decode cX5_readOrder 111 = .ok (.iload_n 1, 1) := dk_27 (dk_at dksX5_readOrder_4 19 rfl rfl)
theorem dX5_readOrder_112 : decode cX5_readOrder 112 = .ok (.iastore, 1) := dk_79 (dk_at dksX5_readOrder_4 20 rfl rfl)
theorem dX5_readOrder_113 : decode cX5_readOrder 113 = .ok (.iload_n 1, 1) := dk_27 (dk_at dksX5_readOrder_4 21 rfl rfl)
theorem dX5_readOrder_114 : decode cX5_readOrder 114 = .ok (.iconst 3, 1) := dk_6 (dk_at dksX5_readOrder_4 22 rfl rfl)
theorem dX5_readOrder_115 : decode cX5_readOrder 115 = .ok (.if_icmp .eq 10, 3) := dk_159 0 10 (dk_at dksX5_readOrder_5 0 rfl rfl)
theorem dX5_readOrder_118 : decode cX5_readOrder 118 = .ok (.aload_n 0, 1) := dk_42 (dk_at dksX5_readOrder_5 3 rfl rfl)
theorem dX5_readOrder_119 : decode cX5_readOrder 119 = .ok (.iload_n 2, 1) := dk_28 (dk_at dksX5_readOrder_5 4 rfl rfl)
theorem dX5_readOrder_120 : decode cX5_readOrder 120 = .ok (.iconst 1, 1) := dk_4 (dk_at dksX5_readOrder_5 5 rfl rfl)
theorem dX5_readOrder_121 : decode cX5_readOrder 121 = .ok (.iadd, 1) := dk_96 (dk_at dksX5_readOrder_5 6 rfl rfl)
theorem dX5_readOrder_122 : decode cX5_readOrder 122 = .ok (.invokevirtual 515, 3) := dk_182 2 3 (dk_at dksX5_readOrder_5 7 rfl rfl)
theorem dX5_readOrder_125 : decode cX5_readOrder 125 = .ok (.iload_n 1, 1) := dk_27 (dk_at dksX5_readOrder_5 10 rfl rfl)
theorem dX5_readOrder_126 : decode cX5_readOrder 126 = .ok (.iconst 2, 1) := dk_5 (dk_at dksX5_readOrder_5 11 rfl rfl)
theorem dX5_readOrder_127 : decode cX5_readOrder 127 = .ok (.if_icmp .ne 28, 3) := dk_160 0 28 (dk_at dksX5_readOrder_5 12 rfl rfl)
theorem dX5_readOrder_130 : decode cX5_readOrder 130 = .ok (.aload_n 0, 1) := dk_42 (dk_at dksX5_readOrder_5 15 rfl rfl)
theorem dX5_readOrder_131 : decode cX5_readOrder 131 = .ok (.getfield 239, 3) := dk_180 0 239 (dk_at dksX5_readOrder_5 16 rfl rfl)
theorem dX5_readOrder_134 : decode cX5_readOrder 134 = .ok (.ifCond .ne 14, 3) := dk_154 0 14 (dk_at dksX5_readOrder_5 19 rfl rfl)
theorem dX5_readOrder_137 : decode cX5_readOrder 137 = .ok (.aload_n 0, 1) := dk_42 (dk_at dksX5_readOrder_5 22 rfl rfl)
theorem dX5_readOrder_138 : decode cX5_readOrder 138 = .ok (.aload_n 0, 1) := dk_42 (dk_at dksX5_readOrder_5 23 rfl rfl)
theorem dX5_readOrder_139 : decode cX5_readOrder 139 = .ok (.ldc2_w 518, 3) := dk_20 2 6 (dk_at dksX5_readOrder_6 0 rfl rfl)
theorem dX5_readOrder_142 : decode cX5_readOrder 142 = .ok (.invokevirtual 297, 3) := dk_182 1 41 (dk_at dksX5_readOrder_6 3 rfl rfl)
theorem dX5_readOrder_145 : decode cX5_readOrder 145 = .ok (.invokevirtual 272, 3) := dk_182 1 16 (dk_at dksX5_readOrder_6 6 rfl rfl)
theorem dX5_readOrder_148 : decode cX5_readOrder 148 = .ok (.aload_n 0, 1) := dk_42 (dk_at dksX5_readOrder_6 9 rfl rfl)
theorem dX5_readOrder_149 : decode cX5_readOrder 149 = .ok (.iload_n 2, 1) := dk_28 (dk_at dksX5_readOrder_6 10 rfl rfl)
theorem dX5_readOrder_150 : decode cX5_readOrder 150 = .ok (.iconst 3, 1) := dk_6 (dk_at dksX5_readOrder_6 11 rfl rfl)
theorem dX5_readOrder_151 : decode cX5_readOrder 151 = .ok (.iadd, 1) := dk_96 (dk_at dksX5_readOrder_6 12 rfl rfl)
theorem dX5_readOrder_152 : decode cX5_readOrder 152 = .ok (.invokevirtual 515, 3) := dk_182 2 3 (dk_at dksX5_readOrder_6 13 rfl rfl)
theorem dX5_readOrder_155 : decode cX5_readOrder 155 = .ok (.aload_n 0, 1) := dk_42 (dk_at dksX5_readOrder_6 16 rfl rfl)
theorem dX5_readOrder_156 : decode cX5_readOrder 156 = .ok (.getfield 144, 3) := dk_180 0 144 (dk_at dksX5_readOrder_6 17 rfl rfl)
theorem dX5_readOrder_159 : decode cX5_readOrder 159 = .ok (.iload_n 2, 1) := dk_28 (dk_at dksX5_readOrder_6 20 rfl rfl)
theorem dX5_readOrder_160 : decode cX5_readOrder 160 = .ok (.bipush 7, 2) := dk_16 7 (dk_at dksX5_readOrder_6 21 rfl rfl)
theorem dX5_readOrder_162 : decode cX5_readOrder 162 = .ok (.iadd, 1) := dk_96 (dk_at dksX5_readOrder_6 23 rfl rfl)
theorem dX5_readOrder_163 : decode cX5_readOrder 163 = .ok (.iconst 1, 1) := dk_4 (dk_at dksX5_readOrder_7 0 rfl rfl)
theorem dX5_readOrder_164 : decode cX5_readOrder 164 = .ok (.iastore, 1) := dk_79 (dk_at dksX5_readOrder_7 1 rfl rfl)
theorem dX5_readOrder_165 : decode cX5_readOrder 165 = .ok (.aload_n 0, 1) := dk_42 (dk_at dksX5_readOrder_7 2 rfl rfl)
theorem dX5_readOrder_166 : decode cX5_readOrder 166 = .ok (.getfield 239, 3) := dk_180 0 239 (dk_at dksX5_readOrder_7 3 rfl rfl)
theorem dX5_readOrder_169 : decode cX5_readOrder 169 = .ok (.ifCond .ne 34, 3) := dk_154 0 34 (dk_at dksX5_readOrder_7 6 rfl rfl)
theorem dX5_readOrder_172 : decode cX5_readOrder 172 = .ok (.aload_n 0, 1) := dk_42 (dk_at dksX5_readOrder_7 9 rfl rfl)
theorem dX5_readOrder_173 : decode cX5_readOrder 173 = .ok (.ldc2_w 520, 3) := dk_20 2 8 (dk_at dksX5_readOrder_7 10 rfl rfl)
theorem dX5_readOrder_176 : decode cX5_readOrder 176 = .ok (.invokevirtual 297, 3) := dk_182 1 41 (dk_at dksX5_readOrder_7 13 rfl rfl)
theorem dX5_readOrder_179 : decode cX5_readOrder 179 = .ok (.ifCond .eq 24, 3) := dk_153 0 24 (dk_at dksX5_readOrder_7 16 rfl rfl)
theorem dX5_readOrder_182 : decode cX5_readOrder 182 = .ok (.aload_n 0, 1) := dk_42 (dk_at dksX5_readOrder_7 19 rfl rfl)
theorem dX5_readOrder_183 : decode cX5_readOrder 183 = .ok (.invokevirtual 243, 3) := dk_182 0 243 (dk_at dksX5_readOrder_7 20 rfl rfl)
theorem dX5_readOrder_186 : decode cX5_readOrder 186 = .ok (.aload_n 0, 1) := dk_42 (dk_at dksX5_readOrder_7 23 rfl rfl)
theorem dX5_readOrder_187 : decode cX5_readOrder 187 = .ok (.getfield 144, 3) := dk_180 0 144 (dk_at dksX5_readOrder_8 0 rfl rfl)
theorem dX5_readOrder_190 : decode cX5_readOrder 190 = .ok (.iload_n 2, 1) := dk_28 (dk_at dksX5_readOrder_8 3 rfl rfl)
theorem dX5_readOrder_191 : decode cX5_readOrder 191 = .ok (.bipush 7, 2) := dk_16 7 (dk_at dksX5_readOrder_8 4 rfl rfl)
theorem dX5_readOrder_193 : decode cX5_readOrder 193 = .ok (.iadd, 1) := dk_96 (dk_at dksX5_readOrder_8 6 rfl rfl)
theorem dX5_readOrder_194 : decode cX5_readOrder 194 = .ok (.aload_n 0, 1) := dk_42 (dk_at dksX5_readOrder_8 7 rfl rfl)
theorem dX5_readOrder_195 : decode cX5_readOrder 195 = .ok (.lconst 1, 1) := dk_10 (dk_at dksX5_readOrder_8 8 rfl rfl)
theorem dX5_readOrder_196 : decode cX5_readOrder 196 = .ok (.ldc2_w 289, 3) := dk_20 1 33 (dk_at dksX5_readOrder_8 9 rfl rfl)
theorem dX5_readOrder_199 : decode cX5_readOrder 199 = .ok (.invokevirtual 334, 3) := dk_182 1 78 (dk_at dksX5_readOrder_8 12 rfl rfl)
theorem dX5_readOrder_202 : decode cX5_readOrder 202 = .ok (.iastore, 1) := dk_79 (dk_at dksX5_readOrder_8 15 rfl rfl)
theorem dX5_readOrder_203 : decode cX5_readOrder 203 = .ok (.aload_n 0, 1) := dk_42 (dk_at dksX5_readOrder_8 16 rfl rfl)
theorem dX5_readOrder_204 : decode cX5_readOrder 204 = .ok (.getfield 144, 3) := dk_180 0 144 (dk_at dksX5_readOrder_8 17 rfl rfl)
theorem dX5_readOrder_207 : decode cX5_readOrder 207 = .ok (.iload_n 2, 1) := dk_28 (dk_at dksX5_readOrder_8 20 rfl rfl)
theorem dX5_readOrder_208 : decode cX5_readOrder 208 = .ok (.iconst 5, 1) := dk_8 (dk_at dksX5_readOrder_8 21 rfl rfl)
theorem dX5_readOrder_209 : decode cX5_readOrder 209 = .ok (.iadd, 1) := dk_96 (dk_at dksX5_readOrder_8 22 rfl rfl)
theorem dX5_readOrder_210 : decode cX5_readOrder 210 = .ok (.aload_n 0, 1) := dk_42 (dk_at dksX5_readOrder_8 23 rfl rfl)
theorem dX5_readOrder_211 : decode cX5_readOrder 211 = .ok (.getfield 276, 3) := dk_180 1 20 (dk_at dksX5_readOrder_9 0 rfl rfl)
theorem dX5_readOrder_214 : decode cX5_readOrder 214 = .ok (.iastore, 1) := dk_79 (dk_at dksX5_readOrder_9 3 rfl rfl)
theorem dX5_readOrder_215 : decode cX5_readOrder 215 = .ok (.aload_n 0, 1) := dk_42 (dk_at dksX5_readOrder_9 4 rfl rfl)
theorem dX5_readOrder_216 : decode cX5_readOrder 216 = .ok (.getfield 239, 3) := dk_180 0 239 (dk_at dksX5_readOrder_9 5 rfl rfl)
theorem dX5_readOrder_219 : decode cX5_readOrder 219 = .ok (.ifCond .ne 22, 3) := dk_154 0 22 (dk_at dksX5_readOrder_9 8 rfl rfl)
theorem dX5_readOrder_222 : decode cX5_readOrder 222 = .ok (.aload_n 0, 1) := dk_42 (dk_at dksX5_readOrder_9 11 rfl rfl)
theorem dX5_readOrder_223 : decode cX5_readOrder 223 = .ok (.ldc2_w 376, 3) := dk_20 1 120 (dk_at dksX5_readOrder_9 12 rfl rfl)
theorem dX5_readOrder_226 : decode cX5_readOrder 226 = .ok (.invokevirtual 297, 3) := dk_182 1 41 (dk_at dksX5_readOrder_9 15 rfl rfl)
theorem dX5_readOrder_229 : decode cX5_readOrder 229 = .ok (.ifCond .eq 12, 3) := dk_153 0 12 (dk_at dksX5_readOrder_9 18 rfl rfl)
theorem dX5_readOrder_232 : decode cX5_readOrder 232 = .ok (.aload_n 0, 1) := dk_42 (dk_at dksX5_readOrder_9 21 rfl rfl)
theorem dX5_readOrder_233 : decode cX5_readOrder 233 = .ok (.invokevirtual 243, 3) := dk_182 0 243 (dk_at dksX5_readOrder_10 0 rfl rfl)
theorem dX5_readOrder_236 : decode cX5_readOrder 236 = .ok (.aload_n 0, 1) := dk_42 (dk_at dksX5_readOrder_10 3 rfl rfl)
theorem dX5_readOrder_237 : decode cX5_readOrder 237 = .ok (.iconst 1, 1) := dk_4 (dk_at dksX5_readOrder_10 4 rfl rfl)
theorem dX5_readOrder_238 : decode cX5_readOrder 238 = .ok (.invokevirtual 373, 3) := dk_182 1 117 (dk_at dksX5_readOrder_10 5 rfl rfl)
theorem dX5_readOrder_241 : decode cX5_readOrder 241 = .ok (.aload_n 0, 1) := dk_42 (dk_at dksX5_readOrder_10 8 rfl rfl)
theorem dX5_readOrder_242 : decode cX5_readOrder 242 = .ok (.getfield 144, 3) := dk_180 0 144 (dk_at dksX5_readOrder_10 9 rfl rfl)
theorem dX5_readOrder_245 : decode cX5_readOrder 245 = .ok (.iload_n 2, 1) := dk_28 (dk_at dksX5_readOrder_10 12 rfl rfl)
theorem dX5_readOrder_246 : decode cX5_readOrder 246 = .ok (.bipush 6, 2) := dk_16 6 (dk_at dksX5_readOrder_10 13 rfl rfl)
theorem dX5_readOrder_248 : decode cX5_readOrder 248 = .ok (.iadd, 1) := dk_96 (dk_at dksX5_readOrder_10 15 rfl rfl)
theorem dX5_readOrder_249 : decode cX5_readOrder 249 = .ok (.aload_n 0, 1) := dk_42 (dk_at dksX5_readOrder_10 16 rfl rfl)
theorem dX5_readOrder_250 : decode cX5_readOrder 250 = .ok (.getfield 276, 3) := dk_180 1 20 (dk_at dksX5_readOrder_10 17 rfl rfl)
theorem dX5_readOrder_253 : decode cX5_readOrder 253 = .ok (.iastore, 1) := dk_79 (dk_at dksX5_readOrder_10 20 rfl rfl)
theorem dX5_readOrder_254 : decode cX5_readOrder 254 = .ok (.return_, 1) := dk_177 (dk_at dksX5_readOrder_10 21 rfl rfl)
abbrev cX5_readSum : ByteArray := prog_22_method_114_code
def yX5_readSum : MethodName := ⟨RX5, "readSum", "(I)V"⟩
def dkwX5_readSum_1 : List UInt8 := [180, 0, 144, 27, 4, 96, 42, 180, 1, 20, 79, 177]
abbrev dktX5_readSum_1 : List UInt8 := dkwX5_readSum_1 ++ []
def dkwX5_readSum_0 : List UInt8 := [42, 180, 0, 144, 27, 42, 180, 1, 20, 79, 42, 180, 0, 239, 154, 0, 8, 42, 3, 182, 1, 117, 42]
abbrev dktX5_readSum_0 : List UInt8 := dkwX5_readSum_0 ++ dktX5_readSum_1
theorem dksX5_readSum_0 : cX5_readSum.data.toList.drop 0 = dktX5_readSum_0 := by decide +kernel
theorem dksX5_readSum_1 : cX5_readSum.data.toList.drop 23 = dktX5_readSum_1 := dk_seg dksX5_readSum_0 23 rfl rfl
theorem dX5_readSum_0 : decode cX5_readSum 0 = .ok (.aload_n 0, 1) := dk_42 (dk_at dksX5_readSum_0 0 rfl rfl)
theorem dX5_readSum_1 : decode cX5_readSum 1 = .ok (.getfield 144, 3) := dk_180 0 144 (dk_at dksX5_readSum_0 1 rfl rfl)
theorem dX5_readSum_4 : decode cX5_readSum 4 = .ok (.iload_n 1, 1) := dk_27 (dk_at dksX5_readSum_0 4 rfl rfl)
theorem dX5_readSum_5 : decode cX5_readSum 5 = .ok (.aload_n 0, 1) := dk_42 (dk_at dksX5_readSum_0 5 rfl rfl)
theorem dX5_readSum_6 : decode cX5_readSum 6 = .ok (.getfield 276, 3) := dk_180 1 20 (dk_at dksX5_readSum_0 6 rfl rfl)
theorem dX5_readSum_9 : decode cX5_readSum 9 = .ok (.iastore, 1) := dk_79 (dk_at dksX5_readSum_0 9 rfl rfl)
theorem dX5_readSum_10 : decode cX5_readSum 10 = .ok (.aload_n 0, 1) := dk_42 (dk_at dksX5_readSum_0 10 rfl rfl)
theorem dX5_readSum_11 : decode cX5_readSum 11 = .ok (.getfield 239, 3) := dk_180 0 239 (dk_at dksX5_readSum_0 11 rfl rfl)
theorem dX5_readSum_14 : decode cX5_readSum 14 = .ok (.ifCond .ne 8, 3) := dk_154 0 8 (dk_at dksX5_readSum_0 14 rfl rfl)
theorem dX5_readSum_17 : decode cX5_readSum 17 = .ok (.aload_n 0, 1) := dk_42 (dk_at dksX5_readSum_0 17 rfl rfl)
theorem dX5_readSum_18 : decode cX5_readSum 18 = .ok (.iconst 0, 1) := dk_3 (dk_at dksX5_readSum_0 18 rfl rfl)
theorem dX5_readSum_19 : decode cX5_readSum 19 = .ok (.invokevirtual 373, 3) := dk_182 1 117 (dk_at dksX5_readSum_0 19 rfl rfl)
theorem dX5_readSum_22 : decode cX5_readSum 22 = .ok (.aload_n 0, 1) := dk_42 (dk_at dksX5_readSum_0 22 rfl rfl)
theorem dX5_readSum_23 : decode cX5_readSum 23 = .ok (.getfield 144, 3) := dk_180 0 144 (dk_at dksX5_readSum_1 0 rfl rfl)
theorem dX5_readSum_26 : decode cX5_readSum 26 = .ok (.iload_n 1, 1) := dk_27 (dk_at dksX5_readSum_1 3 rfl rfl)
theorem dX5_readSum_27 : decode cX5_readSum 27 = .ok (.iconst 1, 1) := dk_4 (dk_at dksX5_readSum_1 4 rfl rfl)
theorem dX5_readSum_28 : decode cX5_readSum 28 = .ok (.iadd, 1) := dk_96 (dk_at dksX5_readSum_1 5 rfl rfl)
theorem dX5_readSum_29 : decode cX5_readSum 29 = .ok (.aload_n 0, 1) := dk_42 (dk_at dksX5_readSum_1 6 rfl rfl)
theorem dX5_readSum_30 : decode cX5_readSum 30 = .ok (.getfield 276, 3) := dk_180 1 20 (dk_at dksX5_readSum_1 7 rfl rfl)
theorem dX5_readSum_33 : decode cX5_readSum 33 = .ok (.iastore, 1) := dk_79 (dk_at dksX5_readSum_1 10 rfl rfl)
theorem dX5_readSum_34 : decode cX5_readSum 34 = .ok (.return_, 1) := dk_177 (dk_at dksX5_readSum_1 11 rfl rfl)
abbrev cX5_run : ByteArray := prog_22_method_118_code
def yX5_run : MethodName := ⟨RX5, "run", "(I)I"⟩
def dkwX5_run_7 : List UInt8 := [21, 4, 167, 0, 7, 42, 180, 2, 16, 181, 2, 16, 42, 89, 180, 2, 13, 4, 96, 181, 2, 13, 3, 172]
abbrev dktX5_run_7 : List UInt8 := dkwX5_run_7 ++ []
def dkwX5_run_6 : List UInt8 := [182, 2, 25, 54, 4, 21, 4, 156, 0, 6, 16, 253, 172, 42, 42, 180, 0, 144, 27, 46, 4, 160, 0, 8]
abbrev dktX5_run_6 : List UInt8 := dkwX5_run_6 ++ dktX5_run_7
def dkwX5_run_5 : List UInt8 := [182, 2, 22, 62, 42, 180, 2, 10, 153, 0, 6, 16, 253, 172, 42, 42, 180, 0, 144, 27, 46, 28, 29]
abbrev dktX5_run_5 : List UInt8 := dkwX5_run_5 ++ dktX5_run_6
def dkwX5_run_4 : List UInt8 := [180, 2, 10, 154, 0, 7, 28, 154, 0, 5, 3, 172, 42, 27, 4, 96, 182, 2, 22, 61, 42, 27, 6, 96]
abbrev dktX5_run_4 : List UInt8 := dkwX5_run_4 ++ dktX5_run_5
def dkwX5_run_3 : List UInt8 := [46, 42, 180, 0, 144, 27, 16, 6, 96, 46, 162, 0, 24, 42, 27, 8, 96, 182, 2, 22, 61, 42]
abbrev dktX5_run_3 : List UInt8 := dkwX5_run_3 ++ dktX5_run_4
def dkwX5_run_2 : List UInt8 := [180, 0, 106, 8, 42, 180, 0, 13, 4, 46, 133, 80, 42, 3, 181, 2, 10, 42, 180, 0, 144, 27, 8, 96]
abbrev dktX5_run_2 : List UInt8 := dkwX5_run_2 ++ dktX5_run_3
def dkwX5_run_1 : List UInt8 := [42, 180, 0, 106, 6, 42, 180, 2, 16, 133, 80, 42, 180, 0, 106, 7, 42, 182, 2, 19, 133, 80, 42]
abbrev dktX5_run_1 : List UInt8 := dkwX5_run_1 ++ dktX5_run_2
def dkwX5_run_0 : List UInt8 := [42, 180, 0, 106, 4, 42, 180, 0, 13, 8, 46, 133, 80, 42, 180, 0, 106, 5, 42, 180, 2, 13, 133, 80]
abbrev dktX5_run_0 : List UInt8 := dkwX5_run_0 ++ dktX5_run_1
theorem dksX5_run_0 : cX5_run.data.toList.drop 0 = dktX5_run_0 := by decide +kernel
theorem dksX5_run_1 : cX5_run.data.toList.drop 24 = dktX5_run_1 := dk_seg dksX5_run_0 24 rfl rfl
theorem dksX5_run_2 : cX5_run.data.toList.drop 47 = dktX5_run_2 := dk_seg dksX5_run_1 23 rfl rfl
theorem dksX5_run_3 : cX5_run.data.toList.drop 71 = dktX5_run_3 := dk_seg dksX5_run_2 24 rfl rfl
theorem dksX5_run_4 : cX5_run.data.toList.drop 93 = dktX5_run_4 := dk_seg dksX5_run_3 22 rfl rfl
theorem dksX5_run_5 : cX5_run.data.toList.drop 117 = dktX5_run_5 := dk_seg dksX5_run_4 24 rfl rfl
theorem dksX5_run_6 : cX5_run.data.toList.drop 140 = dktX5_run_6 := dk_seg dksX5_run_5 23 rfl rfl
theorem dksX5_run_7 : cX5_run.data.toList.drop 164 = dktX5_run_7 := dk_seg dksX5_run_6 24 rfl rfl
theorem dX5_run_0 : decode cX5_run 0 = .ok (.aload_n 0, 1) := dk_42 (dk_at dksX5_run_0 0 rfl rfl)
theorem dX5_run_1 : decode cX5_run 1 = .ok (.getfield 106, 3) := dk_180 0 106 (dk_at dksX5_run_0 1 rfl rfl)
theorem dX5_run_4 : decode cX5_run 4 = .ok (.iconst 1, 1) := dk_4 (dk_at dksX5_run_0 4 rfl rfl)
theorem dX5_run_5 : decode cX5_run 5 = .ok (.aload_n 0, 1) := dk_42 (dk_at dksX5_run_0 5 rfl rfl)
theorem dX5_run_6 : decode cX5_run 6 = .ok (.getfield 13, 3) := dk_180 0 13 (dk_at dksX5_run_0 6 rfl rfl)
theorem dX5_run_9 : decode cX5_run 9 = .ok (.iconst 5, 1) := dk_8 (dk_at dksX5_run_0 9 rfl rfl)
theorem dX5_run_10 : decode cX5_run 10 = .ok (.iaload, 1) := dk_46 (dk_at dksX5_run_0 10 rfl rfl)
theorem dX5_run_11 : decode cX5_run 11 = .ok (.i2l, 1) := dk_133 (dk_at dksX5_run_0 11 rfl rfl)
theorem dX5_run_12 : decode cX5_run 12 = .ok (.lastore, 1) := dk_80 (dk_at dksX5_run_0 12 rfl rfl)
theorem dX5_run_13 : decode cX5_run 13 = .ok (.aload_n 0, 1) := dk_42 (dk_at dksX5_run_0 13 rfl rfl)
theorem dX5_run_14 : decode cX5_run 14 = .ok (.getfield 106, 3) := dk_180 0 106 (dk_at dksX5_run_0 14 rfl rfl)
theorem dX5_run_17 : decode cX5_run 17 = .ok (.iconst 2, 1) := dk_5 (dk_at dksX5_run_0 17 rfl rfl)
theorem dX5_run_18 : decode cX5_run 18 = .ok (.aload_n 0, 1) := dk_42 (dk_at dksX5_run_0 18 rfl rfl)
theorem dX5_run_19 : decode cX5_run 19 = .ok (.getfield 525, 3) := dk_180 2 13 (dk_at dksX5_run_0 19 rfl rfl)
theorem dX5_run_22 : decode cX5_run 22 = .ok (.i2l, 1) := dk_133 (dk_at dksX5_run_0 22 rfl rfl)
theorem dX5_run_23 : decode cX5_run 23 = .ok (.lastore, 1) := dk_80 (dk_at dksX5_run_0 23 rfl rfl)
theorem dX5_run_24 : decode cX5_run 24 = .ok (.aload_n 0, 1) := dk_42 (dk_at dksX5_run_1 0 rfl rfl)
theorem dX5_run_25 : decode cX5_run 25 = .ok (.getfield 106, 3) := dk_180 0 106 (dk_at dksX5_run_1 1 rfl rfl)
theorem dX5_run_28 : decode cX5_run 28 = .ok (.iconst 3, 1) := dk_6 (dk_at dksX5_run_1 4 rfl rfl)
theorem dX5_run_29 : decode cX5_run 29 = .ok (.aload_n 0, 1) := dk_42 (dk_at dksX5_run_1 5 rfl rfl)
theorem dX5_run_30 : decode cX5_run 30 = .ok (.getfield 528, 3) := dk_180 2 16 (dk_at dksX5_run_1 6 rfl rfl)
theorem dX5_run_33 : decode cX5_run 33 = .ok (.i2l, 1) := dk_133 (dk_at dksX5_run_1 9 rfl rfl)
theorem dX5_run_34 : decode cX5_run 34 = .ok (.lastore, 1) := dk_80 (dk_at dksX5_run_1 10 rfl rfl)
theorem dX5_run_35 : decode cX5_run 35 = .ok (.aload_n 0, 1) := dk_42 (dk_at dksX5_run_1 11 rfl rfl)
theorem dX5_run_36 : decode cX5_run 36 = .ok (.getfield 106, 3) := dk_180 0 106 (dk_at dksX5_run_1 12 rfl rfl)
theorem dX5_run_39 : decode cX5_run 39 = .ok (.iconst 4, 1) := dk_7 (dk_at dksX5_run_1 15 rfl rfl)
theorem dX5_run_40 : decode cX5_run 40 = .ok (.aload_n 0, 1) := dk_42 (dk_at dksX5_run_1 16 rfl rfl)
theorem dX5_run_41 : decode cX5_run 41 = .ok (.invokevirtual 531, 3) := dk_182 2 19 (dk_at dksX5_run_1 17 rfl rfl)
theorem dX5_run_44 : decode cX5_run 44 = .ok (.i2l, 1) := dk_133 (dk_at dksX5_run_1 20 rfl rfl)
theorem dX5_run_45 : decode cX5_run 45 = .ok (.lastore, 1) := dk_80 (dk_at dksX5_run_1 21 rfl rfl)
theorem dX5_run_46 : decode cX5_run 46 = .ok (.aload_n 0, 1) := dk_42 (dk_at dksX5_run_1 22 rfl rfl)
theorem dX5_run_47 : decode cX5_run 47 = .ok (.getfield 106, 3) := dk_180 0 106 (dk_at dksX5_run_2 0 rfl rfl)
theorem dX5_run_50 : decode cX5_run 50 = .ok (.iconst 5, 1) := dk_8 (dk_at dksX5_run_2 3 rfl rfl)
theorem dX5_run_51 : decode cX5_run 51 = .ok (.aload_n 0, 1) := dk_42 (dk_at dksX5_run_2 4 rfl rfl)
theorem dX5_run_52 : decode cX5_run 52 = .ok (.getfield 13, 3) := dk_180 0 13 (dk_at dksX5_run_2 5 rfl rfl)
theorem dX5_run_55 : decode cX5_run 55 = .ok (.iconst 1, 1) := dk_4 (dk_at dksX5_run_2 8 rfl rfl)
theorem dX5_run_56 : decode cX5_run 56 = .ok (.iaload, 1) := dk_46 (dk_at dksX5_run_2 9 rfl rfl)
theorem dX5_run_57 : decode cX5_run 57 = .ok (.i2l, 1) := dk_133 (dk_at dksX5_run_2 10 rfl rfl)
theorem dX5_run_58 : decode cX5_run 58 = .ok (.lastore, 1) := dk_80 (dk_at dksX5_run_2 11 rfl rfl)
theorem dX5_run_59 : decode cX5_run 59 = .ok (.aload_n 0, 1) := dk_42 (dk_at dksX5_run_2 12 rfl rfl)
theorem dX5_run_60 : decode cX5_run 60 = .ok (.iconst 0, 1) := dk_3 (dk_at dksX5_run_2 13 rfl rfl)
theorem dX5_run_61 : decode cX5_run 61 = .ok (.putfield 522, 3) := dk_181 2 10 (dk_at dksX5_run_2 14 rfl rfl)
theorem dX5_run_64 : decode cX5_run 64 = .ok (.aload_n 0, 1) := dk_42 (dk_at dksX5_run_2 17 rfl rfl)
theorem dX5_run_65 : decode cX5_run 65 = .ok (.getfield 144, 3) := dk_180 0 144 (dk_at dksX5_run_2 18 rfl rfl)
theorem dX5_run_68 : decode cX5_run 68 = .ok (.iload_n 1, 1) := dk_27 (dk_at dksX5_run_2 21 rfl rfl)
theorem dX5_run_69 : decode cX5_run 69 = .ok (.iconst 5, 1) := dk_8 (dk_at dksX5_run_2 22 rfl rfl)
theorem dX5_run_70 : decode cX5_run 70 = .ok (.iadd, 1) := dk_96 (dk_at dksX5_run_2 23 rfl rfl)
theorem dX5_run_71 : decode cX5_run 71 = .ok (.iaload, 1) := dk_46 (dk_at dksX5_run_3 0 rfl rfl)
theorem dX5_run_72 : decode cX5_run 72 = .ok (.aload_n 0, 1) := dk_42 (dk_at dksX5_run_3 1 rfl rfl)
theorem dX5_run_73 : decode cX5_run 73 = .ok (.getfield 144, 3) := dk_180 0 144 (dk_at dksX5_run_3 2 rfl rfl)
theorem dX5_run_76 : decode cX5_run 76 = .ok (.iload_n 1, 1) := dk_27 (dk_at dksX5_run_3 5 rfl rfl)
theorem dX5_run_77 : decode cX5_run 77 = .ok (.bipush 6, 2) := dk_16 6 (dk_at dksX5_run_3 6 rfl rfl)
theorem dX5_run_79 : decode cX5_run 79 = .ok (.iadd, 1) := dk_96 (dk_at dksX5_run_3 8 rfl rfl)
theorem dX5_run_80 : decode cX5_run 80 = .ok (.iaload, 1) := dk_46 (dk_at dksX5_run_3 9 rfl rfl)
theorem dX5_run_81 : decode cX5_run 81 = .ok (.if_icmp .ge 24, 3) := dk_162 0 24 (dk_at dksX5_run_3 10 rfl rfl)
theorem dX5_run_84 : decode cX5_run 84 = .ok (.aload_n 0, 1) := dk_42 (dk_at dksX5_run_3 13 rfl rfl)
theorem dX5_run_85 : decode cX5_run 85 = .ok (.iload_n 1, 1) := dk_27 (dk_at dksX5_run_3 14 rfl rfl)
theorem dX5_run_86 : decode cX5_run 86 = .ok (.iconst 5, 1) := dk_8 (dk_at dksX5_run_3 15 rfl rfl)
theorem dX5_run_87 : decode cX5_run 87 = .ok (.iadd, 1) := dk_96 (dk_at dksX5_run_3 16 rfl rfl)
theorem dX5_run_88 : decode cX5_run 88 = .ok (.invokevirtual 534, 3) := dk_182 2 22 (dk_at dksX5_run_3 17 rfl rfl)
theorem dX5_run_91 : decode cX5_run 91 = .ok (.istore_n 2, 1) := dk_61 (dk_at dksX5_run_3 20 rfl rfl)
theorem dX5_run_92 : decode cX5_run 92 = .ok (.aload_n 0, 1) := dk_42 (dk_at dksX5_run_3 21 rfl rfl)
theorem dX5_run_93 : decode cX5_run 93 = .ok (.getfield 522, 3) := dk_180 2 10 (dk_at dksX5_run_4 0 rfl rfl)
theorem dX5_run_96 : decode cX5_run 96 = .ok (.ifCond .ne 7, 3) := dk_154 0 7 (dk_at dksX5_run_4 3 rfl rfl)
theorem dX5_run_99 : decode cX5_run 99 = .ok (.iload_n 2, 1) := dk_28 (dk_at dksX5_run_4 6 rfl rfl)
theorem dX5_run_100 : decode cX5_run 100 = .ok (.ifCond .ne 5, 3) := dk_154 0 5 (dk_at dksX5_run_4 7 rfl rfl)
theorem dX5_run_103 : decode cX5_run 103 = .ok (.iconst 0, 1) := dk_3 (dk_at dksX5_run_4 10 rfl rfl)
theorem dX5_run_104 : decode cX5_run 104 = .ok (.ireturn, 1) := dk_172 (dk_at dksX5_run_4 11 rfl rfl)
theorem dX5_run_105 : decode cX5_run 105 = .ok (.aload_n 0, 1) := dk_42 (dk_at dksX5_run_4 12 rfl rfl)
theorem dX5_run_106 : decode cX5_run 106 = .ok (.iload_n 1, 1) := dk_27 (dk_at dksX5_run_4 13 rfl rfl)
theorem dX5_run_107 : decode cX5_run 107 = .ok (.iconst 1, 1) := dk_4 (dk_at dksX5_run_4 14 rfl rfl)
theorem dX5_run_108 : decode cX5_run 108 = .ok (.iadd, 1) := dk_96 (dk_at dksX5_run_4 15 rfl rfl)
theorem dX5_run_109 : decode cX5_run 109 = .ok (.invokevirtual 534, 3) := dk_182 2 22 (dk_at dksX5_run_4 16 rfl rfl)
theorem dX5_run_112 : decode cX5_run 112 = .ok (.istore_n 2, 1) := dk_61 (dk_at dksX5_run_4 19 rfl rfl)
theorem dX5_run_113 : decode cX5_run 113 = .ok (.aload_n 0, 1) := dk_42 (dk_at dksX5_run_4 20 rfl rfl)
theorem dX5_run_114 : decode cX5_run 114 = .ok (.iload_n 1, 1) := dk_27 (dk_at dksX5_run_4 21 rfl rfl)
theorem dX5_run_115 : decode cX5_run 115 = .ok (.iconst 3, 1) := dk_6 (dk_at dksX5_run_4 22 rfl rfl)
theorem dX5_run_116 : decode cX5_run 116 = .ok (.iadd, 1) := dk_96 (dk_at dksX5_run_4 23 rfl rfl)
theorem dX5_run_117 : decode cX5_run 117 = .ok (.invokevirtual 534, 3) := dk_182 2 22 (dk_at dksX5_run_5 0 rfl rfl)
theorem dX5_run_120 : decode cX5_run 120 = .ok (.istore_n 3, 1) := dk_62 (dk_at dksX5_run_5 3 rfl rfl)
theorem dX5_run_121 : decode cX5_run 121 = .ok (.aload_n 0, 1) := dk_42 (dk_at dksX5_run_5 4 rfl rfl)
theorem dX5_run_122 : decode cX5_run 122 = .ok (.getfield 522, 3) := dk_180 2 10 (dk_at dksX5_run_5 5 rfl rfl)
theorem dX5_run_125 : decode cX5_run 125 = .ok (.ifCond .eq 6, 3) := dk_153 0 6 (dk_at dksX5_run_5 8 rfl rfl)
theorem dX5_run_128 : decode cX5_run 128 = .ok (.bipush (-3), 2) := dk_16 253 (dk_at dksX5_run_5 11 rfl rfl)
theorem dX5_run_130 : decode cX5_run 130 = .ok (.ireturn, 1) := dk_172 (dk_at dksX5_run_5 13 rfl rfl)
theorem dX5_run_131 : decode cX5_run 131 = .ok (.aload_n 0, 1) := dk_42 (dk_at dksX5_run_5 14 rfl rfl)
theorem dX5_run_132 : decode cX5_run 132 = .ok (.aload_n 0, 1) := dk_42 (dk_at dksX5_run_5 15 rfl rfl)
theorem dX5_run_133 : decode cX5_run 133 = .ok (.getfield 144, 3) := dk_180 0 144 (dk_at dksX5_run_5 16 rfl rfl)
theorem dX5_run_136 : decode cX5_run 136 = .ok (.iload_n 1, 1) := dk_27 (dk_at dksX5_run_5 19 rfl rfl)
theorem dX5_run_137 : decode cX5_run 137 = .ok (.iaload, 1) := dk_46 (dk_at dksX5_run_5 20 rfl rfl)
theorem dX5_run_138 : decode cX5_run 138 = .ok (.iload_n 2, 1) := dk_28 (dk_at dksX5_run_5 21 rfl rfl)
theorem dX5_run_139 : decode cX5_run 139 = .ok (.iload_n 3, 1) := dk_29 (dk_at dksX5_run_5 22 rfl rfl)
theorem dX5_run_140 : decode cX5_run 140 = .ok (.invokevirtual 537, 3) := dk_182 2 25 (dk_at dksX5_run_6 0 rfl rfl)
theorem dX5_run_143 : decode cX5_run 143 = .ok (.istore 4, 2) := dk_54 4 (dk_at dksX5_run_6 3 rfl rfl)
theorem dX5_run_145 : decode cX5_run 145 = .ok (.iload 4, 2) := dk_21 4 (dk_at dksX5_run_6 5 rfl rfl)
theorem dX5_run_147 : decode cX5_run 147 = .ok (.ifCond .ge 6, 3) := dk_156 0 6 (dk_at dksX5_run_6 7 rfl rfl)
theorem dX5_run_150 : decode cX5_run 150 = .ok (.bipush (-3), 2) := dk_16 253 (dk_at dksX5_run_6 10 rfl rfl)
theorem dX5_run_152 : decode cX5_run 152 = .ok (.ireturn, 1) := dk_172 (dk_at dksX5_run_6 12 rfl rfl)
theorem dX5_run_153 : decode cX5_run 153 = .ok (.aload_n 0, 1) := dk_42 (dk_at dksX5_run_6 13 rfl rfl)
theorem dX5_run_154 : decode cX5_run 154 = .ok (.aload_n 0, 1) := dk_42 (dk_at dksX5_run_6 14 rfl rfl)
theorem dX5_run_155 : decode cX5_run 155 = .ok (.getfield 144, 3) := dk_180 0 144 (dk_at dksX5_run_6 15 rfl rfl)
theorem dX5_run_158 : decode cX5_run 158 = .ok (.iload_n 1, 1) := dk_27 (dk_at dksX5_run_6 18 rfl rfl)
theorem dX5_run_159 : decode cX5_run 159 = .ok (.iaload, 1) := dk_46 (dk_at dksX5_run_6 19 rfl rfl)
theorem dX5_run_160 : decode cX5_run 160 = .ok (.iconst 1, 1) := dk_4 (dk_at dksX5_run_6 20 rfl rfl)
theorem dX5_run_161 : decode cX5_run 161 = .ok (.if_icmp .ne 8, 3) := dk_160 0 8 (dk_at dksX5_run_6 21 rfl rfl)
theorem dX5_run_164 : decode cX5_run 164 = .ok (.iload 4, 2) := dk_21 4 (dk_at dksX5_run_7 0 rfl rfl)
theorem dX5_run_166 : decode cX5_run 166 = .ok (.goto 7, 3) := dk_167 0 7 (dk_at dksX5_run_7 2 rfl rfl)
theorem dX5_run_169 : decode cX5_run 169 = .ok (.aload_n 0, 1) := dk_42 (dk_at dksX5_run_7 5 rfl rfl)
theorem dX5_run_170 : decode cX5_run 170 = .ok (.getfield 528, 3) := dk_180 2 16 (dk_at dksX5_run_7 6 rfl rfl)
theorem dX5_run_173 : decode cX5_run 173 = .ok (.putfield 528, 3) := dk_181 2 16 (dk_at dksX5_run_7 9 rfl rfl)
theorem dX5_run_176 : decode cX5_run 176 = .ok (.aload_n 0, 1) := dk_42 (dk_at dksX5_run_7 12 rfl rfl)
theorem dX5_run_177 : decode cX5_run 177 = .ok (.dup, 1) := dk_89 (dk_at dksX5_run_7 13 rfl rfl)
theorem dX5_run_178 : decode cX5_run 178 = .ok (.getfield 525, 3) := dk_180 2 13 (dk_at dksX5_run_7 14 rfl rfl)
theorem dX5_run_181 : decode cX5_run 181 = .ok (.iconst 1, 1) := dk_4 (dk_at dksX5_run_7 17 rfl rfl)
theorem dX5_run_182 : decode cX5_run 182 = .ok (.iadd, 1) := dk_96 (dk_at dksX5_run_7 18 rfl rfl)
theorem dX5_run_183 : decode cX5_run 183 = .ok (.putfield 525, 3) := dk_181 2 13 (dk_at dksX5_run_7 19 rfl rfl)
theorem dX5_run_186 : decode cX5_run 186 = .ok (.iconst 0, 1) := dk_3 (dk_at dksX5_run_7 22 rfl rfl)
theorem dX5_run_187 : decode cX5_run 187 = .ok (.ireturn, 1) := dk_172 (dk_at dksX5_run_7 23 rfl rfl)
abbrev cX5_namedOnes : ByteArray := prog_22_method_21_code
def yX5_namedOnes : MethodName := ⟨RX5, "namedOnes", "()I"⟩
def dkwX5_namedOnes_1 : List UInt8 := [2, 160, 0, 7, 3, 167, 0, 4, 4, 96, 60, 132, 2, 1, 167, 255, 222, 27, 172]
abbrev dktX5_namedOnes_1 : List UInt8 := dkwX5_namedOnes_1 ++ []
def dkwX5_namedOnes_0 : List UInt8 := [3, 60, 3, 61, 28, 42, 180, 0, 13, 3, 46, 162, 0, 30, 27, 42, 180, 0, 13, 16, 8, 28, 96, 46]
abbrev dktX5_namedOnes_0 : List UInt8 := dkwX5_namedOnes_0 ++ dktX5_namedOnes_1
theorem dksX5_namedOnes_0 : cX5_namedOnes.data.toList.drop 0 = dktX5_namedOnes_0 := by decide +kernel
theorem dksX5_namedOnes_1 : cX5_namedOnes.data.toList.drop 24 = dktX5_namedOnes_1 := dk_seg dksX5_namedOnes_0 24 rfl rfl
theorem dX5_namedOnes_0 : decode cX5_namedOnes 0 = .ok (.iconst 0, 1) := dk_3 (dk_at dksX5_namedOnes_0 0 rfl rfl)
theorem dX5_namedOnes_1 : decode cX5_namedOnes 1 = .ok (.istore_n 1, 1) := dk_60 (dk_at dksX5_namedOnes_0 1 rfl rfl)
theorem dX5_namedOnes_2 : decode cX5_namedOnes 2 = .ok (.iconst 0, 1) := dk_3 (dk_at dksX5_namedOnes_0 2 rfl rfl)
theorem dX5_namedOnes_3 : decode cX5_namedOnes 3 = .ok (.istore_n 2, 1) := dk_61 (dk_at dksX5_namedOnes_0 3 rfl rfl)
theorem dX5_namedOnes_4 : decode cX5_namedOnes 4 = .ok (.iload_n 2, 1) := dk_28 (dk_at dksX5_namedOnes_0 4 rfl rfl)
theorem dX5_namedOnes_5 : decode cX5_namedOnes 5 = .ok (.aload_n 0, 1) := dk_42 (dk_at dksX5_namedOnes_0 5 rfl rfl)
theorem dX5_namedOnes_6 : decode cX5_namedOnes 6 = .ok (.getfield 13, 3) := dk_180 0 13 (dk_at dksX5_namedOnes_0 6 rfl rfl)
theorem dX5_namedOnes_9 : decode cX5_namedOnes 9 = .ok (.iconst 0, 1) := dk_3 (dk_at dksX5_namedOnes_0 9 rfl rfl)
theorem dX5_namedOnes_10 : decode cX5_namedOnes 10 = .ok (.iaload, 1) := dk_46 (dk_at dksX5_namedOnes_0 10 rfl rfl)
theorem dX5_namedOnes_11 : decode cX5_namedOnes 11 = .ok (.if_icmp .ge 30, 3) := dk_162 0 30 (dk_at dksX5_namedOnes_0 11 rfl rfl)
theorem dX5_namedOnes_14 : decode cX5_namedOnes 14 = .ok (.iload_n 1, 1) := dk_27 (dk_at dksX5_namedOnes_0 14 rfl rfl)
theorem dX5_namedOnes_15 : decode cX5_namedOnes 15 = .ok (.aload_n 0, 1) := dk_42 (dk_at dksX5_namedOnes_0 15 rfl rfl)
theorem dX5_namedOnes_16 : decode cX5_namedOnes 16 = .ok (.getfield 13, 3) := dk_180 0 13 (dk_at dksX5_namedOnes_0 16 rfl rfl)
theorem dX5_namedOnes_19 : decode cX5_namedOnes 19 = .ok (.bipush 8, 2) := dk_16 8 (dk_at dksX5_namedOnes_0 19 rfl rfl)
theorem dX5_namedOnes_21 : decode cX5_namedOnes 21 = .ok (.iload_n 2, 1) := dk_28 (dk_at dksX5_namedOnes_0 21 rfl rfl)
theorem dX5_namedOnes_22 : decode cX5_namedOnes 22 = .ok (.iadd, 1) := dk_96 (dk_at dksX5_namedOnes_0 22 rfl rfl)
theorem dX5_namedOnes_23 : decode cX5_namedOnes 23 = .ok (.iaload, 1) := dk_46 (dk_at dksX5_namedOnes_0 23 rfl rfl)
theorem dX5_namedOnes_24 : decode cX5_namedOnes 24 = .ok (.iconst (-1), 1) := dk_2 (dk_at dksX5_namedOnes_1 0 rfl rfl)
theorem dX5_namedOnes_25 : decode cX5_namedOnes 25 = .ok (.if_icmp .ne 7, 3) := dk_160 0 7 (dk_at dksX5_namedOnes_1 1 rfl rfl)
theorem dX5_namedOnes_28 : decode cX5_namedOnes 28 = .ok (.iconst 0, 1) := dk_3 (dk_at dksX5_namedOnes_1 4 rfl rfl)
theorem dX5_namedOnes_29 : decode cX5_namedOnes 29 = .ok (.goto 4, 3) := dk_167 0 4 (dk_at dksX5_namedOnes_1 5 rfl rfl)
theorem dX5_namedOnes_32 : decode cX5_namedOnes 32 = .ok (.iconst 1, 1) := dk_4 (dk_at dksX5_namedOnes_1 8 rfl rfl)
theorem dX5_namedOnes_33 : decode cX5_namedOnes 33 = .ok (.iadd, 1) := dk_96 (dk_at dksX5_namedOnes_1 9 rfl rfl)
theorem dX5_namedOnes_34 : decode cX5_namedOnes 34 = .ok (.istore_n 1, 1) := dk_60 (dk_at dksX5_namedOnes_1 10 rfl rfl)
theorem dX5_namedOnes_35 : decode cX5_namedOnes 35 = .ok (.iinc 2 1, 3) := dk_132 2 1 (dk_at dksX5_namedOnes_1 11 rfl rfl)
theorem dX5_namedOnes_38 : decode cX5_namedOnes 38 = .ok (.goto (-34), 3) := dk_167 255 222 (dk_at dksX5_namedOnes_1 14 rfl rfl)
theorem dX5_namedOnes_41 : decode cX5_namedOnes 41 = .ok (.iload_n 1, 1) := dk_27 (dk_at dksX5_namedOnes_1 17 rfl rfl)
theorem dX5_namedOnes_42 : decode cX5_namedOnes 42 = .ok (.ireturn, 1) := dk_172 (dk_at dksX5_namedOnes_1 18 rfl rfl)
abbrev cX5_sumOf : ByteArray := prog_22_method_116_code
def yX5_sumOf : MethodName := ⟨RX5, "sumOf", "(I)I"⟩
def dkwX5_sumOf_2 : List UInt8 := [182, 1, 151, 42, 3, 181, 1, 60, 42, 42, 180, 1, 134, 181, 2, 10, 42, 180, 1, 148, 136, 172]
abbrev dktX5_sumOf_2 : List UInt8 := dkwX5_sumOf_2 ++ []
def dkwX5_sumOf_1 : List UInt8 := [2, 172, 42, 4, 181, 1, 60, 42, 42, 180, 0, 144, 27, 46, 42, 180, 0, 144, 27, 4, 96, 46]
abbrev dktX5_sumOf_1 : List UInt8 := dkwX5_sumOf_1 ++ dktX5_sumOf_2
def dkwX5_sumOf_0 : List UInt8 := [42, 180, 2, 10, 154, 0, 20, 42, 180, 0, 144, 27, 46, 42, 180, 0, 144, 27, 4, 96, 46, 160, 0, 5]
abbrev dktX5_sumOf_0 : List UInt8 := dkwX5_sumOf_0 ++ dktX5_sumOf_1
theorem dksX5_sumOf_0 : cX5_sumOf.data.toList.drop 0 = dktX5_sumOf_0 := by decide +kernel
theorem dksX5_sumOf_1 : cX5_sumOf.data.toList.drop 24 = dktX5_sumOf_1 := dk_seg dksX5_sumOf_0 24 rfl rfl
theorem dksX5_sumOf_2 : cX5_sumOf.data.toList.drop 46 = dktX5_sumOf_2 := dk_seg dksX5_sumOf_1 22 rfl rfl
theorem dX5_sumOf_0 : decode cX5_sumOf 0 = .ok (.aload_n 0, 1) := dk_42 (dk_at dksX5_sumOf_0 0 rfl rfl)
theorem dX5_sumOf_1 : decode cX5_sumOf 1 = .ok (.getfield 522, 3) := dk_180 2 10 (dk_at dksX5_sumOf_0 1 rfl rfl)
theorem dX5_sumOf_4 : decode cX5_sumOf 4 = .ok (.ifCond .ne 20, 3) := dk_154 0 20 (dk_at dksX5_sumOf_0 4 rfl rfl)
theorem dX5_sumOf_7 : decode cX5_sumOf 7 = .ok (.aload_n 0, 1) := dk_42 (dk_at dksX5_sumOf_0 7 rfl rfl)
theorem dX5_sumOf_8 : decode cX5_sumOf 8 = .ok (.getfield 144, 3) := dk_180 0 144 (dk_at dksX5_sumOf_0 8 rfl rfl)
theorem dX5_sumOf_11 : decode cX5_sumOf 11 = .ok (.iload_n 1, 1) := dk_27 (dk_at dksX5_sumOf_0 11 rfl rfl)
theorem dX5_sumOf_12 : decode cX5_sumOf 12 = .ok (.iaload, 1) := dk_46 (dk_at dksX5_sumOf_0 12 rfl rfl)
theorem dX5_sumOf_13 : decode cX5_sumOf 13 = .ok (.aload_n 0, 1) := dk_42 (dk_at dksX5_sumOf_0 13 rfl rfl)
theorem dX5_sumOf_14 : decode cX5_sumOf 14 = .ok (.getfield 144, 3) := dk_180 0 144 (dk_at dksX5_sumOf_0 14 rfl rfl)
theorem dX5_sumOf_17 : decode cX5_sumOf 17 = .ok (.iload_n 1, 1) := dk_27 (dk_at dksX5_sumOf_0 17 rfl rfl)
theorem dX5_sumOf_18 : decode cX5_sumOf 18 = .ok (.iconst 1, 1) := dk_4 (dk_at dksX5_sumOf_0 18 rfl rfl)
theorem dX5_sumOf_19 : decode cX5_sumOf 19 = .ok (.iadd, 1) := dk_96 (dk_at dksX5_sumOf_0 19 rfl rfl)
theorem dX5_sumOf_20 : decode cX5_sumOf 20 = .ok (.iaload, 1) := dk_46 (dk_at dksX5_sumOf_0 20 rfl rfl)
theorem dX5_sumOf_21 : decode cX5_sumOf 21 = .ok (.if_icmp .ne 5, 3) := dk_160 0 5 (dk_at dksX5_sumOf_0 21 rfl rfl)
theorem dX5_sumOf_24 : decode cX5_sumOf 24 = .ok (.iconst (-1), 1) := dk_2 (dk_at dksX5_sumOf_1 0 rfl rfl)
theorem dX5_sumOf_25 : decode cX5_sumOf 25 = .ok (.ireturn, 1) := dk_172 (dk_at dksX5_sumOf_1 1 rfl rfl)
theorem dX5_sumOf_26 : decode cX5_sumOf 26 = .ok (.aload_n 0, 1) := dk_42 (dk_at dksX5_sumOf_1 2 rfl rfl)
theorem dX5_sumOf_27 : decode cX5_sumOf 27 = .ok (.iconst 1, 1) := dk_4 (dk_at dksX5_sumOf_1 3 rfl rfl)
theorem dX5_sumOf_28 : decode cX5_sumOf 28 = .ok (.putfield 316, 3) := dk_181 1 60 (dk_at dksX5_sumOf_1 4 rfl rfl)
theorem dX5_sumOf_31 : decode cX5_sumOf 31 = .ok (.aload_n 0, 1) := dk_42 (dk_at dksX5_sumOf_1 7 rfl rfl)
theorem dX5_sumOf_32 : decode cX5_sumOf 32 = .ok (.aload_n 0, 1) := dk_42 (dk_at dksX5_sumOf_1 8 rfl rfl)
theorem dX5_sumOf_33 : decode cX5_sumOf 33 = .ok (.getfield 144, 3) := dk_180 0 144 (dk_at dksX5_sumOf_1 9 rfl rfl)
theorem dX5_sumOf_36 : decode cX5_sumOf 36 = .ok (.iload_n 1, 1) := dk_27 (dk_at dksX5_sumOf_1 12 rfl rfl)
theorem dX5_sumOf_37 : decode cX5_sumOf 37 = .ok (.iaload, 1) := dk_46 (dk_at dksX5_sumOf_1 13 rfl rfl)
theorem dX5_sumOf_38 : decode cX5_sumOf 38 = .ok (.aload_n 0, 1) := dk_42 (dk_at dksX5_sumOf_1 14 rfl rfl)
theorem dX5_sumOf_39 : decode cX5_sumOf 39 = .ok (.getfield 144, 3) := dk_180 0 144 (dk_at dksX5_sumOf_1 15 rfl rfl)
theorem dX5_sumOf_42 : decode cX5_sumOf 42 = .ok (.iload_n 1, 1) := dk_27 (dk_at dksX5_sumOf_1 18 rfl rfl)
theorem dX5_sumOf_43 : decode cX5_sumOf 43 = .ok (.iconst 1, 1) := dk_4 (dk_at dksX5_sumOf_1 19 rfl rfl)
theorem dX5_sumOf_44 : decode cX5_sumOf 44 = .ok (.iadd, 1) := dk_96 (dk_at dksX5_sumOf_1 20 rfl rfl)
theorem dX5_sumOf_45 : decode cX5_sumOf 45 = .ok (.iaload, 1) := dk_46 (dk_at dksX5_sumOf_1 21 rfl rfl)
theorem dX5_sumOf_46 : decode cX5_sumOf 46 = .ok (.invokevirtual 407, 3) := dk_182 1 151 (dk_at dksX5_sumOf_2 0 rfl rfl)
theorem dX5_sumOf_49 : decode cX5_sumOf 49 = .ok (.aload_n 0, 1) := dk_42 (dk_at dksX5_sumOf_2 3 rfl rfl)
theorem dX5_sumOf_50 : decode cX5_sumOf 50 = .ok (.iconst 0, 1) := dk_3 (dk_at dksX5_sumOf_2 4 rfl rfl)
theorem dX5_sumOf_51 : decode cX5_sumOf 51 = .ok (.putfield 316, 3) := dk_181 1 60 (dk_at dksX5_sumOf_2 5 rfl rfl)
theorem dX5_sumOf_54 : decode cX5_sumOf 54 = .ok (.aload_n 0, 1) := dk_42 (dk_at dksX5_sumOf_2 8 rfl rfl)
theorem dX5_sumOf_55 : decode cX5_sumOf 55 = .ok (.aload_n 0, 1) := dk_42 (dk_at dksX5_sumOf_2 9 rfl rfl)
theorem dX5_sumOf_56 : decode cX5_sumOf 56 = .ok (.getfield 390, 3) := dk_180 1 134 (dk_at dksX5_sumOf_2 10 rfl rfl)
theorem dX5_sumOf_59 : decode cX5_sumOf 59 = .ok (.putfield 522, 3) := dk_181 2 10 (dk_at dksX5_sumOf_2 13 rfl rfl)
theorem dX5_sumOf_62 : decode cX5_sumOf 62 = .ok (.aload_n 0, 1) := dk_42 (dk_at dksX5_sumOf_2 16 rfl rfl)
theorem dX5_sumOf_63 : decode cX5_sumOf 63 = .ok (.getfield 404, 3) := dk_180 1 148 (dk_at dksX5_sumOf_2 17 rfl rfl)
theorem dX5_sumOf_66 : decode cX5_sumOf 66 = .ok (.l2i, 1) := dk_136 (dk_at dksX5_sumOf_2 20 rfl rfl)
theorem dX5_sumOf_67 : decode cX5_sumOf 67 = .ok (.ireturn, 1) := dk_172 (dk_at dksX5_sumOf_2 21 rfl rfl)
abbrev cX5_act : ByteArray := prog_22_method_117_code
def yX5_act : MethodName := ⟨RX5, "act", "(III)I"⟩
def dkwX5_act_2 : List UInt8 := [42, 28, 182, 1, 183, 172, 42, 28, 182, 1, 189, 172, 42, 28, 29, 182, 1, 192, 172, 42, 182, 1, 198, 172]
abbrev dktX5_act_2 : List UInt8 := dkwX5_act_2 ++ []
def dkwX5_act_1 : List UInt8 := [170, 0, 0, 0, 0, 0, 46, 0, 0, 0, 0, 0, 0, 0, 2, 0, 0, 0, 27, 0, 0, 0, 33, 0, 0, 0, 39]
abbrev dktX5_act_1 : List UInt8 := dkwX5_act_1 ++ dktX5_act_2
def dkwX5_act_0 : List UInt8 := [27]
abbrev dktX5_act_0 : List UInt8 := dkwX5_act_0 ++ dktX5_act_1
theorem dksX5_act_0 : cX5_act.data.toList.drop 0 = dktX5_act_0 := by decide +kernel
theorem dksX5_act_1 : cX5_act.data.toList.drop 1 = dktX5_act_1 := dk_seg dksX5_act_0 1 rfl rfl
theorem dksX5_act_2 : cX5_act.data.toList.drop 28 = dktX5_act_2 := dk_seg dksX5_act_1 27 rfl rfl
theorem dX5_act_0 : decode cX5_act 0 = .ok (.iload_n 1, 1) := dk_27 (dk_at dksX5_act_0 0 rfl rfl)
theorem dX5_act_1 : decode cX5_act 1 = .ok (.tableswitch 46 0 2 #[27, 33, 39], 27) := by decide +kernel
theorem dX5_act_28 : decode cX5_act 28 = .ok (.aload_n 0, 1) := dk_42 (dk_at dksX5_act_2 0 rfl rfl)
theorem dX5_act_29 : decode cX5_act 29 = .ok (.iload_n 2, 1) := dk_28 (dk_at dksX5_act_2 1 rfl rfl)
theorem dX5_act_30 : decode cX5_act 30 = .ok (.invokevirtual 439, 3) := dk_182 1 183 (dk_at dksX5_act_2 2 rfl rfl)
theorem dX5_act_33 : decode cX5_act 33 = .ok (.ireturn, 1) := dk_172 (dk_at dksX5_act_2 5 rfl rfl)
theorem dX5_act_34 : decode cX5_act 34 = .ok (.aload_n 0, 1) := dk_42 (dk_at dksX5_act_2 6 rfl rfl)
theorem dX5_act_35 : decode cX5_act 35 = .ok (.iload_n 2, 1) := dk_28 (dk_at dksX5_act_2 7 rfl rfl)
theorem dX5_act_36 : decode cX5_act 36 = .ok (.invokevirtual 445, 3) := dk_182 1 189 (dk_at dksX5_act_2 8 rfl rfl)
theorem dX5_act_39 : decode cX5_act 39 = .ok (.ireturn, 1) := dk_172 (dk_at dksX5_act_2 11 rfl rfl)
theorem dX5_act_40 : decode cX5_act 40 = .ok (.aload_n 0, 1) := dk_42 (dk_at dksX5_act_2 12 rfl rfl)
theorem dX5_act_41 : decode cX5_act 41 = .ok (.iload_n 2, 1) := dk_28 (dk_at dksX5_act_2 13 rfl rfl)
theorem dX5_act_42 : decode cX5_act 42 = .ok (.iload_n 3, 1) := dk_29 (dk_at dksX5_act_2 14 rfl rfl)
theorem dX5_act_43 : decode cX5_act 43 = .ok (.invokevirtual 448, 3) := dk_182 1 192 (dk_at dksX5_act_2 15 rfl rfl)
theorem dX5_act_46 : decode cX5_act 46 = .ok (.ireturn, 1) := dk_172 (dk_at dksX5_act_2 18 rfl rfl)
theorem dX5_act_47 : decode cX5_act 47 = .ok (.aload_n 0, 1) := dk_42 (dk_at dksX5_act_2 19 rfl rfl)
theorem dX5_act_48 : decode cX5_act 48 = .ok (.invokevirtual 454, 3) := dk_182 1 198 (dk_at dksX5_act_2 20 rfl rfl)
theorem dX5_act_51 : decode cX5_act 51 = .ok (.ireturn, 1) := dk_172 (dk_at dksX5_act_2 23 rfl rfl)
abbrev cX5_giveBack : ByteArray := prog_22_method_120_code
def yX5_giveBack : MethodName := ⟨RX5, "giveBack", "(I)V"⟩
def dkwX5_giveBack_2 : List UInt8 := [180, 0, 32, 28, 46, 79, 132, 2, 1, 167, 255, 235, 42, 27, 181, 0, 165, 177]
abbrev dktX5_giveBack_2 : List UInt8 := dkwX5_giveBack_2 ++ []
def dkwX5_giveBack_1 : List UInt8 := [28, 46, 79, 132, 2, 1, 167, 255, 234, 3, 61, 28, 16, 16, 162, 0, 21, 42, 180, 0, 26, 28, 42]
abbrev dktX5_giveBack_1 : List UInt8 := dkwX5_giveBack_1 ++ dktX5_giveBack_2
def dkwX5_giveBack_0 : List UInt8 := [42, 16, 17, 182, 0, 176, 3, 61, 28, 17, 1, 80, 162, 0, 21, 42, 180, 0, 23, 28, 42, 180, 0, 29]
abbrev dktX5_giveBack_0 : List UInt8 := dkwX5_giveBack_0 ++ dktX5_giveBack_1
theorem dksX5_giveBack_0 : cX5_giveBack.data.toList.drop 0 = dktX5_giveBack_0 := by decide +kernel
theorem dksX5_giveBack_1 : cX5_giveBack.data.toList.drop 24 = dktX5_giveBack_1 := dk_seg dksX5_giveBack_0 24 rfl rfl
theorem dksX5_giveBack_2 : cX5_giveBack.data.toList.drop 47 = dktX5_giveBack_2 := dk_seg dksX5_giveBack_1 23 rfl rfl
theorem dX5_giveBack_0 : decode cX5_giveBack 0 = .ok (.aload_n 0, 1) := dk_42 (dk_at dksX5_giveBack_0 0 rfl rfl)
theorem dX5_giveBack_1 : decode cX5_giveBack 1 = .ok (.bipush 17, 2) := dk_16 17 (dk_at dksX5_giveBack_0 1 rfl rfl)
theorem dX5_giveBack_3 : decode cX5_giveBack 3 = .ok (.invokevirtual 176, 3) := dk_182 0 176 (dk_at dksX5_giveBack_0 3 rfl rfl)
theorem dX5_giveBack_6 : decode cX5_giveBack 6 = .ok (.iconst 0, 1) := dk_3 (dk_at dksX5_giveBack_0 6 rfl rfl)
theorem dX5_giveBack_7 : decode cX5_giveBack 7 = .ok (.istore_n 2, 1) := dk_61 (dk_at dksX5_giveBack_0 7 rfl rfl)
theorem dX5_giveBack_8 : decode cX5_giveBack 8 = .ok (.iload_n 2, 1) := dk_28 (dk_at dksX5_giveBack_0 8 rfl rfl)
theorem dX5_giveBack_9 : decode cX5_giveBack 9 = .ok (.sipush 336, 3) := dk_17 1 80 (dk_at dksX5_giveBack_0 9 rfl rfl)
theorem dX5_giveBack_12 : decode cX5_giveBack 12 = .ok (.if_icmp .ge 21, 3) := dk_162 0 21 (dk_at dksX5_giveBack_0 12 rfl rfl)
theorem dX5_giveBack_15 : decode cX5_giveBack 15 = .ok (.aload_n 0, 1) := dk_42 (dk_at dksX5_giveBack_0 15 rfl rfl)
theorem dX5_giveBack_16 : decode cX5_giveBack 16 = .ok (.getfield 23, 3) := dk_180 0 23 (dk_at dksX5_giveBack_0 16 rfl rfl)
theorem dX5_giveBack_19 : decode cX5_giveBack 19 = .ok (.iload_n 2, 1) := dk_28 (dk_at dksX5_giveBack_0 19 rfl rfl)
theorem dX5_giveBack_20 : decode cX5_giveBack 20 = .ok (.aload_n 0, 1) := dk_42 (dk_at dksX5_giveBack_0 20 rfl rfl)
theorem dX5_giveBack_21 : decode cX5_giveBack 21 = .ok (.getfield 29, 3) := dk_180 0 29 (dk_at dksX5_giveBack_0 21 rfl rfl)
theorem dX5_giveBack_24 : decode cX5_giveBack 24 = .ok (.iload_n 2, 1) := dk_28 (dk_at dksX5_giveBack_1 0 rfl rfl)
theorem dX5_giveBack_25 : decode cX5_giveBack 25 = .ok (.iaload, 1) := dk_46 (dk_at dksX5_giveBack_1 1 rfl rfl)
theorem dX5_giveBack_26 : decode cX5_giveBack 26 = .ok (.iastore, 1) := dk_79 (dk_at dksX5_giveBack_1 2 rfl rfl)
theorem dX5_giveBack_27 : decode cX5_giveBack 27 = .ok (.iinc 2 1, 3) := dk_132 2 1 (dk_at dksX5_giveBack_1 3 rfl rfl)
theorem dX5_giveBack_30 : decode cX5_giveBack 30 = .ok (.goto (-22), 3) := dk_167 255 234 (dk_at dksX5_giveBack_1 6 rfl rfl)
theorem dX5_giveBack_33 : decode cX5_giveBack 33 = .ok (.iconst 0, 1) := dk_3 (dk_at dksX5_giveBack_1 9 rfl rfl)
theorem dX5_giveBack_34 : decode cX5_giveBack 34 = .ok (.istore_n 2, 1) := dk_61 (dk_at dksX5_giveBack_1 10 rfl rfl)
theorem dX5_giveBack_35 : decode cX5_giveBack 35 = .ok (.iload_n 2, 1) := dk_28 (dk_at dksX5_giveBack_1 11 rfl rfl)
theorem dX5_giveBack_36 : decode cX5_giveBack 36 = .ok (.bipush 16, 2) := dk_16 16 (dk_at dksX5_giveBack_1 12 rfl rfl)
theorem dX5_giveBack_38 : decode cX5_giveBack 38 = .ok (.if_icmp .ge 21, 3) := dk_162 0 21 (dk_at dksX5_giveBack_1 14 rfl rfl)
theorem dX5_giveBack_41 : decode cX5_giveBack 41 = .ok (.aload_n 0, 1) := dk_42 (dk_at dksX5_giveBack_1 17 rfl rfl)
theorem dX5_giveBack_42 : decode cX5_giveBack 42 = .ok (.getfield 26, 3) := dk_180 0 26 (dk_at dksX5_giveBack_1 18 rfl rfl)
theorem dX5_giveBack_45 : decode cX5_giveBack 45 = .ok (.iload_n 2, 1) := dk_28 (dk_at dksX5_giveBack_1 21 rfl rfl)
theorem dX5_giveBack_46 : decode cX5_giveBack 46 = .ok (.aload_n 0, 1) := dk_42 (dk_at dksX5_giveBack_1 22 rfl rfl)
theorem dX5_giveBack_47 : decode cX5_giveBack 47 = .ok (.getfield 32, 3) := dk_180 0 32 (dk_at dksX5_giveBack_2 0 rfl rfl)
theorem dX5_giveBack_50 : decode cX5_giveBack 50 = .ok (.iload_n 2, 1) := dk_28 (dk_at dksX5_giveBack_2 3 rfl rfl)
theorem dX5_giveBack_51 : decode cX5_giveBack 51 = .ok (.iaload, 1) := dk_46 (dk_at dksX5_giveBack_2 4 rfl rfl)
theorem dX5_giveBack_52 : decode cX5_giveBack 52 = .ok (.iastore, 1) := dk_79 (dk_at dksX5_giveBack_2 5 rfl rfl)
theorem dX5_giveBack_53 : decode cX5_giveBack 53 = .ok (.iinc 2 1, 3) := dk_132 2 1 (dk_at dksX5_giveBack_2 6 rfl rfl)
theorem dX5_giveBack_56 : decode cX5_giveBack 56 = .ok (.goto (-21), 3) := dk_167 255 235 (dk_at dksX5_giveBack_2 9 rfl rfl)
theorem dX5_giveBack_59 : decode cX5_giveBack 59 = .ok (.aload_n 0, 1) := dk_42 (dk_at dksX5_giveBack_2 12 rfl rfl)
theorem dX5_giveBack_60 : decode cX5_giveBack 60 = .ok (.iload_n 1, 1) := dk_27 (dk_at dksX5_giveBack_2 13 rfl rfl)
theorem dX5_giveBack_61 : decode cX5_giveBack 61 = .ok (.putfield 165, 3) := dk_181 0 165 (dk_at dksX5_giveBack_2 14 rfl rfl)
theorem dX5_giveBack_64 : decode cX5_giveBack 64 = .ok (.return_, 1) := dk_177 (dk_at dksX5_giveBack_2 17 rfl rfl)
abbrev cX5_stopped : ByteArray := prog_22_method_121_code
def yX5_stopped : MethodName := ⟨RX5, "stopped", "()I"⟩
def dkwX5_stopped_0 : List UInt8 := [42, 3, 181, 0, 159, 42, 180, 0, 147, 172]
abbrev dktX5_stopped_0 : List UInt8 := dkwX5_stopped_0 ++ []
theorem dksX5_stopped_0 : cX5_stopped.data.toList.drop 0 = dktX5_stopped_0 := by decide +kernel
theorem dX5_stopped_0 : decode cX5_stopped 0 = .ok (.aload_n 0, 1) := dk_42 (dk_at dksX5_stopped_0 0 rfl rfl)
theorem dX5_stopped_1 : decode cX5_stopped 1 = .ok (.iconst 0, 1) := dk_3 (dk_at dksX5_stopped_0 1 rfl rfl)
theorem dX5_stopped_2 : decode cX5_stopped 2 = .ok (.putfield 159, 3) := dk_181 0 159 (dk_at dksX5_stopped_0 2 rfl rfl)
theorem dX5_stopped_5 : decode cX5_stopped 5 = .ok (.aload_n 0, 1) := dk_42 (dk_at dksX5_stopped_0 5 rfl rfl)
theorem dX5_stopped_6 : decode cX5_stopped 6 = .ok (.getfield 147, 3) := dk_180 0 147 (dk_at dksX5_stopped_0 6 rfl rfl)
theorem dX5_stopped_9 : decode cX5_stopped 9 = .ok (.ireturn, 1) := dk_172 (dk_at dksX5_stopped_0 9 rfl rfl)
abbrev cX5_decades : ByteArray := prog_22_method_123_code
def yX5_decades : MethodName := ⟨RX5, "decades", "(II)I"⟩
def dkwX5_decades_10 : List UInt8 := [42, 29, 182, 0, 168, 172]
abbrev dktX5_decades_10 : List UInt8 := dkwX5_decades_10 ++ []
def dkwX5_decades_9 : List UInt8 := [181, 0, 153, 42, 42, 180, 0, 13, 4, 46, 181, 0, 156, 42, 182, 2, 19, 62, 42, 16, 16, 182, 0, 176]
abbrev dktX5_decades_9 : List UInt8 := dkwX5_decades_9 ++ dktX5_decades_10
def dkwX5_decades_8 : List UInt8 := [29, 42, 180, 0, 13, 8, 29, 96, 46, 79, 132, 3, 1, 167, 255, 233, 42, 42, 180, 0, 13, 3, 46]
abbrev dktX5_decades_8 : List UInt8 := dkwX5_decades_8 ++ dktX5_decades_9
def dkwX5_decades_7 : List UInt8 := [79, 42, 182, 1, 195, 87, 132, 3, 1, 167, 255, 146, 3, 62, 29, 16, 21, 162, 0, 23, 42, 180, 0, 150]
abbrev dktX5_decades_7 : List UInt8 := dkwX5_decades_7 ++ dktX5_decades_8
def dkwX5_decades_6 : List UInt8 := [21, 4, 96, 21, 6, 5, 160, 0, 8, 21, 5, 167, 0, 13, 42, 180, 0, 13, 16, 18, 21, 4, 96, 46]
abbrev dktX5_decades_6 : List UInt8 := dkwX5_decades_6 ++ dktX5_decades_7
def dkwX5_decades_5 : List UInt8 := [16, 22, 21, 4, 96, 46, 2, 159, 0, 10, 42, 21, 4, 182, 1, 186, 87, 42, 180, 0, 13, 16, 18]
abbrev dktX5_decades_5 : List UInt8 := dkwX5_decades_5 ++ dktX5_decades_6
def dkwX5_decades_4 : List UInt8 := [16, 8, 182, 2, 47, 54, 5, 42, 7, 182, 2, 47, 54, 6, 21, 6, 5, 162, 0, 24, 42, 180, 0, 13]
abbrev dktX5_decades_4 : List UInt8 := dkwX5_decades_4 ++ dktX5_decades_5
def dkwX5_decades_3 : List UInt8 := [180, 0, 13, 8, 46, 17, 3, 231, 162, 0, 99, 42, 42, 180, 0, 13, 4, 46, 182, 2, 47, 54, 4, 42]
abbrev dktX5_decades_3 : List UInt8 := dkwX5_decades_3 ++ dktX5_decades_4
def dkwX5_decades_2 : List UInt8 := [182, 0, 168, 172, 42, 16, 16, 182, 0, 172, 42, 27, 133, 181, 2, 38, 3, 62, 29, 28, 162, 0, 111, 42]
abbrev dktX5_decades_2 : List UInt8 := dkwX5_decades_2 ++ dktX5_decades_3
def dkwX5_decades_1 : List UInt8 := [184, 0, 179, 154, 0, 9, 42, 2, 182, 0, 168, 172, 42, 180, 0, 13, 4, 46, 154, 0, 10, 42, 16, 253]
abbrev dktX5_decades_1 : List UInt8 := dkwX5_decades_1 ++ dktX5_decades_2
def dkwX5_decades_0 : List UInt8 := [42, 3, 181, 0, 159, 27, 133, 9, 20, 1, 12, 184, 0, 179, 153, 0, 15, 28, 133, 10, 20, 1, 201]
abbrev dktX5_decades_0 : List UInt8 := dkwX5_decades_0 ++ dktX5_decades_1
theorem dksX5_decades_0 : cX5_decades.data.toList.drop 0 = dktX5_decades_0 := by decide +kernel
theorem dksX5_decades_1 : cX5_decades.data.toList.drop 23 = dktX5_decades_1 := dk_seg dksX5_decades_0 23 rfl rfl
theorem dksX5_decades_2 : cX5_decades.data.toList.drop 47 = dktX5_decades_2 := dk_seg dksX5_decades_1 24 rfl rfl
theorem dksX5_decades_3 : cX5_decades.data.toList.drop 71 = dktX5_decades_3 := dk_seg dksX5_decades_2 24 rfl rfl
theorem dksX5_decades_4 : cX5_decades.data.toList.drop 95 = dktX5_decades_4 := dk_seg dksX5_decades_3 24 rfl rfl
theorem dksX5_decades_5 : cX5_decades.data.toList.drop 119 = dktX5_decades_5 := dk_seg dksX5_decades_4 24 rfl rfl
theorem dksX5_decades_6 : cX5_decades.data.toList.drop 142 = dktX5_decades_6 := dk_seg dksX5_decades_5 23 rfl rfl
theorem dksX5_decades_7 : cX5_decades.data.toList.drop 166 = dktX5_decades_7 := dk_seg dksX5_decades_6 24 rfl rfl
theorem dksX5_decades_8 : cX5_decades.data.toList.drop 190 = dktX5_decades_8 := dk_seg dksX5_decades_7 24 rfl rfl
theorem dksX5_decades_9 : cX5_decades.data.toList.drop 213 = dktX5_decades_9 := dk_seg dksX5_decades_8 23 rfl rfl
theorem dksX5_decades_10 : cX5_decades.data.toList.drop 237 = dktX5_decades_10 := dk_seg dksX5_decades_9 24 rfl rfl
theorem dX5_decades_0 : decode cX5_decades 0 = .ok (.aload_n 0, 1) := dk_42 (dk_at dksX5_decades_0 0 rfl rfl)
theorem dX5_decades_1 : decode cX5_decades 1 = .ok (.iconst 0, 1) := dk_3 (dk_at dksX5_decades_0 1 rfl rfl)
theorem dX5_decades_2 : decode cX5_decades 2 = .ok (.putfield 159, 3) := dk_181 0 159 (dk_at dksX5_decades_0 2 rfl rfl)
theorem dX5_decades_5 : decode cX5_decades 5 = .ok (.iload_n 1, 1) := dk_27 (dk_at dksX5_decades_0 5 rfl rfl)
theorem dX5_decades_6 : decode cX5_decades 6 = .ok (.i2l, 1) := dk_133 (dk_at dksX5_decades_0 6 rfl rfl)
theorem dX5_decades_7 : decode cX5_decades 7 = .ok (.lconst 0, 1) := dk_9 (dk_at dksX5_decades_0 7 rfl rfl)
theorem dX5_decades_8 : decode cX5_decades 8 = .ok (.ldc2_w 268, 3) := dk_20 1 12 (dk_at dksX5_decades_0 8 rfl rfl)
theorem dX5_decades_11 : decode cX5_decades 11 = .ok (.invokestatic 179, 3) := dk_184 0 179 (dk_at dksX5_decades_0 11 rfl rfl)
theorem dX5_decades_14 : decode cX5_decades 14 = .ok (.ifCond .eq 15, 3) := dk_153 0 15 (dk_at dksX5_decades_0 14 rfl rfl)
theorem dX5_decades_17 : decode cX5_decades 17 = .ok (.iload_n 2, 1) := dk_28 (dk_at dksX5_decades_0 17 rfl rfl)
theorem dX5_decades_18 : decode cX5_decades 18 = .ok (.i2l, 1) := dk_133 (dk_at dksX5_decades_0 18 rfl rfl)
theorem dX5_decades_19 : decode cX5_decades 19 = .ok (.lconst 1, 1) := dk_10 (dk_at dksX5_decades_0 19 rfl rfl)
theorem dX5_decades_20 : decode cX5_decades 20 = .ok (.ldc2_w 457, 3) := dk_20 1 201 (dk_at dksX5_decades_0 20 rfl rfl)
theorem dX5_decades_23 : decode cX5_decades 23 = .ok (.invokestatic 179, 3) := dk_184 0 179 (dk_at dksX5_decades_1 0 rfl rfl)
theorem dX5_decades_26 : decode cX5_decades 26 = .ok (.ifCond .ne 9, 3) := dk_154 0 9 (dk_at dksX5_decades_1 3 rfl rfl)
theorem dX5_decades_29 : decode cX5_decades 29 = .ok (.aload_n 0, 1) := dk_42 (dk_at dksX5_decades_1 6 rfl rfl)
theorem dX5_decades_30 : decode cX5_decades 30 = .ok (.iconst (-1), 1) := dk_2 (dk_at dksX5_decades_1 7 rfl rfl)
theorem dX5_decades_31 : decode cX5_decades 31 = .ok (.invokevirtual 168, 3) := dk_182 0 168 (dk_at dksX5_decades_1 8 rfl rfl)
theorem dX5_decades_34 : decode cX5_decades 34 = .ok (.ireturn, 1) := dk_172 (dk_at dksX5_decades_1 11 rfl rfl)
theorem dX5_decades_35 : decode cX5_decades 35 = .ok (.aload_n 0, 1) := dk_42 (dk_at dksX5_decades_1 12 rfl rfl)
theorem dX5_decades_36 : decode cX5_decades 36 = .ok (.getfield 13, 3) := dk_180 0 13 (dk_at dksX5_decades_1 13 rfl rfl)
theorem dX5_decades_39 : decode cX5_decades 39 = .ok (.iconst 1, 1) := dk_4 (dk_at dksX5_decades_1 16 rfl rfl)
theorem dX5_decades_40 : decode cX5_decades 40 = .ok (.iaload, 1) := dk_46 (dk_at dksX5_decades_1 17 rfl rfl)
theorem dX5_decades_41 : decode cX5_decades 41 = .ok (.ifCond .ne 10, 3) := dk_154 0 10 (dk_at dksX5_decades_1 18 rfl rfl)
theorem dX5_decades_44 : decode cX5_decades 44 = .ok (.aload_n 0, 1) := dk_42 (dk_at dksX5_decades_1 21 rfl rfl)
theorem dX5_decades_45 : decode cX5_decades 45 = .ok (.bipush (-3), 2) := dk_16 253 (dk_at dksX5_decades_1 22 rfl rfl)
theorem dX5_decades_47 : decode cX5_decades 47 = .ok (.invokevirtual 168, 3) := dk_182 0 168 (dk_at dksX5_decades_2 0 rfl rfl)
theorem dX5_decades_50 : decode cX5_decades 50 = .ok (.ireturn, 1) := dk_172 (dk_at dksX5_decades_2 3 rfl rfl)
theorem dX5_decades_51 : decode cX5_decades 51 = .ok (.aload_n 0, 1) := dk_42 (dk_at dksX5_decades_2 4 rfl rfl)
theorem dX5_decades_52 : decode cX5_decades 52 = .ok (.bipush 16, 2) := dk_16 16 (dk_at dksX5_decades_2 5 rfl rfl)
theorem dX5_decades_54 : decode cX5_decades 54 = .ok (.invokevirtual 172, 3) := dk_182 0 172 (dk_at dksX5_decades_2 7 rfl rfl)
theorem dX5_decades_57 : decode cX5_decades 57 = .ok (.aload_n 0, 1) := dk_42 (dk_at dksX5_decades_2 10 rfl rfl)
theorem dX5_decades_58 : decode cX5_decades 58 = .ok (.iload_n 1, 1) := dk_27 (dk_at dksX5_decades_2 11 rfl rfl)
theorem dX5_decades_59 : decode cX5_decades 59 = .ok (.i2l, 1) := dk_133 (dk_at dksX5_decades_2 12 rfl rfl)
theorem dX5_decades_60 : decode cX5_decades 60 = .ok (.putfield 550, 3) := dk_181 2 38 (dk_at dksX5_decades_2 13 rfl rfl)
theorem dX5_decades_63 : decode cX5_decades 63 = .ok (.iconst 0, 1) := dk_3 (dk_at dksX5_decades_2 16 rfl rfl)
theorem dX5_decades_64 : decode cX5_decades 64 = .ok (.istore_n 3, 1) := dk_62 (dk_at dksX5_decades_2 17 rfl rfl)
theorem dX5_decades_65 : decode cX5_decades 65 = .ok (.iload_n 3, 1) := dk_29 (dk_at dksX5_decades_2 18 rfl rfl)
theorem dX5_decades_66 : decode cX5_decades 66 = .ok (.iload_n 2, 1) := dk_28 (dk_at dksX5_decades_2 19 rfl rfl)
theorem dX5_decades_67 : decode cX5_decades 67 = .ok (.if_icmp .ge 111, 3) := dk_162 0 111 (dk_at dksX5_decades_2 20 rfl rfl)
theorem dX5_decades_70 : decode cX5_decades 70 = .ok (.aload_n 0, 1) := dk_42 (dk_at dksX5_decades_2 23 rfl rfl)
theorem dX5_decades_71 : decode cX5_decades 71 = .ok (.getfield 13, 3) := dk_180 0 13 (dk_at dksX5_decades_3 0 rfl rfl)
theorem dX5_decades_74 : decode cX5_decades 74 = .ok (.iconst 5, 1) := dk_8 (dk_at dksX5_decades_3 3 rfl rfl)
theorem dX5_decades_75 : decode cX5_decades 75 = .ok (.iaload, 1) := dk_46 (dk_at dksX5_decades_3 4 rfl rfl)
theorem dX5_decades_76 : decode cX5_decades 76 = .ok (.sipush 999, 3) := dk_17 3 231 (dk_at dksX5_decades_3 5 rfl rfl)
theorem dX5_decades_79 : decode cX5_decades 79 = .ok (.if_icmp .ge 99, 3) := dk_162 0 99 (dk_at dksX5_decades_3 8 rfl rfl)
theorem dX5_decades_82 : decode cX5_decades 82 = .ok (.aload_n 0, 1) := dk_42 (dk_at dksX5_decades_3 11 rfl rfl)
theorem dX5_decades_83 : decode cX5_decades 83 = .ok (.aload_n 0, 1) := dk_42 (dk_at dksX5_decades_3 12 rfl rfl)
theorem dX5_decades_84 : decode cX5_decades 84 = .ok (.getfield 13, 3) := dk_180 0 13 (dk_at dksX5_decades_3 13 rfl rfl)
theorem dX5_decades_87 : decode cX5_decades 87 = .ok (.iconst 1, 1) := dk_4 (dk_at dksX5_decades_3 16 rfl rfl)
theorem dX5_decades_88 : decode cX5_decades 88 = .ok (.iaload, 1) := dk_46 (dk_at dksX5_decades_3 17 rfl rfl)
theorem dX5_decades_89 : decode cX5_decades 89 = .ok (.invokevirtual 559, 3) := dk_182 2 47 (dk_at dksX5_decades_3 18 rfl rfl)
theorem dX5_decades_92 : decode cX5_decades 92 = .ok (.istore 4, 2) := dk_54 4 (dk_at dksX5_decades_3 21 rfl rfl)
theorem dX5_decades_94 : decode cX5_decades 94 = .ok (.aload_n 0, 1) := dk_42 (dk_at dksX5_decades_3 23 rfl rfl)
theorem dX5_decades_95 : decode cX5_decades 95 = .ok (.bipush 8, 2) := dk_16 8 (dk_at dksX5_decades_4 0 rfl rfl)
theorem dX5_decades_97 : decode cX5_decades 97 = .ok (.invokevirtual 559, 3) := dk_182 2 47 (dk_at dksX5_decades_4 2 rfl rfl)
theorem dX5_decades_100 : decode cX5_decades 100 = .ok (.istore 5, 2) := dk_54 5 (dk_at dksX5_decades_4 5 rfl rfl)
theorem dX5_decades_102 : decode cX5_decades 102 = .ok (.aload_n 0, 1) := dk_42 (dk_at dksX5_decades_4 7 rfl rfl)
theorem dX5_decades_103 : decode cX5_decades 103 = .ok (.iconst 4, 1) := dk_7 (dk_at dksX5_decades_4 8 rfl rfl)
theorem dX5_decades_104 : decode cX5_decades 104 = .ok (.invokevirtual 559, 3) := dk_182 2 47 (dk_at dksX5_decades_4 9 rfl rfl)
theorem dX5_decades_107 : decode cX5_decades 107 = .ok (.istore 6, 2) := dk_54 6 (dk_at dksX5_decades_4 12 rfl rfl)
theorem dX5_decades_109 : decode cX5_decades 109 = .ok (.iload 6, 2) := dk_21 6 (dk_at dksX5_decades_4 14 rfl rfl)
theorem dX5_decades_111 : decode cX5_decades 111 = .ok (.iconst 2, 1) := dk_5 (dk_at dksX5_decades_4 16 rfl rfl)
theorem dX5_decades_112 : decode cX5_decades 112 = .ok (.if_icmp .ge 24, 3) := dk_162 0 24 (dk_at dksX5_decades_4 17 rfl rfl)
theorem dX5_decades_115 : decode cX5_decades 115 = .ok (.aload_n 0, 1) := dk_42 (dk_at dksX5_decades_4 20 rfl rfl)
theorem dX5_decades_116 : decode cX5_decades 116 = .ok (.getfield 13, 3) := dk_180 0 13 (dk_at dksX5_decades_4 21 rfl rfl)
theorem dX5_decades_119 : decode cX5_decades 119 = .ok (.bipush 22, 2) := dk_16 22 (dk_at dksX5_decades_5 0 rfl rfl)
theorem dX5_decades_121 : decode cX5_decades 121 = .ok (.iload 4, 2) := dk_21 4 (dk_at dksX5_decades_5 2 rfl rfl)
theorem dX5_decades_123 : decode cX5_decades 123 = .ok (.iadd, 1) := dk_96 (dk_at dksX5_decades_5 4 rfl rfl)
theorem dX5_decades_124 : decode cX5_decades 124 = .ok (.iaload, 1) := dk_46 (dk_at dksX5_decades_5 5 rfl rfl)
theorem dX5_decades_125 : decode cX5_decades 125 = .ok (.iconst (-1), 1) := dk_2 (dk_at dksX5_decades_5 6 rfl rfl)
theorem dX5_decades_126 : decode cX5_decades 126 = .ok (.if_icmp .eq 10, 3) := dk_159 0 10 (dk_at dksX5_decades_5 7 rfl rfl)
theorem dX5_decades_129 : decode cX5_decades 129 = .ok (.aload_n 0, 1) := dk_42 (dk_at dksX5_decades_5 10 rfl rfl)
theorem dX5_decades_130 : decode cX5_decades 130 = .ok (.iload 4, 2) := dk_21 4 (dk_at dksX5_decades_5 11 rfl rfl)
theorem dX5_decades_132 : decode cX5_decades 132 = .ok (.invokevirtual 442, 3) := dk_182 1 186 (dk_at dksX5_decades_5 13 rfl rfl)
theorem dX5_decades_135 : decode cX5_decades 135 = .ok (.pop, 1) := dk_87 (dk_at dksX5_decades_5 16 rfl rfl)
theorem dX5_decades_136 : decode cX5_decades 136 = .ok (.aload_n 0, 1) := dk_42 (dk_at dksX5_decades_5 17 rfl rfl)
theorem dX5_decades_137 : decode cX5_decades 137 = .ok (.getfield 13, 3) := dk_180 0 13 (dk_at dksX5_decades_5 18 rfl rfl)
theorem dX5_decades_140 : decode cX5_decades 140 = .ok (.bipush 18, 2) := dk_16 18 (dk_at dksX5_decades_5 21 rfl rfl)
theorem dX5_decades_142 : decode cX5_decades 142 = .ok (.iload 4, 2) := dk_21 4 (dk_at dksX5_decades_6 0 rfl rfl)
theorem dX5_decades_144 : decode cX5_decades 144 = .ok (.iadd, 1) := dk_96 (dk_at dksX5_decades_6 2 rfl rfl)
theorem dX5_decades_145 : decode cX5_decades 145 = .ok (.iload 6, 2) := dk_21 6 (dk_at dksX5_decades_6 3 rfl rfl)
theorem dX5_decades_147 : decode cX5_decades 147 = .ok (.iconst 2, 1) := dk_5 (dk_at dksX5_decades_6 5 rfl rfl)
theorem dX5_decades_148 : decode cX5_decades 148 = .ok (.if_icmp .ne 8, 3) := dk_160 0 8 (dk_at dksX5_decades_6 6 rfl rfl)
theorem dX5_decades_151 : decode cX5_decades 151 = .ok (.iload 5, 2) := dk_21 5 (dk_at dksX5_decades_6 9 rfl rfl)
theorem dX5_decades_153 : decode cX5_decades 153 = .ok (.goto 13, 3) := dk_167 0 13 (dk_at dksX5_decades_6 11 rfl rfl)
theorem dX5_decades_156 : decode cX5_decades 156 = .ok (.aload_n 0, 1) := dk_42 (dk_at dksX5_decades_6 14 rfl rfl)
theorem dX5_decades_157 : decode cX5_decades 157 = .ok (.getfield 13, 3) := dk_180 0 13 (dk_at dksX5_decades_6 15 rfl rfl)
theorem dX5_decades_160 : decode cX5_decades 160 = .ok (.bipush 18, 2) := dk_16 18 (dk_at dksX5_decades_6 18 rfl rfl)
theorem dX5_decades_162 : decode cX5_decades 162 = .ok (.iload 4, 2) := dk_21 4 (dk_at dksX5_decades_6 20 rfl rfl)
theorem dX5_decades_164 : decode cX5_decades 164 = .ok (.iadd, 1) := dk_96 (dk_at dksX5_decades_6 22 rfl rfl)
theorem dX5_decades_165 : decode cX5_decades 165 = .ok (.iaload, 1) := dk_46 (dk_at dksX5_decades_6 23 rfl rfl)
theorem dX5_decades_166 : decode cX5_decades 166 = .ok (.iastore, 1) := dk_79 (dk_at dksX5_decades_7 0 rfl rfl)
theorem dX5_decades_167 : decode cX5_decades 167 = .ok (.aload_n 0, 1) := dk_42 (dk_at dksX5_decades_7 1 rfl rfl)
theorem dX5_decades_168 : decode cX5_decades 168 = .ok (.invokevirtual 451, 3) := dk_182 1 195 (dk_at dksX5_decades_7 2 rfl rfl)
theorem dX5_decades_171 : decode cX5_decades 171 = .ok (.pop, 1) := dk_87 (dk_at dksX5_decades_7 5 rfl rfl)
theorem dX5_decades_172 : decode cX5_decades 172 = .ok (.iinc 3 1, 3) := dk_132 3 1 (dk_at dksX5_decades_7 6 rfl rfl)
theorem dX5_decades_175 : decode cX5_decades 175 = .ok (.goto (-110), 3) := dk_167 255 146 (dk_at dksX5_decades_7 9 rfl rfl)
theorem dX5_decades_178 : decode cX5_decades 178 = .ok (.iconst 0, 1) := dk_3 (dk_at dksX5_decades_7 12 rfl rfl)
theorem dX5_decades_179 : decode cX5_decades 179 = .ok (.istore_n 3, 1) := dk_62 (dk_at dksX5_decades_7 13 rfl rfl)
theorem dX5_decades_180 : decode cX5_decades 180 = .ok (.iload_n 3, 1) := dk_29 (dk_at dksX5_decades_7 14 rfl rfl)
theorem dX5_decades_181 : decode cX5_decades 181 = .ok (.bipush 21, 2) := dk_16 21 (dk_at dksX5_decades_7 15 rfl rfl)
theorem dX5_decades_183 : decode cX5_decades 183 = .ok (.if_icmp .ge 23, 3) := dk_162 0 23 (dk_at dksX5_decades_7 17 rfl rfl)
theorem dX5_decades_186 : decode cX5_decades 186 = .ok (.aload_n 0, 1) := dk_42 (dk_at dksX5_decades_7 20 rfl rfl)
theorem dX5_decades_187 : decode cX5_decades 187 = .ok (.getfield 150, 3) := dk_180 0 150 (dk_at dksX5_decades_7 21 rfl rfl)
theorem dX5_decades_190 : decode cX5_decades 190 = .ok (.iload_n 3, 1) := dk_29 (dk_at dksX5_decades_8 0 rfl rfl)
theorem dX5_decades_191 : decode cX5_decades 191 = .ok (.aload_n 0, 1) := dk_42 (dk_at dksX5_decades_8 1 rfl rfl)
theorem dX5_decades_192 : decode cX5_decades 192 = .ok (.getfield 13, 3) := dk_180 0 13 (dk_at dksX5_decades_8 2 rfl rfl)
theorem dX5_decades_195 : decode cX5_decades 195 = .ok (.iconst 5, 1) := dk_8 (dk_at dksX5_decades_8 5 rfl rfl)
theorem dX5_decades_196 : decode cX5_decades 196 = .ok (.iload_n 3, 1) := dk_29 (dk_at dksX5_decades_8 6 rfl rfl)
theorem dX5_decades_197 : decode cX5_decades 197 = .ok (.iadd, 1) := dk_96 (dk_at dksX5_decades_8 7 rfl rfl)
theorem dX5_decades_198 : decode cX5_decades 198 = .ok (.iaload, 1) := dk_46 (dk_at dksX5_decades_8 8 rfl rfl)
theorem dX5_decades_199 : decode cX5_decades 199 = .ok (.iastore, 1) := dk_79 (dk_at dksX5_decades_8 9 rfl rfl)
theorem dX5_decades_200 : decode cX5_decades 200 = .ok (.iinc 3 1, 3) := dk_132 3 1 (dk_at dksX5_decades_8 10 rfl rfl)
theorem dX5_decades_203 : decode cX5_decades 203 = .ok (.goto (-23), 3) := dk_167 255 233 (dk_at dksX5_decades_8 13 rfl rfl)
theorem dX5_decades_206 : decode cX5_decades 206 = .ok (.aload_n 0, 1) := dk_42 (dk_at dksX5_decades_8 16 rfl rfl)
theorem dX5_decades_207 : decode cX5_decades 207 = .ok (.aload_n 0, 1) := dk_42 (dk_at dksX5_decades_8 17 rfl rfl)
theorem dX5_decades_208 : decode cX5_decades 208 = .ok (.getfield 13, 3) := dk_180 0 13 (dk_at dksX5_decades_8 18 rfl rfl)
theorem dX5_decades_211 : decode cX5_decades 211 = .ok (.iconst 0, 1) := dk_3 (dk_at dksX5_decades_8 21 rfl rfl)
theorem dX5_decades_212 : decode cX5_decades 212 = .ok (.iaload, 1) := dk_46 (dk_at dksX5_decades_8 22 rfl rfl)
theorem dX5_decades_213 : decode cX5_decades 213 = .ok (.putfield 153, 3) := dk_181 0 153 (dk_at dksX5_decades_9 0 rfl rfl)
theorem dX5_decades_216 : decode cX5_decades 216 = .ok (.aload_n 0, 1) := dk_42 (dk_at dksX5_decades_9 3 rfl rfl)
theorem dX5_decades_217 : decode cX5_decades 217 = .ok (.aload_n 0, 1) := dk_42 (dk_at dksX5_decades_9 4 rfl rfl)
theorem dX5_decades_218 : decode cX5_decades 218 = .ok (.getfield 13, 3) := dk_180 0 13 (dk_at dksX5_decades_9 5 rfl rfl)
theorem dX5_decades_221 : decode cX5_decades 221 = .ok (.iconst 1, 1) := dk_4 (dk_at dksX5_decades_9 8 rfl rfl)
theorem dX5_decades_222 : decode cX5_decades 222 = .ok (.iaload, 1) := dk_46 (dk_at dksX5_decades_9 9 rfl rfl)
theorem dX5_decades_223 : decode cX5_decades 223 = .ok (.putfield 156, 3) := dk_181 0 156 (dk_at dksX5_decades_9 10 rfl rfl)
theorem dX5_decades_226 : decode cX5_decades 226 = .ok (.aload_n 0, 1) := dk_42 (dk_at dksX5_decades_9 13 rfl rfl)
theorem dX5_decades_227 : decode cX5_decades 227 = .ok (.invokevirtual 531, 3) := dk_182 2 19 (dk_at dksX5_decades_9 14 rfl rfl)
theorem dX5_decades_230 : decode cX5_decades 230 = .ok (.istore_n 3, 1) := dk_62 (dk_at dksX5_decades_9 17 rfl rfl)
theorem dX5_decades_231 : decode cX5_decades 231 = .ok (.aload_n 0, 1) := dk_42 (dk_at dksX5_decades_9 18 rfl rfl)
theorem dX5_decades_232 : decode cX5_decades 232 = .ok (.bipush 16, 2) := dk_16 16 (dk_at dksX5_decades_9 19 rfl rfl)
theorem dX5_decades_234 : decode cX5_decades 234 = .ok (.invokevirtual 176, 3) := dk_182 0 176 (dk_at dksX5_decades_9 21 rfl rfl)
theorem dX5_decades_237 : decode cX5_decades 237 = .ok (.aload_n 0, 1) := dk_42 (dk_at dksX5_decades_10 0 rfl rfl)
theorem dX5_decades_238 : decode cX5_decades 238 = .ok (.iload_n 3, 1) := dk_29 (dk_at dksX5_decades_10 1 rfl rfl)
theorem dX5_decades_239 : decode cX5_decades 239 = .ok (.invokevirtual 168, 3) := dk_182 0 168 (dk_at dksX5_decades_10 2 rfl rfl)
theorem dX5_decades_242 : decode cX5_decades 242 = .ok (.ireturn, 1) := dk_172 (dk_at dksX5_decades_10 5 rfl rfl)
abbrev cX5_draw : ByteArray := prog_22_method_122_code
def yX5_draw : MethodName := ⟨RX5, "draw", "(I)I"⟩
def dkwX5_draw_1 : List UInt8 := [27, 133, 113, 136, 172]
abbrev dktX5_draw_1 : List UInt8 := dkwX5_draw_1 ++ []
def dkwX5_draw_0 : List UInt8 := [42, 42, 180, 2, 38, 20, 2, 41, 105, 20, 2, 43, 97, 20, 2, 45, 113, 181, 2, 38, 42, 180, 2, 38]
abbrev dktX5_draw_0 : List UInt8 := dkwX5_draw_0 ++ dktX5_draw_1
theorem dksX5_draw_0 : cX5_draw.data.toList.drop 0 = dktX5_draw_0 := by decide +kernel
theorem dksX5_draw_1 : cX5_draw.data.toList.drop 24 = dktX5_draw_1 := dk_seg dksX5_draw_0 24 rfl rfl
theorem dX5_draw_0 : decode cX5_draw 0 = .ok (.aload_n 0, 1) := dk_42 (dk_at dksX5_draw_0 0 rfl rfl)
theorem dX5_draw_1 : decode cX5_draw 1 = .ok (.aload_n 0, 1) := dk_42 (dk_at dksX5_draw_0 1 rfl rfl)
theorem dX5_draw_2 : decode cX5_draw 2 = .ok (.getfield 550, 3) := dk_180 2 38 (dk_at dksX5_draw_0 2 rfl rfl)
theorem dX5_draw_5 : decode cX5_draw 5 = .ok (.ldc2_w 553, 3) := dk_20 2 41 (dk_at dksX5_draw_0 5 rfl rfl)
theorem dX5_draw_8 : decode cX5_draw 8 = .ok (.lmul, 1) := dk_105 (dk_at dksX5_draw_0 8 rfl rfl)
theorem dX5_draw_9 : decode cX5_draw 9 = .ok (.ldc2_w 555, 3) := dk_20 2 43 (dk_at dksX5_draw_0 9 rfl rfl)
theorem dX5_draw_12 : decode cX5_draw 12 = .ok (.ladd, 1) := dk_97 (dk_at dksX5_draw_0 12 rfl rfl)
theorem dX5_draw_13 : decode cX5_draw 13 = .ok (.ldc2_w 557, 3) := dk_20 2 45 (dk_at dksX5_draw_0 13 rfl rfl)
theorem dX5_draw_16 : decode cX5_draw 16 = .ok (.lrem, 1) := dk_113 (dk_at dksX5_draw_0 16 rfl rfl)
theorem dX5_draw_17 : decode cX5_draw 17 = .ok (.putfield 550, 3) := dk_181 2 38 (dk_at dksX5_draw_0 17 rfl rfl)
theorem dX5_draw_20 : decode cX5_draw 20 = .ok (.aload_n 0, 1) := dk_42 (dk_at dksX5_draw_0 20 rfl rfl)
theorem dX5_draw_21 : decode cX5_draw 21 = .ok (.getfield 550, 3) := dk_180 2 38 (dk_at dksX5_draw_0 21 rfl rfl)
theorem dX5_draw_24 : decode cX5_draw 24 = .ok (.iload_n 1, 1) := dk_27 (dk_at dksX5_draw_1 0 rfl rfl)
theorem dX5_draw_25 : decode cX5_draw 25 = .ok (.i2l, 1) := dk_133 (dk_at dksX5_draw_1 1 rfl rfl)
theorem dX5_draw_26 : decode cX5_draw 26 = .ok (.lrem, 1) := dk_113 (dk_at dksX5_draw_1 2 rfl rfl)
theorem dX5_draw_27 : decode cX5_draw 27 = .ok (.l2i, 1) := dk_136 (dk_at dksX5_draw_1 3 rfl rfl)
theorem dX5_draw_28 : decode cX5_draw 28 = .ok (.ireturn, 1) := dk_172 (dk_at dksX5_draw_1 4 rfl rfl)
abbrev cX5_drawn : ByteArray := prog_22_method_124_code
def yX5_drawn : MethodName := ⟨RX5, "drawn", "(II)I"⟩
def dkwX5_drawn_2 : List UInt8 := [180, 0, 150, 28, 154, 0, 8, 16, 18, 167, 0, 5, 16, 8, 8, 100, 27, 96, 46, 172]
abbrev dktX5_drawn_2 : List UInt8 := dkwX5_drawn_2 ++ []
def dkwX5_drawn_1 : List UInt8 := [180, 0, 156, 167, 0, 7, 42, 180, 0, 153, 133, 10, 101, 184, 0, 179, 154, 0, 5, 2, 172, 42]
abbrev dktX5_drawn_1 : List UInt8 := dkwX5_drawn_1 ++ dktX5_drawn_2
def dkwX5_drawn_0 : List UInt8 := [42, 3, 181, 0, 159, 28, 133, 9, 10, 184, 0, 179, 153, 0, 30, 27, 133, 9, 28, 154, 0, 10, 42]
abbrev dktX5_drawn_0 : List UInt8 := dkwX5_drawn_0 ++ dktX5_drawn_1
theorem dksX5_drawn_0 : cX5_drawn.data.toList.drop 0 = dktX5_drawn_0 := by decide +kernel
theorem dksX5_drawn_1 : cX5_drawn.data.toList.drop 23 = dktX5_drawn_1 := dk_seg dksX5_drawn_0 23 rfl rfl
theorem dksX5_drawn_2 : cX5_drawn.data.toList.drop 45 = dktX5_drawn_2 := dk_seg dksX5_drawn_1 22 rfl rfl
theorem dX5_drawn_0 : decode cX5_drawn 0 = .ok (.aload_n 0, 1) := dk_42 (dk_at dksX5_drawn_0 0 rfl rfl)
theorem dX5_drawn_1 : decode cX5_drawn 1 = .ok (.iconst 0, 1) := dk_3 (dk_at dksX5_drawn_0 1 rfl rfl)
theorem dX5_drawn_2 : decode cX5_drawn 2 = .ok (.putfield 159, 3) := dk_181 0 159 (dk_at dksX5_drawn_0 2 rfl rfl)
theorem dX5_drawn_5 : decode cX5_drawn 5 = .ok (.iload_n 2, 1) := dk_28 (dk_at dksX5_drawn_0 5 rfl rfl)
theorem dX5_drawn_6 : decode cX5_drawn 6 = .ok (.i2l, 1) := dk_133 (dk_at dksX5_drawn_0 6 rfl rfl)
theorem dX5_drawn_7 : decode cX5_drawn 7 = .ok (.lconst 0, 1) := dk_9 (dk_at dksX5_drawn_0 7 rfl rfl)
theorem dX5_drawn_8 : decode cX5_drawn 8 = .ok (.lconst 1, 1) := dk_10 (dk_at dksX5_drawn_0 8 rfl rfl)
theorem dX5_drawn_9 : decode cX5_drawn 9 = .ok (.invokestatic 179, 3) := dk_184 0 179 (dk_at dksX5_drawn_0 9 rfl rfl)
theorem dX5_drawn_12 : decode cX5_drawn 12 = .ok (.ifCond .eq 30, 3) := dk_153 0 30 (dk_at dksX5_drawn_0 12 rfl rfl)
theorem dX5_drawn_15 : decode cX5_drawn 15 = .ok (.iload_n 1, 1) := dk_27 (dk_at dksX5_drawn_0 15 rfl rfl)
theorem dX5_drawn_16 : decode cX5_drawn 16 = .ok (.i2l, 1) := dk_133 (dk_at dksX5_drawn_0 16 rfl rfl)
theorem dX5_drawn_17 : decode cX5_drawn 17 = .ok (.lconst 0, 1) := dk_9 (dk_at dksX5_drawn_0 17 rfl rfl)
theorem dX5_drawn_18 : decode cX5_drawn 18 = .ok (.iload_n 2, 1) := dk_28 (dk_at dksX5_drawn_0 18 rfl rfl)
theorem dX5_drawn_19 : decode cX5_drawn 19 = .ok (.ifCond .ne 10, 3) := dk_154 0 10 (dk_at dksX5_drawn_0 19 rfl rfl)
theorem dX5_drawn_22 : decode cX5_drawn 22 = .ok (.aload_n 0, 1) := dk_42 (dk_at dksX5_drawn_0 22 rfl rfl)
theorem dX5_drawn_23 : decode cX5_drawn 23 = .ok (.getfield 156, 3) := dk_180 0 156 (dk_at dksX5_drawn_1 0 rfl rfl)
theorem dX5_drawn_26 : decode cX5_drawn 26 = .ok (.goto 7, 3) := dk_167 0 7 (dk_at dksX5_drawn_1 3 rfl rfl)
theorem dX5_drawn_29 : decode cX5_drawn 29 = .ok (.aload_n 0, 1) := dk_42 (dk_at dksX5_drawn_1 6 rfl rfl)
theorem dX5_drawn_30 : decode cX5_drawn 30 = .ok (.getfield 153, 3) := dk_180 0 153 (dk_at dksX5_drawn_1 7 rfl rfl)
theorem dX5_drawn_33 : decode cX5_drawn 33 = .ok (.i2l, 1) := dk_133 (dk_at dksX5_drawn_1 10 rfl rfl)
theorem dX5_drawn_34 : decode cX5_drawn 34 = .ok (.lconst 1, 1) := dk_10 (dk_at dksX5_drawn_1 11 rfl rfl)
theorem dX5_drawn_35 : decode cX5_drawn 35 = .ok (.lsub, 1) := dk_101 (dk_at dksX5_drawn_1 12 rfl rfl)
theorem dX5_drawn_36 : decode cX5_drawn 36 = .ok (.invokestatic 179, 3) := dk_184 0 179 (dk_at dksX5_drawn_1 13 rfl rfl)
theorem dX5_drawn_39 : decode cX5_drawn 39 = .ok (.ifCond .ne 5, 3) := dk_154 0 5 (dk_at dksX5_drawn_1 16 rfl rfl)
theorem dX5_drawn_42 : decode cX5_drawn 42 = .ok (.iconst (-1), 1) := dk_2 (dk_at dksX5_drawn_1 19 rfl rfl)
theorem dX5_drawn_43 : decode cX5_drawn 43 = .ok (.ireturn, 1) := dk_172 (dk_at dksX5_drawn_1 20 rfl rfl)
theorem dX5_drawn_44 : decode cX5_drawn 44 = .ok (.aload_n 0, 1) := dk_42 (dk_at dksX5_drawn_1 21 rfl rfl)
theorem dX5_drawn_45 : decode cX5_drawn 45 = .ok (.getfield 150, 3) := dk_180 0 150 (dk_at dksX5_drawn_2 0 rfl rfl)
theorem dX5_drawn_48 : decode cX5_drawn 48 = .ok (.iload_n 2, 1) := dk_28 (dk_at dksX5_drawn_2 3 rfl rfl)
theorem dX5_drawn_49 : decode cX5_drawn 49 = .ok (.ifCond .ne 8, 3) := dk_154 0 8 (dk_at dksX5_drawn_2 4 rfl rfl)
theorem dX5_drawn_52 : decode cX5_drawn 52 = .ok (.bipush 18, 2) := dk_16 18 (dk_at dksX5_drawn_2 7 rfl rfl)
theorem dX5_drawn_54 : decode cX5_drawn 54 = .ok (.goto 5, 3) := dk_167 0 5 (dk_at dksX5_drawn_2 9 rfl rfl)
theorem dX5_drawn_57 : decode cX5_drawn 57 = .ok (.bipush 8, 2) := dk_16 8 (dk_at dksX5_drawn_2 12 rfl rfl)
theorem dX5_drawn_59 : decode cX5_drawn 59 = .ok (.iconst 5, 1) := dk_8 (dk_at dksX5_drawn_2 14 rfl rfl)
theorem dX5_drawn_60 : decode cX5_drawn 60 = .ok (.isub, 1) := dk_100 (dk_at dksX5_drawn_2 15 rfl rfl)
theorem dX5_drawn_61 : decode cX5_drawn 61 = .ok (.iload_n 1, 1) := dk_27 (dk_at dksX5_drawn_2 16 rfl rfl)
theorem dX5_drawn_62 : decode cX5_drawn 62 = .ok (.iadd, 1) := dk_96 (dk_at dksX5_drawn_2 17 rfl rfl)
theorem dX5_drawn_63 : decode cX5_drawn 63 = .ok (.iaload, 1) := dk_46 (dk_at dksX5_drawn_2 18 rfl rfl)
theorem dX5_drawn_64 : decode cX5_drawn 64 = .ok (.ireturn, 1) := dk_172 (dk_at dksX5_drawn_2 19 rfl rfl)
abbrev cX5_count : ByteArray := prog_22_method_125_code
def yX5_count : MethodName := ⟨RX5, "count", "(I)I"⟩
def dkwX5_count_6 : List UInt8 := [184, 0, 179, 153, 0, 17, 42, 180, 0, 13, 8, 27, 96, 16, 13, 100, 46, 167, 0, 4, 2, 172]
abbrev dktX5_count_6 : List UInt8 := dkwX5_count_6 ++ []
def dkwX5_count_5 : List UInt8 := [180, 0, 7, 16, 6, 46, 172, 42, 180, 0, 13, 7, 46, 172, 27, 133, 20, 2, 50, 20, 2, 52]
abbrev dktX5_count_5 : List UInt8 := dkwX5_count_5 ++ dktX5_count_6
def dkwX5_count_4 : List UInt8 := [46, 172, 42, 180, 0, 7, 5, 46, 172, 42, 180, 0, 7, 6, 46, 172, 42, 180, 0, 7, 8, 46, 172, 42]
abbrev dktX5_count_4 : List UInt8 := dkwX5_count_4 ++ dktX5_count_5
def dkwX5_count_3 : List UInt8 := [46, 172, 42, 180, 0, 13, 6, 46, 172, 42, 180, 0, 165, 172, 42, 180, 0, 227, 172, 42, 180, 0, 7, 4]
abbrev dktX5_count_3 : List UInt8 := dkwX5_count_3 ++ dktX5_count_4
def dkwX5_count_2 : List UInt8 := [42, 180, 0, 13, 3, 46, 172, 42, 180, 0, 13, 4, 46, 172, 42, 182, 2, 19, 172, 42, 180, 0, 13, 5]
abbrev dktX5_count_2 : List UInt8 := dkwX5_count_2 ++ dktX5_count_3
def dkwX5_count_1 : List UInt8 := [170, 0, 0, 0, 0, 152, 0, 0, 0, 0, 0, 0, 0, 12, 0, 0, 0, 66, 0, 0, 0, 73, 0, 0, 0, 80, 0, 0, 0, 85, 0, 0, 0, 92, 0, 0, 0, 99, 0, 0, 0, 104, 0, 0, 0, 109, 0, 0, 0, 116, 0, 0, 0, 123, 0, 0, 0, 130, 0, 0, 0, 137, 0, 0, 0, 145]
abbrev dktX5_count_1 : List UInt8 := dkwX5_count_1 ++ dktX5_count_2
def dkwX5_count_0 : List UInt8 := [42, 3, 181, 0, 159, 27]
abbrev dktX5_count_0 : List UInt8 := dkwX5_count_0 ++ dktX5_count_1
theorem dksX5_count_0 : cX5_count.data.toList.drop 0 = dktX5_count_0 := by decide +kernel
theorem dksX5_count_1 : cX5_count.data.toList.drop 6 = dktX5_count_1 := dk_seg dksX5_count_0 6 rfl rfl
theorem dksX5_count_2 : cX5_count.data.toList.drop 72 = dktX5_count_2 := dk_seg dksX5_count_1 66 rfl rfl
theorem dksX5_count_3 : cX5_count.data.toList.drop 96 = dktX5_count_3 := dk_seg dksX5_count_2 24 rfl rfl
theorem dksX5_count_4 : cX5_count.data.toList.drop 120 = dktX5_count_4 := dk_seg dksX5_count_3 24 rfl rfl
theorem dksX5_count_5 : cX5_count.data.toList.drop 144 = dktX5_count_5 := dk_seg dksX5_count_4 24 rfl rfl
theorem dksX5_count_6 : cX5_count.data.toList.drop 166 = dktX5_count_6 := dk_seg dksX5_count_5 22 rfl rfl
theorem dX5_count_0 : decode cX5_count 0 = .ok (.aload_n 0, 1) := dk_42 (dk_at dksX5_count_0 0 rfl rfl)
theorem dX5_count_1 : decode cX5_count 1 = .ok (.iconst 0, 1) := dk_3 (dk_at dksX5_count_0 1 rfl rfl)
theorem dX5_count_2 : decode cX5_count 2 = .ok (.putfield 159, 3) := dk_181 0 159 (dk_at dksX5_count_0 2 rfl rfl)
theorem dX5_count_5 : decode cX5_count 5 = .ok (.iload_n 1, 1) := dk_27 (dk_at dksX5_count_0 5 rfl rfl)
theorem dX5_count_6 : decode cX5_count 6 = .ok (.tableswitch 152 0 12 #[66, 73, 80, 85, 92, 99, 104, 109, 116, 123, 130, 137, 145], 66) := by decide +kernel
theorem dX5_count_72 : decode cX5_count 72 = .ok (.aload_n 0, 1) := dk_42 (dk_at dksX5_count_2 0 rfl rfl)
theorem dX5_count_73 : decode cX5_count 73 = .ok (.getfield 13, 3) := dk_180 0 13 (dk_at dksX5_count_2 1 rfl rfl)
theorem dX5_count_76 : decode cX5_count 76 = .ok (.iconst 0, 1) := dk_3 (dk_at dksX5_count_2 4 rfl rfl)
theorem dX5_count_77 : decode cX5_count 77 = .ok (.iaload, 1) := dk_46 (dk_at dksX5_count_2 5 rfl rfl)
theorem dX5_count_78 : decode cX5_count 78 = .ok (.ireturn, 1) := dk_172 (dk_at dksX5_count_2 6 rfl rfl)
theorem dX5_count_79 : decode cX5_count 79 = .ok (.aload_n 0, 1) := dk_42 (dk_at dksX5_count_2 7 rfl rfl)
theorem dX5_count_80 : decode cX5_count 80 = .ok (.getfield 13, 3) := dk_180 0 13 (dk_at dksX5_count_2 8 rfl rfl)
theorem dX5_count_83 : decode cX5_count 83 = .ok (.iconst 1, 1) := dk_4 (dk_at dksX5_count_2 11 rfl rfl)
theorem dX5_count_84 : decode cX5_count 84 = .ok (.iaload, 1) := dk_46 (dk_at dksX5_count_2 12 rfl rfl)
theorem dX5_count_85 : decode cX5_count 85 = .ok (.ireturn, 1) := dk_172 (dk_at dksX5_count_2 13 rfl rfl)
theorem dX5_count_86 : decode cX5_count 86 = .ok (.aload_n 0, 1) := dk_42 (dk_at dksX5_count_2 14 rfl rfl)
theorem dX5_count_87 : decode cX5_count 87 = .ok (.invokevirtual 531, 3) := dk_182 2 19 (dk_at dksX5_count_2 15 rfl rfl)
theorem dX5_count_90 : decode cX5_count 90 = .ok (.ireturn, 1) := dk_172 (dk_at dksX5_count_2 18 rfl rfl)
theorem dX5_count_91 : decode cX5_count 91 = .ok (.aload_n 0, 1) := dk_42 (dk_at dksX5_count_2 19 rfl rfl)
theorem dX5_count_92 : decode cX5_count 92 = .ok (.getfield 13, 3) := dk_180 0 13 (dk_at dksX5_count_2 20 rfl rfl)
theorem dX5_count_95 : decode cX5_count 95 = .ok (.iconst 2, 1) := dk_5 (dk_at dksX5_count_2 23 rfl rfl)
theorem dX5_count_96 : decode cX5_count 96 = .ok (.iaload, 1) := dk_46 (dk_at dksX5_count_3 0 rfl rfl)
theorem dX5_count_97 : decode cX5_count 97 = .ok (.ireturn, 1) := dk_172 (dk_at dksX5_count_3 1 rfl rfl)
theorem dX5_count_98 : decode cX5_count 98 = .ok (.aload_n 0, 1) := dk_42 (dk_at dksX5_count_3 2 rfl rfl)
theorem dX5_count_99 : decode cX5_count 99 = .ok (.getfield 13, 3) := dk_180 0 13 (dk_at dksX5_count_3 3 rfl rfl)
theorem dX5_count_102 : decode cX5_count 102 = .ok (.iconst 3, 1) := dk_6 (dk_at dksX5_count_3 6 rfl rfl)
theorem dX5_count_103 : decode cX5_count 103 = .ok (.iaload, 1) := dk_46 (dk_at dksX5_count_3 7 rfl rfl)
theorem dX5_count_104 : decode cX5_count 104 = .ok (.ireturn, 1) := dk_172 (dk_at dksX5_count_3 8 rfl rfl)
theorem dX5_count_105 : decode cX5_count 105 = .ok (.aload_n 0, 1) := dk_42 (dk_at dksX5_count_3 9 rfl rfl)
theorem dX5_count_106 : decode cX5_count 106 = .ok (.getfield 165, 3) := dk_180 0 165 (dk_at dksX5_count_3 10 rfl rfl)
theorem dX5_count_109 : decode cX5_count 109 = .ok (.ireturn, 1) := dk_172 (dk_at dksX5_count_3 13 rfl rfl)
theorem dX5_count_110 : decode cX5_count 110 = .ok (.aload_n 0, 1) := dk_42 (dk_at dksX5_count_3 14 rfl rfl)
theorem dX5_count_111 : decode cX5_count 111 = .ok (.getfield 227, 3) := dk_180 0 227 (dk_at dksX5_count_3 15 rfl rfl)
theorem dX5_count_114 : decode cX5_count 114 = .ok (.ireturn, 1) := dk_172 (dk_at dksX5_count_3 18 rfl rfl)
theorem dX5_count_115 : decode cX5_count 115 = .ok (.aload_n 0, 1) := dk_42 (dk_at dksX5_count_3 19 rfl rfl)
theorem dX5_count_116 : decode cX5_count 116 = .ok (.getfield 7, 3) := dk_180 0 7 (dk_at dksX5_count_3 20 rfl rfl)
theorem dX5_count_119 : decode cX5_count 119 = .ok (.iconst 1, 1) := dk_4 (dk_at dksX5_count_3 23 rfl rfl)
theorem dX5_count_120 : decode cX5_count 120 = .ok (.iaload, 1) := dk_46 (dk_at dksX5_count_4 0 rfl rfl)
theorem dX5_count_121 : decode cX5_count 121 = .ok (.ireturn, 1) := dk_172 (dk_at dksX5_count_4 1 rfl rfl)
theorem dX5_count_122 : decode cX5_count 122 = .ok (.aload_n 0, 1) := dk_42 (dk_at dksX5_count_4 2 rfl rfl)
theorem dX5_count_123 : decode cX5_count 123 = .ok (.getfield 7, 3) := dk_180 0 7 (dk_at dksX5_count_4 3 rfl rfl)
theorem dX5_count_126 : decode cX5_count 126 = .ok (.iconst 2, 1) := dk_5 (dk_at dksX5_count_4 6 rfl rfl)
theorem dX5_count_127 : decode cX5_count 127 = .ok (.iaload, 1) := dk_46 (dk_at dksX5_count_4 7 rfl rfl)
theorem dX5_count_128 : decode cX5_count 128 = .ok (.ireturn, 1) := dk_172 (dk_at dksX5_count_4 8 rfl rfl)
theorem dX5_count_129 : decode cX5_count 129 = .ok (.aload_n 0, 1) := dk_42 (dk_at dksX5_count_4 9 rfl rfl)
theorem dX5_count_130 : decode cX5_count 130 = .ok (.getfield 7, 3) := dk_180 0 7 (dk_at dksX5_count_4 10 rfl rfl)
theorem dX5_count_133 : decode cX5_count 133 = .ok (.iconst 3, 1) := dk_6 (dk_at dksX5_count_4 13 rfl rfl)
theorem dX5_count_134 : decode cX5_count 134 = .ok (.iaload, 1) := dk_46 (dk_at dksX5_count_4 14 rfl rfl)
theorem dX5_count_135 : decode cX5_count 135 = .ok (.ireturn, 1) := dk_172 (dk_at dksX5_count_4 15 rfl rfl)
theorem dX5_count_136 : decode cX5_count 136 = .ok (.aload_n 0, 1) := dk_42 (dk_at dksX5_count_4 16 rfl rfl)
theorem dX5_count_137 : decode cX5_count 137 = .ok (.getfield 7, 3) := dk_180 0 7 (dk_at dksX5_count_4 17 rfl rfl)
theorem dX5_count_140 : decode cX5_count 140 = .ok (.iconst 5, 1) := dk_8 (dk_at dksX5_count_4 20 rfl rfl)
theorem dX5_count_141 : decode cX5_count 141 = .ok (.iaload, 1) := dk_46 (dk_at dksX5_count_4 21 rfl rfl)
theorem dX5_count_142 : decode cX5_count 142 = .ok (.ireturn, 1) := dk_172 (dk_at dksX5_count_4 22 rfl rfl)
theorem dX5_count_143 : decode cX5_count 143 = .ok (.aload_n 0, 1) := dk_42 (dk_at dksX5_count_4 23 rfl rfl)
theorem dX5_count_144 : decode cX5_count 144 = .ok (.getfield 7, 3) := dk_180 0 7 (dk_at dksX5_count_5 0 rfl rfl)
theorem dX5_count_147 : decode cX5_count 147 = .ok (.bipush 6, 2) := dk_16 6 (dk_at dksX5_count_5 3 rfl rfl)
theorem dX5_count_149 : decode cX5_count 149 = .ok (.iaload, 1) := dk_46 (dk_at dksX5_count_5 5 rfl rfl)
theorem dX5_count_150 : decode cX5_count 150 = .ok (.ireturn, 1) := dk_172 (dk_at dksX5_count_5 6 rfl rfl)
theorem dX5_count_151 : decode cX5_count 151 = .ok (.aload_n 0, 1) := dk_42 (dk_at dksX5_count_5 7 rfl rfl)
theorem dX5_count_152 : decode cX5_count 152 = .ok (.getfield 13, 3) := dk_180 0 13 (dk_at dksX5_count_5 8 rfl rfl)
theorem dX5_count_155 : decode cX5_count 155 = .ok (.iconst 4, 1) := dk_7 (dk_at dksX5_count_5 11 rfl rfl)
theorem dX5_count_156 : decode cX5_count 156 = .ok (.iaload, 1) := dk_46 (dk_at dksX5_count_5 12 rfl rfl)
theorem dX5_count_157 : decode cX5_count 157 = .ok (.ireturn, 1) := dk_172 (dk_at dksX5_count_5 13 rfl rfl)
theorem dX5_count_158 : decode cX5_count 158 = .ok (.iload_n 1, 1) := dk_27 (dk_at dksX5_count_5 14 rfl rfl)
theorem dX5_count_159 : decode cX5_count 159 = .ok (.i2l, 1) := dk_133 (dk_at dksX5_count_5 15 rfl rfl)
theorem dX5_count_160 : decode cX5_count 160 = .ok (.ldc2_w 562, 3) := dk_20 2 50 (dk_at dksX5_count_5 16 rfl rfl)
theorem dX5_count_163 : decode cX5_count 163 = .ok (.ldc2_w 564, 3) := dk_20 2 52 (dk_at dksX5_count_5 19 rfl rfl)
theorem dX5_count_166 : decode cX5_count 166 = .ok (.invokestatic 179, 3) := dk_184 0 179 (dk_at dksX5_count_6 0 rfl rfl)
theorem dX5_count_169 : decode cX5_count 169 = .ok (.ifCond .eq 17, 3) := dk_153 0 17 (dk_at dksX5_count_6 3 rfl rfl)
theorem dX5_count_172 : decode cX5_count 172 = .ok (.aload_n 0, 1) := dk_42 (dk_at dksX5_count_6 6 rfl rfl)
theorem dX5_count_173 : decode cX5_count 173 = .ok (.getfield 13, 3) := dk_180 0 13 (dk_at dksX5_count_6 7 rfl rfl)
theorem dX5_count_176 : decode cX5_count 176 = .ok (.iconst 5, 1) := dk_8 (dk_at dksX5_count_6 10 rfl rfl)
theorem dX5_count_177 : decode cX5_count 177 = .ok (.iload_n 1, 1) := dk_27 (dk_at dksX5_count_6 11 rfl rfl)
theorem dX5_count_178 : decode cX5_count 178 = .ok (.iadd, 1) := dk_96 (dk_at dksX5_count_6 12 rfl rfl)
theorem dX5_count_179 : decode cX5_count 179 = .ok (.bipush 13, 2) := dk_16 13 (dk_at dksX5_count_6 13 rfl rfl)
theorem dX5_count_181 : decode cX5_count 181 = .ok (.isub, 1) := dk_100 (dk_at dksX5_count_6 15 rfl rfl)
theorem dX5_count_182 : decode cX5_count 182 = .ok (.iaload, 1) := dk_46 (dk_at dksX5_count_6 16 rfl rfl)
theorem dX5_count_183 : decode cX5_count 183 = .ok (.goto 4, 3) := dk_167 0 4 (dk_at dksX5_count_6 17 rfl rfl)
theorem dX5_count_186 : decode cX5_count 186 = .ok (.iconst (-1), 1) := dk_2 (dk_at dksX5_count_6 20 rfl rfl)
theorem dX5_count_187 : decode cX5_count 187 = .ok (.ireturn, 1) := dk_172 (dk_at dksX5_count_6 21 rfl rfl)
abbrev cX5_status : ByteArray := prog_22_method_126_code
def yX5_status : MethodName := ⟨RX5, "status", "()I"⟩
def dkwX5_status_0 : List UInt8 := [42, 3, 181, 0, 159, 42, 180, 0, 162, 172]
abbrev dktX5_status_0 : List UInt8 := dkwX5_status_0 ++ []
theorem dksX5_status_0 : cX5_status.data.toList.drop 0 = dktX5_status_0 := by decide +kernel
theorem dX5_status_0 : decode cX5_status 0 = .ok (.aload_n 0, 1) := dk_42 (dk_at dksX5_status_0 0 rfl rfl)
theorem dX5_status_1 : decode cX5_status 1 = .ok (.iconst 0, 1) := dk_3 (dk_at dksX5_status_0 1 rfl rfl)
theorem dX5_status_2 : decode cX5_status 2 = .ok (.putfield 159, 3) := dk_181 0 159 (dk_at dksX5_status_0 2 rfl rfl)
theorem dX5_status_5 : decode cX5_status 5 = .ok (.aload_n 0, 1) := dk_42 (dk_at dksX5_status_0 5 rfl rfl)
theorem dX5_status_6 : decode cX5_status 6 = .ok (.getfield 162, 3) := dk_180 0 162 (dk_at dksX5_status_0 6 rfl rfl)
theorem dX5_status_9 : decode cX5_status 9 = .ok (.ireturn, 1) := dk_172 (dk_at dksX5_status_0 9 rfl rfl)
theorem q129 : (Jvm.Cond.initialized "LostLanesModel") ∈ lw_all := lw_g (lw_at lw_m1 11 rfl) rfl
theorem q512 : (Jvm.Cond.selects "LostLanesModel" ({ cls := "java/lang/Object", name := "getClass", desc := "()Ljava/lang/Class;" } : Jvm.MethodName) ({ cls := "java/lang/Object", name := "getClass", desc := "()Ljava/lang/Class;" } : Jvm.MethodName)) ∈ lw_all := lw_g (lw_at lw_m2 154 rfl) rfl
theorem q1494 : (Jvm.Cond.instantiable "LostLanesModel" (58 : Nat)) ∈ lw_all := lw_g (lw_at lw_m6 176 rfl) rfl
theorem q1496 : (Jvm.Cond.instanceMethod ({ cls := "LostLanesModel", name := "<init>", desc := "()V" } : Jvm.MethodName)) ∈ lw_all := lw_g (lw_at lw_m6 178 rfl) rfl
theorem q1497 : (Jvm.Cond.code ({ cls := "LostLanesModel", name := "<init>", desc := "()V" } : Jvm.MethodName) prog_22_method_1_code (1 : Nat) (Option.none : Option Jvm.ClassFile.FieldType)) ∈ lw_all := lw_g (lw_at lw_m6 179 rfl) rfl
theorem q1498 : (Jvm.Cond.methodLink "LostLanesModel" (1 : Nat) ({ cls := "java/lang/Object", name := "<init>", desc := "()V" } : Jvm.MethodName)) ∈ lw_all := lw_g (lw_at lw_m6 180 rfl) rfl
theorem q1499 : (Jvm.Cond.constantLong "LostLanesModel" (57 : Nat) (3417476 : Int64)) ∈ lw_all := lw_g (lw_at lw_m6 181 rfl) rfl
theorem q1500 : (Jvm.Cond.constantLong "LostLanesModel" (59 : Nat) (1253 : Int64)) ∈ lw_all := lw_g (lw_at lw_m6 182 rfl) rfl
theorem q1501 : (Jvm.Cond.constantLong "LostLanesModel" (61 : Nat) (394693 : Int64)) ∈ lw_all := lw_g (lw_at lw_m6 183 rfl) rfl
theorem q1502 : (Jvm.Cond.constantLong "LostLanesModel" (63 : Nat) (409031 : Int64)) ∈ lw_all := lw_g (lw_at lw_m6 184 rfl) rfl
theorem q1503 : (Jvm.Cond.constantLong "LostLanesModel" (65 : Nat) (20225300 : Int64)) ∈ lw_all := lw_g (lw_at lw_m6 185 rfl) rfl
theorem q1504 : (Jvm.Cond.constantLong "LostLanesModel" (67 : Nat) (116996274 : Int64)) ∈ lw_all := lw_g (lw_at lw_m6 186 rfl) rfl
theorem q1505 : (Jvm.Cond.constantLong "LostLanesModel" (69 : Nat) (394868 : Int64)) ∈ lw_all := lw_g (lw_at lw_m6 187 rfl) rfl
theorem q1506 : (Jvm.Cond.constantLong "LostLanesModel" (71 : Nat) (278194 : Int64)) ∈ lw_all := lw_g (lw_at lw_m6 188 rfl) rfl
theorem q1507 : (Jvm.Cond.constantLong "LostLanesModel" (73 : Nat) (441828 : Int64)) ∈ lw_all := lw_g (lw_at lw_m6 189 rfl) rfl
theorem q1508 : (Jvm.Cond.constantLong "LostLanesModel" (79 : Nat) (146885 : Int64)) ∈ lw_all := lw_g (lw_at lw_m6 190 rfl) rfl
theorem q1509 : (Jvm.Cond.constantLong "LostLanesModel" (81 : Nat) (404362868 : Int64)) ∈ lw_all := lw_g (lw_at lw_m6 191 rfl) rfl
theorem q1510 : (Jvm.Cond.constantLong "LostLanesModel" (83 : Nat) (14726308 : Int64)) ∈ lw_all := lw_g (lw_at lw_m6 192 rfl) rfl
theorem q1511 : (Jvm.Cond.constantLong "LostLanesModel" (85 : Nat) (369811 : Int64)) ∈ lw_all := lw_g (lw_at lw_m6 193 rfl) rfl
theorem q1512 : (Jvm.Cond.constantLong "LostLanesModel" (87 : Nat) (52 : Int64)) ∈ lw_all := lw_g (lw_at lw_m6 194 rfl) rfl
theorem q1513 : (Jvm.Cond.constantLong "LostLanesModel" (89 : Nat) (17172101 : Int64)) ∈ lw_all := lw_g (lw_at lw_m6 195 rfl) rfl
theorem q1514 : (Jvm.Cond.constantLong "LostLanesModel" (94 : Nat) (21678547 : Int64)) ∈ lw_all := lw_g (lw_at lw_m6 196 rfl) rfl
theorem q1515 : (Jvm.Cond.constantLong "LostLanesModel" (96 : Nat) (624435 : Int64)) ∈ lw_all := lw_g (lw_at lw_m6 197 rfl) rfl
theorem q1516 : (Jvm.Cond.constantLong "LostLanesModel" (98 : Nat) (67155 : Int64)) ∈ lw_all := lw_g (lw_at lw_m6 198 rfl) rfl
theorem q1517 : (Jvm.Cond.constantLong "LostLanesModel" (133 : Nat) (773263538 : Int64)) ∈ lw_all := lw_g (lw_at lw_m6 199 rfl) rfl
theorem q1518 : (Jvm.Cond.constantLong "LostLanesModel" (135 : Nat) (3673 : Int64)) ∈ lw_all := lw_g (lw_at lw_m6 200 rfl) rfl
theorem q1519 : (Jvm.Cond.constantLong "LostLanesModel" (137 : Nat) (398372 : Int64)) ∈ lw_all := lw_g (lw_at lw_m6 201 rfl) rfl
theorem q1520 : (Jvm.Cond.constantLong "LostLanesModel" (139 : Nat) (525939 : Int64)) ∈ lw_all := lw_g (lw_at lw_m6 202 rfl) rfl
theorem q1521 : (Jvm.Cond.fieldLink "LostLanesModel" (159 : Nat) "LostLanesModel" "thrown" "I") ∈ lw_all := lw_g (lw_at lw_m6 203 rfl) rfl
theorem q1522 : (Jvm.Cond.fieldLink "LostLanesModel" (162 : Nat) "LostLanesModel" "status" "I") ∈ lw_all := lw_g (lw_at lw_m6 204 rfl) rfl
theorem q1523 : (Jvm.Cond.fieldLink "LostLanesModel" (7 : Nat) "LostLanesModel" "refusals" "[I") ∈ lw_all := lw_g (lw_at lw_m6 205 rfl) rfl
theorem q1524 : (Jvm.Cond.fieldLink "LostLanesModel" (13 : Nat) "LostLanesModel" "row" "[I") ∈ lw_all := lw_g (lw_at lw_m6 206 rfl) rfl
theorem q1525 : (Jvm.Cond.fieldLink "LostLanesModel" (16 : Nat) "LostLanesModel" "images" "[I") ∈ lw_all := lw_g (lw_at lw_m6 207 rfl) rfl
theorem q1526 : (Jvm.Cond.fieldLink "LostLanesModel" (19 : Nat) "LostLanesModel" "isKept" "[Z") ∈ lw_all := lw_g (lw_at lw_m6 208 rfl) rfl
theorem q1527 : (Jvm.Cond.fieldLink "LostLanesModel" (23 : Nat) "LostLanesModel" "undos" "[I") ∈ lw_all := lw_g (lw_at lw_m6 209 rfl) rfl
theorem q1528 : (Jvm.Cond.fieldLink "LostLanesModel" (26 : Nat) "LostLanesModel" "sorts" "[I") ∈ lw_all := lw_g (lw_at lw_m6 210 rfl) rfl
theorem q1529 : (Jvm.Cond.fieldLink "LostLanesModel" (165 : Nat) "LostLanesModel" "nUndo" "I") ∈ lw_all := lw_g (lw_at lw_m6 211 rfl) rfl
theorem q1530 : (Jvm.Cond.fieldLink "LostLanesModel" (29 : Nat) "LostLanesModel" "undosBefore" "[I") ∈ lw_all := lw_g (lw_at lw_m6 212 rfl) rfl
theorem q1531 : (Jvm.Cond.fieldLink "LostLanesModel" (32 : Nat) "LostLanesModel" "sortsBefore" "[I") ∈ lw_all := lw_g (lw_at lw_m6 213 rfl) rfl
theorem q1532 : (Jvm.Cond.fieldLink "LostLanesModel" (230 : Nat) "LostLanesModel" "gravel" "I") ∈ lw_all := lw_g (lw_at lw_m6 214 rfl) rfl
theorem q1533 : (Jvm.Cond.fieldLink "LostLanesModel" (35 : Nat) "LostLanesModel" "tape" "[I") ∈ lw_all := lw_g (lw_at lw_m6 215 rfl) rfl
theorem q1534 : (Jvm.Cond.fieldLink "LostLanesModel" (227 : Nat) "LostLanesModel" "taped" "I") ∈ lw_all := lw_g (lw_at lw_m6 216 rfl) rfl
theorem q1535 : (Jvm.Cond.fieldLink "LostLanesModel" (246 : Nat) "LostLanesModel" "from" "I") ∈ lw_all := lw_g (lw_at lw_m6 217 rfl) rfl
theorem q1536 : (Jvm.Cond.fieldLink "LostLanesModel" (236 : Nat) "LostLanesModel" "to" "I") ∈ lw_all := lw_g (lw_at lw_m6 218 rfl) rfl
theorem q1537 : (Jvm.Cond.fieldLink "LostLanesModel" (259 : Nat) "LostLanesModel" "sort" "I") ∈ lw_all := lw_g (lw_at lw_m6 219 rfl) rfl
theorem q1538 : (Jvm.Cond.fieldLink "LostLanesModel" (249 : Nat) "LostLanesModel" "worth" "J") ∈ lw_all := lw_g (lw_at lw_m6 220 rfl) rfl
theorem q1539 : (Jvm.Cond.fieldLink "LostLanesModel" (38 : Nat) "LostLanesModel" "fault" "I") ∈ lw_all := lw_g (lw_at lw_m6 221 rfl) rfl
theorem q1540 : (Jvm.Cond.fieldLink "LostLanesModel" (239 : Nat) "LostLanesModel" "bad" "Z") ∈ lw_all := lw_g (lw_at lw_m6 222 rfl) rfl
theorem q1541 : (Jvm.Cond.fieldLink "LostLanesModel" (316 : Nat) "LostLanesModel" "ordered" "Z") ∈ lw_all := lw_g (lw_at lw_m6 223 rfl) rfl
theorem q1542 : (Jvm.Cond.fieldLink "LostLanesModel" (370 : Nat) "LostLanesModel" "nClauses" "I") ∈ lw_all := lw_g (lw_at lw_m6 224 rfl) rfl
theorem q1543 : (Jvm.Cond.fieldLink "LostLanesModel" (42 : Nat) "LostLanesModel" "nClause" "[I") ∈ lw_all := lw_g (lw_at lw_m6 225 rfl) rfl
theorem q1544 : (Jvm.Cond.fieldLink "LostLanesModel" (276 : Nat) "LostLanesModel" "nCode" "I") ∈ lw_all := lw_g (lw_at lw_m6 226 rfl) rfl
theorem q1545 : (Jvm.Cond.fieldLink "LostLanesModel" (45 : Nat) "LostLanesModel" "nOp" "[I") ∈ lw_all := lw_g (lw_at lw_m6 227 rfl) rfl
theorem q1546 : (Jvm.Cond.fieldLink "LostLanesModel" (48 : Nat) "LostLanesModel" "nArg" "[I") ∈ lw_all := lw_g (lw_at lw_m6 228 rfl) rfl
theorem q1547 : (Jvm.Cond.fieldLink "LostLanesModel" (307 : Nat) "LostLanesModel" "nLeaves" "I") ∈ lw_all := lw_g (lw_at lw_m6 229 rfl) rfl
theorem q1548 : (Jvm.Cond.fieldLink "LostLanesModel" (51 : Nat) "LostLanesModel" "pile" "[I") ∈ lw_all := lw_g (lw_at lw_m6 230 rfl) rfl
theorem q1549 : (Jvm.Cond.fieldLink "LostLanesModel" (54 : Nat) "LostLanesModel" "pileAt" "[I") ∈ lw_all := lw_g (lw_at lw_m6 231 rfl) rfl
theorem q1550 : (Jvm.Cond.fieldLink "LostLanesModel" (279 : Nat) "LostLanesModel" "piled" "I") ∈ lw_all := lw_g (lw_at lw_m6 232 rfl) rfl
theorem q1551 : (Jvm.Cond.fieldLink "LostLanesModel" (301 : Nat) "LostLanesModel" "opened" "I") ∈ lw_all := lw_g (lw_at lw_m6 233 rfl) rfl
theorem q1552 : (Jvm.Cond.fieldLink "LostLanesModel" (75 : Nat) "LostLanesModel" "words" "[J") ∈ lw_all := lw_g (lw_at lw_m6 234 rfl) rfl
theorem q1553 : (Jvm.Cond.fieldLink "LostLanesModel" (91 : Nat) "LostLanesModel" "orderWords" "[J") ∈ lw_all := lw_g (lw_at lw_m6 235 rfl) rfl
theorem q1554 : (Jvm.Cond.fieldLink "LostLanesModel" (100 : Nat) "LostLanesModel" "heads" "[J") ∈ lw_all := lw_g (lw_at lw_m6 236 rfl) rfl
theorem q1555 : (Jvm.Cond.fieldLink "LostLanesModel" (393 : Nat) "LostLanesModel" "law" "I") ∈ lw_all := lw_g (lw_at lw_m6 237 rfl) rfl
theorem q1556 : (Jvm.Cond.fieldLink "LostLanesModel" (103 : Nat) "LostLanesModel" "set" "[J") ∈ lw_all := lw_g (lw_at lw_m6 238 rfl) rfl
theorem q1557 : (Jvm.Cond.fieldLink "LostLanesModel" (106 : Nat) "LostLanesModel" "now" "[J") ∈ lw_all := lw_g (lw_at lw_m6 239 rfl) rfl
theorem q1558 : (Jvm.Cond.fieldLink "LostLanesModel" (109 : Nat) "LostLanesModel" "rest" "[J") ∈ lw_all := lw_g (lw_at lw_m7 0 rfl) rfl
theorem q1559 : (Jvm.Cond.fieldLink "LostLanesModel" (390 : Nat) "LostLanesModel" "broken" "Z") ∈ lw_all := lw_g (lw_at lw_m7 1 rfl) rfl
theorem q1560 : (Jvm.Cond.fieldLink "LostLanesModel" (404 : Nat) "LostLanesModel" "value" "J") ∈ lw_all := lw_g (lw_at lw_m7 2 rfl) rfl
theorem q1561 : (Jvm.Cond.fieldLink "LostLanesModel" (410 : Nat) "LostLanesModel" "sum" "J") ∈ lw_all := lw_g (lw_at lw_m7 3 rfl) rfl
theorem q1562 : (Jvm.Cond.fieldLink "LostLanesModel" (112 : Nat) "LostLanesModel" "going" "[I") ∈ lw_all := lw_g (lw_at lw_m7 4 rfl) rfl
theorem q1563 : (Jvm.Cond.fieldLink "LostLanesModel" (115 : Nat) "LostLanesModel" "between" "[I") ∈ lw_all := lw_g (lw_at lw_m7 5 rfl) rfl
theorem q1564 : (Jvm.Cond.fieldLink "LostLanesModel" (118 : Nat) "LostLanesModel" "ways" "[I") ∈ lw_all := lw_g (lw_at lw_m7 6 rfl) rfl
theorem q1565 : (Jvm.Cond.fieldLink "LostLanesModel" (121 : Nat) "LostLanesModel" "waysThen" "[I") ∈ lw_all := lw_g (lw_at lw_m7 7 rfl) rfl
theorem q1566 : (Jvm.Cond.fieldLink "LostLanesModel" (124 : Nat) "LostLanesModel" "tried" "[I") ∈ lw_all := lw_g (lw_at lw_m7 8 rfl) rfl
theorem q1567 : (Jvm.Cond.fieldLink "LostLanesModel" (127 : Nat) "LostLanesModel" "paired" "[I") ∈ lw_all := lw_g (lw_at lw_m7 9 rfl) rfl
theorem q1568 : (Jvm.Cond.fieldLink "LostLanesModel" (130 : Nat) "LostLanesModel" "parts" "[J") ∈ lw_all := lw_g (lw_at lw_m7 10 rfl) rfl
theorem q1569 : (Jvm.Cond.fieldLink "LostLanesModel" (141 : Nat) "LostLanesModel" "acts" "[J") ∈ lw_all := lw_g (lw_at lw_m7 11 rfl) rfl
theorem q1570 : (Jvm.Cond.fieldLink "LostLanesModel" (144 : Nat) "LostLanesModel" "nOrder" "[I") ∈ lw_all := lw_g (lw_at lw_m7 12 rfl) rfl
theorem q1571 : (Jvm.Cond.fieldLink "LostLanesModel" (525 : Nat) "LostLanesModel" "done" "I") ∈ lw_all := lw_g (lw_at lw_m7 13 rfl) rfl
theorem q1572 : (Jvm.Cond.fieldLink "LostLanesModel" (528 : Nat) "LostLanesModel" "latest" "I") ∈ lw_all := lw_g (lw_at lw_m7 14 rfl) rfl
theorem q1573 : (Jvm.Cond.fieldLink "LostLanesModel" (147 : Nat) "LostLanesModel" "stopped" "I") ∈ lw_all := lw_g (lw_at lw_m7 15 rfl) rfl
theorem q1574 : (Jvm.Cond.fieldLink "LostLanesModel" (522 : Nat) "LostLanesModel" "off" "Z") ∈ lw_all := lw_g (lw_at lw_m7 16 rfl) rfl
theorem q1575 : (Jvm.Cond.fieldLink "LostLanesModel" (550 : Nat) "LostLanesModel" "state" "J") ∈ lw_all := lw_g (lw_at lw_m7 17 rfl) rfl
theorem q1576 : (Jvm.Cond.fieldLink "LostLanesModel" (150 : Nat) "LostLanesModel" "drawn" "[I") ∈ lw_all := lw_g (lw_at lw_m7 18 rfl) rfl
theorem q1577 : (Jvm.Cond.fieldLink "LostLanesModel" (153 : Nat) "LostLanesModel" "drawnLanes" "I") ∈ lw_all := lw_g (lw_at lw_m7 19 rfl) rfl
theorem q1578 : (Jvm.Cond.fieldLink "LostLanesModel" (156 : Nat) "LostLanesModel" "drawnChildren" "I") ∈ lw_all := lw_g (lw_at lw_m7 20 rfl) rfl
theorem q1579 : (Jvm.Cond.lays "LostLanesModel" "LostLanesModel" "thrown" "I") ∈ lw_all := lw_g (lw_at lw_m7 21 rfl) rfl
theorem q1580 : (Jvm.Cond.soleField "LostLanesModel" "thrown") ∈ lw_all := lw_g (lw_at lw_m7 22 rfl) rfl
theorem q1581 : (Jvm.Cond.lays "LostLanesModel" "LostLanesModel" "status" "I") ∈ lw_all := lw_g (lw_at lw_m7 23 rfl) rfl
theorem q1582 : (Jvm.Cond.soleField "LostLanesModel" "status") ∈ lw_all := lw_g (lw_at lw_m7 24 rfl) rfl
theorem q1583 : (Jvm.Cond.laysFinal "LostLanesModel" "LostLanesModel" "refusals" "[I") ∈ lw_all := lw_g (lw_at lw_m7 25 rfl) rfl
theorem q1584 : (Jvm.Cond.soleField "LostLanesModel" "refusals") ∈ lw_all := lw_g (lw_at lw_m7 26 rfl) rfl
theorem q1585 : (Jvm.Cond.laysFinal "LostLanesModel" "LostLanesModel" "row" "[I") ∈ lw_all := lw_g (lw_at lw_m7 27 rfl) rfl
theorem q1586 : (Jvm.Cond.soleField "LostLanesModel" "row") ∈ lw_all := lw_g (lw_at lw_m7 28 rfl) rfl
theorem q1587 : (Jvm.Cond.laysFinal "LostLanesModel" "LostLanesModel" "images" "[I") ∈ lw_all := lw_g (lw_at lw_m7 29 rfl) rfl
theorem q1588 : (Jvm.Cond.soleField "LostLanesModel" "images") ∈ lw_all := lw_g (lw_at lw_m7 30 rfl) rfl
theorem q1589 : (Jvm.Cond.laysFinal "LostLanesModel" "LostLanesModel" "isKept" "[Z") ∈ lw_all := lw_g (lw_at lw_m7 31 rfl) rfl
theorem q1590 : (Jvm.Cond.soleField "LostLanesModel" "isKept") ∈ lw_all := lw_g (lw_at lw_m7 32 rfl) rfl
theorem q1591 : (Jvm.Cond.laysFinal "LostLanesModel" "LostLanesModel" "undos" "[I") ∈ lw_all := lw_g (lw_at lw_m7 33 rfl) rfl
theorem q1592 : (Jvm.Cond.soleField "LostLanesModel" "undos") ∈ lw_all := lw_g (lw_at lw_m7 34 rfl) rfl
theorem q1593 : (Jvm.Cond.laysFinal "LostLanesModel" "LostLanesModel" "sorts" "[I") ∈ lw_all := lw_g (lw_at lw_m7 35 rfl) rfl
theorem q1594 : (Jvm.Cond.soleField "LostLanesModel" "sorts") ∈ lw_all := lw_g (lw_at lw_m7 36 rfl) rfl
theorem q1595 : (Jvm.Cond.lays "LostLanesModel" "LostLanesModel" "nUndo" "I") ∈ lw_all := lw_g (lw_at lw_m7 37 rfl) rfl
theorem q1596 : (Jvm.Cond.soleField "LostLanesModel" "nUndo") ∈ lw_all := lw_g (lw_at lw_m7 38 rfl) rfl
theorem q1597 : (Jvm.Cond.laysFinal "LostLanesModel" "LostLanesModel" "undosBefore" "[I") ∈ lw_all := lw_g (lw_at lw_m7 39 rfl) rfl
theorem q1598 : (Jvm.Cond.soleField "LostLanesModel" "undosBefore") ∈ lw_all := lw_g (lw_at lw_m7 40 rfl) rfl
theorem q1599 : (Jvm.Cond.laysFinal "LostLanesModel" "LostLanesModel" "sortsBefore" "[I") ∈ lw_all := lw_g (lw_at lw_m7 41 rfl) rfl
theorem q1600 : (Jvm.Cond.soleField "LostLanesModel" "sortsBefore") ∈ lw_all := lw_g (lw_at lw_m7 42 rfl) rfl
theorem q1601 : (Jvm.Cond.lays "LostLanesModel" "LostLanesModel" "gravel" "I") ∈ lw_all := lw_g (lw_at lw_m7 43 rfl) rfl
theorem q1602 : (Jvm.Cond.soleField "LostLanesModel" "gravel") ∈ lw_all := lw_g (lw_at lw_m7 44 rfl) rfl
theorem q1603 : (Jvm.Cond.laysFinal "LostLanesModel" "LostLanesModel" "tape" "[I") ∈ lw_all := lw_g (lw_at lw_m7 45 rfl) rfl
theorem q1604 : (Jvm.Cond.soleField "LostLanesModel" "tape") ∈ lw_all := lw_g (lw_at lw_m7 46 rfl) rfl
theorem q1605 : (Jvm.Cond.lays "LostLanesModel" "LostLanesModel" "taped" "I") ∈ lw_all := lw_g (lw_at lw_m7 47 rfl) rfl
theorem q1606 : (Jvm.Cond.soleField "LostLanesModel" "taped") ∈ lw_all := lw_g (lw_at lw_m7 48 rfl) rfl
theorem q1607 : (Jvm.Cond.lays "LostLanesModel" "LostLanesModel" "from" "I") ∈ lw_all := lw_g (lw_at lw_m7 49 rfl) rfl
theorem q1608 : (Jvm.Cond.soleField "LostLanesModel" "from") ∈ lw_all := lw_g (lw_at lw_m7 50 rfl) rfl
theorem q1609 : (Jvm.Cond.lays "LostLanesModel" "LostLanesModel" "to" "I") ∈ lw_all := lw_g (lw_at lw_m7 51 rfl) rfl
theorem q1610 : (Jvm.Cond.soleField "LostLanesModel" "to") ∈ lw_all := lw_g (lw_at lw_m7 52 rfl) rfl
theorem q1611 : (Jvm.Cond.lays "LostLanesModel" "LostLanesModel" "sort" "I") ∈ lw_all := lw_g (lw_at lw_m7 53 rfl) rfl
theorem q1612 : (Jvm.Cond.soleField "LostLanesModel" "sort") ∈ lw_all := lw_g (lw_at lw_m7 54 rfl) rfl
theorem q1613 : (Jvm.Cond.lays "LostLanesModel" "LostLanesModel" "worth" "J") ∈ lw_all := lw_g (lw_at lw_m7 55 rfl) rfl
theorem q1614 : (Jvm.Cond.soleField "LostLanesModel" "worth") ∈ lw_all := lw_g (lw_at lw_m7 56 rfl) rfl
theorem q1615 : (Jvm.Cond.lays "LostLanesModel" "LostLanesModel" "fault" "I") ∈ lw_all := lw_g (lw_at lw_m7 57 rfl) rfl
theorem q1616 : (Jvm.Cond.soleField "LostLanesModel" "fault") ∈ lw_all := lw_g (lw_at lw_m7 58 rfl) rfl
theorem q1617 : (Jvm.Cond.lays "LostLanesModel" "LostLanesModel" "bad" "Z") ∈ lw_all := lw_g (lw_at lw_m7 59 rfl) rfl
theorem q1618 : (Jvm.Cond.soleField "LostLanesModel" "bad") ∈ lw_all := lw_g (lw_at lw_m7 60 rfl) rfl
theorem q1619 : (Jvm.Cond.lays "LostLanesModel" "LostLanesModel" "ordered" "Z") ∈ lw_all := lw_g (lw_at lw_m7 61 rfl) rfl
theorem q1620 : (Jvm.Cond.soleField "LostLanesModel" "ordered") ∈ lw_all := lw_g (lw_at lw_m7 62 rfl) rfl
theorem q1621 : (Jvm.Cond.lays "LostLanesModel" "LostLanesModel" "nClauses" "I") ∈ lw_all := lw_g (lw_at lw_m7 63 rfl) rfl
theorem q1622 : (Jvm.Cond.soleField "LostLanesModel" "nClauses") ∈ lw_all := lw_g (lw_at lw_m7 64 rfl) rfl
theorem q1623 : (Jvm.Cond.laysFinal "LostLanesModel" "LostLanesModel" "nClause" "[I") ∈ lw_all := lw_g (lw_at lw_m7 65 rfl) rfl
theorem q1624 : (Jvm.Cond.soleField "LostLanesModel" "nClause") ∈ lw_all := lw_g (lw_at lw_m7 66 rfl) rfl
theorem q1625 : (Jvm.Cond.lays "LostLanesModel" "LostLanesModel" "nCode" "I") ∈ lw_all := lw_g (lw_at lw_m7 67 rfl) rfl
theorem q1626 : (Jvm.Cond.soleField "LostLanesModel" "nCode") ∈ lw_all := lw_g (lw_at lw_m7 68 rfl) rfl
theorem q1627 : (Jvm.Cond.laysFinal "LostLanesModel" "LostLanesModel" "nOp" "[I") ∈ lw_all := lw_g (lw_at lw_m7 69 rfl) rfl
theorem q1628 : (Jvm.Cond.soleField "LostLanesModel" "nOp") ∈ lw_all := lw_g (lw_at lw_m7 70 rfl) rfl
theorem q1629 : (Jvm.Cond.laysFinal "LostLanesModel" "LostLanesModel" "nArg" "[I") ∈ lw_all := lw_g (lw_at lw_m7 71 rfl) rfl
theorem q1630 : (Jvm.Cond.soleField "LostLanesModel" "nArg") ∈ lw_all := lw_g (lw_at lw_m7 72 rfl) rfl
theorem q1631 : (Jvm.Cond.lays "LostLanesModel" "LostLanesModel" "nLeaves" "I") ∈ lw_all := lw_g (lw_at lw_m7 73 rfl) rfl
theorem q1632 : (Jvm.Cond.soleField "LostLanesModel" "nLeaves") ∈ lw_all := lw_g (lw_at lw_m7 74 rfl) rfl
theorem q1633 : (Jvm.Cond.laysFinal "LostLanesModel" "LostLanesModel" "pile" "[I") ∈ lw_all := lw_g (lw_at lw_m7 75 rfl) rfl
theorem q1634 : (Jvm.Cond.soleField "LostLanesModel" "pile") ∈ lw_all := lw_g (lw_at lw_m7 76 rfl) rfl
theorem q1635 : (Jvm.Cond.laysFinal "LostLanesModel" "LostLanesModel" "pileAt" "[I") ∈ lw_all := lw_g (lw_at lw_m7 77 rfl) rfl
theorem q1636 : (Jvm.Cond.soleField "LostLanesModel" "pileAt") ∈ lw_all := lw_g (lw_at lw_m7 78 rfl) rfl
theorem q1637 : (Jvm.Cond.lays "LostLanesModel" "LostLanesModel" "piled" "I") ∈ lw_all := lw_g (lw_at lw_m7 79 rfl) rfl
theorem q1638 : (Jvm.Cond.soleField "LostLanesModel" "piled") ∈ lw_all := lw_g (lw_at lw_m7 80 rfl) rfl
theorem q1639 : (Jvm.Cond.lays "LostLanesModel" "LostLanesModel" "opened" "I") ∈ lw_all := lw_g (lw_at lw_m7 81 rfl) rfl
theorem q1640 : (Jvm.Cond.soleField "LostLanesModel" "opened") ∈ lw_all := lw_g (lw_at lw_m7 82 rfl) rfl
theorem q1641 : (Jvm.Cond.laysFinal "LostLanesModel" "LostLanesModel" "words" "[J") ∈ lw_all := lw_g (lw_at lw_m7 83 rfl) rfl
theorem q1642 : (Jvm.Cond.soleField "LostLanesModel" "words") ∈ lw_all := lw_g (lw_at lw_m7 84 rfl) rfl
theorem q1643 : (Jvm.Cond.laysFinal "LostLanesModel" "LostLanesModel" "orderWords" "[J") ∈ lw_all := lw_g (lw_at lw_m7 85 rfl) rfl
theorem q1644 : (Jvm.Cond.soleField "LostLanesModel" "orderWords") ∈ lw_all := lw_g (lw_at lw_m7 86 rfl) rfl
theorem q1645 : (Jvm.Cond.laysFinal "LostLanesModel" "LostLanesModel" "heads" "[J") ∈ lw_all := lw_g (lw_at lw_m7 87 rfl) rfl
theorem q1646 : (Jvm.Cond.soleField "LostLanesModel" "heads") ∈ lw_all := lw_g (lw_at lw_m7 88 rfl) rfl
theorem q1647 : (Jvm.Cond.lays "LostLanesModel" "LostLanesModel" "law" "I") ∈ lw_all := lw_g (lw_at lw_m7 89 rfl) rfl
theorem q1648 : (Jvm.Cond.soleField "LostLanesModel" "law") ∈ lw_all := lw_g (lw_at lw_m7 90 rfl) rfl
theorem q1649 : (Jvm.Cond.laysFinal "LostLanesModel" "LostLanesModel" "set" "[J") ∈ lw_all := lw_g (lw_at lw_m7 91 rfl) rfl
theorem q1650 : (Jvm.Cond.soleField "LostLanesModel" "set") ∈ lw_all := lw_g (lw_at lw_m7 92 rfl) rfl
theorem q1651 : (Jvm.Cond.laysFinal "LostLanesModel" "LostLanesModel" "now" "[J") ∈ lw_all := lw_g (lw_at lw_m7 93 rfl) rfl
theorem q1652 : (Jvm.Cond.soleField "LostLanesModel" "now") ∈ lw_all := lw_g (lw_at lw_m7 94 rfl) rfl
theorem q1653 : (Jvm.Cond.laysFinal "LostLanesModel" "LostLanesModel" "rest" "[J") ∈ lw_all := lw_g (lw_at lw_m7 95 rfl) rfl
theorem q1654 : (Jvm.Cond.soleField "LostLanesModel" "rest") ∈ lw_all := lw_g (lw_at lw_m7 96 rfl) rfl
theorem q1655 : (Jvm.Cond.lays "LostLanesModel" "LostLanesModel" "broken" "Z") ∈ lw_all := lw_g (lw_at lw_m7 97 rfl) rfl
theorem q1656 : (Jvm.Cond.soleField "LostLanesModel" "broken") ∈ lw_all := lw_g (lw_at lw_m7 98 rfl) rfl
theorem q1657 : (Jvm.Cond.lays "LostLanesModel" "LostLanesModel" "value" "J") ∈ lw_all := lw_g (lw_at lw_m7 99 rfl) rfl
theorem q1658 : (Jvm.Cond.soleField "LostLanesModel" "value") ∈ lw_all := lw_g (lw_at lw_m7 100 rfl) rfl
theorem q1659 : (Jvm.Cond.lays "LostLanesModel" "LostLanesModel" "sum" "J") ∈ lw_all := lw_g (lw_at lw_m7 101 rfl) rfl
theorem q1660 : (Jvm.Cond.soleField "LostLanesModel" "sum") ∈ lw_all := lw_g (lw_at lw_m7 102 rfl) rfl
theorem q1661 : (Jvm.Cond.laysFinal "LostLanesModel" "LostLanesModel" "going" "[I") ∈ lw_all := lw_g (lw_at lw_m7 103 rfl) rfl
theorem q1662 : (Jvm.Cond.soleField "LostLanesModel" "going") ∈ lw_all := lw_g (lw_at lw_m7 104 rfl) rfl
theorem q1663 : (Jvm.Cond.laysFinal "LostLanesModel" "LostLanesModel" "between" "[I") ∈ lw_all := lw_g (lw_at lw_m7 105 rfl) rfl
theorem q1664 : (Jvm.Cond.soleField "LostLanesModel" "between") ∈ lw_all := lw_g (lw_at lw_m7 106 rfl) rfl
theorem q1665 : (Jvm.Cond.laysFinal "LostLanesModel" "LostLanesModel" "ways" "[I") ∈ lw_all := lw_g (lw_at lw_m7 107 rfl) rfl
theorem q1666 : (Jvm.Cond.soleField "LostLanesModel" "ways") ∈ lw_all := lw_g (lw_at lw_m7 108 rfl) rfl
theorem q1667 : (Jvm.Cond.laysFinal "LostLanesModel" "LostLanesModel" "waysThen" "[I") ∈ lw_all := lw_g (lw_at lw_m7 109 rfl) rfl
theorem q1668 : (Jvm.Cond.soleField "LostLanesModel" "waysThen") ∈ lw_all := lw_g (lw_at lw_m7 110 rfl) rfl
theorem q1669 : (Jvm.Cond.laysFinal "LostLanesModel" "LostLanesModel" "tried" "[I") ∈ lw_all := lw_g (lw_at lw_m7 111 rfl) rfl
theorem q1670 : (Jvm.Cond.soleField "LostLanesModel" "tried") ∈ lw_all := lw_g (lw_at lw_m7 112 rfl) rfl
theorem q1671 : (Jvm.Cond.laysFinal "LostLanesModel" "LostLanesModel" "paired" "[I") ∈ lw_all := lw_g (lw_at lw_m7 113 rfl) rfl
theorem q1672 : (Jvm.Cond.soleField "LostLanesModel" "paired") ∈ lw_all := lw_g (lw_at lw_m7 114 rfl) rfl
theorem q1673 : (Jvm.Cond.laysFinal "LostLanesModel" "LostLanesModel" "parts" "[J") ∈ lw_all := lw_g (lw_at lw_m7 115 rfl) rfl
theorem q1674 : (Jvm.Cond.soleField "LostLanesModel" "parts") ∈ lw_all := lw_g (lw_at lw_m7 116 rfl) rfl
theorem q1675 : (Jvm.Cond.laysFinal "LostLanesModel" "LostLanesModel" "acts" "[J") ∈ lw_all := lw_g (lw_at lw_m7 117 rfl) rfl
theorem q1676 : (Jvm.Cond.soleField "LostLanesModel" "acts") ∈ lw_all := lw_g (lw_at lw_m7 118 rfl) rfl
theorem q1677 : (Jvm.Cond.laysFinal "LostLanesModel" "LostLanesModel" "nOrder" "[I") ∈ lw_all := lw_g (lw_at lw_m7 119 rfl) rfl
theorem q1678 : (Jvm.Cond.soleField "LostLanesModel" "nOrder") ∈ lw_all := lw_g (lw_at lw_m7 120 rfl) rfl
theorem q1679 : (Jvm.Cond.lays "LostLanesModel" "LostLanesModel" "done" "I") ∈ lw_all := lw_g (lw_at lw_m7 121 rfl) rfl
theorem q1680 : (Jvm.Cond.soleField "LostLanesModel" "done") ∈ lw_all := lw_g (lw_at lw_m7 122 rfl) rfl
theorem q1681 : (Jvm.Cond.lays "LostLanesModel" "LostLanesModel" "latest" "I") ∈ lw_all := lw_g (lw_at lw_m7 123 rfl) rfl
theorem q1682 : (Jvm.Cond.soleField "LostLanesModel" "latest") ∈ lw_all := lw_g (lw_at lw_m7 124 rfl) rfl
theorem q1683 : (Jvm.Cond.lays "LostLanesModel" "LostLanesModel" "stopped" "I") ∈ lw_all := lw_g (lw_at lw_m7 125 rfl) rfl
theorem q1684 : (Jvm.Cond.soleField "LostLanesModel" "stopped") ∈ lw_all := lw_g (lw_at lw_m7 126 rfl) rfl
theorem q1685 : (Jvm.Cond.lays "LostLanesModel" "LostLanesModel" "off" "Z") ∈ lw_all := lw_g (lw_at lw_m7 127 rfl) rfl
theorem q1686 : (Jvm.Cond.soleField "LostLanesModel" "off") ∈ lw_all := lw_g (lw_at lw_m7 128 rfl) rfl
theorem q1687 : (Jvm.Cond.lays "LostLanesModel" "LostLanesModel" "state" "J") ∈ lw_all := lw_g (lw_at lw_m7 129 rfl) rfl
theorem q1688 : (Jvm.Cond.soleField "LostLanesModel" "state") ∈ lw_all := lw_g (lw_at lw_m7 130 rfl) rfl
theorem q1689 : (Jvm.Cond.laysFinal "LostLanesModel" "LostLanesModel" "drawn" "[I") ∈ lw_all := lw_g (lw_at lw_m7 131 rfl) rfl
theorem q1690 : (Jvm.Cond.soleField "LostLanesModel" "drawn") ∈ lw_all := lw_g (lw_at lw_m7 132 rfl) rfl
theorem q1691 : (Jvm.Cond.lays "LostLanesModel" "LostLanesModel" "drawnLanes" "I") ∈ lw_all := lw_g (lw_at lw_m7 133 rfl) rfl
theorem q1692 : (Jvm.Cond.soleField "LostLanesModel" "drawnLanes") ∈ lw_all := lw_g (lw_at lw_m7 134 rfl) rfl
theorem q1693 : (Jvm.Cond.lays "LostLanesModel" "LostLanesModel" "drawnChildren" "I") ∈ lw_all := lw_g (lw_at lw_m7 135 rfl) rfl
theorem q1694 : (Jvm.Cond.soleField "LostLanesModel" "drawnChildren") ∈ lw_all := lw_g (lw_at lw_m7 136 rfl) rfl
theorem q1695 : (Jvm.Cond.superclass "LostLanesModel" "java/lang/Object") ∈ lw_all := lw_g (lw_at lw_m7 137 rfl) rfl
theorem q1698 : (Jvm.Cond.instanceMethod ({ cls := "LostLanesModel", name := "undo", desc := "()I" } : Jvm.MethodName)) ∈ lw_all := lw_g (lw_at lw_m7 140 rfl) rfl
theorem q1699 : (Jvm.Cond.selects "LostLanesModel" ({ cls := "LostLanesModel", name := "undo", desc := "()I" } : Jvm.MethodName) ({ cls := "LostLanesModel", name := "undo", desc := "()I" } : Jvm.MethodName)) ∈ lw_all := lw_g (lw_at lw_m7 141 rfl) rfl
theorem q1700 : (Jvm.Cond.code ({ cls := "LostLanesModel", name := "undo", desc := "()I" } : Jvm.MethodName) prog_22_method_13_code (1 : Nat) (Option.some Jvm.ClassFile.FieldType.int)) ∈ lw_all := lw_g (lw_at lw_m7 142 rfl) rfl
theorem q1701 : (Jvm.Cond.methodLink "LostLanesModel" (168 : Nat) ({ cls := "LostLanesModel", name := "tell", desc := "(I)I" } : Jvm.MethodName)) ∈ lw_all := lw_g (lw_at lw_m7 143 rfl) rfl
theorem q1702 : (Jvm.Cond.privateMethod ({ cls := "LostLanesModel", name := "tell", desc := "(I)I" } : Jvm.MethodName)) ∈ lw_tbl := lw_at lw_m7 144 rfl
theorem q1703 : (Jvm.Cond.instanceMethod ({ cls := "LostLanesModel", name := "tell", desc := "(I)I" } : Jvm.MethodName)) ∈ lw_all := lw_g (lw_at lw_m7 145 rfl) rfl
theorem q1704 : (Jvm.Cond.code ({ cls := "LostLanesModel", name := "tell", desc := "(I)I" } : Jvm.MethodName) prog_22_method_7_code (2 : Nat) (Option.some Jvm.ClassFile.FieldType.int)) ∈ lw_all := lw_g (lw_at lw_m7 146 rfl) rfl
theorem q1705 : (Jvm.Cond.methodLink "LostLanesModel" (176 : Nat) ({ cls := "LostLanesModel", name := "putBack", desc := "(I)V" } : Jvm.MethodName)) ∈ lw_all := lw_g (lw_at lw_m7 147 rfl) rfl
theorem q1706 : (Jvm.Cond.privateMethod ({ cls := "LostLanesModel", name := "putBack", desc := "(I)V" } : Jvm.MethodName)) ∈ lw_tbl := lw_at lw_m7 148 rfl
theorem q1707 : (Jvm.Cond.instanceMethod ({ cls := "LostLanesModel", name := "putBack", desc := "(I)V" } : Jvm.MethodName)) ∈ lw_all := lw_g (lw_at lw_m7 149 rfl) rfl
theorem q1708 : (Jvm.Cond.code ({ cls := "LostLanesModel", name := "putBack", desc := "(I)V" } : Jvm.MethodName) prog_22_method_11_code (3 : Nat) (Option.none : Option Jvm.ClassFile.FieldType)) ∈ lw_all := lw_g (lw_at lw_m7 150 rfl) rfl
theorem q1710 : (Jvm.Cond.instanceMethod ({ cls := "LostLanesModel", name := "image", desc := "(I)I" } : Jvm.MethodName)) ∈ lw_all := lw_g (lw_at lw_m7 152 rfl) rfl
theorem q1711 : (Jvm.Cond.selects "LostLanesModel" ({ cls := "LostLanesModel", name := "image", desc := "(I)I" } : Jvm.MethodName) ({ cls := "LostLanesModel", name := "image", desc := "(I)I" } : Jvm.MethodName)) ∈ lw_all := lw_g (lw_at lw_m7 153 rfl) rfl
theorem q1712 : (Jvm.Cond.code ({ cls := "LostLanesModel", name := "image", desc := "(I)I" } : Jvm.MethodName) prog_22_method_14_code (3 : Nat) (Option.some Jvm.ClassFile.FieldType.int)) ∈ lw_all := lw_g (lw_at lw_m7 154 rfl) rfl
theorem q1713 : (Jvm.Cond.methodLink "LostLanesModel" (179 : Nat) ({ cls := "LostLanesModel", name := "in", desc := "(JJJ)Z" } : Jvm.MethodName)) ∈ lw_all := lw_g (lw_at lw_m7 155 rfl) rfl
theorem q1714 : (Jvm.Cond.static ({ cls := "LostLanesModel", name := "in", desc := "(JJJ)Z" } : Jvm.MethodName)) ∈ lw_all := lw_g (lw_at lw_m7 156 rfl) rfl
theorem q1715 : (Jvm.Cond.code ({ cls := "LostLanesModel", name := "in", desc := "(JJJ)Z" } : Jvm.MethodName) prog_22_method_3_code (6 : Nat) (Option.some Jvm.ClassFile.FieldType.boolean)) ∈ lw_all := lw_g (lw_at lw_m7 157 rfl) rfl
theorem q1717 : (Jvm.Cond.instanceMethod ({ cls := "LostLanesModel", name := "back", desc := "(I)I" } : Jvm.MethodName)) ∈ lw_all := lw_g (lw_at lw_m7 159 rfl) rfl
theorem q1718 : (Jvm.Cond.selects "LostLanesModel" ({ cls := "LostLanesModel", name := "back", desc := "(I)I" } : Jvm.MethodName) ({ cls := "LostLanesModel", name := "back", desc := "(I)I" } : Jvm.MethodName)) ∈ lw_all := lw_g (lw_at lw_m7 160 rfl) rfl
theorem q1719 : (Jvm.Cond.code ({ cls := "LostLanesModel", name := "back", desc := "(I)I" } : Jvm.MethodName) prog_22_method_15_code (3 : Nat) (Option.some Jvm.ClassFile.FieldType.int)) ∈ lw_all := lw_g (lw_at lw_m7 161 rfl) rfl
theorem q1720 : (Jvm.Cond.methodLink "LostLanesModel" (183 : Nat) ({ cls := "LostLanesModel", name := "lasting", desc := "(I)I" } : Jvm.MethodName)) ∈ lw_all := lw_g (lw_at lw_m7 162 rfl) rfl
theorem q1721 : (Jvm.Cond.privateMethod ({ cls := "LostLanesModel", name := "lasting", desc := "(I)I" } : Jvm.MethodName)) ∈ lw_tbl := lw_at lw_m7 163 rfl
theorem q1722 : (Jvm.Cond.instanceMethod ({ cls := "LostLanesModel", name := "lasting", desc := "(I)I" } : Jvm.MethodName)) ∈ lw_all := lw_g (lw_at lw_m7 164 rfl) rfl
theorem q1723 : (Jvm.Cond.code ({ cls := "LostLanesModel", name := "lasting", desc := "(I)I" } : Jvm.MethodName) prog_22_method_9_code (2 : Nat) (Option.some Jvm.ClassFile.FieldType.int)) ∈ lw_all := lw_g (lw_at lw_m7 165 rfl) rfl
theorem q1725 : (Jvm.Cond.instanceMethod ({ cls := "LostLanesModel", name := "lane", desc := "(IIII)I" } : Jvm.MethodName)) ∈ lw_all := lw_g (lw_at lw_m7 167 rfl) rfl
theorem q1726 : (Jvm.Cond.selects "LostLanesModel" ({ cls := "LostLanesModel", name := "lane", desc := "(IIII)I" } : Jvm.MethodName) ({ cls := "LostLanesModel", name := "lane", desc := "(IIII)I" } : Jvm.MethodName)) ∈ lw_all := lw_g (lw_at lw_m7 168 rfl) rfl
theorem q1727 : (Jvm.Cond.code ({ cls := "LostLanesModel", name := "lane", desc := "(IIII)I" } : Jvm.MethodName) prog_22_method_23_code (5 : Nat) (Option.some Jvm.ClassFile.FieldType.int)) ∈ lw_all := lw_g (lw_at lw_m7 169 rfl) rfl
theorem q1728 : (Jvm.Cond.methodLink "LostLanesModel" (196 : Nat) ({ cls := "LostLanesModel", name := "come", desc := "(IIII)I" } : Jvm.MethodName)) ∈ lw_all := lw_g (lw_at lw_m7 170 rfl) rfl
theorem q1729 : (Jvm.Cond.privateMethod ({ cls := "LostLanesModel", name := "come", desc := "(IIII)I" } : Jvm.MethodName)) ∈ lw_tbl := lw_at lw_m7 171 rfl
theorem q1730 : (Jvm.Cond.instanceMethod ({ cls := "LostLanesModel", name := "come", desc := "(IIII)I" } : Jvm.MethodName)) ∈ lw_all := lw_g (lw_at lw_m7 172 rfl) rfl
theorem q1731 : (Jvm.Cond.code ({ cls := "LostLanesModel", name := "come", desc := "(IIII)I" } : Jvm.MethodName) prog_22_method_22_code (6 : Nat) (Option.some Jvm.ClassFile.FieldType.int)) ∈ lw_all := lw_g (lw_at lw_m7 173 rfl) rfl
theorem q1732 : (Jvm.Cond.methodLink "LostLanesModel" (188 : Nat) ({ cls := "LostLanesModel", name := "isCorner", desc := "(I)Z" } : Jvm.MethodName)) ∈ lw_all := lw_g (lw_at lw_m7 174 rfl) rfl
theorem q1733 : (Jvm.Cond.static ({ cls := "LostLanesModel", name := "isCorner", desc := "(I)Z" } : Jvm.MethodName)) ∈ lw_all := lw_g (lw_at lw_m7 175 rfl) rfl
theorem q1734 : (Jvm.Cond.code ({ cls := "LostLanesModel", name := "isCorner", desc := "(I)Z" } : Jvm.MethodName) prog_22_method_18_code (1 : Nat) (Option.some Jvm.ClassFile.FieldType.boolean)) ∈ lw_all := lw_g (lw_at lw_m7 176 rfl) rfl
theorem q1735 : (Jvm.Cond.constantLong "LostLanesModel" (186 : Nat) (7 : Int64)) ∈ lw_all := lw_g (lw_at lw_m7 177 rfl) rfl
theorem q1736 : (Jvm.Cond.constantLong "LostLanesModel" (192 : Nat) (9 : Int64)) ∈ lw_all := lw_g (lw_at lw_m7 178 rfl) rfl
theorem q1737 : (Jvm.Cond.constantLong "LostLanesModel" (194 : Nat) (4 : Int64)) ∈ lw_all := lw_g (lw_at lw_m7 179 rfl) rfl
theorem q1739 : (Jvm.Cond.instanceMethod ({ cls := "LostLanesModel", name := "at", desc := "(II)I" } : Jvm.MethodName)) ∈ lw_all := lw_g (lw_at lw_m7 181 rfl) rfl
theorem q1740 : (Jvm.Cond.selects "LostLanesModel" ({ cls := "LostLanesModel", name := "at", desc := "(II)I" } : Jvm.MethodName) ({ cls := "LostLanesModel", name := "at", desc := "(II)I" } : Jvm.MethodName)) ∈ lw_all := lw_g (lw_at lw_m7 182 rfl) rfl
theorem q1741 : (Jvm.Cond.code ({ cls := "LostLanesModel", name := "at", desc := "(II)I" } : Jvm.MethodName) prog_22_method_24_code (3 : Nat) (Option.some Jvm.ClassFile.FieldType.int)) ∈ lw_all := lw_g (lw_at lw_m7 183 rfl) rfl
theorem q1742 : (Jvm.Cond.methodLink "LostLanesModel" (200 : Nat) ({ cls := "LostLanesModel", name := "isLane", desc := "(I)Z" } : Jvm.MethodName)) ∈ lw_all := lw_g (lw_at lw_m7 184 rfl) rfl
theorem q1743 : (Jvm.Cond.privateMethod ({ cls := "LostLanesModel", name := "isLane", desc := "(I)Z" } : Jvm.MethodName)) ∈ lw_tbl := lw_at lw_m7 185 rfl
theorem q1744 : (Jvm.Cond.instanceMethod ({ cls := "LostLanesModel", name := "isLane", desc := "(I)Z" } : Jvm.MethodName)) ∈ lw_all := lw_g (lw_at lw_m7 186 rfl) rfl
theorem q1745 : (Jvm.Cond.code ({ cls := "LostLanesModel", name := "isLane", desc := "(I)Z" } : Jvm.MethodName) prog_22_method_16_code (2 : Nat) (Option.some Jvm.ClassFile.FieldType.boolean)) ∈ lw_all := lw_g (lw_at lw_m7 187 rfl) rfl
theorem q1747 : (Jvm.Cond.instanceMethod ({ cls := "LostLanesModel", name := "child", desc := "(II)I" } : Jvm.MethodName)) ∈ lw_all := lw_g (lw_at lw_m7 189 rfl) rfl
theorem q1748 : (Jvm.Cond.selects "LostLanesModel" ({ cls := "LostLanesModel", name := "child", desc := "(II)I" } : Jvm.MethodName) ({ cls := "LostLanesModel", name := "child", desc := "(II)I" } : Jvm.MethodName)) ∈ lw_all := lw_g (lw_at lw_m7 190 rfl) rfl
theorem q1749 : (Jvm.Cond.code ({ cls := "LostLanesModel", name := "child", desc := "(II)I" } : Jvm.MethodName) prog_22_method_25_code (4 : Nat) (Option.some Jvm.ClassFile.FieldType.int)) ∈ lw_all := lw_g (lw_at lw_m7 191 rfl) rfl
theorem q1751 : (Jvm.Cond.instanceMethod ({ cls := "LostLanesModel", name := "of", desc := "(II)I" } : Jvm.MethodName)) ∈ lw_all := lw_g (lw_at lw_m7 193 rfl) rfl
theorem q1752 : (Jvm.Cond.selects "LostLanesModel" ({ cls := "LostLanesModel", name := "of", desc := "(II)I" } : Jvm.MethodName) ({ cls := "LostLanesModel", name := "of", desc := "(II)I" } : Jvm.MethodName)) ∈ lw_all := lw_g (lw_at lw_m7 194 rfl) rfl
theorem q1753 : (Jvm.Cond.code ({ cls := "LostLanesModel", name := "of", desc := "(II)I" } : Jvm.MethodName) prog_22_method_26_code (3 : Nat) (Option.some Jvm.ClassFile.FieldType.int)) ∈ lw_all := lw_g (lw_at lw_m7 195 rfl) rfl
theorem q1754 : (Jvm.Cond.methodLink "LostLanesModel" (203 : Nat) ({ cls := "LostLanesModel", name := "isChild", desc := "(I)Z" } : Jvm.MethodName)) ∈ lw_all := lw_g (lw_at lw_m7 196 rfl) rfl
theorem q1755 : (Jvm.Cond.privateMethod ({ cls := "LostLanesModel", name := "isChild", desc := "(I)Z" } : Jvm.MethodName)) ∈ lw_tbl := lw_at lw_m7 197 rfl
theorem q1756 : (Jvm.Cond.instanceMethod ({ cls := "LostLanesModel", name := "isChild", desc := "(I)Z" } : Jvm.MethodName)) ∈ lw_all := lw_g (lw_at lw_m7 198 rfl) rfl
theorem q1757 : (Jvm.Cond.code ({ cls := "LostLanesModel", name := "isChild", desc := "(I)Z" } : Jvm.MethodName) prog_22_method_17_code (2 : Nat) (Option.some Jvm.ClassFile.FieldType.boolean)) ∈ lw_all := lw_g (lw_at lw_m7 199 rfl) rfl
theorem q1758 : (Jvm.Cond.methodLink "LostLanesModel" (206 : Nat) ({ cls := "LostLanesModel", name := "turnsTo", desc := "(I)I" } : Jvm.MethodName)) ∈ lw_all := lw_g (lw_at lw_m7 200 rfl) rfl
theorem q1759 : (Jvm.Cond.privateMethod ({ cls := "LostLanesModel", name := "turnsTo", desc := "(I)I" } : Jvm.MethodName)) ∈ lw_tbl := lw_at lw_m7 201 rfl
theorem q1760 : (Jvm.Cond.instanceMethod ({ cls := "LostLanesModel", name := "turnsTo", desc := "(I)I" } : Jvm.MethodName)) ∈ lw_all := lw_g (lw_at lw_m7 202 rfl) rfl
theorem q1761 : (Jvm.Cond.code ({ cls := "LostLanesModel", name := "turnsTo", desc := "(I)I" } : Jvm.MethodName) prog_22_method_68_code (2 : Nat) (Option.some Jvm.ClassFile.FieldType.int)) ∈ lw_all := lw_g (lw_at lw_m7 203 rfl) rfl
theorem q1762 : (Jvm.Cond.methodLink "LostLanesModel" (416 : Nat) ({ cls := "LostLanesModel", name := "tells", desc := "(IIIJ)J" } : Jvm.MethodName)) ∈ lw_all := lw_g (lw_at lw_m7 204 rfl) rfl
theorem q1763 : (Jvm.Cond.privateMethod ({ cls := "LostLanesModel", name := "tells", desc := "(IIIJ)J" } : Jvm.MethodName)) ∈ lw_tbl := lw_at lw_m7 205 rfl
theorem q1764 : (Jvm.Cond.instanceMethod ({ cls := "LostLanesModel", name := "tells", desc := "(IIIJ)J" } : Jvm.MethodName)) ∈ lw_all := lw_g (lw_at lw_m7 206 rfl) rfl
theorem q1765 : (Jvm.Cond.code ({ cls := "LostLanesModel", name := "tells", desc := "(IIIJ)J" } : Jvm.MethodName) prog_22_method_67_code (10 : Nat) (Option.some Jvm.ClassFile.FieldType.long)) ∈ lw_all := lw_g (lw_at lw_m7 207 rfl) rfl
theorem q1766 : (Jvm.Cond.constantLong "LostLanesModel" (266 : Nat) (-1 : Int64)) ∈ lw_all := lw_g (lw_at lw_m7 208 rfl) rfl
theorem q1767 : (Jvm.Cond.methodLink "LostLanesModel" (413 : Nat) ({ cls := "LostLanesModel", name := "isSo", desc := "(I)Z" } : Jvm.MethodName)) ∈ lw_all := lw_g (lw_at lw_m7 209 rfl) rfl
theorem q1768 : (Jvm.Cond.privateMethod ({ cls := "LostLanesModel", name := "isSo", desc := "(I)Z" } : Jvm.MethodName)) ∈ lw_tbl := lw_at lw_m7 210 rfl
theorem q1769 : (Jvm.Cond.instanceMethod ({ cls := "LostLanesModel", name := "isSo", desc := "(I)Z" } : Jvm.MethodName)) ∈ lw_all := lw_g (lw_at lw_m7 211 rfl) rfl
theorem q1770 : (Jvm.Cond.code ({ cls := "LostLanesModel", name := "isSo", desc := "(I)Z" } : Jvm.MethodName) prog_22_method_66_code (2 : Nat) (Option.some Jvm.ClassFile.FieldType.boolean)) ∈ lw_all := lw_g (lw_at lw_m7 212 rfl) rfl
theorem q1771 : (Jvm.Cond.methodLink "LostLanesModel" (407 : Nat) ({ cls := "LostLanesModel", name := "reckonAll", desc := "(II)V" } : Jvm.MethodName)) ∈ lw_all := lw_g (lw_at lw_m7 213 rfl) rfl
theorem q1772 : (Jvm.Cond.privateMethod ({ cls := "LostLanesModel", name := "reckonAll", desc := "(II)V" } : Jvm.MethodName)) ∈ lw_tbl := lw_at lw_m7 214 rfl
theorem q1773 : (Jvm.Cond.instanceMethod ({ cls := "LostLanesModel", name := "reckonAll", desc := "(II)V" } : Jvm.MethodName)) ∈ lw_all := lw_g (lw_at lw_m7 215 rfl) rfl
theorem q1774 : (Jvm.Cond.code ({ cls := "LostLanesModel", name := "reckonAll", desc := "(II)V" } : Jvm.MethodName) prog_22_method_65_code (7 : Nat) (Option.none : Option Jvm.ClassFile.FieldType)) ∈ lw_all := lw_g (lw_at lw_m7 216 rfl) rfl
theorem q1775 : (Jvm.Cond.methodLink "LostLanesModel" (396 : Nat) ({ cls := "LostLanesModel", name := "reckon", desc := "(IJJ)J" } : Jvm.MethodName)) ∈ lw_all := lw_g (lw_at lw_m7 217 rfl) rfl
theorem q1776 : (Jvm.Cond.privateMethod ({ cls := "LostLanesModel", name := "reckon", desc := "(IJJ)J" } : Jvm.MethodName)) ∈ lw_tbl := lw_at lw_m7 218 rfl
theorem q1777 : (Jvm.Cond.instanceMethod ({ cls := "LostLanesModel", name := "reckon", desc := "(IJJ)J" } : Jvm.MethodName)) ∈ lw_all := lw_g (lw_at lw_m7 219 rfl) rfl
theorem q1778 : (Jvm.Cond.code ({ cls := "LostLanesModel", name := "reckon", desc := "(IJJ)J" } : Jvm.MethodName) prog_22_method_64_code (6 : Nat) (Option.some Jvm.ClassFile.FieldType.long)) ∈ lw_all := lw_g (lw_at lw_m7 220 rfl) rfl
theorem q1779 : (Jvm.Cond.constantLong "LostLanesModel" (400 : Nat) (-1000000000 : Int64)) ∈ lw_all := lw_g (lw_at lw_m7 221 rfl) rfl
theorem q1780 : (Jvm.Cond.constantLong "LostLanesModel" (402 : Nat) (1000000000 : Int64)) ∈ lw_all := lw_g (lw_at lw_m7 222 rfl) rfl
theorem q1781 : (Jvm.Cond.methodLink "LostLanesModel" (420 : Nat) ({ cls := "LostLanesModel", name := "bounded", desc := "(JII)I" } : Jvm.MethodName)) ∈ lw_all := lw_g (lw_at lw_m7 223 rfl) rfl
theorem q1782 : (Jvm.Cond.static ({ cls := "LostLanesModel", name := "bounded", desc := "(JII)I" } : Jvm.MethodName)) ∈ lw_all := lw_g (lw_at lw_m7 224 rfl) rfl
theorem q1783 : (Jvm.Cond.code ({ cls := "LostLanesModel", name := "bounded", desc := "(JII)I" } : Jvm.MethodName) prog_22_method_6_code (4 : Nat) (Option.some Jvm.ClassFile.FieldType.int)) ∈ lw_all := lw_g (lw_at lw_m7 225 rfl) rfl
theorem q1784 : (Jvm.Cond.methodLink "LostLanesModel" (209 : Nat) ({ cls := "LostLanesModel", name := "laneOf", desc := "(I)I" } : Jvm.MethodName)) ∈ lw_all := lw_g (lw_at lw_m7 226 rfl) rfl
theorem q1785 : (Jvm.Cond.privateMethod ({ cls := "LostLanesModel", name := "laneOf", desc := "(I)I" } : Jvm.MethodName)) ∈ lw_tbl := lw_at lw_m7 227 rfl
theorem q1786 : (Jvm.Cond.instanceMethod ({ cls := "LostLanesModel", name := "laneOf", desc := "(I)I" } : Jvm.MethodName)) ∈ lw_all := lw_g (lw_at lw_m7 228 rfl) rfl
theorem q1787 : (Jvm.Cond.code ({ cls := "LostLanesModel", name := "laneOf", desc := "(I)I" } : Jvm.MethodName) prog_22_method_72_code (6 : Nat) (Option.some Jvm.ClassFile.FieldType.int)) ∈ lw_all := lw_g (lw_at lw_m7 229 rfl) rfl
theorem q1788 : (Jvm.Cond.methodLink "LostLanesModel" (427 : Nat) ({ cls := "LostLanesModel", name := "canGo", desc := "(II)Z" } : Jvm.MethodName)) ∈ lw_all := lw_g (lw_at lw_m7 230 rfl) rfl
theorem q1789 : (Jvm.Cond.privateMethod ({ cls := "LostLanesModel", name := "canGo", desc := "(II)Z" } : Jvm.MethodName)) ∈ lw_tbl := lw_at lw_m7 231 rfl
theorem q1790 : (Jvm.Cond.instanceMethod ({ cls := "LostLanesModel", name := "canGo", desc := "(II)Z" } : Jvm.MethodName)) ∈ lw_all := lw_g (lw_at lw_m7 232 rfl) rfl
theorem q1791 : (Jvm.Cond.code ({ cls := "LostLanesModel", name := "canGo", desc := "(II)Z" } : Jvm.MethodName) prog_22_method_71_code (3 : Nat) (Option.some Jvm.ClassFile.FieldType.boolean)) ∈ lw_all := lw_g (lw_at lw_m7 233 rfl) rfl
theorem q1792 : (Jvm.Cond.methodLink "LostLanesModel" (424 : Nat) ({ cls := "LostLanesModel", name := "ends", desc := "(II)Z" } : Jvm.MethodName)) ∈ lw_all := lw_g (lw_at lw_m7 234 rfl) rfl
theorem q1793 : (Jvm.Cond.privateMethod ({ cls := "LostLanesModel", name := "ends", desc := "(II)Z" } : Jvm.MethodName)) ∈ lw_tbl := lw_at lw_m7 235 rfl
theorem q1794 : (Jvm.Cond.instanceMethod ({ cls := "LostLanesModel", name := "ends", desc := "(II)Z" } : Jvm.MethodName)) ∈ lw_all := lw_g (lw_at lw_m7 236 rfl) rfl
theorem q1795 : (Jvm.Cond.code ({ cls := "LostLanesModel", name := "ends", desc := "(II)Z" } : Jvm.MethodName) prog_22_method_19_code (3 : Nat) (Option.some Jvm.ClassFile.FieldType.boolean)) ∈ lw_all := lw_g (lw_at lw_m7 237 rfl) rfl
theorem q1796 : (Jvm.Cond.methodLink "LostLanesModel" (216 : Nat) ({ cls := "LostLanesModel", name := "isBarred", desc := "(II)Z" } : Jvm.MethodName)) ∈ lw_all := lw_g (lw_at lw_m7 238 rfl) rfl
theorem q1797 : (Jvm.Cond.privateMethod ({ cls := "LostLanesModel", name := "isBarred", desc := "(II)Z" } : Jvm.MethodName)) ∈ lw_tbl := lw_at lw_m7 239 rfl
theorem q1798 : (Jvm.Cond.instanceMethod ({ cls := "LostLanesModel", name := "isBarred", desc := "(II)Z" } : Jvm.MethodName)) ∈ lw_all := lw_g (lw_at lw_m8 0 rfl) rfl
theorem q1799 : (Jvm.Cond.code ({ cls := "LostLanesModel", name := "isBarred", desc := "(II)Z" } : Jvm.MethodName) prog_22_method_70_code (3 : Nat) (Option.some Jvm.ClassFile.FieldType.boolean)) ∈ lw_all := lw_g (lw_at lw_m8 1 rfl) rfl
theorem q1801 : (Jvm.Cond.instanceMethod ({ cls := "LostLanesModel", name := "asks", desc := "(III)I" } : Jvm.MethodName)) ∈ lw_all := lw_g (lw_at lw_m8 3 rfl) rfl
theorem q1802 : (Jvm.Cond.selects "LostLanesModel" ({ cls := "LostLanesModel", name := "asks", desc := "(III)I" } : Jvm.MethodName) ({ cls := "LostLanesModel", name := "asks", desc := "(III)I" } : Jvm.MethodName)) ∈ lw_all := lw_g (lw_at lw_m8 4 rfl) rfl
theorem q1803 : (Jvm.Cond.code ({ cls := "LostLanesModel", name := "asks", desc := "(III)I" } : Jvm.MethodName) prog_22_method_27_code (4 : Nat) (Option.some Jvm.ClassFile.FieldType.int)) ∈ lw_all := lw_g (lw_at lw_m8 5 rfl) rfl
theorem q1804 : (Jvm.Cond.methodLink "LostLanesModel" (212 : Nat) ({ cls := "LostLanesModel", name := "saysOf", desc := "(II)I" } : Jvm.MethodName)) ∈ lw_all := lw_g (lw_at lw_m8 6 rfl) rfl
theorem q1805 : (Jvm.Cond.privateMethod ({ cls := "LostLanesModel", name := "saysOf", desc := "(II)I" } : Jvm.MethodName)) ∈ lw_tbl := lw_at lw_m8 7 rfl
theorem q1806 : (Jvm.Cond.instanceMethod ({ cls := "LostLanesModel", name := "saysOf", desc := "(II)I" } : Jvm.MethodName)) ∈ lw_all := lw_g (lw_at lw_m8 8 rfl) rfl
theorem q1807 : (Jvm.Cond.code ({ cls := "LostLanesModel", name := "saysOf", desc := "(II)I" } : Jvm.MethodName) prog_22_method_69_code (3 : Nat) (Option.some Jvm.ClassFile.FieldType.int)) ∈ lw_all := lw_g (lw_at lw_m8 9 rfl) rfl
theorem q1809 : (Jvm.Cond.instanceMethod ({ cls := "LostLanesModel", name := "terms", desc := "(II)I" } : Jvm.MethodName)) ∈ lw_all := lw_g (lw_at lw_m8 11 rfl) rfl
theorem q1810 : (Jvm.Cond.selects "LostLanesModel" ({ cls := "LostLanesModel", name := "terms", desc := "(II)I" } : Jvm.MethodName) ({ cls := "LostLanesModel", name := "terms", desc := "(II)I" } : Jvm.MethodName)) ∈ lw_all := lw_g (lw_at lw_m8 12 rfl) rfl
theorem q1811 : (Jvm.Cond.code ({ cls := "LostLanesModel", name := "terms", desc := "(II)I" } : Jvm.MethodName) prog_22_method_28_code (4 : Nat) (Option.some Jvm.ClassFile.FieldType.int)) ∈ lw_all := lw_g (lw_at lw_m8 13 rfl) rfl
theorem q1812 : (Jvm.Cond.constantLong "LostLanesModel" (220 : Nat) (999 : Int64)) ∈ lw_all := lw_g (lw_at lw_m8 14 rfl) rfl
theorem q1813 : (Jvm.Cond.constantLong "LostLanesModel" (222 : Nat) (10 : Int64)) ∈ lw_all := lw_g (lw_at lw_m8 15 rfl) rfl
theorem q1814 : (Jvm.Cond.methodLink "LostLanesModel" (224 : Nat) ({ cls := "LostLanesModel", name := "change", desc := "(II)I" } : Jvm.MethodName)) ∈ lw_all := lw_g (lw_at lw_m8 16 rfl) rfl
theorem q1815 : (Jvm.Cond.privateMethod ({ cls := "LostLanesModel", name := "change", desc := "(II)I" } : Jvm.MethodName)) ∈ lw_tbl := lw_at lw_m8 17 rfl
theorem q1816 : (Jvm.Cond.instanceMethod ({ cls := "LostLanesModel", name := "change", desc := "(II)I" } : Jvm.MethodName)) ∈ lw_all := lw_g (lw_at lw_m8 18 rfl) rfl
theorem q1817 : (Jvm.Cond.code ({ cls := "LostLanesModel", name := "change", desc := "(II)I" } : Jvm.MethodName) prog_22_method_8_code (4 : Nat) (Option.some Jvm.ClassFile.FieldType.int)) ∈ lw_all := lw_g (lw_at lw_m8 19 rfl) rfl
theorem q1819 : (Jvm.Cond.instanceMethod ({ cls := "LostLanesModel", name := "row", desc := "()I" } : Jvm.MethodName)) ∈ lw_all := lw_g (lw_at lw_m8 21 rfl) rfl
theorem q1820 : (Jvm.Cond.selects "LostLanesModel" ({ cls := "LostLanesModel", name := "row", desc := "()I" } : Jvm.MethodName) ({ cls := "LostLanesModel", name := "row", desc := "()I" } : Jvm.MethodName)) ∈ lw_all := lw_g (lw_at lw_m8 22 rfl) rfl
theorem q1821 : (Jvm.Cond.code ({ cls := "LostLanesModel", name := "row", desc := "()I" } : Jvm.MethodName) prog_22_method_29_code (4 : Nat) (Option.some Jvm.ClassFile.FieldType.int)) ∈ lw_all := lw_g (lw_at lw_m8 23 rfl) rfl
theorem q1823 : (Jvm.Cond.instanceMethod ({ cls := "LostLanesModel", name := "gravel", desc := "()I" } : Jvm.MethodName)) ∈ lw_all := lw_g (lw_at lw_m8 25 rfl) rfl
theorem q1824 : (Jvm.Cond.selects "LostLanesModel" ({ cls := "LostLanesModel", name := "gravel", desc := "()I" } : Jvm.MethodName) ({ cls := "LostLanesModel", name := "gravel", desc := "()I" } : Jvm.MethodName)) ∈ lw_all := lw_g (lw_at lw_m8 26 rfl) rfl
theorem q1825 : (Jvm.Cond.code ({ cls := "LostLanesModel", name := "gravel", desc := "()I" } : Jvm.MethodName) prog_22_method_30_code (1 : Nat) (Option.some Jvm.ClassFile.FieldType.int)) ∈ lw_all := lw_g (lw_at lw_m8 27 rfl) rfl
theorem q1827 : (Jvm.Cond.instanceMethod ({ cls := "LostLanesModel", name := "feed", desc := "(IIIII)I" } : Jvm.MethodName)) ∈ lw_all := lw_g (lw_at lw_m8 29 rfl) rfl
theorem q1828 : (Jvm.Cond.selects "LostLanesModel" ({ cls := "LostLanesModel", name := "feed", desc := "(IIIII)I" } : Jvm.MethodName) ({ cls := "LostLanesModel", name := "feed", desc := "(IIIII)I" } : Jvm.MethodName)) ∈ lw_all := lw_g (lw_at lw_m8 30 rfl) rfl
theorem q1829 : (Jvm.Cond.code ({ cls := "LostLanesModel", name := "feed", desc := "(IIIII)I" } : Jvm.MethodName) prog_22_method_32_code (6 : Nat) (Option.some Jvm.ClassFile.FieldType.int)) ∈ lw_all := lw_g (lw_at lw_m8 31 rfl) rfl
theorem q1830 : (Jvm.Cond.methodLink "LostLanesModel" (233 : Nat) ({ cls := "LostLanesModel", name := "four", desc := "(I)V" } : Jvm.MethodName)) ∈ lw_all := lw_g (lw_at lw_m8 32 rfl) rfl
theorem q1831 : (Jvm.Cond.privateMethod ({ cls := "LostLanesModel", name := "four", desc := "(I)V" } : Jvm.MethodName)) ∈ lw_tbl := lw_at lw_m8 33 rfl
theorem q1832 : (Jvm.Cond.instanceMethod ({ cls := "LostLanesModel", name := "four", desc := "(I)V" } : Jvm.MethodName)) ∈ lw_all := lw_g (lw_at lw_m8 34 rfl) rfl
theorem q1833 : (Jvm.Cond.code ({ cls := "LostLanesModel", name := "four", desc := "(I)V" } : Jvm.MethodName) prog_22_method_31_code (3 : Nat) (Option.none : Option Jvm.ClassFile.FieldType)) ∈ lw_all := lw_g (lw_at lw_m8 35 rfl) rfl
theorem q1835 : (Jvm.Cond.instanceMethod ({ cls := "LostLanesModel", name := "end", desc := "(I)I" } : Jvm.MethodName)) ∈ lw_all := lw_g (lw_at lw_m8 37 rfl) rfl
theorem q1836 : (Jvm.Cond.selects "LostLanesModel" ({ cls := "LostLanesModel", name := "end", desc := "(I)I" } : Jvm.MethodName) ({ cls := "LostLanesModel", name := "end", desc := "(I)I" } : Jvm.MethodName)) ∈ lw_all := lw_g (lw_at lw_m8 38 rfl) rfl
theorem q1837 : (Jvm.Cond.code ({ cls := "LostLanesModel", name := "end", desc := "(I)I" } : Jvm.MethodName) prog_22_method_33_code (2 : Nat) (Option.some Jvm.ClassFile.FieldType.int)) ∈ lw_all := lw_g (lw_at lw_m8 39 rfl) rfl
theorem q1839 : (Jvm.Cond.instanceMethod ({ cls := "LostLanesModel", name := "fault", desc := "()I" } : Jvm.MethodName)) ∈ lw_all := lw_g (lw_at lw_m8 41 rfl) rfl
theorem q1840 : (Jvm.Cond.selects "LostLanesModel" ({ cls := "LostLanesModel", name := "fault", desc := "()I" } : Jvm.MethodName) ({ cls := "LostLanesModel", name := "fault", desc := "()I" } : Jvm.MethodName)) ∈ lw_all := lw_g (lw_at lw_m8 42 rfl) rfl
theorem q1841 : (Jvm.Cond.code ({ cls := "LostLanesModel", name := "fault", desc := "()I" } : Jvm.MethodName) prog_22_method_42_code (1 : Nat) (Option.some Jvm.ClassFile.FieldType.int)) ∈ lw_all := lw_g (lw_at lw_m8 43 rfl) rfl
theorem q1843 : (Jvm.Cond.instanceMethod ({ cls := "LostLanesModel", name := "law", desc := "()I" } : Jvm.MethodName)) ∈ lw_all := lw_g (lw_at lw_m8 45 rfl) rfl
theorem q1844 : (Jvm.Cond.selects "LostLanesModel" ({ cls := "LostLanesModel", name := "law", desc := "()I" } : Jvm.MethodName) ({ cls := "LostLanesModel", name := "law", desc := "()I" } : Jvm.MethodName)) ∈ lw_all := lw_g (lw_at lw_m8 46 rfl) rfl
theorem q1845 : (Jvm.Cond.code ({ cls := "LostLanesModel", name := "law", desc := "()I" } : Jvm.MethodName) prog_22_method_61_code (3 : Nat) (Option.some Jvm.ClassFile.FieldType.int)) ∈ lw_all := lw_g (lw_at lw_m8 47 rfl) rfl
theorem q1846 : (Jvm.Cond.methodLink "LostLanesModel" (378 : Nat) ({ cls := "LostLanesModel", name := "beginText", desc := "(Z)V" } : Jvm.MethodName)) ∈ lw_all := lw_g (lw_at lw_m8 48 rfl) rfl
theorem q1847 : (Jvm.Cond.privateMethod ({ cls := "LostLanesModel", name := "beginText", desc := "(Z)V" } : Jvm.MethodName)) ∈ lw_tbl := lw_at lw_m8 49 rfl
theorem q1848 : (Jvm.Cond.instanceMethod ({ cls := "LostLanesModel", name := "beginText", desc := "(Z)V" } : Jvm.MethodName)) ∈ lw_all := lw_g (lw_at lw_m8 50 rfl) rfl
theorem q1849 : (Jvm.Cond.code ({ cls := "LostLanesModel", name := "beginText", desc := "(Z)V" } : Jvm.MethodName) prog_22_method_58_code (2 : Nat) (Option.none : Option Jvm.ClassFile.FieldType)) ∈ lw_all := lw_g (lw_at lw_m8 51 rfl) rfl
theorem q1850 : (Jvm.Cond.methodLink "LostLanesModel" (367 : Nat) ({ cls := "LostLanesModel", name := "begin", desc := "()V" } : Jvm.MethodName)) ∈ lw_all := lw_g (lw_at lw_m8 52 rfl) rfl
theorem q1851 : (Jvm.Cond.privateMethod ({ cls := "LostLanesModel", name := "begin", desc := "()V" } : Jvm.MethodName)) ∈ lw_tbl := lw_at lw_m8 53 rfl
theorem q1852 : (Jvm.Cond.instanceMethod ({ cls := "LostLanesModel", name := "begin", desc := "()V" } : Jvm.MethodName)) ∈ lw_all := lw_g (lw_at lw_m8 54 rfl) rfl
theorem q1853 : (Jvm.Cond.code ({ cls := "LostLanesModel", name := "begin", desc := "()V" } : Jvm.MethodName) prog_22_method_36_code (1 : Nat) (Option.none : Option Jvm.ClassFile.FieldType)) ∈ lw_all := lw_g (lw_at lw_m8 55 rfl) rfl
theorem q1854 : (Jvm.Cond.methodLink "LostLanesModel" (243 : Nat) ({ cls := "LostLanesModel", name := "next", desc := "()V" } : Jvm.MethodName)) ∈ lw_all := lw_g (lw_at lw_m8 56 rfl) rfl
theorem q1855 : (Jvm.Cond.privateMethod ({ cls := "LostLanesModel", name := "next", desc := "()V" } : Jvm.MethodName)) ∈ lw_tbl := lw_at lw_m8 57 rfl
theorem q1856 : (Jvm.Cond.instanceMethod ({ cls := "LostLanesModel", name := "next", desc := "()V" } : Jvm.MethodName)) ∈ lw_all := lw_g (lw_at lw_m8 58 rfl) rfl
theorem q1857 : (Jvm.Cond.code ({ cls := "LostLanesModel", name := "next", desc := "()V" } : Jvm.MethodName) prog_22_method_37_code (1 : Nat) (Option.none : Option Jvm.ClassFile.FieldType)) ∈ lw_all := lw_g (lw_at lw_m8 59 rfl) rfl
theorem q1858 : (Jvm.Cond.methodLink "LostLanesModel" (253 : Nat) ({ cls := "LostLanesModel", name := "isSmall", desc := "(I)Z" } : Jvm.MethodName)) ∈ lw_all := lw_g (lw_at lw_m8 60 rfl) rfl
theorem q1859 : (Jvm.Cond.static ({ cls := "LostLanesModel", name := "isSmall", desc := "(I)Z" } : Jvm.MethodName)) ∈ lw_all := lw_g (lw_at lw_m8 61 rfl) rfl
theorem q1860 : (Jvm.Cond.code ({ cls := "LostLanesModel", name := "isSmall", desc := "(I)Z" } : Jvm.MethodName) prog_22_method_34_code (1 : Nat) (Option.some Jvm.ClassFile.FieldType.boolean)) ∈ lw_all := lw_g (lw_at lw_m8 62 rfl) rfl
theorem q1861 : (Jvm.Cond.methodLink "LostLanesModel" (256 : Nat) ({ cls := "LostLanesModel", name := "isDigit", desc := "(I)Z" } : Jvm.MethodName)) ∈ lw_all := lw_g (lw_at lw_m8 63 rfl) rfl
theorem q1862 : (Jvm.Cond.static ({ cls := "LostLanesModel", name := "isDigit", desc := "(I)Z" } : Jvm.MethodName)) ∈ lw_all := lw_g (lw_at lw_m8 64 rfl) rfl
theorem q1863 : (Jvm.Cond.code ({ cls := "LostLanesModel", name := "isDigit", desc := "(I)Z" } : Jvm.MethodName) prog_22_method_35_code (1 : Nat) (Option.some Jvm.ClassFile.FieldType.boolean)) ∈ lw_all := lw_g (lw_at lw_m8 65 rfl) rfl
theorem q1864 : (Jvm.Cond.constantLong "LostLanesModel" (262 : Nat) (32 : Int64)) ∈ lw_all := lw_g (lw_at lw_m8 66 rfl) rfl
theorem q1865 : (Jvm.Cond.constantLong "LostLanesModel" (264 : Nat) (96 : Int64)) ∈ lw_all := lw_g (lw_at lw_m8 67 rfl) rfl
theorem q1866 : (Jvm.Cond.constantLong "LostLanesModel" (268 : Nat) (1000000 : Int64)) ∈ lw_all := lw_g (lw_at lw_m8 68 rfl) rfl
theorem q1867 : (Jvm.Cond.constantLong "LostLanesModel" (270 : Nat) (48 : Int64)) ∈ lw_all := lw_g (lw_at lw_m8 69 rfl) rfl
theorem q1868 : (Jvm.Cond.methodLink "LostLanesModel" (381 : Nat) ({ cls := "LostLanesModel", name := "readLaw", desc := "()V" } : Jvm.MethodName)) ∈ lw_all := lw_g (lw_at lw_m8 70 rfl) rfl
theorem q1869 : (Jvm.Cond.privateMethod ({ cls := "LostLanesModel", name := "readLaw", desc := "()V" } : Jvm.MethodName)) ∈ lw_tbl := lw_at lw_m8 71 rfl
theorem q1870 : (Jvm.Cond.instanceMethod ({ cls := "LostLanesModel", name := "readLaw", desc := "()V" } : Jvm.MethodName)) ∈ lw_all := lw_g (lw_at lw_m8 72 rfl) rfl
theorem q1871 : (Jvm.Cond.code ({ cls := "LostLanesModel", name := "readLaw", desc := "()V" } : Jvm.MethodName) prog_22_method_60_code (4 : Nat) (Option.none : Option Jvm.ClassFile.FieldType)) ∈ lw_all := lw_g (lw_at lw_m8 73 rfl) rfl
theorem q1872 : (Jvm.Cond.methodLink "LostLanesModel" (297 : Nat) ({ cls := "LostLanesModel", name := "isWord", desc := "(J)Z" } : Jvm.MethodName)) ∈ lw_all := lw_g (lw_at lw_m8 74 rfl) rfl
theorem q1873 : (Jvm.Cond.privateMethod ({ cls := "LostLanesModel", name := "isWord", desc := "(J)Z" } : Jvm.MethodName)) ∈ lw_tbl := lw_at lw_m8 75 rfl
theorem q1874 : (Jvm.Cond.instanceMethod ({ cls := "LostLanesModel", name := "isWord", desc := "(J)Z" } : Jvm.MethodName)) ∈ lw_all := lw_g (lw_at lw_m8 76 rfl) rfl
theorem q1875 : (Jvm.Cond.code ({ cls := "LostLanesModel", name := "isWord", desc := "(J)Z" } : Jvm.MethodName) prog_22_method_38_code (3 : Nat) (Option.some Jvm.ClassFile.FieldType.boolean)) ∈ lw_all := lw_g (lw_at lw_m8 77 rfl) rfl
theorem q1876 : (Jvm.Cond.methodLink "LostLanesModel" (272 : Nat) ({ cls := "LostLanesModel", name := "must", desc := "(Z)V" } : Jvm.MethodName)) ∈ lw_all := lw_g (lw_at lw_m8 78 rfl) rfl
theorem q1877 : (Jvm.Cond.privateMethod ({ cls := "LostLanesModel", name := "must", desc := "(Z)V" } : Jvm.MethodName)) ∈ lw_tbl := lw_at lw_m8 79 rfl
theorem q1878 : (Jvm.Cond.instanceMethod ({ cls := "LostLanesModel", name := "must", desc := "(Z)V" } : Jvm.MethodName)) ∈ lw_all := lw_g (lw_at lw_m8 80 rfl) rfl
theorem q1879 : (Jvm.Cond.code ({ cls := "LostLanesModel", name := "must", desc := "(Z)V" } : Jvm.MethodName) prog_22_method_40_code (2 : Nat) (Option.none : Option Jvm.ClassFile.FieldType)) ∈ lw_all := lw_g (lw_at lw_m8 81 rfl) rfl
theorem q1880 : (Jvm.Cond.methodLink "LostLanesModel" (373 : Nat) ({ cls := "LostLanesModel", name := "readExpression", desc := "(Z)V" } : Jvm.MethodName)) ∈ lw_all := lw_g (lw_at lw_m8 82 rfl) rfl
theorem q1881 : (Jvm.Cond.privateMethod ({ cls := "LostLanesModel", name := "readExpression", desc := "(Z)V" } : Jvm.MethodName)) ∈ lw_tbl := lw_at lw_m8 83 rfl
theorem q1882 : (Jvm.Cond.instanceMethod ({ cls := "LostLanesModel", name := "readExpression", desc := "(Z)V" } : Jvm.MethodName)) ∈ lw_all := lw_g (lw_at lw_m8 84 rfl) rfl
theorem q1883 : (Jvm.Cond.code ({ cls := "LostLanesModel", name := "readExpression", desc := "(Z)V" } : Jvm.MethodName) prog_22_method_57_code (3 : Nat) (Option.none : Option Jvm.ClassFile.FieldType)) ∈ lw_all := lw_g (lw_at lw_m8 85 rfl) rfl
theorem q1884 : (Jvm.Cond.methodLink "LostLanesModel" (357 : Nat) ({ cls := "LostLanesModel", name := "readPlain", desc := "()I" } : Jvm.MethodName)) ∈ lw_all := lw_g (lw_at lw_m8 86 rfl) rfl
theorem q1885 : (Jvm.Cond.privateMethod ({ cls := "LostLanesModel", name := "readPlain", desc := "()I" } : Jvm.MethodName)) ∈ lw_tbl := lw_at lw_m8 87 rfl
theorem q1886 : (Jvm.Cond.instanceMethod ({ cls := "LostLanesModel", name := "readPlain", desc := "()I" } : Jvm.MethodName)) ∈ lw_all := lw_g (lw_at lw_m8 88 rfl) rfl
theorem q1887 : (Jvm.Cond.code ({ cls := "LostLanesModel", name := "readPlain", desc := "()I" } : Jvm.MethodName) prog_22_method_54_code (1 : Nat) (Option.some Jvm.ClassFile.FieldType.int)) ∈ lw_all := lw_g (lw_at lw_m8 89 rfl) rfl
theorem q1888 : (Jvm.Cond.constantLong "LostLanesModel" (338 : Nat) (14836 : Int64)) ∈ lw_all := lw_g (lw_at lw_m8 90 rfl) rfl
theorem q1889 : (Jvm.Cond.methodLink "LostLanesModel" (304 : Nat) ({ cls := "LostLanesModel", name := "push", desc := "(II)V" } : Jvm.MethodName)) ∈ lw_all := lw_g (lw_at lw_m8 91 rfl) rfl
theorem q1890 : (Jvm.Cond.privateMethod ({ cls := "LostLanesModel", name := "push", desc := "(II)V" } : Jvm.MethodName)) ∈ lw_tbl := lw_at lw_m8 92 rfl
theorem q1891 : (Jvm.Cond.instanceMethod ({ cls := "LostLanesModel", name := "push", desc := "(II)V" } : Jvm.MethodName)) ∈ lw_all := lw_g (lw_at lw_m8 93 rfl) rfl
theorem q1892 : (Jvm.Cond.code ({ cls := "LostLanesModel", name := "push", desc := "(II)V" } : Jvm.MethodName) prog_22_method_44_code (3 : Nat) (Option.none : Option Jvm.ClassFile.FieldType)) ∈ lw_all := lw_g (lw_at lw_m8 94 rfl) rfl
theorem q1893 : (Jvm.Cond.methodLink "LostLanesModel" (310 : Nat) ({ cls := "LostLanesModel", name := "isSign", desc := "(I)Z" } : Jvm.MethodName)) ∈ lw_all := lw_g (lw_at lw_m8 95 rfl) rfl
theorem q1894 : (Jvm.Cond.privateMethod ({ cls := "LostLanesModel", name := "isSign", desc := "(I)Z" } : Jvm.MethodName)) ∈ lw_tbl := lw_at lw_m8 96 rfl
theorem q1895 : (Jvm.Cond.instanceMethod ({ cls := "LostLanesModel", name := "isSign", desc := "(I)Z" } : Jvm.MethodName)) ∈ lw_all := lw_g (lw_at lw_m8 97 rfl) rfl
theorem q1896 : (Jvm.Cond.code ({ cls := "LostLanesModel", name := "isSign", desc := "(I)Z" } : Jvm.MethodName) prog_22_method_39_code (2 : Nat) (Option.some Jvm.ClassFile.FieldType.boolean)) ∈ lw_all := lw_g (lw_at lw_m8 98 rfl) rfl
theorem q1897 : (Jvm.Cond.methodLink "LostLanesModel" (313 : Nat) ({ cls := "LostLanesModel", name := "openBracket", desc := "(I)V" } : Jvm.MethodName)) ∈ lw_all := lw_g (lw_at lw_m8 99 rfl) rfl
theorem q1898 : (Jvm.Cond.privateMethod ({ cls := "LostLanesModel", name := "openBracket", desc := "(I)V" } : Jvm.MethodName)) ∈ lw_tbl := lw_at lw_m8 100 rfl
theorem q1899 : (Jvm.Cond.instanceMethod ({ cls := "LostLanesModel", name := "openBracket", desc := "(I)V" } : Jvm.MethodName)) ∈ lw_all := lw_g (lw_at lw_m8 101 rfl) rfl
theorem q1900 : (Jvm.Cond.code ({ cls := "LostLanesModel", name := "openBracket", desc := "(I)V" } : Jvm.MethodName) prog_22_method_51_code (2 : Nat) (Option.none : Option Jvm.ClassFile.FieldType)) ∈ lw_all := lw_g (lw_at lw_m8 102 rfl) rfl
theorem q1901 : (Jvm.Cond.methodLink "LostLanesModel" (340 : Nat) ({ cls := "LostLanesModel", name := "readPart", desc := "()I" } : Jvm.MethodName)) ∈ lw_all := lw_g (lw_at lw_m8 103 rfl) rfl
theorem q1902 : (Jvm.Cond.privateMethod ({ cls := "LostLanesModel", name := "readPart", desc := "()I" } : Jvm.MethodName)) ∈ lw_tbl := lw_at lw_m8 104 rfl
theorem q1903 : (Jvm.Cond.instanceMethod ({ cls := "LostLanesModel", name := "readPart", desc := "()I" } : Jvm.MethodName)) ∈ lw_all := lw_g (lw_at lw_m8 105 rfl) rfl
theorem q1904 : (Jvm.Cond.code ({ cls := "LostLanesModel", name := "readPart", desc := "()I" } : Jvm.MethodName) prog_22_method_53_code (4 : Nat) (Option.some Jvm.ClassFile.FieldType.int)) ∈ lw_all := lw_g (lw_at lw_m8 106 rfl) rfl
theorem q1905 : (Jvm.Cond.methodLink "LostLanesModel" (319 : Nat) ({ cls := "LostLanesModel", name := "orderPartAt", desc := "()I" } : Jvm.MethodName)) ∈ lw_all := lw_g (lw_at lw_m8 107 rfl) rfl
theorem q1906 : (Jvm.Cond.privateMethod ({ cls := "LostLanesModel", name := "orderPartAt", desc := "()I" } : Jvm.MethodName)) ∈ lw_tbl := lw_at lw_m8 108 rfl
theorem q1907 : (Jvm.Cond.instanceMethod ({ cls := "LostLanesModel", name := "orderPartAt", desc := "()I" } : Jvm.MethodName)) ∈ lw_all := lw_g (lw_at lw_m8 109 rfl) rfl
theorem q1908 : (Jvm.Cond.code ({ cls := "LostLanesModel", name := "orderPartAt", desc := "()I" } : Jvm.MethodName) prog_22_method_50_code (3 : Nat) (Option.some Jvm.ClassFile.FieldType.int)) ∈ lw_all := lw_g (lw_at lw_m8 110 rfl) rfl
theorem q1909 : (Jvm.Cond.methodLink "LostLanesModel" (323 : Nat) ({ cls := "LostLanesModel", name := "partAt", desc := "()I" } : Jvm.MethodName)) ∈ lw_all := lw_g (lw_at lw_m8 111 rfl) rfl
theorem q1910 : (Jvm.Cond.privateMethod ({ cls := "LostLanesModel", name := "partAt", desc := "()I" } : Jvm.MethodName)) ∈ lw_tbl := lw_at lw_m8 112 rfl
theorem q1911 : (Jvm.Cond.instanceMethod ({ cls := "LostLanesModel", name := "partAt", desc := "()I" } : Jvm.MethodName)) ∈ lw_all := lw_g (lw_at lw_m8 113 rfl) rfl
theorem q1912 : (Jvm.Cond.code ({ cls := "LostLanesModel", name := "partAt", desc := "()I" } : Jvm.MethodName) prog_22_method_49_code (3 : Nat) (Option.some Jvm.ClassFile.FieldType.int)) ∈ lw_all := lw_g (lw_at lw_m8 114 rfl) rfl
theorem q1913 : (Jvm.Cond.constantLong "LostLanesModel" (326 : Nat) (1000 : Int64)) ∈ lw_all := lw_g (lw_at lw_m8 115 rfl) rfl
theorem q1914 : (Jvm.Cond.methodLink "LostLanesModel" (328 : Nat) ({ cls := "LostLanesModel", name := "leaf", desc := "(ZII)V" } : Jvm.MethodName)) ∈ lw_all := lw_g (lw_at lw_m8 116 rfl) rfl
theorem q1915 : (Jvm.Cond.privateMethod ({ cls := "LostLanesModel", name := "leaf", desc := "(ZII)V" } : Jvm.MethodName)) ∈ lw_tbl := lw_at lw_m8 117 rfl
theorem q1916 : (Jvm.Cond.instanceMethod ({ cls := "LostLanesModel", name := "leaf", desc := "(ZII)V" } : Jvm.MethodName)) ∈ lw_all := lw_g (lw_at lw_m8 118 rfl) rfl
theorem q1917 : (Jvm.Cond.code ({ cls := "LostLanesModel", name := "leaf", desc := "(ZII)V" } : Jvm.MethodName) prog_22_method_52_code (4 : Nat) (Option.none : Option Jvm.ClassFile.FieldType)) ∈ lw_all := lw_g (lw_at lw_m8 119 rfl) rfl
theorem q1918 : (Jvm.Cond.methodLink "LostLanesModel" (285 : Nat) ({ cls := "LostLanesModel", name := "emit", desc := "(II)V" } : Jvm.MethodName)) ∈ lw_all := lw_g (lw_at lw_m8 120 rfl) rfl
theorem q1919 : (Jvm.Cond.privateMethod ({ cls := "LostLanesModel", name := "emit", desc := "(II)V" } : Jvm.MethodName)) ∈ lw_tbl := lw_at lw_m8 121 rfl
theorem q1920 : (Jvm.Cond.instanceMethod ({ cls := "LostLanesModel", name := "emit", desc := "(II)V" } : Jvm.MethodName)) ∈ lw_all := lw_g (lw_at lw_m8 122 rfl) rfl
theorem q1921 : (Jvm.Cond.code ({ cls := "LostLanesModel", name := "emit", desc := "(II)V" } : Jvm.MethodName) prog_22_method_43_code (3 : Nat) (Option.none : Option Jvm.ClassFile.FieldType)) ∈ lw_all := lw_g (lw_at lw_m8 123 rfl) rfl
theorem q1922 : (Jvm.Cond.constantLong "LostLanesModel" (332 : Nat) (3 : Int64)) ∈ lw_all := lw_g (lw_at lw_m8 124 rfl) rfl
theorem q1923 : (Jvm.Cond.methodLink "LostLanesModel" (334 : Nat) ({ cls := "LostLanesModel", name := "number", desc := "(JJ)I" } : Jvm.MethodName)) ∈ lw_all := lw_g (lw_at lw_m8 125 rfl) rfl
theorem q1924 : (Jvm.Cond.privateMethod ({ cls := "LostLanesModel", name := "number", desc := "(JJ)I" } : Jvm.MethodName)) ∈ lw_tbl := lw_at lw_m8 126 rfl
theorem q1925 : (Jvm.Cond.instanceMethod ({ cls := "LostLanesModel", name := "number", desc := "(JJ)I" } : Jvm.MethodName)) ∈ lw_all := lw_g (lw_at lw_m8 127 rfl) rfl
theorem q1926 : (Jvm.Cond.code ({ cls := "LostLanesModel", name := "number", desc := "(JJ)I" } : Jvm.MethodName) prog_22_method_41_code (6 : Nat) (Option.some Jvm.ClassFile.FieldType.int)) ∈ lw_all := lw_g (lw_at lw_m8 128 rfl) rfl
theorem q1927 : (Jvm.Cond.methodLink "LostLanesModel" (360 : Nat) ({ cls := "LostLanesModel", name := "behindSum", desc := "(Z)I" } : Jvm.MethodName)) ∈ lw_all := lw_g (lw_at lw_m8 129 rfl) rfl
theorem q1928 : (Jvm.Cond.privateMethod ({ cls := "LostLanesModel", name := "behindSum", desc := "(Z)I" } : Jvm.MethodName)) ∈ lw_tbl := lw_at lw_m8 130 rfl
theorem q1929 : (Jvm.Cond.instanceMethod ({ cls := "LostLanesModel", name := "behindSum", desc := "(Z)I" } : Jvm.MethodName)) ∈ lw_all := lw_g (lw_at lw_m8 131 rfl) rfl
theorem q1930 : (Jvm.Cond.code ({ cls := "LostLanesModel", name := "behindSum", desc := "(Z)I" } : Jvm.MethodName) prog_22_method_55_code (4 : Nat) (Option.some Jvm.ClassFile.FieldType.int)) ∈ lw_all := lw_g (lw_at lw_m8 132 rfl) rfl
theorem q1931 : (Jvm.Cond.methodLink "LostLanesModel" (282 : Nat) ({ cls := "LostLanesModel", name := "binds", desc := "(I)I" } : Jvm.MethodName)) ∈ lw_all := lw_g (lw_at lw_m8 133 rfl) rfl
theorem q1932 : (Jvm.Cond.static ({ cls := "LostLanesModel", name := "binds", desc := "(I)I" } : Jvm.MethodName)) ∈ lw_all := lw_g (lw_at lw_m8 134 rfl) rfl
theorem q1933 : (Jvm.Cond.code ({ cls := "LostLanesModel", name := "binds", desc := "(I)I" } : Jvm.MethodName) prog_22_method_45_code (1 : Nat) (Option.some Jvm.ClassFile.FieldType.int)) ∈ lw_all := lw_g (lw_at lw_m8 135 rfl) rfl
theorem q1934 : (Jvm.Cond.methodLink "LostLanesModel" (343 : Nat) ({ cls := "LostLanesModel", name := "settle", desc := "(I)V" } : Jvm.MethodName)) ∈ lw_all := lw_g (lw_at lw_m8 136 rfl) rfl
theorem q1935 : (Jvm.Cond.privateMethod ({ cls := "LostLanesModel", name := "settle", desc := "(I)V" } : Jvm.MethodName)) ∈ lw_tbl := lw_at lw_m8 137 rfl
theorem q1936 : (Jvm.Cond.instanceMethod ({ cls := "LostLanesModel", name := "settle", desc := "(I)V" } : Jvm.MethodName)) ∈ lw_all := lw_g (lw_at lw_m8 138 rfl) rfl
theorem q1937 : (Jvm.Cond.code ({ cls := "LostLanesModel", name := "settle", desc := "(I)V" } : Jvm.MethodName) prog_22_method_46_code (2 : Nat) (Option.none : Option Jvm.ClassFile.FieldType)) ∈ lw_all := lw_g (lw_at lw_m8 139 rfl) rfl
theorem q1938 : (Jvm.Cond.methodLink "LostLanesModel" (346 : Nat) ({ cls := "LostLanesModel", name := "inner", desc := "()I" } : Jvm.MethodName)) ∈ lw_all := lw_g (lw_at lw_m8 140 rfl) rfl
theorem q1939 : (Jvm.Cond.privateMethod ({ cls := "LostLanesModel", name := "inner", desc := "()I" } : Jvm.MethodName)) ∈ lw_tbl := lw_at lw_m8 141 rfl
theorem q1940 : (Jvm.Cond.instanceMethod ({ cls := "LostLanesModel", name := "inner", desc := "()I" } : Jvm.MethodName)) ∈ lw_all := lw_g (lw_at lw_m8 142 rfl) rfl
theorem q1941 : (Jvm.Cond.code ({ cls := "LostLanesModel", name := "inner", desc := "()I" } : Jvm.MethodName) prog_22_method_47_code (3 : Nat) (Option.some Jvm.ClassFile.FieldType.int)) ∈ lw_all := lw_g (lw_at lw_m8 143 rfl) rfl
theorem q1942 : (Jvm.Cond.methodLink "LostLanesModel" (349 : Nat) ({ cls := "LostLanesModel", name := "isCompared", desc := "()Z" } : Jvm.MethodName)) ∈ lw_all := lw_g (lw_at lw_m8 144 rfl) rfl
theorem q1943 : (Jvm.Cond.privateMethod ({ cls := "LostLanesModel", name := "isCompared", desc := "()Z" } : Jvm.MethodName)) ∈ lw_tbl := lw_at lw_m8 145 rfl
theorem q1944 : (Jvm.Cond.instanceMethod ({ cls := "LostLanesModel", name := "isCompared", desc := "()Z" } : Jvm.MethodName)) ∈ lw_all := lw_g (lw_at lw_m8 146 rfl) rfl
theorem q1945 : (Jvm.Cond.code ({ cls := "LostLanesModel", name := "isCompared", desc := "()Z" } : Jvm.MethodName) prog_22_method_48_code (2 : Nat) (Option.some Jvm.ClassFile.FieldType.boolean)) ∈ lw_all := lw_g (lw_at lw_m8 147 rfl) rfl
theorem q1946 : (Jvm.Cond.constantLong "LostLanesModel" (289 : Nat) (20 : Int64)) ∈ lw_all := lw_g (lw_at lw_m8 148 rfl) rfl
theorem q1947 : (Jvm.Cond.constantLong "LostLanesModel" (291 : Nat) (24 : Int64)) ∈ lw_all := lw_g (lw_at lw_m8 149 rfl) rfl
theorem q1948 : (Jvm.Cond.constantLong "LostLanesModel" (293 : Nat) (25 : Int64)) ∈ lw_all := lw_g (lw_at lw_m8 150 rfl) rfl
theorem q1949 : (Jvm.Cond.constantLong "LostLanesModel" (295 : Nat) (27 : Int64)) ∈ lw_all := lw_g (lw_at lw_m8 151 rfl) rfl
theorem q1950 : (Jvm.Cond.methodLink "LostLanesModel" (364 : Nat) ({ cls := "LostLanesModel", name := "behindTest", desc := "()I" } : Jvm.MethodName)) ∈ lw_all := lw_g (lw_at lw_m8 152 rfl) rfl
theorem q1951 : (Jvm.Cond.privateMethod ({ cls := "LostLanesModel", name := "behindTest", desc := "()I" } : Jvm.MethodName)) ∈ lw_tbl := lw_at lw_m8 153 rfl
theorem q1952 : (Jvm.Cond.instanceMethod ({ cls := "LostLanesModel", name := "behindTest", desc := "()I" } : Jvm.MethodName)) ∈ lw_all := lw_g (lw_at lw_m8 154 rfl) rfl
theorem q1953 : (Jvm.Cond.code ({ cls := "LostLanesModel", name := "behindTest", desc := "()I" } : Jvm.MethodName) prog_22_method_56_code (2 : Nat) (Option.some Jvm.ClassFile.FieldType.int)) ∈ lw_all := lw_g (lw_at lw_m8 155 rfl) rfl
theorem q1954 : (Jvm.Cond.constantLong "LostLanesModel" (353 : Nat) (1476 : Int64)) ∈ lw_all := lw_g (lw_at lw_m8 156 rfl) rfl
theorem q1955 : (Jvm.Cond.constantLong "LostLanesModel" (355 : Nat) (498 : Int64)) ∈ lw_all := lw_g (lw_at lw_m8 157 rfl) rfl
theorem q1956 : (Jvm.Cond.constantLong "LostLanesModel" (376 : Nat) (294 : Int64)) ∈ lw_all := lw_g (lw_at lw_m8 158 rfl) rfl
theorem q1957 : (Jvm.Cond.methodLink "LostLanesModel" (384 : Nat) ({ cls := "LostLanesModel", name := "endText", desc := "()V" } : Jvm.MethodName)) ∈ lw_all := lw_g (lw_at lw_m8 159 rfl) rfl
theorem q1958 : (Jvm.Cond.privateMethod ({ cls := "LostLanesModel", name := "endText", desc := "()V" } : Jvm.MethodName)) ∈ lw_tbl := lw_at lw_m8 160 rfl
theorem q1959 : (Jvm.Cond.instanceMethod ({ cls := "LostLanesModel", name := "endText", desc := "()V" } : Jvm.MethodName)) ∈ lw_all := lw_g (lw_at lw_m8 161 rfl) rfl
theorem q1960 : (Jvm.Cond.code ({ cls := "LostLanesModel", name := "endText", desc := "()V" } : Jvm.MethodName) prog_22_method_59_code (1 : Nat) (Option.none : Option Jvm.ClassFile.FieldType)) ∈ lw_all := lw_g (lw_at lw_m8 162 rfl) rfl
theorem q1962 : (Jvm.Cond.instanceMethod ({ cls := "LostLanesModel", name := "force", desc := "(I)I" } : Jvm.MethodName)) ∈ lw_all := lw_g (lw_at lw_m8 164 rfl) rfl
theorem q1963 : (Jvm.Cond.selects "LostLanesModel" ({ cls := "LostLanesModel", name := "force", desc := "(I)I" } : Jvm.MethodName) ({ cls := "LostLanesModel", name := "force", desc := "(I)I" } : Jvm.MethodName)) ∈ lw_all := lw_g (lw_at lw_m8 165 rfl) rfl
theorem q1964 : (Jvm.Cond.code ({ cls := "LostLanesModel", name := "force", desc := "(I)I" } : Jvm.MethodName) prog_22_method_63_code (2 : Nat) (Option.some Jvm.ClassFile.FieldType.int)) ∈ lw_all := lw_g (lw_at lw_m8 166 rfl) rfl
theorem q1965 : (Jvm.Cond.methodLink "LostLanesModel" (387 : Nat) ({ cls := "LostLanesModel", name := "isLaw", desc := "(I)Z" } : Jvm.MethodName)) ∈ lw_all := lw_g (lw_at lw_m8 167 rfl) rfl
theorem q1966 : (Jvm.Cond.privateMethod ({ cls := "LostLanesModel", name := "isLaw", desc := "(I)Z" } : Jvm.MethodName)) ∈ lw_tbl := lw_at lw_m8 168 rfl
theorem q1967 : (Jvm.Cond.instanceMethod ({ cls := "LostLanesModel", name := "isLaw", desc := "(I)Z" } : Jvm.MethodName)) ∈ lw_all := lw_g (lw_at lw_m8 169 rfl) rfl
theorem q1968 : (Jvm.Cond.code ({ cls := "LostLanesModel", name := "isLaw", desc := "(I)Z" } : Jvm.MethodName) prog_22_method_62_code (2 : Nat) (Option.some Jvm.ClassFile.FieldType.boolean)) ∈ lw_all := lw_g (lw_at lw_m8 170 rfl) rfl
theorem q1970 : (Jvm.Cond.instanceMethod ({ cls := "LostLanesModel", name := "wander", desc := "(I)I" } : Jvm.MethodName)) ∈ lw_all := lw_g (lw_at lw_m8 172 rfl) rfl
theorem q1971 : (Jvm.Cond.selects "LostLanesModel" ({ cls := "LostLanesModel", name := "wander", desc := "(I)I" } : Jvm.MethodName) ({ cls := "LostLanesModel", name := "wander", desc := "(I)I" } : Jvm.MethodName)) ∈ lw_all := lw_g (lw_at lw_m8 173 rfl) rfl
theorem q1972 : (Jvm.Cond.code ({ cls := "LostLanesModel", name := "wander", desc := "(I)I" } : Jvm.MethodName) prog_22_method_75_code (2 : Nat) (Option.some Jvm.ClassFile.FieldType.int)) ∈ lw_all := lw_g (lw_at lw_m8 174 rfl) rfl
theorem q1973 : (Jvm.Cond.methodLink "LostLanesModel" (439 : Nat) ({ cls := "LostLanesModel", name := "wanderNow", desc := "(I)I" } : Jvm.MethodName)) ∈ lw_all := lw_g (lw_at lw_m8 175 rfl) rfl
theorem q1974 : (Jvm.Cond.privateMethod ({ cls := "LostLanesModel", name := "wanderNow", desc := "(I)I" } : Jvm.MethodName)) ∈ lw_tbl := lw_at lw_m8 176 rfl
theorem q1975 : (Jvm.Cond.instanceMethod ({ cls := "LostLanesModel", name := "wanderNow", desc := "(I)I" } : Jvm.MethodName)) ∈ lw_all := lw_g (lw_at lw_m8 177 rfl) rfl
theorem q1976 : (Jvm.Cond.code ({ cls := "LostLanesModel", name := "wanderNow", desc := "(I)I" } : Jvm.MethodName) prog_22_method_74_code (3 : Nat) (Option.some Jvm.ClassFile.FieldType.int)) ∈ lw_all := lw_g (lw_at lw_m8 178 rfl) rfl
theorem q1977 : (Jvm.Cond.methodLink "LostLanesModel" (433 : Nat) ({ cls := "LostLanesModel", name := "remember", desc := "(I)V" } : Jvm.MethodName)) ∈ lw_all := lw_g (lw_at lw_m8 179 rfl) rfl
theorem q1978 : (Jvm.Cond.privateMethod ({ cls := "LostLanesModel", name := "remember", desc := "(I)V" } : Jvm.MethodName)) ∈ lw_tbl := lw_at lw_m8 180 rfl
theorem q1979 : (Jvm.Cond.instanceMethod ({ cls := "LostLanesModel", name := "remember", desc := "(I)V" } : Jvm.MethodName)) ∈ lw_all := lw_g (lw_at lw_m8 181 rfl) rfl
theorem q1980 : (Jvm.Cond.code ({ cls := "LostLanesModel", name := "remember", desc := "(I)V" } : Jvm.MethodName) prog_22_method_12_code (3 : Nat) (Option.none : Option Jvm.ClassFile.FieldType)) ∈ lw_all := lw_g (lw_at lw_m8 182 rfl) rfl
theorem q1981 : (Jvm.Cond.methodLink "LostLanesModel" (172 : Nat) ({ cls := "LostLanesModel", name := "keepAll", desc := "(I)V" } : Jvm.MethodName)) ∈ lw_all := lw_g (lw_at lw_m8 183 rfl) rfl
theorem q1982 : (Jvm.Cond.privateMethod ({ cls := "LostLanesModel", name := "keepAll", desc := "(I)V" } : Jvm.MethodName)) ∈ lw_tbl := lw_at lw_m8 184 rfl
theorem q1983 : (Jvm.Cond.instanceMethod ({ cls := "LostLanesModel", name := "keepAll", desc := "(I)V" } : Jvm.MethodName)) ∈ lw_all := lw_g (lw_at lw_m8 185 rfl) rfl
theorem q1984 : (Jvm.Cond.code ({ cls := "LostLanesModel", name := "keepAll", desc := "(I)V" } : Jvm.MethodName) prog_22_method_10_code (3 : Nat) (Option.none : Option Jvm.ClassFile.FieldType)) ∈ lw_all := lw_g (lw_at lw_m8 186 rfl) rfl
theorem q1985 : (Jvm.Cond.methodLink "LostLanesModel" (436 : Nat) ({ cls := "LostLanesModel", name := "goAlong", desc := "(II)V" } : Jvm.MethodName)) ∈ lw_all := lw_g (lw_at lw_m8 187 rfl) rfl
theorem q1986 : (Jvm.Cond.privateMethod ({ cls := "LostLanesModel", name := "goAlong", desc := "(II)V" } : Jvm.MethodName)) ∈ lw_tbl := lw_at lw_m8 188 rfl
theorem q1987 : (Jvm.Cond.instanceMethod ({ cls := "LostLanesModel", name := "goAlong", desc := "(II)V" } : Jvm.MethodName)) ∈ lw_all := lw_g (lw_at lw_m8 189 rfl) rfl
theorem q1988 : (Jvm.Cond.code ({ cls := "LostLanesModel", name := "goAlong", desc := "(II)V" } : Jvm.MethodName) prog_22_method_73_code (3 : Nat) (Option.none : Option Jvm.ClassFile.FieldType)) ∈ lw_all := lw_g (lw_at lw_m8 190 rfl) rfl
theorem q1989 : (Jvm.Cond.methodLink "LostLanesModel" (430 : Nat) ({ cls := "LostLanesModel", name := "across", desc := "(II)I" } : Jvm.MethodName)) ∈ lw_all := lw_g (lw_at lw_m8 191 rfl) rfl
theorem q1990 : (Jvm.Cond.privateMethod ({ cls := "LostLanesModel", name := "across", desc := "(II)I" } : Jvm.MethodName)) ∈ lw_tbl := lw_at lw_m8 192 rfl
theorem q1991 : (Jvm.Cond.instanceMethod ({ cls := "LostLanesModel", name := "across", desc := "(II)I" } : Jvm.MethodName)) ∈ lw_all := lw_g (lw_at lw_m8 193 rfl) rfl
theorem q1992 : (Jvm.Cond.code ({ cls := "LostLanesModel", name := "across", desc := "(II)I" } : Jvm.MethodName) prog_22_method_20_code (3 : Nat) (Option.some Jvm.ClassFile.FieldType.int)) ∈ lw_all := lw_g (lw_at lw_m8 194 rfl) rfl
theorem q1994 : (Jvm.Cond.instanceMethod ({ cls := "LostLanesModel", name := "cry", desc := "(I)I" } : Jvm.MethodName)) ∈ lw_all := lw_g (lw_at lw_m8 196 rfl) rfl
theorem q1995 : (Jvm.Cond.selects "LostLanesModel" ({ cls := "LostLanesModel", name := "cry", desc := "(I)I" } : Jvm.MethodName) ({ cls := "LostLanesModel", name := "cry", desc := "(I)I" } : Jvm.MethodName)) ∈ lw_all := lw_g (lw_at lw_m8 197 rfl) rfl
theorem q1996 : (Jvm.Cond.code ({ cls := "LostLanesModel", name := "cry", desc := "(I)I" } : Jvm.MethodName) prog_22_method_78_code (2 : Nat) (Option.some Jvm.ClassFile.FieldType.int)) ∈ lw_all := lw_g (lw_at lw_m8 198 rfl) rfl
theorem q1997 : (Jvm.Cond.methodLink "LostLanesModel" (445 : Nat) ({ cls := "LostLanesModel", name := "cryNow", desc := "(I)I" } : Jvm.MethodName)) ∈ lw_all := lw_g (lw_at lw_m8 199 rfl) rfl
theorem q1998 : (Jvm.Cond.privateMethod ({ cls := "LostLanesModel", name := "cryNow", desc := "(I)I" } : Jvm.MethodName)) ∈ lw_tbl := lw_at lw_m8 200 rfl
theorem q1999 : (Jvm.Cond.instanceMethod ({ cls := "LostLanesModel", name := "cryNow", desc := "(I)I" } : Jvm.MethodName)) ∈ lw_all := lw_g (lw_at lw_m8 201 rfl) rfl
theorem q2000 : (Jvm.Cond.code ({ cls := "LostLanesModel", name := "cryNow", desc := "(I)I" } : Jvm.MethodName) prog_22_method_77_code (2 : Nat) (Option.some Jvm.ClassFile.FieldType.int)) ∈ lw_all := lw_g (lw_at lw_m8 202 rfl) rfl
theorem q2001 : (Jvm.Cond.methodLink "LostLanesModel" (442 : Nat) ({ cls := "LostLanesModel", name := "cryIt", desc := "(I)I" } : Jvm.MethodName)) ∈ lw_all := lw_g (lw_at lw_m8 203 rfl) rfl
theorem q2002 : (Jvm.Cond.privateMethod ({ cls := "LostLanesModel", name := "cryIt", desc := "(I)I" } : Jvm.MethodName)) ∈ lw_tbl := lw_at lw_m8 204 rfl
theorem q2003 : (Jvm.Cond.instanceMethod ({ cls := "LostLanesModel", name := "cryIt", desc := "(I)I" } : Jvm.MethodName)) ∈ lw_all := lw_g (lw_at lw_m8 205 rfl) rfl
theorem q2004 : (Jvm.Cond.code ({ cls := "LostLanesModel", name := "cryIt", desc := "(I)I" } : Jvm.MethodName) prog_22_method_76_code (3 : Nat) (Option.some Jvm.ClassFile.FieldType.int)) ∈ lw_all := lw_g (lw_at lw_m8 206 rfl) rfl
theorem q2006 : (Jvm.Cond.instanceMethod ({ cls := "LostLanesModel", name := "lead", desc := "(II)I" } : Jvm.MethodName)) ∈ lw_all := lw_g (lw_at lw_m8 208 rfl) rfl
theorem q2007 : (Jvm.Cond.selects "LostLanesModel" ({ cls := "LostLanesModel", name := "lead", desc := "(II)I" } : Jvm.MethodName) ({ cls := "LostLanesModel", name := "lead", desc := "(II)I" } : Jvm.MethodName)) ∈ lw_all := lw_g (lw_at lw_m8 209 rfl) rfl
theorem q2008 : (Jvm.Cond.code ({ cls := "LostLanesModel", name := "lead", desc := "(II)I" } : Jvm.MethodName) prog_22_method_80_code (3 : Nat) (Option.some Jvm.ClassFile.FieldType.int)) ∈ lw_all := lw_g (lw_at lw_m8 210 rfl) rfl
theorem q2009 : (Jvm.Cond.methodLink "LostLanesModel" (448 : Nat) ({ cls := "LostLanesModel", name := "leadNow", desc := "(II)I" } : Jvm.MethodName)) ∈ lw_all := lw_g (lw_at lw_m8 211 rfl) rfl
theorem q2010 : (Jvm.Cond.privateMethod ({ cls := "LostLanesModel", name := "leadNow", desc := "(II)I" } : Jvm.MethodName)) ∈ lw_tbl := lw_at lw_m8 212 rfl
theorem q2011 : (Jvm.Cond.instanceMethod ({ cls := "LostLanesModel", name := "leadNow", desc := "(II)I" } : Jvm.MethodName)) ∈ lw_all := lw_g (lw_at lw_m8 213 rfl) rfl
theorem q2012 : (Jvm.Cond.code ({ cls := "LostLanesModel", name := "leadNow", desc := "(II)I" } : Jvm.MethodName) prog_22_method_79_code (4 : Nat) (Option.some Jvm.ClassFile.FieldType.int)) ∈ lw_all := lw_g (lw_at lw_m8 214 rfl) rfl
theorem q2014 : (Jvm.Cond.instanceMethod ({ cls := "LostLanesModel", name := "pass", desc := "()I" } : Jvm.MethodName)) ∈ lw_all := lw_g (lw_at lw_m8 216 rfl) rfl
theorem q2015 : (Jvm.Cond.selects "LostLanesModel" ({ cls := "LostLanesModel", name := "pass", desc := "()I" } : Jvm.MethodName) ({ cls := "LostLanesModel", name := "pass", desc := "()I" } : Jvm.MethodName)) ∈ lw_all := lw_g (lw_at lw_m8 217 rfl) rfl
theorem q2016 : (Jvm.Cond.code ({ cls := "LostLanesModel", name := "pass", desc := "()I" } : Jvm.MethodName) prog_22_method_83_code (1 : Nat) (Option.some Jvm.ClassFile.FieldType.int)) ∈ lw_all := lw_g (lw_at lw_m8 218 rfl) rfl
theorem q2017 : (Jvm.Cond.methodLink "LostLanesModel" (454 : Nat) ({ cls := "LostLanesModel", name := "passNow", desc := "()I" } : Jvm.MethodName)) ∈ lw_all := lw_g (lw_at lw_m8 219 rfl) rfl
theorem q2018 : (Jvm.Cond.privateMethod ({ cls := "LostLanesModel", name := "passNow", desc := "()I" } : Jvm.MethodName)) ∈ lw_tbl := lw_at lw_m8 220 rfl
theorem q2019 : (Jvm.Cond.instanceMethod ({ cls := "LostLanesModel", name := "passNow", desc := "()I" } : Jvm.MethodName)) ∈ lw_all := lw_g (lw_at lw_m8 221 rfl) rfl
theorem q2020 : (Jvm.Cond.code ({ cls := "LostLanesModel", name := "passNow", desc := "()I" } : Jvm.MethodName) prog_22_method_82_code (1 : Nat) (Option.some Jvm.ClassFile.FieldType.int)) ∈ lw_all := lw_g (lw_at lw_m8 222 rfl) rfl
theorem q2021 : (Jvm.Cond.methodLink "LostLanesModel" (451 : Nat) ({ cls := "LostLanesModel", name := "passIt", desc := "()I" } : Jvm.MethodName)) ∈ lw_all := lw_g (lw_at lw_m8 223 rfl) rfl
theorem q2022 : (Jvm.Cond.privateMethod ({ cls := "LostLanesModel", name := "passIt", desc := "()I" } : Jvm.MethodName)) ∈ lw_tbl := lw_at lw_m8 224 rfl
theorem q2023 : (Jvm.Cond.instanceMethod ({ cls := "LostLanesModel", name := "passIt", desc := "()I" } : Jvm.MethodName)) ∈ lw_all := lw_g (lw_at lw_m8 225 rfl) rfl
theorem q2024 : (Jvm.Cond.code ({ cls := "LostLanesModel", name := "passIt", desc := "()I" } : Jvm.MethodName) prog_22_method_81_code (3 : Nat) (Option.some Jvm.ClassFile.FieldType.int)) ∈ lw_all := lw_g (lw_at lw_m8 226 rfl) rfl
theorem q2026 : (Jvm.Cond.instanceMethod ({ cls := "LostLanesModel", name := "where", desc := "(II)I" } : Jvm.MethodName)) ∈ lw_all := lw_g (lw_at lw_m8 228 rfl) rfl
theorem q2027 : (Jvm.Cond.selects "LostLanesModel" ({ cls := "LostLanesModel", name := "where", desc := "(II)I" } : Jvm.MethodName) ({ cls := "LostLanesModel", name := "where", desc := "(II)I" } : Jvm.MethodName)) ∈ lw_all := lw_g (lw_at lw_m8 229 rfl) rfl
theorem q2028 : (Jvm.Cond.code ({ cls := "LostLanesModel", name := "where", desc := "(II)I" } : Jvm.MethodName) prog_22_method_84_code (4 : Nat) (Option.some Jvm.ClassFile.FieldType.int)) ∈ lw_all := lw_g (lw_at lw_m8 230 rfl) rfl
theorem q2029 : (Jvm.Cond.constantLong "LostLanesModel" (457 : Nat) (60 : Int64)) ∈ lw_all := lw_g (lw_at lw_m8 231 rfl) rfl
theorem q2031 : (Jvm.Cond.instanceMethod ({ cls := "LostLanesModel", name := "far", desc := "(II)I" } : Jvm.MethodName)) ∈ lw_all := lw_g (lw_at lw_m8 233 rfl) rfl
theorem q2032 : (Jvm.Cond.selects "LostLanesModel" ({ cls := "LostLanesModel", name := "far", desc := "(II)I" } : Jvm.MethodName) ({ cls := "LostLanesModel", name := "far", desc := "(II)I" } : Jvm.MethodName)) ∈ lw_all := lw_g (lw_at lw_m8 234 rfl) rfl
theorem q2033 : (Jvm.Cond.code ({ cls := "LostLanesModel", name := "far", desc := "(II)I" } : Jvm.MethodName) prog_22_method_87_code (3 : Nat) (Option.some Jvm.ClassFile.FieldType.int)) ∈ lw_all := lw_g (lw_at lw_m8 235 rfl) rfl
theorem q2034 : (Jvm.Cond.methodLink "LostLanesModel" (460 : Nat) ({ cls := "LostLanesModel", name := "layFar", desc := "()V" } : Jvm.MethodName)) ∈ lw_all := lw_g (lw_at lw_m8 236 rfl) rfl
theorem q2035 : (Jvm.Cond.privateMethod ({ cls := "LostLanesModel", name := "layFar", desc := "()V" } : Jvm.MethodName)) ∈ lw_tbl := lw_at lw_m8 237 rfl
theorem q2036 : (Jvm.Cond.instanceMethod ({ cls := "LostLanesModel", name := "layFar", desc := "()V" } : Jvm.MethodName)) ∈ lw_all := lw_g (lw_at lw_m8 238 rfl) rfl
theorem q2037 : (Jvm.Cond.code ({ cls := "LostLanesModel", name := "layFar", desc := "()V" } : Jvm.MethodName) prog_22_method_85_code (5 : Nat) (Option.none : Option Jvm.ClassFile.FieldType)) ∈ lw_all := lw_g (lw_at lw_m8 239 rfl) rfl
theorem q2038 : (Jvm.Cond.constant "LostLanesModel" (459 : Nat) (100000000 : Int32)) ∈ lw_all := lw_g (lw_at lw_m9 0 rfl) rfl
theorem q2039 : (Jvm.Cond.methodLink "LostLanesModel" (463 : Nat) ({ cls := "LostLanesModel", name := "farOf", desc := "(II)I" } : Jvm.MethodName)) ∈ lw_all := lw_g (lw_at lw_m9 1 rfl) rfl
theorem q2040 : (Jvm.Cond.privateMethod ({ cls := "LostLanesModel", name := "farOf", desc := "(II)I" } : Jvm.MethodName)) ∈ lw_tbl := lw_at lw_m9 2 rfl
theorem q2041 : (Jvm.Cond.instanceMethod ({ cls := "LostLanesModel", name := "farOf", desc := "(II)I" } : Jvm.MethodName)) ∈ lw_all := lw_g (lw_at lw_m9 3 rfl) rfl
theorem q2042 : (Jvm.Cond.code ({ cls := "LostLanesModel", name := "farOf", desc := "(II)I" } : Jvm.MethodName) prog_22_method_86_code (3 : Nat) (Option.some Jvm.ClassFile.FieldType.int)) ∈ lw_all := lw_g (lw_at lw_m9 4 rfl) rfl
theorem q2044 : (Jvm.Cond.instanceMethod ({ cls := "LostLanesModel", name := "found", desc := "(II)I" } : Jvm.MethodName)) ∈ lw_all := lw_g (lw_at lw_m9 6 rfl) rfl
theorem q2045 : (Jvm.Cond.selects "LostLanesModel" ({ cls := "LostLanesModel", name := "found", desc := "(II)I" } : Jvm.MethodName) ({ cls := "LostLanesModel", name := "found", desc := "(II)I" } : Jvm.MethodName)) ∈ lw_all := lw_g (lw_at lw_m9 7 rfl) rfl
theorem q2046 : (Jvm.Cond.code ({ cls := "LostLanesModel", name := "found", desc := "(II)I" } : Jvm.MethodName) prog_22_method_89_code (4 : Nat) (Option.some Jvm.ClassFile.FieldType.int)) ∈ lw_all := lw_g (lw_at lw_m9 8 rfl) rfl
theorem q2047 : (Jvm.Cond.methodLink "LostLanesModel" (466 : Nat) ({ cls := "LostLanesModel", name := "foundAt", desc := "(II)I" } : Jvm.MethodName)) ∈ lw_all := lw_g (lw_at lw_m9 9 rfl) rfl
theorem q2048 : (Jvm.Cond.privateMethod ({ cls := "LostLanesModel", name := "foundAt", desc := "(II)I" } : Jvm.MethodName)) ∈ lw_tbl := lw_at lw_m9 10 rfl
theorem q2049 : (Jvm.Cond.instanceMethod ({ cls := "LostLanesModel", name := "foundAt", desc := "(II)I" } : Jvm.MethodName)) ∈ lw_all := lw_g (lw_at lw_m9 11 rfl) rfl
theorem q2050 : (Jvm.Cond.code ({ cls := "LostLanesModel", name := "foundAt", desc := "(II)I" } : Jvm.MethodName) prog_22_method_88_code (4 : Nat) (Option.some Jvm.ClassFile.FieldType.int)) ∈ lw_all := lw_g (lw_at lw_m9 12 rfl) rfl
theorem q2052 : (Jvm.Cond.instanceMethod ({ cls := "LostLanesModel", name := "post", desc := "(I)I" } : Jvm.MethodName)) ∈ lw_all := lw_g (lw_at lw_m9 14 rfl) rfl
theorem q2053 : (Jvm.Cond.selects "LostLanesModel" ({ cls := "LostLanesModel", name := "post", desc := "(I)I" } : Jvm.MethodName) ({ cls := "LostLanesModel", name := "post", desc := "(I)I" } : Jvm.MethodName)) ∈ lw_all := lw_g (lw_at lw_m9 15 rfl) rfl
theorem q2054 : (Jvm.Cond.code ({ cls := "LostLanesModel", name := "post", desc := "(I)I" } : Jvm.MethodName) prog_22_method_90_code (8 : Nat) (Option.some Jvm.ClassFile.FieldType.int)) ∈ lw_all := lw_g (lw_at lw_m9 16 rfl) rfl
theorem q2056 : (Jvm.Cond.instanceMethod ({ cls := "LostLanesModel", name := "posts", desc := "(II)I" } : Jvm.MethodName)) ∈ lw_all := lw_g (lw_at lw_m9 18 rfl) rfl
theorem q2057 : (Jvm.Cond.selects "LostLanesModel" ({ cls := "LostLanesModel", name := "posts", desc := "(II)I" } : Jvm.MethodName) ({ cls := "LostLanesModel", name := "posts", desc := "(II)I" } : Jvm.MethodName)) ∈ lw_all := lw_g (lw_at lw_m9 19 rfl) rfl
theorem q2058 : (Jvm.Cond.code ({ cls := "LostLanesModel", name := "posts", desc := "(II)I" } : Jvm.MethodName) prog_22_method_93_code (6 : Nat) (Option.some Jvm.ClassFile.FieldType.int)) ∈ lw_all := lw_g (lw_at lw_m9 20 rfl) rfl
theorem q2059 : (Jvm.Cond.constantLong "LostLanesModel" (475 : Nat) (50 : Int64)) ∈ lw_all := lw_g (lw_at lw_m9 21 rfl) rfl
theorem q2060 : (Jvm.Cond.methodLink "LostLanesModel" (477 : Nat) ({ cls := "LostLanesModel", name := "ones", desc := "(I)I" } : Jvm.MethodName)) ∈ lw_all := lw_g (lw_at lw_m9 22 rfl) rfl
theorem q2061 : (Jvm.Cond.static ({ cls := "LostLanesModel", name := "ones", desc := "(I)I" } : Jvm.MethodName)) ∈ lw_all := lw_g (lw_at lw_m9 23 rfl) rfl
theorem q2062 : (Jvm.Cond.code ({ cls := "LostLanesModel", name := "ones", desc := "(I)I" } : Jvm.MethodName) prog_22_method_5_code (3 : Nat) (Option.some Jvm.ClassFile.FieldType.int)) ∈ lw_all := lw_g (lw_at lw_m9 24 rfl) rfl
theorem q2063 : (Jvm.Cond.methodLink "LostLanesModel" (480 : Nat) ({ cls := "LostLanesModel", name := "allNear", desc := "(II)Z" } : Jvm.MethodName)) ∈ lw_all := lw_g (lw_at lw_m9 25 rfl) rfl
theorem q2064 : (Jvm.Cond.privateMethod ({ cls := "LostLanesModel", name := "allNear", desc := "(II)Z" } : Jvm.MethodName)) ∈ lw_tbl := lw_at lw_m9 26 rfl
theorem q2065 : (Jvm.Cond.instanceMethod ({ cls := "LostLanesModel", name := "allNear", desc := "(II)Z" } : Jvm.MethodName)) ∈ lw_all := lw_g (lw_at lw_m9 27 rfl) rfl
theorem q2066 : (Jvm.Cond.code ({ cls := "LostLanesModel", name := "allNear", desc := "(II)Z" } : Jvm.MethodName) prog_22_method_92_code (7 : Nat) (Option.some Jvm.ClassFile.FieldType.boolean)) ∈ lw_all := lw_g (lw_at lw_m9 28 rfl) rfl
theorem q2067 : (Jvm.Cond.methodLink "LostLanesModel" (469 : Nat) ({ cls := "LostLanesModel", name := "laneEnds", desc := "(I)I" } : Jvm.MethodName)) ∈ lw_all := lw_g (lw_at lw_m9 29 rfl) rfl
theorem q2068 : (Jvm.Cond.privateMethod ({ cls := "LostLanesModel", name := "laneEnds", desc := "(I)I" } : Jvm.MethodName)) ∈ lw_tbl := lw_at lw_m9 30 rfl
theorem q2069 : (Jvm.Cond.instanceMethod ({ cls := "LostLanesModel", name := "laneEnds", desc := "(I)I" } : Jvm.MethodName)) ∈ lw_all := lw_g (lw_at lw_m9 31 rfl) rfl
theorem q2070 : (Jvm.Cond.code ({ cls := "LostLanesModel", name := "laneEnds", desc := "(I)I" } : Jvm.MethodName) prog_22_method_91_code (4 : Nat) (Option.some Jvm.ClassFile.FieldType.int)) ∈ lw_all := lw_g (lw_at lw_m9 32 rfl) rfl
theorem q2071 : (Jvm.Cond.methodLink "LostLanesModel" (472 : Nat) ({ cls := "LostLanesModel", name := "is", desc := "(II)Z" } : Jvm.MethodName)) ∈ lw_all := lw_g (lw_at lw_m9 33 rfl) rfl
theorem q2072 : (Jvm.Cond.static ({ cls := "LostLanesModel", name := "is", desc := "(II)Z" } : Jvm.MethodName)) ∈ lw_all := lw_g (lw_at lw_m9 34 rfl) rfl
theorem q2073 : (Jvm.Cond.code ({ cls := "LostLanesModel", name := "is", desc := "(II)Z" } : Jvm.MethodName) prog_22_method_4_code (2 : Nat) (Option.some Jvm.ClassFile.FieldType.boolean)) ∈ lw_all := lw_g (lw_at lw_m9 35 rfl) rfl
theorem q2075 : (Jvm.Cond.instanceMethod ({ cls := "LostLanesModel", name := "again", desc := "(I)I" } : Jvm.MethodName)) ∈ lw_all := lw_g (lw_at lw_m9 37 rfl) rfl
theorem q2076 : (Jvm.Cond.selects "LostLanesModel" ({ cls := "LostLanesModel", name := "again", desc := "(I)I" } : Jvm.MethodName) ({ cls := "LostLanesModel", name := "again", desc := "(I)I" } : Jvm.MethodName)) ∈ lw_all := lw_g (lw_at lw_m9 38 rfl) rfl
theorem q2077 : (Jvm.Cond.code ({ cls := "LostLanesModel", name := "again", desc := "(I)I" } : Jvm.MethodName) prog_22_method_94_code (4 : Nat) (Option.some Jvm.ClassFile.FieldType.int)) ∈ lw_all := lw_g (lw_at lw_m9 39 rfl) rfl
theorem q2079 : (Jvm.Cond.instanceMethod ({ cls := "LostLanesModel", name := "hear", desc := "(I)I" } : Jvm.MethodName)) ∈ lw_all := lw_g (lw_at lw_m9 41 rfl) rfl
theorem q2080 : (Jvm.Cond.selects "LostLanesModel" ({ cls := "LostLanesModel", name := "hear", desc := "(I)I" } : Jvm.MethodName) ({ cls := "LostLanesModel", name := "hear", desc := "(I)I" } : Jvm.MethodName)) ∈ lw_all := lw_g (lw_at lw_m9 42 rfl) rfl
theorem q2081 : (Jvm.Cond.code ({ cls := "LostLanesModel", name := "hear", desc := "(I)I" } : Jvm.MethodName) prog_22_method_95_code (3 : Nat) (Option.some Jvm.ClassFile.FieldType.int)) ∈ lw_all := lw_g (lw_at lw_m9 43 rfl) rfl
theorem q2082 : (Jvm.Cond.constantLong "LostLanesModel" (483 : Nat) (19 : Int64)) ∈ lw_all := lw_g (lw_at lw_m9 44 rfl) rfl
theorem q2084 : (Jvm.Cond.instanceMethod ({ cls := "LostLanesModel", name := "forget", desc := "()I" } : Jvm.MethodName)) ∈ lw_all := lw_g (lw_at lw_m9 46 rfl) rfl
theorem q2085 : (Jvm.Cond.selects "LostLanesModel" ({ cls := "LostLanesModel", name := "forget", desc := "()I" } : Jvm.MethodName) ({ cls := "LostLanesModel", name := "forget", desc := "()I" } : Jvm.MethodName)) ∈ lw_all := lw_g (lw_at lw_m9 47 rfl) rfl
theorem q2086 : (Jvm.Cond.code ({ cls := "LostLanesModel", name := "forget", desc := "()I" } : Jvm.MethodName) prog_22_method_96_code (2 : Nat) (Option.some Jvm.ClassFile.FieldType.int)) ∈ lw_all := lw_g (lw_at lw_m9 48 rfl) rfl
theorem q2088 : (Jvm.Cond.instanceMethod ({ cls := "LostLanesModel", name := "gone", desc := "(I)I" } : Jvm.MethodName)) ∈ lw_all := lw_g (lw_at lw_m9 50 rfl) rfl
theorem q2089 : (Jvm.Cond.selects "LostLanesModel" ({ cls := "LostLanesModel", name := "gone", desc := "(I)I" } : Jvm.MethodName) ({ cls := "LostLanesModel", name := "gone", desc := "(I)I" } : Jvm.MethodName)) ∈ lw_all := lw_g (lw_at lw_m9 51 rfl) rfl
theorem q2090 : (Jvm.Cond.code ({ cls := "LostLanesModel", name := "gone", desc := "(I)I" } : Jvm.MethodName) prog_22_method_98_code (8 : Nat) (Option.some Jvm.ClassFile.FieldType.int)) ∈ lw_all := lw_g (lw_at lw_m9 52 rfl) rfl
theorem q2091 : (Jvm.Cond.constantLong "LostLanesModel" (485 : Nat) (2 : Int64)) ∈ lw_all := lw_g (lw_at lw_m9 53 rfl) rfl
theorem q2092 : (Jvm.Cond.methodLink "LostLanesModel" (487 : Nat) ({ cls := "LostLanesModel", name := "goneFrom", desc := "(I)I" } : Jvm.MethodName)) ∈ lw_all := lw_g (lw_at lw_m9 54 rfl) rfl
theorem q2093 : (Jvm.Cond.privateMethod ({ cls := "LostLanesModel", name := "goneFrom", desc := "(I)I" } : Jvm.MethodName)) ∈ lw_tbl := lw_at lw_m9 55 rfl
theorem q2094 : (Jvm.Cond.instanceMethod ({ cls := "LostLanesModel", name := "goneFrom", desc := "(I)I" } : Jvm.MethodName)) ∈ lw_all := lw_g (lw_at lw_m9 56 rfl) rfl
theorem q2095 : (Jvm.Cond.code ({ cls := "LostLanesModel", name := "goneFrom", desc := "(I)I" } : Jvm.MethodName) prog_22_method_97_code (4 : Nat) (Option.some Jvm.ClassFile.FieldType.int)) ∈ lw_all := lw_g (lw_at lw_m9 57 rfl) rfl
theorem q2097 : (Jvm.Cond.instanceMethod ({ cls := "LostLanesModel", name := "named", desc := "(I)I" } : Jvm.MethodName)) ∈ lw_all := lw_g (lw_at lw_m9 59 rfl) rfl
theorem q2098 : (Jvm.Cond.selects "LostLanesModel" ({ cls := "LostLanesModel", name := "named", desc := "(I)I" } : Jvm.MethodName) ({ cls := "LostLanesModel", name := "named", desc := "(I)I" } : Jvm.MethodName)) ∈ lw_all := lw_g (lw_at lw_m9 60 rfl) rfl
theorem q2099 : (Jvm.Cond.code ({ cls := "LostLanesModel", name := "named", desc := "(I)I" } : Jvm.MethodName) prog_22_method_99_code (4 : Nat) (Option.some Jvm.ClassFile.FieldType.int)) ∈ lw_all := lw_g (lw_at lw_m9 61 rfl) rfl
theorem q2101 : (Jvm.Cond.instanceMethod ({ cls := "LostLanesModel", name := "letter", desc := "(III)I" } : Jvm.MethodName)) ∈ lw_all := lw_g (lw_at lw_m9 63 rfl) rfl
theorem q2102 : (Jvm.Cond.selects "LostLanesModel" ({ cls := "LostLanesModel", name := "letter", desc := "(III)I" } : Jvm.MethodName) ({ cls := "LostLanesModel", name := "letter", desc := "(III)I" } : Jvm.MethodName)) ∈ lw_all := lw_g (lw_at lw_m9 64 rfl) rfl
theorem q2103 : (Jvm.Cond.code ({ cls := "LostLanesModel", name := "letter", desc := "(III)I" } : Jvm.MethodName) prog_22_method_102_code (10 : Nat) (Option.some Jvm.ClassFile.FieldType.int)) ∈ lw_all := lw_g (lw_at lw_m9 65 rfl) rfl
theorem q2104 : (Jvm.Cond.methodLink "LostLanesModel" (490 : Nat) ({ cls := "LostLanesModel", name := "nearEnd", desc := "(II)I" } : Jvm.MethodName)) ∈ lw_all := lw_g (lw_at lw_m9 66 rfl) rfl
theorem q2105 : (Jvm.Cond.privateMethod ({ cls := "LostLanesModel", name := "nearEnd", desc := "(II)I" } : Jvm.MethodName)) ∈ lw_tbl := lw_at lw_m9 67 rfl
theorem q2106 : (Jvm.Cond.instanceMethod ({ cls := "LostLanesModel", name := "nearEnd", desc := "(II)I" } : Jvm.MethodName)) ∈ lw_all := lw_g (lw_at lw_m9 68 rfl) rfl
theorem q2107 : (Jvm.Cond.code ({ cls := "LostLanesModel", name := "nearEnd", desc := "(II)I" } : Jvm.MethodName) prog_22_method_100_code (6 : Nat) (Option.some Jvm.ClassFile.FieldType.int)) ∈ lw_all := lw_g (lw_at lw_m9 69 rfl) rfl
theorem q2108 : (Jvm.Cond.methodLink "LostLanesModel" (493 : Nat) ({ cls := "LostLanesModel", name := "laneBetween", desc := "(II)I" } : Jvm.MethodName)) ∈ lw_all := lw_g (lw_at lw_m9 70 rfl) rfl
theorem q2109 : (Jvm.Cond.privateMethod ({ cls := "LostLanesModel", name := "laneBetween", desc := "(II)I" } : Jvm.MethodName)) ∈ lw_tbl := lw_at lw_m9 71 rfl
theorem q2110 : (Jvm.Cond.instanceMethod ({ cls := "LostLanesModel", name := "laneBetween", desc := "(II)I" } : Jvm.MethodName)) ∈ lw_all := lw_g (lw_at lw_m9 72 rfl) rfl
theorem q2111 : (Jvm.Cond.code ({ cls := "LostLanesModel", name := "laneBetween", desc := "(II)I" } : Jvm.MethodName) prog_22_method_101_code (6 : Nat) (Option.some Jvm.ClassFile.FieldType.int)) ∈ lw_all := lw_g (lw_at lw_m9 73 rfl) rfl
theorem q2113 : (Jvm.Cond.instanceMethod ({ cls := "LostLanesModel", name := "apart", desc := "(I)I" } : Jvm.MethodName)) ∈ lw_all := lw_g (lw_at lw_m9 75 rfl) rfl
theorem q2114 : (Jvm.Cond.selects "LostLanesModel" ({ cls := "LostLanesModel", name := "apart", desc := "(I)I" } : Jvm.MethodName) ({ cls := "LostLanesModel", name := "apart", desc := "(I)I" } : Jvm.MethodName)) ∈ lw_all := lw_g (lw_at lw_m9 76 rfl) rfl
theorem q2115 : (Jvm.Cond.code ({ cls := "LostLanesModel", name := "apart", desc := "(I)I" } : Jvm.MethodName) prog_22_method_107_code (3 : Nat) (Option.some Jvm.ClassFile.FieldType.int)) ∈ lw_all := lw_g (lw_at lw_m9 77 rfl) rfl
theorem q2116 : (Jvm.Cond.methodLink "LostLanesModel" (505 : Nat) ({ cls := "LostLanesModel", name := "findNames", desc := "(I)Z" } : Jvm.MethodName)) ∈ lw_all := lw_g (lw_at lw_m9 78 rfl) rfl
theorem q2117 : (Jvm.Cond.privateMethod ({ cls := "LostLanesModel", name := "findNames", desc := "(I)Z" } : Jvm.MethodName)) ∈ lw_tbl := lw_at lw_m9 79 rfl
theorem q2118 : (Jvm.Cond.instanceMethod ({ cls := "LostLanesModel", name := "findNames", desc := "(I)Z" } : Jvm.MethodName)) ∈ lw_all := lw_g (lw_at lw_m9 80 rfl) rfl
theorem q2119 : (Jvm.Cond.code ({ cls := "LostLanesModel", name := "findNames", desc := "(I)Z" } : Jvm.MethodName) prog_22_method_106_code (4 : Nat) (Option.some Jvm.ClassFile.FieldType.boolean)) ∈ lw_all := lw_g (lw_at lw_m9 81 rfl) rfl
theorem q2120 : (Jvm.Cond.methodLink "LostLanesModel" (499 : Nat) ({ cls := "LostLanesModel", name := "nameAhead", desc := "(I)I" } : Jvm.MethodName)) ∈ lw_all := lw_g (lw_at lw_m9 82 rfl) rfl
theorem q2121 : (Jvm.Cond.privateMethod ({ cls := "LostLanesModel", name := "nameAhead", desc := "(I)I" } : Jvm.MethodName)) ∈ lw_tbl := lw_at lw_m9 83 rfl
theorem q2122 : (Jvm.Cond.instanceMethod ({ cls := "LostLanesModel", name := "nameAhead", desc := "(I)I" } : Jvm.MethodName)) ∈ lw_all := lw_g (lw_at lw_m9 84 rfl) rfl
theorem q2123 : (Jvm.Cond.code ({ cls := "LostLanesModel", name := "nameAhead", desc := "(I)I" } : Jvm.MethodName) prog_22_method_105_code (4 : Nat) (Option.some Jvm.ClassFile.FieldType.int)) ∈ lw_all := lw_g (lw_at lw_m9 85 rfl) rfl
theorem q2124 : (Jvm.Cond.methodLink "LostLanesModel" (502 : Nat) ({ cls := "LostLanesModel", name := "fitsName", desc := "(I)Z" } : Jvm.MethodName)) ∈ lw_all := lw_g (lw_at lw_m9 86 rfl) rfl
theorem q2125 : (Jvm.Cond.privateMethod ({ cls := "LostLanesModel", name := "fitsName", desc := "(I)Z" } : Jvm.MethodName)) ∈ lw_tbl := lw_at lw_m9 87 rfl
theorem q2126 : (Jvm.Cond.instanceMethod ({ cls := "LostLanesModel", name := "fitsName", desc := "(I)Z" } : Jvm.MethodName)) ∈ lw_all := lw_g (lw_at lw_m9 88 rfl) rfl
theorem q2127 : (Jvm.Cond.code ({ cls := "LostLanesModel", name := "fitsName", desc := "(I)Z" } : Jvm.MethodName) prog_22_method_104_code (4 : Nat) (Option.some Jvm.ClassFile.FieldType.boolean)) ∈ lw_all := lw_g (lw_at lw_m9 89 rfl) rfl
theorem q2128 : (Jvm.Cond.methodLink "LostLanesModel" (496 : Nat) ({ cls := "LostLanesModel", name := "haveCorner", desc := "(II)Z" } : Jvm.MethodName)) ∈ lw_all := lw_g (lw_at lw_m9 90 rfl) rfl
theorem q2129 : (Jvm.Cond.privateMethod ({ cls := "LostLanesModel", name := "haveCorner", desc := "(II)Z" } : Jvm.MethodName)) ∈ lw_tbl := lw_at lw_m9 91 rfl
theorem q2130 : (Jvm.Cond.instanceMethod ({ cls := "LostLanesModel", name := "haveCorner", desc := "(II)Z" } : Jvm.MethodName)) ∈ lw_all := lw_g (lw_at lw_m9 92 rfl) rfl
theorem q2131 : (Jvm.Cond.code ({ cls := "LostLanesModel", name := "haveCorner", desc := "(II)Z" } : Jvm.MethodName) prog_22_method_103_code (3 : Nat) (Option.some Jvm.ClassFile.FieldType.boolean)) ∈ lw_all := lw_g (lw_at lw_m9 93 rfl) rfl
theorem q2133 : (Jvm.Cond.instanceMethod ({ cls := "LostLanesModel", name := "alike", desc := "()I" } : Jvm.MethodName)) ∈ lw_all := lw_g (lw_at lw_m9 95 rfl) rfl
theorem q2134 : (Jvm.Cond.selects "LostLanesModel" ({ cls := "LostLanesModel", name := "alike", desc := "()I" } : Jvm.MethodName) ({ cls := "LostLanesModel", name := "alike", desc := "()I" } : Jvm.MethodName)) ∈ lw_all := lw_g (lw_at lw_m9 96 rfl) rfl
theorem q2135 : (Jvm.Cond.code ({ cls := "LostLanesModel", name := "alike", desc := "()I" } : Jvm.MethodName) prog_22_method_108_code (4 : Nat) (Option.some Jvm.ClassFile.FieldType.int)) ∈ lw_all := lw_g (lw_at lw_m9 97 rfl) rfl
theorem q2137 : (Jvm.Cond.instanceMethod ({ cls := "LostLanesModel", name := "round", desc := "()I" } : Jvm.MethodName)) ∈ lw_all := lw_g (lw_at lw_m9 99 rfl) rfl
theorem q2138 : (Jvm.Cond.selects "LostLanesModel" ({ cls := "LostLanesModel", name := "round", desc := "()I" } : Jvm.MethodName) ({ cls := "LostLanesModel", name := "round", desc := "()I" } : Jvm.MethodName)) ∈ lw_all := lw_g (lw_at lw_m9 100 rfl) rfl
theorem q2139 : (Jvm.Cond.code ({ cls := "LostLanesModel", name := "round", desc := "()I" } : Jvm.MethodName) prog_22_method_110_code (4 : Nat) (Option.some Jvm.ClassFile.FieldType.int)) ∈ lw_all := lw_g (lw_at lw_m9 101 rfl) rfl
theorem q2140 : (Jvm.Cond.methodLink "LostLanesModel" (508 : Nat) ({ cls := "LostLanesModel", name := "layPaired", desc := "()V" } : Jvm.MethodName)) ∈ lw_all := lw_g (lw_at lw_m9 102 rfl) rfl
theorem q2141 : (Jvm.Cond.privateMethod ({ cls := "LostLanesModel", name := "layPaired", desc := "()V" } : Jvm.MethodName)) ∈ lw_tbl := lw_at lw_m9 103 rfl
theorem q2142 : (Jvm.Cond.instanceMethod ({ cls := "LostLanesModel", name := "layPaired", desc := "()V" } : Jvm.MethodName)) ∈ lw_all := lw_g (lw_at lw_m9 104 rfl) rfl
theorem q2143 : (Jvm.Cond.code ({ cls := "LostLanesModel", name := "layPaired", desc := "()V" } : Jvm.MethodName) prog_22_method_109_code (5 : Nat) (Option.none : Option Jvm.ClassFile.FieldType)) ∈ lw_all := lw_g (lw_at lw_m9 105 rfl) rfl
theorem q2145 : (Jvm.Cond.instanceMethod ({ cls := "LostLanesModel", name := "dead", desc := "()I" } : Jvm.MethodName)) ∈ lw_all := lw_g (lw_at lw_m9 107 rfl) rfl
theorem q2146 : (Jvm.Cond.selects "LostLanesModel" ({ cls := "LostLanesModel", name := "dead", desc := "()I" } : Jvm.MethodName) ({ cls := "LostLanesModel", name := "dead", desc := "()I" } : Jvm.MethodName)) ∈ lw_all := lw_g (lw_at lw_m9 108 rfl) rfl
theorem q2147 : (Jvm.Cond.code ({ cls := "LostLanesModel", name := "dead", desc := "()I" } : Jvm.MethodName) prog_22_method_111_code (3 : Nat) (Option.some Jvm.ClassFile.FieldType.int)) ∈ lw_all := lw_g (lw_at lw_m9 109 rfl) rfl
theorem q2149 : (Jvm.Cond.instanceMethod ({ cls := "LostLanesModel", name := "few", desc := "(II)J" } : Jvm.MethodName)) ∈ lw_all := lw_g (lw_at lw_m9 111 rfl) rfl
theorem q2150 : (Jvm.Cond.selects "LostLanesModel" ({ cls := "LostLanesModel", name := "few", desc := "(II)J" } : Jvm.MethodName) ({ cls := "LostLanesModel", name := "few", desc := "(II)J" } : Jvm.MethodName)) ∈ lw_all := lw_g (lw_at lw_m9 112 rfl) rfl
theorem q2151 : (Jvm.Cond.code ({ cls := "LostLanesModel", name := "few", desc := "(II)J" } : Jvm.MethodName) prog_22_method_112_code (8 : Nat) (Option.some Jvm.ClassFile.FieldType.long)) ∈ lw_all := lw_g (lw_at lw_m9 113 rfl) rfl
theorem q2152 : (Jvm.Cond.constantLong "LostLanesModel" (511 : Nat) (99 : Int64)) ∈ lw_all := lw_g (lw_at lw_m9 114 rfl) rfl
theorem q2153 : (Jvm.Cond.constantLong "LostLanesModel" (513 : Nat) (1000000000000 : Int64)) ∈ lw_all := lw_g (lw_at lw_m9 115 rfl) rfl
theorem q2155 : (Jvm.Cond.instanceMethod ({ cls := "LostLanesModel", name := "compare", desc := "(II)I" } : Jvm.MethodName)) ∈ lw_all := lw_g (lw_at lw_m9 117 rfl) rfl
theorem q2156 : (Jvm.Cond.selects "LostLanesModel" ({ cls := "LostLanesModel", name := "compare", desc := "(II)I" } : Jvm.MethodName) ({ cls := "LostLanesModel", name := "compare", desc := "(II)I" } : Jvm.MethodName)) ∈ lw_all := lw_g (lw_at lw_m9 118 rfl) rfl
theorem q2157 : (Jvm.Cond.code ({ cls := "LostLanesModel", name := "compare", desc := "(II)I" } : Jvm.MethodName) prog_22_method_113_code (5 : Nat) (Option.some Jvm.ClassFile.FieldType.int)) ∈ lw_all := lw_g (lw_at lw_m9 119 rfl) rfl
theorem q2159 : (Jvm.Cond.instanceMethod ({ cls := "LostLanesModel", name := "orders", desc := "()I" } : Jvm.MethodName)) ∈ lw_all := lw_g (lw_at lw_m9 121 rfl) rfl
theorem q2160 : (Jvm.Cond.selects "LostLanesModel" ({ cls := "LostLanesModel", name := "orders", desc := "()I" } : Jvm.MethodName) ({ cls := "LostLanesModel", name := "orders", desc := "()I" } : Jvm.MethodName)) ∈ lw_all := lw_g (lw_at lw_m9 122 rfl) rfl
theorem q2161 : (Jvm.Cond.code ({ cls := "LostLanesModel", name := "orders", desc := "()I" } : Jvm.MethodName) prog_22_method_119_code (4 : Nat) (Option.some Jvm.ClassFile.FieldType.int)) ∈ lw_all := lw_g (lw_at lw_m9 123 rfl) rfl
theorem q2162 : (Jvm.Cond.methodLink "LostLanesModel" (541 : Nat) ({ cls := "LostLanesModel", name := "readOrder", desc := "()V" } : Jvm.MethodName)) ∈ lw_all := lw_g (lw_at lw_m9 124 rfl) rfl
theorem q2163 : (Jvm.Cond.privateMethod ({ cls := "LostLanesModel", name := "readOrder", desc := "()V" } : Jvm.MethodName)) ∈ lw_tbl := lw_at lw_m9 125 rfl
theorem q2164 : (Jvm.Cond.instanceMethod ({ cls := "LostLanesModel", name := "readOrder", desc := "()V" } : Jvm.MethodName)) ∈ lw_all := lw_g (lw_at lw_m9 126 rfl) rfl
theorem q2165 : (Jvm.Cond.code ({ cls := "LostLanesModel", name := "readOrder", desc := "()V" } : Jvm.MethodName) prog_22_method_115_code (4 : Nat) (Option.none : Option Jvm.ClassFile.FieldType)) ∈ lw_all := lw_g (lw_at lw_m9 127 rfl) rfl
theorem q2166 : (Jvm.Cond.methodLink "LostLanesModel" (515 : Nat) ({ cls := "LostLanesModel", name := "readSum", desc := "(I)V" } : Jvm.MethodName)) ∈ lw_all := lw_g (lw_at lw_m9 128 rfl) rfl
theorem q2167 : (Jvm.Cond.privateMethod ({ cls := "LostLanesModel", name := "readSum", desc := "(I)V" } : Jvm.MethodName)) ∈ lw_tbl := lw_at lw_m9 129 rfl
theorem q2168 : (Jvm.Cond.instanceMethod ({ cls := "LostLanesModel", name := "readSum", desc := "(I)V" } : Jvm.MethodName)) ∈ lw_all := lw_g (lw_at lw_m9 130 rfl) rfl
theorem q2169 : (Jvm.Cond.code ({ cls := "LostLanesModel", name := "readSum", desc := "(I)V" } : Jvm.MethodName) prog_22_method_114_code (2 : Nat) (Option.none : Option Jvm.ClassFile.FieldType)) ∈ lw_all := lw_g (lw_at lw_m9 131 rfl) rfl
theorem q2170 : (Jvm.Cond.constantLong "LostLanesModel" (518 : Nat) (655 : Int64)) ∈ lw_all := lw_g (lw_at lw_m9 132 rfl) rfl
theorem q2171 : (Jvm.Cond.constantLong "LostLanesModel" (520 : Nat) (21279923 : Int64)) ∈ lw_all := lw_g (lw_at lw_m9 133 rfl) rfl
theorem q2172 : (Jvm.Cond.methodLink "LostLanesModel" (544 : Nat) ({ cls := "LostLanesModel", name := "run", desc := "(I)I" } : Jvm.MethodName)) ∈ lw_all := lw_g (lw_at lw_m9 134 rfl) rfl
theorem q2173 : (Jvm.Cond.privateMethod ({ cls := "LostLanesModel", name := "run", desc := "(I)I" } : Jvm.MethodName)) ∈ lw_tbl := lw_at lw_m9 135 rfl
theorem q2174 : (Jvm.Cond.instanceMethod ({ cls := "LostLanesModel", name := "run", desc := "(I)I" } : Jvm.MethodName)) ∈ lw_all := lw_g (lw_at lw_m9 136 rfl) rfl
theorem q2175 : (Jvm.Cond.code ({ cls := "LostLanesModel", name := "run", desc := "(I)I" } : Jvm.MethodName) prog_22_method_118_code (5 : Nat) (Option.some Jvm.ClassFile.FieldType.int)) ∈ lw_all := lw_g (lw_at lw_m9 137 rfl) rfl
theorem q2176 : (Jvm.Cond.methodLink "LostLanesModel" (531 : Nat) ({ cls := "LostLanesModel", name := "namedOnes", desc := "()I" } : Jvm.MethodName)) ∈ lw_all := lw_g (lw_at lw_m9 138 rfl) rfl
theorem q2177 : (Jvm.Cond.privateMethod ({ cls := "LostLanesModel", name := "namedOnes", desc := "()I" } : Jvm.MethodName)) ∈ lw_tbl := lw_at lw_m9 139 rfl
theorem q2178 : (Jvm.Cond.instanceMethod ({ cls := "LostLanesModel", name := "namedOnes", desc := "()I" } : Jvm.MethodName)) ∈ lw_all := lw_g (lw_at lw_m9 140 rfl) rfl
theorem q2179 : (Jvm.Cond.code ({ cls := "LostLanesModel", name := "namedOnes", desc := "()I" } : Jvm.MethodName) prog_22_method_21_code (3 : Nat) (Option.some Jvm.ClassFile.FieldType.int)) ∈ lw_all := lw_g (lw_at lw_m9 141 rfl) rfl
theorem q2180 : (Jvm.Cond.methodLink "LostLanesModel" (534 : Nat) ({ cls := "LostLanesModel", name := "sumOf", desc := "(I)I" } : Jvm.MethodName)) ∈ lw_all := lw_g (lw_at lw_m9 142 rfl) rfl
theorem q2181 : (Jvm.Cond.privateMethod ({ cls := "LostLanesModel", name := "sumOf", desc := "(I)I" } : Jvm.MethodName)) ∈ lw_tbl := lw_at lw_m9 143 rfl
theorem q2182 : (Jvm.Cond.instanceMethod ({ cls := "LostLanesModel", name := "sumOf", desc := "(I)I" } : Jvm.MethodName)) ∈ lw_all := lw_g (lw_at lw_m9 144 rfl) rfl
theorem q2183 : (Jvm.Cond.code ({ cls := "LostLanesModel", name := "sumOf", desc := "(I)I" } : Jvm.MethodName) prog_22_method_116_code (2 : Nat) (Option.some Jvm.ClassFile.FieldType.int)) ∈ lw_all := lw_g (lw_at lw_m9 145 rfl) rfl
theorem q2184 : (Jvm.Cond.methodLink "LostLanesModel" (537 : Nat) ({ cls := "LostLanesModel", name := "act", desc := "(III)I" } : Jvm.MethodName)) ∈ lw_all := lw_g (lw_at lw_m9 146 rfl) rfl
theorem q2185 : (Jvm.Cond.privateMethod ({ cls := "LostLanesModel", name := "act", desc := "(III)I" } : Jvm.MethodName)) ∈ lw_tbl := lw_at lw_m9 147 rfl
theorem q2186 : (Jvm.Cond.instanceMethod ({ cls := "LostLanesModel", name := "act", desc := "(III)I" } : Jvm.MethodName)) ∈ lw_all := lw_g (lw_at lw_m9 148 rfl) rfl
theorem q2187 : (Jvm.Cond.code ({ cls := "LostLanesModel", name := "act", desc := "(III)I" } : Jvm.MethodName) prog_22_method_117_code (4 : Nat) (Option.some Jvm.ClassFile.FieldType.int)) ∈ lw_all := lw_g (lw_at lw_m9 149 rfl) rfl
theorem q2188 : (Jvm.Cond.methodLink "LostLanesModel" (547 : Nat) ({ cls := "LostLanesModel", name := "giveBack", desc := "(I)V" } : Jvm.MethodName)) ∈ lw_all := lw_g (lw_at lw_m9 150 rfl) rfl
theorem q2189 : (Jvm.Cond.privateMethod ({ cls := "LostLanesModel", name := "giveBack", desc := "(I)V" } : Jvm.MethodName)) ∈ lw_tbl := lw_at lw_m9 151 rfl
theorem q2190 : (Jvm.Cond.instanceMethod ({ cls := "LostLanesModel", name := "giveBack", desc := "(I)V" } : Jvm.MethodName)) ∈ lw_all := lw_g (lw_at lw_m9 152 rfl) rfl
theorem q2191 : (Jvm.Cond.code ({ cls := "LostLanesModel", name := "giveBack", desc := "(I)V" } : Jvm.MethodName) prog_22_method_120_code (3 : Nat) (Option.none : Option Jvm.ClassFile.FieldType)) ∈ lw_all := lw_g (lw_at lw_m9 153 rfl) rfl
theorem q2193 : (Jvm.Cond.instanceMethod ({ cls := "LostLanesModel", name := "stopped", desc := "()I" } : Jvm.MethodName)) ∈ lw_all := lw_g (lw_at lw_m9 155 rfl) rfl
theorem q2194 : (Jvm.Cond.selects "LostLanesModel" ({ cls := "LostLanesModel", name := "stopped", desc := "()I" } : Jvm.MethodName) ({ cls := "LostLanesModel", name := "stopped", desc := "()I" } : Jvm.MethodName)) ∈ lw_all := lw_g (lw_at lw_m9 156 rfl) rfl
theorem q2195 : (Jvm.Cond.code ({ cls := "LostLanesModel", name := "stopped", desc := "()I" } : Jvm.MethodName) prog_22_method_121_code (1 : Nat) (Option.some Jvm.ClassFile.FieldType.int)) ∈ lw_all := lw_g (lw_at lw_m9 157 rfl) rfl
theorem q2197 : (Jvm.Cond.instanceMethod ({ cls := "LostLanesModel", name := "decades", desc := "(II)I" } : Jvm.MethodName)) ∈ lw_all := lw_g (lw_at lw_m9 159 rfl) rfl
theorem q2198 : (Jvm.Cond.selects "LostLanesModel" ({ cls := "LostLanesModel", name := "decades", desc := "(II)I" } : Jvm.MethodName) ({ cls := "LostLanesModel", name := "decades", desc := "(II)I" } : Jvm.MethodName)) ∈ lw_all := lw_g (lw_at lw_m9 160 rfl) rfl
theorem q2199 : (Jvm.Cond.code ({ cls := "LostLanesModel", name := "decades", desc := "(II)I" } : Jvm.MethodName) prog_22_method_123_code (7 : Nat) (Option.some Jvm.ClassFile.FieldType.int)) ∈ lw_all := lw_g (lw_at lw_m9 161 rfl) rfl
theorem q2200 : (Jvm.Cond.methodLink "LostLanesModel" (559 : Nat) ({ cls := "LostLanesModel", name := "draw", desc := "(I)I" } : Jvm.MethodName)) ∈ lw_all := lw_g (lw_at lw_m9 162 rfl) rfl
theorem q2201 : (Jvm.Cond.privateMethod ({ cls := "LostLanesModel", name := "draw", desc := "(I)I" } : Jvm.MethodName)) ∈ lw_tbl := lw_at lw_m9 163 rfl
theorem q2202 : (Jvm.Cond.instanceMethod ({ cls := "LostLanesModel", name := "draw", desc := "(I)I" } : Jvm.MethodName)) ∈ lw_all := lw_g (lw_at lw_m9 164 rfl) rfl
theorem q2203 : (Jvm.Cond.code ({ cls := "LostLanesModel", name := "draw", desc := "(I)I" } : Jvm.MethodName) prog_22_method_122_code (2 : Nat) (Option.some Jvm.ClassFile.FieldType.int)) ∈ lw_all := lw_g (lw_at lw_m9 165 rfl) rfl
theorem q2204 : (Jvm.Cond.constantLong "LostLanesModel" (553 : Nat) (1103 : Int64)) ∈ lw_all := lw_g (lw_at lw_m9 166 rfl) rfl
theorem q2205 : (Jvm.Cond.constantLong "LostLanesModel" (555 : Nat) (12345 : Int64)) ∈ lw_all := lw_g (lw_at lw_m9 167 rfl) rfl
theorem q2206 : (Jvm.Cond.constantLong "LostLanesModel" (557 : Nat) (1000003 : Int64)) ∈ lw_all := lw_g (lw_at lw_m9 168 rfl) rfl
theorem q2208 : (Jvm.Cond.instanceMethod ({ cls := "LostLanesModel", name := "drawn", desc := "(II)I" } : Jvm.MethodName)) ∈ lw_all := lw_g (lw_at lw_m9 170 rfl) rfl
theorem q2209 : (Jvm.Cond.selects "LostLanesModel" ({ cls := "LostLanesModel", name := "drawn", desc := "(II)I" } : Jvm.MethodName) ({ cls := "LostLanesModel", name := "drawn", desc := "(II)I" } : Jvm.MethodName)) ∈ lw_all := lw_g (lw_at lw_m9 171 rfl) rfl
theorem q2210 : (Jvm.Cond.code ({ cls := "LostLanesModel", name := "drawn", desc := "(II)I" } : Jvm.MethodName) prog_22_method_124_code (3 : Nat) (Option.some Jvm.ClassFile.FieldType.int)) ∈ lw_all := lw_g (lw_at lw_m9 172 rfl) rfl
theorem q2212 : (Jvm.Cond.instanceMethod ({ cls := "LostLanesModel", name := "count", desc := "(I)I" } : Jvm.MethodName)) ∈ lw_all := lw_g (lw_at lw_m9 174 rfl) rfl
theorem q2213 : (Jvm.Cond.selects "LostLanesModel" ({ cls := "LostLanesModel", name := "count", desc := "(I)I" } : Jvm.MethodName) ({ cls := "LostLanesModel", name := "count", desc := "(I)I" } : Jvm.MethodName)) ∈ lw_all := lw_g (lw_at lw_m9 175 rfl) rfl
theorem q2214 : (Jvm.Cond.code ({ cls := "LostLanesModel", name := "count", desc := "(I)I" } : Jvm.MethodName) prog_22_method_125_code (2 : Nat) (Option.some Jvm.ClassFile.FieldType.int)) ∈ lw_all := lw_g (lw_at lw_m9 176 rfl) rfl
theorem q2215 : (Jvm.Cond.constantLong "LostLanesModel" (562 : Nat) (13 : Int64)) ∈ lw_all := lw_g (lw_at lw_m9 177 rfl) rfl
theorem q2216 : (Jvm.Cond.constantLong "LostLanesModel" (564 : Nat) (15 : Int64)) ∈ lw_all := lw_g (lw_at lw_m9 178 rfl) rfl
theorem q2218 : (Jvm.Cond.instanceMethod ({ cls := "LostLanesModel", name := "status", desc := "()I" } : Jvm.MethodName)) ∈ lw_all := lw_g (lw_at lw_m9 180 rfl) rfl
theorem q2219 : (Jvm.Cond.selects "LostLanesModel" ({ cls := "LostLanesModel", name := "status", desc := "()I" } : Jvm.MethodName) ({ cls := "LostLanesModel", name := "status", desc := "()I" } : Jvm.MethodName)) ∈ lw_all := lw_g (lw_at lw_m9 181 rfl) rfl
theorem q2220 : (Jvm.Cond.code ({ cls := "LostLanesModel", name := "status", desc := "()I" } : Jvm.MethodName) prog_22_method_126_code (1 : Nat) (Option.some Jvm.ClassFile.FieldType.int)) ∈ lw_all := lw_g (lw_at lw_m9 182 rfl) rfl
theorem q2241 : (Jvm.Cond.castable "LostLanesModel" "java/lang/Object") ∈ lw_tbl := lw_at lw_m9 203 rfl
theorem in_X5 : ∀ w ∈ wsX50, w ∈ lw_all := lw_in wsX50 [1579, 1581, 1583, 1585, 1587, 1589, 1591, 1593, 1595, 1597, 1599, 1601, 1603, 1605, 1607, 1609, 1611, 1613, 1615, 1617, 1619, 1621, 1623, 1625, 1627, 1629, 1631, 1633, 1635, 1637, 1639, 1641, 1643, 1645, 1647, 1649, 1651, 1653, 1655, 1657, 1659, 1661, 1663, 1665, 1667, 1669, 1671, 1673, 1675, 1677, 1679, 1681, 1683, 1685, 1687, 1689, 1691, 1693] (by decide +kernel) (by decide +kernel)
