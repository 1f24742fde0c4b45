/-! LostLanes -/
set_option maxRecDepth 100000
def RX0 : String := "LostLanes"
def TX0 : u_T := fun k => match k with
  | 0 => ("LostLanes", "status", "I", false)
  | 1 => ("LostLanes", "refused", "[I", true)
  | 2 => ("LostLanes", "state", "LLostLanes$State;", true)
  | 3 => ("LostLanes", "images", "[LLostLanes$State;", true)
  | 4 => ("LostLanes", "undone", "[LLostLanes$Table;", true)
  | 5 => ("LostLanes", "ordersUndone", "[LLostLanes$Table;", true)
  | 6 => ("LostLanes", "undoneWhat", "[I", true)
  | 7 => ("LostLanes", "ordersWhat", "[I", true)
  | 8 => ("LostLanes", "ahead", "LLostLanes$Table;", true)
  | 9 => ("LostLanes", "tried", "LLostLanes$Table;", true)
  | 10 => ("LostLanes", "tape", "[B", true)
  | 11 => ("LostLanes", "taped", "I", false)
  | 12 => ("LostLanes", "fault", "I", false)
  | 13 => ("LostLanes", "gravel", "I", false)
  | 14 => ("LostLanes", "stopped", "I", false)
  | 15 => ("LostLanes", "undoMany", "I", false)
  | 16 => ("LostLanes", "setting", "LLostLanes$Setting;", true)
  | 17 => ("LostLanes", "may", "[I", true)
  | 18 => ("LostLanes", "going", "[I", true)
  | 19 => ("LostLanes", "far", "[I", true)
  | 20 => ("LostLanes", "ways", "[I", true)
  | 21 => ("LostLanes", "waysThen", "[I", true)
  | 22 => ("LostLanes", "colour", "[I", true)
  | 23 => ("LostLanes", "shares", "[J", true)
  | 24 => ("LostLanes", "drawnTable", "LLostLanes$Table;", true)
  | 25 => ("LostLanes", "drawnChildren", "I", false)
  | 26 => ("LostLanes", "drawnLanes", "I", false)
  | _ => ("LostLanes", "drawn", "I", false)
def tyX0 : Nat → FieldType := fun k => match k with
  | 0 => .int
  | 1 => .array .int
  | 2 => .object "LostLanes$State"
  | 3 => .array (.object "LostLanes$State")
  | 4 => .array (.object "LostLanes$Table")
  | 5 => .array (.object "LostLanes$Table")
  | 6 => .array .int
  | 7 => .array .int
  | 8 => .object "LostLanes$Table"
  | 9 => .object "LostLanes$Table"
  | 10 => .array .byte
  | 11 => .int
  | 12 => .int
  | 13 => .int
  | 14 => .int
  | 15 => .int
  | 16 => .object "LostLanes$Setting"
  | 17 => .array .int
  | 18 => .array .int
  | 19 => .array .int
  | 20 => .array .int
  | 21 => .array .int
  | 22 => .array .int
  | 23 => .array .long
  | 24 => .object "LostLanes$Table"
  | 25 => .int
  | 26 => .int
  | _ => .int
abbrev wsX00 : List Cond := u_ws RX0 TX0 28
set_option maxRecDepth 100000 in
theorem nmX0 : ∀ a, a < 28 → ∀ b, b < 28 → a ≠ b → (TX0 a).2.1 ≠ (TX0 b).2.1 := by decide +kernel
set_option maxRecDepth 100000 in
theorem tyX0_ok : ∀ k, k < 28 → parseFieldDescriptor (TX0 k).2.2.1 = some (tyX0 k) := by decide +kernel
abbrev cX0_init : ByteArray := prog_1_method_8_code
def yX0_init : MethodName := ⟨RX0, "<init>", "()V"⟩
def dkwX0_init_9 : List UInt8 := [27, 187, 0, 47, 89, 183, 0, 62, 83, 132, 1, 1, 167, 255, 221, 177]
abbrev dktX0_init_9 : List UInt8 := dkwX0_init_9 ++ []
def dkwX0_init_8 : List UInt8 := [60, 27, 16, 16, 162, 0, 35, 42, 180, 0, 49, 27, 187, 0, 47, 89, 183, 0, 62, 83, 42, 180, 0, 53]
abbrev dktX0_init_8 : List UInt8 := dkwX0_init_8 ++ dktX0_init_9
def dkwX0_init_7 : List UInt8 := [16, 21, 188, 11, 181, 0, 105, 42, 187, 0, 47, 89, 183, 0, 62, 181, 0, 109, 42, 2, 181, 0, 112, 3]
abbrev dktX0_init_7 : List UInt8 := dkwX0_init_7 ++ dktX0_init_8
def dkwX0_init_6 : List UInt8 := [16, 8, 188, 10, 181, 0, 96, 42, 16, 8, 188, 10, 181, 0, 99, 42, 16, 10, 188, 10, 181, 0, 102, 42]
abbrev dktX0_init_6 : List UInt8 := dkwX0_init_6 ++ dktX0_init_7
def dkwX0_init_5 : List UInt8 := [42, 16, 10, 188, 10, 181, 0, 87, 42, 7, 188, 10, 181, 0, 90, 42, 16, 64, 188, 10, 181, 0, 93, 42]
abbrev dktX0_init_5 : List UInt8 := dkwX0_init_5 ++ dktX0_init_6
def dkwX0_init_4 : List UInt8 := [181, 0, 70, 42, 2, 181, 0, 74, 42, 2, 181, 0, 77, 42, 187, 0, 80, 89, 183, 0, 82, 181, 0, 83]
abbrev dktX0_init_4 : List UInt8 := dkwX0_init_4 ++ dktX0_init_5
def dkwX0_init_3 : List UInt8 := [183, 0, 62, 181, 0, 63, 42, 187, 0, 47, 89, 183, 0, 62, 181, 0, 67, 42, 17, 1, 144, 188, 8]
abbrev dktX0_init_3 : List UInt8 := dkwX0_init_3 ++ dktX0_init_4
def dkwX0_init_2 : List UInt8 := [181, 0, 53, 42, 16, 16, 188, 10, 181, 0, 56, 42, 16, 16, 188, 10, 181, 0, 59, 42, 187, 0, 47, 89]
abbrev dktX0_init_2 : List UInt8 := dkwX0_init_2 ++ dktX0_init_3
def dkwX0_init_1 : List UInt8 := [5, 189, 0, 36, 181, 0, 43, 42, 16, 16, 189, 0, 47, 181, 0, 49, 42, 16, 16, 189, 0, 47]
abbrev dktX0_init_1 : List UInt8 := dkwX0_init_1 ++ dktX0_init_2
def dkwX0_init_0 : List UInt8 := [42, 183, 0, 30, 42, 16, 7, 188, 10, 181, 0, 7, 42, 187, 0, 36, 89, 183, 0, 38, 181, 0, 39, 42]
abbrev dktX0_init_0 : List UInt8 := dkwX0_init_0 ++ dktX0_init_1
theorem dksX0_init_0 : cX0_init.data.toList.drop 0 = dktX0_init_0 := by decide +kernel
theorem dksX0_init_1 : cX0_init.data.toList.drop 24 = dktX0_init_1 := dk_seg dksX0_init_0 24 rfl rfl
theorem dksX0_init_2 : cX0_init.data.toList.drop 46 = dktX0_init_2 := dk_seg dksX0_init_1 22 rfl rfl
theorem dksX0_init_3 : cX0_init.data.toList.drop 70 = dktX0_init_3 := dk_seg dksX0_init_2 24 rfl rfl
theorem dksX0_init_4 : cX0_init.data.toList.drop 93 = dktX0_init_4 := dk_seg dksX0_init_3 23 rfl rfl
theorem dksX0_init_5 : cX0_init.data.toList.drop 117 = dktX0_init_5 := dk_seg dksX0_init_4 24 rfl rfl
theorem dksX0_init_6 : cX0_init.data.toList.drop 141 = dktX0_init_6 := dk_seg dksX0_init_5 24 rfl rfl
theorem dksX0_init_7 : cX0_init.data.toList.drop 165 = dktX0_init_7 := dk_seg dksX0_init_6 24 rfl rfl
theorem dksX0_init_8 : cX0_init.data.toList.drop 189 = dktX0_init_8 := dk_seg dksX0_init_7 24 rfl rfl
theorem dksX0_init_9 : cX0_init.data.toList.drop 213 = dktX0_init_9 := dk_seg dksX0_init_8 24 rfl rfl
theorem dX0_init_0 : decode cX0_init 0 = .ok (.aload_n 0, 1) := dk_42 (dk_at dksX0_init_0 0 rfl rfl)
theorem dX0_init_1 : decode cX0_init 1 = .ok (.invokespecial 30, 3) := dk_183 0 30 (dk_at dksX0_init_0 1 rfl rfl)
theorem dX0_init_4 : decode cX0_init 4 = .ok (.aload_n 0, 1) := dk_42 (dk_at dksX0_init_0 4 rfl rfl)
theorem dX0_init_5 : decode cX0_init 5 = .ok (.bipush 7, 2) := dk_16 7 (dk_at dksX0_init_0 5 rfl rfl)
theorem dX0_init_7 : decode cX0_init 7 = .ok (.newarray .int, 2) := dk_188_10 (dk_at dksX0_init_0 7 rfl rfl)
theorem dX0_init_9 : decode cX0_init 9 = .ok (.putfield 7, 3) := dk_181 0 7 (dk_at dksX0_init_0 9 rfl rfl)
theorem dX0_init_12 : decode cX0_init 12 = .ok (.aload_n 0, 1) := dk_42 (dk_at dksX0_init_0 12 rfl rfl)
theorem dX0_init_13 : decode cX0_init 13 = .ok (.new 36, 3) := dk_187 0 36 (dk_at dksX0_init_0 13 rfl rfl)
theorem dX0_init_16 : decode cX0_init 16 = .ok (.dup, 1) := dk_89 (dk_at dksX0_init_0 16 rfl rfl)
theorem dX0_init_17 : decode cX0_init 17 = .ok (.invokespecial 38, 3) := dk_183 0 38 (dk_at dksX0_init_0 17 rfl rfl)
theorem dX0_init_20 : decode cX0_init 20 = .ok (.putfield 39, 3) := dk_181 0 39 (dk_at dksX0_init_0 20 rfl rfl)
theorem dX0_init_23 : decode cX0_init 23 = .ok (.aload_n 0, 1) := dk_42 (dk_at dksX0_init_0 23 rfl rfl)
theorem dX0_init_24 : decode cX0_init 24 = .ok (.iconst 2, 1) := dk_5 (dk_at dksX0_init_1 0 rfl rfl)
theorem dX0_init_25 : decode cX0_init 25 = .ok (.anewarray 36, 3) := dk_189 0 36 (dk_at dksX0_init_1 1 rfl rfl)
theorem dX0_init_28 : decode cX0_init 28 = .ok (.putfield 43, 3) := dk_181 0 43 (dk_at dksX0_init_1 4 rfl rfl)
theorem dX0_init_31 : decode cX0_init 31 = .ok (.aload_n 0, 1) := dk_42 (dk_at dksX0_init_1 7 rfl rfl)
theorem dX0_init_32 : decode cX0_init 32 = .ok (.bipush 16, 2) := dk_16 16 (dk_at dksX0_init_1 8 rfl rfl)
theorem dX0_init_34 : decode cX0_init 34 = .ok (.anewarray 47, 3) := dk_189 0 47 (dk_at dksX0_init_1 10 rfl rfl)
theorem dX0_init_37 : decode cX0_init 37 = .ok (.putfield 49, 3) := dk_181 0 49 (dk_at dksX0_init_1 13 rfl rfl)
theorem dX0_init_40 : decode cX0_init 40 = .ok (.aload_n 0, 1) := dk_42 (dk_at dksX0_init_1 16 rfl rfl)
theorem dX0_init_41 : decode cX0_init 41 = .ok (.bipush 16, 2) := dk_16 16 (dk_at dksX0_init_1 17 rfl rfl)
theorem dX0_init_43 : decode cX0_init 43 = .ok (.anewarray 47, 3) := dk_189 0 47 (dk_at dksX0_init_1 19 rfl rfl)
theorem dX0_init_46 : decode cX0_init 46 = .ok (.putfield 53, 3) := dk_181 0 53 (dk_at dksX0_init_2 0 rfl rfl)
theorem dX0_init_49 : decode cX0_init 49 = .ok (.aload_n 0, 1) := dk_42 (dk_at dksX0_init_2 3 rfl rfl)
theorem dX0_init_50 : decode cX0_init 50 = .ok (.bipush 16, 2) := dk_16 16 (dk_at dksX0_init_2 4 rfl rfl)
theorem dX0_init_52 : decode cX0_init 52 = .ok (.newarray .int, 2) := dk_188_10 (dk_at dksX0_init_2 6 rfl rfl)
theorem dX0_init_54 : decode cX0_init 54 = .ok (.putfield 56, 3) := dk_181 0 56 (dk_at dksX0_init_2 8 rfl rfl)
theorem dX0_init_57 : decode cX0_init 57 = .ok (.aload_n 0, 1) := dk_42 (dk_at dksX0_init_2 11 rfl rfl)
theorem dX0_init_58 : decode cX0_init 58 = .ok (.bipush 16, 2) := dk_16 16 (dk_at dksX0_init_2 12 rfl rfl)
theorem dX0_init_60 : decode cX0_init 60 = .ok (.newarray .int, 2) := dk_188_10 (dk_at dksX0_init_2 14 rfl rfl)
theorem dX0_init_62 : decode cX0_init 62 = .ok (.putfield 59, 3) := dk_181 0 59 (dk_at dksX0_init_2 16 rfl rfl)
theorem dX0_init_65 : decode cX0_init 65 = .ok (.aload_n 0, 1) := dk_42 (dk_at dksX0_init_2 19 rfl rfl)
theorem dX0_init_66 : decode cX0_init 66 = .ok (.new 47, 3) := dk_187 0 47 (dk_at dksX0_init_2 20 rfl rfl)
theorem dX0_init_69 : decode cX0_init 69 = .ok (.dup, 1) := dk_89 (dk_at dksX0_init_2 23 rfl rfl)
theorem dX0_init_70 : decode cX0_init 70 = .ok (.invokespecial 62, 3) := dk_183 0 62 (dk_at dksX0_init_3 0 rfl rfl)
theorem dX0_init_73 : decode cX0_init 73 = .ok (.putfield 63, 3) := dk_181 0 63 (dk_at dksX0_init_3 3 rfl rfl)
theorem dX0_init_76 : decode cX0_init 76 = .ok (.aload_n 0, 1) := dk_42 (dk_at dksX0_init_3 6 rfl rfl)
theorem dX0_init_77 : decode cX0_init 77 = .ok (.new 47, 3) := dk_187 0 47 (dk_at dksX0_init_3 7 rfl rfl)
theorem dX0_init_80 : decode cX0_init 80 = .ok (.dup, 1) := dk_89 (dk_at dksX0_init_3 10 rfl rfl)
theorem dX0_init_81 : decode cX0_init 81 = .ok (.invokespecial 62, 3) := dk_183 0 62 (dk_at dksX0_init_3 11 rfl rfl)
theorem dX0_init_84 : decode cX0_init 84 = .ok (.putfield 67, 3) := dk_181 0 67 (dk_at dksX0_init_3 14 rfl rfl)
theorem dX0_init_87 : decode cX0_init 87 = .ok (.aload_n 0, 1) := dk_42 (dk_at dksX0_init_3 17 rfl rfl)
theorem dX0_init_88 : decode cX0_init 88 = .ok (.sipush 400, 3) := dk_17 1 144 (dk_at dksX0_init_3 18 rfl rfl)
theorem dX0_init_91 : decode cX0_init 91 = .ok (.newarray .byte, 2) := dk_188_8 (dk_at dksX0_init_3 21 rfl rfl)
theorem dX0_init_93 : decode cX0_init 93 = .ok (.putfield 70, 3) := dk_181 0 70 (dk_at dksX0_init_4 0 rfl rfl)
theorem dX0_init_96 : decode cX0_init 96 = .ok (.aload_n 0, 1) := dk_42 (dk_at dksX0_init_4 3 rfl rfl)
theorem dX0_init_97 : decode cX0_init 97 = .ok (.iconst (-1), 1) := dk_2 (dk_at dksX0_init_4 4 rfl rfl)
theorem dX0_init_98 : decode cX0_init 98 = .ok (.putfield 74, 3) := dk_181 0 74 (dk_at dksX0_init_4 5 rfl rfl)
theorem dX0_init_101 : decode cX0_init 101 = .ok (.aload_n 0, 1) := dk_42 (dk_at dksX0_init_4 8 rfl rfl)
theorem dX0_init_102 : decode cX0_init 102 = .ok (.iconst (-1), 1) := dk_2 (dk_at dksX0_init_4 9 rfl rfl)
theorem dX0_init_103 : decode cX0_init 103 = .ok (.putfield 77, 3) := dk_181 0 77 (dk_at dksX0_init_4 10 rfl rfl)
theorem dX0_init_106 : decode cX0_init 106 = .ok (.aload_n 0, 1) := dk_42 (dk_at dksX0_init_4 13 rfl rfl)
theorem dX0_init_107 : decode cX0_init 107 = .ok (.new 80, 3) := dk_187 0 80 (dk_at dksX0_init_4 14 rfl rfl)
theorem dX0_init_110 : decode cX0_init 110 = .ok (.dup, 1) := dk_89 (dk_at dksX0_init_4 17 rfl rfl)
theorem dX0_init_111 : decode cX0_init 111 = .ok (.invokespecial 82, 3) := dk_183 0 82 (dk_at dksX0_init_4 18 rfl rfl)
theorem dX0_init_114 : decode cX0_init 114 = .ok (.putfield 83, 3) := dk_181 0 83 (dk_at dksX0_init_4 21 rfl rfl)
theorem dX0_init_117 : decode cX0_init 117 = .ok (.aload_n 0, 1) := dk_42 (dk_at dksX0_init_5 0 rfl rfl)
theorem dX0_init_118 : decode cX0_init 118 = .ok (.bipush 10, 2) := dk_16 10 (dk_at dksX0_init_5 1 rfl rfl)
theorem dX0_init_120 : decode cX0_init 120 = .ok (.newarray .int, 2) := dk_188_10 (dk_at dksX0_init_5 3 rfl rfl)
theorem dX0_init_122 : decode cX0_init 122 = .ok (.putfield 87, 3) := dk_181 0 87 (dk_at dksX0_init_5 5 rfl rfl)
theorem dX0_init_125 : decode cX0_init 125 = .ok (.aload_n 0, 1) := dk_42 (dk_at dksX0_init_5 8 rfl rfl)
theorem dX0_init_126 : decode cX0_init 126 = .ok (.iconst 4, 1) := dk_7 (dk_at dksX0_init_5 9 rfl rfl)
theorem dX0_init_127 : decode cX0_init 127 = .ok (.newarray .int, 2) := dk_188_10 (dk_at dksX0_init_5 10 rfl rfl)
theorem dX0_init_129 : decode cX0_init 129 = .ok (.putfield 90, 3) := dk_181 0 90 (dk_at dksX0_init_5 12 rfl rfl)
theorem dX0_init_132 : decode cX0_init 132 = .ok (.aload_n 0, 1) := dk_42 (dk_at dksX0_init_5 15 rfl rfl)
theorem dX0_init_133 : decode cX0_init 133 = .ok (.bipush 64, 2) := dk_16 64 (dk_at dksX0_init_5 16 rfl rfl)
theorem dX0_init_135 : decode cX0_init 135 = .ok (.newarray .int, 2) := dk_188_10 (dk_at dksX0_init_5 18 rfl rfl)
theorem dX0_init_137 : decode cX0_init 137 = .ok (.putfield 93, 3) := dk_181 0 93 (dk_at dksX0_init_5 20 rfl rfl)
theorem dX0_init_140 : decode cX0_init 140 = .ok (.aload_n 0, 1) := dk_42 (dk_at dksX0_init_5 23 rfl rfl)
theorem dX0_init_141 : decode cX0_init 141 = .ok (.bipush 8, 2) := dk_16 8 (dk_at dksX0_init_6 0 rfl rfl)
theorem dX0_init_143 : decode cX0_init 143 = .ok (.newarray .int, 2) := dk_188_10 (dk_at dksX0_init_6 2 rfl rfl)
theorem dX0_init_145 : decode cX0_init 145 = .ok (.putfield 96, 3) := dk_181 0 96 (dk_at dksX0_init_6 4 rfl rfl)
theorem dX0_init_148 : decode cX0_init 148 = .ok (.aload_n 0, 1) := dk_42 (dk_at dksX0_init_6 7 rfl rfl)
theorem dX0_init_149 : decode cX0_init 149 = .ok (.bipush 8, 2) := dk_16 8 (dk_at dksX0_init_6 8 rfl rfl)
theorem dX0_init_151 : decode cX0_init 151 = .ok (.newarray .int, 2) := dk_188_10 (dk_at dksX0_init_6 10 rfl rfl)
theorem dX0_init_153 : decode cX0_init 153 = .ok (.putfield 99, 3) := dk_181 0 99 (dk_at dksX0_init_6 12 rfl rfl)
theorem dX0_init_156 : decode cX0_init 156 = .ok (.aload_n 0, 1) := dk_42 (dk_at dksX0_init_6 15 rfl rfl)
theorem dX0_init_157 : decode cX0_init 157 = .ok (.bipush 10, 2) := dk_16 10 (dk_at dksX0_init_6 16 rfl rfl)
theorem dX0_init_159 : decode cX0_init 159 = .ok (.newarray .int, 2) := dk_188_10 (dk_at dksX0_init_6 18 rfl rfl)
theorem dX0_init_161 : decode cX0_init 161 = .ok (.putfield 102, 3) := dk_181 0 102 (dk_at dksX0_init_6 20 rfl rfl)
theorem dX0_init_164 : decode cX0_init 164 = .ok (.aload_n 0, 1) := dk_42 (dk_at dksX0_init_6 23 rfl rfl)
theorem dX0_init_165 : decode cX0_init 165 = .ok (.bipush 21, 2) := dk_16 21 (dk_at dksX0_init_7 0 rfl rfl)
theorem dX0_init_167 : decode cX0_init 167 = .ok (.newarray .long, 2) := dk_188_11 (dk_at dksX0_init_7 2 rfl rfl)
theorem dX0_init_169 : decode cX0_init 169 = .ok (.putfield 105, 3) := dk_181 0 105 (dk_at dksX0_init_7 4 rfl rfl)
theorem dX0_init_172 : decode cX0_init 172 = .ok (.aload_n 0, 1) := dk_42 (dk_at dksX0_init_7 7 rfl rfl)
theorem dX0_init_173 : decode cX0_init 173 = .ok (.new 47, 3) := dk_187 0 47 (dk_at dksX0_init_7 8 rfl rfl)
theorem dX0_init_176 : decode cX0_init 176 = .ok (.dup, 1) := dk_89 (dk_at dksX0_init_7 11 rfl rfl)
theorem dX0_init_177 : decode cX0_init 177 = .ok (.invokespecial 62, 3) := dk_183 0 62 (dk_at dksX0_init_7 12 rfl rfl)
theorem dX0_init_180 : decode cX0_init 180 = .ok (.putfield 109, 3) := dk_181 0 109 (dk_at dksX0_init_7 15 rfl rfl)
theorem dX0_init_183 : decode cX0_init 183 = .ok (.aload_n 0, 1) := dk_42 (dk_at dksX0_init_7 18 rfl rfl)
theorem dX0_init_184 : decode cX0_init 184 = .ok (.iconst (-1), 1) := dk_2 (dk_at dksX0_init_7 19 rfl rfl)
theorem dX0_init_185 : decode cX0_init 185 = .ok (.putfield 112, 3) := dk_181 0 112 (dk_at dksX0_init_7 20 rfl rfl)
theorem dX0_init_188 : decode cX0_init 188 = .ok (.iconst 0, 1) := dk_3 (dk_at dksX0_init_7 23 rfl rfl)
theorem dX0_init_189 : decode cX0_init 189 = .ok (.istore_n 1, 1) := dk_60 (dk_at dksX0_init_8 0 rfl rfl)
theorem dX0_init_190 : decode cX0_init 190 = .ok (.iload_n 1, 1) := dk_27 (dk_at dksX0_init_8 1 rfl rfl)
theorem dX0_init_191 : decode cX0_init 191 = .ok (.bipush 16, 2) := dk_16 16 (dk_at dksX0_init_8 2 rfl rfl)
theorem dX0_init_193 : decode cX0_init 193 = .ok (.if_icmp .ge 35, 3) := dk_162 0 35 (dk_at dksX0_init_8 4 rfl rfl)
theorem dX0_init_196 : decode cX0_init 196 = .ok (.aload_n 0, 1) := dk_42 (dk_at dksX0_init_8 7 rfl rfl)
theorem dX0_init_197 : decode cX0_init 197 = .ok (.getfield 49, 3) := dk_180 0 49 (dk_at dksX0_init_8 8 rfl rfl)
theorem dX0_init_200 : decode cX0_init 200 = .ok (.iload_n 1, 1) := dk_27 (dk_at dksX0_init_8 11 rfl rfl)
theorem dX0_init_201 : decode cX0_init 201 = .ok (.new 47, 3) := dk_187 0 47 (dk_at dksX0_init_8 12 rfl rfl)
theorem dX0_init_204 : decode cX0_init 204 = .ok (.dup, 1) := dk_89 (dk_at dksX0_init_8 15 rfl rfl)
theorem dX0_init_205 : decode cX0_init 205 = .ok (.invokespecial 62, 3) := dk_183 0 62 (dk_at dksX0_init_8 16 rfl rfl)
theorem dX0_init_208 : decode cX0_init 208 = .ok (.aastore, 1) := dk_83 (dk_at dksX0_init_8 19 rfl rfl)
theorem dX0_init_209 : decode cX0_init 209 = .ok (.aload_n 0, 1) := dk_42 (dk_at dksX0_init_8 20 rfl rfl)
theorem dX0_init_210 : decode cX0_init 210 = .ok (.getfield 53, 3) := dk_180 0 53 (dk_at dksX0_init_8 21 rfl rfl)
theorem dX0_init_213 : decode cX0_init 213 = .ok (.iload_n 1, 1) := dk_27 (dk_at dksX0_init_9 0 rfl rfl)
theorem dX0_init_214 : decode cX0_init 214 = .ok (.new 47, 3) := dk_187 0 47 (dk_at dksX0_init_9 1 rfl rfl)
theorem dX0_init_217 : decode cX0_init 217 = .ok (.dup, 1) := dk_89 (dk_at dksX0_init_9 4 rfl rfl)
theorem dX0_init_218 : decode cX0_init 218 = .ok (.invokespecial 62, 3) := dk_183 0 62 (dk_at dksX0_init_9 5 rfl rfl)
theorem dX0_init_221 : decode cX0_init 221 = .ok (.aastore, 1) := dk_83 (dk_at dksX0_init_9 8 rfl rfl)
theorem dX0_init_222 : decode cX0_init 222 = .ok (.iinc 1 1, 3) := dk_132 1 1 (dk_at dksX0_init_9 9 rfl rfl)
theorem dX0_init_225 : decode cX0_init 225 = .ok (.goto (-35), 3) := dk_167 255 221 (dk_at dksX0_init_9 12 rfl rfl)
theorem dX0_init_228 : decode cX0_init 228 = .ok (.return_, 1) := dk_177 (dk_at dksX0_init_9 15 rfl rfl)
abbrev cX0_image : ByteArray := prog_1_method_13_code
def yX0_image : MethodName := ⟨RX0, "image", "(I)I"⟩
def dkwX0_image_2 : List UInt8 := [182, 0, 133, 42, 3, 182, 0, 121, 172]
abbrev dktX0_image_2 : List UInt8 := dkwX0_image_2 ++ []
def dkwX0_image_1 : List UInt8 := [42, 180, 0, 43, 27, 187, 0, 36, 89, 183, 0, 38, 83, 42, 180, 0, 43, 27, 50, 42, 180, 0, 39]
abbrev dktX0_image_1 : List UInt8 := dkwX0_image_1 ++ dktX0_image_2
def dkwX0_image_0 : List UInt8 := [27, 3, 4, 184, 0, 26, 154, 0, 9, 42, 2, 182, 0, 130, 172, 42, 180, 0, 43, 27, 50, 199, 0, 16]
abbrev dktX0_image_0 : List UInt8 := dkwX0_image_0 ++ dktX0_image_1
theorem dksX0_image_0 : cX0_image.data.toList.drop 0 = dktX0_image_0 := by decide +kernel
theorem dksX0_image_1 : cX0_image.data.toList.drop 24 = dktX0_image_1 := dk_seg dksX0_image_0 24 rfl rfl
theorem dksX0_image_2 : cX0_image.data.toList.drop 47 = dktX0_image_2 := dk_seg dksX0_image_1 23 rfl rfl
theorem dX0_image_0 : decode cX0_image 0 = .ok (.iload_n 1, 1) := dk_27 (dk_at dksX0_image_0 0 rfl rfl)
theorem dX0_image_1 : decode cX0_image 1 = .ok (.iconst 0, 1) := dk_3 (dk_at dksX0_image_0 1 rfl rfl)
theorem dX0_image_2 : decode cX0_image 2 = .ok (.iconst 1, 1) := dk_4 (dk_at dksX0_image_0 2 rfl rfl)
theorem dX0_image_3 : decode cX0_image 3 = .ok (.invokestatic 26, 3) := dk_184 0 26 (dk_at dksX0_image_0 3 rfl rfl)
theorem dX0_image_6 : decode cX0_image 6 = .ok (.ifCond .ne 9, 3) := dk_154 0 9 (dk_at dksX0_image_0 6 rfl rfl)
theorem dX0_image_9 : decode cX0_image 9 = .ok (.aload_n 0, 1) := dk_42 (dk_at dksX0_image_0 9 rfl rfl)
theorem dX0_image_10 : decode cX0_image 10 = .ok (.iconst (-1), 1) := dk_2 (dk_at dksX0_image_0 10 rfl rfl)
theorem dX0_image_11 : decode cX0_image 11 = .ok (.invokevirtual 130, 3) := dk_182 0 130 (dk_at dksX0_image_0 11 rfl rfl)
theorem dX0_image_14 : decode cX0_image 14 = .ok (.ireturn, 1) := dk_172 (dk_at dksX0_image_0 14 rfl rfl)
theorem dX0_image_15 : decode cX0_image 15 = .ok (.aload_n 0, 1) := dk_42 (dk_at dksX0_image_0 15 rfl rfl)
theorem dX0_image_16 : decode cX0_image 16 = .ok (.getfield 43, 3) := dk_180 0 43 (dk_at dksX0_image_0 16 rfl rfl)
theorem dX0_image_19 : decode cX0_image 19 = .ok (.iload_n 1, 1) := dk_27 (dk_at dksX0_image_0 19 rfl rfl)
theorem dX0_image_20 : decode cX0_image 20 = .ok (.aaload, 1) := dk_50 (dk_at dksX0_image_0 20 rfl rfl)
theorem dX0_image_21 : decode cX0_image 21 = .ok (.ifnonnull 16, 3) := dk_199 0 16 (dk_at dksX0_image_0 21 rfl rfl)
theorem dX0_image_24 : decode cX0_image 24 = .ok (.aload_n 0, 1) := dk_42 (dk_at dksX0_image_1 0 rfl rfl)
theorem dX0_image_25 : decode cX0_image 25 = .ok (.getfield 43, 3) := dk_180 0 43 (dk_at dksX0_image_1 1 rfl rfl)
theorem dX0_image_28 : decode cX0_image 28 = .ok (.iload_n 1, 1) := dk_27 (dk_at dksX0_image_1 4 rfl rfl)
theorem dX0_image_29 : decode cX0_image 29 = .ok (.new 36, 3) := dk_187 0 36 (dk_at dksX0_image_1 5 rfl rfl)
theorem dX0_image_32 : decode cX0_image 32 = .ok (.dup, 1) := dk_89 (dk_at dksX0_image_1 8 rfl rfl)
theorem dX0_image_33 : decode cX0_image 33 = .ok (.invokespecial 38, 3) := dk_183 0 38 (dk_at dksX0_image_1 9 rfl rfl)
theorem dX0_image_36 : decode cX0_image 36 = .ok (.aastore, 1) := dk_83 (dk_at dksX0_image_1 12 rfl rfl)
theorem dX0_image_37 : decode cX0_image 37 = .ok (.aload_n 0, 1) := dk_42 (dk_at dksX0_image_1 13 rfl rfl)
theorem dX0_image_38 : decode cX0_image 38 = .ok (.getfield 43, 3) := dk_180 0 43 (dk_at dksX0_image_1 14 rfl rfl)
theorem dX0_image_41 : decode cX0_image 41 = .ok (.iload_n 1, 1) := dk_27 (dk_at dksX0_image_1 17 rfl rfl)
theorem dX0_image_42 : decode cX0_image 42 = .ok (.aaload, 1) := dk_50 (dk_at dksX0_image_1 18 rfl rfl)
theorem dX0_image_43 : decode cX0_image 43 = .ok (.aload_n 0, 1) := dk_42 (dk_at dksX0_image_1 19 rfl rfl)
theorem dX0_image_44 : decode cX0_image 44 = .ok (.getfield 39, 3) := dk_180 0 39 (dk_at dksX0_image_1 20 rfl rfl)
theorem dX0_image_47 : decode cX0_image 47 = .ok (.invokevirtual 133, 3) := dk_182 0 133 (dk_at dksX0_image_2 0 rfl rfl)
theorem dX0_image_50 : decode cX0_image 50 = .ok (.aload_n 0, 1) := dk_42 (dk_at dksX0_image_2 3 rfl rfl)
theorem dX0_image_51 : decode cX0_image 51 = .ok (.iconst 0, 1) := dk_3 (dk_at dksX0_image_2 4 rfl rfl)
theorem dX0_image_52 : decode cX0_image 52 = .ok (.invokevirtual 121, 3) := dk_182 0 121 (dk_at dksX0_image_2 5 rfl rfl)
theorem dX0_image_55 : decode cX0_image 55 = .ok (.ireturn, 1) := dk_172 (dk_at dksX0_image_2 8 rfl rfl)
abbrev cX0_in : ByteArray := prog_1_method_3_code
def yX0_in : MethodName := ⟨RX0, "in", "(III)Z"⟩
def dkwX0_in_0 : List UInt8 := [26, 27, 161, 0, 12, 26, 28, 163, 0, 7, 4, 167, 0, 4, 3, 172]
abbrev dktX0_in_0 : List UInt8 := dkwX0_in_0 ++ []
theorem dksX0_in_0 : cX0_in.data.toList.drop 0 = dktX0_in_0 := by decide +kernel
theorem dX0_in_0 : decode cX0_in 0 = .ok (.iload_n 0, 1) := dk_26 (dk_at dksX0_in_0 0 rfl rfl)
theorem dX0_in_1 : decode cX0_in 1 = .ok (.iload_n 1, 1) := dk_27 (dk_at dksX0_in_0 1 rfl rfl)
theorem dX0_in_2 : decode cX0_in 2 = .ok (.if_icmp .lt 12, 3) := dk_161 0 12 (dk_at dksX0_in_0 2 rfl rfl)
theorem dX0_in_5 : decode cX0_in 5 = .ok (.iload_n 0, 1) := dk_26 (dk_at dksX0_in_0 5 rfl rfl)
theorem dX0_in_6 : decode cX0_in 6 = .ok (.iload_n 2, 1) := dk_28 (dk_at dksX0_in_0 6 rfl rfl)
theorem dX0_in_7 : decode cX0_in 7 = .ok (.if_icmp .gt 7, 3) := dk_163 0 7 (dk_at dksX0_in_0 7 rfl rfl)
theorem dX0_in_10 : decode cX0_in 10 = .ok (.iconst 1, 1) := dk_4 (dk_at dksX0_in_0 10 rfl rfl)
theorem dX0_in_11 : decode cX0_in 11 = .ok (.goto 4, 3) := dk_167 0 4 (dk_at dksX0_in_0 11 rfl rfl)
theorem dX0_in_14 : decode cX0_in 14 = .ok (.iconst 0, 1) := dk_3 (dk_at dksX0_in_0 14 rfl rfl)
theorem dX0_in_15 : decode cX0_in 15 = .ok (.ireturn, 1) := dk_172 (dk_at dksX0_in_0 15 rfl rfl)
abbrev cX0_refuse : ByteArray := prog_1_method_1_code
def yX0_refuse : MethodName := ⟨RX0, "refuse", "(I)I"⟩
def dkwX0_refuse_0 : List UInt8 := [42, 27, 181, 0, 3, 42, 180, 0, 7, 27, 116, 92, 46, 4, 96, 79, 27, 172]
abbrev dktX0_refuse_0 : List UInt8 := dkwX0_refuse_0 ++ []
theorem dksX0_refuse_0 : cX0_refuse.data.toList.drop 0 = dktX0_refuse_0 := by decide +kernel
theorem dX0_refuse_0 : decode cX0_refuse 0 = .ok (.aload_n 0, 1) := dk_42 (dk_at dksX0_refuse_0 0 rfl rfl)
theorem dX0_refuse_1 : decode cX0_refuse 1 = .ok (.iload_n 1, 1) := dk_27 (dk_at dksX0_refuse_0 1 rfl rfl)
theorem dX0_refuse_2 : decode cX0_refuse 2 = .ok (.putfield 3, 3) := dk_181 0 3 (dk_at dksX0_refuse_0 2 rfl rfl)
theorem dX0_refuse_5 : decode cX0_refuse 5 = .ok (.aload_n 0, 1) := dk_42 (dk_at dksX0_refuse_0 5 rfl rfl)
theorem dX0_refuse_6 : decode cX0_refuse 6 = .ok (.getfield 7, 3) := dk_180 0 7 (dk_at dksX0_refuse_0 6 rfl rfl)
theorem dX0_refuse_9 : decode cX0_refuse 9 = .ok (.iload_n 1, 1) := dk_27 (dk_at dksX0_refuse_0 9 rfl rfl)
theorem dX0_refuse_10 : decode cX0_refuse 10 = .ok (.ineg, 1) := dk_116 (dk_at dksX0_refuse_0 10 rfl rfl)
theorem dX0_refuse_11 : decode cX0_refuse 11 = .ok (.dup2, 1) := dk_92 (dk_at dksX0_refuse_0 11 rfl rfl)
theorem dX0_refuse_12 : decode cX0_refuse 12 = .ok (.iaload, 1) := dk_46 (dk_at dksX0_refuse_0 12 rfl rfl)
theorem dX0_refuse_13 : decode cX0_refuse 13 = .ok (.iconst 1, 1) := dk_4 (dk_at dksX0_refuse_0 13 rfl rfl)
theorem dX0_refuse_14 : decode cX0_refuse 14 = .ok (.iadd, 1) := dk_96 (dk_at dksX0_refuse_0 14 rfl rfl)
theorem dX0_refuse_15 : decode cX0_refuse 15 = .ok (.iastore, 1) := dk_79 (dk_at dksX0_refuse_0 15 rfl rfl)
theorem dX0_refuse_16 : decode cX0_refuse 16 = .ok (.iload_n 1, 1) := dk_27 (dk_at dksX0_refuse_0 16 rfl rfl)
theorem dX0_refuse_17 : decode cX0_refuse 17 = .ok (.ireturn, 1) := dk_172 (dk_at dksX0_refuse_0 17 rfl rfl)
abbrev cX0_done : ByteArray := prog_1_method_2_code
def yX0_done : MethodName := ⟨RX0, "done", "(I)I"⟩
def dkwX0_done_0 : List UInt8 := [42, 3, 181, 0, 3, 27, 172]
abbrev dktX0_done_0 : List UInt8 := dkwX0_done_0 ++ []
theorem dksX0_done_0 : cX0_done.data.toList.drop 0 = dktX0_done_0 := by decide +kernel
theorem dX0_done_0 : decode cX0_done 0 = .ok (.aload_n 0, 1) := dk_42 (dk_at dksX0_done_0 0 rfl rfl)
theorem dX0_done_1 : decode cX0_done 1 = .ok (.iconst 0, 1) := dk_3 (dk_at dksX0_done_0 1 rfl rfl)
theorem dX0_done_2 : decode cX0_done 2 = .ok (.putfield 3, 3) := dk_181 0 3 (dk_at dksX0_done_0 2 rfl rfl)
theorem dX0_done_5 : decode cX0_done 5 = .ok (.iload_n 1, 1) := dk_27 (dk_at dksX0_done_0 5 rfl rfl)
theorem dX0_done_6 : decode cX0_done 6 = .ok (.ireturn, 1) := dk_172 (dk_at dksX0_done_0 6 rfl rfl)
abbrev cX0_back : ByteArray := prog_1_method_14_code
def yX0_back : MethodName := ⟨RX0, "back", "(I)I"⟩
def dkwX0_back_2 : List UInt8 := [182, 0, 137, 172]
abbrev dktX0_back_2 : List UInt8 := dkwX0_back_2 ++ []
def dkwX0_back_1 : List UInt8 := [42, 16, 254, 182, 0, 130, 172, 42, 180, 0, 39, 42, 180, 0, 43, 27, 50, 182, 0, 133, 42, 3]
abbrev dktX0_back_1 : List UInt8 := dkwX0_back_1 ++ dktX0_back_2
def dkwX0_back_0 : List UInt8 := [27, 3, 4, 184, 0, 26, 154, 0, 9, 42, 2, 182, 0, 130, 172, 42, 180, 0, 43, 27, 50, 199, 0, 10]
abbrev dktX0_back_0 : List UInt8 := dkwX0_back_0 ++ dktX0_back_1
theorem dksX0_back_0 : cX0_back.data.toList.drop 0 = dktX0_back_0 := by decide +kernel
theorem dksX0_back_1 : cX0_back.data.toList.drop 24 = dktX0_back_1 := dk_seg dksX0_back_0 24 rfl rfl
theorem dksX0_back_2 : cX0_back.data.toList.drop 46 = dktX0_back_2 := dk_seg dksX0_back_1 22 rfl rfl
theorem dX0_back_0 : decode cX0_back 0 = .ok (.iload_n 1, 1) := dk_27 (dk_at dksX0_back_0 0 rfl rfl)
theorem dX0_back_1 : decode cX0_back 1 = .ok (.iconst 0, 1) := dk_3 (dk_at dksX0_back_0 1 rfl rfl)
theorem dX0_back_2 : decode cX0_back 2 = .ok (.iconst 1, 1) := dk_4 (dk_at dksX0_back_0 2 rfl rfl)
theorem dX0_back_3 : decode cX0_back 3 = .ok (.invokestatic 26, 3) := dk_184 0 26 (dk_at dksX0_back_0 3 rfl rfl)
theorem dX0_back_6 : decode cX0_back 6 = .ok (.ifCond .ne 9, 3) := dk_154 0 9 (dk_at dksX0_back_0 6 rfl rfl)
theorem dX0_back_9 : decode cX0_back 9 = .ok (.aload_n 0, 1) := dk_42 (dk_at dksX0_back_0 9 rfl rfl)
theorem dX0_back_10 : decode cX0_back 10 = .ok (.iconst (-1), 1) := dk_2 (dk_at dksX0_back_0 10 rfl rfl)
theorem dX0_back_11 : decode cX0_back 11 = .ok (.invokevirtual 130, 3) := dk_182 0 130 (dk_at dksX0_back_0 11 rfl rfl)
theorem dX0_back_14 : decode cX0_back 14 = .ok (.ireturn, 1) := dk_172 (dk_at dksX0_back_0 14 rfl rfl)
theorem dX0_back_15 : decode cX0_back 15 = .ok (.aload_n 0, 1) := dk_42 (dk_at dksX0_back_0 15 rfl rfl)
theorem dX0_back_16 : decode cX0_back 16 = .ok (.getfield 43, 3) := dk_180 0 43 (dk_at dksX0_back_0 16 rfl rfl)
theorem dX0_back_19 : decode cX0_back 19 = .ok (.iload_n 1, 1) := dk_27 (dk_at dksX0_back_0 19 rfl rfl)
theorem dX0_back_20 : decode cX0_back 20 = .ok (.aaload, 1) := dk_50 (dk_at dksX0_back_0 20 rfl rfl)
theorem dX0_back_21 : decode cX0_back 21 = .ok (.ifnonnull 10, 3) := dk_199 0 10 (dk_at dksX0_back_0 21 rfl rfl)
theorem dX0_back_24 : decode cX0_back 24 = .ok (.aload_n 0, 1) := dk_42 (dk_at dksX0_back_1 0 rfl rfl)
theorem dX0_back_25 : decode cX0_back 25 = .ok (.bipush (-2), 2) := dk_16 254 (dk_at dksX0_back_1 1 rfl rfl)
theorem dX0_back_27 : decode cX0_back 27 = .ok (.invokevirtual 130, 3) := dk_182 0 130 (dk_at dksX0_back_1 3 rfl rfl)
theorem dX0_back_30 : decode cX0_back 30 = .ok (.ireturn, 1) := dk_172 (dk_at dksX0_back_1 6 rfl rfl)
theorem dX0_back_31 : decode cX0_back 31 = .ok (.aload_n 0, 1) := dk_42 (dk_at dksX0_back_1 7 rfl rfl)
theorem dX0_back_32 : decode cX0_back 32 = .ok (.getfield 39, 3) := dk_180 0 39 (dk_at dksX0_back_1 8 rfl rfl)
theorem dX0_back_35 : decode cX0_back 35 = .ok (.aload_n 0, 1) := dk_42 (dk_at dksX0_back_1 11 rfl rfl)
theorem dX0_back_36 : decode cX0_back 36 = .ok (.getfield 43, 3) := dk_180 0 43 (dk_at dksX0_back_1 12 rfl rfl)
theorem dX0_back_39 : decode cX0_back 39 = .ok (.iload_n 1, 1) := dk_27 (dk_at dksX0_back_1 15 rfl rfl)
theorem dX0_back_40 : decode cX0_back 40 = .ok (.aaload, 1) := dk_50 (dk_at dksX0_back_1 16 rfl rfl)
theorem dX0_back_41 : decode cX0_back 41 = .ok (.invokevirtual 133, 3) := dk_182 0 133 (dk_at dksX0_back_1 17 rfl rfl)
theorem dX0_back_44 : decode cX0_back 44 = .ok (.aload_n 0, 1) := dk_42 (dk_at dksX0_back_1 20 rfl rfl)
theorem dX0_back_45 : decode cX0_back 45 = .ok (.iconst 0, 1) := dk_3 (dk_at dksX0_back_1 21 rfl rfl)
theorem dX0_back_46 : decode cX0_back 46 = .ok (.invokevirtual 137, 3) := dk_182 0 137 (dk_at dksX0_back_2 0 rfl rfl)
theorem dX0_back_49 : decode cX0_back 49 = .ok (.ireturn, 1) := dk_172 (dk_at dksX0_back_2 3 rfl rfl)
abbrev cX0_settled : ByteArray := prog_1_method_10_code
def yX0_settled : MethodName := ⟨RX0, "settled", "(I)I"⟩
def dkwX0_settled_0 : List UInt8 := [42, 3, 181, 0, 118, 42, 27, 182, 0, 121, 172]
abbrev dktX0_settled_0 : List UInt8 := dkwX0_settled_0 ++ []
theorem dksX0_settled_0 : cX0_settled.data.toList.drop 0 = dktX0_settled_0 := by decide +kernel
theorem dX0_settled_0 : decode cX0_settled 0 = .ok (.aload_n 0, 1) := dk_42 (dk_at dksX0_settled_0 0 rfl rfl)
theorem dX0_settled_1 : decode cX0_settled 1 = .ok (.iconst 0, 1) := dk_3 (dk_at dksX0_settled_0 1 rfl rfl)
theorem dX0_settled_2 : decode cX0_settled 2 = .ok (.putfield 118, 3) := dk_181 0 118 (dk_at dksX0_settled_0 2 rfl rfl)
theorem dX0_settled_5 : decode cX0_settled 5 = .ok (.aload_n 0, 1) := dk_42 (dk_at dksX0_settled_0 5 rfl rfl)
theorem dX0_settled_6 : decode cX0_settled 6 = .ok (.iload_n 1, 1) := dk_27 (dk_at dksX0_settled_0 6 rfl rfl)
theorem dX0_settled_7 : decode cX0_settled 7 = .ok (.invokevirtual 121, 3) := dk_182 0 121 (dk_at dksX0_settled_0 7 rfl rfl)
theorem dX0_settled_10 : decode cX0_settled 10 = .ok (.ireturn, 1) := dk_172 (dk_at dksX0_settled_0 10 rfl rfl)
abbrev cX0_lane : ByteArray := prog_1_method_17_code
def yX0_lane : MethodName := ⟨RX0, "lane", "(IIII)I"⟩
def dkwX0_lane_2 : List UInt8 := [182, 0, 137, 172]
abbrev dktX0_lane_2 : List UInt8 := dkwX0_lane_2 ++ []
def dkwX0_lane_1 : List UInt8 := [16, 10, 160, 0, 10, 42, 16, 251, 182, 0, 130, 172, 42, 42, 27, 28, 29, 21, 4, 182, 0, 166]
abbrev dktX0_lane_1 : List UInt8 := dkwX0_lane_1 ++ dktX0_lane_2
def dkwX0_lane_0 : List UInt8 := [27, 28, 29, 21, 4, 184, 0, 162, 154, 0, 9, 42, 2, 182, 0, 130, 172, 42, 180, 0, 39, 180, 0, 124]
abbrev dktX0_lane_0 : List UInt8 := dkwX0_lane_0 ++ dktX0_lane_1
theorem dksX0_lane_0 : cX0_lane.data.toList.drop 0 = dktX0_lane_0 := by decide +kernel
theorem dksX0_lane_1 : cX0_lane.data.toList.drop 24 = dktX0_lane_1 := dk_seg dksX0_lane_0 24 rfl rfl
theorem dksX0_lane_2 : cX0_lane.data.toList.drop 46 = dktX0_lane_2 := dk_seg dksX0_lane_1 22 rfl rfl
theorem dX0_lane_0 : decode cX0_lane 0 = .ok (.iload_n 1, 1) := dk_27 (dk_at dksX0_lane_0 0 rfl rfl)
theorem dX0_lane_1 : decode cX0_lane 1 = .ok (.iload_n 2, 1) := dk_28 (dk_at dksX0_lane_0 1 rfl rfl)
theorem dX0_lane_2 : decode cX0_lane 2 = .ok (.iload_n 3, 1) := dk_29 (dk_at dksX0_lane_0 2 rfl rfl)
theorem dX0_lane_3 : decode cX0_lane 3 = .ok (.iload 4, 2) := dk_21 4 (dk_at dksX0_lane_0 3 rfl rfl)
theorem dX0_lane_5 : decode cX0_lane 5 = .ok (.invokestatic 162, 3) := dk_184 0 162 (dk_at dksX0_lane_0 5 rfl rfl)
theorem dX0_lane_8 : decode cX0_lane 8 = .ok (.ifCond .ne 9, 3) := dk_154 0 9 (dk_at dksX0_lane_0 8 rfl rfl)
theorem dX0_lane_11 : decode cX0_lane 11 = .ok (.aload_n 0, 1) := dk_42 (dk_at dksX0_lane_0 11 rfl rfl)
theorem dX0_lane_12 : decode cX0_lane 12 = .ok (.iconst (-1), 1) := dk_2 (dk_at dksX0_lane_0 12 rfl rfl)
theorem dX0_lane_13 : decode cX0_lane 13 = .ok (.invokevirtual 130, 3) := dk_182 0 130 (dk_at dksX0_lane_0 13 rfl rfl)
theorem dX0_lane_16 : decode cX0_lane 16 = .ok (.ireturn, 1) := dk_172 (dk_at dksX0_lane_0 16 rfl rfl)
theorem dX0_lane_17 : decode cX0_lane 17 = .ok (.aload_n 0, 1) := dk_42 (dk_at dksX0_lane_0 17 rfl rfl)
theorem dX0_lane_18 : decode cX0_lane 18 = .ok (.getfield 39, 3) := dk_180 0 39 (dk_at dksX0_lane_0 18 rfl rfl)
theorem dX0_lane_21 : decode cX0_lane 21 = .ok (.getfield 124, 3) := dk_180 0 124 (dk_at dksX0_lane_0 21 rfl rfl)
theorem dX0_lane_24 : decode cX0_lane 24 = .ok (.bipush 10, 2) := dk_16 10 (dk_at dksX0_lane_1 0 rfl rfl)
theorem dX0_lane_26 : decode cX0_lane 26 = .ok (.if_icmp .ne 10, 3) := dk_160 0 10 (dk_at dksX0_lane_1 2 rfl rfl)
theorem dX0_lane_29 : decode cX0_lane 29 = .ok (.aload_n 0, 1) := dk_42 (dk_at dksX0_lane_1 5 rfl rfl)
theorem dX0_lane_30 : decode cX0_lane 30 = .ok (.bipush (-5), 2) := dk_16 251 (dk_at dksX0_lane_1 6 rfl rfl)
theorem dX0_lane_32 : decode cX0_lane 32 = .ok (.invokevirtual 130, 3) := dk_182 0 130 (dk_at dksX0_lane_1 8 rfl rfl)
theorem dX0_lane_35 : decode cX0_lane 35 = .ok (.ireturn, 1) := dk_172 (dk_at dksX0_lane_1 11 rfl rfl)
theorem dX0_lane_36 : decode cX0_lane 36 = .ok (.aload_n 0, 1) := dk_42 (dk_at dksX0_lane_1 12 rfl rfl)
theorem dX0_lane_37 : decode cX0_lane 37 = .ok (.aload_n 0, 1) := dk_42 (dk_at dksX0_lane_1 13 rfl rfl)
theorem dX0_lane_38 : decode cX0_lane 38 = .ok (.iload_n 1, 1) := dk_27 (dk_at dksX0_lane_1 14 rfl rfl)
theorem dX0_lane_39 : decode cX0_lane 39 = .ok (.iload_n 2, 1) := dk_28 (dk_at dksX0_lane_1 15 rfl rfl)
theorem dX0_lane_40 : decode cX0_lane 40 = .ok (.iload_n 3, 1) := dk_29 (dk_at dksX0_lane_1 16 rfl rfl)
theorem dX0_lane_41 : decode cX0_lane 41 = .ok (.iload 4, 2) := dk_21 4 (dk_at dksX0_lane_1 17 rfl rfl)
theorem dX0_lane_43 : decode cX0_lane 43 = .ok (.invokevirtual 166, 3) := dk_182 0 166 (dk_at dksX0_lane_1 19 rfl rfl)
theorem dX0_lane_46 : decode cX0_lane 46 = .ok (.invokevirtual 137, 3) := dk_182 0 137 (dk_at dksX0_lane_2 0 rfl rfl)
theorem dX0_lane_49 : decode cX0_lane 49 = .ok (.ireturn, 1) := dk_172 (dk_at dksX0_lane_2 3 rfl rfl)
abbrev cX0_canLane : ByteArray := prog_1_method_15_code
def yX0_canLane : MethodName := ⟨RX0, "canLane", "(IIII)Z"⟩
def dkwX0_canLane_1 : List UInt8 := [184, 0, 26, 153, 0, 16, 29, 3, 7, 184, 0, 26, 153, 0, 7, 4, 167, 0, 4, 3, 172]
abbrev dktX0_canLane_1 : List UInt8 := dkwX0_canLane_1 ++ []
def dkwX0_canLane_0 : List UInt8 := [26, 184, 0, 140, 153, 0, 38, 27, 184, 0, 140, 153, 0, 31, 26, 27, 159, 0, 26, 28, 4, 16, 9]
abbrev dktX0_canLane_0 : List UInt8 := dkwX0_canLane_0 ++ dktX0_canLane_1
theorem dksX0_canLane_0 : cX0_canLane.data.toList.drop 0 = dktX0_canLane_0 := by decide +kernel
theorem dksX0_canLane_1 : cX0_canLane.data.toList.drop 23 = dktX0_canLane_1 := dk_seg dksX0_canLane_0 23 rfl rfl
theorem dX0_canLane_0 : decode cX0_canLane 0 = .ok (.iload_n 0, 1) := dk_26 (dk_at dksX0_canLane_0 0 rfl rfl)
theorem dX0_canLane_1 : decode cX0_canLane 1 = .ok (.invokestatic 140, 3) := dk_184 0 140 (dk_at dksX0_canLane_0 1 rfl rfl)
theorem dX0_canLane_4 : decode cX0_canLane 4 = .ok (.ifCond .eq 38, 3) := dk_153 0 38 (dk_at dksX0_canLane_0 4 rfl rfl)
theorem dX0_canLane_7 : decode cX0_canLane 7 = .ok (.iload_n 1, 1) := dk_27 (dk_at dksX0_canLane_0 7 rfl rfl)
theorem dX0_canLane_8 : decode cX0_canLane 8 = .ok (.invokestatic 140, 3) := dk_184 0 140 (dk_at dksX0_canLane_0 8 rfl rfl)
theorem dX0_canLane_11 : decode cX0_canLane 11 = .ok (.ifCond .eq 31, 3) := dk_153 0 31 (dk_at dksX0_canLane_0 11 rfl rfl)
theorem dX0_canLane_14 : decode cX0_canLane 14 = .ok (.iload_n 0, 1) := dk_26 (dk_at dksX0_canLane_0 14 rfl rfl)
theorem dX0_canLane_15 : decode cX0_canLane 15 = .ok (.iload_n 1, 1) := dk_27 (dk_at dksX0_canLane_0 15 rfl rfl)
theorem dX0_canLane_16 : decode cX0_canLane 16 = .ok (.if_icmp .eq 26, 3) := dk_159 0 26 (dk_at dksX0_canLane_0 16 rfl rfl)
theorem dX0_canLane_19 : decode cX0_canLane 19 = .ok (.iload_n 2, 1) := dk_28 (dk_at dksX0_canLane_0 19 rfl rfl)
theorem dX0_canLane_20 : decode cX0_canLane 20 = .ok (.iconst 1, 1) := dk_4 (dk_at dksX0_canLane_0 20 rfl rfl)
theorem dX0_canLane_21 : decode cX0_canLane 21 = .ok (.bipush 9, 2) := dk_16 9 (dk_at dksX0_canLane_0 21 rfl rfl)
theorem dX0_canLane_23 : decode cX0_canLane 23 = .ok (.invokestatic 26, 3) := dk_184 0 26 (dk_at dksX0_canLane_1 0 rfl rfl)
theorem dX0_canLane_26 : decode cX0_canLane 26 = .ok (.ifCond .eq 16, 3) := dk_153 0 16 (dk_at dksX0_canLane_1 3 rfl rfl)
theorem dX0_canLane_29 : decode cX0_canLane 29 = .ok (.iload_n 3, 1) := dk_29 (dk_at dksX0_canLane_1 6 rfl rfl)
theorem dX0_canLane_30 : decode cX0_canLane 30 = .ok (.iconst 0, 1) := dk_3 (dk_at dksX0_canLane_1 7 rfl rfl)
theorem dX0_canLane_31 : decode cX0_canLane 31 = .ok (.iconst 4, 1) := dk_7 (dk_at dksX0_canLane_1 8 rfl rfl)
theorem dX0_canLane_32 : decode cX0_canLane 32 = .ok (.invokestatic 26, 3) := dk_184 0 26 (dk_at dksX0_canLane_1 9 rfl rfl)
theorem dX0_canLane_35 : decode cX0_canLane 35 = .ok (.ifCond .eq 7, 3) := dk_153 0 7 (dk_at dksX0_canLane_1 12 rfl rfl)
theorem dX0_canLane_38 : decode cX0_canLane 38 = .ok (.iconst 1, 1) := dk_4 (dk_at dksX0_canLane_1 15 rfl rfl)
theorem dX0_canLane_39 : decode cX0_canLane 39 = .ok (.goto 4, 3) := dk_167 0 4 (dk_at dksX0_canLane_1 16 rfl rfl)
theorem dX0_canLane_42 : decode cX0_canLane 42 = .ok (.iconst 0, 1) := dk_3 (dk_at dksX0_canLane_1 19 rfl rfl)
theorem dX0_canLane_43 : decode cX0_canLane 43 = .ok (.ireturn, 1) := dk_172 (dk_at dksX0_canLane_1 20 rfl rfl)
abbrev cX0_isCorner : ByteArray := prog_1_method_7_code
def yX0_isCorner : MethodName := ⟨RX0, "isCorner", "(I)Z"⟩
def dkwX0_isCorner_0 : List UInt8 := [26, 3, 16, 7, 184, 0, 26, 172]
abbrev dktX0_isCorner_0 : List UInt8 := dkwX0_isCorner_0 ++ []
theorem dksX0_isCorner_0 : cX0_isCorner.data.toList.drop 0 = dktX0_isCorner_0 := by decide +kernel
theorem dX0_isCorner_0 : decode cX0_isCorner 0 = .ok (.iload_n 0, 1) := dk_26 (dk_at dksX0_isCorner_0 0 rfl rfl)
theorem dX0_isCorner_1 : decode cX0_isCorner 1 = .ok (.iconst 0, 1) := dk_3 (dk_at dksX0_isCorner_0 1 rfl rfl)
theorem dX0_isCorner_2 : decode cX0_isCorner 2 = .ok (.bipush 7, 2) := dk_16 7 (dk_at dksX0_isCorner_0 2 rfl rfl)
theorem dX0_isCorner_4 : decode cX0_isCorner 4 = .ok (.invokestatic 26, 3) := dk_184 0 26 (dk_at dksX0_isCorner_0 4 rfl rfl)
theorem dX0_isCorner_7 : decode cX0_isCorner 7 = .ok (.ireturn, 1) := dk_172 (dk_at dksX0_isCorner_0 7 rfl rfl)
abbrev cX0_adds : ByteArray := prog_1_method_16_code
def yX0_adds : MethodName := ⟨RX0, "adds", "(IIII)I"⟩
def dkwX0_adds_3 : List UInt8 := [180, 0, 124, 4, 96, 181, 0, 124, 21, 5, 172]
abbrev dktX0_adds_3 : List UInt8 := dkwX0_adds_3 ++ []
def dkwX0_adds_2 : List UInt8 := [180, 0, 153, 21, 5, 21, 4, 79, 42, 182, 0, 156, 180, 0, 159, 21, 5, 2, 79, 42, 180, 0, 39, 89]
abbrev dktX0_adds_2 : List UInt8 := dkwX0_adds_2 ++ dktX0_adds_3
def dkwX0_adds_1 : List UInt8 := [180, 0, 147, 21, 5, 28, 79, 42, 180, 0, 39, 180, 0, 150, 21, 5, 29, 79, 42, 180, 0, 39]
abbrev dktX0_adds_1 : List UInt8 := dkwX0_adds_1 ++ dktX0_adds_2
def dkwX0_adds_0 : List UInt8 := [42, 180, 0, 39, 180, 0, 124, 54, 5, 42, 180, 0, 39, 180, 0, 144, 21, 5, 27, 79, 42, 180, 0, 39]
abbrev dktX0_adds_0 : List UInt8 := dkwX0_adds_0 ++ dktX0_adds_1
theorem dksX0_adds_0 : cX0_adds.data.toList.drop 0 = dktX0_adds_0 := by decide +kernel
theorem dksX0_adds_1 : cX0_adds.data.toList.drop 24 = dktX0_adds_1 := dk_seg dksX0_adds_0 24 rfl rfl
theorem dksX0_adds_2 : cX0_adds.data.toList.drop 46 = dktX0_adds_2 := dk_seg dksX0_adds_1 22 rfl rfl
theorem dksX0_adds_3 : cX0_adds.data.toList.drop 70 = dktX0_adds_3 := dk_seg dksX0_adds_2 24 rfl rfl
theorem dX0_adds_0 : decode cX0_adds 0 = .ok (.aload_n 0, 1) := dk_42 (dk_at dksX0_adds_0 0 rfl rfl)
theorem dX0_adds_1 : decode cX0_adds 1 = .ok (.getfield 39, 3) := dk_180 0 39 (dk_at dksX0_adds_0 1 rfl rfl)
theorem dX0_adds_4 : decode cX0_adds 4 = .ok (.getfield 124, 3) := dk_180 0 124 (dk_at dksX0_adds_0 4 rfl rfl)
theorem dX0_adds_7 : decode cX0_adds 7 = .ok (.istore 5, 2) := dk_54 5 (dk_at dksX0_adds_0 7 rfl rfl)
theorem dX0_adds_9 : decode cX0_adds 9 = .ok (.aload_n 0, 1) := dk_42 (dk_at dksX0_adds_0 9 rfl rfl)
theorem dX0_adds_10 : decode cX0_adds 10 = .ok (.getfield 39, 3) := dk_180 0 39 (dk_at dksX0_adds_0 10 rfl rfl)
theorem dX0_adds_13 : decode cX0_adds 13 = .ok (.getfield 144, 3) := dk_180 0 144 (dk_at dksX0_adds_0 13 rfl rfl)
theorem dX0_adds_16 : decode cX0_adds 16 = .ok (.iload 5, 2) := dk_21 5 (dk_at dksX0_adds_0 16 rfl rfl)
theorem dX0_adds_18 : decode cX0_adds 18 = .ok (.iload_n 1, 1) := dk_27 (dk_at dksX0_adds_0 18 rfl rfl)
theorem dX0_adds_19 : decode cX0_adds 19 = .ok (.iastore, 1) := dk_79 (dk_at dksX0_adds_0 19 rfl rfl)
theorem dX0_adds_20 : decode cX0_adds 20 = .ok (.aload_n 0, 1) := dk_42 (dk_at dksX0_adds_0 20 rfl rfl)
theorem dX0_adds_21 : decode cX0_adds 21 = .ok (.getfield 39, 3) := dk_180 0 39 (dk_at dksX0_adds_0 21 rfl rfl)
theorem dX0_adds_24 : decode cX0_adds 24 = .ok (.getfield 147, 3) := dk_180 0 147 (dk_at dksX0_adds_1 0 rfl rfl)
theorem dX0_adds_27 : decode cX0_adds 27 = .ok (.iload 5, 2) := dk_21 5 (dk_at dksX0_adds_1 3 rfl rfl)
theorem dX0_adds_29 : decode cX0_adds 29 = .ok (.iload_n 2, 1) := dk_28 (dk_at dksX0_adds_1 5 rfl rfl)
theorem dX0_adds_30 : decode cX0_adds 30 = .ok (.iastore, 1) := dk_79 (dk_at dksX0_adds_1 6 rfl rfl)
theorem dX0_adds_31 : decode cX0_adds 31 = .ok (.aload_n 0, 1) := dk_42 (dk_at dksX0_adds_1 7 rfl rfl)
theorem dX0_adds_32 : decode cX0_adds 32 = .ok (.getfield 39, 3) := dk_180 0 39 (dk_at dksX0_adds_1 8 rfl rfl)
theorem dX0_adds_35 : decode cX0_adds 35 = .ok (.getfield 150, 3) := dk_180 0 150 (dk_at dksX0_adds_1 11 rfl rfl)
theorem dX0_adds_38 : decode cX0_adds 38 = .ok (.iload 5, 2) := dk_21 5 (dk_at dksX0_adds_1 14 rfl rfl)
theorem dX0_adds_40 : decode cX0_adds 40 = .ok (.iload_n 3, 1) := dk_29 (dk_at dksX0_adds_1 16 rfl rfl)
theorem dX0_adds_41 : decode cX0_adds 41 = .ok (.iastore, 1) := dk_79 (dk_at dksX0_adds_1 17 rfl rfl)
theorem dX0_adds_42 : decode cX0_adds 42 = .ok (.aload_n 0, 1) := dk_42 (dk_at dksX0_adds_1 18 rfl rfl)
theorem dX0_adds_43 : decode cX0_adds 43 = .ok (.getfield 39, 3) := dk_180 0 39 (dk_at dksX0_adds_1 19 rfl rfl)
theorem dX0_adds_46 : decode cX0_adds 46 = .ok (.getfield 153, 3) := dk_180 0 153 (dk_at dksX0_adds_2 0 rfl rfl)
theorem dX0_adds_49 : decode cX0_adds 49 = .ok (.iload 5, 2) := dk_21 5 (dk_at dksX0_adds_2 3 rfl rfl)
theorem dX0_adds_51 : decode cX0_adds 51 = .ok (.iload 4, 2) := dk_21 4 (dk_at dksX0_adds_2 5 rfl rfl)
theorem dX0_adds_53 : decode cX0_adds 53 = .ok (.iastore, 1) := dk_79 (dk_at dksX0_adds_2 7 rfl rfl)
theorem dX0_adds_54 : decode cX0_adds 54 = .ok (.aload_n 0, 1) := dk_42 (dk_at dksX0_adds_2 8 rfl rfl)
theorem dX0_adds_55 : decode cX0_adds 55 = .ok (.invokevirtual 156, 3) := dk_182 0 156 (dk_at dksX0_adds_2 9 rfl rfl)
theorem dX0_adds_58 : decode cX0_adds 58 = .ok (.getfield 159, 3) := dk_180 0 159 (dk_at dksX0_adds_2 12 rfl rfl)
theorem dX0_adds_61 : decode cX0_adds 61 = .ok (.iload 5, 2) := dk_21 5 (dk_at dksX0_adds_2 15 rfl rfl)
theorem dX0_adds_63 : decode cX0_adds 63 = .ok (.iconst (-1), 1) := dk_2 (dk_at dksX0_adds_2 17 rfl rfl)
theorem dX0_adds_64 : decode cX0_adds 64 = .ok (.iastore, 1) := dk_79 (dk_at dksX0_adds_2 18 rfl rfl)
theorem dX0_adds_65 : decode cX0_adds 65 = .ok (.aload_n 0, 1) := dk_42 (dk_at dksX0_adds_2 19 rfl rfl)
theorem dX0_adds_66 : decode cX0_adds 66 = .ok (.getfield 39, 3) := dk_180 0 39 (dk_at dksX0_adds_2 20 rfl rfl)
theorem dX0_adds_69 : decode cX0_adds 69 = .ok (.dup, 1) := dk_89 (dk_at dksX0_adds_2 23 rfl rfl)
theorem dX0_adds_70 : decode cX0_adds 70 = .ok (.getfield 124, 3) := dk_180 0 124 (dk_at dksX0_adds_3 0 rfl rfl)
theorem dX0_adds_73 : decode cX0_adds 73 = .ok (.iconst 1, 1) := dk_4 (dk_at dksX0_adds_3 3 rfl rfl)
theorem dX0_adds_74 : decode cX0_adds 74 = .ok (.iadd, 1) := dk_96 (dk_at dksX0_adds_3 4 rfl rfl)
theorem dX0_adds_75 : decode cX0_adds 75 = .ok (.putfield 124, 3) := dk_181 0 124 (dk_at dksX0_adds_3 5 rfl rfl)
theorem dX0_adds_78 : decode cX0_adds 78 = .ok (.iload 5, 2) := dk_21 5 (dk_at dksX0_adds_3 8 rfl rfl)
theorem dX0_adds_80 : decode cX0_adds 80 = .ok (.ireturn, 1) := dk_172 (dk_at dksX0_adds_3 10 rfl rfl)
abbrev cX0_table : ByteArray := prog_1_method_9_code
def yX0_table : MethodName := ⟨RX0, "table", "()LLostLanes$Table;"⟩
def dkwX0_table_0 : List UInt8 := [42, 180, 0, 39, 180, 0, 115, 176]
abbrev dktX0_table_0 : List UInt8 := dkwX0_table_0 ++ []
theorem dksX0_table_0 : cX0_table.data.toList.drop 0 = dktX0_table_0 := by decide +kernel
theorem dX0_table_0 : decode cX0_table 0 = .ok (.aload_n 0, 1) := dk_42 (dk_at dksX0_table_0 0 rfl rfl)
theorem dX0_table_1 : decode cX0_table 1 = .ok (.getfield 39, 3) := dk_180 0 39 (dk_at dksX0_table_0 1 rfl rfl)
theorem dX0_table_4 : decode cX0_table 4 = .ok (.getfield 115, 3) := dk_180 0 115 (dk_at dksX0_table_0 4 rfl rfl)
theorem dX0_table_7 : decode cX0_table 7 = .ok (.areturn, 1) := dk_176 (dk_at dksX0_table_0 7 rfl rfl)
abbrev cX0_at : ByteArray := prog_1_method_18_code
def yX0_at : MethodName := ⟨RX0, "at", "(II)I"⟩
def dkwX0_at_4 : List UInt8 := [46, 172, 2, 172]
abbrev dktX0_at_4 : List UInt8 := dkwX0_at_4 ++ []
def dkwX0_at_3 : List UInt8 := [180, 0, 150, 27, 46, 172, 42, 180, 0, 39, 180, 0, 153, 27, 46, 172, 42, 182, 0, 156, 180, 0, 159, 27]
abbrev dktX0_at_3 : List UInt8 := dkwX0_at_3 ++ dktX0_at_4
def dkwX0_at_2 : List UInt8 := [42, 180, 0, 39, 180, 0, 144, 27, 46, 172, 42, 180, 0, 39, 180, 0, 147, 27, 46, 172, 42, 180, 0, 39]
abbrev dktX0_at_2 : List UInt8 := dkwX0_at_2 ++ dktX0_at_3
def dkwX0_at_1 : List UInt8 := [170, 0, 0, 0, 83, 0, 0, 0, 0, 0, 0, 0, 4, 0, 0, 0, 33, 0, 0, 0, 43, 0, 0, 0, 53, 0, 0, 0, 63, 0, 0, 0, 73]
abbrev dktX0_at_1 : List UInt8 := dkwX0_at_1 ++ dktX0_at_2
def dkwX0_at_0 : List UInt8 := [42, 27, 182, 0, 170, 154, 0, 5, 2, 172, 28]
abbrev dktX0_at_0 : List UInt8 := dkwX0_at_0 ++ dktX0_at_1
theorem dksX0_at_0 : cX0_at.data.toList.drop 0 = dktX0_at_0 := by decide +kernel
theorem dksX0_at_1 : cX0_at.data.toList.drop 11 = dktX0_at_1 := dk_seg dksX0_at_0 11 rfl rfl
theorem dksX0_at_2 : cX0_at.data.toList.drop 44 = dktX0_at_2 := dk_seg dksX0_at_1 33 rfl rfl
theorem dksX0_at_3 : cX0_at.data.toList.drop 68 = dktX0_at_3 := dk_seg dksX0_at_2 24 rfl rfl
theorem dksX0_at_4 : cX0_at.data.toList.drop 92 = dktX0_at_4 := dk_seg dksX0_at_3 24 rfl rfl
theorem dX0_at_0 : decode cX0_at 0 = .ok (.aload_n 0, 1) := dk_42 (dk_at dksX0_at_0 0 rfl rfl)
theorem dX0_at_1 : decode cX0_at 1 = .ok (.iload_n 1, 1) := dk_27 (dk_at dksX0_at_0 1 rfl rfl)
theorem dX0_at_2 : decode cX0_at 2 = .ok (.invokevirtual 170, 3) := dk_182 0 170 (dk_at dksX0_at_0 2 rfl rfl)
theorem dX0_at_5 : decode cX0_at 5 = .ok (.ifCond .ne 5, 3) := dk_154 0 5 (dk_at dksX0_at_0 5 rfl rfl)
theorem dX0_at_8 : decode cX0_at 8 = .ok (.iconst (-1), 1) := dk_2 (dk_at dksX0_at_0 8 rfl rfl)
theorem dX0_at_9 : decode cX0_at 9 = .ok (.ireturn, 1) := dk_172 (dk_at dksX0_at_0 9 rfl rfl)
theorem dX0_at_10 : decode cX0_at 10 = .ok (.iload_n 2, 1) := dk_28 (dk_at dksX0_at_0 10 rfl rfl)
theorem dX0_at_11 : decode cX0_at 11 = .ok (.tableswitch 83 0 4 #[33, 43, 53, 63, 73], 33) := by decide +kernel
theorem dX0_at_44 : decode cX0_at 44 = .ok (.aload_n 0, 1) := dk_42 (dk_at dksX0_at_2 0 rfl rfl)
theorem dX0_at_45 : decode cX0_at 45 = .ok (.getfield 39, 3) := dk_180 0 39 (dk_at dksX0_at_2 1 rfl rfl)
theorem dX0_at_48 : decode cX0_at 48 = .ok (.getfield 144, 3) := dk_180 0 144 (dk_at dksX0_at_2 4 rfl rfl)
theorem dX0_at_51 : decode cX0_at 51 = .ok (.iload_n 1, 1) := dk_27 (dk_at dksX0_at_2 7 rfl rfl)
theorem dX0_at_52 : decode cX0_at 52 = .ok (.iaload, 1) := dk_46 (dk_at dksX0_at_2 8 rfl rfl)
theorem dX0_at_53 : decode cX0_at 53 = .ok (.ireturn, 1) := dk_172 (dk_at dksX0_at_2 9 rfl rfl)
theorem dX0_at_54 : decode cX0_at 54 = .ok (.aload_n 0, 1) := dk_42 (dk_at dksX0_at_2 10 rfl rfl)
theorem dX0_at_55 : decode cX0_at 55 = .ok (.getfield 39, 3) := dk_180 0 39 (dk_at dksX0_at_2 11 rfl rfl)
theorem dX0_at_58 : decode cX0_at 58 = .ok (.getfield 147, 3) := dk_180 0 147 (dk_at dksX0_at_2 14 rfl rfl)
theorem dX0_at_61 : decode cX0_at 61 = .ok (.iload_n 1, 1) := dk_27 (dk_at dksX0_at_2 17 rfl rfl)
theorem dX0_at_62 : decode cX0_at 62 = .ok (.iaload, 1) := dk_46 (dk_at dksX0_at_2 18 rfl rfl)
theorem dX0_at_63 : decode cX0_at 63 = .ok (.ireturn, 1) := dk_172 (dk_at dksX0_at_2 19 rfl rfl)
theorem dX0_at_64 : decode cX0_at 64 = .ok (.aload_n 0, 1) := dk_42 (dk_at dksX0_at_2 20 rfl rfl)
theorem dX0_at_65 : decode cX0_at 65 = .ok (.getfield 39, 3) := dk_180 0 39 (dk_at dksX0_at_2 21 rfl rfl)
theorem dX0_at_68 : decode cX0_at 68 = .ok (.getfield 150, 3) := dk_180 0 150 (dk_at dksX0_at_3 0 rfl rfl)
theorem dX0_at_71 : decode cX0_at 71 = .ok (.iload_n 1, 1) := dk_27 (dk_at dksX0_at_3 3 rfl rfl)
theorem dX0_at_72 : decode cX0_at 72 = .ok (.iaload, 1) := dk_46 (dk_at dksX0_at_3 4 rfl rfl)
theorem dX0_at_73 : decode cX0_at 73 = .ok (.ireturn, 1) := dk_172 (dk_at dksX0_at_3 5 rfl rfl)
theorem dX0_at_74 : decode cX0_at 74 = .ok (.aload_n 0, 1) := dk_42 (dk_at dksX0_at_3 6 rfl rfl)
theorem dX0_at_75 : decode cX0_at 75 = .ok (.getfield 39, 3) := dk_180 0 39 (dk_at dksX0_at_3 7 rfl rfl)
theorem dX0_at_78 : decode cX0_at 78 = .ok (.getfield 153, 3) := dk_180 0 153 (dk_at dksX0_at_3 10 rfl rfl)
theorem dX0_at_81 : decode cX0_at 81 = .ok (.iload_n 1, 1) := dk_27 (dk_at dksX0_at_3 13 rfl rfl)
theorem dX0_at_82 : decode cX0_at 82 = .ok (.iaload, 1) := dk_46 (dk_at dksX0_at_3 14 rfl rfl)
theorem dX0_at_83 : decode cX0_at 83 = .ok (.ireturn, 1) := dk_172 (dk_at dksX0_at_3 15 rfl rfl)
theorem dX0_at_84 : decode cX0_at 84 = .ok (.aload_n 0, 1) := dk_42 (dk_at dksX0_at_3 16 rfl rfl)
theorem dX0_at_85 : decode cX0_at 85 = .ok (.invokevirtual 156, 3) := dk_182 0 156 (dk_at dksX0_at_3 17 rfl rfl)
theorem dX0_at_88 : decode cX0_at 88 = .ok (.getfield 159, 3) := dk_180 0 159 (dk_at dksX0_at_3 20 rfl rfl)
theorem dX0_at_91 : decode cX0_at 91 = .ok (.iload_n 1, 1) := dk_27 (dk_at dksX0_at_3 23 rfl rfl)
theorem dX0_at_92 : decode cX0_at 92 = .ok (.iaload, 1) := dk_46 (dk_at dksX0_at_4 0 rfl rfl)
theorem dX0_at_93 : decode cX0_at 93 = .ok (.ireturn, 1) := dk_172 (dk_at dksX0_at_4 1 rfl rfl)
theorem dX0_at_94 : decode cX0_at 94 = .ok (.iconst (-1), 1) := dk_2 (dk_at dksX0_at_4 2 rfl rfl)
theorem dX0_at_95 : decode cX0_at 95 = .ok (.ireturn, 1) := dk_172 (dk_at dksX0_at_4 3 rfl rfl)
abbrev cX0_isLane : ByteArray := prog_1_method_11_code
def yX0_isLane : MethodName := ⟨RX0, "isLane", "(I)Z"⟩
def dkwX0_isLane_0 : List UInt8 := [27, 3, 42, 180, 0, 39, 180, 0, 124, 4, 100, 184, 0, 26, 172]
abbrev dktX0_isLane_0 : List UInt8 := dkwX0_isLane_0 ++ []
theorem dksX0_isLane_0 : cX0_isLane.data.toList.drop 0 = dktX0_isLane_0 := by decide +kernel
theorem dX0_isLane_0 : decode cX0_isLane 0 = .ok (.iload_n 1, 1) := dk_27 (dk_at dksX0_isLane_0 0 rfl rfl)
theorem dX0_isLane_1 : decode cX0_isLane 1 = .ok (.iconst 0, 1) := dk_3 (dk_at dksX0_isLane_0 1 rfl rfl)
theorem dX0_isLane_2 : decode cX0_isLane 2 = .ok (.aload_n 0, 1) := dk_42 (dk_at dksX0_isLane_0 2 rfl rfl)
theorem dX0_isLane_3 : decode cX0_isLane 3 = .ok (.getfield 39, 3) := dk_180 0 39 (dk_at dksX0_isLane_0 3 rfl rfl)
theorem dX0_isLane_6 : decode cX0_isLane 6 = .ok (.getfield 124, 3) := dk_180 0 124 (dk_at dksX0_isLane_0 6 rfl rfl)
theorem dX0_isLane_9 : decode cX0_isLane 9 = .ok (.iconst 1, 1) := dk_4 (dk_at dksX0_isLane_0 9 rfl rfl)
theorem dX0_isLane_10 : decode cX0_isLane 10 = .ok (.isub, 1) := dk_100 (dk_at dksX0_isLane_0 10 rfl rfl)
theorem dX0_isLane_11 : decode cX0_isLane 11 = .ok (.invokestatic 26, 3) := dk_184 0 26 (dk_at dksX0_isLane_0 11 rfl rfl)
theorem dX0_isLane_14 : decode cX0_isLane 14 = .ok (.ireturn, 1) := dk_172 (dk_at dksX0_isLane_0 14 rfl rfl)
abbrev cX0_child : ByteArray := prog_1_method_19_code
def yX0_child : MethodName := ⟨RX0, "child", "(II)I"⟩
def dkwX0_child_3 : List UInt8 := [2, 79, 42, 180, 0, 39, 89, 180, 0, 127, 4, 96, 181, 0, 127, 42, 29, 182, 0, 137, 172]
abbrev dktX0_child_3 : List UInt8 := dkwX0_child_3 ++ []
def dkwX0_child_2 : List UInt8 := [180, 0, 173, 29, 27, 79, 42, 182, 0, 156, 180, 0, 176, 29, 28, 79, 42, 182, 0, 156, 180, 0, 179, 29]
abbrev dktX0_child_2 : List UInt8 := dkwX0_child_2 ++ dktX0_child_3
def dkwX0_child_1 : List UInt8 := [180, 0, 39, 180, 0, 127, 62, 29, 7, 160, 0, 10, 42, 16, 251, 182, 0, 130, 172, 42, 180, 0, 39]
abbrev dktX0_child_1 : List UInt8 := dkwX0_child_1 ++ dktX0_child_2
def dkwX0_child_0 : List UInt8 := [27, 4, 16, 9, 184, 0, 26, 153, 0, 10, 28, 184, 0, 140, 154, 0, 9, 42, 2, 182, 0, 130, 172, 42]
abbrev dktX0_child_0 : List UInt8 := dkwX0_child_0 ++ dktX0_child_1
theorem dksX0_child_0 : cX0_child.data.toList.drop 0 = dktX0_child_0 := by decide +kernel
theorem dksX0_child_1 : cX0_child.data.toList.drop 24 = dktX0_child_1 := dk_seg dksX0_child_0 24 rfl rfl
theorem dksX0_child_2 : cX0_child.data.toList.drop 47 = dktX0_child_2 := dk_seg dksX0_child_1 23 rfl rfl
theorem dksX0_child_3 : cX0_child.data.toList.drop 71 = dktX0_child_3 := dk_seg dksX0_child_2 24 rfl rfl
theorem dX0_child_0 : decode cX0_child 0 = .ok (.iload_n 1, 1) := dk_27 (dk_at dksX0_child_0 0 rfl rfl)
theorem dX0_child_1 : decode cX0_child 1 = .ok (.iconst 1, 1) := dk_4 (dk_at dksX0_child_0 1 rfl rfl)
theorem dX0_child_2 : decode cX0_child 2 = .ok (.bipush 9, 2) := dk_16 9 (dk_at dksX0_child_0 2 rfl rfl)
theorem dX0_child_4 : decode cX0_child 4 = .ok (.invokestatic 26, 3) := dk_184 0 26 (dk_at dksX0_child_0 4 rfl rfl)
theorem dX0_child_7 : decode cX0_child 7 = .ok (.ifCond .eq 10, 3) := dk_153 0 10 (dk_at dksX0_child_0 7 rfl rfl)
theorem dX0_child_10 : decode cX0_child 10 = .ok (.iload_n 2, 1) := dk_28 (dk_at dksX0_child_0 10 rfl rfl)
theorem dX0_child_11 : decode cX0_child 11 = .ok (.invokestatic 140, 3) := dk_184 0 140 (dk_at dksX0_child_0 11 rfl rfl)
theorem dX0_child_14 : decode cX0_child 14 = .ok (.ifCond .ne 9, 3) := dk_154 0 9 (dk_at dksX0_child_0 14 rfl rfl)
theorem dX0_child_17 : decode cX0_child 17 = .ok (.aload_n 0, 1) := dk_42 (dk_at dksX0_child_0 17 rfl rfl)
theorem dX0_child_18 : decode cX0_child 18 = .ok (.iconst (-1), 1) := dk_2 (dk_at dksX0_child_0 18 rfl rfl)
theorem dX0_child_19 : decode cX0_child 19 = .ok (.invokevirtual 130, 3) := dk_182 0 130 (dk_at dksX0_child_0 19 rfl rfl)
theorem dX0_child_22 : decode cX0_child 22 = .ok (.ireturn, 1) := dk_172 (dk_at dksX0_child_0 22 rfl rfl)
theorem dX0_child_23 : decode cX0_child 23 = .ok (.aload_n 0, 1) := dk_42 (dk_at dksX0_child_0 23 rfl rfl)
theorem dX0_child_24 : decode cX0_child 24 = .ok (.getfield 39, 3) := dk_180 0 39 (dk_at dksX0_child_1 0 rfl rfl)
theorem dX0_child_27 : decode cX0_child 27 = .ok (.getfield 127, 3) := dk_180 0 127 (dk_at dksX0_child_1 3 rfl rfl)
theorem dX0_child_30 : decode cX0_child 30 = .ok (.istore_n 3, 1) := dk_62 (dk_at dksX0_child_1 6 rfl rfl)
theorem dX0_child_31 : decode cX0_child 31 = .ok (.iload_n 3, 1) := dk_29 (dk_at dksX0_child_1 7 rfl rfl)
theorem dX0_child_32 : decode cX0_child 32 = .ok (.iconst 4, 1) := dk_7 (dk_at dksX0_child_1 8 rfl rfl)
theorem dX0_child_33 : decode cX0_child 33 = .ok (.if_icmp .ne 10, 3) := dk_160 0 10 (dk_at dksX0_child_1 9 rfl rfl)
theorem dX0_child_36 : decode cX0_child 36 = .ok (.aload_n 0, 1) := dk_42 (dk_at dksX0_child_1 12 rfl rfl)
theorem dX0_child_37 : decode cX0_child 37 = .ok (.bipush (-5), 2) := dk_16 251 (dk_at dksX0_child_1 13 rfl rfl)
theorem dX0_child_39 : decode cX0_child 39 = .ok (.invokevirtual 130, 3) := dk_182 0 130 (dk_at dksX0_child_1 15 rfl rfl)
theorem dX0_child_42 : decode cX0_child 42 = .ok (.ireturn, 1) := dk_172 (dk_at dksX0_child_1 18 rfl rfl)
theorem dX0_child_43 : decode cX0_child 43 = .ok (.aload_n 0, 1) := dk_42 (dk_at dksX0_child_1 19 rfl rfl)
theorem dX0_child_44 : decode cX0_child 44 = .ok (.getfield 39, 3) := dk_180 0 39 (dk_at dksX0_child_1 20 rfl rfl)
theorem dX0_child_47 : decode cX0_child 47 = .ok (.getfield 173, 3) := dk_180 0 173 (dk_at dksX0_child_2 0 rfl rfl)
theorem dX0_child_50 : decode cX0_child 50 = .ok (.iload_n 3, 1) := dk_29 (dk_at dksX0_child_2 3 rfl rfl)
theorem dX0_child_51 : decode cX0_child 51 = .ok (.iload_n 1, 1) := dk_27 (dk_at dksX0_child_2 4 rfl rfl)
theorem dX0_child_52 : decode cX0_child 52 = .ok (.iastore, 1) := dk_79 (dk_at dksX0_child_2 5 rfl rfl)
theorem dX0_child_53 : decode cX0_child 53 = .ok (.aload_n 0, 1) := dk_42 (dk_at dksX0_child_2 6 rfl rfl)
theorem dX0_child_54 : decode cX0_child 54 = .ok (.invokevirtual 156, 3) := dk_182 0 156 (dk_at dksX0_child_2 7 rfl rfl)
theorem dX0_child_57 : decode cX0_child 57 = .ok (.getfield 176, 3) := dk_180 0 176 (dk_at dksX0_child_2 10 rfl rfl)
theorem dX0_child_60 : decode cX0_child 60 = .ok (.iload_n 3, 1) := dk_29 (dk_at dksX0_child_2 13 rfl rfl)
theorem dX0_child_61 : decode cX0_child 61 = .ok (.iload_n 2, 1) := dk_28 (dk_at dksX0_child_2 14 rfl rfl)
theorem dX0_child_62 : decode cX0_child 62 = .ok (.iastore, 1) := dk_79 (dk_at dksX0_child_2 15 rfl rfl)
theorem dX0_child_63 : decode cX0_child 63 = .ok (.aload_n 0, 1) := dk_42 (dk_at dksX0_child_2 16 rfl rfl)
theorem dX0_child_64 : decode cX0_child 64 = .ok (.invokevirtual 156, 3) := dk_182 0 156 (dk_at dksX0_child_2 17 rfl rfl)
theorem dX0_child_67 : decode cX0_child 67 = .ok (.getfield 179, 3) := dk_180 0 179 (dk_at dksX0_child_2 20 rfl rfl)
theorem dX0_child_70 : decode cX0_child 70 = .ok (.iload_n 3, 1) := dk_29 (dk_at dksX0_child_2 23 rfl rfl)
theorem dX0_child_71 : decode cX0_child 71 = .ok (.iconst (-1), 1) := dk_2 (dk_at dksX0_child_3 0 rfl rfl)
theorem dX0_child_72 : decode cX0_child 72 = .ok (.iastore, 1) := dk_79 (dk_at dksX0_child_3 1 rfl rfl)
theorem dX0_child_73 : decode cX0_child 73 = .ok (.aload_n 0, 1) := dk_42 (dk_at dksX0_child_3 2 rfl rfl)
theorem dX0_child_74 : decode cX0_child 74 = .ok (.getfield 39, 3) := dk_180 0 39 (dk_at dksX0_child_3 3 rfl rfl)
theorem dX0_child_77 : decode cX0_child 77 = .ok (.dup, 1) := dk_89 (dk_at dksX0_child_3 6 rfl rfl)
theorem dX0_child_78 : decode cX0_child 78 = .ok (.getfield 127, 3) := dk_180 0 127 (dk_at dksX0_child_3 7 rfl rfl)
theorem dX0_child_81 : decode cX0_child 81 = .ok (.iconst 1, 1) := dk_4 (dk_at dksX0_child_3 10 rfl rfl)
theorem dX0_child_82 : decode cX0_child 82 = .ok (.iadd, 1) := dk_96 (dk_at dksX0_child_3 11 rfl rfl)
theorem dX0_child_83 : decode cX0_child 83 = .ok (.putfield 127, 3) := dk_181 0 127 (dk_at dksX0_child_3 12 rfl rfl)
theorem dX0_child_86 : decode cX0_child 86 = .ok (.aload_n 0, 1) := dk_42 (dk_at dksX0_child_3 15 rfl rfl)
theorem dX0_child_87 : decode cX0_child 87 = .ok (.iload_n 3, 1) := dk_29 (dk_at dksX0_child_3 16 rfl rfl)
theorem dX0_child_88 : decode cX0_child 88 = .ok (.invokevirtual 137, 3) := dk_182 0 137 (dk_at dksX0_child_3 17 rfl rfl)
theorem dX0_child_91 : decode cX0_child 91 = .ok (.ireturn, 1) := dk_172 (dk_at dksX0_child_3 20 rfl rfl)
abbrev cX0_of : ByteArray := prog_1_method_20_code
def yX0_of : MethodName := ⟨RX0, "of", "(II)I"⟩
def dkwX0_of_3 : List UInt8 := [42, 45, 27, 182, 0, 185, 172, 42, 45, 27, 182, 0, 189, 172, 2, 172]
abbrev dktX0_of_3 : List UInt8 := dkwX0_of_3 ++ []
def dkwX0_of_2 : List UInt8 := [42, 180, 0, 39, 180, 0, 173, 27, 46, 172, 45, 180, 0, 176, 27, 46, 172, 45, 180, 0, 179, 27, 46, 172]
abbrev dktX0_of_2 : List UInt8 := dkwX0_of_2 ++ dktX0_of_3
def dkwX0_of_1 : List UInt8 := [170, 0, 0, 0, 0, 0, 0, 74, 0, 0, 0, 0, 0, 0, 0, 4, 0, 0, 0, 36, 0, 0, 0, 46, 0, 0, 0, 53, 0, 0, 0, 60, 0, 0, 0, 67]
abbrev dktX0_of_1 : List UInt8 := dkwX0_of_1 ++ dktX0_of_2
def dkwX0_of_0 : List UInt8 := [42, 27, 182, 0, 182, 154, 0, 5, 2, 172, 42, 182, 0, 156, 78, 28]
abbrev dktX0_of_0 : List UInt8 := dkwX0_of_0 ++ dktX0_of_1
theorem dksX0_of_0 : cX0_of.data.toList.drop 0 = dktX0_of_0 := by decide +kernel
theorem dksX0_of_1 : cX0_of.data.toList.drop 16 = dktX0_of_1 := dk_seg dksX0_of_0 16 rfl rfl
theorem dksX0_of_2 : cX0_of.data.toList.drop 52 = dktX0_of_2 := dk_seg dksX0_of_1 36 rfl rfl
theorem dksX0_of_3 : cX0_of.data.toList.drop 76 = dktX0_of_3 := dk_seg dksX0_of_2 24 rfl rfl
theorem dX0_of_0 : decode cX0_of 0 = .ok (.aload_n 0, 1) := dk_42 (dk_at dksX0_of_0 0 rfl rfl)
theorem dX0_of_1 : decode cX0_of 1 = .ok (.iload_n 1, 1) := dk_27 (dk_at dksX0_of_0 1 rfl rfl)
theorem dX0_of_2 : decode cX0_of 2 = .ok (.invokevirtual 182, 3) := dk_182 0 182 (dk_at dksX0_of_0 2 rfl rfl)
theorem dX0_of_5 : decode cX0_of 5 = .ok (.ifCond .ne 5, 3) := dk_154 0 5 (dk_at dksX0_of_0 5 rfl rfl)
theorem dX0_of_8 : decode cX0_of 8 = .ok (.iconst (-1), 1) := dk_2 (dk_at dksX0_of_0 8 rfl rfl)
theorem dX0_of_9 : decode cX0_of 9 = .ok (.ireturn, 1) := dk_172 (dk_at dksX0_of_0 9 rfl rfl)
theorem dX0_of_10 : decode cX0_of 10 = .ok (.aload_n 0, 1) := dk_42 (dk_at dksX0_of_0 10 rfl rfl)
theorem dX0_of_11 : decode cX0_of 11 = .ok (.invokevirtual 156, 3) := dk_182 0 156 (dk_at dksX0_of_0 11 rfl rfl)
theorem dX0_of_14 : decode cX0_of 14 = .ok (.astore_n 3, 1) := dk_78 (dk_at dksX0_of_0 14 rfl rfl)
theorem dX0_of_15 : decode cX0_of 15 = .ok (.iload_n 2, 1) := dk_28 (dk_at dksX0_of_0 15 rfl rfl)
theorem dX0_of_16 : decode cX0_of 16 = .ok (.tableswitch 74 0 4 #[36, 46, 53, 60, 67], 36) := by decide +kernel
theorem dX0_of_52 : decode cX0_of 52 = .ok (.aload_n 0, 1) := dk_42 (dk_at dksX0_of_2 0 rfl rfl)
theorem dX0_of_53 : decode cX0_of 53 = .ok (.getfield 39, 3) := dk_180 0 39 (dk_at dksX0_of_2 1 rfl rfl)
theorem dX0_of_56 : decode cX0_of 56 = .ok (.getfield 173, 3) := dk_180 0 173 (dk_at dksX0_of_2 4 rfl rfl)
theorem dX0_of_59 : decode cX0_of 59 = .ok (.iload_n 1, 1) := dk_27 (dk_at dksX0_of_2 7 rfl rfl)
theorem dX0_of_60 : decode cX0_of 60 = .ok (.iaload, 1) := dk_46 (dk_at dksX0_of_2 8 rfl rfl)
theorem dX0_of_61 : decode cX0_of 61 = .ok (.ireturn, 1) := dk_172 (dk_at dksX0_of_2 9 rfl rfl)
theorem dX0_of_62 : decode cX0_of 62 = .ok (.aload_n 3, 1) := dk_45 (dk_at dksX0_of_2 10 rfl rfl)
theorem dX0_of_63 : decode cX0_of 63 = .ok (.getfield 176, 3) := dk_180 0 176 (dk_at dksX0_of_2 11 rfl rfl)
theorem dX0_of_66 : decode cX0_of 66 = .ok (.iload_n 1, 1) := dk_27 (dk_at dksX0_of_2 14 rfl rfl)
theorem dX0_of_67 : decode cX0_of 67 = .ok (.iaload, 1) := dk_46 (dk_at dksX0_of_2 15 rfl rfl)
theorem dX0_of_68 : decode cX0_of 68 = .ok (.ireturn, 1) := dk_172 (dk_at dksX0_of_2 16 rfl rfl)
theorem dX0_of_69 : decode cX0_of 69 = .ok (.aload_n 3, 1) := dk_45 (dk_at dksX0_of_2 17 rfl rfl)
theorem dX0_of_70 : decode cX0_of 70 = .ok (.getfield 179, 3) := dk_180 0 179 (dk_at dksX0_of_2 18 rfl rfl)
theorem dX0_of_73 : decode cX0_of 73 = .ok (.iload_n 1, 1) := dk_27 (dk_at dksX0_of_2 21 rfl rfl)
theorem dX0_of_74 : decode cX0_of 74 = .ok (.iaload, 1) := dk_46 (dk_at dksX0_of_2 22 rfl rfl)
theorem dX0_of_75 : decode cX0_of 75 = .ok (.ireturn, 1) := dk_172 (dk_at dksX0_of_2 23 rfl rfl)
theorem dX0_of_76 : decode cX0_of 76 = .ok (.aload_n 0, 1) := dk_42 (dk_at dksX0_of_3 0 rfl rfl)
theorem dX0_of_77 : decode cX0_of 77 = .ok (.aload_n 3, 1) := dk_45 (dk_at dksX0_of_3 1 rfl rfl)
theorem dX0_of_78 : decode cX0_of 78 = .ok (.iload_n 1, 1) := dk_27 (dk_at dksX0_of_3 2 rfl rfl)
theorem dX0_of_79 : decode cX0_of 79 = .ok (.invokevirtual 185, 3) := dk_182 0 185 (dk_at dksX0_of_3 3 rfl rfl)
theorem dX0_of_82 : decode cX0_of 82 = .ok (.ireturn, 1) := dk_172 (dk_at dksX0_of_3 6 rfl rfl)
theorem dX0_of_83 : decode cX0_of 83 = .ok (.aload_n 0, 1) := dk_42 (dk_at dksX0_of_3 7 rfl rfl)
theorem dX0_of_84 : decode cX0_of 84 = .ok (.aload_n 3, 1) := dk_45 (dk_at dksX0_of_3 8 rfl rfl)
theorem dX0_of_85 : decode cX0_of 85 = .ok (.iload_n 1, 1) := dk_27 (dk_at dksX0_of_3 9 rfl rfl)
theorem dX0_of_86 : decode cX0_of 86 = .ok (.invokevirtual 189, 3) := dk_182 0 189 (dk_at dksX0_of_3 10 rfl rfl)
theorem dX0_of_89 : decode cX0_of 89 = .ok (.ireturn, 1) := dk_172 (dk_at dksX0_of_3 13 rfl rfl)
theorem dX0_of_90 : decode cX0_of 90 = .ok (.iconst (-1), 1) := dk_2 (dk_at dksX0_of_3 14 rfl rfl)
theorem dX0_of_91 : decode cX0_of 91 = .ok (.ireturn, 1) := dk_172 (dk_at dksX0_of_3 15 rfl rfl)
abbrev cX0_isChild : ByteArray := prog_1_method_12_code
def yX0_isChild : MethodName := ⟨RX0, "isChild", "(I)Z"⟩
def dkwX0_isChild_0 : List UInt8 := [27, 3, 42, 180, 0, 39, 180, 0, 127, 4, 100, 184, 0, 26, 172]
abbrev dktX0_isChild_0 : List UInt8 := dkwX0_isChild_0 ++ []
theorem dksX0_isChild_0 : cX0_isChild.data.toList.drop 0 = dktX0_isChild_0 := by decide +kernel
theorem dX0_isChild_0 : decode cX0_isChild 0 = .ok (.iload_n 1, 1) := dk_27 (dk_at dksX0_isChild_0 0 rfl rfl)
theorem dX0_isChild_1 : decode cX0_isChild 1 = .ok (.iconst 0, 1) := dk_3 (dk_at dksX0_isChild_0 1 rfl rfl)
theorem dX0_isChild_2 : decode cX0_isChild 2 = .ok (.aload_n 0, 1) := dk_42 (dk_at dksX0_isChild_0 2 rfl rfl)
theorem dX0_isChild_3 : decode cX0_isChild 3 = .ok (.getfield 39, 3) := dk_180 0 39 (dk_at dksX0_isChild_0 3 rfl rfl)
theorem dX0_isChild_6 : decode cX0_isChild 6 = .ok (.getfield 127, 3) := dk_180 0 127 (dk_at dksX0_isChild_0 6 rfl rfl)
theorem dX0_isChild_9 : decode cX0_isChild 9 = .ok (.iconst 1, 1) := dk_4 (dk_at dksX0_isChild_0 9 rfl rfl)
theorem dX0_isChild_10 : decode cX0_isChild 10 = .ok (.isub, 1) := dk_100 (dk_at dksX0_isChild_0 10 rfl rfl)
theorem dX0_isChild_11 : decode cX0_isChild 11 = .ok (.invokestatic 26, 3) := dk_184 0 26 (dk_at dksX0_isChild_0 11 rfl rfl)
theorem dX0_isChild_14 : decode cX0_isChild 14 = .ok (.ireturn, 1) := dk_172 (dk_at dksX0_isChild_0 14 rfl rfl)
abbrev cX0_turns : ByteArray := prog_1_method_36_code
def yX0_turns : MethodName := ⟨RX0, "turns", "(LLostLanes$Table;I)I"⟩
def dkwX0_turns_0 : List UInt8 := [42, 3, 43, 28, 2, 182, 1, 29, 16, 99, 3, 184, 1, 32, 172]
abbrev dktX0_turns_0 : List UInt8 := dkwX0_turns_0 ++ []
theorem dksX0_turns_0 : cX0_turns.data.toList.drop 0 = dktX0_turns_0 := by decide +kernel
theorem dX0_turns_0 : decode cX0_turns 0 = .ok (.aload_n 0, 1) := dk_42 (dk_at dksX0_turns_0 0 rfl rfl)
theorem dX0_turns_1 : decode cX0_turns 1 = .ok (.iconst 0, 1) := dk_3 (dk_at dksX0_turns_0 1 rfl rfl)
theorem dX0_turns_2 : decode cX0_turns 2 = .ok (.aload_n 1, 1) := dk_43 (dk_at dksX0_turns_0 2 rfl rfl)
theorem dX0_turns_3 : decode cX0_turns 3 = .ok (.iload_n 2, 1) := dk_28 (dk_at dksX0_turns_0 3 rfl rfl)
theorem dX0_turns_4 : decode cX0_turns 4 = .ok (.iconst (-1), 1) := dk_2 (dk_at dksX0_turns_0 4 rfl rfl)
theorem dX0_turns_5 : decode cX0_turns 5 = .ok (.invokevirtual 285, 3) := dk_182 1 29 (dk_at dksX0_turns_0 5 rfl rfl)
theorem dX0_turns_8 : decode cX0_turns 8 = .ok (.bipush 99, 2) := dk_16 99 (dk_at dksX0_turns_0 8 rfl rfl)
theorem dX0_turns_10 : decode cX0_turns 10 = .ok (.iconst 0, 1) := dk_3 (dk_at dksX0_turns_0 10 rfl rfl)
theorem dX0_turns_11 : decode cX0_turns 11 = .ok (.invokestatic 288, 3) := dk_184 1 32 (dk_at dksX0_turns_0 11 rfl rfl)
theorem dX0_turns_14 : decode cX0_turns 14 = .ok (.ireturn, 1) := dk_172 (dk_at dksX0_turns_0 14 rfl rfl)
abbrev cX0_told : ByteArray := prog_1_method_34_code
def yX0_told : MethodName := ⟨RX0, "told", "(ILLostLanes$Table;II)J"⟩
def dkwX0_told_7 : List UInt8 := [182, 1, 17, 192, 0, 248, 27, 42, 180, 0, 83, 182, 1, 21, 173]
abbrev dktX0_told_7 : List UInt8 := dkwX0_told_7 ++ []
def dkwX0_told_6 : List UInt8 := [42, 180, 0, 39, 180, 0, 206, 133, 80, 42, 180, 0, 39, 180, 0, 229, 42, 180, 0, 39, 180, 1, 7]
abbrev dktX0_told_6 : List UInt8 := dkwX0_told_6 ++ dktX0_told_7
def dkwX0_told_5 : List UInt8 := [16, 6, 44, 180, 0, 179, 29, 46, 133, 80, 25, 5, 16, 7, 44, 180, 0, 200, 133, 80, 25, 5, 16, 8]
abbrev dktX0_told_5 : List UInt8 := dkwX0_told_5 ++ dktX0_told_6
def dkwX0_told_4 : List UInt8 := [180, 0, 39, 180, 0, 153, 21, 4, 46, 133, 80, 25, 5, 8, 44, 180, 0, 176, 29, 46, 133, 80, 25, 5]
abbrev dktX0_told_4 : List UInt8 := dkwX0_told_4 ++ dktX0_told_5
def dkwX0_told_3 : List UInt8 := [180, 0, 150, 21, 4, 46, 133, 80, 25, 5, 7, 21, 4, 2, 160, 0, 9, 20, 1, 15, 167, 0, 14, 42]
abbrev dktX0_told_3 : List UInt8 := dkwX0_told_3 ++ dktX0_told_4
def dkwX0_told_2 : List UInt8 := [21, 4, 133, 80, 25, 5, 6, 21, 4, 2, 160, 0, 9, 20, 1, 15, 167, 0, 14, 42, 180, 0, 39]
abbrev dktX0_told_2 : List UInt8 := dkwX0_told_2 ++ dktX0_told_3
def dkwX0_told_1 : List UInt8 := [25, 5, 3, 29, 133, 80, 25, 5, 4, 42, 180, 0, 39, 180, 0, 173, 29, 46, 133, 80, 25, 5, 5]
abbrev dktX0_told_1 : List UInt8 := dkwX0_told_1 ++ dktX0_told_2
def dkwX0_told_0 : List UInt8 := [42, 180, 0, 39, 180, 1, 7, 2, 160, 0, 7, 20, 1, 10, 173, 42, 180, 0, 83, 180, 1, 12, 58, 5]
abbrev dktX0_told_0 : List UInt8 := dkwX0_told_0 ++ dktX0_told_1
theorem dksX0_told_0 : cX0_told.data.toList.drop 0 = dktX0_told_0 := by decide +kernel
theorem dksX0_told_1 : cX0_told.data.toList.drop 24 = dktX0_told_1 := dk_seg dksX0_told_0 24 rfl rfl
theorem dksX0_told_2 : cX0_told.data.toList.drop 47 = dktX0_told_2 := dk_seg dksX0_told_1 23 rfl rfl
theorem dksX0_told_3 : cX0_told.data.toList.drop 70 = dktX0_told_3 := dk_seg dksX0_told_2 23 rfl rfl
theorem dksX0_told_4 : cX0_told.data.toList.drop 94 = dktX0_told_4 := dk_seg dksX0_told_3 24 rfl rfl
theorem dksX0_told_5 : cX0_told.data.toList.drop 118 = dktX0_told_5 := dk_seg dksX0_told_4 24 rfl rfl
theorem dksX0_told_6 : cX0_told.data.toList.drop 142 = dktX0_told_6 := dk_seg dksX0_told_5 24 rfl rfl
theorem dksX0_told_7 : cX0_told.data.toList.drop 165 = dktX0_told_7 := dk_seg dksX0_told_6 23 rfl rfl
theorem dX0_told_0 : decode cX0_told 0 = .ok (.aload_n 0, 1) := dk_42 (dk_at dksX0_told_0 0 rfl rfl)
theorem dX0_told_1 : decode cX0_told 1 = .ok (.getfield 39, 3) := dk_180 0 39 (dk_at dksX0_told_0 1 rfl rfl)
theorem dX0_told_4 : decode cX0_told 4 = .ok (.getfield 263, 3) := dk_180 1 7 (dk_at dksX0_told_0 4 rfl rfl)
theorem dX0_told_7 : decode cX0_told 7 = .ok (.iconst (-1), 1) := dk_2 (dk_at dksX0_told_0 7 rfl rfl)
theorem dX0_told_8 : decode cX0_told 8 = .ok (.if_icmp .ne 7, 3) := dk_160 0 7 (dk_at dksX0_told_0 8 rfl rfl)
theorem dX0_told_11 : decode cX0_told 11 = .ok (.ldc2_w 266, 3) := dk_20 1 10 (dk_at dksX0_told_0 11 rfl rfl)
theorem dX0_told_14 : decode cX0_told 14 = .ok (.lreturn, 1) := dk_173 (dk_at dksX0_told_0 14 rfl rfl)
theorem dX0_told_15 : decode cX0_told 15 = .ok (.aload_n 0, 1) := dk_42 (dk_at dksX0_told_0 15 rfl rfl)
theorem dX0_told_16 : decode cX0_told 16 = .ok (.getfield 83, 3) := dk_180 0 83 (dk_at dksX0_told_0 16 rfl rfl)
theorem dX0_told_19 : decode cX0_told 19 = .ok (.getfield 268, 3) := dk_180 1 12 (dk_at dksX0_told_0 19 rfl rfl)
theorem dX0_told_22 : decode cX0_told 22 = .ok (.astore 5, 2) := dk_58 5 (dk_at dksX0_told_0 22 rfl rfl)
theorem dX0_told_24 : decode cX0_told 24 = .ok (.aload 5, 2) := dk_25 5 (dk_at dksX0_told_1 0 rfl rfl)
theorem dX0_told_26 : decode cX0_told 26 = .ok (.iconst 0, 1) := dk_3 (dk_at dksX0_told_1 2 rfl rfl)
theorem dX0_told_27 : decode cX0_told 27 = .ok (.iload_n 3, 1) := dk_29 (dk_at dksX0_told_1 3 rfl rfl)
theorem dX0_told_28 : decode cX0_told 28 = .ok (.i2l, 1) := dk_133 (dk_at dksX0_told_1 4 rfl rfl)
theorem dX0_told_29 : decode cX0_told 29 = .ok (.lastore, 1) := dk_80 (dk_at dksX0_told_1 5 rfl rfl)
theorem dX0_told_30 : decode cX0_told 30 = .ok (.aload 5, 2) := dk_25 5 (dk_at dksX0_told_1 6 rfl rfl)
theorem dX0_told_32 : decode cX0_told 32 = .ok (.iconst 1, 1) := dk_4 (dk_at dksX0_told_1 8 rfl rfl)
theorem dX0_told_33 : decode cX0_told 33 = .ok (.aload_n 0, 1) := dk_42 (dk_at dksX0_told_1 9 rfl rfl)
theorem dX0_told_34 : decode cX0_told 34 = .ok (.getfield 39, 3) := dk_180 0 39 (dk_at dksX0_told_1 10 rfl rfl)
theorem dX0_told_37 : decode cX0_told 37 = .ok (.getfield 173, 3) := dk_180 0 173 (dk_at dksX0_told_1 13 rfl rfl)
theorem dX0_told_40 : decode cX0_told 40 = .ok (.iload_n 3, 1) := dk_29 (dk_at dksX0_told_1 16 rfl rfl)
theorem dX0_told_41 : decode cX0_told 41 = .ok (.iaload, 1) := dk_46 (dk_at dksX0_told_1 17 rfl rfl)
theorem dX0_told_42 : decode cX0_told 42 = .ok (.i2l, 1) := dk_133 (dk_at dksX0_told_1 18 rfl rfl)
theorem dX0_told_43 : decode cX0_told 43 = .ok (.lastore, 1) := dk_80 (dk_at dksX0_told_1 19 rfl rfl)
theorem dX0_told_44 : decode cX0_told 44 = .ok (.aload 5, 2) := dk_25 5 (dk_at dksX0_told_1 20 rfl rfl)
theorem dX0_told_46 : decode cX0_told 46 = .ok (.iconst 2, 1) := dk_5 (dk_at dksX0_told_1 22 rfl rfl)
theorem dX0_told_47 : decode cX0_told 47 = .ok (.iload 4, 2) := dk_21 4 (dk_at dksX0_told_2 0 rfl rfl)
theorem dX0_told_49 : decode cX0_told 49 = .ok (.i2l, 1) := dk_133 (dk_at dksX0_told_2 2 rfl rfl)
theorem dX0_told_50 : decode cX0_told 50 = .ok (.lastore, 1) := dk_80 (dk_at dksX0_told_2 3 rfl rfl)
theorem dX0_told_51 : decode cX0_told 51 = .ok (.aload 5, 2) := dk_25 5 (dk_at dksX0_told_2 4 rfl rfl)
theorem dX0_told_53 : decode cX0_told 53 = .ok (.iconst 3, 1) := dk_6 (dk_at dksX0_told_2 6 rfl rfl)
theorem dX0_told_54 : decode cX0_told 54 = .ok (.iload 4, 2) := dk_21 4 (dk_at dksX0_told_2 7 rfl rfl)
theorem dX0_told_56 : decode cX0_told 56 = .ok (.iconst (-1), 1) := dk_2 (dk_at dksX0_told_2 9 rfl rfl)
theorem dX0_told_57 : decode cX0_told 57 = .ok (.if_icmp .ne 9, 3) := dk_160 0 9 (dk_at dksX0_told_2 10 rfl rfl)
theorem dX0_told_60 : decode cX0_told 60 = .ok (.ldc2_w 271, 3) := dk_20 1 15 (dk_at dksX0_told_2 13 rfl rfl)
theorem dX0_told_63 : decode cX0_told 63 = .ok (.goto 14, 3) := dk_167 0 14 (dk_at dksX0_told_2 16 rfl rfl)
theorem dX0_told_66 : decode cX0_told 66 = .ok (.aload_n 0, 1) := dk_42 (dk_at dksX0_told_2 19 rfl rfl)
theorem dX0_told_67 : decode cX0_told 67 = .ok (.getfield 39, 3) := dk_180 0 39 (dk_at dksX0_told_2 20 rfl rfl)
theorem dX0_told_70 : decode cX0_told 70 = .ok (.getfield 150, 3) := dk_180 0 150 (dk_at dksX0_told_3 0 rfl rfl)
theorem dX0_told_73 : decode cX0_told 73 = .ok (.iload 4, 2) := dk_21 4 (dk_at dksX0_told_3 3 rfl rfl)
theorem dX0_told_75 : decode cX0_told 75 = .ok (.iaload, 1) := dk_46 (dk_at dksX0_told_3 5 rfl rfl)
theorem dX0_told_76 : decode cX0_told 76 = .ok (.i2l, 1) := dk_133 (dk_at dksX0_told_3 6 rfl rfl)
theorem dX0_told_77 : decode cX0_told 77 = .ok (.lastore, 1) := dk_80 (dk_at dksX0_told_3 7 rfl rfl)
theorem dX0_told_78 : decode cX0_told 78 = .ok (.aload 5, 2) := dk_25 5 (dk_at dksX0_told_3 8 rfl rfl)
theorem dX0_told_80 : decode cX0_told 80 = .ok (.iconst 4, 1) := dk_7 (dk_at dksX0_told_3 10 rfl rfl)
theorem dX0_told_81 : decode cX0_told 81 = .ok (.iload 4, 2) := dk_21 4 (dk_at dksX0_told_3 11 rfl rfl)
theorem dX0_told_83 : decode cX0_told 83 = .ok (.iconst (-1), 1) := dk_2 (dk_at dksX0_told_3 13 rfl rfl)
theorem dX0_told_84 : decode cX0_told 84 = .ok (.if_icmp .ne 9, 3) := dk_160 0 9 (dk_at dksX0_told_3 14 rfl rfl)
theorem dX0_told_87 : decode cX0_told 87 = .ok (.ldc2_w 271, 3) := dk_20 1 15 (dk_at dksX0_told_3 17 rfl rfl)
theorem dX0_told_90 : decode cX0_told 90 = .ok (.goto 14, 3) := dk_167 0 14 (dk_at dksX0_told_3 20 rfl rfl)
theorem dX0_told_93 : decode cX0_told 93 = .ok (.aload_n 0, 1) := dk_42 (dk_at dksX0_told_3 23 rfl rfl)
theorem dX0_told_94 : decode cX0_told 94 = .ok (.getfield 39, 3) := dk_180 0 39 (dk_at dksX0_told_4 0 rfl rfl)
theorem dX0_told_97 : decode cX0_told 97 = .ok (.getfield 153, 3) := dk_180 0 153 (dk_at dksX0_told_4 3 rfl rfl)
theorem dX0_told_100 : decode cX0_told 100 = .ok (.iload 4, 2) := dk_21 4 (dk_at dksX0_told_4 6 rfl rfl)
theorem dX0_told_102 : decode cX0_told 102 = .ok (.iaload, 1) := dk_46 (dk_at dksX0_told_4 8 rfl rfl)
theorem dX0_told_103 : decode cX0_told 103 = .ok (.i2l, 1) := dk_133 (dk_at dksX0_told_4 9 rfl rfl)
theorem dX0_told_104 : decode cX0_told 104 = .ok (.lastore, 1) := dk_80 (dk_at dksX0_told_4 10 rfl rfl)
theorem dX0_told_105 : decode cX0_told 105 = .ok (.aload 5, 2) := dk_25 5 (dk_at dksX0_told_4 11 rfl rfl)
theorem dX0_told_107 : decode cX0_told 107 = .ok (.iconst 5, 1) := dk_8 (dk_at dksX0_told_4 13 rfl rfl)
theorem dX0_told_108 : decode cX0_told 108 = .ok (.aload_n 2, 1) := dk_44 (dk_at dksX0_told_4 14 rfl rfl)
theorem dX0_told_109 : decode cX0_told 109 = .ok (.getfield 176, 3) := dk_180 0 176 (dk_at dksX0_told_4 15 rfl rfl)
theorem dX0_told_112 : decode cX0_told 112 = .ok (.iload_n 3, 1) := dk_29 (dk_at dksX0_told_4 18 rfl rfl)
theorem dX0_told_113 : decode cX0_told 113 = .ok (.iaload, 1) := dk_46 (dk_at dksX0_told_4 19 rfl rfl)
theorem dX0_told_114 : decode cX0_told 114 = .ok (.i2l, 1) := dk_133 (dk_at dksX0_told_4 20 rfl rfl)
theorem dX0_told_115 : decode cX0_told 115 = .ok (.lastore, 1) := dk_80 (dk_at dksX0_told_4 21 rfl rfl)
theorem dX0_told_116 : decode cX0_told 116 = .ok (.aload 5, 2) := dk_25 5 (dk_at dksX0_told_4 22 rfl rfl)
theorem dX0_told_118 : decode cX0_told 118 = .ok (.bipush 6, 2) := dk_16 6 (dk_at dksX0_told_5 0 rfl rfl)
theorem dX0_told_120 : decode cX0_told 120 = .ok (.aload_n 2, 1) := dk_44 (dk_at dksX0_told_5 2 rfl rfl)
theorem dX0_told_121 : decode cX0_told 121 = .ok (.getfield 179, 3) := dk_180 0 179 (dk_at dksX0_told_5 3 rfl rfl)
theorem dX0_told_124 : decode cX0_told 124 = .ok (.iload_n 3, 1) := dk_29 (dk_at dksX0_told_5 6 rfl rfl)
theorem dX0_told_125 : decode cX0_told 125 = .ok (.iaload, 1) := dk_46 (dk_at dksX0_told_5 7 rfl rfl)
theorem dX0_told_126 : decode cX0_told 126 = .ok (.i2l, 1) := dk_133 (dk_at dksX0_told_5 8 rfl rfl)
theorem dX0_told_127 : decode cX0_told 127 = .ok (.lastore, 1) := dk_80 (dk_at dksX0_told_5 9 rfl rfl)
theorem dX0_told_128 : decode cX0_told 128 = .ok (.aload 5, 2) := dk_25 5 (dk_at dksX0_told_5 10 rfl rfl)
theorem dX0_told_130 : decode cX0_told 130 = .ok (.bipush 7, 2) := dk_16 7 (dk_at dksX0_told_5 12 rfl rfl)
theorem dX0_told_132 : decode cX0_told 132 = .ok (.aload_n 2, 1) := dk_44 (dk_at dksX0_told_5 14 rfl rfl)
theorem dX0_told_133 : decode cX0_told 133 = .ok (.getfield 200, 3) := dk_180 0 200 (dk_at dksX0_told_5 15 rfl rfl)
theorem dX0_told_136 : decode cX0_told 136 = .ok (.i2l, 1) := dk_133 (dk_at dksX0_told_5 18 rfl rfl)
theorem dX0_told_137 : decode cX0_told 137 = .ok (.lastore, 1) := dk_80 (dk_at dksX0_told_5 19 rfl rfl)
theorem dX0_told_138 : decode cX0_told 138 = .ok (.aload 5, 2) := dk_25 5 (dk_at dksX0_told_5 20 rfl rfl)
theorem dX0_told_140 : decode cX0_told 140 = .ok (.bipush 8, 2) := dk_16 8 (dk_at dksX0_told_5 22 rfl rfl)
theorem dX0_told_142 : decode cX0_told 142 = .ok (.aload_n 0, 1) := dk_42 (dk_at dksX0_told_6 0 rfl rfl)
theorem dX0_told_143 : decode cX0_told 143 = .ok (.getfield 39, 3) := dk_180 0 39 (dk_at dksX0_told_6 1 rfl rfl)
theorem dX0_told_146 : decode cX0_told 146 = .ok (.getfield 206, 3) := dk_180 0 206 (dk_at dksX0_told_6 4 rfl rfl)
theorem dX0_told_149 : decode cX0_told 149 = .ok (.i2l, 1) := dk_133 (dk_at dksX0_told_6 7 rfl rfl)
theorem dX0_told_150 : decode cX0_told 150 = .ok (.lastore, 1) := dk_80 (dk_at dksX0_told_6 8 rfl rfl)
theorem dX0_told_151 : decode cX0_told 151 = .ok (.aload_n 0, 1) := dk_42 (dk_at dksX0_told_6 9 rfl rfl)
theorem dX0_told_152 : decode cX0_told 152 = .ok (.getfield 39, 3) := dk_180 0 39 (dk_at dksX0_told_6 10 rfl rfl)
theorem dX0_told_155 : decode cX0_told 155 = .ok (.getfield 229, 3) := dk_180 0 229 (dk_at dksX0_told_6 13 rfl rfl)
theorem dX0_told_158 : decode cX0_told 158 = .ok (.aload_n 0, 1) := dk_42 (dk_at dksX0_told_6 16 rfl rfl)
theorem dX0_told_159 : decode cX0_told 159 = .ok (.getfield 39, 3) := dk_180 0 39 (dk_at dksX0_told_6 17 rfl rfl)
theorem dX0_told_162 : decode cX0_told 162 = .ok (.getfield 263, 3) := dk_180 1 7 (dk_at dksX0_told_6 20 rfl rfl)
theorem dX0_told_165 : decode cX0_told 165 = .ok (.invokevirtual 273, 3) := dk_182 1 17 (dk_at dksX0_told_7 0 rfl rfl)
theorem dX0_told_168 : decode cX0_told 168 = .ok (.checkcast 248, 3) := dk_192 0 248 (dk_at dksX0_told_7 3 rfl rfl)
theorem dX0_told_171 : decode cX0_told 171 = .ok (.iload_n 1, 1) := dk_27 (dk_at dksX0_told_7 6 rfl rfl)
theorem dX0_told_172 : decode cX0_told 172 = .ok (.aload_n 0, 1) := dk_42 (dk_at dksX0_told_7 7 rfl rfl)
theorem dX0_told_173 : decode cX0_told 173 = .ok (.getfield 83, 3) := dk_180 0 83 (dk_at dksX0_told_7 8 rfl rfl)
theorem dX0_told_176 : decode cX0_told 176 = .ok (.invokevirtual 277, 3) := dk_182 1 21 (dk_at dksX0_told_7 11 rfl rfl)
theorem dX0_told_179 : decode cX0_told 179 = .ok (.lreturn, 1) := dk_173 (dk_at dksX0_told_7 14 rfl rfl)
abbrev cX0_or : ByteArray := prog_1_method_35_code
def yX0_or : MethodName := ⟨RX0, "or", "(JII)I"⟩
def dkwX0_or_0 : List UInt8 := [30, 20, 1, 10, 148, 154, 0, 7, 29, 167, 0, 9, 30, 3, 28, 184, 1, 25, 172]
abbrev dktX0_or_0 : List UInt8 := dkwX0_or_0 ++ []
theorem dksX0_or_0 : cX0_or.data.toList.drop 0 = dktX0_or_0 := by decide +kernel
theorem dX0_or_0 : decode cX0_or 0 = .ok (.lload_n 0, 1) := dk_30 (dk_at dksX0_or_0 0 rfl rfl)
theorem dX0_or_1 : decode cX0_or 1 = .ok (.ldc2_w 266, 3) := dk_20 1 10 (dk_at dksX0_or_0 1 rfl rfl)
theorem dX0_or_4 : decode cX0_or 4 = .ok (.lcmp, 1) := dk_148 (dk_at dksX0_or_0 4 rfl rfl)
theorem dX0_or_5 : decode cX0_or 5 = .ok (.ifCond .ne 7, 3) := dk_154 0 7 (dk_at dksX0_or_0 5 rfl rfl)
theorem dX0_or_8 : decode cX0_or 8 = .ok (.iload_n 3, 1) := dk_29 (dk_at dksX0_or_0 8 rfl rfl)
theorem dX0_or_9 : decode cX0_or 9 = .ok (.goto 9, 3) := dk_167 0 9 (dk_at dksX0_or_0 9 rfl rfl)
theorem dX0_or_12 : decode cX0_or 12 = .ok (.lload_n 0, 1) := dk_30 (dk_at dksX0_or_0 12 rfl rfl)
theorem dX0_or_13 : decode cX0_or 13 = .ok (.iconst 0, 1) := dk_3 (dk_at dksX0_or_0 13 rfl rfl)
theorem dX0_or_14 : decode cX0_or 14 = .ok (.iload_n 2, 1) := dk_28 (dk_at dksX0_or_0 14 rfl rfl)
theorem dX0_or_15 : decode cX0_or 15 = .ok (.invokestatic 281, 3) := dk_184 1 25 (dk_at dksX0_or_0 15 rfl rfl)
theorem dX0_or_18 : decode cX0_or 18 = .ok (.ireturn, 1) := dk_172 (dk_at dksX0_or_0 18 rfl rfl)
abbrev cX0_near : ByteArray := prog_1_method_6_code
def yX0_near : MethodName := ⟨RX0, "near", "(JII)I"⟩
def dkwX0_near_0 : List UInt8 := [28, 133, 29, 133, 30, 184, 0, 17, 184, 0, 23, 136, 172]
abbrev dktX0_near_0 : List UInt8 := dkwX0_near_0 ++ []
theorem dksX0_near_0 : cX0_near.data.toList.drop 0 = dktX0_near_0 := by decide +kernel
theorem dX0_near_0 : decode cX0_near 0 = .ok (.iload_n 2, 1) := dk_28 (dk_at dksX0_near_0 0 rfl rfl)
theorem dX0_near_1 : decode cX0_near 1 = .ok (.i2l, 1) := dk_133 (dk_at dksX0_near_0 1 rfl rfl)
theorem dX0_near_2 : decode cX0_near 2 = .ok (.iload_n 3, 1) := dk_29 (dk_at dksX0_near_0 2 rfl rfl)
theorem dX0_near_3 : decode cX0_near 3 = .ok (.i2l, 1) := dk_133 (dk_at dksX0_near_0 3 rfl rfl)
theorem dX0_near_4 : decode cX0_near 4 = .ok (.lload_n 0, 1) := dk_30 (dk_at dksX0_near_0 4 rfl rfl)
theorem dX0_near_5 : decode cX0_near 5 = .ok (.invokestatic 17, 3) := dk_184 0 17 (dk_at dksX0_near_0 5 rfl rfl)
theorem dX0_near_8 : decode cX0_near 8 = .ok (.invokestatic 23, 3) := dk_184 0 23 (dk_at dksX0_near_0 8 rfl rfl)
theorem dX0_near_11 : decode cX0_near 11 = .ok (.l2i, 1) := dk_136 (dk_at dksX0_near_0 11 rfl rfl)
theorem dX0_near_12 : decode cX0_near 12 = .ok (.ireturn, 1) := dk_172 (dk_at dksX0_near_0 12 rfl rfl)
abbrev cX0_laneNext : ByteArray := prog_1_method_39_code
def yX0_laneNext : MethodName := ⟨RX0, "laneNext", "(LLostLanes$Table;I)I"⟩
def dkwX0_laneNext_3 : List UInt8 := [2, 167, 0, 16, 42, 180, 0, 87, 42, 43, 28, 182, 0, 185, 29, 112, 46, 172]
abbrev dktX0_laneNext_3 : List UInt8 := dkwX0_laneNext_3 ++ []
def dkwX0_laneNext_2 : List UInt8 := [167, 0, 14, 42, 180, 0, 87, 29, 21, 4, 79, 132, 3, 1, 132, 4, 1, 167, 255, 198, 29, 154, 0, 7]
abbrev dktX0_laneNext_2 : List UInt8 := dkwX0_laneNext_2 ++ dktX0_laneNext_3
def dkwX0_laneNext_1 : List UInt8 := [180, 0, 176, 28, 46, 182, 1, 35, 153, 0, 28, 42, 43, 28, 21, 4, 182, 0, 196, 153, 0, 6]
abbrev dktX0_laneNext_1 : List UInt8 := dkwX0_laneNext_1 ++ dktX0_laneNext_2
def dkwX0_laneNext_0 : List UInt8 := [3, 62, 3, 54, 4, 21, 4, 42, 180, 0, 39, 180, 0, 124, 162, 0, 52, 42, 180, 0, 39, 21, 4, 43]
abbrev dktX0_laneNext_0 : List UInt8 := dkwX0_laneNext_0 ++ dktX0_laneNext_1
theorem dksX0_laneNext_0 : cX0_laneNext.data.toList.drop 0 = dktX0_laneNext_0 := by decide +kernel
theorem dksX0_laneNext_1 : cX0_laneNext.data.toList.drop 24 = dktX0_laneNext_1 := dk_seg dksX0_laneNext_0 24 rfl rfl
theorem dksX0_laneNext_2 : cX0_laneNext.data.toList.drop 46 = dktX0_laneNext_2 := dk_seg dksX0_laneNext_1 22 rfl rfl
theorem dksX0_laneNext_3 : cX0_laneNext.data.toList.drop 70 = dktX0_laneNext_3 := dk_seg dksX0_laneNext_2 24 rfl rfl
theorem dX0_laneNext_0 : decode cX0_laneNext 0 = .ok (.iconst 0, 1) := dk_3 (dk_at dksX0_laneNext_0 0 rfl rfl)
theorem dX0_laneNext_1 : decode cX0_laneNext 1 = .ok (.istore_n 3, 1) := dk_62 (dk_at dksX0_laneNext_0 1 rfl rfl)
theorem dX0_laneNext_2 : decode cX0_laneNext 2 = .ok (.iconst 0, 1) := dk_3 (dk_at dksX0_laneNext_0 2 rfl rfl)
theorem dX0_laneNext_3 : decode cX0_laneNext 3 = .ok (.istore 4, 2) := dk_54 4 (dk_at dksX0_laneNext_0 3 rfl rfl)
theorem dX0_laneNext_5 : decode cX0_laneNext 5 = .ok (.iload 4, 2) := dk_21 4 (dk_at dksX0_laneNext_0 5 rfl rfl)
theorem dX0_laneNext_7 : decode cX0_laneNext 7 = .ok (.aload_n 0, 1) := dk_42 (dk_at dksX0_laneNext_0 7 rfl rfl)
theorem dX0_laneNext_8 : decode cX0_laneNext 8 = .ok (.getfield 39, 3) := dk_180 0 39 (dk_at dksX0_laneNext_0 8 rfl rfl)
theorem dX0_laneNext_11 : decode cX0_laneNext 11 = .ok (.getfield 124, 3) := dk_180 0 124 (dk_at dksX0_laneNext_0 11 rfl rfl)
theorem dX0_laneNext_14 : decode cX0_laneNext 14 = .ok (.if_icmp .ge 52, 3) := dk_162 0 52 (dk_at dksX0_laneNext_0 14 rfl rfl)
theorem dX0_laneNext_17 : decode cX0_laneNext 17 = .ok (.aload_n 0, 1) := dk_42 (dk_at dksX0_laneNext_0 17 rfl rfl)
theorem dX0_laneNext_18 : decode cX0_laneNext 18 = .ok (.getfield 39, 3) := dk_180 0 39 (dk_at dksX0_laneNext_0 18 rfl rfl)
theorem dX0_laneNext_21 : decode cX0_laneNext 21 = .ok (.iload 4, 2) := dk_21 4 (dk_at dksX0_laneNext_0 21 rfl rfl)
theorem dX0_laneNext_23 : decode cX0_laneNext 23 = .ok (.aload_n 1, 1) := dk_43 (dk_at dksX0_laneNext_0 23 rfl rfl)
theorem dX0_laneNext_24 : decode cX0_laneNext 24 = .ok (.getfield 176, 3) := dk_180 0 176 (dk_at dksX0_laneNext_1 0 rfl rfl)
theorem dX0_laneNext_27 : decode cX0_laneNext 27 = .ok (.iload_n 2, 1) := dk_28 (dk_at dksX0_laneNext_1 3 rfl rfl)
theorem dX0_laneNext_28 : decode cX0_laneNext 28 = .ok (.iaload, 1) := dk_46 (dk_at dksX0_laneNext_1 4 rfl rfl)
theorem dX0_laneNext_29 : decode cX0_laneNext 29 = .ok (.invokevirtual 291, 3) := dk_182 1 35 (dk_at dksX0_laneNext_1 5 rfl rfl)
theorem dX0_laneNext_32 : decode cX0_laneNext 32 = .ok (.ifCond .eq 28, 3) := dk_153 0 28 (dk_at dksX0_laneNext_1 8 rfl rfl)
theorem dX0_laneNext_35 : decode cX0_laneNext 35 = .ok (.aload_n 0, 1) := dk_42 (dk_at dksX0_laneNext_1 11 rfl rfl)
theorem dX0_laneNext_36 : decode cX0_laneNext 36 = .ok (.aload_n 1, 1) := dk_43 (dk_at dksX0_laneNext_1 12 rfl rfl)
theorem dX0_laneNext_37 : decode cX0_laneNext 37 = .ok (.iload_n 2, 1) := dk_28 (dk_at dksX0_laneNext_1 13 rfl rfl)
theorem dX0_laneNext_38 : decode cX0_laneNext 38 = .ok (.iload 4, 2) := dk_21 4 (dk_at dksX0_laneNext_1 14 rfl rfl)
theorem dX0_laneNext_40 : decode cX0_laneNext 40 = .ok (.invokevirtual 196, 3) := dk_182 0 196 (dk_at dksX0_laneNext_1 16 rfl rfl)
theorem dX0_laneNext_43 : decode cX0_laneNext 43 = .ok (.ifCond .eq 6, 3) := dk_153 0 6 (dk_at dksX0_laneNext_1 19 rfl rfl)
theorem dX0_laneNext_46 : decode cX0_laneNext 46 = .ok (.goto 14, 3) := dk_167 0 14 (dk_at dksX0_laneNext_2 0 rfl rfl)
theorem dX0_laneNext_49 : decode cX0_laneNext 49 = .ok (.aload_n 0, 1) := dk_42 (dk_at dksX0_laneNext_2 3 rfl rfl)
theorem dX0_laneNext_50 : decode cX0_laneNext 50 = .ok (.getfield 87, 3) := dk_180 0 87 (dk_at dksX0_laneNext_2 4 rfl rfl)
theorem dX0_laneNext_53 : decode cX0_laneNext 53 = .ok (.iload_n 3, 1) := dk_29 (dk_at dksX0_laneNext_2 7 rfl rfl)
theorem dX0_laneNext_54 : decode cX0_laneNext 54 = .ok (.iload 4, 2) := dk_21 4 (dk_at dksX0_laneNext_2 8 rfl rfl)
theorem dX0_laneNext_56 : decode cX0_laneNext 56 = .ok (.iastore, 1) := dk_79 (dk_at dksX0_laneNext_2 10 rfl rfl)
theorem dX0_laneNext_57 : decode cX0_laneNext 57 = .ok (.iinc 3 1, 3) := dk_132 3 1 (dk_at dksX0_laneNext_2 11 rfl rfl)
theorem dX0_laneNext_60 : decode cX0_laneNext 60 = .ok (.iinc 4 1, 3) := dk_132 4 1 (dk_at dksX0_laneNext_2 14 rfl rfl)
theorem dX0_laneNext_63 : decode cX0_laneNext 63 = .ok (.goto (-58), 3) := dk_167 255 198 (dk_at dksX0_laneNext_2 17 rfl rfl)
theorem dX0_laneNext_66 : decode cX0_laneNext 66 = .ok (.iload_n 3, 1) := dk_29 (dk_at dksX0_laneNext_2 20 rfl rfl)
theorem dX0_laneNext_67 : decode cX0_laneNext 67 = .ok (.ifCond .ne 7, 3) := dk_154 0 7 (dk_at dksX0_laneNext_2 21 rfl rfl)
theorem dX0_laneNext_70 : decode cX0_laneNext 70 = .ok (.iconst (-1), 1) := dk_2 (dk_at dksX0_laneNext_3 0 rfl rfl)
theorem dX0_laneNext_71 : decode cX0_laneNext 71 = .ok (.goto 16, 3) := dk_167 0 16 (dk_at dksX0_laneNext_3 1 rfl rfl)
theorem dX0_laneNext_74 : decode cX0_laneNext 74 = .ok (.aload_n 0, 1) := dk_42 (dk_at dksX0_laneNext_3 4 rfl rfl)
theorem dX0_laneNext_75 : decode cX0_laneNext 75 = .ok (.getfield 87, 3) := dk_180 0 87 (dk_at dksX0_laneNext_3 5 rfl rfl)
theorem dX0_laneNext_78 : decode cX0_laneNext 78 = .ok (.aload_n 0, 1) := dk_42 (dk_at dksX0_laneNext_3 8 rfl rfl)
theorem dX0_laneNext_79 : decode cX0_laneNext 79 = .ok (.aload_n 1, 1) := dk_43 (dk_at dksX0_laneNext_3 9 rfl rfl)
theorem dX0_laneNext_80 : decode cX0_laneNext 80 = .ok (.iload_n 2, 1) := dk_28 (dk_at dksX0_laneNext_3 10 rfl rfl)
theorem dX0_laneNext_81 : decode cX0_laneNext 81 = .ok (.invokevirtual 185, 3) := dk_182 0 185 (dk_at dksX0_laneNext_3 11 rfl rfl)
theorem dX0_laneNext_84 : decode cX0_laneNext 84 = .ok (.iload_n 3, 1) := dk_29 (dk_at dksX0_laneNext_3 14 rfl rfl)
theorem dX0_laneNext_85 : decode cX0_laneNext 85 = .ok (.irem, 1) := dk_112 (dk_at dksX0_laneNext_3 15 rfl rfl)
theorem dX0_laneNext_86 : decode cX0_laneNext 86 = .ok (.iaload, 1) := dk_46 (dk_at dksX0_laneNext_3 16 rfl rfl)
theorem dX0_laneNext_87 : decode cX0_laneNext 87 = .ok (.ireturn, 1) := dk_172 (dk_at dksX0_laneNext_3 17 rfl rfl)
abbrev cX0_isBarred : ByteArray := prog_1_method_38_code
def yX0_isBarred : MethodName := ⟨RX0, "isBarred", "(LLostLanes$Table;II)Z"⟩
def dkwX0_isBarred_0 : List UInt8 := [42, 5, 43, 28, 29, 182, 1, 29, 20, 1, 10, 148, 153, 0, 7, 4, 167, 0, 4, 3, 172]
abbrev dktX0_isBarred_0 : List UInt8 := dkwX0_isBarred_0 ++ []
theorem dksX0_isBarred_0 : cX0_isBarred.data.toList.drop 0 = dktX0_isBarred_0 := by decide +kernel
theorem dX0_isBarred_0 : decode cX0_isBarred 0 = .ok (.aload_n 0, 1) := dk_42 (dk_at dksX0_isBarred_0 0 rfl rfl)
theorem dX0_isBarred_1 : decode cX0_isBarred 1 = .ok (.iconst 2, 1) := dk_5 (dk_at dksX0_isBarred_0 1 rfl rfl)
theorem dX0_isBarred_2 : decode cX0_isBarred 2 = .ok (.aload_n 1, 1) := dk_43 (dk_at dksX0_isBarred_0 2 rfl rfl)
theorem dX0_isBarred_3 : decode cX0_isBarred 3 = .ok (.iload_n 2, 1) := dk_28 (dk_at dksX0_isBarred_0 3 rfl rfl)
theorem dX0_isBarred_4 : decode cX0_isBarred 4 = .ok (.iload_n 3, 1) := dk_29 (dk_at dksX0_isBarred_0 4 rfl rfl)
theorem dX0_isBarred_5 : decode cX0_isBarred 5 = .ok (.invokevirtual 285, 3) := dk_182 1 29 (dk_at dksX0_isBarred_0 5 rfl rfl)
theorem dX0_isBarred_8 : decode cX0_isBarred 8 = .ok (.ldc2_w 266, 3) := dk_20 1 10 (dk_at dksX0_isBarred_0 8 rfl rfl)
theorem dX0_isBarred_11 : decode cX0_isBarred 11 = .ok (.lcmp, 1) := dk_148 (dk_at dksX0_isBarred_0 11 rfl rfl)
theorem dX0_isBarred_12 : decode cX0_isBarred 12 = .ok (.ifCond .eq 7, 3) := dk_153 0 7 (dk_at dksX0_isBarred_0 12 rfl rfl)
theorem dX0_isBarred_15 : decode cX0_isBarred 15 = .ok (.iconst 1, 1) := dk_4 (dk_at dksX0_isBarred_0 15 rfl rfl)
theorem dX0_isBarred_16 : decode cX0_isBarred 16 = .ok (.goto 4, 3) := dk_167 0 4 (dk_at dksX0_isBarred_0 16 rfl rfl)
theorem dX0_isBarred_19 : decode cX0_isBarred 19 = .ok (.iconst 0, 1) := dk_3 (dk_at dksX0_isBarred_0 19 rfl rfl)
theorem dX0_isBarred_20 : decode cX0_isBarred 20 = .ok (.ireturn, 1) := dk_172 (dk_at dksX0_isBarred_0 20 rfl rfl)
abbrev cX0_asks : ByteArray := prog_1_method_21_code
def yX0_asks : MethodName := ⟨RX0, "asks", "(III)I"⟩
def dkwX0_asks_2 : List UInt8 := [182, 0, 156, 27, 28, 182, 0, 196, 153, 0, 7, 4, 167, 0, 4, 3, 172]
abbrev dktX0_asks_2 : List UInt8 := dkwX0_asks_2 ++ []
def dkwX0_asks_1 : List UInt8 := [154, 0, 5, 2, 172, 29, 154, 0, 16, 42, 42, 182, 0, 156, 27, 28, 182, 0, 192, 167, 0, 21, 42, 42]
abbrev dktX0_asks_1 : List UInt8 := dkwX0_asks_1 ++ dktX0_asks_2
def dkwX0_asks_0 : List UInt8 := [42, 27, 182, 0, 182, 153, 0, 20, 42, 28, 182, 0, 170, 153, 0, 12, 29, 3, 4, 184, 0, 26]
abbrev dktX0_asks_0 : List UInt8 := dkwX0_asks_0 ++ dktX0_asks_1
theorem dksX0_asks_0 : cX0_asks.data.toList.drop 0 = dktX0_asks_0 := by decide +kernel
theorem dksX0_asks_1 : cX0_asks.data.toList.drop 22 = dktX0_asks_1 := dk_seg dksX0_asks_0 22 rfl rfl
theorem dksX0_asks_2 : cX0_asks.data.toList.drop 46 = dktX0_asks_2 := dk_seg dksX0_asks_1 24 rfl rfl
theorem dX0_asks_0 : decode cX0_asks 0 = .ok (.aload_n 0, 1) := dk_42 (dk_at dksX0_asks_0 0 rfl rfl)
theorem dX0_asks_1 : decode cX0_asks 1 = .ok (.iload_n 1, 1) := dk_27 (dk_at dksX0_asks_0 1 rfl rfl)
theorem dX0_asks_2 : decode cX0_asks 2 = .ok (.invokevirtual 182, 3) := dk_182 0 182 (dk_at dksX0_asks_0 2 rfl rfl)
theorem dX0_asks_5 : decode cX0_asks 5 = .ok (.ifCond .eq 20, 3) := dk_153 0 20 (dk_at dksX0_asks_0 5 rfl rfl)
theorem dX0_asks_8 : decode cX0_asks 8 = .ok (.aload_n 0, 1) := dk_42 (dk_at dksX0_asks_0 8 rfl rfl)
theorem dX0_asks_9 : decode cX0_asks 9 = .ok (.iload_n 2, 1) := dk_28 (dk_at dksX0_asks_0 9 rfl rfl)
theorem dX0_asks_10 : decode cX0_asks 10 = .ok (.invokevirtual 170, 3) := dk_182 0 170 (dk_at dksX0_asks_0 10 rfl rfl)
theorem dX0_asks_13 : decode cX0_asks 13 = .ok (.ifCond .eq 12, 3) := dk_153 0 12 (dk_at dksX0_asks_0 13 rfl rfl)
theorem dX0_asks_16 : decode cX0_asks 16 = .ok (.iload_n 3, 1) := dk_29 (dk_at dksX0_asks_0 16 rfl rfl)
theorem dX0_asks_17 : decode cX0_asks 17 = .ok (.iconst 0, 1) := dk_3 (dk_at dksX0_asks_0 17 rfl rfl)
theorem dX0_asks_18 : decode cX0_asks 18 = .ok (.iconst 1, 1) := dk_4 (dk_at dksX0_asks_0 18 rfl rfl)
theorem dX0_asks_19 : decode cX0_asks 19 = .ok (.invokestatic 26, 3) := dk_184 0 26 (dk_at dksX0_asks_0 19 rfl rfl)
theorem dX0_asks_22 : decode cX0_asks 22 = .ok (.ifCond .ne 5, 3) := dk_154 0 5 (dk_at dksX0_asks_1 0 rfl rfl)
theorem dX0_asks_25 : decode cX0_asks 25 = .ok (.iconst (-1), 1) := dk_2 (dk_at dksX0_asks_1 3 rfl rfl)
theorem dX0_asks_26 : decode cX0_asks 26 = .ok (.ireturn, 1) := dk_172 (dk_at dksX0_asks_1 4 rfl rfl)
theorem dX0_asks_27 : decode cX0_asks 27 = .ok (.iload_n 3, 1) := dk_29 (dk_at dksX0_asks_1 5 rfl rfl)
theorem dX0_asks_28 : decode cX0_asks 28 = .ok (.ifCond .ne 16, 3) := dk_154 0 16 (dk_at dksX0_asks_1 6 rfl rfl)
theorem dX0_asks_31 : decode cX0_asks 31 = .ok (.aload_n 0, 1) := dk_42 (dk_at dksX0_asks_1 9 rfl rfl)
theorem dX0_asks_32 : decode cX0_asks 32 = .ok (.aload_n 0, 1) := dk_42 (dk_at dksX0_asks_1 10 rfl rfl)
theorem dX0_asks_33 : decode cX0_asks 33 = .ok (.invokevirtual 156, 3) := dk_182 0 156 (dk_at dksX0_asks_1 11 rfl rfl)
theorem dX0_asks_36 : decode cX0_asks 36 = .ok (.iload_n 1, 1) := dk_27 (dk_at dksX0_asks_1 14 rfl rfl)
theorem dX0_asks_37 : decode cX0_asks 37 = .ok (.iload_n 2, 1) := dk_28 (dk_at dksX0_asks_1 15 rfl rfl)
theorem dX0_asks_38 : decode cX0_asks 38 = .ok (.invokevirtual 192, 3) := dk_182 0 192 (dk_at dksX0_asks_1 16 rfl rfl)
theorem dX0_asks_41 : decode cX0_asks 41 = .ok (.goto 21, 3) := dk_167 0 21 (dk_at dksX0_asks_1 19 rfl rfl)
theorem dX0_asks_44 : decode cX0_asks 44 = .ok (.aload_n 0, 1) := dk_42 (dk_at dksX0_asks_1 22 rfl rfl)
theorem dX0_asks_45 : decode cX0_asks 45 = .ok (.aload_n 0, 1) := dk_42 (dk_at dksX0_asks_1 23 rfl rfl)
theorem dX0_asks_46 : decode cX0_asks 46 = .ok (.invokevirtual 156, 3) := dk_182 0 156 (dk_at dksX0_asks_2 0 rfl rfl)
theorem dX0_asks_49 : decode cX0_asks 49 = .ok (.iload_n 1, 1) := dk_27 (dk_at dksX0_asks_2 3 rfl rfl)
theorem dX0_asks_50 : decode cX0_asks 50 = .ok (.iload_n 2, 1) := dk_28 (dk_at dksX0_asks_2 4 rfl rfl)
theorem dX0_asks_51 : decode cX0_asks 51 = .ok (.invokevirtual 196, 3) := dk_182 0 196 (dk_at dksX0_asks_2 5 rfl rfl)
theorem dX0_asks_54 : decode cX0_asks 54 = .ok (.ifCond .eq 7, 3) := dk_153 0 7 (dk_at dksX0_asks_2 8 rfl rfl)
theorem dX0_asks_57 : decode cX0_asks 57 = .ok (.iconst 1, 1) := dk_4 (dk_at dksX0_asks_2 11 rfl rfl)
theorem dX0_asks_58 : decode cX0_asks 58 = .ok (.goto 4, 3) := dk_167 0 4 (dk_at dksX0_asks_2 12 rfl rfl)
theorem dX0_asks_61 : decode cX0_asks 61 = .ok (.iconst 0, 1) := dk_3 (dk_at dksX0_asks_2 15 rfl rfl)
theorem dX0_asks_62 : decode cX0_asks 62 = .ok (.ireturn, 1) := dk_172 (dk_at dksX0_asks_2 16 rfl rfl)
abbrev cX0_says : ByteArray := prog_1_method_37_code
def yX0_says : MethodName := ⟨RX0, "says", "(LLostLanes$Table;II)I"⟩
def dkwX0_says_0 : List UInt8 := [42, 4, 43, 28, 29, 182, 1, 29, 16, 19, 42, 180, 0, 39, 180, 0, 153, 29, 46, 184, 1, 32, 172]
abbrev dktX0_says_0 : List UInt8 := dkwX0_says_0 ++ []
theorem dksX0_says_0 : cX0_says.data.toList.drop 0 = dktX0_says_0 := by decide +kernel
theorem dX0_says_0 : decode cX0_says 0 = .ok (.aload_n 0, 1) := dk_42 (dk_at dksX0_says_0 0 rfl rfl)
theorem dX0_says_1 : decode cX0_says 1 = .ok (.iconst 1, 1) := dk_4 (dk_at dksX0_says_0 1 rfl rfl)
theorem dX0_says_2 : decode cX0_says 2 = .ok (.aload_n 1, 1) := dk_43 (dk_at dksX0_says_0 2 rfl rfl)
theorem dX0_says_3 : decode cX0_says 3 = .ok (.iload_n 2, 1) := dk_28 (dk_at dksX0_says_0 3 rfl rfl)
theorem dX0_says_4 : decode cX0_says 4 = .ok (.iload_n 3, 1) := dk_29 (dk_at dksX0_says_0 4 rfl rfl)
theorem dX0_says_5 : decode cX0_says 5 = .ok (.invokevirtual 285, 3) := dk_182 1 29 (dk_at dksX0_says_0 5 rfl rfl)
theorem dX0_says_8 : decode cX0_says 8 = .ok (.bipush 19, 2) := dk_16 19 (dk_at dksX0_says_0 8 rfl rfl)
theorem dX0_says_10 : decode cX0_says 10 = .ok (.aload_n 0, 1) := dk_42 (dk_at dksX0_says_0 10 rfl rfl)
theorem dX0_says_11 : decode cX0_says 11 = .ok (.getfield 39, 3) := dk_180 0 39 (dk_at dksX0_says_0 11 rfl rfl)
theorem dX0_says_14 : decode cX0_says 14 = .ok (.getfield 153, 3) := dk_180 0 153 (dk_at dksX0_says_0 14 rfl rfl)
theorem dX0_says_17 : decode cX0_says 17 = .ok (.iload_n 3, 1) := dk_29 (dk_at dksX0_says_0 17 rfl rfl)
theorem dX0_says_18 : decode cX0_says 18 = .ok (.iaload, 1) := dk_46 (dk_at dksX0_says_0 18 rfl rfl)
theorem dX0_says_19 : decode cX0_says 19 = .ok (.invokestatic 288, 3) := dk_184 1 32 (dk_at dksX0_says_0 19 rfl rfl)
theorem dX0_says_22 : decode cX0_says 22 = .ok (.ireturn, 1) := dk_172 (dk_at dksX0_says_0 22 rfl rfl)
abbrev cX0_terms : ByteArray := prog_1_method_22_code
def yX0_terms : MethodName := ⟨RX0, "terms", "(II)I"⟩
def dkwX0_terms_5 : List UInt8 := [180, 0, 39, 28, 181, 0, 206, 42, 29, 182, 0, 137, 172]
abbrev dktX0_terms_5 : List UInt8 := dkwX0_terms_5 ++ []
def dkwX0_terms_4 : List UInt8 := [181, 0, 200, 167, 0, 27, 27, 4, 160, 0, 14, 42, 180, 0, 39, 28, 181, 0, 203, 167, 0, 11, 42]
abbrev dktX0_terms_4 : List UInt8 := dkwX0_terms_4 ++ dktX0_terms_5
def dkwX0_terms_3 : List UInt8 := [180, 0, 203, 167, 0, 10, 42, 180, 0, 39, 180, 0, 206, 62, 27, 154, 0, 14, 42, 182, 0, 156, 28]
abbrev dktX0_terms_3 : List UInt8 := dkwX0_terms_3 ++ dktX0_terms_4
def dkwX0_terms_2 : List UInt8 := [154, 0, 13, 42, 182, 0, 156, 180, 0, 200, 167, 0, 25, 27, 4, 160, 0, 13, 42, 180, 0, 39]
abbrev dktX0_terms_2 : List UInt8 := dkwX0_terms_2 ++ dktX0_terms_3
def dkwX0_terms_1 : List UInt8 := [160, 0, 8, 16, 10, 167, 0, 5, 16, 9, 184, 0, 26, 154, 0, 9, 42, 2, 182, 0, 130, 172, 27]
abbrev dktX0_terms_1 : List UInt8 := dkwX0_terms_1 ++ dktX0_terms_2
def dkwX0_terms_0 : List UInt8 := [27, 3, 5, 184, 0, 26, 153, 0, 33, 28, 3, 27, 154, 0, 9, 17, 3, 231, 167, 0, 15, 27, 4]
abbrev dktX0_terms_0 : List UInt8 := dkwX0_terms_0 ++ dktX0_terms_1
theorem dksX0_terms_0 : cX0_terms.data.toList.drop 0 = dktX0_terms_0 := by decide +kernel
theorem dksX0_terms_1 : cX0_terms.data.toList.drop 23 = dktX0_terms_1 := dk_seg dksX0_terms_0 23 rfl rfl
theorem dksX0_terms_2 : cX0_terms.data.toList.drop 46 = dktX0_terms_2 := dk_seg dksX0_terms_1 23 rfl rfl
theorem dksX0_terms_3 : cX0_terms.data.toList.drop 68 = dktX0_terms_3 := dk_seg dksX0_terms_2 22 rfl rfl
theorem dksX0_terms_4 : cX0_terms.data.toList.drop 91 = dktX0_terms_4 := dk_seg dksX0_terms_3 23 rfl rfl
theorem dksX0_terms_5 : cX0_terms.data.toList.drop 114 = dktX0_terms_5 := dk_seg dksX0_terms_4 23 rfl rfl
theorem dX0_terms_0 : decode cX0_terms 0 = .ok (.iload_n 1, 1) := dk_27 (dk_at dksX0_terms_0 0 rfl rfl)
theorem dX0_terms_1 : decode cX0_terms 1 = .ok (.iconst 0, 1) := dk_3 (dk_at dksX0_terms_0 1 rfl rfl)
theorem dX0_terms_2 : decode cX0_terms 2 = .ok (.iconst 2, 1) := dk_5 (dk_at dksX0_terms_0 2 rfl rfl)
theorem dX0_terms_3 : decode cX0_terms 3 = .ok (.invokestatic 26, 3) := dk_184 0 26 (dk_at dksX0_terms_0 3 rfl rfl)
theorem dX0_terms_6 : decode cX0_terms 6 = .ok (.ifCond .eq 33, 3) := dk_153 0 33 (dk_at dksX0_terms_0 6 rfl rfl)
theorem dX0_terms_9 : decode cX0_terms 9 = .ok (.iload_n 2, 1) := dk_28 (dk_at dksX0_terms_0 9 rfl rfl)
theorem dX0_terms_10 : decode cX0_terms 10 = .ok (.iconst 0, 1) := dk_3 (dk_at dksX0_terms_0 10 rfl rfl)
theorem dX0_terms_11 : decode cX0_terms 11 = .ok (.iload_n 1, 1) := dk_27 (dk_at dksX0_terms_0 11 rfl rfl)
theorem dX0_terms_12 : decode cX0_terms 12 = .ok (.ifCond .ne 9, 3) := dk_154 0 9 (dk_at dksX0_terms_0 12 rfl rfl)
theorem dX0_terms_15 : decode cX0_terms 15 = .ok (.sipush 999, 3) := dk_17 3 231 (dk_at dksX0_terms_0 15 rfl rfl)
theorem dX0_terms_18 : decode cX0_terms 18 = .ok (.goto 15, 3) := dk_167 0 15 (dk_at dksX0_terms_0 18 rfl rfl)
theorem dX0_terms_21 : decode cX0_terms 21 = .ok (.iload_n 1, 1) := dk_27 (dk_at dksX0_terms_0 21 rfl rfl)
theorem dX0_terms_22 : decode cX0_terms 22 = .ok (.iconst 1, 1) := dk_4 (dk_at dksX0_terms_0 22 rfl rfl)
theorem dX0_terms_23 : decode cX0_terms 23 = .ok (.if_icmp .ne 8, 3) := dk_160 0 8 (dk_at dksX0_terms_1 0 rfl rfl)
theorem dX0_terms_26 : decode cX0_terms 26 = .ok (.bipush 10, 2) := dk_16 10 (dk_at dksX0_terms_1 3 rfl rfl)
theorem dX0_terms_28 : decode cX0_terms 28 = .ok (.goto 5, 3) := dk_167 0 5 (dk_at dksX0_terms_1 5 rfl rfl)
theorem dX0_terms_31 : decode cX0_terms 31 = .ok (.bipush 9, 2) := dk_16 9 (dk_at dksX0_terms_1 8 rfl rfl)
theorem dX0_terms_33 : decode cX0_terms 33 = .ok (.invokestatic 26, 3) := dk_184 0 26 (dk_at dksX0_terms_1 10 rfl rfl)
theorem dX0_terms_36 : decode cX0_terms 36 = .ok (.ifCond .ne 9, 3) := dk_154 0 9 (dk_at dksX0_terms_1 13 rfl rfl)
theorem dX0_terms_39 : decode cX0_terms 39 = .ok (.aload_n 0, 1) := dk_42 (dk_at dksX0_terms_1 16 rfl rfl)
theorem dX0_terms_40 : decode cX0_terms 40 = .ok (.iconst (-1), 1) := dk_2 (dk_at dksX0_terms_1 17 rfl rfl)
theorem dX0_terms_41 : decode cX0_terms 41 = .ok (.invokevirtual 130, 3) := dk_182 0 130 (dk_at dksX0_terms_1 18 rfl rfl)
theorem dX0_terms_44 : decode cX0_terms 44 = .ok (.ireturn, 1) := dk_172 (dk_at dksX0_terms_1 21 rfl rfl)
theorem dX0_terms_45 : decode cX0_terms 45 = .ok (.iload_n 1, 1) := dk_27 (dk_at dksX0_terms_1 22 rfl rfl)
theorem dX0_terms_46 : decode cX0_terms 46 = .ok (.ifCond .ne 13, 3) := dk_154 0 13 (dk_at dksX0_terms_2 0 rfl rfl)
theorem dX0_terms_49 : decode cX0_terms 49 = .ok (.aload_n 0, 1) := dk_42 (dk_at dksX0_terms_2 3 rfl rfl)
theorem dX0_terms_50 : decode cX0_terms 50 = .ok (.invokevirtual 156, 3) := dk_182 0 156 (dk_at dksX0_terms_2 4 rfl rfl)
theorem dX0_terms_53 : decode cX0_terms 53 = .ok (.getfield 200, 3) := dk_180 0 200 (dk_at dksX0_terms_2 7 rfl rfl)
theorem dX0_terms_56 : decode cX0_terms 56 = .ok (.goto 25, 3) := dk_167 0 25 (dk_at dksX0_terms_2 10 rfl rfl)
theorem dX0_terms_59 : decode cX0_terms 59 = .ok (.iload_n 1, 1) := dk_27 (dk_at dksX0_terms_2 13 rfl rfl)
theorem dX0_terms_60 : decode cX0_terms 60 = .ok (.iconst 1, 1) := dk_4 (dk_at dksX0_terms_2 14 rfl rfl)
theorem dX0_terms_61 : decode cX0_terms 61 = .ok (.if_icmp .ne 13, 3) := dk_160 0 13 (dk_at dksX0_terms_2 15 rfl rfl)
theorem dX0_terms_64 : decode cX0_terms 64 = .ok (.aload_n 0, 1) := dk_42 (dk_at dksX0_terms_2 18 rfl rfl)
theorem dX0_terms_65 : decode cX0_terms 65 = .ok (.getfield 39, 3) := dk_180 0 39 (dk_at dksX0_terms_2 19 rfl rfl)
theorem dX0_terms_68 : decode cX0_terms 68 = .ok (.getfield 203, 3) := dk_180 0 203 (dk_at dksX0_terms_3 0 rfl rfl)
theorem dX0_terms_71 : decode cX0_terms 71 = .ok (.goto 10, 3) := dk_167 0 10 (dk_at dksX0_terms_3 3 rfl rfl)
theorem dX0_terms_74 : decode cX0_terms 74 = .ok (.aload_n 0, 1) := dk_42 (dk_at dksX0_terms_3 6 rfl rfl)
theorem dX0_terms_75 : decode cX0_terms 75 = .ok (.getfield 39, 3) := dk_180 0 39 (dk_at dksX0_terms_3 7 rfl rfl)
theorem dX0_terms_78 : decode cX0_terms 78 = .ok (.getfield 206, 3) := dk_180 0 206 (dk_at dksX0_terms_3 10 rfl rfl)
theorem dX0_terms_81 : decode cX0_terms 81 = .ok (.istore_n 3, 1) := dk_62 (dk_at dksX0_terms_3 13 rfl rfl)
theorem dX0_terms_82 : decode cX0_terms 82 = .ok (.iload_n 1, 1) := dk_27 (dk_at dksX0_terms_3 14 rfl rfl)
theorem dX0_terms_83 : decode cX0_terms 83 = .ok (.ifCond .ne 14, 3) := dk_154 0 14 (dk_at dksX0_terms_3 15 rfl rfl)
theorem dX0_terms_86 : decode cX0_terms 86 = .ok (.aload_n 0, 1) := dk_42 (dk_at dksX0_terms_3 18 rfl rfl)
theorem dX0_terms_87 : decode cX0_terms 87 = .ok (.invokevirtual 156, 3) := dk_182 0 156 (dk_at dksX0_terms_3 19 rfl rfl)
theorem dX0_terms_90 : decode cX0_terms 90 = .ok (.iload_n 2, 1) := dk_28 (dk_at dksX0_terms_3 22 rfl rfl)
theorem dX0_terms_91 : decode cX0_terms 91 = .ok (.putfield 200, 3) := dk_181 0 200 (dk_at dksX0_terms_4 0 rfl rfl)
theorem dX0_terms_94 : decode cX0_terms 94 = .ok (.goto 27, 3) := dk_167 0 27 (dk_at dksX0_terms_4 3 rfl rfl)
theorem dX0_terms_97 : decode cX0_terms 97 = .ok (.iload_n 1, 1) := dk_27 (dk_at dksX0_terms_4 6 rfl rfl)
theorem dX0_terms_98 : decode cX0_terms 98 = .ok (.iconst 1, 1) := dk_4 (dk_at dksX0_terms_4 7 rfl rfl)
theorem dX0_terms_99 : decode cX0_terms 99 = .ok (.if_icmp .ne 14, 3) := dk_160 0 14 (dk_at dksX0_terms_4 8 rfl rfl)
theorem dX0_terms_102 : decode cX0_terms 102 = .ok (.aload_n 0, 1) := dk_42 (dk_at dksX0_terms_4 11 rfl rfl)
theorem dX0_terms_103 : decode cX0_terms 103 = .ok (.getfield 39, 3) := dk_180 0 39 (dk_at dksX0_terms_4 12 rfl rfl)
theorem dX0_terms_106 : decode cX0_terms 106 = .ok (.iload_n 2, 1) := dk_28 (dk_at dksX0_terms_4 15 rfl rfl)
theorem dX0_terms_107 : decode cX0_terms 107 = .ok (.putfield 203, 3) := dk_181 0 203 (dk_at dksX0_terms_4 16 rfl rfl)
theorem dX0_terms_110 : decode cX0_terms 110 = .ok (.goto 11, 3) := dk_167 0 11 (dk_at dksX0_terms_4 19 rfl rfl)
theorem dX0_terms_113 : decode cX0_terms 113 = .ok (.aload_n 0, 1) := dk_42 (dk_at dksX0_terms_4 22 rfl rfl)
theorem dX0_terms_114 : decode cX0_terms 114 = .ok (.getfield 39, 3) := dk_180 0 39 (dk_at dksX0_terms_5 0 rfl rfl)
theorem dX0_terms_117 : decode cX0_terms 117 = .ok (.iload_n 2, 1) := dk_28 (dk_at dksX0_terms_5 3 rfl rfl)
theorem dX0_terms_118 : decode cX0_terms 118 = .ok (.putfield 206, 3) := dk_181 0 206 (dk_at dksX0_terms_5 4 rfl rfl)
theorem dX0_terms_121 : decode cX0_terms 121 = .ok (.aload_n 0, 1) := dk_42 (dk_at dksX0_terms_5 7 rfl rfl)
theorem dX0_terms_122 : decode cX0_terms 122 = .ok (.iload_n 3, 1) := dk_29 (dk_at dksX0_terms_5 8 rfl rfl)
theorem dX0_terms_123 : decode cX0_terms 123 = .ok (.invokevirtual 137, 3) := dk_182 0 137 (dk_at dksX0_terms_5 9 rfl rfl)
theorem dX0_terms_126 : decode cX0_terms 126 = .ok (.ireturn, 1) := dk_172 (dk_at dksX0_terms_5 12 rfl rfl)
abbrev cX0_feed : ByteArray := prog_1_method_23_code
def yX0_feed : MethodName := ⟨RX0, "feed", "(IIIII)I"⟩
def dkwX0_feed_2 : List UInt8 := [172]
abbrev dktX0_feed_2 : List UInt8 := dkwX0_feed_2 ++ []
def dkwX0_feed_1 : List UInt8 := [182, 0, 212, 42, 29, 182, 0, 212, 42, 21, 4, 182, 0, 212, 42, 21, 5, 182, 0, 212, 42, 180, 0, 209]
abbrev dktX0_feed_1 : List UInt8 := dkwX0_feed_1 ++ dktX0_feed_2
def dkwX0_feed_0 : List UInt8 := [42, 180, 0, 209, 16, 20, 96, 17, 1, 144, 164, 0, 5, 2, 172, 42, 27, 182, 0, 212, 42, 28]
abbrev dktX0_feed_0 : List UInt8 := dkwX0_feed_0 ++ dktX0_feed_1
theorem dksX0_feed_0 : cX0_feed.data.toList.drop 0 = dktX0_feed_0 := by decide +kernel
theorem dksX0_feed_1 : cX0_feed.data.toList.drop 22 = dktX0_feed_1 := dk_seg dksX0_feed_0 22 rfl rfl
theorem dksX0_feed_2 : cX0_feed.data.toList.drop 46 = dktX0_feed_2 := dk_seg dksX0_feed_1 24 rfl rfl
theorem dX0_feed_0 : decode cX0_feed 0 = .ok (.aload_n 0, 1) := dk_42 (dk_at dksX0_feed_0 0 rfl rfl)
theorem dX0_feed_1 : decode cX0_feed 1 = .ok (.getfield 209, 3) := dk_180 0 209 (dk_at dksX0_feed_0 1 rfl rfl)
theorem dX0_feed_4 : decode cX0_feed 4 = .ok (.bipush 20, 2) := dk_16 20 (dk_at dksX0_feed_0 4 rfl rfl)
theorem dX0_feed_6 : decode cX0_feed 6 = .ok (.iadd, 1) := dk_96 (dk_at dksX0_feed_0 6 rfl rfl)
theorem dX0_feed_7 : decode cX0_feed 7 = .ok (.sipush 400, 3) := dk_17 1 144 (dk_at dksX0_feed_0 7 rfl rfl)
theorem dX0_feed_10 : decode cX0_feed 10 = .ok (.if_icmp .le 5, 3) := dk_164 0 5 (dk_at dksX0_feed_0 10 rfl rfl)
theorem dX0_feed_13 : decode cX0_feed 13 = .ok (.iconst (-1), 1) := dk_2 (dk_at dksX0_feed_0 13 rfl rfl)
theorem dX0_feed_14 : decode cX0_feed 14 = .ok (.ireturn, 1) := dk_172 (dk_at dksX0_feed_0 14 rfl rfl)
theorem dX0_feed_15 : decode cX0_feed 15 = .ok (.aload_n 0, 1) := dk_42 (dk_at dksX0_feed_0 15 rfl rfl)
theorem dX0_feed_16 : decode cX0_feed 16 = .ok (.iload_n 1, 1) := dk_27 (dk_at dksX0_feed_0 16 rfl rfl)
theorem dX0_feed_17 : decode cX0_feed 17 = .ok (.invokevirtual 212, 3) := dk_182 0 212 (dk_at dksX0_feed_0 17 rfl rfl)
theorem dX0_feed_20 : decode cX0_feed 20 = .ok (.aload_n 0, 1) := dk_42 (dk_at dksX0_feed_0 20 rfl rfl)
theorem dX0_feed_21 : decode cX0_feed 21 = .ok (.iload_n 2, 1) := dk_28 (dk_at dksX0_feed_0 21 rfl rfl)
theorem dX0_feed_22 : decode cX0_feed 22 = .ok (.invokevirtual 212, 3) := dk_182 0 212 (dk_at dksX0_feed_1 0 rfl rfl)
theorem dX0_feed_25 : decode cX0_feed 25 = .ok (.aload_n 0, 1) := dk_42 (dk_at dksX0_feed_1 3 rfl rfl)
theorem dX0_feed_26 : decode cX0_feed 26 = .ok (.iload_n 3, 1) := dk_29 (dk_at dksX0_feed_1 4 rfl rfl)
theorem dX0_feed_27 : decode cX0_feed 27 = .ok (.invokevirtual 212, 3) := dk_182 0 212 (dk_at dksX0_feed_1 5 rfl rfl)
theorem dX0_feed_30 : decode cX0_feed 30 = .ok (.aload_n 0, 1) := dk_42 (dk_at dksX0_feed_1 8 rfl rfl)
theorem dX0_feed_31 : decode cX0_feed 31 = .ok (.iload 4, 2) := dk_21 4 (dk_at dksX0_feed_1 9 rfl rfl)
theorem dX0_feed_33 : decode cX0_feed 33 = .ok (.invokevirtual 212, 3) := dk_182 0 212 (dk_at dksX0_feed_1 11 rfl rfl)
theorem dX0_feed_36 : decode cX0_feed 36 = .ok (.aload_n 0, 1) := dk_42 (dk_at dksX0_feed_1 14 rfl rfl)
theorem dX0_feed_37 : decode cX0_feed 37 = .ok (.iload 5, 2) := dk_21 5 (dk_at dksX0_feed_1 15 rfl rfl)
theorem dX0_feed_39 : decode cX0_feed 39 = .ok (.invokevirtual 212, 3) := dk_182 0 212 (dk_at dksX0_feed_1 17 rfl rfl)
theorem dX0_feed_42 : decode cX0_feed 42 = .ok (.aload_n 0, 1) := dk_42 (dk_at dksX0_feed_1 20 rfl rfl)
theorem dX0_feed_43 : decode cX0_feed 43 = .ok (.getfield 209, 3) := dk_180 0 209 (dk_at dksX0_feed_1 21 rfl rfl)
theorem dX0_feed_46 : decode cX0_feed 46 = .ok (.ireturn, 1) := dk_172 (dk_at dksX0_feed_2 0 rfl rfl)
abbrev cX0_four : ByteArray := prog_1_method_24_code
def yX0_four : MethodName := ⟨RX0, "four", "(I)V"⟩
def dkwX0_four_1 : List UInt8 := [180, 0, 209, 4, 96, 181, 0, 209, 132, 2, 248, 167, 255, 226, 177]
abbrev dktX0_four_1 : List UInt8 := dkwX0_four_1 ++ []
def dkwX0_four_0 : List UInt8 := [16, 24, 61, 28, 155, 0, 32, 42, 180, 0, 70, 42, 180, 0, 209, 27, 28, 122, 145, 84, 42, 89]
abbrev dktX0_four_0 : List UInt8 := dkwX0_four_0 ++ dktX0_four_1
theorem dksX0_four_0 : cX0_four.data.toList.drop 0 = dktX0_four_0 := by decide +kernel
theorem dksX0_four_1 : cX0_four.data.toList.drop 22 = dktX0_four_1 := dk_seg dksX0_four_0 22 rfl rfl
theorem dX0_four_0 : decode cX0_four 0 = .ok (.bipush 24, 2) := dk_16 24 (dk_at dksX0_four_0 0 rfl rfl)
theorem dX0_four_2 : decode cX0_four 2 = .ok (.istore_n 2, 1) := dk_61 (dk_at dksX0_four_0 2 rfl rfl)
theorem dX0_four_3 : decode cX0_four 3 = .ok (.iload_n 2, 1) := dk_28 (dk_at dksX0_four_0 3 rfl rfl)
theorem dX0_four_4 : decode cX0_four 4 = .ok (.ifCond .lt 32, 3) := dk_155 0 32 (dk_at dksX0_four_0 4 rfl rfl)
theorem dX0_four_7 : decode cX0_four 7 = .ok (.aload_n 0, 1) := dk_42 (dk_at dksX0_four_0 7 rfl rfl)
theorem dX0_four_8 : decode cX0_four 8 = .ok (.getfield 70, 3) := dk_180 0 70 (dk_at dksX0_four_0 8 rfl rfl)
theorem dX0_four_11 : decode cX0_four 11 = .ok (.aload_n 0, 1) := dk_42 (dk_at dksX0_four_0 11 rfl rfl)
theorem dX0_four_12 : decode cX0_four 12 = .ok (.getfield 209, 3) := dk_180 0 209 (dk_at dksX0_four_0 12 rfl rfl)
theorem dX0_four_15 : decode cX0_four 15 = .ok (.iload_n 1, 1) := dk_27 (dk_at dksX0_four_0 15 rfl rfl)
theorem dX0_four_16 : decode cX0_four 16 = .ok (.iload_n 2, 1) := dk_28 (dk_at dksX0_four_0 16 rfl rfl)
theorem dX0_four_17 : decode cX0_four 17 = .ok (.ishr, 1) := dk_122 (dk_at dksX0_four_0 17 rfl rfl)
theorem dX0_four_18 : decode cX0_four 18 = .ok (.i2b, 1) := dk_145 (dk_at dksX0_four_0 18 rfl rfl)
theorem dX0_four_19 : decode cX0_four 19 = .ok (.bastore, 1) := dk_84 (dk_at dksX0_four_0 19 rfl rfl)
theorem dX0_four_20 : decode cX0_four 20 = .ok (.aload_n 0, 1) := dk_42 (dk_at dksX0_four_0 20 rfl rfl)
theorem dX0_four_21 : decode cX0_four 21 = .ok (.dup, 1) := dk_89 (dk_at dksX0_four_0 21 rfl rfl)
theorem dX0_four_22 : decode cX0_four 22 = .ok (.getfield 209, 3) := dk_180 0 209 (dk_at dksX0_four_1 0 rfl rfl)
theorem dX0_four_25 : decode cX0_four 25 = .ok (.iconst 1, 1) := dk_4 (dk_at dksX0_four_1 3 rfl rfl)
theorem dX0_four_26 : decode cX0_four 26 = .ok (.iadd, 1) := dk_96 (dk_at dksX0_four_1 4 rfl rfl)
theorem dX0_four_27 : decode cX0_four 27 = .ok (.putfield 209, 3) := dk_181 0 209 (dk_at dksX0_four_1 5 rfl rfl)
theorem dX0_four_30 : decode cX0_four 30 = .ok (.iinc 2 (-8), 3) := dk_132 2 248 (dk_at dksX0_four_1 8 rfl rfl)
theorem dX0_four_33 : decode cX0_four 33 = .ok (.goto (-30), 3) := dk_167 255 226 (dk_at dksX0_four_1 11 rfl rfl)
theorem dX0_four_36 : decode cX0_four 36 = .ok (.return_, 1) := dk_177 (dk_at dksX0_four_1 14 rfl rfl)
abbrev cX0_end : ByteArray := prog_1_method_25_code
def yX0_end : MethodName := ⟨RX0, "end", "(I)I"⟩
def dkwX0_end_0 : List UInt8 := [27, 155, 0, 11, 27, 42, 180, 0, 209, 164, 0, 5, 2, 172, 42, 27, 181, 0, 209, 27, 172]
abbrev dktX0_end_0 : List UInt8 := dkwX0_end_0 ++ []
theorem dksX0_end_0 : cX0_end.data.toList.drop 0 = dktX0_end_0 := by decide +kernel
theorem dX0_end_0 : decode cX0_end 0 = .ok (.iload_n 1, 1) := dk_27 (dk_at dksX0_end_0 0 rfl rfl)
theorem dX0_end_1 : decode cX0_end 1 = .ok (.ifCond .lt 11, 3) := dk_155 0 11 (dk_at dksX0_end_0 1 rfl rfl)
theorem dX0_end_4 : decode cX0_end 4 = .ok (.iload_n 1, 1) := dk_27 (dk_at dksX0_end_0 4 rfl rfl)
theorem dX0_end_5 : decode cX0_end 5 = .ok (.aload_n 0, 1) := dk_42 (dk_at dksX0_end_0 5 rfl rfl)
theorem dX0_end_6 : decode cX0_end 6 = .ok (.getfield 209, 3) := dk_180 0 209 (dk_at dksX0_end_0 6 rfl rfl)
theorem dX0_end_9 : decode cX0_end 9 = .ok (.if_icmp .le 5, 3) := dk_164 0 5 (dk_at dksX0_end_0 9 rfl rfl)
theorem dX0_end_12 : decode cX0_end 12 = .ok (.iconst (-1), 1) := dk_2 (dk_at dksX0_end_0 12 rfl rfl)
theorem dX0_end_13 : decode cX0_end 13 = .ok (.ireturn, 1) := dk_172 (dk_at dksX0_end_0 13 rfl rfl)
theorem dX0_end_14 : decode cX0_end 14 = .ok (.aload_n 0, 1) := dk_42 (dk_at dksX0_end_0 14 rfl rfl)
theorem dX0_end_15 : decode cX0_end 15 = .ok (.iload_n 1, 1) := dk_27 (dk_at dksX0_end_0 15 rfl rfl)
theorem dX0_end_16 : decode cX0_end 16 = .ok (.putfield 209, 3) := dk_181 0 209 (dk_at dksX0_end_0 16 rfl rfl)
theorem dX0_end_19 : decode cX0_end 19 = .ok (.iload_n 1, 1) := dk_27 (dk_at dksX0_end_0 19 rfl rfl)
theorem dX0_end_20 : decode cX0_end 20 = .ok (.ireturn, 1) := dk_172 (dk_at dksX0_end_0 20 rfl rfl)
abbrev cX0_row : ByteArray := prog_1_method_26_code
def yX0_row : MethodName := ⟨RX0, "row", "()I"⟩
def dkwX0_row_7 : List UInt8 := [167, 0, 4, 4, 96, 181, 0, 216, 132, 3, 4, 167, 255, 119, 42, 28, 182, 0, 137, 172]
abbrev dktX0_row_7 : List UInt8 := dkwX0_row_7 ++ []
def dkwX0_row_6 : List UInt8 := [21, 4, 153, 0, 7, 4, 167, 0, 4, 3, 96, 61, 42, 89, 180, 0, 216, 21, 4, 153, 0, 7, 3]
abbrev dktX0_row_6 : List UInt8 := dkwX0_row_6 ++ dktX0_row_7
def dkwX0_row_5 : List UInt8 := [96, 51, 42, 180, 0, 70, 29, 5, 96, 51, 42, 180, 0, 70, 29, 6, 96, 51, 182, 0, 166, 87, 28]
abbrev dktX0_row_5 : List UInt8 := dkwX0_row_5 ++ dktX0_row_6
def dkwX0_row_4 : List UInt8 := [167, 0, 4, 3, 54, 4, 21, 4, 153, 0, 38, 42, 42, 180, 0, 70, 29, 51, 42, 180, 0, 70, 29, 4]
abbrev dktX0_row_4 : List UInt8 := dkwX0_row_4 ++ dktX0_row_5
def dkwX0_row_3 : List UInt8 := [51, 42, 180, 0, 70, 29, 5, 96, 51, 42, 180, 0, 70, 29, 6, 96, 51, 184, 0, 162, 153, 0, 7, 4]
abbrev dktX0_row_3 : List UInt8 := dkwX0_row_3 ++ dktX0_row_4
def dkwX0_row_2 : List UInt8 := [180, 0, 39, 180, 0, 124, 16, 10, 162, 0, 43, 42, 180, 0, 70, 29, 51, 42, 180, 0, 70, 29, 4, 96]
abbrev dktX0_row_2 : List UInt8 := dkwX0_row_2 ++ dktX0_row_3
def dkwX0_row_1 : List UInt8 := [27, 7, 112, 154, 0, 7, 3, 167, 0, 4, 4, 181, 0, 216, 3, 62, 29, 7, 96, 27, 163, 0, 136, 42]
abbrev dktX0_row_1 : List UInt8 := dkwX0_row_1 ++ dktX0_row_2
def dkwX0_row_0 : List UInt8 := [42, 180, 0, 209, 60, 42, 3, 181, 0, 209, 27, 154, 0, 10, 42, 16, 250, 182, 0, 130, 172, 3, 61, 42]
abbrev dktX0_row_0 : List UInt8 := dkwX0_row_0 ++ dktX0_row_1
theorem dksX0_row_0 : cX0_row.data.toList.drop 0 = dktX0_row_0 := by decide +kernel
theorem dksX0_row_1 : cX0_row.data.toList.drop 24 = dktX0_row_1 := dk_seg dksX0_row_0 24 rfl rfl
theorem dksX0_row_2 : cX0_row.data.toList.drop 48 = dktX0_row_2 := dk_seg dksX0_row_1 24 rfl rfl
theorem dksX0_row_3 : cX0_row.data.toList.drop 72 = dktX0_row_3 := dk_seg dksX0_row_2 24 rfl rfl
theorem dksX0_row_4 : cX0_row.data.toList.drop 96 = dktX0_row_4 := dk_seg dksX0_row_3 24 rfl rfl
theorem dksX0_row_5 : cX0_row.data.toList.drop 120 = dktX0_row_5 := dk_seg dksX0_row_4 24 rfl rfl
theorem dksX0_row_6 : cX0_row.data.toList.drop 143 = dktX0_row_6 := dk_seg dksX0_row_5 23 rfl rfl
theorem dksX0_row_7 : cX0_row.data.toList.drop 166 = dktX0_row_7 := dk_seg dksX0_row_6 23 rfl rfl
theorem dX0_row_0 : decode cX0_row 0 = .ok (.aload_n 0, 1) := dk_42 (dk_at dksX0_row_0 0 rfl rfl)
theorem dX0_row_1 : decode cX0_row 1 = .ok (.getfield 209, 3) := dk_180 0 209 (dk_at dksX0_row_0 1 rfl rfl)
theorem dX0_row_4 : decode cX0_row 4 = .ok (.istore_n 1, 1) := dk_60 (dk_at dksX0_row_0 4 rfl rfl)
theorem dX0_row_5 : decode cX0_row 5 = .ok (.aload_n 0, 1) := dk_42 (dk_at dksX0_row_0 5 rfl rfl)
theorem dX0_row_6 : decode cX0_row 6 = .ok (.iconst 0, 1) := dk_3 (dk_at dksX0_row_0 6 rfl rfl)
theorem dX0_row_7 : decode cX0_row 7 = .ok (.putfield 209, 3) := dk_181 0 209 (dk_at dksX0_row_0 7 rfl rfl)
theorem dX0_row_10 : decode cX0_row 10 = .ok (.iload_n 1, 1) := dk_27 (dk_at dksX0_row_0 10 rfl rfl)
theorem dX0_row_11 : decode cX0_row 11 = .ok (.ifCond .ne 10, 3) := dk_154 0 10 (dk_at dksX0_row_0 11 rfl rfl)
theorem dX0_row_14 : decode cX0_row 14 = .ok (.aload_n 0, 1) := dk_42 (dk_at dksX0_row_0 14 rfl rfl)
theorem dX0_row_15 : decode cX0_row 15 = .ok (.bipush (-6), 2) := dk_16 250 (dk_at dksX0_row_0 15 rfl rfl)
theorem dX0_row_17 : decode cX0_row 17 = .ok (.invokevirtual 130, 3) := dk_182 0 130 (dk_at dksX0_row_0 17 rfl rfl)
theorem dX0_row_20 : decode cX0_row 20 = .ok (.ireturn, 1) := dk_172 (dk_at dksX0_row_0 20 rfl rfl)
theorem dX0_row_21 : decode cX0_row 21 = .ok (.iconst 0, 1) := dk_3 (dk_at dksX0_row_0 21 rfl rfl)
theorem dX0_row_22 : decode cX0_row 22 = .ok (.istore_n 2, 1) := dk_61 (dk_at dksX0_row_0 22 rfl rfl)
theorem dX0_row_23 : decode cX0_row 23 = .ok (.aload_n 0, 1) := dk_42 (dk_at dksX0_row_0 23 rfl rfl)
theorem dX0_row_24 : decode cX0_row 24 = .ok (.iload_n 1, 1) := dk_27 (dk_at dksX0_row_1 0 rfl rfl)
theorem dX0_row_25 : decode cX0_row 25 = .ok (.iconst 4, 1) := dk_7 (dk_at dksX0_row_1 1 rfl rfl)
theorem dX0_row_26 : decode cX0_row 26 = .ok (.irem, 1) := dk_112 (dk_at dksX0_row_1 2 rfl rfl)
theorem dX0_row_27 : decode cX0_row 27 = .ok (.ifCond .ne 7, 3) := dk_154 0 7 (dk_at dksX0_row_1 3 rfl rfl)
theorem dX0_row_30 : decode cX0_row 30 = .ok (.iconst 0, 1) := dk_3 (dk_at dksX0_row_1 6 rfl rfl)
theorem dX0_row_31 : decode cX0_row 31 = .ok (.goto 4, 3) := dk_167 0 4 (dk_at dksX0_row_1 7 rfl rfl)
theorem dX0_row_34 : decode cX0_row 34 = .ok (.iconst 1, 1) := dk_4 (dk_at dksX0_row_1 10 rfl rfl)
theorem dX0_row_35 : decode cX0_row 35 = .ok (.putfield 216, 3) := dk_181 0 216 (dk_at dksX0_row_1 11 rfl rfl)
theorem dX0_row_38 : decode cX0_row 38 = .ok (.iconst 0, 1) := dk_3 (dk_at dksX0_row_1 14 rfl rfl)
theorem dX0_row_39 : decode cX0_row 39 = .ok (.istore_n 3, 1) := dk_62 (dk_at dksX0_row_1 15 rfl rfl)
theorem dX0_row_40 : decode cX0_row 40 = .ok (.iload_n 3, 1) := dk_29 (dk_at dksX0_row_1 16 rfl rfl)
theorem dX0_row_41 : decode cX0_row 41 = .ok (.iconst 4, 1) := dk_7 (dk_at dksX0_row_1 17 rfl rfl)
theorem dX0_row_42 : decode cX0_row 42 = .ok (.iadd, 1) := dk_96 (dk_at dksX0_row_1 18 rfl rfl)
theorem dX0_row_43 : decode cX0_row 43 = .ok (.iload_n 1, 1) := dk_27 (dk_at dksX0_row_1 19 rfl rfl)
theorem dX0_row_44 : decode cX0_row 44 = .ok (.if_icmp .gt 136, 3) := dk_163 0 136 (dk_at dksX0_row_1 20 rfl rfl)
theorem dX0_row_47 : decode cX0_row 47 = .ok (.aload_n 0, 1) := dk_42 (dk_at dksX0_row_1 23 rfl rfl)
theorem dX0_row_48 : decode cX0_row 48 = .ok (.getfield 39, 3) := dk_180 0 39 (dk_at dksX0_row_2 0 rfl rfl)
theorem dX0_row_51 : decode cX0_row 51 = .ok (.getfield 124, 3) := dk_180 0 124 (dk_at dksX0_row_2 3 rfl rfl)
theorem dX0_row_54 : decode cX0_row 54 = .ok (.bipush 10, 2) := dk_16 10 (dk_at dksX0_row_2 6 rfl rfl)
theorem dX0_row_56 : decode cX0_row 56 = .ok (.if_icmp .ge 43, 3) := dk_162 0 43 (dk_at dksX0_row_2 8 rfl rfl)
theorem dX0_row_59 : decode cX0_row 59 = .ok (.aload_n 0, 1) := dk_42 (dk_at dksX0_row_2 11 rfl rfl)
theorem dX0_row_60 : decode cX0_row 60 = .ok (.getfield 70, 3) := dk_180 0 70 (dk_at dksX0_row_2 12 rfl rfl)
theorem dX0_row_63 : decode cX0_row 63 = .ok (.iload_n 3, 1) := dk_29 (dk_at dksX0_row_2 15 rfl rfl)
theorem dX0_row_64 : decode cX0_row 64 = .ok (.baload, 1) := dk_51 (dk_at dksX0_row_2 16 rfl rfl)
theorem dX0_row_65 : decode cX0_row 65 = .ok (.aload_n 0, 1) := dk_42 (dk_at dksX0_row_2 17 rfl rfl)
theorem dX0_row_66 : decode cX0_row 66 = .ok (.getfield 70, 3) := dk_180 0 70 (dk_at dksX0_row_2 18 rfl rfl)
theorem dX0_row_69 : decode cX0_row 69 = .ok (.iload_n 3, 1) := dk_29 (dk_at dksX0_row_2 21 rfl rfl)
theorem dX0_row_70 : decode cX0_row 70 = .ok (.iconst 1, 1) := dk_4 (dk_at dksX0_row_2 22 rfl rfl)
theorem dX0_row_71 : decode cX0_row 71 = .ok (.iadd, 1) := dk_96 (dk_at dksX0_row_2 23 rfl rfl)
theorem dX0_row_72 : decode cX0_row 72 = .ok (.baload, 1) := dk_51 (dk_at dksX0_row_3 0 rfl rfl)
theorem dX0_row_73 : decode cX0_row 73 = .ok (.aload_n 0, 1) := dk_42 (dk_at dksX0_row_3 1 rfl rfl)
theorem dX0_row_74 : decode cX0_row 74 = .ok (.getfield 70, 3) := dk_180 0 70 (dk_at dksX0_row_3 2 rfl rfl)
theorem dX0_row_77 : decode cX0_row 77 = .ok (.iload_n 3, 1) := dk_29 (dk_at dksX0_row_3 5 rfl rfl)
theorem dX0_row_78 : decode cX0_row 78 = .ok (.iconst 2, 1) := dk_5 (dk_at dksX0_row_3 6 rfl rfl)
theorem dX0_row_79 : decode cX0_row 79 = .ok (.iadd, 1) := dk_96 (dk_at dksX0_row_3 7 rfl rfl)
theorem dX0_row_80 : decode cX0_row 80 = .ok (.baload, 1) := dk_51 (dk_at dksX0_row_3 8 rfl rfl)
theorem dX0_row_81 : decode cX0_row 81 = .ok (.aload_n 0, 1) := dk_42 (dk_at dksX0_row_3 9 rfl rfl)
theorem dX0_row_82 : decode cX0_row 82 = .ok (.getfield 70, 3) := dk_180 0 70 (dk_at dksX0_row_3 10 rfl rfl)
theorem dX0_row_85 : decode cX0_row 85 = .ok (.iload_n 3, 1) := dk_29 (dk_at dksX0_row_3 13 rfl rfl)
theorem dX0_row_86 : decode cX0_row 86 = .ok (.iconst 3, 1) := dk_6 (dk_at dksX0_row_3 14 rfl rfl)
theorem dX0_row_87 : decode cX0_row 87 = .ok (.iadd, 1) := dk_96 (dk_at dksX0_row_3 15 rfl rfl)
theorem dX0_row_88 : decode cX0_row 88 = .ok (.baload, 1) := dk_51 (dk_at dksX0_row_3 16 rfl rfl)
theorem dX0_row_89 : decode cX0_row 89 = .ok (.invokestatic 162, 3) := dk_184 0 162 (dk_at dksX0_row_3 17 rfl rfl)
theorem dX0_row_92 : decode cX0_row 92 = .ok (.ifCond .eq 7, 3) := dk_153 0 7 (dk_at dksX0_row_3 20 rfl rfl)
theorem dX0_row_95 : decode cX0_row 95 = .ok (.iconst 1, 1) := dk_4 (dk_at dksX0_row_3 23 rfl rfl)
theorem dX0_row_96 : decode cX0_row 96 = .ok (.goto 4, 3) := dk_167 0 4 (dk_at dksX0_row_4 0 rfl rfl)
theorem dX0_row_99 : decode cX0_row 99 = .ok (.iconst 0, 1) := dk_3 (dk_at dksX0_row_4 3 rfl rfl)
theorem dX0_row_100 : decode cX0_row 100 = .ok (.istore 4, 2) := dk_54 4 (dk_at dksX0_row_4 4 rfl rfl)
theorem dX0_row_102 : decode cX0_row 102 = .ok (.iload 4, 2) := dk_21 4 (dk_at dksX0_row_4 6 rfl rfl)
theorem dX0_row_104 : decode cX0_row 104 = .ok (.ifCond .eq 38, 3) := dk_153 0 38 (dk_at dksX0_row_4 8 rfl rfl)
theorem dX0_row_107 : decode cX0_row 107 = .ok (.aload_n 0, 1) := dk_42 (dk_at dksX0_row_4 11 rfl rfl)
theorem dX0_row_108 : decode cX0_row 108 = .ok (.aload_n 0, 1) := dk_42 (dk_at dksX0_row_4 12 rfl rfl)
theorem dX0_row_109 : decode cX0_row 109 = .ok (.getfield 70, 3) := dk_180 0 70 (dk_at dksX0_row_4 13 rfl rfl)
theorem dX0_row_112 : decode cX0_row 112 = .ok (.iload_n 3, 1) := dk_29 (dk_at dksX0_row_4 16 rfl rfl)
theorem dX0_row_113 : decode cX0_row 113 = .ok (.baload, 1) := dk_51 (dk_at dksX0_row_4 17 rfl rfl)
theorem dX0_row_114 : decode cX0_row 114 = .ok (.aload_n 0, 1) := dk_42 (dk_at dksX0_row_4 18 rfl rfl)
theorem dX0_row_115 : decode cX0_row 115 = .ok (.getfield 70, 3) := dk_180 0 70 (dk_at dksX0_row_4 19 rfl rfl)
theorem dX0_row_118 : decode cX0_row 118 = .ok (.iload_n 3, 1) := dk_29 (dk_at dksX0_row_4 22 rfl rfl)
theorem dX0_row_119 : decode cX0_row 119 = .ok (.iconst 1, 1) := dk_4 (dk_at dksX0_row_4 23 rfl rfl)
theorem dX0_row_120 : decode cX0_row 120 = .ok (.iadd, 1) := dk_96 (dk_at dksX0_row_5 0 rfl rfl)
theorem dX0_row_121 : decode cX0_row 121 = .ok (.baload, 1) := dk_51 (dk_at dksX0_row_5 1 rfl rfl)
theorem dX0_row_122 : decode cX0_row 122 = .ok (.aload_n 0, 1) := dk_42 (dk_at dksX0_row_5 2 rfl rfl)
theorem dX0_row_123 : decode cX0_row 123 = .ok (.getfield 70, 3) := dk_180 0 70 (dk_at dksX0_row_5 3 rfl rfl)
theorem dX0_row_126 : decode cX0_row 126 = .ok (.iload_n 3, 1) := dk_29 (dk_at dksX0_row_5 6 rfl rfl)
theorem dX0_row_127 : decode cX0_row 127 = .ok (.iconst 2, 1) := dk_5 (dk_at dksX0_row_5 7 rfl rfl)
theorem dX0_row_128 : decode cX0_row 128 = .ok (.iadd, 1) := dk_96 (dk_at dksX0_row_5 8 rfl rfl)
theorem dX0_row_129 : decode cX0_row 129 = .ok (.baload, 1) := dk_51 (dk_at dksX0_row_5 9 rfl rfl)
theorem dX0_row_130 : decode cX0_row 130 = .ok (.aload_n 0, 1) := dk_42 (dk_at dksX0_row_5 10 rfl rfl)
theorem dX0_row_131 : decode cX0_row 131 = .ok (.getfield 70, 3) := dk_180 0 70 (dk_at dksX0_row_5 11 rfl rfl)
theorem dX0_row_134 : decode cX0_row 134 = .ok (.iload_n 3, 1) := dk_29 (dk_at dksX0_row_5 14 rfl rfl)
theorem dX0_row_135 : decode cX0_row 135 = .ok (.iconst 3, 1) := dk_6 (dk_at dksX0_row_5 15 rfl rfl)
theorem dX0_row_136 : decode cX0_row 136 = .ok (.iadd, 1) := dk_96 (dk_at dksX0_row_5 16 rfl rfl)
theorem dX0_row_137 : decode cX0_row 137 = .ok (.baload, 1) := dk_51 (dk_at dksX0_row_5 17 rfl rfl)
theorem dX0_row_138 : decode cX0_row 138 = .ok (.invokevirtual 166, 3) := dk_182 0 166 (dk_at dksX0_row_5 18 rfl rfl)
theorem dX0_row_141 : decode cX0_row 141 = .ok (.pop, 1) := dk_87 (dk_at dksX0_row_5 21 rfl rfl)
theorem dX0_row_142 : decode cX0_row 142 = .ok (.iload_n 2, 1) := dk_28 (dk_at dksX0_row_5 22 rfl rfl)
theorem dX0_row_143 : decode cX0_row 143 = .ok (.iload 4, 2) := dk_21 4 (dk_at dksX0_row_6 0 rfl rfl)
theorem dX0_row_145 : decode cX0_row 145 = .ok (.ifCond .eq 7, 3) := dk_153 0 7 (dk_at dksX0_row_6 2 rfl rfl)
theorem dX0_row_148 : decode cX0_row 148 = .ok (.iconst 1, 1) := dk_4 (dk_at dksX0_row_6 5 rfl rfl)
theorem dX0_row_149 : decode cX0_row 149 = .ok (.goto 4, 3) := dk_167 0 4 (dk_at dksX0_row_6 6 rfl rfl)
theorem dX0_row_152 : decode cX0_row 152 = .ok (.iconst 0, 1) := dk_3 (dk_at dksX0_row_6 9 rfl rfl)
theorem dX0_row_153 : decode cX0_row 153 = .ok (.iadd, 1) := dk_96 (dk_at dksX0_row_6 10 rfl rfl)
theorem dX0_row_154 : decode cX0_row 154 = .ok (.istore_n 2, 1) := dk_61 (dk_at dksX0_row_6 11 rfl rfl)
theorem dX0_row_155 : decode cX0_row 155 = .ok (.aload_n 0, 1) := dk_42 (dk_at dksX0_row_6 12 rfl rfl)
theorem dX0_row_156 : decode cX0_row 156 = .ok (.dup, 1) := dk_89 (dk_at dksX0_row_6 13 rfl rfl)
theorem dX0_row_157 : decode cX0_row 157 = .ok (.getfield 216, 3) := dk_180 0 216 (dk_at dksX0_row_6 14 rfl rfl)
theorem dX0_row_160 : decode cX0_row 160 = .ok (.iload 4, 2) := dk_21 4 (dk_at dksX0_row_6 17 rfl rfl)
theorem dX0_row_162 : decode cX0_row 162 = .ok (.ifCond .eq 7, 3) := dk_153 0 7 (dk_at dksX0_row_6 19 rfl rfl)
theorem dX0_row_165 : decode cX0_row 165 = .ok (.iconst 0, 1) := dk_3 (dk_at dksX0_row_6 22 rfl rfl)
theorem dX0_row_166 : decode cX0_row 166 = .ok (.goto 4, 3) := dk_167 0 4 (dk_at dksX0_row_7 0 rfl rfl)
theorem dX0_row_169 : decode cX0_row 169 = .ok (.iconst 1, 1) := dk_4 (dk_at dksX0_row_7 3 rfl rfl)
theorem dX0_row_170 : decode cX0_row 170 = .ok (.iadd, 1) := dk_96 (dk_at dksX0_row_7 4 rfl rfl)
theorem dX0_row_171 : decode cX0_row 171 = .ok (.putfield 216, 3) := dk_181 0 216 (dk_at dksX0_row_7 5 rfl rfl)
theorem dX0_row_174 : decode cX0_row 174 = .ok (.iinc 3 4, 3) := dk_132 3 4 (dk_at dksX0_row_7 8 rfl rfl)
theorem dX0_row_177 : decode cX0_row 177 = .ok (.goto (-137), 3) := dk_167 255 119 (dk_at dksX0_row_7 11 rfl rfl)
theorem dX0_row_180 : decode cX0_row 180 = .ok (.aload_n 0, 1) := dk_42 (dk_at dksX0_row_7 14 rfl rfl)
theorem dX0_row_181 : decode cX0_row 181 = .ok (.iload_n 2, 1) := dk_28 (dk_at dksX0_row_7 15 rfl rfl)
theorem dX0_row_182 : decode cX0_row 182 = .ok (.invokevirtual 137, 3) := dk_182 0 137 (dk_at dksX0_row_7 16 rfl rfl)
theorem dX0_row_185 : decode cX0_row 185 = .ok (.ireturn, 1) := dk_172 (dk_at dksX0_row_7 19 rfl rfl)
abbrev cX0_gravel : ByteArray := prog_1_method_27_code
def yX0_gravel : MethodName := ⟨RX0, "gravel", "()I"⟩
theorem dX0_gravel_0 : decode cX0_gravel 0 = .ok (.aload_n 0, 1) := by decide +kernel
theorem dX0_gravel_1 : decode cX0_gravel 1 = .ok (.getfield 216, 3) := by decide +kernel
theorem dX0_gravel_4 : decode cX0_gravel 4 = .ok (.ireturn, 1) := by decide +kernel
abbrev cX0_law : ByteArray := prog_1_method_29_code
def yX0_law : MethodName := ⟨RX0, "law", "()I"⟩
def dkwX0_law_4 : List UInt8 := [100, 182, 0, 121, 172]
abbrev dktX0_law_4 : List UInt8 := dkwX0_law_4 ++ []
def dkwX0_law_3 : List UInt8 := [89, 44, 180, 0, 250, 183, 0, 253, 182, 1, 0, 87, 42, 42, 180, 0, 39, 180, 0, 229, 182, 0, 233, 4]
abbrev dktX0_law_3 : List UInt8 := dkwX0_law_3 ++ dktX0_law_4
def dkwX0_law_2 : List UInt8 := [44, 182, 0, 244, 154, 0, 10, 42, 16, 250, 182, 0, 130, 172, 42, 180, 0, 39, 180, 0, 229, 187, 0, 248]
abbrev dktX0_law_2 : List UInt8 := dkwX0_law_2 ++ dktX0_law_3
def dkwX0_law_1 : List UInt8 := [160, 0, 10, 42, 16, 251, 182, 0, 130, 172, 187, 0, 239, 89, 42, 180, 0, 70, 27, 183, 0, 241, 77, 42]
abbrev dktX0_law_1 : List UInt8 := dkwX0_law_1 ++ dktX0_law_2
def dkwX0_law_0 : List UInt8 := [42, 180, 0, 209, 60, 42, 3, 181, 0, 209, 42, 180, 0, 39, 180, 0, 229, 182, 0, 233, 16, 6]
abbrev dktX0_law_0 : List UInt8 := dkwX0_law_0 ++ dktX0_law_1
theorem dksX0_law_0 : cX0_law.data.toList.drop 0 = dktX0_law_0 := by decide +kernel
theorem dksX0_law_1 : cX0_law.data.toList.drop 22 = dktX0_law_1 := dk_seg dksX0_law_0 22 rfl rfl
theorem dksX0_law_2 : cX0_law.data.toList.drop 46 = dktX0_law_2 := dk_seg dksX0_law_1 24 rfl rfl
theorem dksX0_law_3 : cX0_law.data.toList.drop 70 = dktX0_law_3 := dk_seg dksX0_law_2 24 rfl rfl
theorem dksX0_law_4 : cX0_law.data.toList.drop 94 = dktX0_law_4 := dk_seg dksX0_law_3 24 rfl rfl
theorem dX0_law_0 : decode cX0_law 0 = .ok (.aload_n 0, 1) := dk_42 (dk_at dksX0_law_0 0 rfl rfl)
theorem dX0_law_1 : decode cX0_law 1 = .ok (.getfield 209, 3) := dk_180 0 209 (dk_at dksX0_law_0 1 rfl rfl)
theorem dX0_law_4 : decode cX0_law 4 = .ok (.istore_n 1, 1) := dk_60 (dk_at dksX0_law_0 4 rfl rfl)
theorem dX0_law_5 : decode cX0_law 5 = .ok (.aload_n 0, 1) := dk_42 (dk_at dksX0_law_0 5 rfl rfl)
theorem dX0_law_6 : decode cX0_law 6 = .ok (.iconst 0, 1) := dk_3 (dk_at dksX0_law_0 6 rfl rfl)
theorem dX0_law_7 : decode cX0_law 7 = .ok (.putfield 209, 3) := dk_181 0 209 (dk_at dksX0_law_0 7 rfl rfl)
theorem dX0_law_10 : decode cX0_law 10 = .ok (.aload_n 0, 1) := dk_42 (dk_at dksX0_law_0 10 rfl rfl)
theorem dX0_law_11 : decode cX0_law 11 = .ok (.getfield 39, 3) := dk_180 0 39 (dk_at dksX0_law_0 11 rfl rfl)
theorem dX0_law_14 : decode cX0_law 14 = .ok (.getfield 229, 3) := dk_180 0 229 (dk_at dksX0_law_0 14 rfl rfl)
theorem dX0_law_17 : decode cX0_law 17 = .ok (.invokevirtual 233, 3) := dk_182 0 233 (dk_at dksX0_law_0 17 rfl rfl)
theorem dX0_law_20 : decode cX0_law 20 = .ok (.bipush 6, 2) := dk_16 6 (dk_at dksX0_law_0 20 rfl rfl)
theorem dX0_law_22 : decode cX0_law 22 = .ok (.if_icmp .ne 10, 3) := dk_160 0 10 (dk_at dksX0_law_1 0 rfl rfl)
theorem dX0_law_25 : decode cX0_law 25 = .ok (.aload_n 0, 1) := dk_42 (dk_at dksX0_law_1 3 rfl rfl)
theorem dX0_law_26 : decode cX0_law 26 = .ok (.bipush (-5), 2) := dk_16 251 (dk_at dksX0_law_1 4 rfl rfl)
theorem dX0_law_28 : decode cX0_law 28 = .ok (.invokevirtual 130, 3) := dk_182 0 130 (dk_at dksX0_law_1 6 rfl rfl)
theorem dX0_law_31 : decode cX0_law 31 = .ok (.ireturn, 1) := dk_172 (dk_at dksX0_law_1 9 rfl rfl)
theorem dX0_law_32 : decode cX0_law 32 = .ok (.new 239, 3) := dk_187 0 239 (dk_at dksX0_law_1 10 rfl rfl)
theorem dX0_law_35 : decode cX0_law 35 = .ok (.dup, 1) := dk_89 (dk_at dksX0_law_1 13 rfl rfl)
theorem dX0_law_36 : decode cX0_law 36 = .ok (.aload_n 0, 1) := dk_42 (dk_at dksX0_law_1 14 rfl rfl)
theorem dX0_law_37 : decode cX0_law 37 = .ok (.getfield 70, 3) := dk_180 0 70 (dk_at dksX0_law_1 15 rfl rfl)
theorem dX0_law_40 : decode cX0_law 40 = .ok (.iload_n 1, 1) := dk_27 (dk_at dksX0_law_1 18 rfl rfl)
theorem dX0_law_41 : decode cX0_law 41 = .ok (.invokespecial 241, 3) := dk_183 0 241 (dk_at dksX0_law_1 19 rfl rfl)
theorem dX0_law_44 : decode cX0_law 44 = .ok (.astore_n 2, 1) := dk_77 (dk_at dksX0_law_1 22 rfl rfl)
theorem dX0_law_45 : decode cX0_law 45 = .ok (.aload_n 0, 1) := dk_42 (dk_at dksX0_law_1 23 rfl rfl)
theorem dX0_law_46 : decode cX0_law 46 = .ok (.aload_n 2, 1) := dk_44 (dk_at dksX0_law_2 0 rfl rfl)
theorem dX0_law_47 : decode cX0_law 47 = .ok (.invokevirtual 244, 3) := dk_182 0 244 (dk_at dksX0_law_2 1 rfl rfl)
theorem dX0_law_50 : decode cX0_law 50 = .ok (.ifCond .ne 10, 3) := dk_154 0 10 (dk_at dksX0_law_2 4 rfl rfl)
theorem dX0_law_53 : decode cX0_law 53 = .ok (.aload_n 0, 1) := dk_42 (dk_at dksX0_law_2 7 rfl rfl)
theorem dX0_law_54 : decode cX0_law 54 = .ok (.bipush (-6), 2) := dk_16 250 (dk_at dksX0_law_2 8 rfl rfl)
theorem dX0_law_56 : decode cX0_law 56 = .ok (.invokevirtual 130, 3) := dk_182 0 130 (dk_at dksX0_law_2 10 rfl rfl)
theorem dX0_law_59 : decode cX0_law 59 = .ok (.ireturn, 1) := dk_172 (dk_at dksX0_law_2 13 rfl rfl)
theorem dX0_law_60 : decode cX0_law 60 = .ok (.aload_n 0, 1) := dk_42 (dk_at dksX0_law_2 14 rfl rfl)
theorem dX0_law_61 : decode cX0_law 61 = .ok (.getfield 39, 3) := dk_180 0 39 (dk_at dksX0_law_2 15 rfl rfl)
theorem dX0_law_64 : decode cX0_law 64 = .ok (.getfield 229, 3) := dk_180 0 229 (dk_at dksX0_law_2 18 rfl rfl)
theorem dX0_law_67 : decode cX0_law 67 = .ok (.new 248, 3) := dk_187 0 248 (dk_at dksX0_law_2 21 rfl rfl)
theorem dX0_law_70 : decode cX0_law 70 = .ok (.dup, 1) := dk_89 (dk_at dksX0_law_3 0 rfl rfl)
theorem dX0_law_71 : decode cX0_law 71 = .ok (.aload_n 2, 1) := dk_44 (dk_at dksX0_law_3 1 rfl rfl)
theorem dX0_law_72 : decode cX0_law 72 = .ok (.getfield 250, 3) := dk_180 0 250 (dk_at dksX0_law_3 2 rfl rfl)
theorem dX0_law_75 : decode cX0_law 75 = .ok (.invokespecial 253, 3) := dk_183 0 253 (dk_at dksX0_law_3 5 rfl rfl)
theorem dX0_law_78 : decode cX0_law 78 = .ok (.invokevirtual 256, 3) := dk_182 1 0 (dk_at dksX0_law_3 8 rfl rfl)
theorem dX0_law_81 : decode cX0_law 81 = .ok (.pop, 1) := dk_87 (dk_at dksX0_law_3 11 rfl rfl)
theorem dX0_law_82 : decode cX0_law 82 = .ok (.aload_n 0, 1) := dk_42 (dk_at dksX0_law_3 12 rfl rfl)
theorem dX0_law_83 : decode cX0_law 83 = .ok (.aload_n 0, 1) := dk_42 (dk_at dksX0_law_3 13 rfl rfl)
theorem dX0_law_84 : decode cX0_law 84 = .ok (.getfield 39, 3) := dk_180 0 39 (dk_at dksX0_law_3 14 rfl rfl)
theorem dX0_law_87 : decode cX0_law 87 = .ok (.getfield 229, 3) := dk_180 0 229 (dk_at dksX0_law_3 17 rfl rfl)
theorem dX0_law_90 : decode cX0_law 90 = .ok (.invokevirtual 233, 3) := dk_182 0 233 (dk_at dksX0_law_3 20 rfl rfl)
theorem dX0_law_93 : decode cX0_law 93 = .ok (.iconst 1, 1) := dk_4 (dk_at dksX0_law_3 23 rfl rfl)
theorem dX0_law_94 : decode cX0_law 94 = .ok (.isub, 1) := dk_100 (dk_at dksX0_law_4 0 rfl rfl)
theorem dX0_law_95 : decode cX0_law 95 = .ok (.invokevirtual 121, 3) := dk_182 0 121 (dk_at dksX0_law_4 1 rfl rfl)
theorem dX0_law_98 : decode cX0_law 98 = .ok (.ireturn, 1) := dk_172 (dk_at dksX0_law_4 4 rfl rfl)
abbrev cX0_reads : ByteArray := prog_1_method_28_code
def yX0_reads : MethodName := ⟨RX0, "reads", "(LLostLanes$Reader;)Z"⟩
def dkwX0_reads_1 : List UInt8 := [172]
abbrev dktX0_reads_1 : List UInt8 := dkwX0_reads_1 ++ []
def dkwX0_reads_0 : List UInt8 := [43, 182, 0, 219, 167, 0, 14, 77, 42, 44, 180, 0, 226, 181, 0, 74, 3, 172, 42, 2, 181, 0, 74, 4]
abbrev dktX0_reads_0 : List UInt8 := dkwX0_reads_0 ++ dktX0_reads_1
theorem dksX0_reads_0 : cX0_reads.data.toList.drop 0 = dktX0_reads_0 := by decide +kernel
theorem dksX0_reads_1 : cX0_reads.data.toList.drop 24 = dktX0_reads_1 := dk_seg dksX0_reads_0 24 rfl rfl
theorem dX0_reads_0 : decode cX0_reads 0 = .ok (.aload_n 1, 1) := dk_43 (dk_at dksX0_reads_0 0 rfl rfl)
theorem dX0_reads_1 : decode cX0_reads 1 = .ok (.invokevirtual 219, 3) := dk_182 0 219 (dk_at dksX0_reads_0 1 rfl rfl)
theorem dX0_reads_4 : decode cX0_reads 4 = .ok (.goto 14, 3) := dk_167 0 14 (dk_at dksX0_reads_0 4 rfl rfl)
theorem dX0_reads_7 : decode cX0_reads 7 = .ok (.astore_n 2, 1) := dk_77 (dk_at dksX0_reads_0 7 rfl rfl)
theorem dX0_reads_8 : decode cX0_reads 8 = .ok (.aload_n 0, 1) := dk_42 (dk_at dksX0_reads_0 8 rfl rfl)
theorem dX0_reads_9 : decode cX0_reads 9 = .ok (.aload_n 2, 1) := dk_44 (dk_at dksX0_reads_0 9 rfl rfl)
theorem dX0_reads_10 : decode cX0_reads 10 = .ok (.getfield 226, 3) := dk_180 0 226 (dk_at dksX0_reads_0 10 rfl rfl)
theorem dX0_reads_13 : decode cX0_reads 13 = .ok (.putfield 74, 3) := dk_181 0 74 (dk_at dksX0_reads_0 13 rfl rfl)
theorem dX0_reads_16 : decode cX0_reads 16 = .ok (.iconst 0, 1) := dk_3 (dk_at dksX0_reads_0 16 rfl rfl)
theorem dX0_reads_17 : decode cX0_reads 17 = .ok (.ireturn, 1) := dk_172 (dk_at dksX0_reads_0 17 rfl rfl)
theorem dX0_reads_18 : decode cX0_reads 18 = .ok (.aload_n 0, 1) := dk_42 (dk_at dksX0_reads_0 18 rfl rfl)
theorem dX0_reads_19 : decode cX0_reads 19 = .ok (.iconst (-1), 1) := dk_2 (dk_at dksX0_reads_0 19 rfl rfl)
theorem dX0_reads_20 : decode cX0_reads 20 = .ok (.putfield 74, 3) := dk_181 0 74 (dk_at dksX0_reads_0 20 rfl rfl)
theorem dX0_reads_23 : decode cX0_reads 23 = .ok (.iconst 1, 1) := dk_4 (dk_at dksX0_reads_0 23 rfl rfl)
theorem dX0_reads_24 : decode cX0_reads 24 = .ok (.ireturn, 1) := dk_172 (dk_at dksX0_reads_1 0 rfl rfl)
abbrev cX0_fault : ByteArray := prog_1_method_30_code
def yX0_fault : MethodName := ⟨RX0, "fault", "()I"⟩
theorem dX0_fault_0 : decode cX0_fault 0 = .ok (.aload_n 0, 1) := by decide +kernel
theorem dX0_fault_1 : decode cX0_fault 1 = .ok (.getfield 74, 3) := by decide +kernel
theorem dX0_fault_4 : decode cX0_fault 4 = .ok (.ireturn, 1) := by decide +kernel
abbrev cX0_stopped : ByteArray := prog_1_method_31_code
def yX0_stopped : MethodName := ⟨RX0, "stopped", "()I"⟩
theorem dX0_stopped_0 : decode cX0_stopped 0 = .ok (.aload_n 0, 1) := by decide +kernel
theorem dX0_stopped_1 : decode cX0_stopped 1 = .ok (.getfield 77, 3) := by decide +kernel
theorem dX0_stopped_4 : decode cX0_stopped 4 = .ok (.ireturn, 1) := by decide +kernel
abbrev cX0_force : ByteArray := prog_1_method_33_code
def yX0_force : MethodName := ⟨RX0, "force", "(I)I"⟩
def dkwX0_force_1 : List UInt8 := [180, 0, 39, 27, 181, 1, 7, 42, 28, 182, 0, 121, 172]
abbrev dktX0_force_1 : List UInt8 := dkwX0_force_1 ++ []
def dkwX0_force_0 : List UInt8 := [42, 27, 182, 1, 4, 154, 0, 10, 42, 16, 254, 182, 0, 130, 172, 42, 180, 0, 39, 180, 1, 7, 61, 42]
abbrev dktX0_force_0 : List UInt8 := dkwX0_force_0 ++ dktX0_force_1
theorem dksX0_force_0 : cX0_force.data.toList.drop 0 = dktX0_force_0 := by decide +kernel
theorem dksX0_force_1 : cX0_force.data.toList.drop 24 = dktX0_force_1 := dk_seg dksX0_force_0 24 rfl rfl
theorem dX0_force_0 : decode cX0_force 0 = .ok (.aload_n 0, 1) := dk_42 (dk_at dksX0_force_0 0 rfl rfl)
theorem dX0_force_1 : decode cX0_force 1 = .ok (.iload_n 1, 1) := dk_27 (dk_at dksX0_force_0 1 rfl rfl)
theorem dX0_force_2 : decode cX0_force 2 = .ok (.invokevirtual 260, 3) := dk_182 1 4 (dk_at dksX0_force_0 2 rfl rfl)
theorem dX0_force_5 : decode cX0_force 5 = .ok (.ifCond .ne 10, 3) := dk_154 0 10 (dk_at dksX0_force_0 5 rfl rfl)
theorem dX0_force_8 : decode cX0_force 8 = .ok (.aload_n 0, 1) := dk_42 (dk_at dksX0_force_0 8 rfl rfl)
theorem dX0_force_9 : decode cX0_force 9 = .ok (.bipush (-2), 2) := dk_16 254 (dk_at dksX0_force_0 9 rfl rfl)
theorem dX0_force_11 : decode cX0_force 11 = .ok (.invokevirtual 130, 3) := dk_182 0 130 (dk_at dksX0_force_0 11 rfl rfl)
theorem dX0_force_14 : decode cX0_force 14 = .ok (.ireturn, 1) := dk_172 (dk_at dksX0_force_0 14 rfl rfl)
theorem dX0_force_15 : decode cX0_force 15 = .ok (.aload_n 0, 1) := dk_42 (dk_at dksX0_force_0 15 rfl rfl)
theorem dX0_force_16 : decode cX0_force 16 = .ok (.getfield 39, 3) := dk_180 0 39 (dk_at dksX0_force_0 16 rfl rfl)
theorem dX0_force_19 : decode cX0_force 19 = .ok (.getfield 263, 3) := dk_180 1 7 (dk_at dksX0_force_0 19 rfl rfl)
theorem dX0_force_22 : decode cX0_force 22 = .ok (.istore_n 2, 1) := dk_61 (dk_at dksX0_force_0 22 rfl rfl)
theorem dX0_force_23 : decode cX0_force 23 = .ok (.aload_n 0, 1) := dk_42 (dk_at dksX0_force_0 23 rfl rfl)
theorem dX0_force_24 : decode cX0_force 24 = .ok (.getfield 39, 3) := dk_180 0 39 (dk_at dksX0_force_1 0 rfl rfl)
theorem dX0_force_27 : decode cX0_force 27 = .ok (.iload_n 1, 1) := dk_27 (dk_at dksX0_force_1 3 rfl rfl)
theorem dX0_force_28 : decode cX0_force 28 = .ok (.putfield 263, 3) := dk_181 1 7 (dk_at dksX0_force_1 4 rfl rfl)
theorem dX0_force_31 : decode cX0_force 31 = .ok (.aload_n 0, 1) := dk_42 (dk_at dksX0_force_1 7 rfl rfl)
theorem dX0_force_32 : decode cX0_force 32 = .ok (.iload_n 2, 1) := dk_28 (dk_at dksX0_force_1 8 rfl rfl)
theorem dX0_force_33 : decode cX0_force 33 = .ok (.invokevirtual 121, 3) := dk_182 0 121 (dk_at dksX0_force_1 9 rfl rfl)
theorem dX0_force_36 : decode cX0_force 36 = .ok (.ireturn, 1) := dk_172 (dk_at dksX0_force_1 12 rfl rfl)
abbrev cX0_isLaw : ByteArray := prog_1_method_32_code
def yX0_isLaw : MethodName := ⟨RX0, "isLaw", "(I)Z"⟩
def dkwX0_isLaw_0 : List UInt8 := [27, 2, 42, 180, 0, 39, 180, 0, 229, 182, 0, 233, 4, 100, 184, 0, 26, 172]
abbrev dktX0_isLaw_0 : List UInt8 := dkwX0_isLaw_0 ++ []
theorem dksX0_isLaw_0 : cX0_isLaw.data.toList.drop 0 = dktX0_isLaw_0 := by decide +kernel
theorem dX0_isLaw_0 : decode cX0_isLaw 0 = .ok (.iload_n 1, 1) := dk_27 (dk_at dksX0_isLaw_0 0 rfl rfl)
theorem dX0_isLaw_1 : decode cX0_isLaw 1 = .ok (.iconst (-1), 1) := dk_2 (dk_at dksX0_isLaw_0 1 rfl rfl)
theorem dX0_isLaw_2 : decode cX0_isLaw 2 = .ok (.aload_n 0, 1) := dk_42 (dk_at dksX0_isLaw_0 2 rfl rfl)
theorem dX0_isLaw_3 : decode cX0_isLaw 3 = .ok (.getfield 39, 3) := dk_180 0 39 (dk_at dksX0_isLaw_0 3 rfl rfl)
theorem dX0_isLaw_6 : decode cX0_isLaw 6 = .ok (.getfield 229, 3) := dk_180 0 229 (dk_at dksX0_isLaw_0 6 rfl rfl)
theorem dX0_isLaw_9 : decode cX0_isLaw 9 = .ok (.invokevirtual 233, 3) := dk_182 0 233 (dk_at dksX0_isLaw_0 9 rfl rfl)
theorem dX0_isLaw_12 : decode cX0_isLaw 12 = .ok (.iconst 1, 1) := dk_4 (dk_at dksX0_isLaw_0 12 rfl rfl)
theorem dX0_isLaw_13 : decode cX0_isLaw 13 = .ok (.isub, 1) := dk_100 (dk_at dksX0_isLaw_0 13 rfl rfl)
theorem dX0_isLaw_14 : decode cX0_isLaw 14 = .ok (.invokestatic 26, 3) := dk_184 0 26 (dk_at dksX0_isLaw_0 14 rfl rfl)
theorem dX0_isLaw_17 : decode cX0_isLaw 17 = .ok (.ireturn, 1) := dk_172 (dk_at dksX0_isLaw_0 17 rfl rfl)
abbrev cX0_wander : ByteArray := prog_1_method_49_code
def yX0_wander : MethodName := ⟨RX0, "wander", "(I)I"⟩
def dkwX0_wander_0 : List UInt8 := [42, 42, 27, 182, 1, 61, 182, 1, 64, 172]
abbrev dktX0_wander_0 : List UInt8 := dkwX0_wander_0 ++ []
theorem dksX0_wander_0 : cX0_wander.data.toList.drop 0 = dktX0_wander_0 := by decide +kernel
theorem dX0_wander_0 : decode cX0_wander 0 = .ok (.aload_n 0, 1) := dk_42 (dk_at dksX0_wander_0 0 rfl rfl)
theorem dX0_wander_1 : decode cX0_wander 1 = .ok (.aload_n 0, 1) := dk_42 (dk_at dksX0_wander_0 1 rfl rfl)
theorem dX0_wander_2 : decode cX0_wander 2 = .ok (.iload_n 1, 1) := dk_27 (dk_at dksX0_wander_0 2 rfl rfl)
theorem dX0_wander_3 : decode cX0_wander 3 = .ok (.invokevirtual 317, 3) := dk_182 1 61 (dk_at dksX0_wander_0 3 rfl rfl)
theorem dX0_wander_6 : decode cX0_wander 6 = .ok (.invokevirtual 320, 3) := dk_182 1 64 (dk_at dksX0_wander_0 6 rfl rfl)
theorem dX0_wander_9 : decode cX0_wander 9 = .ok (.ireturn, 1) := dk_172 (dk_at dksX0_wander_0 9 rfl rfl)
abbrev cX0_wandersKept : ByteArray := prog_1_method_44_code
def yX0_wandersKept : MethodName := ⟨RX0, "wandersKept", "(I)I"⟩
def dkwX0_wandersKept_2 : List UInt8 := [182, 0, 156, 180, 0, 176, 27, 46, 172]
abbrev dktX0_wandersKept_2 : List UInt8 := dkwX0_wandersKept_2 ++ []
def dkwX0_wandersKept_1 : List UInt8 := [160, 0, 6, 16, 253, 172, 42, 3, 182, 1, 50, 42, 42, 182, 0, 156, 27, 28, 182, 1, 43, 42]
abbrev dktX0_wandersKept_1 : List UInt8 := dkwX0_wandersKept_1 ++ dktX0_wandersKept_2
def dkwX0_wandersKept_0 : List UInt8 := [42, 27, 182, 0, 182, 154, 0, 6, 16, 254, 172, 42, 42, 182, 0, 156, 27, 182, 0, 189, 61, 28, 2]
abbrev dktX0_wandersKept_0 : List UInt8 := dkwX0_wandersKept_0 ++ dktX0_wandersKept_1
theorem dksX0_wandersKept_0 : cX0_wandersKept.data.toList.drop 0 = dktX0_wandersKept_0 := by decide +kernel
theorem dksX0_wandersKept_1 : cX0_wandersKept.data.toList.drop 23 = dktX0_wandersKept_1 := dk_seg dksX0_wandersKept_0 23 rfl rfl
theorem dksX0_wandersKept_2 : cX0_wandersKept.data.toList.drop 45 = dktX0_wandersKept_2 := dk_seg dksX0_wandersKept_1 22 rfl rfl
theorem dX0_wandersKept_0 : decode cX0_wandersKept 0 = .ok (.aload_n 0, 1) := dk_42 (dk_at dksX0_wandersKept_0 0 rfl rfl)
theorem dX0_wandersKept_1 : decode cX0_wandersKept 1 = .ok (.iload_n 1, 1) := dk_27 (dk_at dksX0_wandersKept_0 1 rfl rfl)
theorem dX0_wandersKept_2 : decode cX0_wandersKept 2 = .ok (.invokevirtual 182, 3) := dk_182 0 182 (dk_at dksX0_wandersKept_0 2 rfl rfl)
theorem dX0_wandersKept_5 : decode cX0_wandersKept 5 = .ok (.ifCond .ne 6, 3) := dk_154 0 6 (dk_at dksX0_wandersKept_0 5 rfl rfl)
theorem dX0_wandersKept_8 : decode cX0_wandersKept 8 = .ok (.bipush (-2), 2) := dk_16 254 (dk_at dksX0_wandersKept_0 8 rfl rfl)
theorem dX0_wandersKept_10 : decode cX0_wandersKept 10 = .ok (.ireturn, 1) := dk_172 (dk_at dksX0_wandersKept_0 10 rfl rfl)
theorem dX0_wandersKept_11 : decode cX0_wandersKept 11 = .ok (.aload_n 0, 1) := dk_42 (dk_at dksX0_wandersKept_0 11 rfl rfl)
theorem dX0_wandersKept_12 : decode cX0_wandersKept 12 = .ok (.aload_n 0, 1) := dk_42 (dk_at dksX0_wandersKept_0 12 rfl rfl)
theorem dX0_wandersKept_13 : decode cX0_wandersKept 13 = .ok (.invokevirtual 156, 3) := dk_182 0 156 (dk_at dksX0_wandersKept_0 13 rfl rfl)
theorem dX0_wandersKept_16 : decode cX0_wandersKept 16 = .ok (.iload_n 1, 1) := dk_27 (dk_at dksX0_wandersKept_0 16 rfl rfl)
theorem dX0_wandersKept_17 : decode cX0_wandersKept 17 = .ok (.invokevirtual 189, 3) := dk_182 0 189 (dk_at dksX0_wandersKept_0 17 rfl rfl)
theorem dX0_wandersKept_20 : decode cX0_wandersKept 20 = .ok (.istore_n 2, 1) := dk_61 (dk_at dksX0_wandersKept_0 20 rfl rfl)
theorem dX0_wandersKept_21 : decode cX0_wandersKept 21 = .ok (.iload_n 2, 1) := dk_28 (dk_at dksX0_wandersKept_0 21 rfl rfl)
theorem dX0_wandersKept_22 : decode cX0_wandersKept 22 = .ok (.iconst (-1), 1) := dk_2 (dk_at dksX0_wandersKept_0 22 rfl rfl)
theorem dX0_wandersKept_23 : decode cX0_wandersKept 23 = .ok (.if_icmp .ne 6, 3) := dk_160 0 6 (dk_at dksX0_wandersKept_1 0 rfl rfl)
theorem dX0_wandersKept_26 : decode cX0_wandersKept 26 = .ok (.bipush (-3), 2) := dk_16 253 (dk_at dksX0_wandersKept_1 3 rfl rfl)
theorem dX0_wandersKept_28 : decode cX0_wandersKept 28 = .ok (.ireturn, 1) := dk_172 (dk_at dksX0_wandersKept_1 5 rfl rfl)
theorem dX0_wandersKept_29 : decode cX0_wandersKept 29 = .ok (.aload_n 0, 1) := dk_42 (dk_at dksX0_wandersKept_1 6 rfl rfl)
theorem dX0_wandersKept_30 : decode cX0_wandersKept 30 = .ok (.iconst 0, 1) := dk_3 (dk_at dksX0_wandersKept_1 7 rfl rfl)
theorem dX0_wandersKept_31 : decode cX0_wandersKept 31 = .ok (.invokevirtual 306, 3) := dk_182 1 50 (dk_at dksX0_wandersKept_1 8 rfl rfl)
theorem dX0_wandersKept_34 : decode cX0_wandersKept 34 = .ok (.aload_n 0, 1) := dk_42 (dk_at dksX0_wandersKept_1 11 rfl rfl)
theorem dX0_wandersKept_35 : decode cX0_wandersKept 35 = .ok (.aload_n 0, 1) := dk_42 (dk_at dksX0_wandersKept_1 12 rfl rfl)
theorem dX0_wandersKept_36 : decode cX0_wandersKept 36 = .ok (.invokevirtual 156, 3) := dk_182 0 156 (dk_at dksX0_wandersKept_1 13 rfl rfl)
theorem dX0_wandersKept_39 : decode cX0_wandersKept 39 = .ok (.iload_n 1, 1) := dk_27 (dk_at dksX0_wandersKept_1 16 rfl rfl)
theorem dX0_wandersKept_40 : decode cX0_wandersKept 40 = .ok (.iload_n 2, 1) := dk_28 (dk_at dksX0_wandersKept_1 17 rfl rfl)
theorem dX0_wandersKept_41 : decode cX0_wandersKept 41 = .ok (.invokevirtual 299, 3) := dk_182 1 43 (dk_at dksX0_wandersKept_1 18 rfl rfl)
theorem dX0_wandersKept_44 : decode cX0_wandersKept 44 = .ok (.aload_n 0, 1) := dk_42 (dk_at dksX0_wandersKept_1 21 rfl rfl)
theorem dX0_wandersKept_45 : decode cX0_wandersKept 45 = .ok (.invokevirtual 156, 3) := dk_182 0 156 (dk_at dksX0_wandersKept_2 0 rfl rfl)
theorem dX0_wandersKept_48 : decode cX0_wandersKept 48 = .ok (.getfield 176, 3) := dk_180 0 176 (dk_at dksX0_wandersKept_2 3 rfl rfl)
theorem dX0_wandersKept_51 : decode cX0_wandersKept 51 = .ok (.iload_n 1, 1) := dk_27 (dk_at dksX0_wandersKept_2 6 rfl rfl)
theorem dX0_wandersKept_52 : decode cX0_wandersKept 52 = .ok (.iaload, 1) := dk_46 (dk_at dksX0_wandersKept_2 7 rfl rfl)
theorem dX0_wandersKept_53 : decode cX0_wandersKept 53 = .ok (.ireturn, 1) := dk_172 (dk_at dksX0_wandersKept_2 8 rfl rfl)
abbrev cX0_keeps : ByteArray := prog_1_method_43_code
def yX0_keeps : MethodName := ⟨RX0, "keeps", "(I)V"⟩
def dkwX0_keeps_4 : List UInt8 := [42, 180, 0, 56, 42, 180, 0, 118, 27, 79, 42, 89, 180, 0, 118, 4, 96, 181, 0, 118, 177]
abbrev dktX0_keeps_4 : List UInt8 := dkwX0_keeps_4 ++ []
def dkwX0_keeps_3 : List UInt8 := [180, 0, 118, 4, 100, 181, 0, 118, 42, 180, 0, 49, 42, 180, 0, 118, 50, 42, 182, 0, 156, 182, 1, 47]
abbrev dktX0_keeps_3 : List UInt8 := dkwX0_keeps_3 ++ dktX0_keeps_4
def dkwX0_keeps_2 : List UInt8 := [180, 0, 56, 29, 46, 79, 132, 3, 1, 167, 255, 219, 42, 180, 0, 49, 16, 15, 44, 83, 42, 89]
abbrev dktX0_keeps_2 : List UInt8 := dkwX0_keeps_2 ++ dktX0_keeps_3
def dkwX0_keeps_1 : List UInt8 := [42, 180, 0, 49, 29, 4, 100, 42, 180, 0, 49, 29, 50, 83, 42, 180, 0, 56, 29, 4, 100, 42]
abbrev dktX0_keeps_1 : List UInt8 := dkwX0_keeps_1 ++ dktX0_keeps_2
def dkwX0_keeps_0 : List UInt8 := [42, 180, 0, 118, 16, 16, 160, 0, 70, 42, 180, 0, 49, 3, 50, 77, 4, 62, 29, 16, 16, 162, 0, 37]
abbrev dktX0_keeps_0 : List UInt8 := dkwX0_keeps_0 ++ dktX0_keeps_1
theorem dksX0_keeps_0 : cX0_keeps.data.toList.drop 0 = dktX0_keeps_0 := by decide +kernel
theorem dksX0_keeps_1 : cX0_keeps.data.toList.drop 24 = dktX0_keeps_1 := dk_seg dksX0_keeps_0 24 rfl rfl
theorem dksX0_keeps_2 : cX0_keeps.data.toList.drop 46 = dktX0_keeps_2 := dk_seg dksX0_keeps_1 22 rfl rfl
theorem dksX0_keeps_3 : cX0_keeps.data.toList.drop 68 = dktX0_keeps_3 := dk_seg dksX0_keeps_2 22 rfl rfl
theorem dksX0_keeps_4 : cX0_keeps.data.toList.drop 92 = dktX0_keeps_4 := dk_seg dksX0_keeps_3 24 rfl rfl
theorem dX0_keeps_0 : decode cX0_keeps 0 = .ok (.aload_n 0, 1) := dk_42 (dk_at dksX0_keeps_0 0 rfl rfl)
theorem dX0_keeps_1 : decode cX0_keeps 1 = .ok (.getfield 118, 3) := dk_180 0 118 (dk_at dksX0_keeps_0 1 rfl rfl)
theorem dX0_keeps_4 : decode cX0_keeps 4 = .ok (.bipush 16, 2) := dk_16 16 (dk_at dksX0_keeps_0 4 rfl rfl)
theorem dX0_keeps_6 : decode cX0_keeps 6 = .ok (.if_icmp .ne 70, 3) := dk_160 0 70 (dk_at dksX0_keeps_0 6 rfl rfl)
theorem dX0_keeps_9 : decode cX0_keeps 9 = .ok (.aload_n 0, 1) := dk_42 (dk_at dksX0_keeps_0 9 rfl rfl)
theorem dX0_keeps_10 : decode cX0_keeps 10 = .ok (.getfield 49, 3) := dk_180 0 49 (dk_at dksX0_keeps_0 10 rfl rfl)
theorem dX0_keeps_13 : decode cX0_keeps 13 = .ok (.iconst 0, 1) := dk_3 (dk_at dksX0_keeps_0 13 rfl rfl)
theorem dX0_keeps_14 : decode cX0_keeps 14 = .ok (.aaload, 1) := dk_50 (dk_at dksX0_keeps_0 14 rfl rfl)
theorem dX0_keeps_15 : decode cX0_keeps 15 = .ok (.astore_n 2, 1) := dk_77 (dk_at dksX0_keeps_0 15 rfl rfl)
theorem dX0_keeps_16 : decode cX0_keeps 16 = .ok (.iconst 1, 1) := dk_4 (dk_at dksX0_keeps_0 16 rfl rfl)
theorem dX0_keeps_17 : decode cX0_keeps 17 = .ok (.istore_n 3, 1) := dk_62 (dk_at dksX0_keeps_0 17 rfl rfl)
theorem dX0_keeps_18 : decode cX0_keeps 18 = .ok (.iload_n 3, 1) := dk_29 (dk_at dksX0_keeps_0 18 rfl rfl)
theorem dX0_keeps_19 : decode cX0_keeps 19 = .ok (.bipush 16, 2) := dk_16 16 (dk_at dksX0_keeps_0 19 rfl rfl)
theorem dX0_keeps_21 : decode cX0_keeps 21 = .ok (.if_icmp .ge 37, 3) := dk_162 0 37 (dk_at dksX0_keeps_0 21 rfl rfl)
theorem dX0_keeps_24 : decode cX0_keeps 24 = .ok (.aload_n 0, 1) := dk_42 (dk_at dksX0_keeps_1 0 rfl rfl)
theorem dX0_keeps_25 : decode cX0_keeps 25 = .ok (.getfield 49, 3) := dk_180 0 49 (dk_at dksX0_keeps_1 1 rfl rfl)
theorem dX0_keeps_28 : decode cX0_keeps 28 = .ok (.iload_n 3, 1) := dk_29 (dk_at dksX0_keeps_1 4 rfl rfl)
theorem dX0_keeps_29 : decode cX0_keeps 29 = .ok (.iconst 1, 1) := dk_4 (dk_at dksX0_keeps_1 5 rfl rfl)
theorem dX0_keeps_30 : decode cX0_keeps 30 = .ok (.isub, 1) := dk_100 (dk_at dksX0_keeps_1 6 rfl rfl)
theorem dX0_keeps_31 : decode cX0_keeps 31 = .ok (.aload_n 0, 1) := dk_42 (dk_at dksX0_keeps_1 7 rfl rfl)
theorem dX0_keeps_32 : decode cX0_keeps 32 = .ok (.getfield 49, 3) := dk_180 0 49 (dk_at dksX0_keeps_1 8 rfl rfl)
theorem dX0_keeps_35 : decode cX0_keeps 35 = .ok (.iload_n 3, 1) := dk_29 (dk_at dksX0_keeps_1 11 rfl rfl)
theorem dX0_keeps_36 : decode cX0_keeps 36 = .ok (.aaload, 1) := dk_50 (dk_at dksX0_keeps_1 12 rfl rfl)
theorem dX0_keeps_37 : decode cX0_keeps 37 = .ok (.aastore, 1) := dk_83 (dk_at dksX0_keeps_1 13 rfl rfl)
theorem dX0_keeps_38 : decode cX0_keeps 38 = .ok (.aload_n 0, 1) := dk_42 (dk_at dksX0_keeps_1 14 rfl rfl)
theorem dX0_keeps_39 : decode cX0_keeps 39 = .ok (.getfield 56, 3) := dk_180 0 56 (dk_at dksX0_keeps_1 15 rfl rfl)
theorem dX0_keeps_42 : decode cX0_keeps 42 = .ok (.iload_n 3, 1) := dk_29 (dk_at dksX0_keeps_1 18 rfl rfl)
theorem dX0_keeps_43 : decode cX0_keeps 43 = .ok (.iconst 1, 1) := dk_4 (dk_at dksX0_keeps_1 19 rfl rfl)
theorem dX0_keeps_44 : decode cX0_keeps 44 = .ok (.isub, 1) := dk_100 (dk_at dksX0_keeps_1 20 rfl rfl)
theorem dX0_keeps_45 : decode cX0_keeps 45 = .ok (.aload_n 0, 1) := dk_42 (dk_at dksX0_keeps_1 21 rfl rfl)
theorem dX0_keeps_46 : decode cX0_keeps 46 = .ok (.getfield 56, 3) := dk_180 0 56 (dk_at dksX0_keeps_2 0 rfl rfl)
theorem dX0_keeps_49 : decode cX0_keeps 49 = .ok (.iload_n 3, 1) := dk_29 (dk_at dksX0_keeps_2 3 rfl rfl)
theorem dX0_keeps_50 : decode cX0_keeps 50 = .ok (.iaload, 1) := dk_46 (dk_at dksX0_keeps_2 4 rfl rfl)
theorem dX0_keeps_51 : decode cX0_keeps 51 = .ok (.iastore, 1) := dk_79 (dk_at dksX0_keeps_2 5 rfl rfl)
theorem dX0_keeps_52 : decode cX0_keeps 52 = .ok (.iinc 3 1, 3) := dk_132 3 1 (dk_at dksX0_keeps_2 6 rfl rfl)
theorem dX0_keeps_55 : decode cX0_keeps 55 = .ok (.goto (-37), 3) := dk_167 255 219 (dk_at dksX0_keeps_2 9 rfl rfl)
theorem dX0_keeps_58 : decode cX0_keeps 58 = .ok (.aload_n 0, 1) := dk_42 (dk_at dksX0_keeps_2 12 rfl rfl)
theorem dX0_keeps_59 : decode cX0_keeps 59 = .ok (.getfield 49, 3) := dk_180 0 49 (dk_at dksX0_keeps_2 13 rfl rfl)
theorem dX0_keeps_62 : decode cX0_keeps 62 = .ok (.bipush 15, 2) := dk_16 15 (dk_at dksX0_keeps_2 16 rfl rfl)
theorem dX0_keeps_64 : decode cX0_keeps 64 = .ok (.aload_n 2, 1) := dk_44 (dk_at dksX0_keeps_2 18 rfl rfl)
theorem dX0_keeps_65 : decode cX0_keeps 65 = .ok (.aastore, 1) := dk_83 (dk_at dksX0_keeps_2 19 rfl rfl)
theorem dX0_keeps_66 : decode cX0_keeps 66 = .ok (.aload_n 0, 1) := dk_42 (dk_at dksX0_keeps_2 20 rfl rfl)
theorem dX0_keeps_67 : decode cX0_keeps 67 = .ok (.dup, 1) := dk_89 (dk_at dksX0_keeps_2 21 rfl rfl)
theorem dX0_keeps_68 : decode cX0_keeps 68 = .ok (.getfield 118, 3) := dk_180 0 118 (dk_at dksX0_keeps_3 0 rfl rfl)
theorem dX0_keeps_71 : decode cX0_keeps 71 = .ok (.iconst 1, 1) := dk_4 (dk_at dksX0_keeps_3 3 rfl rfl)
theorem dX0_keeps_72 : decode cX0_keeps 72 = .ok (.isub, 1) := dk_100 (dk_at dksX0_keeps_3 4 rfl rfl)
theorem dX0_keeps_73 : decode cX0_keeps 73 = .ok (.putfield 118, 3) := dk_181 0 118 (dk_at dksX0_keeps_3 5 rfl rfl)
theorem dX0_keeps_76 : decode cX0_keeps 76 = .ok (.aload_n 0, 1) := dk_42 (dk_at dksX0_keeps_3 8 rfl rfl)
theorem dX0_keeps_77 : decode cX0_keeps 77 = .ok (.getfield 49, 3) := dk_180 0 49 (dk_at dksX0_keeps_3 9 rfl rfl)
theorem dX0_keeps_80 : decode cX0_keeps 80 = .ok (.aload_n 0, 1) := dk_42 (dk_at dksX0_keeps_3 12 rfl rfl)
theorem dX0_keeps_81 : decode cX0_keeps 81 = .ok (.getfield 118, 3) := dk_180 0 118 (dk_at dksX0_keeps_3 13 rfl rfl)
theorem dX0_keeps_84 : decode cX0_keeps 84 = .ok (.aaload, 1) := dk_50 (dk_at dksX0_keeps_3 16 rfl rfl)
theorem dX0_keeps_85 : decode cX0_keeps 85 = .ok (.aload_n 0, 1) := dk_42 (dk_at dksX0_keeps_3 17 rfl rfl)
theorem dX0_keeps_86 : decode cX0_keeps 86 = .ok (.invokevirtual 156, 3) := dk_182 0 156 (dk_at dksX0_keeps_3 18 rfl rfl)
theorem dX0_keeps_89 : decode cX0_keeps 89 = .ok (.invokevirtual 303, 3) := dk_182 1 47 (dk_at dksX0_keeps_3 21 rfl rfl)
theorem dX0_keeps_92 : decode cX0_keeps 92 = .ok (.aload_n 0, 1) := dk_42 (dk_at dksX0_keeps_4 0 rfl rfl)
theorem dX0_keeps_93 : decode cX0_keeps 93 = .ok (.getfield 56, 3) := dk_180 0 56 (dk_at dksX0_keeps_4 1 rfl rfl)
theorem dX0_keeps_96 : decode cX0_keeps 96 = .ok (.aload_n 0, 1) := dk_42 (dk_at dksX0_keeps_4 4 rfl rfl)
theorem dX0_keeps_97 : decode cX0_keeps 97 = .ok (.getfield 118, 3) := dk_180 0 118 (dk_at dksX0_keeps_4 5 rfl rfl)
theorem dX0_keeps_100 : decode cX0_keeps 100 = .ok (.iload_n 1, 1) := dk_27 (dk_at dksX0_keeps_4 8 rfl rfl)
theorem dX0_keeps_101 : decode cX0_keeps 101 = .ok (.iastore, 1) := dk_79 (dk_at dksX0_keeps_4 9 rfl rfl)
theorem dX0_keeps_102 : decode cX0_keeps 102 = .ok (.aload_n 0, 1) := dk_42 (dk_at dksX0_keeps_4 10 rfl rfl)
theorem dX0_keeps_103 : decode cX0_keeps 103 = .ok (.dup, 1) := dk_89 (dk_at dksX0_keeps_4 11 rfl rfl)
theorem dX0_keeps_104 : decode cX0_keeps 104 = .ok (.getfield 118, 3) := dk_180 0 118 (dk_at dksX0_keeps_4 12 rfl rfl)
theorem dX0_keeps_107 : decode cX0_keeps 107 = .ok (.iconst 1, 1) := dk_4 (dk_at dksX0_keeps_4 15 rfl rfl)
theorem dX0_keeps_108 : decode cX0_keeps 108 = .ok (.iadd, 1) := dk_96 (dk_at dksX0_keeps_4 16 rfl rfl)
theorem dX0_keeps_109 : decode cX0_keeps 109 = .ok (.putfield 118, 3) := dk_181 0 118 (dk_at dksX0_keeps_4 17 rfl rfl)
theorem dX0_keeps_112 : decode cX0_keeps 112 = .ok (.return_, 1) := dk_177 (dk_at dksX0_keeps_4 20 rfl rfl)
abbrev cX0_goes : ByteArray := prog_1_method_40_code
def yX0_goes : MethodName := ⟨RX0, "goes", "(LLostLanes$Table;II)V"⟩
def dkwX0_goes_1 : List UInt8 := [28, 29, 79, 177]
abbrev dktX0_goes_1 : List UInt8 := dkwX0_goes_1 ++ []
def dkwX0_goes_0 : List UInt8 := [43, 180, 0, 176, 28, 42, 180, 0, 39, 29, 43, 180, 0, 176, 28, 46, 182, 1, 39, 79, 43, 180, 0, 179]
abbrev dktX0_goes_0 : List UInt8 := dkwX0_goes_0 ++ dktX0_goes_1
theorem dksX0_goes_0 : cX0_goes.data.toList.drop 0 = dktX0_goes_0 := by decide +kernel
theorem dksX0_goes_1 : cX0_goes.data.toList.drop 24 = dktX0_goes_1 := dk_seg dksX0_goes_0 24 rfl rfl
theorem dX0_goes_0 : decode cX0_goes 0 = .ok (.aload_n 1, 1) := dk_43 (dk_at dksX0_goes_0 0 rfl rfl)
theorem dX0_goes_1 : decode cX0_goes 1 = .ok (.getfield 176, 3) := dk_180 0 176 (dk_at dksX0_goes_0 1 rfl rfl)
theorem dX0_goes_4 : decode cX0_goes 4 = .ok (.iload_n 2, 1) := dk_28 (dk_at dksX0_goes_0 4 rfl rfl)
theorem dX0_goes_5 : decode cX0_goes 5 = .ok (.aload_n 0, 1) := dk_42 (dk_at dksX0_goes_0 5 rfl rfl)
theorem dX0_goes_6 : decode cX0_goes 6 = .ok (.getfield 39, 3) := dk_180 0 39 (dk_at dksX0_goes_0 6 rfl rfl)
theorem dX0_goes_9 : decode cX0_goes 9 = .ok (.iload_n 3, 1) := dk_29 (dk_at dksX0_goes_0 9 rfl rfl)
theorem dX0_goes_10 : decode cX0_goes 10 = .ok (.aload_n 1, 1) := dk_43 (dk_at dksX0_goes_0 10 rfl rfl)
theorem dX0_goes_11 : decode cX0_goes 11 = .ok (.getfield 176, 3) := dk_180 0 176 (dk_at dksX0_goes_0 11 rfl rfl)
theorem dX0_goes_14 : decode cX0_goes 14 = .ok (.iload_n 2, 1) := dk_28 (dk_at dksX0_goes_0 14 rfl rfl)
theorem dX0_goes_15 : decode cX0_goes 15 = .ok (.iaload, 1) := dk_46 (dk_at dksX0_goes_0 15 rfl rfl)
theorem dX0_goes_16 : decode cX0_goes 16 = .ok (.invokevirtual 295, 3) := dk_182 1 39 (dk_at dksX0_goes_0 16 rfl rfl)
theorem dX0_goes_19 : decode cX0_goes 19 = .ok (.iastore, 1) := dk_79 (dk_at dksX0_goes_0 19 rfl rfl)
theorem dX0_goes_20 : decode cX0_goes 20 = .ok (.aload_n 1, 1) := dk_43 (dk_at dksX0_goes_0 20 rfl rfl)
theorem dX0_goes_21 : decode cX0_goes 21 = .ok (.getfield 179, 3) := dk_180 0 179 (dk_at dksX0_goes_0 21 rfl rfl)
theorem dX0_goes_24 : decode cX0_goes 24 = .ok (.iload_n 2, 1) := dk_28 (dk_at dksX0_goes_1 0 rfl rfl)
theorem dX0_goes_25 : decode cX0_goes 25 = .ok (.iload_n 3, 1) := dk_29 (dk_at dksX0_goes_1 1 rfl rfl)
theorem dX0_goes_26 : decode cX0_goes 26 = .ok (.iastore, 1) := dk_79 (dk_at dksX0_goes_1 2 rfl rfl)
theorem dX0_goes_27 : decode cX0_goes 27 = .ok (.return_, 1) := dk_177 (dk_at dksX0_goes_1 3 rfl rfl)
abbrev cX0_doneOr : ByteArray := prog_1_method_48_code
def yX0_doneOr : MethodName := ⟨RX0, "doneOr", "(I)I"⟩
def dkwX0_doneOr_0 : List UInt8 := [27, 156, 0, 11, 42, 27, 182, 0, 130, 167, 0, 8, 42, 27, 182, 0, 121, 172]
abbrev dktX0_doneOr_0 : List UInt8 := dkwX0_doneOr_0 ++ []
theorem dksX0_doneOr_0 : cX0_doneOr.data.toList.drop 0 = dktX0_doneOr_0 := by decide +kernel
theorem dX0_doneOr_0 : decode cX0_doneOr 0 = .ok (.iload_n 1, 1) := dk_27 (dk_at dksX0_doneOr_0 0 rfl rfl)
theorem dX0_doneOr_1 : decode cX0_doneOr 1 = .ok (.ifCond .ge 11, 3) := dk_156 0 11 (dk_at dksX0_doneOr_0 1 rfl rfl)
theorem dX0_doneOr_4 : decode cX0_doneOr 4 = .ok (.aload_n 0, 1) := dk_42 (dk_at dksX0_doneOr_0 4 rfl rfl)
theorem dX0_doneOr_5 : decode cX0_doneOr 5 = .ok (.iload_n 1, 1) := dk_27 (dk_at dksX0_doneOr_0 5 rfl rfl)
theorem dX0_doneOr_6 : decode cX0_doneOr 6 = .ok (.invokevirtual 130, 3) := dk_182 0 130 (dk_at dksX0_doneOr_0 6 rfl rfl)
theorem dX0_doneOr_9 : decode cX0_doneOr 9 = .ok (.goto 8, 3) := dk_167 0 8 (dk_at dksX0_doneOr_0 9 rfl rfl)
theorem dX0_doneOr_12 : decode cX0_doneOr 12 = .ok (.aload_n 0, 1) := dk_42 (dk_at dksX0_doneOr_0 12 rfl rfl)
theorem dX0_doneOr_13 : decode cX0_doneOr 13 = .ok (.iload_n 1, 1) := dk_27 (dk_at dksX0_doneOr_0 13 rfl rfl)
theorem dX0_doneOr_14 : decode cX0_doneOr 14 = .ok (.invokevirtual 121, 3) := dk_182 0 121 (dk_at dksX0_doneOr_0 14 rfl rfl)
theorem dX0_doneOr_17 : decode cX0_doneOr 17 = .ok (.ireturn, 1) := dk_172 (dk_at dksX0_doneOr_0 17 rfl rfl)
abbrev cX0_cry : ByteArray := prog_1_method_50_code
def yX0_cry : MethodName := ⟨RX0, "cry", "(I)I"⟩
def dkwX0_cry_0 : List UInt8 := [42, 42, 27, 182, 1, 67, 182, 1, 64, 172]
abbrev dktX0_cry_0 : List UInt8 := dkwX0_cry_0 ++ []
theorem dksX0_cry_0 : cX0_cry.data.toList.drop 0 = dktX0_cry_0 := by decide +kernel
theorem dX0_cry_0 : decode cX0_cry 0 = .ok (.aload_n 0, 1) := dk_42 (dk_at dksX0_cry_0 0 rfl rfl)
theorem dX0_cry_1 : decode cX0_cry 1 = .ok (.aload_n 0, 1) := dk_42 (dk_at dksX0_cry_0 1 rfl rfl)
theorem dX0_cry_2 : decode cX0_cry 2 = .ok (.iload_n 1, 1) := dk_27 (dk_at dksX0_cry_0 2 rfl rfl)
theorem dX0_cry_3 : decode cX0_cry 3 = .ok (.invokevirtual 323, 3) := dk_182 1 67 (dk_at dksX0_cry_0 3 rfl rfl)
theorem dX0_cry_6 : decode cX0_cry 6 = .ok (.invokevirtual 320, 3) := dk_182 1 64 (dk_at dksX0_cry_0 6 rfl rfl)
theorem dX0_cry_9 : decode cX0_cry 9 = .ok (.ireturn, 1) := dk_172 (dk_at dksX0_cry_0 9 rfl rfl)
abbrev cX0_criesKept : ByteArray := prog_1_method_45_code
def yX0_criesKept : MethodName := ⟨RX0, "criesKept", "(I)I"⟩
def dkwX0_criesKept_2 : List UInt8 := [42, 182, 0, 156, 180, 0, 179, 27, 46, 46, 172]
abbrev dktX0_criesKept_2 : List UInt8 := dkwX0_criesKept_2 ++ []
def dkwX0_criesKept_1 : List UInt8 := [16, 253, 172, 42, 4, 182, 1, 50, 42, 42, 182, 0, 156, 27, 182, 1, 53, 42, 182, 0, 156, 180, 0, 159]
abbrev dktX0_criesKept_1 : List UInt8 := dkwX0_criesKept_1 ++ dktX0_criesKept_2
def dkwX0_criesKept_0 : List UInt8 := [42, 27, 182, 0, 182, 154, 0, 6, 16, 254, 172, 42, 182, 0, 156, 180, 0, 179, 27, 46, 2, 160, 0, 6]
abbrev dktX0_criesKept_0 : List UInt8 := dkwX0_criesKept_0 ++ dktX0_criesKept_1
theorem dksX0_criesKept_0 : cX0_criesKept.data.toList.drop 0 = dktX0_criesKept_0 := by decide +kernel
theorem dksX0_criesKept_1 : cX0_criesKept.data.toList.drop 24 = dktX0_criesKept_1 := dk_seg dksX0_criesKept_0 24 rfl rfl
theorem dksX0_criesKept_2 : cX0_criesKept.data.toList.drop 48 = dktX0_criesKept_2 := dk_seg dksX0_criesKept_1 24 rfl rfl
theorem dX0_criesKept_0 : decode cX0_criesKept 0 = .ok (.aload_n 0, 1) := dk_42 (dk_at dksX0_criesKept_0 0 rfl rfl)
theorem dX0_criesKept_1 : decode cX0_criesKept 1 = .ok (.iload_n 1, 1) := dk_27 (dk_at dksX0_criesKept_0 1 rfl rfl)
theorem dX0_criesKept_2 : decode cX0_criesKept 2 = .ok (.invokevirtual 182, 3) := dk_182 0 182 (dk_at dksX0_criesKept_0 2 rfl rfl)
theorem dX0_criesKept_5 : decode cX0_criesKept 5 = .ok (.ifCond .ne 6, 3) := dk_154 0 6 (dk_at dksX0_criesKept_0 5 rfl rfl)
theorem dX0_criesKept_8 : decode cX0_criesKept 8 = .ok (.bipush (-2), 2) := dk_16 254 (dk_at dksX0_criesKept_0 8 rfl rfl)
theorem dX0_criesKept_10 : decode cX0_criesKept 10 = .ok (.ireturn, 1) := dk_172 (dk_at dksX0_criesKept_0 10 rfl rfl)
theorem dX0_criesKept_11 : decode cX0_criesKept 11 = .ok (.aload_n 0, 1) := dk_42 (dk_at dksX0_criesKept_0 11 rfl rfl)
theorem dX0_criesKept_12 : decode cX0_criesKept 12 = .ok (.invokevirtual 156, 3) := dk_182 0 156 (dk_at dksX0_criesKept_0 12 rfl rfl)
theorem dX0_criesKept_15 : decode cX0_criesKept 15 = .ok (.getfield 179, 3) := dk_180 0 179 (dk_at dksX0_criesKept_0 15 rfl rfl)
theorem dX0_criesKept_18 : decode cX0_criesKept 18 = .ok (.iload_n 1, 1) := dk_27 (dk_at dksX0_criesKept_0 18 rfl rfl)
theorem dX0_criesKept_19 : decode cX0_criesKept 19 = .ok (.iaload, 1) := dk_46 (dk_at dksX0_criesKept_0 19 rfl rfl)
theorem dX0_criesKept_20 : decode cX0_criesKept 20 = .ok (.iconst (-1), 1) := dk_2 (dk_at dksX0_criesKept_0 20 rfl rfl)
theorem dX0_criesKept_21 : decode cX0_criesKept 21 = .ok (.if_icmp .ne 6, 3) := dk_160 0 6 (dk_at dksX0_criesKept_0 21 rfl rfl)
theorem dX0_criesKept_24 : decode cX0_criesKept 24 = .ok (.bipush (-3), 2) := dk_16 253 (dk_at dksX0_criesKept_1 0 rfl rfl)
theorem dX0_criesKept_26 : decode cX0_criesKept 26 = .ok (.ireturn, 1) := dk_172 (dk_at dksX0_criesKept_1 2 rfl rfl)
theorem dX0_criesKept_27 : decode cX0_criesKept 27 = .ok (.aload_n 0, 1) := dk_42 (dk_at dksX0_criesKept_1 3 rfl rfl)
theorem dX0_criesKept_28 : decode cX0_criesKept 28 = .ok (.iconst 1, 1) := dk_4 (dk_at dksX0_criesKept_1 4 rfl rfl)
theorem dX0_criesKept_29 : decode cX0_criesKept 29 = .ok (.invokevirtual 306, 3) := dk_182 1 50 (dk_at dksX0_criesKept_1 5 rfl rfl)
theorem dX0_criesKept_32 : decode cX0_criesKept 32 = .ok (.aload_n 0, 1) := dk_42 (dk_at dksX0_criesKept_1 8 rfl rfl)
theorem dX0_criesKept_33 : decode cX0_criesKept 33 = .ok (.aload_n 0, 1) := dk_42 (dk_at dksX0_criesKept_1 9 rfl rfl)
theorem dX0_criesKept_34 : decode cX0_criesKept 34 = .ok (.invokevirtual 156, 3) := dk_182 0 156 (dk_at dksX0_criesKept_1 10 rfl rfl)
theorem dX0_criesKept_37 : decode cX0_criesKept 37 = .ok (.iload_n 1, 1) := dk_27 (dk_at dksX0_criesKept_1 13 rfl rfl)
theorem dX0_criesKept_38 : decode cX0_criesKept 38 = .ok (.invokevirtual 309, 3) := dk_182 1 53 (dk_at dksX0_criesKept_1 14 rfl rfl)
theorem dX0_criesKept_41 : decode cX0_criesKept 41 = .ok (.aload_n 0, 1) := dk_42 (dk_at dksX0_criesKept_1 17 rfl rfl)
theorem dX0_criesKept_42 : decode cX0_criesKept 42 = .ok (.invokevirtual 156, 3) := dk_182 0 156 (dk_at dksX0_criesKept_1 18 rfl rfl)
theorem dX0_criesKept_45 : decode cX0_criesKept 45 = .ok (.getfield 159, 3) := dk_180 0 159 (dk_at dksX0_criesKept_1 21 rfl rfl)
theorem dX0_criesKept_48 : decode cX0_criesKept 48 = .ok (.aload_n 0, 1) := dk_42 (dk_at dksX0_criesKept_2 0 rfl rfl)
theorem dX0_criesKept_49 : decode cX0_criesKept 49 = .ok (.invokevirtual 156, 3) := dk_182 0 156 (dk_at dksX0_criesKept_2 1 rfl rfl)
theorem dX0_criesKept_52 : decode cX0_criesKept 52 = .ok (.getfield 179, 3) := dk_180 0 179 (dk_at dksX0_criesKept_2 4 rfl rfl)
theorem dX0_criesKept_55 : decode cX0_criesKept 55 = .ok (.iload_n 1, 1) := dk_27 (dk_at dksX0_criesKept_2 7 rfl rfl)
theorem dX0_criesKept_56 : decode cX0_criesKept 56 = .ok (.iaload, 1) := dk_46 (dk_at dksX0_criesKept_2 8 rfl rfl)
theorem dX0_criesKept_57 : decode cX0_criesKept 57 = .ok (.iaload, 1) := dk_46 (dk_at dksX0_criesKept_2 9 rfl rfl)
theorem dX0_criesKept_58 : decode cX0_criesKept 58 = .ok (.ireturn, 1) := dk_172 (dk_at dksX0_criesKept_2 10 rfl rfl)
abbrev cX0_criesOut : ByteArray := prog_1_method_41_code
def yX0_criesOut : MethodName := ⟨RX0, "criesOut", "(LLostLanes$Table;I)V"⟩
def dkwX0_criesOut_0 : List UInt8 := [43, 180, 0, 159, 43, 180, 0, 179, 28, 46, 42, 43, 28, 43, 180, 0, 179, 28, 46, 182, 0, 192, 79, 177]
abbrev dktX0_criesOut_0 : List UInt8 := dkwX0_criesOut_0 ++ []
theorem dksX0_criesOut_0 : cX0_criesOut.data.toList.drop 0 = dktX0_criesOut_0 := by decide +kernel
theorem dX0_criesOut_0 : decode cX0_criesOut 0 = .ok (.aload_n 1, 1) := dk_43 (dk_at dksX0_criesOut_0 0 rfl rfl)
theorem dX0_criesOut_1 : decode cX0_criesOut 1 = .ok (.getfield 159, 3) := dk_180 0 159 (dk_at dksX0_criesOut_0 1 rfl rfl)
theorem dX0_criesOut_4 : decode cX0_criesOut 4 = .ok (.aload_n 1, 1) := dk_43 (dk_at dksX0_criesOut_0 4 rfl rfl)
theorem dX0_criesOut_5 : decode cX0_criesOut 5 = .ok (.getfield 179, 3) := dk_180 0 179 (dk_at dksX0_criesOut_0 5 rfl rfl)
theorem dX0_criesOut_8 : decode cX0_criesOut 8 = .ok (.iload_n 2, 1) := dk_28 (dk_at dksX0_criesOut_0 8 rfl rfl)
theorem dX0_criesOut_9 : decode cX0_criesOut 9 = .ok (.iaload, 1) := dk_46 (dk_at dksX0_criesOut_0 9 rfl rfl)
theorem dX0_criesOut_10 : decode cX0_criesOut 10 = .ok (.aload_n 0, 1) := dk_42 (dk_at dksX0_criesOut_0 10 rfl rfl)
theorem dX0_criesOut_11 : decode cX0_criesOut 11 = .ok (.aload_n 1, 1) := dk_43 (dk_at dksX0_criesOut_0 11 rfl rfl)
theorem dX0_criesOut_12 : decode cX0_criesOut 12 = .ok (.iload_n 2, 1) := dk_28 (dk_at dksX0_criesOut_0 12 rfl rfl)
theorem dX0_criesOut_13 : decode cX0_criesOut 13 = .ok (.aload_n 1, 1) := dk_43 (dk_at dksX0_criesOut_0 13 rfl rfl)
theorem dX0_criesOut_14 : decode cX0_criesOut 14 = .ok (.getfield 179, 3) := dk_180 0 179 (dk_at dksX0_criesOut_0 14 rfl rfl)
theorem dX0_criesOut_17 : decode cX0_criesOut 17 = .ok (.iload_n 2, 1) := dk_28 (dk_at dksX0_criesOut_0 17 rfl rfl)
theorem dX0_criesOut_18 : decode cX0_criesOut 18 = .ok (.iaload, 1) := dk_46 (dk_at dksX0_criesOut_0 18 rfl rfl)
theorem dX0_criesOut_19 : decode cX0_criesOut 19 = .ok (.invokevirtual 192, 3) := dk_182 0 192 (dk_at dksX0_criesOut_0 19 rfl rfl)
theorem dX0_criesOut_22 : decode cX0_criesOut 22 = .ok (.iastore, 1) := dk_79 (dk_at dksX0_criesOut_0 22 rfl rfl)
theorem dX0_criesOut_23 : decode cX0_criesOut 23 = .ok (.return_, 1) := dk_177 (dk_at dksX0_criesOut_0 23 rfl rfl)
abbrev cX0_lead : ByteArray := prog_1_method_51_code
def yX0_lead : MethodName := ⟨RX0, "lead", "(II)I"⟩
def dkwX0_lead_0 : List UInt8 := [42, 42, 27, 28, 182, 1, 70, 182, 1, 64, 172]
abbrev dktX0_lead_0 : List UInt8 := dkwX0_lead_0 ++ []
theorem dksX0_lead_0 : cX0_lead.data.toList.drop 0 = dktX0_lead_0 := by decide +kernel
theorem dX0_lead_0 : decode cX0_lead 0 = .ok (.aload_n 0, 1) := dk_42 (dk_at dksX0_lead_0 0 rfl rfl)
theorem dX0_lead_1 : decode cX0_lead 1 = .ok (.aload_n 0, 1) := dk_42 (dk_at dksX0_lead_0 1 rfl rfl)
theorem dX0_lead_2 : decode cX0_lead 2 = .ok (.iload_n 1, 1) := dk_27 (dk_at dksX0_lead_0 2 rfl rfl)
theorem dX0_lead_3 : decode cX0_lead 3 = .ok (.iload_n 2, 1) := dk_28 (dk_at dksX0_lead_0 3 rfl rfl)
theorem dX0_lead_4 : decode cX0_lead 4 = .ok (.invokevirtual 326, 3) := dk_182 1 70 (dk_at dksX0_lead_0 4 rfl rfl)
theorem dX0_lead_7 : decode cX0_lead 7 = .ok (.invokevirtual 320, 3) := dk_182 1 64 (dk_at dksX0_lead_0 7 rfl rfl)
theorem dX0_lead_10 : decode cX0_lead 10 = .ok (.ireturn, 1) := dk_172 (dk_at dksX0_lead_0 10 rfl rfl)
abbrev cX0_leadsKept : ByteArray := prog_1_method_46_code
def yX0_leadsKept : MethodName := ⟨RX0, "leadsKept", "(II)I"⟩
def dkwX0_leadsKept_2 : List UInt8 := [180, 0, 176, 27, 28, 79, 29, 172]
abbrev dktX0_leadsKept_2 : List UInt8 := dkwX0_leadsKept_2 ++ []
def dkwX0_leadsKept_1 : List UInt8 := [180, 0, 176, 27, 46, 62, 29, 28, 160, 0, 6, 16, 253, 172, 42, 5, 182, 1, 50, 42, 182, 0, 156]
abbrev dktX0_leadsKept_1 : List UInt8 := dkwX0_leadsKept_1 ++ dktX0_leadsKept_2
def dkwX0_leadsKept_0 : List UInt8 := [28, 184, 0, 140, 154, 0, 5, 2, 172, 42, 27, 182, 0, 182, 154, 0, 6, 16, 254, 172, 42, 182, 0, 156]
abbrev dktX0_leadsKept_0 : List UInt8 := dkwX0_leadsKept_0 ++ dktX0_leadsKept_1
theorem dksX0_leadsKept_0 : cX0_leadsKept.data.toList.drop 0 = dktX0_leadsKept_0 := by decide +kernel
theorem dksX0_leadsKept_1 : cX0_leadsKept.data.toList.drop 24 = dktX0_leadsKept_1 := dk_seg dksX0_leadsKept_0 24 rfl rfl
theorem dksX0_leadsKept_2 : cX0_leadsKept.data.toList.drop 47 = dktX0_leadsKept_2 := dk_seg dksX0_leadsKept_1 23 rfl rfl
theorem dX0_leadsKept_0 : decode cX0_leadsKept 0 = .ok (.iload_n 2, 1) := dk_28 (dk_at dksX0_leadsKept_0 0 rfl rfl)
theorem dX0_leadsKept_1 : decode cX0_leadsKept 1 = .ok (.invokestatic 140, 3) := dk_184 0 140 (dk_at dksX0_leadsKept_0 1 rfl rfl)
theorem dX0_leadsKept_4 : decode cX0_leadsKept 4 = .ok (.ifCond .ne 5, 3) := dk_154 0 5 (dk_at dksX0_leadsKept_0 4 rfl rfl)
theorem dX0_leadsKept_7 : decode cX0_leadsKept 7 = .ok (.iconst (-1), 1) := dk_2 (dk_at dksX0_leadsKept_0 7 rfl rfl)
theorem dX0_leadsKept_8 : decode cX0_leadsKept 8 = .ok (.ireturn, 1) := dk_172 (dk_at dksX0_leadsKept_0 8 rfl rfl)
theorem dX0_leadsKept_9 : decode cX0_leadsKept 9 = .ok (.aload_n 0, 1) := dk_42 (dk_at dksX0_leadsKept_0 9 rfl rfl)
theorem dX0_leadsKept_10 : decode cX0_leadsKept 10 = .ok (.iload_n 1, 1) := dk_27 (dk_at dksX0_leadsKept_0 10 rfl rfl)
theorem dX0_leadsKept_11 : decode cX0_leadsKept 11 = .ok (.invokevirtual 182, 3) := dk_182 0 182 (dk_at dksX0_leadsKept_0 11 rfl rfl)
theorem dX0_leadsKept_14 : decode cX0_leadsKept 14 = .ok (.ifCond .ne 6, 3) := dk_154 0 6 (dk_at dksX0_leadsKept_0 14 rfl rfl)
theorem dX0_leadsKept_17 : decode cX0_leadsKept 17 = .ok (.bipush (-2), 2) := dk_16 254 (dk_at dksX0_leadsKept_0 17 rfl rfl)
theorem dX0_leadsKept_19 : decode cX0_leadsKept 19 = .ok (.ireturn, 1) := dk_172 (dk_at dksX0_leadsKept_0 19 rfl rfl)
theorem dX0_leadsKept_20 : decode cX0_leadsKept 20 = .ok (.aload_n 0, 1) := dk_42 (dk_at dksX0_leadsKept_0 20 rfl rfl)
theorem dX0_leadsKept_21 : decode cX0_leadsKept 21 = .ok (.invokevirtual 156, 3) := dk_182 0 156 (dk_at dksX0_leadsKept_0 21 rfl rfl)
theorem dX0_leadsKept_24 : decode cX0_leadsKept 24 = .ok (.getfield 176, 3) := dk_180 0 176 (dk_at dksX0_leadsKept_1 0 rfl rfl)
theorem dX0_leadsKept_27 : decode cX0_leadsKept 27 = .ok (.iload_n 1, 1) := dk_27 (dk_at dksX0_leadsKept_1 3 rfl rfl)
theorem dX0_leadsKept_28 : decode cX0_leadsKept 28 = .ok (.iaload, 1) := dk_46 (dk_at dksX0_leadsKept_1 4 rfl rfl)
theorem dX0_leadsKept_29 : decode cX0_leadsKept 29 = .ok (.istore_n 3, 1) := dk_62 (dk_at dksX0_leadsKept_1 5 rfl rfl)
theorem dX0_leadsKept_30 : decode cX0_leadsKept 30 = .ok (.iload_n 3, 1) := dk_29 (dk_at dksX0_leadsKept_1 6 rfl rfl)
theorem dX0_leadsKept_31 : decode cX0_leadsKept 31 = .ok (.iload_n 2, 1) := dk_28 (dk_at dksX0_leadsKept_1 7 rfl rfl)
theorem dX0_leadsKept_32 : decode cX0_leadsKept 32 = .ok (.if_icmp .ne 6, 3) := dk_160 0 6 (dk_at dksX0_leadsKept_1 8 rfl rfl)
theorem dX0_leadsKept_35 : decode cX0_leadsKept 35 = .ok (.bipush (-3), 2) := dk_16 253 (dk_at dksX0_leadsKept_1 11 rfl rfl)
theorem dX0_leadsKept_37 : decode cX0_leadsKept 37 = .ok (.ireturn, 1) := dk_172 (dk_at dksX0_leadsKept_1 13 rfl rfl)
theorem dX0_leadsKept_38 : decode cX0_leadsKept 38 = .ok (.aload_n 0, 1) := dk_42 (dk_at dksX0_leadsKept_1 14 rfl rfl)
theorem dX0_leadsKept_39 : decode cX0_leadsKept 39 = .ok (.iconst 2, 1) := dk_5 (dk_at dksX0_leadsKept_1 15 rfl rfl)
theorem dX0_leadsKept_40 : decode cX0_leadsKept 40 = .ok (.invokevirtual 306, 3) := dk_182 1 50 (dk_at dksX0_leadsKept_1 16 rfl rfl)
theorem dX0_leadsKept_43 : decode cX0_leadsKept 43 = .ok (.aload_n 0, 1) := dk_42 (dk_at dksX0_leadsKept_1 19 rfl rfl)
theorem dX0_leadsKept_44 : decode cX0_leadsKept 44 = .ok (.invokevirtual 156, 3) := dk_182 0 156 (dk_at dksX0_leadsKept_1 20 rfl rfl)
theorem dX0_leadsKept_47 : decode cX0_leadsKept 47 = .ok (.getfield 176, 3) := dk_180 0 176 (dk_at dksX0_leadsKept_2 0 rfl rfl)
theorem dX0_leadsKept_50 : decode cX0_leadsKept 50 = .ok (.iload_n 1, 1) := dk_27 (dk_at dksX0_leadsKept_2 3 rfl rfl)
theorem dX0_leadsKept_51 : decode cX0_leadsKept 51 = .ok (.iload_n 2, 1) := dk_28 (dk_at dksX0_leadsKept_2 4 rfl rfl)
theorem dX0_leadsKept_52 : decode cX0_leadsKept 52 = .ok (.iastore, 1) := dk_79 (dk_at dksX0_leadsKept_2 5 rfl rfl)
theorem dX0_leadsKept_53 : decode cX0_leadsKept 53 = .ok (.iload_n 3, 1) := dk_29 (dk_at dksX0_leadsKept_2 6 rfl rfl)
theorem dX0_leadsKept_54 : decode cX0_leadsKept 54 = .ok (.ireturn, 1) := dk_172 (dk_at dksX0_leadsKept_2 7 rfl rfl)
abbrev cX0_pass : ByteArray := prog_1_method_52_code
def yX0_pass : MethodName := ⟨RX0, "pass", "()I"⟩
def dkwX0_pass_0 : List UInt8 := [42, 42, 182, 1, 73, 182, 1, 64, 172]
abbrev dktX0_pass_0 : List UInt8 := dkwX0_pass_0 ++ []
theorem dksX0_pass_0 : cX0_pass.data.toList.drop 0 = dktX0_pass_0 := by decide +kernel
theorem dX0_pass_0 : decode cX0_pass 0 = .ok (.aload_n 0, 1) := dk_42 (dk_at dksX0_pass_0 0 rfl rfl)
theorem dX0_pass_1 : decode cX0_pass 1 = .ok (.aload_n 0, 1) := dk_42 (dk_at dksX0_pass_0 1 rfl rfl)
theorem dX0_pass_2 : decode cX0_pass 2 = .ok (.invokevirtual 329, 3) := dk_182 1 73 (dk_at dksX0_pass_0 2 rfl rfl)
theorem dX0_pass_5 : decode cX0_pass 5 = .ok (.invokevirtual 320, 3) := dk_182 1 64 (dk_at dksX0_pass_0 5 rfl rfl)
theorem dX0_pass_8 : decode cX0_pass 8 = .ok (.ireturn, 1) := dk_172 (dk_at dksX0_pass_0 8 rfl rfl)
abbrev cX0_passesKept : ByteArray := prog_1_method_47_code
def yX0_passesKept : MethodName := ⟨RX0, "passesKept", "()I"⟩
def dkwX0_passesKept_1 : List UInt8 := [182, 0, 156, 182, 1, 57, 172]
abbrev dktX0_passesKept_1 : List UInt8 := dkwX0_passesKept_1 ++ []
def dkwX0_passesKept_0 : List UInt8 := [42, 182, 0, 156, 180, 0, 200, 17, 3, 231, 160, 0, 6, 16, 253, 172, 42, 6, 182, 1, 50, 42, 42]
abbrev dktX0_passesKept_0 : List UInt8 := dkwX0_passesKept_0 ++ dktX0_passesKept_1
theorem dksX0_passesKept_0 : cX0_passesKept.data.toList.drop 0 = dktX0_passesKept_0 := by decide +kernel
theorem dksX0_passesKept_1 : cX0_passesKept.data.toList.drop 23 = dktX0_passesKept_1 := dk_seg dksX0_passesKept_0 23 rfl rfl
theorem dX0_passesKept_0 : decode cX0_passesKept 0 = .ok (.aload_n 0, 1) := dk_42 (dk_at dksX0_passesKept_0 0 rfl rfl)
theorem dX0_passesKept_1 : decode cX0_passesKept 1 = .ok (.invokevirtual 156, 3) := dk_182 0 156 (dk_at dksX0_passesKept_0 1 rfl rfl)
theorem dX0_passesKept_4 : decode cX0_passesKept 4 = .ok (.getfield 200, 3) := dk_180 0 200 (dk_at dksX0_passesKept_0 4 rfl rfl)
theorem dX0_passesKept_7 : decode cX0_passesKept 7 = .ok (.sipush 999, 3) := dk_17 3 231 (dk_at dksX0_passesKept_0 7 rfl rfl)
theorem dX0_passesKept_10 : decode cX0_passesKept 10 = .ok (.if_icmp .ne 6, 3) := dk_160 0 6 (dk_at dksX0_passesKept_0 10 rfl rfl)
theorem dX0_passesKept_13 : decode cX0_passesKept 13 = .ok (.bipush (-3), 2) := dk_16 253 (dk_at dksX0_passesKept_0 13 rfl rfl)
theorem dX0_passesKept_15 : decode cX0_passesKept 15 = .ok (.ireturn, 1) := dk_172 (dk_at dksX0_passesKept_0 15 rfl rfl)
theorem dX0_passesKept_16 : decode cX0_passesKept 16 = .ok (.aload_n 0, 1) := dk_42 (dk_at dksX0_passesKept_0 16 rfl rfl)
theorem dX0_passesKept_17 : decode cX0_passesKept 17 = .ok (.iconst 3, 1) := dk_6 (dk_at dksX0_passesKept_0 17 rfl rfl)
theorem dX0_passesKept_18 : decode cX0_passesKept 18 = .ok (.invokevirtual 306, 3) := dk_182 1 50 (dk_at dksX0_passesKept_0 18 rfl rfl)
theorem dX0_passesKept_21 : decode cX0_passesKept 21 = .ok (.aload_n 0, 1) := dk_42 (dk_at dksX0_passesKept_0 21 rfl rfl)
theorem dX0_passesKept_22 : decode cX0_passesKept 22 = .ok (.aload_n 0, 1) := dk_42 (dk_at dksX0_passesKept_0 22 rfl rfl)
theorem dX0_passesKept_23 : decode cX0_passesKept 23 = .ok (.invokevirtual 156, 3) := dk_182 0 156 (dk_at dksX0_passesKept_1 0 rfl rfl)
theorem dX0_passesKept_26 : decode cX0_passesKept 26 = .ok (.invokevirtual 313, 3) := dk_182 1 57 (dk_at dksX0_passesKept_1 3 rfl rfl)
theorem dX0_passesKept_29 : decode cX0_passesKept 29 = .ok (.ireturn, 1) := dk_172 (dk_at dksX0_passesKept_1 6 rfl rfl)
abbrev cX0_passes : ByteArray := prog_1_method_42_code
def yX0_passes : MethodName := ⟨RX0, "passes", "(LLostLanes$Table;)I"⟩
def dkwX0_passes_3 : List UInt8 := [132, 2, 1, 132, 3, 1, 167, 255, 214, 43, 89, 180, 0, 200, 4, 96, 181, 0, 200, 28, 172]
abbrev dktX0_passes_3 : List UInt8 := dkwX0_passes_3 ++ []
def dkwX0_passes_2 : List UInt8 := [180, 0, 90, 29, 46, 2, 160, 0, 6, 167, 0, 18, 42, 43, 29, 42, 180, 0, 90, 29, 46, 182, 1, 43]
abbrev dktX0_passes_2 : List UInt8 := dkwX0_passes_2 ++ dktX0_passes_3
def dkwX0_passes_1 : List UInt8 := [182, 0, 189, 79, 132, 3, 1, 167, 255, 230, 3, 62, 29, 42, 180, 0, 39, 180, 0, 127, 162, 0, 37, 42]
abbrev dktX0_passes_1 : List UInt8 := dkwX0_passes_1 ++ dktX0_passes_2
def dkwX0_passes_0 : List UInt8 := [3, 61, 3, 62, 29, 42, 180, 0, 39, 180, 0, 127, 162, 0, 21, 42, 180, 0, 90, 29, 42, 43, 29]
abbrev dktX0_passes_0 : List UInt8 := dkwX0_passes_0 ++ dktX0_passes_1
theorem dksX0_passes_0 : cX0_passes.data.toList.drop 0 = dktX0_passes_0 := by decide +kernel
theorem dksX0_passes_1 : cX0_passes.data.toList.drop 23 = dktX0_passes_1 := dk_seg dksX0_passes_0 23 rfl rfl
theorem dksX0_passes_2 : cX0_passes.data.toList.drop 47 = dktX0_passes_2 := dk_seg dksX0_passes_1 24 rfl rfl
theorem dksX0_passes_3 : cX0_passes.data.toList.drop 71 = dktX0_passes_3 := dk_seg dksX0_passes_2 24 rfl rfl
theorem dX0_passes_0 : decode cX0_passes 0 = .ok (.iconst 0, 1) := dk_3 (dk_at dksX0_passes_0 0 rfl rfl)
theorem dX0_passes_1 : decode cX0_passes 1 = .ok (.istore_n 2, 1) := dk_61 (dk_at dksX0_passes_0 1 rfl rfl)
theorem dX0_passes_2 : decode cX0_passes 2 = .ok (.iconst 0, 1) := dk_3 (dk_at dksX0_passes_0 2 rfl rfl)
theorem dX0_passes_3 : decode cX0_passes 3 = .ok (.istore_n 3, 1) := dk_62 (dk_at dksX0_passes_0 3 rfl rfl)
theorem dX0_passes_4 : decode cX0_passes 4 = .ok (.iload_n 3, 1) := dk_29 (dk_at dksX0_passes_0 4 rfl rfl)
theorem dX0_passes_5 : decode cX0_passes 5 = .ok (.aload_n 0, 1) := dk_42 (dk_at dksX0_passes_0 5 rfl rfl)
theorem dX0_passes_6 : decode cX0_passes 6 = .ok (.getfield 39, 3) := dk_180 0 39 (dk_at dksX0_passes_0 6 rfl rfl)
theorem dX0_passes_9 : decode cX0_passes 9 = .ok (.getfield 127, 3) := dk_180 0 127 (dk_at dksX0_passes_0 9 rfl rfl)
theorem dX0_passes_12 : decode cX0_passes 12 = .ok (.if_icmp .ge 21, 3) := dk_162 0 21 (dk_at dksX0_passes_0 12 rfl rfl)
theorem dX0_passes_15 : decode cX0_passes 15 = .ok (.aload_n 0, 1) := dk_42 (dk_at dksX0_passes_0 15 rfl rfl)
theorem dX0_passes_16 : decode cX0_passes 16 = .ok (.getfield 90, 3) := dk_180 0 90 (dk_at dksX0_passes_0 16 rfl rfl)
theorem dX0_passes_19 : decode cX0_passes 19 = .ok (.iload_n 3, 1) := dk_29 (dk_at dksX0_passes_0 19 rfl rfl)
theorem dX0_passes_20 : decode cX0_passes 20 = .ok (.aload_n 0, 1) := dk_42 (dk_at dksX0_passes_0 20 rfl rfl)
theorem dX0_passes_21 : decode cX0_passes 21 = .ok (.aload_n 1, 1) := dk_43 (dk_at dksX0_passes_0 21 rfl rfl)
theorem dX0_passes_22 : decode cX0_passes 22 = .ok (.iload_n 3, 1) := dk_29 (dk_at dksX0_passes_0 22 rfl rfl)
theorem dX0_passes_23 : decode cX0_passes 23 = .ok (.invokevirtual 189, 3) := dk_182 0 189 (dk_at dksX0_passes_1 0 rfl rfl)
theorem dX0_passes_26 : decode cX0_passes 26 = .ok (.iastore, 1) := dk_79 (dk_at dksX0_passes_1 3 rfl rfl)
theorem dX0_passes_27 : decode cX0_passes 27 = .ok (.iinc 3 1, 3) := dk_132 3 1 (dk_at dksX0_passes_1 4 rfl rfl)
theorem dX0_passes_30 : decode cX0_passes 30 = .ok (.goto (-26), 3) := dk_167 255 230 (dk_at dksX0_passes_1 7 rfl rfl)
theorem dX0_passes_33 : decode cX0_passes 33 = .ok (.iconst 0, 1) := dk_3 (dk_at dksX0_passes_1 10 rfl rfl)
theorem dX0_passes_34 : decode cX0_passes 34 = .ok (.istore_n 3, 1) := dk_62 (dk_at dksX0_passes_1 11 rfl rfl)
theorem dX0_passes_35 : decode cX0_passes 35 = .ok (.iload_n 3, 1) := dk_29 (dk_at dksX0_passes_1 12 rfl rfl)
theorem dX0_passes_36 : decode cX0_passes 36 = .ok (.aload_n 0, 1) := dk_42 (dk_at dksX0_passes_1 13 rfl rfl)
theorem dX0_passes_37 : decode cX0_passes 37 = .ok (.getfield 39, 3) := dk_180 0 39 (dk_at dksX0_passes_1 14 rfl rfl)
theorem dX0_passes_40 : decode cX0_passes 40 = .ok (.getfield 127, 3) := dk_180 0 127 (dk_at dksX0_passes_1 17 rfl rfl)
theorem dX0_passes_43 : decode cX0_passes 43 = .ok (.if_icmp .ge 37, 3) := dk_162 0 37 (dk_at dksX0_passes_1 20 rfl rfl)
theorem dX0_passes_46 : decode cX0_passes 46 = .ok (.aload_n 0, 1) := dk_42 (dk_at dksX0_passes_1 23 rfl rfl)
theorem dX0_passes_47 : decode cX0_passes 47 = .ok (.getfield 90, 3) := dk_180 0 90 (dk_at dksX0_passes_2 0 rfl rfl)
theorem dX0_passes_50 : decode cX0_passes 50 = .ok (.iload_n 3, 1) := dk_29 (dk_at dksX0_passes_2 3 rfl rfl)
theorem dX0_passes_51 : decode cX0_passes 51 = .ok (.iaload, 1) := dk_46 (dk_at dksX0_passes_2 4 rfl rfl)
theorem dX0_passes_52 : decode cX0_passes 52 = .ok (.iconst (-1), 1) := dk_2 (dk_at dksX0_passes_2 5 rfl rfl)
theorem dX0_passes_53 : decode cX0_passes 53 = .ok (.if_icmp .ne 6, 3) := dk_160 0 6 (dk_at dksX0_passes_2 6 rfl rfl)
theorem dX0_passes_56 : decode cX0_passes 56 = .ok (.goto 18, 3) := dk_167 0 18 (dk_at dksX0_passes_2 9 rfl rfl)
theorem dX0_passes_59 : decode cX0_passes 59 = .ok (.aload_n 0, 1) := dk_42 (dk_at dksX0_passes_2 12 rfl rfl)
theorem dX0_passes_60 : decode cX0_passes 60 = .ok (.aload_n 1, 1) := dk_43 (dk_at dksX0_passes_2 13 rfl rfl)
theorem dX0_passes_61 : decode cX0_passes 61 = .ok (.iload_n 3, 1) := dk_29 (dk_at dksX0_passes_2 14 rfl rfl)
theorem dX0_passes_62 : decode cX0_passes 62 = .ok (.aload_n 0, 1) := dk_42 (dk_at dksX0_passes_2 15 rfl rfl)
theorem dX0_passes_63 : decode cX0_passes 63 = .ok (.getfield 90, 3) := dk_180 0 90 (dk_at dksX0_passes_2 16 rfl rfl)
theorem dX0_passes_66 : decode cX0_passes 66 = .ok (.iload_n 3, 1) := dk_29 (dk_at dksX0_passes_2 19 rfl rfl)
theorem dX0_passes_67 : decode cX0_passes 67 = .ok (.iaload, 1) := dk_46 (dk_at dksX0_passes_2 20 rfl rfl)
theorem dX0_passes_68 : decode cX0_passes 68 = .ok (.invokevirtual 299, 3) := dk_182 1 43 (dk_at dksX0_passes_2 21 rfl rfl)
theorem dX0_passes_71 : decode cX0_passes 71 = .ok (.iinc 2 1, 3) := dk_132 2 1 (dk_at dksX0_passes_3 0 rfl rfl)
theorem dX0_passes_74 : decode cX0_passes 74 = .ok (.iinc 3 1, 3) := dk_132 3 1 (dk_at dksX0_passes_3 3 rfl rfl)
theorem dX0_passes_77 : decode cX0_passes 77 = .ok (.goto (-42), 3) := dk_167 255 214 (dk_at dksX0_passes_3 6 rfl rfl)
theorem dX0_passes_80 : decode cX0_passes 80 = .ok (.aload_n 1, 1) := dk_43 (dk_at dksX0_passes_3 9 rfl rfl)
theorem dX0_passes_81 : decode cX0_passes 81 = .ok (.dup, 1) := dk_89 (dk_at dksX0_passes_3 10 rfl rfl)
theorem dX0_passes_82 : decode cX0_passes 82 = .ok (.getfield 200, 3) := dk_180 0 200 (dk_at dksX0_passes_3 11 rfl rfl)
theorem dX0_passes_85 : decode cX0_passes 85 = .ok (.iconst 1, 1) := dk_4 (dk_at dksX0_passes_3 14 rfl rfl)
theorem dX0_passes_86 : decode cX0_passes 86 = .ok (.iadd, 1) := dk_96 (dk_at dksX0_passes_3 15 rfl rfl)
theorem dX0_passes_87 : decode cX0_passes 87 = .ok (.putfield 200, 3) := dk_181 0 200 (dk_at dksX0_passes_3 16 rfl rfl)
theorem dX0_passes_90 : decode cX0_passes 90 = .ok (.iload_n 2, 1) := dk_28 (dk_at dksX0_passes_3 19 rfl rfl)
theorem dX0_passes_91 : decode cX0_passes 91 = .ok (.ireturn, 1) := dk_172 (dk_at dksX0_passes_3 20 rfl rfl)
abbrev cX0_undo : ByteArray := prog_1_method_53_code
def yX0_undo : MethodName := ⟨RX0, "undo", "()I"⟩
def dkwX0_undo_2 : List UInt8 := [180, 0, 118, 46, 182, 0, 121, 172]
abbrev dktX0_undo_2 : List UInt8 := dkwX0_undo_2 ++ []
def dkwX0_undo_1 : List UInt8 := [42, 182, 0, 156, 42, 180, 0, 49, 42, 180, 0, 118, 50, 182, 1, 47, 42, 42, 180, 0, 56, 42]
abbrev dktX0_undo_1 : List UInt8 := dkwX0_undo_1 ++ dktX0_undo_2
def dkwX0_undo_0 : List UInt8 := [42, 180, 0, 118, 154, 0, 10, 42, 16, 253, 182, 0, 130, 172, 42, 89, 180, 0, 118, 4, 100, 181, 0, 118]
abbrev dktX0_undo_0 : List UInt8 := dkwX0_undo_0 ++ dktX0_undo_1
theorem dksX0_undo_0 : cX0_undo.data.toList.drop 0 = dktX0_undo_0 := by decide +kernel
theorem dksX0_undo_1 : cX0_undo.data.toList.drop 24 = dktX0_undo_1 := dk_seg dksX0_undo_0 24 rfl rfl
theorem dksX0_undo_2 : cX0_undo.data.toList.drop 46 = dktX0_undo_2 := dk_seg dksX0_undo_1 22 rfl rfl
theorem dX0_undo_0 : decode cX0_undo 0 = .ok (.aload_n 0, 1) := dk_42 (dk_at dksX0_undo_0 0 rfl rfl)
theorem dX0_undo_1 : decode cX0_undo 1 = .ok (.getfield 118, 3) := dk_180 0 118 (dk_at dksX0_undo_0 1 rfl rfl)
theorem dX0_undo_4 : decode cX0_undo 4 = .ok (.ifCond .ne 10, 3) := dk_154 0 10 (dk_at dksX0_undo_0 4 rfl rfl)
theorem dX0_undo_7 : decode cX0_undo 7 = .ok (.aload_n 0, 1) := dk_42 (dk_at dksX0_undo_0 7 rfl rfl)
theorem dX0_undo_8 : decode cX0_undo 8 = .ok (.bipush (-3), 2) := dk_16 253 (dk_at dksX0_undo_0 8 rfl rfl)
theorem dX0_undo_10 : decode cX0_undo 10 = .ok (.invokevirtual 130, 3) := dk_182 0 130 (dk_at dksX0_undo_0 10 rfl rfl)
theorem dX0_undo_13 : decode cX0_undo 13 = .ok (.ireturn, 1) := dk_172 (dk_at dksX0_undo_0 13 rfl rfl)
theorem dX0_undo_14 : decode cX0_undo 14 = .ok (.aload_n 0, 1) := dk_42 (dk_at dksX0_undo_0 14 rfl rfl)
theorem dX0_undo_15 : decode cX0_undo 15 = .ok (.dup, 1) := dk_89 (dk_at dksX0_undo_0 15 rfl rfl)
theorem dX0_undo_16 : decode cX0_undo 16 = .ok (.getfield 118, 3) := dk_180 0 118 (dk_at dksX0_undo_0 16 rfl rfl)
theorem dX0_undo_19 : decode cX0_undo 19 = .ok (.iconst 1, 1) := dk_4 (dk_at dksX0_undo_0 19 rfl rfl)
theorem dX0_undo_20 : decode cX0_undo 20 = .ok (.isub, 1) := dk_100 (dk_at dksX0_undo_0 20 rfl rfl)
theorem dX0_undo_21 : decode cX0_undo 21 = .ok (.putfield 118, 3) := dk_181 0 118 (dk_at dksX0_undo_0 21 rfl rfl)
theorem dX0_undo_24 : decode cX0_undo 24 = .ok (.aload_n 0, 1) := dk_42 (dk_at dksX0_undo_1 0 rfl rfl)
theorem dX0_undo_25 : decode cX0_undo 25 = .ok (.invokevirtual 156, 3) := dk_182 0 156 (dk_at dksX0_undo_1 1 rfl rfl)
theorem dX0_undo_28 : decode cX0_undo 28 = .ok (.aload_n 0, 1) := dk_42 (dk_at dksX0_undo_1 4 rfl rfl)
theorem dX0_undo_29 : decode cX0_undo 29 = .ok (.getfield 49, 3) := dk_180 0 49 (dk_at dksX0_undo_1 5 rfl rfl)
theorem dX0_undo_32 : decode cX0_undo 32 = .ok (.aload_n 0, 1) := dk_42 (dk_at dksX0_undo_1 8 rfl rfl)
theorem dX0_undo_33 : decode cX0_undo 33 = .ok (.getfield 118, 3) := dk_180 0 118 (dk_at dksX0_undo_1 9 rfl rfl)
theorem dX0_undo_36 : decode cX0_undo 36 = .ok (.aaload, 1) := dk_50 (dk_at dksX0_undo_1 12 rfl rfl)
theorem dX0_undo_37 : decode cX0_undo 37 = .ok (.invokevirtual 303, 3) := dk_182 1 47 (dk_at dksX0_undo_1 13 rfl rfl)
theorem dX0_undo_40 : decode cX0_undo 40 = .ok (.aload_n 0, 1) := dk_42 (dk_at dksX0_undo_1 16 rfl rfl)
theorem dX0_undo_41 : decode cX0_undo 41 = .ok (.aload_n 0, 1) := dk_42 (dk_at dksX0_undo_1 17 rfl rfl)
theorem dX0_undo_42 : decode cX0_undo 42 = .ok (.getfield 56, 3) := dk_180 0 56 (dk_at dksX0_undo_1 18 rfl rfl)
theorem dX0_undo_45 : decode cX0_undo 45 = .ok (.aload_n 0, 1) := dk_42 (dk_at dksX0_undo_1 21 rfl rfl)
theorem dX0_undo_46 : decode cX0_undo 46 = .ok (.getfield 118, 3) := dk_180 0 118 (dk_at dksX0_undo_2 0 rfl rfl)
theorem dX0_undo_49 : decode cX0_undo 49 = .ok (.iaload, 1) := dk_46 (dk_at dksX0_undo_2 3 rfl rfl)
theorem dX0_undo_50 : decode cX0_undo 50 = .ok (.invokevirtual 121, 3) := dk_182 0 121 (dk_at dksX0_undo_2 4 rfl rfl)
theorem dX0_undo_53 : decode cX0_undo 53 = .ok (.ireturn, 1) := dk_172 (dk_at dksX0_undo_2 7 rfl rfl)
abbrev cX0_where : ByteArray := prog_1_method_54_code
def yX0_where : MethodName := ⟨RX0, "where", "(II)I"⟩
def dkwX0_where_2 : List UInt8 := [132, 3, 1, 167, 255, 239, 42, 180, 0, 67, 180, 0, 176, 27, 46, 172]
abbrev dktX0_where_2 : List UInt8 := dkwX0_where_2 ++ []
def dkwX0_where_1 : List UInt8 := [42, 182, 0, 156, 182, 1, 47, 3, 62, 29, 28, 162, 0, 18, 42, 42, 180, 0, 67, 182, 1, 57, 87]
abbrev dktX0_where_1 : List UInt8 := dkwX0_where_1 ++ dktX0_where_2
def dkwX0_where_0 : List UInt8 := [42, 27, 182, 0, 182, 153, 0, 13, 28, 3, 16, 60, 184, 0, 26, 154, 0, 5, 2, 172, 42, 180, 0, 67]
abbrev dktX0_where_0 : List UInt8 := dkwX0_where_0 ++ dktX0_where_1
theorem dksX0_where_0 : cX0_where.data.toList.drop 0 = dktX0_where_0 := by decide +kernel
theorem dksX0_where_1 : cX0_where.data.toList.drop 24 = dktX0_where_1 := dk_seg dksX0_where_0 24 rfl rfl
theorem dksX0_where_2 : cX0_where.data.toList.drop 47 = dktX0_where_2 := dk_seg dksX0_where_1 23 rfl rfl
theorem dX0_where_0 : decode cX0_where 0 = .ok (.aload_n 0, 1) := dk_42 (dk_at dksX0_where_0 0 rfl rfl)
theorem dX0_where_1 : decode cX0_where 1 = .ok (.iload_n 1, 1) := dk_27 (dk_at dksX0_where_0 1 rfl rfl)
theorem dX0_where_2 : decode cX0_where 2 = .ok (.invokevirtual 182, 3) := dk_182 0 182 (dk_at dksX0_where_0 2 rfl rfl)
theorem dX0_where_5 : decode cX0_where 5 = .ok (.ifCond .eq 13, 3) := dk_153 0 13 (dk_at dksX0_where_0 5 rfl rfl)
theorem dX0_where_8 : decode cX0_where 8 = .ok (.iload_n 2, 1) := dk_28 (dk_at dksX0_where_0 8 rfl rfl)
theorem dX0_where_9 : decode cX0_where 9 = .ok (.iconst 0, 1) := dk_3 (dk_at dksX0_where_0 9 rfl rfl)
theorem dX0_where_10 : decode cX0_where 10 = .ok (.bipush 60, 2) := dk_16 60 (dk_at dksX0_where_0 10 rfl rfl)
theorem dX0_where_12 : decode cX0_where 12 = .ok (.invokestatic 26, 3) := dk_184 0 26 (dk_at dksX0_where_0 12 rfl rfl)
theorem dX0_where_15 : decode cX0_where 15 = .ok (.ifCond .ne 5, 3) := dk_154 0 5 (dk_at dksX0_where_0 15 rfl rfl)
theorem dX0_where_18 : decode cX0_where 18 = .ok (.iconst (-1), 1) := dk_2 (dk_at dksX0_where_0 18 rfl rfl)
theorem dX0_where_19 : decode cX0_where 19 = .ok (.ireturn, 1) := dk_172 (dk_at dksX0_where_0 19 rfl rfl)
theorem dX0_where_20 : decode cX0_where 20 = .ok (.aload_n 0, 1) := dk_42 (dk_at dksX0_where_0 20 rfl rfl)
theorem dX0_where_21 : decode cX0_where 21 = .ok (.getfield 67, 3) := dk_180 0 67 (dk_at dksX0_where_0 21 rfl rfl)
theorem dX0_where_24 : decode cX0_where 24 = .ok (.aload_n 0, 1) := dk_42 (dk_at dksX0_where_1 0 rfl rfl)
theorem dX0_where_25 : decode cX0_where 25 = .ok (.invokevirtual 156, 3) := dk_182 0 156 (dk_at dksX0_where_1 1 rfl rfl)
theorem dX0_where_28 : decode cX0_where 28 = .ok (.invokevirtual 303, 3) := dk_182 1 47 (dk_at dksX0_where_1 4 rfl rfl)
theorem dX0_where_31 : decode cX0_where 31 = .ok (.iconst 0, 1) := dk_3 (dk_at dksX0_where_1 7 rfl rfl)
theorem dX0_where_32 : decode cX0_where 32 = .ok (.istore_n 3, 1) := dk_62 (dk_at dksX0_where_1 8 rfl rfl)
theorem dX0_where_33 : decode cX0_where 33 = .ok (.iload_n 3, 1) := dk_29 (dk_at dksX0_where_1 9 rfl rfl)
theorem dX0_where_34 : decode cX0_where 34 = .ok (.iload_n 2, 1) := dk_28 (dk_at dksX0_where_1 10 rfl rfl)
theorem dX0_where_35 : decode cX0_where 35 = .ok (.if_icmp .ge 18, 3) := dk_162 0 18 (dk_at dksX0_where_1 11 rfl rfl)
theorem dX0_where_38 : decode cX0_where 38 = .ok (.aload_n 0, 1) := dk_42 (dk_at dksX0_where_1 14 rfl rfl)
theorem dX0_where_39 : decode cX0_where 39 = .ok (.aload_n 0, 1) := dk_42 (dk_at dksX0_where_1 15 rfl rfl)
theorem dX0_where_40 : decode cX0_where 40 = .ok (.getfield 67, 3) := dk_180 0 67 (dk_at dksX0_where_1 16 rfl rfl)
theorem dX0_where_43 : decode cX0_where 43 = .ok (.invokevirtual 313, 3) := dk_182 1 57 (dk_at dksX0_where_1 19 rfl rfl)
theorem dX0_where_46 : decode cX0_where 46 = .ok (.pop, 1) := dk_87 (dk_at dksX0_where_1 22 rfl rfl)
theorem dX0_where_47 : decode cX0_where 47 = .ok (.iinc 3 1, 3) := dk_132 3 1 (dk_at dksX0_where_2 0 rfl rfl)
theorem dX0_where_50 : decode cX0_where 50 = .ok (.goto (-17), 3) := dk_167 255 239 (dk_at dksX0_where_2 3 rfl rfl)
theorem dX0_where_53 : decode cX0_where 53 = .ok (.aload_n 0, 1) := dk_42 (dk_at dksX0_where_2 6 rfl rfl)
theorem dX0_where_54 : decode cX0_where 54 = .ok (.getfield 67, 3) := dk_180 0 67 (dk_at dksX0_where_2 7 rfl rfl)
theorem dX0_where_57 : decode cX0_where 57 = .ok (.getfield 176, 3) := dk_180 0 176 (dk_at dksX0_where_2 10 rfl rfl)
theorem dX0_where_60 : decode cX0_where 60 = .ok (.iload_n 1, 1) := dk_27 (dk_at dksX0_where_2 13 rfl rfl)
theorem dX0_where_61 : decode cX0_where 61 = .ok (.iaload, 1) := dk_46 (dk_at dksX0_where_2 14 rfl rfl)
theorem dX0_where_62 : decode cX0_where 62 = .ok (.ireturn, 1) := dk_172 (dk_at dksX0_where_2 15 rfl rfl)
abbrev cX0_again : ByteArray := prog_1_method_55_code
def yX0_again : MethodName := ⟨RX0, "again", "(I)I"⟩
def dkwX0_again_2 : List UInt8 := [182, 0, 156, 180, 0, 176, 27, 46, 160, 0, 5, 28, 172, 132, 2, 1, 167, 255, 215, 2, 172]
abbrev dktX0_again_2 : List UInt8 := dkwX0_again_2 ++ []
def dkwX0_again_1 : List UInt8 := [16, 60, 163, 0, 41, 42, 42, 180, 0, 67, 182, 1, 57, 87, 42, 180, 0, 67, 180, 0, 176, 27, 46, 42]
abbrev dktX0_again_1 : List UInt8 := dkwX0_again_1 ++ dktX0_again_2
def dkwX0_again_0 : List UInt8 := [42, 27, 182, 0, 182, 154, 0, 5, 2, 172, 42, 180, 0, 67, 42, 182, 0, 156, 182, 1, 47, 4, 61, 28]
abbrev dktX0_again_0 : List UInt8 := dkwX0_again_0 ++ dktX0_again_1
theorem dksX0_again_0 : cX0_again.data.toList.drop 0 = dktX0_again_0 := by decide +kernel
theorem dksX0_again_1 : cX0_again.data.toList.drop 24 = dktX0_again_1 := dk_seg dksX0_again_0 24 rfl rfl
theorem dksX0_again_2 : cX0_again.data.toList.drop 48 = dktX0_again_2 := dk_seg dksX0_again_1 24 rfl rfl
theorem dX0_again_0 : decode cX0_again 0 = .ok (.aload_n 0, 1) := dk_42 (dk_at dksX0_again_0 0 rfl rfl)
theorem dX0_again_1 : decode cX0_again 1 = .ok (.iload_n 1, 1) := dk_27 (dk_at dksX0_again_0 1 rfl rfl)
theorem dX0_again_2 : decode cX0_again 2 = .ok (.invokevirtual 182, 3) := dk_182 0 182 (dk_at dksX0_again_0 2 rfl rfl)
theorem dX0_again_5 : decode cX0_again 5 = .ok (.ifCond .ne 5, 3) := dk_154 0 5 (dk_at dksX0_again_0 5 rfl rfl)
theorem dX0_again_8 : decode cX0_again 8 = .ok (.iconst (-1), 1) := dk_2 (dk_at dksX0_again_0 8 rfl rfl)
theorem dX0_again_9 : decode cX0_again 9 = .ok (.ireturn, 1) := dk_172 (dk_at dksX0_again_0 9 rfl rfl)
theorem dX0_again_10 : decode cX0_again 10 = .ok (.aload_n 0, 1) := dk_42 (dk_at dksX0_again_0 10 rfl rfl)
theorem dX0_again_11 : decode cX0_again 11 = .ok (.getfield 67, 3) := dk_180 0 67 (dk_at dksX0_again_0 11 rfl rfl)
theorem dX0_again_14 : decode cX0_again 14 = .ok (.aload_n 0, 1) := dk_42 (dk_at dksX0_again_0 14 rfl rfl)
theorem dX0_again_15 : decode cX0_again 15 = .ok (.invokevirtual 156, 3) := dk_182 0 156 (dk_at dksX0_again_0 15 rfl rfl)
theorem dX0_again_18 : decode cX0_again 18 = .ok (.invokevirtual 303, 3) := dk_182 1 47 (dk_at dksX0_again_0 18 rfl rfl)
theorem dX0_again_21 : decode cX0_again 21 = .ok (.iconst 1, 1) := dk_4 (dk_at dksX0_again_0 21 rfl rfl)
theorem dX0_again_22 : decode cX0_again 22 = .ok (.istore_n 2, 1) := dk_61 (dk_at dksX0_again_0 22 rfl rfl)
theorem dX0_again_23 : decode cX0_again 23 = .ok (.iload_n 2, 1) := dk_28 (dk_at dksX0_again_0 23 rfl rfl)
theorem dX0_again_24 : decode cX0_again 24 = .ok (.bipush 60, 2) := dk_16 60 (dk_at dksX0_again_1 0 rfl rfl)
theorem dX0_again_26 : decode cX0_again 26 = .ok (.if_icmp .gt 41, 3) := dk_163 0 41 (dk_at dksX0_again_1 2 rfl rfl)
theorem dX0_again_29 : decode cX0_again 29 = .ok (.aload_n 0, 1) := dk_42 (dk_at dksX0_again_1 5 rfl rfl)
theorem dX0_again_30 : decode cX0_again 30 = .ok (.aload_n 0, 1) := dk_42 (dk_at dksX0_again_1 6 rfl rfl)
theorem dX0_again_31 : decode cX0_again 31 = .ok (.getfield 67, 3) := dk_180 0 67 (dk_at dksX0_again_1 7 rfl rfl)
theorem dX0_again_34 : decode cX0_again 34 = .ok (.invokevirtual 313, 3) := dk_182 1 57 (dk_at dksX0_again_1 10 rfl rfl)
theorem dX0_again_37 : decode cX0_again 37 = .ok (.pop, 1) := dk_87 (dk_at dksX0_again_1 13 rfl rfl)
theorem dX0_again_38 : decode cX0_again 38 = .ok (.aload_n 0, 1) := dk_42 (dk_at dksX0_again_1 14 rfl rfl)
theorem dX0_again_39 : decode cX0_again 39 = .ok (.getfield 67, 3) := dk_180 0 67 (dk_at dksX0_again_1 15 rfl rfl)
theorem dX0_again_42 : decode cX0_again 42 = .ok (.getfield 176, 3) := dk_180 0 176 (dk_at dksX0_again_1 18 rfl rfl)
theorem dX0_again_45 : decode cX0_again 45 = .ok (.iload_n 1, 1) := dk_27 (dk_at dksX0_again_1 21 rfl rfl)
theorem dX0_again_46 : decode cX0_again 46 = .ok (.iaload, 1) := dk_46 (dk_at dksX0_again_1 22 rfl rfl)
theorem dX0_again_47 : decode cX0_again 47 = .ok (.aload_n 0, 1) := dk_42 (dk_at dksX0_again_1 23 rfl rfl)
theorem dX0_again_48 : decode cX0_again 48 = .ok (.invokevirtual 156, 3) := dk_182 0 156 (dk_at dksX0_again_2 0 rfl rfl)
theorem dX0_again_51 : decode cX0_again 51 = .ok (.getfield 176, 3) := dk_180 0 176 (dk_at dksX0_again_2 3 rfl rfl)
theorem dX0_again_54 : decode cX0_again 54 = .ok (.iload_n 1, 1) := dk_27 (dk_at dksX0_again_2 6 rfl rfl)
theorem dX0_again_55 : decode cX0_again 55 = .ok (.iaload, 1) := dk_46 (dk_at dksX0_again_2 7 rfl rfl)
theorem dX0_again_56 : decode cX0_again 56 = .ok (.if_icmp .ne 5, 3) := dk_160 0 5 (dk_at dksX0_again_2 8 rfl rfl)
theorem dX0_again_59 : decode cX0_again 59 = .ok (.iload_n 2, 1) := dk_28 (dk_at dksX0_again_2 11 rfl rfl)
theorem dX0_again_60 : decode cX0_again 60 = .ok (.ireturn, 1) := dk_172 (dk_at dksX0_again_2 12 rfl rfl)
theorem dX0_again_61 : decode cX0_again 61 = .ok (.iinc 2 1, 3) := dk_132 2 1 (dk_at dksX0_again_2 13 rfl rfl)
theorem dX0_again_64 : decode cX0_again 64 = .ok (.goto (-41), 3) := dk_167 255 215 (dk_at dksX0_again_2 16 rfl rfl)
theorem dX0_again_67 : decode cX0_again 67 = .ok (.iconst (-1), 1) := dk_2 (dk_at dksX0_again_2 19 rfl rfl)
theorem dX0_again_68 : decode cX0_again 68 = .ok (.ireturn, 1) := dk_172 (dk_at dksX0_again_2 20 rfl rfl)
abbrev cX0_far : ByteArray := prog_1_method_58_code
def yX0_far : MethodName := ⟨RX0, "far", "(II)I"⟩
def dkwX0_far_1 : List UInt8 := [182, 1, 79, 19, 1, 76, 161, 0, 7, 2, 167, 0, 9, 42, 27, 28, 182, 1, 79, 172]
abbrev dktX0_far_1 : List UInt8 := dkwX0_far_1 ++ []
def dkwX0_far_0 : List UInt8 := [27, 184, 0, 140, 153, 0, 10, 28, 184, 0, 140, 154, 0, 5, 2, 172, 42, 182, 1, 82, 42, 27, 28]
abbrev dktX0_far_0 : List UInt8 := dkwX0_far_0 ++ dktX0_far_1
theorem dksX0_far_0 : cX0_far.data.toList.drop 0 = dktX0_far_0 := by decide +kernel
theorem dksX0_far_1 : cX0_far.data.toList.drop 23 = dktX0_far_1 := dk_seg dksX0_far_0 23 rfl rfl
theorem dX0_far_0 : decode cX0_far 0 = .ok (.iload_n 1, 1) := dk_27 (dk_at dksX0_far_0 0 rfl rfl)
theorem dX0_far_1 : decode cX0_far 1 = .ok (.invokestatic 140, 3) := dk_184 0 140 (dk_at dksX0_far_0 1 rfl rfl)
theorem dX0_far_4 : decode cX0_far 4 = .ok (.ifCond .eq 10, 3) := dk_153 0 10 (dk_at dksX0_far_0 4 rfl rfl)
theorem dX0_far_7 : decode cX0_far 7 = .ok (.iload_n 2, 1) := dk_28 (dk_at dksX0_far_0 7 rfl rfl)
theorem dX0_far_8 : decode cX0_far 8 = .ok (.invokestatic 140, 3) := dk_184 0 140 (dk_at dksX0_far_0 8 rfl rfl)
theorem dX0_far_11 : decode cX0_far 11 = .ok (.ifCond .ne 5, 3) := dk_154 0 5 (dk_at dksX0_far_0 11 rfl rfl)
theorem dX0_far_14 : decode cX0_far 14 = .ok (.iconst (-1), 1) := dk_2 (dk_at dksX0_far_0 14 rfl rfl)
theorem dX0_far_15 : decode cX0_far 15 = .ok (.ireturn, 1) := dk_172 (dk_at dksX0_far_0 15 rfl rfl)
theorem dX0_far_16 : decode cX0_far 16 = .ok (.aload_n 0, 1) := dk_42 (dk_at dksX0_far_0 16 rfl rfl)
theorem dX0_far_17 : decode cX0_far 17 = .ok (.invokevirtual 338, 3) := dk_182 1 82 (dk_at dksX0_far_0 17 rfl rfl)
theorem dX0_far_20 : decode cX0_far 20 = .ok (.aload_n 0, 1) := dk_42 (dk_at dksX0_far_0 20 rfl rfl)
theorem dX0_far_21 : decode cX0_far 21 = .ok (.iload_n 1, 1) := dk_27 (dk_at dksX0_far_0 21 rfl rfl)
theorem dX0_far_22 : decode cX0_far 22 = .ok (.iload_n 2, 1) := dk_28 (dk_at dksX0_far_0 22 rfl rfl)
theorem dX0_far_23 : decode cX0_far 23 = .ok (.invokevirtual 335, 3) := dk_182 1 79 (dk_at dksX0_far_1 0 rfl rfl)
theorem dX0_far_26 : decode cX0_far 26 = .ok (.ldc_w 332, 3) := dk_19 1 76 (dk_at dksX0_far_1 3 rfl rfl)
theorem dX0_far_29 : decode cX0_far 29 = .ok (.if_icmp .lt 7, 3) := dk_161 0 7 (dk_at dksX0_far_1 6 rfl rfl)
theorem dX0_far_32 : decode cX0_far 32 = .ok (.iconst (-1), 1) := dk_2 (dk_at dksX0_far_1 9 rfl rfl)
theorem dX0_far_33 : decode cX0_far 33 = .ok (.goto 9, 3) := dk_167 0 9 (dk_at dksX0_far_1 10 rfl rfl)
theorem dX0_far_36 : decode cX0_far 36 = .ok (.aload_n 0, 1) := dk_42 (dk_at dksX0_far_1 13 rfl rfl)
theorem dX0_far_37 : decode cX0_far 37 = .ok (.iload_n 1, 1) := dk_27 (dk_at dksX0_far_1 14 rfl rfl)
theorem dX0_far_38 : decode cX0_far 38 = .ok (.iload_n 2, 1) := dk_28 (dk_at dksX0_far_1 15 rfl rfl)
theorem dX0_far_39 : decode cX0_far 39 = .ok (.invokevirtual 335, 3) := dk_182 1 79 (dk_at dksX0_far_1 16 rfl rfl)
theorem dX0_far_42 : decode cX0_far 42 = .ok (.ireturn, 1) := dk_172 (dk_at dksX0_far_1 19 rfl rfl)
abbrev cX0_laysFar : ByteArray := prog_1_method_57_code
def yX0_laysFar : MethodName := ⟨RX0, "laysFar", "()V"⟩
def dkwX0_laysFar_8 : List UInt8 := [96, 184, 1, 77, 79, 132, 3, 1, 167, 255, 214, 132, 2, 1, 167, 255, 200, 132, 1, 1, 167, 255, 186, 177]
abbrev dktX0_laysFar_8 : List UInt8 := dkwX0_laysFar_8 ++ []
def dkwX0_laysFar_7 : List UInt8 := [16, 8, 28, 104, 29, 96, 42, 28, 29, 182, 1, 79, 42, 28, 27, 182, 1, 79, 42, 27, 29, 182, 1, 79]
abbrev dktX0_laysFar_7 : List UInt8 := dkwX0_laysFar_7 ++ dktX0_laysFar_8
def dkwX0_laysFar_6 : List UInt8 := [162, 0, 70, 3, 61, 28, 16, 8, 162, 0, 56, 3, 62, 29, 16, 8, 162, 0, 42, 42, 180, 0, 93]
abbrev dktX0_laysFar_6 : List UInt8 := dkwX0_laysFar_6 ++ dktX0_laysFar_7
def dkwX0_laysFar_5 : List UInt8 := [180, 0, 144, 27, 46, 96, 42, 180, 0, 93, 28, 46, 79, 132, 1, 1, 167, 255, 162, 3, 60, 27, 16, 8]
abbrev dktX0_laysFar_5 : List UInt8 := dkwX0_laysFar_5 ++ dktX0_laysFar_6
def dkwX0_laysFar_4 : List UInt8 := [184, 1, 77, 79, 42, 180, 0, 93, 16, 8, 42, 180, 0, 39, 180, 0, 147, 27, 46, 104, 42, 180, 0, 39]
abbrev dktX0_laysFar_4 : List UInt8 := dkwX0_laysFar_4 ++ dktX0_laysFar_5
def dkwX0_laysFar_3 : List UInt8 := [96, 61, 42, 180, 0, 93, 28, 42, 180, 0, 93, 28, 46, 42, 180, 0, 39, 180, 0, 150, 27, 46]
abbrev dktX0_laysFar_3 : List UInt8 := dkwX0_laysFar_3 ++ dktX0_laysFar_4
def dkwX0_laysFar_2 : List UInt8 := [162, 0, 89, 16, 8, 42, 180, 0, 39, 180, 0, 144, 27, 46, 104, 42, 180, 0, 39, 180, 0, 147, 27, 46]
abbrev dktX0_laysFar_2 : List UInt8 := dkwX0_laysFar_2 ++ dktX0_laysFar_3
def dkwX0_laysFar_1 : List UInt8 := [3, 167, 0, 6, 19, 1, 76, 79, 132, 1, 1, 167, 255, 223, 3, 60, 27, 42, 180, 0, 39, 180, 0, 124]
abbrev dktX0_laysFar_1 : List UInt8 := dkwX0_laysFar_1 ++ dktX0_laysFar_2
def dkwX0_laysFar_0 : List UInt8 := [3, 60, 27, 16, 64, 162, 0, 33, 42, 180, 0, 93, 27, 27, 16, 8, 108, 27, 16, 8, 112, 160, 0, 7]
abbrev dktX0_laysFar_0 : List UInt8 := dkwX0_laysFar_0 ++ dktX0_laysFar_1
theorem dksX0_laysFar_0 : cX0_laysFar.data.toList.drop 0 = dktX0_laysFar_0 := by decide +kernel
theorem dksX0_laysFar_1 : cX0_laysFar.data.toList.drop 24 = dktX0_laysFar_1 := dk_seg dksX0_laysFar_0 24 rfl rfl
theorem dksX0_laysFar_2 : cX0_laysFar.data.toList.drop 48 = dktX0_laysFar_2 := dk_seg dksX0_laysFar_1 24 rfl rfl
theorem dksX0_laysFar_3 : cX0_laysFar.data.toList.drop 72 = dktX0_laysFar_3 := dk_seg dksX0_laysFar_2 24 rfl rfl
theorem dksX0_laysFar_4 : cX0_laysFar.data.toList.drop 94 = dktX0_laysFar_4 := dk_seg dksX0_laysFar_3 22 rfl rfl
theorem dksX0_laysFar_5 : cX0_laysFar.data.toList.drop 118 = dktX0_laysFar_5 := dk_seg dksX0_laysFar_4 24 rfl rfl
theorem dksX0_laysFar_6 : cX0_laysFar.data.toList.drop 142 = dktX0_laysFar_6 := dk_seg dksX0_laysFar_5 24 rfl rfl
theorem dksX0_laysFar_7 : cX0_laysFar.data.toList.drop 165 = dktX0_laysFar_7 := dk_seg dksX0_laysFar_6 23 rfl rfl
theorem dksX0_laysFar_8 : cX0_laysFar.data.toList.drop 189 = dktX0_laysFar_8 := dk_seg dksX0_laysFar_7 24 rfl rfl
theorem dX0_laysFar_0 : decode cX0_laysFar 0 = .ok (.iconst 0, 1) := dk_3 (dk_at dksX0_laysFar_0 0 rfl rfl)
theorem dX0_laysFar_1 : decode cX0_laysFar 1 = .ok (.istore_n 1, 1) := dk_60 (dk_at dksX0_laysFar_0 1 rfl rfl)
theorem dX0_laysFar_2 : decode cX0_laysFar 2 = .ok (.iload_n 1, 1) := dk_27 (dk_at dksX0_laysFar_0 2 rfl rfl)
theorem dX0_laysFar_3 : decode cX0_laysFar 3 = .ok (.bipush 64, 2) := dk_16 64 (dk_at dksX0_laysFar_0 3 rfl rfl)
theorem dX0_laysFar_5 : decode cX0_laysFar 5 = .ok (.if_icmp .ge 33, 3) := dk_162 0 33 (dk_at dksX0_laysFar_0 5 rfl rfl)
theorem dX0_laysFar_8 : decode cX0_laysFar 8 = .ok (.aload_n 0, 1) := dk_42 (dk_at dksX0_laysFar_0 8 rfl rfl)
theorem dX0_laysFar_9 : decode cX0_laysFar 9 = .ok (.getfield 93, 3) := dk_180 0 93 (dk_at dksX0_laysFar_0 9 rfl rfl)
theorem dX0_laysFar_12 : decode cX0_laysFar 12 = .ok (.iload_n 1, 1) := dk_27 (dk_at dksX0_laysFar_0 12 rfl rfl)
theorem dX0_laysFar_13 : decode cX0_laysFar 13 = .ok (.iload_n 1, 1) := dk_27 (dk_at dksX0_laysFar_0 13 rfl rfl)
theorem dX0_laysFar_14 : decode cX0_laysFar 14 = .ok (.bipush 8, 2) := dk_16 8 (dk_at dksX0_laysFar_0 14 rfl rfl)
theorem dX0_laysFar_16 : decode cX0_laysFar 16 = .ok (.idiv, 1) := dk_108 (dk_at dksX0_laysFar_0 16 rfl rfl)
theorem dX0_laysFar_17 : decode cX0_laysFar 17 = .ok (.iload_n 1, 1) := dk_27 (dk_at dksX0_laysFar_0 17 rfl rfl)
theorem dX0_laysFar_18 : decode cX0_laysFar 18 = .ok (.bipush 8, 2) := dk_16 8 (dk_at dksX0_laysFar_0 18 rfl rfl)
theorem dX0_laysFar_20 : decode cX0_laysFar 20 = .ok (.irem, 1) := dk_112 (dk_at dksX0_laysFar_0 20 rfl rfl)
theorem dX0_laysFar_21 : decode cX0_laysFar 21 = .ok (.if_icmp .ne 7, 3) := dk_160 0 7 (dk_at dksX0_laysFar_0 21 rfl rfl)
theorem dX0_laysFar_24 : decode cX0_laysFar 24 = .ok (.iconst 0, 1) := dk_3 (dk_at dksX0_laysFar_1 0 rfl rfl)
theorem dX0_laysFar_25 : decode cX0_laysFar 25 = .ok (.goto 6, 3) := dk_167 0 6 (dk_at dksX0_laysFar_1 1 rfl rfl)
theorem dX0_laysFar_28 : decode cX0_laysFar 28 = .ok (.ldc_w 332, 3) := dk_19 1 76 (dk_at dksX0_laysFar_1 4 rfl rfl)
theorem dX0_laysFar_31 : decode cX0_laysFar 31 = .ok (.iastore, 1) := dk_79 (dk_at dksX0_laysFar_1 7 rfl rfl)
theorem dX0_laysFar_32 : decode cX0_laysFar 32 = .ok (.iinc 1 1, 3) := dk_132 1 1 (dk_at dksX0_laysFar_1 8 rfl rfl)
theorem dX0_laysFar_35 : decode cX0_laysFar 35 = .ok (.goto (-33), 3) := dk_167 255 223 (dk_at dksX0_laysFar_1 11 rfl rfl)
theorem dX0_laysFar_38 : decode cX0_laysFar 38 = .ok (.iconst 0, 1) := dk_3 (dk_at dksX0_laysFar_1 14 rfl rfl)
theorem dX0_laysFar_39 : decode cX0_laysFar 39 = .ok (.istore_n 1, 1) := dk_60 (dk_at dksX0_laysFar_1 15 rfl rfl)
theorem dX0_laysFar_40 : decode cX0_laysFar 40 = .ok (.iload_n 1, 1) := dk_27 (dk_at dksX0_laysFar_1 16 rfl rfl)
theorem dX0_laysFar_41 : decode cX0_laysFar 41 = .ok (.aload_n 0, 1) := dk_42 (dk_at dksX0_laysFar_1 17 rfl rfl)
theorem dX0_laysFar_42 : decode cX0_laysFar 42 = .ok (.getfield 39, 3) := dk_180 0 39 (dk_at dksX0_laysFar_1 18 rfl rfl)
theorem dX0_laysFar_45 : decode cX0_laysFar 45 = .ok (.getfield 124, 3) := dk_180 0 124 (dk_at dksX0_laysFar_1 21 rfl rfl)
theorem dX0_laysFar_48 : decode cX0_laysFar 48 = .ok (.if_icmp .ge 89, 3) := dk_162 0 89 (dk_at dksX0_laysFar_2 0 rfl rfl)
theorem dX0_laysFar_51 : decode cX0_laysFar 51 = .ok (.bipush 8, 2) := dk_16 8 (dk_at dksX0_laysFar_2 3 rfl rfl)
theorem dX0_laysFar_53 : decode cX0_laysFar 53 = .ok (.aload_n 0, 1) := dk_42 (dk_at dksX0_laysFar_2 5 rfl rfl)
theorem dX0_laysFar_54 : decode cX0_laysFar 54 = .ok (.getfield 39, 3) := dk_180 0 39 (dk_at dksX0_laysFar_2 6 rfl rfl)
theorem dX0_laysFar_57 : decode cX0_laysFar 57 = .ok (.getfield 144, 3) := dk_180 0 144 (dk_at dksX0_laysFar_2 9 rfl rfl)
theorem dX0_laysFar_60 : decode cX0_laysFar 60 = .ok (.iload_n 1, 1) := dk_27 (dk_at dksX0_laysFar_2 12 rfl rfl)
theorem dX0_laysFar_61 : decode cX0_laysFar 61 = .ok (.iaload, 1) := dk_46 (dk_at dksX0_laysFar_2 13 rfl rfl)
theorem dX0_laysFar_62 : decode cX0_laysFar 62 = .ok (.imul, 1) := dk_104 (dk_at dksX0_laysFar_2 14 rfl rfl)
theorem dX0_laysFar_63 : decode cX0_laysFar 63 = .ok (.aload_n 0, 1) := dk_42 (dk_at dksX0_laysFar_2 15 rfl rfl)
theorem dX0_laysFar_64 : decode cX0_laysFar 64 = .ok (.getfield 39, 3) := dk_180 0 39 (dk_at dksX0_laysFar_2 16 rfl rfl)
theorem dX0_laysFar_67 : decode cX0_laysFar 67 = .ok (.getfield 147, 3) := dk_180 0 147 (dk_at dksX0_laysFar_2 19 rfl rfl)
theorem dX0_laysFar_70 : decode cX0_laysFar 70 = .ok (.iload_n 1, 1) := dk_27 (dk_at dksX0_laysFar_2 22 rfl rfl)
theorem dX0_laysFar_71 : decode cX0_laysFar 71 = .ok (.iaload, 1) := dk_46 (dk_at dksX0_laysFar_2 23 rfl rfl)
theorem dX0_laysFar_72 : decode cX0_laysFar 72 = .ok (.iadd, 1) := dk_96 (dk_at dksX0_laysFar_3 0 rfl rfl)
theorem dX0_laysFar_73 : decode cX0_laysFar 73 = .ok (.istore_n 2, 1) := dk_61 (dk_at dksX0_laysFar_3 1 rfl rfl)
theorem dX0_laysFar_74 : decode cX0_laysFar 74 = .ok (.aload_n 0, 1) := dk_42 (dk_at dksX0_laysFar_3 2 rfl rfl)
theorem dX0_laysFar_75 : decode cX0_laysFar 75 = .ok (.getfield 93, 3) := dk_180 0 93 (dk_at dksX0_laysFar_3 3 rfl rfl)
theorem dX0_laysFar_78 : decode cX0_laysFar 78 = .ok (.iload_n 2, 1) := dk_28 (dk_at dksX0_laysFar_3 6 rfl rfl)
theorem dX0_laysFar_79 : decode cX0_laysFar 79 = .ok (.aload_n 0, 1) := dk_42 (dk_at dksX0_laysFar_3 7 rfl rfl)
theorem dX0_laysFar_80 : decode cX0_laysFar 80 = .ok (.getfield 93, 3) := dk_180 0 93 (dk_at dksX0_laysFar_3 8 rfl rfl)
theorem dX0_laysFar_83 : decode cX0_laysFar 83 = .ok (.iload_n 2, 1) := dk_28 (dk_at dksX0_laysFar_3 11 rfl rfl)
theorem dX0_laysFar_84 : decode cX0_laysFar 84 = .ok (.iaload, 1) := dk_46 (dk_at dksX0_laysFar_3 12 rfl rfl)
theorem dX0_laysFar_85 : decode cX0_laysFar 85 = .ok (.aload_n 0, 1) := dk_42 (dk_at dksX0_laysFar_3 13 rfl rfl)
theorem dX0_laysFar_86 : decode cX0_laysFar 86 = .ok (.getfield 39, 3) := dk_180 0 39 (dk_at dksX0_laysFar_3 14 rfl rfl)
theorem dX0_laysFar_89 : decode cX0_laysFar 89 = .ok (.getfield 150, 3) := dk_180 0 150 (dk_at dksX0_laysFar_3 17 rfl rfl)
theorem dX0_laysFar_92 : decode cX0_laysFar 92 = .ok (.iload_n 1, 1) := dk_27 (dk_at dksX0_laysFar_3 20 rfl rfl)
theorem dX0_laysFar_93 : decode cX0_laysFar 93 = .ok (.iaload, 1) := dk_46 (dk_at dksX0_laysFar_3 21 rfl rfl)
theorem dX0_laysFar_94 : decode cX0_laysFar 94 = .ok (.invokestatic 333, 3) := dk_184 1 77 (dk_at dksX0_laysFar_4 0 rfl rfl)
theorem dX0_laysFar_97 : decode cX0_laysFar 97 = .ok (.iastore, 1) := dk_79 (dk_at dksX0_laysFar_4 3 rfl rfl)
theorem dX0_laysFar_98 : decode cX0_laysFar 98 = .ok (.aload_n 0, 1) := dk_42 (dk_at dksX0_laysFar_4 4 rfl rfl)
theorem dX0_laysFar_99 : decode cX0_laysFar 99 = .ok (.getfield 93, 3) := dk_180 0 93 (dk_at dksX0_laysFar_4 5 rfl rfl)
theorem dX0_laysFar_102 : decode cX0_laysFar 102 = .ok (.bipush 8, 2) := dk_16 8 (dk_at dksX0_laysFar_4 8 rfl rfl)
theorem dX0_laysFar_104 : decode cX0_laysFar 104 = .ok (.aload_n 0, 1) := dk_42 (dk_at dksX0_laysFar_4 10 rfl rfl)
theorem dX0_laysFar_105 : decode cX0_laysFar 105 = .ok (.getfield 39, 3) := dk_180 0 39 (dk_at dksX0_laysFar_4 11 rfl rfl)
theorem dX0_laysFar_108 : decode cX0_laysFar 108 = .ok (.getfield 147, 3) := dk_180 0 147 (dk_at dksX0_laysFar_4 14 rfl rfl)
theorem dX0_laysFar_111 : decode cX0_laysFar 111 = .ok (.iload_n 1, 1) := dk_27 (dk_at dksX0_laysFar_4 17 rfl rfl)
theorem dX0_laysFar_112 : decode cX0_laysFar 112 = .ok (.iaload, 1) := dk_46 (dk_at dksX0_laysFar_4 18 rfl rfl)
theorem dX0_laysFar_113 : decode cX0_laysFar 113 = .ok (.imul, 1) := dk_104 (dk_at dksX0_laysFar_4 19 rfl rfl)
theorem dX0_laysFar_114 : decode cX0_laysFar 114 = .ok (.aload_n 0, 1) := dk_42 (dk_at dksX0_laysFar_4 20 rfl rfl)
theorem dX0_laysFar_115 : decode cX0_laysFar 115 = .ok (.getfield 39, 3) := dk_180 0 39 (dk_at dksX0_laysFar_4 21 rfl rfl)
theorem dX0_laysFar_118 : decode cX0_laysFar 118 = .ok (.getfield 144, 3) := dk_180 0 144 (dk_at dksX0_laysFar_5 0 rfl rfl)
theorem dX0_laysFar_121 : decode cX0_laysFar 121 = .ok (.iload_n 1, 1) := dk_27 (dk_at dksX0_laysFar_5 3 rfl rfl)
theorem dX0_laysFar_122 : decode cX0_laysFar 122 = .ok (.iaload, 1) := dk_46 (dk_at dksX0_laysFar_5 4 rfl rfl)
theorem dX0_laysFar_123 : decode cX0_laysFar 123 = .ok (.iadd, 1) := dk_96 (dk_at dksX0_laysFar_5 5 rfl rfl)
theorem dX0_laysFar_124 : decode cX0_laysFar 124 = .ok (.aload_n 0, 1) := dk_42 (dk_at dksX0_laysFar_5 6 rfl rfl)
theorem dX0_laysFar_125 : decode cX0_laysFar 125 = .ok (.getfield 93, 3) := dk_180 0 93 (dk_at dksX0_laysFar_5 7 rfl rfl)
theorem dX0_laysFar_128 : decode cX0_laysFar 128 = .ok (.iload_n 2, 1) := dk_28 (dk_at dksX0_laysFar_5 10 rfl rfl)
theorem dX0_laysFar_129 : decode cX0_laysFar 129 = .ok (.iaload, 1) := dk_46 (dk_at dksX0_laysFar_5 11 rfl rfl)
theorem dX0_laysFar_130 : decode cX0_laysFar 130 = .ok (.iastore, 1) := dk_79 (dk_at dksX0_laysFar_5 12 rfl rfl)
theorem dX0_laysFar_131 : decode cX0_laysFar 131 = .ok (.iinc 1 1, 3) := dk_132 1 1 (dk_at dksX0_laysFar_5 13 rfl rfl)
theorem dX0_laysFar_134 : decode cX0_laysFar 134 = .ok (.goto (-94), 3) := dk_167 255 162 (dk_at dksX0_laysFar_5 16 rfl rfl)
theorem dX0_laysFar_137 : decode cX0_laysFar 137 = .ok (.iconst 0, 1) := dk_3 (dk_at dksX0_laysFar_5 19 rfl rfl)
theorem dX0_laysFar_138 : decode cX0_laysFar 138 = .ok (.istore_n 1, 1) := dk_60 (dk_at dksX0_laysFar_5 20 rfl rfl)
theorem dX0_laysFar_139 : decode cX0_laysFar 139 = .ok (.iload_n 1, 1) := dk_27 (dk_at dksX0_laysFar_5 21 rfl rfl)
theorem dX0_laysFar_140 : decode cX0_laysFar 140 = .ok (.bipush 8, 2) := dk_16 8 (dk_at dksX0_laysFar_5 22 rfl rfl)
theorem dX0_laysFar_142 : decode cX0_laysFar 142 = .ok (.if_icmp .ge 70, 3) := dk_162 0 70 (dk_at dksX0_laysFar_6 0 rfl rfl)
theorem dX0_laysFar_145 : decode cX0_laysFar 145 = .ok (.iconst 0, 1) := dk_3 (dk_at dksX0_laysFar_6 3 rfl rfl)
theorem dX0_laysFar_146 : decode cX0_laysFar 146 = .ok (.istore_n 2, 1) := dk_61 (dk_at dksX0_laysFar_6 4 rfl rfl)
theorem dX0_laysFar_147 : decode cX0_laysFar 147 = .ok (.iload_n 2, 1) := dk_28 (dk_at dksX0_laysFar_6 5 rfl rfl)
theorem dX0_laysFar_148 : decode cX0_laysFar 148 = .ok (.bipush 8, 2) := dk_16 8 (dk_at dksX0_laysFar_6 6 rfl rfl)
theorem dX0_laysFar_150 : decode cX0_laysFar 150 = .ok (.if_icmp .ge 56, 3) := dk_162 0 56 (dk_at dksX0_laysFar_6 8 rfl rfl)
theorem dX0_laysFar_153 : decode cX0_laysFar 153 = .ok (.iconst 0, 1) := dk_3 (dk_at dksX0_laysFar_6 11 rfl rfl)
theorem dX0_laysFar_154 : decode cX0_laysFar 154 = .ok (.istore_n 3, 1) := dk_62 (dk_at dksX0_laysFar_6 12 rfl rfl)
theorem dX0_laysFar_155 : decode cX0_laysFar 155 = .ok (.iload_n 3, 1) := dk_29 (dk_at dksX0_laysFar_6 13 rfl rfl)
theorem dX0_laysFar_156 : decode cX0_laysFar 156 = .ok (.bipush 8, 2) := dk_16 8 (dk_at dksX0_laysFar_6 14 rfl rfl)
theorem dX0_laysFar_158 : decode cX0_laysFar 158 = .ok (.if_icmp .ge 42, 3) := dk_162 0 42 (dk_at dksX0_laysFar_6 16 rfl rfl)
theorem dX0_laysFar_161 : decode cX0_laysFar 161 = .ok (.aload_n 0, 1) := dk_42 (dk_at dksX0_laysFar_6 19 rfl rfl)
theorem dX0_laysFar_162 : decode cX0_laysFar 162 = .ok (.getfield 93, 3) := dk_180 0 93 (dk_at dksX0_laysFar_6 20 rfl rfl)
theorem dX0_laysFar_165 : decode cX0_laysFar 165 = .ok (.bipush 8, 2) := dk_16 8 (dk_at dksX0_laysFar_7 0 rfl rfl)
theorem dX0_laysFar_167 : decode cX0_laysFar 167 = .ok (.iload_n 2, 1) := dk_28 (dk_at dksX0_laysFar_7 2 rfl rfl)
theorem dX0_laysFar_168 : decode cX0_laysFar 168 = .ok (.imul, 1) := dk_104 (dk_at dksX0_laysFar_7 3 rfl rfl)
theorem dX0_laysFar_169 : decode cX0_laysFar 169 = .ok (.iload_n 3, 1) := dk_29 (dk_at dksX0_laysFar_7 4 rfl rfl)
theorem dX0_laysFar_170 : decode cX0_laysFar 170 = .ok (.iadd, 1) := dk_96 (dk_at dksX0_laysFar_7 5 rfl rfl)
theorem dX0_laysFar_171 : decode cX0_laysFar 171 = .ok (.aload_n 0, 1) := dk_42 (dk_at dksX0_laysFar_7 6 rfl rfl)
theorem dX0_laysFar_172 : decode cX0_laysFar 172 = .ok (.iload_n 2, 1) := dk_28 (dk_at dksX0_laysFar_7 7 rfl rfl)
theorem dX0_laysFar_173 : decode cX0_laysFar 173 = .ok (.iload_n 3, 1) := dk_29 (dk_at dksX0_laysFar_7 8 rfl rfl)
theorem dX0_laysFar_174 : decode cX0_laysFar 174 = .ok (.invokevirtual 335, 3) := dk_182 1 79 (dk_at dksX0_laysFar_7 9 rfl rfl)
theorem dX0_laysFar_177 : decode cX0_laysFar 177 = .ok (.aload_n 0, 1) := dk_42 (dk_at dksX0_laysFar_7 12 rfl rfl)
theorem dX0_laysFar_178 : decode cX0_laysFar 178 = .ok (.iload_n 2, 1) := dk_28 (dk_at dksX0_laysFar_7 13 rfl rfl)
theorem dX0_laysFar_179 : decode cX0_laysFar 179 = .ok (.iload_n 1, 1) := dk_27 (dk_at dksX0_laysFar_7 14 rfl rfl)
theorem dX0_laysFar_180 : decode cX0_laysFar 180 = .ok (.invokevirtual 335, 3) := dk_182 1 79 (dk_at dksX0_laysFar_7 15 rfl rfl)
theorem dX0_laysFar_183 : decode cX0_laysFar 183 = .ok (.aload_n 0, 1) := dk_42 (dk_at dksX0_laysFar_7 18 rfl rfl)
theorem dX0_laysFar_184 : decode cX0_laysFar 184 = .ok (.iload_n 1, 1) := dk_27 (dk_at dksX0_laysFar_7 19 rfl rfl)
theorem dX0_laysFar_185 : decode cX0_laysFar 185 = .ok (.iload_n 3, 1) := dk_29 (dk_at dksX0_laysFar_7 20 rfl rfl)
theorem dX0_laysFar_186 : decode cX0_laysFar 186 = .ok (.invokevirtual 335, 3) := dk_182 1 79 (dk_at dksX0_laysFar_7 21 rfl rfl)
theorem dX0_laysFar_189 : decode cX0_laysFar 189 = .ok (.iadd, 1) := dk_96 (dk_at dksX0_laysFar_8 0 rfl rfl)
theorem dX0_laysFar_190 : decode cX0_laysFar 190 = .ok (.invokestatic 333, 3) := dk_184 1 77 (dk_at dksX0_laysFar_8 1 rfl rfl)
theorem dX0_laysFar_193 : decode cX0_laysFar 193 = .ok (.iastore, 1) := dk_79 (dk_at dksX0_laysFar_8 4 rfl rfl)
theorem dX0_laysFar_194 : decode cX0_laysFar 194 = .ok (.iinc 3 1, 3) := dk_132 3 1 (dk_at dksX0_laysFar_8 5 rfl rfl)
theorem dX0_laysFar_197 : decode cX0_laysFar 197 = .ok (.goto (-42), 3) := dk_167 255 214 (dk_at dksX0_laysFar_8 8 rfl rfl)
theorem dX0_laysFar_200 : decode cX0_laysFar 200 = .ok (.iinc 2 1, 3) := dk_132 2 1 (dk_at dksX0_laysFar_8 11 rfl rfl)
theorem dX0_laysFar_203 : decode cX0_laysFar 203 = .ok (.goto (-56), 3) := dk_167 255 200 (dk_at dksX0_laysFar_8 14 rfl rfl)
theorem dX0_laysFar_206 : decode cX0_laysFar 206 = .ok (.iinc 1 1, 3) := dk_132 1 1 (dk_at dksX0_laysFar_8 17 rfl rfl)
theorem dX0_laysFar_209 : decode cX0_laysFar 209 = .ok (.goto (-70), 3) := dk_167 255 186 (dk_at dksX0_laysFar_8 20 rfl rfl)
theorem dX0_laysFar_212 : decode cX0_laysFar 212 = .ok (.return_, 1) := dk_177 (dk_at dksX0_laysFar_8 23 rfl rfl)
abbrev cX0_farOf : ByteArray := prog_1_method_56_code
def yX0_farOf : MethodName := ⟨RX0, "farOf", "(II)I"⟩
def dkwX0_farOf_0 : List UInt8 := [42, 180, 0, 93, 16, 8, 27, 104, 28, 96, 46, 172]
abbrev dktX0_farOf_0 : List UInt8 := dkwX0_farOf_0 ++ []
theorem dksX0_farOf_0 : cX0_farOf.data.toList.drop 0 = dktX0_farOf_0 := by decide +kernel
theorem dX0_farOf_0 : decode cX0_farOf 0 = .ok (.aload_n 0, 1) := dk_42 (dk_at dksX0_farOf_0 0 rfl rfl)
theorem dX0_farOf_1 : decode cX0_farOf 1 = .ok (.getfield 93, 3) := dk_180 0 93 (dk_at dksX0_farOf_0 1 rfl rfl)
theorem dX0_farOf_4 : decode cX0_farOf 4 = .ok (.bipush 8, 2) := dk_16 8 (dk_at dksX0_farOf_0 4 rfl rfl)
theorem dX0_farOf_6 : decode cX0_farOf 6 = .ok (.iload_n 1, 1) := dk_27 (dk_at dksX0_farOf_0 6 rfl rfl)
theorem dX0_farOf_7 : decode cX0_farOf 7 = .ok (.imul, 1) := dk_104 (dk_at dksX0_farOf_0 7 rfl rfl)
theorem dX0_farOf_8 : decode cX0_farOf 8 = .ok (.iload_n 2, 1) := dk_28 (dk_at dksX0_farOf_0 8 rfl rfl)
theorem dX0_farOf_9 : decode cX0_farOf 9 = .ok (.iadd, 1) := dk_96 (dk_at dksX0_farOf_0 9 rfl rfl)
theorem dX0_farOf_10 : decode cX0_farOf 10 = .ok (.iaload, 1) := dk_46 (dk_at dksX0_farOf_0 10 rfl rfl)
theorem dX0_farOf_11 : decode cX0_farOf 11 = .ok (.ireturn, 1) := dk_172 (dk_at dksX0_farOf_0 11 rfl rfl)
abbrev cX0_found : ByteArray := prog_1_method_60_code
def yX0_found : MethodName := ⟨RX0, "found", "(II)I"⟩
def dkwX0_found_1 : List UInt8 := [182, 1, 85, 62, 29, 19, 1, 76, 160, 0, 7, 2, 167, 0, 4, 29, 172]
abbrev dktX0_found_1 : List UInt8 := dkwX0_found_1 ++ []
def dkwX0_found_0 : List UInt8 := [27, 184, 0, 140, 153, 0, 11, 42, 28, 182, 0, 182, 154, 0, 5, 2, 172, 42, 182, 1, 82, 42, 27, 28]
abbrev dktX0_found_0 : List UInt8 := dkwX0_found_0 ++ dktX0_found_1
theorem dksX0_found_0 : cX0_found.data.toList.drop 0 = dktX0_found_0 := by decide +kernel
theorem dksX0_found_1 : cX0_found.data.toList.drop 24 = dktX0_found_1 := dk_seg dksX0_found_0 24 rfl rfl
theorem dX0_found_0 : decode cX0_found 0 = .ok (.iload_n 1, 1) := dk_27 (dk_at dksX0_found_0 0 rfl rfl)
theorem dX0_found_1 : decode cX0_found 1 = .ok (.invokestatic 140, 3) := dk_184 0 140 (dk_at dksX0_found_0 1 rfl rfl)
theorem dX0_found_4 : decode cX0_found 4 = .ok (.ifCond .eq 11, 3) := dk_153 0 11 (dk_at dksX0_found_0 4 rfl rfl)
theorem dX0_found_7 : decode cX0_found 7 = .ok (.aload_n 0, 1) := dk_42 (dk_at dksX0_found_0 7 rfl rfl)
theorem dX0_found_8 : decode cX0_found 8 = .ok (.iload_n 2, 1) := dk_28 (dk_at dksX0_found_0 8 rfl rfl)
theorem dX0_found_9 : decode cX0_found 9 = .ok (.invokevirtual 182, 3) := dk_182 0 182 (dk_at dksX0_found_0 9 rfl rfl)
theorem dX0_found_12 : decode cX0_found 12 = .ok (.ifCond .ne 5, 3) := dk_154 0 5 (dk_at dksX0_found_0 12 rfl rfl)
theorem dX0_found_15 : decode cX0_found 15 = .ok (.iconst (-1), 1) := dk_2 (dk_at dksX0_found_0 15 rfl rfl)
theorem dX0_found_16 : decode cX0_found 16 = .ok (.ireturn, 1) := dk_172 (dk_at dksX0_found_0 16 rfl rfl)
theorem dX0_found_17 : decode cX0_found 17 = .ok (.aload_n 0, 1) := dk_42 (dk_at dksX0_found_0 17 rfl rfl)
theorem dX0_found_18 : decode cX0_found 18 = .ok (.invokevirtual 338, 3) := dk_182 1 82 (dk_at dksX0_found_0 18 rfl rfl)
theorem dX0_found_21 : decode cX0_found 21 = .ok (.aload_n 0, 1) := dk_42 (dk_at dksX0_found_0 21 rfl rfl)
theorem dX0_found_22 : decode cX0_found 22 = .ok (.iload_n 1, 1) := dk_27 (dk_at dksX0_found_0 22 rfl rfl)
theorem dX0_found_23 : decode cX0_found 23 = .ok (.iload_n 2, 1) := dk_28 (dk_at dksX0_found_0 23 rfl rfl)
theorem dX0_found_24 : decode cX0_found 24 = .ok (.invokevirtual 341, 3) := dk_182 1 85 (dk_at dksX0_found_1 0 rfl rfl)
theorem dX0_found_27 : decode cX0_found 27 = .ok (.istore_n 3, 1) := dk_62 (dk_at dksX0_found_1 3 rfl rfl)
theorem dX0_found_28 : decode cX0_found 28 = .ok (.iload_n 3, 1) := dk_29 (dk_at dksX0_found_1 4 rfl rfl)
theorem dX0_found_29 : decode cX0_found 29 = .ok (.ldc_w 332, 3) := dk_19 1 76 (dk_at dksX0_found_1 5 rfl rfl)
theorem dX0_found_32 : decode cX0_found 32 = .ok (.if_icmp .ne 7, 3) := dk_160 0 7 (dk_at dksX0_found_1 8 rfl rfl)
theorem dX0_found_35 : decode cX0_found 35 = .ok (.iconst (-1), 1) := dk_2 (dk_at dksX0_found_1 11 rfl rfl)
theorem dX0_found_36 : decode cX0_found 36 = .ok (.goto 4, 3) := dk_167 0 4 (dk_at dksX0_found_1 12 rfl rfl)
theorem dX0_found_39 : decode cX0_found 39 = .ok (.iload_n 3, 1) := dk_29 (dk_at dksX0_found_1 15 rfl rfl)
theorem dX0_found_40 : decode cX0_found 40 = .ok (.ireturn, 1) := dk_172 (dk_at dksX0_found_1 16 rfl rfl)
abbrev cX0_foundFrom : ByteArray := prog_1_method_59_code
def yX0_foundFrom : MethodName := ⟨RX0, "foundFrom", "(II)I"⟩
def dkwX0_foundFrom_2 : List UInt8 := [182, 1, 57, 87, 132, 3, 1, 167, 255, 218, 19, 1, 76, 172]
abbrev dktX0_foundFrom_2 : List UInt8 := dkwX0_foundFrom_2 ++ []
def dkwX0_foundFrom_1 : List UInt8 := [180, 0, 67, 180, 0, 176, 28, 46, 182, 1, 79, 29, 163, 0, 5, 29, 172, 42, 42, 180, 0, 67]
abbrev dktX0_foundFrom_1 : List UInt8 := dkwX0_foundFrom_1 ++ dktX0_foundFrom_2
def dkwX0_foundFrom_0 : List UInt8 := [42, 180, 0, 67, 42, 182, 0, 156, 182, 1, 47, 3, 62, 29, 16, 60, 163, 0, 38, 42, 27, 42]
abbrev dktX0_foundFrom_0 : List UInt8 := dkwX0_foundFrom_0 ++ dktX0_foundFrom_1
theorem dksX0_foundFrom_0 : cX0_foundFrom.data.toList.drop 0 = dktX0_foundFrom_0 := by decide +kernel
theorem dksX0_foundFrom_1 : cX0_foundFrom.data.toList.drop 22 = dktX0_foundFrom_1 := dk_seg dksX0_foundFrom_0 22 rfl rfl
theorem dksX0_foundFrom_2 : cX0_foundFrom.data.toList.drop 44 = dktX0_foundFrom_2 := dk_seg dksX0_foundFrom_1 22 rfl rfl
theorem dX0_foundFrom_0 : decode cX0_foundFrom 0 = .ok (.aload_n 0, 1) := dk_42 (dk_at dksX0_foundFrom_0 0 rfl rfl)
theorem dX0_foundFrom_1 : decode cX0_foundFrom 1 = .ok (.getfield 67, 3) := dk_180 0 67 (dk_at dksX0_foundFrom_0 1 rfl rfl)
theorem dX0_foundFrom_4 : decode cX0_foundFrom 4 = .ok (.aload_n 0, 1) := dk_42 (dk_at dksX0_foundFrom_0 4 rfl rfl)
theorem dX0_foundFrom_5 : decode cX0_foundFrom 5 = .ok (.invokevirtual 156, 3) := dk_182 0 156 (dk_at dksX0_foundFrom_0 5 rfl rfl)
theorem dX0_foundFrom_8 : decode cX0_foundFrom 8 = .ok (.invokevirtual 303, 3) := dk_182 1 47 (dk_at dksX0_foundFrom_0 8 rfl rfl)
theorem dX0_foundFrom_11 : decode cX0_foundFrom 11 = .ok (.iconst 0, 1) := dk_3 (dk_at dksX0_foundFrom_0 11 rfl rfl)
theorem dX0_foundFrom_12 : decode cX0_foundFrom 12 = .ok (.istore_n 3, 1) := dk_62 (dk_at dksX0_foundFrom_0 12 rfl rfl)
theorem dX0_foundFrom_13 : decode cX0_foundFrom 13 = .ok (.iload_n 3, 1) := dk_29 (dk_at dksX0_foundFrom_0 13 rfl rfl)
theorem dX0_foundFrom_14 : decode cX0_foundFrom 14 = .ok (.bipush 60, 2) := dk_16 60 (dk_at dksX0_foundFrom_0 14 rfl rfl)
theorem dX0_foundFrom_16 : decode cX0_foundFrom 16 = .ok (.if_icmp .gt 38, 3) := dk_163 0 38 (dk_at dksX0_foundFrom_0 16 rfl rfl)
theorem dX0_foundFrom_19 : decode cX0_foundFrom 19 = .ok (.aload_n 0, 1) := dk_42 (dk_at dksX0_foundFrom_0 19 rfl rfl)
theorem dX0_foundFrom_20 : decode cX0_foundFrom 20 = .ok (.iload_n 1, 1) := dk_27 (dk_at dksX0_foundFrom_0 20 rfl rfl)
theorem dX0_foundFrom_21 : decode cX0_foundFrom 21 = .ok (.aload_n 0, 1) := dk_42 (dk_at dksX0_foundFrom_0 21 rfl rfl)
theorem dX0_foundFrom_22 : decode cX0_foundFrom 22 = .ok (.getfield 67, 3) := dk_180 0 67 (dk_at dksX0_foundFrom_1 0 rfl rfl)
theorem dX0_foundFrom_25 : decode cX0_foundFrom 25 = .ok (.getfield 176, 3) := dk_180 0 176 (dk_at dksX0_foundFrom_1 3 rfl rfl)
theorem dX0_foundFrom_28 : decode cX0_foundFrom 28 = .ok (.iload_n 2, 1) := dk_28 (dk_at dksX0_foundFrom_1 6 rfl rfl)
theorem dX0_foundFrom_29 : decode cX0_foundFrom 29 = .ok (.iaload, 1) := dk_46 (dk_at dksX0_foundFrom_1 7 rfl rfl)
theorem dX0_foundFrom_30 : decode cX0_foundFrom 30 = .ok (.invokevirtual 335, 3) := dk_182 1 79 (dk_at dksX0_foundFrom_1 8 rfl rfl)
theorem dX0_foundFrom_33 : decode cX0_foundFrom 33 = .ok (.iload_n 3, 1) := dk_29 (dk_at dksX0_foundFrom_1 11 rfl rfl)
theorem dX0_foundFrom_34 : decode cX0_foundFrom 34 = .ok (.if_icmp .gt 5, 3) := dk_163 0 5 (dk_at dksX0_foundFrom_1 12 rfl rfl)
theorem dX0_foundFrom_37 : decode cX0_foundFrom 37 = .ok (.iload_n 3, 1) := dk_29 (dk_at dksX0_foundFrom_1 15 rfl rfl)
theorem dX0_foundFrom_38 : decode cX0_foundFrom 38 = .ok (.ireturn, 1) := dk_172 (dk_at dksX0_foundFrom_1 16 rfl rfl)
theorem dX0_foundFrom_39 : decode cX0_foundFrom 39 = .ok (.aload_n 0, 1) := dk_42 (dk_at dksX0_foundFrom_1 17 rfl rfl)
theorem dX0_foundFrom_40 : decode cX0_foundFrom 40 = .ok (.aload_n 0, 1) := dk_42 (dk_at dksX0_foundFrom_1 18 rfl rfl)
theorem dX0_foundFrom_41 : decode cX0_foundFrom 41 = .ok (.getfield 67, 3) := dk_180 0 67 (dk_at dksX0_foundFrom_1 19 rfl rfl)
theorem dX0_foundFrom_44 : decode cX0_foundFrom 44 = .ok (.invokevirtual 313, 3) := dk_182 1 57 (dk_at dksX0_foundFrom_2 0 rfl rfl)
theorem dX0_foundFrom_47 : decode cX0_foundFrom 47 = .ok (.pop, 1) := dk_87 (dk_at dksX0_foundFrom_2 3 rfl rfl)
theorem dX0_foundFrom_48 : decode cX0_foundFrom 48 = .ok (.iinc 3 1, 3) := dk_132 3 1 (dk_at dksX0_foundFrom_2 4 rfl rfl)
theorem dX0_foundFrom_51 : decode cX0_foundFrom 51 = .ok (.goto (-38), 3) := dk_167 255 218 (dk_at dksX0_foundFrom_2 7 rfl rfl)
theorem dX0_foundFrom_54 : decode cX0_foundFrom 54 = .ok (.ldc_w 332, 3) := dk_19 1 76 (dk_at dksX0_foundFrom_2 10 rfl rfl)
theorem dX0_foundFrom_57 : decode cX0_foundFrom 57 = .ok (.ireturn, 1) := dk_172 (dk_at dksX0_foundFrom_2 13 rfl rfl)
abbrev cX0_post : ByteArray := prog_1_method_61_code
def yX0_post : MethodName := ⟨RX0, "post", "(I)I"⟩
def dkwX0_post_4 : List UInt8 := [21, 4, 62, 132, 4, 1, 167, 255, 192, 29, 2, 159, 0, 7, 27, 154, 0, 7, 29, 167, 0, 4, 28, 172]
abbrev dktX0_post_4 : List UInt8 := dkwX0_post_4 ++ []
def dkwX0_post_3 : List UInt8 := [184, 1, 88, 54, 5, 132, 6, 1, 167, 255, 226, 21, 5, 28, 161, 0, 6, 167, 0, 9, 21, 5, 61]
abbrev dktX0_post_3 : List UInt8 := dkwX0_post_3 ++ dktX0_post_4
def dkwX0_post_2 : List UInt8 := [54, 6, 21, 6, 42, 180, 0, 39, 180, 0, 127, 162, 0, 24, 21, 5, 42, 21, 4, 21, 6, 182, 1, 85]
abbrev dktX0_post_2 : List UInt8 := dkwX0_post_2 ++ dktX0_post_3
def dkwX0_post_1 : List UInt8 := [182, 1, 82, 19, 1, 76, 61, 2, 62, 3, 54, 4, 21, 4, 16, 8, 162, 0, 63, 3, 54, 5, 3]
abbrev dktX0_post_1 : List UInt8 := dkwX0_post_1 ++ dktX0_post_2
def dkwX0_post_0 : List UInt8 := [27, 3, 4, 184, 0, 26, 153, 0, 13, 42, 180, 0, 39, 180, 0, 127, 154, 0, 5, 2, 172, 42]
abbrev dktX0_post_0 : List UInt8 := dkwX0_post_0 ++ dktX0_post_1
theorem dksX0_post_0 : cX0_post.data.toList.drop 0 = dktX0_post_0 := by decide +kernel
theorem dksX0_post_1 : cX0_post.data.toList.drop 22 = dktX0_post_1 := dk_seg dksX0_post_0 22 rfl rfl
theorem dksX0_post_2 : cX0_post.data.toList.drop 45 = dktX0_post_2 := dk_seg dksX0_post_1 23 rfl rfl
theorem dksX0_post_3 : cX0_post.data.toList.drop 69 = dktX0_post_3 := dk_seg dksX0_post_2 24 rfl rfl
theorem dksX0_post_4 : cX0_post.data.toList.drop 92 = dktX0_post_4 := dk_seg dksX0_post_3 23 rfl rfl
theorem dX0_post_0 : decode cX0_post 0 = .ok (.iload_n 1, 1) := dk_27 (dk_at dksX0_post_0 0 rfl rfl)
theorem dX0_post_1 : decode cX0_post 1 = .ok (.iconst 0, 1) := dk_3 (dk_at dksX0_post_0 1 rfl rfl)
theorem dX0_post_2 : decode cX0_post 2 = .ok (.iconst 1, 1) := dk_4 (dk_at dksX0_post_0 2 rfl rfl)
theorem dX0_post_3 : decode cX0_post 3 = .ok (.invokestatic 26, 3) := dk_184 0 26 (dk_at dksX0_post_0 3 rfl rfl)
theorem dX0_post_6 : decode cX0_post 6 = .ok (.ifCond .eq 13, 3) := dk_153 0 13 (dk_at dksX0_post_0 6 rfl rfl)
theorem dX0_post_9 : decode cX0_post 9 = .ok (.aload_n 0, 1) := dk_42 (dk_at dksX0_post_0 9 rfl rfl)
theorem dX0_post_10 : decode cX0_post 10 = .ok (.getfield 39, 3) := dk_180 0 39 (dk_at dksX0_post_0 10 rfl rfl)
theorem dX0_post_13 : decode cX0_post 13 = .ok (.getfield 127, 3) := dk_180 0 127 (dk_at dksX0_post_0 13 rfl rfl)
theorem dX0_post_16 : decode cX0_post 16 = .ok (.ifCond .ne 5, 3) := dk_154 0 5 (dk_at dksX0_post_0 16 rfl rfl)
theorem dX0_post_19 : decode cX0_post 19 = .ok (.iconst (-1), 1) := dk_2 (dk_at dksX0_post_0 19 rfl rfl)
theorem dX0_post_20 : decode cX0_post 20 = .ok (.ireturn, 1) := dk_172 (dk_at dksX0_post_0 20 rfl rfl)
theorem dX0_post_21 : decode cX0_post 21 = .ok (.aload_n 0, 1) := dk_42 (dk_at dksX0_post_0 21 rfl rfl)
theorem dX0_post_22 : decode cX0_post 22 = .ok (.invokevirtual 338, 3) := dk_182 1 82 (dk_at dksX0_post_1 0 rfl rfl)
theorem dX0_post_25 : decode cX0_post 25 = .ok (.ldc_w 332, 3) := dk_19 1 76 (dk_at dksX0_post_1 3 rfl rfl)
theorem dX0_post_28 : decode cX0_post 28 = .ok (.istore_n 2, 1) := dk_61 (dk_at dksX0_post_1 6 rfl rfl)
theorem dX0_post_29 : decode cX0_post 29 = .ok (.iconst (-1), 1) := dk_2 (dk_at dksX0_post_1 7 rfl rfl)
theorem dX0_post_30 : decode cX0_post 30 = .ok (.istore_n 3, 1) := dk_62 (dk_at dksX0_post_1 8 rfl rfl)
theorem dX0_post_31 : decode cX0_post 31 = .ok (.iconst 0, 1) := dk_3 (dk_at dksX0_post_1 9 rfl rfl)
theorem dX0_post_32 : decode cX0_post 32 = .ok (.istore 4, 2) := dk_54 4 (dk_at dksX0_post_1 10 rfl rfl)
theorem dX0_post_34 : decode cX0_post 34 = .ok (.iload 4, 2) := dk_21 4 (dk_at dksX0_post_1 12 rfl rfl)
theorem dX0_post_36 : decode cX0_post 36 = .ok (.bipush 8, 2) := dk_16 8 (dk_at dksX0_post_1 14 rfl rfl)
theorem dX0_post_38 : decode cX0_post 38 = .ok (.if_icmp .ge 63, 3) := dk_162 0 63 (dk_at dksX0_post_1 16 rfl rfl)
theorem dX0_post_41 : decode cX0_post 41 = .ok (.iconst 0, 1) := dk_3 (dk_at dksX0_post_1 19 rfl rfl)
theorem dX0_post_42 : decode cX0_post 42 = .ok (.istore 5, 2) := dk_54 5 (dk_at dksX0_post_1 20 rfl rfl)
theorem dX0_post_44 : decode cX0_post 44 = .ok (.iconst 0, 1) := dk_3 (dk_at dksX0_post_1 22 rfl rfl)
theorem dX0_post_45 : decode cX0_post 45 = .ok (.istore 6, 2) := dk_54 6 (dk_at dksX0_post_2 0 rfl rfl)
theorem dX0_post_47 : decode cX0_post 47 = .ok (.iload 6, 2) := dk_21 6 (dk_at dksX0_post_2 2 rfl rfl)
theorem dX0_post_49 : decode cX0_post 49 = .ok (.aload_n 0, 1) := dk_42 (dk_at dksX0_post_2 4 rfl rfl)
theorem dX0_post_50 : decode cX0_post 50 = .ok (.getfield 39, 3) := dk_180 0 39 (dk_at dksX0_post_2 5 rfl rfl)
theorem dX0_post_53 : decode cX0_post 53 = .ok (.getfield 127, 3) := dk_180 0 127 (dk_at dksX0_post_2 8 rfl rfl)
theorem dX0_post_56 : decode cX0_post 56 = .ok (.if_icmp .ge 24, 3) := dk_162 0 24 (dk_at dksX0_post_2 11 rfl rfl)
theorem dX0_post_59 : decode cX0_post 59 = .ok (.iload 5, 2) := dk_21 5 (dk_at dksX0_post_2 14 rfl rfl)
theorem dX0_post_61 : decode cX0_post 61 = .ok (.aload_n 0, 1) := dk_42 (dk_at dksX0_post_2 16 rfl rfl)
theorem dX0_post_62 : decode cX0_post 62 = .ok (.iload 4, 2) := dk_21 4 (dk_at dksX0_post_2 17 rfl rfl)
theorem dX0_post_64 : decode cX0_post 64 = .ok (.iload 6, 2) := dk_21 6 (dk_at dksX0_post_2 19 rfl rfl)
theorem dX0_post_66 : decode cX0_post 66 = .ok (.invokevirtual 341, 3) := dk_182 1 85 (dk_at dksX0_post_2 21 rfl rfl)
theorem dX0_post_69 : decode cX0_post 69 = .ok (.invokestatic 344, 3) := dk_184 1 88 (dk_at dksX0_post_3 0 rfl rfl)
theorem dX0_post_72 : decode cX0_post 72 = .ok (.istore 5, 2) := dk_54 5 (dk_at dksX0_post_3 3 rfl rfl)
theorem dX0_post_74 : decode cX0_post 74 = .ok (.iinc 6 1, 3) := dk_132 6 1 (dk_at dksX0_post_3 5 rfl rfl)
theorem dX0_post_77 : decode cX0_post 77 = .ok (.goto (-30), 3) := dk_167 255 226 (dk_at dksX0_post_3 8 rfl rfl)
theorem dX0_post_80 : decode cX0_post 80 = .ok (.iload 5, 2) := dk_21 5 (dk_at dksX0_post_3 11 rfl rfl)
theorem dX0_post_82 : decode cX0_post 82 = .ok (.iload_n 2, 1) := dk_28 (dk_at dksX0_post_3 13 rfl rfl)
theorem dX0_post_83 : decode cX0_post 83 = .ok (.if_icmp .lt 6, 3) := dk_161 0 6 (dk_at dksX0_post_3 14 rfl rfl)
theorem dX0_post_86 : decode cX0_post 86 = .ok (.goto 9, 3) := dk_167 0 9 (dk_at dksX0_post_3 17 rfl rfl)
theorem dX0_post_89 : decode cX0_post 89 = .ok (.iload 5, 2) := dk_21 5 (dk_at dksX0_post_3 20 rfl rfl)
theorem dX0_post_91 : decode cX0_post 91 = .ok (.istore_n 2, 1) := dk_61 (dk_at dksX0_post_3 22 rfl rfl)
theorem dX0_post_92 : decode cX0_post 92 = .ok (.iload 4, 2) := dk_21 4 (dk_at dksX0_post_4 0 rfl rfl)
theorem dX0_post_94 : decode cX0_post 94 = .ok (.istore_n 3, 1) := dk_62 (dk_at dksX0_post_4 2 rfl rfl)
theorem dX0_post_95 : decode cX0_post 95 = .ok (.iinc 4 1, 3) := dk_132 4 1 (dk_at dksX0_post_4 3 rfl rfl)
theorem dX0_post_98 : decode cX0_post 98 = .ok (.goto (-64), 3) := dk_167 255 192 (dk_at dksX0_post_4 6 rfl rfl)
theorem dX0_post_101 : decode cX0_post 101 = .ok (.iload_n 3, 1) := dk_29 (dk_at dksX0_post_4 9 rfl rfl)
theorem dX0_post_102 : decode cX0_post 102 = .ok (.iconst (-1), 1) := dk_2 (dk_at dksX0_post_4 10 rfl rfl)
theorem dX0_post_103 : decode cX0_post 103 = .ok (.if_icmp .eq 7, 3) := dk_159 0 7 (dk_at dksX0_post_4 11 rfl rfl)
theorem dX0_post_106 : decode cX0_post 106 = .ok (.iload_n 1, 1) := dk_27 (dk_at dksX0_post_4 14 rfl rfl)
theorem dX0_post_107 : decode cX0_post 107 = .ok (.ifCond .ne 7, 3) := dk_154 0 7 (dk_at dksX0_post_4 15 rfl rfl)
theorem dX0_post_110 : decode cX0_post 110 = .ok (.iload_n 3, 1) := dk_29 (dk_at dksX0_post_4 18 rfl rfl)
theorem dX0_post_111 : decode cX0_post 111 = .ok (.goto 4, 3) := dk_167 0 4 (dk_at dksX0_post_4 19 rfl rfl)
theorem dX0_post_114 : decode cX0_post 114 = .ok (.iload_n 2, 1) := dk_28 (dk_at dksX0_post_4 22 rfl rfl)
theorem dX0_post_115 : decode cX0_post 115 = .ok (.ireturn, 1) := dk_172 (dk_at dksX0_post_4 23 rfl rfl)
abbrev cX0_posts : ByteArray := prog_1_method_64_code
def yX0_posts : MethodName := ⟨RX0, "posts", "(II)I"⟩
def dkwX0_posts_3 : List UInt8 := [167, 255, 220, 28, 154, 0, 10, 29, 184, 1, 96, 167, 0, 4, 29, 172]
abbrev dktX0_posts_3 : List UInt8 := dkwX0_posts_3 ++ []
def dkwX0_posts_2 : List UInt8 := [184, 1, 96, 162, 0, 16, 42, 21, 4, 27, 182, 1, 99, 153, 0, 6, 21, 4, 62, 132, 4, 1]
abbrev dktX0_posts_2 : List UInt8 := dkwX0_posts_2 ++ dktX0_posts_3
def dkwX0_posts_1 : List UInt8 := [182, 1, 82, 17, 0, 255, 62, 3, 54, 4, 21, 4, 17, 0, 255, 162, 0, 34, 21, 4, 184, 1, 96, 29]
abbrev dktX0_posts_1 : List UInt8 := dkwX0_posts_1 ++ dktX0_posts_2
def dkwX0_posts_0 : List UInt8 := [27, 3, 16, 50, 184, 0, 26, 153, 0, 12, 28, 3, 4, 184, 0, 26, 154, 0, 5, 2, 172, 42]
abbrev dktX0_posts_0 : List UInt8 := dkwX0_posts_0 ++ dktX0_posts_1
theorem dksX0_posts_0 : cX0_posts.data.toList.drop 0 = dktX0_posts_0 := by decide +kernel
theorem dksX0_posts_1 : cX0_posts.data.toList.drop 22 = dktX0_posts_1 := dk_seg dksX0_posts_0 22 rfl rfl
theorem dksX0_posts_2 : cX0_posts.data.toList.drop 46 = dktX0_posts_2 := dk_seg dksX0_posts_1 24 rfl rfl
theorem dksX0_posts_3 : cX0_posts.data.toList.drop 68 = dktX0_posts_3 := dk_seg dksX0_posts_2 22 rfl rfl
theorem dX0_posts_0 : decode cX0_posts 0 = .ok (.iload_n 1, 1) := dk_27 (dk_at dksX0_posts_0 0 rfl rfl)
theorem dX0_posts_1 : decode cX0_posts 1 = .ok (.iconst 0, 1) := dk_3 (dk_at dksX0_posts_0 1 rfl rfl)
theorem dX0_posts_2 : decode cX0_posts 2 = .ok (.bipush 50, 2) := dk_16 50 (dk_at dksX0_posts_0 2 rfl rfl)
theorem dX0_posts_4 : decode cX0_posts 4 = .ok (.invokestatic 26, 3) := dk_184 0 26 (dk_at dksX0_posts_0 4 rfl rfl)
theorem dX0_posts_7 : decode cX0_posts 7 = .ok (.ifCond .eq 12, 3) := dk_153 0 12 (dk_at dksX0_posts_0 7 rfl rfl)
theorem dX0_posts_10 : decode cX0_posts 10 = .ok (.iload_n 2, 1) := dk_28 (dk_at dksX0_posts_0 10 rfl rfl)
theorem dX0_posts_11 : decode cX0_posts 11 = .ok (.iconst 0, 1) := dk_3 (dk_at dksX0_posts_0 11 rfl rfl)
theorem dX0_posts_12 : decode cX0_posts 12 = .ok (.iconst 1, 1) := dk_4 (dk_at dksX0_posts_0 12 rfl rfl)
theorem dX0_posts_13 : decode cX0_posts 13 = .ok (.invokestatic 26, 3) := dk_184 0 26 (dk_at dksX0_posts_0 13 rfl rfl)
theorem dX0_posts_16 : decode cX0_posts 16 = .ok (.ifCond .ne 5, 3) := dk_154 0 5 (dk_at dksX0_posts_0 16 rfl rfl)
theorem dX0_posts_19 : decode cX0_posts 19 = .ok (.iconst (-1), 1) := dk_2 (dk_at dksX0_posts_0 19 rfl rfl)
theorem dX0_posts_20 : decode cX0_posts 20 = .ok (.ireturn, 1) := dk_172 (dk_at dksX0_posts_0 20 rfl rfl)
theorem dX0_posts_21 : decode cX0_posts 21 = .ok (.aload_n 0, 1) := dk_42 (dk_at dksX0_posts_0 21 rfl rfl)
theorem dX0_posts_22 : decode cX0_posts 22 = .ok (.invokevirtual 338, 3) := dk_182 1 82 (dk_at dksX0_posts_1 0 rfl rfl)
theorem dX0_posts_25 : decode cX0_posts 25 = .ok (.sipush 255, 3) := dk_17 0 255 (dk_at dksX0_posts_1 3 rfl rfl)
theorem dX0_posts_28 : decode cX0_posts 28 = .ok (.istore_n 3, 1) := dk_62 (dk_at dksX0_posts_1 6 rfl rfl)
theorem dX0_posts_29 : decode cX0_posts 29 = .ok (.iconst 0, 1) := dk_3 (dk_at dksX0_posts_1 7 rfl rfl)
theorem dX0_posts_30 : decode cX0_posts 30 = .ok (.istore 4, 2) := dk_54 4 (dk_at dksX0_posts_1 8 rfl rfl)
theorem dX0_posts_32 : decode cX0_posts 32 = .ok (.iload 4, 2) := dk_21 4 (dk_at dksX0_posts_1 10 rfl rfl)
theorem dX0_posts_34 : decode cX0_posts 34 = .ok (.sipush 255, 3) := dk_17 0 255 (dk_at dksX0_posts_1 12 rfl rfl)
theorem dX0_posts_37 : decode cX0_posts 37 = .ok (.if_icmp .ge 34, 3) := dk_162 0 34 (dk_at dksX0_posts_1 15 rfl rfl)
theorem dX0_posts_40 : decode cX0_posts 40 = .ok (.iload 4, 2) := dk_21 4 (dk_at dksX0_posts_1 18 rfl rfl)
theorem dX0_posts_42 : decode cX0_posts 42 = .ok (.invokestatic 352, 3) := dk_184 1 96 (dk_at dksX0_posts_1 20 rfl rfl)
theorem dX0_posts_45 : decode cX0_posts 45 = .ok (.iload_n 3, 1) := dk_29 (dk_at dksX0_posts_1 23 rfl rfl)
theorem dX0_posts_46 : decode cX0_posts 46 = .ok (.invokestatic 352, 3) := dk_184 1 96 (dk_at dksX0_posts_2 0 rfl rfl)
theorem dX0_posts_49 : decode cX0_posts 49 = .ok (.if_icmp .ge 16, 3) := dk_162 0 16 (dk_at dksX0_posts_2 3 rfl rfl)
theorem dX0_posts_52 : decode cX0_posts 52 = .ok (.aload_n 0, 1) := dk_42 (dk_at dksX0_posts_2 6 rfl rfl)
theorem dX0_posts_53 : decode cX0_posts 53 = .ok (.iload 4, 2) := dk_21 4 (dk_at dksX0_posts_2 7 rfl rfl)
theorem dX0_posts_55 : decode cX0_posts 55 = .ok (.iload_n 1, 1) := dk_27 (dk_at dksX0_posts_2 9 rfl rfl)
theorem dX0_posts_56 : decode cX0_posts 56 = .ok (.invokevirtual 355, 3) := dk_182 1 99 (dk_at dksX0_posts_2 10 rfl rfl)
theorem dX0_posts_59 : decode cX0_posts 59 = .ok (.ifCond .eq 6, 3) := dk_153 0 6 (dk_at dksX0_posts_2 13 rfl rfl)
theorem dX0_posts_62 : decode cX0_posts 62 = .ok (.iload 4, 2) := dk_21 4 (dk_at dksX0_posts_2 16 rfl rfl)
theorem dX0_posts_64 : decode cX0_posts 64 = .ok (.istore_n 3, 1) := dk_62 (dk_at dksX0_posts_2 18 rfl rfl)
theorem dX0_posts_65 : decode cX0_posts 65 = .ok (.iinc 4 1, 3) := dk_132 4 1 (dk_at dksX0_posts_2 19 rfl rfl)
theorem dX0_posts_68 : decode cX0_posts 68 = .ok (.goto (-36), 3) := dk_167 255 220 (dk_at dksX0_posts_3 0 rfl rfl)
theorem dX0_posts_71 : decode cX0_posts 71 = .ok (.iload_n 2, 1) := dk_28 (dk_at dksX0_posts_3 3 rfl rfl)
theorem dX0_posts_72 : decode cX0_posts 72 = .ok (.ifCond .ne 10, 3) := dk_154 0 10 (dk_at dksX0_posts_3 4 rfl rfl)
theorem dX0_posts_75 : decode cX0_posts 75 = .ok (.iload_n 3, 1) := dk_29 (dk_at dksX0_posts_3 7 rfl rfl)
theorem dX0_posts_76 : decode cX0_posts 76 = .ok (.invokestatic 352, 3) := dk_184 1 96 (dk_at dksX0_posts_3 8 rfl rfl)
theorem dX0_posts_79 : decode cX0_posts 79 = .ok (.goto 4, 3) := dk_167 0 4 (dk_at dksX0_posts_3 11 rfl rfl)
theorem dX0_posts_82 : decode cX0_posts 82 = .ok (.iload_n 3, 1) := dk_29 (dk_at dksX0_posts_3 14 rfl rfl)
theorem dX0_posts_83 : decode cX0_posts 83 = .ok (.ireturn, 1) := dk_172 (dk_at dksX0_posts_3 15 rfl rfl)
abbrev cX0_ones : ByteArray := prog_1_method_5_code
def yX0_ones : MethodName := ⟨RX0, "ones", "(I)I"⟩
theorem dX0_ones_0 : decode cX0_ones 0 = .ok (.iload_n 0, 1) := by decide +kernel
theorem dX0_ones_1 : decode cX0_ones 1 = .ok (.invokestatic 11, 3) := by decide +kernel
theorem dX0_ones_4 : decode cX0_ones 4 = .ok (.ireturn, 1) := by decide +kernel
abbrev cX0_areNear : ByteArray := prog_1_method_63_code
def yX0_areNear : MethodName := ⟨RX0, "areNear", "(II)Z"⟩
def dkwX0_areNear_3 : List UInt8 := [54, 5, 132, 6, 1, 167, 255, 215, 21, 5, 154, 0, 5, 3, 172, 132, 4, 1, 167, 255, 176, 4, 172]
abbrev dktX0_areNear_3 : List UInt8 := dkwX0_areNear_3 ++ []
def dkwX0_areNear_2 : List UInt8 := [184, 1, 93, 153, 0, 19, 42, 21, 6, 21, 4, 182, 1, 79, 28, 163, 0, 7, 4, 167, 0, 4, 3, 128]
abbrev dktX0_areNear_2 : List UInt8 := dkwX0_areNear_2 ++ dktX0_areNear_3
def dkwX0_areNear_1 : List UInt8 := [4, 167, 0, 4, 3, 54, 5, 3, 54, 6, 21, 6, 16, 8, 162, 0, 40, 21, 5, 27, 21, 6]
abbrev dktX0_areNear_1 : List UInt8 := dkwX0_areNear_1 ++ dktX0_areNear_2
def dkwX0_areNear_0 : List UInt8 := [42, 182, 1, 90, 62, 3, 54, 4, 21, 4, 16, 8, 162, 0, 79, 29, 21, 4, 184, 1, 93, 154, 0, 7]
abbrev dktX0_areNear_0 : List UInt8 := dkwX0_areNear_0 ++ dktX0_areNear_1
theorem dksX0_areNear_0 : cX0_areNear.data.toList.drop 0 = dktX0_areNear_0 := by decide +kernel
theorem dksX0_areNear_1 : cX0_areNear.data.toList.drop 24 = dktX0_areNear_1 := dk_seg dksX0_areNear_0 24 rfl rfl
theorem dksX0_areNear_2 : cX0_areNear.data.toList.drop 46 = dktX0_areNear_2 := dk_seg dksX0_areNear_1 22 rfl rfl
theorem dksX0_areNear_3 : cX0_areNear.data.toList.drop 70 = dktX0_areNear_3 := dk_seg dksX0_areNear_2 24 rfl rfl
theorem dX0_areNear_0 : decode cX0_areNear 0 = .ok (.aload_n 0, 1) := dk_42 (dk_at dksX0_areNear_0 0 rfl rfl)
theorem dX0_areNear_1 : decode cX0_areNear 1 = .ok (.invokevirtual 346, 3) := dk_182 1 90 (dk_at dksX0_areNear_0 1 rfl rfl)
theorem dX0_areNear_4 : decode cX0_areNear 4 = .ok (.istore_n 3, 1) := dk_62 (dk_at dksX0_areNear_0 4 rfl rfl)
theorem dX0_areNear_5 : decode cX0_areNear 5 = .ok (.iconst 0, 1) := dk_3 (dk_at dksX0_areNear_0 5 rfl rfl)
theorem dX0_areNear_6 : decode cX0_areNear 6 = .ok (.istore 4, 2) := dk_54 4 (dk_at dksX0_areNear_0 6 rfl rfl)
theorem dX0_areNear_8 : decode cX0_areNear 8 = .ok (.iload 4, 2) := dk_21 4 (dk_at dksX0_areNear_0 8 rfl rfl)
theorem dX0_areNear_10 : decode cX0_areNear 10 = .ok (.bipush 8, 2) := dk_16 8 (dk_at dksX0_areNear_0 10 rfl rfl)
theorem dX0_areNear_12 : decode cX0_areNear 12 = .ok (.if_icmp .ge 79, 3) := dk_162 0 79 (dk_at dksX0_areNear_0 12 rfl rfl)
theorem dX0_areNear_15 : decode cX0_areNear 15 = .ok (.iload_n 3, 1) := dk_29 (dk_at dksX0_areNear_0 15 rfl rfl)
theorem dX0_areNear_16 : decode cX0_areNear 16 = .ok (.iload 4, 2) := dk_21 4 (dk_at dksX0_areNear_0 16 rfl rfl)
theorem dX0_areNear_18 : decode cX0_areNear 18 = .ok (.invokestatic 349, 3) := dk_184 1 93 (dk_at dksX0_areNear_0 18 rfl rfl)
theorem dX0_areNear_21 : decode cX0_areNear 21 = .ok (.ifCond .ne 7, 3) := dk_154 0 7 (dk_at dksX0_areNear_0 21 rfl rfl)
theorem dX0_areNear_24 : decode cX0_areNear 24 = .ok (.iconst 1, 1) := dk_4 (dk_at dksX0_areNear_1 0 rfl rfl)
theorem dX0_areNear_25 : decode cX0_areNear 25 = .ok (.goto 4, 3) := dk_167 0 4 (dk_at dksX0_areNear_1 1 rfl rfl)
theorem dX0_areNear_28 : decode cX0_areNear 28 = .ok (.iconst 0, 1) := dk_3 (dk_at dksX0_areNear_1 4 rfl rfl)
theorem dX0_areNear_29 : decode cX0_areNear 29 = .ok (.istore 5, 2) := dk_54 5 (dk_at dksX0_areNear_1 5 rfl rfl)
theorem dX0_areNear_31 : decode cX0_areNear 31 = .ok (.iconst 0, 1) := dk_3 (dk_at dksX0_areNear_1 7 rfl rfl)
theorem dX0_areNear_32 : decode cX0_areNear 32 = .ok (.istore 6, 2) := dk_54 6 (dk_at dksX0_areNear_1 8 rfl rfl)
theorem dX0_areNear_34 : decode cX0_areNear 34 = .ok (.iload 6, 2) := dk_21 6 (dk_at dksX0_areNear_1 10 rfl rfl)
theorem dX0_areNear_36 : decode cX0_areNear 36 = .ok (.bipush 8, 2) := dk_16 8 (dk_at dksX0_areNear_1 12 rfl rfl)
theorem dX0_areNear_38 : decode cX0_areNear 38 = .ok (.if_icmp .ge 40, 3) := dk_162 0 40 (dk_at dksX0_areNear_1 14 rfl rfl)
theorem dX0_areNear_41 : decode cX0_areNear 41 = .ok (.iload 5, 2) := dk_21 5 (dk_at dksX0_areNear_1 17 rfl rfl)
theorem dX0_areNear_43 : decode cX0_areNear 43 = .ok (.iload_n 1, 1) := dk_27 (dk_at dksX0_areNear_1 19 rfl rfl)
theorem dX0_areNear_44 : decode cX0_areNear 44 = .ok (.iload 6, 2) := dk_21 6 (dk_at dksX0_areNear_1 20 rfl rfl)
theorem dX0_areNear_46 : decode cX0_areNear 46 = .ok (.invokestatic 349, 3) := dk_184 1 93 (dk_at dksX0_areNear_2 0 rfl rfl)
theorem dX0_areNear_49 : decode cX0_areNear 49 = .ok (.ifCond .eq 19, 3) := dk_153 0 19 (dk_at dksX0_areNear_2 3 rfl rfl)
theorem dX0_areNear_52 : decode cX0_areNear 52 = .ok (.aload_n 0, 1) := dk_42 (dk_at dksX0_areNear_2 6 rfl rfl)
theorem dX0_areNear_53 : decode cX0_areNear 53 = .ok (.iload 6, 2) := dk_21 6 (dk_at dksX0_areNear_2 7 rfl rfl)
theorem dX0_areNear_55 : decode cX0_areNear 55 = .ok (.iload 4, 2) := dk_21 4 (dk_at dksX0_areNear_2 9 rfl rfl)
theorem dX0_areNear_57 : decode cX0_areNear 57 = .ok (.invokevirtual 335, 3) := dk_182 1 79 (dk_at dksX0_areNear_2 11 rfl rfl)
theorem dX0_areNear_60 : decode cX0_areNear 60 = .ok (.iload_n 2, 1) := dk_28 (dk_at dksX0_areNear_2 14 rfl rfl)
theorem dX0_areNear_61 : decode cX0_areNear 61 = .ok (.if_icmp .gt 7, 3) := dk_163 0 7 (dk_at dksX0_areNear_2 15 rfl rfl)
theorem dX0_areNear_64 : decode cX0_areNear 64 = .ok (.iconst 1, 1) := dk_4 (dk_at dksX0_areNear_2 18 rfl rfl)
theorem dX0_areNear_65 : decode cX0_areNear 65 = .ok (.goto 4, 3) := dk_167 0 4 (dk_at dksX0_areNear_2 19 rfl rfl)
theorem dX0_areNear_68 : decode cX0_areNear 68 = .ok (.iconst 0, 1) := dk_3 (dk_at dksX0_areNear_2 22 rfl rfl)
theorem dX0_areNear_69 : decode cX0_areNear 69 = .ok (.ior, 1) := dk_128 (dk_at dksX0_areNear_2 23 rfl rfl)
theorem dX0_areNear_70 : decode cX0_areNear 70 = .ok (.istore 5, 2) := dk_54 5 (dk_at dksX0_areNear_3 0 rfl rfl)
theorem dX0_areNear_72 : decode cX0_areNear 72 = .ok (.iinc 6 1, 3) := dk_132 6 1 (dk_at dksX0_areNear_3 2 rfl rfl)
theorem dX0_areNear_75 : decode cX0_areNear 75 = .ok (.goto (-41), 3) := dk_167 255 215 (dk_at dksX0_areNear_3 5 rfl rfl)
theorem dX0_areNear_78 : decode cX0_areNear 78 = .ok (.iload 5, 2) := dk_21 5 (dk_at dksX0_areNear_3 8 rfl rfl)
theorem dX0_areNear_80 : decode cX0_areNear 80 = .ok (.ifCond .ne 5, 3) := dk_154 0 5 (dk_at dksX0_areNear_3 10 rfl rfl)
theorem dX0_areNear_83 : decode cX0_areNear 83 = .ok (.iconst 0, 1) := dk_3 (dk_at dksX0_areNear_3 13 rfl rfl)
theorem dX0_areNear_84 : decode cX0_areNear 84 = .ok (.ireturn, 1) := dk_172 (dk_at dksX0_areNear_3 14 rfl rfl)
theorem dX0_areNear_85 : decode cX0_areNear 85 = .ok (.iinc 4 1, 3) := dk_132 4 1 (dk_at dksX0_areNear_3 15 rfl rfl)
theorem dX0_areNear_88 : decode cX0_areNear 88 = .ok (.goto (-80), 3) := dk_167 255 176 (dk_at dksX0_areNear_3 18 rfl rfl)
theorem dX0_areNear_91 : decode cX0_areNear 91 = .ok (.iconst 1, 1) := dk_4 (dk_at dksX0_areNear_3 21 rfl rfl)
theorem dX0_areNear_92 : decode cX0_areNear 92 = .ok (.ireturn, 1) := dk_172 (dk_at dksX0_areNear_3 22 rfl rfl)
abbrev cX0_ends : ByteArray := prog_1_method_62_code
def yX0_ends : MethodName := ⟨RX0, "ends", "()I"⟩
def dkwX0_ends_2 : List UInt8 := [172]
abbrev dktX0_ends_2 : List UInt8 := dkwX0_ends_2 ++ []
def dkwX0_ends_1 : List UInt8 := [28, 46, 120, 4, 42, 180, 0, 39, 180, 0, 147, 28, 46, 120, 128, 128, 60, 132, 2, 1, 167, 255, 216, 27]
abbrev dktX0_ends_1 : List UInt8 := dkwX0_ends_1 ++ dktX0_ends_2
def dkwX0_ends_0 : List UInt8 := [3, 60, 3, 61, 28, 42, 180, 0, 39, 180, 0, 124, 162, 0, 35, 27, 4, 42, 180, 0, 39, 180, 0, 144]
abbrev dktX0_ends_0 : List UInt8 := dkwX0_ends_0 ++ dktX0_ends_1
theorem dksX0_ends_0 : cX0_ends.data.toList.drop 0 = dktX0_ends_0 := by decide +kernel
theorem dksX0_ends_1 : cX0_ends.data.toList.drop 24 = dktX0_ends_1 := dk_seg dksX0_ends_0 24 rfl rfl
theorem dksX0_ends_2 : cX0_ends.data.toList.drop 48 = dktX0_ends_2 := dk_seg dksX0_ends_1 24 rfl rfl
theorem dX0_ends_0 : decode cX0_ends 0 = .ok (.iconst 0, 1) := dk_3 (dk_at dksX0_ends_0 0 rfl rfl)
theorem dX0_ends_1 : decode cX0_ends 1 = .ok (.istore_n 1, 1) := dk_60 (dk_at dksX0_ends_0 1 rfl rfl)
theorem dX0_ends_2 : decode cX0_ends 2 = .ok (.iconst 0, 1) := dk_3 (dk_at dksX0_ends_0 2 rfl rfl)
theorem dX0_ends_3 : decode cX0_ends 3 = .ok (.istore_n 2, 1) := dk_61 (dk_at dksX0_ends_0 3 rfl rfl)
theorem dX0_ends_4 : decode cX0_ends 4 = .ok (.iload_n 2, 1) := dk_28 (dk_at dksX0_ends_0 4 rfl rfl)
theorem dX0_ends_5 : decode cX0_ends 5 = .ok (.aload_n 0, 1) := dk_42 (dk_at dksX0_ends_0 5 rfl rfl)
theorem dX0_ends_6 : decode cX0_ends 6 = .ok (.getfield 39, 3) := dk_180 0 39 (dk_at dksX0_ends_0 6 rfl rfl)
theorem dX0_ends_9 : decode cX0_ends 9 = .ok (.getfield 124, 3) := dk_180 0 124 (dk_at dksX0_ends_0 9 rfl rfl)
theorem dX0_ends_12 : decode cX0_ends 12 = .ok (.if_icmp .ge 35, 3) := dk_162 0 35 (dk_at dksX0_ends_0 12 rfl rfl)
theorem dX0_ends_15 : decode cX0_ends 15 = .ok (.iload_n 1, 1) := dk_27 (dk_at dksX0_ends_0 15 rfl rfl)
theorem dX0_ends_16 : decode cX0_ends 16 = .ok (.iconst 1, 1) := dk_4 (dk_at dksX0_ends_0 16 rfl rfl)
theorem dX0_ends_17 : decode cX0_ends 17 = .ok (.aload_n 0, 1) := dk_42 (dk_at dksX0_ends_0 17 rfl rfl)
theorem dX0_ends_18 : decode cX0_ends 18 = .ok (.getfield 39, 3) := dk_180 0 39 (dk_at dksX0_ends_0 18 rfl rfl)
theorem dX0_ends_21 : decode cX0_ends 21 = .ok (.getfield 144, 3) := dk_180 0 144 (dk_at dksX0_ends_0 21 rfl rfl)
theorem dX0_ends_24 : decode cX0_ends 24 = .ok (.iload_n 2, 1) := dk_28 (dk_at dksX0_ends_1 0 rfl rfl)
theorem dX0_ends_25 : decode cX0_ends 25 = .ok (.iaload, 1) := dk_46 (dk_at dksX0_ends_1 1 rfl rfl)
theorem dX0_ends_26 : decode cX0_ends 26 = .ok (.ishl, 1) := dk_120 (dk_at dksX0_ends_1 2 rfl rfl)
theorem dX0_ends_27 : decode cX0_ends 27 = .ok (.iconst 1, 1) := dk_4 (dk_at dksX0_ends_1 3 rfl rfl)
theorem dX0_ends_28 : decode cX0_ends 28 = .ok (.aload_n 0, 1) := dk_42 (dk_at dksX0_ends_1 4 rfl rfl)
theorem dX0_ends_29 : decode cX0_ends 29 = .ok (.getfield 39, 3) := dk_180 0 39 (dk_at dksX0_ends_1 5 rfl rfl)
theorem dX0_ends_32 : decode cX0_ends 32 = .ok (.getfield 147, 3) := dk_180 0 147 (dk_at dksX0_ends_1 8 rfl rfl)
theorem dX0_ends_35 : decode cX0_ends 35 = .ok (.iload_n 2, 1) := dk_28 (dk_at dksX0_ends_1 11 rfl rfl)
theorem dX0_ends_36 : decode cX0_ends 36 = .ok (.iaload, 1) := dk_46 (dk_at dksX0_ends_1 12 rfl rfl)
theorem dX0_ends_37 : decode cX0_ends 37 = .ok (.ishl, 1) := dk_120 (dk_at dksX0_ends_1 13 rfl rfl)
theorem dX0_ends_38 : decode cX0_ends 38 = .ok (.ior, 1) := dk_128 (dk_at dksX0_ends_1 14 rfl rfl)
theorem dX0_ends_39 : decode cX0_ends 39 = .ok (.ior, 1) := dk_128 (dk_at dksX0_ends_1 15 rfl rfl)
theorem dX0_ends_40 : decode cX0_ends 40 = .ok (.istore_n 1, 1) := dk_60 (dk_at dksX0_ends_1 16 rfl rfl)
theorem dX0_ends_41 : decode cX0_ends 41 = .ok (.iinc 2 1, 3) := dk_132 2 1 (dk_at dksX0_ends_1 17 rfl rfl)
theorem dX0_ends_44 : decode cX0_ends 44 = .ok (.goto (-40), 3) := dk_167 255 216 (dk_at dksX0_ends_1 20 rfl rfl)
theorem dX0_ends_47 : decode cX0_ends 47 = .ok (.iload_n 1, 1) := dk_27 (dk_at dksX0_ends_1 23 rfl rfl)
theorem dX0_ends_48 : decode cX0_ends 48 = .ok (.ireturn, 1) := dk_172 (dk_at dksX0_ends_2 0 rfl rfl)
abbrev cX0_isOf : ByteArray := prog_1_method_4_code
def yX0_isOf : MethodName := ⟨RX0, "isOf", "(II)Z"⟩
def dkwX0_isOf_0 : List UInt8 := [26, 27, 122, 4, 126, 4, 160, 0, 7, 4, 167, 0, 4, 3, 172]
abbrev dktX0_isOf_0 : List UInt8 := dkwX0_isOf_0 ++ []
theorem dksX0_isOf_0 : cX0_isOf.data.toList.drop 0 = dktX0_isOf_0 := by decide +kernel
theorem dX0_isOf_0 : decode cX0_isOf 0 = .ok (.iload_n 0, 1) := dk_26 (dk_at dksX0_isOf_0 0 rfl rfl)
theorem dX0_isOf_1 : decode cX0_isOf 1 = .ok (.iload_n 1, 1) := dk_27 (dk_at dksX0_isOf_0 1 rfl rfl)
theorem dX0_isOf_2 : decode cX0_isOf 2 = .ok (.ishr, 1) := dk_122 (dk_at dksX0_isOf_0 2 rfl rfl)
theorem dX0_isOf_3 : decode cX0_isOf 3 = .ok (.iconst 1, 1) := dk_4 (dk_at dksX0_isOf_0 3 rfl rfl)
theorem dX0_isOf_4 : decode cX0_isOf 4 = .ok (.iand, 1) := dk_126 (dk_at dksX0_isOf_0 4 rfl rfl)
theorem dX0_isOf_5 : decode cX0_isOf 5 = .ok (.iconst 1, 1) := dk_4 (dk_at dksX0_isOf_0 5 rfl rfl)
theorem dX0_isOf_6 : decode cX0_isOf 6 = .ok (.if_icmp .ne 7, 3) := dk_160 0 7 (dk_at dksX0_isOf_0 6 rfl rfl)
theorem dX0_isOf_9 : decode cX0_isOf 9 = .ok (.iconst 1, 1) := dk_4 (dk_at dksX0_isOf_0 9 rfl rfl)
theorem dX0_isOf_10 : decode cX0_isOf 10 = .ok (.goto 4, 3) := dk_167 0 4 (dk_at dksX0_isOf_0 10 rfl rfl)
theorem dX0_isOf_13 : decode cX0_isOf 13 = .ok (.iconst 0, 1) := dk_3 (dk_at dksX0_isOf_0 13 rfl rfl)
theorem dX0_isOf_14 : decode cX0_isOf 14 = .ok (.ireturn, 1) := dk_172 (dk_at dksX0_isOf_0 14 rfl rfl)
abbrev cX0_hear : ByteArray := prog_1_method_65_code
def yX0_hear : MethodName := ⟨RX0, "hear", "(I)I"⟩
def dkwX0_hear_3 : List UInt8 := [180, 1, 102, 182, 0, 121, 172]
abbrev dktX0_hear_3 : List UInt8 := dkwX0_hear_3 ++ []
def dkwX0_hear_2 : List UInt8 := [180, 1, 102, 27, 79, 42, 180, 0, 39, 89, 180, 1, 102, 4, 96, 181, 1, 102, 42, 42, 180, 0, 39]
abbrev dktX0_hear_2 : List UInt8 := dkwX0_hear_2 ++ dktX0_hear_3
def dkwX0_hear_1 : List UInt8 := [16, 6, 160, 0, 10, 42, 16, 251, 182, 0, 130, 172, 42, 180, 0, 39, 180, 1, 105, 42, 180, 0, 39]
abbrev dktX0_hear_1 : List UInt8 := dkwX0_hear_1 ++ dktX0_hear_2
def dkwX0_hear_0 : List UInt8 := [27, 3, 16, 19, 184, 0, 26, 154, 0, 9, 42, 2, 182, 0, 130, 172, 42, 180, 0, 39, 180, 1, 102]
abbrev dktX0_hear_0 : List UInt8 := dkwX0_hear_0 ++ dktX0_hear_1
theorem dksX0_hear_0 : cX0_hear.data.toList.drop 0 = dktX0_hear_0 := by decide +kernel
theorem dksX0_hear_1 : cX0_hear.data.toList.drop 23 = dktX0_hear_1 := dk_seg dksX0_hear_0 23 rfl rfl
theorem dksX0_hear_2 : cX0_hear.data.toList.drop 46 = dktX0_hear_2 := dk_seg dksX0_hear_1 23 rfl rfl
theorem dksX0_hear_3 : cX0_hear.data.toList.drop 69 = dktX0_hear_3 := dk_seg dksX0_hear_2 23 rfl rfl
theorem dX0_hear_0 : decode cX0_hear 0 = .ok (.iload_n 1, 1) := dk_27 (dk_at dksX0_hear_0 0 rfl rfl)
theorem dX0_hear_1 : decode cX0_hear 1 = .ok (.iconst 0, 1) := dk_3 (dk_at dksX0_hear_0 1 rfl rfl)
theorem dX0_hear_2 : decode cX0_hear 2 = .ok (.bipush 19, 2) := dk_16 19 (dk_at dksX0_hear_0 2 rfl rfl)
theorem dX0_hear_4 : decode cX0_hear 4 = .ok (.invokestatic 26, 3) := dk_184 0 26 (dk_at dksX0_hear_0 4 rfl rfl)
theorem dX0_hear_7 : decode cX0_hear 7 = .ok (.ifCond .ne 9, 3) := dk_154 0 9 (dk_at dksX0_hear_0 7 rfl rfl)
theorem dX0_hear_10 : decode cX0_hear 10 = .ok (.aload_n 0, 1) := dk_42 (dk_at dksX0_hear_0 10 rfl rfl)
theorem dX0_hear_11 : decode cX0_hear 11 = .ok (.iconst (-1), 1) := dk_2 (dk_at dksX0_hear_0 11 rfl rfl)
theorem dX0_hear_12 : decode cX0_hear 12 = .ok (.invokevirtual 130, 3) := dk_182 0 130 (dk_at dksX0_hear_0 12 rfl rfl)
theorem dX0_hear_15 : decode cX0_hear 15 = .ok (.ireturn, 1) := dk_172 (dk_at dksX0_hear_0 15 rfl rfl)
theorem dX0_hear_16 : decode cX0_hear 16 = .ok (.aload_n 0, 1) := dk_42 (dk_at dksX0_hear_0 16 rfl rfl)
theorem dX0_hear_17 : decode cX0_hear 17 = .ok (.getfield 39, 3) := dk_180 0 39 (dk_at dksX0_hear_0 17 rfl rfl)
theorem dX0_hear_20 : decode cX0_hear 20 = .ok (.getfield 358, 3) := dk_180 1 102 (dk_at dksX0_hear_0 20 rfl rfl)
theorem dX0_hear_23 : decode cX0_hear 23 = .ok (.bipush 6, 2) := dk_16 6 (dk_at dksX0_hear_1 0 rfl rfl)
theorem dX0_hear_25 : decode cX0_hear 25 = .ok (.if_icmp .ne 10, 3) := dk_160 0 10 (dk_at dksX0_hear_1 2 rfl rfl)
theorem dX0_hear_28 : decode cX0_hear 28 = .ok (.aload_n 0, 1) := dk_42 (dk_at dksX0_hear_1 5 rfl rfl)
theorem dX0_hear_29 : decode cX0_hear 29 = .ok (.bipush (-5), 2) := dk_16 251 (dk_at dksX0_hear_1 6 rfl rfl)
theorem dX0_hear_31 : decode cX0_hear 31 = .ok (.invokevirtual 130, 3) := dk_182 0 130 (dk_at dksX0_hear_1 8 rfl rfl)
theorem dX0_hear_34 : decode cX0_hear 34 = .ok (.ireturn, 1) := dk_172 (dk_at dksX0_hear_1 11 rfl rfl)
theorem dX0_hear_35 : decode cX0_hear 35 = .ok (.aload_n 0, 1) := dk_42 (dk_at dksX0_hear_1 12 rfl rfl)
theorem dX0_hear_36 : decode cX0_hear 36 = .ok (.getfield 39, 3) := dk_180 0 39 (dk_at dksX0_hear_1 13 rfl rfl)
theorem dX0_hear_39 : decode cX0_hear 39 = .ok (.getfield 361, 3) := dk_180 1 105 (dk_at dksX0_hear_1 16 rfl rfl)
theorem dX0_hear_42 : decode cX0_hear 42 = .ok (.aload_n 0, 1) := dk_42 (dk_at dksX0_hear_1 19 rfl rfl)
theorem dX0_hear_43 : decode cX0_hear 43 = .ok (.getfield 39, 3) := dk_180 0 39 (dk_at dksX0_hear_1 20 rfl rfl)
theorem dX0_hear_46 : decode cX0_hear 46 = .ok (.getfield 358, 3) := dk_180 1 102 (dk_at dksX0_hear_2 0 rfl rfl)
theorem dX0_hear_49 : decode cX0_hear 49 = .ok (.iload_n 1, 1) := dk_27 (dk_at dksX0_hear_2 3 rfl rfl)
theorem dX0_hear_50 : decode cX0_hear 50 = .ok (.iastore, 1) := dk_79 (dk_at dksX0_hear_2 4 rfl rfl)
theorem dX0_hear_51 : decode cX0_hear 51 = .ok (.aload_n 0, 1) := dk_42 (dk_at dksX0_hear_2 5 rfl rfl)
theorem dX0_hear_52 : decode cX0_hear 52 = .ok (.getfield 39, 3) := dk_180 0 39 (dk_at dksX0_hear_2 6 rfl rfl)
theorem dX0_hear_55 : decode cX0_hear 55 = .ok (.dup, 1) := dk_89 (dk_at dksX0_hear_2 9 rfl rfl)
theorem dX0_hear_56 : decode cX0_hear 56 = .ok (.getfield 358, 3) := dk_180 1 102 (dk_at dksX0_hear_2 10 rfl rfl)
theorem dX0_hear_59 : decode cX0_hear 59 = .ok (.iconst 1, 1) := dk_4 (dk_at dksX0_hear_2 13 rfl rfl)
theorem dX0_hear_60 : decode cX0_hear 60 = .ok (.iadd, 1) := dk_96 (dk_at dksX0_hear_2 14 rfl rfl)
theorem dX0_hear_61 : decode cX0_hear 61 = .ok (.putfield 358, 3) := dk_181 1 102 (dk_at dksX0_hear_2 15 rfl rfl)
theorem dX0_hear_64 : decode cX0_hear 64 = .ok (.aload_n 0, 1) := dk_42 (dk_at dksX0_hear_2 18 rfl rfl)
theorem dX0_hear_65 : decode cX0_hear 65 = .ok (.aload_n 0, 1) := dk_42 (dk_at dksX0_hear_2 19 rfl rfl)
theorem dX0_hear_66 : decode cX0_hear 66 = .ok (.getfield 39, 3) := dk_180 0 39 (dk_at dksX0_hear_2 20 rfl rfl)
theorem dX0_hear_69 : decode cX0_hear 69 = .ok (.getfield 358, 3) := dk_180 1 102 (dk_at dksX0_hear_3 0 rfl rfl)
theorem dX0_hear_72 : decode cX0_hear 72 = .ok (.invokevirtual 121, 3) := dk_182 0 121 (dk_at dksX0_hear_3 3 rfl rfl)
theorem dX0_hear_75 : decode cX0_hear 75 = .ok (.ireturn, 1) := dk_172 (dk_at dksX0_hear_3 6 rfl rfl)
abbrev cX0_forget : ByteArray := prog_1_method_66_code
def yX0_forget : MethodName := ⟨RX0, "forget", "()I"⟩
def dkwX0_forget_0 : List UInt8 := [42, 180, 0, 39, 180, 1, 102, 60, 42, 180, 0, 39, 3, 181, 1, 102, 27, 172]
abbrev dktX0_forget_0 : List UInt8 := dkwX0_forget_0 ++ []
theorem dksX0_forget_0 : cX0_forget.data.toList.drop 0 = dktX0_forget_0 := by decide +kernel
theorem dX0_forget_0 : decode cX0_forget 0 = .ok (.aload_n 0, 1) := dk_42 (dk_at dksX0_forget_0 0 rfl rfl)
theorem dX0_forget_1 : decode cX0_forget 1 = .ok (.getfield 39, 3) := dk_180 0 39 (dk_at dksX0_forget_0 1 rfl rfl)
theorem dX0_forget_4 : decode cX0_forget 4 = .ok (.getfield 358, 3) := dk_180 1 102 (dk_at dksX0_forget_0 4 rfl rfl)
theorem dX0_forget_7 : decode cX0_forget 7 = .ok (.istore_n 1, 1) := dk_60 (dk_at dksX0_forget_0 7 rfl rfl)
theorem dX0_forget_8 : decode cX0_forget 8 = .ok (.aload_n 0, 1) := dk_42 (dk_at dksX0_forget_0 8 rfl rfl)
theorem dX0_forget_9 : decode cX0_forget 9 = .ok (.getfield 39, 3) := dk_180 0 39 (dk_at dksX0_forget_0 9 rfl rfl)
theorem dX0_forget_12 : decode cX0_forget 12 = .ok (.iconst 0, 1) := dk_3 (dk_at dksX0_forget_0 12 rfl rfl)
theorem dX0_forget_13 : decode cX0_forget 13 = .ok (.putfield 358, 3) := dk_181 1 102 (dk_at dksX0_forget_0 13 rfl rfl)
theorem dX0_forget_16 : decode cX0_forget 16 = .ok (.iload_n 1, 1) := dk_27 (dk_at dksX0_forget_0 16 rfl rfl)
theorem dX0_forget_17 : decode cX0_forget 17 = .ok (.ireturn, 1) := dk_172 (dk_at dksX0_forget_0 17 rfl rfl)
abbrev cX0_gone : ByteArray := prog_1_method_68_code
def yX0_gone : MethodName := ⟨RX0, "gone", "(I)I"⟩
def dkwX0_gone_3 : List UInt8 := [132, 4, 1, 167, 255, 215, 27, 154, 0, 7, 28, 167, 0, 4, 29, 172]
abbrev dktX0_gone_3 : List UInt8 := dkwX0_gone_3 ++ []
def dkwX0_gone_2 : List UInt8 := [46, 96, 61, 29, 42, 180, 0, 96, 21, 4, 46, 158, 0, 10, 4, 21, 4, 120, 167, 0, 4, 3, 128, 62]
abbrev dktX0_gone_2 : List UInt8 := dkwX0_gone_2 ++ dktX0_gone_3
def dkwX0_gone_1 : List UInt8 := [182, 1, 114, 3, 61, 3, 62, 3, 54, 4, 21, 4, 16, 8, 162, 0, 40, 28, 42, 180, 0, 96, 21, 4]
abbrev dktX0_gone_1 : List UInt8 := dkwX0_gone_1 ++ dktX0_gone_2
def dkwX0_gone_0 : List UInt8 := [27, 3, 5, 184, 0, 26, 154, 0, 5, 2, 172, 42, 27, 4, 159, 0, 7, 4, 167, 0, 4, 3]
abbrev dktX0_gone_0 : List UInt8 := dkwX0_gone_0 ++ dktX0_gone_1
theorem dksX0_gone_0 : cX0_gone.data.toList.drop 0 = dktX0_gone_0 := by decide +kernel
theorem dksX0_gone_1 : cX0_gone.data.toList.drop 22 = dktX0_gone_1 := dk_seg dksX0_gone_0 22 rfl rfl
theorem dksX0_gone_2 : cX0_gone.data.toList.drop 46 = dktX0_gone_2 := dk_seg dksX0_gone_1 24 rfl rfl
theorem dksX0_gone_3 : cX0_gone.data.toList.drop 70 = dktX0_gone_3 := dk_seg dksX0_gone_2 24 rfl rfl
theorem dX0_gone_0 : decode cX0_gone 0 = .ok (.iload_n 1, 1) := dk_27 (dk_at dksX0_gone_0 0 rfl rfl)
theorem dX0_gone_1 : decode cX0_gone 1 = .ok (.iconst 0, 1) := dk_3 (dk_at dksX0_gone_0 1 rfl rfl)
theorem dX0_gone_2 : decode cX0_gone 2 = .ok (.iconst 2, 1) := dk_5 (dk_at dksX0_gone_0 2 rfl rfl)
theorem dX0_gone_3 : decode cX0_gone 3 = .ok (.invokestatic 26, 3) := dk_184 0 26 (dk_at dksX0_gone_0 3 rfl rfl)
theorem dX0_gone_6 : decode cX0_gone 6 = .ok (.ifCond .ne 5, 3) := dk_154 0 5 (dk_at dksX0_gone_0 6 rfl rfl)
theorem dX0_gone_9 : decode cX0_gone 9 = .ok (.iconst (-1), 1) := dk_2 (dk_at dksX0_gone_0 9 rfl rfl)
theorem dX0_gone_10 : decode cX0_gone 10 = .ok (.ireturn, 1) := dk_172 (dk_at dksX0_gone_0 10 rfl rfl)
theorem dX0_gone_11 : decode cX0_gone 11 = .ok (.aload_n 0, 1) := dk_42 (dk_at dksX0_gone_0 11 rfl rfl)
theorem dX0_gone_12 : decode cX0_gone 12 = .ok (.iload_n 1, 1) := dk_27 (dk_at dksX0_gone_0 12 rfl rfl)
theorem dX0_gone_13 : decode cX0_gone 13 = .ok (.iconst 1, 1) := dk_4 (dk_at dksX0_gone_0 13 rfl rfl)
theorem dX0_gone_14 : decode cX0_gone 14 = .ok (.if_icmp .eq 7, 3) := dk_159 0 7 (dk_at dksX0_gone_0 14 rfl rfl)
theorem dX0_gone_17 : decode cX0_gone 17 = .ok (.iconst 1, 1) := dk_4 (dk_at dksX0_gone_0 17 rfl rfl)
theorem dX0_gone_18 : decode cX0_gone 18 = .ok (.goto 4, 3) := dk_167 0 4 (dk_at dksX0_gone_0 18 rfl rfl)
theorem dX0_gone_21 : decode cX0_gone 21 = .ok (.iconst 0, 1) := dk_3 (dk_at dksX0_gone_0 21 rfl rfl)
theorem dX0_gone_22 : decode cX0_gone 22 = .ok (.invokevirtual 370, 3) := dk_182 1 114 (dk_at dksX0_gone_1 0 rfl rfl)
theorem dX0_gone_25 : decode cX0_gone 25 = .ok (.iconst 0, 1) := dk_3 (dk_at dksX0_gone_1 3 rfl rfl)
theorem dX0_gone_26 : decode cX0_gone 26 = .ok (.istore_n 2, 1) := dk_61 (dk_at dksX0_gone_1 4 rfl rfl)
theorem dX0_gone_27 : decode cX0_gone 27 = .ok (.iconst 0, 1) := dk_3 (dk_at dksX0_gone_1 5 rfl rfl)
theorem dX0_gone_28 : decode cX0_gone 28 = .ok (.istore_n 3, 1) := dk_62 (dk_at dksX0_gone_1 6 rfl rfl)
theorem dX0_gone_29 : decode cX0_gone 29 = .ok (.iconst 0, 1) := dk_3 (dk_at dksX0_gone_1 7 rfl rfl)
theorem dX0_gone_30 : decode cX0_gone 30 = .ok (.istore 4, 2) := dk_54 4 (dk_at dksX0_gone_1 8 rfl rfl)
theorem dX0_gone_32 : decode cX0_gone 32 = .ok (.iload 4, 2) := dk_21 4 (dk_at dksX0_gone_1 10 rfl rfl)
theorem dX0_gone_34 : decode cX0_gone 34 = .ok (.bipush 8, 2) := dk_16 8 (dk_at dksX0_gone_1 12 rfl rfl)
theorem dX0_gone_36 : decode cX0_gone 36 = .ok (.if_icmp .ge 40, 3) := dk_162 0 40 (dk_at dksX0_gone_1 14 rfl rfl)
theorem dX0_gone_39 : decode cX0_gone 39 = .ok (.iload_n 2, 1) := dk_28 (dk_at dksX0_gone_1 17 rfl rfl)
theorem dX0_gone_40 : decode cX0_gone 40 = .ok (.aload_n 0, 1) := dk_42 (dk_at dksX0_gone_1 18 rfl rfl)
theorem dX0_gone_41 : decode cX0_gone 41 = .ok (.getfield 96, 3) := dk_180 0 96 (dk_at dksX0_gone_1 19 rfl rfl)
theorem dX0_gone_44 : decode cX0_gone 44 = .ok (.iload 4, 2) := dk_21 4 (dk_at dksX0_gone_1 22 rfl rfl)
theorem dX0_gone_46 : decode cX0_gone 46 = .ok (.iaload, 1) := dk_46 (dk_at dksX0_gone_2 0 rfl rfl)
theorem dX0_gone_47 : decode cX0_gone 47 = .ok (.iadd, 1) := dk_96 (dk_at dksX0_gone_2 1 rfl rfl)
theorem dX0_gone_48 : decode cX0_gone 48 = .ok (.istore_n 2, 1) := dk_61 (dk_at dksX0_gone_2 2 rfl rfl)
theorem dX0_gone_49 : decode cX0_gone 49 = .ok (.iload_n 3, 1) := dk_29 (dk_at dksX0_gone_2 3 rfl rfl)
theorem dX0_gone_50 : decode cX0_gone 50 = .ok (.aload_n 0, 1) := dk_42 (dk_at dksX0_gone_2 4 rfl rfl)
theorem dX0_gone_51 : decode cX0_gone 51 = .ok (.getfield 96, 3) := dk_180 0 96 (dk_at dksX0_gone_2 5 rfl rfl)
theorem dX0_gone_54 : decode cX0_gone 54 = .ok (.iload 4, 2) := dk_21 4 (dk_at dksX0_gone_2 8 rfl rfl)
theorem dX0_gone_56 : decode cX0_gone 56 = .ok (.iaload, 1) := dk_46 (dk_at dksX0_gone_2 10 rfl rfl)
theorem dX0_gone_57 : decode cX0_gone 57 = .ok (.ifCond .le 10, 3) := dk_158 0 10 (dk_at dksX0_gone_2 11 rfl rfl)
theorem dX0_gone_60 : decode cX0_gone 60 = .ok (.iconst 1, 1) := dk_4 (dk_at dksX0_gone_2 14 rfl rfl)
theorem dX0_gone_61 : decode cX0_gone 61 = .ok (.iload 4, 2) := dk_21 4 (dk_at dksX0_gone_2 15 rfl rfl)
theorem dX0_gone_63 : decode cX0_gone 63 = .ok (.ishl, 1) := dk_120 (dk_at dksX0_gone_2 17 rfl rfl)
theorem dX0_gone_64 : decode cX0_gone 64 = .ok (.goto 4, 3) := dk_167 0 4 (dk_at dksX0_gone_2 18 rfl rfl)
theorem dX0_gone_67 : decode cX0_gone 67 = .ok (.iconst 0, 1) := dk_3 (dk_at dksX0_gone_2 21 rfl rfl)
theorem dX0_gone_68 : decode cX0_gone 68 = .ok (.ior, 1) := dk_128 (dk_at dksX0_gone_2 22 rfl rfl)
theorem dX0_gone_69 : decode cX0_gone 69 = .ok (.istore_n 3, 1) := dk_62 (dk_at dksX0_gone_2 23 rfl rfl)
theorem dX0_gone_70 : decode cX0_gone 70 = .ok (.iinc 4 1, 3) := dk_132 4 1 (dk_at dksX0_gone_3 0 rfl rfl)
theorem dX0_gone_73 : decode cX0_gone 73 = .ok (.goto (-41), 3) := dk_167 255 215 (dk_at dksX0_gone_3 3 rfl rfl)
theorem dX0_gone_76 : decode cX0_gone 76 = .ok (.iload_n 1, 1) := dk_27 (dk_at dksX0_gone_3 6 rfl rfl)
theorem dX0_gone_77 : decode cX0_gone 77 = .ok (.ifCond .ne 7, 3) := dk_154 0 7 (dk_at dksX0_gone_3 7 rfl rfl)
theorem dX0_gone_80 : decode cX0_gone 80 = .ok (.iload_n 2, 1) := dk_28 (dk_at dksX0_gone_3 10 rfl rfl)
theorem dX0_gone_81 : decode cX0_gone 81 = .ok (.goto 4, 3) := dk_167 0 4 (dk_at dksX0_gone_3 11 rfl rfl)
theorem dX0_gone_84 : decode cX0_gone 84 = .ok (.iload_n 3, 1) := dk_29 (dk_at dksX0_gone_3 14 rfl rfl)
theorem dX0_gone_85 : decode cX0_gone 85 = .ok (.ireturn, 1) := dk_172 (dk_at dksX0_gone_3 15 rfl rfl)
abbrev cX0_laysWays : ByteArray := prog_1_method_67_code
def yX0_laysWays : MethodName := ⟨RX0, "laysWays", "(Z)V"⟩
def dkwX0_laysWays_9 : List UInt8 := [167, 255, 71, 177]
abbrev dktX0_laysWays_9 : List UInt8 := dkwX0_laysWays_9 ++ []
def dkwX0_laysWays_8 : List UInt8 := [132, 4, 1, 167, 255, 158, 42, 180, 0, 99, 3, 42, 180, 0, 96, 3, 16, 8, 184, 1, 108, 132, 2, 1]
abbrev dktX0_laysWays_8 : List UInt8 := dkwX0_laysWays_8 ++ dktX0_laysWays_9
def dkwX0_laysWays_7 : List UInt8 := [21, 4, 46, 92, 46, 42, 180, 0, 96, 42, 180, 0, 39, 180, 0, 147, 21, 4, 46, 46, 96, 79]
abbrev dktX0_laysWays_7 : List UInt8 := dkwX0_laysWays_7 ++ dktX0_laysWays_8
def dkwX0_laysWays_6 : List UInt8 := [180, 0, 39, 180, 0, 144, 21, 4, 46, 46, 96, 79, 42, 180, 0, 99, 42, 180, 0, 39, 180, 0, 144]
abbrev dktX0_laysWays_6 : List UInt8 := dkwX0_laysWays_6 ++ dktX0_laysWays_7
def dkwX0_laysWays_5 : List UInt8 := [167, 0, 69, 42, 180, 0, 99, 42, 180, 0, 39, 180, 0, 147, 21, 4, 46, 92, 46, 42, 180, 0, 96, 42]
abbrev dktX0_laysWays_5 : List UInt8 := dkwX0_laysWays_5 ++ dktX0_laysWays_6
def dkwX0_laysWays_4 : List UInt8 := [180, 0, 39, 180, 0, 124, 162, 0, 92, 42, 182, 0, 156, 180, 0, 159, 21, 4, 46, 29, 159, 0, 6]
abbrev dktX0_laysWays_4 : List UInt8 := dkwX0_laysWays_4 ++ dktX0_laysWays_5
def dkwX0_laysWays_3 : List UInt8 := [162, 0, 17, 42, 180, 0, 99, 21, 4, 3, 79, 132, 4, 1, 167, 255, 238, 3, 54, 4, 21, 4, 42]
abbrev dktX0_laysWays_3 : List UInt8 := dkwX0_laysWays_3 ++ dktX0_laysWays_4
def dkwX0_laysWays_2 : List UInt8 := [167, 0, 14, 42, 180, 0, 39, 180, 1, 102, 4, 100, 28, 100, 46, 62, 3, 54, 4, 21, 4, 16, 8]
abbrev dktX0_laysWays_2 : List UInt8 := dkwX0_laysWays_2 ++ dktX0_laysWays_3
def dkwX0_laysWays_1 : List UInt8 := [42, 180, 0, 39, 180, 1, 102, 162, 0, 180, 42, 180, 0, 39, 180, 1, 105, 27, 153, 0, 7, 28]
abbrev dktX0_laysWays_1 : List UInt8 := dkwX0_laysWays_1 ++ dktX0_laysWays_2
def dkwX0_laysWays_0 : List UInt8 := [3, 61, 28, 16, 8, 162, 0, 16, 42, 180, 0, 96, 28, 4, 79, 132, 2, 1, 167, 255, 240, 3, 61, 28]
abbrev dktX0_laysWays_0 : List UInt8 := dkwX0_laysWays_0 ++ dktX0_laysWays_1
theorem dksX0_laysWays_0 : cX0_laysWays.data.toList.drop 0 = dktX0_laysWays_0 := by decide +kernel
theorem dksX0_laysWays_1 : cX0_laysWays.data.toList.drop 24 = dktX0_laysWays_1 := dk_seg dksX0_laysWays_0 24 rfl rfl
theorem dksX0_laysWays_2 : cX0_laysWays.data.toList.drop 46 = dktX0_laysWays_2 := dk_seg dksX0_laysWays_1 22 rfl rfl
theorem dksX0_laysWays_3 : cX0_laysWays.data.toList.drop 69 = dktX0_laysWays_3 := dk_seg dksX0_laysWays_2 23 rfl rfl
theorem dksX0_laysWays_4 : cX0_laysWays.data.toList.drop 92 = dktX0_laysWays_4 := dk_seg dksX0_laysWays_3 23 rfl rfl
theorem dksX0_laysWays_5 : cX0_laysWays.data.toList.drop 115 = dktX0_laysWays_5 := dk_seg dksX0_laysWays_4 23 rfl rfl
theorem dksX0_laysWays_6 : cX0_laysWays.data.toList.drop 139 = dktX0_laysWays_6 := dk_seg dksX0_laysWays_5 24 rfl rfl
theorem dksX0_laysWays_7 : cX0_laysWays.data.toList.drop 162 = dktX0_laysWays_7 := dk_seg dksX0_laysWays_6 23 rfl rfl
theorem dksX0_laysWays_8 : cX0_laysWays.data.toList.drop 184 = dktX0_laysWays_8 := dk_seg dksX0_laysWays_7 22 rfl rfl
theorem dksX0_laysWays_9 : cX0_laysWays.data.toList.drop 208 = dktX0_laysWays_9 := dk_seg dksX0_laysWays_8 24 rfl rfl
theorem dX0_laysWays_0 : decode cX0_laysWays 0 = .ok (.iconst 0, 1) := dk_3 (dk_at dksX0_laysWays_0 0 rfl rfl)
theorem dX0_laysWays_1 : decode cX0_laysWays 1 = .ok (.istore_n 2, 1) := dk_61 (dk_at dksX0_laysWays_0 1 rfl rfl)
theorem dX0_laysWays_2 : decode cX0_laysWays 2 = .ok (.iload_n 2, 1) := dk_28 (dk_at dksX0_laysWays_0 2 rfl rfl)
theorem dX0_laysWays_3 : decode cX0_laysWays 3 = .ok (.bipush 8, 2) := dk_16 8 (dk_at dksX0_laysWays_0 3 rfl rfl)
theorem dX0_laysWays_5 : decode cX0_laysWays 5 = .ok (.if_icmp .ge 16, 3) := dk_162 0 16 (dk_at dksX0_laysWays_0 5 rfl rfl)
theorem dX0_laysWays_8 : decode cX0_laysWays 8 = .ok (.aload_n 0, 1) := dk_42 (dk_at dksX0_laysWays_0 8 rfl rfl)
theorem dX0_laysWays_9 : decode cX0_laysWays 9 = .ok (.getfield 96, 3) := dk_180 0 96 (dk_at dksX0_laysWays_0 9 rfl rfl)
theorem dX0_laysWays_12 : decode cX0_laysWays 12 = .ok (.iload_n 2, 1) := dk_28 (dk_at dksX0_laysWays_0 12 rfl rfl)
theorem dX0_laysWays_13 : decode cX0_laysWays 13 = .ok (.iconst 1, 1) := dk_4 (dk_at dksX0_laysWays_0 13 rfl rfl)
theorem dX0_laysWays_14 : decode cX0_laysWays 14 = .ok (.iastore, 1) := dk_79 (dk_at dksX0_laysWays_0 14 rfl rfl)
theorem dX0_laysWays_15 : decode cX0_laysWays 15 = .ok (.iinc 2 1, 3) := dk_132 2 1 (dk_at dksX0_laysWays_0 15 rfl rfl)
theorem dX0_laysWays_18 : decode cX0_laysWays 18 = .ok (.goto (-16), 3) := dk_167 255 240 (dk_at dksX0_laysWays_0 18 rfl rfl)
theorem dX0_laysWays_21 : decode cX0_laysWays 21 = .ok (.iconst 0, 1) := dk_3 (dk_at dksX0_laysWays_0 21 rfl rfl)
theorem dX0_laysWays_22 : decode cX0_laysWays 22 = .ok (.istore_n 2, 1) := dk_61 (dk_at dksX0_laysWays_0 22 rfl rfl)
theorem dX0_laysWays_23 : decode cX0_laysWays 23 = .ok (.iload_n 2, 1) := dk_28 (dk_at dksX0_laysWays_0 23 rfl rfl)
theorem dX0_laysWays_24 : decode cX0_laysWays 24 = .ok (.aload_n 0, 1) := dk_42 (dk_at dksX0_laysWays_1 0 rfl rfl)
theorem dX0_laysWays_25 : decode cX0_laysWays 25 = .ok (.getfield 39, 3) := dk_180 0 39 (dk_at dksX0_laysWays_1 1 rfl rfl)
theorem dX0_laysWays_28 : decode cX0_laysWays 28 = .ok (.getfield 358, 3) := dk_180 1 102 (dk_at dksX0_laysWays_1 4 rfl rfl)
theorem dX0_laysWays_31 : decode cX0_laysWays 31 = .ok (.if_icmp .ge 180, 3) := dk_162 0 180 (dk_at dksX0_laysWays_1 7 rfl rfl)
theorem dX0_laysWays_34 : decode cX0_laysWays 34 = .ok (.aload_n 0, 1) := dk_42 (dk_at dksX0_laysWays_1 10 rfl rfl)
theorem dX0_laysWays_35 : decode cX0_laysWays 35 = .ok (.getfield 39, 3) := dk_180 0 39 (dk_at dksX0_laysWays_1 11 rfl rfl)
theorem dX0_laysWays_38 : decode cX0_laysWays 38 = .ok (.getfield 361, 3) := dk_180 1 105 (dk_at dksX0_laysWays_1 14 rfl rfl)
theorem dX0_laysWays_41 : decode cX0_laysWays 41 = .ok (.iload_n 1, 1) := dk_27 (dk_at dksX0_laysWays_1 17 rfl rfl)
theorem dX0_laysWays_42 : decode cX0_laysWays 42 = .ok (.ifCond .eq 7, 3) := dk_153 0 7 (dk_at dksX0_laysWays_1 18 rfl rfl)
theorem dX0_laysWays_45 : decode cX0_laysWays 45 = .ok (.iload_n 2, 1) := dk_28 (dk_at dksX0_laysWays_1 21 rfl rfl)
theorem dX0_laysWays_46 : decode cX0_laysWays 46 = .ok (.goto 14, 3) := dk_167 0 14 (dk_at dksX0_laysWays_2 0 rfl rfl)
theorem dX0_laysWays_49 : decode cX0_laysWays 49 = .ok (.aload_n 0, 1) := dk_42 (dk_at dksX0_laysWays_2 3 rfl rfl)
theorem dX0_laysWays_50 : decode cX0_laysWays 50 = .ok (.getfield 39, 3) := dk_180 0 39 (dk_at dksX0_laysWays_2 4 rfl rfl)
theorem dX0_laysWays_53 : decode cX0_laysWays 53 = .ok (.getfield 358, 3) := dk_180 1 102 (dk_at dksX0_laysWays_2 7 rfl rfl)
theorem dX0_laysWays_56 : decode cX0_laysWays 56 = .ok (.iconst 1, 1) := dk_4 (dk_at dksX0_laysWays_2 10 rfl rfl)
theorem dX0_laysWays_57 : decode cX0_laysWays 57 = .ok (.isub, 1) := dk_100 (dk_at dksX0_laysWays_2 11 rfl rfl)
theorem dX0_laysWays_58 : decode cX0_laysWays 58 = .ok (.iload_n 2, 1) := dk_28 (dk_at dksX0_laysWays_2 12 rfl rfl)
theorem dX0_laysWays_59 : decode cX0_laysWays 59 = .ok (.isub, 1) := dk_100 (dk_at dksX0_laysWays_2 13 rfl rfl)
theorem dX0_laysWays_60 : decode cX0_laysWays 60 = .ok (.iaload, 1) := dk_46 (dk_at dksX0_laysWays_2 14 rfl rfl)
theorem dX0_laysWays_61 : decode cX0_laysWays 61 = .ok (.istore_n 3, 1) := dk_62 (dk_at dksX0_laysWays_2 15 rfl rfl)
theorem dX0_laysWays_62 : decode cX0_laysWays 62 = .ok (.iconst 0, 1) := dk_3 (dk_at dksX0_laysWays_2 16 rfl rfl)
theorem dX0_laysWays_63 : decode cX0_laysWays 63 = .ok (.istore 4, 2) := dk_54 4 (dk_at dksX0_laysWays_2 17 rfl rfl)
theorem dX0_laysWays_65 : decode cX0_laysWays 65 = .ok (.iload 4, 2) := dk_21 4 (dk_at dksX0_laysWays_2 19 rfl rfl)
theorem dX0_laysWays_67 : decode cX0_laysWays 67 = .ok (.bipush 8, 2) := dk_16 8 (dk_at dksX0_laysWays_2 21 rfl rfl)
theorem dX0_laysWays_69 : decode cX0_laysWays 69 = .ok (.if_icmp .ge 17, 3) := dk_162 0 17 (dk_at dksX0_laysWays_3 0 rfl rfl)
theorem dX0_laysWays_72 : decode cX0_laysWays 72 = .ok (.aload_n 0, 1) := dk_42 (dk_at dksX0_laysWays_3 3 rfl rfl)
theorem dX0_laysWays_73 : decode cX0_laysWays 73 = .ok (.getfield 99, 3) := dk_180 0 99 (dk_at dksX0_laysWays_3 4 rfl rfl)
theorem dX0_laysWays_76 : decode cX0_laysWays 76 = .ok (.iload 4, 2) := dk_21 4 (dk_at dksX0_laysWays_3 7 rfl rfl)
theorem dX0_laysWays_78 : decode cX0_laysWays 78 = .ok (.iconst 0, 1) := dk_3 (dk_at dksX0_laysWays_3 9 rfl rfl)
theorem dX0_laysWays_79 : decode cX0_laysWays 79 = .ok (.iastore, 1) := dk_79 (dk_at dksX0_laysWays_3 10 rfl rfl)
theorem dX0_laysWays_80 : decode cX0_laysWays 80 = .ok (.iinc 4 1, 3) := dk_132 4 1 (dk_at dksX0_laysWays_3 11 rfl rfl)
theorem dX0_laysWays_83 : decode cX0_laysWays 83 = .ok (.goto (-18), 3) := dk_167 255 238 (dk_at dksX0_laysWays_3 14 rfl rfl)
theorem dX0_laysWays_86 : decode cX0_laysWays 86 = .ok (.iconst 0, 1) := dk_3 (dk_at dksX0_laysWays_3 17 rfl rfl)
theorem dX0_laysWays_87 : decode cX0_laysWays 87 = .ok (.istore 4, 2) := dk_54 4 (dk_at dksX0_laysWays_3 18 rfl rfl)
theorem dX0_laysWays_89 : decode cX0_laysWays 89 = .ok (.iload 4, 2) := dk_21 4 (dk_at dksX0_laysWays_3 20 rfl rfl)
theorem dX0_laysWays_91 : decode cX0_laysWays 91 = .ok (.aload_n 0, 1) := dk_42 (dk_at dksX0_laysWays_3 22 rfl rfl)
theorem dX0_laysWays_92 : decode cX0_laysWays 92 = .ok (.getfield 39, 3) := dk_180 0 39 (dk_at dksX0_laysWays_4 0 rfl rfl)
theorem dX0_laysWays_95 : decode cX0_laysWays 95 = .ok (.getfield 124, 3) := dk_180 0 124 (dk_at dksX0_laysWays_4 3 rfl rfl)
theorem dX0_laysWays_98 : decode cX0_laysWays 98 = .ok (.if_icmp .ge 92, 3) := dk_162 0 92 (dk_at dksX0_laysWays_4 6 rfl rfl)
theorem dX0_laysWays_101 : decode cX0_laysWays 101 = .ok (.aload_n 0, 1) := dk_42 (dk_at dksX0_laysWays_4 9 rfl rfl)
theorem dX0_laysWays_102 : decode cX0_laysWays 102 = .ok (.invokevirtual 156, 3) := dk_182 0 156 (dk_at dksX0_laysWays_4 10 rfl rfl)
theorem dX0_laysWays_105 : decode cX0_laysWays 105 = .ok (.getfield 159, 3) := dk_180 0 159 (dk_at dksX0_laysWays_4 13 rfl rfl)
theorem dX0_laysWays_108 : decode cX0_laysWays 108 = .ok (.iload 4, 2) := dk_21 4 (dk_at dksX0_laysWays_4 16 rfl rfl)
theorem dX0_laysWays_110 : decode cX0_laysWays 110 = .ok (.iaload, 1) := dk_46 (dk_at dksX0_laysWays_4 18 rfl rfl)
theorem dX0_laysWays_111 : decode cX0_laysWays 111 = .ok (.iload_n 3, 1) := dk_29 (dk_at dksX0_laysWays_4 19 rfl rfl)
theorem dX0_laysWays_112 : decode cX0_laysWays 112 = .ok (.if_icmp .eq 6, 3) := dk_159 0 6 (dk_at dksX0_laysWays_4 20 rfl rfl)
theorem dX0_laysWays_115 : decode cX0_laysWays 115 = .ok (.goto 69, 3) := dk_167 0 69 (dk_at dksX0_laysWays_5 0 rfl rfl)
theorem dX0_laysWays_118 : decode cX0_laysWays 118 = .ok (.aload_n 0, 1) := dk_42 (dk_at dksX0_laysWays_5 3 rfl rfl)
theorem dX0_laysWays_119 : decode cX0_laysWays 119 = .ok (.getfield 99, 3) := dk_180 0 99 (dk_at dksX0_laysWays_5 4 rfl rfl)
theorem dX0_laysWays_122 : decode cX0_laysWays 122 = .ok (.aload_n 0, 1) := dk_42 (dk_at dksX0_laysWays_5 7 rfl rfl)
theorem dX0_laysWays_123 : decode cX0_laysWays 123 = .ok (.getfield 39, 3) := dk_180 0 39 (dk_at dksX0_laysWays_5 8 rfl rfl)
theorem dX0_laysWays_126 : decode cX0_laysWays 126 = .ok (.getfield 147, 3) := dk_180 0 147 (dk_at dksX0_laysWays_5 11 rfl rfl)
theorem dX0_laysWays_129 : decode cX0_laysWays 129 = .ok (.iload 4, 2) := dk_21 4 (dk_at dksX0_laysWays_5 14 rfl rfl)
theorem dX0_laysWays_131 : decode cX0_laysWays 131 = .ok (.iaload, 1) := dk_46 (dk_at dksX0_laysWays_5 16 rfl rfl)
theorem dX0_laysWays_132 : decode cX0_laysWays 132 = .ok (.dup2, 1) := dk_92 (dk_at dksX0_laysWays_5 17 rfl rfl)
theorem dX0_laysWays_133 : decode cX0_laysWays 133 = .ok (.iaload, 1) := dk_46 (dk_at dksX0_laysWays_5 18 rfl rfl)
theorem dX0_laysWays_134 : decode cX0_laysWays 134 = .ok (.aload_n 0, 1) := dk_42 (dk_at dksX0_laysWays_5 19 rfl rfl)
theorem dX0_laysWays_135 : decode cX0_laysWays 135 = .ok (.getfield 96, 3) := dk_180 0 96 (dk_at dksX0_laysWays_5 20 rfl rfl)
theorem dX0_laysWays_138 : decode cX0_laysWays 138 = .ok (.aload_n 0, 1) := dk_42 (dk_at dksX0_laysWays_5 23 rfl rfl)
theorem dX0_laysWays_139 : decode cX0_laysWays 139 = .ok (.getfield 39, 3) := dk_180 0 39 (dk_at dksX0_laysWays_6 0 rfl rfl)
theorem dX0_laysWays_142 : decode cX0_laysWays 142 = .ok (.getfield 144, 3) := dk_180 0 144 (dk_at dksX0_laysWays_6 3 rfl rfl)
theorem dX0_laysWays_145 : decode cX0_laysWays 145 = .ok (.iload 4, 2) := dk_21 4 (dk_at dksX0_laysWays_6 6 rfl rfl)
theorem dX0_laysWays_147 : decode cX0_laysWays 147 = .ok (.iaload, 1) := dk_46 (dk_at dksX0_laysWays_6 8 rfl rfl)
theorem dX0_laysWays_148 : decode cX0_laysWays 148 = .ok (.iaload, 1) := dk_46 (dk_at dksX0_laysWays_6 9 rfl rfl)
theorem dX0_laysWays_149 : decode cX0_laysWays 149 = .ok (.iadd, 1) := dk_96 (dk_at dksX0_laysWays_6 10 rfl rfl)
theorem dX0_laysWays_150 : decode cX0_laysWays 150 = .ok (.iastore, 1) := dk_79 (dk_at dksX0_laysWays_6 11 rfl rfl)
theorem dX0_laysWays_151 : decode cX0_laysWays 151 = .ok (.aload_n 0, 1) := dk_42 (dk_at dksX0_laysWays_6 12 rfl rfl)
theorem dX0_laysWays_152 : decode cX0_laysWays 152 = .ok (.getfield 99, 3) := dk_180 0 99 (dk_at dksX0_laysWays_6 13 rfl rfl)
theorem dX0_laysWays_155 : decode cX0_laysWays 155 = .ok (.aload_n 0, 1) := dk_42 (dk_at dksX0_laysWays_6 16 rfl rfl)
theorem dX0_laysWays_156 : decode cX0_laysWays 156 = .ok (.getfield 39, 3) := dk_180 0 39 (dk_at dksX0_laysWays_6 17 rfl rfl)
theorem dX0_laysWays_159 : decode cX0_laysWays 159 = .ok (.getfield 144, 3) := dk_180 0 144 (dk_at dksX0_laysWays_6 20 rfl rfl)
theorem dX0_laysWays_162 : decode cX0_laysWays 162 = .ok (.iload 4, 2) := dk_21 4 (dk_at dksX0_laysWays_7 0 rfl rfl)
theorem dX0_laysWays_164 : decode cX0_laysWays 164 = .ok (.iaload, 1) := dk_46 (dk_at dksX0_laysWays_7 2 rfl rfl)
theorem dX0_laysWays_165 : decode cX0_laysWays 165 = .ok (.dup2, 1) := dk_92 (dk_at dksX0_laysWays_7 3 rfl rfl)
theorem dX0_laysWays_166 : decode cX0_laysWays 166 = .ok (.iaload, 1) := dk_46 (dk_at dksX0_laysWays_7 4 rfl rfl)
theorem dX0_laysWays_167 : decode cX0_laysWays 167 = .ok (.aload_n 0, 1) := dk_42 (dk_at dksX0_laysWays_7 5 rfl rfl)
theorem dX0_laysWays_168 : decode cX0_laysWays 168 = .ok (.getfield 96, 3) := dk_180 0 96 (dk_at dksX0_laysWays_7 6 rfl rfl)
theorem dX0_laysWays_171 : decode cX0_laysWays 171 = .ok (.aload_n 0, 1) := dk_42 (dk_at dksX0_laysWays_7 9 rfl rfl)
theorem dX0_laysWays_172 : decode cX0_laysWays 172 = .ok (.getfield 39, 3) := dk_180 0 39 (dk_at dksX0_laysWays_7 10 rfl rfl)
theorem dX0_laysWays_175 : decode cX0_laysWays 175 = .ok (.getfield 147, 3) := dk_180 0 147 (dk_at dksX0_laysWays_7 13 rfl rfl)
theorem dX0_laysWays_178 : decode cX0_laysWays 178 = .ok (.iload 4, 2) := dk_21 4 (dk_at dksX0_laysWays_7 16 rfl rfl)
theorem dX0_laysWays_180 : decode cX0_laysWays 180 = .ok (.iaload, 1) := dk_46 (dk_at dksX0_laysWays_7 18 rfl rfl)
theorem dX0_laysWays_181 : decode cX0_laysWays 181 = .ok (.iaload, 1) := dk_46 (dk_at dksX0_laysWays_7 19 rfl rfl)
theorem dX0_laysWays_182 : decode cX0_laysWays 182 = .ok (.iadd, 1) := dk_96 (dk_at dksX0_laysWays_7 20 rfl rfl)
theorem dX0_laysWays_183 : decode cX0_laysWays 183 = .ok (.iastore, 1) := dk_79 (dk_at dksX0_laysWays_7 21 rfl rfl)
theorem dX0_laysWays_184 : decode cX0_laysWays 184 = .ok (.iinc 4 1, 3) := dk_132 4 1 (dk_at dksX0_laysWays_8 0 rfl rfl)
theorem dX0_laysWays_187 : decode cX0_laysWays 187 = .ok (.goto (-98), 3) := dk_167 255 158 (dk_at dksX0_laysWays_8 3 rfl rfl)
theorem dX0_laysWays_190 : decode cX0_laysWays 190 = .ok (.aload_n 0, 1) := dk_42 (dk_at dksX0_laysWays_8 6 rfl rfl)
theorem dX0_laysWays_191 : decode cX0_laysWays 191 = .ok (.getfield 99, 3) := dk_180 0 99 (dk_at dksX0_laysWays_8 7 rfl rfl)
theorem dX0_laysWays_194 : decode cX0_laysWays 194 = .ok (.iconst 0, 1) := dk_3 (dk_at dksX0_laysWays_8 10 rfl rfl)
theorem dX0_laysWays_195 : decode cX0_laysWays 195 = .ok (.aload_n 0, 1) := dk_42 (dk_at dksX0_laysWays_8 11 rfl rfl)
theorem dX0_laysWays_196 : decode cX0_laysWays 196 = .ok (.getfield 96, 3) := dk_180 0 96 (dk_at dksX0_laysWays_8 12 rfl rfl)
theorem dX0_laysWays_199 : decode cX0_laysWays 199 = .ok (.iconst 0, 1) := dk_3 (dk_at dksX0_laysWays_8 15 rfl rfl)
theorem dX0_laysWays_200 : decode cX0_laysWays 200 = .ok (.bipush 8, 2) := dk_16 8 (dk_at dksX0_laysWays_8 16 rfl rfl)
theorem dX0_laysWays_202 : decode cX0_laysWays 202 = .ok (.invokestatic 364, 3) := dk_184 1 108 (dk_at dksX0_laysWays_8 18 rfl rfl)
theorem dX0_laysWays_205 : decode cX0_laysWays 205 = .ok (.iinc 2 1, 3) := dk_132 2 1 (dk_at dksX0_laysWays_8 21 rfl rfl)
theorem dX0_laysWays_208 : decode cX0_laysWays 208 = .ok (.goto (-185), 3) := dk_167 255 71 (dk_at dksX0_laysWays_9 0 rfl rfl)
theorem dX0_laysWays_211 : decode cX0_laysWays 211 = .ok (.return_, 1) := dk_177 (dk_at dksX0_laysWays_9 3 rfl rfl)
abbrev cX0_named : ByteArray := prog_1_method_69_code
def yX0_named : MethodName := ⟨RX0, "named", "(I)I"⟩
def dkwX0_named_2 : List UInt8 := [2, 172]
abbrev dktX0_named_2 : List UInt8 := dkwX0_named_2 ++ []
def dkwX0_named_1 : List UInt8 := [162, 0, 24, 42, 182, 0, 156, 180, 0, 159, 28, 46, 27, 160, 0, 5, 28, 172, 132, 2, 1, 167, 255, 227]
abbrev dktX0_named_1 : List UInt8 := dkwX0_named_1 ++ dktX0_named_2
def dkwX0_named_0 : List UInt8 := [27, 3, 16, 19, 184, 0, 26, 154, 0, 5, 2, 172, 3, 61, 28, 42, 180, 0, 39, 180, 0, 124]
abbrev dktX0_named_0 : List UInt8 := dkwX0_named_0 ++ dktX0_named_1
theorem dksX0_named_0 : cX0_named.data.toList.drop 0 = dktX0_named_0 := by decide +kernel
theorem dksX0_named_1 : cX0_named.data.toList.drop 22 = dktX0_named_1 := dk_seg dksX0_named_0 22 rfl rfl
theorem dksX0_named_2 : cX0_named.data.toList.drop 46 = dktX0_named_2 := dk_seg dksX0_named_1 24 rfl rfl
theorem dX0_named_0 : decode cX0_named 0 = .ok (.iload_n 1, 1) := dk_27 (dk_at dksX0_named_0 0 rfl rfl)
theorem dX0_named_1 : decode cX0_named 1 = .ok (.iconst 0, 1) := dk_3 (dk_at dksX0_named_0 1 rfl rfl)
theorem dX0_named_2 : decode cX0_named 2 = .ok (.bipush 19, 2) := dk_16 19 (dk_at dksX0_named_0 2 rfl rfl)
theorem dX0_named_4 : decode cX0_named 4 = .ok (.invokestatic 26, 3) := dk_184 0 26 (dk_at dksX0_named_0 4 rfl rfl)
theorem dX0_named_7 : decode cX0_named 7 = .ok (.ifCond .ne 5, 3) := dk_154 0 5 (dk_at dksX0_named_0 7 rfl rfl)
theorem dX0_named_10 : decode cX0_named 10 = .ok (.iconst (-1), 1) := dk_2 (dk_at dksX0_named_0 10 rfl rfl)
theorem dX0_named_11 : decode cX0_named 11 = .ok (.ireturn, 1) := dk_172 (dk_at dksX0_named_0 11 rfl rfl)
theorem dX0_named_12 : decode cX0_named 12 = .ok (.iconst 0, 1) := dk_3 (dk_at dksX0_named_0 12 rfl rfl)
theorem dX0_named_13 : decode cX0_named 13 = .ok (.istore_n 2, 1) := dk_61 (dk_at dksX0_named_0 13 rfl rfl)
theorem dX0_named_14 : decode cX0_named 14 = .ok (.iload_n 2, 1) := dk_28 (dk_at dksX0_named_0 14 rfl rfl)
theorem dX0_named_15 : decode cX0_named 15 = .ok (.aload_n 0, 1) := dk_42 (dk_at dksX0_named_0 15 rfl rfl)
theorem dX0_named_16 : decode cX0_named 16 = .ok (.getfield 39, 3) := dk_180 0 39 (dk_at dksX0_named_0 16 rfl rfl)
theorem dX0_named_19 : decode cX0_named 19 = .ok (.getfield 124, 3) := dk_180 0 124 (dk_at dksX0_named_0 19 rfl rfl)
theorem dX0_named_22 : decode cX0_named 22 = .ok (.if_icmp .ge 24, 3) := dk_162 0 24 (dk_at dksX0_named_1 0 rfl rfl)
theorem dX0_named_25 : decode cX0_named 25 = .ok (.aload_n 0, 1) := dk_42 (dk_at dksX0_named_1 3 rfl rfl)
theorem dX0_named_26 : decode cX0_named 26 = .ok (.invokevirtual 156, 3) := dk_182 0 156 (dk_at dksX0_named_1 4 rfl rfl)
theorem dX0_named_29 : decode cX0_named 29 = .ok (.getfield 159, 3) := dk_180 0 159 (dk_at dksX0_named_1 7 rfl rfl)
theorem dX0_named_32 : decode cX0_named 32 = .ok (.iload_n 2, 1) := dk_28 (dk_at dksX0_named_1 10 rfl rfl)
theorem dX0_named_33 : decode cX0_named 33 = .ok (.iaload, 1) := dk_46 (dk_at dksX0_named_1 11 rfl rfl)
theorem dX0_named_34 : decode cX0_named 34 = .ok (.iload_n 1, 1) := dk_27 (dk_at dksX0_named_1 12 rfl rfl)
theorem dX0_named_35 : decode cX0_named 35 = .ok (.if_icmp .ne 5, 3) := dk_160 0 5 (dk_at dksX0_named_1 13 rfl rfl)
theorem dX0_named_38 : decode cX0_named 38 = .ok (.iload_n 2, 1) := dk_28 (dk_at dksX0_named_1 16 rfl rfl)
theorem dX0_named_39 : decode cX0_named 39 = .ok (.ireturn, 1) := dk_172 (dk_at dksX0_named_1 17 rfl rfl)
theorem dX0_named_40 : decode cX0_named 40 = .ok (.iinc 2 1, 3) := dk_132 2 1 (dk_at dksX0_named_1 18 rfl rfl)
theorem dX0_named_43 : decode cX0_named 43 = .ok (.goto (-29), 3) := dk_167 255 227 (dk_at dksX0_named_1 21 rfl rfl)
theorem dX0_named_46 : decode cX0_named 46 = .ok (.iconst (-1), 1) := dk_2 (dk_at dksX0_named_2 0 rfl rfl)
theorem dX0_named_47 : decode cX0_named 47 = .ok (.ireturn, 1) := dk_172 (dk_at dksX0_named_2 1 rfl rfl)
abbrev cX0_letter : ByteArray := prog_1_method_73_code
def yX0_letter : MethodName := ⟨RX0, "letter", "(III)I"⟩
def dkwX0_letter_6 : List UInt8 := [21, 6, 172]
abbrev dktX0_letter_6 : List UInt8 := dkwX0_letter_6 ++ []
def dkwX0_letter_5 : List UInt8 := [21, 5, 182, 1, 79, 159, 0, 9, 132, 8, 1, 167, 255, 225, 21, 8, 54, 6, 132, 7, 1, 167, 255, 197]
abbrev dktX0_letter_5 : List UInt8 := dkwX0_letter_5 ++ dktX0_letter_6
def dkwX0_letter_4 : List UInt8 := [172, 3, 54, 8, 42, 21, 6, 21, 8, 182, 1, 124, 42, 21, 8, 21, 5, 182, 1, 79, 96, 42, 21, 6]
abbrev dktX0_letter_4 : List UInt8 := dkwX0_letter_4 ++ dktX0_letter_5
def dkwX0_letter_3 : List UInt8 := [182, 1, 79, 172, 27, 54, 6, 3, 54, 7, 21, 7, 29, 163, 0, 59, 21, 6, 21, 5, 160, 0, 5, 2]
abbrev dktX0_letter_3 : List UInt8 := dkwX0_letter_3 ++ dktX0_letter_4
def dkwX0_letter_2 : List UInt8 := [160, 0, 6, 21, 4, 172, 42, 27, 21, 4, 182, 1, 118, 54, 5, 29, 2, 160, 0, 11, 42, 27, 21, 5]
abbrev dktX0_letter_2 : List UInt8 := dkwX0_letter_2 ++ dktX0_letter_3
def dkwX0_letter_1 : List UInt8 := [172, 42, 182, 1, 82, 42, 27, 28, 182, 1, 121, 54, 4, 21, 4, 2, 159, 0, 9, 29, 16, 254]
abbrev dktX0_letter_1 : List UInt8 := dkwX0_letter_1 ++ dktX0_letter_2
def dkwX0_letter_0 : List UInt8 := [27, 184, 0, 140, 153, 0, 19, 28, 3, 16, 19, 184, 0, 26, 153, 0, 9, 29, 16, 254, 162, 0, 5, 2]
abbrev dktX0_letter_0 : List UInt8 := dkwX0_letter_0 ++ dktX0_letter_1
theorem dksX0_letter_0 : cX0_letter.data.toList.drop 0 = dktX0_letter_0 := by decide +kernel
theorem dksX0_letter_1 : cX0_letter.data.toList.drop 24 = dktX0_letter_1 := dk_seg dksX0_letter_0 24 rfl rfl
theorem dksX0_letter_2 : cX0_letter.data.toList.drop 46 = dktX0_letter_2 := dk_seg dksX0_letter_1 22 rfl rfl
theorem dksX0_letter_3 : cX0_letter.data.toList.drop 70 = dktX0_letter_3 := dk_seg dksX0_letter_2 24 rfl rfl
theorem dksX0_letter_4 : cX0_letter.data.toList.drop 94 = dktX0_letter_4 := dk_seg dksX0_letter_3 24 rfl rfl
theorem dksX0_letter_5 : cX0_letter.data.toList.drop 118 = dktX0_letter_5 := dk_seg dksX0_letter_4 24 rfl rfl
theorem dksX0_letter_6 : cX0_letter.data.toList.drop 142 = dktX0_letter_6 := dk_seg dksX0_letter_5 24 rfl rfl
theorem dX0_letter_0 : decode cX0_letter 0 = .ok (.iload_n 1, 1) := dk_27 (dk_at dksX0_letter_0 0 rfl rfl)
theorem dX0_letter_1 : decode cX0_letter 1 = .ok (.invokestatic 140, 3) := dk_184 0 140 (dk_at dksX0_letter_0 1 rfl rfl)
theorem dX0_letter_4 : decode cX0_letter 4 = .ok (.ifCond .eq 19, 3) := dk_153 0 19 (dk_at dksX0_letter_0 4 rfl rfl)
theorem dX0_letter_7 : decode cX0_letter 7 = .ok (.iload_n 2, 1) := dk_28 (dk_at dksX0_letter_0 7 rfl rfl)
theorem dX0_letter_8 : decode cX0_letter 8 = .ok (.iconst 0, 1) := dk_3 (dk_at dksX0_letter_0 8 rfl rfl)
theorem dX0_letter_9 : decode cX0_letter 9 = .ok (.bipush 19, 2) := dk_16 19 (dk_at dksX0_letter_0 9 rfl rfl)
theorem dX0_letter_11 : decode cX0_letter 11 = .ok (.invokestatic 26, 3) := dk_184 0 26 (dk_at dksX0_letter_0 11 rfl rfl)
theorem dX0_letter_14 : decode cX0_letter 14 = .ok (.ifCond .eq 9, 3) := dk_153 0 9 (dk_at dksX0_letter_0 14 rfl rfl)
theorem dX0_letter_17 : decode cX0_letter 17 = .ok (.iload_n 3, 1) := dk_29 (dk_at dksX0_letter_0 17 rfl rfl)
theorem dX0_letter_18 : decode cX0_letter 18 = .ok (.bipush (-2), 2) := dk_16 254 (dk_at dksX0_letter_0 18 rfl rfl)
theorem dX0_letter_20 : decode cX0_letter 20 = .ok (.if_icmp .ge 5, 3) := dk_162 0 5 (dk_at dksX0_letter_0 20 rfl rfl)
theorem dX0_letter_23 : decode cX0_letter 23 = .ok (.iconst (-1), 1) := dk_2 (dk_at dksX0_letter_0 23 rfl rfl)
theorem dX0_letter_24 : decode cX0_letter 24 = .ok (.ireturn, 1) := dk_172 (dk_at dksX0_letter_1 0 rfl rfl)
theorem dX0_letter_25 : decode cX0_letter 25 = .ok (.aload_n 0, 1) := dk_42 (dk_at dksX0_letter_1 1 rfl rfl)
theorem dX0_letter_26 : decode cX0_letter 26 = .ok (.invokevirtual 338, 3) := dk_182 1 82 (dk_at dksX0_letter_1 2 rfl rfl)
theorem dX0_letter_29 : decode cX0_letter 29 = .ok (.aload_n 0, 1) := dk_42 (dk_at dksX0_letter_1 5 rfl rfl)
theorem dX0_letter_30 : decode cX0_letter 30 = .ok (.iload_n 1, 1) := dk_27 (dk_at dksX0_letter_1 6 rfl rfl)
theorem dX0_letter_31 : decode cX0_letter 31 = .ok (.iload_n 2, 1) := dk_28 (dk_at dksX0_letter_1 7 rfl rfl)
theorem dX0_letter_32 : decode cX0_letter 32 = .ok (.invokevirtual 377, 3) := dk_182 1 121 (dk_at dksX0_letter_1 8 rfl rfl)
theorem dX0_letter_35 : decode cX0_letter 35 = .ok (.istore 4, 2) := dk_54 4 (dk_at dksX0_letter_1 11 rfl rfl)
theorem dX0_letter_37 : decode cX0_letter 37 = .ok (.iload 4, 2) := dk_21 4 (dk_at dksX0_letter_1 13 rfl rfl)
theorem dX0_letter_39 : decode cX0_letter 39 = .ok (.iconst (-1), 1) := dk_2 (dk_at dksX0_letter_1 15 rfl rfl)
theorem dX0_letter_40 : decode cX0_letter 40 = .ok (.if_icmp .eq 9, 3) := dk_159 0 9 (dk_at dksX0_letter_1 16 rfl rfl)
theorem dX0_letter_43 : decode cX0_letter 43 = .ok (.iload_n 3, 1) := dk_29 (dk_at dksX0_letter_1 19 rfl rfl)
theorem dX0_letter_44 : decode cX0_letter 44 = .ok (.bipush (-2), 2) := dk_16 254 (dk_at dksX0_letter_1 20 rfl rfl)
theorem dX0_letter_46 : decode cX0_letter 46 = .ok (.if_icmp .ne 6, 3) := dk_160 0 6 (dk_at dksX0_letter_2 0 rfl rfl)
theorem dX0_letter_49 : decode cX0_letter 49 = .ok (.iload 4, 2) := dk_21 4 (dk_at dksX0_letter_2 3 rfl rfl)
theorem dX0_letter_51 : decode cX0_letter 51 = .ok (.ireturn, 1) := dk_172 (dk_at dksX0_letter_2 5 rfl rfl)
theorem dX0_letter_52 : decode cX0_letter 52 = .ok (.aload_n 0, 1) := dk_42 (dk_at dksX0_letter_2 6 rfl rfl)
theorem dX0_letter_53 : decode cX0_letter 53 = .ok (.iload_n 1, 1) := dk_27 (dk_at dksX0_letter_2 7 rfl rfl)
theorem dX0_letter_54 : decode cX0_letter 54 = .ok (.iload 4, 2) := dk_21 4 (dk_at dksX0_letter_2 8 rfl rfl)
theorem dX0_letter_56 : decode cX0_letter 56 = .ok (.invokevirtual 374, 3) := dk_182 1 118 (dk_at dksX0_letter_2 10 rfl rfl)
theorem dX0_letter_59 : decode cX0_letter 59 = .ok (.istore 5, 2) := dk_54 5 (dk_at dksX0_letter_2 13 rfl rfl)
theorem dX0_letter_61 : decode cX0_letter 61 = .ok (.iload_n 3, 1) := dk_29 (dk_at dksX0_letter_2 15 rfl rfl)
theorem dX0_letter_62 : decode cX0_letter 62 = .ok (.iconst (-1), 1) := dk_2 (dk_at dksX0_letter_2 16 rfl rfl)
theorem dX0_letter_63 : decode cX0_letter 63 = .ok (.if_icmp .ne 11, 3) := dk_160 0 11 (dk_at dksX0_letter_2 17 rfl rfl)
theorem dX0_letter_66 : decode cX0_letter 66 = .ok (.aload_n 0, 1) := dk_42 (dk_at dksX0_letter_2 20 rfl rfl)
theorem dX0_letter_67 : decode cX0_letter 67 = .ok (.iload_n 1, 1) := dk_27 (dk_at dksX0_letter_2 21 rfl rfl)
theorem dX0_letter_68 : decode cX0_letter 68 = .ok (.iload 5, 2) := dk_21 5 (dk_at dksX0_letter_2 22 rfl rfl)
theorem dX0_letter_70 : decode cX0_letter 70 = .ok (.invokevirtual 335, 3) := dk_182 1 79 (dk_at dksX0_letter_3 0 rfl rfl)
theorem dX0_letter_73 : decode cX0_letter 73 = .ok (.ireturn, 1) := dk_172 (dk_at dksX0_letter_3 3 rfl rfl)
theorem dX0_letter_74 : decode cX0_letter 74 = .ok (.iload_n 1, 1) := dk_27 (dk_at dksX0_letter_3 4 rfl rfl)
theorem dX0_letter_75 : decode cX0_letter 75 = .ok (.istore 6, 2) := dk_54 6 (dk_at dksX0_letter_3 5 rfl rfl)
theorem dX0_letter_77 : decode cX0_letter 77 = .ok (.iconst 0, 1) := dk_3 (dk_at dksX0_letter_3 7 rfl rfl)
theorem dX0_letter_78 : decode cX0_letter 78 = .ok (.istore 7, 2) := dk_54 7 (dk_at dksX0_letter_3 8 rfl rfl)
theorem dX0_letter_80 : decode cX0_letter 80 = .ok (.iload 7, 2) := dk_21 7 (dk_at dksX0_letter_3 10 rfl rfl)
theorem dX0_letter_82 : decode cX0_letter 82 = .ok (.iload_n 3, 1) := dk_29 (dk_at dksX0_letter_3 12 rfl rfl)
theorem dX0_letter_83 : decode cX0_letter 83 = .ok (.if_icmp .gt 59, 3) := dk_163 0 59 (dk_at dksX0_letter_3 13 rfl rfl)
theorem dX0_letter_86 : decode cX0_letter 86 = .ok (.iload 6, 2) := dk_21 6 (dk_at dksX0_letter_3 16 rfl rfl)
theorem dX0_letter_88 : decode cX0_letter 88 = .ok (.iload 5, 2) := dk_21 5 (dk_at dksX0_letter_3 18 rfl rfl)
theorem dX0_letter_90 : decode cX0_letter 90 = .ok (.if_icmp .ne 5, 3) := dk_160 0 5 (dk_at dksX0_letter_3 20 rfl rfl)
theorem dX0_letter_93 : decode cX0_letter 93 = .ok (.iconst (-1), 1) := dk_2 (dk_at dksX0_letter_3 23 rfl rfl)
theorem dX0_letter_94 : decode cX0_letter 94 = .ok (.ireturn, 1) := dk_172 (dk_at dksX0_letter_4 0 rfl rfl)
theorem dX0_letter_95 : decode cX0_letter 95 = .ok (.iconst 0, 1) := dk_3 (dk_at dksX0_letter_4 1 rfl rfl)
theorem dX0_letter_96 : decode cX0_letter 96 = .ok (.istore 8, 2) := dk_54 8 (dk_at dksX0_letter_4 2 rfl rfl)
theorem dX0_letter_98 : decode cX0_letter 98 = .ok (.aload_n 0, 1) := dk_42 (dk_at dksX0_letter_4 4 rfl rfl)
theorem dX0_letter_99 : decode cX0_letter 99 = .ok (.iload 6, 2) := dk_21 6 (dk_at dksX0_letter_4 5 rfl rfl)
theorem dX0_letter_101 : decode cX0_letter 101 = .ok (.iload 8, 2) := dk_21 8 (dk_at dksX0_letter_4 7 rfl rfl)
theorem dX0_letter_103 : decode cX0_letter 103 = .ok (.invokevirtual 380, 3) := dk_182 1 124 (dk_at dksX0_letter_4 9 rfl rfl)
theorem dX0_letter_106 : decode cX0_letter 106 = .ok (.aload_n 0, 1) := dk_42 (dk_at dksX0_letter_4 12 rfl rfl)
theorem dX0_letter_107 : decode cX0_letter 107 = .ok (.iload 8, 2) := dk_21 8 (dk_at dksX0_letter_4 13 rfl rfl)
theorem dX0_letter_109 : decode cX0_letter 109 = .ok (.iload 5, 2) := dk_21 5 (dk_at dksX0_letter_4 15 rfl rfl)
theorem dX0_letter_111 : decode cX0_letter 111 = .ok (.invokevirtual 335, 3) := dk_182 1 79 (dk_at dksX0_letter_4 17 rfl rfl)
theorem dX0_letter_114 : decode cX0_letter 114 = .ok (.iadd, 1) := dk_96 (dk_at dksX0_letter_4 20 rfl rfl)
theorem dX0_letter_115 : decode cX0_letter 115 = .ok (.aload_n 0, 1) := dk_42 (dk_at dksX0_letter_4 21 rfl rfl)
theorem dX0_letter_116 : decode cX0_letter 116 = .ok (.iload 6, 2) := dk_21 6 (dk_at dksX0_letter_4 22 rfl rfl)
theorem dX0_letter_118 : decode cX0_letter 118 = .ok (.iload 5, 2) := dk_21 5 (dk_at dksX0_letter_5 0 rfl rfl)
theorem dX0_letter_120 : decode cX0_letter 120 = .ok (.invokevirtual 335, 3) := dk_182 1 79 (dk_at dksX0_letter_5 2 rfl rfl)
theorem dX0_letter_123 : decode cX0_letter 123 = .ok (.if_icmp .eq 9, 3) := dk_159 0 9 (dk_at dksX0_letter_5 5 rfl rfl)
theorem dX0_letter_126 : decode cX0_letter 126 = .ok (.iinc 8 1, 3) := dk_132 8 1 (dk_at dksX0_letter_5 8 rfl rfl)
theorem dX0_letter_129 : decode cX0_letter 129 = .ok (.goto (-31), 3) := dk_167 255 225 (dk_at dksX0_letter_5 11 rfl rfl)
theorem dX0_letter_132 : decode cX0_letter 132 = .ok (.iload 8, 2) := dk_21 8 (dk_at dksX0_letter_5 14 rfl rfl)
theorem dX0_letter_134 : decode cX0_letter 134 = .ok (.istore 6, 2) := dk_54 6 (dk_at dksX0_letter_5 16 rfl rfl)
theorem dX0_letter_136 : decode cX0_letter 136 = .ok (.iinc 7 1, 3) := dk_132 7 1 (dk_at dksX0_letter_5 18 rfl rfl)
theorem dX0_letter_139 : decode cX0_letter 139 = .ok (.goto (-59), 3) := dk_167 255 197 (dk_at dksX0_letter_5 21 rfl rfl)
theorem dX0_letter_142 : decode cX0_letter 142 = .ok (.iload 6, 2) := dk_21 6 (dk_at dksX0_letter_6 0 rfl rfl)
theorem dX0_letter_144 : decode cX0_letter 144 = .ok (.ireturn, 1) := dk_172 (dk_at dksX0_letter_6 2 rfl rfl)
abbrev cX0_laneFor : ByteArray := prog_1_method_71_code
def yX0_laneFor : MethodName := ⟨RX0, "laneFor", "(II)I"⟩
def dkwX0_laneFor_3 : List UInt8 := [54, 4, 21, 5, 62, 132, 5, 1, 167, 255, 190, 29, 172]
abbrev dktX0_laneFor_3 : List UInt8 := dkwX0_laneFor_3 ++ []
def dkwX0_laneFor_2 : List UInt8 := [182, 1, 79, 21, 4, 161, 0, 6, 167, 0, 20, 42, 27, 42, 27, 21, 5, 182, 1, 118, 182, 1, 79]
abbrev dktX0_laneFor_2 : List UInt8 := dkwX0_laneFor_2 ++ dktX0_laneFor_3
def dkwX0_laneFor_1 : List UInt8 := [182, 0, 156, 180, 0, 159, 21, 5, 46, 28, 160, 0, 40, 42, 27, 42, 27, 21, 5, 182, 1, 118]
abbrev dktX0_laneFor_1 : List UInt8 := dkwX0_laneFor_1 ++ dktX0_laneFor_2
def dkwX0_laneFor_0 : List UInt8 := [2, 62, 19, 1, 76, 54, 4, 3, 54, 5, 21, 5, 42, 180, 0, 39, 180, 0, 124, 162, 0, 60, 42]
abbrev dktX0_laneFor_0 : List UInt8 := dkwX0_laneFor_0 ++ dktX0_laneFor_1
theorem dksX0_laneFor_0 : cX0_laneFor.data.toList.drop 0 = dktX0_laneFor_0 := by decide +kernel
theorem dksX0_laneFor_1 : cX0_laneFor.data.toList.drop 23 = dktX0_laneFor_1 := dk_seg dksX0_laneFor_0 23 rfl rfl
theorem dksX0_laneFor_2 : cX0_laneFor.data.toList.drop 45 = dktX0_laneFor_2 := dk_seg dksX0_laneFor_1 22 rfl rfl
theorem dksX0_laneFor_3 : cX0_laneFor.data.toList.drop 68 = dktX0_laneFor_3 := dk_seg dksX0_laneFor_2 23 rfl rfl
theorem dX0_laneFor_0 : decode cX0_laneFor 0 = .ok (.iconst (-1), 1) := dk_2 (dk_at dksX0_laneFor_0 0 rfl rfl)
theorem dX0_laneFor_1 : decode cX0_laneFor 1 = .ok (.istore_n 3, 1) := dk_62 (dk_at dksX0_laneFor_0 1 rfl rfl)
theorem dX0_laneFor_2 : decode cX0_laneFor 2 = .ok (.ldc_w 332, 3) := dk_19 1 76 (dk_at dksX0_laneFor_0 2 rfl rfl)
theorem dX0_laneFor_5 : decode cX0_laneFor 5 = .ok (.istore 4, 2) := dk_54 4 (dk_at dksX0_laneFor_0 5 rfl rfl)
theorem dX0_laneFor_7 : decode cX0_laneFor 7 = .ok (.iconst 0, 1) := dk_3 (dk_at dksX0_laneFor_0 7 rfl rfl)
theorem dX0_laneFor_8 : decode cX0_laneFor 8 = .ok (.istore 5, 2) := dk_54 5 (dk_at dksX0_laneFor_0 8 rfl rfl)
theorem dX0_laneFor_10 : decode cX0_laneFor 10 = .ok (.iload 5, 2) := dk_21 5 (dk_at dksX0_laneFor_0 10 rfl rfl)
theorem dX0_laneFor_12 : decode cX0_laneFor 12 = .ok (.aload_n 0, 1) := dk_42 (dk_at dksX0_laneFor_0 12 rfl rfl)
theorem dX0_laneFor_13 : decode cX0_laneFor 13 = .ok (.getfield 39, 3) := dk_180 0 39 (dk_at dksX0_laneFor_0 13 rfl rfl)
theorem dX0_laneFor_16 : decode cX0_laneFor 16 = .ok (.getfield 124, 3) := dk_180 0 124 (dk_at dksX0_laneFor_0 16 rfl rfl)
theorem dX0_laneFor_19 : decode cX0_laneFor 19 = .ok (.if_icmp .ge 60, 3) := dk_162 0 60 (dk_at dksX0_laneFor_0 19 rfl rfl)
theorem dX0_laneFor_22 : decode cX0_laneFor 22 = .ok (.aload_n 0, 1) := dk_42 (dk_at dksX0_laneFor_0 22 rfl rfl)
theorem dX0_laneFor_23 : decode cX0_laneFor 23 = .ok (.invokevirtual 156, 3) := dk_182 0 156 (dk_at dksX0_laneFor_1 0 rfl rfl)
theorem dX0_laneFor_26 : decode cX0_laneFor 26 = .ok (.getfield 159, 3) := dk_180 0 159 (dk_at dksX0_laneFor_1 3 rfl rfl)
theorem dX0_laneFor_29 : decode cX0_laneFor 29 = .ok (.iload 5, 2) := dk_21 5 (dk_at dksX0_laneFor_1 6 rfl rfl)
theorem dX0_laneFor_31 : decode cX0_laneFor 31 = .ok (.iaload, 1) := dk_46 (dk_at dksX0_laneFor_1 8 rfl rfl)
theorem dX0_laneFor_32 : decode cX0_laneFor 32 = .ok (.iload_n 2, 1) := dk_28 (dk_at dksX0_laneFor_1 9 rfl rfl)
theorem dX0_laneFor_33 : decode cX0_laneFor 33 = .ok (.if_icmp .ne 40, 3) := dk_160 0 40 (dk_at dksX0_laneFor_1 10 rfl rfl)
theorem dX0_laneFor_36 : decode cX0_laneFor 36 = .ok (.aload_n 0, 1) := dk_42 (dk_at dksX0_laneFor_1 13 rfl rfl)
theorem dX0_laneFor_37 : decode cX0_laneFor 37 = .ok (.iload_n 1, 1) := dk_27 (dk_at dksX0_laneFor_1 14 rfl rfl)
theorem dX0_laneFor_38 : decode cX0_laneFor 38 = .ok (.aload_n 0, 1) := dk_42 (dk_at dksX0_laneFor_1 15 rfl rfl)
theorem dX0_laneFor_39 : decode cX0_laneFor 39 = .ok (.iload_n 1, 1) := dk_27 (dk_at dksX0_laneFor_1 16 rfl rfl)
theorem dX0_laneFor_40 : decode cX0_laneFor 40 = .ok (.iload 5, 2) := dk_21 5 (dk_at dksX0_laneFor_1 17 rfl rfl)
theorem dX0_laneFor_42 : decode cX0_laneFor 42 = .ok (.invokevirtual 374, 3) := dk_182 1 118 (dk_at dksX0_laneFor_1 19 rfl rfl)
theorem dX0_laneFor_45 : decode cX0_laneFor 45 = .ok (.invokevirtual 335, 3) := dk_182 1 79 (dk_at dksX0_laneFor_2 0 rfl rfl)
theorem dX0_laneFor_48 : decode cX0_laneFor 48 = .ok (.iload 4, 2) := dk_21 4 (dk_at dksX0_laneFor_2 3 rfl rfl)
theorem dX0_laneFor_50 : decode cX0_laneFor 50 = .ok (.if_icmp .lt 6, 3) := dk_161 0 6 (dk_at dksX0_laneFor_2 5 rfl rfl)
theorem dX0_laneFor_53 : decode cX0_laneFor 53 = .ok (.goto 20, 3) := dk_167 0 20 (dk_at dksX0_laneFor_2 8 rfl rfl)
theorem dX0_laneFor_56 : decode cX0_laneFor 56 = .ok (.aload_n 0, 1) := dk_42 (dk_at dksX0_laneFor_2 11 rfl rfl)
theorem dX0_laneFor_57 : decode cX0_laneFor 57 = .ok (.iload_n 1, 1) := dk_27 (dk_at dksX0_laneFor_2 12 rfl rfl)
theorem dX0_laneFor_58 : decode cX0_laneFor 58 = .ok (.aload_n 0, 1) := dk_42 (dk_at dksX0_laneFor_2 13 rfl rfl)
theorem dX0_laneFor_59 : decode cX0_laneFor 59 = .ok (.iload_n 1, 1) := dk_27 (dk_at dksX0_laneFor_2 14 rfl rfl)
theorem dX0_laneFor_60 : decode cX0_laneFor 60 = .ok (.iload 5, 2) := dk_21 5 (dk_at dksX0_laneFor_2 15 rfl rfl)
theorem dX0_laneFor_62 : decode cX0_laneFor 62 = .ok (.invokevirtual 374, 3) := dk_182 1 118 (dk_at dksX0_laneFor_2 17 rfl rfl)
theorem dX0_laneFor_65 : decode cX0_laneFor 65 = .ok (.invokevirtual 335, 3) := dk_182 1 79 (dk_at dksX0_laneFor_2 20 rfl rfl)
theorem dX0_laneFor_68 : decode cX0_laneFor 68 = .ok (.istore 4, 2) := dk_54 4 (dk_at dksX0_laneFor_3 0 rfl rfl)
theorem dX0_laneFor_70 : decode cX0_laneFor 70 = .ok (.iload 5, 2) := dk_21 5 (dk_at dksX0_laneFor_3 2 rfl rfl)
theorem dX0_laneFor_72 : decode cX0_laneFor 72 = .ok (.istore_n 3, 1) := dk_62 (dk_at dksX0_laneFor_3 4 rfl rfl)
theorem dX0_laneFor_73 : decode cX0_laneFor 73 = .ok (.iinc 5 1, 3) := dk_132 5 1 (dk_at dksX0_laneFor_3 5 rfl rfl)
theorem dX0_laneFor_76 : decode cX0_laneFor 76 = .ok (.goto (-66), 3) := dk_167 255 190 (dk_at dksX0_laneFor_3 8 rfl rfl)
theorem dX0_laneFor_79 : decode cX0_laneFor 79 = .ok (.iload_n 3, 1) := dk_29 (dk_at dksX0_laneFor_3 11 rfl rfl)
theorem dX0_laneFor_80 : decode cX0_laneFor 80 = .ok (.ireturn, 1) := dk_172 (dk_at dksX0_laneFor_3 12 rfl rfl)
abbrev cX0_nearerEnd : ByteArray := prog_1_method_70_code
def yX0_nearerEnd : MethodName := ⟨RX0, "nearerEnd", "(II)I"⟩
def dkwX0_nearerEnd_2 : List UInt8 := [21, 4, 182, 1, 79, 42, 27, 29, 182, 1, 79, 162, 0, 8, 21, 4, 167, 0, 4, 29, 172]
abbrev dktX0_nearerEnd_2 : List UInt8 := dkwX0_nearerEnd_2 ++ []
def dkwX0_nearerEnd_1 : List UInt8 := [180, 0, 39, 180, 0, 144, 28, 46, 42, 180, 0, 39, 180, 0, 147, 28, 46, 184, 1, 88, 54, 4, 42, 27]
abbrev dktX0_nearerEnd_1 : List UInt8 := dkwX0_nearerEnd_1 ++ dktX0_nearerEnd_2
def dkwX0_nearerEnd_0 : List UInt8 := [42, 180, 0, 39, 180, 0, 144, 28, 46, 42, 180, 0, 39, 180, 0, 147, 28, 46, 184, 1, 77, 62, 42]
abbrev dktX0_nearerEnd_0 : List UInt8 := dkwX0_nearerEnd_0 ++ dktX0_nearerEnd_1
theorem dksX0_nearerEnd_0 : cX0_nearerEnd.data.toList.drop 0 = dktX0_nearerEnd_0 := by decide +kernel
theorem dksX0_nearerEnd_1 : cX0_nearerEnd.data.toList.drop 23 = dktX0_nearerEnd_1 := dk_seg dksX0_nearerEnd_0 23 rfl rfl
theorem dksX0_nearerEnd_2 : cX0_nearerEnd.data.toList.drop 47 = dktX0_nearerEnd_2 := dk_seg dksX0_nearerEnd_1 24 rfl rfl
theorem dX0_nearerEnd_0 : decode cX0_nearerEnd 0 = .ok (.aload_n 0, 1) := dk_42 (dk_at dksX0_nearerEnd_0 0 rfl rfl)
theorem dX0_nearerEnd_1 : decode cX0_nearerEnd 1 = .ok (.getfield 39, 3) := dk_180 0 39 (dk_at dksX0_nearerEnd_0 1 rfl rfl)
theorem dX0_nearerEnd_4 : decode cX0_nearerEnd 4 = .ok (.getfield 144, 3) := dk_180 0 144 (dk_at dksX0_nearerEnd_0 4 rfl rfl)
theorem dX0_nearerEnd_7 : decode cX0_nearerEnd 7 = .ok (.iload_n 2, 1) := dk_28 (dk_at dksX0_nearerEnd_0 7 rfl rfl)
theorem dX0_nearerEnd_8 : decode cX0_nearerEnd 8 = .ok (.iaload, 1) := dk_46 (dk_at dksX0_nearerEnd_0 8 rfl rfl)
theorem dX0_nearerEnd_9 : decode cX0_nearerEnd 9 = .ok (.aload_n 0, 1) := dk_42 (dk_at dksX0_nearerEnd_0 9 rfl rfl)
theorem dX0_nearerEnd_10 : decode cX0_nearerEnd 10 = .ok (.getfield 39, 3) := dk_180 0 39 (dk_at dksX0_nearerEnd_0 10 rfl rfl)
theorem dX0_nearerEnd_13 : decode cX0_nearerEnd 13 = .ok (.getfield 147, 3) := dk_180 0 147 (dk_at dksX0_nearerEnd_0 13 rfl rfl)
theorem dX0_nearerEnd_16 : decode cX0_nearerEnd 16 = .ok (.iload_n 2, 1) := dk_28 (dk_at dksX0_nearerEnd_0 16 rfl rfl)
theorem dX0_nearerEnd_17 : decode cX0_nearerEnd 17 = .ok (.iaload, 1) := dk_46 (dk_at dksX0_nearerEnd_0 17 rfl rfl)
theorem dX0_nearerEnd_18 : decode cX0_nearerEnd 18 = .ok (.invokestatic 333, 3) := dk_184 1 77 (dk_at dksX0_nearerEnd_0 18 rfl rfl)
theorem dX0_nearerEnd_21 : decode cX0_nearerEnd 21 = .ok (.istore_n 3, 1) := dk_62 (dk_at dksX0_nearerEnd_0 21 rfl rfl)
theorem dX0_nearerEnd_22 : decode cX0_nearerEnd 22 = .ok (.aload_n 0, 1) := dk_42 (dk_at dksX0_nearerEnd_0 22 rfl rfl)
theorem dX0_nearerEnd_23 : decode cX0_nearerEnd 23 = .ok (.getfield 39, 3) := dk_180 0 39 (dk_at dksX0_nearerEnd_1 0 rfl rfl)
theorem dX0_nearerEnd_26 : decode cX0_nearerEnd 26 = .ok (.getfield 144, 3) := dk_180 0 144 (dk_at dksX0_nearerEnd_1 3 rfl rfl)
theorem dX0_nearerEnd_29 : decode cX0_nearerEnd 29 = .ok (.iload_n 2, 1) := dk_28 (dk_at dksX0_nearerEnd_1 6 rfl rfl)
theorem dX0_nearerEnd_30 : decode cX0_nearerEnd 30 = .ok (.iaload, 1) := dk_46 (dk_at dksX0_nearerEnd_1 7 rfl rfl)
theorem dX0_nearerEnd_31 : decode cX0_nearerEnd 31 = .ok (.aload_n 0, 1) := dk_42 (dk_at dksX0_nearerEnd_1 8 rfl rfl)
theorem dX0_nearerEnd_32 : decode cX0_nearerEnd 32 = .ok (.getfield 39, 3) := dk_180 0 39 (dk_at dksX0_nearerEnd_1 9 rfl rfl)
theorem dX0_nearerEnd_35 : decode cX0_nearerEnd 35 = .ok (.getfield 147, 3) := dk_180 0 147 (dk_at dksX0_nearerEnd_1 12 rfl rfl)
theorem dX0_nearerEnd_38 : decode cX0_nearerEnd 38 = .ok (.iload_n 2, 1) := dk_28 (dk_at dksX0_nearerEnd_1 15 rfl rfl)
theorem dX0_nearerEnd_39 : decode cX0_nearerEnd 39 = .ok (.iaload, 1) := dk_46 (dk_at dksX0_nearerEnd_1 16 rfl rfl)
theorem dX0_nearerEnd_40 : decode cX0_nearerEnd 40 = .ok (.invokestatic 344, 3) := dk_184 1 88 (dk_at dksX0_nearerEnd_1 17 rfl rfl)
theorem dX0_nearerEnd_43 : decode cX0_nearerEnd 43 = .ok (.istore 4, 2) := dk_54 4 (dk_at dksX0_nearerEnd_1 20 rfl rfl)
theorem dX0_nearerEnd_45 : decode cX0_nearerEnd 45 = .ok (.aload_n 0, 1) := dk_42 (dk_at dksX0_nearerEnd_1 22 rfl rfl)
theorem dX0_nearerEnd_46 : decode cX0_nearerEnd 46 = .ok (.iload_n 1, 1) := dk_27 (dk_at dksX0_nearerEnd_1 23 rfl rfl)
theorem dX0_nearerEnd_47 : decode cX0_nearerEnd 47 = .ok (.iload 4, 2) := dk_21 4 (dk_at dksX0_nearerEnd_2 0 rfl rfl)
theorem dX0_nearerEnd_49 : decode cX0_nearerEnd 49 = .ok (.invokevirtual 335, 3) := dk_182 1 79 (dk_at dksX0_nearerEnd_2 2 rfl rfl)
theorem dX0_nearerEnd_52 : decode cX0_nearerEnd 52 = .ok (.aload_n 0, 1) := dk_42 (dk_at dksX0_nearerEnd_2 5 rfl rfl)
theorem dX0_nearerEnd_53 : decode cX0_nearerEnd 53 = .ok (.iload_n 1, 1) := dk_27 (dk_at dksX0_nearerEnd_2 6 rfl rfl)
theorem dX0_nearerEnd_54 : decode cX0_nearerEnd 54 = .ok (.iload_n 3, 1) := dk_29 (dk_at dksX0_nearerEnd_2 7 rfl rfl)
theorem dX0_nearerEnd_55 : decode cX0_nearerEnd 55 = .ok (.invokevirtual 335, 3) := dk_182 1 79 (dk_at dksX0_nearerEnd_2 8 rfl rfl)
theorem dX0_nearerEnd_58 : decode cX0_nearerEnd 58 = .ok (.if_icmp .ge 8, 3) := dk_162 0 8 (dk_at dksX0_nearerEnd_2 11 rfl rfl)
theorem dX0_nearerEnd_61 : decode cX0_nearerEnd 61 = .ok (.iload 4, 2) := dk_21 4 (dk_at dksX0_nearerEnd_2 14 rfl rfl)
theorem dX0_nearerEnd_63 : decode cX0_nearerEnd 63 = .ok (.goto 4, 3) := dk_167 0 4 (dk_at dksX0_nearerEnd_2 16 rfl rfl)
theorem dX0_nearerEnd_66 : decode cX0_nearerEnd 66 = .ok (.iload_n 3, 1) := dk_29 (dk_at dksX0_nearerEnd_2 19 rfl rfl)
theorem dX0_nearerEnd_67 : decode cX0_nearerEnd 67 = .ok (.ireturn, 1) := dk_172 (dk_at dksX0_nearerEnd_2 20 rfl rfl)
abbrev cX0_laneLong : ByteArray := prog_1_method_72_code
def yX0_laneLong : MethodName := ⟨RX0, "laneLong", "(II)I"⟩
def dkwX0_laneLong_2 : List UInt8 := [42, 180, 0, 39, 180, 0, 150, 21, 4, 46, 184, 1, 77, 62, 132, 4, 1, 167, 255, 199, 29, 172]
abbrev dktX0_laneLong_2 : List UInt8 := dkwX0_laneLong_2 ++ []
def dkwX0_laneLong_1 : List UInt8 := [21, 4, 27, 182, 1, 35, 153, 0, 32, 42, 180, 0, 39, 21, 4, 27, 182, 1, 39, 28, 160, 0, 18, 29]
abbrev dktX0_laneLong_1 : List UInt8 := dkwX0_laneLong_1 ++ dktX0_laneLong_2
def dkwX0_laneLong_0 : List UInt8 := [19, 1, 76, 62, 3, 54, 4, 21, 4, 42, 180, 0, 39, 180, 0, 124, 162, 0, 51, 42, 180, 0, 39]
abbrev dktX0_laneLong_0 : List UInt8 := dkwX0_laneLong_0 ++ dktX0_laneLong_1
theorem dksX0_laneLong_0 : cX0_laneLong.data.toList.drop 0 = dktX0_laneLong_0 := by decide +kernel
theorem dksX0_laneLong_1 : cX0_laneLong.data.toList.drop 23 = dktX0_laneLong_1 := dk_seg dksX0_laneLong_0 23 rfl rfl
theorem dksX0_laneLong_2 : cX0_laneLong.data.toList.drop 47 = dktX0_laneLong_2 := dk_seg dksX0_laneLong_1 24 rfl rfl
theorem dX0_laneLong_0 : decode cX0_laneLong 0 = .ok (.ldc_w 332, 3) := dk_19 1 76 (dk_at dksX0_laneLong_0 0 rfl rfl)
theorem dX0_laneLong_3 : decode cX0_laneLong 3 = .ok (.istore_n 3, 1) := dk_62 (dk_at dksX0_laneLong_0 3 rfl rfl)
theorem dX0_laneLong_4 : decode cX0_laneLong 4 = .ok (.iconst 0, 1) := dk_3 (dk_at dksX0_laneLong_0 4 rfl rfl)
theorem dX0_laneLong_5 : decode cX0_laneLong 5 = .ok (.istore 4, 2) := dk_54 4 (dk_at dksX0_laneLong_0 5 rfl rfl)
theorem dX0_laneLong_7 : decode cX0_laneLong 7 = .ok (.iload 4, 2) := dk_21 4 (dk_at dksX0_laneLong_0 7 rfl rfl)
theorem dX0_laneLong_9 : decode cX0_laneLong 9 = .ok (.aload_n 0, 1) := dk_42 (dk_at dksX0_laneLong_0 9 rfl rfl)
theorem dX0_laneLong_10 : decode cX0_laneLong 10 = .ok (.getfield 39, 3) := dk_180 0 39 (dk_at dksX0_laneLong_0 10 rfl rfl)
theorem dX0_laneLong_13 : decode cX0_laneLong 13 = .ok (.getfield 124, 3) := dk_180 0 124 (dk_at dksX0_laneLong_0 13 rfl rfl)
theorem dX0_laneLong_16 : decode cX0_laneLong 16 = .ok (.if_icmp .ge 51, 3) := dk_162 0 51 (dk_at dksX0_laneLong_0 16 rfl rfl)
theorem dX0_laneLong_19 : decode cX0_laneLong 19 = .ok (.aload_n 0, 1) := dk_42 (dk_at dksX0_laneLong_0 19 rfl rfl)
theorem dX0_laneLong_20 : decode cX0_laneLong 20 = .ok (.getfield 39, 3) := dk_180 0 39 (dk_at dksX0_laneLong_0 20 rfl rfl)
theorem dX0_laneLong_23 : decode cX0_laneLong 23 = .ok (.iload 4, 2) := dk_21 4 (dk_at dksX0_laneLong_1 0 rfl rfl)
theorem dX0_laneLong_25 : decode cX0_laneLong 25 = .ok (.iload_n 1, 1) := dk_27 (dk_at dksX0_laneLong_1 2 rfl rfl)
theorem dX0_laneLong_26 : decode cX0_laneLong 26 = .ok (.invokevirtual 291, 3) := dk_182 1 35 (dk_at dksX0_laneLong_1 3 rfl rfl)
theorem dX0_laneLong_29 : decode cX0_laneLong 29 = .ok (.ifCond .eq 32, 3) := dk_153 0 32 (dk_at dksX0_laneLong_1 6 rfl rfl)
theorem dX0_laneLong_32 : decode cX0_laneLong 32 = .ok (.aload_n 0, 1) := dk_42 (dk_at dksX0_laneLong_1 9 rfl rfl)
theorem dX0_laneLong_33 : decode cX0_laneLong 33 = .ok (.getfield 39, 3) := dk_180 0 39 (dk_at dksX0_laneLong_1 10 rfl rfl)
theorem dX0_laneLong_36 : decode cX0_laneLong 36 = .ok (.iload 4, 2) := dk_21 4 (dk_at dksX0_laneLong_1 13 rfl rfl)
theorem dX0_laneLong_38 : decode cX0_laneLong 38 = .ok (.iload_n 1, 1) := dk_27 (dk_at dksX0_laneLong_1 15 rfl rfl)
theorem dX0_laneLong_39 : decode cX0_laneLong 39 = .ok (.invokevirtual 295, 3) := dk_182 1 39 (dk_at dksX0_laneLong_1 16 rfl rfl)
theorem dX0_laneLong_42 : decode cX0_laneLong 42 = .ok (.iload_n 2, 1) := dk_28 (dk_at dksX0_laneLong_1 19 rfl rfl)
theorem dX0_laneLong_43 : decode cX0_laneLong 43 = .ok (.if_icmp .ne 18, 3) := dk_160 0 18 (dk_at dksX0_laneLong_1 20 rfl rfl)
theorem dX0_laneLong_46 : decode cX0_laneLong 46 = .ok (.iload_n 3, 1) := dk_29 (dk_at dksX0_laneLong_1 23 rfl rfl)
theorem dX0_laneLong_47 : decode cX0_laneLong 47 = .ok (.aload_n 0, 1) := dk_42 (dk_at dksX0_laneLong_2 0 rfl rfl)
theorem dX0_laneLong_48 : decode cX0_laneLong 48 = .ok (.getfield 39, 3) := dk_180 0 39 (dk_at dksX0_laneLong_2 1 rfl rfl)
theorem dX0_laneLong_51 : decode cX0_laneLong 51 = .ok (.getfield 150, 3) := dk_180 0 150 (dk_at dksX0_laneLong_2 4 rfl rfl)
theorem dX0_laneLong_54 : decode cX0_laneLong 54 = .ok (.iload 4, 2) := dk_21 4 (dk_at dksX0_laneLong_2 7 rfl rfl)
theorem dX0_laneLong_56 : decode cX0_laneLong 56 = .ok (.iaload, 1) := dk_46 (dk_at dksX0_laneLong_2 9 rfl rfl)
theorem dX0_laneLong_57 : decode cX0_laneLong 57 = .ok (.invokestatic 333, 3) := dk_184 1 77 (dk_at dksX0_laneLong_2 10 rfl rfl)
theorem dX0_laneLong_60 : decode cX0_laneLong 60 = .ok (.istore_n 3, 1) := dk_62 (dk_at dksX0_laneLong_2 13 rfl rfl)
theorem dX0_laneLong_61 : decode cX0_laneLong 61 = .ok (.iinc 4 1, 3) := dk_132 4 1 (dk_at dksX0_laneLong_2 14 rfl rfl)
theorem dX0_laneLong_64 : decode cX0_laneLong 64 = .ok (.goto (-57), 3) := dk_167 255 199 (dk_at dksX0_laneLong_2 17 rfl rfl)
theorem dX0_laneLong_67 : decode cX0_laneLong 67 = .ok (.iload_n 3, 1) := dk_29 (dk_at dksX0_laneLong_2 20 rfl rfl)
theorem dX0_laneLong_68 : decode cX0_laneLong 68 = .ok (.ireturn, 1) := dk_172 (dk_at dksX0_laneLong_2 21 rfl rfl)
abbrev cX0_apart : ByteArray := prog_1_method_76_code
def yX0_apart : MethodName := ⟨RX0, "apart", "(I)I"⟩
def dkwX0_apart_2 : List UInt8 := [27, 4, 100, 46, 172]
abbrev dktX0_apart_2 : List UInt8 := dkwX0_apart_2 ++ []
def dkwX0_apart_1 : List UInt8 := [182, 1, 130, 154, 0, 9, 132, 2, 1, 167, 255, 244, 27, 154, 0, 7, 28, 167, 0, 11, 42, 180, 0, 102]
abbrev dktX0_apart_1 : List UInt8 := dkwX0_apart_1 ++ dktX0_apart_2
def dkwX0_apart_0 : List UInt8 := [27, 3, 42, 180, 0, 39, 180, 0, 124, 184, 0, 26, 154, 0, 5, 2, 172, 3, 61, 42, 3, 28]
abbrev dktX0_apart_0 : List UInt8 := dkwX0_apart_0 ++ dktX0_apart_1
theorem dksX0_apart_0 : cX0_apart.data.toList.drop 0 = dktX0_apart_0 := by decide +kernel
theorem dksX0_apart_1 : cX0_apart.data.toList.drop 22 = dktX0_apart_1 := dk_seg dksX0_apart_0 22 rfl rfl
theorem dksX0_apart_2 : cX0_apart.data.toList.drop 46 = dktX0_apart_2 := dk_seg dksX0_apart_1 24 rfl rfl
theorem dX0_apart_0 : decode cX0_apart 0 = .ok (.iload_n 1, 1) := dk_27 (dk_at dksX0_apart_0 0 rfl rfl)
theorem dX0_apart_1 : decode cX0_apart 1 = .ok (.iconst 0, 1) := dk_3 (dk_at dksX0_apart_0 1 rfl rfl)
theorem dX0_apart_2 : decode cX0_apart 2 = .ok (.aload_n 0, 1) := dk_42 (dk_at dksX0_apart_0 2 rfl rfl)
theorem dX0_apart_3 : decode cX0_apart 3 = .ok (.getfield 39, 3) := dk_180 0 39 (dk_at dksX0_apart_0 3 rfl rfl)
theorem dX0_apart_6 : decode cX0_apart 6 = .ok (.getfield 124, 3) := dk_180 0 124 (dk_at dksX0_apart_0 6 rfl rfl)
theorem dX0_apart_9 : decode cX0_apart 9 = .ok (.invokestatic 26, 3) := dk_184 0 26 (dk_at dksX0_apart_0 9 rfl rfl)
theorem dX0_apart_12 : decode cX0_apart 12 = .ok (.ifCond .ne 5, 3) := dk_154 0 5 (dk_at dksX0_apart_0 12 rfl rfl)
theorem dX0_apart_15 : decode cX0_apart 15 = .ok (.iconst (-1), 1) := dk_2 (dk_at dksX0_apart_0 15 rfl rfl)
theorem dX0_apart_16 : decode cX0_apart 16 = .ok (.ireturn, 1) := dk_172 (dk_at dksX0_apart_0 16 rfl rfl)
theorem dX0_apart_17 : decode cX0_apart 17 = .ok (.iconst 0, 1) := dk_3 (dk_at dksX0_apart_0 17 rfl rfl)
theorem dX0_apart_18 : decode cX0_apart 18 = .ok (.istore_n 2, 1) := dk_61 (dk_at dksX0_apart_0 18 rfl rfl)
theorem dX0_apart_19 : decode cX0_apart 19 = .ok (.aload_n 0, 1) := dk_42 (dk_at dksX0_apart_0 19 rfl rfl)
theorem dX0_apart_20 : decode cX0_apart 20 = .ok (.iconst 0, 1) := dk_3 (dk_at dksX0_apart_0 20 rfl rfl)
theorem dX0_apart_21 : decode cX0_apart 21 = .ok (.iload_n 2, 1) := dk_28 (dk_at dksX0_apart_0 21 rfl rfl)
theorem dX0_apart_22 : decode cX0_apart 22 = .ok (.invokevirtual 386, 3) := dk_182 1 130 (dk_at dksX0_apart_1 0 rfl rfl)
theorem dX0_apart_25 : decode cX0_apart 25 = .ok (.ifCond .ne 9, 3) := dk_154 0 9 (dk_at dksX0_apart_1 3 rfl rfl)
theorem dX0_apart_28 : decode cX0_apart 28 = .ok (.iinc 2 1, 3) := dk_132 2 1 (dk_at dksX0_apart_1 6 rfl rfl)
theorem dX0_apart_31 : decode cX0_apart 31 = .ok (.goto (-12), 3) := dk_167 255 244 (dk_at dksX0_apart_1 9 rfl rfl)
theorem dX0_apart_34 : decode cX0_apart 34 = .ok (.iload_n 1, 1) := dk_27 (dk_at dksX0_apart_1 12 rfl rfl)
theorem dX0_apart_35 : decode cX0_apart 35 = .ok (.ifCond .ne 7, 3) := dk_154 0 7 (dk_at dksX0_apart_1 13 rfl rfl)
theorem dX0_apart_38 : decode cX0_apart 38 = .ok (.iload_n 2, 1) := dk_28 (dk_at dksX0_apart_1 16 rfl rfl)
theorem dX0_apart_39 : decode cX0_apart 39 = .ok (.goto 11, 3) := dk_167 0 11 (dk_at dksX0_apart_1 17 rfl rfl)
theorem dX0_apart_42 : decode cX0_apart 42 = .ok (.aload_n 0, 1) := dk_42 (dk_at dksX0_apart_1 20 rfl rfl)
theorem dX0_apart_43 : decode cX0_apart 43 = .ok (.getfield 102, 3) := dk_180 0 102 (dk_at dksX0_apart_1 21 rfl rfl)
theorem dX0_apart_46 : decode cX0_apart 46 = .ok (.iload_n 1, 1) := dk_27 (dk_at dksX0_apart_2 0 rfl rfl)
theorem dX0_apart_47 : decode cX0_apart 47 = .ok (.iconst 1, 1) := dk_4 (dk_at dksX0_apart_2 1 rfl rfl)
theorem dX0_apart_48 : decode cX0_apart 48 = .ok (.isub, 1) := dk_100 (dk_at dksX0_apart_2 2 rfl rfl)
theorem dX0_apart_49 : decode cX0_apart 49 = .ok (.iaload, 1) := dk_46 (dk_at dksX0_apart_2 3 rfl rfl)
theorem dX0_apart_50 : decode cX0_apart 50 = .ok (.ireturn, 1) := dk_172 (dk_at dksX0_apart_2 4 rfl rfl)
abbrev cX0_colours : ByteArray := prog_1_method_75_code
def yX0_colours : MethodName := ⟨RX0, "colours", "(II)Z"⟩
def dkwX0_colours_4 : List UInt8 := [4, 172, 132, 3, 1, 167, 255, 171, 3, 172]
abbrev dktX0_colours_4 : List UInt8 := dkwX0_colours_4 ++ []
def dkwX0_colours_3 : List UInt8 := [154, 0, 6, 167, 0, 23, 42, 180, 0, 102, 27, 29, 79, 42, 27, 4, 96, 28, 182, 1, 130, 153, 0, 5]
abbrev dktX0_colours_3 : List UInt8 := dkwX0_colours_3 ++ dktX0_colours_4
def dkwX0_colours_2 : List UInt8 := [27, 182, 1, 127, 154, 0, 7, 4, 167, 0, 4, 3, 126, 54, 4, 132, 5, 1, 167, 255, 216, 21, 4]
abbrev dktX0_colours_2 : List UInt8 := dkwX0_colours_2 ++ dktX0_colours_3
def dkwX0_colours_1 : List UInt8 := [54, 5, 21, 5, 27, 162, 0, 40, 21, 4, 42, 180, 0, 102, 21, 5, 46, 29, 160, 0, 13, 42, 21, 5]
abbrev dktX0_colours_1 : List UInt8 := dkwX0_colours_1 ++ dktX0_colours_2
def dkwX0_colours_0 : List UInt8 := [27, 42, 180, 0, 39, 180, 0, 124, 160, 0, 5, 4, 172, 3, 62, 29, 28, 162, 0, 86, 4, 54, 4, 3]
abbrev dktX0_colours_0 : List UInt8 := dkwX0_colours_0 ++ dktX0_colours_1
theorem dksX0_colours_0 : cX0_colours.data.toList.drop 0 = dktX0_colours_0 := by decide +kernel
theorem dksX0_colours_1 : cX0_colours.data.toList.drop 24 = dktX0_colours_1 := dk_seg dksX0_colours_0 24 rfl rfl
theorem dksX0_colours_2 : cX0_colours.data.toList.drop 48 = dktX0_colours_2 := dk_seg dksX0_colours_1 24 rfl rfl
theorem dksX0_colours_3 : cX0_colours.data.toList.drop 71 = dktX0_colours_3 := dk_seg dksX0_colours_2 23 rfl rfl
theorem dksX0_colours_4 : cX0_colours.data.toList.drop 95 = dktX0_colours_4 := dk_seg dksX0_colours_3 24 rfl rfl
theorem dX0_colours_0 : decode cX0_colours 0 = .ok (.iload_n 1, 1) := dk_27 (dk_at dksX0_colours_0 0 rfl rfl)
theorem dX0_colours_1 : decode cX0_colours 1 = .ok (.aload_n 0, 1) := dk_42 (dk_at dksX0_colours_0 1 rfl rfl)
theorem dX0_colours_2 : decode cX0_colours 2 = .ok (.getfield 39, 3) := dk_180 0 39 (dk_at dksX0_colours_0 2 rfl rfl)
theorem dX0_colours_5 : decode cX0_colours 5 = .ok (.getfield 124, 3) := dk_180 0 124 (dk_at dksX0_colours_0 5 rfl rfl)
theorem dX0_colours_8 : decode cX0_colours 8 = .ok (.if_icmp .ne 5, 3) := dk_160 0 5 (dk_at dksX0_colours_0 8 rfl rfl)
theorem dX0_colours_11 : decode cX0_colours 11 = .ok (.iconst 1, 1) := dk_4 (dk_at dksX0_colours_0 11 rfl rfl)
theorem dX0_colours_12 : decode cX0_colours 12 = .ok (.ireturn, 1) := dk_172 (dk_at dksX0_colours_0 12 rfl rfl)
theorem dX0_colours_13 : decode cX0_colours 13 = .ok (.iconst 0, 1) := dk_3 (dk_at dksX0_colours_0 13 rfl rfl)
theorem dX0_colours_14 : decode cX0_colours 14 = .ok (.istore_n 3, 1) := dk_62 (dk_at dksX0_colours_0 14 rfl rfl)
theorem dX0_colours_15 : decode cX0_colours 15 = .ok (.iload_n 3, 1) := dk_29 (dk_at dksX0_colours_0 15 rfl rfl)
theorem dX0_colours_16 : decode cX0_colours 16 = .ok (.iload_n 2, 1) := dk_28 (dk_at dksX0_colours_0 16 rfl rfl)
theorem dX0_colours_17 : decode cX0_colours 17 = .ok (.if_icmp .ge 86, 3) := dk_162 0 86 (dk_at dksX0_colours_0 17 rfl rfl)
theorem dX0_colours_20 : decode cX0_colours 20 = .ok (.iconst 1, 1) := dk_4 (dk_at dksX0_colours_0 20 rfl rfl)
theorem dX0_colours_21 : decode cX0_colours 21 = .ok (.istore 4, 2) := dk_54 4 (dk_at dksX0_colours_0 21 rfl rfl)
theorem dX0_colours_23 : decode cX0_colours 23 = .ok (.iconst 0, 1) := dk_3 (dk_at dksX0_colours_0 23 rfl rfl)
theorem dX0_colours_24 : decode cX0_colours 24 = .ok (.istore 5, 2) := dk_54 5 (dk_at dksX0_colours_1 0 rfl rfl)
theorem dX0_colours_26 : decode cX0_colours 26 = .ok (.iload 5, 2) := dk_21 5 (dk_at dksX0_colours_1 2 rfl rfl)
theorem dX0_colours_28 : decode cX0_colours 28 = .ok (.iload_n 1, 1) := dk_27 (dk_at dksX0_colours_1 4 rfl rfl)
theorem dX0_colours_29 : decode cX0_colours 29 = .ok (.if_icmp .ge 40, 3) := dk_162 0 40 (dk_at dksX0_colours_1 5 rfl rfl)
theorem dX0_colours_32 : decode cX0_colours 32 = .ok (.iload 4, 2) := dk_21 4 (dk_at dksX0_colours_1 8 rfl rfl)
theorem dX0_colours_34 : decode cX0_colours 34 = .ok (.aload_n 0, 1) := dk_42 (dk_at dksX0_colours_1 10 rfl rfl)
theorem dX0_colours_35 : decode cX0_colours 35 = .ok (.getfield 102, 3) := dk_180 0 102 (dk_at dksX0_colours_1 11 rfl rfl)
theorem dX0_colours_38 : decode cX0_colours 38 = .ok (.iload 5, 2) := dk_21 5 (dk_at dksX0_colours_1 14 rfl rfl)
theorem dX0_colours_40 : decode cX0_colours 40 = .ok (.iaload, 1) := dk_46 (dk_at dksX0_colours_1 16 rfl rfl)
theorem dX0_colours_41 : decode cX0_colours 41 = .ok (.iload_n 3, 1) := dk_29 (dk_at dksX0_colours_1 17 rfl rfl)
theorem dX0_colours_42 : decode cX0_colours 42 = .ok (.if_icmp .ne 13, 3) := dk_160 0 13 (dk_at dksX0_colours_1 18 rfl rfl)
theorem dX0_colours_45 : decode cX0_colours 45 = .ok (.aload_n 0, 1) := dk_42 (dk_at dksX0_colours_1 21 rfl rfl)
theorem dX0_colours_46 : decode cX0_colours 46 = .ok (.iload 5, 2) := dk_21 5 (dk_at dksX0_colours_1 22 rfl rfl)
theorem dX0_colours_48 : decode cX0_colours 48 = .ok (.iload_n 1, 1) := dk_27 (dk_at dksX0_colours_2 0 rfl rfl)
theorem dX0_colours_49 : decode cX0_colours 49 = .ok (.invokevirtual 383, 3) := dk_182 1 127 (dk_at dksX0_colours_2 1 rfl rfl)
theorem dX0_colours_52 : decode cX0_colours 52 = .ok (.ifCond .ne 7, 3) := dk_154 0 7 (dk_at dksX0_colours_2 4 rfl rfl)
theorem dX0_colours_55 : decode cX0_colours 55 = .ok (.iconst 1, 1) := dk_4 (dk_at dksX0_colours_2 7 rfl rfl)
theorem dX0_colours_56 : decode cX0_colours 56 = .ok (.goto 4, 3) := dk_167 0 4 (dk_at dksX0_colours_2 8 rfl rfl)
theorem dX0_colours_59 : decode cX0_colours 59 = .ok (.iconst 0, 1) := dk_3 (dk_at dksX0_colours_2 11 rfl rfl)
theorem dX0_colours_60 : decode cX0_colours 60 = .ok (.iand, 1) := dk_126 (dk_at dksX0_colours_2 12 rfl rfl)
theorem dX0_colours_61 : decode cX0_colours 61 = .ok (.istore 4, 2) := dk_54 4 (dk_at dksX0_colours_2 13 rfl rfl)
theorem dX0_colours_63 : decode cX0_colours 63 = .ok (.iinc 5 1, 3) := dk_132 5 1 (dk_at dksX0_colours_2 15 rfl rfl)
theorem dX0_colours_66 : decode cX0_colours 66 = .ok (.goto (-40), 3) := dk_167 255 216 (dk_at dksX0_colours_2 18 rfl rfl)
theorem dX0_colours_69 : decode cX0_colours 69 = .ok (.iload 4, 2) := dk_21 4 (dk_at dksX0_colours_2 21 rfl rfl)
theorem dX0_colours_71 : decode cX0_colours 71 = .ok (.ifCond .ne 6, 3) := dk_154 0 6 (dk_at dksX0_colours_3 0 rfl rfl)
theorem dX0_colours_74 : decode cX0_colours 74 = .ok (.goto 23, 3) := dk_167 0 23 (dk_at dksX0_colours_3 3 rfl rfl)
theorem dX0_colours_77 : decode cX0_colours 77 = .ok (.aload_n 0, 1) := dk_42 (dk_at dksX0_colours_3 6 rfl rfl)
theorem dX0_colours_78 : decode cX0_colours 78 = .ok (.getfield 102, 3) := dk_180 0 102 (dk_at dksX0_colours_3 7 rfl rfl)
theorem dX0_colours_81 : decode cX0_colours 81 = .ok (.iload_n 1, 1) := dk_27 (dk_at dksX0_colours_3 10 rfl rfl)
theorem dX0_colours_82 : decode cX0_colours 82 = .ok (.iload_n 3, 1) := dk_29 (dk_at dksX0_colours_3 11 rfl rfl)
theorem dX0_colours_83 : decode cX0_colours 83 = .ok (.iastore, 1) := dk_79 (dk_at dksX0_colours_3 12 rfl rfl)
theorem dX0_colours_84 : decode cX0_colours 84 = .ok (.aload_n 0, 1) := dk_42 (dk_at dksX0_colours_3 13 rfl rfl)
theorem dX0_colours_85 : decode cX0_colours 85 = .ok (.iload_n 1, 1) := dk_27 (dk_at dksX0_colours_3 14 rfl rfl)
theorem dX0_colours_86 : decode cX0_colours 86 = .ok (.iconst 1, 1) := dk_4 (dk_at dksX0_colours_3 15 rfl rfl)
theorem dX0_colours_87 : decode cX0_colours 87 = .ok (.iadd, 1) := dk_96 (dk_at dksX0_colours_3 16 rfl rfl)
theorem dX0_colours_88 : decode cX0_colours 88 = .ok (.iload_n 2, 1) := dk_28 (dk_at dksX0_colours_3 17 rfl rfl)
theorem dX0_colours_89 : decode cX0_colours 89 = .ok (.invokevirtual 386, 3) := dk_182 1 130 (dk_at dksX0_colours_3 18 rfl rfl)
theorem dX0_colours_92 : decode cX0_colours 92 = .ok (.ifCond .eq 5, 3) := dk_153 0 5 (dk_at dksX0_colours_3 21 rfl rfl)
theorem dX0_colours_95 : decode cX0_colours 95 = .ok (.iconst 1, 1) := dk_4 (dk_at dksX0_colours_4 0 rfl rfl)
theorem dX0_colours_96 : decode cX0_colours 96 = .ok (.ireturn, 1) := dk_172 (dk_at dksX0_colours_4 1 rfl rfl)
theorem dX0_colours_97 : decode cX0_colours 97 = .ok (.iinc 3 1, 3) := dk_132 3 1 (dk_at dksX0_colours_4 2 rfl rfl)
theorem dX0_colours_100 : decode cX0_colours 100 = .ok (.goto (-85), 3) := dk_167 255 171 (dk_at dksX0_colours_4 5 rfl rfl)
theorem dX0_colours_103 : decode cX0_colours 103 = .ok (.iconst 0, 1) := dk_3 (dk_at dksX0_colours_4 8 rfl rfl)
theorem dX0_colours_104 : decode cX0_colours 104 = .ok (.ireturn, 1) := dk_172 (dk_at dksX0_colours_4 9 rfl rfl)
abbrev cX0_meet : ByteArray := prog_1_method_74_code
def yX0_meet : MethodName := ⟨RX0, "meet", "(II)Z"⟩
def dkwX0_meet_1 : List UInt8 := [27, 42, 180, 0, 39, 180, 0, 147, 28, 46, 182, 1, 35, 153, 0, 7, 4, 167, 0, 4, 3, 172]
abbrev dktX0_meet_1 : List UInt8 := dkwX0_meet_1 ++ []
def dkwX0_meet_0 : List UInt8 := [42, 180, 0, 39, 27, 42, 180, 0, 39, 180, 0, 144, 28, 46, 182, 1, 35, 154, 0, 23, 42, 180, 0, 39]
abbrev dktX0_meet_0 : List UInt8 := dkwX0_meet_0 ++ dktX0_meet_1
theorem dksX0_meet_0 : cX0_meet.data.toList.drop 0 = dktX0_meet_0 := by decide +kernel
theorem dksX0_meet_1 : cX0_meet.data.toList.drop 24 = dktX0_meet_1 := dk_seg dksX0_meet_0 24 rfl rfl
theorem dX0_meet_0 : decode cX0_meet 0 = .ok (.aload_n 0, 1) := dk_42 (dk_at dksX0_meet_0 0 rfl rfl)
theorem dX0_meet_1 : decode cX0_meet 1 = .ok (.getfield 39, 3) := dk_180 0 39 (dk_at dksX0_meet_0 1 rfl rfl)
theorem dX0_meet_4 : decode cX0_meet 4 = .ok (.iload_n 1, 1) := dk_27 (dk_at dksX0_meet_0 4 rfl rfl)
theorem dX0_meet_5 : decode cX0_meet 5 = .ok (.aload_n 0, 1) := dk_42 (dk_at dksX0_meet_0 5 rfl rfl)
theorem dX0_meet_6 : decode cX0_meet 6 = .ok (.getfield 39, 3) := dk_180 0 39 (dk_at dksX0_meet_0 6 rfl rfl)
theorem dX0_meet_9 : decode cX0_meet 9 = .ok (.getfield 144, 3) := dk_180 0 144 (dk_at dksX0_meet_0 9 rfl rfl)
theorem dX0_meet_12 : decode cX0_meet 12 = .ok (.iload_n 2, 1) := dk_28 (dk_at dksX0_meet_0 12 rfl rfl)
theorem dX0_meet_13 : decode cX0_meet 13 = .ok (.iaload, 1) := dk_46 (dk_at dksX0_meet_0 13 rfl rfl)
theorem dX0_meet_14 : decode cX0_meet 14 = .ok (.invokevirtual 291, 3) := dk_182 1 35 (dk_at dksX0_meet_0 14 rfl rfl)
theorem dX0_meet_17 : decode cX0_meet 17 = .ok (.ifCond .ne 23, 3) := dk_154 0 23 (dk_at dksX0_meet_0 17 rfl rfl)
theorem dX0_meet_20 : decode cX0_meet 20 = .ok (.aload_n 0, 1) := dk_42 (dk_at dksX0_meet_0 20 rfl rfl)
theorem dX0_meet_21 : decode cX0_meet 21 = .ok (.getfield 39, 3) := dk_180 0 39 (dk_at dksX0_meet_0 21 rfl rfl)
theorem dX0_meet_24 : decode cX0_meet 24 = .ok (.iload_n 1, 1) := dk_27 (dk_at dksX0_meet_1 0 rfl rfl)
theorem dX0_meet_25 : decode cX0_meet 25 = .ok (.aload_n 0, 1) := dk_42 (dk_at dksX0_meet_1 1 rfl rfl)
theorem dX0_meet_26 : decode cX0_meet 26 = .ok (.getfield 39, 3) := dk_180 0 39 (dk_at dksX0_meet_1 2 rfl rfl)
theorem dX0_meet_29 : decode cX0_meet 29 = .ok (.getfield 147, 3) := dk_180 0 147 (dk_at dksX0_meet_1 5 rfl rfl)
theorem dX0_meet_32 : decode cX0_meet 32 = .ok (.iload_n 2, 1) := dk_28 (dk_at dksX0_meet_1 8 rfl rfl)
theorem dX0_meet_33 : decode cX0_meet 33 = .ok (.iaload, 1) := dk_46 (dk_at dksX0_meet_1 9 rfl rfl)
theorem dX0_meet_34 : decode cX0_meet 34 = .ok (.invokevirtual 291, 3) := dk_182 1 35 (dk_at dksX0_meet_1 10 rfl rfl)
theorem dX0_meet_37 : decode cX0_meet 37 = .ok (.ifCond .eq 7, 3) := dk_153 0 7 (dk_at dksX0_meet_1 13 rfl rfl)
theorem dX0_meet_40 : decode cX0_meet 40 = .ok (.iconst 1, 1) := dk_4 (dk_at dksX0_meet_1 16 rfl rfl)
theorem dX0_meet_41 : decode cX0_meet 41 = .ok (.goto 4, 3) := dk_167 0 4 (dk_at dksX0_meet_1 17 rfl rfl)
theorem dX0_meet_44 : decode cX0_meet 44 = .ok (.iconst 0, 1) := dk_3 (dk_at dksX0_meet_1 20 rfl rfl)
theorem dX0_meet_45 : decode cX0_meet 45 = .ok (.ireturn, 1) := dk_172 (dk_at dksX0_meet_1 21 rfl rfl)
abbrev cX0_alike : ByteArray := prog_1_method_77_code
def yX0_alike : MethodName := ⟨RX0, "alike", "()I"⟩
def dkwX0_alike_3 : List UInt8 := [153, 0, 7, 4, 167, 0, 4, 3, 96, 60, 132, 3, 1, 167, 255, 191, 132, 2, 1, 167, 255, 170, 27, 172]
abbrev dktX0_alike_3 : List UInt8 := dkwX0_alike_3 ++ []
def dkwX0_alike_2 : List UInt8 := [180, 0, 159, 28, 46, 42, 182, 0, 156, 180, 0, 159, 29, 46, 160, 0, 16, 42, 28, 29, 182, 1, 127]
abbrev dktX0_alike_2 : List UInt8 := dkwX0_alike_2 ++ dktX0_alike_3
def dkwX0_alike_1 : List UInt8 := [180, 0, 124, 162, 0, 60, 27, 42, 182, 0, 156, 180, 0, 159, 28, 46, 2, 159, 0, 37, 42, 182, 0, 156]
abbrev dktX0_alike_1 : List UInt8 := dkwX0_alike_1 ++ dktX0_alike_2
def dkwX0_alike_0 : List UInt8 := [3, 60, 3, 61, 28, 42, 180, 0, 39, 180, 0, 124, 162, 0, 81, 28, 4, 96, 62, 29, 42, 180, 0, 39]
abbrev dktX0_alike_0 : List UInt8 := dkwX0_alike_0 ++ dktX0_alike_1
theorem dksX0_alike_0 : cX0_alike.data.toList.drop 0 = dktX0_alike_0 := by decide +kernel
theorem dksX0_alike_1 : cX0_alike.data.toList.drop 24 = dktX0_alike_1 := dk_seg dksX0_alike_0 24 rfl rfl
theorem dksX0_alike_2 : cX0_alike.data.toList.drop 48 = dktX0_alike_2 := dk_seg dksX0_alike_1 24 rfl rfl
theorem dksX0_alike_3 : cX0_alike.data.toList.drop 71 = dktX0_alike_3 := dk_seg dksX0_alike_2 23 rfl rfl
theorem dX0_alike_0 : decode cX0_alike 0 = .ok (.iconst 0, 1) := dk_3 (dk_at dksX0_alike_0 0 rfl rfl)
theorem dX0_alike_1 : decode cX0_alike 1 = .ok (.istore_n 1, 1) := dk_60 (dk_at dksX0_alike_0 1 rfl rfl)
theorem dX0_alike_2 : decode cX0_alike 2 = .ok (.iconst 0, 1) := dk_3 (dk_at dksX0_alike_0 2 rfl rfl)
theorem dX0_alike_3 : decode cX0_alike 3 = .ok (.istore_n 2, 1) := dk_61 (dk_at dksX0_alike_0 3 rfl rfl)
theorem dX0_alike_4 : decode cX0_alike 4 = .ok (.iload_n 2, 1) := dk_28 (dk_at dksX0_alike_0 4 rfl rfl)
theorem dX0_alike_5 : decode cX0_alike 5 = .ok (.aload_n 0, 1) := dk_42 (dk_at dksX0_alike_0 5 rfl rfl)
theorem dX0_alike_6 : decode cX0_alike 6 = .ok (.getfield 39, 3) := dk_180 0 39 (dk_at dksX0_alike_0 6 rfl rfl)
theorem dX0_alike_9 : decode cX0_alike 9 = .ok (.getfield 124, 3) := dk_180 0 124 (dk_at dksX0_alike_0 9 rfl rfl)
theorem dX0_alike_12 : decode cX0_alike 12 = .ok (.if_icmp .ge 81, 3) := dk_162 0 81 (dk_at dksX0_alike_0 12 rfl rfl)
theorem dX0_alike_15 : decode cX0_alike 15 = .ok (.iload_n 2, 1) := dk_28 (dk_at dksX0_alike_0 15 rfl rfl)
theorem dX0_alike_16 : decode cX0_alike 16 = .ok (.iconst 1, 1) := dk_4 (dk_at dksX0_alike_0 16 rfl rfl)
theorem dX0_alike_17 : decode cX0_alike 17 = .ok (.iadd, 1) := dk_96 (dk_at dksX0_alike_0 17 rfl rfl)
theorem dX0_alike_18 : decode cX0_alike 18 = .ok (.istore_n 3, 1) := dk_62 (dk_at dksX0_alike_0 18 rfl rfl)
theorem dX0_alike_19 : decode cX0_alike 19 = .ok (.iload_n 3, 1) := dk_29 (dk_at dksX0_alike_0 19 rfl rfl)
theorem dX0_alike_20 : decode cX0_alike 20 = .ok (.aload_n 0, 1) := dk_42 (dk_at dksX0_alike_0 20 rfl rfl)
theorem dX0_alike_21 : decode cX0_alike 21 = .ok (.getfield 39, 3) := dk_180 0 39 (dk_at dksX0_alike_0 21 rfl rfl)
theorem dX0_alike_24 : decode cX0_alike 24 = .ok (.getfield 124, 3) := dk_180 0 124 (dk_at dksX0_alike_1 0 rfl rfl)
theorem dX0_alike_27 : decode cX0_alike 27 = .ok (.if_icmp .ge 60, 3) := dk_162 0 60 (dk_at dksX0_alike_1 3 rfl rfl)
theorem dX0_alike_30 : decode cX0_alike 30 = .ok (.iload_n 1, 1) := dk_27 (dk_at dksX0_alike_1 6 rfl rfl)
theorem dX0_alike_31 : decode cX0_alike 31 = .ok (.aload_n 0, 1) := dk_42 (dk_at dksX0_alike_1 7 rfl rfl)
theorem dX0_alike_32 : decode cX0_alike 32 = .ok (.invokevirtual 156, 3) := dk_182 0 156 (dk_at dksX0_alike_1 8 rfl rfl)
theorem dX0_alike_35 : decode cX0_alike 35 = .ok (.getfield 159, 3) := dk_180 0 159 (dk_at dksX0_alike_1 11 rfl rfl)
theorem dX0_alike_38 : decode cX0_alike 38 = .ok (.iload_n 2, 1) := dk_28 (dk_at dksX0_alike_1 14 rfl rfl)
theorem dX0_alike_39 : decode cX0_alike 39 = .ok (.iaload, 1) := dk_46 (dk_at dksX0_alike_1 15 rfl rfl)
theorem dX0_alike_40 : decode cX0_alike 40 = .ok (.iconst (-1), 1) := dk_2 (dk_at dksX0_alike_1 16 rfl rfl)
theorem dX0_alike_41 : decode cX0_alike 41 = .ok (.if_icmp .eq 37, 3) := dk_159 0 37 (dk_at dksX0_alike_1 17 rfl rfl)
theorem dX0_alike_44 : decode cX0_alike 44 = .ok (.aload_n 0, 1) := dk_42 (dk_at dksX0_alike_1 20 rfl rfl)
theorem dX0_alike_45 : decode cX0_alike 45 = .ok (.invokevirtual 156, 3) := dk_182 0 156 (dk_at dksX0_alike_1 21 rfl rfl)
theorem dX0_alike_48 : decode cX0_alike 48 = .ok (.getfield 159, 3) := dk_180 0 159 (dk_at dksX0_alike_2 0 rfl rfl)
theorem dX0_alike_51 : decode cX0_alike 51 = .ok (.iload_n 2, 1) := dk_28 (dk_at dksX0_alike_2 3 rfl rfl)
theorem dX0_alike_52 : decode cX0_alike 52 = .ok (.iaload, 1) := dk_46 (dk_at dksX0_alike_2 4 rfl rfl)
theorem dX0_alike_53 : decode cX0_alike 53 = .ok (.aload_n 0, 1) := dk_42 (dk_at dksX0_alike_2 5 rfl rfl)
theorem dX0_alike_54 : decode cX0_alike 54 = .ok (.invokevirtual 156, 3) := dk_182 0 156 (dk_at dksX0_alike_2 6 rfl rfl)
theorem dX0_alike_57 : decode cX0_alike 57 = .ok (.getfield 159, 3) := dk_180 0 159 (dk_at dksX0_alike_2 9 rfl rfl)
theorem dX0_alike_60 : decode cX0_alike 60 = .ok (.iload_n 3, 1) := dk_29 (dk_at dksX0_alike_2 12 rfl rfl)
theorem dX0_alike_61 : decode cX0_alike 61 = .ok (.iaload, 1) := dk_46 (dk_at dksX0_alike_2 13 rfl rfl)
theorem dX0_alike_62 : decode cX0_alike 62 = .ok (.if_icmp .ne 16, 3) := dk_160 0 16 (dk_at dksX0_alike_2 14 rfl rfl)
theorem dX0_alike_65 : decode cX0_alike 65 = .ok (.aload_n 0, 1) := dk_42 (dk_at dksX0_alike_2 17 rfl rfl)
theorem dX0_alike_66 : decode cX0_alike 66 = .ok (.iload_n 2, 1) := dk_28 (dk_at dksX0_alike_2 18 rfl rfl)
theorem dX0_alike_67 : decode cX0_alike 67 = .ok (.iload_n 3, 1) := dk_29 (dk_at dksX0_alike_2 19 rfl rfl)
theorem dX0_alike_68 : decode cX0_alike 68 = .ok (.invokevirtual 383, 3) := dk_182 1 127 (dk_at dksX0_alike_2 20 rfl rfl)
theorem dX0_alike_71 : decode cX0_alike 71 = .ok (.ifCond .eq 7, 3) := dk_153 0 7 (dk_at dksX0_alike_3 0 rfl rfl)
theorem dX0_alike_74 : decode cX0_alike 74 = .ok (.iconst 1, 1) := dk_4 (dk_at dksX0_alike_3 3 rfl rfl)
theorem dX0_alike_75 : decode cX0_alike 75 = .ok (.goto 4, 3) := dk_167 0 4 (dk_at dksX0_alike_3 4 rfl rfl)
theorem dX0_alike_78 : decode cX0_alike 78 = .ok (.iconst 0, 1) := dk_3 (dk_at dksX0_alike_3 7 rfl rfl)
theorem dX0_alike_79 : decode cX0_alike 79 = .ok (.iadd, 1) := dk_96 (dk_at dksX0_alike_3 8 rfl rfl)
theorem dX0_alike_80 : decode cX0_alike 80 = .ok (.istore_n 1, 1) := dk_60 (dk_at dksX0_alike_3 9 rfl rfl)
theorem dX0_alike_81 : decode cX0_alike 81 = .ok (.iinc 3 1, 3) := dk_132 3 1 (dk_at dksX0_alike_3 10 rfl rfl)
theorem dX0_alike_84 : decode cX0_alike 84 = .ok (.goto (-65), 3) := dk_167 255 191 (dk_at dksX0_alike_3 13 rfl rfl)
theorem dX0_alike_87 : decode cX0_alike 87 = .ok (.iinc 2 1, 3) := dk_132 2 1 (dk_at dksX0_alike_3 16 rfl rfl)
theorem dX0_alike_90 : decode cX0_alike 90 = .ok (.goto (-86), 3) := dk_167 255 170 (dk_at dksX0_alike_3 19 rfl rfl)
theorem dX0_alike_93 : decode cX0_alike 93 = .ok (.iload_n 1, 1) := dk_27 (dk_at dksX0_alike_3 22 rfl rfl)
theorem dX0_alike_94 : decode cX0_alike 94 = .ok (.ireturn, 1) := dk_172 (dk_at dksX0_alike_3 23 rfl rfl)
abbrev cX0_round : ByteArray := prog_1_method_80_code
def yX0_round : MethodName := ⟨RX0, "round", "()I"⟩
def dkwX0_round_4 : List UInt8 := [3, 128, 61, 132, 3, 1, 167, 255, 226, 27, 42, 28, 182, 1, 136, 96, 172]
abbrev dktX0_round_4 : List UInt8 := dkwX0_round_4 ++ []
def dkwX0_round_3 : List UInt8 := [29, 16, 8, 162, 0, 30, 28, 42, 29, 182, 1, 139, 5, 112, 4, 160, 0, 9, 4, 29, 120, 167, 0, 4]
abbrev dktX0_round_3 : List UInt8 := dkwX0_round_3 ++ dktX0_round_4
def dkwX0_round_2 : List UInt8 := [180, 0, 144, 29, 46, 182, 1, 79, 19, 1, 76, 161, 0, 5, 2, 172, 132, 3, 1, 167, 255, 200, 3, 62]
abbrev dktX0_round_2 : List UInt8 := dkwX0_round_2 ++ dktX0_round_3
def dkwX0_round_1 : List UInt8 := [180, 0, 39, 180, 0, 150, 29, 46, 96, 60, 42, 42, 180, 0, 39, 180, 0, 144, 3, 46, 42, 180, 0, 39]
abbrev dktX0_round_1 : List UInt8 := dkwX0_round_1 ++ dktX0_round_2
def dkwX0_round_0 : List UInt8 := [42, 182, 1, 82, 3, 60, 3, 61, 3, 62, 29, 42, 180, 0, 39, 180, 0, 124, 162, 0, 51, 27, 42]
abbrev dktX0_round_0 : List UInt8 := dkwX0_round_0 ++ dktX0_round_1
theorem dksX0_round_0 : cX0_round.data.toList.drop 0 = dktX0_round_0 := by decide +kernel
theorem dksX0_round_1 : cX0_round.data.toList.drop 23 = dktX0_round_1 := dk_seg dksX0_round_0 23 rfl rfl
theorem dksX0_round_2 : cX0_round.data.toList.drop 47 = dktX0_round_2 := dk_seg dksX0_round_1 24 rfl rfl
theorem dksX0_round_3 : cX0_round.data.toList.drop 71 = dktX0_round_3 := dk_seg dksX0_round_2 24 rfl rfl
theorem dksX0_round_4 : cX0_round.data.toList.drop 95 = dktX0_round_4 := dk_seg dksX0_round_3 24 rfl rfl
theorem dX0_round_0 : decode cX0_round 0 = .ok (.aload_n 0, 1) := dk_42 (dk_at dksX0_round_0 0 rfl rfl)
theorem dX0_round_1 : decode cX0_round 1 = .ok (.invokevirtual 338, 3) := dk_182 1 82 (dk_at dksX0_round_0 1 rfl rfl)
theorem dX0_round_4 : decode cX0_round 4 = .ok (.iconst 0, 1) := dk_3 (dk_at dksX0_round_0 4 rfl rfl)
theorem dX0_round_5 : decode cX0_round 5 = .ok (.istore_n 1, 1) := dk_60 (dk_at dksX0_round_0 5 rfl rfl)
theorem dX0_round_6 : decode cX0_round 6 = .ok (.iconst 0, 1) := dk_3 (dk_at dksX0_round_0 6 rfl rfl)
theorem dX0_round_7 : decode cX0_round 7 = .ok (.istore_n 2, 1) := dk_61 (dk_at dksX0_round_0 7 rfl rfl)
theorem dX0_round_8 : decode cX0_round 8 = .ok (.iconst 0, 1) := dk_3 (dk_at dksX0_round_0 8 rfl rfl)
theorem dX0_round_9 : decode cX0_round 9 = .ok (.istore_n 3, 1) := dk_62 (dk_at dksX0_round_0 9 rfl rfl)
theorem dX0_round_10 : decode cX0_round 10 = .ok (.iload_n 3, 1) := dk_29 (dk_at dksX0_round_0 10 rfl rfl)
theorem dX0_round_11 : decode cX0_round 11 = .ok (.aload_n 0, 1) := dk_42 (dk_at dksX0_round_0 11 rfl rfl)
theorem dX0_round_12 : decode cX0_round 12 = .ok (.getfield 39, 3) := dk_180 0 39 (dk_at dksX0_round_0 12 rfl rfl)
theorem dX0_round_15 : decode cX0_round 15 = .ok (.getfield 124, 3) := dk_180 0 124 (dk_at dksX0_round_0 15 rfl rfl)
theorem dX0_round_18 : decode cX0_round 18 = .ok (.if_icmp .ge 51, 3) := dk_162 0 51 (dk_at dksX0_round_0 18 rfl rfl)
theorem dX0_round_21 : decode cX0_round 21 = .ok (.iload_n 1, 1) := dk_27 (dk_at dksX0_round_0 21 rfl rfl)
theorem dX0_round_22 : decode cX0_round 22 = .ok (.aload_n 0, 1) := dk_42 (dk_at dksX0_round_0 22 rfl rfl)
theorem dX0_round_23 : decode cX0_round 23 = .ok (.getfield 39, 3) := dk_180 0 39 (dk_at dksX0_round_1 0 rfl rfl)
theorem dX0_round_26 : decode cX0_round 26 = .ok (.getfield 150, 3) := dk_180 0 150 (dk_at dksX0_round_1 3 rfl rfl)
theorem dX0_round_29 : decode cX0_round 29 = .ok (.iload_n 3, 1) := dk_29 (dk_at dksX0_round_1 6 rfl rfl)
theorem dX0_round_30 : decode cX0_round 30 = .ok (.iaload, 1) := dk_46 (dk_at dksX0_round_1 7 rfl rfl)
theorem dX0_round_31 : decode cX0_round 31 = .ok (.iadd, 1) := dk_96 (dk_at dksX0_round_1 8 rfl rfl)
theorem dX0_round_32 : decode cX0_round 32 = .ok (.istore_n 1, 1) := dk_60 (dk_at dksX0_round_1 9 rfl rfl)
theorem dX0_round_33 : decode cX0_round 33 = .ok (.aload_n 0, 1) := dk_42 (dk_at dksX0_round_1 10 rfl rfl)
theorem dX0_round_34 : decode cX0_round 34 = .ok (.aload_n 0, 1) := dk_42 (dk_at dksX0_round_1 11 rfl rfl)
theorem dX0_round_35 : decode cX0_round 35 = .ok (.getfield 39, 3) := dk_180 0 39 (dk_at dksX0_round_1 12 rfl rfl)
theorem dX0_round_38 : decode cX0_round 38 = .ok (.getfield 144, 3) := dk_180 0 144 (dk_at dksX0_round_1 15 rfl rfl)
theorem dX0_round_41 : decode cX0_round 41 = .ok (.iconst 0, 1) := dk_3 (dk_at dksX0_round_1 18 rfl rfl)
theorem dX0_round_42 : decode cX0_round 42 = .ok (.iaload, 1) := dk_46 (dk_at dksX0_round_1 19 rfl rfl)
theorem dX0_round_43 : decode cX0_round 43 = .ok (.aload_n 0, 1) := dk_42 (dk_at dksX0_round_1 20 rfl rfl)
theorem dX0_round_44 : decode cX0_round 44 = .ok (.getfield 39, 3) := dk_180 0 39 (dk_at dksX0_round_1 21 rfl rfl)
theorem dX0_round_47 : decode cX0_round 47 = .ok (.getfield 144, 3) := dk_180 0 144 (dk_at dksX0_round_2 0 rfl rfl)
theorem dX0_round_50 : decode cX0_round 50 = .ok (.iload_n 3, 1) := dk_29 (dk_at dksX0_round_2 3 rfl rfl)
theorem dX0_round_51 : decode cX0_round 51 = .ok (.iaload, 1) := dk_46 (dk_at dksX0_round_2 4 rfl rfl)
theorem dX0_round_52 : decode cX0_round 52 = .ok (.invokevirtual 335, 3) := dk_182 1 79 (dk_at dksX0_round_2 5 rfl rfl)
theorem dX0_round_55 : decode cX0_round 55 = .ok (.ldc_w 332, 3) := dk_19 1 76 (dk_at dksX0_round_2 8 rfl rfl)
theorem dX0_round_58 : decode cX0_round 58 = .ok (.if_icmp .lt 5, 3) := dk_161 0 5 (dk_at dksX0_round_2 11 rfl rfl)
theorem dX0_round_61 : decode cX0_round 61 = .ok (.iconst (-1), 1) := dk_2 (dk_at dksX0_round_2 14 rfl rfl)
theorem dX0_round_62 : decode cX0_round 62 = .ok (.ireturn, 1) := dk_172 (dk_at dksX0_round_2 15 rfl rfl)
theorem dX0_round_63 : decode cX0_round 63 = .ok (.iinc 3 1, 3) := dk_132 3 1 (dk_at dksX0_round_2 16 rfl rfl)
theorem dX0_round_66 : decode cX0_round 66 = .ok (.goto (-56), 3) := dk_167 255 200 (dk_at dksX0_round_2 19 rfl rfl)
theorem dX0_round_69 : decode cX0_round 69 = .ok (.iconst 0, 1) := dk_3 (dk_at dksX0_round_2 22 rfl rfl)
theorem dX0_round_70 : decode cX0_round 70 = .ok (.istore_n 3, 1) := dk_62 (dk_at dksX0_round_2 23 rfl rfl)
theorem dX0_round_71 : decode cX0_round 71 = .ok (.iload_n 3, 1) := dk_29 (dk_at dksX0_round_3 0 rfl rfl)
theorem dX0_round_72 : decode cX0_round 72 = .ok (.bipush 8, 2) := dk_16 8 (dk_at dksX0_round_3 1 rfl rfl)
theorem dX0_round_74 : decode cX0_round 74 = .ok (.if_icmp .ge 30, 3) := dk_162 0 30 (dk_at dksX0_round_3 3 rfl rfl)
theorem dX0_round_77 : decode cX0_round 77 = .ok (.iload_n 2, 1) := dk_28 (dk_at dksX0_round_3 6 rfl rfl)
theorem dX0_round_78 : decode cX0_round 78 = .ok (.aload_n 0, 1) := dk_42 (dk_at dksX0_round_3 7 rfl rfl)
theorem dX0_round_79 : decode cX0_round 79 = .ok (.iload_n 3, 1) := dk_29 (dk_at dksX0_round_3 8 rfl rfl)
theorem dX0_round_80 : decode cX0_round 80 = .ok (.invokevirtual 395, 3) := dk_182 1 139 (dk_at dksX0_round_3 9 rfl rfl)
theorem dX0_round_83 : decode cX0_round 83 = .ok (.iconst 2, 1) := dk_5 (dk_at dksX0_round_3 12 rfl rfl)
theorem dX0_round_84 : decode cX0_round 84 = .ok (.irem, 1) := dk_112 (dk_at dksX0_round_3 13 rfl rfl)
theorem dX0_round_85 : decode cX0_round 85 = .ok (.iconst 1, 1) := dk_4 (dk_at dksX0_round_3 14 rfl rfl)
theorem dX0_round_86 : decode cX0_round 86 = .ok (.if_icmp .ne 9, 3) := dk_160 0 9 (dk_at dksX0_round_3 15 rfl rfl)
theorem dX0_round_89 : decode cX0_round 89 = .ok (.iconst 1, 1) := dk_4 (dk_at dksX0_round_3 18 rfl rfl)
theorem dX0_round_90 : decode cX0_round 90 = .ok (.iload_n 3, 1) := dk_29 (dk_at dksX0_round_3 19 rfl rfl)
theorem dX0_round_91 : decode cX0_round 91 = .ok (.ishl, 1) := dk_120 (dk_at dksX0_round_3 20 rfl rfl)
theorem dX0_round_92 : decode cX0_round 92 = .ok (.goto 4, 3) := dk_167 0 4 (dk_at dksX0_round_3 21 rfl rfl)
theorem dX0_round_95 : decode cX0_round 95 = .ok (.iconst 0, 1) := dk_3 (dk_at dksX0_round_4 0 rfl rfl)
theorem dX0_round_96 : decode cX0_round 96 = .ok (.ior, 1) := dk_128 (dk_at dksX0_round_4 1 rfl rfl)
theorem dX0_round_97 : decode cX0_round 97 = .ok (.istore_n 2, 1) := dk_61 (dk_at dksX0_round_4 2 rfl rfl)
theorem dX0_round_98 : decode cX0_round 98 = .ok (.iinc 3 1, 3) := dk_132 3 1 (dk_at dksX0_round_4 3 rfl rfl)
theorem dX0_round_101 : decode cX0_round 101 = .ok (.goto (-30), 3) := dk_167 255 226 (dk_at dksX0_round_4 6 rfl rfl)
theorem dX0_round_104 : decode cX0_round 104 = .ok (.iload_n 1, 1) := dk_27 (dk_at dksX0_round_4 9 rfl rfl)
theorem dX0_round_105 : decode cX0_round 105 = .ok (.aload_n 0, 1) := dk_42 (dk_at dksX0_round_4 10 rfl rfl)
theorem dX0_round_106 : decode cX0_round 106 = .ok (.iload_n 2, 1) := dk_28 (dk_at dksX0_round_4 11 rfl rfl)
theorem dX0_round_107 : decode cX0_round 107 = .ok (.invokevirtual 392, 3) := dk_182 1 136 (dk_at dksX0_round_4 12 rfl rfl)
theorem dX0_round_110 : decode cX0_round 110 = .ok (.iadd, 1) := dk_96 (dk_at dksX0_round_4 15 rfl rfl)
theorem dX0_round_111 : decode cX0_round 111 = .ok (.ireturn, 1) := dk_172 (dk_at dksX0_round_4 16 rfl rfl)
abbrev cX0_lanesAt : ByteArray := prog_1_method_78_code
def yX0_lanesAt : MethodName := ⟨RX0, "lanesAt", "(I)I"⟩
def dkwX0_lanesAt_1 : List UInt8 := [182, 1, 35, 153, 0, 7, 4, 167, 0, 4, 3, 96, 61, 132, 3, 1, 167, 255, 222, 28, 172]
abbrev dktX0_lanesAt_1 : List UInt8 := dkwX0_lanesAt_1 ++ []
def dkwX0_lanesAt_0 : List UInt8 := [3, 61, 3, 62, 29, 42, 180, 0, 39, 180, 0, 124, 162, 0, 29, 28, 42, 180, 0, 39, 29, 27]
abbrev dktX0_lanesAt_0 : List UInt8 := dkwX0_lanesAt_0 ++ dktX0_lanesAt_1
theorem dksX0_lanesAt_0 : cX0_lanesAt.data.toList.drop 0 = dktX0_lanesAt_0 := by decide +kernel
theorem dksX0_lanesAt_1 : cX0_lanesAt.data.toList.drop 22 = dktX0_lanesAt_1 := dk_seg dksX0_lanesAt_0 22 rfl rfl
theorem dX0_lanesAt_0 : decode cX0_lanesAt 0 = .ok (.iconst 0, 1) := dk_3 (dk_at dksX0_lanesAt_0 0 rfl rfl)
theorem dX0_lanesAt_1 : decode cX0_lanesAt 1 = .ok (.istore_n 2, 1) := dk_61 (dk_at dksX0_lanesAt_0 1 rfl rfl)
theorem dX0_lanesAt_2 : decode cX0_lanesAt 2 = .ok (.iconst 0, 1) := dk_3 (dk_at dksX0_lanesAt_0 2 rfl rfl)
theorem dX0_lanesAt_3 : decode cX0_lanesAt 3 = .ok (.istore_n 3, 1) := dk_62 (dk_at dksX0_lanesAt_0 3 rfl rfl)
theorem dX0_lanesAt_4 : decode cX0_lanesAt 4 = .ok (.iload_n 3, 1) := dk_29 (dk_at dksX0_lanesAt_0 4 rfl rfl)
theorem dX0_lanesAt_5 : decode cX0_lanesAt 5 = .ok (.aload_n 0, 1) := dk_42 (dk_at dksX0_lanesAt_0 5 rfl rfl)
theorem dX0_lanesAt_6 : decode cX0_lanesAt 6 = .ok (.getfield 39, 3) := dk_180 0 39 (dk_at dksX0_lanesAt_0 6 rfl rfl)
theorem dX0_lanesAt_9 : decode cX0_lanesAt 9 = .ok (.getfield 124, 3) := dk_180 0 124 (dk_at dksX0_lanesAt_0 9 rfl rfl)
theorem dX0_lanesAt_12 : decode cX0_lanesAt 12 = .ok (.if_icmp .ge 29, 3) := dk_162 0 29 (dk_at dksX0_lanesAt_0 12 rfl rfl)
theorem dX0_lanesAt_15 : decode cX0_lanesAt 15 = .ok (.iload_n 2, 1) := dk_28 (dk_at dksX0_lanesAt_0 15 rfl rfl)
theorem dX0_lanesAt_16 : decode cX0_lanesAt 16 = .ok (.aload_n 0, 1) := dk_42 (dk_at dksX0_lanesAt_0 16 rfl rfl)
theorem dX0_lanesAt_17 : decode cX0_lanesAt 17 = .ok (.getfield 39, 3) := dk_180 0 39 (dk_at dksX0_lanesAt_0 17 rfl rfl)
theorem dX0_lanesAt_20 : decode cX0_lanesAt 20 = .ok (.iload_n 3, 1) := dk_29 (dk_at dksX0_lanesAt_0 20 rfl rfl)
theorem dX0_lanesAt_21 : decode cX0_lanesAt 21 = .ok (.iload_n 1, 1) := dk_27 (dk_at dksX0_lanesAt_0 21 rfl rfl)
theorem dX0_lanesAt_22 : decode cX0_lanesAt 22 = .ok (.invokevirtual 291, 3) := dk_182 1 35 (dk_at dksX0_lanesAt_1 0 rfl rfl)
theorem dX0_lanesAt_25 : decode cX0_lanesAt 25 = .ok (.ifCond .eq 7, 3) := dk_153 0 7 (dk_at dksX0_lanesAt_1 3 rfl rfl)
theorem dX0_lanesAt_28 : decode cX0_lanesAt 28 = .ok (.iconst 1, 1) := dk_4 (dk_at dksX0_lanesAt_1 6 rfl rfl)
theorem dX0_lanesAt_29 : decode cX0_lanesAt 29 = .ok (.goto 4, 3) := dk_167 0 4 (dk_at dksX0_lanesAt_1 7 rfl rfl)
theorem dX0_lanesAt_32 : decode cX0_lanesAt 32 = .ok (.iconst 0, 1) := dk_3 (dk_at dksX0_lanesAt_1 10 rfl rfl)
theorem dX0_lanesAt_33 : decode cX0_lanesAt 33 = .ok (.iadd, 1) := dk_96 (dk_at dksX0_lanesAt_1 11 rfl rfl)
theorem dX0_lanesAt_34 : decode cX0_lanesAt 34 = .ok (.istore_n 2, 1) := dk_61 (dk_at dksX0_lanesAt_1 12 rfl rfl)
theorem dX0_lanesAt_35 : decode cX0_lanesAt 35 = .ok (.iinc 3 1, 3) := dk_132 3 1 (dk_at dksX0_lanesAt_1 13 rfl rfl)
theorem dX0_lanesAt_38 : decode cX0_lanesAt 38 = .ok (.goto (-34), 3) := dk_167 255 222 (dk_at dksX0_lanesAt_1 16 rfl rfl)
theorem dX0_lanesAt_41 : decode cX0_lanesAt 41 = .ok (.iload_n 2, 1) := dk_28 (dk_at dksX0_lanesAt_1 19 rfl rfl)
theorem dX0_lanesAt_42 : decode cX0_lanesAt 42 = .ok (.ireturn, 1) := dk_172 (dk_at dksX0_lanesAt_1 20 rfl rfl)
abbrev cX0_pairsUp : ByteArray := prog_1_method_79_code
def yX0_pairsUp : MethodName := ⟨RX0, "pairsUp", "(I)I"⟩
def dkwX0_pairsUp_3 : List UInt8 := [132, 5, 1, 167, 255, 210, 21, 4, 172]
abbrev dktX0_pairsUp_3 : List UInt8 := dkwX0_pairsUp_3 ++ []
def dkwX0_pairsUp_2 : List UInt8 := [21, 5, 182, 1, 79, 42, 29, 4, 21, 5, 120, 2, 130, 126, 182, 1, 136, 96, 184, 1, 77, 54, 4]
abbrev dktX0_pairsUp_2 : List UInt8 := dkwX0_pairsUp_2 ++ dktX0_pairsUp_3
def dkwX0_pairsUp_1 : List UInt8 := [3, 54, 5, 21, 5, 16, 8, 162, 0, 45, 29, 21, 5, 184, 1, 93, 153, 0, 30, 21, 4, 42, 28]
abbrev dktX0_pairsUp_1 : List UInt8 := dkwX0_pairsUp_1 ++ dktX0_pairsUp_2
def dkwX0_pairsUp_0 : List UInt8 := [27, 154, 0, 5, 3, 172, 27, 184, 1, 133, 61, 27, 4, 28, 120, 2, 130, 126, 62, 19, 1, 76, 54, 4]
abbrev dktX0_pairsUp_0 : List UInt8 := dkwX0_pairsUp_0 ++ dktX0_pairsUp_1
theorem dksX0_pairsUp_0 : cX0_pairsUp.data.toList.drop 0 = dktX0_pairsUp_0 := by decide +kernel
theorem dksX0_pairsUp_1 : cX0_pairsUp.data.toList.drop 24 = dktX0_pairsUp_1 := dk_seg dksX0_pairsUp_0 24 rfl rfl
theorem dksX0_pairsUp_2 : cX0_pairsUp.data.toList.drop 47 = dktX0_pairsUp_2 := dk_seg dksX0_pairsUp_1 23 rfl rfl
theorem dksX0_pairsUp_3 : cX0_pairsUp.data.toList.drop 70 = dktX0_pairsUp_3 := dk_seg dksX0_pairsUp_2 23 rfl rfl
theorem dX0_pairsUp_0 : decode cX0_pairsUp 0 = .ok (.iload_n 1, 1) := dk_27 (dk_at dksX0_pairsUp_0 0 rfl rfl)
theorem dX0_pairsUp_1 : decode cX0_pairsUp 1 = .ok (.ifCond .ne 5, 3) := dk_154 0 5 (dk_at dksX0_pairsUp_0 1 rfl rfl)
theorem dX0_pairsUp_4 : decode cX0_pairsUp 4 = .ok (.iconst 0, 1) := dk_3 (dk_at dksX0_pairsUp_0 4 rfl rfl)
theorem dX0_pairsUp_5 : decode cX0_pairsUp 5 = .ok (.ireturn, 1) := dk_172 (dk_at dksX0_pairsUp_0 5 rfl rfl)
theorem dX0_pairsUp_6 : decode cX0_pairsUp 6 = .ok (.iload_n 1, 1) := dk_27 (dk_at dksX0_pairsUp_0 6 rfl rfl)
theorem dX0_pairsUp_7 : decode cX0_pairsUp 7 = .ok (.invokestatic 389, 3) := dk_184 1 133 (dk_at dksX0_pairsUp_0 7 rfl rfl)
theorem dX0_pairsUp_10 : decode cX0_pairsUp 10 = .ok (.istore_n 2, 1) := dk_61 (dk_at dksX0_pairsUp_0 10 rfl rfl)
theorem dX0_pairsUp_11 : decode cX0_pairsUp 11 = .ok (.iload_n 1, 1) := dk_27 (dk_at dksX0_pairsUp_0 11 rfl rfl)
theorem dX0_pairsUp_12 : decode cX0_pairsUp 12 = .ok (.iconst 1, 1) := dk_4 (dk_at dksX0_pairsUp_0 12 rfl rfl)
theorem dX0_pairsUp_13 : decode cX0_pairsUp 13 = .ok (.iload_n 2, 1) := dk_28 (dk_at dksX0_pairsUp_0 13 rfl rfl)
theorem dX0_pairsUp_14 : decode cX0_pairsUp 14 = .ok (.ishl, 1) := dk_120 (dk_at dksX0_pairsUp_0 14 rfl rfl)
theorem dX0_pairsUp_15 : decode cX0_pairsUp 15 = .ok (.iconst (-1), 1) := dk_2 (dk_at dksX0_pairsUp_0 15 rfl rfl)
theorem dX0_pairsUp_16 : decode cX0_pairsUp 16 = .ok (.ixor, 1) := dk_130 (dk_at dksX0_pairsUp_0 16 rfl rfl)
theorem dX0_pairsUp_17 : decode cX0_pairsUp 17 = .ok (.iand, 1) := dk_126 (dk_at dksX0_pairsUp_0 17 rfl rfl)
theorem dX0_pairsUp_18 : decode cX0_pairsUp 18 = .ok (.istore_n 3, 1) := dk_62 (dk_at dksX0_pairsUp_0 18 rfl rfl)
theorem dX0_pairsUp_19 : decode cX0_pairsUp 19 = .ok (.ldc_w 332, 3) := dk_19 1 76 (dk_at dksX0_pairsUp_0 19 rfl rfl)
theorem dX0_pairsUp_22 : decode cX0_pairsUp 22 = .ok (.istore 4, 2) := dk_54 4 (dk_at dksX0_pairsUp_0 22 rfl rfl)
theorem dX0_pairsUp_24 : decode cX0_pairsUp 24 = .ok (.iconst 0, 1) := dk_3 (dk_at dksX0_pairsUp_1 0 rfl rfl)
theorem dX0_pairsUp_25 : decode cX0_pairsUp 25 = .ok (.istore 5, 2) := dk_54 5 (dk_at dksX0_pairsUp_1 1 rfl rfl)
theorem dX0_pairsUp_27 : decode cX0_pairsUp 27 = .ok (.iload 5, 2) := dk_21 5 (dk_at dksX0_pairsUp_1 3 rfl rfl)
theorem dX0_pairsUp_29 : decode cX0_pairsUp 29 = .ok (.bipush 8, 2) := dk_16 8 (dk_at dksX0_pairsUp_1 5 rfl rfl)
theorem dX0_pairsUp_31 : decode cX0_pairsUp 31 = .ok (.if_icmp .ge 45, 3) := dk_162 0 45 (dk_at dksX0_pairsUp_1 7 rfl rfl)
theorem dX0_pairsUp_34 : decode cX0_pairsUp 34 = .ok (.iload_n 3, 1) := dk_29 (dk_at dksX0_pairsUp_1 10 rfl rfl)
theorem dX0_pairsUp_35 : decode cX0_pairsUp 35 = .ok (.iload 5, 2) := dk_21 5 (dk_at dksX0_pairsUp_1 11 rfl rfl)
theorem dX0_pairsUp_37 : decode cX0_pairsUp 37 = .ok (.invokestatic 349, 3) := dk_184 1 93 (dk_at dksX0_pairsUp_1 13 rfl rfl)
theorem dX0_pairsUp_40 : decode cX0_pairsUp 40 = .ok (.ifCond .eq 30, 3) := dk_153 0 30 (dk_at dksX0_pairsUp_1 16 rfl rfl)
theorem dX0_pairsUp_43 : decode cX0_pairsUp 43 = .ok (.iload 4, 2) := dk_21 4 (dk_at dksX0_pairsUp_1 19 rfl rfl)
theorem dX0_pairsUp_45 : decode cX0_pairsUp 45 = .ok (.aload_n 0, 1) := dk_42 (dk_at dksX0_pairsUp_1 21 rfl rfl)
theorem dX0_pairsUp_46 : decode cX0_pairsUp 46 = .ok (.iload_n 2, 1) := dk_28 (dk_at dksX0_pairsUp_1 22 rfl rfl)
theorem dX0_pairsUp_47 : decode cX0_pairsUp 47 = .ok (.iload 5, 2) := dk_21 5 (dk_at dksX0_pairsUp_2 0 rfl rfl)
theorem dX0_pairsUp_49 : decode cX0_pairsUp 49 = .ok (.invokevirtual 335, 3) := dk_182 1 79 (dk_at dksX0_pairsUp_2 2 rfl rfl)
theorem dX0_pairsUp_52 : decode cX0_pairsUp 52 = .ok (.aload_n 0, 1) := dk_42 (dk_at dksX0_pairsUp_2 5 rfl rfl)
theorem dX0_pairsUp_53 : decode cX0_pairsUp 53 = .ok (.iload_n 3, 1) := dk_29 (dk_at dksX0_pairsUp_2 6 rfl rfl)
theorem dX0_pairsUp_54 : decode cX0_pairsUp 54 = .ok (.iconst 1, 1) := dk_4 (dk_at dksX0_pairsUp_2 7 rfl rfl)
theorem dX0_pairsUp_55 : decode cX0_pairsUp 55 = .ok (.iload 5, 2) := dk_21 5 (dk_at dksX0_pairsUp_2 8 rfl rfl)
theorem dX0_pairsUp_57 : decode cX0_pairsUp 57 = .ok (.ishl, 1) := dk_120 (dk_at dksX0_pairsUp_2 10 rfl rfl)
theorem dX0_pairsUp_58 : decode cX0_pairsUp 58 = .ok (.iconst (-1), 1) := dk_2 (dk_at dksX0_pairsUp_2 11 rfl rfl)
theorem dX0_pairsUp_59 : decode cX0_pairsUp 59 = .ok (.ixor, 1) := dk_130 (dk_at dksX0_pairsUp_2 12 rfl rfl)
theorem dX0_pairsUp_60 : decode cX0_pairsUp 60 = .ok (.iand, 1) := dk_126 (dk_at dksX0_pairsUp_2 13 rfl rfl)
theorem dX0_pairsUp_61 : decode cX0_pairsUp 61 = .ok (.invokevirtual 392, 3) := dk_182 1 136 (dk_at dksX0_pairsUp_2 14 rfl rfl)
theorem dX0_pairsUp_64 : decode cX0_pairsUp 64 = .ok (.iadd, 1) := dk_96 (dk_at dksX0_pairsUp_2 17 rfl rfl)
theorem dX0_pairsUp_65 : decode cX0_pairsUp 65 = .ok (.invokestatic 333, 3) := dk_184 1 77 (dk_at dksX0_pairsUp_2 18 rfl rfl)
theorem dX0_pairsUp_68 : decode cX0_pairsUp 68 = .ok (.istore 4, 2) := dk_54 4 (dk_at dksX0_pairsUp_2 21 rfl rfl)
theorem dX0_pairsUp_70 : decode cX0_pairsUp 70 = .ok (.iinc 5 1, 3) := dk_132 5 1 (dk_at dksX0_pairsUp_3 0 rfl rfl)
theorem dX0_pairsUp_73 : decode cX0_pairsUp 73 = .ok (.goto (-46), 3) := dk_167 255 210 (dk_at dksX0_pairsUp_3 3 rfl rfl)
theorem dX0_pairsUp_76 : decode cX0_pairsUp 76 = .ok (.iload 4, 2) := dk_21 4 (dk_at dksX0_pairsUp_3 6 rfl rfl)
theorem dX0_pairsUp_78 : decode cX0_pairsUp 78 = .ok (.ireturn, 1) := dk_172 (dk_at dksX0_pairsUp_3 8 rfl rfl)
abbrev cX0_dead : ByteArray := prog_1_method_81_code
def yX0_dead : MethodName := ⟨RX0, "dead", "()I"⟩
def dkwX0_dead_1 : List UInt8 := [167, 0, 4, 3, 128, 60, 132, 2, 1, 167, 255, 228, 27, 172]
abbrev dktX0_dead_1 : List UInt8 := dkwX0_dead_1 ++ []
def dkwX0_dead_0 : List UInt8 := [3, 60, 3, 61, 28, 16, 8, 162, 0, 28, 27, 42, 28, 182, 1, 139, 4, 160, 0, 9, 4, 28, 120]
abbrev dktX0_dead_0 : List UInt8 := dkwX0_dead_0 ++ dktX0_dead_1
theorem dksX0_dead_0 : cX0_dead.data.toList.drop 0 = dktX0_dead_0 := by decide +kernel
theorem dksX0_dead_1 : cX0_dead.data.toList.drop 23 = dktX0_dead_1 := dk_seg dksX0_dead_0 23 rfl rfl
theorem dX0_dead_0 : decode cX0_dead 0 = .ok (.iconst 0, 1) := dk_3 (dk_at dksX0_dead_0 0 rfl rfl)
theorem dX0_dead_1 : decode cX0_dead 1 = .ok (.istore_n 1, 1) := dk_60 (dk_at dksX0_dead_0 1 rfl rfl)
theorem dX0_dead_2 : decode cX0_dead 2 = .ok (.iconst 0, 1) := dk_3 (dk_at dksX0_dead_0 2 rfl rfl)
theorem dX0_dead_3 : decode cX0_dead 3 = .ok (.istore_n 2, 1) := dk_61 (dk_at dksX0_dead_0 3 rfl rfl)
theorem dX0_dead_4 : decode cX0_dead 4 = .ok (.iload_n 2, 1) := dk_28 (dk_at dksX0_dead_0 4 rfl rfl)
theorem dX0_dead_5 : decode cX0_dead 5 = .ok (.bipush 8, 2) := dk_16 8 (dk_at dksX0_dead_0 5 rfl rfl)
theorem dX0_dead_7 : decode cX0_dead 7 = .ok (.if_icmp .ge 28, 3) := dk_162 0 28 (dk_at dksX0_dead_0 7 rfl rfl)
theorem dX0_dead_10 : decode cX0_dead 10 = .ok (.iload_n 1, 1) := dk_27 (dk_at dksX0_dead_0 10 rfl rfl)
theorem dX0_dead_11 : decode cX0_dead 11 = .ok (.aload_n 0, 1) := dk_42 (dk_at dksX0_dead_0 11 rfl rfl)
theorem dX0_dead_12 : decode cX0_dead 12 = .ok (.iload_n 2, 1) := dk_28 (dk_at dksX0_dead_0 12 rfl rfl)
theorem dX0_dead_13 : decode cX0_dead 13 = .ok (.invokevirtual 395, 3) := dk_182 1 139 (dk_at dksX0_dead_0 13 rfl rfl)
theorem dX0_dead_16 : decode cX0_dead 16 = .ok (.iconst 1, 1) := dk_4 (dk_at dksX0_dead_0 16 rfl rfl)
theorem dX0_dead_17 : decode cX0_dead 17 = .ok (.if_icmp .ne 9, 3) := dk_160 0 9 (dk_at dksX0_dead_0 17 rfl rfl)
theorem dX0_dead_20 : decode cX0_dead 20 = .ok (.iconst 1, 1) := dk_4 (dk_at dksX0_dead_0 20 rfl rfl)
theorem dX0_dead_21 : decode cX0_dead 21 = .ok (.iload_n 2, 1) := dk_28 (dk_at dksX0_dead_0 21 rfl rfl)
theorem dX0_dead_22 : decode cX0_dead 22 = .ok (.ishl, 1) := dk_120 (dk_at dksX0_dead_0 22 rfl rfl)
theorem dX0_dead_23 : decode cX0_dead 23 = .ok (.goto 4, 3) := dk_167 0 4 (dk_at dksX0_dead_1 0 rfl rfl)
theorem dX0_dead_26 : decode cX0_dead 26 = .ok (.iconst 0, 1) := dk_3 (dk_at dksX0_dead_1 3 rfl rfl)
theorem dX0_dead_27 : decode cX0_dead 27 = .ok (.ior, 1) := dk_128 (dk_at dksX0_dead_1 4 rfl rfl)
theorem dX0_dead_28 : decode cX0_dead 28 = .ok (.istore_n 1, 1) := dk_60 (dk_at dksX0_dead_1 5 rfl rfl)
theorem dX0_dead_29 : decode cX0_dead 29 = .ok (.iinc 2 1, 3) := dk_132 2 1 (dk_at dksX0_dead_1 6 rfl rfl)
theorem dX0_dead_32 : decode cX0_dead 32 = .ok (.goto (-28), 3) := dk_167 255 228 (dk_at dksX0_dead_1 9 rfl rfl)
theorem dX0_dead_35 : decode cX0_dead 35 = .ok (.iload_n 1, 1) := dk_27 (dk_at dksX0_dead_1 12 rfl rfl)
theorem dX0_dead_36 : decode cX0_dead 36 = .ok (.ireturn, 1) := dk_172 (dk_at dksX0_dead_1 13 rfl rfl)
abbrev cX0_few : ByteArray := prog_1_method_82_code
def yX0_few : MethodName := ⟨RX0, "few", "(II)J"⟩
def dkwX0_few_7 : List UInt8 := [132, 5, 1, 167, 255, 237, 33, 173]
abbrev dktX0_few_7 : List UInt8 := dkwX0_few_7 ++ []
def dkwX0_few_6 : List UInt8 := [167, 255, 170, 9, 66, 3, 54, 5, 21, 5, 27, 162, 0, 19, 33, 42, 180, 0, 105, 21, 5, 47, 97, 66]
abbrev dktX0_few_6 : List UInt8 := dkwX0_few_6 ++ dktX0_few_7
def dkwX0_few_5 : List UInt8 := [180, 0, 39, 180, 0, 203, 100, 133, 105, 20, 1, 144, 109, 80, 132, 4, 255, 167, 255, 186, 132, 3, 1]
abbrev dktX0_few_5 : List UInt8 := dkwX0_few_5 ++ dktX0_few_6
def dkwX0_few_4 : List UInt8 := [133, 105, 20, 1, 144, 109, 97, 80, 42, 180, 0, 105, 21, 4, 42, 180, 0, 105, 21, 4, 47, 16, 10, 42]
abbrev dktX0_few_4 : List UInt8 := dkwX0_few_4 ++ dktX0_few_5
def dkwX0_few_3 : List UInt8 := [42, 180, 0, 105, 21, 4, 4, 96, 92, 47, 42, 180, 0, 105, 21, 4, 47, 42, 180, 0, 39, 180, 0, 203]
abbrev dktX0_few_3 : List UInt8 := dkwX0_few_3 ++ dktX0_few_4
def dkwX0_few_2 : List UInt8 := [80, 132, 3, 1, 167, 255, 230, 3, 62, 29, 28, 162, 0, 87, 27, 4, 100, 54, 4, 21, 4, 155, 0, 71]
abbrev dktX0_few_2 : List UInt8 := dkwX0_few_2 ++ dktX0_few_3
def dkwX0_few_1 : List UInt8 := [3, 62, 29, 16, 20, 163, 0, 26, 42, 180, 0, 105, 29, 29, 154, 0, 9, 20, 1, 142, 167, 0, 4, 9]
abbrev dktX0_few_1 : List UInt8 := dkwX0_few_1 ++ dktX0_few_2
def dkwX0_few_0 : List UInt8 := [27, 4, 16, 20, 184, 0, 26, 153, 0, 13, 28, 3, 16, 99, 184, 0, 26, 154, 0, 7, 20, 1, 15, 173]
abbrev dktX0_few_0 : List UInt8 := dkwX0_few_0 ++ dktX0_few_1
theorem dksX0_few_0 : cX0_few.data.toList.drop 0 = dktX0_few_0 := by decide +kernel
theorem dksX0_few_1 : cX0_few.data.toList.drop 24 = dktX0_few_1 := dk_seg dksX0_few_0 24 rfl rfl
theorem dksX0_few_2 : cX0_few.data.toList.drop 48 = dktX0_few_2 := dk_seg dksX0_few_1 24 rfl rfl
theorem dksX0_few_3 : cX0_few.data.toList.drop 72 = dktX0_few_3 := dk_seg dksX0_few_2 24 rfl rfl
theorem dksX0_few_4 : cX0_few.data.toList.drop 96 = dktX0_few_4 := dk_seg dksX0_few_3 24 rfl rfl
theorem dksX0_few_5 : cX0_few.data.toList.drop 120 = dktX0_few_5 := dk_seg dksX0_few_4 24 rfl rfl
theorem dksX0_few_6 : cX0_few.data.toList.drop 143 = dktX0_few_6 := dk_seg dksX0_few_5 23 rfl rfl
theorem dksX0_few_7 : cX0_few.data.toList.drop 167 = dktX0_few_7 := dk_seg dksX0_few_6 24 rfl rfl
theorem dX0_few_0 : decode cX0_few 0 = .ok (.iload_n 1, 1) := dk_27 (dk_at dksX0_few_0 0 rfl rfl)
theorem dX0_few_1 : decode cX0_few 1 = .ok (.iconst 1, 1) := dk_4 (dk_at dksX0_few_0 1 rfl rfl)
theorem dX0_few_2 : decode cX0_few 2 = .ok (.bipush 20, 2) := dk_16 20 (dk_at dksX0_few_0 2 rfl rfl)
theorem dX0_few_4 : decode cX0_few 4 = .ok (.invokestatic 26, 3) := dk_184 0 26 (dk_at dksX0_few_0 4 rfl rfl)
theorem dX0_few_7 : decode cX0_few 7 = .ok (.ifCond .eq 13, 3) := dk_153 0 13 (dk_at dksX0_few_0 7 rfl rfl)
theorem dX0_few_10 : decode cX0_few 10 = .ok (.iload_n 2, 1) := dk_28 (dk_at dksX0_few_0 10 rfl rfl)
theorem dX0_few_11 : decode cX0_few 11 = .ok (.iconst 0, 1) := dk_3 (dk_at dksX0_few_0 11 rfl rfl)
theorem dX0_few_12 : decode cX0_few 12 = .ok (.bipush 99, 2) := dk_16 99 (dk_at dksX0_few_0 12 rfl rfl)
theorem dX0_few_14 : decode cX0_few 14 = .ok (.invokestatic 26, 3) := dk_184 0 26 (dk_at dksX0_few_0 14 rfl rfl)
theorem dX0_few_17 : decode cX0_few 17 = .ok (.ifCond .ne 7, 3) := dk_154 0 7 (dk_at dksX0_few_0 17 rfl rfl)
theorem dX0_few_20 : decode cX0_few 20 = .ok (.ldc2_w 271, 3) := dk_20 1 15 (dk_at dksX0_few_0 20 rfl rfl)
theorem dX0_few_23 : decode cX0_few 23 = .ok (.lreturn, 1) := dk_173 (dk_at dksX0_few_0 23 rfl rfl)
theorem dX0_few_24 : decode cX0_few 24 = .ok (.iconst 0, 1) := dk_3 (dk_at dksX0_few_1 0 rfl rfl)
theorem dX0_few_25 : decode cX0_few 25 = .ok (.istore_n 3, 1) := dk_62 (dk_at dksX0_few_1 1 rfl rfl)
theorem dX0_few_26 : decode cX0_few 26 = .ok (.iload_n 3, 1) := dk_29 (dk_at dksX0_few_1 2 rfl rfl)
theorem dX0_few_27 : decode cX0_few 27 = .ok (.bipush 20, 2) := dk_16 20 (dk_at dksX0_few_1 3 rfl rfl)
theorem dX0_few_29 : decode cX0_few 29 = .ok (.if_icmp .gt 26, 3) := dk_163 0 26 (dk_at dksX0_few_1 5 rfl rfl)
theorem dX0_few_32 : decode cX0_few 32 = .ok (.aload_n 0, 1) := dk_42 (dk_at dksX0_few_1 8 rfl rfl)
theorem dX0_few_33 : decode cX0_few 33 = .ok (.getfield 105, 3) := dk_180 0 105 (dk_at dksX0_few_1 9 rfl rfl)
theorem dX0_few_36 : decode cX0_few 36 = .ok (.iload_n 3, 1) := dk_29 (dk_at dksX0_few_1 12 rfl rfl)
theorem dX0_few_37 : decode cX0_few 37 = .ok (.iload_n 3, 1) := dk_29 (dk_at dksX0_few_1 13 rfl rfl)
theorem dX0_few_38 : decode cX0_few 38 = .ok (.ifCond .ne 9, 3) := dk_154 0 9 (dk_at dksX0_few_1 14 rfl rfl)
theorem dX0_few_41 : decode cX0_few 41 = .ok (.ldc2_w 398, 3) := dk_20 1 142 (dk_at dksX0_few_1 17 rfl rfl)
theorem dX0_few_44 : decode cX0_few 44 = .ok (.goto 4, 3) := dk_167 0 4 (dk_at dksX0_few_1 20 rfl rfl)
theorem dX0_few_47 : decode cX0_few 47 = .ok (.lconst 0, 1) := dk_9 (dk_at dksX0_few_1 23 rfl rfl)
theorem dX0_few_48 : decode cX0_few 48 = .ok (.lastore, 1) := dk_80 (dk_at dksX0_few_2 0 rfl rfl)
theorem dX0_few_49 : decode cX0_few 49 = .ok (.iinc 3 1, 3) := dk_132 3 1 (dk_at dksX0_few_2 1 rfl rfl)
theorem dX0_few_52 : decode cX0_few 52 = .ok (.goto (-26), 3) := dk_167 255 230 (dk_at dksX0_few_2 4 rfl rfl)
theorem dX0_few_55 : decode cX0_few 55 = .ok (.iconst 0, 1) := dk_3 (dk_at dksX0_few_2 7 rfl rfl)
theorem dX0_few_56 : decode cX0_few 56 = .ok (.istore_n 3, 1) := dk_62 (dk_at dksX0_few_2 8 rfl rfl)
theorem dX0_few_57 : decode cX0_few 57 = .ok (.iload_n 3, 1) := dk_29 (dk_at dksX0_few_2 9 rfl rfl)
theorem dX0_few_58 : decode cX0_few 58 = .ok (.iload_n 2, 1) := dk_28 (dk_at dksX0_few_2 10 rfl rfl)
theorem dX0_few_59 : decode cX0_few 59 = .ok (.if_icmp .ge 87, 3) := dk_162 0 87 (dk_at dksX0_few_2 11 rfl rfl)
theorem dX0_few_62 : decode cX0_few 62 = .ok (.iload_n 1, 1) := dk_27 (dk_at dksX0_few_2 14 rfl rfl)
theorem dX0_few_63 : decode cX0_few 63 = .ok (.iconst 1, 1) := dk_4 (dk_at dksX0_few_2 15 rfl rfl)
theorem dX0_few_64 : decode cX0_few 64 = .ok (.isub, 1) := dk_100 (dk_at dksX0_few_2 16 rfl rfl)
theorem dX0_few_65 : decode cX0_few 65 = .ok (.istore 4, 2) := dk_54 4 (dk_at dksX0_few_2 17 rfl rfl)
theorem dX0_few_67 : decode cX0_few 67 = .ok (.iload 4, 2) := dk_21 4 (dk_at dksX0_few_2 19 rfl rfl)
theorem dX0_few_69 : decode cX0_few 69 = .ok (.ifCond .lt 71, 3) := dk_155 0 71 (dk_at dksX0_few_2 21 rfl rfl)
theorem dX0_few_72 : decode cX0_few 72 = .ok (.aload_n 0, 1) := dk_42 (dk_at dksX0_few_3 0 rfl rfl)
theorem dX0_few_73 : decode cX0_few 73 = .ok (.getfield 105, 3) := dk_180 0 105 (dk_at dksX0_few_3 1 rfl rfl)
theorem dX0_few_76 : decode cX0_few 76 = .ok (.iload 4, 2) := dk_21 4 (dk_at dksX0_few_3 4 rfl rfl)
theorem dX0_few_78 : decode cX0_few 78 = .ok (.iconst 1, 1) := dk_4 (dk_at dksX0_few_3 6 rfl rfl)
theorem dX0_few_79 : decode cX0_few 79 = .ok (.iadd, 1) := dk_96 (dk_at dksX0_few_3 7 rfl rfl)
theorem dX0_few_80 : decode cX0_few 80 = .ok (.dup2, 1) := dk_92 (dk_at dksX0_few_3 8 rfl rfl)
theorem dX0_few_81 : decode cX0_few 81 = .ok (.laload, 1) := dk_47 (dk_at dksX0_few_3 9 rfl rfl)
theorem dX0_few_82 : decode cX0_few 82 = .ok (.aload_n 0, 1) := dk_42 (dk_at dksX0_few_3 10 rfl rfl)
theorem dX0_few_83 : decode cX0_few 83 = .ok (.getfield 105, 3) := dk_180 0 105 (dk_at dksX0_few_3 11 rfl rfl)
theorem dX0_few_86 : decode cX0_few 86 = .ok (.iload 4, 2) := dk_21 4 (dk_at dksX0_few_3 14 rfl rfl)
theorem dX0_few_88 : decode cX0_few 88 = .ok (.laload, 1) := dk_47 (dk_at dksX0_few_3 16 rfl rfl)
theorem dX0_few_89 : decode cX0_few 89 = .ok (.aload_n 0, 1) := dk_42 (dk_at dksX0_few_3 17 rfl rfl)
theorem dX0_few_90 : decode cX0_few 90 = .ok (.getfield 39, 3) := dk_180 0 39 (dk_at dksX0_few_3 18 rfl rfl)
theorem dX0_few_93 : decode cX0_few 93 = .ok (.getfield 203, 3) := dk_180 0 203 (dk_at dksX0_few_3 21 rfl rfl)
theorem dX0_few_96 : decode cX0_few 96 = .ok (.i2l, 1) := dk_133 (dk_at dksX0_few_4 0 rfl rfl)
theorem dX0_few_97 : decode cX0_few 97 = .ok (.lmul, 1) := dk_105 (dk_at dksX0_few_4 1 rfl rfl)
theorem dX0_few_98 : decode cX0_few 98 = .ok (.ldc2_w 400, 3) := dk_20 1 144 (dk_at dksX0_few_4 2 rfl rfl)
theorem dX0_few_101 : decode cX0_few 101 = .ok (.ldiv, 1) := dk_109 (dk_at dksX0_few_4 5 rfl rfl)
theorem dX0_few_102 : decode cX0_few 102 = .ok (.ladd, 1) := dk_97 (dk_at dksX0_few_4 6 rfl rfl)
theorem dX0_few_103 : decode cX0_few 103 = .ok (.lastore, 1) := dk_80 (dk_at dksX0_few_4 7 rfl rfl)
theorem dX0_few_104 : decode cX0_few 104 = .ok (.aload_n 0, 1) := dk_42 (dk_at dksX0_few_4 8 rfl rfl)
theorem dX0_few_105 : decode cX0_few 105 = .ok (.getfield 105, 3) := dk_180 0 105 (dk_at dksX0_few_4 9 rfl rfl)
theorem dX0_few_108 : decode cX0_few 108 = .ok (.iload 4, 2) := dk_21 4 (dk_at dksX0_few_4 12 rfl rfl)
theorem dX0_few_110 : decode cX0_few 110 = .ok (.aload_n 0, 1) := dk_42 (dk_at dksX0_few_4 14 rfl rfl)
theorem dX0_few_111 : decode cX0_few 111 = .ok (.getfield 105, 3) := dk_180 0 105 (dk_at dksX0_few_4 15 rfl rfl)
theorem dX0_few_114 : decode cX0_few 114 = .ok (.iload 4, 2) := dk_21 4 (dk_at dksX0_few_4 18 rfl rfl)
theorem dX0_few_116 : decode cX0_few 116 = .ok (.laload, 1) := dk_47 (dk_at dksX0_few_4 20 rfl rfl)
theorem dX0_few_117 : decode cX0_few 117 = .ok (.bipush 10, 2) := dk_16 10 (dk_at dksX0_few_4 21 rfl rfl)
theorem dX0_few_119 : decode cX0_few 119 = .ok (.aload_n 0, 1) := dk_42 (dk_at dksX0_few_4 23 rfl rfl)
theorem dX0_few_120 : decode cX0_few 120 = .ok (.getfield 39, 3) := dk_180 0 39 (dk_at dksX0_few_5 0 rfl rfl)
theorem dX0_few_123 : decode cX0_few 123 = .ok (.getfield 203, 3) := dk_180 0 203 (dk_at dksX0_few_5 3 rfl rfl)
theorem dX0_few_126 : decode cX0_few 126 = .ok (.isub, 1) := dk_100 (dk_at dksX0_few_5 6 rfl rfl)
theorem dX0_few_127 : decode cX0_few 127 = .ok (.i2l, 1) := dk_133 (dk_at dksX0_few_5 7 rfl rfl)
theorem dX0_few_128 : decode cX0_few 128 = .ok (.lmul, 1) := dk_105 (dk_at dksX0_few_5 8 rfl rfl)
theorem dX0_few_129 : decode cX0_few 129 = .ok (.ldc2_w 400, 3) := dk_20 1 144 (dk_at dksX0_few_5 9 rfl rfl)
theorem dX0_few_132 : decode cX0_few 132 = .ok (.ldiv, 1) := dk_109 (dk_at dksX0_few_5 12 rfl rfl)
theorem dX0_few_133 : decode cX0_few 133 = .ok (.lastore, 1) := dk_80 (dk_at dksX0_few_5 13 rfl rfl)
theorem dX0_few_134 : decode cX0_few 134 = .ok (.iinc 4 (-1), 3) := dk_132 4 255 (dk_at dksX0_few_5 14 rfl rfl)
theorem dX0_few_137 : decode cX0_few 137 = .ok (.goto (-70), 3) := dk_167 255 186 (dk_at dksX0_few_5 17 rfl rfl)
theorem dX0_few_140 : decode cX0_few 140 = .ok (.iinc 3 1, 3) := dk_132 3 1 (dk_at dksX0_few_5 20 rfl rfl)
theorem dX0_few_143 : decode cX0_few 143 = .ok (.goto (-86), 3) := dk_167 255 170 (dk_at dksX0_few_6 0 rfl rfl)
theorem dX0_few_146 : decode cX0_few 146 = .ok (.lconst 0, 1) := dk_9 (dk_at dksX0_few_6 3 rfl rfl)
theorem dX0_few_147 : decode cX0_few 147 = .ok (.lstore_n 3, 1) := dk_66 (dk_at dksX0_few_6 4 rfl rfl)
theorem dX0_few_148 : decode cX0_few 148 = .ok (.iconst 0, 1) := dk_3 (dk_at dksX0_few_6 5 rfl rfl)
theorem dX0_few_149 : decode cX0_few 149 = .ok (.istore 5, 2) := dk_54 5 (dk_at dksX0_few_6 6 rfl rfl)
theorem dX0_few_151 : decode cX0_few 151 = .ok (.iload 5, 2) := dk_21 5 (dk_at dksX0_few_6 8 rfl rfl)
theorem dX0_few_153 : decode cX0_few 153 = .ok (.iload_n 1, 1) := dk_27 (dk_at dksX0_few_6 10 rfl rfl)
theorem dX0_few_154 : decode cX0_few 154 = .ok (.if_icmp .ge 19, 3) := dk_162 0 19 (dk_at dksX0_few_6 11 rfl rfl)
theorem dX0_few_157 : decode cX0_few 157 = .ok (.lload_n 3, 1) := dk_33 (dk_at dksX0_few_6 14 rfl rfl)
theorem dX0_few_158 : decode cX0_few 158 = .ok (.aload_n 0, 1) := dk_42 (dk_at dksX0_few_6 15 rfl rfl)
theorem dX0_few_159 : decode cX0_few 159 = .ok (.getfield 105, 3) := dk_180 0 105 (dk_at dksX0_few_6 16 rfl rfl)
theorem dX0_few_162 : decode cX0_few 162 = .ok (.iload 5, 2) := dk_21 5 (dk_at dksX0_few_6 19 rfl rfl)
theorem dX0_few_164 : decode cX0_few 164 = .ok (.laload, 1) := dk_47 (dk_at dksX0_few_6 21 rfl rfl)
theorem dX0_few_165 : decode cX0_few 165 = .ok (.ladd, 1) := dk_97 (dk_at dksX0_few_6 22 rfl rfl)
theorem dX0_few_166 : decode cX0_few 166 = .ok (.lstore_n 3, 1) := dk_66 (dk_at dksX0_few_6 23 rfl rfl)
theorem dX0_few_167 : decode cX0_few 167 = .ok (.iinc 5 1, 3) := dk_132 5 1 (dk_at dksX0_few_7 0 rfl rfl)
theorem dX0_few_170 : decode cX0_few 170 = .ok (.goto (-19), 3) := dk_167 255 237 (dk_at dksX0_few_7 3 rfl rfl)
theorem dX0_few_173 : decode cX0_few 173 = .ok (.lload_n 3, 1) := dk_33 (dk_at dksX0_few_7 6 rfl rfl)
theorem dX0_few_174 : decode cX0_few 174 = .ok (.lreturn, 1) := dk_173 (dk_at dksX0_few_7 7 rfl rfl)
abbrev cX0_compare : ByteArray := prog_1_method_83_code
def yX0_compare : MethodName := ⟨RX0, "compare", "(II)I"⟩
def dkwX0_compare_3 : List UInt8 := [167, 0, 21, 42, 180, 0, 39, 21, 4, 42, 182, 0, 156, 180, 0, 176, 28, 46, 182, 1, 39, 172]
abbrev dktX0_compare_3 : List UInt8 := dkwX0_compare_3 ++ []
def dkwX0_compare_2 : List UInt8 := [180, 0, 39, 29, 181, 1, 7, 21, 4, 2, 160, 0, 15, 42, 182, 0, 156, 180, 0, 176, 28, 46]
abbrev dktX0_compare_2 : List UInt8 := dkwX0_compare_2 ++ dktX0_compare_3
def dkwX0_compare_1 : List UInt8 := [180, 1, 7, 62, 42, 180, 0, 39, 27, 181, 1, 7, 42, 42, 182, 0, 156, 28, 182, 0, 189, 54, 4, 42]
abbrev dktX0_compare_1 : List UInt8 := dkwX0_compare_1 ++ dktX0_compare_2
def dkwX0_compare_0 : List UInt8 := [42, 27, 182, 1, 4, 153, 0, 11, 42, 28, 182, 0, 182, 154, 0, 5, 2, 172, 42, 180, 0, 39]
abbrev dktX0_compare_0 : List UInt8 := dkwX0_compare_0 ++ dktX0_compare_1
theorem dksX0_compare_0 : cX0_compare.data.toList.drop 0 = dktX0_compare_0 := by decide +kernel
theorem dksX0_compare_1 : cX0_compare.data.toList.drop 22 = dktX0_compare_1 := dk_seg dksX0_compare_0 22 rfl rfl
theorem dksX0_compare_2 : cX0_compare.data.toList.drop 46 = dktX0_compare_2 := dk_seg dksX0_compare_1 24 rfl rfl
theorem dksX0_compare_3 : cX0_compare.data.toList.drop 68 = dktX0_compare_3 := dk_seg dksX0_compare_2 22 rfl rfl
theorem dX0_compare_0 : decode cX0_compare 0 = .ok (.aload_n 0, 1) := dk_42 (dk_at dksX0_compare_0 0 rfl rfl)
theorem dX0_compare_1 : decode cX0_compare 1 = .ok (.iload_n 1, 1) := dk_27 (dk_at dksX0_compare_0 1 rfl rfl)
theorem dX0_compare_2 : decode cX0_compare 2 = .ok (.invokevirtual 260, 3) := dk_182 1 4 (dk_at dksX0_compare_0 2 rfl rfl)
theorem dX0_compare_5 : decode cX0_compare 5 = .ok (.ifCond .eq 11, 3) := dk_153 0 11 (dk_at dksX0_compare_0 5 rfl rfl)
theorem dX0_compare_8 : decode cX0_compare 8 = .ok (.aload_n 0, 1) := dk_42 (dk_at dksX0_compare_0 8 rfl rfl)
theorem dX0_compare_9 : decode cX0_compare 9 = .ok (.iload_n 2, 1) := dk_28 (dk_at dksX0_compare_0 9 rfl rfl)
theorem dX0_compare_10 : decode cX0_compare 10 = .ok (.invokevirtual 182, 3) := dk_182 0 182 (dk_at dksX0_compare_0 10 rfl rfl)
theorem dX0_compare_13 : decode cX0_compare 13 = .ok (.ifCond .ne 5, 3) := dk_154 0 5 (dk_at dksX0_compare_0 13 rfl rfl)
theorem dX0_compare_16 : decode cX0_compare 16 = .ok (.iconst (-1), 1) := dk_2 (dk_at dksX0_compare_0 16 rfl rfl)
theorem dX0_compare_17 : decode cX0_compare 17 = .ok (.ireturn, 1) := dk_172 (dk_at dksX0_compare_0 17 rfl rfl)
theorem dX0_compare_18 : decode cX0_compare 18 = .ok (.aload_n 0, 1) := dk_42 (dk_at dksX0_compare_0 18 rfl rfl)
theorem dX0_compare_19 : decode cX0_compare 19 = .ok (.getfield 39, 3) := dk_180 0 39 (dk_at dksX0_compare_0 19 rfl rfl)
theorem dX0_compare_22 : decode cX0_compare 22 = .ok (.getfield 263, 3) := dk_180 1 7 (dk_at dksX0_compare_1 0 rfl rfl)
theorem dX0_compare_25 : decode cX0_compare 25 = .ok (.istore_n 3, 1) := dk_62 (dk_at dksX0_compare_1 3 rfl rfl)
theorem dX0_compare_26 : decode cX0_compare 26 = .ok (.aload_n 0, 1) := dk_42 (dk_at dksX0_compare_1 4 rfl rfl)
theorem dX0_compare_27 : decode cX0_compare 27 = .ok (.getfield 39, 3) := dk_180 0 39 (dk_at dksX0_compare_1 5 rfl rfl)
theorem dX0_compare_30 : decode cX0_compare 30 = .ok (.iload_n 1, 1) := dk_27 (dk_at dksX0_compare_1 8 rfl rfl)
theorem dX0_compare_31 : decode cX0_compare 31 = .ok (.putfield 263, 3) := dk_181 1 7 (dk_at dksX0_compare_1 9 rfl rfl)
theorem dX0_compare_34 : decode cX0_compare 34 = .ok (.aload_n 0, 1) := dk_42 (dk_at dksX0_compare_1 12 rfl rfl)
theorem dX0_compare_35 : decode cX0_compare 35 = .ok (.aload_n 0, 1) := dk_42 (dk_at dksX0_compare_1 13 rfl rfl)
theorem dX0_compare_36 : decode cX0_compare 36 = .ok (.invokevirtual 156, 3) := dk_182 0 156 (dk_at dksX0_compare_1 14 rfl rfl)
theorem dX0_compare_39 : decode cX0_compare 39 = .ok (.iload_n 2, 1) := dk_28 (dk_at dksX0_compare_1 17 rfl rfl)
theorem dX0_compare_40 : decode cX0_compare 40 = .ok (.invokevirtual 189, 3) := dk_182 0 189 (dk_at dksX0_compare_1 18 rfl rfl)
theorem dX0_compare_43 : decode cX0_compare 43 = .ok (.istore 4, 2) := dk_54 4 (dk_at dksX0_compare_1 21 rfl rfl)
theorem dX0_compare_45 : decode cX0_compare 45 = .ok (.aload_n 0, 1) := dk_42 (dk_at dksX0_compare_1 23 rfl rfl)
theorem dX0_compare_46 : decode cX0_compare 46 = .ok (.getfield 39, 3) := dk_180 0 39 (dk_at dksX0_compare_2 0 rfl rfl)
theorem dX0_compare_49 : decode cX0_compare 49 = .ok (.iload_n 3, 1) := dk_29 (dk_at dksX0_compare_2 3 rfl rfl)
theorem dX0_compare_50 : decode cX0_compare 50 = .ok (.putfield 263, 3) := dk_181 1 7 (dk_at dksX0_compare_2 4 rfl rfl)
theorem dX0_compare_53 : decode cX0_compare 53 = .ok (.iload 4, 2) := dk_21 4 (dk_at dksX0_compare_2 7 rfl rfl)
theorem dX0_compare_55 : decode cX0_compare 55 = .ok (.iconst (-1), 1) := dk_2 (dk_at dksX0_compare_2 9 rfl rfl)
theorem dX0_compare_56 : decode cX0_compare 56 = .ok (.if_icmp .ne 15, 3) := dk_160 0 15 (dk_at dksX0_compare_2 10 rfl rfl)
theorem dX0_compare_59 : decode cX0_compare 59 = .ok (.aload_n 0, 1) := dk_42 (dk_at dksX0_compare_2 13 rfl rfl)
theorem dX0_compare_60 : decode cX0_compare 60 = .ok (.invokevirtual 156, 3) := dk_182 0 156 (dk_at dksX0_compare_2 14 rfl rfl)
theorem dX0_compare_63 : decode cX0_compare 63 = .ok (.getfield 176, 3) := dk_180 0 176 (dk_at dksX0_compare_2 17 rfl rfl)
theorem dX0_compare_66 : decode cX0_compare 66 = .ok (.iload_n 2, 1) := dk_28 (dk_at dksX0_compare_2 20 rfl rfl)
theorem dX0_compare_67 : decode cX0_compare 67 = .ok (.iaload, 1) := dk_46 (dk_at dksX0_compare_2 21 rfl rfl)
theorem dX0_compare_68 : decode cX0_compare 68 = .ok (.goto 21, 3) := dk_167 0 21 (dk_at dksX0_compare_3 0 rfl rfl)
theorem dX0_compare_71 : decode cX0_compare 71 = .ok (.aload_n 0, 1) := dk_42 (dk_at dksX0_compare_3 3 rfl rfl)
theorem dX0_compare_72 : decode cX0_compare 72 = .ok (.getfield 39, 3) := dk_180 0 39 (dk_at dksX0_compare_3 4 rfl rfl)
theorem dX0_compare_75 : decode cX0_compare 75 = .ok (.iload 4, 2) := dk_21 4 (dk_at dksX0_compare_3 7 rfl rfl)
theorem dX0_compare_77 : decode cX0_compare 77 = .ok (.aload_n 0, 1) := dk_42 (dk_at dksX0_compare_3 9 rfl rfl)
theorem dX0_compare_78 : decode cX0_compare 78 = .ok (.invokevirtual 156, 3) := dk_182 0 156 (dk_at dksX0_compare_3 10 rfl rfl)
theorem dX0_compare_81 : decode cX0_compare 81 = .ok (.getfield 176, 3) := dk_180 0 176 (dk_at dksX0_compare_3 13 rfl rfl)
theorem dX0_compare_84 : decode cX0_compare 84 = .ok (.iload_n 2, 1) := dk_28 (dk_at dksX0_compare_3 16 rfl rfl)
theorem dX0_compare_85 : decode cX0_compare 85 = .ok (.iaload, 1) := dk_46 (dk_at dksX0_compare_3 17 rfl rfl)
theorem dX0_compare_86 : decode cX0_compare 86 = .ok (.invokevirtual 295, 3) := dk_182 1 39 (dk_at dksX0_compare_3 18 rfl rfl)
theorem dX0_compare_89 : decode cX0_compare 89 = .ok (.ireturn, 1) := dk_172 (dk_at dksX0_compare_3 21 rfl rfl)
abbrev cX0_orders : ByteArray := prog_1_method_84_code
def yX0_orders : MethodName := ⟨RX0, "orders", "()I"⟩
def dkwX0_orders_10 : List UInt8 := [167, 255, 168, 132, 6, 1, 167, 255, 133, 42, 21, 4, 182, 0, 121, 172]
abbrev dktX0_orders_10 : List UInt8 := dkwX0_orders_10 ++ []
def dkwX0_orders_9 : List UInt8 := [180, 1, 172, 4, 160, 0, 8, 21, 9, 167, 0, 5, 21, 5, 54, 5, 132, 4, 1, 132, 8, 1]
abbrev dktX0_orders_9 : List UInt8 := dkwX0_orders_9 ++ dktX0_orders_10
def dkwX0_orders_8 : List UInt8 := [156, 0, 21, 42, 29, 182, 1, 169, 42, 21, 6, 181, 0, 77, 42, 16, 253, 182, 0, 130, 172, 25, 7]
abbrev dktX0_orders_8 : List UInt8 := dkwX0_orders_8 ++ dktX0_orders_9
def dkwX0_orders_7 : List UInt8 := [180, 0, 83, 182, 1, 161, 154, 0, 6, 167, 0, 55, 42, 25, 7, 182, 1, 165, 54, 9, 21, 9]
abbrev dktX0_orders_7 : List UInt8 := dkwX0_orders_7 ++ dktX0_orders_8
def dkwX0_orders_6 : List UInt8 := [54, 8, 21, 8, 25, 7, 180, 1, 154, 162, 0, 84, 42, 21, 4, 21, 5, 182, 1, 157, 25, 7, 42]
abbrev dktX0_orders_6 : List UInt8 := dkwX0_orders_6 ++ dktX0_orders_7
def dkwX0_orders_5 : List UInt8 := [180, 1, 149, 182, 0, 233, 162, 0, 117, 44, 180, 1, 149, 21, 6, 182, 1, 17, 192, 1, 152, 58, 7, 3]
abbrev dktX0_orders_5 : List UInt8 := dkwX0_orders_5 ++ dktX0_orders_6
def dkwX0_orders_4 : List UInt8 := [16, 16, 184, 1, 108, 42, 180, 0, 118, 62, 3, 54, 4, 2, 54, 5, 3, 54, 6, 21, 6, 44]
abbrev dktX0_orders_4 : List UInt8 := dkwX0_orders_4 ++ dktX0_orders_5
def dkwX0_orders_3 : List UInt8 := [180, 0, 49, 29, 50, 182, 1, 47, 132, 3, 1, 167, 255, 230, 42, 180, 0, 56, 3, 42, 180, 0, 59, 3]
abbrev dktX0_orders_3 : List UInt8 := dkwX0_orders_3 ++ dktX0_orders_4
def dkwX0_orders_2 : List UInt8 := [182, 0, 156, 182, 1, 47, 3, 62, 29, 42, 180, 0, 118, 162, 0, 24, 42, 180, 0, 53, 29, 50, 42]
abbrev dktX0_orders_2 : List UInt8 := dkwX0_orders_2 ++ dktX0_orders_3
def dkwX0_orders_1 : List UInt8 := [183, 1, 148, 77, 42, 44, 182, 0, 244, 154, 0, 10, 42, 16, 250, 182, 0, 130, 172, 42, 180, 0, 63, 42]
abbrev dktX0_orders_1 : List UInt8 := dkwX0_orders_1 ++ dktX0_orders_2
def dkwX0_orders_0 : List UInt8 := [42, 180, 0, 209, 60, 42, 3, 181, 0, 209, 42, 2, 181, 0, 77, 187, 1, 146, 89, 42, 180, 0, 70, 27]
abbrev dktX0_orders_0 : List UInt8 := dkwX0_orders_0 ++ dktX0_orders_1
theorem dksX0_orders_0 : cX0_orders.data.toList.drop 0 = dktX0_orders_0 := by decide +kernel
theorem dksX0_orders_1 : cX0_orders.data.toList.drop 24 = dktX0_orders_1 := dk_seg dksX0_orders_0 24 rfl rfl
theorem dksX0_orders_2 : cX0_orders.data.toList.drop 48 = dktX0_orders_2 := dk_seg dksX0_orders_1 24 rfl rfl
theorem dksX0_orders_3 : cX0_orders.data.toList.drop 71 = dktX0_orders_3 := dk_seg dksX0_orders_2 23 rfl rfl
theorem dksX0_orders_4 : cX0_orders.data.toList.drop 95 = dktX0_orders_4 := dk_seg dksX0_orders_3 24 rfl rfl
theorem dksX0_orders_5 : cX0_orders.data.toList.drop 117 = dktX0_orders_5 := dk_seg dksX0_orders_4 22 rfl rfl
theorem dksX0_orders_6 : cX0_orders.data.toList.drop 141 = dktX0_orders_6 := dk_seg dksX0_orders_5 24 rfl rfl
theorem dksX0_orders_7 : cX0_orders.data.toList.drop 164 = dktX0_orders_7 := dk_seg dksX0_orders_6 23 rfl rfl
theorem dksX0_orders_8 : cX0_orders.data.toList.drop 186 = dktX0_orders_8 := dk_seg dksX0_orders_7 22 rfl rfl
theorem dksX0_orders_9 : cX0_orders.data.toList.drop 209 = dktX0_orders_9 := dk_seg dksX0_orders_8 23 rfl rfl
theorem dksX0_orders_10 : cX0_orders.data.toList.drop 231 = dktX0_orders_10 := dk_seg dksX0_orders_9 22 rfl rfl
theorem dX0_orders_0 : decode cX0_orders 0 = .ok (.aload_n 0, 1) := dk_42 (dk_at dksX0_orders_0 0 rfl rfl)
theorem dX0_orders_1 : decode cX0_orders 1 = .ok (.getfield 209, 3) := dk_180 0 209 (dk_at dksX0_orders_0 1 rfl rfl)
theorem dX0_orders_4 : decode cX0_orders 4 = .ok (.istore_n 1, 1) := dk_60 (dk_at dksX0_orders_0 4 rfl rfl)
theorem dX0_orders_5 : decode cX0_orders 5 = .ok (.aload_n 0, 1) := dk_42 (dk_at dksX0_orders_0 5 rfl rfl)
theorem dX0_orders_6 : decode cX0_orders 6 = .ok (.iconst 0, 1) := dk_3 (dk_at dksX0_orders_0 6 rfl rfl)
theorem dX0_orders_7 : decode cX0_orders 7 = .ok (.putfield 209, 3) := dk_181 0 209 (dk_at dksX0_orders_0 7 rfl rfl)
theorem dX0_orders_10 : decode cX0_orders 10 = .ok (.aload_n 0, 1) := dk_42 (dk_at dksX0_orders_0 10 rfl rfl)
theorem dX0_orders_11 : decode cX0_orders 11 = .ok (.iconst (-1), 1) := dk_2 (dk_at dksX0_orders_0 11 rfl rfl)
theorem dX0_orders_12 : decode cX0_orders 12 = .ok (.putfield 77, 3) := dk_181 0 77 (dk_at dksX0_orders_0 12 rfl rfl)
theorem dX0_orders_15 : decode cX0_orders 15 = .ok (.new 402, 3) := dk_187 1 146 (dk_at dksX0_orders_0 15 rfl rfl)
theorem dX0_orders_18 : decode cX0_orders 18 = .ok (.dup, 1) := dk_89 (dk_at dksX0_orders_0 18 rfl rfl)
theorem dX0_orders_19 : decode cX0_orders 19 = .ok (.aload_n 0, 1) := dk_42 (dk_at dksX0_orders_0 19 rfl rfl)
theorem dX0_orders_20 : decode cX0_orders 20 = .ok (.getfield 70, 3) := dk_180 0 70 (dk_at dksX0_orders_0 20 rfl rfl)
theorem dX0_orders_23 : decode cX0_orders 23 = .ok (.iload_n 1, 1) := dk_27 (dk_at dksX0_orders_0 23 rfl rfl)
theorem dX0_orders_24 : decode cX0_orders 24 = .ok (.invokespecial 404, 3) := dk_183 1 148 (dk_at dksX0_orders_1 0 rfl rfl)
theorem dX0_orders_27 : decode cX0_orders 27 = .ok (.astore_n 2, 1) := dk_77 (dk_at dksX0_orders_1 3 rfl rfl)
theorem dX0_orders_28 : decode cX0_orders 28 = .ok (.aload_n 0, 1) := dk_42 (dk_at dksX0_orders_1 4 rfl rfl)
theorem dX0_orders_29 : decode cX0_orders 29 = .ok (.aload_n 2, 1) := dk_44 (dk_at dksX0_orders_1 5 rfl rfl)
theorem dX0_orders_30 : decode cX0_orders 30 = .ok (.invokevirtual 244, 3) := dk_182 0 244 (dk_at dksX0_orders_1 6 rfl rfl)
theorem dX0_orders_33 : decode cX0_orders 33 = .ok (.ifCond .ne 10, 3) := dk_154 0 10 (dk_at dksX0_orders_1 9 rfl rfl)
theorem dX0_orders_36 : decode cX0_orders 36 = .ok (.aload_n 0, 1) := dk_42 (dk_at dksX0_orders_1 12 rfl rfl)
theorem dX0_orders_37 : decode cX0_orders 37 = .ok (.bipush (-6), 2) := dk_16 250 (dk_at dksX0_orders_1 13 rfl rfl)
theorem dX0_orders_39 : decode cX0_orders 39 = .ok (.invokevirtual 130, 3) := dk_182 0 130 (dk_at dksX0_orders_1 15 rfl rfl)
theorem dX0_orders_42 : decode cX0_orders 42 = .ok (.ireturn, 1) := dk_172 (dk_at dksX0_orders_1 18 rfl rfl)
theorem dX0_orders_43 : decode cX0_orders 43 = .ok (.aload_n 0, 1) := dk_42 (dk_at dksX0_orders_1 19 rfl rfl)
theorem dX0_orders_44 : decode cX0_orders 44 = .ok (.getfield 63, 3) := dk_180 0 63 (dk_at dksX0_orders_1 20 rfl rfl)
theorem dX0_orders_47 : decode cX0_orders 47 = .ok (.aload_n 0, 1) := dk_42 (dk_at dksX0_orders_1 23 rfl rfl)
theorem dX0_orders_48 : decode cX0_orders 48 = .ok (.invokevirtual 156, 3) := dk_182 0 156 (dk_at dksX0_orders_2 0 rfl rfl)
theorem dX0_orders_51 : decode cX0_orders 51 = .ok (.invokevirtual 303, 3) := dk_182 1 47 (dk_at dksX0_orders_2 3 rfl rfl)
theorem dX0_orders_54 : decode cX0_orders 54 = .ok (.iconst 0, 1) := dk_3 (dk_at dksX0_orders_2 6 rfl rfl)
theorem dX0_orders_55 : decode cX0_orders 55 = .ok (.istore_n 3, 1) := dk_62 (dk_at dksX0_orders_2 7 rfl rfl)
theorem dX0_orders_56 : decode cX0_orders 56 = .ok (.iload_n 3, 1) := dk_29 (dk_at dksX0_orders_2 8 rfl rfl)
theorem dX0_orders_57 : decode cX0_orders 57 = .ok (.aload_n 0, 1) := dk_42 (dk_at dksX0_orders_2 9 rfl rfl)
theorem dX0_orders_58 : decode cX0_orders 58 = .ok (.getfield 118, 3) := dk_180 0 118 (dk_at dksX0_orders_2 10 rfl rfl)
theorem dX0_orders_61 : decode cX0_orders 61 = .ok (.if_icmp .ge 24, 3) := dk_162 0 24 (dk_at dksX0_orders_2 13 rfl rfl)
theorem dX0_orders_64 : decode cX0_orders 64 = .ok (.aload_n 0, 1) := dk_42 (dk_at dksX0_orders_2 16 rfl rfl)
theorem dX0_orders_65 : decode cX0_orders 65 = .ok (.getfield 53, 3) := dk_180 0 53 (dk_at dksX0_orders_2 17 rfl rfl)
theorem dX0_orders_68 : decode cX0_orders 68 = .ok (.iload_n 3, 1) := dk_29 (dk_at dksX0_orders_2 20 rfl rfl)
theorem dX0_orders_69 : decode cX0_orders 69 = .ok (.aaload, 1) := dk_50 (dk_at dksX0_orders_2 21 rfl rfl)
theorem dX0_orders_70 : decode cX0_orders 70 = .ok (.aload_n 0, 1) := dk_42 (dk_at dksX0_orders_2 22 rfl rfl)
theorem dX0_orders_71 : decode cX0_orders 71 = .ok (.getfield 49, 3) := dk_180 0 49 (dk_at dksX0_orders_3 0 rfl rfl)
theorem dX0_orders_74 : decode cX0_orders 74 = .ok (.iload_n 3, 1) := dk_29 (dk_at dksX0_orders_3 3 rfl rfl)
theorem dX0_orders_75 : decode cX0_orders 75 = .ok (.aaload, 1) := dk_50 (dk_at dksX0_orders_3 4 rfl rfl)
theorem dX0_orders_76 : decode cX0_orders 76 = .ok (.invokevirtual 303, 3) := dk_182 1 47 (dk_at dksX0_orders_3 5 rfl rfl)
theorem dX0_orders_79 : decode cX0_orders 79 = .ok (.iinc 3 1, 3) := dk_132 3 1 (dk_at dksX0_orders_3 8 rfl rfl)
theorem dX0_orders_82 : decode cX0_orders 82 = .ok (.goto (-26), 3) := dk_167 255 230 (dk_at dksX0_orders_3 11 rfl rfl)
theorem dX0_orders_85 : decode cX0_orders 85 = .ok (.aload_n 0, 1) := dk_42 (dk_at dksX0_orders_3 14 rfl rfl)
theorem dX0_orders_86 : decode cX0_orders 86 = .ok (.getfield 56, 3) := dk_180 0 56 (dk_at dksX0_orders_3 15 rfl rfl)
theorem dX0_orders_89 : decode cX0_orders 89 = .ok (.iconst 0, 1) := dk_3 (dk_at dksX0_orders_3 18 rfl rfl)
theorem dX0_orders_90 : decode cX0_orders 90 = .ok (.aload_n 0, 1) := dk_42 (dk_at dksX0_orders_3 19 rfl rfl)
theorem dX0_orders_91 : decode cX0_orders 91 = .ok (.getfield 59, 3) := dk_180 0 59 (dk_at dksX0_orders_3 20 rfl rfl)
theorem dX0_orders_94 : decode cX0_orders 94 = .ok (.iconst 0, 1) := dk_3 (dk_at dksX0_orders_3 23 rfl rfl)
theorem dX0_orders_95 : decode cX0_orders 95 = .ok (.bipush 16, 2) := dk_16 16 (dk_at dksX0_orders_4 0 rfl rfl)
theorem dX0_orders_97 : decode cX0_orders 97 = .ok (.invokestatic 364, 3) := dk_184 1 108 (dk_at dksX0_orders_4 2 rfl rfl)
theorem dX0_orders_100 : decode cX0_orders 100 = .ok (.aload_n 0, 1) := dk_42 (dk_at dksX0_orders_4 5 rfl rfl)
theorem dX0_orders_101 : decode cX0_orders 101 = .ok (.getfield 118, 3) := dk_180 0 118 (dk_at dksX0_orders_4 6 rfl rfl)
theorem dX0_orders_104 : decode cX0_orders 104 = .ok (.istore_n 3, 1) := dk_62 (dk_at dksX0_orders_4 9 rfl rfl)
theorem dX0_orders_105 : decode cX0_orders 105 = .ok (.iconst 0, 1) := dk_3 (dk_at dksX0_orders_4 10 rfl rfl)
theorem dX0_orders_106 : decode cX0_orders 106 = .ok (.istore 4, 2) := dk_54 4 (dk_at dksX0_orders_4 11 rfl rfl)
theorem dX0_orders_108 : decode cX0_orders 108 = .ok (.iconst (-1), 1) := dk_2 (dk_at dksX0_orders_4 13 rfl rfl)
theorem dX0_orders_109 : decode cX0_orders 109 = .ok (.istore 5, 2) := dk_54 5 (dk_at dksX0_orders_4 14 rfl rfl)
theorem dX0_orders_111 : decode cX0_orders 111 = .ok (.iconst 0, 1) := dk_3 (dk_at dksX0_orders_4 16 rfl rfl)
theorem dX0_orders_112 : decode cX0_orders 112 = .ok (.istore 6, 2) := dk_54 6 (dk_at dksX0_orders_4 17 rfl rfl)
theorem dX0_orders_114 : decode cX0_orders 114 = .ok (.iload 6, 2) := dk_21 6 (dk_at dksX0_orders_4 19 rfl rfl)
theorem dX0_orders_116 : decode cX0_orders 116 = .ok (.aload_n 2, 1) := dk_44 (dk_at dksX0_orders_4 21 rfl rfl)
theorem dX0_orders_117 : decode cX0_orders 117 = .ok (.getfield 405, 3) := dk_180 1 149 (dk_at dksX0_orders_5 0 rfl rfl)
theorem dX0_orders_120 : decode cX0_orders 120 = .ok (.invokevirtual 233, 3) := dk_182 0 233 (dk_at dksX0_orders_5 3 rfl rfl)
theorem dX0_orders_123 : decode cX0_orders 123 = .ok (.if_icmp .ge 117, 3) := dk_162 0 117 (dk_at dksX0_orders_5 6 rfl rfl)
theorem dX0_orders_126 : decode cX0_orders 126 = .ok (.aload_n 2, 1) := dk_44 (dk_at dksX0_orders_5 9 rfl rfl)
theorem dX0_orders_127 : decode cX0_orders 127 = .ok (.getfield 405, 3) := dk_180 1 149 (dk_at dksX0_orders_5 10 rfl rfl)
theorem dX0_orders_130 : decode cX0_orders 130 = .ok (.iload 6, 2) := dk_21 6 (dk_at dksX0_orders_5 13 rfl rfl)
theorem dX0_orders_132 : decode cX0_orders 132 = .ok (.invokevirtual 273, 3) := dk_182 1 17 (dk_at dksX0_orders_5 15 rfl rfl)
theorem dX0_orders_135 : decode cX0_orders 135 = .ok (.checkcast 408, 3) := dk_192 1 152 (dk_at dksX0_orders_5 18 rfl rfl)
theorem dX0_orders_138 : decode cX0_orders 138 = .ok (.astore 7, 2) := dk_58 7 (dk_at dksX0_orders_5 21 rfl rfl)
theorem dX0_orders_140 : decode cX0_orders 140 = .ok (.iconst 0, 1) := dk_3 (dk_at dksX0_orders_5 23 rfl rfl)
theorem dX0_orders_141 : decode cX0_orders 141 = .ok (.istore 8, 2) := dk_54 8 (dk_at dksX0_orders_6 0 rfl rfl)
theorem dX0_orders_143 : decode cX0_orders 143 = .ok (.iload 8, 2) := dk_21 8 (dk_at dksX0_orders_6 2 rfl rfl)
theorem dX0_orders_145 : decode cX0_orders 145 = .ok (.aload 7, 2) := dk_25 7 (dk_at dksX0_orders_6 4 rfl rfl)
theorem dX0_orders_147 : decode cX0_orders 147 = .ok (.getfield 410, 3) := dk_180 1 154 (dk_at dksX0_orders_6 6 rfl rfl)
theorem dX0_orders_150 : decode cX0_orders 150 = .ok (.if_icmp .ge 84, 3) := dk_162 0 84 (dk_at dksX0_orders_6 9 rfl rfl)
theorem dX0_orders_153 : decode cX0_orders 153 = .ok (.aload_n 0, 1) := dk_42 (dk_at dksX0_orders_6 12 rfl rfl)
theorem dX0_orders_154 : decode cX0_orders 154 = .ok (.iload 4, 2) := dk_21 4 (dk_at dksX0_orders_6 13 rfl rfl)
theorem dX0_orders_156 : decode cX0_orders 156 = .ok (.iload 5, 2) := dk_21 5 (dk_at dksX0_orders_6 15 rfl rfl)
theorem dX0_orders_158 : decode cX0_orders 158 = .ok (.invokevirtual 413, 3) := dk_182 1 157 (dk_at dksX0_orders_6 17 rfl rfl)
theorem dX0_orders_161 : decode cX0_orders 161 = .ok (.aload 7, 2) := dk_25 7 (dk_at dksX0_orders_6 20 rfl rfl)
theorem dX0_orders_163 : decode cX0_orders 163 = .ok (.aload_n 0, 1) := dk_42 (dk_at dksX0_orders_6 22 rfl rfl)
theorem dX0_orders_164 : decode cX0_orders 164 = .ok (.getfield 83, 3) := dk_180 0 83 (dk_at dksX0_orders_7 0 rfl rfl)
theorem dX0_orders_167 : decode cX0_orders 167 = .ok (.invokevirtual 417, 3) := dk_182 1 161 (dk_at dksX0_orders_7 3 rfl rfl)
theorem dX0_orders_170 : decode cX0_orders 170 = .ok (.ifCond .ne 6, 3) := dk_154 0 6 (dk_at dksX0_orders_7 6 rfl rfl)
theorem dX0_orders_173 : decode cX0_orders 173 = .ok (.goto 55, 3) := dk_167 0 55 (dk_at dksX0_orders_7 9 rfl rfl)
theorem dX0_orders_176 : decode cX0_orders 176 = .ok (.aload_n 0, 1) := dk_42 (dk_at dksX0_orders_7 12 rfl rfl)
theorem dX0_orders_177 : decode cX0_orders 177 = .ok (.aload 7, 2) := dk_25 7 (dk_at dksX0_orders_7 13 rfl rfl)
theorem dX0_orders_179 : decode cX0_orders 179 = .ok (.invokevirtual 421, 3) := dk_182 1 165 (dk_at dksX0_orders_7 15 rfl rfl)
theorem dX0_orders_182 : decode cX0_orders 182 = .ok (.istore 9, 2) := dk_54 9 (dk_at dksX0_orders_7 18 rfl rfl)
theorem dX0_orders_184 : decode cX0_orders 184 = .ok (.iload 9, 2) := dk_21 9 (dk_at dksX0_orders_7 20 rfl rfl)
theorem dX0_orders_186 : decode cX0_orders 186 = .ok (.ifCond .ge 21, 3) := dk_156 0 21 (dk_at dksX0_orders_8 0 rfl rfl)
theorem dX0_orders_189 : decode cX0_orders 189 = .ok (.aload_n 0, 1) := dk_42 (dk_at dksX0_orders_8 3 rfl rfl)
theorem dX0_orders_190 : decode cX0_orders 190 = .ok (.iload_n 3, 1) := dk_29 (dk_at dksX0_orders_8 4 rfl rfl)
theorem dX0_orders_191 : decode cX0_orders 191 = .ok (.invokevirtual 425, 3) := dk_182 1 169 (dk_at dksX0_orders_8 5 rfl rfl)
theorem dX0_orders_194 : decode cX0_orders 194 = .ok (.aload_n 0, 1) := dk_42 (dk_at dksX0_orders_8 8 rfl rfl)
theorem dX0_orders_195 : decode cX0_orders 195 = .ok (.iload 6, 2) := dk_21 6 (dk_at dksX0_orders_8 9 rfl rfl)
theorem dX0_orders_197 : decode cX0_orders 197 = .ok (.putfield 77, 3) := dk_181 0 77 (dk_at dksX0_orders_8 11 rfl rfl)
theorem dX0_orders_200 : decode cX0_orders 200 = .ok (.aload_n 0, 1) := dk_42 (dk_at dksX0_orders_8 14 rfl rfl)
theorem dX0_orders_201 : decode cX0_orders 201 = .ok (.bipush (-3), 2) := dk_16 253 (dk_at dksX0_orders_8 15 rfl rfl)
theorem dX0_orders_203 : decode cX0_orders 203 = .ok (.invokevirtual 130, 3) := dk_182 0 130 (dk_at dksX0_orders_8 17 rfl rfl)
theorem dX0_orders_206 : decode cX0_orders 206 = .ok (.ireturn, 1) := dk_172 (dk_at dksX0_orders_8 20 rfl rfl)
theorem dX0_orders_207 : decode cX0_orders 207 = .ok (.aload 7, 2) := dk_25 7 (dk_at dksX0_orders_8 21 rfl rfl)
theorem dX0_orders_209 : decode cX0_orders 209 = .ok (.getfield 428, 3) := dk_180 1 172 (dk_at dksX0_orders_9 0 rfl rfl)
theorem dX0_orders_212 : decode cX0_orders 212 = .ok (.iconst 1, 1) := dk_4 (dk_at dksX0_orders_9 3 rfl rfl)
theorem dX0_orders_213 : decode cX0_orders 213 = .ok (.if_icmp .ne 8, 3) := dk_160 0 8 (dk_at dksX0_orders_9 4 rfl rfl)
theorem dX0_orders_216 : decode cX0_orders 216 = .ok (.iload 9, 2) := dk_21 9 (dk_at dksX0_orders_9 7 rfl rfl)
theorem dX0_orders_218 : decode cX0_orders 218 = .ok (.goto 5, 3) := dk_167 0 5 (dk_at dksX0_orders_9 9 rfl rfl)
theorem dX0_orders_221 : decode cX0_orders 221 = .ok (.iload 5, 2) := dk_21 5 (dk_at dksX0_orders_9 12 rfl rfl)
theorem dX0_orders_223 : decode cX0_orders 223 = .ok (.istore 5, 2) := dk_54 5 (dk_at dksX0_orders_9 14 rfl rfl)
theorem dX0_orders_225 : decode cX0_orders 225 = .ok (.iinc 4 1, 3) := dk_132 4 1 (dk_at dksX0_orders_9 16 rfl rfl)
theorem dX0_orders_228 : decode cX0_orders 228 = .ok (.iinc 8 1, 3) := dk_132 8 1 (dk_at dksX0_orders_9 19 rfl rfl)
theorem dX0_orders_231 : decode cX0_orders 231 = .ok (.goto (-88), 3) := dk_167 255 168 (dk_at dksX0_orders_10 0 rfl rfl)
theorem dX0_orders_234 : decode cX0_orders 234 = .ok (.iinc 6 1, 3) := dk_132 6 1 (dk_at dksX0_orders_10 3 rfl rfl)
theorem dX0_orders_237 : decode cX0_orders 237 = .ok (.goto (-123), 3) := dk_167 255 133 (dk_at dksX0_orders_10 6 rfl rfl)
theorem dX0_orders_240 : decode cX0_orders 240 = .ok (.aload_n 0, 1) := dk_42 (dk_at dksX0_orders_10 9 rfl rfl)
theorem dX0_orders_241 : decode cX0_orders 241 = .ok (.iload 4, 2) := dk_21 4 (dk_at dksX0_orders_10 10 rfl rfl)
theorem dX0_orders_243 : decode cX0_orders 243 = .ok (.invokevirtual 121, 3) := dk_182 0 121 (dk_at dksX0_orders_10 12 rfl rfl)
theorem dX0_orders_246 : decode cX0_orders 246 = .ok (.ireturn, 1) := dk_172 (dk_at dksX0_orders_10 15 rfl rfl)
abbrev cX0_tellsOrder : ByteArray := prog_1_method_87_code
def yX0_tellsOrder : MethodName := ⟨RX0, "tellsOrder", "(II)V"⟩
def dkwX0_tellsOrder_6 : List UInt8 := [21, 5, 46, 133, 167, 0, 6, 20, 1, 15, 80, 132, 5, 1, 167, 255, 215, 177]
abbrev dktX0_tellsOrder_6 : List UInt8 := dkwX0_tellsOrder_6 ++ []
def dkwX0_tellsOrder_5 : List UInt8 := [162, 0, 40, 25, 4, 16, 9, 21, 5, 96, 42, 21, 5, 182, 0, 170, 153, 0, 14, 45, 180, 0, 159]
abbrev dktX0_tellsOrder_5 : List UInt8 := dkwX0_tellsOrder_5 ++ dktX0_tellsOrder_6
def dkwX0_tellsOrder_4 : List UInt8 := [46, 133, 167, 0, 6, 20, 1, 15, 80, 132, 5, 1, 167, 255, 217, 3, 54, 5, 21, 5, 16, 10]
abbrev dktX0_tellsOrder_4 : List UInt8 := dkwX0_tellsOrder_4 ++ dktX0_tellsOrder_5
def dkwX0_tellsOrder_3 : List UInt8 := [162, 0, 39, 25, 4, 8, 21, 5, 96, 42, 21, 5, 182, 0, 182, 153, 0, 14, 45, 180, 0, 176, 21, 5]
abbrev dktX0_tellsOrder_3 : List UInt8 := dkwX0_tellsOrder_3 ++ dktX0_tellsOrder_4
def dkwX0_tellsOrder_2 : List UInt8 := [182, 1, 183, 133, 80, 25, 4, 7, 42, 180, 0, 39, 180, 0, 127, 133, 80, 3, 54, 5, 21, 5, 7]
abbrev dktX0_tellsOrder_2 : List UInt8 := dkwX0_tellsOrder_2 ++ dktX0_tellsOrder_3
def dkwX0_tellsOrder_1 : List UInt8 := [25, 4, 4, 27, 133, 80, 25, 4, 5, 28, 133, 80, 25, 4, 6, 45, 42, 180, 0, 39, 180, 0, 124]
abbrev dktX0_tellsOrder_1 : List UInt8 := dkwX0_tellsOrder_1 ++ dktX0_tellsOrder_2
def dkwX0_tellsOrder_0 : List UInt8 := [42, 182, 0, 156, 78, 42, 180, 0, 83, 180, 1, 12, 58, 4, 25, 4, 3, 45, 180, 0, 200, 133, 80]
abbrev dktX0_tellsOrder_0 : List UInt8 := dkwX0_tellsOrder_0 ++ dktX0_tellsOrder_1
theorem dksX0_tellsOrder_0 : cX0_tellsOrder.data.toList.drop 0 = dktX0_tellsOrder_0 := by decide +kernel
theorem dksX0_tellsOrder_1 : cX0_tellsOrder.data.toList.drop 23 = dktX0_tellsOrder_1 := dk_seg dksX0_tellsOrder_0 23 rfl rfl
theorem dksX0_tellsOrder_2 : cX0_tellsOrder.data.toList.drop 46 = dktX0_tellsOrder_2 := dk_seg dksX0_tellsOrder_1 23 rfl rfl
theorem dksX0_tellsOrder_3 : cX0_tellsOrder.data.toList.drop 69 = dktX0_tellsOrder_3 := dk_seg dksX0_tellsOrder_2 23 rfl rfl
theorem dksX0_tellsOrder_4 : cX0_tellsOrder.data.toList.drop 93 = dktX0_tellsOrder_4 := dk_seg dksX0_tellsOrder_3 24 rfl rfl
theorem dksX0_tellsOrder_5 : cX0_tellsOrder.data.toList.drop 115 = dktX0_tellsOrder_5 := dk_seg dksX0_tellsOrder_4 22 rfl rfl
theorem dksX0_tellsOrder_6 : cX0_tellsOrder.data.toList.drop 138 = dktX0_tellsOrder_6 := dk_seg dksX0_tellsOrder_5 23 rfl rfl
theorem dX0_tellsOrder_0 : decode cX0_tellsOrder 0 = .ok (.aload_n 0, 1) := dk_42 (dk_at dksX0_tellsOrder_0 0 rfl rfl)
theorem dX0_tellsOrder_1 : decode cX0_tellsOrder 1 = .ok (.invokevirtual 156, 3) := dk_182 0 156 (dk_at dksX0_tellsOrder_0 1 rfl rfl)
theorem dX0_tellsOrder_4 : decode cX0_tellsOrder 4 = .ok (.astore_n 3, 1) := dk_78 (dk_at dksX0_tellsOrder_0 4 rfl rfl)
theorem dX0_tellsOrder_5 : decode cX0_tellsOrder 5 = .ok (.aload_n 0, 1) := dk_42 (dk_at dksX0_tellsOrder_0 5 rfl rfl)
theorem dX0_tellsOrder_6 : decode cX0_tellsOrder 6 = .ok (.getfield 83, 3) := dk_180 0 83 (dk_at dksX0_tellsOrder_0 6 rfl rfl)
theorem dX0_tellsOrder_9 : decode cX0_tellsOrder 9 = .ok (.getfield 268, 3) := dk_180 1 12 (dk_at dksX0_tellsOrder_0 9 rfl rfl)
theorem dX0_tellsOrder_12 : decode cX0_tellsOrder 12 = .ok (.astore 4, 2) := dk_58 4 (dk_at dksX0_tellsOrder_0 12 rfl rfl)
theorem dX0_tellsOrder_14 : decode cX0_tellsOrder 14 = .ok (.aload 4, 2) := dk_25 4 (dk_at dksX0_tellsOrder_0 14 rfl rfl)
theorem dX0_tellsOrder_16 : decode cX0_tellsOrder 16 = .ok (.iconst 0, 1) := dk_3 (dk_at dksX0_tellsOrder_0 16 rfl rfl)
theorem dX0_tellsOrder_17 : decode cX0_tellsOrder 17 = .ok (.aload_n 3, 1) := dk_45 (dk_at dksX0_tellsOrder_0 17 rfl rfl)
theorem dX0_tellsOrder_18 : decode cX0_tellsOrder 18 = .ok (.getfield 200, 3) := dk_180 0 200 (dk_at dksX0_tellsOrder_0 18 rfl rfl)
theorem dX0_tellsOrder_21 : decode cX0_tellsOrder 21 = .ok (.i2l, 1) := dk_133 (dk_at dksX0_tellsOrder_0 21 rfl rfl)
theorem dX0_tellsOrder_22 : decode cX0_tellsOrder 22 = .ok (.lastore, 1) := dk_80 (dk_at dksX0_tellsOrder_0 22 rfl rfl)
theorem dX0_tellsOrder_23 : decode cX0_tellsOrder 23 = .ok (.aload 4, 2) := dk_25 4 (dk_at dksX0_tellsOrder_1 0 rfl rfl)
theorem dX0_tellsOrder_25 : decode cX0_tellsOrder 25 = .ok (.iconst 1, 1) := dk_4 (dk_at dksX0_tellsOrder_1 2 rfl rfl)
theorem dX0_tellsOrder_26 : decode cX0_tellsOrder 26 = .ok (.iload_n 1, 1) := dk_27 (dk_at dksX0_tellsOrder_1 3 rfl rfl)
theorem dX0_tellsOrder_27 : decode cX0_tellsOrder 27 = .ok (.i2l, 1) := dk_133 (dk_at dksX0_tellsOrder_1 4 rfl rfl)
theorem dX0_tellsOrder_28 : decode cX0_tellsOrder 28 = .ok (.lastore, 1) := dk_80 (dk_at dksX0_tellsOrder_1 5 rfl rfl)
theorem dX0_tellsOrder_29 : decode cX0_tellsOrder 29 = .ok (.aload 4, 2) := dk_25 4 (dk_at dksX0_tellsOrder_1 6 rfl rfl)
theorem dX0_tellsOrder_31 : decode cX0_tellsOrder 31 = .ok (.iconst 2, 1) := dk_5 (dk_at dksX0_tellsOrder_1 8 rfl rfl)
theorem dX0_tellsOrder_32 : decode cX0_tellsOrder 32 = .ok (.iload_n 2, 1) := dk_28 (dk_at dksX0_tellsOrder_1 9 rfl rfl)
theorem dX0_tellsOrder_33 : decode cX0_tellsOrder 33 = .ok (.i2l, 1) := dk_133 (dk_at dksX0_tellsOrder_1 10 rfl rfl)
theorem dX0_tellsOrder_34 : decode cX0_tellsOrder 34 = .ok (.lastore, 1) := dk_80 (dk_at dksX0_tellsOrder_1 11 rfl rfl)
theorem dX0_tellsOrder_35 : decode cX0_tellsOrder 35 = .ok (.aload 4, 2) := dk_25 4 (dk_at dksX0_tellsOrder_1 12 rfl rfl)
theorem dX0_tellsOrder_37 : decode cX0_tellsOrder 37 = .ok (.iconst 3, 1) := dk_6 (dk_at dksX0_tellsOrder_1 14 rfl rfl)
theorem dX0_tellsOrder_38 : decode cX0_tellsOrder 38 = .ok (.aload_n 3, 1) := dk_45 (dk_at dksX0_tellsOrder_1 15 rfl rfl)
theorem dX0_tellsOrder_39 : decode cX0_tellsOrder 39 = .ok (.aload_n 0, 1) := dk_42 (dk_at dksX0_tellsOrder_1 16 rfl rfl)
theorem dX0_tellsOrder_40 : decode cX0_tellsOrder 40 = .ok (.getfield 39, 3) := dk_180 0 39 (dk_at dksX0_tellsOrder_1 17 rfl rfl)
theorem dX0_tellsOrder_43 : decode cX0_tellsOrder 43 = .ok (.getfield 124, 3) := dk_180 0 124 (dk_at dksX0_tellsOrder_1 20 rfl rfl)
theorem dX0_tellsOrder_46 : decode cX0_tellsOrder 46 = .ok (.invokevirtual 439, 3) := dk_182 1 183 (dk_at dksX0_tellsOrder_2 0 rfl rfl)
theorem dX0_tellsOrder_49 : decode cX0_tellsOrder 49 = .ok (.i2l, 1) := dk_133 (dk_at dksX0_tellsOrder_2 3 rfl rfl)
theorem dX0_tellsOrder_50 : decode cX0_tellsOrder 50 = .ok (.lastore, 1) := dk_80 (dk_at dksX0_tellsOrder_2 4 rfl rfl)
theorem dX0_tellsOrder_51 : decode cX0_tellsOrder 51 = .ok (.aload 4, 2) := dk_25 4 (dk_at dksX0_tellsOrder_2 5 rfl rfl)
theorem dX0_tellsOrder_53 : decode cX0_tellsOrder 53 = .ok (.iconst 4, 1) := dk_7 (dk_at dksX0_tellsOrder_2 7 rfl rfl)
theorem dX0_tellsOrder_54 : decode cX0_tellsOrder 54 = .ok (.aload_n 0, 1) := dk_42 (dk_at dksX0_tellsOrder_2 8 rfl rfl)
theorem dX0_tellsOrder_55 : decode cX0_tellsOrder 55 = .ok (.getfield 39, 3) := dk_180 0 39 (dk_at dksX0_tellsOrder_2 9 rfl rfl)
theorem dX0_tellsOrder_58 : decode cX0_tellsOrder 58 = .ok (.getfield 127, 3) := dk_180 0 127 (dk_at dksX0_tellsOrder_2 12 rfl rfl)
theorem dX0_tellsOrder_61 : decode cX0_tellsOrder 61 = .ok (.i2l, 1) := dk_133 (dk_at dksX0_tellsOrder_2 15 rfl rfl)
theorem dX0_tellsOrder_62 : decode cX0_tellsOrder 62 = .ok (.lastore, 1) := dk_80 (dk_at dksX0_tellsOrder_2 16 rfl rfl)
theorem dX0_tellsOrder_63 : decode cX0_tellsOrder 63 = .ok (.iconst 0, 1) := dk_3 (dk_at dksX0_tellsOrder_2 17 rfl rfl)
theorem dX0_tellsOrder_64 : decode cX0_tellsOrder 64 = .ok (.istore 5, 2) := dk_54 5 (dk_at dksX0_tellsOrder_2 18 rfl rfl)
theorem dX0_tellsOrder_66 : decode cX0_tellsOrder 66 = .ok (.iload 5, 2) := dk_21 5 (dk_at dksX0_tellsOrder_2 20 rfl rfl)
theorem dX0_tellsOrder_68 : decode cX0_tellsOrder 68 = .ok (.iconst 4, 1) := dk_7 (dk_at dksX0_tellsOrder_2 22 rfl rfl)
theorem dX0_tellsOrder_69 : decode cX0_tellsOrder 69 = .ok (.if_icmp .ge 39, 3) := dk_162 0 39 (dk_at dksX0_tellsOrder_3 0 rfl rfl)
theorem dX0_tellsOrder_72 : decode cX0_tellsOrder 72 = .ok (.aload 4, 2) := dk_25 4 (dk_at dksX0_tellsOrder_3 3 rfl rfl)
theorem dX0_tellsOrder_74 : decode cX0_tellsOrder 74 = .ok (.iconst 5, 1) := dk_8 (dk_at dksX0_tellsOrder_3 5 rfl rfl)
theorem dX0_tellsOrder_75 : decode cX0_tellsOrder 75 = .ok (.iload 5, 2) := dk_21 5 (dk_at dksX0_tellsOrder_3 6 rfl rfl)
theorem dX0_tellsOrder_77 : decode cX0_tellsOrder 77 = .ok (.iadd, 1) := dk_96 (dk_at dksX0_tellsOrder_3 8 rfl rfl)
theorem dX0_tellsOrder_78 : decode cX0_tellsOrder 78 = .ok (.aload_n 0, 1) := dk_42 (dk_at dksX0_tellsOrder_3 9 rfl rfl)
theorem dX0_tellsOrder_79 : decode cX0_tellsOrder 79 = .ok (.iload 5, 2) := dk_21 5 (dk_at dksX0_tellsOrder_3 10 rfl rfl)
theorem dX0_tellsOrder_81 : decode cX0_tellsOrder 81 = .ok (.invokevirtual 182, 3) := dk_182 0 182 (dk_at dksX0_tellsOrder_3 12 rfl rfl)
theorem dX0_tellsOrder_84 : decode cX0_tellsOrder 84 = .ok (.ifCond .eq 14, 3) := dk_153 0 14 (dk_at dksX0_tellsOrder_3 15 rfl rfl)
theorem dX0_tellsOrder_87 : decode cX0_tellsOrder 87 = .ok (.aload_n 3, 1) := dk_45 (dk_at dksX0_tellsOrder_3 18 rfl rfl)
theorem dX0_tellsOrder_88 : decode cX0_tellsOrder 88 = .ok (.getfield 176, 3) := dk_180 0 176 (dk_at dksX0_tellsOrder_3 19 rfl rfl)
theorem dX0_tellsOrder_91 : decode cX0_tellsOrder 91 = .ok (.iload 5, 2) := dk_21 5 (dk_at dksX0_tellsOrder_3 22 rfl rfl)
theorem dX0_tellsOrder_93 : decode cX0_tellsOrder 93 = .ok (.iaload, 1) := dk_46 (dk_at dksX0_tellsOrder_4 0 rfl rfl)
theorem dX0_tellsOrder_94 : decode cX0_tellsOrder 94 = .ok (.i2l, 1) := dk_133 (dk_at dksX0_tellsOrder_4 1 rfl rfl)
theorem dX0_tellsOrder_95 : decode cX0_tellsOrder 95 = .ok (.goto 6, 3) := dk_167 0 6 (dk_at dksX0_tellsOrder_4 2 rfl rfl)
theorem dX0_tellsOrder_98 : decode cX0_tellsOrder 98 = .ok (.ldc2_w 271, 3) := dk_20 1 15 (dk_at dksX0_tellsOrder_4 5 rfl rfl)
theorem dX0_tellsOrder_101 : decode cX0_tellsOrder 101 = .ok (.lastore, 1) := dk_80 (dk_at dksX0_tellsOrder_4 8 rfl rfl)
theorem dX0_tellsOrder_102 : decode cX0_tellsOrder 102 = .ok (.iinc 5 1, 3) := dk_132 5 1 (dk_at dksX0_tellsOrder_4 9 rfl rfl)
theorem dX0_tellsOrder_105 : decode cX0_tellsOrder 105 = .ok (.goto (-39), 3) := dk_167 255 217 (dk_at dksX0_tellsOrder_4 12 rfl rfl)
theorem dX0_tellsOrder_108 : decode cX0_tellsOrder 108 = .ok (.iconst 0, 1) := dk_3 (dk_at dksX0_tellsOrder_4 15 rfl rfl)
theorem dX0_tellsOrder_109 : decode cX0_tellsOrder 109 = .ok (.istore 5, 2) := dk_54 5 (dk_at dksX0_tellsOrder_4 16 rfl rfl)
theorem dX0_tellsOrder_111 : decode cX0_tellsOrder 111 = .ok (.iload 5, 2) := dk_21 5 (dk_at dksX0_tellsOrder_4 18 rfl rfl)
theorem dX0_tellsOrder_113 : decode cX0_tellsOrder 113 = .ok (.bipush 10, 2) := dk_16 10 (dk_at dksX0_tellsOrder_4 20 rfl rfl)
theorem dX0_tellsOrder_115 : decode cX0_tellsOrder 115 = .ok (.if_icmp .ge 40, 3) := dk_162 0 40 (dk_at dksX0_tellsOrder_5 0 rfl rfl)
theorem dX0_tellsOrder_118 : decode cX0_tellsOrder 118 = .ok (.aload 4, 2) := dk_25 4 (dk_at dksX0_tellsOrder_5 3 rfl rfl)
theorem dX0_tellsOrder_120 : decode cX0_tellsOrder 120 = .ok (.bipush 9, 2) := dk_16 9 (dk_at dksX0_tellsOrder_5 5 rfl rfl)
theorem dX0_tellsOrder_122 : decode cX0_tellsOrder 122 = .ok (.iload 5, 2) := dk_21 5 (dk_at dksX0_tellsOrder_5 7 rfl rfl)
theorem dX0_tellsOrder_124 : decode cX0_tellsOrder 124 = .ok (.iadd, 1) := dk_96 (dk_at dksX0_tellsOrder_5 9 rfl rfl)
theorem dX0_tellsOrder_125 : decode cX0_tellsOrder 125 = .ok (.aload_n 0, 1) := dk_42 (dk_at dksX0_tellsOrder_5 10 rfl rfl)
theorem dX0_tellsOrder_126 : decode cX0_tellsOrder 126 = .ok (.iload 5, 2) := dk_21 5 (dk_at dksX0_tellsOrder_5 11 rfl rfl)
theorem dX0_tellsOrder_128 : decode cX0_tellsOrder 128 = .ok (.invokevirtual 170, 3) := dk_182 0 170 (dk_at dksX0_tellsOrder_5 13 rfl rfl)
theorem dX0_tellsOrder_131 : decode cX0_tellsOrder 131 = .ok (.ifCond .eq 14, 3) := dk_153 0 14 (dk_at dksX0_tellsOrder_5 16 rfl rfl)
theorem dX0_tellsOrder_134 : decode cX0_tellsOrder 134 = .ok (.aload_n 3, 1) := dk_45 (dk_at dksX0_tellsOrder_5 19 rfl rfl)
theorem dX0_tellsOrder_135 : decode cX0_tellsOrder 135 = .ok (.getfield 159, 3) := dk_180 0 159 (dk_at dksX0_tellsOrder_5 20 rfl rfl)
theorem dX0_tellsOrder_138 : decode cX0_tellsOrder 138 = .ok (.iload 5, 2) := dk_21 5 (dk_at dksX0_tellsOrder_6 0 rfl rfl)
theorem dX0_tellsOrder_140 : decode cX0_tellsOrder 140 = .ok (.iaload, 1) := dk_46 (dk_at dksX0_tellsOrder_6 2 rfl rfl)
theorem dX0_tellsOrder_141 : decode cX0_tellsOrder 141 = .ok (.i2l, 1) := dk_133 (dk_at dksX0_tellsOrder_6 3 rfl rfl)
theorem dX0_tellsOrder_142 : decode cX0_tellsOrder 142 = .ok (.goto 6, 3) := dk_167 0 6 (dk_at dksX0_tellsOrder_6 4 rfl rfl)
theorem dX0_tellsOrder_145 : decode cX0_tellsOrder 145 = .ok (.ldc2_w 271, 3) := dk_20 1 15 (dk_at dksX0_tellsOrder_6 7 rfl rfl)
theorem dX0_tellsOrder_148 : decode cX0_tellsOrder 148 = .ok (.lastore, 1) := dk_80 (dk_at dksX0_tellsOrder_6 10 rfl rfl)
theorem dX0_tellsOrder_149 : decode cX0_tellsOrder 149 = .ok (.iinc 5 1, 3) := dk_132 5 1 (dk_at dksX0_tellsOrder_6 11 rfl rfl)
theorem dX0_tellsOrder_152 : decode cX0_tellsOrder 152 = .ok (.goto (-41), 3) := dk_167 255 215 (dk_at dksX0_tellsOrder_6 14 rfl rfl)
theorem dX0_tellsOrder_155 : decode cX0_tellsOrder 155 = .ok (.return_, 1) := dk_177 (dk_at dksX0_tellsOrder_6 17 rfl rfl)
abbrev cX0_runsOrder : ByteArray := prog_1_method_85_code
def yX0_runsOrder : MethodName := ⟨RX0, "runsOrder", "(LLostLanes$Order;)I"⟩
def dkwX0_runsOrder_3 : List UInt8 := [172]
abbrev dktX0_runsOrder_3 : List UInt8 := dkwX0_runsOrder_3 ++ []
def dkwX0_runsOrder_2 : List UInt8 := [182, 1, 70, 172, 43, 180, 1, 172, 154, 0, 11, 42, 28, 182, 1, 61, 167, 0, 8, 42, 28, 182, 1, 67]
abbrev dktX0_runsOrder_2 : List UInt8 := dkwX0_runsOrder_2 ++ dktX0_runsOrder_3
def dkwX0_runsOrder_1 : List UInt8 := [61, 43, 180, 1, 172, 5, 160, 0, 20, 42, 28, 43, 180, 1, 181, 42, 180, 0, 83, 184, 1, 178]
abbrev dktX0_runsOrder_1 : List UInt8 := dkwX0_runsOrder_1 ++ dktX0_runsOrder_2
def dkwX0_runsOrder_0 : List UInt8 := [43, 180, 1, 172, 6, 160, 0, 8, 42, 182, 1, 73, 172, 43, 180, 1, 175, 42, 180, 0, 83, 184, 1, 178]
abbrev dktX0_runsOrder_0 : List UInt8 := dkwX0_runsOrder_0 ++ dktX0_runsOrder_1
theorem dksX0_runsOrder_0 : cX0_runsOrder.data.toList.drop 0 = dktX0_runsOrder_0 := by decide +kernel
theorem dksX0_runsOrder_1 : cX0_runsOrder.data.toList.drop 24 = dktX0_runsOrder_1 := dk_seg dksX0_runsOrder_0 24 rfl rfl
theorem dksX0_runsOrder_2 : cX0_runsOrder.data.toList.drop 46 = dktX0_runsOrder_2 := dk_seg dksX0_runsOrder_1 22 rfl rfl
theorem dksX0_runsOrder_3 : cX0_runsOrder.data.toList.drop 70 = dktX0_runsOrder_3 := dk_seg dksX0_runsOrder_2 24 rfl rfl
theorem dX0_runsOrder_0 : decode cX0_runsOrder 0 = .ok (.aload_n 1, 1) := dk_43 (dk_at dksX0_runsOrder_0 0 rfl rfl)
theorem dX0_runsOrder_1 : decode cX0_runsOrder 1 = .ok (.getfield 428, 3) := dk_180 1 172 (dk_at dksX0_runsOrder_0 1 rfl rfl)
theorem dX0_runsOrder_4 : decode cX0_runsOrder 4 = .ok (.iconst 3, 1) := dk_6 (dk_at dksX0_runsOrder_0 4 rfl rfl)
theorem dX0_runsOrder_5 : decode cX0_runsOrder 5 = .ok (.if_icmp .ne 8, 3) := dk_160 0 8 (dk_at dksX0_runsOrder_0 5 rfl rfl)
theorem dX0_runsOrder_8 : decode cX0_runsOrder 8 = .ok (.aload_n 0, 1) := dk_42 (dk_at dksX0_runsOrder_0 8 rfl rfl)
theorem dX0_runsOrder_9 : decode cX0_runsOrder 9 = .ok (.invokevirtual 329, 3) := dk_182 1 73 (dk_at dksX0_runsOrder_0 9 rfl rfl)
theorem dX0_runsOrder_12 : decode cX0_runsOrder 12 = .ok (.ireturn, 1) := dk_172 (dk_at dksX0_runsOrder_0 12 rfl rfl)
theorem dX0_runsOrder_13 : decode cX0_runsOrder 13 = .ok (.aload_n 1, 1) := dk_43 (dk_at dksX0_runsOrder_0 13 rfl rfl)
theorem dX0_runsOrder_14 : decode cX0_runsOrder 14 = .ok (.getfield 431, 3) := dk_180 1 175 (dk_at dksX0_runsOrder_0 14 rfl rfl)
theorem dX0_runsOrder_17 : decode cX0_runsOrder 17 = .ok (.aload_n 0, 1) := dk_42 (dk_at dksX0_runsOrder_0 17 rfl rfl)
theorem dX0_runsOrder_18 : decode cX0_runsOrder 18 = .ok (.getfield 83, 3) := dk_180 0 83 (dk_at dksX0_runsOrder_0 18 rfl rfl)
theorem dX0_runsOrder_21 : decode cX0_runsOrder 21 = .ok (.invokestatic 434, 3) := dk_184 1 178 (dk_at dksX0_runsOrder_0 21 rfl rfl)
theorem dX0_runsOrder_24 : decode cX0_runsOrder 24 = .ok (.istore_n 2, 1) := dk_61 (dk_at dksX0_runsOrder_1 0 rfl rfl)
theorem dX0_runsOrder_25 : decode cX0_runsOrder 25 = .ok (.aload_n 1, 1) := dk_43 (dk_at dksX0_runsOrder_1 1 rfl rfl)
theorem dX0_runsOrder_26 : decode cX0_runsOrder 26 = .ok (.getfield 428, 3) := dk_180 1 172 (dk_at dksX0_runsOrder_1 2 rfl rfl)
theorem dX0_runsOrder_29 : decode cX0_runsOrder 29 = .ok (.iconst 2, 1) := dk_5 (dk_at dksX0_runsOrder_1 5 rfl rfl)
theorem dX0_runsOrder_30 : decode cX0_runsOrder 30 = .ok (.if_icmp .ne 20, 3) := dk_160 0 20 (dk_at dksX0_runsOrder_1 6 rfl rfl)
theorem dX0_runsOrder_33 : decode cX0_runsOrder 33 = .ok (.aload_n 0, 1) := dk_42 (dk_at dksX0_runsOrder_1 9 rfl rfl)
theorem dX0_runsOrder_34 : decode cX0_runsOrder 34 = .ok (.iload_n 2, 1) := dk_28 (dk_at dksX0_runsOrder_1 10 rfl rfl)
theorem dX0_runsOrder_35 : decode cX0_runsOrder 35 = .ok (.aload_n 1, 1) := dk_43 (dk_at dksX0_runsOrder_1 11 rfl rfl)
theorem dX0_runsOrder_36 : decode cX0_runsOrder 36 = .ok (.getfield 437, 3) := dk_180 1 181 (dk_at dksX0_runsOrder_1 12 rfl rfl)
theorem dX0_runsOrder_39 : decode cX0_runsOrder 39 = .ok (.aload_n 0, 1) := dk_42 (dk_at dksX0_runsOrder_1 15 rfl rfl)
theorem dX0_runsOrder_40 : decode cX0_runsOrder 40 = .ok (.getfield 83, 3) := dk_180 0 83 (dk_at dksX0_runsOrder_1 16 rfl rfl)
theorem dX0_runsOrder_43 : decode cX0_runsOrder 43 = .ok (.invokestatic 434, 3) := dk_184 1 178 (dk_at dksX0_runsOrder_1 19 rfl rfl)
theorem dX0_runsOrder_46 : decode cX0_runsOrder 46 = .ok (.invokevirtual 326, 3) := dk_182 1 70 (dk_at dksX0_runsOrder_2 0 rfl rfl)
theorem dX0_runsOrder_49 : decode cX0_runsOrder 49 = .ok (.ireturn, 1) := dk_172 (dk_at dksX0_runsOrder_2 3 rfl rfl)
theorem dX0_runsOrder_50 : decode cX0_runsOrder 50 = .ok (.aload_n 1, 1) := dk_43 (dk_at dksX0_runsOrder_2 4 rfl rfl)
theorem dX0_runsOrder_51 : decode cX0_runsOrder 51 = .ok (.getfield 428, 3) := dk_180 1 172 (dk_at dksX0_runsOrder_2 5 rfl rfl)
theorem dX0_runsOrder_54 : decode cX0_runsOrder 54 = .ok (.ifCond .ne 11, 3) := dk_154 0 11 (dk_at dksX0_runsOrder_2 8 rfl rfl)
theorem dX0_runsOrder_57 : decode cX0_runsOrder 57 = .ok (.aload_n 0, 1) := dk_42 (dk_at dksX0_runsOrder_2 11 rfl rfl)
theorem dX0_runsOrder_58 : decode cX0_runsOrder 58 = .ok (.iload_n 2, 1) := dk_28 (dk_at dksX0_runsOrder_2 12 rfl rfl)
theorem dX0_runsOrder_59 : decode cX0_runsOrder 59 = .ok (.invokevirtual 317, 3) := dk_182 1 61 (dk_at dksX0_runsOrder_2 13 rfl rfl)
theorem dX0_runsOrder_62 : decode cX0_runsOrder 62 = .ok (.goto 8, 3) := dk_167 0 8 (dk_at dksX0_runsOrder_2 16 rfl rfl)
theorem dX0_runsOrder_65 : decode cX0_runsOrder 65 = .ok (.aload_n 0, 1) := dk_42 (dk_at dksX0_runsOrder_2 19 rfl rfl)
theorem dX0_runsOrder_66 : decode cX0_runsOrder 66 = .ok (.iload_n 2, 1) := dk_28 (dk_at dksX0_runsOrder_2 20 rfl rfl)
theorem dX0_runsOrder_67 : decode cX0_runsOrder 67 = .ok (.invokevirtual 323, 3) := dk_182 1 67 (dk_at dksX0_runsOrder_2 21 rfl rfl)
theorem dX0_runsOrder_70 : decode cX0_runsOrder 70 = .ok (.ireturn, 1) := dk_172 (dk_at dksX0_runsOrder_3 0 rfl rfl)
abbrev cX0_putsBack : ByteArray := prog_1_method_86_code
def yX0_putsBack : MethodName := ⟨RX0, "putsBack", "(I)V"⟩
def dkwX0_putsBack_2 : List UInt8 := [3, 16, 16, 184, 1, 108, 42, 27, 181, 0, 118, 177]
abbrev dktX0_putsBack_2 : List UInt8 := dkwX0_putsBack_2 ++ []
def dkwX0_putsBack_1 : List UInt8 := [42, 180, 0, 53, 28, 50, 182, 1, 47, 132, 2, 1, 167, 255, 233, 42, 180, 0, 59, 3, 42, 180, 0, 56]
abbrev dktX0_putsBack_1 : List UInt8 := dkwX0_putsBack_1 ++ dktX0_putsBack_2
def dkwX0_putsBack_0 : List UInt8 := [42, 182, 0, 156, 42, 180, 0, 63, 182, 1, 47, 3, 61, 28, 27, 162, 0, 24, 42, 180, 0, 49, 28, 50]
abbrev dktX0_putsBack_0 : List UInt8 := dkwX0_putsBack_0 ++ dktX0_putsBack_1
theorem dksX0_putsBack_0 : cX0_putsBack.data.toList.drop 0 = dktX0_putsBack_0 := by decide +kernel
theorem dksX0_putsBack_1 : cX0_putsBack.data.toList.drop 24 = dktX0_putsBack_1 := dk_seg dksX0_putsBack_0 24 rfl rfl
theorem dksX0_putsBack_2 : cX0_putsBack.data.toList.drop 48 = dktX0_putsBack_2 := dk_seg dksX0_putsBack_1 24 rfl rfl
theorem dX0_putsBack_0 : decode cX0_putsBack 0 = .ok (.aload_n 0, 1) := dk_42 (dk_at dksX0_putsBack_0 0 rfl rfl)
theorem dX0_putsBack_1 : decode cX0_putsBack 1 = .ok (.invokevirtual 156, 3) := dk_182 0 156 (dk_at dksX0_putsBack_0 1 rfl rfl)
theorem dX0_putsBack_4 : decode cX0_putsBack 4 = .ok (.aload_n 0, 1) := dk_42 (dk_at dksX0_putsBack_0 4 rfl rfl)
theorem dX0_putsBack_5 : decode cX0_putsBack 5 = .ok (.getfield 63, 3) := dk_180 0 63 (dk_at dksX0_putsBack_0 5 rfl rfl)
theorem dX0_putsBack_8 : decode cX0_putsBack 8 = .ok (.invokevirtual 303, 3) := dk_182 1 47 (dk_at dksX0_putsBack_0 8 rfl rfl)
theorem dX0_putsBack_11 : decode cX0_putsBack 11 = .ok (.iconst 0, 1) := dk_3 (dk_at dksX0_putsBack_0 11 rfl rfl)
theorem dX0_putsBack_12 : decode cX0_putsBack 12 = .ok (.istore_n 2, 1) := dk_61 (dk_at dksX0_putsBack_0 12 rfl rfl)
theorem dX0_putsBack_13 : decode cX0_putsBack 13 = .ok (.iload_n 2, 1) := dk_28 (dk_at dksX0_putsBack_0 13 rfl rfl)
theorem dX0_putsBack_14 : decode cX0_putsBack 14 = .ok (.iload_n 1, 1) := dk_27 (dk_at dksX0_putsBack_0 14 rfl rfl)
theorem dX0_putsBack_15 : decode cX0_putsBack 15 = .ok (.if_icmp .ge 24, 3) := dk_162 0 24 (dk_at dksX0_putsBack_0 15 rfl rfl)
theorem dX0_putsBack_18 : decode cX0_putsBack 18 = .ok (.aload_n 0, 1) := dk_42 (dk_at dksX0_putsBack_0 18 rfl rfl)
theorem dX0_putsBack_19 : decode cX0_putsBack 19 = .ok (.getfield 49, 3) := dk_180 0 49 (dk_at dksX0_putsBack_0 19 rfl rfl)
theorem dX0_putsBack_22 : decode cX0_putsBack 22 = .ok (.iload_n 2, 1) := dk_28 (dk_at dksX0_putsBack_0 22 rfl rfl)
theorem dX0_putsBack_23 : decode cX0_putsBack 23 = .ok (.aaload, 1) := dk_50 (dk_at dksX0_putsBack_0 23 rfl rfl)
theorem dX0_putsBack_24 : decode cX0_putsBack 24 = .ok (.aload_n 0, 1) := dk_42 (dk_at dksX0_putsBack_1 0 rfl rfl)
theorem dX0_putsBack_25 : decode cX0_putsBack 25 = .ok (.getfield 53, 3) := dk_180 0 53 (dk_at dksX0_putsBack_1 1 rfl rfl)
theorem dX0_putsBack_28 : decode cX0_putsBack 28 = .ok (.iload_n 2, 1) := dk_28 (dk_at dksX0_putsBack_1 4 rfl rfl)
theorem dX0_putsBack_29 : decode cX0_putsBack 29 = .ok (.aaload, 1) := dk_50 (dk_at dksX0_putsBack_1 5 rfl rfl)
theorem dX0_putsBack_30 : decode cX0_putsBack 30 = .ok (.invokevirtual 303, 3) := dk_182 1 47 (dk_at dksX0_putsBack_1 6 rfl rfl)
theorem dX0_putsBack_33 : decode cX0_putsBack 33 = .ok (.iinc 2 1, 3) := dk_132 2 1 (dk_at dksX0_putsBack_1 9 rfl rfl)
theorem dX0_putsBack_36 : decode cX0_putsBack 36 = .ok (.goto (-23), 3) := dk_167 255 233 (dk_at dksX0_putsBack_1 12 rfl rfl)
theorem dX0_putsBack_39 : decode cX0_putsBack 39 = .ok (.aload_n 0, 1) := dk_42 (dk_at dksX0_putsBack_1 15 rfl rfl)
theorem dX0_putsBack_40 : decode cX0_putsBack 40 = .ok (.getfield 59, 3) := dk_180 0 59 (dk_at dksX0_putsBack_1 16 rfl rfl)
theorem dX0_putsBack_43 : decode cX0_putsBack 43 = .ok (.iconst 0, 1) := dk_3 (dk_at dksX0_putsBack_1 19 rfl rfl)
theorem dX0_putsBack_44 : decode cX0_putsBack 44 = .ok (.aload_n 0, 1) := dk_42 (dk_at dksX0_putsBack_1 20 rfl rfl)
theorem dX0_putsBack_45 : decode cX0_putsBack 45 = .ok (.getfield 56, 3) := dk_180 0 56 (dk_at dksX0_putsBack_1 21 rfl rfl)
theorem dX0_putsBack_48 : decode cX0_putsBack 48 = .ok (.iconst 0, 1) := dk_3 (dk_at dksX0_putsBack_2 0 rfl rfl)
theorem dX0_putsBack_49 : decode cX0_putsBack 49 = .ok (.bipush 16, 2) := dk_16 16 (dk_at dksX0_putsBack_2 1 rfl rfl)
theorem dX0_putsBack_51 : decode cX0_putsBack 51 = .ok (.invokestatic 364, 3) := dk_184 1 108 (dk_at dksX0_putsBack_2 3 rfl rfl)
theorem dX0_putsBack_54 : decode cX0_putsBack 54 = .ok (.aload_n 0, 1) := dk_42 (dk_at dksX0_putsBack_2 6 rfl rfl)
theorem dX0_putsBack_55 : decode cX0_putsBack 55 = .ok (.iload_n 1, 1) := dk_27 (dk_at dksX0_putsBack_2 7 rfl rfl)
theorem dX0_putsBack_56 : decode cX0_putsBack 56 = .ok (.putfield 118, 3) := dk_181 0 118 (dk_at dksX0_putsBack_2 8 rfl rfl)
theorem dX0_putsBack_59 : decode cX0_putsBack 59 = .ok (.return_, 1) := dk_177 (dk_at dksX0_putsBack_2 11 rfl rfl)
abbrev cX0_decades : ByteArray := prog_1_method_89_code
def yX0_decades : MethodName := ⟨RX0, "decades", "(II)I"⟩
def dkwX0_decades_8 : List UInt8 := [180, 0, 39, 180, 0, 124, 182, 1, 183, 182, 0, 121, 172]
abbrev dktX0_decades_8 : List UInt8 := dkwX0_decades_8 ++ []
def dkwX0_decades_7 : List UInt8 := [180, 0, 176, 21, 5, 21, 6, 79, 42, 45, 182, 1, 57, 87, 132, 4, 1, 167, 255, 164, 42, 45, 42]
abbrev dktX0_decades_7 : List UInt8 := dkwX0_decades_7 ++ dktX0_decades_8
def dkwX0_decades_6 : List UInt8 := [180, 0, 179, 21, 5, 46, 2, 159, 0, 10, 42, 45, 21, 5, 182, 1, 53, 21, 7, 5, 160, 0, 12, 45]
abbrev dktX0_decades_6 : List UInt8 := dkwX0_decades_6 ++ dktX0_decades_7
def dkwX0_decades_5 : List UInt8 := [54, 5, 42, 16, 8, 182, 1, 198, 54, 6, 42, 7, 182, 1, 198, 54, 7, 21, 7, 5, 162, 0, 21, 45]
abbrev dktX0_decades_5 : List UInt8 := dkwX0_decades_5 ++ dktX0_decades_6
def dkwX0_decades_4 : List UInt8 := [162, 0, 92, 45, 180, 0, 200, 17, 3, 231, 162, 0, 82, 42, 42, 180, 0, 39, 180, 0, 127, 182, 1, 198]
abbrev dktX0_decades_4 : List UInt8 := dkwX0_decades_4 ++ dktX0_decades_5
def dkwX0_decades_3 : List UInt8 := [181, 1, 195, 42, 180, 0, 109, 78, 45, 42, 182, 0, 156, 182, 1, 47, 3, 54, 4, 21, 4, 28]
abbrev dktX0_decades_3 : List UInt8 := dkwX0_decades_3 ++ dktX0_decades_4
def dkwX0_decades_2 : List UInt8 := [181, 1, 186, 42, 42, 180, 0, 39, 180, 0, 127, 181, 0, 112, 42, 42, 180, 0, 39, 180, 0, 124]
abbrev dktX0_decades_2 : List UInt8 := dkwX0_decades_2 ++ dktX0_decades_3
def dkwX0_decades_1 : List UInt8 := [182, 0, 130, 172, 42, 180, 0, 39, 180, 0, 127, 154, 0, 10, 42, 16, 253, 182, 0, 130, 172, 42, 27]
abbrev dktX0_decades_1 : List UInt8 := dkwX0_decades_1 ++ dktX0_decades_2
def dkwX0_decades_0 : List UInt8 := [27, 3, 19, 1, 76, 184, 0, 26, 153, 0, 13, 28, 4, 16, 60, 184, 0, 26, 154, 0, 9, 42, 2]
abbrev dktX0_decades_0 : List UInt8 := dkwX0_decades_0 ++ dktX0_decades_1
theorem dksX0_decades_0 : cX0_decades.data.toList.drop 0 = dktX0_decades_0 := by decide +kernel
theorem dksX0_decades_1 : cX0_decades.data.toList.drop 23 = dktX0_decades_1 := dk_seg dksX0_decades_0 23 rfl rfl
theorem dksX0_decades_2 : cX0_decades.data.toList.drop 46 = dktX0_decades_2 := dk_seg dksX0_decades_1 23 rfl rfl
theorem dksX0_decades_3 : cX0_decades.data.toList.drop 68 = dktX0_decades_3 := dk_seg dksX0_decades_2 22 rfl rfl
theorem dksX0_decades_4 : cX0_decades.data.toList.drop 90 = dktX0_decades_4 := dk_seg dksX0_decades_3 22 rfl rfl
theorem dksX0_decades_5 : cX0_decades.data.toList.drop 114 = dktX0_decades_5 := dk_seg dksX0_decades_4 24 rfl rfl
theorem dksX0_decades_6 : cX0_decades.data.toList.drop 138 = dktX0_decades_6 := dk_seg dksX0_decades_5 24 rfl rfl
theorem dksX0_decades_7 : cX0_decades.data.toList.drop 162 = dktX0_decades_7 := dk_seg dksX0_decades_6 24 rfl rfl
theorem dksX0_decades_8 : cX0_decades.data.toList.drop 185 = dktX0_decades_8 := dk_seg dksX0_decades_7 23 rfl rfl
theorem dX0_decades_0 : decode cX0_decades 0 = .ok (.iload_n 1, 1) := dk_27 (dk_at dksX0_decades_0 0 rfl rfl)
theorem dX0_decades_1 : decode cX0_decades 1 = .ok (.iconst 0, 1) := dk_3 (dk_at dksX0_decades_0 1 rfl rfl)
theorem dX0_decades_2 : decode cX0_decades 2 = .ok (.ldc_w 332, 3) := dk_19 1 76 (dk_at dksX0_decades_0 2 rfl rfl)
theorem dX0_decades_5 : decode cX0_decades 5 = .ok (.invokestatic 26, 3) := dk_184 0 26 (dk_at dksX0_decades_0 5 rfl rfl)
theorem dX0_decades_8 : decode cX0_decades 8 = .ok (.ifCond .eq 13, 3) := dk_153 0 13 (dk_at dksX0_decades_0 8 rfl rfl)
theorem dX0_decades_11 : decode cX0_decades 11 = .ok (.iload_n 2, 1) := dk_28 (dk_at dksX0_decades_0 11 rfl rfl)
theorem dX0_decades_12 : decode cX0_decades 12 = .ok (.iconst 1, 1) := dk_4 (dk_at dksX0_decades_0 12 rfl rfl)
theorem dX0_decades_13 : decode cX0_decades 13 = .ok (.bipush 60, 2) := dk_16 60 (dk_at dksX0_decades_0 13 rfl rfl)
theorem dX0_decades_15 : decode cX0_decades 15 = .ok (.invokestatic 26, 3) := dk_184 0 26 (dk_at dksX0_decades_0 15 rfl rfl)
theorem dX0_decades_18 : decode cX0_decades 18 = .ok (.ifCond .ne 9, 3) := dk_154 0 9 (dk_at dksX0_decades_0 18 rfl rfl)
theorem dX0_decades_21 : decode cX0_decades 21 = .ok (.aload_n 0, 1) := dk_42 (dk_at dksX0_decades_0 21 rfl rfl)
theorem dX0_decades_22 : decode cX0_decades 22 = .ok (.iconst (-1), 1) := dk_2 (dk_at dksX0_decades_0 22 rfl rfl)
theorem dX0_decades_23 : decode cX0_decades 23 = .ok (.invokevirtual 130, 3) := dk_182 0 130 (dk_at dksX0_decades_1 0 rfl rfl)
theorem dX0_decades_26 : decode cX0_decades 26 = .ok (.ireturn, 1) := dk_172 (dk_at dksX0_decades_1 3 rfl rfl)
theorem dX0_decades_27 : decode cX0_decades 27 = .ok (.aload_n 0, 1) := dk_42 (dk_at dksX0_decades_1 4 rfl rfl)
theorem dX0_decades_28 : decode cX0_decades 28 = .ok (.getfield 39, 3) := dk_180 0 39 (dk_at dksX0_decades_1 5 rfl rfl)
theorem dX0_decades_31 : decode cX0_decades 31 = .ok (.getfield 127, 3) := dk_180 0 127 (dk_at dksX0_decades_1 8 rfl rfl)
theorem dX0_decades_34 : decode cX0_decades 34 = .ok (.ifCond .ne 10, 3) := dk_154 0 10 (dk_at dksX0_decades_1 11 rfl rfl)
theorem dX0_decades_37 : decode cX0_decades 37 = .ok (.aload_n 0, 1) := dk_42 (dk_at dksX0_decades_1 14 rfl rfl)
theorem dX0_decades_38 : decode cX0_decades 38 = .ok (.bipush (-3), 2) := dk_16 253 (dk_at dksX0_decades_1 15 rfl rfl)
theorem dX0_decades_40 : decode cX0_decades 40 = .ok (.invokevirtual 130, 3) := dk_182 0 130 (dk_at dksX0_decades_1 17 rfl rfl)
theorem dX0_decades_43 : decode cX0_decades 43 = .ok (.ireturn, 1) := dk_172 (dk_at dksX0_decades_1 20 rfl rfl)
theorem dX0_decades_44 : decode cX0_decades 44 = .ok (.aload_n 0, 1) := dk_42 (dk_at dksX0_decades_1 21 rfl rfl)
theorem dX0_decades_45 : decode cX0_decades 45 = .ok (.iload_n 1, 1) := dk_27 (dk_at dksX0_decades_1 22 rfl rfl)
theorem dX0_decades_46 : decode cX0_decades 46 = .ok (.putfield 442, 3) := dk_181 1 186 (dk_at dksX0_decades_2 0 rfl rfl)
theorem dX0_decades_49 : decode cX0_decades 49 = .ok (.aload_n 0, 1) := dk_42 (dk_at dksX0_decades_2 3 rfl rfl)
theorem dX0_decades_50 : decode cX0_decades 50 = .ok (.aload_n 0, 1) := dk_42 (dk_at dksX0_decades_2 4 rfl rfl)
theorem dX0_decades_51 : decode cX0_decades 51 = .ok (.getfield 39, 3) := dk_180 0 39 (dk_at dksX0_decades_2 5 rfl rfl)
theorem dX0_decades_54 : decode cX0_decades 54 = .ok (.getfield 127, 3) := dk_180 0 127 (dk_at dksX0_decades_2 8 rfl rfl)
theorem dX0_decades_57 : decode cX0_decades 57 = .ok (.putfield 112, 3) := dk_181 0 112 (dk_at dksX0_decades_2 11 rfl rfl)
theorem dX0_decades_60 : decode cX0_decades 60 = .ok (.aload_n 0, 1) := dk_42 (dk_at dksX0_decades_2 14 rfl rfl)
theorem dX0_decades_61 : decode cX0_decades 61 = .ok (.aload_n 0, 1) := dk_42 (dk_at dksX0_decades_2 15 rfl rfl)
theorem dX0_decades_62 : decode cX0_decades 62 = .ok (.getfield 39, 3) := dk_180 0 39 (dk_at dksX0_decades_2 16 rfl rfl)
theorem dX0_decades_65 : decode cX0_decades 65 = .ok (.getfield 124, 3) := dk_180 0 124 (dk_at dksX0_decades_2 19 rfl rfl)
theorem dX0_decades_68 : decode cX0_decades 68 = .ok (.putfield 451, 3) := dk_181 1 195 (dk_at dksX0_decades_3 0 rfl rfl)
theorem dX0_decades_71 : decode cX0_decades 71 = .ok (.aload_n 0, 1) := dk_42 (dk_at dksX0_decades_3 3 rfl rfl)
theorem dX0_decades_72 : decode cX0_decades 72 = .ok (.getfield 109, 3) := dk_180 0 109 (dk_at dksX0_decades_3 4 rfl rfl)
theorem dX0_decades_75 : decode cX0_decades 75 = .ok (.astore_n 3, 1) := dk_78 (dk_at dksX0_decades_3 7 rfl rfl)
theorem dX0_decades_76 : decode cX0_decades 76 = .ok (.aload_n 3, 1) := dk_45 (dk_at dksX0_decades_3 8 rfl rfl)
theorem dX0_decades_77 : decode cX0_decades 77 = .ok (.aload_n 0, 1) := dk_42 (dk_at dksX0_decades_3 9 rfl rfl)
theorem dX0_decades_78 : decode cX0_decades 78 = .ok (.invokevirtual 156, 3) := dk_182 0 156 (dk_at dksX0_decades_3 10 rfl rfl)
theorem dX0_decades_81 : decode cX0_decades 81 = .ok (.invokevirtual 303, 3) := dk_182 1 47 (dk_at dksX0_decades_3 13 rfl rfl)
theorem dX0_decades_84 : decode cX0_decades 84 = .ok (.iconst 0, 1) := dk_3 (dk_at dksX0_decades_3 16 rfl rfl)
theorem dX0_decades_85 : decode cX0_decades 85 = .ok (.istore 4, 2) := dk_54 4 (dk_at dksX0_decades_3 17 rfl rfl)
theorem dX0_decades_87 : decode cX0_decades 87 = .ok (.iload 4, 2) := dk_21 4 (dk_at dksX0_decades_3 19 rfl rfl)
theorem dX0_decades_89 : decode cX0_decades 89 = .ok (.iload_n 2, 1) := dk_28 (dk_at dksX0_decades_3 21 rfl rfl)
theorem dX0_decades_90 : decode cX0_decades 90 = .ok (.if_icmp .ge 92, 3) := dk_162 0 92 (dk_at dksX0_decades_4 0 rfl rfl)
theorem dX0_decades_93 : decode cX0_decades 93 = .ok (.aload_n 3, 1) := dk_45 (dk_at dksX0_decades_4 3 rfl rfl)
theorem dX0_decades_94 : decode cX0_decades 94 = .ok (.getfield 200, 3) := dk_180 0 200 (dk_at dksX0_decades_4 4 rfl rfl)
theorem dX0_decades_97 : decode cX0_decades 97 = .ok (.sipush 999, 3) := dk_17 3 231 (dk_at dksX0_decades_4 7 rfl rfl)
theorem dX0_decades_100 : decode cX0_decades 100 = .ok (.if_icmp .ge 82, 3) := dk_162 0 82 (dk_at dksX0_decades_4 10 rfl rfl)
theorem dX0_decades_103 : decode cX0_decades 103 = .ok (.aload_n 0, 1) := dk_42 (dk_at dksX0_decades_4 13 rfl rfl)
theorem dX0_decades_104 : decode cX0_decades 104 = .ok (.aload_n 0, 1) := dk_42 (dk_at dksX0_decades_4 14 rfl rfl)
theorem dX0_decades_105 : decode cX0_decades 105 = .ok (.getfield 39, 3) := dk_180 0 39 (dk_at dksX0_decades_4 15 rfl rfl)
theorem dX0_decades_108 : decode cX0_decades 108 = .ok (.getfield 127, 3) := dk_180 0 127 (dk_at dksX0_decades_4 18 rfl rfl)
theorem dX0_decades_111 : decode cX0_decades 111 = .ok (.invokevirtual 454, 3) := dk_182 1 198 (dk_at dksX0_decades_4 21 rfl rfl)
theorem dX0_decades_114 : decode cX0_decades 114 = .ok (.istore 5, 2) := dk_54 5 (dk_at dksX0_decades_5 0 rfl rfl)
theorem dX0_decades_116 : decode cX0_decades 116 = .ok (.aload_n 0, 1) := dk_42 (dk_at dksX0_decades_5 2 rfl rfl)
theorem dX0_decades_117 : decode cX0_decades 117 = .ok (.bipush 8, 2) := dk_16 8 (dk_at dksX0_decades_5 3 rfl rfl)
theorem dX0_decades_119 : decode cX0_decades 119 = .ok (.invokevirtual 454, 3) := dk_182 1 198 (dk_at dksX0_decades_5 5 rfl rfl)
theorem dX0_decades_122 : decode cX0_decades 122 = .ok (.istore 6, 2) := dk_54 6 (dk_at dksX0_decades_5 8 rfl rfl)
theorem dX0_decades_124 : decode cX0_decades 124 = .ok (.aload_n 0, 1) := dk_42 (dk_at dksX0_decades_5 10 rfl rfl)
theorem dX0_decades_125 : decode cX0_decades 125 = .ok (.iconst 4, 1) := dk_7 (dk_at dksX0_decades_5 11 rfl rfl)
theorem dX0_decades_126 : decode cX0_decades 126 = .ok (.invokevirtual 454, 3) := dk_182 1 198 (dk_at dksX0_decades_5 12 rfl rfl)
theorem dX0_decades_129 : decode cX0_decades 129 = .ok (.istore 7, 2) := dk_54 7 (dk_at dksX0_decades_5 15 rfl rfl)
theorem dX0_decades_131 : decode cX0_decades 131 = .ok (.iload 7, 2) := dk_21 7 (dk_at dksX0_decades_5 17 rfl rfl)
theorem dX0_decades_133 : decode cX0_decades 133 = .ok (.iconst 2, 1) := dk_5 (dk_at dksX0_decades_5 19 rfl rfl)
theorem dX0_decades_134 : decode cX0_decades 134 = .ok (.if_icmp .ge 21, 3) := dk_162 0 21 (dk_at dksX0_decades_5 20 rfl rfl)
theorem dX0_decades_137 : decode cX0_decades 137 = .ok (.aload_n 3, 1) := dk_45 (dk_at dksX0_decades_5 23 rfl rfl)
theorem dX0_decades_138 : decode cX0_decades 138 = .ok (.getfield 179, 3) := dk_180 0 179 (dk_at dksX0_decades_6 0 rfl rfl)
theorem dX0_decades_141 : decode cX0_decades 141 = .ok (.iload 5, 2) := dk_21 5 (dk_at dksX0_decades_6 3 rfl rfl)
theorem dX0_decades_143 : decode cX0_decades 143 = .ok (.iaload, 1) := dk_46 (dk_at dksX0_decades_6 5 rfl rfl)
theorem dX0_decades_144 : decode cX0_decades 144 = .ok (.iconst (-1), 1) := dk_2 (dk_at dksX0_decades_6 6 rfl rfl)
theorem dX0_decades_145 : decode cX0_decades 145 = .ok (.if_icmp .eq 10, 3) := dk_159 0 10 (dk_at dksX0_decades_6 7 rfl rfl)
theorem dX0_decades_148 : decode cX0_decades 148 = .ok (.aload_n 0, 1) := dk_42 (dk_at dksX0_decades_6 10 rfl rfl)
theorem dX0_decades_149 : decode cX0_decades 149 = .ok (.aload_n 3, 1) := dk_45 (dk_at dksX0_decades_6 11 rfl rfl)
theorem dX0_decades_150 : decode cX0_decades 150 = .ok (.iload 5, 2) := dk_21 5 (dk_at dksX0_decades_6 12 rfl rfl)
theorem dX0_decades_152 : decode cX0_decades 152 = .ok (.invokevirtual 309, 3) := dk_182 1 53 (dk_at dksX0_decades_6 14 rfl rfl)
theorem dX0_decades_155 : decode cX0_decades 155 = .ok (.iload 7, 2) := dk_21 7 (dk_at dksX0_decades_6 17 rfl rfl)
theorem dX0_decades_157 : decode cX0_decades 157 = .ok (.iconst 2, 1) := dk_5 (dk_at dksX0_decades_6 19 rfl rfl)
theorem dX0_decades_158 : decode cX0_decades 158 = .ok (.if_icmp .ne 12, 3) := dk_160 0 12 (dk_at dksX0_decades_6 20 rfl rfl)
theorem dX0_decades_161 : decode cX0_decades 161 = .ok (.aload_n 3, 1) := dk_45 (dk_at dksX0_decades_6 23 rfl rfl)
theorem dX0_decades_162 : decode cX0_decades 162 = .ok (.getfield 176, 3) := dk_180 0 176 (dk_at dksX0_decades_7 0 rfl rfl)
theorem dX0_decades_165 : decode cX0_decades 165 = .ok (.iload 5, 2) := dk_21 5 (dk_at dksX0_decades_7 3 rfl rfl)
theorem dX0_decades_167 : decode cX0_decades 167 = .ok (.iload 6, 2) := dk_21 6 (dk_at dksX0_decades_7 5 rfl rfl)
theorem dX0_decades_169 : decode cX0_decades 169 = .ok (.iastore, 1) := dk_79 (dk_at dksX0_decades_7 7 rfl rfl)
theorem dX0_decades_170 : decode cX0_decades 170 = .ok (.aload_n 0, 1) := dk_42 (dk_at dksX0_decades_7 8 rfl rfl)
theorem dX0_decades_171 : decode cX0_decades 171 = .ok (.aload_n 3, 1) := dk_45 (dk_at dksX0_decades_7 9 rfl rfl)
theorem dX0_decades_172 : decode cX0_decades 172 = .ok (.invokevirtual 313, 3) := dk_182 1 57 (dk_at dksX0_decades_7 10 rfl rfl)
theorem dX0_decades_175 : decode cX0_decades 175 = .ok (.pop, 1) := dk_87 (dk_at dksX0_decades_7 13 rfl rfl)
theorem dX0_decades_176 : decode cX0_decades 176 = .ok (.iinc 4 1, 3) := dk_132 4 1 (dk_at dksX0_decades_7 14 rfl rfl)
theorem dX0_decades_179 : decode cX0_decades 179 = .ok (.goto (-92), 3) := dk_167 255 164 (dk_at dksX0_decades_7 17 rfl rfl)
theorem dX0_decades_182 : decode cX0_decades 182 = .ok (.aload_n 0, 1) := dk_42 (dk_at dksX0_decades_7 20 rfl rfl)
theorem dX0_decades_183 : decode cX0_decades 183 = .ok (.aload_n 3, 1) := dk_45 (dk_at dksX0_decades_7 21 rfl rfl)
theorem dX0_decades_184 : decode cX0_decades 184 = .ok (.aload_n 0, 1) := dk_42 (dk_at dksX0_decades_7 22 rfl rfl)
theorem dX0_decades_185 : decode cX0_decades 185 = .ok (.getfield 39, 3) := dk_180 0 39 (dk_at dksX0_decades_8 0 rfl rfl)
theorem dX0_decades_188 : decode cX0_decades 188 = .ok (.getfield 124, 3) := dk_180 0 124 (dk_at dksX0_decades_8 3 rfl rfl)
theorem dX0_decades_191 : decode cX0_decades 191 = .ok (.invokevirtual 439, 3) := dk_182 1 183 (dk_at dksX0_decades_8 6 rfl rfl)
theorem dX0_decades_194 : decode cX0_decades 194 = .ok (.invokevirtual 121, 3) := dk_182 0 121 (dk_at dksX0_decades_8 9 rfl rfl)
theorem dX0_decades_197 : decode cX0_decades 197 = .ok (.ireturn, 1) := dk_172 (dk_at dksX0_decades_8 12 rfl rfl)
abbrev cX0_draw : ByteArray := prog_1_method_88_code
def yX0_draw : MethodName := ⟨RX0, "draw", "(I)I"⟩
def dkwX0_draw_1 : List UInt8 := [180, 1, 186, 27, 112, 172]
abbrev dktX0_draw_1 : List UInt8 := dkwX0_draw_1 ++ []
def dkwX0_draw_0 : List UInt8 := [42, 42, 180, 1, 186, 133, 20, 1, 189, 105, 20, 1, 191, 97, 20, 1, 193, 113, 136, 181, 1, 186, 42]
abbrev dktX0_draw_0 : List UInt8 := dkwX0_draw_0 ++ dktX0_draw_1
theorem dksX0_draw_0 : cX0_draw.data.toList.drop 0 = dktX0_draw_0 := by decide +kernel
theorem dksX0_draw_1 : cX0_draw.data.toList.drop 23 = dktX0_draw_1 := dk_seg dksX0_draw_0 23 rfl rfl
theorem dX0_draw_0 : decode cX0_draw 0 = .ok (.aload_n 0, 1) := dk_42 (dk_at dksX0_draw_0 0 rfl rfl)
theorem dX0_draw_1 : decode cX0_draw 1 = .ok (.aload_n 0, 1) := dk_42 (dk_at dksX0_draw_0 1 rfl rfl)
theorem dX0_draw_2 : decode cX0_draw 2 = .ok (.getfield 442, 3) := dk_180 1 186 (dk_at dksX0_draw_0 2 rfl rfl)
theorem dX0_draw_5 : decode cX0_draw 5 = .ok (.i2l, 1) := dk_133 (dk_at dksX0_draw_0 5 rfl rfl)
theorem dX0_draw_6 : decode cX0_draw 6 = .ok (.ldc2_w 445, 3) := dk_20 1 189 (dk_at dksX0_draw_0 6 rfl rfl)
theorem dX0_draw_9 : decode cX0_draw 9 = .ok (.lmul, 1) := dk_105 (dk_at dksX0_draw_0 9 rfl rfl)
theorem dX0_draw_10 : decode cX0_draw 10 = .ok (.ldc2_w 447, 3) := dk_20 1 191 (dk_at dksX0_draw_0 10 rfl rfl)
theorem dX0_draw_13 : decode cX0_draw 13 = .ok (.ladd, 1) := dk_97 (dk_at dksX0_draw_0 13 rfl rfl)
theorem dX0_draw_14 : decode cX0_draw 14 = .ok (.ldc2_w 449, 3) := dk_20 1 193 (dk_at dksX0_draw_0 14 rfl rfl)
theorem dX0_draw_17 : decode cX0_draw 17 = .ok (.lrem, 1) := dk_113 (dk_at dksX0_draw_0 17 rfl rfl)
theorem dX0_draw_18 : decode cX0_draw 18 = .ok (.l2i, 1) := dk_136 (dk_at dksX0_draw_0 18 rfl rfl)
theorem dX0_draw_19 : decode cX0_draw 19 = .ok (.putfield 442, 3) := dk_181 1 186 (dk_at dksX0_draw_0 19 rfl rfl)
theorem dX0_draw_22 : decode cX0_draw 22 = .ok (.aload_n 0, 1) := dk_42 (dk_at dksX0_draw_0 22 rfl rfl)
theorem dX0_draw_23 : decode cX0_draw 23 = .ok (.getfield 442, 3) := dk_180 1 186 (dk_at dksX0_draw_1 0 rfl rfl)
theorem dX0_draw_26 : decode cX0_draw 26 = .ok (.iload_n 1, 1) := dk_27 (dk_at dksX0_draw_1 3 rfl rfl)
theorem dX0_draw_27 : decode cX0_draw 27 = .ok (.irem, 1) := dk_112 (dk_at dksX0_draw_1 4 rfl rfl)
theorem dX0_draw_28 : decode cX0_draw 28 = .ok (.ireturn, 1) := dk_172 (dk_at dksX0_draw_1 5 rfl rfl)
abbrev cX0_drawn : ByteArray := prog_1_method_90_code
def yX0_drawn : MethodName := ⟨RX0, "drawn", "(II)I"⟩
def dkwX0_drawn_2 : List UInt8 := [42, 180, 0, 109, 180, 0, 176, 27, 46, 167, 0, 12, 42, 180, 0, 109, 180, 0, 159, 27, 46, 172]
abbrev dktX0_drawn_2 : List UInt8 := dkwX0_drawn_2 ++ []
def dkwX0_drawn_1 : List UInt8 := [180, 0, 112, 167, 0, 7, 42, 180, 1, 195, 4, 100, 184, 0, 26, 154, 0, 5, 2, 172, 28, 154, 0, 15]
abbrev dktX0_drawn_1 : List UInt8 := dkwX0_drawn_1 ++ dktX0_drawn_2
def dkwX0_drawn_0 : List UInt8 := [42, 180, 0, 112, 2, 159, 0, 37, 28, 3, 4, 184, 0, 26, 153, 0, 28, 27, 3, 28, 154, 0, 10, 42]
abbrev dktX0_drawn_0 : List UInt8 := dkwX0_drawn_0 ++ dktX0_drawn_1
theorem dksX0_drawn_0 : cX0_drawn.data.toList.drop 0 = dktX0_drawn_0 := by decide +kernel
theorem dksX0_drawn_1 : cX0_drawn.data.toList.drop 24 = dktX0_drawn_1 := dk_seg dksX0_drawn_0 24 rfl rfl
theorem dksX0_drawn_2 : cX0_drawn.data.toList.drop 48 = dktX0_drawn_2 := dk_seg dksX0_drawn_1 24 rfl rfl
theorem dX0_drawn_0 : decode cX0_drawn 0 = .ok (.aload_n 0, 1) := dk_42 (dk_at dksX0_drawn_0 0 rfl rfl)
theorem dX0_drawn_1 : decode cX0_drawn 1 = .ok (.getfield 112, 3) := dk_180 0 112 (dk_at dksX0_drawn_0 1 rfl rfl)
theorem dX0_drawn_4 : decode cX0_drawn 4 = .ok (.iconst (-1), 1) := dk_2 (dk_at dksX0_drawn_0 4 rfl rfl)
theorem dX0_drawn_5 : decode cX0_drawn 5 = .ok (.if_icmp .eq 37, 3) := dk_159 0 37 (dk_at dksX0_drawn_0 5 rfl rfl)
theorem dX0_drawn_8 : decode cX0_drawn 8 = .ok (.iload_n 2, 1) := dk_28 (dk_at dksX0_drawn_0 8 rfl rfl)
theorem dX0_drawn_9 : decode cX0_drawn 9 = .ok (.iconst 0, 1) := dk_3 (dk_at dksX0_drawn_0 9 rfl rfl)
theorem dX0_drawn_10 : decode cX0_drawn 10 = .ok (.iconst 1, 1) := dk_4 (dk_at dksX0_drawn_0 10 rfl rfl)
theorem dX0_drawn_11 : decode cX0_drawn 11 = .ok (.invokestatic 26, 3) := dk_184 0 26 (dk_at dksX0_drawn_0 11 rfl rfl)
theorem dX0_drawn_14 : decode cX0_drawn 14 = .ok (.ifCond .eq 28, 3) := dk_153 0 28 (dk_at dksX0_drawn_0 14 rfl rfl)
theorem dX0_drawn_17 : decode cX0_drawn 17 = .ok (.iload_n 1, 1) := dk_27 (dk_at dksX0_drawn_0 17 rfl rfl)
theorem dX0_drawn_18 : decode cX0_drawn 18 = .ok (.iconst 0, 1) := dk_3 (dk_at dksX0_drawn_0 18 rfl rfl)
theorem dX0_drawn_19 : decode cX0_drawn 19 = .ok (.iload_n 2, 1) := dk_28 (dk_at dksX0_drawn_0 19 rfl rfl)
theorem dX0_drawn_20 : decode cX0_drawn 20 = .ok (.ifCond .ne 10, 3) := dk_154 0 10 (dk_at dksX0_drawn_0 20 rfl rfl)
theorem dX0_drawn_23 : decode cX0_drawn 23 = .ok (.aload_n 0, 1) := dk_42 (dk_at dksX0_drawn_0 23 rfl rfl)
theorem dX0_drawn_24 : decode cX0_drawn 24 = .ok (.getfield 112, 3) := dk_180 0 112 (dk_at dksX0_drawn_1 0 rfl rfl)
theorem dX0_drawn_27 : decode cX0_drawn 27 = .ok (.goto 7, 3) := dk_167 0 7 (dk_at dksX0_drawn_1 3 rfl rfl)
theorem dX0_drawn_30 : decode cX0_drawn 30 = .ok (.aload_n 0, 1) := dk_42 (dk_at dksX0_drawn_1 6 rfl rfl)
theorem dX0_drawn_31 : decode cX0_drawn 31 = .ok (.getfield 451, 3) := dk_180 1 195 (dk_at dksX0_drawn_1 7 rfl rfl)
theorem dX0_drawn_34 : decode cX0_drawn 34 = .ok (.iconst 1, 1) := dk_4 (dk_at dksX0_drawn_1 10 rfl rfl)
theorem dX0_drawn_35 : decode cX0_drawn 35 = .ok (.isub, 1) := dk_100 (dk_at dksX0_drawn_1 11 rfl rfl)
theorem dX0_drawn_36 : decode cX0_drawn 36 = .ok (.invokestatic 26, 3) := dk_184 0 26 (dk_at dksX0_drawn_1 12 rfl rfl)
theorem dX0_drawn_39 : decode cX0_drawn 39 = .ok (.ifCond .ne 5, 3) := dk_154 0 5 (dk_at dksX0_drawn_1 15 rfl rfl)
theorem dX0_drawn_42 : decode cX0_drawn 42 = .ok (.iconst (-1), 1) := dk_2 (dk_at dksX0_drawn_1 18 rfl rfl)
theorem dX0_drawn_43 : decode cX0_drawn 43 = .ok (.ireturn, 1) := dk_172 (dk_at dksX0_drawn_1 19 rfl rfl)
theorem dX0_drawn_44 : decode cX0_drawn 44 = .ok (.iload_n 2, 1) := dk_28 (dk_at dksX0_drawn_1 20 rfl rfl)
theorem dX0_drawn_45 : decode cX0_drawn 45 = .ok (.ifCond .ne 15, 3) := dk_154 0 15 (dk_at dksX0_drawn_1 21 rfl rfl)
theorem dX0_drawn_48 : decode cX0_drawn 48 = .ok (.aload_n 0, 1) := dk_42 (dk_at dksX0_drawn_2 0 rfl rfl)
theorem dX0_drawn_49 : decode cX0_drawn 49 = .ok (.getfield 109, 3) := dk_180 0 109 (dk_at dksX0_drawn_2 1 rfl rfl)
theorem dX0_drawn_52 : decode cX0_drawn 52 = .ok (.getfield 176, 3) := dk_180 0 176 (dk_at dksX0_drawn_2 4 rfl rfl)
theorem dX0_drawn_55 : decode cX0_drawn 55 = .ok (.iload_n 1, 1) := dk_27 (dk_at dksX0_drawn_2 7 rfl rfl)
theorem dX0_drawn_56 : decode cX0_drawn 56 = .ok (.iaload, 1) := dk_46 (dk_at dksX0_drawn_2 8 rfl rfl)
theorem dX0_drawn_57 : decode cX0_drawn 57 = .ok (.goto 12, 3) := dk_167 0 12 (dk_at dksX0_drawn_2 9 rfl rfl)
theorem dX0_drawn_60 : decode cX0_drawn 60 = .ok (.aload_n 0, 1) := dk_42 (dk_at dksX0_drawn_2 12 rfl rfl)
theorem dX0_drawn_61 : decode cX0_drawn 61 = .ok (.getfield 109, 3) := dk_180 0 109 (dk_at dksX0_drawn_2 13 rfl rfl)
theorem dX0_drawn_64 : decode cX0_drawn 64 = .ok (.getfield 159, 3) := dk_180 0 159 (dk_at dksX0_drawn_2 16 rfl rfl)
theorem dX0_drawn_67 : decode cX0_drawn 67 = .ok (.iload_n 1, 1) := dk_27 (dk_at dksX0_drawn_2 19 rfl rfl)
theorem dX0_drawn_68 : decode cX0_drawn 68 = .ok (.iaload, 1) := dk_46 (dk_at dksX0_drawn_2 20 rfl rfl)
theorem dX0_drawn_69 : decode cX0_drawn 69 = .ok (.ireturn, 1) := dk_172 (dk_at dksX0_drawn_2 21 rfl rfl)
abbrev cX0_count : ByteArray := prog_1_method_91_code
def yX0_count : MethodName := ⟨RX0, "count", "(I)I"⟩
def dkwX0_count_6 : List UInt8 := [172, 42, 180, 0, 39, 180, 0, 203, 172, 42, 180, 0, 39, 180, 0, 206, 172, 2, 172]
abbrev dktX0_count_6 : List UInt8 := dkwX0_count_6 ++ []
def dkwX0_count_5 : List UInt8 := [42, 180, 0, 7, 27, 8, 100, 46, 172, 42, 180, 0, 39, 180, 1, 7, 172, 42, 182, 0, 156, 180, 0, 200]
abbrev dktX0_count_5 : List UInt8 := dkwX0_count_5 ++ dktX0_count_6
def dkwX0_count_4 : List UInt8 := [182, 0, 233, 172, 42, 180, 0, 118, 172, 42, 180, 0, 209, 172, 42, 180, 0, 7, 27, 16, 6, 100, 46, 172]
abbrev dktX0_count_4 : List UInt8 := dkwX0_count_4 ++ dktX0_count_5
def dkwX0_count_3 : List UInt8 := [180, 0, 124, 182, 1, 183, 172, 42, 180, 0, 39, 180, 1, 102, 172, 42, 180, 0, 39, 180, 0, 229]
abbrev dktX0_count_3 : List UInt8 := dkwX0_count_3 ++ dktX0_count_4
def dkwX0_count_2 : List UInt8 := [42, 180, 0, 39, 180, 0, 124, 172, 42, 180, 0, 39, 180, 0, 127, 172, 42, 182, 0, 156, 42, 180, 0, 39]
abbrev dktX0_count_2 : List UInt8 := dkwX0_count_2 ++ dktX0_count_3
def dkwX0_count_1 : List UInt8 := [170, 0, 0, 0, 0, 0, 190, 0, 0, 0, 0, 0, 0, 0, 15, 0, 0, 0, 79, 0, 0, 0, 87, 0, 0, 0, 95, 0, 0, 0, 110, 0, 0, 0, 118, 0, 0, 0, 129, 0, 0, 0, 134, 0, 0, 0, 139, 0, 0, 0, 139, 0, 0, 0, 139, 0, 0, 0, 149, 0, 0, 0, 149, 0, 0, 0, 158, 0, 0, 0, 166, 0, 0, 0, 174, 0, 0, 0, 182]
abbrev dktX0_count_1 : List UInt8 := dkwX0_count_1 ++ dktX0_count_2
def dkwX0_count_0 : List UInt8 := [27]
abbrev dktX0_count_0 : List UInt8 := dkwX0_count_0 ++ dktX0_count_1
theorem dksX0_count_0 : cX0_count.data.toList.drop 0 = dktX0_count_0 := by decide +kernel
theorem dksX0_count_1 : cX0_count.data.toList.drop 1 = dktX0_count_1 := dk_seg dksX0_count_0 1 rfl rfl
theorem dksX0_count_2 : cX0_count.data.toList.drop 80 = dktX0_count_2 := dk_seg dksX0_count_1 79 rfl rfl
theorem dksX0_count_3 : cX0_count.data.toList.drop 104 = dktX0_count_3 := dk_seg dksX0_count_2 24 rfl rfl
theorem dksX0_count_4 : cX0_count.data.toList.drop 126 = dktX0_count_4 := dk_seg dksX0_count_3 22 rfl rfl
theorem dksX0_count_5 : cX0_count.data.toList.drop 150 = dktX0_count_5 := dk_seg dksX0_count_4 24 rfl rfl
theorem dksX0_count_6 : cX0_count.data.toList.drop 174 = dktX0_count_6 := dk_seg dksX0_count_5 24 rfl rfl
theorem dX0_count_0 : decode cX0_count 0 = .ok (.iload_n 1, 1) := dk_27 (dk_at dksX0_count_0 0 rfl rfl)
theorem dX0_count_1 : decode cX0_count 1 = .ok (.tableswitch 190 0 15 #[79, 87, 95, 110, 118, 129, 134, 139, 139, 139, 149, 149, 158, 166, 174, 182], 79) := by decide +kernel
theorem dX0_count_80 : decode cX0_count 80 = .ok (.aload_n 0, 1) := dk_42 (dk_at dksX0_count_2 0 rfl rfl)
theorem dX0_count_81 : decode cX0_count 81 = .ok (.getfield 39, 3) := dk_180 0 39 (dk_at dksX0_count_2 1 rfl rfl)
theorem dX0_count_84 : decode cX0_count 84 = .ok (.getfield 124, 3) := dk_180 0 124 (dk_at dksX0_count_2 4 rfl rfl)
theorem dX0_count_87 : decode cX0_count 87 = .ok (.ireturn, 1) := dk_172 (dk_at dksX0_count_2 7 rfl rfl)
theorem dX0_count_88 : decode cX0_count 88 = .ok (.aload_n 0, 1) := dk_42 (dk_at dksX0_count_2 8 rfl rfl)
theorem dX0_count_89 : decode cX0_count 89 = .ok (.getfield 39, 3) := dk_180 0 39 (dk_at dksX0_count_2 9 rfl rfl)
theorem dX0_count_92 : decode cX0_count 92 = .ok (.getfield 127, 3) := dk_180 0 127 (dk_at dksX0_count_2 12 rfl rfl)
theorem dX0_count_95 : decode cX0_count 95 = .ok (.ireturn, 1) := dk_172 (dk_at dksX0_count_2 15 rfl rfl)
theorem dX0_count_96 : decode cX0_count 96 = .ok (.aload_n 0, 1) := dk_42 (dk_at dksX0_count_2 16 rfl rfl)
theorem dX0_count_97 : decode cX0_count 97 = .ok (.invokevirtual 156, 3) := dk_182 0 156 (dk_at dksX0_count_2 17 rfl rfl)
theorem dX0_count_100 : decode cX0_count 100 = .ok (.aload_n 0, 1) := dk_42 (dk_at dksX0_count_2 20 rfl rfl)
theorem dX0_count_101 : decode cX0_count 101 = .ok (.getfield 39, 3) := dk_180 0 39 (dk_at dksX0_count_2 21 rfl rfl)
theorem dX0_count_104 : decode cX0_count 104 = .ok (.getfield 124, 3) := dk_180 0 124 (dk_at dksX0_count_3 0 rfl rfl)
theorem dX0_count_107 : decode cX0_count 107 = .ok (.invokevirtual 439, 3) := dk_182 1 183 (dk_at dksX0_count_3 3 rfl rfl)
theorem dX0_count_110 : decode cX0_count 110 = .ok (.ireturn, 1) := dk_172 (dk_at dksX0_count_3 6 rfl rfl)
theorem dX0_count_111 : decode cX0_count 111 = .ok (.aload_n 0, 1) := dk_42 (dk_at dksX0_count_3 7 rfl rfl)
theorem dX0_count_112 : decode cX0_count 112 = .ok (.getfield 39, 3) := dk_180 0 39 (dk_at dksX0_count_3 8 rfl rfl)
theorem dX0_count_115 : decode cX0_count 115 = .ok (.getfield 358, 3) := dk_180 1 102 (dk_at dksX0_count_3 11 rfl rfl)
theorem dX0_count_118 : decode cX0_count 118 = .ok (.ireturn, 1) := dk_172 (dk_at dksX0_count_3 14 rfl rfl)
theorem dX0_count_119 : decode cX0_count 119 = .ok (.aload_n 0, 1) := dk_42 (dk_at dksX0_count_3 15 rfl rfl)
theorem dX0_count_120 : decode cX0_count 120 = .ok (.getfield 39, 3) := dk_180 0 39 (dk_at dksX0_count_3 16 rfl rfl)
theorem dX0_count_123 : decode cX0_count 123 = .ok (.getfield 229, 3) := dk_180 0 229 (dk_at dksX0_count_3 19 rfl rfl)
theorem dX0_count_126 : decode cX0_count 126 = .ok (.invokevirtual 233, 3) := dk_182 0 233 (dk_at dksX0_count_4 0 rfl rfl)
theorem dX0_count_129 : decode cX0_count 129 = .ok (.ireturn, 1) := dk_172 (dk_at dksX0_count_4 3 rfl rfl)
theorem dX0_count_130 : decode cX0_count 130 = .ok (.aload_n 0, 1) := dk_42 (dk_at dksX0_count_4 4 rfl rfl)
theorem dX0_count_131 : decode cX0_count 131 = .ok (.getfield 118, 3) := dk_180 0 118 (dk_at dksX0_count_4 5 rfl rfl)
theorem dX0_count_134 : decode cX0_count 134 = .ok (.ireturn, 1) := dk_172 (dk_at dksX0_count_4 8 rfl rfl)
theorem dX0_count_135 : decode cX0_count 135 = .ok (.aload_n 0, 1) := dk_42 (dk_at dksX0_count_4 9 rfl rfl)
theorem dX0_count_136 : decode cX0_count 136 = .ok (.getfield 209, 3) := dk_180 0 209 (dk_at dksX0_count_4 10 rfl rfl)
theorem dX0_count_139 : decode cX0_count 139 = .ok (.ireturn, 1) := dk_172 (dk_at dksX0_count_4 13 rfl rfl)
theorem dX0_count_140 : decode cX0_count 140 = .ok (.aload_n 0, 1) := dk_42 (dk_at dksX0_count_4 14 rfl rfl)
theorem dX0_count_141 : decode cX0_count 141 = .ok (.getfield 7, 3) := dk_180 0 7 (dk_at dksX0_count_4 15 rfl rfl)
theorem dX0_count_144 : decode cX0_count 144 = .ok (.iload_n 1, 1) := dk_27 (dk_at dksX0_count_4 18 rfl rfl)
theorem dX0_count_145 : decode cX0_count 145 = .ok (.bipush 6, 2) := dk_16 6 (dk_at dksX0_count_4 19 rfl rfl)
theorem dX0_count_147 : decode cX0_count 147 = .ok (.isub, 1) := dk_100 (dk_at dksX0_count_4 21 rfl rfl)
theorem dX0_count_148 : decode cX0_count 148 = .ok (.iaload, 1) := dk_46 (dk_at dksX0_count_4 22 rfl rfl)
theorem dX0_count_149 : decode cX0_count 149 = .ok (.ireturn, 1) := dk_172 (dk_at dksX0_count_4 23 rfl rfl)
theorem dX0_count_150 : decode cX0_count 150 = .ok (.aload_n 0, 1) := dk_42 (dk_at dksX0_count_5 0 rfl rfl)
theorem dX0_count_151 : decode cX0_count 151 = .ok (.getfield 7, 3) := dk_180 0 7 (dk_at dksX0_count_5 1 rfl rfl)
theorem dX0_count_154 : decode cX0_count 154 = .ok (.iload_n 1, 1) := dk_27 (dk_at dksX0_count_5 4 rfl rfl)
theorem dX0_count_155 : decode cX0_count 155 = .ok (.iconst 5, 1) := dk_8 (dk_at dksX0_count_5 5 rfl rfl)
theorem dX0_count_156 : decode cX0_count 156 = .ok (.isub, 1) := dk_100 (dk_at dksX0_count_5 6 rfl rfl)
theorem dX0_count_157 : decode cX0_count 157 = .ok (.iaload, 1) := dk_46 (dk_at dksX0_count_5 7 rfl rfl)
theorem dX0_count_158 : decode cX0_count 158 = .ok (.ireturn, 1) := dk_172 (dk_at dksX0_count_5 8 rfl rfl)
theorem dX0_count_159 : decode cX0_count 159 = .ok (.aload_n 0, 1) := dk_42 (dk_at dksX0_count_5 9 rfl rfl)
theorem dX0_count_160 : decode cX0_count 160 = .ok (.getfield 39, 3) := dk_180 0 39 (dk_at dksX0_count_5 10 rfl rfl)
theorem dX0_count_163 : decode cX0_count 163 = .ok (.getfield 263, 3) := dk_180 1 7 (dk_at dksX0_count_5 13 rfl rfl)
theorem dX0_count_166 : decode cX0_count 166 = .ok (.ireturn, 1) := dk_172 (dk_at dksX0_count_5 16 rfl rfl)
theorem dX0_count_167 : decode cX0_count 167 = .ok (.aload_n 0, 1) := dk_42 (dk_at dksX0_count_5 17 rfl rfl)
theorem dX0_count_168 : decode cX0_count 168 = .ok (.invokevirtual 156, 3) := dk_182 0 156 (dk_at dksX0_count_5 18 rfl rfl)
theorem dX0_count_171 : decode cX0_count 171 = .ok (.getfield 200, 3) := dk_180 0 200 (dk_at dksX0_count_5 21 rfl rfl)
theorem dX0_count_174 : decode cX0_count 174 = .ok (.ireturn, 1) := dk_172 (dk_at dksX0_count_6 0 rfl rfl)
theorem dX0_count_175 : decode cX0_count 175 = .ok (.aload_n 0, 1) := dk_42 (dk_at dksX0_count_6 1 rfl rfl)
theorem dX0_count_176 : decode cX0_count 176 = .ok (.getfield 39, 3) := dk_180 0 39 (dk_at dksX0_count_6 2 rfl rfl)
theorem dX0_count_179 : decode cX0_count 179 = .ok (.getfield 203, 3) := dk_180 0 203 (dk_at dksX0_count_6 5 rfl rfl)
theorem dX0_count_182 : decode cX0_count 182 = .ok (.ireturn, 1) := dk_172 (dk_at dksX0_count_6 8 rfl rfl)
theorem dX0_count_183 : decode cX0_count 183 = .ok (.aload_n 0, 1) := dk_42 (dk_at dksX0_count_6 9 rfl rfl)
theorem dX0_count_184 : decode cX0_count 184 = .ok (.getfield 39, 3) := dk_180 0 39 (dk_at dksX0_count_6 10 rfl rfl)
theorem dX0_count_187 : decode cX0_count 187 = .ok (.getfield 206, 3) := dk_180 0 206 (dk_at dksX0_count_6 13 rfl rfl)
theorem dX0_count_190 : decode cX0_count 190 = .ok (.ireturn, 1) := dk_172 (dk_at dksX0_count_6 16 rfl rfl)
theorem dX0_count_191 : decode cX0_count 191 = .ok (.iconst (-1), 1) := dk_2 (dk_at dksX0_count_6 17 rfl rfl)
theorem dX0_count_192 : decode cX0_count 192 = .ok (.ireturn, 1) := dk_172 (dk_at dksX0_count_6 18 rfl rfl)
abbrev cX0_status : ByteArray := prog_1_method_92_code
def yX0_status : MethodName := ⟨RX0, "status", "()I"⟩
theorem dX0_status_0 : decode cX0_status 0 = .ok (.aload_n 0, 1) := by decide +kernel
theorem dX0_status_1 : decode cX0_status 1 = .ok (.getfield 3, 3) := by decide +kernel
theorem dX0_status_4 : decode cX0_status 4 = .ok (.ireturn, 1) := by decide +kernel
theorem q119 : (Jvm.Cond.initialized "LostLanes") ∈ lw_all := lw_g (lw_at lw_m1 1 rfl) rfl
theorem q156 : (Jvm.Cond.instantiable "LostLanes" (28 : Nat)) ∈ lw_all := lw_g (lw_at lw_m1 38 rfl) rfl
theorem q158 : (Jvm.Cond.instanceMethod ({ cls := "LostLanes", name := "<init>", desc := "()V" } : Jvm.MethodName)) ∈ lw_all := lw_g (lw_at lw_m1 40 rfl) rfl
theorem q159 : (Jvm.Cond.code ({ cls := "LostLanes", name := "<init>", desc := "()V" } : Jvm.MethodName) prog_1_method_8_code (2 : Nat) (Option.none : Option Jvm.ClassFile.FieldType)) ∈ lw_all := lw_g (lw_at lw_m1 41 rfl) rfl
theorem q160 : (Jvm.Cond.methodLink "LostLanes" (30 : Nat) ({ cls := "java/lang/Object", name := "<init>", desc := "()V" } : Jvm.MethodName)) ∈ lw_all := lw_g (lw_at lw_m1 42 rfl) rfl
theorem q163 : (Jvm.Cond.classLink "LostLanes" (36 : Nat) "LostLanes$State") ∈ lw_all := lw_g (lw_at lw_m1 45 rfl) rfl
theorem q165 : (Jvm.Cond.methodLinkNest "LostLanes" (38 : Nat) ({ cls := "LostLanes$State", name := "<init>", desc := "()V" } : Jvm.MethodName) "LostLanes") ∈ lw_tbl := lw_at lw_m1 47 rfl
theorem q176 : (Jvm.Cond.fieldLinkNest "LostLanes" (176 : Nat) "LostLanes$Table" "corner" "[I" "LostLanes") ∈ lw_tbl := lw_at lw_m1 58 rfl
theorem q178 : (Jvm.Cond.fieldLinkNest "LostLanes" (179 : Nat) "LostLanes$Table" "last" "[I" "LostLanes") ∈ lw_tbl := lw_at lw_m1 60 rfl
theorem q180 : (Jvm.Cond.fieldLinkNest "LostLanes" (159 : Nat) "LostLanes$Table" "name" "[I" "LostLanes") ∈ lw_tbl := lw_at lw_m1 62 rfl
theorem q182 : (Jvm.Cond.fieldLinkNest "LostLanes" (200 : Nat) "LostLanes$Table" "now" "I" "LostLanes") ∈ lw_tbl := lw_at lw_m1 64 rfl
theorem q222 : (Jvm.Cond.fieldLinkNest "LostLanes" (115 : Nat) "LostLanes$State" "table" "LLostLanes$Table;" "LostLanes") ∈ lw_tbl := lw_at lw_m1 104 rfl
theorem q224 : (Jvm.Cond.fieldLinkNest "LostLanes" (144 : Nat) "LostLanes$State" "one" "[I" "LostLanes") ∈ lw_tbl := lw_at lw_m1 106 rfl
theorem q226 : (Jvm.Cond.fieldLinkNest "LostLanes" (147 : Nat) "LostLanes$State" "other" "[I" "LostLanes") ∈ lw_tbl := lw_at lw_m1 108 rfl
theorem q228 : (Jvm.Cond.fieldLinkNest "LostLanes" (150 : Nat) "LostLanes$State" "length" "[I" "LostLanes") ∈ lw_tbl := lw_at lw_m1 110 rfl
theorem q230 : (Jvm.Cond.fieldLinkNest "LostLanes" (153 : Nat) "LostLanes$State" "sight" "[I" "LostLanes") ∈ lw_tbl := lw_at lw_m1 112 rfl
theorem q232 : (Jvm.Cond.fieldLinkNest "LostLanes" (173 : Nat) "LostLanes$State" "age" "[I" "LostLanes") ∈ lw_tbl := lw_at lw_m1 114 rfl
theorem q234 : (Jvm.Cond.fieldLinkNest "LostLanes" (361 : Nat) "LostLanes$State" "heard" "[I" "LostLanes") ∈ lw_tbl := lw_at lw_m1 116 rfl
theorem q236 : (Jvm.Cond.fieldLinkNest "LostLanes" (229 : Nat) "LostLanes$State" "laws" "Ljava/util/ArrayList;" "LostLanes") ∈ lw_tbl := lw_at lw_m1 118 rfl
theorem q238 : (Jvm.Cond.fieldLinkNest "LostLanes" (124 : Nat) "LostLanes$State" "lanes" "I" "LostLanes") ∈ lw_tbl := lw_at lw_m1 120 rfl
theorem q240 : (Jvm.Cond.fieldLinkNest "LostLanes" (127 : Nat) "LostLanes$State" "children" "I" "LostLanes") ∈ lw_tbl := lw_at lw_m1 122 rfl
theorem q242 : (Jvm.Cond.fieldLinkNest "LostLanes" (358 : Nat) "LostLanes$State" "heardMany" "I" "LostLanes") ∈ lw_tbl := lw_at lw_m1 124 rfl
theorem q244 : (Jvm.Cond.fieldLinkNest "LostLanes" (203 : Nat) "LostLanes$State" "cries" "I" "LostLanes") ∈ lw_tbl := lw_at lw_m1 126 rfl
theorem q246 : (Jvm.Cond.fieldLinkNest "LostLanes" (206 : Nat) "LostLanes$State" "mood" "I" "LostLanes") ∈ lw_tbl := lw_at lw_m1 128 rfl
theorem q248 : (Jvm.Cond.fieldLinkNest "LostLanes" (263 : Nat) "LostLanes$State" "force" "I" "LostLanes") ∈ lw_tbl := lw_at lw_m1 130 rfl
theorem q279 : (Jvm.Cond.classLink "LostLanes" (47 : Nat) "LostLanes$Table") ∈ lw_all := lw_g (lw_at lw_m1 161 rfl) rfl
theorem q281 : (Jvm.Cond.methodLinkNest "LostLanes" (62 : Nat) ({ cls := "LostLanes$Table", name := "<init>", desc := "()V" } : Jvm.MethodName) "LostLanes") ∈ lw_tbl := lw_at lw_m1 163 rfl
theorem q282 : (Jvm.Cond.classLink "LostLanes" (80 : Nat) "LostLanes$Setting") ∈ lw_all := lw_g (lw_at lw_m1 164 rfl) rfl
theorem q284 : (Jvm.Cond.methodLinkNest "LostLanes" (82 : Nat) ({ cls := "LostLanes$Setting", name := "<init>", desc := "()V" } : Jvm.MethodName) "LostLanes") ∈ lw_tbl := lw_at lw_m1 166 rfl
theorem q353 : (Jvm.Cond.fieldLinkNest "LostLanes" (268 : Nat) "LostLanes$Setting" "values" "[J" "LostLanes") ∈ lw_tbl := lw_at lw_m1 235 rfl
theorem q360 : (Jvm.Cond.fieldLink "LostLanes" (3 : Nat) "LostLanes" "status" "I") ∈ lw_all := lw_g (lw_at lw_m2 2 rfl) rfl
theorem q361 : (Jvm.Cond.fieldLink "LostLanes" (7 : Nat) "LostLanes" "refused" "[I") ∈ lw_all := lw_g (lw_at lw_m2 3 rfl) rfl
theorem q362 : (Jvm.Cond.fieldLink "LostLanes" (39 : Nat) "LostLanes" "state" "LLostLanes$State;") ∈ lw_all := lw_g (lw_at lw_m2 4 rfl) rfl
theorem q363 : (Jvm.Cond.fieldLink "LostLanes" (43 : Nat) "LostLanes" "images" "[LLostLanes$State;") ∈ lw_all := lw_g (lw_at lw_m2 5 rfl) rfl
theorem q364 : (Jvm.Cond.fieldLink "LostLanes" (49 : Nat) "LostLanes" "undone" "[LLostLanes$Table;") ∈ lw_all := lw_g (lw_at lw_m2 6 rfl) rfl
theorem q365 : (Jvm.Cond.fieldLink "LostLanes" (53 : Nat) "LostLanes" "ordersUndone" "[LLostLanes$Table;") ∈ lw_all := lw_g (lw_at lw_m2 7 rfl) rfl
theorem q366 : (Jvm.Cond.fieldLink "LostLanes" (56 : Nat) "LostLanes" "undoneWhat" "[I") ∈ lw_all := lw_g (lw_at lw_m2 8 rfl) rfl
theorem q367 : (Jvm.Cond.fieldLink "LostLanes" (59 : Nat) "LostLanes" "ordersWhat" "[I") ∈ lw_all := lw_g (lw_at lw_m2 9 rfl) rfl
theorem q368 : (Jvm.Cond.fieldLink "LostLanes" (63 : Nat) "LostLanes" "ahead" "LLostLanes$Table;") ∈ lw_all := lw_g (lw_at lw_m2 10 rfl) rfl
theorem q369 : (Jvm.Cond.fieldLink "LostLanes" (67 : Nat) "LostLanes" "tried" "LLostLanes$Table;") ∈ lw_all := lw_g (lw_at lw_m2 11 rfl) rfl
theorem q370 : (Jvm.Cond.fieldLink "LostLanes" (70 : Nat) "LostLanes" "tape" "[B") ∈ lw_all := lw_g (lw_at lw_m2 12 rfl) rfl
theorem q371 : (Jvm.Cond.fieldLink "LostLanes" (209 : Nat) "LostLanes" "taped" "I") ∈ lw_all := lw_g (lw_at lw_m2 13 rfl) rfl
theorem q372 : (Jvm.Cond.fieldLink "LostLanes" (74 : Nat) "LostLanes" "fault" "I") ∈ lw_all := lw_g (lw_at lw_m2 14 rfl) rfl
theorem q373 : (Jvm.Cond.fieldLink "LostLanes" (216 : Nat) "LostLanes" "gravel" "I") ∈ lw_all := lw_g (lw_at lw_m2 15 rfl) rfl
theorem q374 : (Jvm.Cond.fieldLink "LostLanes" (77 : Nat) "LostLanes" "stopped" "I") ∈ lw_all := lw_g (lw_at lw_m2 16 rfl) rfl
theorem q375 : (Jvm.Cond.fieldLink "LostLanes" (118 : Nat) "LostLanes" "undoMany" "I") ∈ lw_all := lw_g (lw_at lw_m2 17 rfl) rfl
theorem q376 : (Jvm.Cond.fieldLink "LostLanes" (83 : Nat) "LostLanes" "setting" "LLostLanes$Setting;") ∈ lw_all := lw_g (lw_at lw_m2 18 rfl) rfl
theorem q377 : (Jvm.Cond.fieldLink "LostLanes" (87 : Nat) "LostLanes" "may" "[I") ∈ lw_all := lw_g (lw_at lw_m2 19 rfl) rfl
theorem q378 : (Jvm.Cond.fieldLink "LostLanes" (90 : Nat) "LostLanes" "going" "[I") ∈ lw_all := lw_g (lw_at lw_m2 20 rfl) rfl
theorem q379 : (Jvm.Cond.fieldLink "LostLanes" (93 : Nat) "LostLanes" "far" "[I") ∈ lw_all := lw_g (lw_at lw_m2 21 rfl) rfl
theorem q380 : (Jvm.Cond.fieldLink "LostLanes" (96 : Nat) "LostLanes" "ways" "[I") ∈ lw_all := lw_g (lw_at lw_m2 22 rfl) rfl
theorem q381 : (Jvm.Cond.fieldLink "LostLanes" (99 : Nat) "LostLanes" "waysThen" "[I") ∈ lw_all := lw_g (lw_at lw_m2 23 rfl) rfl
theorem q382 : (Jvm.Cond.fieldLink "LostLanes" (102 : Nat) "LostLanes" "colour" "[I") ∈ lw_all := lw_g (lw_at lw_m2 24 rfl) rfl
theorem q383 : (Jvm.Cond.fieldLink "LostLanes" (105 : Nat) "LostLanes" "shares" "[J") ∈ lw_all := lw_g (lw_at lw_m2 25 rfl) rfl
theorem q384 : (Jvm.Cond.fieldLink "LostLanes" (109 : Nat) "LostLanes" "drawnTable" "LLostLanes$Table;") ∈ lw_all := lw_g (lw_at lw_m2 26 rfl) rfl
theorem q385 : (Jvm.Cond.fieldLink "LostLanes" (112 : Nat) "LostLanes" "drawnChildren" "I") ∈ lw_all := lw_g (lw_at lw_m2 27 rfl) rfl
theorem q386 : (Jvm.Cond.fieldLink "LostLanes" (451 : Nat) "LostLanes" "drawnLanes" "I") ∈ lw_all := lw_g (lw_at lw_m2 28 rfl) rfl
theorem q387 : (Jvm.Cond.fieldLink "LostLanes" (442 : Nat) "LostLanes" "drawn" "I") ∈ lw_all := lw_g (lw_at lw_m2 29 rfl) rfl
theorem q388 : (Jvm.Cond.lays "LostLanes" "LostLanes" "status" "I") ∈ lw_all := lw_g (lw_at lw_m2 30 rfl) rfl
theorem q389 : (Jvm.Cond.soleField "LostLanes" "status") ∈ lw_all := lw_g (lw_at lw_m2 31 rfl) rfl
theorem q390 : (Jvm.Cond.laysFinal "LostLanes" "LostLanes" "refused" "[I") ∈ lw_all := lw_g (lw_at lw_m2 32 rfl) rfl
theorem q391 : (Jvm.Cond.soleField "LostLanes" "refused") ∈ lw_all := lw_g (lw_at lw_m2 33 rfl) rfl
theorem q392 : (Jvm.Cond.laysFinal "LostLanes" "LostLanes" "state" "LLostLanes$State;") ∈ lw_all := lw_g (lw_at lw_m2 34 rfl) rfl
theorem q393 : (Jvm.Cond.soleField "LostLanes" "state") ∈ lw_all := lw_g (lw_at lw_m2 35 rfl) rfl
theorem q394 : (Jvm.Cond.laysFinal "LostLanes" "LostLanes" "images" "[LLostLanes$State;") ∈ lw_all := lw_g (lw_at lw_m2 36 rfl) rfl
theorem q395 : (Jvm.Cond.soleField "LostLanes" "images") ∈ lw_all := lw_g (lw_at lw_m2 37 rfl) rfl
theorem q396 : (Jvm.Cond.laysFinal "LostLanes" "LostLanes" "undone" "[LLostLanes$Table;") ∈ lw_all := lw_g (lw_at lw_m2 38 rfl) rfl
theorem q397 : (Jvm.Cond.soleField "LostLanes" "undone") ∈ lw_all := lw_g (lw_at lw_m2 39 rfl) rfl
theorem q398 : (Jvm.Cond.laysFinal "LostLanes" "LostLanes" "ordersUndone" "[LLostLanes$Table;") ∈ lw_all := lw_g (lw_at lw_m2 40 rfl) rfl
theorem q399 : (Jvm.Cond.soleField "LostLanes" "ordersUndone") ∈ lw_all := lw_g (lw_at lw_m2 41 rfl) rfl
theorem q400 : (Jvm.Cond.laysFinal "LostLanes" "LostLanes" "undoneWhat" "[I") ∈ lw_all := lw_g (lw_at lw_m2 42 rfl) rfl
theorem q401 : (Jvm.Cond.soleField "LostLanes" "undoneWhat") ∈ lw_all := lw_g (lw_at lw_m2 43 rfl) rfl
theorem q402 : (Jvm.Cond.laysFinal "LostLanes" "LostLanes" "ordersWhat" "[I") ∈ lw_all := lw_g (lw_at lw_m2 44 rfl) rfl
theorem q403 : (Jvm.Cond.soleField "LostLanes" "ordersWhat") ∈ lw_all := lw_g (lw_at lw_m2 45 rfl) rfl
theorem q404 : (Jvm.Cond.laysFinal "LostLanes" "LostLanes" "ahead" "LLostLanes$Table;") ∈ lw_all := lw_g (lw_at lw_m2 46 rfl) rfl
theorem q405 : (Jvm.Cond.soleField "LostLanes" "ahead") ∈ lw_all := lw_g (lw_at lw_m2 47 rfl) rfl
theorem q406 : (Jvm.Cond.laysFinal "LostLanes" "LostLanes" "tried" "LLostLanes$Table;") ∈ lw_all := lw_g (lw_at lw_m2 48 rfl) rfl
theorem q407 : (Jvm.Cond.soleField "LostLanes" "tried") ∈ lw_all := lw_g (lw_at lw_m2 49 rfl) rfl
theorem q408 : (Jvm.Cond.laysFinal "LostLanes" "LostLanes" "tape" "[B") ∈ lw_all := lw_g (lw_at lw_m2 50 rfl) rfl
theorem q409 : (Jvm.Cond.soleField "LostLanes" "tape") ∈ lw_all := lw_g (lw_at lw_m2 51 rfl) rfl
theorem q410 : (Jvm.Cond.lays "LostLanes" "LostLanes" "taped" "I") ∈ lw_all := lw_g (lw_at lw_m2 52 rfl) rfl
theorem q411 : (Jvm.Cond.soleField "LostLanes" "taped") ∈ lw_all := lw_g (lw_at lw_m2 53 rfl) rfl
theorem q412 : (Jvm.Cond.lays "LostLanes" "LostLanes" "fault" "I") ∈ lw_all := lw_g (lw_at lw_m2 54 rfl) rfl
theorem q413 : (Jvm.Cond.soleField "LostLanes" "fault") ∈ lw_all := lw_g (lw_at lw_m2 55 rfl) rfl
theorem q414 : (Jvm.Cond.lays "LostLanes" "LostLanes" "gravel" "I") ∈ lw_all := lw_g (lw_at lw_m2 56 rfl) rfl
theorem q415 : (Jvm.Cond.soleField "LostLanes" "gravel") ∈ lw_all := lw_g (lw_at lw_m2 57 rfl) rfl
theorem q416 : (Jvm.Cond.lays "LostLanes" "LostLanes" "stopped" "I") ∈ lw_all := lw_g (lw_at lw_m2 58 rfl) rfl
theorem q417 : (Jvm.Cond.soleField "LostLanes" "stopped") ∈ lw_all := lw_g (lw_at lw_m2 59 rfl) rfl
theorem q418 : (Jvm.Cond.lays "LostLanes" "LostLanes" "undoMany" "I") ∈ lw_all := lw_g (lw_at lw_m2 60 rfl) rfl
theorem q419 : (Jvm.Cond.soleField "LostLanes" "undoMany") ∈ lw_all := lw_g (lw_at lw_m2 61 rfl) rfl
theorem q420 : (Jvm.Cond.laysFinal "LostLanes" "LostLanes" "setting" "LLostLanes$Setting;") ∈ lw_all := lw_g (lw_at lw_m2 62 rfl) rfl
theorem q421 : (Jvm.Cond.soleField "LostLanes" "setting") ∈ lw_all := lw_g (lw_at lw_m2 63 rfl) rfl
theorem q422 : (Jvm.Cond.laysFinal "LostLanes" "LostLanes" "may" "[I") ∈ lw_all := lw_g (lw_at lw_m2 64 rfl) rfl
theorem q423 : (Jvm.Cond.soleField "LostLanes" "may") ∈ lw_all := lw_g (lw_at lw_m2 65 rfl) rfl
theorem q424 : (Jvm.Cond.laysFinal "LostLanes" "LostLanes" "going" "[I") ∈ lw_all := lw_g (lw_at lw_m2 66 rfl) rfl
theorem q425 : (Jvm.Cond.soleField "LostLanes" "going") ∈ lw_all := lw_g (lw_at lw_m2 67 rfl) rfl
theorem q426 : (Jvm.Cond.laysFinal "LostLanes" "LostLanes" "far" "[I") ∈ lw_all := lw_g (lw_at lw_m2 68 rfl) rfl
theorem q427 : (Jvm.Cond.soleField "LostLanes" "far") ∈ lw_all := lw_g (lw_at lw_m2 69 rfl) rfl
theorem q428 : (Jvm.Cond.laysFinal "LostLanes" "LostLanes" "ways" "[I") ∈ lw_all := lw_g (lw_at lw_m2 70 rfl) rfl
theorem q429 : (Jvm.Cond.soleField "LostLanes" "ways") ∈ lw_all := lw_g (lw_at lw_m2 71 rfl) rfl
theorem q430 : (Jvm.Cond.laysFinal "LostLanes" "LostLanes" "waysThen" "[I") ∈ lw_all := lw_g (lw_at lw_m2 72 rfl) rfl
theorem q431 : (Jvm.Cond.soleField "LostLanes" "waysThen") ∈ lw_all := lw_g (lw_at lw_m2 73 rfl) rfl
theorem q432 : (Jvm.Cond.laysFinal "LostLanes" "LostLanes" "colour" "[I") ∈ lw_all := lw_g (lw_at lw_m2 74 rfl) rfl
theorem q433 : (Jvm.Cond.soleField "LostLanes" "colour") ∈ lw_all := lw_g (lw_at lw_m2 75 rfl) rfl
theorem q434 : (Jvm.Cond.laysFinal "LostLanes" "LostLanes" "shares" "[J") ∈ lw_all := lw_g (lw_at lw_m2 76 rfl) rfl
theorem q435 : (Jvm.Cond.soleField "LostLanes" "shares") ∈ lw_all := lw_g (lw_at lw_m2 77 rfl) rfl
theorem q436 : (Jvm.Cond.laysFinal "LostLanes" "LostLanes" "drawnTable" "LLostLanes$Table;") ∈ lw_all := lw_g (lw_at lw_m2 78 rfl) rfl
theorem q437 : (Jvm.Cond.soleField "LostLanes" "drawnTable") ∈ lw_all := lw_g (lw_at lw_m2 79 rfl) rfl
theorem q438 : (Jvm.Cond.lays "LostLanes" "LostLanes" "drawnChildren" "I") ∈ lw_all := lw_g (lw_at lw_m2 80 rfl) rfl
theorem q439 : (Jvm.Cond.soleField "LostLanes" "drawnChildren") ∈ lw_all := lw_g (lw_at lw_m2 81 rfl) rfl
theorem q440 : (Jvm.Cond.lays "LostLanes" "LostLanes" "drawnLanes" "I") ∈ lw_all := lw_g (lw_at lw_m2 82 rfl) rfl
theorem q441 : (Jvm.Cond.soleField "LostLanes" "drawnLanes") ∈ lw_all := lw_g (lw_at lw_m2 83 rfl) rfl
theorem q442 : (Jvm.Cond.lays "LostLanes" "LostLanes" "drawn" "I") ∈ lw_all := lw_g (lw_at lw_m2 84 rfl) rfl
theorem q443 : (Jvm.Cond.soleField "LostLanes" "drawn") ∈ lw_all := lw_g (lw_at lw_m2 85 rfl) rfl
theorem q444 : (Jvm.Cond.superclass "LostLanes" "java/lang/Object") ∈ lw_all := lw_g (lw_at lw_m2 86 rfl) rfl
theorem q446 : (Jvm.Cond.instanceMethod ({ cls := "LostLanes", name := "image", desc := "(I)I" } : Jvm.MethodName)) ∈ lw_all := lw_g (lw_at lw_m2 88 rfl) rfl
theorem q447 : (Jvm.Cond.selects "LostLanes" ({ cls := "LostLanes", name := "image", desc := "(I)I" } : Jvm.MethodName) ({ cls := "LostLanes", name := "image", desc := "(I)I" } : Jvm.MethodName)) ∈ lw_all := lw_g (lw_at lw_m2 89 rfl) rfl
theorem q448 : (Jvm.Cond.code ({ cls := "LostLanes", name := "image", desc := "(I)I" } : Jvm.MethodName) prog_1_method_13_code (2 : Nat) (Option.some Jvm.ClassFile.FieldType.int)) ∈ lw_all := lw_g (lw_at lw_m2 90 rfl) rfl
theorem q449 : (Jvm.Cond.methodLink "LostLanes" (26 : Nat) ({ cls := "LostLanes", name := "in", desc := "(III)Z" } : Jvm.MethodName)) ∈ lw_all := lw_g (lw_at lw_m2 91 rfl) rfl
theorem q450 : (Jvm.Cond.static ({ cls := "LostLanes", name := "in", desc := "(III)Z" } : Jvm.MethodName)) ∈ lw_all := lw_g (lw_at lw_m2 92 rfl) rfl
theorem q451 : (Jvm.Cond.code ({ cls := "LostLanes", name := "in", desc := "(III)Z" } : Jvm.MethodName) prog_1_method_3_code (3 : Nat) (Option.some Jvm.ClassFile.FieldType.boolean)) ∈ lw_all := lw_g (lw_at lw_m2 93 rfl) rfl
theorem q452 : (Jvm.Cond.methodLink "LostLanes" (130 : Nat) ({ cls := "LostLanes", name := "refuse", desc := "(I)I" } : Jvm.MethodName)) ∈ lw_all := lw_g (lw_at lw_m2 94 rfl) rfl
theorem q453 : (Jvm.Cond.privateMethod ({ cls := "LostLanes", name := "refuse", desc := "(I)I" } : Jvm.MethodName)) ∈ lw_tbl := lw_at lw_m2 95 rfl
theorem q454 : (Jvm.Cond.instanceMethod ({ cls := "LostLanes", name := "refuse", desc := "(I)I" } : Jvm.MethodName)) ∈ lw_all := lw_g (lw_at lw_m2 96 rfl) rfl
theorem q455 : (Jvm.Cond.code ({ cls := "LostLanes", name := "refuse", desc := "(I)I" } : Jvm.MethodName) prog_1_method_1_code (2 : Nat) (Option.some Jvm.ClassFile.FieldType.int)) ∈ lw_all := lw_g (lw_at lw_m2 97 rfl) rfl
theorem q456 : (Jvm.Cond.methodLink "LostLanes" (133 : Nat) ({ cls := "LostLanes$State", name := "takes", desc := "(LLostLanes$State;)V" } : Jvm.MethodName)) ∈ lw_all := lw_g (lw_at lw_m2 98 rfl) rfl
theorem q495 : (Jvm.Cond.selects "LostLanes" ({ cls := "java/lang/Object", name := "getClass", desc := "()Ljava/lang/Class;" } : Jvm.MethodName) ({ cls := "java/lang/Object", name := "getClass", desc := "()Ljava/lang/Class;" } : Jvm.MethodName)) ∈ lw_all := lw_g (lw_at lw_m2 137 rfl) rfl
theorem q542 : (Jvm.Cond.methodLink "LostLanes" (121 : Nat) ({ cls := "LostLanes", name := "done", desc := "(I)I" } : Jvm.MethodName)) ∈ lw_all := lw_g (lw_at lw_m2 184 rfl) rfl
theorem q543 : (Jvm.Cond.privateMethod ({ cls := "LostLanes", name := "done", desc := "(I)I" } : Jvm.MethodName)) ∈ lw_tbl := lw_at lw_m2 185 rfl
theorem q544 : (Jvm.Cond.instanceMethod ({ cls := "LostLanes", name := "done", desc := "(I)I" } : Jvm.MethodName)) ∈ lw_all := lw_g (lw_at lw_m2 186 rfl) rfl
theorem q545 : (Jvm.Cond.code ({ cls := "LostLanes", name := "done", desc := "(I)I" } : Jvm.MethodName) prog_1_method_2_code (2 : Nat) (Option.some Jvm.ClassFile.FieldType.int)) ∈ lw_all := lw_g (lw_at lw_m2 187 rfl) rfl
theorem q547 : (Jvm.Cond.instanceMethod ({ cls := "LostLanes", name := "back", desc := "(I)I" } : Jvm.MethodName)) ∈ lw_all := lw_g (lw_at lw_m2 189 rfl) rfl
theorem q548 : (Jvm.Cond.selects "LostLanes" ({ cls := "LostLanes", name := "back", desc := "(I)I" } : Jvm.MethodName) ({ cls := "LostLanes", name := "back", desc := "(I)I" } : Jvm.MethodName)) ∈ lw_all := lw_g (lw_at lw_m2 190 rfl) rfl
theorem q549 : (Jvm.Cond.code ({ cls := "LostLanes", name := "back", desc := "(I)I" } : Jvm.MethodName) prog_1_method_14_code (2 : Nat) (Option.some Jvm.ClassFile.FieldType.int)) ∈ lw_all := lw_g (lw_at lw_m2 191 rfl) rfl
theorem q550 : (Jvm.Cond.methodLink "LostLanes" (137 : Nat) ({ cls := "LostLanes", name := "settled", desc := "(I)I" } : Jvm.MethodName)) ∈ lw_all := lw_g (lw_at lw_m2 192 rfl) rfl
theorem q551 : (Jvm.Cond.privateMethod ({ cls := "LostLanes", name := "settled", desc := "(I)I" } : Jvm.MethodName)) ∈ lw_tbl := lw_at lw_m2 193 rfl
theorem q552 : (Jvm.Cond.instanceMethod ({ cls := "LostLanes", name := "settled", desc := "(I)I" } : Jvm.MethodName)) ∈ lw_all := lw_g (lw_at lw_m2 194 rfl) rfl
theorem q553 : (Jvm.Cond.code ({ cls := "LostLanes", name := "settled", desc := "(I)I" } : Jvm.MethodName) prog_1_method_10_code (2 : Nat) (Option.some Jvm.ClassFile.FieldType.int)) ∈ lw_all := lw_g (lw_at lw_m2 195 rfl) rfl
theorem q555 : (Jvm.Cond.instanceMethod ({ cls := "LostLanes", name := "lane", desc := "(IIII)I" } : Jvm.MethodName)) ∈ lw_all := lw_g (lw_at lw_m2 197 rfl) rfl
theorem q556 : (Jvm.Cond.selects "LostLanes" ({ cls := "LostLanes", name := "lane", desc := "(IIII)I" } : Jvm.MethodName) ({ cls := "LostLanes", name := "lane", desc := "(IIII)I" } : Jvm.MethodName)) ∈ lw_all := lw_g (lw_at lw_m2 198 rfl) rfl
theorem q557 : (Jvm.Cond.code ({ cls := "LostLanes", name := "lane", desc := "(IIII)I" } : Jvm.MethodName) prog_1_method_17_code (5 : Nat) (Option.some Jvm.ClassFile.FieldType.int)) ∈ lw_all := lw_g (lw_at lw_m2 199 rfl) rfl
theorem q558 : (Jvm.Cond.methodLink "LostLanes" (162 : Nat) ({ cls := "LostLanes", name := "canLane", desc := "(IIII)Z" } : Jvm.MethodName)) ∈ lw_all := lw_g (lw_at lw_m2 200 rfl) rfl
theorem q559 : (Jvm.Cond.static ({ cls := "LostLanes", name := "canLane", desc := "(IIII)Z" } : Jvm.MethodName)) ∈ lw_all := lw_g (lw_at lw_m2 201 rfl) rfl
theorem q560 : (Jvm.Cond.code ({ cls := "LostLanes", name := "canLane", desc := "(IIII)Z" } : Jvm.MethodName) prog_1_method_15_code (4 : Nat) (Option.some Jvm.ClassFile.FieldType.boolean)) ∈ lw_all := lw_g (lw_at lw_m2 202 rfl) rfl
theorem q561 : (Jvm.Cond.methodLink "LostLanes" (140 : Nat) ({ cls := "LostLanes", name := "isCorner", desc := "(I)Z" } : Jvm.MethodName)) ∈ lw_all := lw_g (lw_at lw_m2 203 rfl) rfl
theorem q562 : (Jvm.Cond.static ({ cls := "LostLanes", name := "isCorner", desc := "(I)Z" } : Jvm.MethodName)) ∈ lw_all := lw_g (lw_at lw_m2 204 rfl) rfl
theorem q563 : (Jvm.Cond.code ({ cls := "LostLanes", name := "isCorner", desc := "(I)Z" } : Jvm.MethodName) prog_1_method_7_code (1 : Nat) (Option.some Jvm.ClassFile.FieldType.boolean)) ∈ lw_all := lw_g (lw_at lw_m2 205 rfl) rfl
theorem q564 : (Jvm.Cond.methodLink "LostLanes" (166 : Nat) ({ cls := "LostLanes", name := "adds", desc := "(IIII)I" } : Jvm.MethodName)) ∈ lw_all := lw_g (lw_at lw_m2 206 rfl) rfl
theorem q565 : (Jvm.Cond.privateMethod ({ cls := "LostLanes", name := "adds", desc := "(IIII)I" } : Jvm.MethodName)) ∈ lw_tbl := lw_at lw_m2 207 rfl
theorem q566 : (Jvm.Cond.instanceMethod ({ cls := "LostLanes", name := "adds", desc := "(IIII)I" } : Jvm.MethodName)) ∈ lw_all := lw_g (lw_at lw_m2 208 rfl) rfl
theorem q567 : (Jvm.Cond.code ({ cls := "LostLanes", name := "adds", desc := "(IIII)I" } : Jvm.MethodName) prog_1_method_16_code (6 : Nat) (Option.some Jvm.ClassFile.FieldType.int)) ∈ lw_all := lw_g (lw_at lw_m2 209 rfl) rfl
theorem q568 : (Jvm.Cond.methodLink "LostLanes" (156 : Nat) ({ cls := "LostLanes", name := "table", desc := "()LLostLanes$Table;" } : Jvm.MethodName)) ∈ lw_all := lw_g (lw_at lw_m2 210 rfl) rfl
theorem q569 : (Jvm.Cond.privateMethod ({ cls := "LostLanes", name := "table", desc := "()LLostLanes$Table;" } : Jvm.MethodName)) ∈ lw_tbl := lw_at lw_m2 211 rfl
theorem q570 : (Jvm.Cond.instanceMethod ({ cls := "LostLanes", name := "table", desc := "()LLostLanes$Table;" } : Jvm.MethodName)) ∈ lw_all := lw_g (lw_at lw_m2 212 rfl) rfl
theorem q571 : (Jvm.Cond.code ({ cls := "LostLanes", name := "table", desc := "()LLostLanes$Table;" } : Jvm.MethodName) prog_1_method_9_code (1 : Nat) (Option.some (Jvm.ClassFile.FieldType.object "LostLanes$Table"))) ∈ lw_all := lw_g (lw_at lw_m2 213 rfl) rfl
theorem q573 : (Jvm.Cond.instanceMethod ({ cls := "LostLanes", name := "at", desc := "(II)I" } : Jvm.MethodName)) ∈ lw_all := lw_g (lw_at lw_m2 215 rfl) rfl
theorem q574 : (Jvm.Cond.selects "LostLanes" ({ cls := "LostLanes", name := "at", desc := "(II)I" } : Jvm.MethodName) ({ cls := "LostLanes", name := "at", desc := "(II)I" } : Jvm.MethodName)) ∈ lw_all := lw_g (lw_at lw_m2 216 rfl) rfl
theorem q575 : (Jvm.Cond.code ({ cls := "LostLanes", name := "at", desc := "(II)I" } : Jvm.MethodName) prog_1_method_18_code (3 : Nat) (Option.some Jvm.ClassFile.FieldType.int)) ∈ lw_all := lw_g (lw_at lw_m2 217 rfl) rfl
theorem q576 : (Jvm.Cond.methodLink "LostLanes" (170 : Nat) ({ cls := "LostLanes", name := "isLane", desc := "(I)Z" } : Jvm.MethodName)) ∈ lw_all := lw_g (lw_at lw_m2 218 rfl) rfl
theorem q577 : (Jvm.Cond.privateMethod ({ cls := "LostLanes", name := "isLane", desc := "(I)Z" } : Jvm.MethodName)) ∈ lw_tbl := lw_at lw_m2 219 rfl
theorem q578 : (Jvm.Cond.instanceMethod ({ cls := "LostLanes", name := "isLane", desc := "(I)Z" } : Jvm.MethodName)) ∈ lw_all := lw_g (lw_at lw_m2 220 rfl) rfl
theorem q579 : (Jvm.Cond.code ({ cls := "LostLanes", name := "isLane", desc := "(I)Z" } : Jvm.MethodName) prog_1_method_11_code (2 : Nat) (Option.some Jvm.ClassFile.FieldType.boolean)) ∈ lw_all := lw_g (lw_at lw_m2 221 rfl) rfl
theorem q581 : (Jvm.Cond.instanceMethod ({ cls := "LostLanes", name := "child", desc := "(II)I" } : Jvm.MethodName)) ∈ lw_all := lw_g (lw_at lw_m2 223 rfl) rfl
theorem q582 : (Jvm.Cond.selects "LostLanes" ({ cls := "LostLanes", name := "child", desc := "(II)I" } : Jvm.MethodName) ({ cls := "LostLanes", name := "child", desc := "(II)I" } : Jvm.MethodName)) ∈ lw_all := lw_g (lw_at lw_m2 224 rfl) rfl
theorem q583 : (Jvm.Cond.code ({ cls := "LostLanes", name := "child", desc := "(II)I" } : Jvm.MethodName) prog_1_method_19_code (4 : Nat) (Option.some Jvm.ClassFile.FieldType.int)) ∈ lw_all := lw_g (lw_at lw_m2 225 rfl) rfl
theorem q585 : (Jvm.Cond.instanceMethod ({ cls := "LostLanes", name := "of", desc := "(II)I" } : Jvm.MethodName)) ∈ lw_all := lw_g (lw_at lw_m2 227 rfl) rfl
theorem q586 : (Jvm.Cond.selects "LostLanes" ({ cls := "LostLanes", name := "of", desc := "(II)I" } : Jvm.MethodName) ({ cls := "LostLanes", name := "of", desc := "(II)I" } : Jvm.MethodName)) ∈ lw_all := lw_g (lw_at lw_m2 228 rfl) rfl
theorem q587 : (Jvm.Cond.code ({ cls := "LostLanes", name := "of", desc := "(II)I" } : Jvm.MethodName) prog_1_method_20_code (4 : Nat) (Option.some Jvm.ClassFile.FieldType.int)) ∈ lw_all := lw_g (lw_at lw_m2 229 rfl) rfl
theorem q588 : (Jvm.Cond.methodLink "LostLanes" (182 : Nat) ({ cls := "LostLanes", name := "isChild", desc := "(I)Z" } : Jvm.MethodName)) ∈ lw_all := lw_g (lw_at lw_m2 230 rfl) rfl
theorem q589 : (Jvm.Cond.privateMethod ({ cls := "LostLanes", name := "isChild", desc := "(I)Z" } : Jvm.MethodName)) ∈ lw_tbl := lw_at lw_m2 231 rfl
theorem q590 : (Jvm.Cond.instanceMethod ({ cls := "LostLanes", name := "isChild", desc := "(I)Z" } : Jvm.MethodName)) ∈ lw_all := lw_g (lw_at lw_m2 232 rfl) rfl
theorem q591 : (Jvm.Cond.code ({ cls := "LostLanes", name := "isChild", desc := "(I)Z" } : Jvm.MethodName) prog_1_method_12_code (2 : Nat) (Option.some Jvm.ClassFile.FieldType.boolean)) ∈ lw_all := lw_g (lw_at lw_m2 233 rfl) rfl
theorem q592 : (Jvm.Cond.methodLink "LostLanes" (185 : Nat) ({ cls := "LostLanes", name := "turns", desc := "(LLostLanes$Table;I)I" } : Jvm.MethodName)) ∈ lw_all := lw_g (lw_at lw_m2 234 rfl) rfl
theorem q593 : (Jvm.Cond.privateMethod ({ cls := "LostLanes", name := "turns", desc := "(LLostLanes$Table;I)I" } : Jvm.MethodName)) ∈ lw_tbl := lw_at lw_m2 235 rfl
theorem q594 : (Jvm.Cond.instanceMethod ({ cls := "LostLanes", name := "turns", desc := "(LLostLanes$Table;I)I" } : Jvm.MethodName)) ∈ lw_all := lw_g (lw_at lw_m2 236 rfl) rfl
theorem q595 : (Jvm.Cond.code ({ cls := "LostLanes", name := "turns", desc := "(LLostLanes$Table;I)I" } : Jvm.MethodName) prog_1_method_36_code (3 : Nat) (Option.some Jvm.ClassFile.FieldType.int)) ∈ lw_all := lw_g (lw_at lw_m2 237 rfl) rfl
theorem q596 : (Jvm.Cond.methodLink "LostLanes" (285 : Nat) ({ cls := "LostLanes", name := "told", desc := "(ILLostLanes$Table;II)J" } : Jvm.MethodName)) ∈ lw_all := lw_g (lw_at lw_m2 238 rfl) rfl
theorem q597 : (Jvm.Cond.privateMethod ({ cls := "LostLanes", name := "told", desc := "(ILLostLanes$Table;II)J" } : Jvm.MethodName)) ∈ lw_tbl := lw_at lw_m2 239 rfl
theorem q598 : (Jvm.Cond.instanceMethod ({ cls := "LostLanes", name := "told", desc := "(ILLostLanes$Table;II)J" } : Jvm.MethodName)) ∈ lw_all := lw_g (lw_at lw_m3 0 rfl) rfl
theorem q599 : (Jvm.Cond.code ({ cls := "LostLanes", name := "told", desc := "(ILLostLanes$Table;II)J" } : Jvm.MethodName) prog_1_method_34_code (6 : Nat) (Option.some Jvm.ClassFile.FieldType.long)) ∈ lw_all := lw_g (lw_at lw_m3 1 rfl) rfl
theorem q600 : (Jvm.Cond.constantLong "LostLanes" (266 : Nat) (-4000000000 : Int64)) ∈ lw_all := lw_g (lw_at lw_m3 2 rfl) rfl
theorem q601 : (Jvm.Cond.constantLong "LostLanes" (271 : Nat) (-1 : Int64)) ∈ lw_all := lw_g (lw_at lw_m3 3 rfl) rfl
theorem q602 : (Jvm.Cond.methodLink "LostLanes" (273 : Nat) ({ cls := "java/util/ArrayList", name := "get", desc := "(I)Ljava/lang/Object;" } : Jvm.MethodName)) ∈ lw_all := lw_g (lw_at lw_m3 4 rfl) rfl
theorem q616 : (Jvm.Cond.classLink "LostLanes" (248 : Nat) "LostLanes$Law") ∈ lw_all := lw_g (lw_at lw_m3 18 rfl) rfl
theorem q617 : (Jvm.Cond.methodLink "LostLanes" (277 : Nat) ({ cls := "LostLanes$Law", name := "told", desc := "(ILLostLanes$Setting;)J" } : Jvm.MethodName)) ∈ lw_all := lw_g (lw_at lw_m3 19 rfl) rfl
theorem q667 : (Jvm.Cond.methodLink "LostLanes" (288 : Nat) ({ cls := "LostLanes", name := "or", desc := "(JII)I" } : Jvm.MethodName)) ∈ lw_all := lw_g (lw_at lw_m3 69 rfl) rfl
theorem q668 : (Jvm.Cond.static ({ cls := "LostLanes", name := "or", desc := "(JII)I" } : Jvm.MethodName)) ∈ lw_all := lw_g (lw_at lw_m3 70 rfl) rfl
theorem q669 : (Jvm.Cond.code ({ cls := "LostLanes", name := "or", desc := "(JII)I" } : Jvm.MethodName) prog_1_method_35_code (4 : Nat) (Option.some Jvm.ClassFile.FieldType.int)) ∈ lw_all := lw_g (lw_at lw_m3 71 rfl) rfl
theorem q670 : (Jvm.Cond.methodLink "LostLanes" (281 : Nat) ({ cls := "LostLanes", name := "near", desc := "(JII)I" } : Jvm.MethodName)) ∈ lw_all := lw_g (lw_at lw_m3 72 rfl) rfl
theorem q671 : (Jvm.Cond.static ({ cls := "LostLanes", name := "near", desc := "(JII)I" } : Jvm.MethodName)) ∈ lw_all := lw_g (lw_at lw_m3 73 rfl) rfl
theorem q672 : (Jvm.Cond.code ({ cls := "LostLanes", name := "near", desc := "(JII)I" } : Jvm.MethodName) prog_1_method_6_code (4 : Nat) (Option.some Jvm.ClassFile.FieldType.int)) ∈ lw_all := lw_g (lw_at lw_m3 74 rfl) rfl
theorem q673 : (Jvm.Cond.methodLink "LostLanes" (17 : Nat) ({ cls := "java/lang/Math", name := "min", desc := "(JJ)J" } : Jvm.MethodName)) ∈ lw_all := lw_g (lw_at lw_m3 75 rfl) rfl
theorem q676 : (Jvm.Cond.methodLink "LostLanes" (23 : Nat) ({ cls := "java/lang/Math", name := "max", desc := "(JJ)J" } : Jvm.MethodName)) ∈ lw_all := lw_g (lw_at lw_m3 78 rfl) rfl
theorem q679 : (Jvm.Cond.methodLink "LostLanes" (189 : Nat) ({ cls := "LostLanes", name := "laneNext", desc := "(LLostLanes$Table;I)I" } : Jvm.MethodName)) ∈ lw_all := lw_g (lw_at lw_m3 81 rfl) rfl
theorem q680 : (Jvm.Cond.privateMethod ({ cls := "LostLanes", name := "laneNext", desc := "(LLostLanes$Table;I)I" } : Jvm.MethodName)) ∈ lw_tbl := lw_at lw_m3 82 rfl
theorem q681 : (Jvm.Cond.instanceMethod ({ cls := "LostLanes", name := "laneNext", desc := "(LLostLanes$Table;I)I" } : Jvm.MethodName)) ∈ lw_all := lw_g (lw_at lw_m3 83 rfl) rfl
theorem q682 : (Jvm.Cond.code ({ cls := "LostLanes", name := "laneNext", desc := "(LLostLanes$Table;I)I" } : Jvm.MethodName) prog_1_method_39_code (5 : Nat) (Option.some Jvm.ClassFile.FieldType.int)) ∈ lw_all := lw_g (lw_at lw_m3 84 rfl) rfl
theorem q683 : (Jvm.Cond.methodLink "LostLanes" (291 : Nat) ({ cls := "LostLanes$State", name := "isAt", desc := "(II)Z" } : Jvm.MethodName)) ∈ lw_all := lw_g (lw_at lw_m3 85 rfl) rfl
theorem q687 : (Jvm.Cond.methodLink "LostLanes" (196 : Nat) ({ cls := "LostLanes", name := "isBarred", desc := "(LLostLanes$Table;II)Z" } : Jvm.MethodName)) ∈ lw_all := lw_g (lw_at lw_m3 89 rfl) rfl
theorem q688 : (Jvm.Cond.privateMethod ({ cls := "LostLanes", name := "isBarred", desc := "(LLostLanes$Table;II)Z" } : Jvm.MethodName)) ∈ lw_tbl := lw_at lw_m3 90 rfl
theorem q689 : (Jvm.Cond.instanceMethod ({ cls := "LostLanes", name := "isBarred", desc := "(LLostLanes$Table;II)Z" } : Jvm.MethodName)) ∈ lw_all := lw_g (lw_at lw_m3 91 rfl) rfl
theorem q690 : (Jvm.Cond.code ({ cls := "LostLanes", name := "isBarred", desc := "(LLostLanes$Table;II)Z" } : Jvm.MethodName) prog_1_method_38_code (4 : Nat) (Option.some Jvm.ClassFile.FieldType.boolean)) ∈ lw_all := lw_g (lw_at lw_m3 92 rfl) rfl
theorem q692 : (Jvm.Cond.instanceMethod ({ cls := "LostLanes", name := "asks", desc := "(III)I" } : Jvm.MethodName)) ∈ lw_all := lw_g (lw_at lw_m3 94 rfl) rfl
theorem q693 : (Jvm.Cond.selects "LostLanes" ({ cls := "LostLanes", name := "asks", desc := "(III)I" } : Jvm.MethodName) ({ cls := "LostLanes", name := "asks", desc := "(III)I" } : Jvm.MethodName)) ∈ lw_all := lw_g (lw_at lw_m3 95 rfl) rfl
theorem q694 : (Jvm.Cond.code ({ cls := "LostLanes", name := "asks", desc := "(III)I" } : Jvm.MethodName) prog_1_method_21_code (4 : Nat) (Option.some Jvm.ClassFile.FieldType.int)) ∈ lw_all := lw_g (lw_at lw_m3 96 rfl) rfl
theorem q695 : (Jvm.Cond.methodLink "LostLanes" (192 : Nat) ({ cls := "LostLanes", name := "says", desc := "(LLostLanes$Table;II)I" } : Jvm.MethodName)) ∈ lw_all := lw_g (lw_at lw_m3 97 rfl) rfl
theorem q696 : (Jvm.Cond.privateMethod ({ cls := "LostLanes", name := "says", desc := "(LLostLanes$Table;II)I" } : Jvm.MethodName)) ∈ lw_tbl := lw_at lw_m3 98 rfl
theorem q697 : (Jvm.Cond.instanceMethod ({ cls := "LostLanes", name := "says", desc := "(LLostLanes$Table;II)I" } : Jvm.MethodName)) ∈ lw_all := lw_g (lw_at lw_m3 99 rfl) rfl
theorem q698 : (Jvm.Cond.code ({ cls := "LostLanes", name := "says", desc := "(LLostLanes$Table;II)I" } : Jvm.MethodName) prog_1_method_37_code (4 : Nat) (Option.some Jvm.ClassFile.FieldType.int)) ∈ lw_all := lw_g (lw_at lw_m3 100 rfl) rfl
theorem q700 : (Jvm.Cond.instanceMethod ({ cls := "LostLanes", name := "terms", desc := "(II)I" } : Jvm.MethodName)) ∈ lw_all := lw_g (lw_at lw_m3 102 rfl) rfl
theorem q701 : (Jvm.Cond.selects "LostLanes" ({ cls := "LostLanes", name := "terms", desc := "(II)I" } : Jvm.MethodName) ({ cls := "LostLanes", name := "terms", desc := "(II)I" } : Jvm.MethodName)) ∈ lw_all := lw_g (lw_at lw_m3 103 rfl) rfl
theorem q702 : (Jvm.Cond.code ({ cls := "LostLanes", name := "terms", desc := "(II)I" } : Jvm.MethodName) prog_1_method_22_code (4 : Nat) (Option.some Jvm.ClassFile.FieldType.int)) ∈ lw_all := lw_g (lw_at lw_m3 104 rfl) rfl
theorem q704 : (Jvm.Cond.instanceMethod ({ cls := "LostLanes", name := "feed", desc := "(IIIII)I" } : Jvm.MethodName)) ∈ lw_all := lw_g (lw_at lw_m3 106 rfl) rfl
theorem q705 : (Jvm.Cond.selects "LostLanes" ({ cls := "LostLanes", name := "feed", desc := "(IIIII)I" } : Jvm.MethodName) ({ cls := "LostLanes", name := "feed", desc := "(IIIII)I" } : Jvm.MethodName)) ∈ lw_all := lw_g (lw_at lw_m3 107 rfl) rfl
theorem q706 : (Jvm.Cond.code ({ cls := "LostLanes", name := "feed", desc := "(IIIII)I" } : Jvm.MethodName) prog_1_method_23_code (6 : Nat) (Option.some Jvm.ClassFile.FieldType.int)) ∈ lw_all := lw_g (lw_at lw_m3 108 rfl) rfl
theorem q707 : (Jvm.Cond.methodLink "LostLanes" (212 : Nat) ({ cls := "LostLanes", name := "four", desc := "(I)V" } : Jvm.MethodName)) ∈ lw_all := lw_g (lw_at lw_m3 109 rfl) rfl
theorem q708 : (Jvm.Cond.privateMethod ({ cls := "LostLanes", name := "four", desc := "(I)V" } : Jvm.MethodName)) ∈ lw_tbl := lw_at lw_m3 110 rfl
theorem q709 : (Jvm.Cond.instanceMethod ({ cls := "LostLanes", name := "four", desc := "(I)V" } : Jvm.MethodName)) ∈ lw_all := lw_g (lw_at lw_m3 111 rfl) rfl
theorem q710 : (Jvm.Cond.code ({ cls := "LostLanes", name := "four", desc := "(I)V" } : Jvm.MethodName) prog_1_method_24_code (3 : Nat) (Option.none : Option Jvm.ClassFile.FieldType)) ∈ lw_all := lw_g (lw_at lw_m3 112 rfl) rfl
theorem q712 : (Jvm.Cond.instanceMethod ({ cls := "LostLanes", name := "end", desc := "(I)I" } : Jvm.MethodName)) ∈ lw_all := lw_g (lw_at lw_m3 114 rfl) rfl
theorem q713 : (Jvm.Cond.selects "LostLanes" ({ cls := "LostLanes", name := "end", desc := "(I)I" } : Jvm.MethodName) ({ cls := "LostLanes", name := "end", desc := "(I)I" } : Jvm.MethodName)) ∈ lw_all := lw_g (lw_at lw_m3 115 rfl) rfl
theorem q714 : (Jvm.Cond.code ({ cls := "LostLanes", name := "end", desc := "(I)I" } : Jvm.MethodName) prog_1_method_25_code (2 : Nat) (Option.some Jvm.ClassFile.FieldType.int)) ∈ lw_all := lw_g (lw_at lw_m3 116 rfl) rfl
theorem q716 : (Jvm.Cond.instanceMethod ({ cls := "LostLanes", name := "row", desc := "()I" } : Jvm.MethodName)) ∈ lw_all := lw_g (lw_at lw_m3 118 rfl) rfl
theorem q717 : (Jvm.Cond.selects "LostLanes" ({ cls := "LostLanes", name := "row", desc := "()I" } : Jvm.MethodName) ({ cls := "LostLanes", name := "row", desc := "()I" } : Jvm.MethodName)) ∈ lw_all := lw_g (lw_at lw_m3 119 rfl) rfl
theorem q718 : (Jvm.Cond.code ({ cls := "LostLanes", name := "row", desc := "()I" } : Jvm.MethodName) prog_1_method_26_code (5 : Nat) (Option.some Jvm.ClassFile.FieldType.int)) ∈ lw_all := lw_g (lw_at lw_m3 120 rfl) rfl
theorem q720 : (Jvm.Cond.instanceMethod ({ cls := "LostLanes", name := "gravel", desc := "()I" } : Jvm.MethodName)) ∈ lw_all := lw_g (lw_at lw_m3 122 rfl) rfl
theorem q721 : (Jvm.Cond.selects "LostLanes" ({ cls := "LostLanes", name := "gravel", desc := "()I" } : Jvm.MethodName) ({ cls := "LostLanes", name := "gravel", desc := "()I" } : Jvm.MethodName)) ∈ lw_all := lw_g (lw_at lw_m3 123 rfl) rfl
theorem q722 : (Jvm.Cond.code ({ cls := "LostLanes", name := "gravel", desc := "()I" } : Jvm.MethodName) prog_1_method_27_code (1 : Nat) (Option.some Jvm.ClassFile.FieldType.int)) ∈ lw_all := lw_g (lw_at lw_m3 124 rfl) rfl
theorem q724 : (Jvm.Cond.instanceMethod ({ cls := "LostLanes", name := "law", desc := "()I" } : Jvm.MethodName)) ∈ lw_all := lw_g (lw_at lw_m3 126 rfl) rfl
theorem q725 : (Jvm.Cond.selects "LostLanes" ({ cls := "LostLanes", name := "law", desc := "()I" } : Jvm.MethodName) ({ cls := "LostLanes", name := "law", desc := "()I" } : Jvm.MethodName)) ∈ lw_all := lw_g (lw_at lw_m3 127 rfl) rfl
theorem q726 : (Jvm.Cond.code ({ cls := "LostLanes", name := "law", desc := "()I" } : Jvm.MethodName) prog_1_method_29_code (3 : Nat) (Option.some Jvm.ClassFile.FieldType.int)) ∈ lw_all := lw_g (lw_at lw_m3 128 rfl) rfl
theorem q727 : (Jvm.Cond.methodLink "LostLanes" (233 : Nat) ({ cls := "java/util/ArrayList", name := "size", desc := "()I" } : Jvm.MethodName)) ∈ lw_all := lw_g (lw_at lw_m3 129 rfl) rfl
theorem q728 : (Jvm.Cond.classLink "LostLanes" (239 : Nat) "LostLanes$LawReader") ∈ lw_all := lw_g (lw_at lw_m3 130 rfl) rfl
theorem q730 : (Jvm.Cond.methodLink "LostLanes" (241 : Nat) ({ cls := "LostLanes$LawReader", name := "<init>", desc := "([BI)V" } : Jvm.MethodName)) ∈ lw_all := lw_g (lw_at lw_m3 132 rfl) rfl
theorem q740 : (Jvm.Cond.fieldLinkNest "LostLanes" (250 : Nat) "LostLanes$LawReader" "clauses" "Ljava/util/ArrayList;" "LostLanes") ∈ lw_tbl := lw_at lw_m3 142 rfl
theorem q765 : (Jvm.Cond.methodLink "LostLanes" (244 : Nat) ({ cls := "LostLanes", name := "reads", desc := "(LLostLanes$Reader;)Z" } : Jvm.MethodName)) ∈ lw_all := lw_g (lw_at lw_m3 167 rfl) rfl
theorem q766 : (Jvm.Cond.privateMethod ({ cls := "LostLanes", name := "reads", desc := "(LLostLanes$Reader;)Z" } : Jvm.MethodName)) ∈ lw_tbl := lw_at lw_m3 168 rfl
theorem q767 : (Jvm.Cond.instanceMethod ({ cls := "LostLanes", name := "reads", desc := "(LLostLanes$Reader;)Z" } : Jvm.MethodName)) ∈ lw_all := lw_g (lw_at lw_m3 169 rfl) rfl
theorem q768 : (Jvm.Cond.codeWith ({ cls := "LostLanes", name := "reads", desc := "(LLostLanes$Reader;)Z" } : Jvm.MethodName) prog_1_method_28_code (3 : Nat) (Option.some Jvm.ClassFile.FieldType.boolean) [((0 : Nat), (4 : Nat), (7 : Nat), (224 : Nat))]) ∈ lw_all := lw_g (lw_at lw_m3 170 rfl) rfl
theorem q769 : (Jvm.Cond.classLink "LostLanes" (224 : Nat) "LostLanes$Fault") ∈ lw_all := lw_g (lw_at lw_m3 171 rfl) rfl
theorem q770 : (Jvm.Cond.methodLink "LostLanes" (219 : Nat) ({ cls := "LostLanes$Reader", name := "read", desc := "()V" } : Jvm.MethodName)) ∈ lw_all := lw_g (lw_at lw_m3 172 rfl) rfl
theorem q869 : (Jvm.Cond.fieldLinkNest "LostLanes" (226 : Nat) "LostLanes$Fault" "place" "I" "LostLanes") ∈ lw_tbl := lw_at lw_m4 31 rfl
theorem q1150 : (Jvm.Cond.fieldLinkNest "LostLanes" (428 : Nat) "LostLanes$Order" "head" "I" "LostLanes") ∈ lw_tbl := lw_at lw_m5 72 rfl
theorem q1152 : (Jvm.Cond.fieldLinkNest "LostLanes" (431 : Nat) "LostLanes$Order" "one" "LLostLanes$Sum;" "LostLanes") ∈ lw_tbl := lw_at lw_m5 74 rfl
theorem q1154 : (Jvm.Cond.fieldLinkNest "LostLanes" (437 : Nat) "LostLanes$Order" "other" "LLostLanes$Sum;" "LostLanes") ∈ lw_tbl := lw_at lw_m5 76 rfl
theorem q1157 : (Jvm.Cond.fieldLinkNest "LostLanes" (410 : Nat) "LostLanes$Order" "times" "I" "LostLanes") ∈ lw_tbl := lw_at lw_m5 79 rfl
theorem q1190 : (Jvm.Cond.methodLink "LostLanes" (253 : Nat) ({ cls := "LostLanes$Law", name := "<init>", desc := "(Ljava/util/ArrayList;)V" } : Jvm.MethodName)) ∈ lw_all := lw_g (lw_at lw_m5 112 rfl) rfl
theorem q1198 : (Jvm.Cond.methodLink "LostLanes" (256 : Nat) ({ cls := "java/util/ArrayList", name := "add", desc := "(Ljava/lang/Object;)Z" } : Jvm.MethodName)) ∈ lw_all := lw_g (lw_at lw_m5 120 rfl) rfl
theorem q1200 : (Jvm.Cond.instanceMethod ({ cls := "LostLanes", name := "fault", desc := "()I" } : Jvm.MethodName)) ∈ lw_all := lw_g (lw_at lw_m5 122 rfl) rfl
theorem q1201 : (Jvm.Cond.selects "LostLanes" ({ cls := "LostLanes", name := "fault", desc := "()I" } : Jvm.MethodName) ({ cls := "LostLanes", name := "fault", desc := "()I" } : Jvm.MethodName)) ∈ lw_all := lw_g (lw_at lw_m5 123 rfl) rfl
theorem q1202 : (Jvm.Cond.code ({ cls := "LostLanes", name := "fault", desc := "()I" } : Jvm.MethodName) prog_1_method_30_code (1 : Nat) (Option.some Jvm.ClassFile.FieldType.int)) ∈ lw_all := lw_g (lw_at lw_m5 124 rfl) rfl
theorem q1204 : (Jvm.Cond.instanceMethod ({ cls := "LostLanes", name := "stopped", desc := "()I" } : Jvm.MethodName)) ∈ lw_all := lw_g (lw_at lw_m5 126 rfl) rfl
theorem q1205 : (Jvm.Cond.selects "LostLanes" ({ cls := "LostLanes", name := "stopped", desc := "()I" } : Jvm.MethodName) ({ cls := "LostLanes", name := "stopped", desc := "()I" } : Jvm.MethodName)) ∈ lw_all := lw_g (lw_at lw_m5 127 rfl) rfl
theorem q1206 : (Jvm.Cond.code ({ cls := "LostLanes", name := "stopped", desc := "()I" } : Jvm.MethodName) prog_1_method_31_code (1 : Nat) (Option.some Jvm.ClassFile.FieldType.int)) ∈ lw_all := lw_g (lw_at lw_m5 128 rfl) rfl
theorem q1208 : (Jvm.Cond.instanceMethod ({ cls := "LostLanes", name := "force", desc := "(I)I" } : Jvm.MethodName)) ∈ lw_all := lw_g (lw_at lw_m5 130 rfl) rfl
theorem q1209 : (Jvm.Cond.selects "LostLanes" ({ cls := "LostLanes", name := "force", desc := "(I)I" } : Jvm.MethodName) ({ cls := "LostLanes", name := "force", desc := "(I)I" } : Jvm.MethodName)) ∈ lw_all := lw_g (lw_at lw_m5 131 rfl) rfl
theorem q1210 : (Jvm.Cond.code ({ cls := "LostLanes", name := "force", desc := "(I)I" } : Jvm.MethodName) prog_1_method_33_code (3 : Nat) (Option.some Jvm.ClassFile.FieldType.int)) ∈ lw_all := lw_g (lw_at lw_m5 132 rfl) rfl
theorem q1211 : (Jvm.Cond.methodLink "LostLanes" (260 : Nat) ({ cls := "LostLanes", name := "isLaw", desc := "(I)Z" } : Jvm.MethodName)) ∈ lw_all := lw_g (lw_at lw_m5 133 rfl) rfl
theorem q1212 : (Jvm.Cond.privateMethod ({ cls := "LostLanes", name := "isLaw", desc := "(I)Z" } : Jvm.MethodName)) ∈ lw_tbl := lw_at lw_m5 134 rfl
theorem q1213 : (Jvm.Cond.instanceMethod ({ cls := "LostLanes", name := "isLaw", desc := "(I)Z" } : Jvm.MethodName)) ∈ lw_all := lw_g (lw_at lw_m5 135 rfl) rfl
theorem q1214 : (Jvm.Cond.code ({ cls := "LostLanes", name := "isLaw", desc := "(I)Z" } : Jvm.MethodName) prog_1_method_32_code (2 : Nat) (Option.some Jvm.ClassFile.FieldType.boolean)) ∈ lw_all := lw_g (lw_at lw_m5 136 rfl) rfl
theorem q1216 : (Jvm.Cond.instanceMethod ({ cls := "LostLanes", name := "wander", desc := "(I)I" } : Jvm.MethodName)) ∈ lw_all := lw_g (lw_at lw_m5 138 rfl) rfl
theorem q1217 : (Jvm.Cond.selects "LostLanes" ({ cls := "LostLanes", name := "wander", desc := "(I)I" } : Jvm.MethodName) ({ cls := "LostLanes", name := "wander", desc := "(I)I" } : Jvm.MethodName)) ∈ lw_all := lw_g (lw_at lw_m5 139 rfl) rfl
theorem q1218 : (Jvm.Cond.code ({ cls := "LostLanes", name := "wander", desc := "(I)I" } : Jvm.MethodName) prog_1_method_49_code (2 : Nat) (Option.some Jvm.ClassFile.FieldType.int)) ∈ lw_all := lw_g (lw_at lw_m5 140 rfl) rfl
theorem q1219 : (Jvm.Cond.methodLink "LostLanes" (317 : Nat) ({ cls := "LostLanes", name := "wandersKept", desc := "(I)I" } : Jvm.MethodName)) ∈ lw_all := lw_g (lw_at lw_m5 141 rfl) rfl
theorem q1220 : (Jvm.Cond.privateMethod ({ cls := "LostLanes", name := "wandersKept", desc := "(I)I" } : Jvm.MethodName)) ∈ lw_tbl := lw_at lw_m5 142 rfl
theorem q1221 : (Jvm.Cond.instanceMethod ({ cls := "LostLanes", name := "wandersKept", desc := "(I)I" } : Jvm.MethodName)) ∈ lw_all := lw_g (lw_at lw_m5 143 rfl) rfl
theorem q1222 : (Jvm.Cond.code ({ cls := "LostLanes", name := "wandersKept", desc := "(I)I" } : Jvm.MethodName) prog_1_method_44_code (3 : Nat) (Option.some Jvm.ClassFile.FieldType.int)) ∈ lw_all := lw_g (lw_at lw_m5 144 rfl) rfl
theorem q1223 : (Jvm.Cond.methodLink "LostLanes" (306 : Nat) ({ cls := "LostLanes", name := "keeps", desc := "(I)V" } : Jvm.MethodName)) ∈ lw_all := lw_g (lw_at lw_m5 145 rfl) rfl
theorem q1224 : (Jvm.Cond.privateMethod ({ cls := "LostLanes", name := "keeps", desc := "(I)V" } : Jvm.MethodName)) ∈ lw_tbl := lw_at lw_m5 146 rfl
theorem q1225 : (Jvm.Cond.instanceMethod ({ cls := "LostLanes", name := "keeps", desc := "(I)V" } : Jvm.MethodName)) ∈ lw_all := lw_g (lw_at lw_m5 147 rfl) rfl
theorem q1226 : (Jvm.Cond.code ({ cls := "LostLanes", name := "keeps", desc := "(I)V" } : Jvm.MethodName) prog_1_method_43_code (4 : Nat) (Option.none : Option Jvm.ClassFile.FieldType)) ∈ lw_all := lw_g (lw_at lw_m5 148 rfl) rfl
theorem q1227 : (Jvm.Cond.methodLink "LostLanes" (303 : Nat) ({ cls := "LostLanes$Table", name := "takes", desc := "(LLostLanes$Table;)V" } : Jvm.MethodName)) ∈ lw_all := lw_g (lw_at lw_m5 149 rfl) rfl
theorem q1228 : (Jvm.Cond.methodLink "LostLanes" (299 : Nat) ({ cls := "LostLanes", name := "goes", desc := "(LLostLanes$Table;II)V" } : Jvm.MethodName)) ∈ lw_all := lw_g (lw_at lw_m5 150 rfl) rfl
theorem q1229 : (Jvm.Cond.privateMethod ({ cls := "LostLanes", name := "goes", desc := "(LLostLanes$Table;II)V" } : Jvm.MethodName)) ∈ lw_tbl := lw_at lw_m5 151 rfl
theorem q1230 : (Jvm.Cond.instanceMethod ({ cls := "LostLanes", name := "goes", desc := "(LLostLanes$Table;II)V" } : Jvm.MethodName)) ∈ lw_all := lw_g (lw_at lw_m5 152 rfl) rfl
theorem q1231 : (Jvm.Cond.code ({ cls := "LostLanes", name := "goes", desc := "(LLostLanes$Table;II)V" } : Jvm.MethodName) prog_1_method_40_code (4 : Nat) (Option.none : Option Jvm.ClassFile.FieldType)) ∈ lw_all := lw_g (lw_at lw_m5 153 rfl) rfl
theorem q1232 : (Jvm.Cond.methodLink "LostLanes" (295 : Nat) ({ cls := "LostLanes$State", name := "otherEnd", desc := "(II)I" } : Jvm.MethodName)) ∈ lw_all := lw_g (lw_at lw_m5 154 rfl) rfl
theorem q1236 : (Jvm.Cond.methodLink "LostLanes" (320 : Nat) ({ cls := "LostLanes", name := "doneOr", desc := "(I)I" } : Jvm.MethodName)) ∈ lw_all := lw_g (lw_at lw_m5 158 rfl) rfl
theorem q1237 : (Jvm.Cond.privateMethod ({ cls := "LostLanes", name := "doneOr", desc := "(I)I" } : Jvm.MethodName)) ∈ lw_tbl := lw_at lw_m5 159 rfl
theorem q1238 : (Jvm.Cond.instanceMethod ({ cls := "LostLanes", name := "doneOr", desc := "(I)I" } : Jvm.MethodName)) ∈ lw_all := lw_g (lw_at lw_m5 160 rfl) rfl
theorem q1239 : (Jvm.Cond.code ({ cls := "LostLanes", name := "doneOr", desc := "(I)I" } : Jvm.MethodName) prog_1_method_48_code (2 : Nat) (Option.some Jvm.ClassFile.FieldType.int)) ∈ lw_all := lw_g (lw_at lw_m5 161 rfl) rfl
theorem q1241 : (Jvm.Cond.instanceMethod ({ cls := "LostLanes", name := "cry", desc := "(I)I" } : Jvm.MethodName)) ∈ lw_all := lw_g (lw_at lw_m5 163 rfl) rfl
theorem q1242 : (Jvm.Cond.selects "LostLanes" ({ cls := "LostLanes", name := "cry", desc := "(I)I" } : Jvm.MethodName) ({ cls := "LostLanes", name := "cry", desc := "(I)I" } : Jvm.MethodName)) ∈ lw_all := lw_g (lw_at lw_m5 164 rfl) rfl
theorem q1243 : (Jvm.Cond.code ({ cls := "LostLanes", name := "cry", desc := "(I)I" } : Jvm.MethodName) prog_1_method_50_code (2 : Nat) (Option.some Jvm.ClassFile.FieldType.int)) ∈ lw_all := lw_g (lw_at lw_m5 165 rfl) rfl
theorem q1244 : (Jvm.Cond.methodLink "LostLanes" (323 : Nat) ({ cls := "LostLanes", name := "criesKept", desc := "(I)I" } : Jvm.MethodName)) ∈ lw_all := lw_g (lw_at lw_m5 166 rfl) rfl
theorem q1245 : (Jvm.Cond.privateMethod ({ cls := "LostLanes", name := "criesKept", desc := "(I)I" } : Jvm.MethodName)) ∈ lw_tbl := lw_at lw_m5 167 rfl
theorem q1246 : (Jvm.Cond.instanceMethod ({ cls := "LostLanes", name := "criesKept", desc := "(I)I" } : Jvm.MethodName)) ∈ lw_all := lw_g (lw_at lw_m5 168 rfl) rfl
theorem q1247 : (Jvm.Cond.code ({ cls := "LostLanes", name := "criesKept", desc := "(I)I" } : Jvm.MethodName) prog_1_method_45_code (2 : Nat) (Option.some Jvm.ClassFile.FieldType.int)) ∈ lw_all := lw_g (lw_at lw_m5 169 rfl) rfl
theorem q1248 : (Jvm.Cond.methodLink "LostLanes" (309 : Nat) ({ cls := "LostLanes", name := "criesOut", desc := "(LLostLanes$Table;I)V" } : Jvm.MethodName)) ∈ lw_all := lw_g (lw_at lw_m5 170 rfl) rfl
theorem q1249 : (Jvm.Cond.privateMethod ({ cls := "LostLanes", name := "criesOut", desc := "(LLostLanes$Table;I)V" } : Jvm.MethodName)) ∈ lw_tbl := lw_at lw_m5 171 rfl
theorem q1250 : (Jvm.Cond.instanceMethod ({ cls := "LostLanes", name := "criesOut", desc := "(LLostLanes$Table;I)V" } : Jvm.MethodName)) ∈ lw_all := lw_g (lw_at lw_m5 172 rfl) rfl
theorem q1251 : (Jvm.Cond.code ({ cls := "LostLanes", name := "criesOut", desc := "(LLostLanes$Table;I)V" } : Jvm.MethodName) prog_1_method_41_code (3 : Nat) (Option.none : Option Jvm.ClassFile.FieldType)) ∈ lw_all := lw_g (lw_at lw_m5 173 rfl) rfl
theorem q1253 : (Jvm.Cond.instanceMethod ({ cls := "LostLanes", name := "lead", desc := "(II)I" } : Jvm.MethodName)) ∈ lw_all := lw_g (lw_at lw_m5 175 rfl) rfl
theorem q1254 : (Jvm.Cond.selects "LostLanes" ({ cls := "LostLanes", name := "lead", desc := "(II)I" } : Jvm.MethodName) ({ cls := "LostLanes", name := "lead", desc := "(II)I" } : Jvm.MethodName)) ∈ lw_all := lw_g (lw_at lw_m5 176 rfl) rfl
theorem q1255 : (Jvm.Cond.code ({ cls := "LostLanes", name := "lead", desc := "(II)I" } : Jvm.MethodName) prog_1_method_51_code (3 : Nat) (Option.some Jvm.ClassFile.FieldType.int)) ∈ lw_all := lw_g (lw_at lw_m5 177 rfl) rfl
theorem q1256 : (Jvm.Cond.methodLink "LostLanes" (326 : Nat) ({ cls := "LostLanes", name := "leadsKept", desc := "(II)I" } : Jvm.MethodName)) ∈ lw_all := lw_g (lw_at lw_m5 178 rfl) rfl
theorem q1257 : (Jvm.Cond.privateMethod ({ cls := "LostLanes", name := "leadsKept", desc := "(II)I" } : Jvm.MethodName)) ∈ lw_tbl := lw_at lw_m5 179 rfl
theorem q1258 : (Jvm.Cond.instanceMethod ({ cls := "LostLanes", name := "leadsKept", desc := "(II)I" } : Jvm.MethodName)) ∈ lw_all := lw_g (lw_at lw_m5 180 rfl) rfl
theorem q1259 : (Jvm.Cond.code ({ cls := "LostLanes", name := "leadsKept", desc := "(II)I" } : Jvm.MethodName) prog_1_method_46_code (4 : Nat) (Option.some Jvm.ClassFile.FieldType.int)) ∈ lw_all := lw_g (lw_at lw_m5 181 rfl) rfl
theorem q1261 : (Jvm.Cond.instanceMethod ({ cls := "LostLanes", name := "pass", desc := "()I" } : Jvm.MethodName)) ∈ lw_all := lw_g (lw_at lw_m5 183 rfl) rfl
theorem q1262 : (Jvm.Cond.selects "LostLanes" ({ cls := "LostLanes", name := "pass", desc := "()I" } : Jvm.MethodName) ({ cls := "LostLanes", name := "pass", desc := "()I" } : Jvm.MethodName)) ∈ lw_all := lw_g (lw_at lw_m5 184 rfl) rfl
theorem q1263 : (Jvm.Cond.code ({ cls := "LostLanes", name := "pass", desc := "()I" } : Jvm.MethodName) prog_1_method_52_code (1 : Nat) (Option.some Jvm.ClassFile.FieldType.int)) ∈ lw_all := lw_g (lw_at lw_m5 185 rfl) rfl
theorem q1264 : (Jvm.Cond.methodLink "LostLanes" (329 : Nat) ({ cls := "LostLanes", name := "passesKept", desc := "()I" } : Jvm.MethodName)) ∈ lw_all := lw_g (lw_at lw_m5 186 rfl) rfl
theorem q1265 : (Jvm.Cond.privateMethod ({ cls := "LostLanes", name := "passesKept", desc := "()I" } : Jvm.MethodName)) ∈ lw_tbl := lw_at lw_m5 187 rfl
theorem q1266 : (Jvm.Cond.instanceMethod ({ cls := "LostLanes", name := "passesKept", desc := "()I" } : Jvm.MethodName)) ∈ lw_all := lw_g (lw_at lw_m5 188 rfl) rfl
theorem q1267 : (Jvm.Cond.code ({ cls := "LostLanes", name := "passesKept", desc := "()I" } : Jvm.MethodName) prog_1_method_47_code (1 : Nat) (Option.some Jvm.ClassFile.FieldType.int)) ∈ lw_all := lw_g (lw_at lw_m5 189 rfl) rfl
theorem q1268 : (Jvm.Cond.methodLink "LostLanes" (313 : Nat) ({ cls := "LostLanes", name := "passes", desc := "(LLostLanes$Table;)I" } : Jvm.MethodName)) ∈ lw_all := lw_g (lw_at lw_m5 190 rfl) rfl
theorem q1269 : (Jvm.Cond.privateMethod ({ cls := "LostLanes", name := "passes", desc := "(LLostLanes$Table;)I" } : Jvm.MethodName)) ∈ lw_tbl := lw_at lw_m5 191 rfl
theorem q1270 : (Jvm.Cond.instanceMethod ({ cls := "LostLanes", name := "passes", desc := "(LLostLanes$Table;)I" } : Jvm.MethodName)) ∈ lw_all := lw_g (lw_at lw_m5 192 rfl) rfl
theorem q1271 : (Jvm.Cond.code ({ cls := "LostLanes", name := "passes", desc := "(LLostLanes$Table;)I" } : Jvm.MethodName) prog_1_method_42_code (4 : Nat) (Option.some Jvm.ClassFile.FieldType.int)) ∈ lw_all := lw_g (lw_at lw_m5 193 rfl) rfl
theorem q1273 : (Jvm.Cond.instanceMethod ({ cls := "LostLanes", name := "undo", desc := "()I" } : Jvm.MethodName)) ∈ lw_all := lw_g (lw_at lw_m5 195 rfl) rfl
theorem q1274 : (Jvm.Cond.selects "LostLanes" ({ cls := "LostLanes", name := "undo", desc := "()I" } : Jvm.MethodName) ({ cls := "LostLanes", name := "undo", desc := "()I" } : Jvm.MethodName)) ∈ lw_all := lw_g (lw_at lw_m5 196 rfl) rfl
theorem q1275 : (Jvm.Cond.code ({ cls := "LostLanes", name := "undo", desc := "()I" } : Jvm.MethodName) prog_1_method_53_code (1 : Nat) (Option.some Jvm.ClassFile.FieldType.int)) ∈ lw_all := lw_g (lw_at lw_m5 197 rfl) rfl
theorem q1277 : (Jvm.Cond.instanceMethod ({ cls := "LostLanes", name := "where", desc := "(II)I" } : Jvm.MethodName)) ∈ lw_all := lw_g (lw_at lw_m5 199 rfl) rfl
theorem q1278 : (Jvm.Cond.selects "LostLanes" ({ cls := "LostLanes", name := "where", desc := "(II)I" } : Jvm.MethodName) ({ cls := "LostLanes", name := "where", desc := "(II)I" } : Jvm.MethodName)) ∈ lw_all := lw_g (lw_at lw_m5 200 rfl) rfl
theorem q1279 : (Jvm.Cond.code ({ cls := "LostLanes", name := "where", desc := "(II)I" } : Jvm.MethodName) prog_1_method_54_code (4 : Nat) (Option.some Jvm.ClassFile.FieldType.int)) ∈ lw_all := lw_g (lw_at lw_m5 201 rfl) rfl
theorem q1281 : (Jvm.Cond.instanceMethod ({ cls := "LostLanes", name := "again", desc := "(I)I" } : Jvm.MethodName)) ∈ lw_all := lw_g (lw_at lw_m5 203 rfl) rfl
theorem q1282 : (Jvm.Cond.selects "LostLanes" ({ cls := "LostLanes", name := "again", desc := "(I)I" } : Jvm.MethodName) ({ cls := "LostLanes", name := "again", desc := "(I)I" } : Jvm.MethodName)) ∈ lw_all := lw_g (lw_at lw_m5 204 rfl) rfl
theorem q1283 : (Jvm.Cond.code ({ cls := "LostLanes", name := "again", desc := "(I)I" } : Jvm.MethodName) prog_1_method_55_code (3 : Nat) (Option.some Jvm.ClassFile.FieldType.int)) ∈ lw_all := lw_g (lw_at lw_m5 205 rfl) rfl
theorem q1285 : (Jvm.Cond.instanceMethod ({ cls := "LostLanes", name := "far", desc := "(II)I" } : Jvm.MethodName)) ∈ lw_all := lw_g (lw_at lw_m5 207 rfl) rfl
theorem q1286 : (Jvm.Cond.selects "LostLanes" ({ cls := "LostLanes", name := "far", desc := "(II)I" } : Jvm.MethodName) ({ cls := "LostLanes", name := "far", desc := "(II)I" } : Jvm.MethodName)) ∈ lw_all := lw_g (lw_at lw_m5 208 rfl) rfl
theorem q1287 : (Jvm.Cond.code ({ cls := "LostLanes", name := "far", desc := "(II)I" } : Jvm.MethodName) prog_1_method_58_code (3 : Nat) (Option.some Jvm.ClassFile.FieldType.int)) ∈ lw_all := lw_g (lw_at lw_m5 209 rfl) rfl
theorem q1288 : (Jvm.Cond.methodLink "LostLanes" (338 : Nat) ({ cls := "LostLanes", name := "laysFar", desc := "()V" } : Jvm.MethodName)) ∈ lw_all := lw_g (lw_at lw_m5 210 rfl) rfl
theorem q1289 : (Jvm.Cond.privateMethod ({ cls := "LostLanes", name := "laysFar", desc := "()V" } : Jvm.MethodName)) ∈ lw_tbl := lw_at lw_m5 211 rfl
theorem q1290 : (Jvm.Cond.instanceMethod ({ cls := "LostLanes", name := "laysFar", desc := "()V" } : Jvm.MethodName)) ∈ lw_all := lw_g (lw_at lw_m5 212 rfl) rfl
theorem q1291 : (Jvm.Cond.code ({ cls := "LostLanes", name := "laysFar", desc := "()V" } : Jvm.MethodName) prog_1_method_57_code (4 : Nat) (Option.none : Option Jvm.ClassFile.FieldType)) ∈ lw_all := lw_g (lw_at lw_m5 213 rfl) rfl
theorem q1292 : (Jvm.Cond.constant "LostLanes" (332 : Nat) (1000000 : Int32)) ∈ lw_all := lw_g (lw_at lw_m5 214 rfl) rfl
theorem q1293 : (Jvm.Cond.methodLink "LostLanes" (333 : Nat) ({ cls := "java/lang/Math", name := "min", desc := "(II)I" } : Jvm.MethodName)) ∈ lw_all := lw_g (lw_at lw_m5 215 rfl) rfl
theorem q1294 : (Jvm.Cond.methodLink "LostLanes" (335 : Nat) ({ cls := "LostLanes", name := "farOf", desc := "(II)I" } : Jvm.MethodName)) ∈ lw_all := lw_g (lw_at lw_m5 216 rfl) rfl
theorem q1295 : (Jvm.Cond.privateMethod ({ cls := "LostLanes", name := "farOf", desc := "(II)I" } : Jvm.MethodName)) ∈ lw_tbl := lw_at lw_m5 217 rfl
theorem q1296 : (Jvm.Cond.instanceMethod ({ cls := "LostLanes", name := "farOf", desc := "(II)I" } : Jvm.MethodName)) ∈ lw_all := lw_g (lw_at lw_m5 218 rfl) rfl
theorem q1297 : (Jvm.Cond.code ({ cls := "LostLanes", name := "farOf", desc := "(II)I" } : Jvm.MethodName) prog_1_method_56_code (3 : Nat) (Option.some Jvm.ClassFile.FieldType.int)) ∈ lw_all := lw_g (lw_at lw_m5 219 rfl) rfl
theorem q1299 : (Jvm.Cond.instanceMethod ({ cls := "LostLanes", name := "found", desc := "(II)I" } : Jvm.MethodName)) ∈ lw_all := lw_g (lw_at lw_m5 221 rfl) rfl
theorem q1300 : (Jvm.Cond.selects "LostLanes" ({ cls := "LostLanes", name := "found", desc := "(II)I" } : Jvm.MethodName) ({ cls := "LostLanes", name := "found", desc := "(II)I" } : Jvm.MethodName)) ∈ lw_all := lw_g (lw_at lw_m5 222 rfl) rfl
theorem q1301 : (Jvm.Cond.code ({ cls := "LostLanes", name := "found", desc := "(II)I" } : Jvm.MethodName) prog_1_method_60_code (4 : Nat) (Option.some Jvm.ClassFile.FieldType.int)) ∈ lw_all := lw_g (lw_at lw_m5 223 rfl) rfl
theorem q1302 : (Jvm.Cond.methodLink "LostLanes" (341 : Nat) ({ cls := "LostLanes", name := "foundFrom", desc := "(II)I" } : Jvm.MethodName)) ∈ lw_all := lw_g (lw_at lw_m5 224 rfl) rfl
theorem q1303 : (Jvm.Cond.privateMethod ({ cls := "LostLanes", name := "foundFrom", desc := "(II)I" } : Jvm.MethodName)) ∈ lw_tbl := lw_at lw_m5 225 rfl
theorem q1304 : (Jvm.Cond.instanceMethod ({ cls := "LostLanes", name := "foundFrom", desc := "(II)I" } : Jvm.MethodName)) ∈ lw_all := lw_g (lw_at lw_m5 226 rfl) rfl
theorem q1305 : (Jvm.Cond.code ({ cls := "LostLanes", name := "foundFrom", desc := "(II)I" } : Jvm.MethodName) prog_1_method_59_code (4 : Nat) (Option.some Jvm.ClassFile.FieldType.int)) ∈ lw_all := lw_g (lw_at lw_m5 227 rfl) rfl
theorem q1307 : (Jvm.Cond.instanceMethod ({ cls := "LostLanes", name := "post", desc := "(I)I" } : Jvm.MethodName)) ∈ lw_all := lw_g (lw_at lw_m5 229 rfl) rfl
theorem q1308 : (Jvm.Cond.selects "LostLanes" ({ cls := "LostLanes", name := "post", desc := "(I)I" } : Jvm.MethodName) ({ cls := "LostLanes", name := "post", desc := "(I)I" } : Jvm.MethodName)) ∈ lw_all := lw_g (lw_at lw_m5 230 rfl) rfl
theorem q1309 : (Jvm.Cond.code ({ cls := "LostLanes", name := "post", desc := "(I)I" } : Jvm.MethodName) prog_1_method_61_code (7 : Nat) (Option.some Jvm.ClassFile.FieldType.int)) ∈ lw_all := lw_g (lw_at lw_m5 231 rfl) rfl
theorem q1310 : (Jvm.Cond.methodLink "LostLanes" (344 : Nat) ({ cls := "java/lang/Math", name := "max", desc := "(II)I" } : Jvm.MethodName)) ∈ lw_all := lw_g (lw_at lw_m5 232 rfl) rfl
theorem q1312 : (Jvm.Cond.instanceMethod ({ cls := "LostLanes", name := "posts", desc := "(II)I" } : Jvm.MethodName)) ∈ lw_all := lw_g (lw_at lw_m5 234 rfl) rfl
theorem q1313 : (Jvm.Cond.selects "LostLanes" ({ cls := "LostLanes", name := "posts", desc := "(II)I" } : Jvm.MethodName) ({ cls := "LostLanes", name := "posts", desc := "(II)I" } : Jvm.MethodName)) ∈ lw_all := lw_g (lw_at lw_m5 235 rfl) rfl
theorem q1314 : (Jvm.Cond.code ({ cls := "LostLanes", name := "posts", desc := "(II)I" } : Jvm.MethodName) prog_1_method_64_code (5 : Nat) (Option.some Jvm.ClassFile.FieldType.int)) ∈ lw_all := lw_g (lw_at lw_m5 236 rfl) rfl
theorem q1315 : (Jvm.Cond.methodLink "LostLanes" (352 : Nat) ({ cls := "LostLanes", name := "ones", desc := "(I)I" } : Jvm.MethodName)) ∈ lw_all := lw_g (lw_at lw_m5 237 rfl) rfl
theorem q1316 : (Jvm.Cond.static ({ cls := "LostLanes", name := "ones", desc := "(I)I" } : Jvm.MethodName)) ∈ lw_all := lw_g (lw_at lw_m5 238 rfl) rfl
theorem q1317 : (Jvm.Cond.code ({ cls := "LostLanes", name := "ones", desc := "(I)I" } : Jvm.MethodName) prog_1_method_5_code (1 : Nat) (Option.some Jvm.ClassFile.FieldType.int)) ∈ lw_all := lw_g (lw_at lw_m5 239 rfl) rfl
theorem q1318 : (Jvm.Cond.methodLink "LostLanes" (11 : Nat) ({ cls := "java/lang/Integer", name := "bitCount", desc := "(I)I" } : Jvm.MethodName)) ∈ lw_all := lw_g (lw_at lw_m6 0 rfl) rfl
theorem q1324 : (Jvm.Cond.methodLink "LostLanes" (355 : Nat) ({ cls := "LostLanes", name := "areNear", desc := "(II)Z" } : Jvm.MethodName)) ∈ lw_all := lw_g (lw_at lw_m6 6 rfl) rfl
theorem q1325 : (Jvm.Cond.privateMethod ({ cls := "LostLanes", name := "areNear", desc := "(II)Z" } : Jvm.MethodName)) ∈ lw_tbl := lw_at lw_m6 7 rfl
theorem q1326 : (Jvm.Cond.instanceMethod ({ cls := "LostLanes", name := "areNear", desc := "(II)Z" } : Jvm.MethodName)) ∈ lw_all := lw_g (lw_at lw_m6 8 rfl) rfl
theorem q1327 : (Jvm.Cond.code ({ cls := "LostLanes", name := "areNear", desc := "(II)Z" } : Jvm.MethodName) prog_1_method_63_code (7 : Nat) (Option.some Jvm.ClassFile.FieldType.boolean)) ∈ lw_all := lw_g (lw_at lw_m6 9 rfl) rfl
theorem q1328 : (Jvm.Cond.methodLink "LostLanes" (346 : Nat) ({ cls := "LostLanes", name := "ends", desc := "()I" } : Jvm.MethodName)) ∈ lw_all := lw_g (lw_at lw_m6 10 rfl) rfl
theorem q1329 : (Jvm.Cond.privateMethod ({ cls := "LostLanes", name := "ends", desc := "()I" } : Jvm.MethodName)) ∈ lw_tbl := lw_at lw_m6 11 rfl
theorem q1330 : (Jvm.Cond.instanceMethod ({ cls := "LostLanes", name := "ends", desc := "()I" } : Jvm.MethodName)) ∈ lw_all := lw_g (lw_at lw_m6 12 rfl) rfl
theorem q1331 : (Jvm.Cond.code ({ cls := "LostLanes", name := "ends", desc := "()I" } : Jvm.MethodName) prog_1_method_62_code (3 : Nat) (Option.some Jvm.ClassFile.FieldType.int)) ∈ lw_all := lw_g (lw_at lw_m6 13 rfl) rfl
theorem q1332 : (Jvm.Cond.methodLink "LostLanes" (349 : Nat) ({ cls := "LostLanes", name := "isOf", desc := "(II)Z" } : Jvm.MethodName)) ∈ lw_all := lw_g (lw_at lw_m6 14 rfl) rfl
theorem q1333 : (Jvm.Cond.static ({ cls := "LostLanes", name := "isOf", desc := "(II)Z" } : Jvm.MethodName)) ∈ lw_all := lw_g (lw_at lw_m6 15 rfl) rfl
theorem q1334 : (Jvm.Cond.code ({ cls := "LostLanes", name := "isOf", desc := "(II)Z" } : Jvm.MethodName) prog_1_method_4_code (2 : Nat) (Option.some Jvm.ClassFile.FieldType.boolean)) ∈ lw_all := lw_g (lw_at lw_m6 16 rfl) rfl
theorem q1336 : (Jvm.Cond.instanceMethod ({ cls := "LostLanes", name := "hear", desc := "(I)I" } : Jvm.MethodName)) ∈ lw_all := lw_g (lw_at lw_m6 18 rfl) rfl
theorem q1337 : (Jvm.Cond.selects "LostLanes" ({ cls := "LostLanes", name := "hear", desc := "(I)I" } : Jvm.MethodName) ({ cls := "LostLanes", name := "hear", desc := "(I)I" } : Jvm.MethodName)) ∈ lw_all := lw_g (lw_at lw_m6 19 rfl) rfl
theorem q1338 : (Jvm.Cond.code ({ cls := "LostLanes", name := "hear", desc := "(I)I" } : Jvm.MethodName) prog_1_method_65_code (2 : Nat) (Option.some Jvm.ClassFile.FieldType.int)) ∈ lw_all := lw_g (lw_at lw_m6 20 rfl) rfl
theorem q1340 : (Jvm.Cond.instanceMethod ({ cls := "LostLanes", name := "forget", desc := "()I" } : Jvm.MethodName)) ∈ lw_all := lw_g (lw_at lw_m6 22 rfl) rfl
theorem q1341 : (Jvm.Cond.selects "LostLanes" ({ cls := "LostLanes", name := "forget", desc := "()I" } : Jvm.MethodName) ({ cls := "LostLanes", name := "forget", desc := "()I" } : Jvm.MethodName)) ∈ lw_all := lw_g (lw_at lw_m6 23 rfl) rfl
theorem q1342 : (Jvm.Cond.code ({ cls := "LostLanes", name := "forget", desc := "()I" } : Jvm.MethodName) prog_1_method_66_code (2 : Nat) (Option.some Jvm.ClassFile.FieldType.int)) ∈ lw_all := lw_g (lw_at lw_m6 24 rfl) rfl
theorem q1344 : (Jvm.Cond.instanceMethod ({ cls := "LostLanes", name := "gone", desc := "(I)I" } : Jvm.MethodName)) ∈ lw_all := lw_g (lw_at lw_m6 26 rfl) rfl
theorem q1345 : (Jvm.Cond.selects "LostLanes" ({ cls := "LostLanes", name := "gone", desc := "(I)I" } : Jvm.MethodName) ({ cls := "LostLanes", name := "gone", desc := "(I)I" } : Jvm.MethodName)) ∈ lw_all := lw_g (lw_at lw_m6 27 rfl) rfl
theorem q1346 : (Jvm.Cond.code ({ cls := "LostLanes", name := "gone", desc := "(I)I" } : Jvm.MethodName) prog_1_method_68_code (5 : Nat) (Option.some Jvm.ClassFile.FieldType.int)) ∈ lw_all := lw_g (lw_at lw_m6 28 rfl) rfl
theorem q1347 : (Jvm.Cond.methodLink "LostLanes" (370 : Nat) ({ cls := "LostLanes", name := "laysWays", desc := "(Z)V" } : Jvm.MethodName)) ∈ lw_all := lw_g (lw_at lw_m6 29 rfl) rfl
theorem q1348 : (Jvm.Cond.privateMethod ({ cls := "LostLanes", name := "laysWays", desc := "(Z)V" } : Jvm.MethodName)) ∈ lw_tbl := lw_at lw_m6 30 rfl
theorem q1349 : (Jvm.Cond.instanceMethod ({ cls := "LostLanes", name := "laysWays", desc := "(Z)V" } : Jvm.MethodName)) ∈ lw_all := lw_g (lw_at lw_m6 31 rfl) rfl
theorem q1350 : (Jvm.Cond.code ({ cls := "LostLanes", name := "laysWays", desc := "(Z)V" } : Jvm.MethodName) prog_1_method_67_code (5 : Nat) (Option.none : Option Jvm.ClassFile.FieldType)) ∈ lw_all := lw_g (lw_at lw_m6 32 rfl) rfl
theorem q1351 : (Jvm.Cond.methodLink "LostLanes" (364 : Nat) ({ cls := "java/lang/System", name := "arraycopy", desc := "(Ljava/lang/Object;ILjava/lang/Object;II)V" } : Jvm.MethodName)) ∈ lw_all := lw_g (lw_at lw_m6 33 rfl) rfl
theorem q1353 : (Jvm.Cond.instanceMethod ({ cls := "LostLanes", name := "named", desc := "(I)I" } : Jvm.MethodName)) ∈ lw_all := lw_g (lw_at lw_m6 35 rfl) rfl
theorem q1354 : (Jvm.Cond.selects "LostLanes" ({ cls := "LostLanes", name := "named", desc := "(I)I" } : Jvm.MethodName) ({ cls := "LostLanes", name := "named", desc := "(I)I" } : Jvm.MethodName)) ∈ lw_all := lw_g (lw_at lw_m6 36 rfl) rfl
theorem q1355 : (Jvm.Cond.code ({ cls := "LostLanes", name := "named", desc := "(I)I" } : Jvm.MethodName) prog_1_method_69_code (3 : Nat) (Option.some Jvm.ClassFile.FieldType.int)) ∈ lw_all := lw_g (lw_at lw_m6 37 rfl) rfl
theorem q1357 : (Jvm.Cond.instanceMethod ({ cls := "LostLanes", name := "letter", desc := "(III)I" } : Jvm.MethodName)) ∈ lw_all := lw_g (lw_at lw_m6 39 rfl) rfl
theorem q1358 : (Jvm.Cond.selects "LostLanes" ({ cls := "LostLanes", name := "letter", desc := "(III)I" } : Jvm.MethodName) ({ cls := "LostLanes", name := "letter", desc := "(III)I" } : Jvm.MethodName)) ∈ lw_all := lw_g (lw_at lw_m6 40 rfl) rfl
theorem q1359 : (Jvm.Cond.code ({ cls := "LostLanes", name := "letter", desc := "(III)I" } : Jvm.MethodName) prog_1_method_73_code (9 : Nat) (Option.some Jvm.ClassFile.FieldType.int)) ∈ lw_all := lw_g (lw_at lw_m6 41 rfl) rfl
theorem q1360 : (Jvm.Cond.methodLink "LostLanes" (377 : Nat) ({ cls := "LostLanes", name := "laneFor", desc := "(II)I" } : Jvm.MethodName)) ∈ lw_all := lw_g (lw_at lw_m6 42 rfl) rfl
theorem q1361 : (Jvm.Cond.privateMethod ({ cls := "LostLanes", name := "laneFor", desc := "(II)I" } : Jvm.MethodName)) ∈ lw_tbl := lw_at lw_m6 43 rfl
theorem q1362 : (Jvm.Cond.instanceMethod ({ cls := "LostLanes", name := "laneFor", desc := "(II)I" } : Jvm.MethodName)) ∈ lw_all := lw_g (lw_at lw_m6 44 rfl) rfl
theorem q1363 : (Jvm.Cond.code ({ cls := "LostLanes", name := "laneFor", desc := "(II)I" } : Jvm.MethodName) prog_1_method_71_code (6 : Nat) (Option.some Jvm.ClassFile.FieldType.int)) ∈ lw_all := lw_g (lw_at lw_m6 45 rfl) rfl
theorem q1364 : (Jvm.Cond.methodLink "LostLanes" (374 : Nat) ({ cls := "LostLanes", name := "nearerEnd", desc := "(II)I" } : Jvm.MethodName)) ∈ lw_all := lw_g (lw_at lw_m6 46 rfl) rfl
theorem q1365 : (Jvm.Cond.privateMethod ({ cls := "LostLanes", name := "nearerEnd", desc := "(II)I" } : Jvm.MethodName)) ∈ lw_tbl := lw_at lw_m6 47 rfl
theorem q1366 : (Jvm.Cond.instanceMethod ({ cls := "LostLanes", name := "nearerEnd", desc := "(II)I" } : Jvm.MethodName)) ∈ lw_all := lw_g (lw_at lw_m6 48 rfl) rfl
theorem q1367 : (Jvm.Cond.code ({ cls := "LostLanes", name := "nearerEnd", desc := "(II)I" } : Jvm.MethodName) prog_1_method_70_code (5 : Nat) (Option.some Jvm.ClassFile.FieldType.int)) ∈ lw_all := lw_g (lw_at lw_m6 49 rfl) rfl
theorem q1368 : (Jvm.Cond.methodLink "LostLanes" (380 : Nat) ({ cls := "LostLanes", name := "laneLong", desc := "(II)I" } : Jvm.MethodName)) ∈ lw_all := lw_g (lw_at lw_m6 50 rfl) rfl
theorem q1369 : (Jvm.Cond.privateMethod ({ cls := "LostLanes", name := "laneLong", desc := "(II)I" } : Jvm.MethodName)) ∈ lw_tbl := lw_at lw_m6 51 rfl
theorem q1370 : (Jvm.Cond.instanceMethod ({ cls := "LostLanes", name := "laneLong", desc := "(II)I" } : Jvm.MethodName)) ∈ lw_all := lw_g (lw_at lw_m6 52 rfl) rfl
theorem q1371 : (Jvm.Cond.code ({ cls := "LostLanes", name := "laneLong", desc := "(II)I" } : Jvm.MethodName) prog_1_method_72_code (5 : Nat) (Option.some Jvm.ClassFile.FieldType.int)) ∈ lw_all := lw_g (lw_at lw_m6 53 rfl) rfl
theorem q1373 : (Jvm.Cond.instanceMethod ({ cls := "LostLanes", name := "apart", desc := "(I)I" } : Jvm.MethodName)) ∈ lw_all := lw_g (lw_at lw_m6 55 rfl) rfl
theorem q1374 : (Jvm.Cond.selects "LostLanes" ({ cls := "LostLanes", name := "apart", desc := "(I)I" } : Jvm.MethodName) ({ cls := "LostLanes", name := "apart", desc := "(I)I" } : Jvm.MethodName)) ∈ lw_all := lw_g (lw_at lw_m6 56 rfl) rfl
theorem q1375 : (Jvm.Cond.code ({ cls := "LostLanes", name := "apart", desc := "(I)I" } : Jvm.MethodName) prog_1_method_76_code (3 : Nat) (Option.some Jvm.ClassFile.FieldType.int)) ∈ lw_all := lw_g (lw_at lw_m6 57 rfl) rfl
theorem q1376 : (Jvm.Cond.methodLink "LostLanes" (386 : Nat) ({ cls := "LostLanes", name := "colours", desc := "(II)Z" } : Jvm.MethodName)) ∈ lw_all := lw_g (lw_at lw_m6 58 rfl) rfl
theorem q1377 : (Jvm.Cond.privateMethod ({ cls := "LostLanes", name := "colours", desc := "(II)Z" } : Jvm.MethodName)) ∈ lw_tbl := lw_at lw_m6 59 rfl
theorem q1378 : (Jvm.Cond.instanceMethod ({ cls := "LostLanes", name := "colours", desc := "(II)Z" } : Jvm.MethodName)) ∈ lw_all := lw_g (lw_at lw_m6 60 rfl) rfl
theorem q1379 : (Jvm.Cond.code ({ cls := "LostLanes", name := "colours", desc := "(II)Z" } : Jvm.MethodName) prog_1_method_75_code (6 : Nat) (Option.some Jvm.ClassFile.FieldType.boolean)) ∈ lw_all := lw_g (lw_at lw_m6 61 rfl) rfl
theorem q1380 : (Jvm.Cond.methodLink "LostLanes" (383 : Nat) ({ cls := "LostLanes", name := "meet", desc := "(II)Z" } : Jvm.MethodName)) ∈ lw_all := lw_g (lw_at lw_m6 62 rfl) rfl
theorem q1381 : (Jvm.Cond.privateMethod ({ cls := "LostLanes", name := "meet", desc := "(II)Z" } : Jvm.MethodName)) ∈ lw_tbl := lw_at lw_m6 63 rfl
theorem q1382 : (Jvm.Cond.instanceMethod ({ cls := "LostLanes", name := "meet", desc := "(II)Z" } : Jvm.MethodName)) ∈ lw_all := lw_g (lw_at lw_m6 64 rfl) rfl
theorem q1383 : (Jvm.Cond.code ({ cls := "LostLanes", name := "meet", desc := "(II)Z" } : Jvm.MethodName) prog_1_method_74_code (3 : Nat) (Option.some Jvm.ClassFile.FieldType.boolean)) ∈ lw_all := lw_g (lw_at lw_m6 65 rfl) rfl
theorem q1385 : (Jvm.Cond.instanceMethod ({ cls := "LostLanes", name := "alike", desc := "()I" } : Jvm.MethodName)) ∈ lw_all := lw_g (lw_at lw_m6 67 rfl) rfl
theorem q1386 : (Jvm.Cond.selects "LostLanes" ({ cls := "LostLanes", name := "alike", desc := "()I" } : Jvm.MethodName) ({ cls := "LostLanes", name := "alike", desc := "()I" } : Jvm.MethodName)) ∈ lw_all := lw_g (lw_at lw_m6 68 rfl) rfl
theorem q1387 : (Jvm.Cond.code ({ cls := "LostLanes", name := "alike", desc := "()I" } : Jvm.MethodName) prog_1_method_77_code (4 : Nat) (Option.some Jvm.ClassFile.FieldType.int)) ∈ lw_all := lw_g (lw_at lw_m6 69 rfl) rfl
theorem q1389 : (Jvm.Cond.instanceMethod ({ cls := "LostLanes", name := "round", desc := "()I" } : Jvm.MethodName)) ∈ lw_all := lw_g (lw_at lw_m6 71 rfl) rfl
theorem q1390 : (Jvm.Cond.selects "LostLanes" ({ cls := "LostLanes", name := "round", desc := "()I" } : Jvm.MethodName) ({ cls := "LostLanes", name := "round", desc := "()I" } : Jvm.MethodName)) ∈ lw_all := lw_g (lw_at lw_m6 72 rfl) rfl
theorem q1391 : (Jvm.Cond.code ({ cls := "LostLanes", name := "round", desc := "()I" } : Jvm.MethodName) prog_1_method_80_code (4 : Nat) (Option.some Jvm.ClassFile.FieldType.int)) ∈ lw_all := lw_g (lw_at lw_m6 73 rfl) rfl
theorem q1392 : (Jvm.Cond.methodLink "LostLanes" (395 : Nat) ({ cls := "LostLanes", name := "lanesAt", desc := "(I)I" } : Jvm.MethodName)) ∈ lw_all := lw_g (lw_at lw_m6 74 rfl) rfl
theorem q1393 : (Jvm.Cond.privateMethod ({ cls := "LostLanes", name := "lanesAt", desc := "(I)I" } : Jvm.MethodName)) ∈ lw_tbl := lw_at lw_m6 75 rfl
theorem q1394 : (Jvm.Cond.instanceMethod ({ cls := "LostLanes", name := "lanesAt", desc := "(I)I" } : Jvm.MethodName)) ∈ lw_all := lw_g (lw_at lw_m6 76 rfl) rfl
theorem q1395 : (Jvm.Cond.code ({ cls := "LostLanes", name := "lanesAt", desc := "(I)I" } : Jvm.MethodName) prog_1_method_78_code (4 : Nat) (Option.some Jvm.ClassFile.FieldType.int)) ∈ lw_all := lw_g (lw_at lw_m6 77 rfl) rfl
theorem q1396 : (Jvm.Cond.methodLink "LostLanes" (392 : Nat) ({ cls := "LostLanes", name := "pairsUp", desc := "(I)I" } : Jvm.MethodName)) ∈ lw_all := lw_g (lw_at lw_m6 78 rfl) rfl
theorem q1397 : (Jvm.Cond.privateMethod ({ cls := "LostLanes", name := "pairsUp", desc := "(I)I" } : Jvm.MethodName)) ∈ lw_tbl := lw_at lw_m6 79 rfl
theorem q1398 : (Jvm.Cond.instanceMethod ({ cls := "LostLanes", name := "pairsUp", desc := "(I)I" } : Jvm.MethodName)) ∈ lw_all := lw_g (lw_at lw_m6 80 rfl) rfl
theorem q1399 : (Jvm.Cond.code ({ cls := "LostLanes", name := "pairsUp", desc := "(I)I" } : Jvm.MethodName) prog_1_method_79_code (6 : Nat) (Option.some Jvm.ClassFile.FieldType.int)) ∈ lw_all := lw_g (lw_at lw_m6 81 rfl) rfl
theorem q1400 : (Jvm.Cond.methodLink "LostLanes" (389 : Nat) ({ cls := "java/lang/Integer", name := "numberOfTrailingZeros", desc := "(I)I" } : Jvm.MethodName)) ∈ lw_all := lw_g (lw_at lw_m6 82 rfl) rfl
theorem q1405 : (Jvm.Cond.instanceMethod ({ cls := "LostLanes", name := "dead", desc := "()I" } : Jvm.MethodName)) ∈ lw_all := lw_g (lw_at lw_m6 87 rfl) rfl
theorem q1406 : (Jvm.Cond.selects "LostLanes" ({ cls := "LostLanes", name := "dead", desc := "()I" } : Jvm.MethodName) ({ cls := "LostLanes", name := "dead", desc := "()I" } : Jvm.MethodName)) ∈ lw_all := lw_g (lw_at lw_m6 88 rfl) rfl
theorem q1407 : (Jvm.Cond.code ({ cls := "LostLanes", name := "dead", desc := "()I" } : Jvm.MethodName) prog_1_method_81_code (3 : Nat) (Option.some Jvm.ClassFile.FieldType.int)) ∈ lw_all := lw_g (lw_at lw_m6 89 rfl) rfl
theorem q1409 : (Jvm.Cond.instanceMethod ({ cls := "LostLanes", name := "few", desc := "(II)J" } : Jvm.MethodName)) ∈ lw_all := lw_g (lw_at lw_m6 91 rfl) rfl
theorem q1410 : (Jvm.Cond.selects "LostLanes" ({ cls := "LostLanes", name := "few", desc := "(II)J" } : Jvm.MethodName) ({ cls := "LostLanes", name := "few", desc := "(II)J" } : Jvm.MethodName)) ∈ lw_all := lw_g (lw_at lw_m6 92 rfl) rfl
theorem q1411 : (Jvm.Cond.code ({ cls := "LostLanes", name := "few", desc := "(II)J" } : Jvm.MethodName) prog_1_method_82_code (6 : Nat) (Option.some Jvm.ClassFile.FieldType.long)) ∈ lw_all := lw_g (lw_at lw_m6 93 rfl) rfl
theorem q1412 : (Jvm.Cond.constantLong "LostLanes" (398 : Nat) (1000000000000 : Int64)) ∈ lw_all := lw_g (lw_at lw_m6 94 rfl) rfl
theorem q1413 : (Jvm.Cond.constantLong "LostLanes" (400 : Nat) (10 : Int64)) ∈ lw_all := lw_g (lw_at lw_m6 95 rfl) rfl
theorem q1415 : (Jvm.Cond.instanceMethod ({ cls := "LostLanes", name := "compare", desc := "(II)I" } : Jvm.MethodName)) ∈ lw_all := lw_g (lw_at lw_m6 97 rfl) rfl
theorem q1416 : (Jvm.Cond.selects "LostLanes" ({ cls := "LostLanes", name := "compare", desc := "(II)I" } : Jvm.MethodName) ({ cls := "LostLanes", name := "compare", desc := "(II)I" } : Jvm.MethodName)) ∈ lw_all := lw_g (lw_at lw_m6 98 rfl) rfl
theorem q1417 : (Jvm.Cond.code ({ cls := "LostLanes", name := "compare", desc := "(II)I" } : Jvm.MethodName) prog_1_method_83_code (5 : Nat) (Option.some Jvm.ClassFile.FieldType.int)) ∈ lw_all := lw_g (lw_at lw_m6 99 rfl) rfl
theorem q1419 : (Jvm.Cond.instanceMethod ({ cls := "LostLanes", name := "orders", desc := "()I" } : Jvm.MethodName)) ∈ lw_all := lw_g (lw_at lw_m6 101 rfl) rfl
theorem q1420 : (Jvm.Cond.selects "LostLanes" ({ cls := "LostLanes", name := "orders", desc := "()I" } : Jvm.MethodName) ({ cls := "LostLanes", name := "orders", desc := "()I" } : Jvm.MethodName)) ∈ lw_all := lw_g (lw_at lw_m6 102 rfl) rfl
theorem q1421 : (Jvm.Cond.code ({ cls := "LostLanes", name := "orders", desc := "()I" } : Jvm.MethodName) prog_1_method_84_code (10 : Nat) (Option.some Jvm.ClassFile.FieldType.int)) ∈ lw_all := lw_g (lw_at lw_m6 103 rfl) rfl
theorem q1422 : (Jvm.Cond.classLink "LostLanes" (402 : Nat) "LostLanes$OrderReader") ∈ lw_all := lw_g (lw_at lw_m6 104 rfl) rfl
theorem q1424 : (Jvm.Cond.methodLink "LostLanes" (404 : Nat) ({ cls := "LostLanes$OrderReader", name := "<init>", desc := "([BI)V" } : Jvm.MethodName)) ∈ lw_all := lw_g (lw_at lw_m6 106 rfl) rfl
theorem q1431 : (Jvm.Cond.fieldLinkNest "LostLanes" (405 : Nat) "LostLanes$OrderReader" "orders" "Ljava/util/ArrayList;" "LostLanes") ∈ lw_tbl := lw_at lw_m6 113 rfl
theorem q1442 : (Jvm.Cond.classLink "LostLanes" (408 : Nat) "LostLanes$Order") ∈ lw_all := lw_g (lw_at lw_m6 124 rfl) rfl
theorem q1443 : (Jvm.Cond.methodLink "LostLanes" (413 : Nat) ({ cls := "LostLanes", name := "tellsOrder", desc := "(II)V" } : Jvm.MethodName)) ∈ lw_all := lw_g (lw_at lw_m6 125 rfl) rfl
theorem q1444 : (Jvm.Cond.privateMethod ({ cls := "LostLanes", name := "tellsOrder", desc := "(II)V" } : Jvm.MethodName)) ∈ lw_tbl := lw_at lw_m6 126 rfl
theorem q1445 : (Jvm.Cond.instanceMethod ({ cls := "LostLanes", name := "tellsOrder", desc := "(II)V" } : Jvm.MethodName)) ∈ lw_all := lw_g (lw_at lw_m6 127 rfl) rfl
theorem q1446 : (Jvm.Cond.code ({ cls := "LostLanes", name := "tellsOrder", desc := "(II)V" } : Jvm.MethodName) prog_1_method_87_code (6 : Nat) (Option.none : Option Jvm.ClassFile.FieldType)) ∈ lw_all := lw_g (lw_at lw_m6 128 rfl) rfl
theorem q1447 : (Jvm.Cond.methodLink "LostLanes" (439 : Nat) ({ cls := "LostLanes$Table", name := "namedOf", desc := "(I)I" } : Jvm.MethodName)) ∈ lw_all := lw_g (lw_at lw_m6 129 rfl) rfl
theorem q1451 : (Jvm.Cond.methodLink "LostLanes" (417 : Nat) ({ cls := "LostLanes$Order", name := "isNow", desc := "(LLostLanes$Setting;)Z" } : Jvm.MethodName)) ∈ lw_all := lw_g (lw_at lw_m6 133 rfl) rfl
theorem q1457 : (Jvm.Cond.methodLink "LostLanes" (421 : Nat) ({ cls := "LostLanes", name := "runsOrder", desc := "(LLostLanes$Order;)I" } : Jvm.MethodName)) ∈ lw_all := lw_g (lw_at lw_m6 139 rfl) rfl
theorem q1458 : (Jvm.Cond.privateMethod ({ cls := "LostLanes", name := "runsOrder", desc := "(LLostLanes$Order;)I" } : Jvm.MethodName)) ∈ lw_tbl := lw_at lw_m6 140 rfl
theorem q1459 : (Jvm.Cond.instanceMethod ({ cls := "LostLanes", name := "runsOrder", desc := "(LLostLanes$Order;)I" } : Jvm.MethodName)) ∈ lw_all := lw_g (lw_at lw_m6 141 rfl) rfl
theorem q1460 : (Jvm.Cond.code ({ cls := "LostLanes", name := "runsOrder", desc := "(LLostLanes$Order;)I" } : Jvm.MethodName) prog_1_method_85_code (3 : Nat) (Option.some Jvm.ClassFile.FieldType.int)) ∈ lw_all := lw_g (lw_at lw_m6 142 rfl) rfl
theorem q1461 : (Jvm.Cond.methodLink "LostLanes" (434 : Nat) ({ cls := "LostLanes$Order", name := "told", desc := "(LLostLanes$Sum;LLostLanes$Setting;)I" } : Jvm.MethodName)) ∈ lw_all := lw_g (lw_at lw_m6 143 rfl) rfl
theorem q1466 : (Jvm.Cond.methodLink "LostLanes" (425 : Nat) ({ cls := "LostLanes", name := "putsBack", desc := "(I)V" } : Jvm.MethodName)) ∈ lw_all := lw_g (lw_at lw_m6 148 rfl) rfl
theorem q1467 : (Jvm.Cond.privateMethod ({ cls := "LostLanes", name := "putsBack", desc := "(I)V" } : Jvm.MethodName)) ∈ lw_tbl := lw_at lw_m6 149 rfl
theorem q1468 : (Jvm.Cond.instanceMethod ({ cls := "LostLanes", name := "putsBack", desc := "(I)V" } : Jvm.MethodName)) ∈ lw_all := lw_g (lw_at lw_m6 150 rfl) rfl
theorem q1469 : (Jvm.Cond.code ({ cls := "LostLanes", name := "putsBack", desc := "(I)V" } : Jvm.MethodName) prog_1_method_86_code (3 : Nat) (Option.none : Option Jvm.ClassFile.FieldType)) ∈ lw_all := lw_g (lw_at lw_m6 151 rfl) rfl
theorem q1471 : (Jvm.Cond.instanceMethod ({ cls := "LostLanes", name := "decades", desc := "(II)I" } : Jvm.MethodName)) ∈ lw_all := lw_g (lw_at lw_m6 153 rfl) rfl
theorem q1472 : (Jvm.Cond.selects "LostLanes" ({ cls := "LostLanes", name := "decades", desc := "(II)I" } : Jvm.MethodName) ({ cls := "LostLanes", name := "decades", desc := "(II)I" } : Jvm.MethodName)) ∈ lw_all := lw_g (lw_at lw_m6 154 rfl) rfl
theorem q1473 : (Jvm.Cond.code ({ cls := "LostLanes", name := "decades", desc := "(II)I" } : Jvm.MethodName) prog_1_method_89_code (8 : Nat) (Option.some Jvm.ClassFile.FieldType.int)) ∈ lw_all := lw_g (lw_at lw_m6 155 rfl) rfl
theorem q1474 : (Jvm.Cond.methodLink "LostLanes" (454 : Nat) ({ cls := "LostLanes", name := "draw", desc := "(I)I" } : Jvm.MethodName)) ∈ lw_all := lw_g (lw_at lw_m6 156 rfl) rfl
theorem q1475 : (Jvm.Cond.privateMethod ({ cls := "LostLanes", name := "draw", desc := "(I)I" } : Jvm.MethodName)) ∈ lw_tbl := lw_at lw_m6 157 rfl
theorem q1476 : (Jvm.Cond.instanceMethod ({ cls := "LostLanes", name := "draw", desc := "(I)I" } : Jvm.MethodName)) ∈ lw_all := lw_g (lw_at lw_m6 158 rfl) rfl
theorem q1477 : (Jvm.Cond.code ({ cls := "LostLanes", name := "draw", desc := "(I)I" } : Jvm.MethodName) prog_1_method_88_code (2 : Nat) (Option.some Jvm.ClassFile.FieldType.int)) ∈ lw_all := lw_g (lw_at lw_m6 159 rfl) rfl
theorem q1478 : (Jvm.Cond.constantLong "LostLanes" (445 : Nat) (1103 : Int64)) ∈ lw_all := lw_g (lw_at lw_m6 160 rfl) rfl
theorem q1479 : (Jvm.Cond.constantLong "LostLanes" (447 : Nat) (12345 : Int64)) ∈ lw_all := lw_g (lw_at lw_m6 161 rfl) rfl
theorem q1480 : (Jvm.Cond.constantLong "LostLanes" (449 : Nat) (1000003 : Int64)) ∈ lw_all := lw_g (lw_at lw_m6 162 rfl) rfl
theorem q1482 : (Jvm.Cond.instanceMethod ({ cls := "LostLanes", name := "drawn", desc := "(II)I" } : Jvm.MethodName)) ∈ lw_all := lw_g (lw_at lw_m6 164 rfl) rfl
theorem q1483 : (Jvm.Cond.selects "LostLanes" ({ cls := "LostLanes", name := "drawn", desc := "(II)I" } : Jvm.MethodName) ({ cls := "LostLanes", name := "drawn", desc := "(II)I" } : Jvm.MethodName)) ∈ lw_all := lw_g (lw_at lw_m6 165 rfl) rfl
theorem q1484 : (Jvm.Cond.code ({ cls := "LostLanes", name := "drawn", desc := "(II)I" } : Jvm.MethodName) prog_1_method_90_code (3 : Nat) (Option.some Jvm.ClassFile.FieldType.int)) ∈ lw_all := lw_g (lw_at lw_m6 166 rfl) rfl
theorem q1486 : (Jvm.Cond.instanceMethod ({ cls := "LostLanes", name := "count", desc := "(I)I" } : Jvm.MethodName)) ∈ lw_all := lw_g (lw_at lw_m6 168 rfl) rfl
theorem q1487 : (Jvm.Cond.selects "LostLanes" ({ cls := "LostLanes", name := "count", desc := "(I)I" } : Jvm.MethodName) ({ cls := "LostLanes", name := "count", desc := "(I)I" } : Jvm.MethodName)) ∈ lw_all := lw_g (lw_at lw_m6 169 rfl) rfl
theorem q1488 : (Jvm.Cond.code ({ cls := "LostLanes", name := "count", desc := "(I)I" } : Jvm.MethodName) prog_1_method_91_code (2 : Nat) (Option.some Jvm.ClassFile.FieldType.int)) ∈ lw_all := lw_g (lw_at lw_m6 170 rfl) rfl
theorem q1490 : (Jvm.Cond.instanceMethod ({ cls := "LostLanes", name := "status", desc := "()I" } : Jvm.MethodName)) ∈ lw_all := lw_g (lw_at lw_m6 172 rfl) rfl
theorem q1491 : (Jvm.Cond.selects "LostLanes" ({ cls := "LostLanes", name := "status", desc := "()I" } : Jvm.MethodName) ({ cls := "LostLanes", name := "status", desc := "()I" } : Jvm.MethodName)) ∈ lw_all := lw_g (lw_at lw_m6 173 rfl) rfl
theorem q1492 : (Jvm.Cond.code ({ cls := "LostLanes", name := "status", desc := "()I" } : Jvm.MethodName) prog_1_method_92_code (1 : Nat) (Option.some Jvm.ClassFile.FieldType.int)) ∈ lw_all := lw_g (lw_at lw_m6 174 rfl) rfl
theorem q2237 : (Jvm.Cond.castable "LostLanes" "java/lang/Object") ∈ lw_tbl := lw_at lw_m9 199 rfl
theorem in_X0 : ∀ w ∈ wsX00, w ∈ lw_all := lw_in wsX00 [388, 390, 392, 394, 396, 398, 400, 402, 404, 406, 408, 410, 412, 414, 416, 418, 420, 422, 424, 426, 428, 430, 432, 434, 436, 438, 440, 442] (by decide +kernel) (by decide +kernel)
