/-! StoneSheets -/
set_option maxRecDepth 100000
def RX0 : String := "StoneSheets"
def TX0 : u_T := fun k => match k with
  | 0 => ("StoneSheets", "now", "LStoneSheets$State;", true)
  | 1 => ("StoneSheets", "image", "LStoneSheets$State;", true)
  | 2 => ("StoneSheets", "aside", "LStoneSheets$State;", true)
  | 3 => ("StoneSheets", "before", "LStoneSheets$State;", true)
  | 4 => ("StoneSheets", "hasImage", "Z", false)
  | 5 => ("StoneSheets", "pile", "[I", true)
  | 6 => ("StoneSheets", "tape", "[B", true)
  | 7 => ("StoneSheets", "taped", "I", false)
  | 8 => ("StoneSheets", "fault", "LStoneSheets$Fault;", true)
  | 9 => ("StoneSheets", "from", "I", false)
  | 10 => ("StoneSheets", "to", "I", false)
  | 11 => ("StoneSheets", "end", "I", false)
  | 12 => ("StoneSheets", "parens", "I", false)
  | 13 => ("StoneSheets", "nots", "I", false)
  | 14 => ("StoneSheets", "wordMany", "I", false)
  | 15 => ("StoneSheets", "keyRead", "I", false)
  | 16 => ("StoneSheets", "named", "[I", true)
  | 17 => ("StoneSheets", "clashes", "[I", true)
  | 18 => ("StoneSheets", "sheets", "[LStoneSheets$Sheet;", true)
  | 19 => ("StoneSheets", "slots", "[LStoneSheets$Slot;", true)
  | 20 => ("StoneSheets", "carried", "[F", true)
  | 21 => ("StoneSheets", "waits", "[I", true)
  | 22 => ("StoneSheets", "waitMany", "I", false)
  | _ => ("StoneSheets", "rows", "[I", true)
def tyX0 : Nat → FieldType := fun k => match k with
  | 0 => .object "StoneSheets$State"
  | 1 => .object "StoneSheets$State"
  | 2 => .object "StoneSheets$State"
  | 3 => .object "StoneSheets$State"
  | 4 => .boolean
  | 5 => .array .int
  | 6 => .array .byte
  | 7 => .int
  | 8 => .object "StoneSheets$Fault"
  | 9 => .int
  | 10 => .int
  | 11 => .int
  | 12 => .int
  | 13 => .int
  | 14 => .int
  | 15 => .int
  | 16 => .array .int
  | 17 => .array .int
  | 18 => .array (.object "StoneSheets$Sheet")
  | 19 => .array (.object "StoneSheets$Slot")
  | 20 => .array .float
  | 21 => .array .int
  | 22 => .int
  | _ => .array .int
abbrev wsX00 : List Cond := u_ws RX0 TX0 24
set_option maxRecDepth 100000 in
theorem nmX0 : ∀ a, a < 24 → ∀ b, b < 24 → a ≠ b → (TX0 a).2.1 ≠ (TX0 b).2.1 := by decide +kernel
set_option maxRecDepth 100000 in
theorem tyX0_ok : ∀ k, k < 24 → parseFieldDescriptor (TX0 k).2.2.1 = some (tyX0 k) := by decide +kernel
abbrev cX0_init : ByteArray := prog_1_method_7_code
def yX0_init : MethodName := ⟨RX0, "<init>", "()V"⟩
def dkwX0_init_9 : List UInt8 := [181, 0, 104, 42, 16, 60, 188, 10, 181, 0, 107, 177]
abbrev dktX0_init_9 : List UInt8 := dkwX0_init_9 ++ []
def dkwX0_init_8 : List UInt8 := [187, 0, 93, 89, 183, 0, 95, 83, 181, 0, 96, 42, 16, 24, 188, 6, 181, 0, 100, 42, 16, 60, 188, 10]
abbrev dktX0_init_8 : List UInt8 := dkwX0_init_8 ++ dktX0_init_9
def dkwX0_init_7 : List UInt8 := [89, 5, 187, 0, 93, 89, 183, 0, 95, 83, 89, 6, 187, 0, 93, 89, 183, 0, 95, 83, 89, 7]
abbrev dktX0_init_7 : List UInt8 := dkwX0_init_7 ++ dktX0_init_8
def dkwX0_init_6 : List UInt8 := [8, 189, 0, 93, 89, 3, 187, 0, 93, 89, 183, 0, 95, 83, 89, 4, 187, 0, 93, 89, 183, 0, 95, 83]
abbrev dktX0_init_6 : List UInt8 := dkwX0_init_6 ++ dktX0_init_7
def dkwX0_init_5 : List UInt8 := [89, 5, 187, 0, 86, 89, 183, 0, 88, 83, 89, 6, 187, 0, 86, 89, 183, 0, 88, 83, 181, 0, 89, 42]
abbrev dktX0_init_5 : List UInt8 := dkwX0_init_5 ++ dktX0_init_6
def dkwX0_init_4 : List UInt8 := [7, 189, 0, 86, 89, 3, 187, 0, 86, 89, 183, 0, 88, 83, 89, 4, 187, 0, 86, 89, 183, 0, 88, 83]
abbrev dktX0_init_4 : List UInt8 := dkwX0_init_4 ++ dktX0_init_5
def dkwX0_init_3 : List UInt8 := [183, 0, 75, 181, 0, 76, 42, 17, 0, 128, 188, 10, 181, 0, 80, 42, 16, 9, 188, 10, 181, 0, 83, 42]
abbrev dktX0_init_3 : List UInt8 := dkwX0_init_3 ++ dktX0_init_4
def dkwX0_init_2 : List UInt8 := [181, 0, 62, 42, 16, 96, 188, 10, 181, 0, 65, 42, 16, 96, 188, 8, 181, 0, 69, 42, 187, 0, 73, 89]
abbrev dktX0_init_2 : List UInt8 := dkwX0_init_2 ++ dktX0_init_3
def dkwX0_init_1 : List UInt8 := [181, 0, 56, 42, 187, 0, 49, 89, 183, 0, 51, 181, 0, 59, 42, 187, 0, 49, 89, 183, 0, 51]
abbrev dktX0_init_1 : List UInt8 := dkwX0_init_1 ++ dktX0_init_2
def dkwX0_init_0 : List UInt8 := [42, 183, 0, 46, 42, 187, 0, 49, 89, 183, 0, 51, 181, 0, 52, 42, 187, 0, 49, 89, 183, 0, 51]
abbrev dktX0_init_0 : List UInt8 := dkwX0_init_0 ++ dktX0_init_1
theorem dksX0_init_0 : cX0_init.data.toList.drop 0 = dktX0_init_0 := by decide +kernel
theorem dksX0_init_1 : cX0_init.data.toList.drop 23 = dktX0_init_1 := dk_seg dksX0_init_0 23 rfl rfl
theorem dksX0_init_2 : cX0_init.data.toList.drop 45 = dktX0_init_2 := dk_seg dksX0_init_1 22 rfl rfl
theorem dksX0_init_3 : cX0_init.data.toList.drop 69 = dktX0_init_3 := dk_seg dksX0_init_2 24 rfl rfl
theorem dksX0_init_4 : cX0_init.data.toList.drop 93 = dktX0_init_4 := dk_seg dksX0_init_3 24 rfl rfl
theorem dksX0_init_5 : cX0_init.data.toList.drop 117 = dktX0_init_5 := dk_seg dksX0_init_4 24 rfl rfl
theorem dksX0_init_6 : cX0_init.data.toList.drop 141 = dktX0_init_6 := dk_seg dksX0_init_5 24 rfl rfl
theorem dksX0_init_7 : cX0_init.data.toList.drop 165 = dktX0_init_7 := dk_seg dksX0_init_6 24 rfl rfl
theorem dksX0_init_8 : cX0_init.data.toList.drop 187 = dktX0_init_8 := dk_seg dksX0_init_7 22 rfl rfl
theorem dksX0_init_9 : cX0_init.data.toList.drop 211 = dktX0_init_9 := dk_seg dksX0_init_8 24 rfl rfl
theorem dX0_init_0 : decode cX0_init 0 = .ok (.aload_n 0, 1) := dk_42 (dk_at dksX0_init_0 0 rfl rfl)
theorem dX0_init_1 : decode cX0_init 1 = .ok (.invokespecial 46, 3) := dk_183 0 46 (dk_at dksX0_init_0 1 rfl rfl)
theorem dX0_init_4 : decode cX0_init 4 = .ok (.aload_n 0, 1) := dk_42 (dk_at dksX0_init_0 4 rfl rfl)
theorem dX0_init_5 : decode cX0_init 5 = .ok (.new 49, 3) := dk_187 0 49 (dk_at dksX0_init_0 5 rfl rfl)
theorem dX0_init_8 : decode cX0_init 8 = .ok (.dup, 1) := dk_89 (dk_at dksX0_init_0 8 rfl rfl)
theorem dX0_init_9 : decode cX0_init 9 = .ok (.invokespecial 51, 3) := dk_183 0 51 (dk_at dksX0_init_0 9 rfl rfl)
theorem dX0_init_12 : decode cX0_init 12 = .ok (.putfield 52, 3) := dk_181 0 52 (dk_at dksX0_init_0 12 rfl rfl)
theorem dX0_init_15 : decode cX0_init 15 = .ok (.aload_n 0, 1) := dk_42 (dk_at dksX0_init_0 15 rfl rfl)
theorem dX0_init_16 : decode cX0_init 16 = .ok (.new 49, 3) := dk_187 0 49 (dk_at dksX0_init_0 16 rfl rfl)
theorem dX0_init_19 : decode cX0_init 19 = .ok (.dup, 1) := dk_89 (dk_at dksX0_init_0 19 rfl rfl)
theorem dX0_init_20 : decode cX0_init 20 = .ok (.invokespecial 51, 3) := dk_183 0 51 (dk_at dksX0_init_0 20 rfl rfl)
theorem dX0_init_23 : decode cX0_init 23 = .ok (.putfield 56, 3) := dk_181 0 56 (dk_at dksX0_init_1 0 rfl rfl)
theorem dX0_init_26 : decode cX0_init 26 = .ok (.aload_n 0, 1) := dk_42 (dk_at dksX0_init_1 3 rfl rfl)
theorem dX0_init_27 : decode cX0_init 27 = .ok (.new 49, 3) := dk_187 0 49 (dk_at dksX0_init_1 4 rfl rfl)
theorem dX0_init_30 : decode cX0_init 30 = .ok (.dup, 1) := dk_89 (dk_at dksX0_init_1 7 rfl rfl)
theorem dX0_init_31 : decode cX0_init 31 = .ok (.invokespecial 51, 3) := dk_183 0 51 (dk_at dksX0_init_1 8 rfl rfl)
theorem dX0_init_34 : decode cX0_init 34 = .ok (.putfield 59, 3) := dk_181 0 59 (dk_at dksX0_init_1 11 rfl rfl)
theorem dX0_init_37 : decode cX0_init 37 = .ok (.aload_n 0, 1) := dk_42 (dk_at dksX0_init_1 14 rfl rfl)
theorem dX0_init_38 : decode cX0_init 38 = .ok (.new 49, 3) := dk_187 0 49 (dk_at dksX0_init_1 15 rfl rfl)
theorem dX0_init_41 : decode cX0_init 41 = .ok (.dup, 1) := dk_89 (dk_at dksX0_init_1 18 rfl rfl)
theorem dX0_init_42 : decode cX0_init 42 = .ok (.invokespecial 51, 3) := dk_183 0 51 (dk_at dksX0_init_1 19 rfl rfl)
theorem dX0_init_45 : decode cX0_init 45 = .ok (.putfield 62, 3) := dk_181 0 62 (dk_at dksX0_init_2 0 rfl rfl)
theorem dX0_init_48 : decode cX0_init 48 = .ok (.aload_n 0, 1) := dk_42 (dk_at dksX0_init_2 3 rfl rfl)
theorem dX0_init_49 : decode cX0_init 49 = .ok (.bipush 96, 2) := dk_16 96 (dk_at dksX0_init_2 4 rfl rfl)
theorem dX0_init_51 : decode cX0_init 51 = .ok (.newarray .int, 2) := dk_188_10 (dk_at dksX0_init_2 6 rfl rfl)
theorem dX0_init_53 : decode cX0_init 53 = .ok (.putfield 65, 3) := dk_181 0 65 (dk_at dksX0_init_2 8 rfl rfl)
theorem dX0_init_56 : decode cX0_init 56 = .ok (.aload_n 0, 1) := dk_42 (dk_at dksX0_init_2 11 rfl rfl)
theorem dX0_init_57 : decode cX0_init 57 = .ok (.bipush 96, 2) := dk_16 96 (dk_at dksX0_init_2 12 rfl rfl)
theorem dX0_init_59 : decode cX0_init 59 = .ok (.newarray .byte, 2) := dk_188_8 (dk_at dksX0_init_2 14 rfl rfl)
theorem dX0_init_61 : decode cX0_init 61 = .ok (.putfield 69, 3) := dk_181 0 69 (dk_at dksX0_init_2 16 rfl rfl)
theorem dX0_init_64 : decode cX0_init 64 = .ok (.aload_n 0, 1) := dk_42 (dk_at dksX0_init_2 19 rfl rfl)
theorem dX0_init_65 : decode cX0_init 65 = .ok (.new 73, 3) := dk_187 0 73 (dk_at dksX0_init_2 20 rfl rfl)
theorem dX0_init_68 : decode cX0_init 68 = .ok (.dup, 1) := dk_89 (dk_at dksX0_init_2 23 rfl rfl)
theorem dX0_init_69 : decode cX0_init 69 = .ok (.invokespecial 75, 3) := dk_183 0 75 (dk_at dksX0_init_3 0 rfl rfl)
theorem dX0_init_72 : decode cX0_init 72 = .ok (.putfield 76, 3) := dk_181 0 76 (dk_at dksX0_init_3 3 rfl rfl)
theorem dX0_init_75 : decode cX0_init 75 = .ok (.aload_n 0, 1) := dk_42 (dk_at dksX0_init_3 6 rfl rfl)
theorem dX0_init_76 : decode cX0_init 76 = .ok (.sipush 128, 3) := dk_17 0 128 (dk_at dksX0_init_3 7 rfl rfl)
theorem dX0_init_79 : decode cX0_init 79 = .ok (.newarray .int, 2) := dk_188_10 (dk_at dksX0_init_3 10 rfl rfl)
theorem dX0_init_81 : decode cX0_init 81 = .ok (.putfield 80, 3) := dk_181 0 80 (dk_at dksX0_init_3 12 rfl rfl)
theorem dX0_init_84 : decode cX0_init 84 = .ok (.aload_n 0, 1) := dk_42 (dk_at dksX0_init_3 15 rfl rfl)
theorem dX0_init_85 : decode cX0_init 85 = .ok (.bipush 9, 2) := dk_16 9 (dk_at dksX0_init_3 16 rfl rfl)
theorem dX0_init_87 : decode cX0_init 87 = .ok (.newarray .int, 2) := dk_188_10 (dk_at dksX0_init_3 18 rfl rfl)
theorem dX0_init_89 : decode cX0_init 89 = .ok (.putfield 83, 3) := dk_181 0 83 (dk_at dksX0_init_3 20 rfl rfl)
theorem dX0_init_92 : decode cX0_init 92 = .ok (.aload_n 0, 1) := dk_42 (dk_at dksX0_init_3 23 rfl rfl)
theorem dX0_init_93 : decode cX0_init 93 = .ok (.iconst 4, 1) := dk_7 (dk_at dksX0_init_4 0 rfl rfl)
theorem dX0_init_94 : decode cX0_init 94 = .ok (.anewarray 86, 3) := dk_189 0 86 (dk_at dksX0_init_4 1 rfl rfl)
theorem dX0_init_97 : decode cX0_init 97 = .ok (.dup, 1) := dk_89 (dk_at dksX0_init_4 4 rfl rfl)
theorem dX0_init_98 : decode cX0_init 98 = .ok (.iconst 0, 1) := dk_3 (dk_at dksX0_init_4 5 rfl rfl)
theorem dX0_init_99 : decode cX0_init 99 = .ok (.new 86, 3) := dk_187 0 86 (dk_at dksX0_init_4 6 rfl rfl)
theorem dX0_init_102 : decode cX0_init 102 = .ok (.dup, 1) := dk_89 (dk_at dksX0_init_4 9 rfl rfl)
theorem dX0_init_103 : decode cX0_init 103 = .ok (.invokespecial 88, 3) := dk_183 0 88 (dk_at dksX0_init_4 10 rfl rfl)
theorem dX0_init_106 : decode cX0_init 106 = .ok (.aastore, 1) := dk_83 (dk_at dksX0_init_4 13 rfl rfl)
theorem dX0_init_107 : decode cX0_init 107 = .ok (.dup, 1) := dk_89 (dk_at dksX0_init_4 14 rfl rfl)
theorem dX0_init_108 : decode cX0_init 108 = .ok (.iconst 1, 1) := dk_4 (dk_at dksX0_init_4 15 rfl rfl)
theorem dX0_init_109 : decode cX0_init 109 = .ok (.new 86, 3) := dk_187 0 86 (dk_at dksX0_init_4 16 rfl rfl)
theorem dX0_init_112 : decode cX0_init 112 = .ok (.dup, 1) := dk_89 (dk_at dksX0_init_4 19 rfl rfl)
theorem dX0_init_113 : decode cX0_init 113 = .ok (.invokespecial 88, 3) := dk_183 0 88 (dk_at dksX0_init_4 20 rfl rfl)
theorem dX0_init_116 : decode cX0_init 116 = .ok (.aastore, 1) := dk_83 (dk_at dksX0_init_4 23 rfl rfl)
theorem dX0_init_117 : decode cX0_init 117 = .ok (.dup, 1) := dk_89 (dk_at dksX0_init_5 0 rfl rfl)
theorem dX0_init_118 : decode cX0_init 118 = .ok (.iconst 2, 1) := dk_5 (dk_at dksX0_init_5 1 rfl rfl)
theorem dX0_init_119 : decode cX0_init 119 = .ok (.new 86, 3) := dk_187 0 86 (dk_at dksX0_init_5 2 rfl rfl)
theorem dX0_init_122 : decode cX0_init 122 = .ok (.dup, 1) := dk_89 (dk_at dksX0_init_5 5 rfl rfl)
theorem dX0_init_123 : decode cX0_init 123 = .ok (.invokespecial 88, 3) := dk_183 0 88 (dk_at dksX0_init_5 6 rfl rfl)
theorem dX0_init_126 : decode cX0_init 126 = .ok (.aastore, 1) := dk_83 (dk_at dksX0_init_5 9 rfl rfl)
theorem dX0_init_127 : decode cX0_init 127 = .ok (.dup, 1) := dk_89 (dk_at dksX0_init_5 10 rfl rfl)
theorem dX0_init_128 : decode cX0_init 128 = .ok (.iconst 3, 1) := dk_6 (dk_at dksX0_init_5 11 rfl rfl)
theorem dX0_init_129 : decode cX0_init 129 = .ok (.new 86, 3) := dk_187 0 86 (dk_at dksX0_init_5 12 rfl rfl)
theorem dX0_init_132 : decode cX0_init 132 = .ok (.dup, 1) := dk_89 (dk_at dksX0_init_5 15 rfl rfl)
theorem dX0_init_133 : decode cX0_init 133 = .ok (.invokespecial 88, 3) := dk_183 0 88 (dk_at dksX0_init_5 16 rfl rfl)
theorem dX0_init_136 : decode cX0_init 136 = .ok (.aastore, 1) := dk_83 (dk_at dksX0_init_5 19 rfl rfl)
theorem dX0_init_137 : decode cX0_init 137 = .ok (.putfield 89, 3) := dk_181 0 89 (dk_at dksX0_init_5 20 rfl rfl)
theorem dX0_init_140 : decode cX0_init 140 = .ok (.aload_n 0, 1) := dk_42 (dk_at dksX0_init_5 23 rfl rfl)
theorem dX0_init_141 : decode cX0_init 141 = .ok (.iconst 5, 1) := dk_8 (dk_at dksX0_init_6 0 rfl rfl)
theorem dX0_init_142 : decode cX0_init 142 = .ok (.anewarray 93, 3) := dk_189 0 93 (dk_at dksX0_init_6 1 rfl rfl)
theorem dX0_init_145 : decode cX0_init 145 = .ok (.dup, 1) := dk_89 (dk_at dksX0_init_6 4 rfl rfl)
theorem dX0_init_146 : decode cX0_init 146 = .ok (.iconst 0, 1) := dk_3 (dk_at dksX0_init_6 5 rfl rfl)
theorem dX0_init_147 : decode cX0_init 147 = .ok (.new 93, 3) := dk_187 0 93 (dk_at dksX0_init_6 6 rfl rfl)
theorem dX0_init_150 : decode cX0_init 150 = .ok (.dup, 1) := dk_89 (dk_at dksX0_init_6 9 rfl rfl)
theorem dX0_init_151 : decode cX0_init 151 = .ok (.invokespecial 95, 3) := dk_183 0 95 (dk_at dksX0_init_6 10 rfl rfl)
theorem dX0_init_154 : decode cX0_init 154 = .ok (.aastore, 1) := dk_83 (dk_at dksX0_init_6 13 rfl rfl)
theorem dX0_init_155 : decode cX0_init 155 = .ok (.dup, 1) := dk_89 (dk_at dksX0_init_6 14 rfl rfl)
theorem dX0_init_156 : decode cX0_init 156 = .ok (.iconst 1, 1) := dk_4 (dk_at dksX0_init_6 15 rfl rfl)
theorem dX0_init_157 : decode cX0_init 157 = .ok (.new 93, 3) := dk_187 0 93 (dk_at dksX0_init_6 16 rfl rfl)
theorem dX0_init_160 : decode cX0_init 160 = .ok (.dup, 1) := dk_89 (dk_at dksX0_init_6 19 rfl rfl)
theorem dX0_init_161 : decode cX0_init 161 = .ok (.invokespecial 95, 3) := dk_183 0 95 (dk_at dksX0_init_6 20 rfl rfl)
theorem dX0_init_164 : decode cX0_init 164 = .ok (.aastore, 1) := dk_83 (dk_at dksX0_init_6 23 rfl rfl)
theorem dX0_init_165 : decode cX0_init 165 = .ok (.dup, 1) := dk_89 (dk_at dksX0_init_7 0 rfl rfl)
theorem dX0_init_166 : decode cX0_init 166 = .ok (.iconst 2, 1) := dk_5 (dk_at dksX0_init_7 1 rfl rfl)
theorem dX0_init_167 : decode cX0_init 167 = .ok (.new 93, 3) := dk_187 0 93 (dk_at dksX0_init_7 2 rfl rfl)
theorem dX0_init_170 : decode cX0_init 170 = .ok (.dup, 1) := dk_89 (dk_at dksX0_init_7 5 rfl rfl)
theorem dX0_init_171 : decode cX0_init 171 = .ok (.invokespecial 95, 3) := dk_183 0 95 (dk_at dksX0_init_7 6 rfl rfl)
theorem dX0_init_174 : decode cX0_init 174 = .ok (.aastore, 1) := dk_83 (dk_at dksX0_init_7 9 rfl rfl)
theorem dX0_init_175 : decode cX0_init 175 = .ok (.dup, 1) := dk_89 (dk_at dksX0_init_7 10 rfl rfl)
theorem dX0_init_176 : decode cX0_init 176 = .ok (.iconst 3, 1) := dk_6 (dk_at dksX0_init_7 11 rfl rfl)
theorem dX0_init_177 : decode cX0_init 177 = .ok (.new 93, 3) := dk_187 0 93 (dk_at dksX0_init_7 12 rfl rfl)
theorem dX0_init_180 : decode cX0_init 180 = .ok (.dup, 1) := dk_89 (dk_at dksX0_init_7 15 rfl rfl)
theorem dX0_init_181 : decode cX0_init 181 = .ok (.invokespecial 95, 3) := dk_183 0 95 (dk_at dksX0_init_7 16 rfl rfl)
theorem dX0_init_184 : decode cX0_init 184 = .ok (.aastore, 1) := dk_83 (dk_at dksX0_init_7 19 rfl rfl)
theorem dX0_init_185 : decode cX0_init 185 = .ok (.dup, 1) := dk_89 (dk_at dksX0_init_7 20 rfl rfl)
theorem dX0_init_186 : decode cX0_init 186 = .ok (.iconst 4, 1) := dk_7 (dk_at dksX0_init_7 21 rfl rfl)
theorem dX0_init_187 : decode cX0_init 187 = .ok (.new 93, 3) := dk_187 0 93 (dk_at dksX0_init_8 0 rfl rfl)
theorem dX0_init_190 : decode cX0_init 190 = .ok (.dup, 1) := dk_89 (dk_at dksX0_init_8 3 rfl rfl)
theorem dX0_init_191 : decode cX0_init 191 = .ok (.invokespecial 95, 3) := dk_183 0 95 (dk_at dksX0_init_8 4 rfl rfl)
theorem dX0_init_194 : decode cX0_init 194 = .ok (.aastore, 1) := dk_83 (dk_at dksX0_init_8 7 rfl rfl)
theorem dX0_init_195 : decode cX0_init 195 = .ok (.putfield 96, 3) := dk_181 0 96 (dk_at dksX0_init_8 8 rfl rfl)
theorem dX0_init_198 : decode cX0_init 198 = .ok (.aload_n 0, 1) := dk_42 (dk_at dksX0_init_8 11 rfl rfl)
theorem dX0_init_199 : decode cX0_init 199 = .ok (.bipush 24, 2) := dk_16 24 (dk_at dksX0_init_8 12 rfl rfl)
theorem dX0_init_201 : decode cX0_init 201 = .ok (.newarray .float, 2) := dk_188_6 (dk_at dksX0_init_8 14 rfl rfl)
theorem dX0_init_203 : decode cX0_init 203 = .ok (.putfield 100, 3) := dk_181 0 100 (dk_at dksX0_init_8 16 rfl rfl)
theorem dX0_init_206 : decode cX0_init 206 = .ok (.aload_n 0, 1) := dk_42 (dk_at dksX0_init_8 19 rfl rfl)
theorem dX0_init_207 : decode cX0_init 207 = .ok (.bipush 60, 2) := dk_16 60 (dk_at dksX0_init_8 20 rfl rfl)
theorem dX0_init_209 : decode cX0_init 209 = .ok (.newarray .int, 2) := dk_188_10 (dk_at dksX0_init_8 22 rfl rfl)
theorem dX0_init_211 : decode cX0_init 211 = .ok (.putfield 104, 3) := dk_181 0 104 (dk_at dksX0_init_9 0 rfl rfl)
theorem dX0_init_214 : decode cX0_init 214 = .ok (.aload_n 0, 1) := dk_42 (dk_at dksX0_init_9 3 rfl rfl)
theorem dX0_init_215 : decode cX0_init 215 = .ok (.bipush 60, 2) := dk_16 60 (dk_at dksX0_init_9 4 rfl rfl)
theorem dX0_init_217 : decode cX0_init 217 = .ok (.newarray .int, 2) := dk_188_10 (dk_at dksX0_init_9 6 rfl rfl)
theorem dX0_init_219 : decode cX0_init 219 = .ok (.putfield 107, 3) := dk_181 0 107 (dk_at dksX0_init_9 8 rfl rfl)
theorem dX0_init_222 : decode cX0_init 222 = .ok (.return_, 1) := dk_177 (dk_at dksX0_init_9 11 rfl rfl)
abbrev cX0_feed : ByteArray := prog_1_method_11_code
def yX0_feed : MethodName := ⟨RX0, "feed", "(III)I"⟩
def dkwX0_feed_1 : List UInt8 := [182, 0, 135, 42, 29, 182, 0, 135, 42, 180, 0, 131, 172]
abbrev dktX0_feed_1 : List UInt8 := dkwX0_feed_1 ++ []
def dkwX0_feed_0 : List UInt8 := [42, 180, 0, 131, 16, 12, 96, 16, 96, 164, 0, 6, 18, 134, 172, 42, 27, 182, 0, 135, 42, 28]
abbrev dktX0_feed_0 : List UInt8 := dkwX0_feed_0 ++ dktX0_feed_1
theorem dksX0_feed_0 : cX0_feed.data.toList.drop 0 = dktX0_feed_0 := by decide +kernel
theorem dksX0_feed_1 : cX0_feed.data.toList.drop 22 = dktX0_feed_1 := dk_seg dksX0_feed_0 22 rfl rfl
theorem dX0_feed_0 : decode cX0_feed 0 = .ok (.aload_n 0, 1) := dk_42 (dk_at dksX0_feed_0 0 rfl rfl)
theorem dX0_feed_1 : decode cX0_feed 1 = .ok (.getfield 131, 3) := dk_180 0 131 (dk_at dksX0_feed_0 1 rfl rfl)
theorem dX0_feed_4 : decode cX0_feed 4 = .ok (.bipush 12, 2) := dk_16 12 (dk_at dksX0_feed_0 4 rfl rfl)
theorem dX0_feed_6 : decode cX0_feed 6 = .ok (.iadd, 1) := dk_96 (dk_at dksX0_feed_0 6 rfl rfl)
theorem dX0_feed_7 : decode cX0_feed 7 = .ok (.bipush 96, 2) := dk_16 96 (dk_at dksX0_feed_0 7 rfl rfl)
theorem dX0_feed_9 : decode cX0_feed 9 = .ok (.if_icmp .le 6, 3) := dk_164 0 6 (dk_at dksX0_feed_0 9 rfl rfl)
theorem dX0_feed_12 : decode cX0_feed 12 = .ok (.ldc 134, 2) := dk_18 134 (dk_at dksX0_feed_0 12 rfl rfl)
theorem dX0_feed_14 : decode cX0_feed 14 = .ok (.ireturn, 1) := dk_172 (dk_at dksX0_feed_0 14 rfl rfl)
theorem dX0_feed_15 : decode cX0_feed 15 = .ok (.aload_n 0, 1) := dk_42 (dk_at dksX0_feed_0 15 rfl rfl)
theorem dX0_feed_16 : decode cX0_feed 16 = .ok (.iload_n 1, 1) := dk_27 (dk_at dksX0_feed_0 16 rfl rfl)
theorem dX0_feed_17 : decode cX0_feed 17 = .ok (.invokevirtual 135, 3) := dk_182 0 135 (dk_at dksX0_feed_0 17 rfl rfl)
theorem dX0_feed_20 : decode cX0_feed 20 = .ok (.aload_n 0, 1) := dk_42 (dk_at dksX0_feed_0 20 rfl rfl)
theorem dX0_feed_21 : decode cX0_feed 21 = .ok (.iload_n 2, 1) := dk_28 (dk_at dksX0_feed_0 21 rfl rfl)
theorem dX0_feed_22 : decode cX0_feed 22 = .ok (.invokevirtual 135, 3) := dk_182 0 135 (dk_at dksX0_feed_1 0 rfl rfl)
theorem dX0_feed_25 : decode cX0_feed 25 = .ok (.aload_n 0, 1) := dk_42 (dk_at dksX0_feed_1 3 rfl rfl)
theorem dX0_feed_26 : decode cX0_feed 26 = .ok (.iload_n 3, 1) := dk_29 (dk_at dksX0_feed_1 4 rfl rfl)
theorem dX0_feed_27 : decode cX0_feed 27 = .ok (.invokevirtual 135, 3) := dk_182 0 135 (dk_at dksX0_feed_1 5 rfl rfl)
theorem dX0_feed_30 : decode cX0_feed 30 = .ok (.aload_n 0, 1) := dk_42 (dk_at dksX0_feed_1 8 rfl rfl)
theorem dX0_feed_31 : decode cX0_feed 31 = .ok (.getfield 131, 3) := dk_180 0 131 (dk_at dksX0_feed_1 9 rfl rfl)
theorem dX0_feed_34 : decode cX0_feed 34 = .ok (.ireturn, 1) := dk_172 (dk_at dksX0_feed_1 12 rfl rfl)
abbrev cX0_four : ByteArray := prog_1_method_12_code
def yX0_four : MethodName := ⟨RX0, "four", "(I)V"⟩
def dkwX0_four_1 : List UInt8 := [180, 0, 131, 4, 96, 181, 0, 131, 132, 2, 248, 167, 255, 226, 177]
abbrev dktX0_four_1 : List UInt8 := dkwX0_four_1 ++ []
def dkwX0_four_0 : List UInt8 := [16, 24, 61, 28, 155, 0, 32, 42, 180, 0, 69, 42, 180, 0, 131, 27, 28, 122, 145, 84, 42, 89]
abbrev dktX0_four_0 : List UInt8 := dkwX0_four_0 ++ dktX0_four_1
theorem dksX0_four_0 : cX0_four.data.toList.drop 0 = dktX0_four_0 := by decide +kernel
theorem dksX0_four_1 : cX0_four.data.toList.drop 22 = dktX0_four_1 := dk_seg dksX0_four_0 22 rfl rfl
theorem dX0_four_0 : decode cX0_four 0 = .ok (.bipush 24, 2) := dk_16 24 (dk_at dksX0_four_0 0 rfl rfl)
theorem dX0_four_2 : decode cX0_four 2 = .ok (.istore_n 2, 1) := dk_61 (dk_at dksX0_four_0 2 rfl rfl)
theorem dX0_four_3 : decode cX0_four 3 = .ok (.iload_n 2, 1) := dk_28 (dk_at dksX0_four_0 3 rfl rfl)
theorem dX0_four_4 : decode cX0_four 4 = .ok (.ifCond .lt 32, 3) := dk_155 0 32 (dk_at dksX0_four_0 4 rfl rfl)
theorem dX0_four_7 : decode cX0_four 7 = .ok (.aload_n 0, 1) := dk_42 (dk_at dksX0_four_0 7 rfl rfl)
theorem dX0_four_8 : decode cX0_four 8 = .ok (.getfield 69, 3) := dk_180 0 69 (dk_at dksX0_four_0 8 rfl rfl)
theorem dX0_four_11 : decode cX0_four 11 = .ok (.aload_n 0, 1) := dk_42 (dk_at dksX0_four_0 11 rfl rfl)
theorem dX0_four_12 : decode cX0_four 12 = .ok (.getfield 131, 3) := dk_180 0 131 (dk_at dksX0_four_0 12 rfl rfl)
theorem dX0_four_15 : decode cX0_four 15 = .ok (.iload_n 1, 1) := dk_27 (dk_at dksX0_four_0 15 rfl rfl)
theorem dX0_four_16 : decode cX0_four 16 = .ok (.iload_n 2, 1) := dk_28 (dk_at dksX0_four_0 16 rfl rfl)
theorem dX0_four_17 : decode cX0_four 17 = .ok (.ishr, 1) := dk_122 (dk_at dksX0_four_0 17 rfl rfl)
theorem dX0_four_18 : decode cX0_four 18 = .ok (.i2b, 1) := dk_145 (dk_at dksX0_four_0 18 rfl rfl)
theorem dX0_four_19 : decode cX0_four 19 = .ok (.bastore, 1) := dk_84 (dk_at dksX0_four_0 19 rfl rfl)
theorem dX0_four_20 : decode cX0_four 20 = .ok (.aload_n 0, 1) := dk_42 (dk_at dksX0_four_0 20 rfl rfl)
theorem dX0_four_21 : decode cX0_four 21 = .ok (.dup, 1) := dk_89 (dk_at dksX0_four_0 21 rfl rfl)
theorem dX0_four_22 : decode cX0_four 22 = .ok (.getfield 131, 3) := dk_180 0 131 (dk_at dksX0_four_1 0 rfl rfl)
theorem dX0_four_25 : decode cX0_four 25 = .ok (.iconst 1, 1) := dk_4 (dk_at dksX0_four_1 3 rfl rfl)
theorem dX0_four_26 : decode cX0_four 26 = .ok (.iadd, 1) := dk_96 (dk_at dksX0_four_1 4 rfl rfl)
theorem dX0_four_27 : decode cX0_four 27 = .ok (.putfield 131, 3) := dk_181 0 131 (dk_at dksX0_four_1 5 rfl rfl)
theorem dX0_four_30 : decode cX0_four 30 = .ok (.iinc 2 (-8), 3) := dk_132 2 248 (dk_at dksX0_four_1 8 rfl rfl)
theorem dX0_four_33 : decode cX0_four 33 = .ok (.goto (-30), 3) := dk_167 255 226 (dk_at dksX0_four_1 11 rfl rfl)
theorem dX0_four_36 : decode cX0_four 36 = .ok (.return_, 1) := dk_177 (dk_at dksX0_four_1 14 rfl rfl)
abbrev cX0_trim : ByteArray := prog_1_method_13_code
def yX0_trim : MethodName := ⟨RX0, "trim", "(I)I"⟩
def dkwX0_trim_0 : List UInt8 := [27, 3, 42, 180, 0, 131, 184, 0, 114, 154, 0, 6, 18, 139, 172, 42, 27, 181, 0, 131, 27, 172]
abbrev dktX0_trim_0 : List UInt8 := dkwX0_trim_0 ++ []
theorem dksX0_trim_0 : cX0_trim.data.toList.drop 0 = dktX0_trim_0 := by decide +kernel
theorem dX0_trim_0 : decode cX0_trim 0 = .ok (.iload_n 1, 1) := dk_27 (dk_at dksX0_trim_0 0 rfl rfl)
theorem dX0_trim_1 : decode cX0_trim 1 = .ok (.iconst 0, 1) := dk_3 (dk_at dksX0_trim_0 1 rfl rfl)
theorem dX0_trim_2 : decode cX0_trim 2 = .ok (.aload_n 0, 1) := dk_42 (dk_at dksX0_trim_0 2 rfl rfl)
theorem dX0_trim_3 : decode cX0_trim 3 = .ok (.getfield 131, 3) := dk_180 0 131 (dk_at dksX0_trim_0 3 rfl rfl)
theorem dX0_trim_6 : decode cX0_trim 6 = .ok (.invokestatic 114, 3) := dk_184 0 114 (dk_at dksX0_trim_0 6 rfl rfl)
theorem dX0_trim_9 : decode cX0_trim 9 = .ok (.ifCond .ne 6, 3) := dk_154 0 6 (dk_at dksX0_trim_0 9 rfl rfl)
theorem dX0_trim_12 : decode cX0_trim 12 = .ok (.ldc 139, 2) := dk_18 139 (dk_at dksX0_trim_0 12 rfl rfl)
theorem dX0_trim_14 : decode cX0_trim 14 = .ok (.ireturn, 1) := dk_172 (dk_at dksX0_trim_0 14 rfl rfl)
theorem dX0_trim_15 : decode cX0_trim 15 = .ok (.aload_n 0, 1) := dk_42 (dk_at dksX0_trim_0 15 rfl rfl)
theorem dX0_trim_16 : decode cX0_trim 16 = .ok (.iload_n 1, 1) := dk_27 (dk_at dksX0_trim_0 16 rfl rfl)
theorem dX0_trim_17 : decode cX0_trim 17 = .ok (.putfield 131, 3) := dk_181 0 131 (dk_at dksX0_trim_0 17 rfl rfl)
theorem dX0_trim_20 : decode cX0_trim 20 = .ok (.iload_n 1, 1) := dk_27 (dk_at dksX0_trim_0 20 rfl rfl)
theorem dX0_trim_21 : decode cX0_trim 21 = .ok (.ireturn, 1) := dk_172 (dk_at dksX0_trim_0 21 rfl rfl)
abbrev cX0_isIn : ByteArray := prog_1_method_1_code
def yX0_isIn : MethodName := ⟨RX0, "isIn", "(III)Z"⟩
def dkwX0_isIn_0 : List UInt8 := [26, 27, 161, 0, 12, 26, 28, 163, 0, 7, 4, 167, 0, 4, 3, 172]
abbrev dktX0_isIn_0 : List UInt8 := dkwX0_isIn_0 ++ []
theorem dksX0_isIn_0 : cX0_isIn.data.toList.drop 0 = dktX0_isIn_0 := by decide +kernel
theorem dX0_isIn_0 : decode cX0_isIn 0 = .ok (.iload_n 0, 1) := dk_26 (dk_at dksX0_isIn_0 0 rfl rfl)
theorem dX0_isIn_1 : decode cX0_isIn 1 = .ok (.iload_n 1, 1) := dk_27 (dk_at dksX0_isIn_0 1 rfl rfl)
theorem dX0_isIn_2 : decode cX0_isIn 2 = .ok (.if_icmp .lt 12, 3) := dk_161 0 12 (dk_at dksX0_isIn_0 2 rfl rfl)
theorem dX0_isIn_5 : decode cX0_isIn 5 = .ok (.iload_n 0, 1) := dk_26 (dk_at dksX0_isIn_0 5 rfl rfl)
theorem dX0_isIn_6 : decode cX0_isIn 6 = .ok (.iload_n 2, 1) := dk_28 (dk_at dksX0_isIn_0 6 rfl rfl)
theorem dX0_isIn_7 : decode cX0_isIn 7 = .ok (.if_icmp .gt 7, 3) := dk_163 0 7 (dk_at dksX0_isIn_0 7 rfl rfl)
theorem dX0_isIn_10 : decode cX0_isIn 10 = .ok (.iconst 1, 1) := dk_4 (dk_at dksX0_isIn_0 10 rfl rfl)
theorem dX0_isIn_11 : decode cX0_isIn 11 = .ok (.goto 4, 3) := dk_167 0 4 (dk_at dksX0_isIn_0 11 rfl rfl)
theorem dX0_isIn_14 : decode cX0_isIn 14 = .ok (.iconst 0, 1) := dk_3 (dk_at dksX0_isIn_0 14 rfl rfl)
theorem dX0_isIn_15 : decode cX0_isIn 15 = .ok (.ireturn, 1) := dk_172 (dk_at dksX0_isIn_0 15 rfl rfl)
abbrev cX0_text : ByteArray := prog_1_method_31_code
def yX0_text : MethodName := ⟨RX0, "text", "()I"⟩
def dkwX0_text_4 : List UInt8 := [181, 0, 131, 45, 191]
abbrev dktX0_text_4 : List UInt8 := dkwX0_text_4 ++ []
def dkwX0_text_3 : List UInt8 := [181, 0, 131, 28, 172, 76, 16, 156, 43, 180, 0, 143, 100, 61, 42, 3, 181, 0, 131, 28, 172, 78, 42, 3]
abbrev dktX0_text_3 : List UInt8 := dkwX0_text_3 ++ dktX0_text_4
def dkwX0_text_2 : List UInt8 := [180, 0, 52, 89, 180, 0, 246, 4, 96, 181, 0, 246, 42, 180, 0, 52, 180, 0, 246, 4, 100, 61, 42, 3]
abbrev dktX0_text_2 : List UInt8 := dkwX0_text_2 ++ dktX0_text_3
def dkwX0_text_1 : List UInt8 := [181, 0, 131, 28, 172, 42, 180, 0, 52, 180, 0, 249, 42, 180, 0, 52, 180, 0, 246, 43, 83, 42]
abbrev dktX0_text_1 : List UInt8 := dkwX0_text_1 ++ dktX0_text_2
def dkwX0_text_0 : List UInt8 := [42, 182, 0, 242, 76, 42, 180, 0, 52, 180, 0, 246, 16, 14, 160, 0, 13, 18, 134, 61, 42, 3]
abbrev dktX0_text_0 : List UInt8 := dkwX0_text_0 ++ dktX0_text_1
theorem dksX0_text_0 : cX0_text.data.toList.drop 0 = dktX0_text_0 := by decide +kernel
theorem dksX0_text_1 : cX0_text.data.toList.drop 22 = dktX0_text_1 := dk_seg dksX0_text_0 22 rfl rfl
theorem dksX0_text_2 : cX0_text.data.toList.drop 44 = dktX0_text_2 := dk_seg dksX0_text_1 22 rfl rfl
theorem dksX0_text_3 : cX0_text.data.toList.drop 68 = dktX0_text_3 := dk_seg dksX0_text_2 24 rfl rfl
theorem dksX0_text_4 : cX0_text.data.toList.drop 92 = dktX0_text_4 := dk_seg dksX0_text_3 24 rfl rfl
theorem dX0_text_0 : decode cX0_text 0 = .ok (.aload_n 0, 1) := dk_42 (dk_at dksX0_text_0 0 rfl rfl)
theorem dX0_text_1 : decode cX0_text 1 = .ok (.invokevirtual 242, 3) := dk_182 0 242 (dk_at dksX0_text_0 1 rfl rfl)
theorem dX0_text_4 : decode cX0_text 4 = .ok (.astore_n 1, 1) := dk_76 (dk_at dksX0_text_0 4 rfl rfl)
theorem dX0_text_5 : decode cX0_text 5 = .ok (.aload_n 0, 1) := dk_42 (dk_at dksX0_text_0 5 rfl rfl)
theorem dX0_text_6 : decode cX0_text 6 = .ok (.getfield 52, 3) := dk_180 0 52 (dk_at dksX0_text_0 6 rfl rfl)
theorem dX0_text_9 : decode cX0_text 9 = .ok (.getfield 246, 3) := dk_180 0 246 (dk_at dksX0_text_0 9 rfl rfl)
theorem dX0_text_12 : decode cX0_text 12 = .ok (.bipush 14, 2) := dk_16 14 (dk_at dksX0_text_0 12 rfl rfl)
theorem dX0_text_14 : decode cX0_text 14 = .ok (.if_icmp .ne 13, 3) := dk_160 0 13 (dk_at dksX0_text_0 14 rfl rfl)
theorem dX0_text_17 : decode cX0_text 17 = .ok (.ldc 134, 2) := dk_18 134 (dk_at dksX0_text_0 17 rfl rfl)
theorem dX0_text_19 : decode cX0_text 19 = .ok (.istore_n 2, 1) := dk_61 (dk_at dksX0_text_0 19 rfl rfl)
theorem dX0_text_20 : decode cX0_text 20 = .ok (.aload_n 0, 1) := dk_42 (dk_at dksX0_text_0 20 rfl rfl)
theorem dX0_text_21 : decode cX0_text 21 = .ok (.iconst 0, 1) := dk_3 (dk_at dksX0_text_0 21 rfl rfl)
theorem dX0_text_22 : decode cX0_text 22 = .ok (.putfield 131, 3) := dk_181 0 131 (dk_at dksX0_text_1 0 rfl rfl)
theorem dX0_text_25 : decode cX0_text 25 = .ok (.iload_n 2, 1) := dk_28 (dk_at dksX0_text_1 3 rfl rfl)
theorem dX0_text_26 : decode cX0_text 26 = .ok (.ireturn, 1) := dk_172 (dk_at dksX0_text_1 4 rfl rfl)
theorem dX0_text_27 : decode cX0_text 27 = .ok (.aload_n 0, 1) := dk_42 (dk_at dksX0_text_1 5 rfl rfl)
theorem dX0_text_28 : decode cX0_text 28 = .ok (.getfield 52, 3) := dk_180 0 52 (dk_at dksX0_text_1 6 rfl rfl)
theorem dX0_text_31 : decode cX0_text 31 = .ok (.getfield 249, 3) := dk_180 0 249 (dk_at dksX0_text_1 9 rfl rfl)
theorem dX0_text_34 : decode cX0_text 34 = .ok (.aload_n 0, 1) := dk_42 (dk_at dksX0_text_1 12 rfl rfl)
theorem dX0_text_35 : decode cX0_text 35 = .ok (.getfield 52, 3) := dk_180 0 52 (dk_at dksX0_text_1 13 rfl rfl)
theorem dX0_text_38 : decode cX0_text 38 = .ok (.getfield 246, 3) := dk_180 0 246 (dk_at dksX0_text_1 16 rfl rfl)
theorem dX0_text_41 : decode cX0_text 41 = .ok (.aload_n 1, 1) := dk_43 (dk_at dksX0_text_1 19 rfl rfl)
theorem dX0_text_42 : decode cX0_text 42 = .ok (.aastore, 1) := dk_83 (dk_at dksX0_text_1 20 rfl rfl)
theorem dX0_text_43 : decode cX0_text 43 = .ok (.aload_n 0, 1) := dk_42 (dk_at dksX0_text_1 21 rfl rfl)
theorem dX0_text_44 : decode cX0_text 44 = .ok (.getfield 52, 3) := dk_180 0 52 (dk_at dksX0_text_2 0 rfl rfl)
theorem dX0_text_47 : decode cX0_text 47 = .ok (.dup, 1) := dk_89 (dk_at dksX0_text_2 3 rfl rfl)
theorem dX0_text_48 : decode cX0_text 48 = .ok (.getfield 246, 3) := dk_180 0 246 (dk_at dksX0_text_2 4 rfl rfl)
theorem dX0_text_51 : decode cX0_text 51 = .ok (.iconst 1, 1) := dk_4 (dk_at dksX0_text_2 7 rfl rfl)
theorem dX0_text_52 : decode cX0_text 52 = .ok (.iadd, 1) := dk_96 (dk_at dksX0_text_2 8 rfl rfl)
theorem dX0_text_53 : decode cX0_text 53 = .ok (.putfield 246, 3) := dk_181 0 246 (dk_at dksX0_text_2 9 rfl rfl)
theorem dX0_text_56 : decode cX0_text 56 = .ok (.aload_n 0, 1) := dk_42 (dk_at dksX0_text_2 12 rfl rfl)
theorem dX0_text_57 : decode cX0_text 57 = .ok (.getfield 52, 3) := dk_180 0 52 (dk_at dksX0_text_2 13 rfl rfl)
theorem dX0_text_60 : decode cX0_text 60 = .ok (.getfield 246, 3) := dk_180 0 246 (dk_at dksX0_text_2 16 rfl rfl)
theorem dX0_text_63 : decode cX0_text 63 = .ok (.iconst 1, 1) := dk_4 (dk_at dksX0_text_2 19 rfl rfl)
theorem dX0_text_64 : decode cX0_text 64 = .ok (.isub, 1) := dk_100 (dk_at dksX0_text_2 20 rfl rfl)
theorem dX0_text_65 : decode cX0_text 65 = .ok (.istore_n 2, 1) := dk_61 (dk_at dksX0_text_2 21 rfl rfl)
theorem dX0_text_66 : decode cX0_text 66 = .ok (.aload_n 0, 1) := dk_42 (dk_at dksX0_text_2 22 rfl rfl)
theorem dX0_text_67 : decode cX0_text 67 = .ok (.iconst 0, 1) := dk_3 (dk_at dksX0_text_2 23 rfl rfl)
theorem dX0_text_68 : decode cX0_text 68 = .ok (.putfield 131, 3) := dk_181 0 131 (dk_at dksX0_text_3 0 rfl rfl)
theorem dX0_text_71 : decode cX0_text 71 = .ok (.iload_n 2, 1) := dk_28 (dk_at dksX0_text_3 3 rfl rfl)
theorem dX0_text_72 : decode cX0_text 72 = .ok (.ireturn, 1) := dk_172 (dk_at dksX0_text_3 4 rfl rfl)
theorem dX0_text_73 : decode cX0_text 73 = .ok (.astore_n 1, 1) := dk_76 (dk_at dksX0_text_3 5 rfl rfl)
theorem dX0_text_74 : decode cX0_text 74 = .ok (.bipush (-100), 2) := dk_16 156 (dk_at dksX0_text_3 6 rfl rfl)
theorem dX0_text_76 : decode cX0_text 76 = .ok (.aload_n 1, 1) := dk_43 (dk_at dksX0_text_3 8 rfl rfl)
theorem dX0_text_77 : decode cX0_text 77 = .ok (.getfield 143, 3) := dk_180 0 143 (dk_at dksX0_text_3 9 rfl rfl)
theorem dX0_text_80 : decode cX0_text 80 = .ok (.isub, 1) := dk_100 (dk_at dksX0_text_3 12 rfl rfl)
theorem dX0_text_81 : decode cX0_text 81 = .ok (.istore_n 2, 1) := dk_61 (dk_at dksX0_text_3 13 rfl rfl)
theorem dX0_text_82 : decode cX0_text 82 = .ok (.aload_n 0, 1) := dk_42 (dk_at dksX0_text_3 14 rfl rfl)
theorem dX0_text_83 : decode cX0_text 83 = .ok (.iconst 0, 1) := dk_3 (dk_at dksX0_text_3 15 rfl rfl)
theorem dX0_text_84 : decode cX0_text 84 = .ok (.putfield 131, 3) := dk_181 0 131 (dk_at dksX0_text_3 16 rfl rfl)
theorem dX0_text_87 : decode cX0_text 87 = .ok (.iload_n 2, 1) := dk_28 (dk_at dksX0_text_3 19 rfl rfl)
theorem dX0_text_88 : decode cX0_text 88 = .ok (.ireturn, 1) := dk_172 (dk_at dksX0_text_3 20 rfl rfl)
theorem dX0_text_89 : decode cX0_text 89 = .ok (.astore_n 3, 1) := dk_78 (dk_at dksX0_text_3 21 rfl rfl)
theorem dX0_text_90 : decode cX0_text 90 = .ok (.aload_n 0, 1) := dk_42 (dk_at dksX0_text_3 22 rfl rfl)
theorem dX0_text_91 : decode cX0_text 91 = .ok (.iconst 0, 1) := dk_3 (dk_at dksX0_text_3 23 rfl rfl)
theorem dX0_text_92 : decode cX0_text 92 = .ok (.putfield 131, 3) := dk_181 0 131 (dk_at dksX0_text_4 0 rfl rfl)
theorem dX0_text_95 : decode cX0_text 95 = .ok (.aload_n 3, 1) := dk_45 (dk_at dksX0_text_4 3 rfl rfl)
theorem dX0_text_96 : decode cX0_text 96 = .ok (.athrow, 1) := dk_191 (dk_at dksX0_text_4 4 rfl rfl)
abbrev cX0_textRead : ByteArray := prog_1_method_30_code
def yX0_textRead : MethodName := ⟨RX0, "textRead", "()LStoneSheets$Text;"⟩
def dkwX0_textRead_3 : List UInt8 := [180, 0, 211, 183, 0, 239, 176]
abbrev dktX0_textRead_3 : List UInt8 := dkwX0_textRead_3 ++ []
def dkwX0_textRead_2 : List UInt8 := [180, 0, 140, 42, 180, 0, 149, 162, 0, 7, 42, 182, 0, 159, 187, 0, 237, 89, 42, 180, 0, 202, 43, 42]
abbrev dktX0_textRead_2 : List UInt8 := dkwX0_textRead_2 ++ dktX0_textRead_3
def dkwX0_textRead_1 : List UInt8 := [3, 181, 0, 211, 42, 182, 0, 172, 42, 42, 182, 0, 230, 181, 0, 202, 42, 182, 0, 233, 76, 42]
abbrev dktX0_textRead_1 : List UInt8 := dkwX0_textRead_1 ++ dktX0_textRead_2
def dkwX0_textRead_0 : List UInt8 := [42, 42, 180, 0, 131, 181, 0, 149, 42, 3, 181, 0, 146, 42, 3, 181, 0, 208, 42, 3, 181, 0, 205, 42]
abbrev dktX0_textRead_0 : List UInt8 := dkwX0_textRead_0 ++ dktX0_textRead_1
theorem dksX0_textRead_0 : cX0_textRead.data.toList.drop 0 = dktX0_textRead_0 := by decide +kernel
theorem dksX0_textRead_1 : cX0_textRead.data.toList.drop 24 = dktX0_textRead_1 := dk_seg dksX0_textRead_0 24 rfl rfl
theorem dksX0_textRead_2 : cX0_textRead.data.toList.drop 46 = dktX0_textRead_2 := dk_seg dksX0_textRead_1 22 rfl rfl
theorem dksX0_textRead_3 : cX0_textRead.data.toList.drop 70 = dktX0_textRead_3 := dk_seg dksX0_textRead_2 24 rfl rfl
theorem dX0_textRead_0 : decode cX0_textRead 0 = .ok (.aload_n 0, 1) := dk_42 (dk_at dksX0_textRead_0 0 rfl rfl)
theorem dX0_textRead_1 : decode cX0_textRead 1 = .ok (.aload_n 0, 1) := dk_42 (dk_at dksX0_textRead_0 1 rfl rfl)
theorem dX0_textRead_2 : decode cX0_textRead 2 = .ok (.getfield 131, 3) := dk_180 0 131 (dk_at dksX0_textRead_0 2 rfl rfl)
theorem dX0_textRead_5 : decode cX0_textRead 5 = .ok (.putfield 149, 3) := dk_181 0 149 (dk_at dksX0_textRead_0 5 rfl rfl)
theorem dX0_textRead_8 : decode cX0_textRead 8 = .ok (.aload_n 0, 1) := dk_42 (dk_at dksX0_textRead_0 8 rfl rfl)
theorem dX0_textRead_9 : decode cX0_textRead 9 = .ok (.iconst 0, 1) := dk_3 (dk_at dksX0_textRead_0 9 rfl rfl)
theorem dX0_textRead_10 : decode cX0_textRead 10 = .ok (.putfield 146, 3) := dk_181 0 146 (dk_at dksX0_textRead_0 10 rfl rfl)
theorem dX0_textRead_13 : decode cX0_textRead 13 = .ok (.aload_n 0, 1) := dk_42 (dk_at dksX0_textRead_0 13 rfl rfl)
theorem dX0_textRead_14 : decode cX0_textRead 14 = .ok (.iconst 0, 1) := dk_3 (dk_at dksX0_textRead_0 14 rfl rfl)
theorem dX0_textRead_15 : decode cX0_textRead 15 = .ok (.putfield 208, 3) := dk_181 0 208 (dk_at dksX0_textRead_0 15 rfl rfl)
theorem dX0_textRead_18 : decode cX0_textRead 18 = .ok (.aload_n 0, 1) := dk_42 (dk_at dksX0_textRead_0 18 rfl rfl)
theorem dX0_textRead_19 : decode cX0_textRead 19 = .ok (.iconst 0, 1) := dk_3 (dk_at dksX0_textRead_0 19 rfl rfl)
theorem dX0_textRead_20 : decode cX0_textRead 20 = .ok (.putfield 205, 3) := dk_181 0 205 (dk_at dksX0_textRead_0 20 rfl rfl)
theorem dX0_textRead_23 : decode cX0_textRead 23 = .ok (.aload_n 0, 1) := dk_42 (dk_at dksX0_textRead_0 23 rfl rfl)
theorem dX0_textRead_24 : decode cX0_textRead 24 = .ok (.iconst 0, 1) := dk_3 (dk_at dksX0_textRead_1 0 rfl rfl)
theorem dX0_textRead_25 : decode cX0_textRead 25 = .ok (.putfield 211, 3) := dk_181 0 211 (dk_at dksX0_textRead_1 1 rfl rfl)
theorem dX0_textRead_28 : decode cX0_textRead 28 = .ok (.aload_n 0, 1) := dk_42 (dk_at dksX0_textRead_1 4 rfl rfl)
theorem dX0_textRead_29 : decode cX0_textRead 29 = .ok (.invokevirtual 172, 3) := dk_182 0 172 (dk_at dksX0_textRead_1 5 rfl rfl)
theorem dX0_textRead_32 : decode cX0_textRead 32 = .ok (.aload_n 0, 1) := dk_42 (dk_at dksX0_textRead_1 8 rfl rfl)
theorem dX0_textRead_33 : decode cX0_textRead 33 = .ok (.aload_n 0, 1) := dk_42 (dk_at dksX0_textRead_1 9 rfl rfl)
theorem dX0_textRead_34 : decode cX0_textRead 34 = .ok (.invokevirtual 230, 3) := dk_182 0 230 (dk_at dksX0_textRead_1 10 rfl rfl)
theorem dX0_textRead_37 : decode cX0_textRead 37 = .ok (.putfield 202, 3) := dk_181 0 202 (dk_at dksX0_textRead_1 13 rfl rfl)
theorem dX0_textRead_40 : decode cX0_textRead 40 = .ok (.aload_n 0, 1) := dk_42 (dk_at dksX0_textRead_1 16 rfl rfl)
theorem dX0_textRead_41 : decode cX0_textRead 41 = .ok (.invokevirtual 233, 3) := dk_182 0 233 (dk_at dksX0_textRead_1 17 rfl rfl)
theorem dX0_textRead_44 : decode cX0_textRead 44 = .ok (.astore_n 1, 1) := dk_76 (dk_at dksX0_textRead_1 20 rfl rfl)
theorem dX0_textRead_45 : decode cX0_textRead 45 = .ok (.aload_n 0, 1) := dk_42 (dk_at dksX0_textRead_1 21 rfl rfl)
theorem dX0_textRead_46 : decode cX0_textRead 46 = .ok (.getfield 140, 3) := dk_180 0 140 (dk_at dksX0_textRead_2 0 rfl rfl)
theorem dX0_textRead_49 : decode cX0_textRead 49 = .ok (.aload_n 0, 1) := dk_42 (dk_at dksX0_textRead_2 3 rfl rfl)
theorem dX0_textRead_50 : decode cX0_textRead 50 = .ok (.getfield 149, 3) := dk_180 0 149 (dk_at dksX0_textRead_2 4 rfl rfl)
theorem dX0_textRead_53 : decode cX0_textRead 53 = .ok (.if_icmp .ge 7, 3) := dk_162 0 7 (dk_at dksX0_textRead_2 7 rfl rfl)
theorem dX0_textRead_56 : decode cX0_textRead 56 = .ok (.aload_n 0, 1) := dk_42 (dk_at dksX0_textRead_2 10 rfl rfl)
theorem dX0_textRead_57 : decode cX0_textRead 57 = .ok (.invokevirtual 159, 3) := dk_182 0 159 (dk_at dksX0_textRead_2 11 rfl rfl)
theorem dX0_textRead_60 : decode cX0_textRead 60 = .ok (.new 237, 3) := dk_187 0 237 (dk_at dksX0_textRead_2 14 rfl rfl)
theorem dX0_textRead_63 : decode cX0_textRead 63 = .ok (.dup, 1) := dk_89 (dk_at dksX0_textRead_2 17 rfl rfl)
theorem dX0_textRead_64 : decode cX0_textRead 64 = .ok (.aload_n 0, 1) := dk_42 (dk_at dksX0_textRead_2 18 rfl rfl)
theorem dX0_textRead_65 : decode cX0_textRead 65 = .ok (.getfield 202, 3) := dk_180 0 202 (dk_at dksX0_textRead_2 19 rfl rfl)
theorem dX0_textRead_68 : decode cX0_textRead 68 = .ok (.aload_n 1, 1) := dk_43 (dk_at dksX0_textRead_2 22 rfl rfl)
theorem dX0_textRead_69 : decode cX0_textRead 69 = .ok (.aload_n 0, 1) := dk_42 (dk_at dksX0_textRead_2 23 rfl rfl)
theorem dX0_textRead_70 : decode cX0_textRead 70 = .ok (.getfield 211, 3) := dk_180 0 211 (dk_at dksX0_textRead_3 0 rfl rfl)
theorem dX0_textRead_73 : decode cX0_textRead 73 = .ok (.invokespecial 239, 3) := dk_183 0 239 (dk_at dksX0_textRead_3 3 rfl rfl)
theorem dX0_textRead_76 : decode cX0_textRead 76 = .ok (.areturn, 1) := dk_176 (dk_at dksX0_textRead_3 6 rfl rfl)
abbrev cX0_goes : ByteArray := prog_1_method_17_code
def yX0_goes : MethodName := ⟨RX0, "goes", "()V"⟩
def dkwX0_goes_12 : List UInt8 := [29, 153, 0, 7, 42, 182, 0, 159, 177]
abbrev dktX0_goes_12 : List UInt8 := dkwX0_goes_12 ++ []
def dkwX0_goes_11 : List UInt8 := [100, 51, 184, 0, 156, 153, 0, 7, 4, 167, 0, 4, 3, 54, 4, 21, 4, 153, 0, 15, 28, 154, 0, 7]
abbrev dktX0_goes_11 : List UInt8 := dkwX0_goes_11 ++ dktX0_goes_12
def dkwX0_goes_10 : List UInt8 := [27, 158, 0, 35, 42, 180, 0, 69, 27, 4, 100, 51, 184, 0, 152, 154, 0, 17, 42, 180, 0, 69, 27, 4]
abbrev dktX0_goes_10 : List UInt8 := dkwX0_goes_10 ++ dktX0_goes_11
def dkwX0_goes_9 : List UInt8 := [180, 0, 149, 162, 0, 13, 42, 89, 180, 0, 146, 4, 96, 181, 0, 146, 42, 180, 0, 140, 27, 160, 0, 39]
abbrev dktX0_goes_9 : List UInt8 := dkwX0_goes_9 ++ dktX0_goes_10
def dkwX0_goes_8 : List UInt8 := [184, 0, 156, 153, 0, 37, 42, 89, 180, 0, 146, 4, 96, 181, 0, 146, 167, 255, 220, 42, 180, 0, 140, 42]
abbrev dktX0_goes_8 : List UInt8 := dkwX0_goes_8 ++ dktX0_goes_9
def dkwX0_goes_7 : List UInt8 := [29, 153, 0, 42, 42, 180, 0, 146, 42, 180, 0, 149, 162, 0, 52, 42, 180, 0, 69, 42, 180, 0, 146, 51]
abbrev dktX0_goes_7 : List UInt8 := dkwX0_goes_7 ++ dktX0_goes_8
def dkwX0_goes_6 : List UInt8 := [42, 180, 0, 146, 51, 184, 0, 152, 153, 0, 80, 42, 89, 180, 0, 146, 4, 96, 181, 0, 146, 167, 255, 220]
abbrev dktX0_goes_6 : List UInt8 := dkwX0_goes_6 ++ dktX0_goes_7
def dkwX0_goes_5 : List UInt8 := [167, 0, 4, 3, 62, 28, 153, 0, 42, 42, 180, 0, 146, 42, 180, 0, 149, 162, 0, 95, 42, 180, 0, 69]
abbrev dktX0_goes_5 : List UInt8 := dkwX0_goes_5 ++ dktX0_goes_6
def dkwX0_goes_4 : List UInt8 := [42, 180, 0, 149, 162, 0, 22, 42, 180, 0, 69, 42, 180, 0, 140, 51, 184, 0, 156, 153, 0, 7, 4]
abbrev dktX0_goes_4 : List UInt8 := dkwX0_goes_4 ++ dktX0_goes_5
def dkwX0_goes_3 : List UInt8 := [180, 0, 69, 42, 180, 0, 140, 51, 184, 0, 152, 153, 0, 7, 4, 167, 0, 4, 3, 61, 42, 180, 0, 140]
abbrev dktX0_goes_3 : List UInt8 := dkwX0_goes_3 ++ dktX0_goes_4
def dkwX0_goes_2 : List UInt8 := [167, 255, 221, 42, 42, 180, 0, 140, 181, 0, 146, 42, 180, 0, 140, 42, 180, 0, 149, 162, 0, 22, 42]
abbrev dktX0_goes_2 : List UInt8 := dkwX0_goes_2 ++ dktX0_goes_3
def dkwX0_goes_1 : List UInt8 := [42, 180, 0, 69, 42, 180, 0, 140, 51, 16, 32, 160, 0, 16, 42, 89, 180, 0, 140, 4, 96, 181, 0, 140]
abbrev dktX0_goes_1 : List UInt8 := dkwX0_goes_1 ++ dktX0_goes_2
def dkwX0_goes_0 : List UInt8 := [42, 180, 0, 146, 60, 42, 42, 180, 0, 146, 181, 0, 140, 42, 180, 0, 140, 42, 180, 0, 149, 162, 0, 30]
abbrev dktX0_goes_0 : List UInt8 := dkwX0_goes_0 ++ dktX0_goes_1
theorem dksX0_goes_0 : cX0_goes.data.toList.drop 0 = dktX0_goes_0 := by decide +kernel
theorem dksX0_goes_1 : cX0_goes.data.toList.drop 24 = dktX0_goes_1 := dk_seg dksX0_goes_0 24 rfl rfl
theorem dksX0_goes_2 : cX0_goes.data.toList.drop 48 = dktX0_goes_2 := dk_seg dksX0_goes_1 24 rfl rfl
theorem dksX0_goes_3 : cX0_goes.data.toList.drop 71 = dktX0_goes_3 := dk_seg dksX0_goes_2 23 rfl rfl
theorem dksX0_goes_4 : cX0_goes.data.toList.drop 95 = dktX0_goes_4 := dk_seg dksX0_goes_3 24 rfl rfl
theorem dksX0_goes_5 : cX0_goes.data.toList.drop 118 = dktX0_goes_5 := dk_seg dksX0_goes_4 23 rfl rfl
theorem dksX0_goes_6 : cX0_goes.data.toList.drop 142 = dktX0_goes_6 := dk_seg dksX0_goes_5 24 rfl rfl
theorem dksX0_goes_7 : cX0_goes.data.toList.drop 166 = dktX0_goes_7 := dk_seg dksX0_goes_6 24 rfl rfl
theorem dksX0_goes_8 : cX0_goes.data.toList.drop 190 = dktX0_goes_8 := dk_seg dksX0_goes_7 24 rfl rfl
theorem dksX0_goes_9 : cX0_goes.data.toList.drop 214 = dktX0_goes_9 := dk_seg dksX0_goes_8 24 rfl rfl
theorem dksX0_goes_10 : cX0_goes.data.toList.drop 238 = dktX0_goes_10 := dk_seg dksX0_goes_9 24 rfl rfl
theorem dksX0_goes_11 : cX0_goes.data.toList.drop 262 = dktX0_goes_11 := dk_seg dksX0_goes_10 24 rfl rfl
theorem dksX0_goes_12 : cX0_goes.data.toList.drop 286 = dktX0_goes_12 := dk_seg dksX0_goes_11 24 rfl rfl
theorem dX0_goes_0 : decode cX0_goes 0 = .ok (.aload_n 0, 1) := dk_42 (dk_at dksX0_goes_0 0 rfl rfl)
theorem dX0_goes_1 : decode cX0_goes 1 = .ok (.getfield 146, 3) := dk_180 0 146 (dk_at dksX0_goes_0 1 rfl rfl)
theorem dX0_goes_4 : decode cX0_goes 4 = .ok (.istore_n 1, 1) := dk_60 (dk_at dksX0_goes_0 4 rfl rfl)
theorem dX0_goes_5 : decode cX0_goes 5 = .ok (.aload_n 0, 1) := dk_42 (dk_at dksX0_goes_0 5 rfl rfl)
theorem dX0_goes_6 : decode cX0_goes 6 = .ok (.aload_n 0, 1) := dk_42 (dk_at dksX0_goes_0 6 rfl rfl)
theorem dX0_goes_7 : decode cX0_goes 7 = .ok (.getfield 146, 3) := dk_180 0 146 (dk_at dksX0_goes_0 7 rfl rfl)
theorem dX0_goes_10 : decode cX0_goes 10 = .ok (.putfield 140, 3) := dk_181 0 140 (dk_at dksX0_goes_0 10 rfl rfl)
theorem dX0_goes_13 : decode cX0_goes 13 = .ok (.aload_n 0, 1) := dk_42 (dk_at dksX0_goes_0 13 rfl rfl)
theorem dX0_goes_14 : decode cX0_goes 14 = .ok (.getfield 140, 3) := dk_180 0 140 (dk_at dksX0_goes_0 14 rfl rfl)
theorem dX0_goes_17 : decode cX0_goes 17 = .ok (.aload_n 0, 1) := dk_42 (dk_at dksX0_goes_0 17 rfl rfl)
theorem dX0_goes_18 : decode cX0_goes 18 = .ok (.getfield 149, 3) := dk_180 0 149 (dk_at dksX0_goes_0 18 rfl rfl)
theorem dX0_goes_21 : decode cX0_goes 21 = .ok (.if_icmp .ge 30, 3) := dk_162 0 30 (dk_at dksX0_goes_0 21 rfl rfl)
theorem dX0_goes_24 : decode cX0_goes 24 = .ok (.aload_n 0, 1) := dk_42 (dk_at dksX0_goes_1 0 rfl rfl)
theorem dX0_goes_25 : decode cX0_goes 25 = .ok (.getfield 69, 3) := dk_180 0 69 (dk_at dksX0_goes_1 1 rfl rfl)
theorem dX0_goes_28 : decode cX0_goes 28 = .ok (.aload_n 0, 1) := dk_42 (dk_at dksX0_goes_1 4 rfl rfl)
theorem dX0_goes_29 : decode cX0_goes 29 = .ok (.getfield 140, 3) := dk_180 0 140 (dk_at dksX0_goes_1 5 rfl rfl)
theorem dX0_goes_32 : decode cX0_goes 32 = .ok (.baload, 1) := dk_51 (dk_at dksX0_goes_1 8 rfl rfl)
theorem dX0_goes_33 : decode cX0_goes 33 = .ok (.bipush 32, 2) := dk_16 32 (dk_at dksX0_goes_1 9 rfl rfl)
theorem dX0_goes_35 : decode cX0_goes 35 = .ok (.if_icmp .ne 16, 3) := dk_160 0 16 (dk_at dksX0_goes_1 11 rfl rfl)
theorem dX0_goes_38 : decode cX0_goes 38 = .ok (.aload_n 0, 1) := dk_42 (dk_at dksX0_goes_1 14 rfl rfl)
theorem dX0_goes_39 : decode cX0_goes 39 = .ok (.dup, 1) := dk_89 (dk_at dksX0_goes_1 15 rfl rfl)
theorem dX0_goes_40 : decode cX0_goes 40 = .ok (.getfield 140, 3) := dk_180 0 140 (dk_at dksX0_goes_1 16 rfl rfl)
theorem dX0_goes_43 : decode cX0_goes 43 = .ok (.iconst 1, 1) := dk_4 (dk_at dksX0_goes_1 19 rfl rfl)
theorem dX0_goes_44 : decode cX0_goes 44 = .ok (.iadd, 1) := dk_96 (dk_at dksX0_goes_1 20 rfl rfl)
theorem dX0_goes_45 : decode cX0_goes 45 = .ok (.putfield 140, 3) := dk_181 0 140 (dk_at dksX0_goes_1 21 rfl rfl)
theorem dX0_goes_48 : decode cX0_goes 48 = .ok (.goto (-35), 3) := dk_167 255 221 (dk_at dksX0_goes_2 0 rfl rfl)
theorem dX0_goes_51 : decode cX0_goes 51 = .ok (.aload_n 0, 1) := dk_42 (dk_at dksX0_goes_2 3 rfl rfl)
theorem dX0_goes_52 : decode cX0_goes 52 = .ok (.aload_n 0, 1) := dk_42 (dk_at dksX0_goes_2 4 rfl rfl)
theorem dX0_goes_53 : decode cX0_goes 53 = .ok (.getfield 140, 3) := dk_180 0 140 (dk_at dksX0_goes_2 5 rfl rfl)
theorem dX0_goes_56 : decode cX0_goes 56 = .ok (.putfield 146, 3) := dk_181 0 146 (dk_at dksX0_goes_2 8 rfl rfl)
theorem dX0_goes_59 : decode cX0_goes 59 = .ok (.aload_n 0, 1) := dk_42 (dk_at dksX0_goes_2 11 rfl rfl)
theorem dX0_goes_60 : decode cX0_goes 60 = .ok (.getfield 140, 3) := dk_180 0 140 (dk_at dksX0_goes_2 12 rfl rfl)
theorem dX0_goes_63 : decode cX0_goes 63 = .ok (.aload_n 0, 1) := dk_42 (dk_at dksX0_goes_2 15 rfl rfl)
theorem dX0_goes_64 : decode cX0_goes 64 = .ok (.getfield 149, 3) := dk_180 0 149 (dk_at dksX0_goes_2 16 rfl rfl)
theorem dX0_goes_67 : decode cX0_goes 67 = .ok (.if_icmp .ge 22, 3) := dk_162 0 22 (dk_at dksX0_goes_2 19 rfl rfl)
theorem dX0_goes_70 : decode cX0_goes 70 = .ok (.aload_n 0, 1) := dk_42 (dk_at dksX0_goes_2 22 rfl rfl)
theorem dX0_goes_71 : decode cX0_goes 71 = .ok (.getfield 69, 3) := dk_180 0 69 (dk_at dksX0_goes_3 0 rfl rfl)
theorem dX0_goes_74 : decode cX0_goes 74 = .ok (.aload_n 0, 1) := dk_42 (dk_at dksX0_goes_3 3 rfl rfl)
theorem dX0_goes_75 : decode cX0_goes 75 = .ok (.getfield 140, 3) := dk_180 0 140 (dk_at dksX0_goes_3 4 rfl rfl)
theorem dX0_goes_78 : decode cX0_goes 78 = .ok (.baload, 1) := dk_51 (dk_at dksX0_goes_3 7 rfl rfl)
theorem dX0_goes_79 : decode cX0_goes 79 = .ok (.invokestatic 152, 3) := dk_184 0 152 (dk_at dksX0_goes_3 8 rfl rfl)
theorem dX0_goes_82 : decode cX0_goes 82 = .ok (.ifCond .eq 7, 3) := dk_153 0 7 (dk_at dksX0_goes_3 11 rfl rfl)
theorem dX0_goes_85 : decode cX0_goes 85 = .ok (.iconst 1, 1) := dk_4 (dk_at dksX0_goes_3 14 rfl rfl)
theorem dX0_goes_86 : decode cX0_goes 86 = .ok (.goto 4, 3) := dk_167 0 4 (dk_at dksX0_goes_3 15 rfl rfl)
theorem dX0_goes_89 : decode cX0_goes 89 = .ok (.iconst 0, 1) := dk_3 (dk_at dksX0_goes_3 18 rfl rfl)
theorem dX0_goes_90 : decode cX0_goes 90 = .ok (.istore_n 2, 1) := dk_61 (dk_at dksX0_goes_3 19 rfl rfl)
theorem dX0_goes_91 : decode cX0_goes 91 = .ok (.aload_n 0, 1) := dk_42 (dk_at dksX0_goes_3 20 rfl rfl)
theorem dX0_goes_92 : decode cX0_goes 92 = .ok (.getfield 140, 3) := dk_180 0 140 (dk_at dksX0_goes_3 21 rfl rfl)
theorem dX0_goes_95 : decode cX0_goes 95 = .ok (.aload_n 0, 1) := dk_42 (dk_at dksX0_goes_4 0 rfl rfl)
theorem dX0_goes_96 : decode cX0_goes 96 = .ok (.getfield 149, 3) := dk_180 0 149 (dk_at dksX0_goes_4 1 rfl rfl)
theorem dX0_goes_99 : decode cX0_goes 99 = .ok (.if_icmp .ge 22, 3) := dk_162 0 22 (dk_at dksX0_goes_4 4 rfl rfl)
theorem dX0_goes_102 : decode cX0_goes 102 = .ok (.aload_n 0, 1) := dk_42 (dk_at dksX0_goes_4 7 rfl rfl)
theorem dX0_goes_103 : decode cX0_goes 103 = .ok (.getfield 69, 3) := dk_180 0 69 (dk_at dksX0_goes_4 8 rfl rfl)
theorem dX0_goes_106 : decode cX0_goes 106 = .ok (.aload_n 0, 1) := dk_42 (dk_at dksX0_goes_4 11 rfl rfl)
theorem dX0_goes_107 : decode cX0_goes 107 = .ok (.getfield 140, 3) := dk_180 0 140 (dk_at dksX0_goes_4 12 rfl rfl)
theorem dX0_goes_110 : decode cX0_goes 110 = .ok (.baload, 1) := dk_51 (dk_at dksX0_goes_4 15 rfl rfl)
theorem dX0_goes_111 : decode cX0_goes 111 = .ok (.invokestatic 156, 3) := dk_184 0 156 (dk_at dksX0_goes_4 16 rfl rfl)
theorem dX0_goes_114 : decode cX0_goes 114 = .ok (.ifCond .eq 7, 3) := dk_153 0 7 (dk_at dksX0_goes_4 19 rfl rfl)
theorem dX0_goes_117 : decode cX0_goes 117 = .ok (.iconst 1, 1) := dk_4 (dk_at dksX0_goes_4 22 rfl rfl)
theorem dX0_goes_118 : decode cX0_goes 118 = .ok (.goto 4, 3) := dk_167 0 4 (dk_at dksX0_goes_5 0 rfl rfl)
theorem dX0_goes_121 : decode cX0_goes 121 = .ok (.iconst 0, 1) := dk_3 (dk_at dksX0_goes_5 3 rfl rfl)
theorem dX0_goes_122 : decode cX0_goes 122 = .ok (.istore_n 3, 1) := dk_62 (dk_at dksX0_goes_5 4 rfl rfl)
theorem dX0_goes_123 : decode cX0_goes 123 = .ok (.iload_n 2, 1) := dk_28 (dk_at dksX0_goes_5 5 rfl rfl)
theorem dX0_goes_124 : decode cX0_goes 124 = .ok (.ifCond .eq 42, 3) := dk_153 0 42 (dk_at dksX0_goes_5 6 rfl rfl)
theorem dX0_goes_127 : decode cX0_goes 127 = .ok (.aload_n 0, 1) := dk_42 (dk_at dksX0_goes_5 9 rfl rfl)
theorem dX0_goes_128 : decode cX0_goes 128 = .ok (.getfield 146, 3) := dk_180 0 146 (dk_at dksX0_goes_5 10 rfl rfl)
theorem dX0_goes_131 : decode cX0_goes 131 = .ok (.aload_n 0, 1) := dk_42 (dk_at dksX0_goes_5 13 rfl rfl)
theorem dX0_goes_132 : decode cX0_goes 132 = .ok (.getfield 149, 3) := dk_180 0 149 (dk_at dksX0_goes_5 14 rfl rfl)
theorem dX0_goes_135 : decode cX0_goes 135 = .ok (.if_icmp .ge 95, 3) := dk_162 0 95 (dk_at dksX0_goes_5 17 rfl rfl)
theorem dX0_goes_138 : decode cX0_goes 138 = .ok (.aload_n 0, 1) := dk_42 (dk_at dksX0_goes_5 20 rfl rfl)
theorem dX0_goes_139 : decode cX0_goes 139 = .ok (.getfield 69, 3) := dk_180 0 69 (dk_at dksX0_goes_5 21 rfl rfl)
theorem dX0_goes_142 : decode cX0_goes 142 = .ok (.aload_n 0, 1) := dk_42 (dk_at dksX0_goes_6 0 rfl rfl)
theorem dX0_goes_143 : decode cX0_goes 143 = .ok (.getfield 146, 3) := dk_180 0 146 (dk_at dksX0_goes_6 1 rfl rfl)
theorem dX0_goes_146 : decode cX0_goes 146 = .ok (.baload, 1) := dk_51 (dk_at dksX0_goes_6 4 rfl rfl)
theorem dX0_goes_147 : decode cX0_goes 147 = .ok (.invokestatic 152, 3) := dk_184 0 152 (dk_at dksX0_goes_6 5 rfl rfl)
theorem dX0_goes_150 : decode cX0_goes 150 = .ok (.ifCond .eq 80, 3) := dk_153 0 80 (dk_at dksX0_goes_6 8 rfl rfl)
theorem dX0_goes_153 : decode cX0_goes 153 = .ok (.aload_n 0, 1) := dk_42 (dk_at dksX0_goes_6 11 rfl rfl)
theorem dX0_goes_154 : decode cX0_goes 154 = .ok (.dup, 1) := dk_89 (dk_at dksX0_goes_6 12 rfl rfl)
theorem dX0_goes_155 : decode cX0_goes 155 = .ok (.getfield 146, 3) := dk_180 0 146 (dk_at dksX0_goes_6 13 rfl rfl)
theorem dX0_goes_158 : decode cX0_goes 158 = .ok (.iconst 1, 1) := dk_4 (dk_at dksX0_goes_6 16 rfl rfl)
theorem dX0_goes_159 : decode cX0_goes 159 = .ok (.iadd, 1) := dk_96 (dk_at dksX0_goes_6 17 rfl rfl)
theorem dX0_goes_160 : decode cX0_goes 160 = .ok (.putfield 146, 3) := dk_181 0 146 (dk_at dksX0_goes_6 18 rfl rfl)
theorem dX0_goes_163 : decode cX0_goes 163 = .ok (.goto (-36), 3) := dk_167 255 220 (dk_at dksX0_goes_6 21 rfl rfl)
theorem dX0_goes_166 : decode cX0_goes 166 = .ok (.iload_n 3, 1) := dk_29 (dk_at dksX0_goes_7 0 rfl rfl)
theorem dX0_goes_167 : decode cX0_goes 167 = .ok (.ifCond .eq 42, 3) := dk_153 0 42 (dk_at dksX0_goes_7 1 rfl rfl)
theorem dX0_goes_170 : decode cX0_goes 170 = .ok (.aload_n 0, 1) := dk_42 (dk_at dksX0_goes_7 4 rfl rfl)
theorem dX0_goes_171 : decode cX0_goes 171 = .ok (.getfield 146, 3) := dk_180 0 146 (dk_at dksX0_goes_7 5 rfl rfl)
theorem dX0_goes_174 : decode cX0_goes 174 = .ok (.aload_n 0, 1) := dk_42 (dk_at dksX0_goes_7 8 rfl rfl)
theorem dX0_goes_175 : decode cX0_goes 175 = .ok (.getfield 149, 3) := dk_180 0 149 (dk_at dksX0_goes_7 9 rfl rfl)
theorem dX0_goes_178 : decode cX0_goes 178 = .ok (.if_icmp .ge 52, 3) := dk_162 0 52 (dk_at dksX0_goes_7 12 rfl rfl)
theorem dX0_goes_181 : decode cX0_goes 181 = .ok (.aload_n 0, 1) := dk_42 (dk_at dksX0_goes_7 15 rfl rfl)
theorem dX0_goes_182 : decode cX0_goes 182 = .ok (.getfield 69, 3) := dk_180 0 69 (dk_at dksX0_goes_7 16 rfl rfl)
theorem dX0_goes_185 : decode cX0_goes 185 = .ok (.aload_n 0, 1) := dk_42 (dk_at dksX0_goes_7 19 rfl rfl)
theorem dX0_goes_186 : decode cX0_goes 186 = .ok (.getfield 146, 3) := dk_180 0 146 (dk_at dksX0_goes_7 20 rfl rfl)
theorem dX0_goes_189 : decode cX0_goes 189 = .ok (.baload, 1) := dk_51 (dk_at dksX0_goes_7 23 rfl rfl)
theorem dX0_goes_190 : decode cX0_goes 190 = .ok (.invokestatic 156, 3) := dk_184 0 156 (dk_at dksX0_goes_8 0 rfl rfl)
theorem dX0_goes_193 : decode cX0_goes 193 = .ok (.ifCond .eq 37, 3) := dk_153 0 37 (dk_at dksX0_goes_8 3 rfl rfl)
theorem dX0_goes_196 : decode cX0_goes 196 = .ok (.aload_n 0, 1) := dk_42 (dk_at dksX0_goes_8 6 rfl rfl)
theorem dX0_goes_197 : decode cX0_goes 197 = .ok (.dup, 1) := dk_89 (dk_at dksX0_goes_8 7 rfl rfl)
theorem dX0_goes_198 : decode cX0_goes 198 = .ok (.getfield 146, 3) := dk_180 0 146 (dk_at dksX0_goes_8 8 rfl rfl)
theorem dX0_goes_201 : decode cX0_goes 201 = .ok (.iconst 1, 1) := dk_4 (dk_at dksX0_goes_8 11 rfl rfl)
theorem dX0_goes_202 : decode cX0_goes 202 = .ok (.iadd, 1) := dk_96 (dk_at dksX0_goes_8 12 rfl rfl)
theorem dX0_goes_203 : decode cX0_goes 203 = .ok (.putfield 146, 3) := dk_181 0 146 (dk_at dksX0_goes_8 13 rfl rfl)
theorem dX0_goes_206 : decode cX0_goes 206 = .ok (.goto (-36), 3) := dk_167 255 220 (dk_at dksX0_goes_8 16 rfl rfl)
theorem dX0_goes_209 : decode cX0_goes 209 = .ok (.aload_n 0, 1) := dk_42 (dk_at dksX0_goes_8 19 rfl rfl)
theorem dX0_goes_210 : decode cX0_goes 210 = .ok (.getfield 140, 3) := dk_180 0 140 (dk_at dksX0_goes_8 20 rfl rfl)
theorem dX0_goes_213 : decode cX0_goes 213 = .ok (.aload_n 0, 1) := dk_42 (dk_at dksX0_goes_8 23 rfl rfl)
theorem dX0_goes_214 : decode cX0_goes 214 = .ok (.getfield 149, 3) := dk_180 0 149 (dk_at dksX0_goes_9 0 rfl rfl)
theorem dX0_goes_217 : decode cX0_goes 217 = .ok (.if_icmp .ge 13, 3) := dk_162 0 13 (dk_at dksX0_goes_9 3 rfl rfl)
theorem dX0_goes_220 : decode cX0_goes 220 = .ok (.aload_n 0, 1) := dk_42 (dk_at dksX0_goes_9 6 rfl rfl)
theorem dX0_goes_221 : decode cX0_goes 221 = .ok (.dup, 1) := dk_89 (dk_at dksX0_goes_9 7 rfl rfl)
theorem dX0_goes_222 : decode cX0_goes 222 = .ok (.getfield 146, 3) := dk_180 0 146 (dk_at dksX0_goes_9 8 rfl rfl)
theorem dX0_goes_225 : decode cX0_goes 225 = .ok (.iconst 1, 1) := dk_4 (dk_at dksX0_goes_9 11 rfl rfl)
theorem dX0_goes_226 : decode cX0_goes 226 = .ok (.iadd, 1) := dk_96 (dk_at dksX0_goes_9 12 rfl rfl)
theorem dX0_goes_227 : decode cX0_goes 227 = .ok (.putfield 146, 3) := dk_181 0 146 (dk_at dksX0_goes_9 13 rfl rfl)
theorem dX0_goes_230 : decode cX0_goes 230 = .ok (.aload_n 0, 1) := dk_42 (dk_at dksX0_goes_9 16 rfl rfl)
theorem dX0_goes_231 : decode cX0_goes 231 = .ok (.getfield 140, 3) := dk_180 0 140 (dk_at dksX0_goes_9 17 rfl rfl)
theorem dX0_goes_234 : decode cX0_goes 234 = .ok (.iload_n 1, 1) := dk_27 (dk_at dksX0_goes_9 20 rfl rfl)
theorem dX0_goes_235 : decode cX0_goes 235 = .ok (.if_icmp .ne 39, 3) := dk_160 0 39 (dk_at dksX0_goes_9 21 rfl rfl)
theorem dX0_goes_238 : decode cX0_goes 238 = .ok (.iload_n 1, 1) := dk_27 (dk_at dksX0_goes_10 0 rfl rfl)
theorem dX0_goes_239 : decode cX0_goes 239 = .ok (.ifCond .le 35, 3) := dk_158 0 35 (dk_at dksX0_goes_10 1 rfl rfl)
theorem dX0_goes_242 : decode cX0_goes 242 = .ok (.aload_n 0, 1) := dk_42 (dk_at dksX0_goes_10 4 rfl rfl)
theorem dX0_goes_243 : decode cX0_goes 243 = .ok (.getfield 69, 3) := dk_180 0 69 (dk_at dksX0_goes_10 5 rfl rfl)
theorem dX0_goes_246 : decode cX0_goes 246 = .ok (.iload_n 1, 1) := dk_27 (dk_at dksX0_goes_10 8 rfl rfl)
theorem dX0_goes_247 : decode cX0_goes 247 = .ok (.iconst 1, 1) := dk_4 (dk_at dksX0_goes_10 9 rfl rfl)
theorem dX0_goes_248 : decode cX0_goes 248 = .ok (.isub, 1) := dk_100 (dk_at dksX0_goes_10 10 rfl rfl)
theorem dX0_goes_249 : decode cX0_goes 249 = .ok (.baload, 1) := dk_51 (dk_at dksX0_goes_10 11 rfl rfl)
theorem dX0_goes_250 : decode cX0_goes 250 = .ok (.invokestatic 152, 3) := dk_184 0 152 (dk_at dksX0_goes_10 12 rfl rfl)
theorem dX0_goes_253 : decode cX0_goes 253 = .ok (.ifCond .ne 17, 3) := dk_154 0 17 (dk_at dksX0_goes_10 15 rfl rfl)
theorem dX0_goes_256 : decode cX0_goes 256 = .ok (.aload_n 0, 1) := dk_42 (dk_at dksX0_goes_10 18 rfl rfl)
theorem dX0_goes_257 : decode cX0_goes 257 = .ok (.getfield 69, 3) := dk_180 0 69 (dk_at dksX0_goes_10 19 rfl rfl)
theorem dX0_goes_260 : decode cX0_goes 260 = .ok (.iload_n 1, 1) := dk_27 (dk_at dksX0_goes_10 22 rfl rfl)
theorem dX0_goes_261 : decode cX0_goes 261 = .ok (.iconst 1, 1) := dk_4 (dk_at dksX0_goes_10 23 rfl rfl)
theorem dX0_goes_262 : decode cX0_goes 262 = .ok (.isub, 1) := dk_100 (dk_at dksX0_goes_11 0 rfl rfl)
theorem dX0_goes_263 : decode cX0_goes 263 = .ok (.baload, 1) := dk_51 (dk_at dksX0_goes_11 1 rfl rfl)
theorem dX0_goes_264 : decode cX0_goes 264 = .ok (.invokestatic 156, 3) := dk_184 0 156 (dk_at dksX0_goes_11 2 rfl rfl)
theorem dX0_goes_267 : decode cX0_goes 267 = .ok (.ifCond .eq 7, 3) := dk_153 0 7 (dk_at dksX0_goes_11 5 rfl rfl)
theorem dX0_goes_270 : decode cX0_goes 270 = .ok (.iconst 1, 1) := dk_4 (dk_at dksX0_goes_11 8 rfl rfl)
theorem dX0_goes_271 : decode cX0_goes 271 = .ok (.goto 4, 3) := dk_167 0 4 (dk_at dksX0_goes_11 9 rfl rfl)
theorem dX0_goes_274 : decode cX0_goes 274 = .ok (.iconst 0, 1) := dk_3 (dk_at dksX0_goes_11 12 rfl rfl)
theorem dX0_goes_275 : decode cX0_goes 275 = .ok (.istore 4, 2) := dk_54 4 (dk_at dksX0_goes_11 13 rfl rfl)
theorem dX0_goes_277 : decode cX0_goes 277 = .ok (.iload 4, 2) := dk_21 4 (dk_at dksX0_goes_11 15 rfl rfl)
theorem dX0_goes_279 : decode cX0_goes 279 = .ok (.ifCond .eq 15, 3) := dk_153 0 15 (dk_at dksX0_goes_11 17 rfl rfl)
theorem dX0_goes_282 : decode cX0_goes 282 = .ok (.iload_n 2, 1) := dk_28 (dk_at dksX0_goes_11 20 rfl rfl)
theorem dX0_goes_283 : decode cX0_goes 283 = .ok (.ifCond .ne 7, 3) := dk_154 0 7 (dk_at dksX0_goes_11 21 rfl rfl)
theorem dX0_goes_286 : decode cX0_goes 286 = .ok (.iload_n 3, 1) := dk_29 (dk_at dksX0_goes_12 0 rfl rfl)
theorem dX0_goes_287 : decode cX0_goes 287 = .ok (.ifCond .eq 7, 3) := dk_153 0 7 (dk_at dksX0_goes_12 1 rfl rfl)
theorem dX0_goes_290 : decode cX0_goes 290 = .ok (.aload_n 0, 1) := dk_42 (dk_at dksX0_goes_12 4 rfl rfl)
theorem dX0_goes_291 : decode cX0_goes 291 = .ok (.invokevirtual 159, 3) := dk_182 0 159 (dk_at dksX0_goes_12 5 rfl rfl)
theorem dX0_goes_294 : decode cX0_goes 294 = .ok (.return_, 1) := dk_177 (dk_at dksX0_goes_12 8 rfl rfl)
abbrev cX0_isLetter : ByteArray := prog_1_method_15_code
def yX0_isLetter : MethodName := ⟨RX0, "isLetter", "(I)Z"⟩
def dkwX0_isLetter_0 : List UInt8 := [26, 16, 97, 16, 122, 184, 0, 114, 172]
abbrev dktX0_isLetter_0 : List UInt8 := dkwX0_isLetter_0 ++ []
theorem dksX0_isLetter_0 : cX0_isLetter.data.toList.drop 0 = dktX0_isLetter_0 := by decide +kernel
theorem dX0_isLetter_0 : decode cX0_isLetter 0 = .ok (.iload_n 0, 1) := dk_26 (dk_at dksX0_isLetter_0 0 rfl rfl)
theorem dX0_isLetter_1 : decode cX0_isLetter 1 = .ok (.bipush 97, 2) := dk_16 97 (dk_at dksX0_isLetter_0 1 rfl rfl)
theorem dX0_isLetter_3 : decode cX0_isLetter 3 = .ok (.bipush 122, 2) := dk_16 122 (dk_at dksX0_isLetter_0 3 rfl rfl)
theorem dX0_isLetter_5 : decode cX0_isLetter 5 = .ok (.invokestatic 114, 3) := dk_184 0 114 (dk_at dksX0_isLetter_0 5 rfl rfl)
theorem dX0_isLetter_8 : decode cX0_isLetter 8 = .ok (.ireturn, 1) := dk_172 (dk_at dksX0_isLetter_0 8 rfl rfl)
abbrev cX0_isDigit : ByteArray := prog_1_method_16_code
def yX0_isDigit : MethodName := ⟨RX0, "isDigit", "(I)Z"⟩
def dkwX0_isDigit_0 : List UInt8 := [26, 16, 48, 16, 57, 184, 0, 114, 172]
abbrev dktX0_isDigit_0 : List UInt8 := dkwX0_isDigit_0 ++ []
theorem dksX0_isDigit_0 : cX0_isDigit.data.toList.drop 0 = dktX0_isDigit_0 := by decide +kernel
theorem dX0_isDigit_0 : decode cX0_isDigit 0 = .ok (.iload_n 0, 1) := dk_26 (dk_at dksX0_isDigit_0 0 rfl rfl)
theorem dX0_isDigit_1 : decode cX0_isDigit 1 = .ok (.bipush 48, 2) := dk_16 48 (dk_at dksX0_isDigit_0 1 rfl rfl)
theorem dX0_isDigit_3 : decode cX0_isDigit 3 = .ok (.bipush 57, 2) := dk_16 57 (dk_at dksX0_isDigit_0 3 rfl rfl)
theorem dX0_isDigit_5 : decode cX0_isDigit 5 = .ok (.invokestatic 114, 3) := dk_184 0 114 (dk_at dksX0_isDigit_0 5 rfl rfl)
theorem dX0_isDigit_8 : decode cX0_isDigit 8 = .ok (.ireturn, 1) := dk_172 (dk_at dksX0_isDigit_0 8 rfl rfl)
abbrev cX0_wrong : ByteArray := prog_1_method_14_code
def yX0_wrong : MethodName := ⟨RX0, "wrong", "()V"⟩
def dkwX0_wrong_0 : List UInt8 := [42, 180, 0, 76, 42, 180, 0, 140, 181, 0, 143, 42, 180, 0, 76, 191]
abbrev dktX0_wrong_0 : List UInt8 := dkwX0_wrong_0 ++ []
theorem dksX0_wrong_0 : cX0_wrong.data.toList.drop 0 = dktX0_wrong_0 := by decide +kernel
theorem dX0_wrong_0 : decode cX0_wrong 0 = .ok (.aload_n 0, 1) := dk_42 (dk_at dksX0_wrong_0 0 rfl rfl)
theorem dX0_wrong_1 : decode cX0_wrong 1 = .ok (.getfield 76, 3) := dk_180 0 76 (dk_at dksX0_wrong_0 1 rfl rfl)
theorem dX0_wrong_4 : decode cX0_wrong 4 = .ok (.aload_n 0, 1) := dk_42 (dk_at dksX0_wrong_0 4 rfl rfl)
theorem dX0_wrong_5 : decode cX0_wrong 5 = .ok (.getfield 140, 3) := dk_180 0 140 (dk_at dksX0_wrong_0 5 rfl rfl)
theorem dX0_wrong_8 : decode cX0_wrong 8 = .ok (.putfield 143, 3) := dk_181 0 143 (dk_at dksX0_wrong_0 8 rfl rfl)
theorem dX0_wrong_11 : decode cX0_wrong 11 = .ok (.aload_n 0, 1) := dk_42 (dk_at dksX0_wrong_0 11 rfl rfl)
theorem dX0_wrong_12 : decode cX0_wrong 12 = .ok (.getfield 76, 3) := dk_180 0 76 (dk_at dksX0_wrong_0 12 rfl rfl)
theorem dX0_wrong_15 : decode cX0_wrong 15 = .ok (.athrow, 1) := dk_191 (dk_at dksX0_wrong_0 15 rfl rfl)
abbrev cX0_key : ByteArray := prog_1_method_29_code
def yX0_key : MethodName := ⟨RX0, "key", "()I"⟩
def dkwX0_key_2 : List UInt8 := [182, 0, 159, 42, 182, 0, 172, 27, 172]
abbrev dktX0_key_2 : List UInt8 := dkwX0_key_2 ++ []
def dkwX0_key_1 : List UInt8 := [167, 0, 17, 42, 18, 228, 182, 0, 222, 153, 0, 7, 5, 167, 0, 4, 2, 60, 27, 2, 160, 0, 7, 42]
abbrev dktX0_key_1 : List UInt8 := dkwX0_key_1 ++ dktX0_key_2
def dkwX0_key_0 : List UInt8 := [42, 18, 220, 182, 0, 222, 153, 0, 7, 3, 167, 0, 30, 42, 18, 226, 182, 0, 222, 153, 0, 7, 4]
abbrev dktX0_key_0 : List UInt8 := dkwX0_key_0 ++ dktX0_key_1
theorem dksX0_key_0 : cX0_key.data.toList.drop 0 = dktX0_key_0 := by decide +kernel
theorem dksX0_key_1 : cX0_key.data.toList.drop 23 = dktX0_key_1 := dk_seg dksX0_key_0 23 rfl rfl
theorem dksX0_key_2 : cX0_key.data.toList.drop 47 = dktX0_key_2 := dk_seg dksX0_key_1 24 rfl rfl
theorem dX0_key_0 : decode cX0_key 0 = .ok (.aload_n 0, 1) := dk_42 (dk_at dksX0_key_0 0 rfl rfl)
theorem dX0_key_1 : decode cX0_key 1 = .ok (.ldc 220, 2) := dk_18 220 (dk_at dksX0_key_0 1 rfl rfl)
theorem dX0_key_3 : decode cX0_key 3 = .ok (.invokevirtual 222, 3) := dk_182 0 222 (dk_at dksX0_key_0 3 rfl rfl)
theorem dX0_key_6 : decode cX0_key 6 = .ok (.ifCond .eq 7, 3) := dk_153 0 7 (dk_at dksX0_key_0 6 rfl rfl)
theorem dX0_key_9 : decode cX0_key 9 = .ok (.iconst 0, 1) := dk_3 (dk_at dksX0_key_0 9 rfl rfl)
theorem dX0_key_10 : decode cX0_key 10 = .ok (.goto 30, 3) := dk_167 0 30 (dk_at dksX0_key_0 10 rfl rfl)
theorem dX0_key_13 : decode cX0_key 13 = .ok (.aload_n 0, 1) := dk_42 (dk_at dksX0_key_0 13 rfl rfl)
theorem dX0_key_14 : decode cX0_key 14 = .ok (.ldc 226, 2) := dk_18 226 (dk_at dksX0_key_0 14 rfl rfl)
theorem dX0_key_16 : decode cX0_key 16 = .ok (.invokevirtual 222, 3) := dk_182 0 222 (dk_at dksX0_key_0 16 rfl rfl)
theorem dX0_key_19 : decode cX0_key 19 = .ok (.ifCond .eq 7, 3) := dk_153 0 7 (dk_at dksX0_key_0 19 rfl rfl)
theorem dX0_key_22 : decode cX0_key 22 = .ok (.iconst 1, 1) := dk_4 (dk_at dksX0_key_0 22 rfl rfl)
theorem dX0_key_23 : decode cX0_key 23 = .ok (.goto 17, 3) := dk_167 0 17 (dk_at dksX0_key_1 0 rfl rfl)
theorem dX0_key_26 : decode cX0_key 26 = .ok (.aload_n 0, 1) := dk_42 (dk_at dksX0_key_1 3 rfl rfl)
theorem dX0_key_27 : decode cX0_key 27 = .ok (.ldc 228, 2) := dk_18 228 (dk_at dksX0_key_1 4 rfl rfl)
theorem dX0_key_29 : decode cX0_key 29 = .ok (.invokevirtual 222, 3) := dk_182 0 222 (dk_at dksX0_key_1 6 rfl rfl)
theorem dX0_key_32 : decode cX0_key 32 = .ok (.ifCond .eq 7, 3) := dk_153 0 7 (dk_at dksX0_key_1 9 rfl rfl)
theorem dX0_key_35 : decode cX0_key 35 = .ok (.iconst 2, 1) := dk_5 (dk_at dksX0_key_1 12 rfl rfl)
theorem dX0_key_36 : decode cX0_key 36 = .ok (.goto 4, 3) := dk_167 0 4 (dk_at dksX0_key_1 13 rfl rfl)
theorem dX0_key_39 : decode cX0_key 39 = .ok (.iconst (-1), 1) := dk_2 (dk_at dksX0_key_1 16 rfl rfl)
theorem dX0_key_40 : decode cX0_key 40 = .ok (.istore_n 1, 1) := dk_60 (dk_at dksX0_key_1 17 rfl rfl)
theorem dX0_key_41 : decode cX0_key 41 = .ok (.iload_n 1, 1) := dk_27 (dk_at dksX0_key_1 18 rfl rfl)
theorem dX0_key_42 : decode cX0_key 42 = .ok (.iconst (-1), 1) := dk_2 (dk_at dksX0_key_1 19 rfl rfl)
theorem dX0_key_43 : decode cX0_key 43 = .ok (.if_icmp .ne 7, 3) := dk_160 0 7 (dk_at dksX0_key_1 20 rfl rfl)
theorem dX0_key_46 : decode cX0_key 46 = .ok (.aload_n 0, 1) := dk_42 (dk_at dksX0_key_1 23 rfl rfl)
theorem dX0_key_47 : decode cX0_key 47 = .ok (.invokevirtual 159, 3) := dk_182 0 159 (dk_at dksX0_key_2 0 rfl rfl)
theorem dX0_key_50 : decode cX0_key 50 = .ok (.aload_n 0, 1) := dk_42 (dk_at dksX0_key_2 3 rfl rfl)
theorem dX0_key_51 : decode cX0_key 51 = .ok (.invokevirtual 172, 3) := dk_182 0 172 (dk_at dksX0_key_2 4 rfl rfl)
theorem dX0_key_54 : decode cX0_key 54 = .ok (.iload_n 1, 1) := dk_27 (dk_at dksX0_key_2 7 rfl rfl)
theorem dX0_key_55 : decode cX0_key 55 = .ok (.ireturn, 1) := dk_172 (dk_at dksX0_key_2 8 rfl rfl)
abbrev cX0_isWord : ByteArray := prog_1_method_18_code
def yX0_isWord : MethodName := ⟨RX0, "isWord", "(Ljava/lang/String;)Z"⟩
def dkwX0_isWord_2 : List UInt8 := [29, 182, 0, 168, 160, 0, 7, 4, 167, 0, 4, 3, 61, 132, 3, 1, 167, 255, 216, 28, 172]
abbrev dktX0_isWord_2 : List UInt8 := dkwX0_isWord_2 ++ []
def dkwX0_isWord_1 : List UInt8 := [29, 43, 182, 0, 162, 162, 0, 38, 28, 153, 0, 34, 42, 180, 0, 69, 42, 180, 0, 140, 29, 96, 51, 43]
abbrev dktX0_isWord_1 : List UInt8 := dkwX0_isWord_1 ++ dktX0_isWord_2
def dkwX0_isWord_0 : List UInt8 := [42, 180, 0, 146, 42, 180, 0, 140, 100, 43, 182, 0, 162, 160, 0, 7, 4, 167, 0, 4, 3, 61, 3, 62]
abbrev dktX0_isWord_0 : List UInt8 := dkwX0_isWord_0 ++ dktX0_isWord_1
theorem dksX0_isWord_0 : cX0_isWord.data.toList.drop 0 = dktX0_isWord_0 := by decide +kernel
theorem dksX0_isWord_1 : cX0_isWord.data.toList.drop 24 = dktX0_isWord_1 := dk_seg dksX0_isWord_0 24 rfl rfl
theorem dksX0_isWord_2 : cX0_isWord.data.toList.drop 48 = dktX0_isWord_2 := dk_seg dksX0_isWord_1 24 rfl rfl
theorem dX0_isWord_0 : decode cX0_isWord 0 = .ok (.aload_n 0, 1) := dk_42 (dk_at dksX0_isWord_0 0 rfl rfl)
theorem dX0_isWord_1 : decode cX0_isWord 1 = .ok (.getfield 146, 3) := dk_180 0 146 (dk_at dksX0_isWord_0 1 rfl rfl)
theorem dX0_isWord_4 : decode cX0_isWord 4 = .ok (.aload_n 0, 1) := dk_42 (dk_at dksX0_isWord_0 4 rfl rfl)
theorem dX0_isWord_5 : decode cX0_isWord 5 = .ok (.getfield 140, 3) := dk_180 0 140 (dk_at dksX0_isWord_0 5 rfl rfl)
theorem dX0_isWord_8 : decode cX0_isWord 8 = .ok (.isub, 1) := dk_100 (dk_at dksX0_isWord_0 8 rfl rfl)
theorem dX0_isWord_9 : decode cX0_isWord 9 = .ok (.aload_n 1, 1) := dk_43 (dk_at dksX0_isWord_0 9 rfl rfl)
theorem dX0_isWord_10 : decode cX0_isWord 10 = .ok (.invokevirtual 162, 3) := dk_182 0 162 (dk_at dksX0_isWord_0 10 rfl rfl)
theorem dX0_isWord_13 : decode cX0_isWord 13 = .ok (.if_icmp .ne 7, 3) := dk_160 0 7 (dk_at dksX0_isWord_0 13 rfl rfl)
theorem dX0_isWord_16 : decode cX0_isWord 16 = .ok (.iconst 1, 1) := dk_4 (dk_at dksX0_isWord_0 16 rfl rfl)
theorem dX0_isWord_17 : decode cX0_isWord 17 = .ok (.goto 4, 3) := dk_167 0 4 (dk_at dksX0_isWord_0 17 rfl rfl)
theorem dX0_isWord_20 : decode cX0_isWord 20 = .ok (.iconst 0, 1) := dk_3 (dk_at dksX0_isWord_0 20 rfl rfl)
theorem dX0_isWord_21 : decode cX0_isWord 21 = .ok (.istore_n 2, 1) := dk_61 (dk_at dksX0_isWord_0 21 rfl rfl)
theorem dX0_isWord_22 : decode cX0_isWord 22 = .ok (.iconst 0, 1) := dk_3 (dk_at dksX0_isWord_0 22 rfl rfl)
theorem dX0_isWord_23 : decode cX0_isWord 23 = .ok (.istore_n 3, 1) := dk_62 (dk_at dksX0_isWord_0 23 rfl rfl)
theorem dX0_isWord_24 : decode cX0_isWord 24 = .ok (.iload_n 3, 1) := dk_29 (dk_at dksX0_isWord_1 0 rfl rfl)
theorem dX0_isWord_25 : decode cX0_isWord 25 = .ok (.aload_n 1, 1) := dk_43 (dk_at dksX0_isWord_1 1 rfl rfl)
theorem dX0_isWord_26 : decode cX0_isWord 26 = .ok (.invokevirtual 162, 3) := dk_182 0 162 (dk_at dksX0_isWord_1 2 rfl rfl)
theorem dX0_isWord_29 : decode cX0_isWord 29 = .ok (.if_icmp .ge 38, 3) := dk_162 0 38 (dk_at dksX0_isWord_1 5 rfl rfl)
theorem dX0_isWord_32 : decode cX0_isWord 32 = .ok (.iload_n 2, 1) := dk_28 (dk_at dksX0_isWord_1 8 rfl rfl)
theorem dX0_isWord_33 : decode cX0_isWord 33 = .ok (.ifCond .eq 34, 3) := dk_153 0 34 (dk_at dksX0_isWord_1 9 rfl rfl)
theorem dX0_isWord_36 : decode cX0_isWord 36 = .ok (.aload_n 0, 1) := dk_42 (dk_at dksX0_isWord_1 12 rfl rfl)
theorem dX0_isWord_37 : decode cX0_isWord 37 = .ok (.getfield 69, 3) := dk_180 0 69 (dk_at dksX0_isWord_1 13 rfl rfl)
theorem dX0_isWord_40 : decode cX0_isWord 40 = .ok (.aload_n 0, 1) := dk_42 (dk_at dksX0_isWord_1 16 rfl rfl)
theorem dX0_isWord_41 : decode cX0_isWord 41 = .ok (.getfield 140, 3) := dk_180 0 140 (dk_at dksX0_isWord_1 17 rfl rfl)
theorem dX0_isWord_44 : decode cX0_isWord 44 = .ok (.iload_n 3, 1) := dk_29 (dk_at dksX0_isWord_1 20 rfl rfl)
theorem dX0_isWord_45 : decode cX0_isWord 45 = .ok (.iadd, 1) := dk_96 (dk_at dksX0_isWord_1 21 rfl rfl)
theorem dX0_isWord_46 : decode cX0_isWord 46 = .ok (.baload, 1) := dk_51 (dk_at dksX0_isWord_1 22 rfl rfl)
theorem dX0_isWord_47 : decode cX0_isWord 47 = .ok (.aload_n 1, 1) := dk_43 (dk_at dksX0_isWord_1 23 rfl rfl)
theorem dX0_isWord_48 : decode cX0_isWord 48 = .ok (.iload_n 3, 1) := dk_29 (dk_at dksX0_isWord_2 0 rfl rfl)
theorem dX0_isWord_49 : decode cX0_isWord 49 = .ok (.invokevirtual 168, 3) := dk_182 0 168 (dk_at dksX0_isWord_2 1 rfl rfl)
theorem dX0_isWord_52 : decode cX0_isWord 52 = .ok (.if_icmp .ne 7, 3) := dk_160 0 7 (dk_at dksX0_isWord_2 4 rfl rfl)
theorem dX0_isWord_55 : decode cX0_isWord 55 = .ok (.iconst 1, 1) := dk_4 (dk_at dksX0_isWord_2 7 rfl rfl)
theorem dX0_isWord_56 : decode cX0_isWord 56 = .ok (.goto 4, 3) := dk_167 0 4 (dk_at dksX0_isWord_2 8 rfl rfl)
theorem dX0_isWord_59 : decode cX0_isWord 59 = .ok (.iconst 0, 1) := dk_3 (dk_at dksX0_isWord_2 11 rfl rfl)
theorem dX0_isWord_60 : decode cX0_isWord 60 = .ok (.istore_n 2, 1) := dk_61 (dk_at dksX0_isWord_2 12 rfl rfl)
theorem dX0_isWord_61 : decode cX0_isWord 61 = .ok (.iinc 3 1, 3) := dk_132 3 1 (dk_at dksX0_isWord_2 13 rfl rfl)
theorem dX0_isWord_64 : decode cX0_isWord 64 = .ok (.goto (-40), 3) := dk_167 255 216 (dk_at dksX0_isWord_2 16 rfl rfl)
theorem dX0_isWord_67 : decode cX0_isWord 67 = .ok (.iload_n 2, 1) := dk_28 (dk_at dksX0_isWord_2 19 rfl rfl)
theorem dX0_isWord_68 : decode cX0_isWord 68 = .ok (.ireturn, 1) := dk_172 (dk_at dksX0_isWord_2 20 rfl rfl)
abbrev cX0_expression : ByteArray := prog_1_method_21_code
def yX0_expression : MethodName := ⟨RX0, "expression", "()LStoneSheets$Words;"⟩
def dkwX0_expression_0 : List UInt8 := [187, 0, 119, 89, 183, 0, 175, 76, 42, 43, 182, 0, 176, 43, 176]
abbrev dktX0_expression_0 : List UInt8 := dkwX0_expression_0 ++ []
theorem dksX0_expression_0 : cX0_expression.data.toList.drop 0 = dktX0_expression_0 := by decide +kernel
theorem dX0_expression_0 : decode cX0_expression 0 = .ok (.new 119, 3) := dk_187 0 119 (dk_at dksX0_expression_0 0 rfl rfl)
theorem dX0_expression_3 : decode cX0_expression 3 = .ok (.dup, 1) := dk_89 (dk_at dksX0_expression_0 3 rfl rfl)
theorem dX0_expression_4 : decode cX0_expression 4 = .ok (.invokespecial 175, 3) := dk_183 0 175 (dk_at dksX0_expression_0 4 rfl rfl)
theorem dX0_expression_7 : decode cX0_expression 7 = .ok (.astore_n 1, 1) := dk_76 (dk_at dksX0_expression_0 7 rfl rfl)
theorem dX0_expression_8 : decode cX0_expression 8 = .ok (.aload_n 0, 1) := dk_42 (dk_at dksX0_expression_0 8 rfl rfl)
theorem dX0_expression_9 : decode cX0_expression 9 = .ok (.aload_n 1, 1) := dk_43 (dk_at dksX0_expression_0 9 rfl rfl)
theorem dX0_expression_10 : decode cX0_expression 10 = .ok (.invokevirtual 176, 3) := dk_182 0 176 (dk_at dksX0_expression_0 10 rfl rfl)
theorem dX0_expression_13 : decode cX0_expression 13 = .ok (.aload_n 1, 1) := dk_43 (dk_at dksX0_expression_0 13 rfl rfl)
theorem dX0_expression_14 : decode cX0_expression 14 = .ok (.areturn, 1) := dk_176 (dk_at dksX0_expression_0 14 rfl rfl)
abbrev cX0_or : ByteArray := prog_1_method_22_code
def yX0_or : MethodName := ⟨RX0, "or", "(LStoneSheets$Words;)V"⟩
def dkwX0_or_1 : List UInt8 := [16, 11, 3, 182, 0, 186, 167, 255, 231, 177]
abbrev dktX0_or_1 : List UInt8 := dkwX0_or_1 ++ []
def dkwX0_or_0 : List UInt8 := [42, 43, 182, 0, 180, 42, 16, 124, 182, 0, 183, 153, 0, 22, 42, 182, 0, 172, 42, 43, 182, 0, 180, 43]
abbrev dktX0_or_0 : List UInt8 := dkwX0_or_0 ++ dktX0_or_1
theorem dksX0_or_0 : cX0_or.data.toList.drop 0 = dktX0_or_0 := by decide +kernel
theorem dksX0_or_1 : cX0_or.data.toList.drop 24 = dktX0_or_1 := dk_seg dksX0_or_0 24 rfl rfl
theorem dX0_or_0 : decode cX0_or 0 = .ok (.aload_n 0, 1) := dk_42 (dk_at dksX0_or_0 0 rfl rfl)
theorem dX0_or_1 : decode cX0_or 1 = .ok (.aload_n 1, 1) := dk_43 (dk_at dksX0_or_0 1 rfl rfl)
theorem dX0_or_2 : decode cX0_or 2 = .ok (.invokevirtual 180, 3) := dk_182 0 180 (dk_at dksX0_or_0 2 rfl rfl)
theorem dX0_or_5 : decode cX0_or 5 = .ok (.aload_n 0, 1) := dk_42 (dk_at dksX0_or_0 5 rfl rfl)
theorem dX0_or_6 : decode cX0_or 6 = .ok (.bipush 124, 2) := dk_16 124 (dk_at dksX0_or_0 6 rfl rfl)
theorem dX0_or_8 : decode cX0_or 8 = .ok (.invokevirtual 183, 3) := dk_182 0 183 (dk_at dksX0_or_0 8 rfl rfl)
theorem dX0_or_11 : decode cX0_or 11 = .ok (.ifCond .eq 22, 3) := dk_153 0 22 (dk_at dksX0_or_0 11 rfl rfl)
theorem dX0_or_14 : decode cX0_or 14 = .ok (.aload_n 0, 1) := dk_42 (dk_at dksX0_or_0 14 rfl rfl)
theorem dX0_or_15 : decode cX0_or 15 = .ok (.invokevirtual 172, 3) := dk_182 0 172 (dk_at dksX0_or_0 15 rfl rfl)
theorem dX0_or_18 : decode cX0_or 18 = .ok (.aload_n 0, 1) := dk_42 (dk_at dksX0_or_0 18 rfl rfl)
theorem dX0_or_19 : decode cX0_or 19 = .ok (.aload_n 1, 1) := dk_43 (dk_at dksX0_or_0 19 rfl rfl)
theorem dX0_or_20 : decode cX0_or 20 = .ok (.invokevirtual 180, 3) := dk_182 0 180 (dk_at dksX0_or_0 20 rfl rfl)
theorem dX0_or_23 : decode cX0_or 23 = .ok (.aload_n 1, 1) := dk_43 (dk_at dksX0_or_0 23 rfl rfl)
theorem dX0_or_24 : decode cX0_or 24 = .ok (.bipush 11, 2) := dk_16 11 (dk_at dksX0_or_1 0 rfl rfl)
theorem dX0_or_26 : decode cX0_or 26 = .ok (.iconst 0, 1) := dk_3 (dk_at dksX0_or_1 2 rfl rfl)
theorem dX0_or_27 : decode cX0_or 27 = .ok (.invokevirtual 186, 3) := dk_182 0 186 (dk_at dksX0_or_1 3 rfl rfl)
theorem dX0_or_30 : decode cX0_or 30 = .ok (.goto (-25), 3) := dk_167 255 231 (dk_at dksX0_or_1 6 rfl rfl)
theorem dX0_or_33 : decode cX0_or 33 = .ok (.return_, 1) := dk_177 (dk_at dksX0_or_1 9 rfl rfl)
abbrev cX0_and : ByteArray := prog_1_method_23_code
def yX0_and : MethodName := ⟨RX0, "and", "(LStoneSheets$Words;)V"⟩
def dkwX0_and_1 : List UInt8 := [16, 10, 3, 182, 0, 186, 167, 255, 231, 177]
abbrev dktX0_and_1 : List UInt8 := dkwX0_and_1 ++ []
def dkwX0_and_0 : List UInt8 := [42, 43, 182, 0, 190, 42, 16, 38, 182, 0, 183, 153, 0, 22, 42, 182, 0, 172, 42, 43, 182, 0, 190, 43]
abbrev dktX0_and_0 : List UInt8 := dkwX0_and_0 ++ dktX0_and_1
theorem dksX0_and_0 : cX0_and.data.toList.drop 0 = dktX0_and_0 := by decide +kernel
theorem dksX0_and_1 : cX0_and.data.toList.drop 24 = dktX0_and_1 := dk_seg dksX0_and_0 24 rfl rfl
theorem dX0_and_0 : decode cX0_and 0 = .ok (.aload_n 0, 1) := dk_42 (dk_at dksX0_and_0 0 rfl rfl)
theorem dX0_and_1 : decode cX0_and 1 = .ok (.aload_n 1, 1) := dk_43 (dk_at dksX0_and_0 1 rfl rfl)
theorem dX0_and_2 : decode cX0_and 2 = .ok (.invokevirtual 190, 3) := dk_182 0 190 (dk_at dksX0_and_0 2 rfl rfl)
theorem dX0_and_5 : decode cX0_and 5 = .ok (.aload_n 0, 1) := dk_42 (dk_at dksX0_and_0 5 rfl rfl)
theorem dX0_and_6 : decode cX0_and 6 = .ok (.bipush 38, 2) := dk_16 38 (dk_at dksX0_and_0 6 rfl rfl)
theorem dX0_and_8 : decode cX0_and 8 = .ok (.invokevirtual 183, 3) := dk_182 0 183 (dk_at dksX0_and_0 8 rfl rfl)
theorem dX0_and_11 : decode cX0_and 11 = .ok (.ifCond .eq 22, 3) := dk_153 0 22 (dk_at dksX0_and_0 11 rfl rfl)
theorem dX0_and_14 : decode cX0_and 14 = .ok (.aload_n 0, 1) := dk_42 (dk_at dksX0_and_0 14 rfl rfl)
theorem dX0_and_15 : decode cX0_and 15 = .ok (.invokevirtual 172, 3) := dk_182 0 172 (dk_at dksX0_and_0 15 rfl rfl)
theorem dX0_and_18 : decode cX0_and 18 = .ok (.aload_n 0, 1) := dk_42 (dk_at dksX0_and_0 18 rfl rfl)
theorem dX0_and_19 : decode cX0_and 19 = .ok (.aload_n 1, 1) := dk_43 (dk_at dksX0_and_0 19 rfl rfl)
theorem dX0_and_20 : decode cX0_and 20 = .ok (.invokevirtual 190, 3) := dk_182 0 190 (dk_at dksX0_and_0 20 rfl rfl)
theorem dX0_and_23 : decode cX0_and 23 = .ok (.aload_n 1, 1) := dk_43 (dk_at dksX0_and_0 23 rfl rfl)
theorem dX0_and_24 : decode cX0_and 24 = .ok (.bipush 10, 2) := dk_16 10 (dk_at dksX0_and_1 0 rfl rfl)
theorem dX0_and_26 : decode cX0_and 26 = .ok (.iconst 0, 1) := dk_3 (dk_at dksX0_and_1 2 rfl rfl)
theorem dX0_and_27 : decode cX0_and 27 = .ok (.invokevirtual 186, 3) := dk_182 0 186 (dk_at dksX0_and_1 3 rfl rfl)
theorem dX0_and_30 : decode cX0_and 30 = .ok (.goto (-25), 3) := dk_167 255 231 (dk_at dksX0_and_1 6 rfl rfl)
theorem dX0_and_33 : decode cX0_and 33 = .ok (.return_, 1) := dk_177 (dk_at dksX0_and_1 9 rfl rfl)
abbrev cX0_test : ByteArray := prog_1_method_24_code
def yX0_test : MethodName := ⟨RX0, "test", "(LStoneSheets$Words;)V"⟩
def dkwX0_test_3 : List UInt8 := [177]
abbrev dktX0_test_3 : List UInt8 := dkwX0_test_3 ++ []
def dkwX0_test_2 : List UInt8 := [167, 0, 4, 3, 61, 28, 153, 0, 18, 42, 182, 0, 172, 42, 43, 182, 0, 193, 43, 28, 3, 182, 0, 186]
abbrev dktX0_test_2 : List UInt8 := dkwX0_test_2 ++ dktX0_test_3
def dkwX0_test_1 : List UInt8 := [182, 0, 183, 153, 0, 8, 16, 8, 167, 0, 18, 42, 16, 62, 182, 0, 183, 153, 0, 8, 16, 9]
abbrev dktX0_test_1 : List UInt8 := dkwX0_test_1 ++ dktX0_test_2
def dkwX0_test_0 : List UInt8 := [42, 43, 182, 0, 193, 42, 16, 60, 182, 0, 183, 153, 0, 8, 16, 7, 167, 0, 32, 42, 16, 61]
abbrev dktX0_test_0 : List UInt8 := dkwX0_test_0 ++ dktX0_test_1
theorem dksX0_test_0 : cX0_test.data.toList.drop 0 = dktX0_test_0 := by decide +kernel
theorem dksX0_test_1 : cX0_test.data.toList.drop 22 = dktX0_test_1 := dk_seg dksX0_test_0 22 rfl rfl
theorem dksX0_test_2 : cX0_test.data.toList.drop 44 = dktX0_test_2 := dk_seg dksX0_test_1 22 rfl rfl
theorem dksX0_test_3 : cX0_test.data.toList.drop 68 = dktX0_test_3 := dk_seg dksX0_test_2 24 rfl rfl
theorem dX0_test_0 : decode cX0_test 0 = .ok (.aload_n 0, 1) := dk_42 (dk_at dksX0_test_0 0 rfl rfl)
theorem dX0_test_1 : decode cX0_test 1 = .ok (.aload_n 1, 1) := dk_43 (dk_at dksX0_test_0 1 rfl rfl)
theorem dX0_test_2 : decode cX0_test 2 = .ok (.invokevirtual 193, 3) := dk_182 0 193 (dk_at dksX0_test_0 2 rfl rfl)
theorem dX0_test_5 : decode cX0_test 5 = .ok (.aload_n 0, 1) := dk_42 (dk_at dksX0_test_0 5 rfl rfl)
theorem dX0_test_6 : decode cX0_test 6 = .ok (.bipush 60, 2) := dk_16 60 (dk_at dksX0_test_0 6 rfl rfl)
theorem dX0_test_8 : decode cX0_test 8 = .ok (.invokevirtual 183, 3) := dk_182 0 183 (dk_at dksX0_test_0 8 rfl rfl)
theorem dX0_test_11 : decode cX0_test 11 = .ok (.ifCond .eq 8, 3) := dk_153 0 8 (dk_at dksX0_test_0 11 rfl rfl)
theorem dX0_test_14 : decode cX0_test 14 = .ok (.bipush 7, 2) := dk_16 7 (dk_at dksX0_test_0 14 rfl rfl)
theorem dX0_test_16 : decode cX0_test 16 = .ok (.goto 32, 3) := dk_167 0 32 (dk_at dksX0_test_0 16 rfl rfl)
theorem dX0_test_19 : decode cX0_test 19 = .ok (.aload_n 0, 1) := dk_42 (dk_at dksX0_test_0 19 rfl rfl)
theorem dX0_test_20 : decode cX0_test 20 = .ok (.bipush 61, 2) := dk_16 61 (dk_at dksX0_test_0 20 rfl rfl)
theorem dX0_test_22 : decode cX0_test 22 = .ok (.invokevirtual 183, 3) := dk_182 0 183 (dk_at dksX0_test_1 0 rfl rfl)
theorem dX0_test_25 : decode cX0_test 25 = .ok (.ifCond .eq 8, 3) := dk_153 0 8 (dk_at dksX0_test_1 3 rfl rfl)
theorem dX0_test_28 : decode cX0_test 28 = .ok (.bipush 8, 2) := dk_16 8 (dk_at dksX0_test_1 6 rfl rfl)
theorem dX0_test_30 : decode cX0_test 30 = .ok (.goto 18, 3) := dk_167 0 18 (dk_at dksX0_test_1 8 rfl rfl)
theorem dX0_test_33 : decode cX0_test 33 = .ok (.aload_n 0, 1) := dk_42 (dk_at dksX0_test_1 11 rfl rfl)
theorem dX0_test_34 : decode cX0_test 34 = .ok (.bipush 62, 2) := dk_16 62 (dk_at dksX0_test_1 12 rfl rfl)
theorem dX0_test_36 : decode cX0_test 36 = .ok (.invokevirtual 183, 3) := dk_182 0 183 (dk_at dksX0_test_1 14 rfl rfl)
theorem dX0_test_39 : decode cX0_test 39 = .ok (.ifCond .eq 8, 3) := dk_153 0 8 (dk_at dksX0_test_1 17 rfl rfl)
theorem dX0_test_42 : decode cX0_test 42 = .ok (.bipush 9, 2) := dk_16 9 (dk_at dksX0_test_1 20 rfl rfl)
theorem dX0_test_44 : decode cX0_test 44 = .ok (.goto 4, 3) := dk_167 0 4 (dk_at dksX0_test_2 0 rfl rfl)
theorem dX0_test_47 : decode cX0_test 47 = .ok (.iconst 0, 1) := dk_3 (dk_at dksX0_test_2 3 rfl rfl)
theorem dX0_test_48 : decode cX0_test 48 = .ok (.istore_n 2, 1) := dk_61 (dk_at dksX0_test_2 4 rfl rfl)
theorem dX0_test_49 : decode cX0_test 49 = .ok (.iload_n 2, 1) := dk_28 (dk_at dksX0_test_2 5 rfl rfl)
theorem dX0_test_50 : decode cX0_test 50 = .ok (.ifCond .eq 18, 3) := dk_153 0 18 (dk_at dksX0_test_2 6 rfl rfl)
theorem dX0_test_53 : decode cX0_test 53 = .ok (.aload_n 0, 1) := dk_42 (dk_at dksX0_test_2 9 rfl rfl)
theorem dX0_test_54 : decode cX0_test 54 = .ok (.invokevirtual 172, 3) := dk_182 0 172 (dk_at dksX0_test_2 10 rfl rfl)
theorem dX0_test_57 : decode cX0_test 57 = .ok (.aload_n 0, 1) := dk_42 (dk_at dksX0_test_2 13 rfl rfl)
theorem dX0_test_58 : decode cX0_test 58 = .ok (.aload_n 1, 1) := dk_43 (dk_at dksX0_test_2 14 rfl rfl)
theorem dX0_test_59 : decode cX0_test 59 = .ok (.invokevirtual 193, 3) := dk_182 0 193 (dk_at dksX0_test_2 15 rfl rfl)
theorem dX0_test_62 : decode cX0_test 62 = .ok (.aload_n 1, 1) := dk_43 (dk_at dksX0_test_2 18 rfl rfl)
theorem dX0_test_63 : decode cX0_test 63 = .ok (.iload_n 2, 1) := dk_28 (dk_at dksX0_test_2 19 rfl rfl)
theorem dX0_test_64 : decode cX0_test 64 = .ok (.iconst 0, 1) := dk_3 (dk_at dksX0_test_2 20 rfl rfl)
theorem dX0_test_65 : decode cX0_test 65 = .ok (.invokevirtual 186, 3) := dk_182 0 186 (dk_at dksX0_test_2 21 rfl rfl)
theorem dX0_test_68 : decode cX0_test 68 = .ok (.return_, 1) := dk_177 (dk_at dksX0_test_3 0 rfl rfl)
abbrev cX0_sum : ByteArray := prog_1_method_25_code
def yX0_sum : MethodName := ⟨RX0, "sum", "(LStoneSheets$Words;)V"⟩
def dkwX0_sum_2 : List UInt8 := [43, 28, 3, 182, 0, 186, 167, 255, 207, 177]
abbrev dktX0_sum_2 : List UInt8 := dkwX0_sum_2 ++ []
def dkwX0_sum_1 : List UInt8 := [16, 43, 182, 0, 183, 153, 0, 7, 8, 167, 0, 5, 16, 6, 61, 42, 182, 0, 172, 42, 43, 182, 0, 196]
abbrev dktX0_sum_1 : List UInt8 := dkwX0_sum_1 ++ dktX0_sum_2
def dkwX0_sum_0 : List UInt8 := [42, 43, 182, 0, 196, 42, 16, 43, 182, 0, 183, 154, 0, 12, 42, 16, 45, 182, 0, 183, 153, 0, 37, 42]
abbrev dktX0_sum_0 : List UInt8 := dkwX0_sum_0 ++ dktX0_sum_1
theorem dksX0_sum_0 : cX0_sum.data.toList.drop 0 = dktX0_sum_0 := by decide +kernel
theorem dksX0_sum_1 : cX0_sum.data.toList.drop 24 = dktX0_sum_1 := dk_seg dksX0_sum_0 24 rfl rfl
theorem dksX0_sum_2 : cX0_sum.data.toList.drop 48 = dktX0_sum_2 := dk_seg dksX0_sum_1 24 rfl rfl
theorem dX0_sum_0 : decode cX0_sum 0 = .ok (.aload_n 0, 1) := dk_42 (dk_at dksX0_sum_0 0 rfl rfl)
theorem dX0_sum_1 : decode cX0_sum 1 = .ok (.aload_n 1, 1) := dk_43 (dk_at dksX0_sum_0 1 rfl rfl)
theorem dX0_sum_2 : decode cX0_sum 2 = .ok (.invokevirtual 196, 3) := dk_182 0 196 (dk_at dksX0_sum_0 2 rfl rfl)
theorem dX0_sum_5 : decode cX0_sum 5 = .ok (.aload_n 0, 1) := dk_42 (dk_at dksX0_sum_0 5 rfl rfl)
theorem dX0_sum_6 : decode cX0_sum 6 = .ok (.bipush 43, 2) := dk_16 43 (dk_at dksX0_sum_0 6 rfl rfl)
theorem dX0_sum_8 : decode cX0_sum 8 = .ok (.invokevirtual 183, 3) := dk_182 0 183 (dk_at dksX0_sum_0 8 rfl rfl)
theorem dX0_sum_11 : decode cX0_sum 11 = .ok (.ifCond .ne 12, 3) := dk_154 0 12 (dk_at dksX0_sum_0 11 rfl rfl)
theorem dX0_sum_14 : decode cX0_sum 14 = .ok (.aload_n 0, 1) := dk_42 (dk_at dksX0_sum_0 14 rfl rfl)
theorem dX0_sum_15 : decode cX0_sum 15 = .ok (.bipush 45, 2) := dk_16 45 (dk_at dksX0_sum_0 15 rfl rfl)
theorem dX0_sum_17 : decode cX0_sum 17 = .ok (.invokevirtual 183, 3) := dk_182 0 183 (dk_at dksX0_sum_0 17 rfl rfl)
theorem dX0_sum_20 : decode cX0_sum 20 = .ok (.ifCond .eq 37, 3) := dk_153 0 37 (dk_at dksX0_sum_0 20 rfl rfl)
theorem dX0_sum_23 : decode cX0_sum 23 = .ok (.aload_n 0, 1) := dk_42 (dk_at dksX0_sum_0 23 rfl rfl)
theorem dX0_sum_24 : decode cX0_sum 24 = .ok (.bipush 43, 2) := dk_16 43 (dk_at dksX0_sum_1 0 rfl rfl)
theorem dX0_sum_26 : decode cX0_sum 26 = .ok (.invokevirtual 183, 3) := dk_182 0 183 (dk_at dksX0_sum_1 2 rfl rfl)
theorem dX0_sum_29 : decode cX0_sum 29 = .ok (.ifCond .eq 7, 3) := dk_153 0 7 (dk_at dksX0_sum_1 5 rfl rfl)
theorem dX0_sum_32 : decode cX0_sum 32 = .ok (.iconst 5, 1) := dk_8 (dk_at dksX0_sum_1 8 rfl rfl)
theorem dX0_sum_33 : decode cX0_sum 33 = .ok (.goto 5, 3) := dk_167 0 5 (dk_at dksX0_sum_1 9 rfl rfl)
theorem dX0_sum_36 : decode cX0_sum 36 = .ok (.bipush 6, 2) := dk_16 6 (dk_at dksX0_sum_1 12 rfl rfl)
theorem dX0_sum_38 : decode cX0_sum 38 = .ok (.istore_n 2, 1) := dk_61 (dk_at dksX0_sum_1 14 rfl rfl)
theorem dX0_sum_39 : decode cX0_sum 39 = .ok (.aload_n 0, 1) := dk_42 (dk_at dksX0_sum_1 15 rfl rfl)
theorem dX0_sum_40 : decode cX0_sum 40 = .ok (.invokevirtual 172, 3) := dk_182 0 172 (dk_at dksX0_sum_1 16 rfl rfl)
theorem dX0_sum_43 : decode cX0_sum 43 = .ok (.aload_n 0, 1) := dk_42 (dk_at dksX0_sum_1 19 rfl rfl)
theorem dX0_sum_44 : decode cX0_sum 44 = .ok (.aload_n 1, 1) := dk_43 (dk_at dksX0_sum_1 20 rfl rfl)
theorem dX0_sum_45 : decode cX0_sum 45 = .ok (.invokevirtual 196, 3) := dk_182 0 196 (dk_at dksX0_sum_1 21 rfl rfl)
theorem dX0_sum_48 : decode cX0_sum 48 = .ok (.aload_n 1, 1) := dk_43 (dk_at dksX0_sum_2 0 rfl rfl)
theorem dX0_sum_49 : decode cX0_sum 49 = .ok (.iload_n 2, 1) := dk_28 (dk_at dksX0_sum_2 1 rfl rfl)
theorem dX0_sum_50 : decode cX0_sum 50 = .ok (.iconst 0, 1) := dk_3 (dk_at dksX0_sum_2 2 rfl rfl)
theorem dX0_sum_51 : decode cX0_sum 51 = .ok (.invokevirtual 186, 3) := dk_182 0 186 (dk_at dksX0_sum_2 3 rfl rfl)
theorem dX0_sum_54 : decode cX0_sum 54 = .ok (.goto (-49), 3) := dk_167 255 207 (dk_at dksX0_sum_2 6 rfl rfl)
theorem dX0_sum_57 : decode cX0_sum 57 = .ok (.return_, 1) := dk_177 (dk_at dksX0_sum_2 9 rfl rfl)
abbrev cX0_term : ByteArray := prog_1_method_26_code
def yX0_term : MethodName := ⟨RX0, "term", "(LStoneSheets$Words;)V"⟩
def dkwX0_term_2 : List UInt8 := [43, 28, 3, 182, 0, 186, 167, 255, 207, 177]
abbrev dktX0_term_2 : List UInt8 := dkwX0_term_2 ++ []
def dkwX0_term_1 : List UInt8 := [16, 42, 182, 0, 183, 153, 0, 7, 7, 167, 0, 5, 16, 12, 61, 42, 182, 0, 172, 42, 43, 182, 0, 199]
abbrev dktX0_term_1 : List UInt8 := dkwX0_term_1 ++ dktX0_term_2
def dkwX0_term_0 : List UInt8 := [42, 43, 182, 0, 199, 42, 16, 42, 182, 0, 183, 154, 0, 12, 42, 16, 47, 182, 0, 183, 153, 0, 37, 42]
abbrev dktX0_term_0 : List UInt8 := dkwX0_term_0 ++ dktX0_term_1
theorem dksX0_term_0 : cX0_term.data.toList.drop 0 = dktX0_term_0 := by decide +kernel
theorem dksX0_term_1 : cX0_term.data.toList.drop 24 = dktX0_term_1 := dk_seg dksX0_term_0 24 rfl rfl
theorem dksX0_term_2 : cX0_term.data.toList.drop 48 = dktX0_term_2 := dk_seg dksX0_term_1 24 rfl rfl
theorem dX0_term_0 : decode cX0_term 0 = .ok (.aload_n 0, 1) := dk_42 (dk_at dksX0_term_0 0 rfl rfl)
theorem dX0_term_1 : decode cX0_term 1 = .ok (.aload_n 1, 1) := dk_43 (dk_at dksX0_term_0 1 rfl rfl)
theorem dX0_term_2 : decode cX0_term 2 = .ok (.invokevirtual 199, 3) := dk_182 0 199 (dk_at dksX0_term_0 2 rfl rfl)
theorem dX0_term_5 : decode cX0_term 5 = .ok (.aload_n 0, 1) := dk_42 (dk_at dksX0_term_0 5 rfl rfl)
theorem dX0_term_6 : decode cX0_term 6 = .ok (.bipush 42, 2) := dk_16 42 (dk_at dksX0_term_0 6 rfl rfl)
theorem dX0_term_8 : decode cX0_term 8 = .ok (.invokevirtual 183, 3) := dk_182 0 183 (dk_at dksX0_term_0 8 rfl rfl)
theorem dX0_term_11 : decode cX0_term 11 = .ok (.ifCond .ne 12, 3) := dk_154 0 12 (dk_at dksX0_term_0 11 rfl rfl)
theorem dX0_term_14 : decode cX0_term 14 = .ok (.aload_n 0, 1) := dk_42 (dk_at dksX0_term_0 14 rfl rfl)
theorem dX0_term_15 : decode cX0_term 15 = .ok (.bipush 47, 2) := dk_16 47 (dk_at dksX0_term_0 15 rfl rfl)
theorem dX0_term_17 : decode cX0_term 17 = .ok (.invokevirtual 183, 3) := dk_182 0 183 (dk_at dksX0_term_0 17 rfl rfl)
theorem dX0_term_20 : decode cX0_term 20 = .ok (.ifCond .eq 37, 3) := dk_153 0 37 (dk_at dksX0_term_0 20 rfl rfl)
theorem dX0_term_23 : decode cX0_term 23 = .ok (.aload_n 0, 1) := dk_42 (dk_at dksX0_term_0 23 rfl rfl)
theorem dX0_term_24 : decode cX0_term 24 = .ok (.bipush 42, 2) := dk_16 42 (dk_at dksX0_term_1 0 rfl rfl)
theorem dX0_term_26 : decode cX0_term 26 = .ok (.invokevirtual 183, 3) := dk_182 0 183 (dk_at dksX0_term_1 2 rfl rfl)
theorem dX0_term_29 : decode cX0_term 29 = .ok (.ifCond .eq 7, 3) := dk_153 0 7 (dk_at dksX0_term_1 5 rfl rfl)
theorem dX0_term_32 : decode cX0_term 32 = .ok (.iconst 4, 1) := dk_7 (dk_at dksX0_term_1 8 rfl rfl)
theorem dX0_term_33 : decode cX0_term 33 = .ok (.goto 5, 3) := dk_167 0 5 (dk_at dksX0_term_1 9 rfl rfl)
theorem dX0_term_36 : decode cX0_term 36 = .ok (.bipush 12, 2) := dk_16 12 (dk_at dksX0_term_1 12 rfl rfl)
theorem dX0_term_38 : decode cX0_term 38 = .ok (.istore_n 2, 1) := dk_61 (dk_at dksX0_term_1 14 rfl rfl)
theorem dX0_term_39 : decode cX0_term 39 = .ok (.aload_n 0, 1) := dk_42 (dk_at dksX0_term_1 15 rfl rfl)
theorem dX0_term_40 : decode cX0_term 40 = .ok (.invokevirtual 172, 3) := dk_182 0 172 (dk_at dksX0_term_1 16 rfl rfl)
theorem dX0_term_43 : decode cX0_term 43 = .ok (.aload_n 0, 1) := dk_42 (dk_at dksX0_term_1 19 rfl rfl)
theorem dX0_term_44 : decode cX0_term 44 = .ok (.aload_n 1, 1) := dk_43 (dk_at dksX0_term_1 20 rfl rfl)
theorem dX0_term_45 : decode cX0_term 45 = .ok (.invokevirtual 199, 3) := dk_182 0 199 (dk_at dksX0_term_1 21 rfl rfl)
theorem dX0_term_48 : decode cX0_term 48 = .ok (.aload_n 1, 1) := dk_43 (dk_at dksX0_term_2 0 rfl rfl)
theorem dX0_term_49 : decode cX0_term 49 = .ok (.iload_n 2, 1) := dk_28 (dk_at dksX0_term_2 1 rfl rfl)
theorem dX0_term_50 : decode cX0_term 50 = .ok (.iconst 0, 1) := dk_3 (dk_at dksX0_term_2 2 rfl rfl)
theorem dX0_term_51 : decode cX0_term 51 = .ok (.invokevirtual 186, 3) := dk_182 0 186 (dk_at dksX0_term_2 3 rfl rfl)
theorem dX0_term_54 : decode cX0_term 54 = .ok (.goto (-49), 3) := dk_167 255 207 (dk_at dksX0_term_2 6 rfl rfl)
theorem dX0_term_57 : decode cX0_term 57 = .ok (.return_, 1) := dk_177 (dk_at dksX0_term_2 9 rfl rfl)
abbrev cX0_piece : ByteArray := prog_1_method_28_code
def yX0_piece : MethodName := ⟨RX0, "piece", "(LStoneSheets$Words;)V"⟩
def dkwX0_piece_10 : List UInt8 := [43, 5, 42, 180, 0, 69, 42, 180, 0, 140, 51, 182, 0, 186, 42, 182, 0, 172, 177]
abbrev dktX0_piece_10 : List UInt8 := dkwX0_piece_10 ++ []
def dkwX0_piece_9 : List UInt8 := [180, 0, 140, 51, 182, 0, 217, 154, 0, 7, 42, 182, 0, 159, 42, 89, 180, 0, 211, 4, 96, 181, 0, 211]
abbrev dktX0_piece_9 : List UInt8 := dkwX0_piece_9 ++ dktX0_piece_10
def dkwX0_piece_8 : List UInt8 := [159, 0, 32, 42, 180, 0, 146, 42, 180, 0, 140, 100, 4, 160, 0, 19, 42, 42, 180, 0, 69, 42]
abbrev dktX0_piece_8 : List UInt8 := dkwX0_piece_8 ++ dktX0_piece_9
def dkwX0_piece_7 : List UInt8 := [96, 181, 0, 211, 43, 4, 42, 182, 0, 214, 182, 0, 186, 167, 0, 75, 42, 180, 0, 140, 42, 180, 0, 149]
abbrev dktX0_piece_7 : List UInt8 := dkwX0_piece_7 ++ dktX0_piece_8
def dkwX0_piece_6 : List UInt8 := [162, 0, 40, 42, 180, 0, 69, 42, 180, 0, 140, 51, 184, 0, 156, 153, 0, 25, 42, 89, 180, 0, 211, 4]
abbrev dktX0_piece_6 : List UInt8 := dkwX0_piece_6 ++ dktX0_piece_7
def dkwX0_piece_5 : List UInt8 := [182, 0, 172, 42, 89, 180, 0, 208, 4, 100, 181, 0, 208, 167, 0, 123, 42, 180, 0, 140, 42, 180, 0, 149]
abbrev dktX0_piece_5 : List UInt8 := dkwX0_piece_5 ++ dktX0_piece_6
def dkwX0_piece_4 : List UInt8 := [182, 0, 172, 42, 43, 182, 0, 176, 42, 16, 41, 182, 0, 183, 154, 0, 7, 42, 182, 0, 159, 42]
abbrev dktX0_piece_4 : List UInt8 := dkwX0_piece_4 ++ dktX0_piece_5
def dkwX0_piece_3 : List UInt8 := [180, 0, 208, 16, 8, 160, 0, 7, 42, 182, 0, 159, 42, 89, 180, 0, 208, 4, 96, 181, 0, 208, 42]
abbrev dktX0_piece_3 : List UInt8 := dkwX0_piece_3 ++ dktX0_piece_4
def dkwX0_piece_2 : List UInt8 := [89, 180, 0, 205, 4, 100, 181, 0, 205, 167, 0, 194, 42, 16, 40, 182, 0, 183, 153, 0, 65, 42]
abbrev dktX0_piece_2 : List UInt8 := dkwX0_piece_2 ++ dktX0_piece_3
def dkwX0_piece_1 : List UInt8 := [180, 0, 205, 4, 96, 181, 0, 205, 42, 182, 0, 172, 42, 43, 182, 0, 199, 43, 6, 3, 182, 0, 186, 42]
abbrev dktX0_piece_1 : List UInt8 := dkwX0_piece_1 ++ dktX0_piece_2
def dkwX0_piece_0 : List UInt8 := [42, 16, 33, 182, 0, 183, 153, 0, 54, 42, 180, 0, 205, 16, 8, 160, 0, 7, 42, 182, 0, 159, 42, 89]
abbrev dktX0_piece_0 : List UInt8 := dkwX0_piece_0 ++ dktX0_piece_1
theorem dksX0_piece_0 : cX0_piece.data.toList.drop 0 = dktX0_piece_0 := by decide +kernel
theorem dksX0_piece_1 : cX0_piece.data.toList.drop 24 = dktX0_piece_1 := dk_seg dksX0_piece_0 24 rfl rfl
theorem dksX0_piece_2 : cX0_piece.data.toList.drop 48 = dktX0_piece_2 := dk_seg dksX0_piece_1 24 rfl rfl
theorem dksX0_piece_3 : cX0_piece.data.toList.drop 70 = dktX0_piece_3 := dk_seg dksX0_piece_2 22 rfl rfl
theorem dksX0_piece_4 : cX0_piece.data.toList.drop 93 = dktX0_piece_4 := dk_seg dksX0_piece_3 23 rfl rfl
theorem dksX0_piece_5 : cX0_piece.data.toList.drop 115 = dktX0_piece_5 := dk_seg dksX0_piece_4 22 rfl rfl
theorem dksX0_piece_6 : cX0_piece.data.toList.drop 139 = dktX0_piece_6 := dk_seg dksX0_piece_5 24 rfl rfl
theorem dksX0_piece_7 : cX0_piece.data.toList.drop 163 = dktX0_piece_7 := dk_seg dksX0_piece_6 24 rfl rfl
theorem dksX0_piece_8 : cX0_piece.data.toList.drop 187 = dktX0_piece_8 := dk_seg dksX0_piece_7 24 rfl rfl
theorem dksX0_piece_9 : cX0_piece.data.toList.drop 209 = dktX0_piece_9 := dk_seg dksX0_piece_8 22 rfl rfl
theorem dksX0_piece_10 : cX0_piece.data.toList.drop 233 = dktX0_piece_10 := dk_seg dksX0_piece_9 24 rfl rfl
theorem dX0_piece_0 : decode cX0_piece 0 = .ok (.aload_n 0, 1) := dk_42 (dk_at dksX0_piece_0 0 rfl rfl)
theorem dX0_piece_1 : decode cX0_piece 1 = .ok (.bipush 33, 2) := dk_16 33 (dk_at dksX0_piece_0 1 rfl rfl)
theorem dX0_piece_3 : decode cX0_piece 3 = .ok (.invokevirtual 183, 3) := dk_182 0 183 (dk_at dksX0_piece_0 3 rfl rfl)
theorem dX0_piece_6 : decode cX0_piece 6 = .ok (.ifCond .eq 54, 3) := dk_153 0 54 (dk_at dksX0_piece_0 6 rfl rfl)
theorem dX0_piece_9 : decode cX0_piece 9 = .ok (.aload_n 0, 1) := dk_42 (dk_at dksX0_piece_0 9 rfl rfl)
theorem dX0_piece_10 : decode cX0_piece 10 = .ok (.getfield 205, 3) := dk_180 0 205 (dk_at dksX0_piece_0 10 rfl rfl)
theorem dX0_piece_13 : decode cX0_piece 13 = .ok (.bipush 8, 2) := dk_16 8 (dk_at dksX0_piece_0 13 rfl rfl)
theorem dX0_piece_15 : decode cX0_piece 15 = .ok (.if_icmp .ne 7, 3) := dk_160 0 7 (dk_at dksX0_piece_0 15 rfl rfl)
theorem dX0_piece_18 : decode cX0_piece 18 = .ok (.aload_n 0, 1) := dk_42 (dk_at dksX0_piece_0 18 rfl rfl)
theorem dX0_piece_19 : decode cX0_piece 19 = .ok (.invokevirtual 159, 3) := dk_182 0 159 (dk_at dksX0_piece_0 19 rfl rfl)
theorem dX0_piece_22 : decode cX0_piece 22 = .ok (.aload_n 0, 1) := dk_42 (dk_at dksX0_piece_0 22 rfl rfl)
theorem dX0_piece_23 : decode cX0_piece 23 = .ok (.dup, 1) := dk_89 (dk_at dksX0_piece_0 23 rfl rfl)
theorem dX0_piece_24 : decode cX0_piece 24 = .ok (.getfield 205, 3) := dk_180 0 205 (dk_at dksX0_piece_1 0 rfl rfl)
theorem dX0_piece_27 : decode cX0_piece 27 = .ok (.iconst 1, 1) := dk_4 (dk_at dksX0_piece_1 3 rfl rfl)
theorem dX0_piece_28 : decode cX0_piece 28 = .ok (.iadd, 1) := dk_96 (dk_at dksX0_piece_1 4 rfl rfl)
theorem dX0_piece_29 : decode cX0_piece 29 = .ok (.putfield 205, 3) := dk_181 0 205 (dk_at dksX0_piece_1 5 rfl rfl)
theorem dX0_piece_32 : decode cX0_piece 32 = .ok (.aload_n 0, 1) := dk_42 (dk_at dksX0_piece_1 8 rfl rfl)
theorem dX0_piece_33 : decode cX0_piece 33 = .ok (.invokevirtual 172, 3) := dk_182 0 172 (dk_at dksX0_piece_1 9 rfl rfl)
theorem dX0_piece_36 : decode cX0_piece 36 = .ok (.aload_n 0, 1) := dk_42 (dk_at dksX0_piece_1 12 rfl rfl)
theorem dX0_piece_37 : decode cX0_piece 37 = .ok (.aload_n 1, 1) := dk_43 (dk_at dksX0_piece_1 13 rfl rfl)
theorem dX0_piece_38 : decode cX0_piece 38 = .ok (.invokevirtual 199, 3) := dk_182 0 199 (dk_at dksX0_piece_1 14 rfl rfl)
theorem dX0_piece_41 : decode cX0_piece 41 = .ok (.aload_n 1, 1) := dk_43 (dk_at dksX0_piece_1 17 rfl rfl)
theorem dX0_piece_42 : decode cX0_piece 42 = .ok (.iconst 3, 1) := dk_6 (dk_at dksX0_piece_1 18 rfl rfl)
theorem dX0_piece_43 : decode cX0_piece 43 = .ok (.iconst 0, 1) := dk_3 (dk_at dksX0_piece_1 19 rfl rfl)
theorem dX0_piece_44 : decode cX0_piece 44 = .ok (.invokevirtual 186, 3) := dk_182 0 186 (dk_at dksX0_piece_1 20 rfl rfl)
theorem dX0_piece_47 : decode cX0_piece 47 = .ok (.aload_n 0, 1) := dk_42 (dk_at dksX0_piece_1 23 rfl rfl)
theorem dX0_piece_48 : decode cX0_piece 48 = .ok (.dup, 1) := dk_89 (dk_at dksX0_piece_2 0 rfl rfl)
theorem dX0_piece_49 : decode cX0_piece 49 = .ok (.getfield 205, 3) := dk_180 0 205 (dk_at dksX0_piece_2 1 rfl rfl)
theorem dX0_piece_52 : decode cX0_piece 52 = .ok (.iconst 1, 1) := dk_4 (dk_at dksX0_piece_2 4 rfl rfl)
theorem dX0_piece_53 : decode cX0_piece 53 = .ok (.isub, 1) := dk_100 (dk_at dksX0_piece_2 5 rfl rfl)
theorem dX0_piece_54 : decode cX0_piece 54 = .ok (.putfield 205, 3) := dk_181 0 205 (dk_at dksX0_piece_2 6 rfl rfl)
theorem dX0_piece_57 : decode cX0_piece 57 = .ok (.goto 194, 3) := dk_167 0 194 (dk_at dksX0_piece_2 9 rfl rfl)
theorem dX0_piece_60 : decode cX0_piece 60 = .ok (.aload_n 0, 1) := dk_42 (dk_at dksX0_piece_2 12 rfl rfl)
theorem dX0_piece_61 : decode cX0_piece 61 = .ok (.bipush 40, 2) := dk_16 40 (dk_at dksX0_piece_2 13 rfl rfl)
theorem dX0_piece_63 : decode cX0_piece 63 = .ok (.invokevirtual 183, 3) := dk_182 0 183 (dk_at dksX0_piece_2 15 rfl rfl)
theorem dX0_piece_66 : decode cX0_piece 66 = .ok (.ifCond .eq 65, 3) := dk_153 0 65 (dk_at dksX0_piece_2 18 rfl rfl)
theorem dX0_piece_69 : decode cX0_piece 69 = .ok (.aload_n 0, 1) := dk_42 (dk_at dksX0_piece_2 21 rfl rfl)
theorem dX0_piece_70 : decode cX0_piece 70 = .ok (.getfield 208, 3) := dk_180 0 208 (dk_at dksX0_piece_3 0 rfl rfl)
theorem dX0_piece_73 : decode cX0_piece 73 = .ok (.bipush 8, 2) := dk_16 8 (dk_at dksX0_piece_3 3 rfl rfl)
theorem dX0_piece_75 : decode cX0_piece 75 = .ok (.if_icmp .ne 7, 3) := dk_160 0 7 (dk_at dksX0_piece_3 5 rfl rfl)
theorem dX0_piece_78 : decode cX0_piece 78 = .ok (.aload_n 0, 1) := dk_42 (dk_at dksX0_piece_3 8 rfl rfl)
theorem dX0_piece_79 : decode cX0_piece 79 = .ok (.invokevirtual 159, 3) := dk_182 0 159 (dk_at dksX0_piece_3 9 rfl rfl)
theorem dX0_piece_82 : decode cX0_piece 82 = .ok (.aload_n 0, 1) := dk_42 (dk_at dksX0_piece_3 12 rfl rfl)
theorem dX0_piece_83 : decode cX0_piece 83 = .ok (.dup, 1) := dk_89 (dk_at dksX0_piece_3 13 rfl rfl)
theorem dX0_piece_84 : decode cX0_piece 84 = .ok (.getfield 208, 3) := dk_180 0 208 (dk_at dksX0_piece_3 14 rfl rfl)
theorem dX0_piece_87 : decode cX0_piece 87 = .ok (.iconst 1, 1) := dk_4 (dk_at dksX0_piece_3 17 rfl rfl)
theorem dX0_piece_88 : decode cX0_piece 88 = .ok (.iadd, 1) := dk_96 (dk_at dksX0_piece_3 18 rfl rfl)
theorem dX0_piece_89 : decode cX0_piece 89 = .ok (.putfield 208, 3) := dk_181 0 208 (dk_at dksX0_piece_3 19 rfl rfl)
theorem dX0_piece_92 : decode cX0_piece 92 = .ok (.aload_n 0, 1) := dk_42 (dk_at dksX0_piece_3 22 rfl rfl)
theorem dX0_piece_93 : decode cX0_piece 93 = .ok (.invokevirtual 172, 3) := dk_182 0 172 (dk_at dksX0_piece_4 0 rfl rfl)
theorem dX0_piece_96 : decode cX0_piece 96 = .ok (.aload_n 0, 1) := dk_42 (dk_at dksX0_piece_4 3 rfl rfl)
theorem dX0_piece_97 : decode cX0_piece 97 = .ok (.aload_n 1, 1) := dk_43 (dk_at dksX0_piece_4 4 rfl rfl)
theorem dX0_piece_98 : decode cX0_piece 98 = .ok (.invokevirtual 176, 3) := dk_182 0 176 (dk_at dksX0_piece_4 5 rfl rfl)
theorem dX0_piece_101 : decode cX0_piece 101 = .ok (.aload_n 0, 1) := dk_42 (dk_at dksX0_piece_4 8 rfl rfl)
theorem dX0_piece_102 : decode cX0_piece 102 = .ok (.bipush 41, 2) := dk_16 41 (dk_at dksX0_piece_4 9 rfl rfl)
theorem dX0_piece_104 : decode cX0_piece 104 = .ok (.invokevirtual 183, 3) := dk_182 0 183 (dk_at dksX0_piece_4 11 rfl rfl)
theorem dX0_piece_107 : decode cX0_piece 107 = .ok (.ifCond .ne 7, 3) := dk_154 0 7 (dk_at dksX0_piece_4 14 rfl rfl)
theorem dX0_piece_110 : decode cX0_piece 110 = .ok (.aload_n 0, 1) := dk_42 (dk_at dksX0_piece_4 17 rfl rfl)
theorem dX0_piece_111 : decode cX0_piece 111 = .ok (.invokevirtual 159, 3) := dk_182 0 159 (dk_at dksX0_piece_4 18 rfl rfl)
theorem dX0_piece_114 : decode cX0_piece 114 = .ok (.aload_n 0, 1) := dk_42 (dk_at dksX0_piece_4 21 rfl rfl)
theorem dX0_piece_115 : decode cX0_piece 115 = .ok (.invokevirtual 172, 3) := dk_182 0 172 (dk_at dksX0_piece_5 0 rfl rfl)
theorem dX0_piece_118 : decode cX0_piece 118 = .ok (.aload_n 0, 1) := dk_42 (dk_at dksX0_piece_5 3 rfl rfl)
theorem dX0_piece_119 : decode cX0_piece 119 = .ok (.dup, 1) := dk_89 (dk_at dksX0_piece_5 4 rfl rfl)
theorem dX0_piece_120 : decode cX0_piece 120 = .ok (.getfield 208, 3) := dk_180 0 208 (dk_at dksX0_piece_5 5 rfl rfl)
theorem dX0_piece_123 : decode cX0_piece 123 = .ok (.iconst 1, 1) := dk_4 (dk_at dksX0_piece_5 8 rfl rfl)
theorem dX0_piece_124 : decode cX0_piece 124 = .ok (.isub, 1) := dk_100 (dk_at dksX0_piece_5 9 rfl rfl)
theorem dX0_piece_125 : decode cX0_piece 125 = .ok (.putfield 208, 3) := dk_181 0 208 (dk_at dksX0_piece_5 10 rfl rfl)
theorem dX0_piece_128 : decode cX0_piece 128 = .ok (.goto 123, 3) := dk_167 0 123 (dk_at dksX0_piece_5 13 rfl rfl)
theorem dX0_piece_131 : decode cX0_piece 131 = .ok (.aload_n 0, 1) := dk_42 (dk_at dksX0_piece_5 16 rfl rfl)
theorem dX0_piece_132 : decode cX0_piece 132 = .ok (.getfield 140, 3) := dk_180 0 140 (dk_at dksX0_piece_5 17 rfl rfl)
theorem dX0_piece_135 : decode cX0_piece 135 = .ok (.aload_n 0, 1) := dk_42 (dk_at dksX0_piece_5 20 rfl rfl)
theorem dX0_piece_136 : decode cX0_piece 136 = .ok (.getfield 149, 3) := dk_180 0 149 (dk_at dksX0_piece_5 21 rfl rfl)
theorem dX0_piece_139 : decode cX0_piece 139 = .ok (.if_icmp .ge 40, 3) := dk_162 0 40 (dk_at dksX0_piece_6 0 rfl rfl)
theorem dX0_piece_142 : decode cX0_piece 142 = .ok (.aload_n 0, 1) := dk_42 (dk_at dksX0_piece_6 3 rfl rfl)
theorem dX0_piece_143 : decode cX0_piece 143 = .ok (.getfield 69, 3) := dk_180 0 69 (dk_at dksX0_piece_6 4 rfl rfl)
theorem dX0_piece_146 : decode cX0_piece 146 = .ok (.aload_n 0, 1) := dk_42 (dk_at dksX0_piece_6 7 rfl rfl)
theorem dX0_piece_147 : decode cX0_piece 147 = .ok (.getfield 140, 3) := dk_180 0 140 (dk_at dksX0_piece_6 8 rfl rfl)
theorem dX0_piece_150 : decode cX0_piece 150 = .ok (.baload, 1) := dk_51 (dk_at dksX0_piece_6 11 rfl rfl)
theorem dX0_piece_151 : decode cX0_piece 151 = .ok (.invokestatic 156, 3) := dk_184 0 156 (dk_at dksX0_piece_6 12 rfl rfl)
theorem dX0_piece_154 : decode cX0_piece 154 = .ok (.ifCond .eq 25, 3) := dk_153 0 25 (dk_at dksX0_piece_6 15 rfl rfl)
theorem dX0_piece_157 : decode cX0_piece 157 = .ok (.aload_n 0, 1) := dk_42 (dk_at dksX0_piece_6 18 rfl rfl)
theorem dX0_piece_158 : decode cX0_piece 158 = .ok (.dup, 1) := dk_89 (dk_at dksX0_piece_6 19 rfl rfl)
theorem dX0_piece_159 : decode cX0_piece 159 = .ok (.getfield 211, 3) := dk_180 0 211 (dk_at dksX0_piece_6 20 rfl rfl)
theorem dX0_piece_162 : decode cX0_piece 162 = .ok (.iconst 1, 1) := dk_4 (dk_at dksX0_piece_6 23 rfl rfl)
theorem dX0_piece_163 : decode cX0_piece 163 = .ok (.iadd, 1) := dk_96 (dk_at dksX0_piece_7 0 rfl rfl)
theorem dX0_piece_164 : decode cX0_piece 164 = .ok (.putfield 211, 3) := dk_181 0 211 (dk_at dksX0_piece_7 1 rfl rfl)
theorem dX0_piece_167 : decode cX0_piece 167 = .ok (.aload_n 1, 1) := dk_43 (dk_at dksX0_piece_7 4 rfl rfl)
theorem dX0_piece_168 : decode cX0_piece 168 = .ok (.iconst 1, 1) := dk_4 (dk_at dksX0_piece_7 5 rfl rfl)
theorem dX0_piece_169 : decode cX0_piece 169 = .ok (.aload_n 0, 1) := dk_42 (dk_at dksX0_piece_7 6 rfl rfl)
theorem dX0_piece_170 : decode cX0_piece 170 = .ok (.invokevirtual 214, 3) := dk_182 0 214 (dk_at dksX0_piece_7 7 rfl rfl)
theorem dX0_piece_173 : decode cX0_piece 173 = .ok (.invokevirtual 186, 3) := dk_182 0 186 (dk_at dksX0_piece_7 10 rfl rfl)
theorem dX0_piece_176 : decode cX0_piece 176 = .ok (.goto 75, 3) := dk_167 0 75 (dk_at dksX0_piece_7 13 rfl rfl)
theorem dX0_piece_179 : decode cX0_piece 179 = .ok (.aload_n 0, 1) := dk_42 (dk_at dksX0_piece_7 16 rfl rfl)
theorem dX0_piece_180 : decode cX0_piece 180 = .ok (.getfield 140, 3) := dk_180 0 140 (dk_at dksX0_piece_7 17 rfl rfl)
theorem dX0_piece_183 : decode cX0_piece 183 = .ok (.aload_n 0, 1) := dk_42 (dk_at dksX0_piece_7 20 rfl rfl)
theorem dX0_piece_184 : decode cX0_piece 184 = .ok (.getfield 149, 3) := dk_180 0 149 (dk_at dksX0_piece_7 21 rfl rfl)
theorem dX0_piece_187 : decode cX0_piece 187 = .ok (.if_icmp .eq 32, 3) := dk_159 0 32 (dk_at dksX0_piece_8 0 rfl rfl)
theorem dX0_piece_190 : decode cX0_piece 190 = .ok (.aload_n 0, 1) := dk_42 (dk_at dksX0_piece_8 3 rfl rfl)
theorem dX0_piece_191 : decode cX0_piece 191 = .ok (.getfield 146, 3) := dk_180 0 146 (dk_at dksX0_piece_8 4 rfl rfl)
theorem dX0_piece_194 : decode cX0_piece 194 = .ok (.aload_n 0, 1) := dk_42 (dk_at dksX0_piece_8 7 rfl rfl)
theorem dX0_piece_195 : decode cX0_piece 195 = .ok (.getfield 140, 3) := dk_180 0 140 (dk_at dksX0_piece_8 8 rfl rfl)
theorem dX0_piece_198 : decode cX0_piece 198 = .ok (.isub, 1) := dk_100 (dk_at dksX0_piece_8 11 rfl rfl)
theorem dX0_piece_199 : decode cX0_piece 199 = .ok (.iconst 1, 1) := dk_4 (dk_at dksX0_piece_8 12 rfl rfl)
theorem dX0_piece_200 : decode cX0_piece 200 = .ok (.if_icmp .ne 19, 3) := dk_160 0 19 (dk_at dksX0_piece_8 13 rfl rfl)
theorem dX0_piece_203 : decode cX0_piece 203 = .ok (.aload_n 0, 1) := dk_42 (dk_at dksX0_piece_8 16 rfl rfl)
theorem dX0_piece_204 : decode cX0_piece 204 = .ok (.aload_n 0, 1) := dk_42 (dk_at dksX0_piece_8 17 rfl rfl)
theorem dX0_piece_205 : decode cX0_piece 205 = .ok (.getfield 69, 3) := dk_180 0 69 (dk_at dksX0_piece_8 18 rfl rfl)
theorem dX0_piece_208 : decode cX0_piece 208 = .ok (.aload_n 0, 1) := dk_42 (dk_at dksX0_piece_8 21 rfl rfl)
theorem dX0_piece_209 : decode cX0_piece 209 = .ok (.getfield 140, 3) := dk_180 0 140 (dk_at dksX0_piece_9 0 rfl rfl)
theorem dX0_piece_212 : decode cX0_piece 212 = .ok (.baload, 1) := dk_51 (dk_at dksX0_piece_9 3 rfl rfl)
theorem dX0_piece_213 : decode cX0_piece 213 = .ok (.invokevirtual 217, 3) := dk_182 0 217 (dk_at dksX0_piece_9 4 rfl rfl)
theorem dX0_piece_216 : decode cX0_piece 216 = .ok (.ifCond .ne 7, 3) := dk_154 0 7 (dk_at dksX0_piece_9 7 rfl rfl)
theorem dX0_piece_219 : decode cX0_piece 219 = .ok (.aload_n 0, 1) := dk_42 (dk_at dksX0_piece_9 10 rfl rfl)
theorem dX0_piece_220 : decode cX0_piece 220 = .ok (.invokevirtual 159, 3) := dk_182 0 159 (dk_at dksX0_piece_9 11 rfl rfl)
theorem dX0_piece_223 : decode cX0_piece 223 = .ok (.aload_n 0, 1) := dk_42 (dk_at dksX0_piece_9 14 rfl rfl)
theorem dX0_piece_224 : decode cX0_piece 224 = .ok (.dup, 1) := dk_89 (dk_at dksX0_piece_9 15 rfl rfl)
theorem dX0_piece_225 : decode cX0_piece 225 = .ok (.getfield 211, 3) := dk_180 0 211 (dk_at dksX0_piece_9 16 rfl rfl)
theorem dX0_piece_228 : decode cX0_piece 228 = .ok (.iconst 1, 1) := dk_4 (dk_at dksX0_piece_9 19 rfl rfl)
theorem dX0_piece_229 : decode cX0_piece 229 = .ok (.iadd, 1) := dk_96 (dk_at dksX0_piece_9 20 rfl rfl)
theorem dX0_piece_230 : decode cX0_piece 230 = .ok (.putfield 211, 3) := dk_181 0 211 (dk_at dksX0_piece_9 21 rfl rfl)
theorem dX0_piece_233 : decode cX0_piece 233 = .ok (.aload_n 1, 1) := dk_43 (dk_at dksX0_piece_10 0 rfl rfl)
theorem dX0_piece_234 : decode cX0_piece 234 = .ok (.iconst 2, 1) := dk_5 (dk_at dksX0_piece_10 1 rfl rfl)
theorem dX0_piece_235 : decode cX0_piece 235 = .ok (.aload_n 0, 1) := dk_42 (dk_at dksX0_piece_10 2 rfl rfl)
theorem dX0_piece_236 : decode cX0_piece 236 = .ok (.getfield 69, 3) := dk_180 0 69 (dk_at dksX0_piece_10 3 rfl rfl)
theorem dX0_piece_239 : decode cX0_piece 239 = .ok (.aload_n 0, 1) := dk_42 (dk_at dksX0_piece_10 6 rfl rfl)
theorem dX0_piece_240 : decode cX0_piece 240 = .ok (.getfield 140, 3) := dk_180 0 140 (dk_at dksX0_piece_10 7 rfl rfl)
theorem dX0_piece_243 : decode cX0_piece 243 = .ok (.baload, 1) := dk_51 (dk_at dksX0_piece_10 10 rfl rfl)
theorem dX0_piece_244 : decode cX0_piece 244 = .ok (.invokevirtual 186, 3) := dk_182 0 186 (dk_at dksX0_piece_10 11 rfl rfl)
theorem dX0_piece_247 : decode cX0_piece 247 = .ok (.aload_n 0, 1) := dk_42 (dk_at dksX0_piece_10 14 rfl rfl)
theorem dX0_piece_248 : decode cX0_piece 248 = .ok (.invokevirtual 172, 3) := dk_182 0 172 (dk_at dksX0_piece_10 15 rfl rfl)
theorem dX0_piece_251 : decode cX0_piece 251 = .ok (.return_, 1) := dk_177 (dk_at dksX0_piece_10 18 rfl rfl)
abbrev cX0_isSign : ByteArray := prog_1_method_19_code
def yX0_isSign : MethodName := ⟨RX0, "isSign", "(I)Z"⟩
def dkwX0_isSign_1 : List UInt8 := [42, 180, 0, 69, 42, 180, 0, 140, 51, 27, 160, 0, 7, 4, 167, 0, 4, 3, 172]
abbrev dktX0_isSign_1 : List UInt8 := dkwX0_isSign_1 ++ []
def dkwX0_isSign_0 : List UInt8 := [42, 180, 0, 140, 42, 180, 0, 149, 162, 0, 33, 42, 180, 0, 146, 42, 180, 0, 140, 100, 4, 160, 0, 20]
abbrev dktX0_isSign_0 : List UInt8 := dkwX0_isSign_0 ++ dktX0_isSign_1
theorem dksX0_isSign_0 : cX0_isSign.data.toList.drop 0 = dktX0_isSign_0 := by decide +kernel
theorem dksX0_isSign_1 : cX0_isSign.data.toList.drop 24 = dktX0_isSign_1 := dk_seg dksX0_isSign_0 24 rfl rfl
theorem dX0_isSign_0 : decode cX0_isSign 0 = .ok (.aload_n 0, 1) := dk_42 (dk_at dksX0_isSign_0 0 rfl rfl)
theorem dX0_isSign_1 : decode cX0_isSign 1 = .ok (.getfield 140, 3) := dk_180 0 140 (dk_at dksX0_isSign_0 1 rfl rfl)
theorem dX0_isSign_4 : decode cX0_isSign 4 = .ok (.aload_n 0, 1) := dk_42 (dk_at dksX0_isSign_0 4 rfl rfl)
theorem dX0_isSign_5 : decode cX0_isSign 5 = .ok (.getfield 149, 3) := dk_180 0 149 (dk_at dksX0_isSign_0 5 rfl rfl)
theorem dX0_isSign_8 : decode cX0_isSign 8 = .ok (.if_icmp .ge 33, 3) := dk_162 0 33 (dk_at dksX0_isSign_0 8 rfl rfl)
theorem dX0_isSign_11 : decode cX0_isSign 11 = .ok (.aload_n 0, 1) := dk_42 (dk_at dksX0_isSign_0 11 rfl rfl)
theorem dX0_isSign_12 : decode cX0_isSign 12 = .ok (.getfield 146, 3) := dk_180 0 146 (dk_at dksX0_isSign_0 12 rfl rfl)
theorem dX0_isSign_15 : decode cX0_isSign 15 = .ok (.aload_n 0, 1) := dk_42 (dk_at dksX0_isSign_0 15 rfl rfl)
theorem dX0_isSign_16 : decode cX0_isSign 16 = .ok (.getfield 140, 3) := dk_180 0 140 (dk_at dksX0_isSign_0 16 rfl rfl)
theorem dX0_isSign_19 : decode cX0_isSign 19 = .ok (.isub, 1) := dk_100 (dk_at dksX0_isSign_0 19 rfl rfl)
theorem dX0_isSign_20 : decode cX0_isSign 20 = .ok (.iconst 1, 1) := dk_4 (dk_at dksX0_isSign_0 20 rfl rfl)
theorem dX0_isSign_21 : decode cX0_isSign 21 = .ok (.if_icmp .ne 20, 3) := dk_160 0 20 (dk_at dksX0_isSign_0 21 rfl rfl)
theorem dX0_isSign_24 : decode cX0_isSign 24 = .ok (.aload_n 0, 1) := dk_42 (dk_at dksX0_isSign_1 0 rfl rfl)
theorem dX0_isSign_25 : decode cX0_isSign 25 = .ok (.getfield 69, 3) := dk_180 0 69 (dk_at dksX0_isSign_1 1 rfl rfl)
theorem dX0_isSign_28 : decode cX0_isSign 28 = .ok (.aload_n 0, 1) := dk_42 (dk_at dksX0_isSign_1 4 rfl rfl)
theorem dX0_isSign_29 : decode cX0_isSign 29 = .ok (.getfield 140, 3) := dk_180 0 140 (dk_at dksX0_isSign_1 5 rfl rfl)
theorem dX0_isSign_32 : decode cX0_isSign 32 = .ok (.baload, 1) := dk_51 (dk_at dksX0_isSign_1 8 rfl rfl)
theorem dX0_isSign_33 : decode cX0_isSign 33 = .ok (.iload_n 1, 1) := dk_27 (dk_at dksX0_isSign_1 9 rfl rfl)
theorem dX0_isSign_34 : decode cX0_isSign 34 = .ok (.if_icmp .ne 7, 3) := dk_160 0 7 (dk_at dksX0_isSign_1 10 rfl rfl)
theorem dX0_isSign_37 : decode cX0_isSign 37 = .ok (.iconst 1, 1) := dk_4 (dk_at dksX0_isSign_1 13 rfl rfl)
theorem dX0_isSign_38 : decode cX0_isSign 38 = .ok (.goto 4, 3) := dk_167 0 4 (dk_at dksX0_isSign_1 14 rfl rfl)
theorem dX0_isSign_41 : decode cX0_isSign 41 = .ok (.iconst 0, 1) := dk_3 (dk_at dksX0_isSign_1 17 rfl rfl)
theorem dX0_isSign_42 : decode cX0_isSign 42 = .ok (.ireturn, 1) := dk_172 (dk_at dksX0_isSign_1 18 rfl rfl)
abbrev cX0_number : ByteArray := prog_1_method_20_code
def yX0_number : MethodName := ⟨RX0, "number", "()I"⟩
def dkwX0_number_3 : List UInt8 := [16, 48, 100, 60, 132, 2, 1, 167, 255, 230, 42, 182, 0, 172, 27, 172]
abbrev dktX0_number_3 : List UInt8 := dkwX0_number_3 ++ []
def dkwX0_number_2 : List UInt8 := [180, 0, 140, 61, 28, 42, 180, 0, 146, 162, 0, 24, 16, 10, 27, 104, 42, 180, 0, 69, 28, 51, 96]
abbrev dktX0_number_2 : List UInt8 := dkwX0_number_2 ++ dktX0_number_3
def dkwX0_number_1 : List UInt8 := [153, 0, 16, 42, 180, 0, 146, 42, 180, 0, 140, 100, 7, 164, 0, 7, 42, 182, 0, 159, 3, 60, 42]
abbrev dktX0_number_1 : List UInt8 := dkwX0_number_1 ++ dktX0_number_2
def dkwX0_number_0 : List UInt8 := [42, 180, 0, 140, 42, 180, 0, 149, 159, 0, 31, 42, 180, 0, 69, 42, 180, 0, 140, 51, 184, 0, 156]
abbrev dktX0_number_0 : List UInt8 := dkwX0_number_0 ++ dktX0_number_1
theorem dksX0_number_0 : cX0_number.data.toList.drop 0 = dktX0_number_0 := by decide +kernel
theorem dksX0_number_1 : cX0_number.data.toList.drop 23 = dktX0_number_1 := dk_seg dksX0_number_0 23 rfl rfl
theorem dksX0_number_2 : cX0_number.data.toList.drop 46 = dktX0_number_2 := dk_seg dksX0_number_1 23 rfl rfl
theorem dksX0_number_3 : cX0_number.data.toList.drop 69 = dktX0_number_3 := dk_seg dksX0_number_2 23 rfl rfl
theorem dX0_number_0 : decode cX0_number 0 = .ok (.aload_n 0, 1) := dk_42 (dk_at dksX0_number_0 0 rfl rfl)
theorem dX0_number_1 : decode cX0_number 1 = .ok (.getfield 140, 3) := dk_180 0 140 (dk_at dksX0_number_0 1 rfl rfl)
theorem dX0_number_4 : decode cX0_number 4 = .ok (.aload_n 0, 1) := dk_42 (dk_at dksX0_number_0 4 rfl rfl)
theorem dX0_number_5 : decode cX0_number 5 = .ok (.getfield 149, 3) := dk_180 0 149 (dk_at dksX0_number_0 5 rfl rfl)
theorem dX0_number_8 : decode cX0_number 8 = .ok (.if_icmp .eq 31, 3) := dk_159 0 31 (dk_at dksX0_number_0 8 rfl rfl)
theorem dX0_number_11 : decode cX0_number 11 = .ok (.aload_n 0, 1) := dk_42 (dk_at dksX0_number_0 11 rfl rfl)
theorem dX0_number_12 : decode cX0_number 12 = .ok (.getfield 69, 3) := dk_180 0 69 (dk_at dksX0_number_0 12 rfl rfl)
theorem dX0_number_15 : decode cX0_number 15 = .ok (.aload_n 0, 1) := dk_42 (dk_at dksX0_number_0 15 rfl rfl)
theorem dX0_number_16 : decode cX0_number 16 = .ok (.getfield 140, 3) := dk_180 0 140 (dk_at dksX0_number_0 16 rfl rfl)
theorem dX0_number_19 : decode cX0_number 19 = .ok (.baload, 1) := dk_51 (dk_at dksX0_number_0 19 rfl rfl)
theorem dX0_number_20 : decode cX0_number 20 = .ok (.invokestatic 156, 3) := dk_184 0 156 (dk_at dksX0_number_0 20 rfl rfl)
theorem dX0_number_23 : decode cX0_number 23 = .ok (.ifCond .eq 16, 3) := dk_153 0 16 (dk_at dksX0_number_1 0 rfl rfl)
theorem dX0_number_26 : decode cX0_number 26 = .ok (.aload_n 0, 1) := dk_42 (dk_at dksX0_number_1 3 rfl rfl)
theorem dX0_number_27 : decode cX0_number 27 = .ok (.getfield 146, 3) := dk_180 0 146 (dk_at dksX0_number_1 4 rfl rfl)
theorem dX0_number_30 : decode cX0_number 30 = .ok (.aload_n 0, 1) := dk_42 (dk_at dksX0_number_1 7 rfl rfl)
theorem dX0_number_31 : decode cX0_number 31 = .ok (.getfield 140, 3) := dk_180 0 140 (dk_at dksX0_number_1 8 rfl rfl)
theorem dX0_number_34 : decode cX0_number 34 = .ok (.isub, 1) := dk_100 (dk_at dksX0_number_1 11 rfl rfl)
theorem dX0_number_35 : decode cX0_number 35 = .ok (.iconst 4, 1) := dk_7 (dk_at dksX0_number_1 12 rfl rfl)
theorem dX0_number_36 : decode cX0_number 36 = .ok (.if_icmp .le 7, 3) := dk_164 0 7 (dk_at dksX0_number_1 13 rfl rfl)
theorem dX0_number_39 : decode cX0_number 39 = .ok (.aload_n 0, 1) := dk_42 (dk_at dksX0_number_1 16 rfl rfl)
theorem dX0_number_40 : decode cX0_number 40 = .ok (.invokevirtual 159, 3) := dk_182 0 159 (dk_at dksX0_number_1 17 rfl rfl)
theorem dX0_number_43 : decode cX0_number 43 = .ok (.iconst 0, 1) := dk_3 (dk_at dksX0_number_1 20 rfl rfl)
theorem dX0_number_44 : decode cX0_number 44 = .ok (.istore_n 1, 1) := dk_60 (dk_at dksX0_number_1 21 rfl rfl)
theorem dX0_number_45 : decode cX0_number 45 = .ok (.aload_n 0, 1) := dk_42 (dk_at dksX0_number_1 22 rfl rfl)
theorem dX0_number_46 : decode cX0_number 46 = .ok (.getfield 140, 3) := dk_180 0 140 (dk_at dksX0_number_2 0 rfl rfl)
theorem dX0_number_49 : decode cX0_number 49 = .ok (.istore_n 2, 1) := dk_61 (dk_at dksX0_number_2 3 rfl rfl)
theorem dX0_number_50 : decode cX0_number 50 = .ok (.iload_n 2, 1) := dk_28 (dk_at dksX0_number_2 4 rfl rfl)
theorem dX0_number_51 : decode cX0_number 51 = .ok (.aload_n 0, 1) := dk_42 (dk_at dksX0_number_2 5 rfl rfl)
theorem dX0_number_52 : decode cX0_number 52 = .ok (.getfield 146, 3) := dk_180 0 146 (dk_at dksX0_number_2 6 rfl rfl)
theorem dX0_number_55 : decode cX0_number 55 = .ok (.if_icmp .ge 24, 3) := dk_162 0 24 (dk_at dksX0_number_2 9 rfl rfl)
theorem dX0_number_58 : decode cX0_number 58 = .ok (.bipush 10, 2) := dk_16 10 (dk_at dksX0_number_2 12 rfl rfl)
theorem dX0_number_60 : decode cX0_number 60 = .ok (.iload_n 1, 1) := dk_27 (dk_at dksX0_number_2 14 rfl rfl)
theorem dX0_number_61 : decode cX0_number 61 = .ok (.imul, 1) := dk_104 (dk_at dksX0_number_2 15 rfl rfl)
theorem dX0_number_62 : decode cX0_number 62 = .ok (.aload_n 0, 1) := dk_42 (dk_at dksX0_number_2 16 rfl rfl)
theorem dX0_number_63 : decode cX0_number 63 = .ok (.getfield 69, 3) := dk_180 0 69 (dk_at dksX0_number_2 17 rfl rfl)
theorem dX0_number_66 : decode cX0_number 66 = .ok (.iload_n 2, 1) := dk_28 (dk_at dksX0_number_2 20 rfl rfl)
theorem dX0_number_67 : decode cX0_number 67 = .ok (.baload, 1) := dk_51 (dk_at dksX0_number_2 21 rfl rfl)
theorem dX0_number_68 : decode cX0_number 68 = .ok (.iadd, 1) := dk_96 (dk_at dksX0_number_2 22 rfl rfl)
theorem dX0_number_69 : decode cX0_number 69 = .ok (.bipush 48, 2) := dk_16 48 (dk_at dksX0_number_3 0 rfl rfl)
theorem dX0_number_71 : decode cX0_number 71 = .ok (.isub, 1) := dk_100 (dk_at dksX0_number_3 2 rfl rfl)
theorem dX0_number_72 : decode cX0_number 72 = .ok (.istore_n 1, 1) := dk_60 (dk_at dksX0_number_3 3 rfl rfl)
theorem dX0_number_73 : decode cX0_number 73 = .ok (.iinc 2 1, 3) := dk_132 2 1 (dk_at dksX0_number_3 4 rfl rfl)
theorem dX0_number_76 : decode cX0_number 76 = .ok (.goto (-26), 3) := dk_167 255 230 (dk_at dksX0_number_3 7 rfl rfl)
theorem dX0_number_79 : decode cX0_number 79 = .ok (.aload_n 0, 1) := dk_42 (dk_at dksX0_number_3 10 rfl rfl)
theorem dX0_number_80 : decode cX0_number 80 = .ok (.invokevirtual 172, 3) := dk_182 0 172 (dk_at dksX0_number_3 11 rfl rfl)
theorem dX0_number_83 : decode cX0_number 83 = .ok (.iload_n 1, 1) := dk_27 (dk_at dksX0_number_3 14 rfl rfl)
theorem dX0_number_84 : decode cX0_number 84 = .ok (.ireturn, 1) := dk_172 (dk_at dksX0_number_3 15 rfl rfl)
abbrev cX0_isName : ByteArray := prog_1_method_27_code
def yX0_isName : MethodName := ⟨RX0, "isName", "(I)Z"⟩
def dkwX0_isName_3 : List UInt8 := [167, 0, 4, 3, 172, 42, 180, 0, 202, 4, 160, 0, 7, 4, 167, 0, 4, 3, 172, 3, 172]
abbrev dktX0_isName_3 : List UInt8 := dkwX0_isName_3 ++ []
def dkwX0_isName_2 : List UInt8 := [42, 180, 0, 202, 4, 159, 0, 7, 4, 167, 0, 4, 3, 172, 42, 180, 0, 202, 154, 0, 7, 4]
abbrev dktX0_isName_2 : List UInt8 := dkwX0_isName_2 ++ dktX0_isName_3
def dkwX0_isName_1 : List UInt8 := [170, 0, 0, 0, 0, 0, 116, 0, 0, 0, 102, 0, 0, 0, 116, 0, 0, 0, 102, 0, 0, 0, 116, 0, 0, 0, 116, 0, 0, 0, 116, 0, 0, 0, 116, 0, 0, 0, 116, 0, 0, 0, 89, 0, 0, 0, 116, 0, 0, 0, 102, 0, 0, 0, 116, 0, 0, 0, 116, 0, 0, 0, 116, 0, 0, 0, 116, 0, 0, 0, 75, 0, 0, 0, 75]
abbrev dktX0_isName_1 : List UInt8 := dkwX0_isName_1 ++ dktX0_isName_2
def dkwX0_isName_0 : List UInt8 := [27]
abbrev dktX0_isName_0 : List UInt8 := dkwX0_isName_0 ++ dktX0_isName_1
theorem dksX0_isName_0 : cX0_isName.data.toList.drop 0 = dktX0_isName_0 := by decide +kernel
theorem dksX0_isName_1 : cX0_isName.data.toList.drop 1 = dktX0_isName_1 := dk_seg dksX0_isName_0 1 rfl rfl
theorem dksX0_isName_2 : cX0_isName.data.toList.drop 76 = dktX0_isName_2 := dk_seg dksX0_isName_1 75 rfl rfl
theorem dksX0_isName_3 : cX0_isName.data.toList.drop 98 = dktX0_isName_3 := dk_seg dksX0_isName_2 22 rfl rfl
theorem dX0_isName_0 : decode cX0_isName 0 = .ok (.iload_n 1, 1) := dk_27 (dk_at dksX0_isName_0 0 rfl rfl)
theorem dX0_isName_1 : decode cX0_isName 1 = .ok (.tableswitch 116 102 116 #[102, 116, 116, 116, 116, 116, 89, 116, 102, 116, 116, 116, 116, 75, 75], 75) := by decide +kernel
theorem dX0_isName_76 : decode cX0_isName 76 = .ok (.aload_n 0, 1) := dk_42 (dk_at dksX0_isName_2 0 rfl rfl)
theorem dX0_isName_77 : decode cX0_isName 77 = .ok (.getfield 202, 3) := dk_180 0 202 (dk_at dksX0_isName_2 1 rfl rfl)
theorem dX0_isName_80 : decode cX0_isName 80 = .ok (.iconst 1, 1) := dk_4 (dk_at dksX0_isName_2 4 rfl rfl)
theorem dX0_isName_81 : decode cX0_isName 81 = .ok (.if_icmp .eq 7, 3) := dk_159 0 7 (dk_at dksX0_isName_2 5 rfl rfl)
theorem dX0_isName_84 : decode cX0_isName 84 = .ok (.iconst 1, 1) := dk_4 (dk_at dksX0_isName_2 8 rfl rfl)
theorem dX0_isName_85 : decode cX0_isName 85 = .ok (.goto 4, 3) := dk_167 0 4 (dk_at dksX0_isName_2 9 rfl rfl)
theorem dX0_isName_88 : decode cX0_isName 88 = .ok (.iconst 0, 1) := dk_3 (dk_at dksX0_isName_2 12 rfl rfl)
theorem dX0_isName_89 : decode cX0_isName 89 = .ok (.ireturn, 1) := dk_172 (dk_at dksX0_isName_2 13 rfl rfl)
theorem dX0_isName_90 : decode cX0_isName 90 = .ok (.aload_n 0, 1) := dk_42 (dk_at dksX0_isName_2 14 rfl rfl)
theorem dX0_isName_91 : decode cX0_isName 91 = .ok (.getfield 202, 3) := dk_180 0 202 (dk_at dksX0_isName_2 15 rfl rfl)
theorem dX0_isName_94 : decode cX0_isName 94 = .ok (.ifCond .ne 7, 3) := dk_154 0 7 (dk_at dksX0_isName_2 18 rfl rfl)
theorem dX0_isName_97 : decode cX0_isName 97 = .ok (.iconst 1, 1) := dk_4 (dk_at dksX0_isName_2 21 rfl rfl)
theorem dX0_isName_98 : decode cX0_isName 98 = .ok (.goto 4, 3) := dk_167 0 4 (dk_at dksX0_isName_3 0 rfl rfl)
theorem dX0_isName_101 : decode cX0_isName 101 = .ok (.iconst 0, 1) := dk_3 (dk_at dksX0_isName_3 3 rfl rfl)
theorem dX0_isName_102 : decode cX0_isName 102 = .ok (.ireturn, 1) := dk_172 (dk_at dksX0_isName_3 4 rfl rfl)
theorem dX0_isName_103 : decode cX0_isName 103 = .ok (.aload_n 0, 1) := dk_42 (dk_at dksX0_isName_3 5 rfl rfl)
theorem dX0_isName_104 : decode cX0_isName 104 = .ok (.getfield 202, 3) := dk_180 0 202 (dk_at dksX0_isName_3 6 rfl rfl)
theorem dX0_isName_107 : decode cX0_isName 107 = .ok (.iconst 1, 1) := dk_4 (dk_at dksX0_isName_3 9 rfl rfl)
theorem dX0_isName_108 : decode cX0_isName 108 = .ok (.if_icmp .ne 7, 3) := dk_160 0 7 (dk_at dksX0_isName_3 10 rfl rfl)
theorem dX0_isName_111 : decode cX0_isName 111 = .ok (.iconst 1, 1) := dk_4 (dk_at dksX0_isName_3 13 rfl rfl)
theorem dX0_isName_112 : decode cX0_isName 112 = .ok (.goto 4, 3) := dk_167 0 4 (dk_at dksX0_isName_3 14 rfl rfl)
theorem dX0_isName_115 : decode cX0_isName 115 = .ok (.iconst 0, 1) := dk_3 (dk_at dksX0_isName_3 17 rfl rfl)
theorem dX0_isName_116 : decode cX0_isName 116 = .ok (.ireturn, 1) := dk_172 (dk_at dksX0_isName_3 18 rfl rfl)
theorem dX0_isName_117 : decode cX0_isName 117 = .ok (.iconst 0, 1) := dk_3 (dk_at dksX0_isName_3 19 rfl rfl)
theorem dX0_isName_118 : decode cX0_isName 118 = .ok (.ireturn, 1) := dk_172 (dk_at dksX0_isName_3 20 rfl rfl)
abbrev cX0_textTold : ByteArray := prog_1_method_32_code
def yX0_textTold : MethodName := ⟨RX0, "textTold", "(II)I"⟩
def dkwX0_textTold_2 : List UInt8 := [167, 0, 15, 42, 180, 0, 52, 180, 0, 249, 27, 50, 180, 0, 255, 172]
abbrev dktX0_textTold_2 : List UInt8 := dkwX0_textTold_2 ++ []
def dkwX0_textTold_1 : List UInt8 := [154, 0, 6, 18, 139, 172, 28, 154, 0, 18, 42, 180, 0, 52, 180, 0, 249, 27, 50, 180, 0, 253]
abbrev dktX0_textTold_1 : List UInt8 := dkwX0_textTold_1 ++ dktX0_textTold_2
def dkwX0_textTold_0 : List UInt8 := [27, 3, 42, 180, 0, 52, 180, 0, 246, 4, 100, 184, 0, 114, 153, 0, 12, 28, 3, 4, 184, 0, 114]
abbrev dktX0_textTold_0 : List UInt8 := dkwX0_textTold_0 ++ dktX0_textTold_1
theorem dksX0_textTold_0 : cX0_textTold.data.toList.drop 0 = dktX0_textTold_0 := by decide +kernel
theorem dksX0_textTold_1 : cX0_textTold.data.toList.drop 23 = dktX0_textTold_1 := dk_seg dksX0_textTold_0 23 rfl rfl
theorem dksX0_textTold_2 : cX0_textTold.data.toList.drop 45 = dktX0_textTold_2 := dk_seg dksX0_textTold_1 22 rfl rfl
theorem dX0_textTold_0 : decode cX0_textTold 0 = .ok (.iload_n 1, 1) := dk_27 (dk_at dksX0_textTold_0 0 rfl rfl)
theorem dX0_textTold_1 : decode cX0_textTold 1 = .ok (.iconst 0, 1) := dk_3 (dk_at dksX0_textTold_0 1 rfl rfl)
theorem dX0_textTold_2 : decode cX0_textTold 2 = .ok (.aload_n 0, 1) := dk_42 (dk_at dksX0_textTold_0 2 rfl rfl)
theorem dX0_textTold_3 : decode cX0_textTold 3 = .ok (.getfield 52, 3) := dk_180 0 52 (dk_at dksX0_textTold_0 3 rfl rfl)
theorem dX0_textTold_6 : decode cX0_textTold 6 = .ok (.getfield 246, 3) := dk_180 0 246 (dk_at dksX0_textTold_0 6 rfl rfl)
theorem dX0_textTold_9 : decode cX0_textTold 9 = .ok (.iconst 1, 1) := dk_4 (dk_at dksX0_textTold_0 9 rfl rfl)
theorem dX0_textTold_10 : decode cX0_textTold 10 = .ok (.isub, 1) := dk_100 (dk_at dksX0_textTold_0 10 rfl rfl)
theorem dX0_textTold_11 : decode cX0_textTold 11 = .ok (.invokestatic 114, 3) := dk_184 0 114 (dk_at dksX0_textTold_0 11 rfl rfl)
theorem dX0_textTold_14 : decode cX0_textTold 14 = .ok (.ifCond .eq 12, 3) := dk_153 0 12 (dk_at dksX0_textTold_0 14 rfl rfl)
theorem dX0_textTold_17 : decode cX0_textTold 17 = .ok (.iload_n 2, 1) := dk_28 (dk_at dksX0_textTold_0 17 rfl rfl)
theorem dX0_textTold_18 : decode cX0_textTold 18 = .ok (.iconst 0, 1) := dk_3 (dk_at dksX0_textTold_0 18 rfl rfl)
theorem dX0_textTold_19 : decode cX0_textTold 19 = .ok (.iconst 1, 1) := dk_4 (dk_at dksX0_textTold_0 19 rfl rfl)
theorem dX0_textTold_20 : decode cX0_textTold 20 = .ok (.invokestatic 114, 3) := dk_184 0 114 (dk_at dksX0_textTold_0 20 rfl rfl)
theorem dX0_textTold_23 : decode cX0_textTold 23 = .ok (.ifCond .ne 6, 3) := dk_154 0 6 (dk_at dksX0_textTold_1 0 rfl rfl)
theorem dX0_textTold_26 : decode cX0_textTold 26 = .ok (.ldc 139, 2) := dk_18 139 (dk_at dksX0_textTold_1 3 rfl rfl)
theorem dX0_textTold_28 : decode cX0_textTold 28 = .ok (.ireturn, 1) := dk_172 (dk_at dksX0_textTold_1 5 rfl rfl)
theorem dX0_textTold_29 : decode cX0_textTold 29 = .ok (.iload_n 2, 1) := dk_28 (dk_at dksX0_textTold_1 6 rfl rfl)
theorem dX0_textTold_30 : decode cX0_textTold 30 = .ok (.ifCond .ne 18, 3) := dk_154 0 18 (dk_at dksX0_textTold_1 7 rfl rfl)
theorem dX0_textTold_33 : decode cX0_textTold 33 = .ok (.aload_n 0, 1) := dk_42 (dk_at dksX0_textTold_1 10 rfl rfl)
theorem dX0_textTold_34 : decode cX0_textTold 34 = .ok (.getfield 52, 3) := dk_180 0 52 (dk_at dksX0_textTold_1 11 rfl rfl)
theorem dX0_textTold_37 : decode cX0_textTold 37 = .ok (.getfield 249, 3) := dk_180 0 249 (dk_at dksX0_textTold_1 14 rfl rfl)
theorem dX0_textTold_40 : decode cX0_textTold 40 = .ok (.iload_n 1, 1) := dk_27 (dk_at dksX0_textTold_1 17 rfl rfl)
theorem dX0_textTold_41 : decode cX0_textTold 41 = .ok (.aaload, 1) := dk_50 (dk_at dksX0_textTold_1 18 rfl rfl)
theorem dX0_textTold_42 : decode cX0_textTold 42 = .ok (.getfield 253, 3) := dk_180 0 253 (dk_at dksX0_textTold_1 19 rfl rfl)
theorem dX0_textTold_45 : decode cX0_textTold 45 = .ok (.goto 15, 3) := dk_167 0 15 (dk_at dksX0_textTold_2 0 rfl rfl)
theorem dX0_textTold_48 : decode cX0_textTold 48 = .ok (.aload_n 0, 1) := dk_42 (dk_at dksX0_textTold_2 3 rfl rfl)
theorem dX0_textTold_49 : decode cX0_textTold 49 = .ok (.getfield 52, 3) := dk_180 0 52 (dk_at dksX0_textTold_2 4 rfl rfl)
theorem dX0_textTold_52 : decode cX0_textTold 52 = .ok (.getfield 249, 3) := dk_180 0 249 (dk_at dksX0_textTold_2 7 rfl rfl)
theorem dX0_textTold_55 : decode cX0_textTold 55 = .ok (.iload_n 1, 1) := dk_27 (dk_at dksX0_textTold_2 10 rfl rfl)
theorem dX0_textTold_56 : decode cX0_textTold 56 = .ok (.aaload, 1) := dk_50 (dk_at dksX0_textTold_2 11 rfl rfl)
theorem dX0_textTold_57 : decode cX0_textTold 57 = .ok (.getfield 255, 3) := dk_180 0 255 (dk_at dksX0_textTold_2 12 rfl rfl)
theorem dX0_textTold_60 : decode cX0_textTold 60 = .ok (.ireturn, 1) := dk_172 (dk_at dksX0_textTold_2 15 rfl rfl)
abbrev cX0_why : ByteArray := prog_1_method_34_code
def yX0_why : MethodName := ⟨RX0, "why", "(I)I"⟩
def dkwX0_why_0 : List UInt8 := [27, 3, 5, 184, 0, 114, 153, 0, 14, 42, 27, 182, 1, 0, 184, 1, 3, 167, 0, 5, 18, 139, 172]
abbrev dktX0_why_0 : List UInt8 := dkwX0_why_0 ++ []
theorem dksX0_why_0 : cX0_why.data.toList.drop 0 = dktX0_why_0 := by decide +kernel
theorem dX0_why_0 : decode cX0_why 0 = .ok (.iload_n 1, 1) := dk_27 (dk_at dksX0_why_0 0 rfl rfl)
theorem dX0_why_1 : decode cX0_why 1 = .ok (.iconst 0, 1) := dk_3 (dk_at dksX0_why_0 1 rfl rfl)
theorem dX0_why_2 : decode cX0_why 2 = .ok (.iconst 2, 1) := dk_5 (dk_at dksX0_why_0 2 rfl rfl)
theorem dX0_why_3 : decode cX0_why 3 = .ok (.invokestatic 114, 3) := dk_184 0 114 (dk_at dksX0_why_0 3 rfl rfl)
theorem dX0_why_6 : decode cX0_why 6 = .ok (.ifCond .eq 14, 3) := dk_153 0 14 (dk_at dksX0_why_0 6 rfl rfl)
theorem dX0_why_9 : decode cX0_why 9 = .ok (.aload_n 0, 1) := dk_42 (dk_at dksX0_why_0 9 rfl rfl)
theorem dX0_why_10 : decode cX0_why 10 = .ok (.iload_n 1, 1) := dk_27 (dk_at dksX0_why_0 10 rfl rfl)
theorem dX0_why_11 : decode cX0_why 11 = .ok (.invokevirtual 256, 3) := dk_182 1 0 (dk_at dksX0_why_0 11 rfl rfl)
theorem dX0_why_14 : decode cX0_why 14 = .ok (.invokestatic 259, 3) := dk_184 1 3 (dk_at dksX0_why_0 14 rfl rfl)
theorem dX0_why_17 : decode cX0_why 17 = .ok (.goto 5, 3) := dk_167 0 5 (dk_at dksX0_why_0 17 rfl rfl)
theorem dX0_why_20 : decode cX0_why 20 = .ok (.ldc 139, 2) := dk_18 139 (dk_at dksX0_why_0 20 rfl rfl)
theorem dX0_why_22 : decode cX0_why 22 = .ok (.ireturn, 1) := dk_172 (dk_at dksX0_why_0 22 rfl rfl)
abbrev cX0_counts : ByteArray := prog_1_method_33_code
def yX0_counts : MethodName := ⟨RX0, "counts", "(I)I"⟩
def dkwX0_counts_1 : List UInt8 := [180, 0, 253, 27, 160, 0, 7, 29, 167, 0, 4, 28, 61, 132, 3, 1, 167, 255, 220, 28, 172]
abbrev dktX0_counts_1 : List UInt8 := dkwX0_counts_1 ++ []
def dkwX0_counts_0 : List UInt8 := [2, 61, 3, 62, 29, 42, 180, 0, 52, 180, 0, 246, 162, 0, 31, 42, 180, 0, 52, 180, 0, 249, 29, 50]
abbrev dktX0_counts_0 : List UInt8 := dkwX0_counts_0 ++ dktX0_counts_1
theorem dksX0_counts_0 : cX0_counts.data.toList.drop 0 = dktX0_counts_0 := by decide +kernel
theorem dksX0_counts_1 : cX0_counts.data.toList.drop 24 = dktX0_counts_1 := dk_seg dksX0_counts_0 24 rfl rfl
theorem dX0_counts_0 : decode cX0_counts 0 = .ok (.iconst (-1), 1) := dk_2 (dk_at dksX0_counts_0 0 rfl rfl)
theorem dX0_counts_1 : decode cX0_counts 1 = .ok (.istore_n 2, 1) := dk_61 (dk_at dksX0_counts_0 1 rfl rfl)
theorem dX0_counts_2 : decode cX0_counts 2 = .ok (.iconst 0, 1) := dk_3 (dk_at dksX0_counts_0 2 rfl rfl)
theorem dX0_counts_3 : decode cX0_counts 3 = .ok (.istore_n 3, 1) := dk_62 (dk_at dksX0_counts_0 3 rfl rfl)
theorem dX0_counts_4 : decode cX0_counts 4 = .ok (.iload_n 3, 1) := dk_29 (dk_at dksX0_counts_0 4 rfl rfl)
theorem dX0_counts_5 : decode cX0_counts 5 = .ok (.aload_n 0, 1) := dk_42 (dk_at dksX0_counts_0 5 rfl rfl)
theorem dX0_counts_6 : decode cX0_counts 6 = .ok (.getfield 52, 3) := dk_180 0 52 (dk_at dksX0_counts_0 6 rfl rfl)
theorem dX0_counts_9 : decode cX0_counts 9 = .ok (.getfield 246, 3) := dk_180 0 246 (dk_at dksX0_counts_0 9 rfl rfl)
theorem dX0_counts_12 : decode cX0_counts 12 = .ok (.if_icmp .ge 31, 3) := dk_162 0 31 (dk_at dksX0_counts_0 12 rfl rfl)
theorem dX0_counts_15 : decode cX0_counts 15 = .ok (.aload_n 0, 1) := dk_42 (dk_at dksX0_counts_0 15 rfl rfl)
theorem dX0_counts_16 : decode cX0_counts 16 = .ok (.getfield 52, 3) := dk_180 0 52 (dk_at dksX0_counts_0 16 rfl rfl)
theorem dX0_counts_19 : decode cX0_counts 19 = .ok (.getfield 249, 3) := dk_180 0 249 (dk_at dksX0_counts_0 19 rfl rfl)
theorem dX0_counts_22 : decode cX0_counts 22 = .ok (.iload_n 3, 1) := dk_29 (dk_at dksX0_counts_0 22 rfl rfl)
theorem dX0_counts_23 : decode cX0_counts 23 = .ok (.aaload, 1) := dk_50 (dk_at dksX0_counts_0 23 rfl rfl)
theorem dX0_counts_24 : decode cX0_counts 24 = .ok (.getfield 253, 3) := dk_180 0 253 (dk_at dksX0_counts_1 0 rfl rfl)
theorem dX0_counts_27 : decode cX0_counts 27 = .ok (.iload_n 1, 1) := dk_27 (dk_at dksX0_counts_1 3 rfl rfl)
theorem dX0_counts_28 : decode cX0_counts 28 = .ok (.if_icmp .ne 7, 3) := dk_160 0 7 (dk_at dksX0_counts_1 4 rfl rfl)
theorem dX0_counts_31 : decode cX0_counts 31 = .ok (.iload_n 3, 1) := dk_29 (dk_at dksX0_counts_1 7 rfl rfl)
theorem dX0_counts_32 : decode cX0_counts 32 = .ok (.goto 4, 3) := dk_167 0 4 (dk_at dksX0_counts_1 8 rfl rfl)
theorem dX0_counts_35 : decode cX0_counts 35 = .ok (.iload_n 2, 1) := dk_28 (dk_at dksX0_counts_1 11 rfl rfl)
theorem dX0_counts_36 : decode cX0_counts 36 = .ok (.istore_n 2, 1) := dk_61 (dk_at dksX0_counts_1 12 rfl rfl)
theorem dX0_counts_37 : decode cX0_counts 37 = .ok (.iinc 3 1, 3) := dk_132 3 1 (dk_at dksX0_counts_1 13 rfl rfl)
theorem dX0_counts_40 : decode cX0_counts 40 = .ok (.goto (-36), 3) := dk_167 255 220 (dk_at dksX0_counts_1 16 rfl rfl)
theorem dX0_counts_43 : decode cX0_counts 43 = .ok (.iload_n 2, 1) := dk_28 (dk_at dksX0_counts_1 19 rfl rfl)
theorem dX0_counts_44 : decode cX0_counts 44 = .ok (.ireturn, 1) := dk_172 (dk_at dksX0_counts_1 20 rfl rfl)
abbrev cX0_orNone : ByteArray := prog_1_method_2_code
def yX0_orNone : MethodName := ⟨RX0, "orNone", "(I)I"⟩
def dkwX0_orNone_0 : List UInt8 := [26, 2, 160, 0, 8, 18, 3, 167, 0, 4, 26, 172]
abbrev dktX0_orNone_0 : List UInt8 := dkwX0_orNone_0 ++ []
theorem dksX0_orNone_0 : cX0_orNone.data.toList.drop 0 = dktX0_orNone_0 := by decide +kernel
theorem dX0_orNone_0 : decode cX0_orNone 0 = .ok (.iload_n 0, 1) := dk_26 (dk_at dksX0_orNone_0 0 rfl rfl)
theorem dX0_orNone_1 : decode cX0_orNone 1 = .ok (.iconst (-1), 1) := dk_2 (dk_at dksX0_orNone_0 1 rfl rfl)
theorem dX0_orNone_2 : decode cX0_orNone 2 = .ok (.if_icmp .ne 8, 3) := dk_160 0 8 (dk_at dksX0_orNone_0 2 rfl rfl)
theorem dX0_orNone_5 : decode cX0_orNone 5 = .ok (.ldc 3, 2) := dk_18 3 (dk_at dksX0_orNone_0 5 rfl rfl)
theorem dX0_orNone_7 : decode cX0_orNone 7 = .ok (.goto 4, 3) := dk_167 0 4 (dk_at dksX0_orNone_0 7 rfl rfl)
theorem dX0_orNone_10 : decode cX0_orNone 10 = .ok (.iload_n 0, 1) := dk_26 (dk_at dksX0_orNone_0 10 rfl rfl)
theorem dX0_orNone_11 : decode cX0_orNone 11 = .ok (.ireturn, 1) := dk_172 (dk_at dksX0_orNone_0 11 rfl rfl)
abbrev cX0_rubbing : ByteArray := prog_1_method_36_code
def yX0_rubbing : MethodName := ⟨RX0, "rubbing", "(III)I"⟩
def dkwX0_rubbing_2 : List UInt8 := [167, 0, 10, 42, 27, 28, 29, 182, 1, 21, 172]
abbrev dktX0_rubbing_2 : List UInt8 := dkwX0_rubbing_2 ++ []
def dkwX0_rubbing_1 : List UInt8 := [184, 0, 114, 154, 0, 6, 18, 139, 172, 42, 180, 0, 52, 180, 0, 110, 16, 9, 160, 0, 8, 18, 134]
abbrev dktX0_rubbing_1 : List UInt8 := dkwX0_rubbing_1 ++ dktX0_rubbing_2
def dkwX0_rubbing_0 : List UInt8 := [27, 3, 8, 184, 0, 114, 153, 0, 24, 28, 3, 19, 1, 20, 184, 0, 114, 153, 0, 13, 29, 4, 16, 8]
abbrev dktX0_rubbing_0 : List UInt8 := dkwX0_rubbing_0 ++ dktX0_rubbing_1
theorem dksX0_rubbing_0 : cX0_rubbing.data.toList.drop 0 = dktX0_rubbing_0 := by decide +kernel
theorem dksX0_rubbing_1 : cX0_rubbing.data.toList.drop 24 = dktX0_rubbing_1 := dk_seg dksX0_rubbing_0 24 rfl rfl
theorem dksX0_rubbing_2 : cX0_rubbing.data.toList.drop 47 = dktX0_rubbing_2 := dk_seg dksX0_rubbing_1 23 rfl rfl
theorem dX0_rubbing_0 : decode cX0_rubbing 0 = .ok (.iload_n 1, 1) := dk_27 (dk_at dksX0_rubbing_0 0 rfl rfl)
theorem dX0_rubbing_1 : decode cX0_rubbing 1 = .ok (.iconst 0, 1) := dk_3 (dk_at dksX0_rubbing_0 1 rfl rfl)
theorem dX0_rubbing_2 : decode cX0_rubbing 2 = .ok (.iconst 5, 1) := dk_8 (dk_at dksX0_rubbing_0 2 rfl rfl)
theorem dX0_rubbing_3 : decode cX0_rubbing 3 = .ok (.invokestatic 114, 3) := dk_184 0 114 (dk_at dksX0_rubbing_0 3 rfl rfl)
theorem dX0_rubbing_6 : decode cX0_rubbing 6 = .ok (.ifCond .eq 24, 3) := dk_153 0 24 (dk_at dksX0_rubbing_0 6 rfl rfl)
theorem dX0_rubbing_9 : decode cX0_rubbing 9 = .ok (.iload_n 2, 1) := dk_28 (dk_at dksX0_rubbing_0 9 rfl rfl)
theorem dX0_rubbing_10 : decode cX0_rubbing 10 = .ok (.iconst 0, 1) := dk_3 (dk_at dksX0_rubbing_0 10 rfl rfl)
theorem dX0_rubbing_11 : decode cX0_rubbing 11 = .ok (.ldc_w 276, 3) := dk_19 1 20 (dk_at dksX0_rubbing_0 11 rfl rfl)
theorem dX0_rubbing_14 : decode cX0_rubbing 14 = .ok (.invokestatic 114, 3) := dk_184 0 114 (dk_at dksX0_rubbing_0 14 rfl rfl)
theorem dX0_rubbing_17 : decode cX0_rubbing 17 = .ok (.ifCond .eq 13, 3) := dk_153 0 13 (dk_at dksX0_rubbing_0 17 rfl rfl)
theorem dX0_rubbing_20 : decode cX0_rubbing 20 = .ok (.iload_n 3, 1) := dk_29 (dk_at dksX0_rubbing_0 20 rfl rfl)
theorem dX0_rubbing_21 : decode cX0_rubbing 21 = .ok (.iconst 1, 1) := dk_4 (dk_at dksX0_rubbing_0 21 rfl rfl)
theorem dX0_rubbing_22 : decode cX0_rubbing 22 = .ok (.bipush 8, 2) := dk_16 8 (dk_at dksX0_rubbing_0 22 rfl rfl)
theorem dX0_rubbing_24 : decode cX0_rubbing 24 = .ok (.invokestatic 114, 3) := dk_184 0 114 (dk_at dksX0_rubbing_1 0 rfl rfl)
theorem dX0_rubbing_27 : decode cX0_rubbing 27 = .ok (.ifCond .ne 6, 3) := dk_154 0 6 (dk_at dksX0_rubbing_1 3 rfl rfl)
theorem dX0_rubbing_30 : decode cX0_rubbing 30 = .ok (.ldc 139, 2) := dk_18 139 (dk_at dksX0_rubbing_1 6 rfl rfl)
theorem dX0_rubbing_32 : decode cX0_rubbing 32 = .ok (.ireturn, 1) := dk_172 (dk_at dksX0_rubbing_1 8 rfl rfl)
theorem dX0_rubbing_33 : decode cX0_rubbing 33 = .ok (.aload_n 0, 1) := dk_42 (dk_at dksX0_rubbing_1 9 rfl rfl)
theorem dX0_rubbing_34 : decode cX0_rubbing 34 = .ok (.getfield 52, 3) := dk_180 0 52 (dk_at dksX0_rubbing_1 10 rfl rfl)
theorem dX0_rubbing_37 : decode cX0_rubbing 37 = .ok (.getfield 110, 3) := dk_180 0 110 (dk_at dksX0_rubbing_1 13 rfl rfl)
theorem dX0_rubbing_40 : decode cX0_rubbing 40 = .ok (.bipush 9, 2) := dk_16 9 (dk_at dksX0_rubbing_1 16 rfl rfl)
theorem dX0_rubbing_42 : decode cX0_rubbing 42 = .ok (.if_icmp .ne 8, 3) := dk_160 0 8 (dk_at dksX0_rubbing_1 18 rfl rfl)
theorem dX0_rubbing_45 : decode cX0_rubbing 45 = .ok (.ldc 134, 2) := dk_18 134 (dk_at dksX0_rubbing_1 21 rfl rfl)
theorem dX0_rubbing_47 : decode cX0_rubbing 47 = .ok (.goto 10, 3) := dk_167 0 10 (dk_at dksX0_rubbing_2 0 rfl rfl)
theorem dX0_rubbing_50 : decode cX0_rubbing 50 = .ok (.aload_n 0, 1) := dk_42 (dk_at dksX0_rubbing_2 3 rfl rfl)
theorem dX0_rubbing_51 : decode cX0_rubbing 51 = .ok (.iload_n 1, 1) := dk_27 (dk_at dksX0_rubbing_2 4 rfl rfl)
theorem dX0_rubbing_52 : decode cX0_rubbing 52 = .ok (.iload_n 2, 1) := dk_28 (dk_at dksX0_rubbing_2 5 rfl rfl)
theorem dX0_rubbing_53 : decode cX0_rubbing 53 = .ok (.iload_n 3, 1) := dk_29 (dk_at dksX0_rubbing_2 6 rfl rfl)
theorem dX0_rubbing_54 : decode cX0_rubbing 54 = .ok (.invokevirtual 277, 3) := dk_182 1 21 (dk_at dksX0_rubbing_2 7 rfl rfl)
theorem dX0_rubbing_57 : decode cX0_rubbing 57 = .ok (.ireturn, 1) := dk_172 (dk_at dksX0_rubbing_2 10 rfl rfl)
abbrev cX0_comes : ByteArray := prog_1_method_35_code
def yX0_comes : MethodName := ⟨RX0, "comes", "(III)I"⟩
def dkwX0_comes_2 : List UInt8 := [181, 1, 17, 42, 180, 0, 52, 89, 180, 0, 110, 4, 96, 181, 0, 110, 21, 4, 172]
abbrev dktX0_comes_2 : List UInt8 := dkwX0_comes_2 ++ []
def dkwX0_comes_1 : List UInt8 := [180, 0, 52, 180, 1, 6, 21, 4, 50, 28, 181, 1, 14, 42, 180, 0, 52, 180, 1, 6, 21, 4, 50, 29]
abbrev dktX0_comes_1 : List UInt8 := dkwX0_comes_1 ++ dktX0_comes_2
def dkwX0_comes_0 : List UInt8 := [42, 180, 0, 52, 180, 0, 110, 54, 4, 42, 180, 0, 52, 180, 1, 6, 21, 4, 27, 184, 1, 10, 83, 42]
abbrev dktX0_comes_0 : List UInt8 := dkwX0_comes_0 ++ dktX0_comes_1
theorem dksX0_comes_0 : cX0_comes.data.toList.drop 0 = dktX0_comes_0 := by decide +kernel
theorem dksX0_comes_1 : cX0_comes.data.toList.drop 24 = dktX0_comes_1 := dk_seg dksX0_comes_0 24 rfl rfl
theorem dksX0_comes_2 : cX0_comes.data.toList.drop 48 = dktX0_comes_2 := dk_seg dksX0_comes_1 24 rfl rfl
theorem dX0_comes_0 : decode cX0_comes 0 = .ok (.aload_n 0, 1) := dk_42 (dk_at dksX0_comes_0 0 rfl rfl)
theorem dX0_comes_1 : decode cX0_comes 1 = .ok (.getfield 52, 3) := dk_180 0 52 (dk_at dksX0_comes_0 1 rfl rfl)
theorem dX0_comes_4 : decode cX0_comes 4 = .ok (.getfield 110, 3) := dk_180 0 110 (dk_at dksX0_comes_0 4 rfl rfl)
theorem dX0_comes_7 : decode cX0_comes 7 = .ok (.istore 4, 2) := dk_54 4 (dk_at dksX0_comes_0 7 rfl rfl)
theorem dX0_comes_9 : decode cX0_comes 9 = .ok (.aload_n 0, 1) := dk_42 (dk_at dksX0_comes_0 9 rfl rfl)
theorem dX0_comes_10 : decode cX0_comes 10 = .ok (.getfield 52, 3) := dk_180 0 52 (dk_at dksX0_comes_0 10 rfl rfl)
theorem dX0_comes_13 : decode cX0_comes 13 = .ok (.getfield 262, 3) := dk_180 1 6 (dk_at dksX0_comes_0 13 rfl rfl)
theorem dX0_comes_16 : decode cX0_comes 16 = .ok (.iload 4, 2) := dk_21 4 (dk_at dksX0_comes_0 16 rfl rfl)
theorem dX0_comes_18 : decode cX0_comes 18 = .ok (.iload_n 1, 1) := dk_27 (dk_at dksX0_comes_0 18 rfl rfl)
theorem dX0_comes_19 : decode cX0_comes 19 = .ok (.invokestatic 266, 3) := dk_184 1 10 (dk_at dksX0_comes_0 19 rfl rfl)
theorem dX0_comes_22 : decode cX0_comes 22 = .ok (.aastore, 1) := dk_83 (dk_at dksX0_comes_0 22 rfl rfl)
theorem dX0_comes_23 : decode cX0_comes 23 = .ok (.aload_n 0, 1) := dk_42 (dk_at dksX0_comes_0 23 rfl rfl)
theorem dX0_comes_24 : decode cX0_comes 24 = .ok (.getfield 52, 3) := dk_180 0 52 (dk_at dksX0_comes_1 0 rfl rfl)
theorem dX0_comes_27 : decode cX0_comes 27 = .ok (.getfield 262, 3) := dk_180 1 6 (dk_at dksX0_comes_1 3 rfl rfl)
theorem dX0_comes_30 : decode cX0_comes 30 = .ok (.iload 4, 2) := dk_21 4 (dk_at dksX0_comes_1 6 rfl rfl)
theorem dX0_comes_32 : decode cX0_comes 32 = .ok (.aaload, 1) := dk_50 (dk_at dksX0_comes_1 8 rfl rfl)
theorem dX0_comes_33 : decode cX0_comes 33 = .ok (.iload_n 2, 1) := dk_28 (dk_at dksX0_comes_1 9 rfl rfl)
theorem dX0_comes_34 : decode cX0_comes 34 = .ok (.putfield 270, 3) := dk_181 1 14 (dk_at dksX0_comes_1 10 rfl rfl)
theorem dX0_comes_37 : decode cX0_comes 37 = .ok (.aload_n 0, 1) := dk_42 (dk_at dksX0_comes_1 13 rfl rfl)
theorem dX0_comes_38 : decode cX0_comes 38 = .ok (.getfield 52, 3) := dk_180 0 52 (dk_at dksX0_comes_1 14 rfl rfl)
theorem dX0_comes_41 : decode cX0_comes 41 = .ok (.getfield 262, 3) := dk_180 1 6 (dk_at dksX0_comes_1 17 rfl rfl)
theorem dX0_comes_44 : decode cX0_comes 44 = .ok (.iload 4, 2) := dk_21 4 (dk_at dksX0_comes_1 20 rfl rfl)
theorem dX0_comes_46 : decode cX0_comes 46 = .ok (.aaload, 1) := dk_50 (dk_at dksX0_comes_1 22 rfl rfl)
theorem dX0_comes_47 : decode cX0_comes 47 = .ok (.iload_n 3, 1) := dk_29 (dk_at dksX0_comes_1 23 rfl rfl)
theorem dX0_comes_48 : decode cX0_comes 48 = .ok (.putfield 273, 3) := dk_181 1 17 (dk_at dksX0_comes_2 0 rfl rfl)
theorem dX0_comes_51 : decode cX0_comes 51 = .ok (.aload_n 0, 1) := dk_42 (dk_at dksX0_comes_2 3 rfl rfl)
theorem dX0_comes_52 : decode cX0_comes 52 = .ok (.getfield 52, 3) := dk_180 0 52 (dk_at dksX0_comes_2 4 rfl rfl)
theorem dX0_comes_55 : decode cX0_comes 55 = .ok (.dup, 1) := dk_89 (dk_at dksX0_comes_2 7 rfl rfl)
theorem dX0_comes_56 : decode cX0_comes 56 = .ok (.getfield 110, 3) := dk_180 0 110 (dk_at dksX0_comes_2 8 rfl rfl)
theorem dX0_comes_59 : decode cX0_comes 59 = .ok (.iconst 1, 1) := dk_4 (dk_at dksX0_comes_2 11 rfl rfl)
theorem dX0_comes_60 : decode cX0_comes 60 = .ok (.iadd, 1) := dk_96 (dk_at dksX0_comes_2 12 rfl rfl)
theorem dX0_comes_61 : decode cX0_comes 61 = .ok (.putfield 110, 3) := dk_181 0 110 (dk_at dksX0_comes_2 13 rfl rfl)
theorem dX0_comes_64 : decode cX0_comes 64 = .ok (.iload 4, 2) := dk_21 4 (dk_at dksX0_comes_2 16 rfl rfl)
theorem dX0_comes_66 : decode cX0_comes 66 = .ok (.ireturn, 1) := dk_172 (dk_at dksX0_comes_2 18 rfl rfl)
abbrev cX0_rubbingOf : ByteArray := prog_1_method_5_code
def yX0_rubbingOf : MethodName := ⟨RX0, "rubbingOf", "(I)LStoneSheets$Rubbing;"⟩
def dkwX0_rubbingOf_3 : List UInt8 := [187, 0, 31, 89, 183, 0, 33, 176, 187, 0, 34, 89, 183, 0, 36, 176, 187, 0, 37, 89, 183, 0, 39, 176]
abbrev dktX0_rubbingOf_3 : List UInt8 := dkwX0_rubbingOf_3 ++ []
def dkwX0_rubbingOf_2 : List UInt8 := [187, 0, 19, 89, 183, 0, 21, 176, 187, 0, 25, 89, 183, 0, 27, 176, 187, 0, 28, 89, 183, 0, 30, 176]
abbrev dktX0_rubbingOf_2 : List UInt8 := dkwX0_rubbingOf_2 ++ dktX0_rubbingOf_3
def dkwX0_rubbingOf_1 : List UInt8 := [170, 0, 0, 0, 0, 0, 75, 0, 0, 0, 1, 0, 0, 0, 5, 0, 0, 0, 35, 0, 0, 0, 43, 0, 0, 0, 51, 0, 0, 0, 59, 0, 0, 0, 67]
abbrev dktX0_rubbingOf_1 : List UInt8 := dkwX0_rubbingOf_1 ++ dktX0_rubbingOf_2
def dkwX0_rubbingOf_0 : List UInt8 := [26]
abbrev dktX0_rubbingOf_0 : List UInt8 := dkwX0_rubbingOf_0 ++ dktX0_rubbingOf_1
theorem dksX0_rubbingOf_0 : cX0_rubbingOf.data.toList.drop 0 = dktX0_rubbingOf_0 := by decide +kernel
theorem dksX0_rubbingOf_1 : cX0_rubbingOf.data.toList.drop 1 = dktX0_rubbingOf_1 := dk_seg dksX0_rubbingOf_0 1 rfl rfl
theorem dksX0_rubbingOf_2 : cX0_rubbingOf.data.toList.drop 36 = dktX0_rubbingOf_2 := dk_seg dksX0_rubbingOf_1 35 rfl rfl
theorem dksX0_rubbingOf_3 : cX0_rubbingOf.data.toList.drop 60 = dktX0_rubbingOf_3 := dk_seg dksX0_rubbingOf_2 24 rfl rfl
theorem dX0_rubbingOf_0 : decode cX0_rubbingOf 0 = .ok (.iload_n 0, 1) := dk_26 (dk_at dksX0_rubbingOf_0 0 rfl rfl)
theorem dX0_rubbingOf_1 : decode cX0_rubbingOf 1 = .ok (.tableswitch 75 1 5 #[35, 43, 51, 59, 67], 35) := by decide +kernel
theorem dX0_rubbingOf_36 : decode cX0_rubbingOf 36 = .ok (.new 19, 3) := dk_187 0 19 (dk_at dksX0_rubbingOf_2 0 rfl rfl)
theorem dX0_rubbingOf_39 : decode cX0_rubbingOf 39 = .ok (.dup, 1) := dk_89 (dk_at dksX0_rubbingOf_2 3 rfl rfl)
theorem dX0_rubbingOf_40 : decode cX0_rubbingOf 40 = .ok (.invokespecial 21, 3) := dk_183 0 21 (dk_at dksX0_rubbingOf_2 4 rfl rfl)
theorem dX0_rubbingOf_43 : decode cX0_rubbingOf 43 = .ok (.areturn, 1) := dk_176 (dk_at dksX0_rubbingOf_2 7 rfl rfl)
theorem dX0_rubbingOf_44 : decode cX0_rubbingOf 44 = .ok (.new 25, 3) := dk_187 0 25 (dk_at dksX0_rubbingOf_2 8 rfl rfl)
theorem dX0_rubbingOf_47 : decode cX0_rubbingOf 47 = .ok (.dup, 1) := dk_89 (dk_at dksX0_rubbingOf_2 11 rfl rfl)
theorem dX0_rubbingOf_48 : decode cX0_rubbingOf 48 = .ok (.invokespecial 27, 3) := dk_183 0 27 (dk_at dksX0_rubbingOf_2 12 rfl rfl)
theorem dX0_rubbingOf_51 : decode cX0_rubbingOf 51 = .ok (.areturn, 1) := dk_176 (dk_at dksX0_rubbingOf_2 15 rfl rfl)
theorem dX0_rubbingOf_52 : decode cX0_rubbingOf 52 = .ok (.new 28, 3) := dk_187 0 28 (dk_at dksX0_rubbingOf_2 16 rfl rfl)
theorem dX0_rubbingOf_55 : decode cX0_rubbingOf 55 = .ok (.dup, 1) := dk_89 (dk_at dksX0_rubbingOf_2 19 rfl rfl)
theorem dX0_rubbingOf_56 : decode cX0_rubbingOf 56 = .ok (.invokespecial 30, 3) := dk_183 0 30 (dk_at dksX0_rubbingOf_2 20 rfl rfl)
theorem dX0_rubbingOf_59 : decode cX0_rubbingOf 59 = .ok (.areturn, 1) := dk_176 (dk_at dksX0_rubbingOf_2 23 rfl rfl)
theorem dX0_rubbingOf_60 : decode cX0_rubbingOf 60 = .ok (.new 31, 3) := dk_187 0 31 (dk_at dksX0_rubbingOf_3 0 rfl rfl)
theorem dX0_rubbingOf_63 : decode cX0_rubbingOf 63 = .ok (.dup, 1) := dk_89 (dk_at dksX0_rubbingOf_3 3 rfl rfl)
theorem dX0_rubbingOf_64 : decode cX0_rubbingOf 64 = .ok (.invokespecial 33, 3) := dk_183 0 33 (dk_at dksX0_rubbingOf_3 4 rfl rfl)
theorem dX0_rubbingOf_67 : decode cX0_rubbingOf 67 = .ok (.areturn, 1) := dk_176 (dk_at dksX0_rubbingOf_3 7 rfl rfl)
theorem dX0_rubbingOf_68 : decode cX0_rubbingOf 68 = .ok (.new 34, 3) := dk_187 0 34 (dk_at dksX0_rubbingOf_3 8 rfl rfl)
theorem dX0_rubbingOf_71 : decode cX0_rubbingOf 71 = .ok (.dup, 1) := dk_89 (dk_at dksX0_rubbingOf_3 11 rfl rfl)
theorem dX0_rubbingOf_72 : decode cX0_rubbingOf 72 = .ok (.invokespecial 36, 3) := dk_183 0 36 (dk_at dksX0_rubbingOf_3 12 rfl rfl)
theorem dX0_rubbingOf_75 : decode cX0_rubbingOf 75 = .ok (.areturn, 1) := dk_176 (dk_at dksX0_rubbingOf_3 15 rfl rfl)
theorem dX0_rubbingOf_76 : decode cX0_rubbingOf 76 = .ok (.new 37, 3) := dk_187 0 37 (dk_at dksX0_rubbingOf_3 16 rfl rfl)
theorem dX0_rubbingOf_79 : decode cX0_rubbingOf 79 = .ok (.dup, 1) := dk_89 (dk_at dksX0_rubbingOf_3 19 rfl rfl)
theorem dX0_rubbingOf_80 : decode cX0_rubbingOf 80 = .ok (.invokespecial 39, 3) := dk_183 0 39 (dk_at dksX0_rubbingOf_3 20 rfl rfl)
theorem dX0_rubbingOf_83 : decode cX0_rubbingOf 83 = .ok (.areturn, 1) := dk_176 (dk_at dksX0_rubbingOf_3 23 rfl rfl)
abbrev cX0_told : ByteArray := prog_1_method_38_code
def yX0_told : MethodName := ⟨RX0, "told", "(II)I"⟩
def dkwX0_told_4 : List UInt8 := [182, 1, 57, 172, 45, 182, 1, 61, 172, 45, 182, 1, 64, 172, 18, 139, 172]
abbrev dktX0_told_4 : List UInt8 := dkwX0_told_4 ++ []
def dkwX0_told_3 : List UInt8 := [167, 0, 4, 3, 172, 45, 180, 1, 30, 172, 45, 180, 1, 27, 172, 45, 182, 1, 54, 172, 42, 45]
abbrev dktX0_told_3 : List UInt8 := dkwX0_told_3 ++ dktX0_told_4
def dkwX0_told_2 : List UInt8 := [45, 182, 1, 47, 172, 45, 180, 1, 14, 172, 45, 180, 1, 17, 172, 45, 180, 1, 50, 153, 0, 7, 4]
abbrev dktX0_told_2 : List UInt8 := dkwX0_told_2 ++ dktX0_told_3
def dkwX0_told_1 : List UInt8 := [170, 0, 0, 0, 0, 113, 0, 0, 0, 0, 0, 0, 0, 9, 0, 0, 0, 54, 0, 0, 0, 59, 0, 0, 0, 64, 0, 0, 0, 69, 0, 0, 0, 82, 0, 0, 0, 87, 0, 0, 0, 92, 0, 0, 0, 97, 0, 0, 0, 103, 0, 0, 0, 108]
abbrev dktX0_told_1 : List UInt8 := dkwX0_told_1 ++ dktX0_told_2
def dkwX0_told_0 : List UInt8 := [42, 27, 182, 1, 44, 154, 0, 6, 18, 139, 172, 42, 180, 0, 52, 180, 1, 6, 27, 50, 78, 28]
abbrev dktX0_told_0 : List UInt8 := dkwX0_told_0 ++ dktX0_told_1
theorem dksX0_told_0 : cX0_told.data.toList.drop 0 = dktX0_told_0 := by decide +kernel
theorem dksX0_told_1 : cX0_told.data.toList.drop 22 = dktX0_told_1 := dk_seg dksX0_told_0 22 rfl rfl
theorem dksX0_told_2 : cX0_told.data.toList.drop 76 = dktX0_told_2 := dk_seg dksX0_told_1 54 rfl rfl
theorem dksX0_told_3 : cX0_told.data.toList.drop 99 = dktX0_told_3 := dk_seg dksX0_told_2 23 rfl rfl
theorem dksX0_told_4 : cX0_told.data.toList.drop 121 = dktX0_told_4 := dk_seg dksX0_told_3 22 rfl rfl
theorem dX0_told_0 : decode cX0_told 0 = .ok (.aload_n 0, 1) := dk_42 (dk_at dksX0_told_0 0 rfl rfl)
theorem dX0_told_1 : decode cX0_told 1 = .ok (.iload_n 1, 1) := dk_27 (dk_at dksX0_told_0 1 rfl rfl)
theorem dX0_told_2 : decode cX0_told 2 = .ok (.invokevirtual 300, 3) := dk_182 1 44 (dk_at dksX0_told_0 2 rfl rfl)
theorem dX0_told_5 : decode cX0_told 5 = .ok (.ifCond .ne 6, 3) := dk_154 0 6 (dk_at dksX0_told_0 5 rfl rfl)
theorem dX0_told_8 : decode cX0_told 8 = .ok (.ldc 139, 2) := dk_18 139 (dk_at dksX0_told_0 8 rfl rfl)
theorem dX0_told_10 : decode cX0_told 10 = .ok (.ireturn, 1) := dk_172 (dk_at dksX0_told_0 10 rfl rfl)
theorem dX0_told_11 : decode cX0_told 11 = .ok (.aload_n 0, 1) := dk_42 (dk_at dksX0_told_0 11 rfl rfl)
theorem dX0_told_12 : decode cX0_told 12 = .ok (.getfield 52, 3) := dk_180 0 52 (dk_at dksX0_told_0 12 rfl rfl)
theorem dX0_told_15 : decode cX0_told 15 = .ok (.getfield 262, 3) := dk_180 1 6 (dk_at dksX0_told_0 15 rfl rfl)
theorem dX0_told_18 : decode cX0_told 18 = .ok (.iload_n 1, 1) := dk_27 (dk_at dksX0_told_0 18 rfl rfl)
theorem dX0_told_19 : decode cX0_told 19 = .ok (.aaload, 1) := dk_50 (dk_at dksX0_told_0 19 rfl rfl)
theorem dX0_told_20 : decode cX0_told 20 = .ok (.astore_n 3, 1) := dk_78 (dk_at dksX0_told_0 20 rfl rfl)
theorem dX0_told_21 : decode cX0_told 21 = .ok (.iload_n 2, 1) := dk_28 (dk_at dksX0_told_0 21 rfl rfl)
theorem dX0_told_22 : decode cX0_told 22 = .ok (.tableswitch 113 0 9 #[54, 59, 64, 69, 82, 87, 92, 97, 103, 108], 54) := by decide +kernel
theorem dX0_told_76 : decode cX0_told 76 = .ok (.aload_n 3, 1) := dk_45 (dk_at dksX0_told_2 0 rfl rfl)
theorem dX0_told_77 : decode cX0_told 77 = .ok (.invokevirtual 303, 3) := dk_182 1 47 (dk_at dksX0_told_2 1 rfl rfl)
theorem dX0_told_80 : decode cX0_told 80 = .ok (.ireturn, 1) := dk_172 (dk_at dksX0_told_2 4 rfl rfl)
theorem dX0_told_81 : decode cX0_told 81 = .ok (.aload_n 3, 1) := dk_45 (dk_at dksX0_told_2 5 rfl rfl)
theorem dX0_told_82 : decode cX0_told 82 = .ok (.getfield 270, 3) := dk_180 1 14 (dk_at dksX0_told_2 6 rfl rfl)
theorem dX0_told_85 : decode cX0_told 85 = .ok (.ireturn, 1) := dk_172 (dk_at dksX0_told_2 9 rfl rfl)
theorem dX0_told_86 : decode cX0_told 86 = .ok (.aload_n 3, 1) := dk_45 (dk_at dksX0_told_2 10 rfl rfl)
theorem dX0_told_87 : decode cX0_told 87 = .ok (.getfield 273, 3) := dk_180 1 17 (dk_at dksX0_told_2 11 rfl rfl)
theorem dX0_told_90 : decode cX0_told 90 = .ok (.ireturn, 1) := dk_172 (dk_at dksX0_told_2 14 rfl rfl)
theorem dX0_told_91 : decode cX0_told 91 = .ok (.aload_n 3, 1) := dk_45 (dk_at dksX0_told_2 15 rfl rfl)
theorem dX0_told_92 : decode cX0_told 92 = .ok (.getfield 306, 3) := dk_180 1 50 (dk_at dksX0_told_2 16 rfl rfl)
theorem dX0_told_95 : decode cX0_told 95 = .ok (.ifCond .eq 7, 3) := dk_153 0 7 (dk_at dksX0_told_2 19 rfl rfl)
theorem dX0_told_98 : decode cX0_told 98 = .ok (.iconst 1, 1) := dk_4 (dk_at dksX0_told_2 22 rfl rfl)
theorem dX0_told_99 : decode cX0_told 99 = .ok (.goto 4, 3) := dk_167 0 4 (dk_at dksX0_told_3 0 rfl rfl)
theorem dX0_told_102 : decode cX0_told 102 = .ok (.iconst 0, 1) := dk_3 (dk_at dksX0_told_3 3 rfl rfl)
theorem dX0_told_103 : decode cX0_told 103 = .ok (.ireturn, 1) := dk_172 (dk_at dksX0_told_3 4 rfl rfl)
theorem dX0_told_104 : decode cX0_told 104 = .ok (.aload_n 3, 1) := dk_45 (dk_at dksX0_told_3 5 rfl rfl)
theorem dX0_told_105 : decode cX0_told 105 = .ok (.getfield 286, 3) := dk_180 1 30 (dk_at dksX0_told_3 6 rfl rfl)
theorem dX0_told_108 : decode cX0_told 108 = .ok (.ireturn, 1) := dk_172 (dk_at dksX0_told_3 9 rfl rfl)
theorem dX0_told_109 : decode cX0_told 109 = .ok (.aload_n 3, 1) := dk_45 (dk_at dksX0_told_3 10 rfl rfl)
theorem dX0_told_110 : decode cX0_told 110 = .ok (.getfield 283, 3) := dk_180 1 27 (dk_at dksX0_told_3 11 rfl rfl)
theorem dX0_told_113 : decode cX0_told 113 = .ok (.ireturn, 1) := dk_172 (dk_at dksX0_told_3 14 rfl rfl)
theorem dX0_told_114 : decode cX0_told 114 = .ok (.aload_n 3, 1) := dk_45 (dk_at dksX0_told_3 15 rfl rfl)
theorem dX0_told_115 : decode cX0_told 115 = .ok (.invokevirtual 310, 3) := dk_182 1 54 (dk_at dksX0_told_3 16 rfl rfl)
theorem dX0_told_118 : decode cX0_told 118 = .ok (.ireturn, 1) := dk_172 (dk_at dksX0_told_3 19 rfl rfl)
theorem dX0_told_119 : decode cX0_told 119 = .ok (.aload_n 0, 1) := dk_42 (dk_at dksX0_told_3 20 rfl rfl)
theorem dX0_told_120 : decode cX0_told 120 = .ok (.aload_n 3, 1) := dk_45 (dk_at dksX0_told_3 21 rfl rfl)
theorem dX0_told_121 : decode cX0_told 121 = .ok (.invokevirtual 313, 3) := dk_182 1 57 (dk_at dksX0_told_4 0 rfl rfl)
theorem dX0_told_124 : decode cX0_told 124 = .ok (.ireturn, 1) := dk_172 (dk_at dksX0_told_4 3 rfl rfl)
theorem dX0_told_125 : decode cX0_told 125 = .ok (.aload_n 3, 1) := dk_45 (dk_at dksX0_told_4 4 rfl rfl)
theorem dX0_told_126 : decode cX0_told 126 = .ok (.invokevirtual 317, 3) := dk_182 1 61 (dk_at dksX0_told_4 5 rfl rfl)
theorem dX0_told_129 : decode cX0_told 129 = .ok (.ireturn, 1) := dk_172 (dk_at dksX0_told_4 8 rfl rfl)
theorem dX0_told_130 : decode cX0_told 130 = .ok (.aload_n 3, 1) := dk_45 (dk_at dksX0_told_4 9 rfl rfl)
theorem dX0_told_131 : decode cX0_told 131 = .ok (.invokevirtual 320, 3) := dk_182 1 64 (dk_at dksX0_told_4 10 rfl rfl)
theorem dX0_told_134 : decode cX0_told 134 = .ok (.ireturn, 1) := dk_172 (dk_at dksX0_told_4 13 rfl rfl)
theorem dX0_told_135 : decode cX0_told 135 = .ok (.ldc 139, 2) := dk_18 139 (dk_at dksX0_told_4 14 rfl rfl)
theorem dX0_told_137 : decode cX0_told 137 = .ok (.ireturn, 1) := dk_172 (dk_at dksX0_told_4 16 rfl rfl)
abbrev cX0_isRubbing : ByteArray := prog_1_method_8_code
def yX0_isRubbing : MethodName := ⟨RX0, "isRubbing", "(I)Z"⟩
def dkwX0_isRubbing_0 : List UInt8 := [27, 3, 42, 180, 0, 52, 180, 0, 110, 4, 100, 184, 0, 114, 172]
abbrev dktX0_isRubbing_0 : List UInt8 := dkwX0_isRubbing_0 ++ []
theorem dksX0_isRubbing_0 : cX0_isRubbing.data.toList.drop 0 = dktX0_isRubbing_0 := by decide +kernel
theorem dX0_isRubbing_0 : decode cX0_isRubbing 0 = .ok (.iload_n 1, 1) := dk_27 (dk_at dksX0_isRubbing_0 0 rfl rfl)
theorem dX0_isRubbing_1 : decode cX0_isRubbing 1 = .ok (.iconst 0, 1) := dk_3 (dk_at dksX0_isRubbing_0 1 rfl rfl)
theorem dX0_isRubbing_2 : decode cX0_isRubbing 2 = .ok (.aload_n 0, 1) := dk_42 (dk_at dksX0_isRubbing_0 2 rfl rfl)
theorem dX0_isRubbing_3 : decode cX0_isRubbing 3 = .ok (.getfield 52, 3) := dk_180 0 52 (dk_at dksX0_isRubbing_0 3 rfl rfl)
theorem dX0_isRubbing_6 : decode cX0_isRubbing 6 = .ok (.getfield 110, 3) := dk_180 0 110 (dk_at dksX0_isRubbing_0 6 rfl rfl)
theorem dX0_isRubbing_9 : decode cX0_isRubbing 9 = .ok (.iconst 1, 1) := dk_4 (dk_at dksX0_isRubbing_0 9 rfl rfl)
theorem dX0_isRubbing_10 : decode cX0_isRubbing 10 = .ok (.isub, 1) := dk_100 (dk_at dksX0_isRubbing_0 10 rfl rfl)
theorem dX0_isRubbing_11 : decode cX0_isRubbing 11 = .ok (.invokestatic 114, 3) := dk_184 0 114 (dk_at dksX0_isRubbing_0 11 rfl rfl)
theorem dX0_isRubbing_14 : decode cX0_isRubbing 14 = .ok (.ireturn, 1) := dk_172 (dk_at dksX0_isRubbing_0 14 rfl rfl)
abbrev cX0_gainOf : ByteArray := prog_1_method_37_code
def yX0_gainOf : MethodName := ⟨RX0, "gainOf", "(LStoneSheets$Rubbing;)I"⟩
def dkwX0_gainOf_3 : List UInt8 := [184, 1, 41, 182, 1, 24, 172]
abbrev dktX0_gainOf_3 : List UInt8 := dkwX0_gainOf_3 ++ []
def dkwX0_gainOf_2 : List UInt8 := [180, 1, 30, 79, 43, 42, 42, 180, 0, 52, 180, 0, 249, 28, 50, 180, 1, 33, 182, 1, 37, 3, 16, 99]
abbrev dktX0_gainOf_2 : List UInt8 := dkwX0_gainOf_2 ++ dktX0_gainOf_3
def dkwX0_gainOf_1 : List UInt8 := [180, 1, 27, 79, 42, 180, 0, 80, 16, 115, 43, 180, 1, 17, 79, 42, 180, 0, 80, 16, 108, 43]
abbrev dktX0_gainOf_1 : List UInt8 := dkwX0_gainOf_1 ++ dktX0_gainOf_2
def dkwX0_gainOf_0 : List UInt8 := [42, 3, 182, 1, 0, 61, 28, 2, 160, 0, 9, 43, 6, 182, 1, 24, 172, 42, 180, 0, 80, 16, 116, 43]
abbrev dktX0_gainOf_0 : List UInt8 := dkwX0_gainOf_0 ++ dktX0_gainOf_1
theorem dksX0_gainOf_0 : cX0_gainOf.data.toList.drop 0 = dktX0_gainOf_0 := by decide +kernel
theorem dksX0_gainOf_1 : cX0_gainOf.data.toList.drop 24 = dktX0_gainOf_1 := dk_seg dksX0_gainOf_0 24 rfl rfl
theorem dksX0_gainOf_2 : cX0_gainOf.data.toList.drop 46 = dktX0_gainOf_2 := dk_seg dksX0_gainOf_1 22 rfl rfl
theorem dksX0_gainOf_3 : cX0_gainOf.data.toList.drop 70 = dktX0_gainOf_3 := dk_seg dksX0_gainOf_2 24 rfl rfl
theorem dX0_gainOf_0 : decode cX0_gainOf 0 = .ok (.aload_n 0, 1) := dk_42 (dk_at dksX0_gainOf_0 0 rfl rfl)
theorem dX0_gainOf_1 : decode cX0_gainOf 1 = .ok (.iconst 0, 1) := dk_3 (dk_at dksX0_gainOf_0 1 rfl rfl)
theorem dX0_gainOf_2 : decode cX0_gainOf 2 = .ok (.invokevirtual 256, 3) := dk_182 1 0 (dk_at dksX0_gainOf_0 2 rfl rfl)
theorem dX0_gainOf_5 : decode cX0_gainOf 5 = .ok (.istore_n 2, 1) := dk_61 (dk_at dksX0_gainOf_0 5 rfl rfl)
theorem dX0_gainOf_6 : decode cX0_gainOf 6 = .ok (.iload_n 2, 1) := dk_28 (dk_at dksX0_gainOf_0 6 rfl rfl)
theorem dX0_gainOf_7 : decode cX0_gainOf 7 = .ok (.iconst (-1), 1) := dk_2 (dk_at dksX0_gainOf_0 7 rfl rfl)
theorem dX0_gainOf_8 : decode cX0_gainOf 8 = .ok (.if_icmp .ne 9, 3) := dk_160 0 9 (dk_at dksX0_gainOf_0 8 rfl rfl)
theorem dX0_gainOf_11 : decode cX0_gainOf 11 = .ok (.aload_n 1, 1) := dk_43 (dk_at dksX0_gainOf_0 11 rfl rfl)
theorem dX0_gainOf_12 : decode cX0_gainOf 12 = .ok (.iconst 3, 1) := dk_6 (dk_at dksX0_gainOf_0 12 rfl rfl)
theorem dX0_gainOf_13 : decode cX0_gainOf 13 = .ok (.invokevirtual 280, 3) := dk_182 1 24 (dk_at dksX0_gainOf_0 13 rfl rfl)
theorem dX0_gainOf_16 : decode cX0_gainOf 16 = .ok (.ireturn, 1) := dk_172 (dk_at dksX0_gainOf_0 16 rfl rfl)
theorem dX0_gainOf_17 : decode cX0_gainOf 17 = .ok (.aload_n 0, 1) := dk_42 (dk_at dksX0_gainOf_0 17 rfl rfl)
theorem dX0_gainOf_18 : decode cX0_gainOf 18 = .ok (.getfield 80, 3) := dk_180 0 80 (dk_at dksX0_gainOf_0 18 rfl rfl)
theorem dX0_gainOf_21 : decode cX0_gainOf 21 = .ok (.bipush 116, 2) := dk_16 116 (dk_at dksX0_gainOf_0 21 rfl rfl)
theorem dX0_gainOf_23 : decode cX0_gainOf 23 = .ok (.aload_n 1, 1) := dk_43 (dk_at dksX0_gainOf_0 23 rfl rfl)
theorem dX0_gainOf_24 : decode cX0_gainOf 24 = .ok (.getfield 283, 3) := dk_180 1 27 (dk_at dksX0_gainOf_1 0 rfl rfl)
theorem dX0_gainOf_27 : decode cX0_gainOf 27 = .ok (.iastore, 1) := dk_79 (dk_at dksX0_gainOf_1 3 rfl rfl)
theorem dX0_gainOf_28 : decode cX0_gainOf 28 = .ok (.aload_n 0, 1) := dk_42 (dk_at dksX0_gainOf_1 4 rfl rfl)
theorem dX0_gainOf_29 : decode cX0_gainOf 29 = .ok (.getfield 80, 3) := dk_180 0 80 (dk_at dksX0_gainOf_1 5 rfl rfl)
theorem dX0_gainOf_32 : decode cX0_gainOf 32 = .ok (.bipush 115, 2) := dk_16 115 (dk_at dksX0_gainOf_1 8 rfl rfl)
theorem dX0_gainOf_34 : decode cX0_gainOf 34 = .ok (.aload_n 1, 1) := dk_43 (dk_at dksX0_gainOf_1 10 rfl rfl)
theorem dX0_gainOf_35 : decode cX0_gainOf 35 = .ok (.getfield 273, 3) := dk_180 1 17 (dk_at dksX0_gainOf_1 11 rfl rfl)
theorem dX0_gainOf_38 : decode cX0_gainOf 38 = .ok (.iastore, 1) := dk_79 (dk_at dksX0_gainOf_1 14 rfl rfl)
theorem dX0_gainOf_39 : decode cX0_gainOf 39 = .ok (.aload_n 0, 1) := dk_42 (dk_at dksX0_gainOf_1 15 rfl rfl)
theorem dX0_gainOf_40 : decode cX0_gainOf 40 = .ok (.getfield 80, 3) := dk_180 0 80 (dk_at dksX0_gainOf_1 16 rfl rfl)
theorem dX0_gainOf_43 : decode cX0_gainOf 43 = .ok (.bipush 108, 2) := dk_16 108 (dk_at dksX0_gainOf_1 19 rfl rfl)
theorem dX0_gainOf_45 : decode cX0_gainOf 45 = .ok (.aload_n 1, 1) := dk_43 (dk_at dksX0_gainOf_1 21 rfl rfl)
theorem dX0_gainOf_46 : decode cX0_gainOf 46 = .ok (.getfield 286, 3) := dk_180 1 30 (dk_at dksX0_gainOf_2 0 rfl rfl)
theorem dX0_gainOf_49 : decode cX0_gainOf 49 = .ok (.iastore, 1) := dk_79 (dk_at dksX0_gainOf_2 3 rfl rfl)
theorem dX0_gainOf_50 : decode cX0_gainOf 50 = .ok (.aload_n 1, 1) := dk_43 (dk_at dksX0_gainOf_2 4 rfl rfl)
theorem dX0_gainOf_51 : decode cX0_gainOf 51 = .ok (.aload_n 0, 1) := dk_42 (dk_at dksX0_gainOf_2 5 rfl rfl)
theorem dX0_gainOf_52 : decode cX0_gainOf 52 = .ok (.aload_n 0, 1) := dk_42 (dk_at dksX0_gainOf_2 6 rfl rfl)
theorem dX0_gainOf_53 : decode cX0_gainOf 53 = .ok (.getfield 52, 3) := dk_180 0 52 (dk_at dksX0_gainOf_2 7 rfl rfl)
theorem dX0_gainOf_56 : decode cX0_gainOf 56 = .ok (.getfield 249, 3) := dk_180 0 249 (dk_at dksX0_gainOf_2 10 rfl rfl)
theorem dX0_gainOf_59 : decode cX0_gainOf 59 = .ok (.iload_n 2, 1) := dk_28 (dk_at dksX0_gainOf_2 13 rfl rfl)
theorem dX0_gainOf_60 : decode cX0_gainOf 60 = .ok (.aaload, 1) := dk_50 (dk_at dksX0_gainOf_2 14 rfl rfl)
theorem dX0_gainOf_61 : decode cX0_gainOf 61 = .ok (.getfield 289, 3) := dk_180 1 33 (dk_at dksX0_gainOf_2 15 rfl rfl)
theorem dX0_gainOf_64 : decode cX0_gainOf 64 = .ok (.invokevirtual 293, 3) := dk_182 1 37 (dk_at dksX0_gainOf_2 18 rfl rfl)
theorem dX0_gainOf_67 : decode cX0_gainOf 67 = .ok (.iconst 0, 1) := dk_3 (dk_at dksX0_gainOf_2 21 rfl rfl)
theorem dX0_gainOf_68 : decode cX0_gainOf 68 = .ok (.bipush 99, 2) := dk_16 99 (dk_at dksX0_gainOf_2 22 rfl rfl)
theorem dX0_gainOf_70 : decode cX0_gainOf 70 = .ok (.invokestatic 297, 3) := dk_184 1 41 (dk_at dksX0_gainOf_3 0 rfl rfl)
theorem dX0_gainOf_73 : decode cX0_gainOf 73 = .ok (.invokevirtual 280, 3) := dk_182 1 24 (dk_at dksX0_gainOf_3 3 rfl rfl)
theorem dX0_gainOf_76 : decode cX0_gainOf 76 = .ok (.ireturn, 1) := dk_172 (dk_at dksX0_gainOf_3 6 rfl rfl)
abbrev cX0_reckon : ByteArray := prog_1_method_10_code
def yX0_reckon : MethodName := ⟨RX0, "reckon", "(LStoneSheets$Words;)I"⟩
def dkwX0_reckon_6 : List UInt8 := [180, 0, 65, 3, 46, 172]
abbrev dktX0_reckon_6 : List UInt8 := dkwX0_reckon_6 ++ []
def dkwX0_reckon_5 : List UInt8 := [180, 0, 65, 28, 4, 100, 46, 42, 180, 0, 65, 28, 46, 184, 0, 127, 79, 132, 3, 1, 167, 255, 124, 42]
abbrev dktX0_reckon_5 : List UInt8 := dkwX0_reckon_5 ++ dktX0_reckon_6
def dkwX0_reckon_4 : List UInt8 := [4, 167, 0, 4, 3, 79, 167, 0, 33, 132, 2, 255, 42, 180, 0, 65, 28, 4, 100, 21, 4, 42]
abbrev dktX0_reckon_4 : List UInt8 := dkwX0_reckon_4 ++ dktX0_reckon_5
def dkwX0_reckon_3 : List UInt8 := [21, 4, 6, 160, 0, 30, 42, 180, 0, 65, 28, 4, 100, 42, 180, 0, 65, 28, 4, 100, 46, 154, 0, 7]
abbrev dktX0_reckon_3 : List UInt8 := dkwX0_reckon_3 ++ dktX0_reckon_4
def dkwX0_reckon_2 : List UInt8 := [29, 46, 167, 0, 14, 42, 180, 0, 80, 43, 180, 0, 124, 29, 46, 46, 79, 132, 2, 1, 167, 0, 66]
abbrev dktX0_reckon_2 : List UInt8 := dkwX0_reckon_2 ++ dktX0_reckon_3
def dkwX0_reckon_1 : List UInt8 := [159, 0, 9, 21, 4, 5, 160, 0, 41, 42, 180, 0, 65, 28, 21, 4, 4, 160, 0, 12, 43, 180, 0, 124]
abbrev dktX0_reckon_1 : List UInt8 := dkwX0_reckon_1 ++ dktX0_reckon_2
def dkwX0_reckon_0 : List UInt8 := [3, 61, 3, 62, 29, 43, 180, 0, 118, 162, 0, 130, 43, 180, 0, 121, 29, 46, 54, 4, 21, 4, 4]
abbrev dktX0_reckon_0 : List UInt8 := dkwX0_reckon_0 ++ dktX0_reckon_1
theorem dksX0_reckon_0 : cX0_reckon.data.toList.drop 0 = dktX0_reckon_0 := by decide +kernel
theorem dksX0_reckon_1 : cX0_reckon.data.toList.drop 23 = dktX0_reckon_1 := dk_seg dksX0_reckon_0 23 rfl rfl
theorem dksX0_reckon_2 : cX0_reckon.data.toList.drop 47 = dktX0_reckon_2 := dk_seg dksX0_reckon_1 24 rfl rfl
theorem dksX0_reckon_3 : cX0_reckon.data.toList.drop 70 = dktX0_reckon_3 := dk_seg dksX0_reckon_2 23 rfl rfl
theorem dksX0_reckon_4 : cX0_reckon.data.toList.drop 94 = dktX0_reckon_4 := dk_seg dksX0_reckon_3 24 rfl rfl
theorem dksX0_reckon_5 : cX0_reckon.data.toList.drop 116 = dktX0_reckon_5 := dk_seg dksX0_reckon_4 22 rfl rfl
theorem dksX0_reckon_6 : cX0_reckon.data.toList.drop 140 = dktX0_reckon_6 := dk_seg dksX0_reckon_5 24 rfl rfl
theorem dX0_reckon_0 : decode cX0_reckon 0 = .ok (.iconst 0, 1) := dk_3 (dk_at dksX0_reckon_0 0 rfl rfl)
theorem dX0_reckon_1 : decode cX0_reckon 1 = .ok (.istore_n 2, 1) := dk_61 (dk_at dksX0_reckon_0 1 rfl rfl)
theorem dX0_reckon_2 : decode cX0_reckon 2 = .ok (.iconst 0, 1) := dk_3 (dk_at dksX0_reckon_0 2 rfl rfl)
theorem dX0_reckon_3 : decode cX0_reckon 3 = .ok (.istore_n 3, 1) := dk_62 (dk_at dksX0_reckon_0 3 rfl rfl)
theorem dX0_reckon_4 : decode cX0_reckon 4 = .ok (.iload_n 3, 1) := dk_29 (dk_at dksX0_reckon_0 4 rfl rfl)
theorem dX0_reckon_5 : decode cX0_reckon 5 = .ok (.aload_n 1, 1) := dk_43 (dk_at dksX0_reckon_0 5 rfl rfl)
theorem dX0_reckon_6 : decode cX0_reckon 6 = .ok (.getfield 118, 3) := dk_180 0 118 (dk_at dksX0_reckon_0 6 rfl rfl)
theorem dX0_reckon_9 : decode cX0_reckon 9 = .ok (.if_icmp .ge 130, 3) := dk_162 0 130 (dk_at dksX0_reckon_0 9 rfl rfl)
theorem dX0_reckon_12 : decode cX0_reckon 12 = .ok (.aload_n 1, 1) := dk_43 (dk_at dksX0_reckon_0 12 rfl rfl)
theorem dX0_reckon_13 : decode cX0_reckon 13 = .ok (.getfield 121, 3) := dk_180 0 121 (dk_at dksX0_reckon_0 13 rfl rfl)
theorem dX0_reckon_16 : decode cX0_reckon 16 = .ok (.iload_n 3, 1) := dk_29 (dk_at dksX0_reckon_0 16 rfl rfl)
theorem dX0_reckon_17 : decode cX0_reckon 17 = .ok (.iaload, 1) := dk_46 (dk_at dksX0_reckon_0 17 rfl rfl)
theorem dX0_reckon_18 : decode cX0_reckon 18 = .ok (.istore 4, 2) := dk_54 4 (dk_at dksX0_reckon_0 18 rfl rfl)
theorem dX0_reckon_20 : decode cX0_reckon 20 = .ok (.iload 4, 2) := dk_21 4 (dk_at dksX0_reckon_0 20 rfl rfl)
theorem dX0_reckon_22 : decode cX0_reckon 22 = .ok (.iconst 1, 1) := dk_4 (dk_at dksX0_reckon_0 22 rfl rfl)
theorem dX0_reckon_23 : decode cX0_reckon 23 = .ok (.if_icmp .eq 9, 3) := dk_159 0 9 (dk_at dksX0_reckon_1 0 rfl rfl)
theorem dX0_reckon_26 : decode cX0_reckon 26 = .ok (.iload 4, 2) := dk_21 4 (dk_at dksX0_reckon_1 3 rfl rfl)
theorem dX0_reckon_28 : decode cX0_reckon 28 = .ok (.iconst 2, 1) := dk_5 (dk_at dksX0_reckon_1 5 rfl rfl)
theorem dX0_reckon_29 : decode cX0_reckon 29 = .ok (.if_icmp .ne 41, 3) := dk_160 0 41 (dk_at dksX0_reckon_1 6 rfl rfl)
theorem dX0_reckon_32 : decode cX0_reckon 32 = .ok (.aload_n 0, 1) := dk_42 (dk_at dksX0_reckon_1 9 rfl rfl)
theorem dX0_reckon_33 : decode cX0_reckon 33 = .ok (.getfield 65, 3) := dk_180 0 65 (dk_at dksX0_reckon_1 10 rfl rfl)
theorem dX0_reckon_36 : decode cX0_reckon 36 = .ok (.iload_n 2, 1) := dk_28 (dk_at dksX0_reckon_1 13 rfl rfl)
theorem dX0_reckon_37 : decode cX0_reckon 37 = .ok (.iload 4, 2) := dk_21 4 (dk_at dksX0_reckon_1 14 rfl rfl)
theorem dX0_reckon_39 : decode cX0_reckon 39 = .ok (.iconst 1, 1) := dk_4 (dk_at dksX0_reckon_1 16 rfl rfl)
theorem dX0_reckon_40 : decode cX0_reckon 40 = .ok (.if_icmp .ne 12, 3) := dk_160 0 12 (dk_at dksX0_reckon_1 17 rfl rfl)
theorem dX0_reckon_43 : decode cX0_reckon 43 = .ok (.aload_n 1, 1) := dk_43 (dk_at dksX0_reckon_1 20 rfl rfl)
theorem dX0_reckon_44 : decode cX0_reckon 44 = .ok (.getfield 124, 3) := dk_180 0 124 (dk_at dksX0_reckon_1 21 rfl rfl)
theorem dX0_reckon_47 : decode cX0_reckon 47 = .ok (.iload_n 3, 1) := dk_29 (dk_at dksX0_reckon_2 0 rfl rfl)
theorem dX0_reckon_48 : decode cX0_reckon 48 = .ok (.iaload, 1) := dk_46 (dk_at dksX0_reckon_2 1 rfl rfl)
theorem dX0_reckon_49 : decode cX0_reckon 49 = .ok (.goto 14, 3) := dk_167 0 14 (dk_at dksX0_reckon_2 2 rfl rfl)
theorem dX0_reckon_52 : decode cX0_reckon 52 = .ok (.aload_n 0, 1) := dk_42 (dk_at dksX0_reckon_2 5 rfl rfl)
theorem dX0_reckon_53 : decode cX0_reckon 53 = .ok (.getfield 80, 3) := dk_180 0 80 (dk_at dksX0_reckon_2 6 rfl rfl)
theorem dX0_reckon_56 : decode cX0_reckon 56 = .ok (.aload_n 1, 1) := dk_43 (dk_at dksX0_reckon_2 9 rfl rfl)
theorem dX0_reckon_57 : decode cX0_reckon 57 = .ok (.getfield 124, 3) := dk_180 0 124 (dk_at dksX0_reckon_2 10 rfl rfl)
theorem dX0_reckon_60 : decode cX0_reckon 60 = .ok (.iload_n 3, 1) := dk_29 (dk_at dksX0_reckon_2 13 rfl rfl)
theorem dX0_reckon_61 : decode cX0_reckon 61 = .ok (.iaload, 1) := dk_46 (dk_at dksX0_reckon_2 14 rfl rfl)
theorem dX0_reckon_62 : decode cX0_reckon 62 = .ok (.iaload, 1) := dk_46 (dk_at dksX0_reckon_2 15 rfl rfl)
theorem dX0_reckon_63 : decode cX0_reckon 63 = .ok (.iastore, 1) := dk_79 (dk_at dksX0_reckon_2 16 rfl rfl)
theorem dX0_reckon_64 : decode cX0_reckon 64 = .ok (.iinc 2 1, 3) := dk_132 2 1 (dk_at dksX0_reckon_2 17 rfl rfl)
theorem dX0_reckon_67 : decode cX0_reckon 67 = .ok (.goto 66, 3) := dk_167 0 66 (dk_at dksX0_reckon_2 20 rfl rfl)
theorem dX0_reckon_70 : decode cX0_reckon 70 = .ok (.iload 4, 2) := dk_21 4 (dk_at dksX0_reckon_3 0 rfl rfl)
theorem dX0_reckon_72 : decode cX0_reckon 72 = .ok (.iconst 3, 1) := dk_6 (dk_at dksX0_reckon_3 2 rfl rfl)
theorem dX0_reckon_73 : decode cX0_reckon 73 = .ok (.if_icmp .ne 30, 3) := dk_160 0 30 (dk_at dksX0_reckon_3 3 rfl rfl)
theorem dX0_reckon_76 : decode cX0_reckon 76 = .ok (.aload_n 0, 1) := dk_42 (dk_at dksX0_reckon_3 6 rfl rfl)
theorem dX0_reckon_77 : decode cX0_reckon 77 = .ok (.getfield 65, 3) := dk_180 0 65 (dk_at dksX0_reckon_3 7 rfl rfl)
theorem dX0_reckon_80 : decode cX0_reckon 80 = .ok (.iload_n 2, 1) := dk_28 (dk_at dksX0_reckon_3 10 rfl rfl)
theorem dX0_reckon_81 : decode cX0_reckon 81 = .ok (.iconst 1, 1) := dk_4 (dk_at dksX0_reckon_3 11 rfl rfl)
theorem dX0_reckon_82 : decode cX0_reckon 82 = .ok (.isub, 1) := dk_100 (dk_at dksX0_reckon_3 12 rfl rfl)
theorem dX0_reckon_83 : decode cX0_reckon 83 = .ok (.aload_n 0, 1) := dk_42 (dk_at dksX0_reckon_3 13 rfl rfl)
theorem dX0_reckon_84 : decode cX0_reckon 84 = .ok (.getfield 65, 3) := dk_180 0 65 (dk_at dksX0_reckon_3 14 rfl rfl)
theorem dX0_reckon_87 : decode cX0_reckon 87 = .ok (.iload_n 2, 1) := dk_28 (dk_at dksX0_reckon_3 17 rfl rfl)
theorem dX0_reckon_88 : decode cX0_reckon 88 = .ok (.iconst 1, 1) := dk_4 (dk_at dksX0_reckon_3 18 rfl rfl)
theorem dX0_reckon_89 : decode cX0_reckon 89 = .ok (.isub, 1) := dk_100 (dk_at dksX0_reckon_3 19 rfl rfl)
theorem dX0_reckon_90 : decode cX0_reckon 90 = .ok (.iaload, 1) := dk_46 (dk_at dksX0_reckon_3 20 rfl rfl)
theorem dX0_reckon_91 : decode cX0_reckon 91 = .ok (.ifCond .ne 7, 3) := dk_154 0 7 (dk_at dksX0_reckon_3 21 rfl rfl)
theorem dX0_reckon_94 : decode cX0_reckon 94 = .ok (.iconst 1, 1) := dk_4 (dk_at dksX0_reckon_4 0 rfl rfl)
theorem dX0_reckon_95 : decode cX0_reckon 95 = .ok (.goto 4, 3) := dk_167 0 4 (dk_at dksX0_reckon_4 1 rfl rfl)
theorem dX0_reckon_98 : decode cX0_reckon 98 = .ok (.iconst 0, 1) := dk_3 (dk_at dksX0_reckon_4 4 rfl rfl)
theorem dX0_reckon_99 : decode cX0_reckon 99 = .ok (.iastore, 1) := dk_79 (dk_at dksX0_reckon_4 5 rfl rfl)
theorem dX0_reckon_100 : decode cX0_reckon 100 = .ok (.goto 33, 3) := dk_167 0 33 (dk_at dksX0_reckon_4 6 rfl rfl)
theorem dX0_reckon_103 : decode cX0_reckon 103 = .ok (.iinc 2 (-1), 3) := dk_132 2 255 (dk_at dksX0_reckon_4 9 rfl rfl)
theorem dX0_reckon_106 : decode cX0_reckon 106 = .ok (.aload_n 0, 1) := dk_42 (dk_at dksX0_reckon_4 12 rfl rfl)
theorem dX0_reckon_107 : decode cX0_reckon 107 = .ok (.getfield 65, 3) := dk_180 0 65 (dk_at dksX0_reckon_4 13 rfl rfl)
theorem dX0_reckon_110 : decode cX0_reckon 110 = .ok (.iload_n 2, 1) := dk_28 (dk_at dksX0_reckon_4 16 rfl rfl)
theorem dX0_reckon_111 : decode cX0_reckon 111 = .ok (.iconst 1, 1) := dk_4 (dk_at dksX0_reckon_4 17 rfl rfl)
theorem dX0_reckon_112 : decode cX0_reckon 112 = .ok (.isub, 1) := dk_100 (dk_at dksX0_reckon_4 18 rfl rfl)
theorem dX0_reckon_113 : decode cX0_reckon 113 = .ok (.iload 4, 2) := dk_21 4 (dk_at dksX0_reckon_4 19 rfl rfl)
theorem dX0_reckon_115 : decode cX0_reckon 115 = .ok (.aload_n 0, 1) := dk_42 (dk_at dksX0_reckon_4 21 rfl rfl)
theorem dX0_reckon_116 : decode cX0_reckon 116 = .ok (.getfield 65, 3) := dk_180 0 65 (dk_at dksX0_reckon_5 0 rfl rfl)
theorem dX0_reckon_119 : decode cX0_reckon 119 = .ok (.iload_n 2, 1) := dk_28 (dk_at dksX0_reckon_5 3 rfl rfl)
theorem dX0_reckon_120 : decode cX0_reckon 120 = .ok (.iconst 1, 1) := dk_4 (dk_at dksX0_reckon_5 4 rfl rfl)
theorem dX0_reckon_121 : decode cX0_reckon 121 = .ok (.isub, 1) := dk_100 (dk_at dksX0_reckon_5 5 rfl rfl)
theorem dX0_reckon_122 : decode cX0_reckon 122 = .ok (.iaload, 1) := dk_46 (dk_at dksX0_reckon_5 6 rfl rfl)
theorem dX0_reckon_123 : decode cX0_reckon 123 = .ok (.aload_n 0, 1) := dk_42 (dk_at dksX0_reckon_5 7 rfl rfl)
theorem dX0_reckon_124 : decode cX0_reckon 124 = .ok (.getfield 65, 3) := dk_180 0 65 (dk_at dksX0_reckon_5 8 rfl rfl)
theorem dX0_reckon_127 : decode cX0_reckon 127 = .ok (.iload_n 2, 1) := dk_28 (dk_at dksX0_reckon_5 11 rfl rfl)
theorem dX0_reckon_128 : decode cX0_reckon 128 = .ok (.iaload, 1) := dk_46 (dk_at dksX0_reckon_5 12 rfl rfl)
theorem dX0_reckon_129 : decode cX0_reckon 129 = .ok (.invokestatic 127, 3) := dk_184 0 127 (dk_at dksX0_reckon_5 13 rfl rfl)
theorem dX0_reckon_132 : decode cX0_reckon 132 = .ok (.iastore, 1) := dk_79 (dk_at dksX0_reckon_5 16 rfl rfl)
theorem dX0_reckon_133 : decode cX0_reckon 133 = .ok (.iinc 3 1, 3) := dk_132 3 1 (dk_at dksX0_reckon_5 17 rfl rfl)
theorem dX0_reckon_136 : decode cX0_reckon 136 = .ok (.goto (-132), 3) := dk_167 255 124 (dk_at dksX0_reckon_5 20 rfl rfl)
theorem dX0_reckon_139 : decode cX0_reckon 139 = .ok (.aload_n 0, 1) := dk_42 (dk_at dksX0_reckon_5 23 rfl rfl)
theorem dX0_reckon_140 : decode cX0_reckon 140 = .ok (.getfield 65, 3) := dk_180 0 65 (dk_at dksX0_reckon_6 0 rfl rfl)
theorem dX0_reckon_143 : decode cX0_reckon 143 = .ok (.iconst 0, 1) := dk_3 (dk_at dksX0_reckon_6 3 rfl rfl)
theorem dX0_reckon_144 : decode cX0_reckon 144 = .ok (.iaload, 1) := dk_46 (dk_at dksX0_reckon_6 4 rfl rfl)
theorem dX0_reckon_145 : decode cX0_reckon 145 = .ok (.ireturn, 1) := dk_172 (dk_at dksX0_reckon_6 5 rfl rfl)
abbrev cX0_both : ByteArray := prog_1_method_9_code
def yX0_both : MethodName := ⟨RX0, "both", "(III)I"⟩
def dkwX0_both_5 : List UInt8 := [154, 0, 7, 28, 153, 0, 7, 4, 167, 0, 4, 3, 172]
abbrev dktX0_both_5 : List UInt8 := dkwX0_both_5 ++ []
def dkwX0_both_4 : List UInt8 := [164, 0, 7, 4, 167, 0, 4, 3, 172, 27, 153, 0, 11, 28, 153, 0, 7, 4, 167, 0, 4, 3, 172, 27]
abbrev dktX0_both_4 : List UInt8 := dkwX0_both_4 ++ dktX0_both_5
def dkwX0_both_3 : List UInt8 := [27, 28, 162, 0, 7, 4, 167, 0, 4, 3, 172, 27, 28, 160, 0, 7, 4, 167, 0, 4, 3, 172, 27, 28]
abbrev dktX0_both_3 : List UInt8 := dkwX0_both_3 ++ dktX0_both_4
def dkwX0_both_2 : List UInt8 := [27, 28, 104, 172, 28, 154, 0, 7, 3, 167, 0, 6, 27, 28, 108, 172, 27, 28, 96, 172, 27, 28, 100, 172]
abbrev dktX0_both_2 : List UInt8 := dkwX0_both_2 ++ dktX0_both_3
def dkwX0_both_1 : List UInt8 := [170, 0, 0, 0, 0, 0, 122, 0, 0, 0, 4, 0, 0, 0, 12, 0, 0, 0, 51, 0, 0, 0, 67, 0, 0, 0, 71, 0, 0, 0, 75, 0, 0, 0, 86, 0, 0, 0, 97, 0, 0, 0, 108, 0, 0, 0, 122, 0, 0, 0, 55]
abbrev dktX0_both_1 : List UInt8 := dkwX0_both_1 ++ dktX0_both_2
def dkwX0_both_0 : List UInt8 := [26]
abbrev dktX0_both_0 : List UInt8 := dkwX0_both_0 ++ dktX0_both_1
theorem dksX0_both_0 : cX0_both.data.toList.drop 0 = dktX0_both_0 := by decide +kernel
theorem dksX0_both_1 : cX0_both.data.toList.drop 1 = dktX0_both_1 := dk_seg dksX0_both_0 1 rfl rfl
theorem dksX0_both_2 : cX0_both.data.toList.drop 52 = dktX0_both_2 := dk_seg dksX0_both_1 51 rfl rfl
theorem dksX0_both_3 : cX0_both.data.toList.drop 76 = dktX0_both_3 := dk_seg dksX0_both_2 24 rfl rfl
theorem dksX0_both_4 : cX0_both.data.toList.drop 100 = dktX0_both_4 := dk_seg dksX0_both_3 24 rfl rfl
theorem dksX0_both_5 : cX0_both.data.toList.drop 124 = dktX0_both_5 := dk_seg dksX0_both_4 24 rfl rfl
theorem dX0_both_0 : decode cX0_both 0 = .ok (.iload_n 0, 1) := dk_26 (dk_at dksX0_both_0 0 rfl rfl)
theorem dX0_both_1 : decode cX0_both 1 = .ok (.tableswitch 122 4 12 #[51, 67, 71, 75, 86, 97, 108, 122, 55], 51) := by decide +kernel
theorem dX0_both_52 : decode cX0_both 52 = .ok (.iload_n 1, 1) := dk_27 (dk_at dksX0_both_2 0 rfl rfl)
theorem dX0_both_53 : decode cX0_both 53 = .ok (.iload_n 2, 1) := dk_28 (dk_at dksX0_both_2 1 rfl rfl)
theorem dX0_both_54 : decode cX0_both 54 = .ok (.imul, 1) := dk_104 (dk_at dksX0_both_2 2 rfl rfl)
theorem dX0_both_55 : decode cX0_both 55 = .ok (.ireturn, 1) := dk_172 (dk_at dksX0_both_2 3 rfl rfl)
theorem dX0_both_56 : decode cX0_both 56 = .ok (.iload_n 2, 1) := dk_28 (dk_at dksX0_both_2 4 rfl rfl)
theorem dX0_both_57 : decode cX0_both 57 = .ok (.ifCond .ne 7, 3) := dk_154 0 7 (dk_at dksX0_both_2 5 rfl rfl)
theorem dX0_both_60 : decode cX0_both 60 = .ok (.iconst 0, 1) := dk_3 (dk_at dksX0_both_2 8 rfl rfl)
theorem dX0_both_61 : decode cX0_both 61 = .ok (.goto 6, 3) := dk_167 0 6 (dk_at dksX0_both_2 9 rfl rfl)
theorem dX0_both_64 : decode cX0_both 64 = .ok (.iload_n 1, 1) := dk_27 (dk_at dksX0_both_2 12 rfl rfl)
theorem dX0_both_65 : decode cX0_both 65 = .ok (.iload_n 2, 1) := dk_28 (dk_at dksX0_both_2 13 rfl rfl)
theorem dX0_both_66 : decode cX0_both 66 = .ok (.idiv, 1) := dk_108 (dk_at dksX0_both_2 14 rfl rfl)
theorem dX0_both_67 : decode cX0_both 67 = .ok (.ireturn, 1) := dk_172 (dk_at dksX0_both_2 15 rfl rfl)
theorem dX0_both_68 : decode cX0_both 68 = .ok (.iload_n 1, 1) := dk_27 (dk_at dksX0_both_2 16 rfl rfl)
theorem dX0_both_69 : decode cX0_both 69 = .ok (.iload_n 2, 1) := dk_28 (dk_at dksX0_both_2 17 rfl rfl)
theorem dX0_both_70 : decode cX0_both 70 = .ok (.iadd, 1) := dk_96 (dk_at dksX0_both_2 18 rfl rfl)
theorem dX0_both_71 : decode cX0_both 71 = .ok (.ireturn, 1) := dk_172 (dk_at dksX0_both_2 19 rfl rfl)
theorem dX0_both_72 : decode cX0_both 72 = .ok (.iload_n 1, 1) := dk_27 (dk_at dksX0_both_2 20 rfl rfl)
theorem dX0_both_73 : decode cX0_both 73 = .ok (.iload_n 2, 1) := dk_28 (dk_at dksX0_both_2 21 rfl rfl)
theorem dX0_both_74 : decode cX0_both 74 = .ok (.isub, 1) := dk_100 (dk_at dksX0_both_2 22 rfl rfl)
theorem dX0_both_75 : decode cX0_both 75 = .ok (.ireturn, 1) := dk_172 (dk_at dksX0_both_2 23 rfl rfl)
theorem dX0_both_76 : decode cX0_both 76 = .ok (.iload_n 1, 1) := dk_27 (dk_at dksX0_both_3 0 rfl rfl)
theorem dX0_both_77 : decode cX0_both 77 = .ok (.iload_n 2, 1) := dk_28 (dk_at dksX0_both_3 1 rfl rfl)
theorem dX0_both_78 : decode cX0_both 78 = .ok (.if_icmp .ge 7, 3) := dk_162 0 7 (dk_at dksX0_both_3 2 rfl rfl)
theorem dX0_both_81 : decode cX0_both 81 = .ok (.iconst 1, 1) := dk_4 (dk_at dksX0_both_3 5 rfl rfl)
theorem dX0_both_82 : decode cX0_both 82 = .ok (.goto 4, 3) := dk_167 0 4 (dk_at dksX0_both_3 6 rfl rfl)
theorem dX0_both_85 : decode cX0_both 85 = .ok (.iconst 0, 1) := dk_3 (dk_at dksX0_both_3 9 rfl rfl)
theorem dX0_both_86 : decode cX0_both 86 = .ok (.ireturn, 1) := dk_172 (dk_at dksX0_both_3 10 rfl rfl)
theorem dX0_both_87 : decode cX0_both 87 = .ok (.iload_n 1, 1) := dk_27 (dk_at dksX0_both_3 11 rfl rfl)
theorem dX0_both_88 : decode cX0_both 88 = .ok (.iload_n 2, 1) := dk_28 (dk_at dksX0_both_3 12 rfl rfl)
theorem dX0_both_89 : decode cX0_both 89 = .ok (.if_icmp .ne 7, 3) := dk_160 0 7 (dk_at dksX0_both_3 13 rfl rfl)
theorem dX0_both_92 : decode cX0_both 92 = .ok (.iconst 1, 1) := dk_4 (dk_at dksX0_both_3 16 rfl rfl)
theorem dX0_both_93 : decode cX0_both 93 = .ok (.goto 4, 3) := dk_167 0 4 (dk_at dksX0_both_3 17 rfl rfl)
theorem dX0_both_96 : decode cX0_both 96 = .ok (.iconst 0, 1) := dk_3 (dk_at dksX0_both_3 20 rfl rfl)
theorem dX0_both_97 : decode cX0_both 97 = .ok (.ireturn, 1) := dk_172 (dk_at dksX0_both_3 21 rfl rfl)
theorem dX0_both_98 : decode cX0_both 98 = .ok (.iload_n 1, 1) := dk_27 (dk_at dksX0_both_3 22 rfl rfl)
theorem dX0_both_99 : decode cX0_both 99 = .ok (.iload_n 2, 1) := dk_28 (dk_at dksX0_both_3 23 rfl rfl)
theorem dX0_both_100 : decode cX0_both 100 = .ok (.if_icmp .le 7, 3) := dk_164 0 7 (dk_at dksX0_both_4 0 rfl rfl)
theorem dX0_both_103 : decode cX0_both 103 = .ok (.iconst 1, 1) := dk_4 (dk_at dksX0_both_4 3 rfl rfl)
theorem dX0_both_104 : decode cX0_both 104 = .ok (.goto 4, 3) := dk_167 0 4 (dk_at dksX0_both_4 4 rfl rfl)
theorem dX0_both_107 : decode cX0_both 107 = .ok (.iconst 0, 1) := dk_3 (dk_at dksX0_both_4 7 rfl rfl)
theorem dX0_both_108 : decode cX0_both 108 = .ok (.ireturn, 1) := dk_172 (dk_at dksX0_both_4 8 rfl rfl)
theorem dX0_both_109 : decode cX0_both 109 = .ok (.iload_n 1, 1) := dk_27 (dk_at dksX0_both_4 9 rfl rfl)
theorem dX0_both_110 : decode cX0_both 110 = .ok (.ifCond .eq 11, 3) := dk_153 0 11 (dk_at dksX0_both_4 10 rfl rfl)
theorem dX0_both_113 : decode cX0_both 113 = .ok (.iload_n 2, 1) := dk_28 (dk_at dksX0_both_4 13 rfl rfl)
theorem dX0_both_114 : decode cX0_both 114 = .ok (.ifCond .eq 7, 3) := dk_153 0 7 (dk_at dksX0_both_4 14 rfl rfl)
theorem dX0_both_117 : decode cX0_both 117 = .ok (.iconst 1, 1) := dk_4 (dk_at dksX0_both_4 17 rfl rfl)
theorem dX0_both_118 : decode cX0_both 118 = .ok (.goto 4, 3) := dk_167 0 4 (dk_at dksX0_both_4 18 rfl rfl)
theorem dX0_both_121 : decode cX0_both 121 = .ok (.iconst 0, 1) := dk_3 (dk_at dksX0_both_4 21 rfl rfl)
theorem dX0_both_122 : decode cX0_both 122 = .ok (.ireturn, 1) := dk_172 (dk_at dksX0_both_4 22 rfl rfl)
theorem dX0_both_123 : decode cX0_both 123 = .ok (.iload_n 1, 1) := dk_27 (dk_at dksX0_both_4 23 rfl rfl)
theorem dX0_both_124 : decode cX0_both 124 = .ok (.ifCond .ne 7, 3) := dk_154 0 7 (dk_at dksX0_both_5 0 rfl rfl)
theorem dX0_both_127 : decode cX0_both 127 = .ok (.iload_n 2, 1) := dk_28 (dk_at dksX0_both_5 3 rfl rfl)
theorem dX0_both_128 : decode cX0_both 128 = .ok (.ifCond .eq 7, 3) := dk_153 0 7 (dk_at dksX0_both_5 4 rfl rfl)
theorem dX0_both_131 : decode cX0_both 131 = .ok (.iconst 1, 1) := dk_4 (dk_at dksX0_both_5 7 rfl rfl)
theorem dX0_both_132 : decode cX0_both 132 = .ok (.goto 4, 3) := dk_167 0 4 (dk_at dksX0_both_5 8 rfl rfl)
theorem dX0_both_135 : decode cX0_both 135 = .ok (.iconst 0, 1) := dk_3 (dk_at dksX0_both_5 11 rfl rfl)
theorem dX0_both_136 : decode cX0_both 136 = .ok (.ireturn, 1) := dk_172 (dk_at dksX0_both_5 12 rfl rfl)
abbrev cX0_within : ByteArray := prog_1_method_3_code
def yX0_within : MethodName := ⟨RX0, "within", "(III)I"⟩
def dkwX0_within_0 : List UInt8 := [27, 28, 26, 184, 0, 4, 184, 0, 10, 172]
abbrev dktX0_within_0 : List UInt8 := dkwX0_within_0 ++ []
theorem dksX0_within_0 : cX0_within.data.toList.drop 0 = dktX0_within_0 := by decide +kernel
theorem dX0_within_0 : decode cX0_within 0 = .ok (.iload_n 1, 1) := dk_27 (dk_at dksX0_within_0 0 rfl rfl)
theorem dX0_within_1 : decode cX0_within 1 = .ok (.iload_n 2, 1) := dk_28 (dk_at dksX0_within_0 1 rfl rfl)
theorem dX0_within_2 : decode cX0_within 2 = .ok (.iload_n 0, 1) := dk_26 (dk_at dksX0_within_0 2 rfl rfl)
theorem dX0_within_3 : decode cX0_within 3 = .ok (.invokestatic 4, 3) := dk_184 0 4 (dk_at dksX0_within_0 3 rfl rfl)
theorem dX0_within_6 : decode cX0_within 6 = .ok (.invokestatic 10, 3) := dk_184 0 10 (dk_at dksX0_within_0 6 rfl rfl)
theorem dX0_within_9 : decode cX0_within 9 = .ok (.ireturn, 1) := dk_172 (dk_at dksX0_within_0 9 rfl rfl)
abbrev cX0_says : ByteArray := prog_1_method_39_code
def yX0_says : MethodName := ⟨RX0, "says", "(II)I"⟩
def dkwX0_says_2 : List UInt8 := [172]
abbrev dktX0_says_2 : List UInt8 := dkwX0_says_2 ++ []
def dkwX0_says_1 : List UInt8 := [184, 0, 114, 153, 0, 19, 42, 180, 0, 52, 180, 1, 6, 27, 50, 28, 182, 1, 67, 167, 0, 5, 18, 139]
abbrev dktX0_says_1 : List UInt8 := dkwX0_says_1 ++ dktX0_says_2
def dkwX0_says_0 : List UInt8 := [42, 27, 182, 1, 44, 153, 0, 41, 28, 3, 42, 180, 0, 52, 180, 1, 6, 27, 50, 180, 1, 17, 4, 100]
abbrev dktX0_says_0 : List UInt8 := dkwX0_says_0 ++ dktX0_says_1
theorem dksX0_says_0 : cX0_says.data.toList.drop 0 = dktX0_says_0 := by decide +kernel
theorem dksX0_says_1 : cX0_says.data.toList.drop 24 = dktX0_says_1 := dk_seg dksX0_says_0 24 rfl rfl
theorem dksX0_says_2 : cX0_says.data.toList.drop 48 = dktX0_says_2 := dk_seg dksX0_says_1 24 rfl rfl
theorem dX0_says_0 : decode cX0_says 0 = .ok (.aload_n 0, 1) := dk_42 (dk_at dksX0_says_0 0 rfl rfl)
theorem dX0_says_1 : decode cX0_says 1 = .ok (.iload_n 1, 1) := dk_27 (dk_at dksX0_says_0 1 rfl rfl)
theorem dX0_says_2 : decode cX0_says 2 = .ok (.invokevirtual 300, 3) := dk_182 1 44 (dk_at dksX0_says_0 2 rfl rfl)
theorem dX0_says_5 : decode cX0_says 5 = .ok (.ifCond .eq 41, 3) := dk_153 0 41 (dk_at dksX0_says_0 5 rfl rfl)
theorem dX0_says_8 : decode cX0_says 8 = .ok (.iload_n 2, 1) := dk_28 (dk_at dksX0_says_0 8 rfl rfl)
theorem dX0_says_9 : decode cX0_says 9 = .ok (.iconst 0, 1) := dk_3 (dk_at dksX0_says_0 9 rfl rfl)
theorem dX0_says_10 : decode cX0_says 10 = .ok (.aload_n 0, 1) := dk_42 (dk_at dksX0_says_0 10 rfl rfl)
theorem dX0_says_11 : decode cX0_says 11 = .ok (.getfield 52, 3) := dk_180 0 52 (dk_at dksX0_says_0 11 rfl rfl)
theorem dX0_says_14 : decode cX0_says 14 = .ok (.getfield 262, 3) := dk_180 1 6 (dk_at dksX0_says_0 14 rfl rfl)
theorem dX0_says_17 : decode cX0_says 17 = .ok (.iload_n 1, 1) := dk_27 (dk_at dksX0_says_0 17 rfl rfl)
theorem dX0_says_18 : decode cX0_says 18 = .ok (.aaload, 1) := dk_50 (dk_at dksX0_says_0 18 rfl rfl)
theorem dX0_says_19 : decode cX0_says 19 = .ok (.getfield 273, 3) := dk_180 1 17 (dk_at dksX0_says_0 19 rfl rfl)
theorem dX0_says_22 : decode cX0_says 22 = .ok (.iconst 1, 1) := dk_4 (dk_at dksX0_says_0 22 rfl rfl)
theorem dX0_says_23 : decode cX0_says 23 = .ok (.isub, 1) := dk_100 (dk_at dksX0_says_0 23 rfl rfl)
theorem dX0_says_24 : decode cX0_says 24 = .ok (.invokestatic 114, 3) := dk_184 0 114 (dk_at dksX0_says_1 0 rfl rfl)
theorem dX0_says_27 : decode cX0_says 27 = .ok (.ifCond .eq 19, 3) := dk_153 0 19 (dk_at dksX0_says_1 3 rfl rfl)
theorem dX0_says_30 : decode cX0_says 30 = .ok (.aload_n 0, 1) := dk_42 (dk_at dksX0_says_1 6 rfl rfl)
theorem dX0_says_31 : decode cX0_says 31 = .ok (.getfield 52, 3) := dk_180 0 52 (dk_at dksX0_says_1 7 rfl rfl)
theorem dX0_says_34 : decode cX0_says 34 = .ok (.getfield 262, 3) := dk_180 1 6 (dk_at dksX0_says_1 10 rfl rfl)
theorem dX0_says_37 : decode cX0_says 37 = .ok (.iload_n 1, 1) := dk_27 (dk_at dksX0_says_1 13 rfl rfl)
theorem dX0_says_38 : decode cX0_says 38 = .ok (.aaload, 1) := dk_50 (dk_at dksX0_says_1 14 rfl rfl)
theorem dX0_says_39 : decode cX0_says 39 = .ok (.iload_n 2, 1) := dk_28 (dk_at dksX0_says_1 15 rfl rfl)
theorem dX0_says_40 : decode cX0_says 40 = .ok (.invokevirtual 323, 3) := dk_182 1 67 (dk_at dksX0_says_1 16 rfl rfl)
theorem dX0_says_43 : decode cX0_says 43 = .ok (.goto 5, 3) := dk_167 0 5 (dk_at dksX0_says_1 19 rfl rfl)
theorem dX0_says_46 : decode cX0_says 46 = .ok (.ldc 139, 2) := dk_18 139 (dk_at dksX0_says_1 22 rfl rfl)
theorem dX0_says_48 : decode cX0_says 48 = .ok (.ireturn, 1) := dk_172 (dk_at dksX0_says_2 0 rfl rfl)
abbrev cX0_as : ByteArray := prog_1_method_41_code
def yX0_as : MethodName := ⟨RX0, "as", "(II)I"⟩
def dkwX0_as_1 : List UInt8 := [180, 1, 6, 27, 50, 78, 45, 28, 184, 1, 70, 180, 1, 17, 172, 58, 4, 19, 1, 76, 172]
abbrev dktX0_as_1 : List UInt8 := dkwX0_as_1 ++ []
def dkwX0_as_0 : List UInt8 := [42, 27, 182, 1, 44, 153, 0, 12, 28, 3, 8, 184, 0, 114, 154, 0, 6, 18, 139, 172, 42, 180, 0, 52]
abbrev dktX0_as_0 : List UInt8 := dkwX0_as_0 ++ dktX0_as_1
theorem dksX0_as_0 : cX0_as.data.toList.drop 0 = dktX0_as_0 := by decide +kernel
theorem dksX0_as_1 : cX0_as.data.toList.drop 24 = dktX0_as_1 := dk_seg dksX0_as_0 24 rfl rfl
theorem dX0_as_0 : decode cX0_as 0 = .ok (.aload_n 0, 1) := dk_42 (dk_at dksX0_as_0 0 rfl rfl)
theorem dX0_as_1 : decode cX0_as 1 = .ok (.iload_n 1, 1) := dk_27 (dk_at dksX0_as_0 1 rfl rfl)
theorem dX0_as_2 : decode cX0_as 2 = .ok (.invokevirtual 300, 3) := dk_182 1 44 (dk_at dksX0_as_0 2 rfl rfl)
theorem dX0_as_5 : decode cX0_as 5 = .ok (.ifCond .eq 12, 3) := dk_153 0 12 (dk_at dksX0_as_0 5 rfl rfl)
theorem dX0_as_8 : decode cX0_as 8 = .ok (.iload_n 2, 1) := dk_28 (dk_at dksX0_as_0 8 rfl rfl)
theorem dX0_as_9 : decode cX0_as 9 = .ok (.iconst 0, 1) := dk_3 (dk_at dksX0_as_0 9 rfl rfl)
theorem dX0_as_10 : decode cX0_as 10 = .ok (.iconst 5, 1) := dk_8 (dk_at dksX0_as_0 10 rfl rfl)
theorem dX0_as_11 : decode cX0_as 11 = .ok (.invokestatic 114, 3) := dk_184 0 114 (dk_at dksX0_as_0 11 rfl rfl)
theorem dX0_as_14 : decode cX0_as 14 = .ok (.ifCond .ne 6, 3) := dk_154 0 6 (dk_at dksX0_as_0 14 rfl rfl)
theorem dX0_as_17 : decode cX0_as 17 = .ok (.ldc 139, 2) := dk_18 139 (dk_at dksX0_as_0 17 rfl rfl)
theorem dX0_as_19 : decode cX0_as 19 = .ok (.ireturn, 1) := dk_172 (dk_at dksX0_as_0 19 rfl rfl)
theorem dX0_as_20 : decode cX0_as 20 = .ok (.aload_n 0, 1) := dk_42 (dk_at dksX0_as_0 20 rfl rfl)
theorem dX0_as_21 : decode cX0_as 21 = .ok (.getfield 52, 3) := dk_180 0 52 (dk_at dksX0_as_0 21 rfl rfl)
theorem dX0_as_24 : decode cX0_as 24 = .ok (.getfield 262, 3) := dk_180 1 6 (dk_at dksX0_as_1 0 rfl rfl)
theorem dX0_as_27 : decode cX0_as 27 = .ok (.iload_n 1, 1) := dk_27 (dk_at dksX0_as_1 3 rfl rfl)
theorem dX0_as_28 : decode cX0_as 28 = .ok (.aaload, 1) := dk_50 (dk_at dksX0_as_1 4 rfl rfl)
theorem dX0_as_29 : decode cX0_as 29 = .ok (.astore_n 3, 1) := dk_78 (dk_at dksX0_as_1 5 rfl rfl)
theorem dX0_as_30 : decode cX0_as 30 = .ok (.aload_n 3, 1) := dk_45 (dk_at dksX0_as_1 6 rfl rfl)
theorem dX0_as_31 : decode cX0_as 31 = .ok (.iload_n 2, 1) := dk_28 (dk_at dksX0_as_1 7 rfl rfl)
theorem dX0_as_32 : decode cX0_as 32 = .ok (.invokestatic 326, 3) := dk_184 1 70 (dk_at dksX0_as_1 8 rfl rfl)
theorem dX0_as_35 : decode cX0_as 35 = .ok (.getfield 273, 3) := dk_180 1 17 (dk_at dksX0_as_1 11 rfl rfl)
theorem dX0_as_38 : decode cX0_as 38 = .ok (.ireturn, 1) := dk_172 (dk_at dksX0_as_1 14 rfl rfl)
theorem dX0_as_39 : decode cX0_as 39 = .ok (.astore 4, 2) := dk_58 4 (dk_at dksX0_as_1 15 rfl rfl)
theorem dX0_as_41 : decode cX0_as 41 = .ok (.ldc_w 332, 3) := dk_19 1 76 (dk_at dksX0_as_1 17 rfl rfl)
theorem dX0_as_44 : decode cX0_as 44 = .ok (.ireturn, 1) := dk_172 (dk_at dksX0_as_1 20 rfl rfl)
abbrev cX0_takenFor : ByteArray := prog_1_method_40_code
def yX0_takenFor : MethodName := ⟨RX0, "takenFor", "(Ljava/lang/Object;I)LStoneSheets$Rubbing;"⟩
def dkwX0_takenFor_3 : List UInt8 := [176, 42, 192, 0, 37, 176]
abbrev dktX0_takenFor_3 : List UInt8 := dkwX0_takenFor_3 ++ []
def dkwX0_takenFor_2 : List UInt8 := [42, 192, 0, 19, 176, 42, 192, 0, 25, 176, 42, 192, 0, 28, 176, 42, 192, 0, 31, 176, 42, 192, 0, 34]
abbrev dktX0_takenFor_2 : List UInt8 := dkwX0_takenFor_2 ++ dktX0_takenFor_3
def dkwX0_takenFor_1 : List UInt8 := [170, 0, 0, 0, 0, 0, 60, 0, 0, 0, 1, 0, 0, 0, 5, 0, 0, 0, 35, 0, 0, 0, 40, 0, 0, 0, 45, 0, 0, 0, 50, 0, 0, 0, 55]
abbrev dktX0_takenFor_1 : List UInt8 := dkwX0_takenFor_1 ++ dktX0_takenFor_2
def dkwX0_takenFor_0 : List UInt8 := [27]
abbrev dktX0_takenFor_0 : List UInt8 := dkwX0_takenFor_0 ++ dktX0_takenFor_1
theorem dksX0_takenFor_0 : cX0_takenFor.data.toList.drop 0 = dktX0_takenFor_0 := by decide +kernel
theorem dksX0_takenFor_1 : cX0_takenFor.data.toList.drop 1 = dktX0_takenFor_1 := dk_seg dksX0_takenFor_0 1 rfl rfl
theorem dksX0_takenFor_2 : cX0_takenFor.data.toList.drop 36 = dktX0_takenFor_2 := dk_seg dksX0_takenFor_1 35 rfl rfl
theorem dksX0_takenFor_3 : cX0_takenFor.data.toList.drop 60 = dktX0_takenFor_3 := dk_seg dksX0_takenFor_2 24 rfl rfl
theorem dX0_takenFor_0 : decode cX0_takenFor 0 = .ok (.iload_n 1, 1) := dk_27 (dk_at dksX0_takenFor_0 0 rfl rfl)
theorem dX0_takenFor_1 : decode cX0_takenFor 1 = .ok (.tableswitch 60 1 5 #[35, 40, 45, 50, 55], 35) := by decide +kernel
theorem dX0_takenFor_36 : decode cX0_takenFor 36 = .ok (.aload_n 0, 1) := dk_42 (dk_at dksX0_takenFor_2 0 rfl rfl)
theorem dX0_takenFor_37 : decode cX0_takenFor 37 = .ok (.checkcast 19, 3) := dk_192 0 19 (dk_at dksX0_takenFor_2 1 rfl rfl)
theorem dX0_takenFor_40 : decode cX0_takenFor 40 = .ok (.areturn, 1) := dk_176 (dk_at dksX0_takenFor_2 4 rfl rfl)
theorem dX0_takenFor_41 : decode cX0_takenFor 41 = .ok (.aload_n 0, 1) := dk_42 (dk_at dksX0_takenFor_2 5 rfl rfl)
theorem dX0_takenFor_42 : decode cX0_takenFor 42 = .ok (.checkcast 25, 3) := dk_192 0 25 (dk_at dksX0_takenFor_2 6 rfl rfl)
theorem dX0_takenFor_45 : decode cX0_takenFor 45 = .ok (.areturn, 1) := dk_176 (dk_at dksX0_takenFor_2 9 rfl rfl)
theorem dX0_takenFor_46 : decode cX0_takenFor 46 = .ok (.aload_n 0, 1) := dk_42 (dk_at dksX0_takenFor_2 10 rfl rfl)
theorem dX0_takenFor_47 : decode cX0_takenFor 47 = .ok (.checkcast 28, 3) := dk_192 0 28 (dk_at dksX0_takenFor_2 11 rfl rfl)
theorem dX0_takenFor_50 : decode cX0_takenFor 50 = .ok (.areturn, 1) := dk_176 (dk_at dksX0_takenFor_2 14 rfl rfl)
theorem dX0_takenFor_51 : decode cX0_takenFor 51 = .ok (.aload_n 0, 1) := dk_42 (dk_at dksX0_takenFor_2 15 rfl rfl)
theorem dX0_takenFor_52 : decode cX0_takenFor 52 = .ok (.checkcast 31, 3) := dk_192 0 31 (dk_at dksX0_takenFor_2 16 rfl rfl)
theorem dX0_takenFor_55 : decode cX0_takenFor 55 = .ok (.areturn, 1) := dk_176 (dk_at dksX0_takenFor_2 19 rfl rfl)
theorem dX0_takenFor_56 : decode cX0_takenFor 56 = .ok (.aload_n 0, 1) := dk_42 (dk_at dksX0_takenFor_2 20 rfl rfl)
theorem dX0_takenFor_57 : decode cX0_takenFor 57 = .ok (.checkcast 34, 3) := dk_192 0 34 (dk_at dksX0_takenFor_2 21 rfl rfl)
theorem dX0_takenFor_60 : decode cX0_takenFor 60 = .ok (.areturn, 1) := dk_176 (dk_at dksX0_takenFor_3 0 rfl rfl)
theorem dX0_takenFor_61 : decode cX0_takenFor 61 = .ok (.aload_n 0, 1) := dk_42 (dk_at dksX0_takenFor_3 1 rfl rfl)
theorem dX0_takenFor_62 : decode cX0_takenFor 62 = .ok (.checkcast 37, 3) := dk_192 0 37 (dk_at dksX0_takenFor_3 2 rfl rfl)
theorem dX0_takenFor_65 : decode cX0_takenFor 65 = .ok (.areturn, 1) := dk_176 (dk_at dksX0_takenFor_3 5 rfl rfl)
abbrev cX0_turns : ByteArray := prog_1_method_42_code
def yX0_turns : MethodName := ⟨RX0, "turns", "(II)I"⟩
def dkwX0_turns_2 : List UInt8 := [180, 1, 6, 27, 50, 45, 182, 1, 77, 45, 182, 1, 47, 172]
abbrev dktX0_turns_2 : List UInt8 := dkwX0_turns_2 ++ []
def dkwX0_turns_1 : List UInt8 := [180, 1, 6, 27, 50, 78, 42, 180, 0, 52, 180, 1, 6, 27, 28, 184, 1, 10, 83, 42, 180, 0, 52]
abbrev dktX0_turns_1 : List UInt8 := dkwX0_turns_1 ++ dktX0_turns_2
def dkwX0_turns_0 : List UInt8 := [42, 27, 182, 1, 44, 153, 0, 12, 28, 3, 8, 184, 0, 114, 154, 0, 6, 18, 139, 172, 42, 180, 0, 52]
abbrev dktX0_turns_0 : List UInt8 := dkwX0_turns_0 ++ dktX0_turns_1
theorem dksX0_turns_0 : cX0_turns.data.toList.drop 0 = dktX0_turns_0 := by decide +kernel
theorem dksX0_turns_1 : cX0_turns.data.toList.drop 24 = dktX0_turns_1 := dk_seg dksX0_turns_0 24 rfl rfl
theorem dksX0_turns_2 : cX0_turns.data.toList.drop 47 = dktX0_turns_2 := dk_seg dksX0_turns_1 23 rfl rfl
theorem dX0_turns_0 : decode cX0_turns 0 = .ok (.aload_n 0, 1) := dk_42 (dk_at dksX0_turns_0 0 rfl rfl)
theorem dX0_turns_1 : decode cX0_turns 1 = .ok (.iload_n 1, 1) := dk_27 (dk_at dksX0_turns_0 1 rfl rfl)
theorem dX0_turns_2 : decode cX0_turns 2 = .ok (.invokevirtual 300, 3) := dk_182 1 44 (dk_at dksX0_turns_0 2 rfl rfl)
theorem dX0_turns_5 : decode cX0_turns 5 = .ok (.ifCond .eq 12, 3) := dk_153 0 12 (dk_at dksX0_turns_0 5 rfl rfl)
theorem dX0_turns_8 : decode cX0_turns 8 = .ok (.iload_n 2, 1) := dk_28 (dk_at dksX0_turns_0 8 rfl rfl)
theorem dX0_turns_9 : decode cX0_turns 9 = .ok (.iconst 0, 1) := dk_3 (dk_at dksX0_turns_0 9 rfl rfl)
theorem dX0_turns_10 : decode cX0_turns 10 = .ok (.iconst 5, 1) := dk_8 (dk_at dksX0_turns_0 10 rfl rfl)
theorem dX0_turns_11 : decode cX0_turns 11 = .ok (.invokestatic 114, 3) := dk_184 0 114 (dk_at dksX0_turns_0 11 rfl rfl)
theorem dX0_turns_14 : decode cX0_turns 14 = .ok (.ifCond .ne 6, 3) := dk_154 0 6 (dk_at dksX0_turns_0 14 rfl rfl)
theorem dX0_turns_17 : decode cX0_turns 17 = .ok (.ldc 139, 2) := dk_18 139 (dk_at dksX0_turns_0 17 rfl rfl)
theorem dX0_turns_19 : decode cX0_turns 19 = .ok (.ireturn, 1) := dk_172 (dk_at dksX0_turns_0 19 rfl rfl)
theorem dX0_turns_20 : decode cX0_turns 20 = .ok (.aload_n 0, 1) := dk_42 (dk_at dksX0_turns_0 20 rfl rfl)
theorem dX0_turns_21 : decode cX0_turns 21 = .ok (.getfield 52, 3) := dk_180 0 52 (dk_at dksX0_turns_0 21 rfl rfl)
theorem dX0_turns_24 : decode cX0_turns 24 = .ok (.getfield 262, 3) := dk_180 1 6 (dk_at dksX0_turns_1 0 rfl rfl)
theorem dX0_turns_27 : decode cX0_turns 27 = .ok (.iload_n 1, 1) := dk_27 (dk_at dksX0_turns_1 3 rfl rfl)
theorem dX0_turns_28 : decode cX0_turns 28 = .ok (.aaload, 1) := dk_50 (dk_at dksX0_turns_1 4 rfl rfl)
theorem dX0_turns_29 : decode cX0_turns 29 = .ok (.astore_n 3, 1) := dk_78 (dk_at dksX0_turns_1 5 rfl rfl)
theorem dX0_turns_30 : decode cX0_turns 30 = .ok (.aload_n 0, 1) := dk_42 (dk_at dksX0_turns_1 6 rfl rfl)
theorem dX0_turns_31 : decode cX0_turns 31 = .ok (.getfield 52, 3) := dk_180 0 52 (dk_at dksX0_turns_1 7 rfl rfl)
theorem dX0_turns_34 : decode cX0_turns 34 = .ok (.getfield 262, 3) := dk_180 1 6 (dk_at dksX0_turns_1 10 rfl rfl)
theorem dX0_turns_37 : decode cX0_turns 37 = .ok (.iload_n 1, 1) := dk_27 (dk_at dksX0_turns_1 13 rfl rfl)
theorem dX0_turns_38 : decode cX0_turns 38 = .ok (.iload_n 2, 1) := dk_28 (dk_at dksX0_turns_1 14 rfl rfl)
theorem dX0_turns_39 : decode cX0_turns 39 = .ok (.invokestatic 266, 3) := dk_184 1 10 (dk_at dksX0_turns_1 15 rfl rfl)
theorem dX0_turns_42 : decode cX0_turns 42 = .ok (.aastore, 1) := dk_83 (dk_at dksX0_turns_1 18 rfl rfl)
theorem dX0_turns_43 : decode cX0_turns 43 = .ok (.aload_n 0, 1) := dk_42 (dk_at dksX0_turns_1 19 rfl rfl)
theorem dX0_turns_44 : decode cX0_turns 44 = .ok (.getfield 52, 3) := dk_180 0 52 (dk_at dksX0_turns_1 20 rfl rfl)
theorem dX0_turns_47 : decode cX0_turns 47 = .ok (.getfield 262, 3) := dk_180 1 6 (dk_at dksX0_turns_2 0 rfl rfl)
theorem dX0_turns_50 : decode cX0_turns 50 = .ok (.iload_n 1, 1) := dk_27 (dk_at dksX0_turns_2 3 rfl rfl)
theorem dX0_turns_51 : decode cX0_turns 51 = .ok (.aaload, 1) := dk_50 (dk_at dksX0_turns_2 4 rfl rfl)
theorem dX0_turns_52 : decode cX0_turns 52 = .ok (.aload_n 3, 1) := dk_45 (dk_at dksX0_turns_2 5 rfl rfl)
theorem dX0_turns_53 : decode cX0_turns 53 = .ok (.invokevirtual 333, 3) := dk_182 1 77 (dk_at dksX0_turns_2 6 rfl rfl)
theorem dX0_turns_56 : decode cX0_turns 56 = .ok (.aload_n 3, 1) := dk_45 (dk_at dksX0_turns_2 9 rfl rfl)
theorem dX0_turns_57 : decode cX0_turns 57 = .ok (.invokevirtual 303, 3) := dk_182 1 47 (dk_at dksX0_turns_2 10 rfl rfl)
theorem dX0_turns_60 : decode cX0_turns 60 = .ok (.ireturn, 1) := dk_172 (dk_at dksX0_turns_2 13 rfl rfl)
abbrev cX0_set : ByteArray := prog_1_method_45_code
def yX0_set : MethodName := ⟨RX0, "set", "(III)I"⟩
def dkwX0_set_1 : List UInt8 := [153, 0, 20, 42, 180, 0, 52, 180, 1, 6, 27, 50, 28, 29, 184, 1, 85, 167, 0, 5, 18, 139, 172]
abbrev dktX0_set_1 : List UInt8 := dkwX0_set_1 ++ []
def dkwX0_set_0 : List UInt8 := [42, 27, 182, 1, 44, 153, 0, 37, 28, 4, 8, 184, 0, 114, 153, 0, 28, 28, 29, 184, 1, 81]
abbrev dktX0_set_0 : List UInt8 := dkwX0_set_0 ++ dktX0_set_1
theorem dksX0_set_0 : cX0_set.data.toList.drop 0 = dktX0_set_0 := by decide +kernel
theorem dksX0_set_1 : cX0_set.data.toList.drop 22 = dktX0_set_1 := dk_seg dksX0_set_0 22 rfl rfl
theorem dX0_set_0 : decode cX0_set 0 = .ok (.aload_n 0, 1) := dk_42 (dk_at dksX0_set_0 0 rfl rfl)
theorem dX0_set_1 : decode cX0_set 1 = .ok (.iload_n 1, 1) := dk_27 (dk_at dksX0_set_0 1 rfl rfl)
theorem dX0_set_2 : decode cX0_set 2 = .ok (.invokevirtual 300, 3) := dk_182 1 44 (dk_at dksX0_set_0 2 rfl rfl)
theorem dX0_set_5 : decode cX0_set 5 = .ok (.ifCond .eq 37, 3) := dk_153 0 37 (dk_at dksX0_set_0 5 rfl rfl)
theorem dX0_set_8 : decode cX0_set 8 = .ok (.iload_n 2, 1) := dk_28 (dk_at dksX0_set_0 8 rfl rfl)
theorem dX0_set_9 : decode cX0_set 9 = .ok (.iconst 1, 1) := dk_4 (dk_at dksX0_set_0 9 rfl rfl)
theorem dX0_set_10 : decode cX0_set 10 = .ok (.iconst 5, 1) := dk_8 (dk_at dksX0_set_0 10 rfl rfl)
theorem dX0_set_11 : decode cX0_set 11 = .ok (.invokestatic 114, 3) := dk_184 0 114 (dk_at dksX0_set_0 11 rfl rfl)
theorem dX0_set_14 : decode cX0_set 14 = .ok (.ifCond .eq 28, 3) := dk_153 0 28 (dk_at dksX0_set_0 14 rfl rfl)
theorem dX0_set_17 : decode cX0_set 17 = .ok (.iload_n 2, 1) := dk_28 (dk_at dksX0_set_0 17 rfl rfl)
theorem dX0_set_18 : decode cX0_set 18 = .ok (.iload_n 3, 1) := dk_29 (dk_at dksX0_set_0 18 rfl rfl)
theorem dX0_set_19 : decode cX0_set 19 = .ok (.invokestatic 337, 3) := dk_184 1 81 (dk_at dksX0_set_0 19 rfl rfl)
theorem dX0_set_22 : decode cX0_set 22 = .ok (.ifCond .eq 20, 3) := dk_153 0 20 (dk_at dksX0_set_1 0 rfl rfl)
theorem dX0_set_25 : decode cX0_set 25 = .ok (.aload_n 0, 1) := dk_42 (dk_at dksX0_set_1 3 rfl rfl)
theorem dX0_set_26 : decode cX0_set 26 = .ok (.getfield 52, 3) := dk_180 0 52 (dk_at dksX0_set_1 4 rfl rfl)
theorem dX0_set_29 : decode cX0_set 29 = .ok (.getfield 262, 3) := dk_180 1 6 (dk_at dksX0_set_1 7 rfl rfl)
theorem dX0_set_32 : decode cX0_set 32 = .ok (.iload_n 1, 1) := dk_27 (dk_at dksX0_set_1 10 rfl rfl)
theorem dX0_set_33 : decode cX0_set 33 = .ok (.aaload, 1) := dk_50 (dk_at dksX0_set_1 11 rfl rfl)
theorem dX0_set_34 : decode cX0_set 34 = .ok (.iload_n 2, 1) := dk_28 (dk_at dksX0_set_1 12 rfl rfl)
theorem dX0_set_35 : decode cX0_set 35 = .ok (.iload_n 3, 1) := dk_29 (dk_at dksX0_set_1 13 rfl rfl)
theorem dX0_set_36 : decode cX0_set 36 = .ok (.invokestatic 341, 3) := dk_184 1 85 (dk_at dksX0_set_1 14 rfl rfl)
theorem dX0_set_39 : decode cX0_set 39 = .ok (.goto 5, 3) := dk_167 0 5 (dk_at dksX0_set_1 17 rfl rfl)
theorem dX0_set_42 : decode cX0_set 42 = .ok (.ldc 139, 2) := dk_18 139 (dk_at dksX0_set_1 20 rfl rfl)
theorem dX0_set_44 : decode cX0_set 44 = .ok (.ireturn, 1) := dk_172 (dk_at dksX0_set_1 22 rfl rfl)
abbrev cX0_isOf : ByteArray := prog_1_method_43_code
def yX0_isOf : MethodName := ⟨RX0, "isOf", "(II)Z"⟩
def dkwX0_isOf_2 : List UInt8 := [167, 0, 5, 16, 99, 184, 0, 114, 172]
abbrev dktX0_isOf_2 : List UInt8 := dkwX0_isOf_2 ++ []
def dkwX0_isOf_1 : List UInt8 := [160, 0, 8, 16, 8, 167, 0, 24, 26, 6, 160, 0, 7, 4, 167, 0, 15, 26, 7, 160, 0, 8, 16, 16]
abbrev dktX0_isOf_1 : List UInt8 := dkwX0_isOf_1 ++ dktX0_isOf_2
def dkwX0_isOf_0 : List UInt8 := [27, 26, 5, 160, 0, 7, 4, 167, 0, 4, 3, 26, 4, 160, 0, 9, 19, 1, 20, 167, 0, 34, 26, 5]
abbrev dktX0_isOf_0 : List UInt8 := dkwX0_isOf_0 ++ dktX0_isOf_1
theorem dksX0_isOf_0 : cX0_isOf.data.toList.drop 0 = dktX0_isOf_0 := by decide +kernel
theorem dksX0_isOf_1 : cX0_isOf.data.toList.drop 24 = dktX0_isOf_1 := dk_seg dksX0_isOf_0 24 rfl rfl
theorem dksX0_isOf_2 : cX0_isOf.data.toList.drop 48 = dktX0_isOf_2 := dk_seg dksX0_isOf_1 24 rfl rfl
theorem dX0_isOf_0 : decode cX0_isOf 0 = .ok (.iload_n 1, 1) := dk_27 (dk_at dksX0_isOf_0 0 rfl rfl)
theorem dX0_isOf_1 : decode cX0_isOf 1 = .ok (.iload_n 0, 1) := dk_26 (dk_at dksX0_isOf_0 1 rfl rfl)
theorem dX0_isOf_2 : decode cX0_isOf 2 = .ok (.iconst 2, 1) := dk_5 (dk_at dksX0_isOf_0 2 rfl rfl)
theorem dX0_isOf_3 : decode cX0_isOf 3 = .ok (.if_icmp .ne 7, 3) := dk_160 0 7 (dk_at dksX0_isOf_0 3 rfl rfl)
theorem dX0_isOf_6 : decode cX0_isOf 6 = .ok (.iconst 1, 1) := dk_4 (dk_at dksX0_isOf_0 6 rfl rfl)
theorem dX0_isOf_7 : decode cX0_isOf 7 = .ok (.goto 4, 3) := dk_167 0 4 (dk_at dksX0_isOf_0 7 rfl rfl)
theorem dX0_isOf_10 : decode cX0_isOf 10 = .ok (.iconst 0, 1) := dk_3 (dk_at dksX0_isOf_0 10 rfl rfl)
theorem dX0_isOf_11 : decode cX0_isOf 11 = .ok (.iload_n 0, 1) := dk_26 (dk_at dksX0_isOf_0 11 rfl rfl)
theorem dX0_isOf_12 : decode cX0_isOf 12 = .ok (.iconst 1, 1) := dk_4 (dk_at dksX0_isOf_0 12 rfl rfl)
theorem dX0_isOf_13 : decode cX0_isOf 13 = .ok (.if_icmp .ne 9, 3) := dk_160 0 9 (dk_at dksX0_isOf_0 13 rfl rfl)
theorem dX0_isOf_16 : decode cX0_isOf 16 = .ok (.ldc_w 276, 3) := dk_19 1 20 (dk_at dksX0_isOf_0 16 rfl rfl)
theorem dX0_isOf_19 : decode cX0_isOf 19 = .ok (.goto 34, 3) := dk_167 0 34 (dk_at dksX0_isOf_0 19 rfl rfl)
theorem dX0_isOf_22 : decode cX0_isOf 22 = .ok (.iload_n 0, 1) := dk_26 (dk_at dksX0_isOf_0 22 rfl rfl)
theorem dX0_isOf_23 : decode cX0_isOf 23 = .ok (.iconst 2, 1) := dk_5 (dk_at dksX0_isOf_0 23 rfl rfl)
theorem dX0_isOf_24 : decode cX0_isOf 24 = .ok (.if_icmp .ne 8, 3) := dk_160 0 8 (dk_at dksX0_isOf_1 0 rfl rfl)
theorem dX0_isOf_27 : decode cX0_isOf 27 = .ok (.bipush 8, 2) := dk_16 8 (dk_at dksX0_isOf_1 3 rfl rfl)
theorem dX0_isOf_29 : decode cX0_isOf 29 = .ok (.goto 24, 3) := dk_167 0 24 (dk_at dksX0_isOf_1 5 rfl rfl)
theorem dX0_isOf_32 : decode cX0_isOf 32 = .ok (.iload_n 0, 1) := dk_26 (dk_at dksX0_isOf_1 8 rfl rfl)
theorem dX0_isOf_33 : decode cX0_isOf 33 = .ok (.iconst 3, 1) := dk_6 (dk_at dksX0_isOf_1 9 rfl rfl)
theorem dX0_isOf_34 : decode cX0_isOf 34 = .ok (.if_icmp .ne 7, 3) := dk_160 0 7 (dk_at dksX0_isOf_1 10 rfl rfl)
theorem dX0_isOf_37 : decode cX0_isOf 37 = .ok (.iconst 1, 1) := dk_4 (dk_at dksX0_isOf_1 13 rfl rfl)
theorem dX0_isOf_38 : decode cX0_isOf 38 = .ok (.goto 15, 3) := dk_167 0 15 (dk_at dksX0_isOf_1 14 rfl rfl)
theorem dX0_isOf_41 : decode cX0_isOf 41 = .ok (.iload_n 0, 1) := dk_26 (dk_at dksX0_isOf_1 17 rfl rfl)
theorem dX0_isOf_42 : decode cX0_isOf 42 = .ok (.iconst 4, 1) := dk_7 (dk_at dksX0_isOf_1 18 rfl rfl)
theorem dX0_isOf_43 : decode cX0_isOf 43 = .ok (.if_icmp .ne 8, 3) := dk_160 0 8 (dk_at dksX0_isOf_1 19 rfl rfl)
theorem dX0_isOf_46 : decode cX0_isOf 46 = .ok (.bipush 16, 2) := dk_16 16 (dk_at dksX0_isOf_1 22 rfl rfl)
theorem dX0_isOf_48 : decode cX0_isOf 48 = .ok (.goto 5, 3) := dk_167 0 5 (dk_at dksX0_isOf_2 0 rfl rfl)
theorem dX0_isOf_51 : decode cX0_isOf 51 = .ok (.bipush 99, 2) := dk_16 99 (dk_at dksX0_isOf_2 3 rfl rfl)
theorem dX0_isOf_53 : decode cX0_isOf 53 = .ok (.invokestatic 114, 3) := dk_184 0 114 (dk_at dksX0_isOf_2 5 rfl rfl)
theorem dX0_isOf_56 : decode cX0_isOf 56 = .ok (.ireturn, 1) := dk_172 (dk_at dksX0_isOf_2 8 rfl rfl)
abbrev cX0_becomes : ByteArray := prog_1_method_44_code
def yX0_becomes : MethodName := ⟨RX0, "becomes", "(LStoneSheets$Rubbing;II)I"⟩
def dkwX0_becomes_5 : List UInt8 := [181, 1, 27, 29, 172]
abbrev dktX0_becomes_5 : List UInt8 := dkwX0_becomes_5 ++ []
def dkwX0_becomes_4 : List UInt8 := [181, 1, 50, 29, 172, 42, 180, 1, 30, 62, 42, 28, 181, 1, 30, 29, 172, 42, 180, 1, 27, 62, 42, 28]
abbrev dktX0_becomes_4 : List UInt8 := dkwX0_becomes_4 ++ dktX0_becomes_5
def dkwX0_becomes_3 : List UInt8 := [42, 180, 1, 50, 153, 0, 7, 4, 167, 0, 4, 3, 62, 42, 28, 4, 160, 0, 7, 4, 167, 0, 4, 3]
abbrev dktX0_becomes_3 : List UInt8 := dkwX0_becomes_3 ++ dktX0_becomes_4
def dkwX0_becomes_2 : List UInt8 := [42, 180, 1, 14, 62, 42, 28, 181, 1, 14, 29, 172, 42, 180, 1, 17, 62, 42, 28, 181, 1, 17, 29, 172]
abbrev dktX0_becomes_2 : List UInt8 := dkwX0_becomes_2 ++ dktX0_becomes_3
def dkwX0_becomes_1 : List UInt8 := [170, 0, 0, 0, 0, 0, 96, 0, 0, 0, 1, 0, 0, 0, 4, 0, 0, 0, 31, 0, 0, 0, 43, 0, 0, 0, 55, 0, 0, 0, 84]
abbrev dktX0_becomes_1 : List UInt8 := dkwX0_becomes_1 ++ dktX0_becomes_2
def dkwX0_becomes_0 : List UInt8 := [27]
abbrev dktX0_becomes_0 : List UInt8 := dkwX0_becomes_0 ++ dktX0_becomes_1
theorem dksX0_becomes_0 : cX0_becomes.data.toList.drop 0 = dktX0_becomes_0 := by decide +kernel
theorem dksX0_becomes_1 : cX0_becomes.data.toList.drop 1 = dktX0_becomes_1 := dk_seg dksX0_becomes_0 1 rfl rfl
theorem dksX0_becomes_2 : cX0_becomes.data.toList.drop 32 = dktX0_becomes_2 := dk_seg dksX0_becomes_1 31 rfl rfl
theorem dksX0_becomes_3 : cX0_becomes.data.toList.drop 56 = dktX0_becomes_3 := dk_seg dksX0_becomes_2 24 rfl rfl
theorem dksX0_becomes_4 : cX0_becomes.data.toList.drop 80 = dktX0_becomes_4 := dk_seg dksX0_becomes_3 24 rfl rfl
theorem dksX0_becomes_5 : cX0_becomes.data.toList.drop 104 = dktX0_becomes_5 := dk_seg dksX0_becomes_4 24 rfl rfl
theorem dX0_becomes_0 : decode cX0_becomes 0 = .ok (.iload_n 1, 1) := dk_27 (dk_at dksX0_becomes_0 0 rfl rfl)
theorem dX0_becomes_1 : decode cX0_becomes 1 = .ok (.tableswitch 96 1 4 #[31, 43, 55, 84], 31) := by decide +kernel
theorem dX0_becomes_32 : decode cX0_becomes 32 = .ok (.aload_n 0, 1) := dk_42 (dk_at dksX0_becomes_2 0 rfl rfl)
theorem dX0_becomes_33 : decode cX0_becomes 33 = .ok (.getfield 270, 3) := dk_180 1 14 (dk_at dksX0_becomes_2 1 rfl rfl)
theorem dX0_becomes_36 : decode cX0_becomes 36 = .ok (.istore_n 3, 1) := dk_62 (dk_at dksX0_becomes_2 4 rfl rfl)
theorem dX0_becomes_37 : decode cX0_becomes 37 = .ok (.aload_n 0, 1) := dk_42 (dk_at dksX0_becomes_2 5 rfl rfl)
theorem dX0_becomes_38 : decode cX0_becomes 38 = .ok (.iload_n 2, 1) := dk_28 (dk_at dksX0_becomes_2 6 rfl rfl)
theorem dX0_becomes_39 : decode cX0_becomes 39 = .ok (.putfield 270, 3) := dk_181 1 14 (dk_at dksX0_becomes_2 7 rfl rfl)
theorem dX0_becomes_42 : decode cX0_becomes 42 = .ok (.iload_n 3, 1) := dk_29 (dk_at dksX0_becomes_2 10 rfl rfl)
theorem dX0_becomes_43 : decode cX0_becomes 43 = .ok (.ireturn, 1) := dk_172 (dk_at dksX0_becomes_2 11 rfl rfl)
theorem dX0_becomes_44 : decode cX0_becomes 44 = .ok (.aload_n 0, 1) := dk_42 (dk_at dksX0_becomes_2 12 rfl rfl)
theorem dX0_becomes_45 : decode cX0_becomes 45 = .ok (.getfield 273, 3) := dk_180 1 17 (dk_at dksX0_becomes_2 13 rfl rfl)
theorem dX0_becomes_48 : decode cX0_becomes 48 = .ok (.istore_n 3, 1) := dk_62 (dk_at dksX0_becomes_2 16 rfl rfl)
theorem dX0_becomes_49 : decode cX0_becomes 49 = .ok (.aload_n 0, 1) := dk_42 (dk_at dksX0_becomes_2 17 rfl rfl)
theorem dX0_becomes_50 : decode cX0_becomes 50 = .ok (.iload_n 2, 1) := dk_28 (dk_at dksX0_becomes_2 18 rfl rfl)
theorem dX0_becomes_51 : decode cX0_becomes 51 = .ok (.putfield 273, 3) := dk_181 1 17 (dk_at dksX0_becomes_2 19 rfl rfl)
theorem dX0_becomes_54 : decode cX0_becomes 54 = .ok (.iload_n 3, 1) := dk_29 (dk_at dksX0_becomes_2 22 rfl rfl)
theorem dX0_becomes_55 : decode cX0_becomes 55 = .ok (.ireturn, 1) := dk_172 (dk_at dksX0_becomes_2 23 rfl rfl)
theorem dX0_becomes_56 : decode cX0_becomes 56 = .ok (.aload_n 0, 1) := dk_42 (dk_at dksX0_becomes_3 0 rfl rfl)
theorem dX0_becomes_57 : decode cX0_becomes 57 = .ok (.getfield 306, 3) := dk_180 1 50 (dk_at dksX0_becomes_3 1 rfl rfl)
theorem dX0_becomes_60 : decode cX0_becomes 60 = .ok (.ifCond .eq 7, 3) := dk_153 0 7 (dk_at dksX0_becomes_3 4 rfl rfl)
theorem dX0_becomes_63 : decode cX0_becomes 63 = .ok (.iconst 1, 1) := dk_4 (dk_at dksX0_becomes_3 7 rfl rfl)
theorem dX0_becomes_64 : decode cX0_becomes 64 = .ok (.goto 4, 3) := dk_167 0 4 (dk_at dksX0_becomes_3 8 rfl rfl)
theorem dX0_becomes_67 : decode cX0_becomes 67 = .ok (.iconst 0, 1) := dk_3 (dk_at dksX0_becomes_3 11 rfl rfl)
theorem dX0_becomes_68 : decode cX0_becomes 68 = .ok (.istore_n 3, 1) := dk_62 (dk_at dksX0_becomes_3 12 rfl rfl)
theorem dX0_becomes_69 : decode cX0_becomes 69 = .ok (.aload_n 0, 1) := dk_42 (dk_at dksX0_becomes_3 13 rfl rfl)
theorem dX0_becomes_70 : decode cX0_becomes 70 = .ok (.iload_n 2, 1) := dk_28 (dk_at dksX0_becomes_3 14 rfl rfl)
theorem dX0_becomes_71 : decode cX0_becomes 71 = .ok (.iconst 1, 1) := dk_4 (dk_at dksX0_becomes_3 15 rfl rfl)
theorem dX0_becomes_72 : decode cX0_becomes 72 = .ok (.if_icmp .ne 7, 3) := dk_160 0 7 (dk_at dksX0_becomes_3 16 rfl rfl)
theorem dX0_becomes_75 : decode cX0_becomes 75 = .ok (.iconst 1, 1) := dk_4 (dk_at dksX0_becomes_3 19 rfl rfl)
theorem dX0_becomes_76 : decode cX0_becomes 76 = .ok (.goto 4, 3) := dk_167 0 4 (dk_at dksX0_becomes_3 20 rfl rfl)
theorem dX0_becomes_79 : decode cX0_becomes 79 = .ok (.iconst 0, 1) := dk_3 (dk_at dksX0_becomes_3 23 rfl rfl)
theorem dX0_becomes_80 : decode cX0_becomes 80 = .ok (.putfield 306, 3) := dk_181 1 50 (dk_at dksX0_becomes_4 0 rfl rfl)
theorem dX0_becomes_83 : decode cX0_becomes 83 = .ok (.iload_n 3, 1) := dk_29 (dk_at dksX0_becomes_4 3 rfl rfl)
theorem dX0_becomes_84 : decode cX0_becomes 84 = .ok (.ireturn, 1) := dk_172 (dk_at dksX0_becomes_4 4 rfl rfl)
theorem dX0_becomes_85 : decode cX0_becomes 85 = .ok (.aload_n 0, 1) := dk_42 (dk_at dksX0_becomes_4 5 rfl rfl)
theorem dX0_becomes_86 : decode cX0_becomes 86 = .ok (.getfield 286, 3) := dk_180 1 30 (dk_at dksX0_becomes_4 6 rfl rfl)
theorem dX0_becomes_89 : decode cX0_becomes 89 = .ok (.istore_n 3, 1) := dk_62 (dk_at dksX0_becomes_4 9 rfl rfl)
theorem dX0_becomes_90 : decode cX0_becomes 90 = .ok (.aload_n 0, 1) := dk_42 (dk_at dksX0_becomes_4 10 rfl rfl)
theorem dX0_becomes_91 : decode cX0_becomes 91 = .ok (.iload_n 2, 1) := dk_28 (dk_at dksX0_becomes_4 11 rfl rfl)
theorem dX0_becomes_92 : decode cX0_becomes 92 = .ok (.putfield 286, 3) := dk_181 1 30 (dk_at dksX0_becomes_4 12 rfl rfl)
theorem dX0_becomes_95 : decode cX0_becomes 95 = .ok (.iload_n 3, 1) := dk_29 (dk_at dksX0_becomes_4 15 rfl rfl)
theorem dX0_becomes_96 : decode cX0_becomes 96 = .ok (.ireturn, 1) := dk_172 (dk_at dksX0_becomes_4 16 rfl rfl)
theorem dX0_becomes_97 : decode cX0_becomes 97 = .ok (.aload_n 0, 1) := dk_42 (dk_at dksX0_becomes_4 17 rfl rfl)
theorem dX0_becomes_98 : decode cX0_becomes 98 = .ok (.getfield 283, 3) := dk_180 1 27 (dk_at dksX0_becomes_4 18 rfl rfl)
theorem dX0_becomes_101 : decode cX0_becomes 101 = .ok (.istore_n 3, 1) := dk_62 (dk_at dksX0_becomes_4 21 rfl rfl)
theorem dX0_becomes_102 : decode cX0_becomes 102 = .ok (.aload_n 0, 1) := dk_42 (dk_at dksX0_becomes_4 22 rfl rfl)
theorem dX0_becomes_103 : decode cX0_becomes 103 = .ok (.iload_n 2, 1) := dk_28 (dk_at dksX0_becomes_4 23 rfl rfl)
theorem dX0_becomes_104 : decode cX0_becomes 104 = .ok (.putfield 283, 3) := dk_181 1 27 (dk_at dksX0_becomes_5 0 rfl rfl)
theorem dX0_becomes_107 : decode cX0_becomes 107 = .ok (.iload_n 3, 1) := dk_29 (dk_at dksX0_becomes_5 3 rfl rfl)
theorem dX0_becomes_108 : decode cX0_becomes 108 = .ok (.ireturn, 1) := dk_172 (dk_at dksX0_becomes_5 4 rfl rfl)
abbrev cX0_carve : ByteArray := prog_1_method_47_code
def yX0_carve : MethodName := ⟨RX0, "carve", "(II)I"⟩
def dkwX0_carve_1 : List UInt8 := [182, 1, 92, 167, 0, 5, 18, 139, 172]
abbrev dktX0_carve_1 : List UInt8 := dkwX0_carve_1 ++ []
def dkwX0_carve_0 : List UInt8 := [27, 3, 16, 15, 184, 0, 114, 153, 0, 21, 28, 3, 6, 184, 0, 114, 153, 0, 12, 42, 27, 28]
abbrev dktX0_carve_0 : List UInt8 := dkwX0_carve_0 ++ dktX0_carve_1
theorem dksX0_carve_0 : cX0_carve.data.toList.drop 0 = dktX0_carve_0 := by decide +kernel
theorem dksX0_carve_1 : cX0_carve.data.toList.drop 22 = dktX0_carve_1 := dk_seg dksX0_carve_0 22 rfl rfl
theorem dX0_carve_0 : decode cX0_carve 0 = .ok (.iload_n 1, 1) := dk_27 (dk_at dksX0_carve_0 0 rfl rfl)
theorem dX0_carve_1 : decode cX0_carve 1 = .ok (.iconst 0, 1) := dk_3 (dk_at dksX0_carve_0 1 rfl rfl)
theorem dX0_carve_2 : decode cX0_carve 2 = .ok (.bipush 15, 2) := dk_16 15 (dk_at dksX0_carve_0 2 rfl rfl)
theorem dX0_carve_4 : decode cX0_carve 4 = .ok (.invokestatic 114, 3) := dk_184 0 114 (dk_at dksX0_carve_0 4 rfl rfl)
theorem dX0_carve_7 : decode cX0_carve 7 = .ok (.ifCond .eq 21, 3) := dk_153 0 21 (dk_at dksX0_carve_0 7 rfl rfl)
theorem dX0_carve_10 : decode cX0_carve 10 = .ok (.iload_n 2, 1) := dk_28 (dk_at dksX0_carve_0 10 rfl rfl)
theorem dX0_carve_11 : decode cX0_carve 11 = .ok (.iconst 0, 1) := dk_3 (dk_at dksX0_carve_0 11 rfl rfl)
theorem dX0_carve_12 : decode cX0_carve 12 = .ok (.iconst 3, 1) := dk_6 (dk_at dksX0_carve_0 12 rfl rfl)
theorem dX0_carve_13 : decode cX0_carve 13 = .ok (.invokestatic 114, 3) := dk_184 0 114 (dk_at dksX0_carve_0 13 rfl rfl)
theorem dX0_carve_16 : decode cX0_carve 16 = .ok (.ifCond .eq 12, 3) := dk_153 0 12 (dk_at dksX0_carve_0 16 rfl rfl)
theorem dX0_carve_19 : decode cX0_carve 19 = .ok (.aload_n 0, 1) := dk_42 (dk_at dksX0_carve_0 19 rfl rfl)
theorem dX0_carve_20 : decode cX0_carve 20 = .ok (.iload_n 1, 1) := dk_27 (dk_at dksX0_carve_0 20 rfl rfl)
theorem dX0_carve_21 : decode cX0_carve 21 = .ok (.iload_n 2, 1) := dk_28 (dk_at dksX0_carve_0 21 rfl rfl)
theorem dX0_carve_22 : decode cX0_carve 22 = .ok (.invokevirtual 348, 3) := dk_182 1 92 (dk_at dksX0_carve_1 0 rfl rfl)
theorem dX0_carve_25 : decode cX0_carve 25 = .ok (.goto 5, 3) := dk_167 0 5 (dk_at dksX0_carve_1 3 rfl rfl)
theorem dX0_carve_28 : decode cX0_carve 28 = .ok (.ldc 139, 2) := dk_18 139 (dk_at dksX0_carve_1 6 rfl rfl)
theorem dX0_carve_30 : decode cX0_carve 30 = .ok (.ireturn, 1) := dk_172 (dk_at dksX0_carve_1 8 rfl rfl)
abbrev cX0_cuts : ByteArray := prog_1_method_46_code
def yX0_cuts : MethodName := ⟨RX0, "cuts", "(II)I"⟩
def dkwX0_cuts_0 : List UInt8 := [42, 180, 0, 52, 180, 1, 89, 27, 46, 62, 42, 180, 0, 52, 180, 1, 89, 27, 28, 79, 29, 172]
abbrev dktX0_cuts_0 : List UInt8 := dkwX0_cuts_0 ++ []
theorem dksX0_cuts_0 : cX0_cuts.data.toList.drop 0 = dktX0_cuts_0 := by decide +kernel
theorem dX0_cuts_0 : decode cX0_cuts 0 = .ok (.aload_n 0, 1) := dk_42 (dk_at dksX0_cuts_0 0 rfl rfl)
theorem dX0_cuts_1 : decode cX0_cuts 1 = .ok (.getfield 52, 3) := dk_180 0 52 (dk_at dksX0_cuts_0 1 rfl rfl)
theorem dX0_cuts_4 : decode cX0_cuts 4 = .ok (.getfield 345, 3) := dk_180 1 89 (dk_at dksX0_cuts_0 4 rfl rfl)
theorem dX0_cuts_7 : decode cX0_cuts 7 = .ok (.iload_n 1, 1) := dk_27 (dk_at dksX0_cuts_0 7 rfl rfl)
theorem dX0_cuts_8 : decode cX0_cuts 8 = .ok (.iaload, 1) := dk_46 (dk_at dksX0_cuts_0 8 rfl rfl)
theorem dX0_cuts_9 : decode cX0_cuts 9 = .ok (.istore_n 3, 1) := dk_62 (dk_at dksX0_cuts_0 9 rfl rfl)
theorem dX0_cuts_10 : decode cX0_cuts 10 = .ok (.aload_n 0, 1) := dk_42 (dk_at dksX0_cuts_0 10 rfl rfl)
theorem dX0_cuts_11 : decode cX0_cuts 11 = .ok (.getfield 52, 3) := dk_180 0 52 (dk_at dksX0_cuts_0 11 rfl rfl)
theorem dX0_cuts_14 : decode cX0_cuts 14 = .ok (.getfield 345, 3) := dk_180 1 89 (dk_at dksX0_cuts_0 14 rfl rfl)
theorem dX0_cuts_17 : decode cX0_cuts 17 = .ok (.iload_n 1, 1) := dk_27 (dk_at dksX0_cuts_0 17 rfl rfl)
theorem dX0_cuts_18 : decode cX0_cuts 18 = .ok (.iload_n 2, 1) := dk_28 (dk_at dksX0_cuts_0 18 rfl rfl)
theorem dX0_cuts_19 : decode cX0_cuts 19 = .ok (.iastore, 1) := dk_79 (dk_at dksX0_cuts_0 19 rfl rfl)
theorem dX0_cuts_20 : decode cX0_cuts 20 = .ok (.iload_n 3, 1) := dk_29 (dk_at dksX0_cuts_0 20 rfl rfl)
theorem dX0_cuts_21 : decode cX0_cuts 21 = .ok (.ireturn, 1) := dk_172 (dk_at dksX0_cuts_0 21 rfl rfl)
abbrev cX0_carved : ByteArray := prog_1_method_48_code
def yX0_carved : MethodName := ⟨RX0, "carved", "(I)I"⟩
def dkwX0_carved_1 : List UInt8 := [172]
abbrev dktX0_carved_1 : List UInt8 := dkwX0_carved_1 ++ []
def dkwX0_carved_0 : List UInt8 := [27, 3, 16, 15, 184, 0, 114, 153, 0, 15, 42, 180, 0, 52, 180, 1, 89, 27, 46, 167, 0, 5, 18, 139]
abbrev dktX0_carved_0 : List UInt8 := dkwX0_carved_0 ++ dktX0_carved_1
theorem dksX0_carved_0 : cX0_carved.data.toList.drop 0 = dktX0_carved_0 := by decide +kernel
theorem dksX0_carved_1 : cX0_carved.data.toList.drop 24 = dktX0_carved_1 := dk_seg dksX0_carved_0 24 rfl rfl
theorem dX0_carved_0 : decode cX0_carved 0 = .ok (.iload_n 1, 1) := dk_27 (dk_at dksX0_carved_0 0 rfl rfl)
theorem dX0_carved_1 : decode cX0_carved 1 = .ok (.iconst 0, 1) := dk_3 (dk_at dksX0_carved_0 1 rfl rfl)
theorem dX0_carved_2 : decode cX0_carved 2 = .ok (.bipush 15, 2) := dk_16 15 (dk_at dksX0_carved_0 2 rfl rfl)
theorem dX0_carved_4 : decode cX0_carved 4 = .ok (.invokestatic 114, 3) := dk_184 0 114 (dk_at dksX0_carved_0 4 rfl rfl)
theorem dX0_carved_7 : decode cX0_carved 7 = .ok (.ifCond .eq 15, 3) := dk_153 0 15 (dk_at dksX0_carved_0 7 rfl rfl)
theorem dX0_carved_10 : decode cX0_carved 10 = .ok (.aload_n 0, 1) := dk_42 (dk_at dksX0_carved_0 10 rfl rfl)
theorem dX0_carved_11 : decode cX0_carved 11 = .ok (.getfield 52, 3) := dk_180 0 52 (dk_at dksX0_carved_0 11 rfl rfl)
theorem dX0_carved_14 : decode cX0_carved 14 = .ok (.getfield 345, 3) := dk_180 1 89 (dk_at dksX0_carved_0 14 rfl rfl)
theorem dX0_carved_17 : decode cX0_carved 17 = .ok (.iload_n 1, 1) := dk_27 (dk_at dksX0_carved_0 17 rfl rfl)
theorem dX0_carved_18 : decode cX0_carved 18 = .ok (.iaload, 1) := dk_46 (dk_at dksX0_carved_0 18 rfl rfl)
theorem dX0_carved_19 : decode cX0_carved 19 = .ok (.goto 5, 3) := dk_167 0 5 (dk_at dksX0_carved_0 19 rfl rfl)
theorem dX0_carved_22 : decode cX0_carved 22 = .ok (.ldc 139, 2) := dk_18 139 (dk_at dksX0_carved_0 22 rfl rfl)
theorem dX0_carved_24 : decode cX0_carved 24 = .ok (.ireturn, 1) := dk_172 (dk_at dksX0_carved_1 0 rfl rfl)
abbrev cX0_deal : ByteArray := prog_1_method_49_code
def yX0_deal : MethodName := ⟨RX0, "deal", "(I)I"⟩
def dkwX0_deal_3 : List UInt8 := [96, 182, 1, 21, 54, 5, 132, 2, 1, 167, 255, 191, 28, 172]
abbrev dktX0_deal_3 : List UInt8 := dkwX0_deal_3 ++ []
def dkwX0_deal_2 : List UInt8 := [182, 1, 95, 19, 1, 98, 112, 54, 4, 42, 29, 21, 4, 4, 42, 180, 0, 52, 182, 1, 95, 16, 8, 112]
abbrev dktX0_deal_2 : List UInt8 := dkwX0_deal_2 ++ dktX0_deal_3
def dkwX0_deal_1 : List UInt8 := [180, 0, 110, 16, 9, 162, 0, 54, 42, 180, 0, 52, 182, 1, 95, 16, 6, 112, 62, 42, 180, 0, 52]
abbrev dktX0_deal_1 : List UInt8 := dkwX0_deal_1 ++ dktX0_deal_2
def dkwX0_deal_0 : List UInt8 := [27, 4, 16, 9, 184, 0, 114, 154, 0, 6, 18, 139, 172, 3, 61, 28, 27, 162, 0, 66, 42, 180, 0, 52]
abbrev dktX0_deal_0 : List UInt8 := dkwX0_deal_0 ++ dktX0_deal_1
theorem dksX0_deal_0 : cX0_deal.data.toList.drop 0 = dktX0_deal_0 := by decide +kernel
theorem dksX0_deal_1 : cX0_deal.data.toList.drop 24 = dktX0_deal_1 := dk_seg dksX0_deal_0 24 rfl rfl
theorem dksX0_deal_2 : cX0_deal.data.toList.drop 47 = dktX0_deal_2 := dk_seg dksX0_deal_1 23 rfl rfl
theorem dksX0_deal_3 : cX0_deal.data.toList.drop 71 = dktX0_deal_3 := dk_seg dksX0_deal_2 24 rfl rfl
theorem dX0_deal_0 : decode cX0_deal 0 = .ok (.iload_n 1, 1) := dk_27 (dk_at dksX0_deal_0 0 rfl rfl)
theorem dX0_deal_1 : decode cX0_deal 1 = .ok (.iconst 1, 1) := dk_4 (dk_at dksX0_deal_0 1 rfl rfl)
theorem dX0_deal_2 : decode cX0_deal 2 = .ok (.bipush 9, 2) := dk_16 9 (dk_at dksX0_deal_0 2 rfl rfl)
theorem dX0_deal_4 : decode cX0_deal 4 = .ok (.invokestatic 114, 3) := dk_184 0 114 (dk_at dksX0_deal_0 4 rfl rfl)
theorem dX0_deal_7 : decode cX0_deal 7 = .ok (.ifCond .ne 6, 3) := dk_154 0 6 (dk_at dksX0_deal_0 7 rfl rfl)
theorem dX0_deal_10 : decode cX0_deal 10 = .ok (.ldc 139, 2) := dk_18 139 (dk_at dksX0_deal_0 10 rfl rfl)
theorem dX0_deal_12 : decode cX0_deal 12 = .ok (.ireturn, 1) := dk_172 (dk_at dksX0_deal_0 12 rfl rfl)
theorem dX0_deal_13 : decode cX0_deal 13 = .ok (.iconst 0, 1) := dk_3 (dk_at dksX0_deal_0 13 rfl rfl)
theorem dX0_deal_14 : decode cX0_deal 14 = .ok (.istore_n 2, 1) := dk_61 (dk_at dksX0_deal_0 14 rfl rfl)
theorem dX0_deal_15 : decode cX0_deal 15 = .ok (.iload_n 2, 1) := dk_28 (dk_at dksX0_deal_0 15 rfl rfl)
theorem dX0_deal_16 : decode cX0_deal 16 = .ok (.iload_n 1, 1) := dk_27 (dk_at dksX0_deal_0 16 rfl rfl)
theorem dX0_deal_17 : decode cX0_deal 17 = .ok (.if_icmp .ge 66, 3) := dk_162 0 66 (dk_at dksX0_deal_0 17 rfl rfl)
theorem dX0_deal_20 : decode cX0_deal 20 = .ok (.aload_n 0, 1) := dk_42 (dk_at dksX0_deal_0 20 rfl rfl)
theorem dX0_deal_21 : decode cX0_deal 21 = .ok (.getfield 52, 3) := dk_180 0 52 (dk_at dksX0_deal_0 21 rfl rfl)
theorem dX0_deal_24 : decode cX0_deal 24 = .ok (.getfield 110, 3) := dk_180 0 110 (dk_at dksX0_deal_1 0 rfl rfl)
theorem dX0_deal_27 : decode cX0_deal 27 = .ok (.bipush 9, 2) := dk_16 9 (dk_at dksX0_deal_1 3 rfl rfl)
theorem dX0_deal_29 : decode cX0_deal 29 = .ok (.if_icmp .ge 54, 3) := dk_162 0 54 (dk_at dksX0_deal_1 5 rfl rfl)
theorem dX0_deal_32 : decode cX0_deal 32 = .ok (.aload_n 0, 1) := dk_42 (dk_at dksX0_deal_1 8 rfl rfl)
theorem dX0_deal_33 : decode cX0_deal 33 = .ok (.getfield 52, 3) := dk_180 0 52 (dk_at dksX0_deal_1 9 rfl rfl)
theorem dX0_deal_36 : decode cX0_deal 36 = .ok (.invokevirtual 351, 3) := dk_182 1 95 (dk_at dksX0_deal_1 12 rfl rfl)
theorem dX0_deal_39 : decode cX0_deal 39 = .ok (.bipush 6, 2) := dk_16 6 (dk_at dksX0_deal_1 15 rfl rfl)
theorem dX0_deal_41 : decode cX0_deal 41 = .ok (.irem, 1) := dk_112 (dk_at dksX0_deal_1 17 rfl rfl)
theorem dX0_deal_42 : decode cX0_deal 42 = .ok (.istore_n 3, 1) := dk_62 (dk_at dksX0_deal_1 18 rfl rfl)
theorem dX0_deal_43 : decode cX0_deal 43 = .ok (.aload_n 0, 1) := dk_42 (dk_at dksX0_deal_1 19 rfl rfl)
theorem dX0_deal_44 : decode cX0_deal 44 = .ok (.getfield 52, 3) := dk_180 0 52 (dk_at dksX0_deal_1 20 rfl rfl)
theorem dX0_deal_47 : decode cX0_deal 47 = .ok (.invokevirtual 351, 3) := dk_182 1 95 (dk_at dksX0_deal_2 0 rfl rfl)
theorem dX0_deal_50 : decode cX0_deal 50 = .ok (.ldc_w 354, 3) := dk_19 1 98 (dk_at dksX0_deal_2 3 rfl rfl)
theorem dX0_deal_53 : decode cX0_deal 53 = .ok (.irem, 1) := dk_112 (dk_at dksX0_deal_2 6 rfl rfl)
theorem dX0_deal_54 : decode cX0_deal 54 = .ok (.istore 4, 2) := dk_54 4 (dk_at dksX0_deal_2 7 rfl rfl)
theorem dX0_deal_56 : decode cX0_deal 56 = .ok (.aload_n 0, 1) := dk_42 (dk_at dksX0_deal_2 9 rfl rfl)
theorem dX0_deal_57 : decode cX0_deal 57 = .ok (.iload_n 3, 1) := dk_29 (dk_at dksX0_deal_2 10 rfl rfl)
theorem dX0_deal_58 : decode cX0_deal 58 = .ok (.iload 4, 2) := dk_21 4 (dk_at dksX0_deal_2 11 rfl rfl)
theorem dX0_deal_60 : decode cX0_deal 60 = .ok (.iconst 1, 1) := dk_4 (dk_at dksX0_deal_2 13 rfl rfl)
theorem dX0_deal_61 : decode cX0_deal 61 = .ok (.aload_n 0, 1) := dk_42 (dk_at dksX0_deal_2 14 rfl rfl)
theorem dX0_deal_62 : decode cX0_deal 62 = .ok (.getfield 52, 3) := dk_180 0 52 (dk_at dksX0_deal_2 15 rfl rfl)
theorem dX0_deal_65 : decode cX0_deal 65 = .ok (.invokevirtual 351, 3) := dk_182 1 95 (dk_at dksX0_deal_2 18 rfl rfl)
theorem dX0_deal_68 : decode cX0_deal 68 = .ok (.bipush 8, 2) := dk_16 8 (dk_at dksX0_deal_2 21 rfl rfl)
theorem dX0_deal_70 : decode cX0_deal 70 = .ok (.irem, 1) := dk_112 (dk_at dksX0_deal_2 23 rfl rfl)
theorem dX0_deal_71 : decode cX0_deal 71 = .ok (.iadd, 1) := dk_96 (dk_at dksX0_deal_3 0 rfl rfl)
theorem dX0_deal_72 : decode cX0_deal 72 = .ok (.invokevirtual 277, 3) := dk_182 1 21 (dk_at dksX0_deal_3 1 rfl rfl)
theorem dX0_deal_75 : decode cX0_deal 75 = .ok (.istore 5, 2) := dk_54 5 (dk_at dksX0_deal_3 4 rfl rfl)
theorem dX0_deal_77 : decode cX0_deal 77 = .ok (.iinc 2 1, 3) := dk_132 2 1 (dk_at dksX0_deal_3 6 rfl rfl)
theorem dX0_deal_80 : decode cX0_deal 80 = .ok (.goto (-65), 3) := dk_167 255 191 (dk_at dksX0_deal_3 9 rfl rfl)
theorem dX0_deal_83 : decode cX0_deal 83 = .ok (.iload_n 2, 1) := dk_28 (dk_at dksX0_deal_3 12 rfl rfl)
theorem dX0_deal_84 : decode cX0_deal 84 = .ok (.ireturn, 1) := dk_172 (dk_at dksX0_deal_3 13 rfl rfl)
abbrev cX0_seed : ByteArray := prog_1_method_50_code
def yX0_seed : MethodName := ⟨RX0, "seed", "(I)I"⟩
def dkwX0_seed_0 : List UInt8 := [42, 180, 0, 52, 180, 1, 99, 61, 42, 180, 0, 52, 27, 181, 1, 99, 28, 172]
abbrev dktX0_seed_0 : List UInt8 := dkwX0_seed_0 ++ []
theorem dksX0_seed_0 : cX0_seed.data.toList.drop 0 = dktX0_seed_0 := by decide +kernel
theorem dX0_seed_0 : decode cX0_seed 0 = .ok (.aload_n 0, 1) := dk_42 (dk_at dksX0_seed_0 0 rfl rfl)
theorem dX0_seed_1 : decode cX0_seed 1 = .ok (.getfield 52, 3) := dk_180 0 52 (dk_at dksX0_seed_0 1 rfl rfl)
theorem dX0_seed_4 : decode cX0_seed 4 = .ok (.getfield 355, 3) := dk_180 1 99 (dk_at dksX0_seed_0 4 rfl rfl)
theorem dX0_seed_7 : decode cX0_seed 7 = .ok (.istore_n 2, 1) := dk_61 (dk_at dksX0_seed_0 7 rfl rfl)
theorem dX0_seed_8 : decode cX0_seed 8 = .ok (.aload_n 0, 1) := dk_42 (dk_at dksX0_seed_0 8 rfl rfl)
theorem dX0_seed_9 : decode cX0_seed 9 = .ok (.getfield 52, 3) := dk_180 0 52 (dk_at dksX0_seed_0 9 rfl rfl)
theorem dX0_seed_12 : decode cX0_seed 12 = .ok (.iload_n 1, 1) := dk_27 (dk_at dksX0_seed_0 12 rfl rfl)
theorem dX0_seed_13 : decode cX0_seed 13 = .ok (.putfield 355, 3) := dk_181 1 99 (dk_at dksX0_seed_0 13 rfl rfl)
theorem dX0_seed_16 : decode cX0_seed 16 = .ok (.iload_n 2, 1) := dk_28 (dk_at dksX0_seed_0 16 rfl rfl)
theorem dX0_seed_17 : decode cX0_seed 17 = .ok (.ireturn, 1) := dk_172 (dk_at dksX0_seed_0 17 rfl rfl)
abbrev cX0_falseAt : ByteArray := prog_1_method_52_code
def yX0_falseAt : MethodName := ⟨RX0, "falseAt", "(II)I"⟩
def dkwX0_falseAt_1 : List UInt8 := [180, 1, 6, 27, 50, 28, 182, 1, 102, 167, 0, 5, 18, 139, 172]
abbrev dktX0_falseAt_1 : List UInt8 := dkwX0_falseAt_1 ++ []
def dkwX0_falseAt_0 : List UInt8 := [42, 27, 182, 1, 44, 153, 0, 30, 28, 3, 16, 15, 184, 0, 114, 153, 0, 20, 42, 42, 180, 0, 52]
abbrev dktX0_falseAt_0 : List UInt8 := dkwX0_falseAt_0 ++ dktX0_falseAt_1
theorem dksX0_falseAt_0 : cX0_falseAt.data.toList.drop 0 = dktX0_falseAt_0 := by decide +kernel
theorem dksX0_falseAt_1 : cX0_falseAt.data.toList.drop 23 = dktX0_falseAt_1 := dk_seg dksX0_falseAt_0 23 rfl rfl
theorem dX0_falseAt_0 : decode cX0_falseAt 0 = .ok (.aload_n 0, 1) := dk_42 (dk_at dksX0_falseAt_0 0 rfl rfl)
theorem dX0_falseAt_1 : decode cX0_falseAt 1 = .ok (.iload_n 1, 1) := dk_27 (dk_at dksX0_falseAt_0 1 rfl rfl)
theorem dX0_falseAt_2 : decode cX0_falseAt 2 = .ok (.invokevirtual 300, 3) := dk_182 1 44 (dk_at dksX0_falseAt_0 2 rfl rfl)
theorem dX0_falseAt_5 : decode cX0_falseAt 5 = .ok (.ifCond .eq 30, 3) := dk_153 0 30 (dk_at dksX0_falseAt_0 5 rfl rfl)
theorem dX0_falseAt_8 : decode cX0_falseAt 8 = .ok (.iload_n 2, 1) := dk_28 (dk_at dksX0_falseAt_0 8 rfl rfl)
theorem dX0_falseAt_9 : decode cX0_falseAt 9 = .ok (.iconst 0, 1) := dk_3 (dk_at dksX0_falseAt_0 9 rfl rfl)
theorem dX0_falseAt_10 : decode cX0_falseAt 10 = .ok (.bipush 15, 2) := dk_16 15 (dk_at dksX0_falseAt_0 10 rfl rfl)
theorem dX0_falseAt_12 : decode cX0_falseAt 12 = .ok (.invokestatic 114, 3) := dk_184 0 114 (dk_at dksX0_falseAt_0 12 rfl rfl)
theorem dX0_falseAt_15 : decode cX0_falseAt 15 = .ok (.ifCond .eq 20, 3) := dk_153 0 20 (dk_at dksX0_falseAt_0 15 rfl rfl)
theorem dX0_falseAt_18 : decode cX0_falseAt 18 = .ok (.aload_n 0, 1) := dk_42 (dk_at dksX0_falseAt_0 18 rfl rfl)
theorem dX0_falseAt_19 : decode cX0_falseAt 19 = .ok (.aload_n 0, 1) := dk_42 (dk_at dksX0_falseAt_0 19 rfl rfl)
theorem dX0_falseAt_20 : decode cX0_falseAt 20 = .ok (.getfield 52, 3) := dk_180 0 52 (dk_at dksX0_falseAt_0 20 rfl rfl)
theorem dX0_falseAt_23 : decode cX0_falseAt 23 = .ok (.getfield 262, 3) := dk_180 1 6 (dk_at dksX0_falseAt_1 0 rfl rfl)
theorem dX0_falseAt_26 : decode cX0_falseAt 26 = .ok (.iload_n 1, 1) := dk_27 (dk_at dksX0_falseAt_1 3 rfl rfl)
theorem dX0_falseAt_27 : decode cX0_falseAt 27 = .ok (.aaload, 1) := dk_50 (dk_at dksX0_falseAt_1 4 rfl rfl)
theorem dX0_falseAt_28 : decode cX0_falseAt 28 = .ok (.iload_n 2, 1) := dk_28 (dk_at dksX0_falseAt_1 5 rfl rfl)
theorem dX0_falseAt_29 : decode cX0_falseAt 29 = .ok (.invokevirtual 358, 3) := dk_182 1 102 (dk_at dksX0_falseAt_1 6 rfl rfl)
theorem dX0_falseAt_32 : decode cX0_falseAt 32 = .ok (.goto 5, 3) := dk_167 0 5 (dk_at dksX0_falseAt_1 9 rfl rfl)
theorem dX0_falseAt_35 : decode cX0_falseAt 35 = .ok (.ldc 139, 2) := dk_18 139 (dk_at dksX0_falseAt_1 12 rfl rfl)
theorem dX0_falseAt_37 : decode cX0_falseAt 37 = .ok (.ireturn, 1) := dk_172 (dk_at dksX0_falseAt_1 14 rfl rfl)
abbrev cX0_wrongAt : ByteArray := prog_1_method_51_code
def yX0_wrongAt : MethodName := ⟨RX0, "wrongAt", "(LStoneSheets$Rubbing;I)I"⟩
def dkwX0_wrongAt_2 : List UInt8 := [167, 0, 4, 4, 96, 62, 132, 4, 1, 167, 255, 206, 29, 172]
abbrev dktX0_wrongAt_2 : List UInt8 := dkwX0_wrongAt_2 ++ []
def dkwX0_wrongAt_1 : List UInt8 := [43, 21, 4, 182, 1, 67, 42, 180, 0, 52, 180, 1, 89, 28, 21, 4, 96, 46, 160, 0, 7, 3]
abbrev dktX0_wrongAt_1 : List UInt8 := dkwX0_wrongAt_1 ++ dktX0_wrongAt_2
def dkwX0_wrongAt_0 : List UInt8 := [3, 62, 3, 54, 4, 21, 4, 43, 180, 1, 17, 162, 0, 47, 28, 21, 4, 96, 16, 16, 162, 0, 38, 29]
abbrev dktX0_wrongAt_0 : List UInt8 := dkwX0_wrongAt_0 ++ dktX0_wrongAt_1
theorem dksX0_wrongAt_0 : cX0_wrongAt.data.toList.drop 0 = dktX0_wrongAt_0 := by decide +kernel
theorem dksX0_wrongAt_1 : cX0_wrongAt.data.toList.drop 24 = dktX0_wrongAt_1 := dk_seg dksX0_wrongAt_0 24 rfl rfl
theorem dksX0_wrongAt_2 : cX0_wrongAt.data.toList.drop 46 = dktX0_wrongAt_2 := dk_seg dksX0_wrongAt_1 22 rfl rfl
theorem dX0_wrongAt_0 : decode cX0_wrongAt 0 = .ok (.iconst 0, 1) := dk_3 (dk_at dksX0_wrongAt_0 0 rfl rfl)
theorem dX0_wrongAt_1 : decode cX0_wrongAt 1 = .ok (.istore_n 3, 1) := dk_62 (dk_at dksX0_wrongAt_0 1 rfl rfl)
theorem dX0_wrongAt_2 : decode cX0_wrongAt 2 = .ok (.iconst 0, 1) := dk_3 (dk_at dksX0_wrongAt_0 2 rfl rfl)
theorem dX0_wrongAt_3 : decode cX0_wrongAt 3 = .ok (.istore 4, 2) := dk_54 4 (dk_at dksX0_wrongAt_0 3 rfl rfl)
theorem dX0_wrongAt_5 : decode cX0_wrongAt 5 = .ok (.iload 4, 2) := dk_21 4 (dk_at dksX0_wrongAt_0 5 rfl rfl)
theorem dX0_wrongAt_7 : decode cX0_wrongAt 7 = .ok (.aload_n 1, 1) := dk_43 (dk_at dksX0_wrongAt_0 7 rfl rfl)
theorem dX0_wrongAt_8 : decode cX0_wrongAt 8 = .ok (.getfield 273, 3) := dk_180 1 17 (dk_at dksX0_wrongAt_0 8 rfl rfl)
theorem dX0_wrongAt_11 : decode cX0_wrongAt 11 = .ok (.if_icmp .ge 47, 3) := dk_162 0 47 (dk_at dksX0_wrongAt_0 11 rfl rfl)
theorem dX0_wrongAt_14 : decode cX0_wrongAt 14 = .ok (.iload_n 2, 1) := dk_28 (dk_at dksX0_wrongAt_0 14 rfl rfl)
theorem dX0_wrongAt_15 : decode cX0_wrongAt 15 = .ok (.iload 4, 2) := dk_21 4 (dk_at dksX0_wrongAt_0 15 rfl rfl)
theorem dX0_wrongAt_17 : decode cX0_wrongAt 17 = .ok (.iadd, 1) := dk_96 (dk_at dksX0_wrongAt_0 17 rfl rfl)
theorem dX0_wrongAt_18 : decode cX0_wrongAt 18 = .ok (.bipush 16, 2) := dk_16 16 (dk_at dksX0_wrongAt_0 18 rfl rfl)
theorem dX0_wrongAt_20 : decode cX0_wrongAt 20 = .ok (.if_icmp .ge 38, 3) := dk_162 0 38 (dk_at dksX0_wrongAt_0 20 rfl rfl)
theorem dX0_wrongAt_23 : decode cX0_wrongAt 23 = .ok (.iload_n 3, 1) := dk_29 (dk_at dksX0_wrongAt_0 23 rfl rfl)
theorem dX0_wrongAt_24 : decode cX0_wrongAt 24 = .ok (.aload_n 1, 1) := dk_43 (dk_at dksX0_wrongAt_1 0 rfl rfl)
theorem dX0_wrongAt_25 : decode cX0_wrongAt 25 = .ok (.iload 4, 2) := dk_21 4 (dk_at dksX0_wrongAt_1 1 rfl rfl)
theorem dX0_wrongAt_27 : decode cX0_wrongAt 27 = .ok (.invokevirtual 323, 3) := dk_182 1 67 (dk_at dksX0_wrongAt_1 3 rfl rfl)
theorem dX0_wrongAt_30 : decode cX0_wrongAt 30 = .ok (.aload_n 0, 1) := dk_42 (dk_at dksX0_wrongAt_1 6 rfl rfl)
theorem dX0_wrongAt_31 : decode cX0_wrongAt 31 = .ok (.getfield 52, 3) := dk_180 0 52 (dk_at dksX0_wrongAt_1 7 rfl rfl)
theorem dX0_wrongAt_34 : decode cX0_wrongAt 34 = .ok (.getfield 345, 3) := dk_180 1 89 (dk_at dksX0_wrongAt_1 10 rfl rfl)
theorem dX0_wrongAt_37 : decode cX0_wrongAt 37 = .ok (.iload_n 2, 1) := dk_28 (dk_at dksX0_wrongAt_1 13 rfl rfl)
theorem dX0_wrongAt_38 : decode cX0_wrongAt 38 = .ok (.iload 4, 2) := dk_21 4 (dk_at dksX0_wrongAt_1 14 rfl rfl)
theorem dX0_wrongAt_40 : decode cX0_wrongAt 40 = .ok (.iadd, 1) := dk_96 (dk_at dksX0_wrongAt_1 16 rfl rfl)
theorem dX0_wrongAt_41 : decode cX0_wrongAt 41 = .ok (.iaload, 1) := dk_46 (dk_at dksX0_wrongAt_1 17 rfl rfl)
theorem dX0_wrongAt_42 : decode cX0_wrongAt 42 = .ok (.if_icmp .ne 7, 3) := dk_160 0 7 (dk_at dksX0_wrongAt_1 18 rfl rfl)
theorem dX0_wrongAt_45 : decode cX0_wrongAt 45 = .ok (.iconst 0, 1) := dk_3 (dk_at dksX0_wrongAt_1 21 rfl rfl)
theorem dX0_wrongAt_46 : decode cX0_wrongAt 46 = .ok (.goto 4, 3) := dk_167 0 4 (dk_at dksX0_wrongAt_2 0 rfl rfl)
theorem dX0_wrongAt_49 : decode cX0_wrongAt 49 = .ok (.iconst 1, 1) := dk_4 (dk_at dksX0_wrongAt_2 3 rfl rfl)
theorem dX0_wrongAt_50 : decode cX0_wrongAt 50 = .ok (.iadd, 1) := dk_96 (dk_at dksX0_wrongAt_2 4 rfl rfl)
theorem dX0_wrongAt_51 : decode cX0_wrongAt 51 = .ok (.istore_n 3, 1) := dk_62 (dk_at dksX0_wrongAt_2 5 rfl rfl)
theorem dX0_wrongAt_52 : decode cX0_wrongAt 52 = .ok (.iinc 4 1, 3) := dk_132 4 1 (dk_at dksX0_wrongAt_2 6 rfl rfl)
theorem dX0_wrongAt_55 : decode cX0_wrongAt 55 = .ok (.goto (-50), 3) := dk_167 255 206 (dk_at dksX0_wrongAt_2 9 rfl rfl)
theorem dX0_wrongAt_58 : decode cX0_wrongAt 58 = .ok (.iload_n 3, 1) := dk_29 (dk_at dksX0_wrongAt_2 12 rfl rfl)
theorem dX0_wrongAt_59 : decode cX0_wrongAt 59 = .ok (.ireturn, 1) := dk_172 (dk_at dksX0_wrongAt_2 13 rfl rfl)
abbrev cX0_fits : ByteArray := prog_1_method_53_code
def yX0_fits : MethodName := ⟨RX0, "fits", "(II)I"⟩
def dkwX0_fits_4 : List UInt8 := [28, 154, 0, 8, 21, 4, 167, 0, 5, 21, 5, 172]
abbrev dktX0_fits_4 : List UInt8 := dkwX0_fits_4 ++ []
def dkwX0_fits_3 : List UInt8 := [21, 6, 167, 0, 5, 21, 4, 54, 4, 21, 5, 21, 7, 184, 0, 4, 54, 5, 132, 6, 1, 167, 255, 207]
abbrev dktX0_fits_3 : List UInt8 := dkwX0_fits_3 ++ dktX0_fits_4
def dkwX0_fits_2 : List UInt8 := [180, 1, 17, 100, 163, 0, 43, 42, 45, 21, 6, 182, 1, 102, 54, 7, 21, 7, 21, 5, 162, 0, 8]
abbrev dktX0_fits_2 : List UInt8 := dkwX0_fits_2 ++ dktX0_fits_3
def dkwX0_fits_1 : List UInt8 := [180, 1, 6, 27, 50, 78, 3, 54, 4, 19, 1, 106, 54, 5, 3, 54, 6, 21, 6, 16, 16, 45]
abbrev dktX0_fits_1 : List UInt8 := dkwX0_fits_1 ++ dktX0_fits_2
def dkwX0_fits_0 : List UInt8 := [42, 27, 182, 1, 44, 153, 0, 12, 28, 3, 4, 184, 0, 114, 154, 0, 6, 18, 139, 172, 42, 180, 0, 52]
abbrev dktX0_fits_0 : List UInt8 := dkwX0_fits_0 ++ dktX0_fits_1
theorem dksX0_fits_0 : cX0_fits.data.toList.drop 0 = dktX0_fits_0 := by decide +kernel
theorem dksX0_fits_1 : cX0_fits.data.toList.drop 24 = dktX0_fits_1 := dk_seg dksX0_fits_0 24 rfl rfl
theorem dksX0_fits_2 : cX0_fits.data.toList.drop 46 = dktX0_fits_2 := dk_seg dksX0_fits_1 22 rfl rfl
theorem dksX0_fits_3 : cX0_fits.data.toList.drop 69 = dktX0_fits_3 := dk_seg dksX0_fits_2 23 rfl rfl
theorem dksX0_fits_4 : cX0_fits.data.toList.drop 93 = dktX0_fits_4 := dk_seg dksX0_fits_3 24 rfl rfl
theorem dX0_fits_0 : decode cX0_fits 0 = .ok (.aload_n 0, 1) := dk_42 (dk_at dksX0_fits_0 0 rfl rfl)
theorem dX0_fits_1 : decode cX0_fits 1 = .ok (.iload_n 1, 1) := dk_27 (dk_at dksX0_fits_0 1 rfl rfl)
theorem dX0_fits_2 : decode cX0_fits 2 = .ok (.invokevirtual 300, 3) := dk_182 1 44 (dk_at dksX0_fits_0 2 rfl rfl)
theorem dX0_fits_5 : decode cX0_fits 5 = .ok (.ifCond .eq 12, 3) := dk_153 0 12 (dk_at dksX0_fits_0 5 rfl rfl)
theorem dX0_fits_8 : decode cX0_fits 8 = .ok (.iload_n 2, 1) := dk_28 (dk_at dksX0_fits_0 8 rfl rfl)
theorem dX0_fits_9 : decode cX0_fits 9 = .ok (.iconst 0, 1) := dk_3 (dk_at dksX0_fits_0 9 rfl rfl)
theorem dX0_fits_10 : decode cX0_fits 10 = .ok (.iconst 1, 1) := dk_4 (dk_at dksX0_fits_0 10 rfl rfl)
theorem dX0_fits_11 : decode cX0_fits 11 = .ok (.invokestatic 114, 3) := dk_184 0 114 (dk_at dksX0_fits_0 11 rfl rfl)
theorem dX0_fits_14 : decode cX0_fits 14 = .ok (.ifCond .ne 6, 3) := dk_154 0 6 (dk_at dksX0_fits_0 14 rfl rfl)
theorem dX0_fits_17 : decode cX0_fits 17 = .ok (.ldc 139, 2) := dk_18 139 (dk_at dksX0_fits_0 17 rfl rfl)
theorem dX0_fits_19 : decode cX0_fits 19 = .ok (.ireturn, 1) := dk_172 (dk_at dksX0_fits_0 19 rfl rfl)
theorem dX0_fits_20 : decode cX0_fits 20 = .ok (.aload_n 0, 1) := dk_42 (dk_at dksX0_fits_0 20 rfl rfl)
theorem dX0_fits_21 : decode cX0_fits 21 = .ok (.getfield 52, 3) := dk_180 0 52 (dk_at dksX0_fits_0 21 rfl rfl)
theorem dX0_fits_24 : decode cX0_fits 24 = .ok (.getfield 262, 3) := dk_180 1 6 (dk_at dksX0_fits_1 0 rfl rfl)
theorem dX0_fits_27 : decode cX0_fits 27 = .ok (.iload_n 1, 1) := dk_27 (dk_at dksX0_fits_1 3 rfl rfl)
theorem dX0_fits_28 : decode cX0_fits 28 = .ok (.aaload, 1) := dk_50 (dk_at dksX0_fits_1 4 rfl rfl)
theorem dX0_fits_29 : decode cX0_fits 29 = .ok (.astore_n 3, 1) := dk_78 (dk_at dksX0_fits_1 5 rfl rfl)
theorem dX0_fits_30 : decode cX0_fits 30 = .ok (.iconst 0, 1) := dk_3 (dk_at dksX0_fits_1 6 rfl rfl)
theorem dX0_fits_31 : decode cX0_fits 31 = .ok (.istore 4, 2) := dk_54 4 (dk_at dksX0_fits_1 7 rfl rfl)
theorem dX0_fits_33 : decode cX0_fits 33 = .ok (.ldc_w 362, 3) := dk_19 1 106 (dk_at dksX0_fits_1 9 rfl rfl)
theorem dX0_fits_36 : decode cX0_fits 36 = .ok (.istore 5, 2) := dk_54 5 (dk_at dksX0_fits_1 12 rfl rfl)
theorem dX0_fits_38 : decode cX0_fits 38 = .ok (.iconst 0, 1) := dk_3 (dk_at dksX0_fits_1 14 rfl rfl)
theorem dX0_fits_39 : decode cX0_fits 39 = .ok (.istore 6, 2) := dk_54 6 (dk_at dksX0_fits_1 15 rfl rfl)
theorem dX0_fits_41 : decode cX0_fits 41 = .ok (.iload 6, 2) := dk_21 6 (dk_at dksX0_fits_1 17 rfl rfl)
theorem dX0_fits_43 : decode cX0_fits 43 = .ok (.bipush 16, 2) := dk_16 16 (dk_at dksX0_fits_1 19 rfl rfl)
theorem dX0_fits_45 : decode cX0_fits 45 = .ok (.aload_n 3, 1) := dk_45 (dk_at dksX0_fits_1 21 rfl rfl)
theorem dX0_fits_46 : decode cX0_fits 46 = .ok (.getfield 273, 3) := dk_180 1 17 (dk_at dksX0_fits_2 0 rfl rfl)
theorem dX0_fits_49 : decode cX0_fits 49 = .ok (.isub, 1) := dk_100 (dk_at dksX0_fits_2 3 rfl rfl)
theorem dX0_fits_50 : decode cX0_fits 50 = .ok (.if_icmp .gt 43, 3) := dk_163 0 43 (dk_at dksX0_fits_2 4 rfl rfl)
theorem dX0_fits_53 : decode cX0_fits 53 = .ok (.aload_n 0, 1) := dk_42 (dk_at dksX0_fits_2 7 rfl rfl)
theorem dX0_fits_54 : decode cX0_fits 54 = .ok (.aload_n 3, 1) := dk_45 (dk_at dksX0_fits_2 8 rfl rfl)
theorem dX0_fits_55 : decode cX0_fits 55 = .ok (.iload 6, 2) := dk_21 6 (dk_at dksX0_fits_2 9 rfl rfl)
theorem dX0_fits_57 : decode cX0_fits 57 = .ok (.invokevirtual 358, 3) := dk_182 1 102 (dk_at dksX0_fits_2 11 rfl rfl)
theorem dX0_fits_60 : decode cX0_fits 60 = .ok (.istore 7, 2) := dk_54 7 (dk_at dksX0_fits_2 14 rfl rfl)
theorem dX0_fits_62 : decode cX0_fits 62 = .ok (.iload 7, 2) := dk_21 7 (dk_at dksX0_fits_2 16 rfl rfl)
theorem dX0_fits_64 : decode cX0_fits 64 = .ok (.iload 5, 2) := dk_21 5 (dk_at dksX0_fits_2 18 rfl rfl)
theorem dX0_fits_66 : decode cX0_fits 66 = .ok (.if_icmp .ge 8, 3) := dk_162 0 8 (dk_at dksX0_fits_2 20 rfl rfl)
theorem dX0_fits_69 : decode cX0_fits 69 = .ok (.iload 6, 2) := dk_21 6 (dk_at dksX0_fits_3 0 rfl rfl)
theorem dX0_fits_71 : decode cX0_fits 71 = .ok (.goto 5, 3) := dk_167 0 5 (dk_at dksX0_fits_3 2 rfl rfl)
theorem dX0_fits_74 : decode cX0_fits 74 = .ok (.iload 4, 2) := dk_21 4 (dk_at dksX0_fits_3 5 rfl rfl)
theorem dX0_fits_76 : decode cX0_fits 76 = .ok (.istore 4, 2) := dk_54 4 (dk_at dksX0_fits_3 7 rfl rfl)
theorem dX0_fits_78 : decode cX0_fits 78 = .ok (.iload 5, 2) := dk_21 5 (dk_at dksX0_fits_3 9 rfl rfl)
theorem dX0_fits_80 : decode cX0_fits 80 = .ok (.iload 7, 2) := dk_21 7 (dk_at dksX0_fits_3 11 rfl rfl)
theorem dX0_fits_82 : decode cX0_fits 82 = .ok (.invokestatic 4, 3) := dk_184 0 4 (dk_at dksX0_fits_3 13 rfl rfl)
theorem dX0_fits_85 : decode cX0_fits 85 = .ok (.istore 5, 2) := dk_54 5 (dk_at dksX0_fits_3 16 rfl rfl)
theorem dX0_fits_87 : decode cX0_fits 87 = .ok (.iinc 6 1, 3) := dk_132 6 1 (dk_at dksX0_fits_3 18 rfl rfl)
theorem dX0_fits_90 : decode cX0_fits 90 = .ok (.goto (-49), 3) := dk_167 255 207 (dk_at dksX0_fits_3 21 rfl rfl)
theorem dX0_fits_93 : decode cX0_fits 93 = .ok (.iload_n 2, 1) := dk_28 (dk_at dksX0_fits_4 0 rfl rfl)
theorem dX0_fits_94 : decode cX0_fits 94 = .ok (.ifCond .ne 8, 3) := dk_154 0 8 (dk_at dksX0_fits_4 1 rfl rfl)
theorem dX0_fits_97 : decode cX0_fits 97 = .ok (.iload 4, 2) := dk_21 4 (dk_at dksX0_fits_4 4 rfl rfl)
theorem dX0_fits_99 : decode cX0_fits 99 = .ok (.goto 5, 3) := dk_167 0 5 (dk_at dksX0_fits_4 6 rfl rfl)
theorem dX0_fits_102 : decode cX0_fits 102 = .ok (.iload 5, 2) := dk_21 5 (dk_at dksX0_fits_4 9 rfl rfl)
theorem dX0_fits_104 : decode cX0_fits 104 = .ok (.ireturn, 1) := dk_172 (dk_at dksX0_fits_4 11 rfl rfl)
abbrev cX0_join : ByteArray := prog_1_method_56_code
def yX0_join : MethodName := ⟨RX0, "join", "(III)I"⟩
def dkwX0_join_5 : List UInt8 := [154, 0, 8, 21, 5, 167, 0, 5, 21, 6, 172]
abbrev dktX0_join_5 : List UInt8 := dkwX0_join_5 ++ []
def dkwX0_join_4 : List UInt8 := [167, 0, 5, 21, 5, 54, 5, 21, 6, 21, 8, 184, 0, 10, 54, 6, 132, 7, 1, 167, 255, 200, 29]
abbrev dktX0_join_4 : List UInt8 := dkwX0_join_4 ++ dktX0_join_5
def dkwX0_join_3 : List UInt8 := [180, 0, 52, 180, 1, 6, 28, 50, 21, 7, 184, 1, 110, 54, 8, 21, 8, 21, 6, 164, 0, 8, 21, 7]
abbrev dktX0_join_3 : List UInt8 := dkwX0_join_3 ++ dktX0_join_4
def dkwX0_join_2 : List UInt8 := [3, 184, 1, 110, 54, 6, 4, 54, 7, 21, 7, 25, 4, 180, 1, 17, 162, 0, 52, 25, 4, 42]
abbrev dktX0_join_2 : List UInt8 := dkwX0_join_2 ++ dktX0_join_3
def dkwX0_join_1 : List UInt8 := [180, 0, 52, 180, 1, 6, 27, 50, 58, 4, 3, 54, 5, 25, 4, 42, 180, 0, 52, 180, 1, 6, 28, 50]
abbrev dktX0_join_1 : List UInt8 := dkwX0_join_1 ++ dktX0_join_2
def dkwX0_join_0 : List UInt8 := [42, 27, 28, 182, 1, 107, 153, 0, 12, 29, 3, 4, 184, 0, 114, 154, 0, 6, 18, 139, 172, 42]
abbrev dktX0_join_0 : List UInt8 := dkwX0_join_0 ++ dktX0_join_1
theorem dksX0_join_0 : cX0_join.data.toList.drop 0 = dktX0_join_0 := by decide +kernel
theorem dksX0_join_1 : cX0_join.data.toList.drop 22 = dktX0_join_1 := dk_seg dksX0_join_0 22 rfl rfl
theorem dksX0_join_2 : cX0_join.data.toList.drop 46 = dktX0_join_2 := dk_seg dksX0_join_1 24 rfl rfl
theorem dksX0_join_3 : cX0_join.data.toList.drop 68 = dktX0_join_3 := dk_seg dksX0_join_2 22 rfl rfl
theorem dksX0_join_4 : cX0_join.data.toList.drop 92 = dktX0_join_4 := dk_seg dksX0_join_3 24 rfl rfl
theorem dksX0_join_5 : cX0_join.data.toList.drop 115 = dktX0_join_5 := dk_seg dksX0_join_4 23 rfl rfl
theorem dX0_join_0 : decode cX0_join 0 = .ok (.aload_n 0, 1) := dk_42 (dk_at dksX0_join_0 0 rfl rfl)
theorem dX0_join_1 : decode cX0_join 1 = .ok (.iload_n 1, 1) := dk_27 (dk_at dksX0_join_0 1 rfl rfl)
theorem dX0_join_2 : decode cX0_join 2 = .ok (.iload_n 2, 1) := dk_28 (dk_at dksX0_join_0 2 rfl rfl)
theorem dX0_join_3 : decode cX0_join 3 = .ok (.invokevirtual 363, 3) := dk_182 1 107 (dk_at dksX0_join_0 3 rfl rfl)
theorem dX0_join_6 : decode cX0_join 6 = .ok (.ifCond .eq 12, 3) := dk_153 0 12 (dk_at dksX0_join_0 6 rfl rfl)
theorem dX0_join_9 : decode cX0_join 9 = .ok (.iload_n 3, 1) := dk_29 (dk_at dksX0_join_0 9 rfl rfl)
theorem dX0_join_10 : decode cX0_join 10 = .ok (.iconst 0, 1) := dk_3 (dk_at dksX0_join_0 10 rfl rfl)
theorem dX0_join_11 : decode cX0_join 11 = .ok (.iconst 1, 1) := dk_4 (dk_at dksX0_join_0 11 rfl rfl)
theorem dX0_join_12 : decode cX0_join 12 = .ok (.invokestatic 114, 3) := dk_184 0 114 (dk_at dksX0_join_0 12 rfl rfl)
theorem dX0_join_15 : decode cX0_join 15 = .ok (.ifCond .ne 6, 3) := dk_154 0 6 (dk_at dksX0_join_0 15 rfl rfl)
theorem dX0_join_18 : decode cX0_join 18 = .ok (.ldc 139, 2) := dk_18 139 (dk_at dksX0_join_0 18 rfl rfl)
theorem dX0_join_20 : decode cX0_join 20 = .ok (.ireturn, 1) := dk_172 (dk_at dksX0_join_0 20 rfl rfl)
theorem dX0_join_21 : decode cX0_join 21 = .ok (.aload_n 0, 1) := dk_42 (dk_at dksX0_join_0 21 rfl rfl)
theorem dX0_join_22 : decode cX0_join 22 = .ok (.getfield 52, 3) := dk_180 0 52 (dk_at dksX0_join_1 0 rfl rfl)
theorem dX0_join_25 : decode cX0_join 25 = .ok (.getfield 262, 3) := dk_180 1 6 (dk_at dksX0_join_1 3 rfl rfl)
theorem dX0_join_28 : decode cX0_join 28 = .ok (.iload_n 1, 1) := dk_27 (dk_at dksX0_join_1 6 rfl rfl)
theorem dX0_join_29 : decode cX0_join 29 = .ok (.aaload, 1) := dk_50 (dk_at dksX0_join_1 7 rfl rfl)
theorem dX0_join_30 : decode cX0_join 30 = .ok (.astore 4, 2) := dk_58 4 (dk_at dksX0_join_1 8 rfl rfl)
theorem dX0_join_32 : decode cX0_join 32 = .ok (.iconst 0, 1) := dk_3 (dk_at dksX0_join_1 10 rfl rfl)
theorem dX0_join_33 : decode cX0_join 33 = .ok (.istore 5, 2) := dk_54 5 (dk_at dksX0_join_1 11 rfl rfl)
theorem dX0_join_35 : decode cX0_join 35 = .ok (.aload 4, 2) := dk_25 4 (dk_at dksX0_join_1 13 rfl rfl)
theorem dX0_join_37 : decode cX0_join 37 = .ok (.aload_n 0, 1) := dk_42 (dk_at dksX0_join_1 15 rfl rfl)
theorem dX0_join_38 : decode cX0_join 38 = .ok (.getfield 52, 3) := dk_180 0 52 (dk_at dksX0_join_1 16 rfl rfl)
theorem dX0_join_41 : decode cX0_join 41 = .ok (.getfield 262, 3) := dk_180 1 6 (dk_at dksX0_join_1 19 rfl rfl)
theorem dX0_join_44 : decode cX0_join 44 = .ok (.iload_n 2, 1) := dk_28 (dk_at dksX0_join_1 22 rfl rfl)
theorem dX0_join_45 : decode cX0_join 45 = .ok (.aaload, 1) := dk_50 (dk_at dksX0_join_1 23 rfl rfl)
theorem dX0_join_46 : decode cX0_join 46 = .ok (.iconst 0, 1) := dk_3 (dk_at dksX0_join_2 0 rfl rfl)
theorem dX0_join_47 : decode cX0_join 47 = .ok (.invokestatic 366, 3) := dk_184 1 110 (dk_at dksX0_join_2 1 rfl rfl)
theorem dX0_join_50 : decode cX0_join 50 = .ok (.istore 6, 2) := dk_54 6 (dk_at dksX0_join_2 4 rfl rfl)
theorem dX0_join_52 : decode cX0_join 52 = .ok (.iconst 1, 1) := dk_4 (dk_at dksX0_join_2 6 rfl rfl)
theorem dX0_join_53 : decode cX0_join 53 = .ok (.istore 7, 2) := dk_54 7 (dk_at dksX0_join_2 7 rfl rfl)
theorem dX0_join_55 : decode cX0_join 55 = .ok (.iload 7, 2) := dk_21 7 (dk_at dksX0_join_2 9 rfl rfl)
theorem dX0_join_57 : decode cX0_join 57 = .ok (.aload 4, 2) := dk_25 4 (dk_at dksX0_join_2 11 rfl rfl)
theorem dX0_join_59 : decode cX0_join 59 = .ok (.getfield 273, 3) := dk_180 1 17 (dk_at dksX0_join_2 13 rfl rfl)
theorem dX0_join_62 : decode cX0_join 62 = .ok (.if_icmp .ge 52, 3) := dk_162 0 52 (dk_at dksX0_join_2 16 rfl rfl)
theorem dX0_join_65 : decode cX0_join 65 = .ok (.aload 4, 2) := dk_25 4 (dk_at dksX0_join_2 19 rfl rfl)
theorem dX0_join_67 : decode cX0_join 67 = .ok (.aload_n 0, 1) := dk_42 (dk_at dksX0_join_2 21 rfl rfl)
theorem dX0_join_68 : decode cX0_join 68 = .ok (.getfield 52, 3) := dk_180 0 52 (dk_at dksX0_join_3 0 rfl rfl)
theorem dX0_join_71 : decode cX0_join 71 = .ok (.getfield 262, 3) := dk_180 1 6 (dk_at dksX0_join_3 3 rfl rfl)
theorem dX0_join_74 : decode cX0_join 74 = .ok (.iload_n 2, 1) := dk_28 (dk_at dksX0_join_3 6 rfl rfl)
theorem dX0_join_75 : decode cX0_join 75 = .ok (.aaload, 1) := dk_50 (dk_at dksX0_join_3 7 rfl rfl)
theorem dX0_join_76 : decode cX0_join 76 = .ok (.iload 7, 2) := dk_21 7 (dk_at dksX0_join_3 8 rfl rfl)
theorem dX0_join_78 : decode cX0_join 78 = .ok (.invokestatic 366, 3) := dk_184 1 110 (dk_at dksX0_join_3 10 rfl rfl)
theorem dX0_join_81 : decode cX0_join 81 = .ok (.istore 8, 2) := dk_54 8 (dk_at dksX0_join_3 13 rfl rfl)
theorem dX0_join_83 : decode cX0_join 83 = .ok (.iload 8, 2) := dk_21 8 (dk_at dksX0_join_3 15 rfl rfl)
theorem dX0_join_85 : decode cX0_join 85 = .ok (.iload 6, 2) := dk_21 6 (dk_at dksX0_join_3 17 rfl rfl)
theorem dX0_join_87 : decode cX0_join 87 = .ok (.if_icmp .le 8, 3) := dk_164 0 8 (dk_at dksX0_join_3 19 rfl rfl)
theorem dX0_join_90 : decode cX0_join 90 = .ok (.iload 7, 2) := dk_21 7 (dk_at dksX0_join_3 22 rfl rfl)
theorem dX0_join_92 : decode cX0_join 92 = .ok (.goto 5, 3) := dk_167 0 5 (dk_at dksX0_join_4 0 rfl rfl)
theorem dX0_join_95 : decode cX0_join 95 = .ok (.iload 5, 2) := dk_21 5 (dk_at dksX0_join_4 3 rfl rfl)
theorem dX0_join_97 : decode cX0_join 97 = .ok (.istore 5, 2) := dk_54 5 (dk_at dksX0_join_4 5 rfl rfl)
theorem dX0_join_99 : decode cX0_join 99 = .ok (.iload 6, 2) := dk_21 6 (dk_at dksX0_join_4 7 rfl rfl)
theorem dX0_join_101 : decode cX0_join 101 = .ok (.iload 8, 2) := dk_21 8 (dk_at dksX0_join_4 9 rfl rfl)
theorem dX0_join_103 : decode cX0_join 103 = .ok (.invokestatic 10, 3) := dk_184 0 10 (dk_at dksX0_join_4 11 rfl rfl)
theorem dX0_join_106 : decode cX0_join 106 = .ok (.istore 6, 2) := dk_54 6 (dk_at dksX0_join_4 14 rfl rfl)
theorem dX0_join_108 : decode cX0_join 108 = .ok (.iinc 7 1, 3) := dk_132 7 1 (dk_at dksX0_join_4 16 rfl rfl)
theorem dX0_join_111 : decode cX0_join 111 = .ok (.goto (-56), 3) := dk_167 255 200 (dk_at dksX0_join_4 19 rfl rfl)
theorem dX0_join_114 : decode cX0_join 114 = .ok (.iload_n 3, 1) := dk_29 (dk_at dksX0_join_4 22 rfl rfl)
theorem dX0_join_115 : decode cX0_join 115 = .ok (.ifCond .ne 8, 3) := dk_154 0 8 (dk_at dksX0_join_5 0 rfl rfl)
theorem dX0_join_118 : decode cX0_join 118 = .ok (.iload 5, 2) := dk_21 5 (dk_at dksX0_join_5 3 rfl rfl)
theorem dX0_join_120 : decode cX0_join 120 = .ok (.goto 5, 3) := dk_167 0 5 (dk_at dksX0_join_5 5 rfl rfl)
theorem dX0_join_123 : decode cX0_join 123 = .ok (.iload 6, 2) := dk_21 6 (dk_at dksX0_join_5 8 rfl rfl)
theorem dX0_join_125 : decode cX0_join 125 = .ok (.ireturn, 1) := dk_172 (dk_at dksX0_join_5 10 rfl rfl)
abbrev cX0_areTwo : ByteArray := prog_1_method_55_code
def yX0_areTwo : MethodName := ⟨RX0, "areTwo", "(II)Z"⟩
def dkwX0_areTwo_1 : List UInt8 := [167, 0, 4, 3, 172]
abbrev dktX0_areTwo_1 : List UInt8 := dkwX0_areTwo_1 ++ []
def dkwX0_areTwo_0 : List UInt8 := [42, 27, 182, 1, 44, 153, 0, 20, 42, 28, 182, 1, 44, 153, 0, 12, 27, 28, 159, 0, 7, 4]
abbrev dktX0_areTwo_0 : List UInt8 := dkwX0_areTwo_0 ++ dktX0_areTwo_1
theorem dksX0_areTwo_0 : cX0_areTwo.data.toList.drop 0 = dktX0_areTwo_0 := by decide +kernel
theorem dksX0_areTwo_1 : cX0_areTwo.data.toList.drop 22 = dktX0_areTwo_1 := dk_seg dksX0_areTwo_0 22 rfl rfl
theorem dX0_areTwo_0 : decode cX0_areTwo 0 = .ok (.aload_n 0, 1) := dk_42 (dk_at dksX0_areTwo_0 0 rfl rfl)
theorem dX0_areTwo_1 : decode cX0_areTwo 1 = .ok (.iload_n 1, 1) := dk_27 (dk_at dksX0_areTwo_0 1 rfl rfl)
theorem dX0_areTwo_2 : decode cX0_areTwo 2 = .ok (.invokevirtual 300, 3) := dk_182 1 44 (dk_at dksX0_areTwo_0 2 rfl rfl)
theorem dX0_areTwo_5 : decode cX0_areTwo 5 = .ok (.ifCond .eq 20, 3) := dk_153 0 20 (dk_at dksX0_areTwo_0 5 rfl rfl)
theorem dX0_areTwo_8 : decode cX0_areTwo 8 = .ok (.aload_n 0, 1) := dk_42 (dk_at dksX0_areTwo_0 8 rfl rfl)
theorem dX0_areTwo_9 : decode cX0_areTwo 9 = .ok (.iload_n 2, 1) := dk_28 (dk_at dksX0_areTwo_0 9 rfl rfl)
theorem dX0_areTwo_10 : decode cX0_areTwo 10 = .ok (.invokevirtual 300, 3) := dk_182 1 44 (dk_at dksX0_areTwo_0 10 rfl rfl)
theorem dX0_areTwo_13 : decode cX0_areTwo 13 = .ok (.ifCond .eq 12, 3) := dk_153 0 12 (dk_at dksX0_areTwo_0 13 rfl rfl)
theorem dX0_areTwo_16 : decode cX0_areTwo 16 = .ok (.iload_n 1, 1) := dk_27 (dk_at dksX0_areTwo_0 16 rfl rfl)
theorem dX0_areTwo_17 : decode cX0_areTwo 17 = .ok (.iload_n 2, 1) := dk_28 (dk_at dksX0_areTwo_0 17 rfl rfl)
theorem dX0_areTwo_18 : decode cX0_areTwo 18 = .ok (.if_icmp .eq 7, 3) := dk_159 0 7 (dk_at dksX0_areTwo_0 18 rfl rfl)
theorem dX0_areTwo_21 : decode cX0_areTwo 21 = .ok (.iconst 1, 1) := dk_4 (dk_at dksX0_areTwo_0 21 rfl rfl)
theorem dX0_areTwo_22 : decode cX0_areTwo 22 = .ok (.goto 4, 3) := dk_167 0 4 (dk_at dksX0_areTwo_1 0 rfl rfl)
theorem dX0_areTwo_25 : decode cX0_areTwo 25 = .ok (.iconst 0, 1) := dk_3 (dk_at dksX0_areTwo_1 3 rfl rfl)
theorem dX0_areTwo_26 : decode cX0_areTwo 26 = .ok (.ireturn, 1) := dk_172 (dk_at dksX0_areTwo_1 4 rfl rfl)
abbrev cX0_alikeBy : ByteArray := prog_1_method_54_code
def yX0_alikeBy : MethodName := ⟨RX0, "alikeBy", "(LStoneSheets$Rubbing;LStoneSheets$Rubbing;I)I"⟩
def dkwX0_alikeBy_2 : List UInt8 := [167, 0, 5, 16, 254, 96, 62, 132, 4, 1, 167, 255, 207, 29, 172]
abbrev dktX0_alikeBy_2 : List UInt8 := dkwX0_alikeBy_2 ++ []
def dkwX0_alikeBy_1 : List UInt8 := [162, 0, 35, 29, 42, 21, 4, 182, 1, 67, 43, 21, 4, 28, 100, 182, 1, 67, 160, 0, 7, 4]
abbrev dktX0_alikeBy_1 : List UInt8 := dkwX0_alikeBy_1 ++ dktX0_alikeBy_2
def dkwX0_alikeBy_0 : List UInt8 := [3, 62, 28, 54, 4, 21, 4, 42, 180, 1, 17, 162, 0, 46, 21, 4, 28, 100, 43, 180, 1, 17]
abbrev dktX0_alikeBy_0 : List UInt8 := dkwX0_alikeBy_0 ++ dktX0_alikeBy_1
theorem dksX0_alikeBy_0 : cX0_alikeBy.data.toList.drop 0 = dktX0_alikeBy_0 := by decide +kernel
theorem dksX0_alikeBy_1 : cX0_alikeBy.data.toList.drop 22 = dktX0_alikeBy_1 := dk_seg dksX0_alikeBy_0 22 rfl rfl
theorem dksX0_alikeBy_2 : cX0_alikeBy.data.toList.drop 44 = dktX0_alikeBy_2 := dk_seg dksX0_alikeBy_1 22 rfl rfl
theorem dX0_alikeBy_0 : decode cX0_alikeBy 0 = .ok (.iconst 0, 1) := dk_3 (dk_at dksX0_alikeBy_0 0 rfl rfl)
theorem dX0_alikeBy_1 : decode cX0_alikeBy 1 = .ok (.istore_n 3, 1) := dk_62 (dk_at dksX0_alikeBy_0 1 rfl rfl)
theorem dX0_alikeBy_2 : decode cX0_alikeBy 2 = .ok (.iload_n 2, 1) := dk_28 (dk_at dksX0_alikeBy_0 2 rfl rfl)
theorem dX0_alikeBy_3 : decode cX0_alikeBy 3 = .ok (.istore 4, 2) := dk_54 4 (dk_at dksX0_alikeBy_0 3 rfl rfl)
theorem dX0_alikeBy_5 : decode cX0_alikeBy 5 = .ok (.iload 4, 2) := dk_21 4 (dk_at dksX0_alikeBy_0 5 rfl rfl)
theorem dX0_alikeBy_7 : decode cX0_alikeBy 7 = .ok (.aload_n 0, 1) := dk_42 (dk_at dksX0_alikeBy_0 7 rfl rfl)
theorem dX0_alikeBy_8 : decode cX0_alikeBy 8 = .ok (.getfield 273, 3) := dk_180 1 17 (dk_at dksX0_alikeBy_0 8 rfl rfl)
theorem dX0_alikeBy_11 : decode cX0_alikeBy 11 = .ok (.if_icmp .ge 46, 3) := dk_162 0 46 (dk_at dksX0_alikeBy_0 11 rfl rfl)
theorem dX0_alikeBy_14 : decode cX0_alikeBy 14 = .ok (.iload 4, 2) := dk_21 4 (dk_at dksX0_alikeBy_0 14 rfl rfl)
theorem dX0_alikeBy_16 : decode cX0_alikeBy 16 = .ok (.iload_n 2, 1) := dk_28 (dk_at dksX0_alikeBy_0 16 rfl rfl)
theorem dX0_alikeBy_17 : decode cX0_alikeBy 17 = .ok (.isub, 1) := dk_100 (dk_at dksX0_alikeBy_0 17 rfl rfl)
theorem dX0_alikeBy_18 : decode cX0_alikeBy 18 = .ok (.aload_n 1, 1) := dk_43 (dk_at dksX0_alikeBy_0 18 rfl rfl)
theorem dX0_alikeBy_19 : decode cX0_alikeBy 19 = .ok (.getfield 273, 3) := dk_180 1 17 (dk_at dksX0_alikeBy_0 19 rfl rfl)
theorem dX0_alikeBy_22 : decode cX0_alikeBy 22 = .ok (.if_icmp .ge 35, 3) := dk_162 0 35 (dk_at dksX0_alikeBy_1 0 rfl rfl)
theorem dX0_alikeBy_25 : decode cX0_alikeBy 25 = .ok (.iload_n 3, 1) := dk_29 (dk_at dksX0_alikeBy_1 3 rfl rfl)
theorem dX0_alikeBy_26 : decode cX0_alikeBy 26 = .ok (.aload_n 0, 1) := dk_42 (dk_at dksX0_alikeBy_1 4 rfl rfl)
theorem dX0_alikeBy_27 : decode cX0_alikeBy 27 = .ok (.iload 4, 2) := dk_21 4 (dk_at dksX0_alikeBy_1 5 rfl rfl)
theorem dX0_alikeBy_29 : decode cX0_alikeBy 29 = .ok (.invokevirtual 323, 3) := dk_182 1 67 (dk_at dksX0_alikeBy_1 7 rfl rfl)
theorem dX0_alikeBy_32 : decode cX0_alikeBy 32 = .ok (.aload_n 1, 1) := dk_43 (dk_at dksX0_alikeBy_1 10 rfl rfl)
theorem dX0_alikeBy_33 : decode cX0_alikeBy 33 = .ok (.iload 4, 2) := dk_21 4 (dk_at dksX0_alikeBy_1 11 rfl rfl)
theorem dX0_alikeBy_35 : decode cX0_alikeBy 35 = .ok (.iload_n 2, 1) := dk_28 (dk_at dksX0_alikeBy_1 13 rfl rfl)
theorem dX0_alikeBy_36 : decode cX0_alikeBy 36 = .ok (.isub, 1) := dk_100 (dk_at dksX0_alikeBy_1 14 rfl rfl)
theorem dX0_alikeBy_37 : decode cX0_alikeBy 37 = .ok (.invokevirtual 323, 3) := dk_182 1 67 (dk_at dksX0_alikeBy_1 15 rfl rfl)
theorem dX0_alikeBy_40 : decode cX0_alikeBy 40 = .ok (.if_icmp .ne 7, 3) := dk_160 0 7 (dk_at dksX0_alikeBy_1 18 rfl rfl)
theorem dX0_alikeBy_43 : decode cX0_alikeBy 43 = .ok (.iconst 1, 1) := dk_4 (dk_at dksX0_alikeBy_1 21 rfl rfl)
theorem dX0_alikeBy_44 : decode cX0_alikeBy 44 = .ok (.goto 5, 3) := dk_167 0 5 (dk_at dksX0_alikeBy_2 0 rfl rfl)
theorem dX0_alikeBy_47 : decode cX0_alikeBy 47 = .ok (.bipush (-2), 2) := dk_16 254 (dk_at dksX0_alikeBy_2 3 rfl rfl)
theorem dX0_alikeBy_49 : decode cX0_alikeBy 49 = .ok (.iadd, 1) := dk_96 (dk_at dksX0_alikeBy_2 5 rfl rfl)
theorem dX0_alikeBy_50 : decode cX0_alikeBy 50 = .ok (.istore_n 3, 1) := dk_62 (dk_at dksX0_alikeBy_2 6 rfl rfl)
theorem dX0_alikeBy_51 : decode cX0_alikeBy 51 = .ok (.iinc 4 1, 3) := dk_132 4 1 (dk_at dksX0_alikeBy_2 7 rfl rfl)
theorem dX0_alikeBy_54 : decode cX0_alikeBy 54 = .ok (.goto (-49), 3) := dk_167 255 207 (dk_at dksX0_alikeBy_2 10 rfl rfl)
theorem dX0_alikeBy_57 : decode cX0_alikeBy 57 = .ok (.iload_n 3, 1) := dk_29 (dk_at dksX0_alikeBy_2 13 rfl rfl)
theorem dX0_alikeBy_58 : decode cX0_alikeBy 58 = .ok (.ireturn, 1) := dk_172 (dk_at dksX0_alikeBy_2 14 rfl rfl)
abbrev cX0_clash : ByteArray := prog_1_method_58_code
def yX0_clash : MethodName := ⟨RX0, "clash", "(II)I"⟩
def dkwX0_clash_1 : List UInt8 := [167, 0, 5, 18, 139, 172]
abbrev dktX0_clash_1 : List UInt8 := dkwX0_clash_1 ++ []
def dkwX0_clash_0 : List UInt8 := [42, 27, 28, 182, 1, 107, 153, 0, 20, 42, 27, 28, 182, 1, 114, 153, 0, 7, 4, 167, 0, 9, 3]
abbrev dktX0_clash_0 : List UInt8 := dkwX0_clash_0 ++ dktX0_clash_1
theorem dksX0_clash_0 : cX0_clash.data.toList.drop 0 = dktX0_clash_0 := by decide +kernel
theorem dksX0_clash_1 : cX0_clash.data.toList.drop 23 = dktX0_clash_1 := dk_seg dksX0_clash_0 23 rfl rfl
theorem dX0_clash_0 : decode cX0_clash 0 = .ok (.aload_n 0, 1) := dk_42 (dk_at dksX0_clash_0 0 rfl rfl)
theorem dX0_clash_1 : decode cX0_clash 1 = .ok (.iload_n 1, 1) := dk_27 (dk_at dksX0_clash_0 1 rfl rfl)
theorem dX0_clash_2 : decode cX0_clash 2 = .ok (.iload_n 2, 1) := dk_28 (dk_at dksX0_clash_0 2 rfl rfl)
theorem dX0_clash_3 : decode cX0_clash 3 = .ok (.invokevirtual 363, 3) := dk_182 1 107 (dk_at dksX0_clash_0 3 rfl rfl)
theorem dX0_clash_6 : decode cX0_clash 6 = .ok (.ifCond .eq 20, 3) := dk_153 0 20 (dk_at dksX0_clash_0 6 rfl rfl)
theorem dX0_clash_9 : decode cX0_clash 9 = .ok (.aload_n 0, 1) := dk_42 (dk_at dksX0_clash_0 9 rfl rfl)
theorem dX0_clash_10 : decode cX0_clash 10 = .ok (.iload_n 1, 1) := dk_27 (dk_at dksX0_clash_0 10 rfl rfl)
theorem dX0_clash_11 : decode cX0_clash 11 = .ok (.iload_n 2, 1) := dk_28 (dk_at dksX0_clash_0 11 rfl rfl)
theorem dX0_clash_12 : decode cX0_clash 12 = .ok (.invokevirtual 370, 3) := dk_182 1 114 (dk_at dksX0_clash_0 12 rfl rfl)
theorem dX0_clash_15 : decode cX0_clash 15 = .ok (.ifCond .eq 7, 3) := dk_153 0 7 (dk_at dksX0_clash_0 15 rfl rfl)
theorem dX0_clash_18 : decode cX0_clash 18 = .ok (.iconst 1, 1) := dk_4 (dk_at dksX0_clash_0 18 rfl rfl)
theorem dX0_clash_19 : decode cX0_clash 19 = .ok (.goto 9, 3) := dk_167 0 9 (dk_at dksX0_clash_0 19 rfl rfl)
theorem dX0_clash_22 : decode cX0_clash 22 = .ok (.iconst 0, 1) := dk_3 (dk_at dksX0_clash_0 22 rfl rfl)
theorem dX0_clash_23 : decode cX0_clash 23 = .ok (.goto 5, 3) := dk_167 0 5 (dk_at dksX0_clash_1 0 rfl rfl)
theorem dX0_clash_26 : decode cX0_clash 26 = .ok (.ldc 139, 2) := dk_18 139 (dk_at dksX0_clash_1 3 rfl rfl)
theorem dX0_clash_28 : decode cX0_clash 28 = .ok (.ireturn, 1) := dk_172 (dk_at dksX0_clash_1 5 rfl rfl)
abbrev cX0_isClash : ByteArray := prog_1_method_57_code
def yX0_isClash : MethodName := ⟨RX0, "isClash", "(II)Z"⟩
def dkwX0_isClash_3 : List UInt8 := [25, 4, 180, 1, 30, 100, 182, 1, 67, 159, 0, 5, 4, 172, 132, 6, 1, 167, 255, 206, 3, 172]
abbrev dktX0_isClash_3 : List UInt8 := dkwX0_isClash_3 ++ []
def dkwX0_isClash_2 : List UInt8 := [21, 6, 122, 4, 126, 4, 160, 0, 32, 45, 21, 6, 45, 180, 1, 30, 100, 182, 1, 67, 25, 4, 21, 6]
abbrev dktX0_isClash_2 : List UInt8 := dkwX0_isClash_2 ++ dktX0_isClash_3
def dkwX0_isClash_1 : List UInt8 := [182, 1, 54, 25, 4, 182, 1, 54, 126, 54, 5, 3, 54, 6, 21, 6, 16, 16, 162, 0, 49, 21, 5]
abbrev dktX0_isClash_1 : List UInt8 := dkwX0_isClash_1 ++ dktX0_isClash_2
def dkwX0_isClash_0 : List UInt8 := [42, 180, 0, 52, 180, 1, 6, 27, 50, 78, 42, 180, 0, 52, 180, 1, 6, 28, 50, 58, 4, 45]
abbrev dktX0_isClash_0 : List UInt8 := dkwX0_isClash_0 ++ dktX0_isClash_1
theorem dksX0_isClash_0 : cX0_isClash.data.toList.drop 0 = dktX0_isClash_0 := by decide +kernel
theorem dksX0_isClash_1 : cX0_isClash.data.toList.drop 22 = dktX0_isClash_1 := dk_seg dksX0_isClash_0 22 rfl rfl
theorem dksX0_isClash_2 : cX0_isClash.data.toList.drop 45 = dktX0_isClash_2 := dk_seg dksX0_isClash_1 23 rfl rfl
theorem dksX0_isClash_3 : cX0_isClash.data.toList.drop 69 = dktX0_isClash_3 := dk_seg dksX0_isClash_2 24 rfl rfl
theorem dX0_isClash_0 : decode cX0_isClash 0 = .ok (.aload_n 0, 1) := dk_42 (dk_at dksX0_isClash_0 0 rfl rfl)
theorem dX0_isClash_1 : decode cX0_isClash 1 = .ok (.getfield 52, 3) := dk_180 0 52 (dk_at dksX0_isClash_0 1 rfl rfl)
theorem dX0_isClash_4 : decode cX0_isClash 4 = .ok (.getfield 262, 3) := dk_180 1 6 (dk_at dksX0_isClash_0 4 rfl rfl)
theorem dX0_isClash_7 : decode cX0_isClash 7 = .ok (.iload_n 1, 1) := dk_27 (dk_at dksX0_isClash_0 7 rfl rfl)
theorem dX0_isClash_8 : decode cX0_isClash 8 = .ok (.aaload, 1) := dk_50 (dk_at dksX0_isClash_0 8 rfl rfl)
theorem dX0_isClash_9 : decode cX0_isClash 9 = .ok (.astore_n 3, 1) := dk_78 (dk_at dksX0_isClash_0 9 rfl rfl)
theorem dX0_isClash_10 : decode cX0_isClash 10 = .ok (.aload_n 0, 1) := dk_42 (dk_at dksX0_isClash_0 10 rfl rfl)
theorem dX0_isClash_11 : decode cX0_isClash 11 = .ok (.getfield 52, 3) := dk_180 0 52 (dk_at dksX0_isClash_0 11 rfl rfl)
theorem dX0_isClash_14 : decode cX0_isClash 14 = .ok (.getfield 262, 3) := dk_180 1 6 (dk_at dksX0_isClash_0 14 rfl rfl)
theorem dX0_isClash_17 : decode cX0_isClash 17 = .ok (.iload_n 2, 1) := dk_28 (dk_at dksX0_isClash_0 17 rfl rfl)
theorem dX0_isClash_18 : decode cX0_isClash 18 = .ok (.aaload, 1) := dk_50 (dk_at dksX0_isClash_0 18 rfl rfl)
theorem dX0_isClash_19 : decode cX0_isClash 19 = .ok (.astore 4, 2) := dk_58 4 (dk_at dksX0_isClash_0 19 rfl rfl)
theorem dX0_isClash_21 : decode cX0_isClash 21 = .ok (.aload_n 3, 1) := dk_45 (dk_at dksX0_isClash_0 21 rfl rfl)
theorem dX0_isClash_22 : decode cX0_isClash 22 = .ok (.invokevirtual 310, 3) := dk_182 1 54 (dk_at dksX0_isClash_1 0 rfl rfl)
theorem dX0_isClash_25 : decode cX0_isClash 25 = .ok (.aload 4, 2) := dk_25 4 (dk_at dksX0_isClash_1 3 rfl rfl)
theorem dX0_isClash_27 : decode cX0_isClash 27 = .ok (.invokevirtual 310, 3) := dk_182 1 54 (dk_at dksX0_isClash_1 5 rfl rfl)
theorem dX0_isClash_30 : decode cX0_isClash 30 = .ok (.iand, 1) := dk_126 (dk_at dksX0_isClash_1 8 rfl rfl)
theorem dX0_isClash_31 : decode cX0_isClash 31 = .ok (.istore 5, 2) := dk_54 5 (dk_at dksX0_isClash_1 9 rfl rfl)
theorem dX0_isClash_33 : decode cX0_isClash 33 = .ok (.iconst 0, 1) := dk_3 (dk_at dksX0_isClash_1 11 rfl rfl)
theorem dX0_isClash_34 : decode cX0_isClash 34 = .ok (.istore 6, 2) := dk_54 6 (dk_at dksX0_isClash_1 12 rfl rfl)
theorem dX0_isClash_36 : decode cX0_isClash 36 = .ok (.iload 6, 2) := dk_21 6 (dk_at dksX0_isClash_1 14 rfl rfl)
theorem dX0_isClash_38 : decode cX0_isClash 38 = .ok (.bipush 16, 2) := dk_16 16 (dk_at dksX0_isClash_1 16 rfl rfl)
theorem dX0_isClash_40 : decode cX0_isClash 40 = .ok (.if_icmp .ge 49, 3) := dk_162 0 49 (dk_at dksX0_isClash_1 18 rfl rfl)
theorem dX0_isClash_43 : decode cX0_isClash 43 = .ok (.iload 5, 2) := dk_21 5 (dk_at dksX0_isClash_1 21 rfl rfl)
theorem dX0_isClash_45 : decode cX0_isClash 45 = .ok (.iload 6, 2) := dk_21 6 (dk_at dksX0_isClash_2 0 rfl rfl)
theorem dX0_isClash_47 : decode cX0_isClash 47 = .ok (.ishr, 1) := dk_122 (dk_at dksX0_isClash_2 2 rfl rfl)
theorem dX0_isClash_48 : decode cX0_isClash 48 = .ok (.iconst 1, 1) := dk_4 (dk_at dksX0_isClash_2 3 rfl rfl)
theorem dX0_isClash_49 : decode cX0_isClash 49 = .ok (.iand, 1) := dk_126 (dk_at dksX0_isClash_2 4 rfl rfl)
theorem dX0_isClash_50 : decode cX0_isClash 50 = .ok (.iconst 1, 1) := dk_4 (dk_at dksX0_isClash_2 5 rfl rfl)
theorem dX0_isClash_51 : decode cX0_isClash 51 = .ok (.if_icmp .ne 32, 3) := dk_160 0 32 (dk_at dksX0_isClash_2 6 rfl rfl)
theorem dX0_isClash_54 : decode cX0_isClash 54 = .ok (.aload_n 3, 1) := dk_45 (dk_at dksX0_isClash_2 9 rfl rfl)
theorem dX0_isClash_55 : decode cX0_isClash 55 = .ok (.iload 6, 2) := dk_21 6 (dk_at dksX0_isClash_2 10 rfl rfl)
theorem dX0_isClash_57 : decode cX0_isClash 57 = .ok (.aload_n 3, 1) := dk_45 (dk_at dksX0_isClash_2 12 rfl rfl)
theorem dX0_isClash_58 : decode cX0_isClash 58 = .ok (.getfield 286, 3) := dk_180 1 30 (dk_at dksX0_isClash_2 13 rfl rfl)
theorem dX0_isClash_61 : decode cX0_isClash 61 = .ok (.isub, 1) := dk_100 (dk_at dksX0_isClash_2 16 rfl rfl)
theorem dX0_isClash_62 : decode cX0_isClash 62 = .ok (.invokevirtual 323, 3) := dk_182 1 67 (dk_at dksX0_isClash_2 17 rfl rfl)
theorem dX0_isClash_65 : decode cX0_isClash 65 = .ok (.aload 4, 2) := dk_25 4 (dk_at dksX0_isClash_2 20 rfl rfl)
theorem dX0_isClash_67 : decode cX0_isClash 67 = .ok (.iload 6, 2) := dk_21 6 (dk_at dksX0_isClash_2 22 rfl rfl)
theorem dX0_isClash_69 : decode cX0_isClash 69 = .ok (.aload 4, 2) := dk_25 4 (dk_at dksX0_isClash_3 0 rfl rfl)
theorem dX0_isClash_71 : decode cX0_isClash 71 = .ok (.getfield 286, 3) := dk_180 1 30 (dk_at dksX0_isClash_3 2 rfl rfl)
theorem dX0_isClash_74 : decode cX0_isClash 74 = .ok (.isub, 1) := dk_100 (dk_at dksX0_isClash_3 5 rfl rfl)
theorem dX0_isClash_75 : decode cX0_isClash 75 = .ok (.invokevirtual 323, 3) := dk_182 1 67 (dk_at dksX0_isClash_3 6 rfl rfl)
theorem dX0_isClash_78 : decode cX0_isClash 78 = .ok (.if_icmp .eq 5, 3) := dk_159 0 5 (dk_at dksX0_isClash_3 9 rfl rfl)
theorem dX0_isClash_81 : decode cX0_isClash 81 = .ok (.iconst 1, 1) := dk_4 (dk_at dksX0_isClash_3 12 rfl rfl)
theorem dX0_isClash_82 : decode cX0_isClash 82 = .ok (.ireturn, 1) := dk_172 (dk_at dksX0_isClash_3 13 rfl rfl)
theorem dX0_isClash_83 : decode cX0_isClash 83 = .ok (.iinc 6 1, 3) := dk_132 6 1 (dk_at dksX0_isClash_3 14 rfl rfl)
theorem dX0_isClash_86 : decode cX0_isClash 86 = .ok (.goto (-50), 3) := dk_167 255 206 (dk_at dksX0_isClash_3 17 rfl rfl)
theorem dX0_isClash_89 : decode cX0_isClash 89 = .ok (.iconst 0, 1) := dk_3 (dk_at dksX0_isClash_3 20 rfl rfl)
theorem dX0_isClash_90 : decode cX0_isClash 90 = .ok (.ireturn, 1) := dk_172 (dk_at dksX0_isClash_3 21 rfl rfl)
abbrev cX0_undone : ByteArray := prog_1_method_61_code
def yX0_undone : MethodName := ⟨RX0, "undone", "()I"⟩
def dkwX0_undone_2 : List UInt8 := [126, 182, 1, 125, 153, 0, 7, 29, 167, 0, 4, 28, 61, 132, 3, 1, 167, 255, 208, 28, 172]
abbrev dktX0_undone_2 : List UInt8 := dkwX0_undone_2 ++ []
def dkwX0_undone_1 : List UInt8 := [130, 126, 154, 0, 35, 29, 184, 1, 122, 28, 184, 1, 122, 161, 0, 6, 167, 0, 21, 42, 27, 29, 2, 130]
abbrev dktX0_undone_1 : List UInt8 := dkwX0_undone_1 ++ dktX0_undone_2
def dkwX0_undone_0 : List UInt8 := [42, 182, 1, 117, 42, 180, 0, 52, 182, 1, 120, 60, 27, 61, 3, 62, 29, 27, 163, 0, 49, 29, 27, 2]
abbrev dktX0_undone_0 : List UInt8 := dkwX0_undone_0 ++ dktX0_undone_1
theorem dksX0_undone_0 : cX0_undone.data.toList.drop 0 = dktX0_undone_0 := by decide +kernel
theorem dksX0_undone_1 : cX0_undone.data.toList.drop 24 = dktX0_undone_1 := dk_seg dksX0_undone_0 24 rfl rfl
theorem dksX0_undone_2 : cX0_undone.data.toList.drop 48 = dktX0_undone_2 := dk_seg dksX0_undone_1 24 rfl rfl
theorem dX0_undone_0 : decode cX0_undone 0 = .ok (.aload_n 0, 1) := dk_42 (dk_at dksX0_undone_0 0 rfl rfl)
theorem dX0_undone_1 : decode cX0_undone 1 = .ok (.invokevirtual 373, 3) := dk_182 1 117 (dk_at dksX0_undone_0 1 rfl rfl)
theorem dX0_undone_4 : decode cX0_undone 4 = .ok (.aload_n 0, 1) := dk_42 (dk_at dksX0_undone_0 4 rfl rfl)
theorem dX0_undone_5 : decode cX0_undone 5 = .ok (.getfield 52, 3) := dk_180 0 52 (dk_at dksX0_undone_0 5 rfl rfl)
theorem dX0_undone_8 : decode cX0_undone 8 = .ok (.invokevirtual 376, 3) := dk_182 1 120 (dk_at dksX0_undone_0 8 rfl rfl)
theorem dX0_undone_11 : decode cX0_undone 11 = .ok (.istore_n 1, 1) := dk_60 (dk_at dksX0_undone_0 11 rfl rfl)
theorem dX0_undone_12 : decode cX0_undone 12 = .ok (.iload_n 1, 1) := dk_27 (dk_at dksX0_undone_0 12 rfl rfl)
theorem dX0_undone_13 : decode cX0_undone 13 = .ok (.istore_n 2, 1) := dk_61 (dk_at dksX0_undone_0 13 rfl rfl)
theorem dX0_undone_14 : decode cX0_undone 14 = .ok (.iconst 0, 1) := dk_3 (dk_at dksX0_undone_0 14 rfl rfl)
theorem dX0_undone_15 : decode cX0_undone 15 = .ok (.istore_n 3, 1) := dk_62 (dk_at dksX0_undone_0 15 rfl rfl)
theorem dX0_undone_16 : decode cX0_undone 16 = .ok (.iload_n 3, 1) := dk_29 (dk_at dksX0_undone_0 16 rfl rfl)
theorem dX0_undone_17 : decode cX0_undone 17 = .ok (.iload_n 1, 1) := dk_27 (dk_at dksX0_undone_0 17 rfl rfl)
theorem dX0_undone_18 : decode cX0_undone 18 = .ok (.if_icmp .gt 49, 3) := dk_163 0 49 (dk_at dksX0_undone_0 18 rfl rfl)
theorem dX0_undone_21 : decode cX0_undone 21 = .ok (.iload_n 3, 1) := dk_29 (dk_at dksX0_undone_0 21 rfl rfl)
theorem dX0_undone_22 : decode cX0_undone 22 = .ok (.iload_n 1, 1) := dk_27 (dk_at dksX0_undone_0 22 rfl rfl)
theorem dX0_undone_23 : decode cX0_undone 23 = .ok (.iconst (-1), 1) := dk_2 (dk_at dksX0_undone_0 23 rfl rfl)
theorem dX0_undone_24 : decode cX0_undone 24 = .ok (.ixor, 1) := dk_130 (dk_at dksX0_undone_1 0 rfl rfl)
theorem dX0_undone_25 : decode cX0_undone 25 = .ok (.iand, 1) := dk_126 (dk_at dksX0_undone_1 1 rfl rfl)
theorem dX0_undone_26 : decode cX0_undone 26 = .ok (.ifCond .ne 35, 3) := dk_154 0 35 (dk_at dksX0_undone_1 2 rfl rfl)
theorem dX0_undone_29 : decode cX0_undone 29 = .ok (.iload_n 3, 1) := dk_29 (dk_at dksX0_undone_1 5 rfl rfl)
theorem dX0_undone_30 : decode cX0_undone 30 = .ok (.invokestatic 378, 3) := dk_184 1 122 (dk_at dksX0_undone_1 6 rfl rfl)
theorem dX0_undone_33 : decode cX0_undone 33 = .ok (.iload_n 2, 1) := dk_28 (dk_at dksX0_undone_1 9 rfl rfl)
theorem dX0_undone_34 : decode cX0_undone 34 = .ok (.invokestatic 378, 3) := dk_184 1 122 (dk_at dksX0_undone_1 10 rfl rfl)
theorem dX0_undone_37 : decode cX0_undone 37 = .ok (.if_icmp .lt 6, 3) := dk_161 0 6 (dk_at dksX0_undone_1 13 rfl rfl)
theorem dX0_undone_40 : decode cX0_undone 40 = .ok (.goto 21, 3) := dk_167 0 21 (dk_at dksX0_undone_1 16 rfl rfl)
theorem dX0_undone_43 : decode cX0_undone 43 = .ok (.aload_n 0, 1) := dk_42 (dk_at dksX0_undone_1 19 rfl rfl)
theorem dX0_undone_44 : decode cX0_undone 44 = .ok (.iload_n 1, 1) := dk_27 (dk_at dksX0_undone_1 20 rfl rfl)
theorem dX0_undone_45 : decode cX0_undone 45 = .ok (.iload_n 3, 1) := dk_29 (dk_at dksX0_undone_1 21 rfl rfl)
theorem dX0_undone_46 : decode cX0_undone 46 = .ok (.iconst (-1), 1) := dk_2 (dk_at dksX0_undone_1 22 rfl rfl)
theorem dX0_undone_47 : decode cX0_undone 47 = .ok (.ixor, 1) := dk_130 (dk_at dksX0_undone_1 23 rfl rfl)
theorem dX0_undone_48 : decode cX0_undone 48 = .ok (.iand, 1) := dk_126 (dk_at dksX0_undone_2 0 rfl rfl)
theorem dX0_undone_49 : decode cX0_undone 49 = .ok (.invokevirtual 381, 3) := dk_182 1 125 (dk_at dksX0_undone_2 1 rfl rfl)
theorem dX0_undone_52 : decode cX0_undone 52 = .ok (.ifCond .eq 7, 3) := dk_153 0 7 (dk_at dksX0_undone_2 4 rfl rfl)
theorem dX0_undone_55 : decode cX0_undone 55 = .ok (.iload_n 3, 1) := dk_29 (dk_at dksX0_undone_2 7 rfl rfl)
theorem dX0_undone_56 : decode cX0_undone 56 = .ok (.goto 4, 3) := dk_167 0 4 (dk_at dksX0_undone_2 8 rfl rfl)
theorem dX0_undone_59 : decode cX0_undone 59 = .ok (.iload_n 2, 1) := dk_28 (dk_at dksX0_undone_2 11 rfl rfl)
theorem dX0_undone_60 : decode cX0_undone 60 = .ok (.istore_n 2, 1) := dk_61 (dk_at dksX0_undone_2 12 rfl rfl)
theorem dX0_undone_61 : decode cX0_undone 61 = .ok (.iinc 3 1, 3) := dk_132 3 1 (dk_at dksX0_undone_2 13 rfl rfl)
theorem dX0_undone_64 : decode cX0_undone 64 = .ok (.goto (-48), 3) := dk_167 255 208 (dk_at dksX0_undone_2 16 rfl rfl)
theorem dX0_undone_67 : decode cX0_undone 67 = .ok (.iload_n 2, 1) := dk_28 (dk_at dksX0_undone_2 19 rfl rfl)
theorem dX0_undone_68 : decode cX0_undone 68 = .ok (.ireturn, 1) := dk_172 (dk_at dksX0_undone_2 20 rfl rfl)
abbrev cX0_findClashes : ByteArray := prog_1_method_59_code
def yX0_findClashes : MethodName := ⟨RX0, "findClashes", "()V"⟩
def dkwX0_findClashes_3 : List UInt8 := [177]
abbrev dktX0_findClashes_3 : List UInt8 := dkwX0_findClashes_3 ++ []
def dkwX0_findClashes_2 : List UInt8 := [42, 180, 0, 83, 28, 92, 46, 4, 27, 120, 128, 79, 132, 2, 1, 167, 255, 215, 132, 1, 1, 167, 255, 189]
abbrev dktX0_findClashes_2 : List UInt8 := dkwX0_findClashes_2 ++ dktX0_findClashes_3
def dkwX0_findClashes_1 : List UInt8 := [162, 0, 42, 42, 27, 28, 182, 1, 114, 153, 0, 27, 42, 180, 0, 83, 27, 92, 46, 4, 28, 120, 128, 79]
abbrev dktX0_findClashes_1 : List UInt8 := dkwX0_findClashes_1 ++ dktX0_findClashes_2
def dkwX0_findClashes_0 : List UInt8 := [3, 60, 27, 42, 180, 0, 52, 180, 0, 110, 162, 0, 62, 42, 180, 0, 83, 27, 3, 79, 3, 61, 28, 27]
abbrev dktX0_findClashes_0 : List UInt8 := dkwX0_findClashes_0 ++ dktX0_findClashes_1
theorem dksX0_findClashes_0 : cX0_findClashes.data.toList.drop 0 = dktX0_findClashes_0 := by decide +kernel
theorem dksX0_findClashes_1 : cX0_findClashes.data.toList.drop 24 = dktX0_findClashes_1 := dk_seg dksX0_findClashes_0 24 rfl rfl
theorem dksX0_findClashes_2 : cX0_findClashes.data.toList.drop 48 = dktX0_findClashes_2 := dk_seg dksX0_findClashes_1 24 rfl rfl
theorem dksX0_findClashes_3 : cX0_findClashes.data.toList.drop 72 = dktX0_findClashes_3 := dk_seg dksX0_findClashes_2 24 rfl rfl
theorem dX0_findClashes_0 : decode cX0_findClashes 0 = .ok (.iconst 0, 1) := dk_3 (dk_at dksX0_findClashes_0 0 rfl rfl)
theorem dX0_findClashes_1 : decode cX0_findClashes 1 = .ok (.istore_n 1, 1) := dk_60 (dk_at dksX0_findClashes_0 1 rfl rfl)
theorem dX0_findClashes_2 : decode cX0_findClashes 2 = .ok (.iload_n 1, 1) := dk_27 (dk_at dksX0_findClashes_0 2 rfl rfl)
theorem dX0_findClashes_3 : decode cX0_findClashes 3 = .ok (.aload_n 0, 1) := dk_42 (dk_at dksX0_findClashes_0 3 rfl rfl)
theorem dX0_findClashes_4 : decode cX0_findClashes 4 = .ok (.getfield 52, 3) := dk_180 0 52 (dk_at dksX0_findClashes_0 4 rfl rfl)
theorem dX0_findClashes_7 : decode cX0_findClashes 7 = .ok (.getfield 110, 3) := dk_180 0 110 (dk_at dksX0_findClashes_0 7 rfl rfl)
theorem dX0_findClashes_10 : decode cX0_findClashes 10 = .ok (.if_icmp .ge 62, 3) := dk_162 0 62 (dk_at dksX0_findClashes_0 10 rfl rfl)
theorem dX0_findClashes_13 : decode cX0_findClashes 13 = .ok (.aload_n 0, 1) := dk_42 (dk_at dksX0_findClashes_0 13 rfl rfl)
theorem dX0_findClashes_14 : decode cX0_findClashes 14 = .ok (.getfield 83, 3) := dk_180 0 83 (dk_at dksX0_findClashes_0 14 rfl rfl)
theorem dX0_findClashes_17 : decode cX0_findClashes 17 = .ok (.iload_n 1, 1) := dk_27 (dk_at dksX0_findClashes_0 17 rfl rfl)
theorem dX0_findClashes_18 : decode cX0_findClashes 18 = .ok (.iconst 0, 1) := dk_3 (dk_at dksX0_findClashes_0 18 rfl rfl)
theorem dX0_findClashes_19 : decode cX0_findClashes 19 = .ok (.iastore, 1) := dk_79 (dk_at dksX0_findClashes_0 19 rfl rfl)
theorem dX0_findClashes_20 : decode cX0_findClashes 20 = .ok (.iconst 0, 1) := dk_3 (dk_at dksX0_findClashes_0 20 rfl rfl)
theorem dX0_findClashes_21 : decode cX0_findClashes 21 = .ok (.istore_n 2, 1) := dk_61 (dk_at dksX0_findClashes_0 21 rfl rfl)
theorem dX0_findClashes_22 : decode cX0_findClashes 22 = .ok (.iload_n 2, 1) := dk_28 (dk_at dksX0_findClashes_0 22 rfl rfl)
theorem dX0_findClashes_23 : decode cX0_findClashes 23 = .ok (.iload_n 1, 1) := dk_27 (dk_at dksX0_findClashes_0 23 rfl rfl)
theorem dX0_findClashes_24 : decode cX0_findClashes 24 = .ok (.if_icmp .ge 42, 3) := dk_162 0 42 (dk_at dksX0_findClashes_1 0 rfl rfl)
theorem dX0_findClashes_27 : decode cX0_findClashes 27 = .ok (.aload_n 0, 1) := dk_42 (dk_at dksX0_findClashes_1 3 rfl rfl)
theorem dX0_findClashes_28 : decode cX0_findClashes 28 = .ok (.iload_n 1, 1) := dk_27 (dk_at dksX0_findClashes_1 4 rfl rfl)
theorem dX0_findClashes_29 : decode cX0_findClashes 29 = .ok (.iload_n 2, 1) := dk_28 (dk_at dksX0_findClashes_1 5 rfl rfl)
theorem dX0_findClashes_30 : decode cX0_findClashes 30 = .ok (.invokevirtual 370, 3) := dk_182 1 114 (dk_at dksX0_findClashes_1 6 rfl rfl)
theorem dX0_findClashes_33 : decode cX0_findClashes 33 = .ok (.ifCond .eq 27, 3) := dk_153 0 27 (dk_at dksX0_findClashes_1 9 rfl rfl)
theorem dX0_findClashes_36 : decode cX0_findClashes 36 = .ok (.aload_n 0, 1) := dk_42 (dk_at dksX0_findClashes_1 12 rfl rfl)
theorem dX0_findClashes_37 : decode cX0_findClashes 37 = .ok (.getfield 83, 3) := dk_180 0 83 (dk_at dksX0_findClashes_1 13 rfl rfl)
theorem dX0_findClashes_40 : decode cX0_findClashes 40 = .ok (.iload_n 1, 1) := dk_27 (dk_at dksX0_findClashes_1 16 rfl rfl)
theorem dX0_findClashes_41 : decode cX0_findClashes 41 = .ok (.dup2, 1) := dk_92 (dk_at dksX0_findClashes_1 17 rfl rfl)
theorem dX0_findClashes_42 : decode cX0_findClashes 42 = .ok (.iaload, 1) := dk_46 (dk_at dksX0_findClashes_1 18 rfl rfl)
theorem dX0_findClashes_43 : decode cX0_findClashes 43 = .ok (.iconst 1, 1) := dk_4 (dk_at dksX0_findClashes_1 19 rfl rfl)
theorem dX0_findClashes_44 : decode cX0_findClashes 44 = .ok (.iload_n 2, 1) := dk_28 (dk_at dksX0_findClashes_1 20 rfl rfl)
theorem dX0_findClashes_45 : decode cX0_findClashes 45 = .ok (.ishl, 1) := dk_120 (dk_at dksX0_findClashes_1 21 rfl rfl)
theorem dX0_findClashes_46 : decode cX0_findClashes 46 = .ok (.ior, 1) := dk_128 (dk_at dksX0_findClashes_1 22 rfl rfl)
theorem dX0_findClashes_47 : decode cX0_findClashes 47 = .ok (.iastore, 1) := dk_79 (dk_at dksX0_findClashes_1 23 rfl rfl)
theorem dX0_findClashes_48 : decode cX0_findClashes 48 = .ok (.aload_n 0, 1) := dk_42 (dk_at dksX0_findClashes_2 0 rfl rfl)
theorem dX0_findClashes_49 : decode cX0_findClashes 49 = .ok (.getfield 83, 3) := dk_180 0 83 (dk_at dksX0_findClashes_2 1 rfl rfl)
theorem dX0_findClashes_52 : decode cX0_findClashes 52 = .ok (.iload_n 2, 1) := dk_28 (dk_at dksX0_findClashes_2 4 rfl rfl)
theorem dX0_findClashes_53 : decode cX0_findClashes 53 = .ok (.dup2, 1) := dk_92 (dk_at dksX0_findClashes_2 5 rfl rfl)
theorem dX0_findClashes_54 : decode cX0_findClashes 54 = .ok (.iaload, 1) := dk_46 (dk_at dksX0_findClashes_2 6 rfl rfl)
theorem dX0_findClashes_55 : decode cX0_findClashes 55 = .ok (.iconst 1, 1) := dk_4 (dk_at dksX0_findClashes_2 7 rfl rfl)
theorem dX0_findClashes_56 : decode cX0_findClashes 56 = .ok (.iload_n 1, 1) := dk_27 (dk_at dksX0_findClashes_2 8 rfl rfl)
theorem dX0_findClashes_57 : decode cX0_findClashes 57 = .ok (.ishl, 1) := dk_120 (dk_at dksX0_findClashes_2 9 rfl rfl)
theorem dX0_findClashes_58 : decode cX0_findClashes 58 = .ok (.ior, 1) := dk_128 (dk_at dksX0_findClashes_2 10 rfl rfl)
theorem dX0_findClashes_59 : decode cX0_findClashes 59 = .ok (.iastore, 1) := dk_79 (dk_at dksX0_findClashes_2 11 rfl rfl)
theorem dX0_findClashes_60 : decode cX0_findClashes 60 = .ok (.iinc 2 1, 3) := dk_132 2 1 (dk_at dksX0_findClashes_2 12 rfl rfl)
theorem dX0_findClashes_63 : decode cX0_findClashes 63 = .ok (.goto (-41), 3) := dk_167 255 215 (dk_at dksX0_findClashes_2 15 rfl rfl)
theorem dX0_findClashes_66 : decode cX0_findClashes 66 = .ok (.iinc 1 1, 3) := dk_132 1 1 (dk_at dksX0_findClashes_2 18 rfl rfl)
theorem dX0_findClashes_69 : decode cX0_findClashes 69 = .ok (.goto (-67), 3) := dk_167 255 189 (dk_at dksX0_findClashes_2 21 rfl rfl)
theorem dX0_findClashes_72 : decode cX0_findClashes 72 = .ok (.return_, 1) := dk_177 (dk_at dksX0_findClashes_3 0 rfl rfl)
abbrev cX0_bits : ByteArray := prog_1_method_4_code
def yX0_bits : MethodName := ⟨RX0, "bits", "(I)I"⟩
theorem dX0_bits_0 : decode cX0_bits 0 = .ok (.iload_n 0, 1) := by decide +kernel
theorem dX0_bits_1 : decode cX0_bits 1 = .ok (.invokestatic 13, 3) := by decide +kernel
theorem dX0_bits_4 : decode cX0_bits 4 = .ok (.ireturn, 1) := by decide +kernel
abbrev cX0_isPeace : ByteArray := prog_1_method_60_code
def yX0_isPeace : MethodName := ⟨RX0, "isPeace", "(I)Z"⟩
def dkwX0_isPeace_2 : List UInt8 := [167, 255, 213, 28, 172]
abbrev dktX0_isPeace_2 : List UInt8 := dkwX0_isPeace_2 ++ []
def dkwX0_isPeace_1 : List UInt8 := [153, 0, 14, 42, 180, 0, 83, 29, 46, 27, 126, 154, 0, 7, 4, 167, 0, 4, 3, 61, 132, 3, 1]
abbrev dktX0_isPeace_1 : List UInt8 := dkwX0_isPeace_1 ++ dktX0_isPeace_2
def dkwX0_isPeace_0 : List UInt8 := [4, 61, 3, 62, 29, 42, 180, 0, 52, 180, 0, 110, 162, 0, 38, 28, 153, 0, 26, 27, 29, 122, 4, 126]
abbrev dktX0_isPeace_0 : List UInt8 := dkwX0_isPeace_0 ++ dktX0_isPeace_1
theorem dksX0_isPeace_0 : cX0_isPeace.data.toList.drop 0 = dktX0_isPeace_0 := by decide +kernel
theorem dksX0_isPeace_1 : cX0_isPeace.data.toList.drop 24 = dktX0_isPeace_1 := dk_seg dksX0_isPeace_0 24 rfl rfl
theorem dksX0_isPeace_2 : cX0_isPeace.data.toList.drop 47 = dktX0_isPeace_2 := dk_seg dksX0_isPeace_1 23 rfl rfl
theorem dX0_isPeace_0 : decode cX0_isPeace 0 = .ok (.iconst 1, 1) := dk_4 (dk_at dksX0_isPeace_0 0 rfl rfl)
theorem dX0_isPeace_1 : decode cX0_isPeace 1 = .ok (.istore_n 2, 1) := dk_61 (dk_at dksX0_isPeace_0 1 rfl rfl)
theorem dX0_isPeace_2 : decode cX0_isPeace 2 = .ok (.iconst 0, 1) := dk_3 (dk_at dksX0_isPeace_0 2 rfl rfl)
theorem dX0_isPeace_3 : decode cX0_isPeace 3 = .ok (.istore_n 3, 1) := dk_62 (dk_at dksX0_isPeace_0 3 rfl rfl)
theorem dX0_isPeace_4 : decode cX0_isPeace 4 = .ok (.iload_n 3, 1) := dk_29 (dk_at dksX0_isPeace_0 4 rfl rfl)
theorem dX0_isPeace_5 : decode cX0_isPeace 5 = .ok (.aload_n 0, 1) := dk_42 (dk_at dksX0_isPeace_0 5 rfl rfl)
theorem dX0_isPeace_6 : decode cX0_isPeace 6 = .ok (.getfield 52, 3) := dk_180 0 52 (dk_at dksX0_isPeace_0 6 rfl rfl)
theorem dX0_isPeace_9 : decode cX0_isPeace 9 = .ok (.getfield 110, 3) := dk_180 0 110 (dk_at dksX0_isPeace_0 9 rfl rfl)
theorem dX0_isPeace_12 : decode cX0_isPeace 12 = .ok (.if_icmp .ge 38, 3) := dk_162 0 38 (dk_at dksX0_isPeace_0 12 rfl rfl)
theorem dX0_isPeace_15 : decode cX0_isPeace 15 = .ok (.iload_n 2, 1) := dk_28 (dk_at dksX0_isPeace_0 15 rfl rfl)
theorem dX0_isPeace_16 : decode cX0_isPeace 16 = .ok (.ifCond .eq 26, 3) := dk_153 0 26 (dk_at dksX0_isPeace_0 16 rfl rfl)
theorem dX0_isPeace_19 : decode cX0_isPeace 19 = .ok (.iload_n 1, 1) := dk_27 (dk_at dksX0_isPeace_0 19 rfl rfl)
theorem dX0_isPeace_20 : decode cX0_isPeace 20 = .ok (.iload_n 3, 1) := dk_29 (dk_at dksX0_isPeace_0 20 rfl rfl)
theorem dX0_isPeace_21 : decode cX0_isPeace 21 = .ok (.ishr, 1) := dk_122 (dk_at dksX0_isPeace_0 21 rfl rfl)
theorem dX0_isPeace_22 : decode cX0_isPeace 22 = .ok (.iconst 1, 1) := dk_4 (dk_at dksX0_isPeace_0 22 rfl rfl)
theorem dX0_isPeace_23 : decode cX0_isPeace 23 = .ok (.iand, 1) := dk_126 (dk_at dksX0_isPeace_0 23 rfl rfl)
theorem dX0_isPeace_24 : decode cX0_isPeace 24 = .ok (.ifCond .eq 14, 3) := dk_153 0 14 (dk_at dksX0_isPeace_1 0 rfl rfl)
theorem dX0_isPeace_27 : decode cX0_isPeace 27 = .ok (.aload_n 0, 1) := dk_42 (dk_at dksX0_isPeace_1 3 rfl rfl)
theorem dX0_isPeace_28 : decode cX0_isPeace 28 = .ok (.getfield 83, 3) := dk_180 0 83 (dk_at dksX0_isPeace_1 4 rfl rfl)
theorem dX0_isPeace_31 : decode cX0_isPeace 31 = .ok (.iload_n 3, 1) := dk_29 (dk_at dksX0_isPeace_1 7 rfl rfl)
theorem dX0_isPeace_32 : decode cX0_isPeace 32 = .ok (.iaload, 1) := dk_46 (dk_at dksX0_isPeace_1 8 rfl rfl)
theorem dX0_isPeace_33 : decode cX0_isPeace 33 = .ok (.iload_n 1, 1) := dk_27 (dk_at dksX0_isPeace_1 9 rfl rfl)
theorem dX0_isPeace_34 : decode cX0_isPeace 34 = .ok (.iand, 1) := dk_126 (dk_at dksX0_isPeace_1 10 rfl rfl)
theorem dX0_isPeace_35 : decode cX0_isPeace 35 = .ok (.ifCond .ne 7, 3) := dk_154 0 7 (dk_at dksX0_isPeace_1 11 rfl rfl)
theorem dX0_isPeace_38 : decode cX0_isPeace 38 = .ok (.iconst 1, 1) := dk_4 (dk_at dksX0_isPeace_1 14 rfl rfl)
theorem dX0_isPeace_39 : decode cX0_isPeace 39 = .ok (.goto 4, 3) := dk_167 0 4 (dk_at dksX0_isPeace_1 15 rfl rfl)
theorem dX0_isPeace_42 : decode cX0_isPeace 42 = .ok (.iconst 0, 1) := dk_3 (dk_at dksX0_isPeace_1 18 rfl rfl)
theorem dX0_isPeace_43 : decode cX0_isPeace 43 = .ok (.istore_n 2, 1) := dk_61 (dk_at dksX0_isPeace_1 19 rfl rfl)
theorem dX0_isPeace_44 : decode cX0_isPeace 44 = .ok (.iinc 3 1, 3) := dk_132 3 1 (dk_at dksX0_isPeace_1 20 rfl rfl)
theorem dX0_isPeace_47 : decode cX0_isPeace 47 = .ok (.goto (-43), 3) := dk_167 255 213 (dk_at dksX0_isPeace_2 0 rfl rfl)
theorem dX0_isPeace_50 : decode cX0_isPeace 50 = .ok (.iload_n 2, 1) := dk_28 (dk_at dksX0_isPeace_2 3 rfl rfl)
theorem dX0_isPeace_51 : decode cX0_isPeace 51 = .ok (.ireturn, 1) := dk_172 (dk_at dksX0_isPeace_2 4 rfl rfl)
abbrev cX0_borne : ByteArray := prog_1_method_62_code
def yX0_borne : MethodName := ⟨RX0, "borne", "()I"⟩
def dkwX0_borne_3 : List UInt8 := [29, 62, 132, 4, 1, 167, 255, 203, 29, 172]
abbrev dktX0_borne_3 : List UInt8 := dkwX0_borne_3 ++ []
def dkwX0_borne_2 : List UInt8 := [161, 0, 6, 167, 0, 23, 42, 180, 0, 52, 21, 4, 182, 1, 128, 28, 160, 0, 8, 21, 4, 167, 0, 4]
abbrev dktX0_borne_2 : List UInt8 := dkwX0_borne_2 ++ dktX0_borne_3
def dkwX0_borne_1 : List UInt8 := [27, 163, 0, 53, 21, 4, 27, 2, 130, 126, 154, 0, 38, 21, 4, 184, 1, 122, 29, 184, 1, 122]
abbrev dktX0_borne_1 : List UInt8 := dkwX0_borne_1 ++ dktX0_borne_2
def dkwX0_borne_0 : List UInt8 := [42, 180, 0, 52, 182, 1, 120, 60, 42, 180, 0, 52, 27, 182, 1, 128, 61, 27, 62, 3, 54, 4, 21, 4]
abbrev dktX0_borne_0 : List UInt8 := dkwX0_borne_0 ++ dktX0_borne_1
theorem dksX0_borne_0 : cX0_borne.data.toList.drop 0 = dktX0_borne_0 := by decide +kernel
theorem dksX0_borne_1 : cX0_borne.data.toList.drop 24 = dktX0_borne_1 := dk_seg dksX0_borne_0 24 rfl rfl
theorem dksX0_borne_2 : cX0_borne.data.toList.drop 46 = dktX0_borne_2 := dk_seg dksX0_borne_1 22 rfl rfl
theorem dksX0_borne_3 : cX0_borne.data.toList.drop 70 = dktX0_borne_3 := dk_seg dksX0_borne_2 24 rfl rfl
theorem dX0_borne_0 : decode cX0_borne 0 = .ok (.aload_n 0, 1) := dk_42 (dk_at dksX0_borne_0 0 rfl rfl)
theorem dX0_borne_1 : decode cX0_borne 1 = .ok (.getfield 52, 3) := dk_180 0 52 (dk_at dksX0_borne_0 1 rfl rfl)
theorem dX0_borne_4 : decode cX0_borne 4 = .ok (.invokevirtual 376, 3) := dk_182 1 120 (dk_at dksX0_borne_0 4 rfl rfl)
theorem dX0_borne_7 : decode cX0_borne 7 = .ok (.istore_n 1, 1) := dk_60 (dk_at dksX0_borne_0 7 rfl rfl)
theorem dX0_borne_8 : decode cX0_borne 8 = .ok (.aload_n 0, 1) := dk_42 (dk_at dksX0_borne_0 8 rfl rfl)
theorem dX0_borne_9 : decode cX0_borne 9 = .ok (.getfield 52, 3) := dk_180 0 52 (dk_at dksX0_borne_0 9 rfl rfl)
theorem dX0_borne_12 : decode cX0_borne 12 = .ok (.iload_n 1, 1) := dk_27 (dk_at dksX0_borne_0 12 rfl rfl)
theorem dX0_borne_13 : decode cX0_borne 13 = .ok (.invokevirtual 384, 3) := dk_182 1 128 (dk_at dksX0_borne_0 13 rfl rfl)
theorem dX0_borne_16 : decode cX0_borne 16 = .ok (.istore_n 2, 1) := dk_61 (dk_at dksX0_borne_0 16 rfl rfl)
theorem dX0_borne_17 : decode cX0_borne 17 = .ok (.iload_n 1, 1) := dk_27 (dk_at dksX0_borne_0 17 rfl rfl)
theorem dX0_borne_18 : decode cX0_borne 18 = .ok (.istore_n 3, 1) := dk_62 (dk_at dksX0_borne_0 18 rfl rfl)
theorem dX0_borne_19 : decode cX0_borne 19 = .ok (.iconst 0, 1) := dk_3 (dk_at dksX0_borne_0 19 rfl rfl)
theorem dX0_borne_20 : decode cX0_borne 20 = .ok (.istore 4, 2) := dk_54 4 (dk_at dksX0_borne_0 20 rfl rfl)
theorem dX0_borne_22 : decode cX0_borne 22 = .ok (.iload 4, 2) := dk_21 4 (dk_at dksX0_borne_0 22 rfl rfl)
theorem dX0_borne_24 : decode cX0_borne 24 = .ok (.iload_n 1, 1) := dk_27 (dk_at dksX0_borne_1 0 rfl rfl)
theorem dX0_borne_25 : decode cX0_borne 25 = .ok (.if_icmp .gt 53, 3) := dk_163 0 53 (dk_at dksX0_borne_1 1 rfl rfl)
theorem dX0_borne_28 : decode cX0_borne 28 = .ok (.iload 4, 2) := dk_21 4 (dk_at dksX0_borne_1 4 rfl rfl)
theorem dX0_borne_30 : decode cX0_borne 30 = .ok (.iload_n 1, 1) := dk_27 (dk_at dksX0_borne_1 6 rfl rfl)
theorem dX0_borne_31 : decode cX0_borne 31 = .ok (.iconst (-1), 1) := dk_2 (dk_at dksX0_borne_1 7 rfl rfl)
theorem dX0_borne_32 : decode cX0_borne 32 = .ok (.ixor, 1) := dk_130 (dk_at dksX0_borne_1 8 rfl rfl)
theorem dX0_borne_33 : decode cX0_borne 33 = .ok (.iand, 1) := dk_126 (dk_at dksX0_borne_1 9 rfl rfl)
theorem dX0_borne_34 : decode cX0_borne 34 = .ok (.ifCond .ne 38, 3) := dk_154 0 38 (dk_at dksX0_borne_1 10 rfl rfl)
theorem dX0_borne_37 : decode cX0_borne 37 = .ok (.iload 4, 2) := dk_21 4 (dk_at dksX0_borne_1 13 rfl rfl)
theorem dX0_borne_39 : decode cX0_borne 39 = .ok (.invokestatic 378, 3) := dk_184 1 122 (dk_at dksX0_borne_1 15 rfl rfl)
theorem dX0_borne_42 : decode cX0_borne 42 = .ok (.iload_n 3, 1) := dk_29 (dk_at dksX0_borne_1 18 rfl rfl)
theorem dX0_borne_43 : decode cX0_borne 43 = .ok (.invokestatic 378, 3) := dk_184 1 122 (dk_at dksX0_borne_1 19 rfl rfl)
theorem dX0_borne_46 : decode cX0_borne 46 = .ok (.if_icmp .lt 6, 3) := dk_161 0 6 (dk_at dksX0_borne_2 0 rfl rfl)
theorem dX0_borne_49 : decode cX0_borne 49 = .ok (.goto 23, 3) := dk_167 0 23 (dk_at dksX0_borne_2 3 rfl rfl)
theorem dX0_borne_52 : decode cX0_borne 52 = .ok (.aload_n 0, 1) := dk_42 (dk_at dksX0_borne_2 6 rfl rfl)
theorem dX0_borne_53 : decode cX0_borne 53 = .ok (.getfield 52, 3) := dk_180 0 52 (dk_at dksX0_borne_2 7 rfl rfl)
theorem dX0_borne_56 : decode cX0_borne 56 = .ok (.iload 4, 2) := dk_21 4 (dk_at dksX0_borne_2 10 rfl rfl)
theorem dX0_borne_58 : decode cX0_borne 58 = .ok (.invokevirtual 384, 3) := dk_182 1 128 (dk_at dksX0_borne_2 12 rfl rfl)
theorem dX0_borne_61 : decode cX0_borne 61 = .ok (.iload_n 2, 1) := dk_28 (dk_at dksX0_borne_2 15 rfl rfl)
theorem dX0_borne_62 : decode cX0_borne 62 = .ok (.if_icmp .ne 8, 3) := dk_160 0 8 (dk_at dksX0_borne_2 16 rfl rfl)
theorem dX0_borne_65 : decode cX0_borne 65 = .ok (.iload 4, 2) := dk_21 4 (dk_at dksX0_borne_2 19 rfl rfl)
theorem dX0_borne_67 : decode cX0_borne 67 = .ok (.goto 4, 3) := dk_167 0 4 (dk_at dksX0_borne_2 21 rfl rfl)
theorem dX0_borne_70 : decode cX0_borne 70 = .ok (.iload_n 3, 1) := dk_29 (dk_at dksX0_borne_3 0 rfl rfl)
theorem dX0_borne_71 : decode cX0_borne 71 = .ok (.istore_n 3, 1) := dk_62 (dk_at dksX0_borne_3 1 rfl rfl)
theorem dX0_borne_72 : decode cX0_borne 72 = .ok (.iinc 4 1, 3) := dk_132 4 1 (dk_at dksX0_borne_3 2 rfl rfl)
theorem dX0_borne_75 : decode cX0_borne 75 = .ok (.goto (-53), 3) := dk_167 255 203 (dk_at dksX0_borne_3 5 rfl rfl)
theorem dX0_borne_78 : decode cX0_borne 78 = .ok (.iload_n 3, 1) := dk_29 (dk_at dksX0_borne_3 8 rfl rfl)
theorem dX0_borne_79 : decode cX0_borne 79 = .ok (.ireturn, 1) := dk_172 (dk_at dksX0_borne_3 9 rfl rfl)
abbrev cX0_look : ByteArray := prog_1_method_64_code
def yX0_look : MethodName := ⟨RX0, "look", "(I)I"⟩
def dkwX0_look_3 : List UInt8 := [167, 0, 4, 29, 172]
abbrev dktX0_look_3 : List UInt8 := dkwX0_look_3 ++ []
def dkwX0_look_2 : List UInt8 := [167, 0, 4, 28, 61, 29, 21, 5, 184, 0, 10, 62, 132, 4, 1, 167, 255, 218, 27, 154, 0, 7, 28]
abbrev dktX0_look_2 : List UInt8 := dkwX0_look_2 ++ dktX0_look_3
def dkwX0_look_1 : List UInt8 := [21, 4, 16, 16, 162, 0, 37, 42, 21, 4, 182, 1, 134, 54, 5, 21, 5, 29, 164, 0, 8, 21, 4]
abbrev dktX0_look_1 : List UInt8 := dkwX0_look_1 ++ dktX0_look_2
def dkwX0_look_0 : List UInt8 := [27, 3, 4, 184, 0, 114, 154, 0, 6, 18, 139, 172, 3, 61, 42, 3, 182, 1, 134, 62, 4, 54, 4]
abbrev dktX0_look_0 : List UInt8 := dkwX0_look_0 ++ dktX0_look_1
theorem dksX0_look_0 : cX0_look.data.toList.drop 0 = dktX0_look_0 := by decide +kernel
theorem dksX0_look_1 : cX0_look.data.toList.drop 23 = dktX0_look_1 := dk_seg dksX0_look_0 23 rfl rfl
theorem dksX0_look_2 : cX0_look.data.toList.drop 46 = dktX0_look_2 := dk_seg dksX0_look_1 23 rfl rfl
theorem dksX0_look_3 : cX0_look.data.toList.drop 69 = dktX0_look_3 := dk_seg dksX0_look_2 23 rfl rfl
theorem dX0_look_0 : decode cX0_look 0 = .ok (.iload_n 1, 1) := dk_27 (dk_at dksX0_look_0 0 rfl rfl)
theorem dX0_look_1 : decode cX0_look 1 = .ok (.iconst 0, 1) := dk_3 (dk_at dksX0_look_0 1 rfl rfl)
theorem dX0_look_2 : decode cX0_look 2 = .ok (.iconst 1, 1) := dk_4 (dk_at dksX0_look_0 2 rfl rfl)
theorem dX0_look_3 : decode cX0_look 3 = .ok (.invokestatic 114, 3) := dk_184 0 114 (dk_at dksX0_look_0 3 rfl rfl)
theorem dX0_look_6 : decode cX0_look 6 = .ok (.ifCond .ne 6, 3) := dk_154 0 6 (dk_at dksX0_look_0 6 rfl rfl)
theorem dX0_look_9 : decode cX0_look 9 = .ok (.ldc 139, 2) := dk_18 139 (dk_at dksX0_look_0 9 rfl rfl)
theorem dX0_look_11 : decode cX0_look 11 = .ok (.ireturn, 1) := dk_172 (dk_at dksX0_look_0 11 rfl rfl)
theorem dX0_look_12 : decode cX0_look 12 = .ok (.iconst 0, 1) := dk_3 (dk_at dksX0_look_0 12 rfl rfl)
theorem dX0_look_13 : decode cX0_look 13 = .ok (.istore_n 2, 1) := dk_61 (dk_at dksX0_look_0 13 rfl rfl)
theorem dX0_look_14 : decode cX0_look 14 = .ok (.aload_n 0, 1) := dk_42 (dk_at dksX0_look_0 14 rfl rfl)
theorem dX0_look_15 : decode cX0_look 15 = .ok (.iconst 0, 1) := dk_3 (dk_at dksX0_look_0 15 rfl rfl)
theorem dX0_look_16 : decode cX0_look 16 = .ok (.invokevirtual 390, 3) := dk_182 1 134 (dk_at dksX0_look_0 16 rfl rfl)
theorem dX0_look_19 : decode cX0_look 19 = .ok (.istore_n 3, 1) := dk_62 (dk_at dksX0_look_0 19 rfl rfl)
theorem dX0_look_20 : decode cX0_look 20 = .ok (.iconst 1, 1) := dk_4 (dk_at dksX0_look_0 20 rfl rfl)
theorem dX0_look_21 : decode cX0_look 21 = .ok (.istore 4, 2) := dk_54 4 (dk_at dksX0_look_0 21 rfl rfl)
theorem dX0_look_23 : decode cX0_look 23 = .ok (.iload 4, 2) := dk_21 4 (dk_at dksX0_look_1 0 rfl rfl)
theorem dX0_look_25 : decode cX0_look 25 = .ok (.bipush 16, 2) := dk_16 16 (dk_at dksX0_look_1 2 rfl rfl)
theorem dX0_look_27 : decode cX0_look 27 = .ok (.if_icmp .ge 37, 3) := dk_162 0 37 (dk_at dksX0_look_1 4 rfl rfl)
theorem dX0_look_30 : decode cX0_look 30 = .ok (.aload_n 0, 1) := dk_42 (dk_at dksX0_look_1 7 rfl rfl)
theorem dX0_look_31 : decode cX0_look 31 = .ok (.iload 4, 2) := dk_21 4 (dk_at dksX0_look_1 8 rfl rfl)
theorem dX0_look_33 : decode cX0_look 33 = .ok (.invokevirtual 390, 3) := dk_182 1 134 (dk_at dksX0_look_1 10 rfl rfl)
theorem dX0_look_36 : decode cX0_look 36 = .ok (.istore 5, 2) := dk_54 5 (dk_at dksX0_look_1 13 rfl rfl)
theorem dX0_look_38 : decode cX0_look 38 = .ok (.iload 5, 2) := dk_21 5 (dk_at dksX0_look_1 15 rfl rfl)
theorem dX0_look_40 : decode cX0_look 40 = .ok (.iload_n 3, 1) := dk_29 (dk_at dksX0_look_1 17 rfl rfl)
theorem dX0_look_41 : decode cX0_look 41 = .ok (.if_icmp .le 8, 3) := dk_164 0 8 (dk_at dksX0_look_1 18 rfl rfl)
theorem dX0_look_44 : decode cX0_look 44 = .ok (.iload 4, 2) := dk_21 4 (dk_at dksX0_look_1 21 rfl rfl)
theorem dX0_look_46 : decode cX0_look 46 = .ok (.goto 4, 3) := dk_167 0 4 (dk_at dksX0_look_2 0 rfl rfl)
theorem dX0_look_49 : decode cX0_look 49 = .ok (.iload_n 2, 1) := dk_28 (dk_at dksX0_look_2 3 rfl rfl)
theorem dX0_look_50 : decode cX0_look 50 = .ok (.istore_n 2, 1) := dk_61 (dk_at dksX0_look_2 4 rfl rfl)
theorem dX0_look_51 : decode cX0_look 51 = .ok (.iload_n 3, 1) := dk_29 (dk_at dksX0_look_2 5 rfl rfl)
theorem dX0_look_52 : decode cX0_look 52 = .ok (.iload 5, 2) := dk_21 5 (dk_at dksX0_look_2 6 rfl rfl)
theorem dX0_look_54 : decode cX0_look 54 = .ok (.invokestatic 10, 3) := dk_184 0 10 (dk_at dksX0_look_2 8 rfl rfl)
theorem dX0_look_57 : decode cX0_look 57 = .ok (.istore_n 3, 1) := dk_62 (dk_at dksX0_look_2 11 rfl rfl)
theorem dX0_look_58 : decode cX0_look 58 = .ok (.iinc 4 1, 3) := dk_132 4 1 (dk_at dksX0_look_2 12 rfl rfl)
theorem dX0_look_61 : decode cX0_look 61 = .ok (.goto (-38), 3) := dk_167 255 218 (dk_at dksX0_look_2 15 rfl rfl)
theorem dX0_look_64 : decode cX0_look 64 = .ok (.iload_n 1, 1) := dk_27 (dk_at dksX0_look_2 18 rfl rfl)
theorem dX0_look_65 : decode cX0_look 65 = .ok (.ifCond .ne 7, 3) := dk_154 0 7 (dk_at dksX0_look_2 19 rfl rfl)
theorem dX0_look_68 : decode cX0_look 68 = .ok (.iload_n 2, 1) := dk_28 (dk_at dksX0_look_2 22 rfl rfl)
theorem dX0_look_69 : decode cX0_look 69 = .ok (.goto 4, 3) := dk_167 0 4 (dk_at dksX0_look_3 0 rfl rfl)
theorem dX0_look_72 : decode cX0_look 72 = .ok (.iload_n 3, 1) := dk_29 (dk_at dksX0_look_3 3 rfl rfl)
theorem dX0_look_73 : decode cX0_look 73 = .ok (.ireturn, 1) := dk_172 (dk_at dksX0_look_3 4 rfl rfl)
abbrev cX0_falseOnes : ByteArray := prog_1_method_63_code
def yX0_falseOnes : MethodName := ⟨RX0, "falseOnes", "(I)I"⟩
def dkwX0_falseOnes_1 : List UInt8 := [182, 1, 131, 153, 0, 7, 4, 167, 0, 4, 3, 96, 61, 132, 3, 1, 167, 255, 222, 28, 172]
abbrev dktX0_falseOnes_1 : List UInt8 := dkwX0_falseOnes_1 ++ []
def dkwX0_falseOnes_0 : List UInt8 := [3, 61, 3, 62, 29, 42, 180, 0, 52, 180, 0, 110, 162, 0, 29, 28, 42, 180, 0, 52, 29, 27]
abbrev dktX0_falseOnes_0 : List UInt8 := dkwX0_falseOnes_0 ++ dktX0_falseOnes_1
theorem dksX0_falseOnes_0 : cX0_falseOnes.data.toList.drop 0 = dktX0_falseOnes_0 := by decide +kernel
theorem dksX0_falseOnes_1 : cX0_falseOnes.data.toList.drop 22 = dktX0_falseOnes_1 := dk_seg dksX0_falseOnes_0 22 rfl rfl
theorem dX0_falseOnes_0 : decode cX0_falseOnes 0 = .ok (.iconst 0, 1) := dk_3 (dk_at dksX0_falseOnes_0 0 rfl rfl)
theorem dX0_falseOnes_1 : decode cX0_falseOnes 1 = .ok (.istore_n 2, 1) := dk_61 (dk_at dksX0_falseOnes_0 1 rfl rfl)
theorem dX0_falseOnes_2 : decode cX0_falseOnes 2 = .ok (.iconst 0, 1) := dk_3 (dk_at dksX0_falseOnes_0 2 rfl rfl)
theorem dX0_falseOnes_3 : decode cX0_falseOnes 3 = .ok (.istore_n 3, 1) := dk_62 (dk_at dksX0_falseOnes_0 3 rfl rfl)
theorem dX0_falseOnes_4 : decode cX0_falseOnes 4 = .ok (.iload_n 3, 1) := dk_29 (dk_at dksX0_falseOnes_0 4 rfl rfl)
theorem dX0_falseOnes_5 : decode cX0_falseOnes 5 = .ok (.aload_n 0, 1) := dk_42 (dk_at dksX0_falseOnes_0 5 rfl rfl)
theorem dX0_falseOnes_6 : decode cX0_falseOnes 6 = .ok (.getfield 52, 3) := dk_180 0 52 (dk_at dksX0_falseOnes_0 6 rfl rfl)
theorem dX0_falseOnes_9 : decode cX0_falseOnes 9 = .ok (.getfield 110, 3) := dk_180 0 110 (dk_at dksX0_falseOnes_0 9 rfl rfl)
theorem dX0_falseOnes_12 : decode cX0_falseOnes 12 = .ok (.if_icmp .ge 29, 3) := dk_162 0 29 (dk_at dksX0_falseOnes_0 12 rfl rfl)
theorem dX0_falseOnes_15 : decode cX0_falseOnes 15 = .ok (.iload_n 2, 1) := dk_28 (dk_at dksX0_falseOnes_0 15 rfl rfl)
theorem dX0_falseOnes_16 : decode cX0_falseOnes 16 = .ok (.aload_n 0, 1) := dk_42 (dk_at dksX0_falseOnes_0 16 rfl rfl)
theorem dX0_falseOnes_17 : decode cX0_falseOnes 17 = .ok (.getfield 52, 3) := dk_180 0 52 (dk_at dksX0_falseOnes_0 17 rfl rfl)
theorem dX0_falseOnes_20 : decode cX0_falseOnes 20 = .ok (.iload_n 3, 1) := dk_29 (dk_at dksX0_falseOnes_0 20 rfl rfl)
theorem dX0_falseOnes_21 : decode cX0_falseOnes 21 = .ok (.iload_n 1, 1) := dk_27 (dk_at dksX0_falseOnes_0 21 rfl rfl)
theorem dX0_falseOnes_22 : decode cX0_falseOnes 22 = .ok (.invokevirtual 387, 3) := dk_182 1 131 (dk_at dksX0_falseOnes_1 0 rfl rfl)
theorem dX0_falseOnes_25 : decode cX0_falseOnes 25 = .ok (.ifCond .eq 7, 3) := dk_153 0 7 (dk_at dksX0_falseOnes_1 3 rfl rfl)
theorem dX0_falseOnes_28 : decode cX0_falseOnes 28 = .ok (.iconst 1, 1) := dk_4 (dk_at dksX0_falseOnes_1 6 rfl rfl)
theorem dX0_falseOnes_29 : decode cX0_falseOnes 29 = .ok (.goto 4, 3) := dk_167 0 4 (dk_at dksX0_falseOnes_1 7 rfl rfl)
theorem dX0_falseOnes_32 : decode cX0_falseOnes 32 = .ok (.iconst 0, 1) := dk_3 (dk_at dksX0_falseOnes_1 10 rfl rfl)
theorem dX0_falseOnes_33 : decode cX0_falseOnes 33 = .ok (.iadd, 1) := dk_96 (dk_at dksX0_falseOnes_1 11 rfl rfl)
theorem dX0_falseOnes_34 : decode cX0_falseOnes 34 = .ok (.istore_n 2, 1) := dk_61 (dk_at dksX0_falseOnes_1 12 rfl rfl)
theorem dX0_falseOnes_35 : decode cX0_falseOnes 35 = .ok (.iinc 3 1, 3) := dk_132 3 1 (dk_at dksX0_falseOnes_1 13 rfl rfl)
theorem dX0_falseOnes_38 : decode cX0_falseOnes 38 = .ok (.goto (-34), 3) := dk_167 255 222 (dk_at dksX0_falseOnes_1 16 rfl rfl)
theorem dX0_falseOnes_41 : decode cX0_falseOnes 41 = .ok (.iload_n 2, 1) := dk_28 (dk_at dksX0_falseOnes_1 19 rfl rfl)
theorem dX0_falseOnes_42 : decode cX0_falseOnes 42 = .ok (.ireturn, 1) := dk_172 (dk_at dksX0_falseOnes_1 20 rfl rfl)
abbrev cX0_tides : ByteArray := prog_1_method_67_code
def yX0_tides : MethodName := ⟨RX0, "tides", "(I)I"⟩
def dkwX0_tides_2 : List UInt8 := [28, 100, 172]
abbrev dktX0_tides_2 : List UInt8 := dkwX0_tides_2 ++ []
def dkwX0_tides_1 : List UInt8 := [17, 39, 15, 42, 180, 0, 52, 180, 1, 143, 100, 184, 0, 4, 182, 1, 149, 42, 180, 0, 52, 180, 1, 140]
abbrev dktX0_tides_1 : List UInt8 := dkwX0_tides_1 ++ dktX0_tides_2
def dkwX0_tides_0 : List UInt8 := [27, 4, 16, 100, 184, 0, 114, 154, 0, 6, 18, 139, 172, 42, 180, 0, 52, 180, 1, 140, 61, 42, 27]
abbrev dktX0_tides_0 : List UInt8 := dkwX0_tides_0 ++ dktX0_tides_1
theorem dksX0_tides_0 : cX0_tides.data.toList.drop 0 = dktX0_tides_0 := by decide +kernel
theorem dksX0_tides_1 : cX0_tides.data.toList.drop 23 = dktX0_tides_1 := dk_seg dksX0_tides_0 23 rfl rfl
theorem dksX0_tides_2 : cX0_tides.data.toList.drop 47 = dktX0_tides_2 := dk_seg dksX0_tides_1 24 rfl rfl
theorem dX0_tides_0 : decode cX0_tides 0 = .ok (.iload_n 1, 1) := dk_27 (dk_at dksX0_tides_0 0 rfl rfl)
theorem dX0_tides_1 : decode cX0_tides 1 = .ok (.iconst 1, 1) := dk_4 (dk_at dksX0_tides_0 1 rfl rfl)
theorem dX0_tides_2 : decode cX0_tides 2 = .ok (.bipush 100, 2) := dk_16 100 (dk_at dksX0_tides_0 2 rfl rfl)
theorem dX0_tides_4 : decode cX0_tides 4 = .ok (.invokestatic 114, 3) := dk_184 0 114 (dk_at dksX0_tides_0 4 rfl rfl)
theorem dX0_tides_7 : decode cX0_tides 7 = .ok (.ifCond .ne 6, 3) := dk_154 0 6 (dk_at dksX0_tides_0 7 rfl rfl)
theorem dX0_tides_10 : decode cX0_tides 10 = .ok (.ldc 139, 2) := dk_18 139 (dk_at dksX0_tides_0 10 rfl rfl)
theorem dX0_tides_12 : decode cX0_tides 12 = .ok (.ireturn, 1) := dk_172 (dk_at dksX0_tides_0 12 rfl rfl)
theorem dX0_tides_13 : decode cX0_tides 13 = .ok (.aload_n 0, 1) := dk_42 (dk_at dksX0_tides_0 13 rfl rfl)
theorem dX0_tides_14 : decode cX0_tides 14 = .ok (.getfield 52, 3) := dk_180 0 52 (dk_at dksX0_tides_0 14 rfl rfl)
theorem dX0_tides_17 : decode cX0_tides 17 = .ok (.getfield 396, 3) := dk_180 1 140 (dk_at dksX0_tides_0 17 rfl rfl)
theorem dX0_tides_20 : decode cX0_tides 20 = .ok (.istore_n 2, 1) := dk_61 (dk_at dksX0_tides_0 20 rfl rfl)
theorem dX0_tides_21 : decode cX0_tides 21 = .ok (.aload_n 0, 1) := dk_42 (dk_at dksX0_tides_0 21 rfl rfl)
theorem dX0_tides_22 : decode cX0_tides 22 = .ok (.iload_n 1, 1) := dk_27 (dk_at dksX0_tides_0 22 rfl rfl)
theorem dX0_tides_23 : decode cX0_tides 23 = .ok (.sipush 9999, 3) := dk_17 39 15 (dk_at dksX0_tides_1 0 rfl rfl)
theorem dX0_tides_26 : decode cX0_tides 26 = .ok (.aload_n 0, 1) := dk_42 (dk_at dksX0_tides_1 3 rfl rfl)
theorem dX0_tides_27 : decode cX0_tides 27 = .ok (.getfield 52, 3) := dk_180 0 52 (dk_at dksX0_tides_1 4 rfl rfl)
theorem dX0_tides_30 : decode cX0_tides 30 = .ok (.getfield 399, 3) := dk_180 1 143 (dk_at dksX0_tides_1 7 rfl rfl)
theorem dX0_tides_33 : decode cX0_tides 33 = .ok (.isub, 1) := dk_100 (dk_at dksX0_tides_1 10 rfl rfl)
theorem dX0_tides_34 : decode cX0_tides 34 = .ok (.invokestatic 4, 3) := dk_184 0 4 (dk_at dksX0_tides_1 11 rfl rfl)
theorem dX0_tides_37 : decode cX0_tides 37 = .ok (.invokevirtual 405, 3) := dk_182 1 149 (dk_at dksX0_tides_1 14 rfl rfl)
theorem dX0_tides_40 : decode cX0_tides 40 = .ok (.aload_n 0, 1) := dk_42 (dk_at dksX0_tides_1 17 rfl rfl)
theorem dX0_tides_41 : decode cX0_tides 41 = .ok (.getfield 52, 3) := dk_180 0 52 (dk_at dksX0_tides_1 18 rfl rfl)
theorem dX0_tides_44 : decode cX0_tides 44 = .ok (.getfield 396, 3) := dk_180 1 140 (dk_at dksX0_tides_1 21 rfl rfl)
theorem dX0_tides_47 : decode cX0_tides 47 = .ok (.iload_n 2, 1) := dk_28 (dk_at dksX0_tides_2 0 rfl rfl)
theorem dX0_tides_48 : decode cX0_tides 48 = .ok (.isub, 1) := dk_100 (dk_at dksX0_tides_2 1 rfl rfl)
theorem dX0_tides_49 : decode cX0_tides 49 = .ok (.ireturn, 1) := dk_172 (dk_at dksX0_tides_2 2 rfl rfl)
abbrev cX0_goesOn : ByteArray := prog_1_method_66_code
def yX0_goesOn : MethodName := ⟨RX0, "goesOn", "(I)V"⟩
def dkwX0_goesOn_0 : List UInt8 := [3, 61, 28, 27, 162, 0, 13, 42, 182, 1, 146, 132, 2, 1, 167, 255, 244, 177]
abbrev dktX0_goesOn_0 : List UInt8 := dkwX0_goesOn_0 ++ []
theorem dksX0_goesOn_0 : cX0_goesOn.data.toList.drop 0 = dktX0_goesOn_0 := by decide +kernel
theorem dX0_goesOn_0 : decode cX0_goesOn 0 = .ok (.iconst 0, 1) := dk_3 (dk_at dksX0_goesOn_0 0 rfl rfl)
theorem dX0_goesOn_1 : decode cX0_goesOn 1 = .ok (.istore_n 2, 1) := dk_61 (dk_at dksX0_goesOn_0 1 rfl rfl)
theorem dX0_goesOn_2 : decode cX0_goesOn 2 = .ok (.iload_n 2, 1) := dk_28 (dk_at dksX0_goesOn_0 2 rfl rfl)
theorem dX0_goesOn_3 : decode cX0_goesOn 3 = .ok (.iload_n 1, 1) := dk_27 (dk_at dksX0_goesOn_0 3 rfl rfl)
theorem dX0_goesOn_4 : decode cX0_goesOn 4 = .ok (.if_icmp .ge 13, 3) := dk_162 0 13 (dk_at dksX0_goesOn_0 4 rfl rfl)
theorem dX0_goesOn_7 : decode cX0_goesOn 7 = .ok (.aload_n 0, 1) := dk_42 (dk_at dksX0_goesOn_0 7 rfl rfl)
theorem dX0_goesOn_8 : decode cX0_goesOn 8 = .ok (.invokevirtual 402, 3) := dk_182 1 146 (dk_at dksX0_goesOn_0 8 rfl rfl)
theorem dX0_goesOn_11 : decode cX0_goesOn 11 = .ok (.iinc 2 1, 3) := dk_132 2 1 (dk_at dksX0_goesOn_0 11 rfl rfl)
theorem dX0_goesOn_14 : decode cX0_goesOn 14 = .ok (.goto (-12), 3) := dk_167 255 244 (dk_at dksX0_goesOn_0 14 rfl rfl)
theorem dX0_goesOn_17 : decode cX0_goesOn 17 = .ok (.return_, 1) := dk_177 (dk_at dksX0_goesOn_0 17 rfl rfl)
abbrev cX0_aTide : ByteArray := prog_1_method_65_code
def yX0_aTide : MethodName := ⟨RX0, "aTide", "()V"⟩
def dkwX0_aTide_6 : List UInt8 := [177]
abbrev dktX0_aTide_6 : List UInt8 := dkwX0_aTide_6 ++ []
def dkwX0_aTide_5 : List UInt8 := [4, 96, 181, 1, 140, 132, 2, 1, 167, 255, 144, 42, 180, 0, 52, 89, 180, 1, 143, 4, 96, 181, 1, 143]
abbrev dktX0_aTide_5 : List UInt8 := dkwX0_aTide_5 ++ dktX0_aTide_6
def dkwX0_aTide_4 : List UInt8 := [181, 1, 27, 45, 180, 1, 27, 154, 0, 22, 45, 16, 16, 181, 1, 30, 42, 180, 0, 52, 89, 180, 1, 140]
abbrev dktX0_aTide_4 : List UInt8 := dkwX0_aTide_4 ++ dktX0_aTide_5
def dkwX0_aTide_3 : List UInt8 := [184, 0, 4, 181, 1, 27, 167, 0, 46, 45, 3, 45, 180, 1, 27, 45, 182, 1, 61, 100, 184, 0, 10]
abbrev dktX0_aTide_3 : List UInt8 := dkwX0_aTide_3 ++ dktX0_aTide_4
def dkwX0_aTide_2 : List UInt8 := [180, 0, 52, 28, 27, 182, 1, 131, 154, 0, 25, 45, 16, 99, 45, 180, 1, 27, 42, 45, 182, 1, 57, 96]
abbrev dktX0_aTide_2 : List UInt8 := dkwX0_aTide_2 ++ dktX0_aTide_3
def dkwX0_aTide_1 : List UInt8 := [42, 180, 0, 52, 180, 1, 6, 28, 50, 78, 45, 27, 182, 1, 137, 154, 0, 6, 167, 0, 80, 42]
abbrev dktX0_aTide_1 : List UInt8 := dkwX0_aTide_1 ++ dktX0_aTide_2
def dkwX0_aTide_0 : List UInt8 := [42, 180, 0, 52, 182, 1, 95, 16, 16, 112, 60, 3, 61, 28, 42, 180, 0, 52, 180, 0, 110, 162, 0, 107]
abbrev dktX0_aTide_0 : List UInt8 := dkwX0_aTide_0 ++ dktX0_aTide_1
theorem dksX0_aTide_0 : cX0_aTide.data.toList.drop 0 = dktX0_aTide_0 := by decide +kernel
theorem dksX0_aTide_1 : cX0_aTide.data.toList.drop 24 = dktX0_aTide_1 := dk_seg dksX0_aTide_0 24 rfl rfl
theorem dksX0_aTide_2 : cX0_aTide.data.toList.drop 46 = dktX0_aTide_2 := dk_seg dksX0_aTide_1 22 rfl rfl
theorem dksX0_aTide_3 : cX0_aTide.data.toList.drop 70 = dktX0_aTide_3 := dk_seg dksX0_aTide_2 24 rfl rfl
theorem dksX0_aTide_4 : cX0_aTide.data.toList.drop 93 = dktX0_aTide_4 := dk_seg dksX0_aTide_3 23 rfl rfl
theorem dksX0_aTide_5 : cX0_aTide.data.toList.drop 117 = dktX0_aTide_5 := dk_seg dksX0_aTide_4 24 rfl rfl
theorem dksX0_aTide_6 : cX0_aTide.data.toList.drop 141 = dktX0_aTide_6 := dk_seg dksX0_aTide_5 24 rfl rfl
theorem dX0_aTide_0 : decode cX0_aTide 0 = .ok (.aload_n 0, 1) := dk_42 (dk_at dksX0_aTide_0 0 rfl rfl)
theorem dX0_aTide_1 : decode cX0_aTide 1 = .ok (.getfield 52, 3) := dk_180 0 52 (dk_at dksX0_aTide_0 1 rfl rfl)
theorem dX0_aTide_4 : decode cX0_aTide 4 = .ok (.invokevirtual 351, 3) := dk_182 1 95 (dk_at dksX0_aTide_0 4 rfl rfl)
theorem dX0_aTide_7 : decode cX0_aTide 7 = .ok (.bipush 16, 2) := dk_16 16 (dk_at dksX0_aTide_0 7 rfl rfl)
theorem dX0_aTide_9 : decode cX0_aTide 9 = .ok (.irem, 1) := dk_112 (dk_at dksX0_aTide_0 9 rfl rfl)
theorem dX0_aTide_10 : decode cX0_aTide 10 = .ok (.istore_n 1, 1) := dk_60 (dk_at dksX0_aTide_0 10 rfl rfl)
theorem dX0_aTide_11 : decode cX0_aTide 11 = .ok (.iconst 0, 1) := dk_3 (dk_at dksX0_aTide_0 11 rfl rfl)
theorem dX0_aTide_12 : decode cX0_aTide 12 = .ok (.istore_n 2, 1) := dk_61 (dk_at dksX0_aTide_0 12 rfl rfl)
theorem dX0_aTide_13 : decode cX0_aTide 13 = .ok (.iload_n 2, 1) := dk_28 (dk_at dksX0_aTide_0 13 rfl rfl)
theorem dX0_aTide_14 : decode cX0_aTide 14 = .ok (.aload_n 0, 1) := dk_42 (dk_at dksX0_aTide_0 14 rfl rfl)
theorem dX0_aTide_15 : decode cX0_aTide 15 = .ok (.getfield 52, 3) := dk_180 0 52 (dk_at dksX0_aTide_0 15 rfl rfl)
theorem dX0_aTide_18 : decode cX0_aTide 18 = .ok (.getfield 110, 3) := dk_180 0 110 (dk_at dksX0_aTide_0 18 rfl rfl)
theorem dX0_aTide_21 : decode cX0_aTide 21 = .ok (.if_icmp .ge 107, 3) := dk_162 0 107 (dk_at dksX0_aTide_0 21 rfl rfl)
theorem dX0_aTide_24 : decode cX0_aTide 24 = .ok (.aload_n 0, 1) := dk_42 (dk_at dksX0_aTide_1 0 rfl rfl)
theorem dX0_aTide_25 : decode cX0_aTide 25 = .ok (.getfield 52, 3) := dk_180 0 52 (dk_at dksX0_aTide_1 1 rfl rfl)
theorem dX0_aTide_28 : decode cX0_aTide 28 = .ok (.getfield 262, 3) := dk_180 1 6 (dk_at dksX0_aTide_1 4 rfl rfl)
theorem dX0_aTide_31 : decode cX0_aTide 31 = .ok (.iload_n 2, 1) := dk_28 (dk_at dksX0_aTide_1 7 rfl rfl)
theorem dX0_aTide_32 : decode cX0_aTide 32 = .ok (.aaload, 1) := dk_50 (dk_at dksX0_aTide_1 8 rfl rfl)
theorem dX0_aTide_33 : decode cX0_aTide 33 = .ok (.astore_n 3, 1) := dk_78 (dk_at dksX0_aTide_1 9 rfl rfl)
theorem dX0_aTide_34 : decode cX0_aTide 34 = .ok (.aload_n 3, 1) := dk_45 (dk_at dksX0_aTide_1 10 rfl rfl)
theorem dX0_aTide_35 : decode cX0_aTide 35 = .ok (.iload_n 1, 1) := dk_27 (dk_at dksX0_aTide_1 11 rfl rfl)
theorem dX0_aTide_36 : decode cX0_aTide 36 = .ok (.invokevirtual 393, 3) := dk_182 1 137 (dk_at dksX0_aTide_1 12 rfl rfl)
theorem dX0_aTide_39 : decode cX0_aTide 39 = .ok (.ifCond .ne 6, 3) := dk_154 0 6 (dk_at dksX0_aTide_1 15 rfl rfl)
theorem dX0_aTide_42 : decode cX0_aTide 42 = .ok (.goto 80, 3) := dk_167 0 80 (dk_at dksX0_aTide_1 18 rfl rfl)
theorem dX0_aTide_45 : decode cX0_aTide 45 = .ok (.aload_n 0, 1) := dk_42 (dk_at dksX0_aTide_1 21 rfl rfl)
theorem dX0_aTide_46 : decode cX0_aTide 46 = .ok (.getfield 52, 3) := dk_180 0 52 (dk_at dksX0_aTide_2 0 rfl rfl)
theorem dX0_aTide_49 : decode cX0_aTide 49 = .ok (.iload_n 2, 1) := dk_28 (dk_at dksX0_aTide_2 3 rfl rfl)
theorem dX0_aTide_50 : decode cX0_aTide 50 = .ok (.iload_n 1, 1) := dk_27 (dk_at dksX0_aTide_2 4 rfl rfl)
theorem dX0_aTide_51 : decode cX0_aTide 51 = .ok (.invokevirtual 387, 3) := dk_182 1 131 (dk_at dksX0_aTide_2 5 rfl rfl)
theorem dX0_aTide_54 : decode cX0_aTide 54 = .ok (.ifCond .ne 25, 3) := dk_154 0 25 (dk_at dksX0_aTide_2 8 rfl rfl)
theorem dX0_aTide_57 : decode cX0_aTide 57 = .ok (.aload_n 3, 1) := dk_45 (dk_at dksX0_aTide_2 11 rfl rfl)
theorem dX0_aTide_58 : decode cX0_aTide 58 = .ok (.bipush 99, 2) := dk_16 99 (dk_at dksX0_aTide_2 12 rfl rfl)
theorem dX0_aTide_60 : decode cX0_aTide 60 = .ok (.aload_n 3, 1) := dk_45 (dk_at dksX0_aTide_2 14 rfl rfl)
theorem dX0_aTide_61 : decode cX0_aTide 61 = .ok (.getfield 283, 3) := dk_180 1 27 (dk_at dksX0_aTide_2 15 rfl rfl)
theorem dX0_aTide_64 : decode cX0_aTide 64 = .ok (.aload_n 0, 1) := dk_42 (dk_at dksX0_aTide_2 18 rfl rfl)
theorem dX0_aTide_65 : decode cX0_aTide 65 = .ok (.aload_n 3, 1) := dk_45 (dk_at dksX0_aTide_2 19 rfl rfl)
theorem dX0_aTide_66 : decode cX0_aTide 66 = .ok (.invokevirtual 313, 3) := dk_182 1 57 (dk_at dksX0_aTide_2 20 rfl rfl)
theorem dX0_aTide_69 : decode cX0_aTide 69 = .ok (.iadd, 1) := dk_96 (dk_at dksX0_aTide_2 23 rfl rfl)
theorem dX0_aTide_70 : decode cX0_aTide 70 = .ok (.invokestatic 4, 3) := dk_184 0 4 (dk_at dksX0_aTide_3 0 rfl rfl)
theorem dX0_aTide_73 : decode cX0_aTide 73 = .ok (.putfield 283, 3) := dk_181 1 27 (dk_at dksX0_aTide_3 3 rfl rfl)
theorem dX0_aTide_76 : decode cX0_aTide 76 = .ok (.goto 46, 3) := dk_167 0 46 (dk_at dksX0_aTide_3 6 rfl rfl)
theorem dX0_aTide_79 : decode cX0_aTide 79 = .ok (.aload_n 3, 1) := dk_45 (dk_at dksX0_aTide_3 9 rfl rfl)
theorem dX0_aTide_80 : decode cX0_aTide 80 = .ok (.iconst 0, 1) := dk_3 (dk_at dksX0_aTide_3 10 rfl rfl)
theorem dX0_aTide_81 : decode cX0_aTide 81 = .ok (.aload_n 3, 1) := dk_45 (dk_at dksX0_aTide_3 11 rfl rfl)
theorem dX0_aTide_82 : decode cX0_aTide 82 = .ok (.getfield 283, 3) := dk_180 1 27 (dk_at dksX0_aTide_3 12 rfl rfl)
theorem dX0_aTide_85 : decode cX0_aTide 85 = .ok (.aload_n 3, 1) := dk_45 (dk_at dksX0_aTide_3 15 rfl rfl)
theorem dX0_aTide_86 : decode cX0_aTide 86 = .ok (.invokevirtual 317, 3) := dk_182 1 61 (dk_at dksX0_aTide_3 16 rfl rfl)
theorem dX0_aTide_89 : decode cX0_aTide 89 = .ok (.isub, 1) := dk_100 (dk_at dksX0_aTide_3 19 rfl rfl)
theorem dX0_aTide_90 : decode cX0_aTide 90 = .ok (.invokestatic 10, 3) := dk_184 0 10 (dk_at dksX0_aTide_3 20 rfl rfl)
theorem dX0_aTide_93 : decode cX0_aTide 93 = .ok (.putfield 283, 3) := dk_181 1 27 (dk_at dksX0_aTide_4 0 rfl rfl)
theorem dX0_aTide_96 : decode cX0_aTide 96 = .ok (.aload_n 3, 1) := dk_45 (dk_at dksX0_aTide_4 3 rfl rfl)
theorem dX0_aTide_97 : decode cX0_aTide 97 = .ok (.getfield 283, 3) := dk_180 1 27 (dk_at dksX0_aTide_4 4 rfl rfl)
theorem dX0_aTide_100 : decode cX0_aTide 100 = .ok (.ifCond .ne 22, 3) := dk_154 0 22 (dk_at dksX0_aTide_4 7 rfl rfl)
theorem dX0_aTide_103 : decode cX0_aTide 103 = .ok (.aload_n 3, 1) := dk_45 (dk_at dksX0_aTide_4 10 rfl rfl)
theorem dX0_aTide_104 : decode cX0_aTide 104 = .ok (.bipush 16, 2) := dk_16 16 (dk_at dksX0_aTide_4 11 rfl rfl)
theorem dX0_aTide_106 : decode cX0_aTide 106 = .ok (.putfield 286, 3) := dk_181 1 30 (dk_at dksX0_aTide_4 13 rfl rfl)
theorem dX0_aTide_109 : decode cX0_aTide 109 = .ok (.aload_n 0, 1) := dk_42 (dk_at dksX0_aTide_4 16 rfl rfl)
theorem dX0_aTide_110 : decode cX0_aTide 110 = .ok (.getfield 52, 3) := dk_180 0 52 (dk_at dksX0_aTide_4 17 rfl rfl)
theorem dX0_aTide_113 : decode cX0_aTide 113 = .ok (.dup, 1) := dk_89 (dk_at dksX0_aTide_4 20 rfl rfl)
theorem dX0_aTide_114 : decode cX0_aTide 114 = .ok (.getfield 396, 3) := dk_180 1 140 (dk_at dksX0_aTide_4 21 rfl rfl)
theorem dX0_aTide_117 : decode cX0_aTide 117 = .ok (.iconst 1, 1) := dk_4 (dk_at dksX0_aTide_5 0 rfl rfl)
theorem dX0_aTide_118 : decode cX0_aTide 118 = .ok (.iadd, 1) := dk_96 (dk_at dksX0_aTide_5 1 rfl rfl)
theorem dX0_aTide_119 : decode cX0_aTide 119 = .ok (.putfield 396, 3) := dk_181 1 140 (dk_at dksX0_aTide_5 2 rfl rfl)
theorem dX0_aTide_122 : decode cX0_aTide 122 = .ok (.iinc 2 1, 3) := dk_132 2 1 (dk_at dksX0_aTide_5 5 rfl rfl)
theorem dX0_aTide_125 : decode cX0_aTide 125 = .ok (.goto (-112), 3) := dk_167 255 144 (dk_at dksX0_aTide_5 8 rfl rfl)
theorem dX0_aTide_128 : decode cX0_aTide 128 = .ok (.aload_n 0, 1) := dk_42 (dk_at dksX0_aTide_5 11 rfl rfl)
theorem dX0_aTide_129 : decode cX0_aTide 129 = .ok (.getfield 52, 3) := dk_180 0 52 (dk_at dksX0_aTide_5 12 rfl rfl)
theorem dX0_aTide_132 : decode cX0_aTide 132 = .ok (.dup, 1) := dk_89 (dk_at dksX0_aTide_5 15 rfl rfl)
theorem dX0_aTide_133 : decode cX0_aTide 133 = .ok (.getfield 399, 3) := dk_180 1 143 (dk_at dksX0_aTide_5 16 rfl rfl)
theorem dX0_aTide_136 : decode cX0_aTide 136 = .ok (.iconst 1, 1) := dk_4 (dk_at dksX0_aTide_5 19 rfl rfl)
theorem dX0_aTide_137 : decode cX0_aTide 137 = .ok (.iadd, 1) := dk_96 (dk_at dksX0_aTide_5 20 rfl rfl)
theorem dX0_aTide_138 : decode cX0_aTide 138 = .ok (.putfield 399, 3) := dk_181 1 143 (dk_at dksX0_aTide_5 21 rfl rfl)
theorem dX0_aTide_141 : decode cX0_aTide 141 = .ok (.return_, 1) := dk_177 (dk_at dksX0_aTide_6 0 rfl rfl)
abbrev cX0_book : ByteArray := prog_1_method_68_code
def yX0_book : MethodName := ⟨RX0, "book", "(I)I"⟩
def dkwX0_book_3 : List UInt8 := [19, 1, 20, 42, 180, 0, 52, 42, 180, 0, 52, 182, 1, 120, 182, 1, 128, 2, 130, 126, 172, 18, 139, 172]
abbrev dktX0_book_3 : List UInt8 := dkwX0_book_3 ++ []
def dkwX0_book_2 : List UInt8 := [42, 180, 0, 52, 180, 1, 140, 172, 42, 180, 0, 52, 182, 1, 152, 172, 42, 180, 0, 52, 182, 1, 120, 172]
abbrev dktX0_book_2 : List UInt8 := dkwX0_book_2 ++ dktX0_book_3
def dkwX0_book_1 : List UInt8 := [170, 0, 0, 0, 0, 0, 76, 0, 0, 0, 0, 0, 0, 0, 3, 0, 0, 0, 31, 0, 0, 0, 39, 0, 0, 0, 47, 0, 0, 0, 55]
abbrev dktX0_book_1 : List UInt8 := dkwX0_book_1 ++ dktX0_book_2
def dkwX0_book_0 : List UInt8 := [27]
abbrev dktX0_book_0 : List UInt8 := dkwX0_book_0 ++ dktX0_book_1
theorem dksX0_book_0 : cX0_book.data.toList.drop 0 = dktX0_book_0 := by decide +kernel
theorem dksX0_book_1 : cX0_book.data.toList.drop 1 = dktX0_book_1 := dk_seg dksX0_book_0 1 rfl rfl
theorem dksX0_book_2 : cX0_book.data.toList.drop 32 = dktX0_book_2 := dk_seg dksX0_book_1 31 rfl rfl
theorem dksX0_book_3 : cX0_book.data.toList.drop 56 = dktX0_book_3 := dk_seg dksX0_book_2 24 rfl rfl
theorem dX0_book_0 : decode cX0_book 0 = .ok (.iload_n 1, 1) := dk_27 (dk_at dksX0_book_0 0 rfl rfl)
theorem dX0_book_1 : decode cX0_book 1 = .ok (.tableswitch 76 0 3 #[31, 39, 47, 55], 31) := by decide +kernel
theorem dX0_book_32 : decode cX0_book 32 = .ok (.aload_n 0, 1) := dk_42 (dk_at dksX0_book_2 0 rfl rfl)
theorem dX0_book_33 : decode cX0_book 33 = .ok (.getfield 52, 3) := dk_180 0 52 (dk_at dksX0_book_2 1 rfl rfl)
theorem dX0_book_36 : decode cX0_book 36 = .ok (.getfield 396, 3) := dk_180 1 140 (dk_at dksX0_book_2 4 rfl rfl)
theorem dX0_book_39 : decode cX0_book 39 = .ok (.ireturn, 1) := dk_172 (dk_at dksX0_book_2 7 rfl rfl)
theorem dX0_book_40 : decode cX0_book 40 = .ok (.aload_n 0, 1) := dk_42 (dk_at dksX0_book_2 8 rfl rfl)
theorem dX0_book_41 : decode cX0_book 41 = .ok (.getfield 52, 3) := dk_180 0 52 (dk_at dksX0_book_2 9 rfl rfl)
theorem dX0_book_44 : decode cX0_book 44 = .ok (.invokevirtual 408, 3) := dk_182 1 152 (dk_at dksX0_book_2 12 rfl rfl)
theorem dX0_book_47 : decode cX0_book 47 = .ok (.ireturn, 1) := dk_172 (dk_at dksX0_book_2 15 rfl rfl)
theorem dX0_book_48 : decode cX0_book 48 = .ok (.aload_n 0, 1) := dk_42 (dk_at dksX0_book_2 16 rfl rfl)
theorem dX0_book_49 : decode cX0_book 49 = .ok (.getfield 52, 3) := dk_180 0 52 (dk_at dksX0_book_2 17 rfl rfl)
theorem dX0_book_52 : decode cX0_book 52 = .ok (.invokevirtual 376, 3) := dk_182 1 120 (dk_at dksX0_book_2 20 rfl rfl)
theorem dX0_book_55 : decode cX0_book 55 = .ok (.ireturn, 1) := dk_172 (dk_at dksX0_book_2 23 rfl rfl)
theorem dX0_book_56 : decode cX0_book 56 = .ok (.ldc_w 276, 3) := dk_19 1 20 (dk_at dksX0_book_3 0 rfl rfl)
theorem dX0_book_59 : decode cX0_book 59 = .ok (.aload_n 0, 1) := dk_42 (dk_at dksX0_book_3 3 rfl rfl)
theorem dX0_book_60 : decode cX0_book 60 = .ok (.getfield 52, 3) := dk_180 0 52 (dk_at dksX0_book_3 4 rfl rfl)
theorem dX0_book_63 : decode cX0_book 63 = .ok (.aload_n 0, 1) := dk_42 (dk_at dksX0_book_3 7 rfl rfl)
theorem dX0_book_64 : decode cX0_book 64 = .ok (.getfield 52, 3) := dk_180 0 52 (dk_at dksX0_book_3 8 rfl rfl)
theorem dX0_book_67 : decode cX0_book 67 = .ok (.invokevirtual 376, 3) := dk_182 1 120 (dk_at dksX0_book_3 11 rfl rfl)
theorem dX0_book_70 : decode cX0_book 70 = .ok (.invokevirtual 384, 3) := dk_182 1 128 (dk_at dksX0_book_3 14 rfl rfl)
theorem dX0_book_73 : decode cX0_book 73 = .ok (.iconst (-1), 1) := dk_2 (dk_at dksX0_book_3 17 rfl rfl)
theorem dX0_book_74 : decode cX0_book 74 = .ok (.ixor, 1) := dk_130 (dk_at dksX0_book_3 18 rfl rfl)
theorem dX0_book_75 : decode cX0_book 75 = .ok (.iand, 1) := dk_126 (dk_at dksX0_book_3 19 rfl rfl)
theorem dX0_book_76 : decode cX0_book 76 = .ok (.ireturn, 1) := dk_172 (dk_at dksX0_book_3 20 rfl rfl)
theorem dX0_book_77 : decode cX0_book 77 = .ok (.ldc 139, 2) := dk_18 139 (dk_at dksX0_book_3 21 rfl rfl)
theorem dX0_book_79 : decode cX0_book 79 = .ok (.ireturn, 1) := dk_172 (dk_at dksX0_book_3 23 rfl rfl)
abbrev cX0_behind : ByteArray := prog_1_method_71_code
def yX0_behind : MethodName := ⟨RX0, "behind", "(II)I"⟩
def dkwX0_behind_4 : List UInt8 := [100, 50, 180, 1, 27, 62, 42, 182, 1, 161, 29, 172]
abbrev dktX0_behind_4 : List UInt8 := dkwX0_behind_4 ++ []
def dkwX0_behind_3 : List UInt8 := [28, 5, 160, 0, 13, 42, 180, 0, 52, 180, 1, 140, 167, 0, 17, 42, 180, 0, 52, 180, 1, 6, 28, 6]
abbrev dktX0_behind_3 : List UInt8 := dkwX0_behind_3 ++ dktX0_behind_4
def dkwX0_behind_2 : List UInt8 := [180, 0, 52, 182, 1, 152, 167, 0, 47, 28, 4, 160, 0, 13, 42, 180, 0, 52, 182, 1, 120, 167, 0, 32]
abbrev dktX0_behind_2 : List UInt8 := dkwX0_behind_2 ++ dktX0_behind_3
def dkwX0_behind_1 : List UInt8 := [182, 1, 44, 154, 0, 6, 18, 139, 172, 42, 182, 1, 158, 42, 27, 182, 1, 149, 28, 154, 0, 13, 42]
abbrev dktX0_behind_1 : List UInt8 := dkwX0_behind_1 ++ dktX0_behind_2
def dkwX0_behind_0 : List UInt8 := [27, 3, 16, 100, 184, 0, 114, 153, 0, 22, 28, 155, 0, 18, 28, 5, 164, 0, 16, 42, 28, 6, 100]
abbrev dktX0_behind_0 : List UInt8 := dkwX0_behind_0 ++ dktX0_behind_1
theorem dksX0_behind_0 : cX0_behind.data.toList.drop 0 = dktX0_behind_0 := by decide +kernel
theorem dksX0_behind_1 : cX0_behind.data.toList.drop 23 = dktX0_behind_1 := dk_seg dksX0_behind_0 23 rfl rfl
theorem dksX0_behind_2 : cX0_behind.data.toList.drop 46 = dktX0_behind_2 := dk_seg dksX0_behind_1 23 rfl rfl
theorem dksX0_behind_3 : cX0_behind.data.toList.drop 70 = dktX0_behind_3 := dk_seg dksX0_behind_2 24 rfl rfl
theorem dksX0_behind_4 : cX0_behind.data.toList.drop 94 = dktX0_behind_4 := dk_seg dksX0_behind_3 24 rfl rfl
theorem dX0_behind_0 : decode cX0_behind 0 = .ok (.iload_n 1, 1) := dk_27 (dk_at dksX0_behind_0 0 rfl rfl)
theorem dX0_behind_1 : decode cX0_behind 1 = .ok (.iconst 0, 1) := dk_3 (dk_at dksX0_behind_0 1 rfl rfl)
theorem dX0_behind_2 : decode cX0_behind 2 = .ok (.bipush 100, 2) := dk_16 100 (dk_at dksX0_behind_0 2 rfl rfl)
theorem dX0_behind_4 : decode cX0_behind 4 = .ok (.invokestatic 114, 3) := dk_184 0 114 (dk_at dksX0_behind_0 4 rfl rfl)
theorem dX0_behind_7 : decode cX0_behind 7 = .ok (.ifCond .eq 22, 3) := dk_153 0 22 (dk_at dksX0_behind_0 7 rfl rfl)
theorem dX0_behind_10 : decode cX0_behind 10 = .ok (.iload_n 2, 1) := dk_28 (dk_at dksX0_behind_0 10 rfl rfl)
theorem dX0_behind_11 : decode cX0_behind 11 = .ok (.ifCond .lt 18, 3) := dk_155 0 18 (dk_at dksX0_behind_0 11 rfl rfl)
theorem dX0_behind_14 : decode cX0_behind 14 = .ok (.iload_n 2, 1) := dk_28 (dk_at dksX0_behind_0 14 rfl rfl)
theorem dX0_behind_15 : decode cX0_behind 15 = .ok (.iconst 2, 1) := dk_5 (dk_at dksX0_behind_0 15 rfl rfl)
theorem dX0_behind_16 : decode cX0_behind 16 = .ok (.if_icmp .le 16, 3) := dk_164 0 16 (dk_at dksX0_behind_0 16 rfl rfl)
theorem dX0_behind_19 : decode cX0_behind 19 = .ok (.aload_n 0, 1) := dk_42 (dk_at dksX0_behind_0 19 rfl rfl)
theorem dX0_behind_20 : decode cX0_behind 20 = .ok (.iload_n 2, 1) := dk_28 (dk_at dksX0_behind_0 20 rfl rfl)
theorem dX0_behind_21 : decode cX0_behind 21 = .ok (.iconst 3, 1) := dk_6 (dk_at dksX0_behind_0 21 rfl rfl)
theorem dX0_behind_22 : decode cX0_behind 22 = .ok (.isub, 1) := dk_100 (dk_at dksX0_behind_0 22 rfl rfl)
theorem dX0_behind_23 : decode cX0_behind 23 = .ok (.invokevirtual 300, 3) := dk_182 1 44 (dk_at dksX0_behind_1 0 rfl rfl)
theorem dX0_behind_26 : decode cX0_behind 26 = .ok (.ifCond .ne 6, 3) := dk_154 0 6 (dk_at dksX0_behind_1 3 rfl rfl)
theorem dX0_behind_29 : decode cX0_behind 29 = .ok (.ldc 139, 2) := dk_18 139 (dk_at dksX0_behind_1 6 rfl rfl)
theorem dX0_behind_31 : decode cX0_behind 31 = .ok (.ireturn, 1) := dk_172 (dk_at dksX0_behind_1 8 rfl rfl)
theorem dX0_behind_32 : decode cX0_behind 32 = .ok (.aload_n 0, 1) := dk_42 (dk_at dksX0_behind_1 9 rfl rfl)
theorem dX0_behind_33 : decode cX0_behind 33 = .ok (.invokevirtual 414, 3) := dk_182 1 158 (dk_at dksX0_behind_1 10 rfl rfl)
theorem dX0_behind_36 : decode cX0_behind 36 = .ok (.aload_n 0, 1) := dk_42 (dk_at dksX0_behind_1 13 rfl rfl)
theorem dX0_behind_37 : decode cX0_behind 37 = .ok (.iload_n 1, 1) := dk_27 (dk_at dksX0_behind_1 14 rfl rfl)
theorem dX0_behind_38 : decode cX0_behind 38 = .ok (.invokevirtual 405, 3) := dk_182 1 149 (dk_at dksX0_behind_1 15 rfl rfl)
theorem dX0_behind_41 : decode cX0_behind 41 = .ok (.iload_n 2, 1) := dk_28 (dk_at dksX0_behind_1 18 rfl rfl)
theorem dX0_behind_42 : decode cX0_behind 42 = .ok (.ifCond .ne 13, 3) := dk_154 0 13 (dk_at dksX0_behind_1 19 rfl rfl)
theorem dX0_behind_45 : decode cX0_behind 45 = .ok (.aload_n 0, 1) := dk_42 (dk_at dksX0_behind_1 22 rfl rfl)
theorem dX0_behind_46 : decode cX0_behind 46 = .ok (.getfield 52, 3) := dk_180 0 52 (dk_at dksX0_behind_2 0 rfl rfl)
theorem dX0_behind_49 : decode cX0_behind 49 = .ok (.invokevirtual 408, 3) := dk_182 1 152 (dk_at dksX0_behind_2 3 rfl rfl)
theorem dX0_behind_52 : decode cX0_behind 52 = .ok (.goto 47, 3) := dk_167 0 47 (dk_at dksX0_behind_2 6 rfl rfl)
theorem dX0_behind_55 : decode cX0_behind 55 = .ok (.iload_n 2, 1) := dk_28 (dk_at dksX0_behind_2 9 rfl rfl)
theorem dX0_behind_56 : decode cX0_behind 56 = .ok (.iconst 1, 1) := dk_4 (dk_at dksX0_behind_2 10 rfl rfl)
theorem dX0_behind_57 : decode cX0_behind 57 = .ok (.if_icmp .ne 13, 3) := dk_160 0 13 (dk_at dksX0_behind_2 11 rfl rfl)
theorem dX0_behind_60 : decode cX0_behind 60 = .ok (.aload_n 0, 1) := dk_42 (dk_at dksX0_behind_2 14 rfl rfl)
theorem dX0_behind_61 : decode cX0_behind 61 = .ok (.getfield 52, 3) := dk_180 0 52 (dk_at dksX0_behind_2 15 rfl rfl)
theorem dX0_behind_64 : decode cX0_behind 64 = .ok (.invokevirtual 376, 3) := dk_182 1 120 (dk_at dksX0_behind_2 18 rfl rfl)
theorem dX0_behind_67 : decode cX0_behind 67 = .ok (.goto 32, 3) := dk_167 0 32 (dk_at dksX0_behind_2 21 rfl rfl)
theorem dX0_behind_70 : decode cX0_behind 70 = .ok (.iload_n 2, 1) := dk_28 (dk_at dksX0_behind_3 0 rfl rfl)
theorem dX0_behind_71 : decode cX0_behind 71 = .ok (.iconst 2, 1) := dk_5 (dk_at dksX0_behind_3 1 rfl rfl)
theorem dX0_behind_72 : decode cX0_behind 72 = .ok (.if_icmp .ne 13, 3) := dk_160 0 13 (dk_at dksX0_behind_3 2 rfl rfl)
theorem dX0_behind_75 : decode cX0_behind 75 = .ok (.aload_n 0, 1) := dk_42 (dk_at dksX0_behind_3 5 rfl rfl)
theorem dX0_behind_76 : decode cX0_behind 76 = .ok (.getfield 52, 3) := dk_180 0 52 (dk_at dksX0_behind_3 6 rfl rfl)
theorem dX0_behind_79 : decode cX0_behind 79 = .ok (.getfield 396, 3) := dk_180 1 140 (dk_at dksX0_behind_3 9 rfl rfl)
theorem dX0_behind_82 : decode cX0_behind 82 = .ok (.goto 17, 3) := dk_167 0 17 (dk_at dksX0_behind_3 12 rfl rfl)
theorem dX0_behind_85 : decode cX0_behind 85 = .ok (.aload_n 0, 1) := dk_42 (dk_at dksX0_behind_3 15 rfl rfl)
theorem dX0_behind_86 : decode cX0_behind 86 = .ok (.getfield 52, 3) := dk_180 0 52 (dk_at dksX0_behind_3 16 rfl rfl)
theorem dX0_behind_89 : decode cX0_behind 89 = .ok (.getfield 262, 3) := dk_180 1 6 (dk_at dksX0_behind_3 19 rfl rfl)
theorem dX0_behind_92 : decode cX0_behind 92 = .ok (.iload_n 2, 1) := dk_28 (dk_at dksX0_behind_3 22 rfl rfl)
theorem dX0_behind_93 : decode cX0_behind 93 = .ok (.iconst 3, 1) := dk_6 (dk_at dksX0_behind_3 23 rfl rfl)
theorem dX0_behind_94 : decode cX0_behind 94 = .ok (.isub, 1) := dk_100 (dk_at dksX0_behind_4 0 rfl rfl)
theorem dX0_behind_95 : decode cX0_behind 95 = .ok (.aaload, 1) := dk_50 (dk_at dksX0_behind_4 1 rfl rfl)
theorem dX0_behind_96 : decode cX0_behind 96 = .ok (.getfield 283, 3) := dk_180 1 27 (dk_at dksX0_behind_4 2 rfl rfl)
theorem dX0_behind_99 : decode cX0_behind 99 = .ok (.istore_n 3, 1) := dk_62 (dk_at dksX0_behind_4 5 rfl rfl)
theorem dX0_behind_100 : decode cX0_behind 100 = .ok (.aload_n 0, 1) := dk_42 (dk_at dksX0_behind_4 6 rfl rfl)
theorem dX0_behind_101 : decode cX0_behind 101 = .ok (.invokevirtual 417, 3) := dk_182 1 161 (dk_at dksX0_behind_4 7 rfl rfl)
theorem dX0_behind_104 : decode cX0_behind 104 = .ok (.iload_n 3, 1) := dk_29 (dk_at dksX0_behind_4 10 rfl rfl)
theorem dX0_behind_105 : decode cX0_behind 105 = .ok (.ireturn, 1) := dk_172 (dk_at dksX0_behind_4 11 rfl rfl)
abbrev cX0_thinks : ByteArray := prog_1_method_69_code
def yX0_thinks : MethodName := ⟨RX0, "thinks", "()V"⟩
def dkwX0_thinks_0 : List UInt8 := [42, 180, 0, 62, 42, 180, 0, 52, 182, 1, 154, 177]
abbrev dktX0_thinks_0 : List UInt8 := dkwX0_thinks_0 ++ []
theorem dksX0_thinks_0 : cX0_thinks.data.toList.drop 0 = dktX0_thinks_0 := by decide +kernel
theorem dX0_thinks_0 : decode cX0_thinks 0 = .ok (.aload_n 0, 1) := dk_42 (dk_at dksX0_thinks_0 0 rfl rfl)
theorem dX0_thinks_1 : decode cX0_thinks 1 = .ok (.getfield 62, 3) := dk_180 0 62 (dk_at dksX0_thinks_0 1 rfl rfl)
theorem dX0_thinks_4 : decode cX0_thinks 4 = .ok (.aload_n 0, 1) := dk_42 (dk_at dksX0_thinks_0 4 rfl rfl)
theorem dX0_thinks_5 : decode cX0_thinks 5 = .ok (.getfield 52, 3) := dk_180 0 52 (dk_at dksX0_thinks_0 5 rfl rfl)
theorem dX0_thinks_8 : decode cX0_thinks 8 = .ok (.invokevirtual 410, 3) := dk_182 1 154 (dk_at dksX0_thinks_0 8 rfl rfl)
theorem dX0_thinks_11 : decode cX0_thinks 11 = .ok (.return_, 1) := dk_177 (dk_at dksX0_thinks_0 11 rfl rfl)
abbrev cX0_copyRow : ByteArray := prog_1_method_6_code
def yX0_copyRow : MethodName := ⟨RX0, "copyRow", "([I[I)V"⟩
def dkwX0_copyRow_0 : List UInt8 := [42, 3, 43, 3, 43, 190, 184, 0, 40, 177]
abbrev dktX0_copyRow_0 : List UInt8 := dkwX0_copyRow_0 ++ []
theorem dksX0_copyRow_0 : cX0_copyRow.data.toList.drop 0 = dktX0_copyRow_0 := by decide +kernel
theorem dX0_copyRow_0 : decode cX0_copyRow 0 = .ok (.aload_n 0, 1) := dk_42 (dk_at dksX0_copyRow_0 0 rfl rfl)
theorem dX0_copyRow_1 : decode cX0_copyRow 1 = .ok (.iconst 0, 1) := dk_3 (dk_at dksX0_copyRow_0 1 rfl rfl)
theorem dX0_copyRow_2 : decode cX0_copyRow 2 = .ok (.aload_n 1, 1) := dk_43 (dk_at dksX0_copyRow_0 2 rfl rfl)
theorem dX0_copyRow_3 : decode cX0_copyRow 3 = .ok (.iconst 0, 1) := dk_3 (dk_at dksX0_copyRow_0 3 rfl rfl)
theorem dX0_copyRow_4 : decode cX0_copyRow 4 = .ok (.aload_n 1, 1) := dk_43 (dk_at dksX0_copyRow_0 4 rfl rfl)
theorem dX0_copyRow_5 : decode cX0_copyRow 5 = .ok (.arraylength, 1) := dk_190 (dk_at dksX0_copyRow_0 5 rfl rfl)
theorem dX0_copyRow_6 : decode cX0_copyRow 6 = .ok (.invokestatic 40, 3) := dk_184 0 40 (dk_at dksX0_copyRow_0 6 rfl rfl)
theorem dX0_copyRow_9 : decode cX0_copyRow 9 = .ok (.return_, 1) := dk_177 (dk_at dksX0_copyRow_0 9 rfl rfl)
abbrev cX0_putsBack : ByteArray := prog_1_method_70_code
def yX0_putsBack : MethodName := ⟨RX0, "putsBack", "()V"⟩
def dkwX0_putsBack_0 : List UInt8 := [42, 180, 0, 52, 42, 180, 0, 62, 182, 1, 154, 177]
abbrev dktX0_putsBack_0 : List UInt8 := dkwX0_putsBack_0 ++ []
theorem dksX0_putsBack_0 : cX0_putsBack.data.toList.drop 0 = dktX0_putsBack_0 := by decide +kernel
theorem dX0_putsBack_0 : decode cX0_putsBack 0 = .ok (.aload_n 0, 1) := dk_42 (dk_at dksX0_putsBack_0 0 rfl rfl)
theorem dX0_putsBack_1 : decode cX0_putsBack 1 = .ok (.getfield 52, 3) := dk_180 0 52 (dk_at dksX0_putsBack_0 1 rfl rfl)
theorem dX0_putsBack_4 : decode cX0_putsBack 4 = .ok (.aload_n 0, 1) := dk_42 (dk_at dksX0_putsBack_0 4 rfl rfl)
theorem dX0_putsBack_5 : decode cX0_putsBack 5 = .ok (.getfield 62, 3) := dk_180 0 62 (dk_at dksX0_putsBack_0 5 rfl rfl)
theorem dX0_putsBack_8 : decode cX0_putsBack 8 = .ok (.invokevirtual 410, 3) := dk_182 1 154 (dk_at dksX0_putsBack_0 8 rfl rfl)
theorem dX0_putsBack_11 : decode cX0_putsBack 11 = .ok (.return_, 1) := dk_177 (dk_at dksX0_putsBack_0 11 rfl rfl)
abbrev cX0_lasts : ByteArray := prog_1_method_72_code
def yX0_lasts : MethodName := ⟨RX0, "lasts", "()I"⟩
def dkwX0_lasts_2 : List UInt8 := [18, 3, 172]
abbrev dktX0_lasts_2 : List UInt8 := dkwX0_lasts_2 ++ []
def dkwX0_lasts_1 : List UInt8 := [182, 1, 146, 132, 1, 1, 167, 255, 232, 42, 182, 1, 161, 27, 17, 1, 44, 163, 0, 7, 27, 167, 0, 5]
abbrev dktX0_lasts_1 : List UInt8 := dkwX0_lasts_1 ++ dktX0_lasts_2
def dkwX0_lasts_0 : List UInt8 := [42, 182, 1, 158, 3, 60, 27, 17, 1, 44, 163, 0, 23, 42, 180, 0, 52, 182, 1, 120, 153, 0, 13, 42]
abbrev dktX0_lasts_0 : List UInt8 := dkwX0_lasts_0 ++ dktX0_lasts_1
theorem dksX0_lasts_0 : cX0_lasts.data.toList.drop 0 = dktX0_lasts_0 := by decide +kernel
theorem dksX0_lasts_1 : cX0_lasts.data.toList.drop 24 = dktX0_lasts_1 := dk_seg dksX0_lasts_0 24 rfl rfl
theorem dksX0_lasts_2 : cX0_lasts.data.toList.drop 48 = dktX0_lasts_2 := dk_seg dksX0_lasts_1 24 rfl rfl
theorem dX0_lasts_0 : decode cX0_lasts 0 = .ok (.aload_n 0, 1) := dk_42 (dk_at dksX0_lasts_0 0 rfl rfl)
theorem dX0_lasts_1 : decode cX0_lasts 1 = .ok (.invokevirtual 414, 3) := dk_182 1 158 (dk_at dksX0_lasts_0 1 rfl rfl)
theorem dX0_lasts_4 : decode cX0_lasts 4 = .ok (.iconst 0, 1) := dk_3 (dk_at dksX0_lasts_0 4 rfl rfl)
theorem dX0_lasts_5 : decode cX0_lasts 5 = .ok (.istore_n 1, 1) := dk_60 (dk_at dksX0_lasts_0 5 rfl rfl)
theorem dX0_lasts_6 : decode cX0_lasts 6 = .ok (.iload_n 1, 1) := dk_27 (dk_at dksX0_lasts_0 6 rfl rfl)
theorem dX0_lasts_7 : decode cX0_lasts 7 = .ok (.sipush 300, 3) := dk_17 1 44 (dk_at dksX0_lasts_0 7 rfl rfl)
theorem dX0_lasts_10 : decode cX0_lasts 10 = .ok (.if_icmp .gt 23, 3) := dk_163 0 23 (dk_at dksX0_lasts_0 10 rfl rfl)
theorem dX0_lasts_13 : decode cX0_lasts 13 = .ok (.aload_n 0, 1) := dk_42 (dk_at dksX0_lasts_0 13 rfl rfl)
theorem dX0_lasts_14 : decode cX0_lasts 14 = .ok (.getfield 52, 3) := dk_180 0 52 (dk_at dksX0_lasts_0 14 rfl rfl)
theorem dX0_lasts_17 : decode cX0_lasts 17 = .ok (.invokevirtual 376, 3) := dk_182 1 120 (dk_at dksX0_lasts_0 17 rfl rfl)
theorem dX0_lasts_20 : decode cX0_lasts 20 = .ok (.ifCond .eq 13, 3) := dk_153 0 13 (dk_at dksX0_lasts_0 20 rfl rfl)
theorem dX0_lasts_23 : decode cX0_lasts 23 = .ok (.aload_n 0, 1) := dk_42 (dk_at dksX0_lasts_0 23 rfl rfl)
theorem dX0_lasts_24 : decode cX0_lasts 24 = .ok (.invokevirtual 402, 3) := dk_182 1 146 (dk_at dksX0_lasts_1 0 rfl rfl)
theorem dX0_lasts_27 : decode cX0_lasts 27 = .ok (.iinc 1 1, 3) := dk_132 1 1 (dk_at dksX0_lasts_1 3 rfl rfl)
theorem dX0_lasts_30 : decode cX0_lasts 30 = .ok (.goto (-24), 3) := dk_167 255 232 (dk_at dksX0_lasts_1 6 rfl rfl)
theorem dX0_lasts_33 : decode cX0_lasts 33 = .ok (.aload_n 0, 1) := dk_42 (dk_at dksX0_lasts_1 9 rfl rfl)
theorem dX0_lasts_34 : decode cX0_lasts 34 = .ok (.invokevirtual 417, 3) := dk_182 1 161 (dk_at dksX0_lasts_1 10 rfl rfl)
theorem dX0_lasts_37 : decode cX0_lasts 37 = .ok (.iload_n 1, 1) := dk_27 (dk_at dksX0_lasts_1 13 rfl rfl)
theorem dX0_lasts_38 : decode cX0_lasts 38 = .ok (.sipush 300, 3) := dk_17 1 44 (dk_at dksX0_lasts_1 14 rfl rfl)
theorem dX0_lasts_41 : decode cX0_lasts 41 = .ok (.if_icmp .gt 7, 3) := dk_163 0 7 (dk_at dksX0_lasts_1 17 rfl rfl)
theorem dX0_lasts_44 : decode cX0_lasts 44 = .ok (.iload_n 1, 1) := dk_27 (dk_at dksX0_lasts_1 20 rfl rfl)
theorem dX0_lasts_45 : decode cX0_lasts 45 = .ok (.goto 5, 3) := dk_167 0 5 (dk_at dksX0_lasts_1 21 rfl rfl)
theorem dX0_lasts_48 : decode cX0_lasts 48 = .ok (.ldc 3, 2) := dk_18 3 (dk_at dksX0_lasts_2 0 rfl rfl)
theorem dX0_lasts_50 : decode cX0_lasts 50 = .ok (.ireturn, 1) := dk_172 (dk_at dksX0_lasts_2 2 rfl rfl)
abbrev cX0_best : ByteArray := prog_1_method_73_code
def yX0_best : MethodName := ⟨RX0, "best", "(III)I"⟩
def dkwX0_best_5 : List UInt8 := [29, 154, 0, 8, 21, 4, 167, 0, 5, 21, 5, 172]
abbrev dktX0_best_5 : List UInt8 := dkwX0_best_5 ++ []
def dkwX0_best_4 : List UInt8 := [21, 6, 167, 0, 5, 21, 4, 54, 4, 21, 5, 21, 7, 184, 0, 10, 54, 5, 132, 6, 1, 167, 255, 184]
abbrev dktX0_best_4 : List UInt8 := dkwX0_best_4 ++ dktX0_best_5
def dkwX0_best_3 : List UInt8 := [180, 0, 52, 180, 1, 6, 27, 50, 180, 1, 27, 54, 7, 42, 182, 1, 161, 21, 7, 21, 5, 164, 0, 8]
abbrev dktX0_best_3 : List UInt8 := dkwX0_best_3 ++ dktX0_best_4
def dkwX0_best_2 : List UInt8 := [162, 0, 71, 42, 180, 0, 52, 180, 1, 6, 27, 50, 21, 6, 181, 1, 30, 42, 28, 182, 1, 149, 42]
abbrev dktX0_best_2 : List UInt8 := dkwX0_best_2 ++ dktX0_best_3
def dkwX0_best_1 : List UInt8 := [154, 0, 6, 18, 139, 172, 42, 182, 1, 158, 2, 54, 4, 2, 54, 5, 3, 54, 6, 21, 6, 16, 16]
abbrev dktX0_best_1 : List UInt8 := dkwX0_best_1 ++ dktX0_best_2
def dkwX0_best_0 : List UInt8 := [42, 27, 182, 1, 44, 153, 0, 22, 28, 4, 16, 60, 184, 0, 114, 153, 0, 12, 29, 3, 4, 184, 0, 114]
abbrev dktX0_best_0 : List UInt8 := dkwX0_best_0 ++ dktX0_best_1
theorem dksX0_best_0 : cX0_best.data.toList.drop 0 = dktX0_best_0 := by decide +kernel
theorem dksX0_best_1 : cX0_best.data.toList.drop 24 = dktX0_best_1 := dk_seg dksX0_best_0 24 rfl rfl
theorem dksX0_best_2 : cX0_best.data.toList.drop 47 = dktX0_best_2 := dk_seg dksX0_best_1 23 rfl rfl
theorem dksX0_best_3 : cX0_best.data.toList.drop 70 = dktX0_best_3 := dk_seg dksX0_best_2 23 rfl rfl
theorem dksX0_best_4 : cX0_best.data.toList.drop 94 = dktX0_best_4 := dk_seg dksX0_best_3 24 rfl rfl
theorem dksX0_best_5 : cX0_best.data.toList.drop 118 = dktX0_best_5 := dk_seg dksX0_best_4 24 rfl rfl
theorem dX0_best_0 : decode cX0_best 0 = .ok (.aload_n 0, 1) := dk_42 (dk_at dksX0_best_0 0 rfl rfl)
theorem dX0_best_1 : decode cX0_best 1 = .ok (.iload_n 1, 1) := dk_27 (dk_at dksX0_best_0 1 rfl rfl)
theorem dX0_best_2 : decode cX0_best 2 = .ok (.invokevirtual 300, 3) := dk_182 1 44 (dk_at dksX0_best_0 2 rfl rfl)
theorem dX0_best_5 : decode cX0_best 5 = .ok (.ifCond .eq 22, 3) := dk_153 0 22 (dk_at dksX0_best_0 5 rfl rfl)
theorem dX0_best_8 : decode cX0_best 8 = .ok (.iload_n 2, 1) := dk_28 (dk_at dksX0_best_0 8 rfl rfl)
theorem dX0_best_9 : decode cX0_best 9 = .ok (.iconst 1, 1) := dk_4 (dk_at dksX0_best_0 9 rfl rfl)
theorem dX0_best_10 : decode cX0_best 10 = .ok (.bipush 60, 2) := dk_16 60 (dk_at dksX0_best_0 10 rfl rfl)
theorem dX0_best_12 : decode cX0_best 12 = .ok (.invokestatic 114, 3) := dk_184 0 114 (dk_at dksX0_best_0 12 rfl rfl)
theorem dX0_best_15 : decode cX0_best 15 = .ok (.ifCond .eq 12, 3) := dk_153 0 12 (dk_at dksX0_best_0 15 rfl rfl)
theorem dX0_best_18 : decode cX0_best 18 = .ok (.iload_n 3, 1) := dk_29 (dk_at dksX0_best_0 18 rfl rfl)
theorem dX0_best_19 : decode cX0_best 19 = .ok (.iconst 0, 1) := dk_3 (dk_at dksX0_best_0 19 rfl rfl)
theorem dX0_best_20 : decode cX0_best 20 = .ok (.iconst 1, 1) := dk_4 (dk_at dksX0_best_0 20 rfl rfl)
theorem dX0_best_21 : decode cX0_best 21 = .ok (.invokestatic 114, 3) := dk_184 0 114 (dk_at dksX0_best_0 21 rfl rfl)
theorem dX0_best_24 : decode cX0_best 24 = .ok (.ifCond .ne 6, 3) := dk_154 0 6 (dk_at dksX0_best_1 0 rfl rfl)
theorem dX0_best_27 : decode cX0_best 27 = .ok (.ldc 139, 2) := dk_18 139 (dk_at dksX0_best_1 3 rfl rfl)
theorem dX0_best_29 : decode cX0_best 29 = .ok (.ireturn, 1) := dk_172 (dk_at dksX0_best_1 5 rfl rfl)
theorem dX0_best_30 : decode cX0_best 30 = .ok (.aload_n 0, 1) := dk_42 (dk_at dksX0_best_1 6 rfl rfl)
theorem dX0_best_31 : decode cX0_best 31 = .ok (.invokevirtual 414, 3) := dk_182 1 158 (dk_at dksX0_best_1 7 rfl rfl)
theorem dX0_best_34 : decode cX0_best 34 = .ok (.iconst (-1), 1) := dk_2 (dk_at dksX0_best_1 10 rfl rfl)
theorem dX0_best_35 : decode cX0_best 35 = .ok (.istore 4, 2) := dk_54 4 (dk_at dksX0_best_1 11 rfl rfl)
theorem dX0_best_37 : decode cX0_best 37 = .ok (.iconst (-1), 1) := dk_2 (dk_at dksX0_best_1 13 rfl rfl)
theorem dX0_best_38 : decode cX0_best 38 = .ok (.istore 5, 2) := dk_54 5 (dk_at dksX0_best_1 14 rfl rfl)
theorem dX0_best_40 : decode cX0_best 40 = .ok (.iconst 0, 1) := dk_3 (dk_at dksX0_best_1 16 rfl rfl)
theorem dX0_best_41 : decode cX0_best 41 = .ok (.istore 6, 2) := dk_54 6 (dk_at dksX0_best_1 17 rfl rfl)
theorem dX0_best_43 : decode cX0_best 43 = .ok (.iload 6, 2) := dk_21 6 (dk_at dksX0_best_1 19 rfl rfl)
theorem dX0_best_45 : decode cX0_best 45 = .ok (.bipush 16, 2) := dk_16 16 (dk_at dksX0_best_1 21 rfl rfl)
theorem dX0_best_47 : decode cX0_best 47 = .ok (.if_icmp .ge 71, 3) := dk_162 0 71 (dk_at dksX0_best_2 0 rfl rfl)
theorem dX0_best_50 : decode cX0_best 50 = .ok (.aload_n 0, 1) := dk_42 (dk_at dksX0_best_2 3 rfl rfl)
theorem dX0_best_51 : decode cX0_best 51 = .ok (.getfield 52, 3) := dk_180 0 52 (dk_at dksX0_best_2 4 rfl rfl)
theorem dX0_best_54 : decode cX0_best 54 = .ok (.getfield 262, 3) := dk_180 1 6 (dk_at dksX0_best_2 7 rfl rfl)
theorem dX0_best_57 : decode cX0_best 57 = .ok (.iload_n 1, 1) := dk_27 (dk_at dksX0_best_2 10 rfl rfl)
theorem dX0_best_58 : decode cX0_best 58 = .ok (.aaload, 1) := dk_50 (dk_at dksX0_best_2 11 rfl rfl)
theorem dX0_best_59 : decode cX0_best 59 = .ok (.iload 6, 2) := dk_21 6 (dk_at dksX0_best_2 12 rfl rfl)
theorem dX0_best_61 : decode cX0_best 61 = .ok (.putfield 286, 3) := dk_181 1 30 (dk_at dksX0_best_2 14 rfl rfl)
theorem dX0_best_64 : decode cX0_best 64 = .ok (.aload_n 0, 1) := dk_42 (dk_at dksX0_best_2 17 rfl rfl)
theorem dX0_best_65 : decode cX0_best 65 = .ok (.iload_n 2, 1) := dk_28 (dk_at dksX0_best_2 18 rfl rfl)
theorem dX0_best_66 : decode cX0_best 66 = .ok (.invokevirtual 405, 3) := dk_182 1 149 (dk_at dksX0_best_2 19 rfl rfl)
theorem dX0_best_69 : decode cX0_best 69 = .ok (.aload_n 0, 1) := dk_42 (dk_at dksX0_best_2 22 rfl rfl)
theorem dX0_best_70 : decode cX0_best 70 = .ok (.getfield 52, 3) := dk_180 0 52 (dk_at dksX0_best_3 0 rfl rfl)
theorem dX0_best_73 : decode cX0_best 73 = .ok (.getfield 262, 3) := dk_180 1 6 (dk_at dksX0_best_3 3 rfl rfl)
theorem dX0_best_76 : decode cX0_best 76 = .ok (.iload_n 1, 1) := dk_27 (dk_at dksX0_best_3 6 rfl rfl)
theorem dX0_best_77 : decode cX0_best 77 = .ok (.aaload, 1) := dk_50 (dk_at dksX0_best_3 7 rfl rfl)
theorem dX0_best_78 : decode cX0_best 78 = .ok (.getfield 283, 3) := dk_180 1 27 (dk_at dksX0_best_3 8 rfl rfl)
theorem dX0_best_81 : decode cX0_best 81 = .ok (.istore 7, 2) := dk_54 7 (dk_at dksX0_best_3 11 rfl rfl)
theorem dX0_best_83 : decode cX0_best 83 = .ok (.aload_n 0, 1) := dk_42 (dk_at dksX0_best_3 13 rfl rfl)
theorem dX0_best_84 : decode cX0_best 84 = .ok (.invokevirtual 417, 3) := dk_182 1 161 (dk_at dksX0_best_3 14 rfl rfl)
theorem dX0_best_87 : decode cX0_best 87 = .ok (.iload 7, 2) := dk_21 7 (dk_at dksX0_best_3 17 rfl rfl)
theorem dX0_best_89 : decode cX0_best 89 = .ok (.iload 5, 2) := dk_21 5 (dk_at dksX0_best_3 19 rfl rfl)
theorem dX0_best_91 : decode cX0_best 91 = .ok (.if_icmp .le 8, 3) := dk_164 0 8 (dk_at dksX0_best_3 21 rfl rfl)
theorem dX0_best_94 : decode cX0_best 94 = .ok (.iload 6, 2) := dk_21 6 (dk_at dksX0_best_4 0 rfl rfl)
theorem dX0_best_96 : decode cX0_best 96 = .ok (.goto 5, 3) := dk_167 0 5 (dk_at dksX0_best_4 2 rfl rfl)
theorem dX0_best_99 : decode cX0_best 99 = .ok (.iload 4, 2) := dk_21 4 (dk_at dksX0_best_4 5 rfl rfl)
theorem dX0_best_101 : decode cX0_best 101 = .ok (.istore 4, 2) := dk_54 4 (dk_at dksX0_best_4 7 rfl rfl)
theorem dX0_best_103 : decode cX0_best 103 = .ok (.iload 5, 2) := dk_21 5 (dk_at dksX0_best_4 9 rfl rfl)
theorem dX0_best_105 : decode cX0_best 105 = .ok (.iload 7, 2) := dk_21 7 (dk_at dksX0_best_4 11 rfl rfl)
theorem dX0_best_107 : decode cX0_best 107 = .ok (.invokestatic 10, 3) := dk_184 0 10 (dk_at dksX0_best_4 13 rfl rfl)
theorem dX0_best_110 : decode cX0_best 110 = .ok (.istore 5, 2) := dk_54 5 (dk_at dksX0_best_4 16 rfl rfl)
theorem dX0_best_112 : decode cX0_best 112 = .ok (.iinc 6 1, 3) := dk_132 6 1 (dk_at dksX0_best_4 18 rfl rfl)
theorem dX0_best_115 : decode cX0_best 115 = .ok (.goto (-72), 3) := dk_167 255 184 (dk_at dksX0_best_4 21 rfl rfl)
theorem dX0_best_118 : decode cX0_best 118 = .ok (.iload_n 3, 1) := dk_29 (dk_at dksX0_best_5 0 rfl rfl)
theorem dX0_best_119 : decode cX0_best 119 = .ok (.ifCond .ne 8, 3) := dk_154 0 8 (dk_at dksX0_best_5 1 rfl rfl)
theorem dX0_best_122 : decode cX0_best 122 = .ok (.iload 4, 2) := dk_21 4 (dk_at dksX0_best_5 4 rfl rfl)
theorem dX0_best_124 : decode cX0_best 124 = .ok (.goto 5, 3) := dk_167 0 5 (dk_at dksX0_best_5 6 rfl rfl)
theorem dX0_best_127 : decode cX0_best 127 = .ok (.iload 5, 2) := dk_21 5 (dk_at dksX0_best_5 9 rfl rfl)
theorem dX0_best_129 : decode cX0_best 129 = .ok (.ireturn, 1) := dk_172 (dk_at dksX0_best_5 11 rfl rfl)
abbrev cX0_taught : ByteArray := prog_1_method_74_code
def yX0_taught : MethodName := ⟨RX0, "taught", "(II)I"⟩
def dkwX0_taught_5 : List UInt8 := [184, 0, 10, 54, 4, 132, 5, 1, 167, 255, 165, 28, 154, 0, 7, 29, 167, 0, 5, 21, 4, 172]
abbrev dktX0_taught_5 : List UInt8 := dkwX0_taught_5 ++ []
def dkwX0_taught_4 : List UInt8 := [54, 6, 42, 182, 1, 161, 21, 6, 21, 4, 164, 0, 8, 21, 5, 167, 0, 4, 29, 62, 21, 4, 21, 6]
abbrev dktX0_taught_4 : List UInt8 := dkwX0_taught_4 ++ dktX0_taught_5
def dkwX0_taught_3 : List UInt8 := [180, 0, 52, 180, 1, 89, 21, 5, 46, 4, 96, 79, 42, 27, 182, 1, 149, 42, 180, 0, 52, 182, 1, 152]
abbrev dktX0_taught_3 : List UInt8 := dkwX0_taught_3 ++ dktX0_taught_4
def dkwX0_taught_2 : List UInt8 := [180, 1, 89, 21, 5, 42, 180, 0, 52, 180, 1, 89, 21, 5, 46, 6, 160, 0, 7, 3, 167, 0, 15, 42]
abbrev dktX0_taught_2 : List UInt8 := dkwX0_taught_2 ++ dktX0_taught_3
def dkwX0_taught_1 : List UInt8 := [182, 1, 158, 2, 62, 2, 54, 4, 3, 54, 5, 21, 5, 16, 16, 162, 0, 90, 42, 180, 0, 52]
abbrev dktX0_taught_1 : List UInt8 := dkwX0_taught_1 ++ dktX0_taught_2
def dkwX0_taught_0 : List UInt8 := [27, 4, 16, 60, 184, 0, 114, 153, 0, 12, 28, 3, 4, 184, 0, 114, 154, 0, 6, 18, 139, 172, 42]
abbrev dktX0_taught_0 : List UInt8 := dkwX0_taught_0 ++ dktX0_taught_1
theorem dksX0_taught_0 : cX0_taught.data.toList.drop 0 = dktX0_taught_0 := by decide +kernel
theorem dksX0_taught_1 : cX0_taught.data.toList.drop 23 = dktX0_taught_1 := dk_seg dksX0_taught_0 23 rfl rfl
theorem dksX0_taught_2 : cX0_taught.data.toList.drop 45 = dktX0_taught_2 := dk_seg dksX0_taught_1 22 rfl rfl
theorem dksX0_taught_3 : cX0_taught.data.toList.drop 69 = dktX0_taught_3 := dk_seg dksX0_taught_2 24 rfl rfl
theorem dksX0_taught_4 : cX0_taught.data.toList.drop 93 = dktX0_taught_4 := dk_seg dksX0_taught_3 24 rfl rfl
theorem dksX0_taught_5 : cX0_taught.data.toList.drop 117 = dktX0_taught_5 := dk_seg dksX0_taught_4 24 rfl rfl
theorem dX0_taught_0 : decode cX0_taught 0 = .ok (.iload_n 1, 1) := dk_27 (dk_at dksX0_taught_0 0 rfl rfl)
theorem dX0_taught_1 : decode cX0_taught 1 = .ok (.iconst 1, 1) := dk_4 (dk_at dksX0_taught_0 1 rfl rfl)
theorem dX0_taught_2 : decode cX0_taught 2 = .ok (.bipush 60, 2) := dk_16 60 (dk_at dksX0_taught_0 2 rfl rfl)
theorem dX0_taught_4 : decode cX0_taught 4 = .ok (.invokestatic 114, 3) := dk_184 0 114 (dk_at dksX0_taught_0 4 rfl rfl)
theorem dX0_taught_7 : decode cX0_taught 7 = .ok (.ifCond .eq 12, 3) := dk_153 0 12 (dk_at dksX0_taught_0 7 rfl rfl)
theorem dX0_taught_10 : decode cX0_taught 10 = .ok (.iload_n 2, 1) := dk_28 (dk_at dksX0_taught_0 10 rfl rfl)
theorem dX0_taught_11 : decode cX0_taught 11 = .ok (.iconst 0, 1) := dk_3 (dk_at dksX0_taught_0 11 rfl rfl)
theorem dX0_taught_12 : decode cX0_taught 12 = .ok (.iconst 1, 1) := dk_4 (dk_at dksX0_taught_0 12 rfl rfl)
theorem dX0_taught_13 : decode cX0_taught 13 = .ok (.invokestatic 114, 3) := dk_184 0 114 (dk_at dksX0_taught_0 13 rfl rfl)
theorem dX0_taught_16 : decode cX0_taught 16 = .ok (.ifCond .ne 6, 3) := dk_154 0 6 (dk_at dksX0_taught_0 16 rfl rfl)
theorem dX0_taught_19 : decode cX0_taught 19 = .ok (.ldc 139, 2) := dk_18 139 (dk_at dksX0_taught_0 19 rfl rfl)
theorem dX0_taught_21 : decode cX0_taught 21 = .ok (.ireturn, 1) := dk_172 (dk_at dksX0_taught_0 21 rfl rfl)
theorem dX0_taught_22 : decode cX0_taught 22 = .ok (.aload_n 0, 1) := dk_42 (dk_at dksX0_taught_0 22 rfl rfl)
theorem dX0_taught_23 : decode cX0_taught 23 = .ok (.invokevirtual 414, 3) := dk_182 1 158 (dk_at dksX0_taught_1 0 rfl rfl)
theorem dX0_taught_26 : decode cX0_taught 26 = .ok (.iconst (-1), 1) := dk_2 (dk_at dksX0_taught_1 3 rfl rfl)
theorem dX0_taught_27 : decode cX0_taught 27 = .ok (.istore_n 3, 1) := dk_62 (dk_at dksX0_taught_1 4 rfl rfl)
theorem dX0_taught_28 : decode cX0_taught 28 = .ok (.iconst (-1), 1) := dk_2 (dk_at dksX0_taught_1 5 rfl rfl)
theorem dX0_taught_29 : decode cX0_taught 29 = .ok (.istore 4, 2) := dk_54 4 (dk_at dksX0_taught_1 6 rfl rfl)
theorem dX0_taught_31 : decode cX0_taught 31 = .ok (.iconst 0, 1) := dk_3 (dk_at dksX0_taught_1 8 rfl rfl)
theorem dX0_taught_32 : decode cX0_taught 32 = .ok (.istore 5, 2) := dk_54 5 (dk_at dksX0_taught_1 9 rfl rfl)
theorem dX0_taught_34 : decode cX0_taught 34 = .ok (.iload 5, 2) := dk_21 5 (dk_at dksX0_taught_1 11 rfl rfl)
theorem dX0_taught_36 : decode cX0_taught 36 = .ok (.bipush 16, 2) := dk_16 16 (dk_at dksX0_taught_1 13 rfl rfl)
theorem dX0_taught_38 : decode cX0_taught 38 = .ok (.if_icmp .ge 90, 3) := dk_162 0 90 (dk_at dksX0_taught_1 15 rfl rfl)
theorem dX0_taught_41 : decode cX0_taught 41 = .ok (.aload_n 0, 1) := dk_42 (dk_at dksX0_taught_1 18 rfl rfl)
theorem dX0_taught_42 : decode cX0_taught 42 = .ok (.getfield 52, 3) := dk_180 0 52 (dk_at dksX0_taught_1 19 rfl rfl)
theorem dX0_taught_45 : decode cX0_taught 45 = .ok (.getfield 345, 3) := dk_180 1 89 (dk_at dksX0_taught_2 0 rfl rfl)
theorem dX0_taught_48 : decode cX0_taught 48 = .ok (.iload 5, 2) := dk_21 5 (dk_at dksX0_taught_2 3 rfl rfl)
theorem dX0_taught_50 : decode cX0_taught 50 = .ok (.aload_n 0, 1) := dk_42 (dk_at dksX0_taught_2 5 rfl rfl)
theorem dX0_taught_51 : decode cX0_taught 51 = .ok (.getfield 52, 3) := dk_180 0 52 (dk_at dksX0_taught_2 6 rfl rfl)
theorem dX0_taught_54 : decode cX0_taught 54 = .ok (.getfield 345, 3) := dk_180 1 89 (dk_at dksX0_taught_2 9 rfl rfl)
theorem dX0_taught_57 : decode cX0_taught 57 = .ok (.iload 5, 2) := dk_21 5 (dk_at dksX0_taught_2 12 rfl rfl)
theorem dX0_taught_59 : decode cX0_taught 59 = .ok (.iaload, 1) := dk_46 (dk_at dksX0_taught_2 14 rfl rfl)
theorem dX0_taught_60 : decode cX0_taught 60 = .ok (.iconst 3, 1) := dk_6 (dk_at dksX0_taught_2 15 rfl rfl)
theorem dX0_taught_61 : decode cX0_taught 61 = .ok (.if_icmp .ne 7, 3) := dk_160 0 7 (dk_at dksX0_taught_2 16 rfl rfl)
theorem dX0_taught_64 : decode cX0_taught 64 = .ok (.iconst 0, 1) := dk_3 (dk_at dksX0_taught_2 19 rfl rfl)
theorem dX0_taught_65 : decode cX0_taught 65 = .ok (.goto 15, 3) := dk_167 0 15 (dk_at dksX0_taught_2 20 rfl rfl)
theorem dX0_taught_68 : decode cX0_taught 68 = .ok (.aload_n 0, 1) := dk_42 (dk_at dksX0_taught_2 23 rfl rfl)
theorem dX0_taught_69 : decode cX0_taught 69 = .ok (.getfield 52, 3) := dk_180 0 52 (dk_at dksX0_taught_3 0 rfl rfl)
theorem dX0_taught_72 : decode cX0_taught 72 = .ok (.getfield 345, 3) := dk_180 1 89 (dk_at dksX0_taught_3 3 rfl rfl)
theorem dX0_taught_75 : decode cX0_taught 75 = .ok (.iload 5, 2) := dk_21 5 (dk_at dksX0_taught_3 6 rfl rfl)
theorem dX0_taught_77 : decode cX0_taught 77 = .ok (.iaload, 1) := dk_46 (dk_at dksX0_taught_3 8 rfl rfl)
theorem dX0_taught_78 : decode cX0_taught 78 = .ok (.iconst 1, 1) := dk_4 (dk_at dksX0_taught_3 9 rfl rfl)
theorem dX0_taught_79 : decode cX0_taught 79 = .ok (.iadd, 1) := dk_96 (dk_at dksX0_taught_3 10 rfl rfl)
theorem dX0_taught_80 : decode cX0_taught 80 = .ok (.iastore, 1) := dk_79 (dk_at dksX0_taught_3 11 rfl rfl)
theorem dX0_taught_81 : decode cX0_taught 81 = .ok (.aload_n 0, 1) := dk_42 (dk_at dksX0_taught_3 12 rfl rfl)
theorem dX0_taught_82 : decode cX0_taught 82 = .ok (.iload_n 1, 1) := dk_27 (dk_at dksX0_taught_3 13 rfl rfl)
theorem dX0_taught_83 : decode cX0_taught 83 = .ok (.invokevirtual 405, 3) := dk_182 1 149 (dk_at dksX0_taught_3 14 rfl rfl)
theorem dX0_taught_86 : decode cX0_taught 86 = .ok (.aload_n 0, 1) := dk_42 (dk_at dksX0_taught_3 17 rfl rfl)
theorem dX0_taught_87 : decode cX0_taught 87 = .ok (.getfield 52, 3) := dk_180 0 52 (dk_at dksX0_taught_3 18 rfl rfl)
theorem dX0_taught_90 : decode cX0_taught 90 = .ok (.invokevirtual 408, 3) := dk_182 1 152 (dk_at dksX0_taught_3 21 rfl rfl)
theorem dX0_taught_93 : decode cX0_taught 93 = .ok (.istore 6, 2) := dk_54 6 (dk_at dksX0_taught_4 0 rfl rfl)
theorem dX0_taught_95 : decode cX0_taught 95 = .ok (.aload_n 0, 1) := dk_42 (dk_at dksX0_taught_4 2 rfl rfl)
theorem dX0_taught_96 : decode cX0_taught 96 = .ok (.invokevirtual 417, 3) := dk_182 1 161 (dk_at dksX0_taught_4 3 rfl rfl)
theorem dX0_taught_99 : decode cX0_taught 99 = .ok (.iload 6, 2) := dk_21 6 (dk_at dksX0_taught_4 6 rfl rfl)
theorem dX0_taught_101 : decode cX0_taught 101 = .ok (.iload 4, 2) := dk_21 4 (dk_at dksX0_taught_4 8 rfl rfl)
theorem dX0_taught_103 : decode cX0_taught 103 = .ok (.if_icmp .le 8, 3) := dk_164 0 8 (dk_at dksX0_taught_4 10 rfl rfl)
theorem dX0_taught_106 : decode cX0_taught 106 = .ok (.iload 5, 2) := dk_21 5 (dk_at dksX0_taught_4 13 rfl rfl)
theorem dX0_taught_108 : decode cX0_taught 108 = .ok (.goto 4, 3) := dk_167 0 4 (dk_at dksX0_taught_4 15 rfl rfl)
theorem dX0_taught_111 : decode cX0_taught 111 = .ok (.iload_n 3, 1) := dk_29 (dk_at dksX0_taught_4 18 rfl rfl)
theorem dX0_taught_112 : decode cX0_taught 112 = .ok (.istore_n 3, 1) := dk_62 (dk_at dksX0_taught_4 19 rfl rfl)
theorem dX0_taught_113 : decode cX0_taught 113 = .ok (.iload 4, 2) := dk_21 4 (dk_at dksX0_taught_4 20 rfl rfl)
theorem dX0_taught_115 : decode cX0_taught 115 = .ok (.iload 6, 2) := dk_21 6 (dk_at dksX0_taught_4 22 rfl rfl)
theorem dX0_taught_117 : decode cX0_taught 117 = .ok (.invokestatic 10, 3) := dk_184 0 10 (dk_at dksX0_taught_5 0 rfl rfl)
theorem dX0_taught_120 : decode cX0_taught 120 = .ok (.istore 4, 2) := dk_54 4 (dk_at dksX0_taught_5 3 rfl rfl)
theorem dX0_taught_122 : decode cX0_taught 122 = .ok (.iinc 5 1, 3) := dk_132 5 1 (dk_at dksX0_taught_5 5 rfl rfl)
theorem dX0_taught_125 : decode cX0_taught 125 = .ok (.goto (-91), 3) := dk_167 255 165 (dk_at dksX0_taught_5 8 rfl rfl)
theorem dX0_taught_128 : decode cX0_taught 128 = .ok (.iload_n 2, 1) := dk_28 (dk_at dksX0_taught_5 11 rfl rfl)
theorem dX0_taught_129 : decode cX0_taught 129 = .ok (.ifCond .ne 7, 3) := dk_154 0 7 (dk_at dksX0_taught_5 12 rfl rfl)
theorem dX0_taught_132 : decode cX0_taught 132 = .ok (.iload_n 3, 1) := dk_29 (dk_at dksX0_taught_5 15 rfl rfl)
theorem dX0_taught_133 : decode cX0_taught 133 = .ok (.goto 5, 3) := dk_167 0 5 (dk_at dksX0_taught_5 16 rfl rfl)
theorem dX0_taught_136 : decode cX0_taught 136 = .ok (.iload 4, 2) := dk_21 4 (dk_at dksX0_taught_5 19 rfl rfl)
theorem dX0_taught_138 : decode cX0_taught 138 = .ok (.ireturn, 1) := dk_172 (dk_at dksX0_taught_5 21 rfl rfl)
abbrev cX0_fee : ByteArray := prog_1_method_75_code
def yX0_fee : MethodName := ⟨RX0, "fee", "()I"⟩
def dkwX0_fee_2 : List UInt8 := [42, 42, 180, 0, 52, 180, 0, 249, 27, 50, 180, 1, 33, 182, 1, 37, 172]
abbrev dktX0_fee_2 : List UInt8 := dkwX0_fee_2 ++ []
def dkwX0_fee_1 : List UInt8 := [16, 110, 42, 180, 0, 52, 180, 1, 143, 79, 42, 180, 0, 80, 16, 102, 42, 180, 0, 52, 180, 1, 140, 79]
abbrev dktX0_fee_1 : List UInt8 := dkwX0_fee_1 ++ dktX0_fee_2
def dkwX0_fee_0 : List UInt8 := [42, 4, 182, 1, 0, 60, 27, 2, 160, 0, 11, 42, 180, 0, 52, 180, 1, 140, 172, 42, 180, 0, 80]
abbrev dktX0_fee_0 : List UInt8 := dkwX0_fee_0 ++ dktX0_fee_1
theorem dksX0_fee_0 : cX0_fee.data.toList.drop 0 = dktX0_fee_0 := by decide +kernel
theorem dksX0_fee_1 : cX0_fee.data.toList.drop 23 = dktX0_fee_1 := dk_seg dksX0_fee_0 23 rfl rfl
theorem dksX0_fee_2 : cX0_fee.data.toList.drop 47 = dktX0_fee_2 := dk_seg dksX0_fee_1 24 rfl rfl
theorem dX0_fee_0 : decode cX0_fee 0 = .ok (.aload_n 0, 1) := dk_42 (dk_at dksX0_fee_0 0 rfl rfl)
theorem dX0_fee_1 : decode cX0_fee 1 = .ok (.iconst 1, 1) := dk_4 (dk_at dksX0_fee_0 1 rfl rfl)
theorem dX0_fee_2 : decode cX0_fee 2 = .ok (.invokevirtual 256, 3) := dk_182 1 0 (dk_at dksX0_fee_0 2 rfl rfl)
theorem dX0_fee_5 : decode cX0_fee 5 = .ok (.istore_n 1, 1) := dk_60 (dk_at dksX0_fee_0 5 rfl rfl)
theorem dX0_fee_6 : decode cX0_fee 6 = .ok (.iload_n 1, 1) := dk_27 (dk_at dksX0_fee_0 6 rfl rfl)
theorem dX0_fee_7 : decode cX0_fee 7 = .ok (.iconst (-1), 1) := dk_2 (dk_at dksX0_fee_0 7 rfl rfl)
theorem dX0_fee_8 : decode cX0_fee 8 = .ok (.if_icmp .ne 11, 3) := dk_160 0 11 (dk_at dksX0_fee_0 8 rfl rfl)
theorem dX0_fee_11 : decode cX0_fee 11 = .ok (.aload_n 0, 1) := dk_42 (dk_at dksX0_fee_0 11 rfl rfl)
theorem dX0_fee_12 : decode cX0_fee 12 = .ok (.getfield 52, 3) := dk_180 0 52 (dk_at dksX0_fee_0 12 rfl rfl)
theorem dX0_fee_15 : decode cX0_fee 15 = .ok (.getfield 396, 3) := dk_180 1 140 (dk_at dksX0_fee_0 15 rfl rfl)
theorem dX0_fee_18 : decode cX0_fee 18 = .ok (.ireturn, 1) := dk_172 (dk_at dksX0_fee_0 18 rfl rfl)
theorem dX0_fee_19 : decode cX0_fee 19 = .ok (.aload_n 0, 1) := dk_42 (dk_at dksX0_fee_0 19 rfl rfl)
theorem dX0_fee_20 : decode cX0_fee 20 = .ok (.getfield 80, 3) := dk_180 0 80 (dk_at dksX0_fee_0 20 rfl rfl)
theorem dX0_fee_23 : decode cX0_fee 23 = .ok (.bipush 110, 2) := dk_16 110 (dk_at dksX0_fee_1 0 rfl rfl)
theorem dX0_fee_25 : decode cX0_fee 25 = .ok (.aload_n 0, 1) := dk_42 (dk_at dksX0_fee_1 2 rfl rfl)
theorem dX0_fee_26 : decode cX0_fee 26 = .ok (.getfield 52, 3) := dk_180 0 52 (dk_at dksX0_fee_1 3 rfl rfl)
theorem dX0_fee_29 : decode cX0_fee 29 = .ok (.getfield 399, 3) := dk_180 1 143 (dk_at dksX0_fee_1 6 rfl rfl)
theorem dX0_fee_32 : decode cX0_fee 32 = .ok (.iastore, 1) := dk_79 (dk_at dksX0_fee_1 9 rfl rfl)
theorem dX0_fee_33 : decode cX0_fee 33 = .ok (.aload_n 0, 1) := dk_42 (dk_at dksX0_fee_1 10 rfl rfl)
theorem dX0_fee_34 : decode cX0_fee 34 = .ok (.getfield 80, 3) := dk_180 0 80 (dk_at dksX0_fee_1 11 rfl rfl)
theorem dX0_fee_37 : decode cX0_fee 37 = .ok (.bipush 102, 2) := dk_16 102 (dk_at dksX0_fee_1 14 rfl rfl)
theorem dX0_fee_39 : decode cX0_fee 39 = .ok (.aload_n 0, 1) := dk_42 (dk_at dksX0_fee_1 16 rfl rfl)
theorem dX0_fee_40 : decode cX0_fee 40 = .ok (.getfield 52, 3) := dk_180 0 52 (dk_at dksX0_fee_1 17 rfl rfl)
theorem dX0_fee_43 : decode cX0_fee 43 = .ok (.getfield 396, 3) := dk_180 1 140 (dk_at dksX0_fee_1 20 rfl rfl)
theorem dX0_fee_46 : decode cX0_fee 46 = .ok (.iastore, 1) := dk_79 (dk_at dksX0_fee_1 23 rfl rfl)
theorem dX0_fee_47 : decode cX0_fee 47 = .ok (.aload_n 0, 1) := dk_42 (dk_at dksX0_fee_2 0 rfl rfl)
theorem dX0_fee_48 : decode cX0_fee 48 = .ok (.aload_n 0, 1) := dk_42 (dk_at dksX0_fee_2 1 rfl rfl)
theorem dX0_fee_49 : decode cX0_fee 49 = .ok (.getfield 52, 3) := dk_180 0 52 (dk_at dksX0_fee_2 2 rfl rfl)
theorem dX0_fee_52 : decode cX0_fee 52 = .ok (.getfield 249, 3) := dk_180 0 249 (dk_at dksX0_fee_2 5 rfl rfl)
theorem dX0_fee_55 : decode cX0_fee 55 = .ok (.iload_n 1, 1) := dk_27 (dk_at dksX0_fee_2 8 rfl rfl)
theorem dX0_fee_56 : decode cX0_fee 56 = .ok (.aaload, 1) := dk_50 (dk_at dksX0_fee_2 9 rfl rfl)
theorem dX0_fee_57 : decode cX0_fee 57 = .ok (.getfield 289, 3) := dk_180 1 33 (dk_at dksX0_fee_2 10 rfl rfl)
theorem dX0_fee_60 : decode cX0_fee 60 = .ok (.invokevirtual 293, 3) := dk_182 1 37 (dk_at dksX0_fee_2 13 rfl rfl)
theorem dX0_fee_63 : decode cX0_fee 63 = .ok (.ireturn, 1) := dk_172 (dk_at dksX0_fee_2 16 rfl rfl)
abbrev cX0_fine : ByteArray := prog_1_method_76_code
def yX0_fine : MethodName := ⟨RX0, "fine", "(I)I"⟩
def dkwX0_fine_3 : List UInt8 := [180, 1, 33, 182, 1, 37, 172]
abbrev dktX0_fine_3 : List UInt8 := dkwX0_fine_3 ++ []
def dkwX0_fine_2 : List UInt8 := [79, 42, 180, 0, 80, 16, 115, 44, 180, 1, 17, 79, 42, 42, 180, 0, 52, 180, 0, 249, 29, 50]
abbrev dktX0_fine_2 : List UInt8 := dkwX0_fine_2 ++ dktX0_fine_3
def dkwX0_fine_1 : List UInt8 := [182, 1, 0, 62, 29, 2, 160, 0, 8, 44, 180, 1, 27, 172, 42, 180, 0, 80, 16, 116, 44, 180, 1, 27]
abbrev dktX0_fine_1 : List UInt8 := dkwX0_fine_1 ++ dktX0_fine_2
def dkwX0_fine_0 : List UInt8 := [42, 27, 182, 1, 44, 154, 0, 6, 18, 139, 172, 42, 180, 0, 52, 180, 1, 6, 27, 50, 77, 42, 5]
abbrev dktX0_fine_0 : List UInt8 := dkwX0_fine_0 ++ dktX0_fine_1
theorem dksX0_fine_0 : cX0_fine.data.toList.drop 0 = dktX0_fine_0 := by decide +kernel
theorem dksX0_fine_1 : cX0_fine.data.toList.drop 23 = dktX0_fine_1 := dk_seg dksX0_fine_0 23 rfl rfl
theorem dksX0_fine_2 : cX0_fine.data.toList.drop 47 = dktX0_fine_2 := dk_seg dksX0_fine_1 24 rfl rfl
theorem dksX0_fine_3 : cX0_fine.data.toList.drop 69 = dktX0_fine_3 := dk_seg dksX0_fine_2 22 rfl rfl
theorem dX0_fine_0 : decode cX0_fine 0 = .ok (.aload_n 0, 1) := dk_42 (dk_at dksX0_fine_0 0 rfl rfl)
theorem dX0_fine_1 : decode cX0_fine 1 = .ok (.iload_n 1, 1) := dk_27 (dk_at dksX0_fine_0 1 rfl rfl)
theorem dX0_fine_2 : decode cX0_fine 2 = .ok (.invokevirtual 300, 3) := dk_182 1 44 (dk_at dksX0_fine_0 2 rfl rfl)
theorem dX0_fine_5 : decode cX0_fine 5 = .ok (.ifCond .ne 6, 3) := dk_154 0 6 (dk_at dksX0_fine_0 5 rfl rfl)
theorem dX0_fine_8 : decode cX0_fine 8 = .ok (.ldc 139, 2) := dk_18 139 (dk_at dksX0_fine_0 8 rfl rfl)
theorem dX0_fine_10 : decode cX0_fine 10 = .ok (.ireturn, 1) := dk_172 (dk_at dksX0_fine_0 10 rfl rfl)
theorem dX0_fine_11 : decode cX0_fine 11 = .ok (.aload_n 0, 1) := dk_42 (dk_at dksX0_fine_0 11 rfl rfl)
theorem dX0_fine_12 : decode cX0_fine 12 = .ok (.getfield 52, 3) := dk_180 0 52 (dk_at dksX0_fine_0 12 rfl rfl)
theorem dX0_fine_15 : decode cX0_fine 15 = .ok (.getfield 262, 3) := dk_180 1 6 (dk_at dksX0_fine_0 15 rfl rfl)
theorem dX0_fine_18 : decode cX0_fine 18 = .ok (.iload_n 1, 1) := dk_27 (dk_at dksX0_fine_0 18 rfl rfl)
theorem dX0_fine_19 : decode cX0_fine 19 = .ok (.aaload, 1) := dk_50 (dk_at dksX0_fine_0 19 rfl rfl)
theorem dX0_fine_20 : decode cX0_fine 20 = .ok (.astore_n 2, 1) := dk_77 (dk_at dksX0_fine_0 20 rfl rfl)
theorem dX0_fine_21 : decode cX0_fine 21 = .ok (.aload_n 0, 1) := dk_42 (dk_at dksX0_fine_0 21 rfl rfl)
theorem dX0_fine_22 : decode cX0_fine 22 = .ok (.iconst 2, 1) := dk_5 (dk_at dksX0_fine_0 22 rfl rfl)
theorem dX0_fine_23 : decode cX0_fine 23 = .ok (.invokevirtual 256, 3) := dk_182 1 0 (dk_at dksX0_fine_1 0 rfl rfl)
theorem dX0_fine_26 : decode cX0_fine 26 = .ok (.istore_n 3, 1) := dk_62 (dk_at dksX0_fine_1 3 rfl rfl)
theorem dX0_fine_27 : decode cX0_fine 27 = .ok (.iload_n 3, 1) := dk_29 (dk_at dksX0_fine_1 4 rfl rfl)
theorem dX0_fine_28 : decode cX0_fine 28 = .ok (.iconst (-1), 1) := dk_2 (dk_at dksX0_fine_1 5 rfl rfl)
theorem dX0_fine_29 : decode cX0_fine 29 = .ok (.if_icmp .ne 8, 3) := dk_160 0 8 (dk_at dksX0_fine_1 6 rfl rfl)
theorem dX0_fine_32 : decode cX0_fine 32 = .ok (.aload_n 2, 1) := dk_44 (dk_at dksX0_fine_1 9 rfl rfl)
theorem dX0_fine_33 : decode cX0_fine 33 = .ok (.getfield 283, 3) := dk_180 1 27 (dk_at dksX0_fine_1 10 rfl rfl)
theorem dX0_fine_36 : decode cX0_fine 36 = .ok (.ireturn, 1) := dk_172 (dk_at dksX0_fine_1 13 rfl rfl)
theorem dX0_fine_37 : decode cX0_fine 37 = .ok (.aload_n 0, 1) := dk_42 (dk_at dksX0_fine_1 14 rfl rfl)
theorem dX0_fine_38 : decode cX0_fine 38 = .ok (.getfield 80, 3) := dk_180 0 80 (dk_at dksX0_fine_1 15 rfl rfl)
theorem dX0_fine_41 : decode cX0_fine 41 = .ok (.bipush 116, 2) := dk_16 116 (dk_at dksX0_fine_1 18 rfl rfl)
theorem dX0_fine_43 : decode cX0_fine 43 = .ok (.aload_n 2, 1) := dk_44 (dk_at dksX0_fine_1 20 rfl rfl)
theorem dX0_fine_44 : decode cX0_fine 44 = .ok (.getfield 283, 3) := dk_180 1 27 (dk_at dksX0_fine_1 21 rfl rfl)
theorem dX0_fine_47 : decode cX0_fine 47 = .ok (.iastore, 1) := dk_79 (dk_at dksX0_fine_2 0 rfl rfl)
theorem dX0_fine_48 : decode cX0_fine 48 = .ok (.aload_n 0, 1) := dk_42 (dk_at dksX0_fine_2 1 rfl rfl)
theorem dX0_fine_49 : decode cX0_fine 49 = .ok (.getfield 80, 3) := dk_180 0 80 (dk_at dksX0_fine_2 2 rfl rfl)
theorem dX0_fine_52 : decode cX0_fine 52 = .ok (.bipush 115, 2) := dk_16 115 (dk_at dksX0_fine_2 5 rfl rfl)
theorem dX0_fine_54 : decode cX0_fine 54 = .ok (.aload_n 2, 1) := dk_44 (dk_at dksX0_fine_2 7 rfl rfl)
theorem dX0_fine_55 : decode cX0_fine 55 = .ok (.getfield 273, 3) := dk_180 1 17 (dk_at dksX0_fine_2 8 rfl rfl)
theorem dX0_fine_58 : decode cX0_fine 58 = .ok (.iastore, 1) := dk_79 (dk_at dksX0_fine_2 11 rfl rfl)
theorem dX0_fine_59 : decode cX0_fine 59 = .ok (.aload_n 0, 1) := dk_42 (dk_at dksX0_fine_2 12 rfl rfl)
theorem dX0_fine_60 : decode cX0_fine 60 = .ok (.aload_n 0, 1) := dk_42 (dk_at dksX0_fine_2 13 rfl rfl)
theorem dX0_fine_61 : decode cX0_fine 61 = .ok (.getfield 52, 3) := dk_180 0 52 (dk_at dksX0_fine_2 14 rfl rfl)
theorem dX0_fine_64 : decode cX0_fine 64 = .ok (.getfield 249, 3) := dk_180 0 249 (dk_at dksX0_fine_2 17 rfl rfl)
theorem dX0_fine_67 : decode cX0_fine 67 = .ok (.iload_n 3, 1) := dk_29 (dk_at dksX0_fine_2 20 rfl rfl)
theorem dX0_fine_68 : decode cX0_fine 68 = .ok (.aaload, 1) := dk_50 (dk_at dksX0_fine_2 21 rfl rfl)
theorem dX0_fine_69 : decode cX0_fine 69 = .ok (.getfield 289, 3) := dk_180 1 33 (dk_at dksX0_fine_3 0 rfl rfl)
theorem dX0_fine_72 : decode cX0_fine 72 = .ok (.invokevirtual 293, 3) := dk_182 1 37 (dk_at dksX0_fine_3 3 rfl rfl)
theorem dX0_fine_75 : decode cX0_fine 75 = .ok (.ireturn, 1) := dk_172 (dk_at dksX0_fine_3 6 rfl rfl)
abbrev cX0_sheet : ByteArray := prog_1_method_80_code
def yX0_sheet : MethodName := ⟨RX0, "sheet", "(III)I"⟩
def dkwX0_sheet_3 : List UInt8 := [58, 4, 19, 1, 177, 172]
abbrev dktX0_sheet_3 : List UInt8 := dkwX0_sheet_3 ++ []
def dkwX0_sheet_2 : List UInt8 := [180, 0, 89, 27, 50, 28, 4, 160, 0, 7, 4, 167, 0, 4, 3, 29, 184, 1, 171, 181, 1, 167, 29, 172]
abbrev dktX0_sheet_2 : List UInt8 := dkwX0_sheet_2 ++ dktX0_sheet_3
def dkwX0_sheet_1 : List UInt8 := [164, 0, 6, 18, 139, 172, 28, 156, 0, 15, 42, 180, 0, 89, 27, 50, 1, 181, 1, 167, 3, 172, 42]
abbrev dktX0_sheet_1 : List UInt8 := dkwX0_sheet_1 ++ dktX0_sheet_2
def dkwX0_sheet_0 : List UInt8 := [27, 184, 1, 164, 153, 0, 22, 28, 2, 4, 184, 0, 114, 153, 0, 13, 28, 155, 0, 12, 29, 16, 24]
abbrev dktX0_sheet_0 : List UInt8 := dkwX0_sheet_0 ++ dktX0_sheet_1
theorem dksX0_sheet_0 : cX0_sheet.data.toList.drop 0 = dktX0_sheet_0 := by decide +kernel
theorem dksX0_sheet_1 : cX0_sheet.data.toList.drop 23 = dktX0_sheet_1 := dk_seg dksX0_sheet_0 23 rfl rfl
theorem dksX0_sheet_2 : cX0_sheet.data.toList.drop 46 = dktX0_sheet_2 := dk_seg dksX0_sheet_1 23 rfl rfl
theorem dksX0_sheet_3 : cX0_sheet.data.toList.drop 70 = dktX0_sheet_3 := dk_seg dksX0_sheet_2 24 rfl rfl
theorem dX0_sheet_0 : decode cX0_sheet 0 = .ok (.iload_n 1, 1) := dk_27 (dk_at dksX0_sheet_0 0 rfl rfl)
theorem dX0_sheet_1 : decode cX0_sheet 1 = .ok (.invokestatic 420, 3) := dk_184 1 164 (dk_at dksX0_sheet_0 1 rfl rfl)
theorem dX0_sheet_4 : decode cX0_sheet 4 = .ok (.ifCond .eq 22, 3) := dk_153 0 22 (dk_at dksX0_sheet_0 4 rfl rfl)
theorem dX0_sheet_7 : decode cX0_sheet 7 = .ok (.iload_n 2, 1) := dk_28 (dk_at dksX0_sheet_0 7 rfl rfl)
theorem dX0_sheet_8 : decode cX0_sheet 8 = .ok (.iconst (-1), 1) := dk_2 (dk_at dksX0_sheet_0 8 rfl rfl)
theorem dX0_sheet_9 : decode cX0_sheet 9 = .ok (.iconst 1, 1) := dk_4 (dk_at dksX0_sheet_0 9 rfl rfl)
theorem dX0_sheet_10 : decode cX0_sheet 10 = .ok (.invokestatic 114, 3) := dk_184 0 114 (dk_at dksX0_sheet_0 10 rfl rfl)
theorem dX0_sheet_13 : decode cX0_sheet 13 = .ok (.ifCond .eq 13, 3) := dk_153 0 13 (dk_at dksX0_sheet_0 13 rfl rfl)
theorem dX0_sheet_16 : decode cX0_sheet 16 = .ok (.iload_n 2, 1) := dk_28 (dk_at dksX0_sheet_0 16 rfl rfl)
theorem dX0_sheet_17 : decode cX0_sheet 17 = .ok (.ifCond .lt 12, 3) := dk_155 0 12 (dk_at dksX0_sheet_0 17 rfl rfl)
theorem dX0_sheet_20 : decode cX0_sheet 20 = .ok (.iload_n 3, 1) := dk_29 (dk_at dksX0_sheet_0 20 rfl rfl)
theorem dX0_sheet_21 : decode cX0_sheet 21 = .ok (.bipush 24, 2) := dk_16 24 (dk_at dksX0_sheet_0 21 rfl rfl)
theorem dX0_sheet_23 : decode cX0_sheet 23 = .ok (.if_icmp .le 6, 3) := dk_164 0 6 (dk_at dksX0_sheet_1 0 rfl rfl)
theorem dX0_sheet_26 : decode cX0_sheet 26 = .ok (.ldc 139, 2) := dk_18 139 (dk_at dksX0_sheet_1 3 rfl rfl)
theorem dX0_sheet_28 : decode cX0_sheet 28 = .ok (.ireturn, 1) := dk_172 (dk_at dksX0_sheet_1 5 rfl rfl)
theorem dX0_sheet_29 : decode cX0_sheet 29 = .ok (.iload_n 2, 1) := dk_28 (dk_at dksX0_sheet_1 6 rfl rfl)
theorem dX0_sheet_30 : decode cX0_sheet 30 = .ok (.ifCond .ge 15, 3) := dk_156 0 15 (dk_at dksX0_sheet_1 7 rfl rfl)
theorem dX0_sheet_33 : decode cX0_sheet 33 = .ok (.aload_n 0, 1) := dk_42 (dk_at dksX0_sheet_1 10 rfl rfl)
theorem dX0_sheet_34 : decode cX0_sheet 34 = .ok (.getfield 89, 3) := dk_180 0 89 (dk_at dksX0_sheet_1 11 rfl rfl)
theorem dX0_sheet_37 : decode cX0_sheet 37 = .ok (.iload_n 1, 1) := dk_27 (dk_at dksX0_sheet_1 14 rfl rfl)
theorem dX0_sheet_38 : decode cX0_sheet 38 = .ok (.aaload, 1) := dk_50 (dk_at dksX0_sheet_1 15 rfl rfl)
theorem dX0_sheet_39 : decode cX0_sheet 39 = .ok (.aconst_null, 1) := dk_1 (dk_at dksX0_sheet_1 16 rfl rfl)
theorem dX0_sheet_40 : decode cX0_sheet 40 = .ok (.putfield 423, 3) := dk_181 1 167 (dk_at dksX0_sheet_1 17 rfl rfl)
theorem dX0_sheet_43 : decode cX0_sheet 43 = .ok (.iconst 0, 1) := dk_3 (dk_at dksX0_sheet_1 20 rfl rfl)
theorem dX0_sheet_44 : decode cX0_sheet 44 = .ok (.ireturn, 1) := dk_172 (dk_at dksX0_sheet_1 21 rfl rfl)
theorem dX0_sheet_45 : decode cX0_sheet 45 = .ok (.aload_n 0, 1) := dk_42 (dk_at dksX0_sheet_1 22 rfl rfl)
theorem dX0_sheet_46 : decode cX0_sheet 46 = .ok (.getfield 89, 3) := dk_180 0 89 (dk_at dksX0_sheet_2 0 rfl rfl)
theorem dX0_sheet_49 : decode cX0_sheet 49 = .ok (.iload_n 1, 1) := dk_27 (dk_at dksX0_sheet_2 3 rfl rfl)
theorem dX0_sheet_50 : decode cX0_sheet 50 = .ok (.aaload, 1) := dk_50 (dk_at dksX0_sheet_2 4 rfl rfl)
theorem dX0_sheet_51 : decode cX0_sheet 51 = .ok (.iload_n 2, 1) := dk_28 (dk_at dksX0_sheet_2 5 rfl rfl)
theorem dX0_sheet_52 : decode cX0_sheet 52 = .ok (.iconst 1, 1) := dk_4 (dk_at dksX0_sheet_2 6 rfl rfl)
theorem dX0_sheet_53 : decode cX0_sheet 53 = .ok (.if_icmp .ne 7, 3) := dk_160 0 7 (dk_at dksX0_sheet_2 7 rfl rfl)
theorem dX0_sheet_56 : decode cX0_sheet 56 = .ok (.iconst 1, 1) := dk_4 (dk_at dksX0_sheet_2 10 rfl rfl)
theorem dX0_sheet_57 : decode cX0_sheet 57 = .ok (.goto 4, 3) := dk_167 0 4 (dk_at dksX0_sheet_2 11 rfl rfl)
theorem dX0_sheet_60 : decode cX0_sheet 60 = .ok (.iconst 0, 1) := dk_3 (dk_at dksX0_sheet_2 14 rfl rfl)
theorem dX0_sheet_61 : decode cX0_sheet 61 = .ok (.iload_n 3, 1) := dk_29 (dk_at dksX0_sheet_2 15 rfl rfl)
theorem dX0_sheet_62 : decode cX0_sheet 62 = .ok (.invokestatic 427, 3) := dk_184 1 171 (dk_at dksX0_sheet_2 16 rfl rfl)
theorem dX0_sheet_65 : decode cX0_sheet 65 = .ok (.putfield 423, 3) := dk_181 1 167 (dk_at dksX0_sheet_2 19 rfl rfl)
theorem dX0_sheet_68 : decode cX0_sheet 68 = .ok (.iload_n 3, 1) := dk_29 (dk_at dksX0_sheet_2 22 rfl rfl)
theorem dX0_sheet_69 : decode cX0_sheet 69 = .ok (.ireturn, 1) := dk_172 (dk_at dksX0_sheet_2 23 rfl rfl)
theorem dX0_sheet_70 : decode cX0_sheet 70 = .ok (.astore 4, 2) := dk_58 4 (dk_at dksX0_sheet_3 0 rfl rfl)
theorem dX0_sheet_72 : decode cX0_sheet 72 = .ok (.ldc_w 433, 3) := dk_19 1 177 (dk_at dksX0_sheet_3 2 rfl rfl)
theorem dX0_sheet_75 : decode cX0_sheet 75 = .ok (.ireturn, 1) := dk_172 (dk_at dksX0_sheet_3 5 rfl rfl)
abbrev cX0_isSheet : ByteArray := prog_1_method_77_code
def yX0_isSheet : MethodName := ⟨RX0, "isSheet", "(I)Z"⟩
def dkwX0_isSheet_0 : List UInt8 := [26, 3, 6, 184, 0, 114, 172]
abbrev dktX0_isSheet_0 : List UInt8 := dkwX0_isSheet_0 ++ []
theorem dksX0_isSheet_0 : cX0_isSheet.data.toList.drop 0 = dktX0_isSheet_0 := by decide +kernel
theorem dX0_isSheet_0 : decode cX0_isSheet 0 = .ok (.iload_n 0, 1) := dk_26 (dk_at dksX0_isSheet_0 0 rfl rfl)
theorem dX0_isSheet_1 : decode cX0_isSheet 1 = .ok (.iconst 0, 1) := dk_3 (dk_at dksX0_isSheet_0 1 rfl rfl)
theorem dX0_isSheet_2 : decode cX0_isSheet 2 = .ok (.iconst 3, 1) := dk_6 (dk_at dksX0_isSheet_0 2 rfl rfl)
theorem dX0_isSheet_3 : decode cX0_isSheet 3 = .ok (.invokestatic 114, 3) := dk_184 0 114 (dk_at dksX0_isSheet_0 3 rfl rfl)
theorem dX0_isSheet_6 : decode cX0_isSheet 6 = .ok (.ireturn, 1) := dk_172 (dk_at dksX0_isSheet_0 6 rfl rfl)
abbrev cX0_rowOf : ByteArray := prog_1_method_79_code
def yX0_rowOf : MethodName := ⟨RX0, "rowOf", "(ZI)Ljava/lang/Object;"⟩
def dkwX0_rowOf_0 : List UInt8 := [26, 153, 0, 7, 27, 188, 6, 176, 27, 188, 9, 176]
abbrev dktX0_rowOf_0 : List UInt8 := dkwX0_rowOf_0 ++ []
theorem dksX0_rowOf_0 : cX0_rowOf.data.toList.drop 0 = dktX0_rowOf_0 := by decide +kernel
theorem dX0_rowOf_0 : decode cX0_rowOf 0 = .ok (.iload_n 0, 1) := dk_26 (dk_at dksX0_rowOf_0 0 rfl rfl)
theorem dX0_rowOf_1 : decode cX0_rowOf 1 = .ok (.ifCond .eq 7, 3) := dk_153 0 7 (dk_at dksX0_rowOf_0 1 rfl rfl)
theorem dX0_rowOf_4 : decode cX0_rowOf 4 = .ok (.iload_n 1, 1) := dk_27 (dk_at dksX0_rowOf_0 4 rfl rfl)
theorem dX0_rowOf_5 : decode cX0_rowOf 5 = .ok (.newarray .float, 2) := dk_188_6 (dk_at dksX0_rowOf_0 5 rfl rfl)
theorem dX0_rowOf_7 : decode cX0_rowOf 7 = .ok (.areturn, 1) := dk_176 (dk_at dksX0_rowOf_0 7 rfl rfl)
theorem dX0_rowOf_8 : decode cX0_rowOf 8 = .ok (.iload_n 1, 1) := dk_27 (dk_at dksX0_rowOf_0 8 rfl rfl)
theorem dX0_rowOf_9 : decode cX0_rowOf 9 = .ok (.newarray .short, 2) := dk_188_9 (dk_at dksX0_rowOf_0 9 rfl rfl)
theorem dX0_rowOf_11 : decode cX0_rowOf 11 = .ok (.areturn, 1) := dk_176 (dk_at dksX0_rowOf_0 11 rfl rfl)
abbrev cX0_mark : ByteArray := prog_1_method_82_code
def yX0_mark : MethodName := ⟨RX0, "mark", "(III)I"⟩
def dkwX0_mark_2 : List UInt8 := [28, 29, 184, 1, 196, 167, 0, 6, 19, 1, 200, 172]
abbrev dktX0_mark_2 : List UInt8 := dkwX0_mark_2 ++ []
def dkwX0_mark_1 : List UInt8 := [154, 0, 7, 19, 1, 193, 172, 28, 3, 25, 4, 182, 1, 194, 4, 100, 184, 0, 114, 153, 0, 13, 25, 4]
abbrev dktX0_mark_1 : List UInt8 := dkwX0_mark_1 ++ dktX0_mark_2
def dkwX0_mark_0 : List UInt8 := [27, 184, 1, 164, 154, 0, 6, 18, 139, 172, 42, 180, 0, 89, 27, 50, 58, 4, 25, 4, 182, 1, 190]
abbrev dktX0_mark_0 : List UInt8 := dkwX0_mark_0 ++ dktX0_mark_1
theorem dksX0_mark_0 : cX0_mark.data.toList.drop 0 = dktX0_mark_0 := by decide +kernel
theorem dksX0_mark_1 : cX0_mark.data.toList.drop 23 = dktX0_mark_1 := dk_seg dksX0_mark_0 23 rfl rfl
theorem dksX0_mark_2 : cX0_mark.data.toList.drop 47 = dktX0_mark_2 := dk_seg dksX0_mark_1 24 rfl rfl
theorem dX0_mark_0 : decode cX0_mark 0 = .ok (.iload_n 1, 1) := dk_27 (dk_at dksX0_mark_0 0 rfl rfl)
theorem dX0_mark_1 : decode cX0_mark 1 = .ok (.invokestatic 420, 3) := dk_184 1 164 (dk_at dksX0_mark_0 1 rfl rfl)
theorem dX0_mark_4 : decode cX0_mark 4 = .ok (.ifCond .ne 6, 3) := dk_154 0 6 (dk_at dksX0_mark_0 4 rfl rfl)
theorem dX0_mark_7 : decode cX0_mark 7 = .ok (.ldc 139, 2) := dk_18 139 (dk_at dksX0_mark_0 7 rfl rfl)
theorem dX0_mark_9 : decode cX0_mark 9 = .ok (.ireturn, 1) := dk_172 (dk_at dksX0_mark_0 9 rfl rfl)
theorem dX0_mark_10 : decode cX0_mark 10 = .ok (.aload_n 0, 1) := dk_42 (dk_at dksX0_mark_0 10 rfl rfl)
theorem dX0_mark_11 : decode cX0_mark 11 = .ok (.getfield 89, 3) := dk_180 0 89 (dk_at dksX0_mark_0 11 rfl rfl)
theorem dX0_mark_14 : decode cX0_mark 14 = .ok (.iload_n 1, 1) := dk_27 (dk_at dksX0_mark_0 14 rfl rfl)
theorem dX0_mark_15 : decode cX0_mark 15 = .ok (.aaload, 1) := dk_50 (dk_at dksX0_mark_0 15 rfl rfl)
theorem dX0_mark_16 : decode cX0_mark 16 = .ok (.astore 4, 2) := dk_58 4 (dk_at dksX0_mark_0 16 rfl rfl)
theorem dX0_mark_18 : decode cX0_mark 18 = .ok (.aload 4, 2) := dk_25 4 (dk_at dksX0_mark_0 18 rfl rfl)
theorem dX0_mark_20 : decode cX0_mark 20 = .ok (.invokevirtual 446, 3) := dk_182 1 190 (dk_at dksX0_mark_0 20 rfl rfl)
theorem dX0_mark_23 : decode cX0_mark 23 = .ok (.ifCond .ne 7, 3) := dk_154 0 7 (dk_at dksX0_mark_1 0 rfl rfl)
theorem dX0_mark_26 : decode cX0_mark 26 = .ok (.ldc_w 449, 3) := dk_19 1 193 (dk_at dksX0_mark_1 3 rfl rfl)
theorem dX0_mark_29 : decode cX0_mark 29 = .ok (.ireturn, 1) := dk_172 (dk_at dksX0_mark_1 6 rfl rfl)
theorem dX0_mark_30 : decode cX0_mark 30 = .ok (.iload_n 2, 1) := dk_28 (dk_at dksX0_mark_1 7 rfl rfl)
theorem dX0_mark_31 : decode cX0_mark 31 = .ok (.iconst 0, 1) := dk_3 (dk_at dksX0_mark_1 8 rfl rfl)
theorem dX0_mark_32 : decode cX0_mark 32 = .ok (.aload 4, 2) := dk_25 4 (dk_at dksX0_mark_1 9 rfl rfl)
theorem dX0_mark_34 : decode cX0_mark 34 = .ok (.invokevirtual 450, 3) := dk_182 1 194 (dk_at dksX0_mark_1 11 rfl rfl)
theorem dX0_mark_37 : decode cX0_mark 37 = .ok (.iconst 1, 1) := dk_4 (dk_at dksX0_mark_1 14 rfl rfl)
theorem dX0_mark_38 : decode cX0_mark 38 = .ok (.isub, 1) := dk_100 (dk_at dksX0_mark_1 15 rfl rfl)
theorem dX0_mark_39 : decode cX0_mark 39 = .ok (.invokestatic 114, 3) := dk_184 0 114 (dk_at dksX0_mark_1 16 rfl rfl)
theorem dX0_mark_42 : decode cX0_mark 42 = .ok (.ifCond .eq 13, 3) := dk_153 0 13 (dk_at dksX0_mark_1 19 rfl rfl)
theorem dX0_mark_45 : decode cX0_mark 45 = .ok (.aload 4, 2) := dk_25 4 (dk_at dksX0_mark_1 22 rfl rfl)
theorem dX0_mark_47 : decode cX0_mark 47 = .ok (.iload_n 2, 1) := dk_28 (dk_at dksX0_mark_2 0 rfl rfl)
theorem dX0_mark_48 : decode cX0_mark 48 = .ok (.iload_n 3, 1) := dk_29 (dk_at dksX0_mark_2 1 rfl rfl)
theorem dX0_mark_49 : decode cX0_mark 49 = .ok (.invokestatic 452, 3) := dk_184 1 196 (dk_at dksX0_mark_2 2 rfl rfl)
theorem dX0_mark_52 : decode cX0_mark 52 = .ok (.goto 6, 3) := dk_167 0 6 (dk_at dksX0_mark_2 5 rfl rfl)
theorem dX0_mark_55 : decode cX0_mark 55 = .ok (.ldc_w 456, 3) := dk_19 1 200 (dk_at dksX0_mark_2 8 rfl rfl)
theorem dX0_mark_58 : decode cX0_mark 58 = .ok (.ireturn, 1) := dk_172 (dk_at dksX0_mark_2 11 rfl rfl)
abbrev cX0_markIn : ByteArray := prog_1_method_81_code
def yX0_markIn : MethodName := ⟨RX0, "markIn", "(LStoneSheets$Sheet;II)I"⟩
def dkwX0_markIn_2 : List UInt8 := [154, 0, 6, 18, 139, 172, 42, 27, 28, 182, 1, 187, 4, 172]
abbrev dktX0_markIn_2 : List UInt8 := dkwX0_markIn_2 ++ []
def dkwX0_markIn_1 : List UInt8 := [27, 19, 1, 185, 81, 4, 172, 42, 182, 1, 178, 153, 0, 19, 28, 19, 1, 186, 19, 1, 106, 184, 0, 114]
abbrev dktX0_markIn_1 : List UInt8 := dkwX0_markIn_1 ++ dktX0_markIn_2
def dkwX0_markIn_0 : List UInt8 := [28, 18, 3, 160, 0, 28, 42, 182, 1, 178, 154, 0, 7, 19, 1, 76, 172, 42, 180, 1, 167, 192, 1, 182]
abbrev dktX0_markIn_0 : List UInt8 := dkwX0_markIn_0 ++ dktX0_markIn_1
theorem dksX0_markIn_0 : cX0_markIn.data.toList.drop 0 = dktX0_markIn_0 := by decide +kernel
theorem dksX0_markIn_1 : cX0_markIn.data.toList.drop 24 = dktX0_markIn_1 := dk_seg dksX0_markIn_0 24 rfl rfl
theorem dksX0_markIn_2 : cX0_markIn.data.toList.drop 48 = dktX0_markIn_2 := dk_seg dksX0_markIn_1 24 rfl rfl
theorem dX0_markIn_0 : decode cX0_markIn 0 = .ok (.iload_n 2, 1) := dk_28 (dk_at dksX0_markIn_0 0 rfl rfl)
theorem dX0_markIn_1 : decode cX0_markIn 1 = .ok (.ldc 3, 2) := dk_18 3 (dk_at dksX0_markIn_0 1 rfl rfl)
theorem dX0_markIn_3 : decode cX0_markIn 3 = .ok (.if_icmp .ne 28, 3) := dk_160 0 28 (dk_at dksX0_markIn_0 3 rfl rfl)
theorem dX0_markIn_6 : decode cX0_markIn 6 = .ok (.aload_n 0, 1) := dk_42 (dk_at dksX0_markIn_0 6 rfl rfl)
theorem dX0_markIn_7 : decode cX0_markIn 7 = .ok (.invokevirtual 434, 3) := dk_182 1 178 (dk_at dksX0_markIn_0 7 rfl rfl)
theorem dX0_markIn_10 : decode cX0_markIn 10 = .ok (.ifCond .ne 7, 3) := dk_154 0 7 (dk_at dksX0_markIn_0 10 rfl rfl)
theorem dX0_markIn_13 : decode cX0_markIn 13 = .ok (.ldc_w 332, 3) := dk_19 1 76 (dk_at dksX0_markIn_0 13 rfl rfl)
theorem dX0_markIn_16 : decode cX0_markIn 16 = .ok (.ireturn, 1) := dk_172 (dk_at dksX0_markIn_0 16 rfl rfl)
theorem dX0_markIn_17 : decode cX0_markIn 17 = .ok (.aload_n 0, 1) := dk_42 (dk_at dksX0_markIn_0 17 rfl rfl)
theorem dX0_markIn_18 : decode cX0_markIn 18 = .ok (.getfield 423, 3) := dk_180 1 167 (dk_at dksX0_markIn_0 18 rfl rfl)
theorem dX0_markIn_21 : decode cX0_markIn 21 = .ok (.checkcast 438, 3) := dk_192 1 182 (dk_at dksX0_markIn_0 21 rfl rfl)
theorem dX0_markIn_24 : decode cX0_markIn 24 = .ok (.iload_n 1, 1) := dk_27 (dk_at dksX0_markIn_1 0 rfl rfl)
theorem dX0_markIn_25 : decode cX0_markIn 25 = .ok (.ldc_w 441, 3) := dk_19 1 185 (dk_at dksX0_markIn_1 1 rfl rfl)
theorem dX0_markIn_28 : decode cX0_markIn 28 = .ok (.fastore, 1) := dk_81 (dk_at dksX0_markIn_1 4 rfl rfl)
theorem dX0_markIn_29 : decode cX0_markIn 29 = .ok (.iconst 1, 1) := dk_4 (dk_at dksX0_markIn_1 5 rfl rfl)
theorem dX0_markIn_30 : decode cX0_markIn 30 = .ok (.ireturn, 1) := dk_172 (dk_at dksX0_markIn_1 6 rfl rfl)
theorem dX0_markIn_31 : decode cX0_markIn 31 = .ok (.aload_n 0, 1) := dk_42 (dk_at dksX0_markIn_1 7 rfl rfl)
theorem dX0_markIn_32 : decode cX0_markIn 32 = .ok (.invokevirtual 434, 3) := dk_182 1 178 (dk_at dksX0_markIn_1 8 rfl rfl)
theorem dX0_markIn_35 : decode cX0_markIn 35 = .ok (.ifCond .eq 19, 3) := dk_153 0 19 (dk_at dksX0_markIn_1 11 rfl rfl)
theorem dX0_markIn_38 : decode cX0_markIn 38 = .ok (.iload_n 2, 1) := dk_28 (dk_at dksX0_markIn_1 14 rfl rfl)
theorem dX0_markIn_39 : decode cX0_markIn 39 = .ok (.ldc_w 442, 3) := dk_19 1 186 (dk_at dksX0_markIn_1 15 rfl rfl)
theorem dX0_markIn_42 : decode cX0_markIn 42 = .ok (.ldc_w 362, 3) := dk_19 1 106 (dk_at dksX0_markIn_1 18 rfl rfl)
theorem dX0_markIn_45 : decode cX0_markIn 45 = .ok (.invokestatic 114, 3) := dk_184 0 114 (dk_at dksX0_markIn_1 21 rfl rfl)
theorem dX0_markIn_48 : decode cX0_markIn 48 = .ok (.ifCond .ne 6, 3) := dk_154 0 6 (dk_at dksX0_markIn_2 0 rfl rfl)
theorem dX0_markIn_51 : decode cX0_markIn 51 = .ok (.ldc 139, 2) := dk_18 139 (dk_at dksX0_markIn_2 3 rfl rfl)
theorem dX0_markIn_53 : decode cX0_markIn 53 = .ok (.ireturn, 1) := dk_172 (dk_at dksX0_markIn_2 5 rfl rfl)
theorem dX0_markIn_54 : decode cX0_markIn 54 = .ok (.aload_n 0, 1) := dk_42 (dk_at dksX0_markIn_2 6 rfl rfl)
theorem dX0_markIn_55 : decode cX0_markIn 55 = .ok (.iload_n 1, 1) := dk_27 (dk_at dksX0_markIn_2 7 rfl rfl)
theorem dX0_markIn_56 : decode cX0_markIn 56 = .ok (.iload_n 2, 1) := dk_28 (dk_at dksX0_markIn_2 8 rfl rfl)
theorem dX0_markIn_57 : decode cX0_markIn 57 = .ok (.invokevirtual 443, 3) := dk_182 1 187 (dk_at dksX0_markIn_2 9 rfl rfl)
theorem dX0_markIn_60 : decode cX0_markIn 60 = .ok (.iconst 1, 1) := dk_4 (dk_at dksX0_markIn_2 12 rfl rfl)
theorem dX0_markIn_61 : decode cX0_markIn 61 = .ok (.ireturn, 1) := dk_172 (dk_at dksX0_markIn_2 13 rfl rfl)
abbrev cX0_pour : ByteArray := prog_1_method_83_code
def yX0_pour : MethodName := ⟨RX0, "pour", "(I)I"⟩
def dkwX0_pour_4 : List UInt8 := [21, 5, 160, 0, 7, 3, 167, 0, 4, 4, 96, 62, 132, 4, 1, 167, 255, 181, 29, 172]
abbrev dktX0_pour_4 : List UInt8 := dkwX0_pour_4 ++ []
def dkwX0_pour_3 : List UInt8 := [167, 0, 13, 42, 180, 0, 52, 180, 1, 89, 21, 4, 46, 54, 5, 29, 42, 21, 4, 21, 5, 182, 1, 92]
abbrev dktX0_pour_3 : List UInt8 := dkwX0_pour_3 ++ dktX0_pour_4
def dkwX0_pour_2 : List UInt8 := [162, 0, 65, 44, 21, 4, 182, 1, 201, 153, 0, 17, 44, 21, 4, 182, 1, 204, 3, 6, 184, 1, 41]
abbrev dktX0_pour_2 : List UInt8 := dkwX0_pour_2 ++ dktX0_pour_3
def dkwX0_pour_1 : List UInt8 := [19, 1, 193, 172, 3, 62, 3, 54, 4, 21, 4, 16, 16, 162, 0, 74, 21, 4, 44, 182, 1, 194]
abbrev dktX0_pour_1 : List UInt8 := dkwX0_pour_1 ++ dktX0_pour_2
def dkwX0_pour_0 : List UInt8 := [27, 184, 1, 164, 154, 0, 6, 18, 139, 172, 42, 180, 0, 89, 27, 50, 77, 44, 182, 1, 190, 154, 0, 7]
abbrev dktX0_pour_0 : List UInt8 := dkwX0_pour_0 ++ dktX0_pour_1
theorem dksX0_pour_0 : cX0_pour.data.toList.drop 0 = dktX0_pour_0 := by decide +kernel
theorem dksX0_pour_1 : cX0_pour.data.toList.drop 24 = dktX0_pour_1 := dk_seg dksX0_pour_0 24 rfl rfl
theorem dksX0_pour_2 : cX0_pour.data.toList.drop 46 = dktX0_pour_2 := dk_seg dksX0_pour_1 22 rfl rfl
theorem dksX0_pour_3 : cX0_pour.data.toList.drop 69 = dktX0_pour_3 := dk_seg dksX0_pour_2 23 rfl rfl
theorem dksX0_pour_4 : cX0_pour.data.toList.drop 93 = dktX0_pour_4 := dk_seg dksX0_pour_3 24 rfl rfl
theorem dX0_pour_0 : decode cX0_pour 0 = .ok (.iload_n 1, 1) := dk_27 (dk_at dksX0_pour_0 0 rfl rfl)
theorem dX0_pour_1 : decode cX0_pour 1 = .ok (.invokestatic 420, 3) := dk_184 1 164 (dk_at dksX0_pour_0 1 rfl rfl)
theorem dX0_pour_4 : decode cX0_pour 4 = .ok (.ifCond .ne 6, 3) := dk_154 0 6 (dk_at dksX0_pour_0 4 rfl rfl)
theorem dX0_pour_7 : decode cX0_pour 7 = .ok (.ldc 139, 2) := dk_18 139 (dk_at dksX0_pour_0 7 rfl rfl)
theorem dX0_pour_9 : decode cX0_pour 9 = .ok (.ireturn, 1) := dk_172 (dk_at dksX0_pour_0 9 rfl rfl)
theorem dX0_pour_10 : decode cX0_pour 10 = .ok (.aload_n 0, 1) := dk_42 (dk_at dksX0_pour_0 10 rfl rfl)
theorem dX0_pour_11 : decode cX0_pour 11 = .ok (.getfield 89, 3) := dk_180 0 89 (dk_at dksX0_pour_0 11 rfl rfl)
theorem dX0_pour_14 : decode cX0_pour 14 = .ok (.iload_n 1, 1) := dk_27 (dk_at dksX0_pour_0 14 rfl rfl)
theorem dX0_pour_15 : decode cX0_pour 15 = .ok (.aaload, 1) := dk_50 (dk_at dksX0_pour_0 15 rfl rfl)
theorem dX0_pour_16 : decode cX0_pour 16 = .ok (.astore_n 2, 1) := dk_77 (dk_at dksX0_pour_0 16 rfl rfl)
theorem dX0_pour_17 : decode cX0_pour 17 = .ok (.aload_n 2, 1) := dk_44 (dk_at dksX0_pour_0 17 rfl rfl)
theorem dX0_pour_18 : decode cX0_pour 18 = .ok (.invokevirtual 446, 3) := dk_182 1 190 (dk_at dksX0_pour_0 18 rfl rfl)
theorem dX0_pour_21 : decode cX0_pour 21 = .ok (.ifCond .ne 7, 3) := dk_154 0 7 (dk_at dksX0_pour_0 21 rfl rfl)
theorem dX0_pour_24 : decode cX0_pour 24 = .ok (.ldc_w 449, 3) := dk_19 1 193 (dk_at dksX0_pour_1 0 rfl rfl)
theorem dX0_pour_27 : decode cX0_pour 27 = .ok (.ireturn, 1) := dk_172 (dk_at dksX0_pour_1 3 rfl rfl)
theorem dX0_pour_28 : decode cX0_pour 28 = .ok (.iconst 0, 1) := dk_3 (dk_at dksX0_pour_1 4 rfl rfl)
theorem dX0_pour_29 : decode cX0_pour 29 = .ok (.istore_n 3, 1) := dk_62 (dk_at dksX0_pour_1 5 rfl rfl)
theorem dX0_pour_30 : decode cX0_pour 30 = .ok (.iconst 0, 1) := dk_3 (dk_at dksX0_pour_1 6 rfl rfl)
theorem dX0_pour_31 : decode cX0_pour 31 = .ok (.istore 4, 2) := dk_54 4 (dk_at dksX0_pour_1 7 rfl rfl)
theorem dX0_pour_33 : decode cX0_pour 33 = .ok (.iload 4, 2) := dk_21 4 (dk_at dksX0_pour_1 9 rfl rfl)
theorem dX0_pour_35 : decode cX0_pour 35 = .ok (.bipush 16, 2) := dk_16 16 (dk_at dksX0_pour_1 11 rfl rfl)
theorem dX0_pour_37 : decode cX0_pour 37 = .ok (.if_icmp .ge 74, 3) := dk_162 0 74 (dk_at dksX0_pour_1 13 rfl rfl)
theorem dX0_pour_40 : decode cX0_pour 40 = .ok (.iload 4, 2) := dk_21 4 (dk_at dksX0_pour_1 16 rfl rfl)
theorem dX0_pour_42 : decode cX0_pour 42 = .ok (.aload_n 2, 1) := dk_44 (dk_at dksX0_pour_1 18 rfl rfl)
theorem dX0_pour_43 : decode cX0_pour 43 = .ok (.invokevirtual 450, 3) := dk_182 1 194 (dk_at dksX0_pour_1 19 rfl rfl)
theorem dX0_pour_46 : decode cX0_pour 46 = .ok (.if_icmp .ge 65, 3) := dk_162 0 65 (dk_at dksX0_pour_2 0 rfl rfl)
theorem dX0_pour_49 : decode cX0_pour 49 = .ok (.aload_n 2, 1) := dk_44 (dk_at dksX0_pour_2 3 rfl rfl)
theorem dX0_pour_50 : decode cX0_pour 50 = .ok (.iload 4, 2) := dk_21 4 (dk_at dksX0_pour_2 4 rfl rfl)
theorem dX0_pour_52 : decode cX0_pour 52 = .ok (.invokevirtual 457, 3) := dk_182 1 201 (dk_at dksX0_pour_2 6 rfl rfl)
theorem dX0_pour_55 : decode cX0_pour 55 = .ok (.ifCond .eq 17, 3) := dk_153 0 17 (dk_at dksX0_pour_2 9 rfl rfl)
theorem dX0_pour_58 : decode cX0_pour 58 = .ok (.aload_n 2, 1) := dk_44 (dk_at dksX0_pour_2 12 rfl rfl)
theorem dX0_pour_59 : decode cX0_pour 59 = .ok (.iload 4, 2) := dk_21 4 (dk_at dksX0_pour_2 13 rfl rfl)
theorem dX0_pour_61 : decode cX0_pour 61 = .ok (.invokevirtual 460, 3) := dk_182 1 204 (dk_at dksX0_pour_2 15 rfl rfl)
theorem dX0_pour_64 : decode cX0_pour 64 = .ok (.iconst 0, 1) := dk_3 (dk_at dksX0_pour_2 18 rfl rfl)
theorem dX0_pour_65 : decode cX0_pour 65 = .ok (.iconst 3, 1) := dk_6 (dk_at dksX0_pour_2 19 rfl rfl)
theorem dX0_pour_66 : decode cX0_pour 66 = .ok (.invokestatic 297, 3) := dk_184 1 41 (dk_at dksX0_pour_2 20 rfl rfl)
theorem dX0_pour_69 : decode cX0_pour 69 = .ok (.goto 13, 3) := dk_167 0 13 (dk_at dksX0_pour_3 0 rfl rfl)
theorem dX0_pour_72 : decode cX0_pour 72 = .ok (.aload_n 0, 1) := dk_42 (dk_at dksX0_pour_3 3 rfl rfl)
theorem dX0_pour_73 : decode cX0_pour 73 = .ok (.getfield 52, 3) := dk_180 0 52 (dk_at dksX0_pour_3 4 rfl rfl)
theorem dX0_pour_76 : decode cX0_pour 76 = .ok (.getfield 345, 3) := dk_180 1 89 (dk_at dksX0_pour_3 7 rfl rfl)
theorem dX0_pour_79 : decode cX0_pour 79 = .ok (.iload 4, 2) := dk_21 4 (dk_at dksX0_pour_3 10 rfl rfl)
theorem dX0_pour_81 : decode cX0_pour 81 = .ok (.iaload, 1) := dk_46 (dk_at dksX0_pour_3 12 rfl rfl)
theorem dX0_pour_82 : decode cX0_pour 82 = .ok (.istore 5, 2) := dk_54 5 (dk_at dksX0_pour_3 13 rfl rfl)
theorem dX0_pour_84 : decode cX0_pour 84 = .ok (.iload_n 3, 1) := dk_29 (dk_at dksX0_pour_3 15 rfl rfl)
theorem dX0_pour_85 : decode cX0_pour 85 = .ok (.aload_n 0, 1) := dk_42 (dk_at dksX0_pour_3 16 rfl rfl)
theorem dX0_pour_86 : decode cX0_pour 86 = .ok (.iload 4, 2) := dk_21 4 (dk_at dksX0_pour_3 17 rfl rfl)
theorem dX0_pour_88 : decode cX0_pour 88 = .ok (.iload 5, 2) := dk_21 5 (dk_at dksX0_pour_3 19 rfl rfl)
theorem dX0_pour_90 : decode cX0_pour 90 = .ok (.invokevirtual 348, 3) := dk_182 1 92 (dk_at dksX0_pour_3 21 rfl rfl)
theorem dX0_pour_93 : decode cX0_pour 93 = .ok (.iload 5, 2) := dk_21 5 (dk_at dksX0_pour_4 0 rfl rfl)
theorem dX0_pour_95 : decode cX0_pour 95 = .ok (.if_icmp .ne 7, 3) := dk_160 0 7 (dk_at dksX0_pour_4 2 rfl rfl)
theorem dX0_pour_98 : decode cX0_pour 98 = .ok (.iconst 0, 1) := dk_3 (dk_at dksX0_pour_4 5 rfl rfl)
theorem dX0_pour_99 : decode cX0_pour 99 = .ok (.goto 4, 3) := dk_167 0 4 (dk_at dksX0_pour_4 6 rfl rfl)
theorem dX0_pour_102 : decode cX0_pour 102 = .ok (.iconst 1, 1) := dk_4 (dk_at dksX0_pour_4 9 rfl rfl)
theorem dX0_pour_103 : decode cX0_pour 103 = .ok (.iadd, 1) := dk_96 (dk_at dksX0_pour_4 10 rfl rfl)
theorem dX0_pour_104 : decode cX0_pour 104 = .ok (.istore_n 3, 1) := dk_62 (dk_at dksX0_pour_4 11 rfl rfl)
theorem dX0_pour_105 : decode cX0_pour 105 = .ok (.iinc 4 1, 3) := dk_132 4 1 (dk_at dksX0_pour_4 12 rfl rfl)
theorem dX0_pour_108 : decode cX0_pour 108 = .ok (.goto (-75), 3) := dk_167 255 181 (dk_at dksX0_pour_4 15 rfl rfl)
theorem dX0_pour_111 : decode cX0_pour 111 = .ok (.iload_n 3, 1) := dk_29 (dk_at dksX0_pour_4 18 rfl rfl)
theorem dX0_pour_112 : decode cX0_pour 112 = .ok (.ireturn, 1) := dk_172 (dk_at dksX0_pour_4 19 rfl rfl)
abbrev cX0_reads : ByteArray := prog_1_method_84_code
def yX0_reads : MethodName := ⟨RX0, "reads", "(I)I"⟩
def dkwX0_reads_3 : List UInt8 := [159, 0, 5, 29, 172, 132, 3, 1, 167, 255, 207, 18, 3, 172]
abbrev dktX0_reads_3 : List UInt8 := dkwX0_reads_3 ++ []
def dkwX0_reads_2 : List UInt8 := [182, 1, 44, 153, 0, 23, 44, 29, 182, 1, 204, 42, 180, 0, 52, 180, 1, 6, 29, 50, 180, 1, 27]
abbrev dktX0_reads_2 : List UInt8 := dkwX0_reads_2 ++ dktX0_reads_3
def dkwX0_reads_1 : List UInt8 := [19, 1, 193, 172, 3, 62, 29, 44, 182, 1, 194, 162, 0, 47, 44, 29, 182, 1, 201, 153, 0, 33, 42, 29]
abbrev dktX0_reads_1 : List UInt8 := dkwX0_reads_1 ++ dktX0_reads_2
def dkwX0_reads_0 : List UInt8 := [27, 184, 1, 164, 154, 0, 6, 18, 139, 172, 42, 180, 0, 89, 27, 50, 77, 44, 182, 1, 190, 154, 0, 7]
abbrev dktX0_reads_0 : List UInt8 := dkwX0_reads_0 ++ dktX0_reads_1
theorem dksX0_reads_0 : cX0_reads.data.toList.drop 0 = dktX0_reads_0 := by decide +kernel
theorem dksX0_reads_1 : cX0_reads.data.toList.drop 24 = dktX0_reads_1 := dk_seg dksX0_reads_0 24 rfl rfl
theorem dksX0_reads_2 : cX0_reads.data.toList.drop 48 = dktX0_reads_2 := dk_seg dksX0_reads_1 24 rfl rfl
theorem dksX0_reads_3 : cX0_reads.data.toList.drop 71 = dktX0_reads_3 := dk_seg dksX0_reads_2 23 rfl rfl
theorem dX0_reads_0 : decode cX0_reads 0 = .ok (.iload_n 1, 1) := dk_27 (dk_at dksX0_reads_0 0 rfl rfl)
theorem dX0_reads_1 : decode cX0_reads 1 = .ok (.invokestatic 420, 3) := dk_184 1 164 (dk_at dksX0_reads_0 1 rfl rfl)
theorem dX0_reads_4 : decode cX0_reads 4 = .ok (.ifCond .ne 6, 3) := dk_154 0 6 (dk_at dksX0_reads_0 4 rfl rfl)
theorem dX0_reads_7 : decode cX0_reads 7 = .ok (.ldc 139, 2) := dk_18 139 (dk_at dksX0_reads_0 7 rfl rfl)
theorem dX0_reads_9 : decode cX0_reads 9 = .ok (.ireturn, 1) := dk_172 (dk_at dksX0_reads_0 9 rfl rfl)
theorem dX0_reads_10 : decode cX0_reads 10 = .ok (.aload_n 0, 1) := dk_42 (dk_at dksX0_reads_0 10 rfl rfl)
theorem dX0_reads_11 : decode cX0_reads 11 = .ok (.getfield 89, 3) := dk_180 0 89 (dk_at dksX0_reads_0 11 rfl rfl)
theorem dX0_reads_14 : decode cX0_reads 14 = .ok (.iload_n 1, 1) := dk_27 (dk_at dksX0_reads_0 14 rfl rfl)
theorem dX0_reads_15 : decode cX0_reads 15 = .ok (.aaload, 1) := dk_50 (dk_at dksX0_reads_0 15 rfl rfl)
theorem dX0_reads_16 : decode cX0_reads 16 = .ok (.astore_n 2, 1) := dk_77 (dk_at dksX0_reads_0 16 rfl rfl)
theorem dX0_reads_17 : decode cX0_reads 17 = .ok (.aload_n 2, 1) := dk_44 (dk_at dksX0_reads_0 17 rfl rfl)
theorem dX0_reads_18 : decode cX0_reads 18 = .ok (.invokevirtual 446, 3) := dk_182 1 190 (dk_at dksX0_reads_0 18 rfl rfl)
theorem dX0_reads_21 : decode cX0_reads 21 = .ok (.ifCond .ne 7, 3) := dk_154 0 7 (dk_at dksX0_reads_0 21 rfl rfl)
theorem dX0_reads_24 : decode cX0_reads 24 = .ok (.ldc_w 449, 3) := dk_19 1 193 (dk_at dksX0_reads_1 0 rfl rfl)
theorem dX0_reads_27 : decode cX0_reads 27 = .ok (.ireturn, 1) := dk_172 (dk_at dksX0_reads_1 3 rfl rfl)
theorem dX0_reads_28 : decode cX0_reads 28 = .ok (.iconst 0, 1) := dk_3 (dk_at dksX0_reads_1 4 rfl rfl)
theorem dX0_reads_29 : decode cX0_reads 29 = .ok (.istore_n 3, 1) := dk_62 (dk_at dksX0_reads_1 5 rfl rfl)
theorem dX0_reads_30 : decode cX0_reads 30 = .ok (.iload_n 3, 1) := dk_29 (dk_at dksX0_reads_1 6 rfl rfl)
theorem dX0_reads_31 : decode cX0_reads 31 = .ok (.aload_n 2, 1) := dk_44 (dk_at dksX0_reads_1 7 rfl rfl)
theorem dX0_reads_32 : decode cX0_reads 32 = .ok (.invokevirtual 450, 3) := dk_182 1 194 (dk_at dksX0_reads_1 8 rfl rfl)
theorem dX0_reads_35 : decode cX0_reads 35 = .ok (.if_icmp .ge 47, 3) := dk_162 0 47 (dk_at dksX0_reads_1 11 rfl rfl)
theorem dX0_reads_38 : decode cX0_reads 38 = .ok (.aload_n 2, 1) := dk_44 (dk_at dksX0_reads_1 14 rfl rfl)
theorem dX0_reads_39 : decode cX0_reads 39 = .ok (.iload_n 3, 1) := dk_29 (dk_at dksX0_reads_1 15 rfl rfl)
theorem dX0_reads_40 : decode cX0_reads 40 = .ok (.invokevirtual 457, 3) := dk_182 1 201 (dk_at dksX0_reads_1 16 rfl rfl)
theorem dX0_reads_43 : decode cX0_reads 43 = .ok (.ifCond .eq 33, 3) := dk_153 0 33 (dk_at dksX0_reads_1 19 rfl rfl)
theorem dX0_reads_46 : decode cX0_reads 46 = .ok (.aload_n 0, 1) := dk_42 (dk_at dksX0_reads_1 22 rfl rfl)
theorem dX0_reads_47 : decode cX0_reads 47 = .ok (.iload_n 3, 1) := dk_29 (dk_at dksX0_reads_1 23 rfl rfl)
theorem dX0_reads_48 : decode cX0_reads 48 = .ok (.invokevirtual 300, 3) := dk_182 1 44 (dk_at dksX0_reads_2 0 rfl rfl)
theorem dX0_reads_51 : decode cX0_reads 51 = .ok (.ifCond .eq 23, 3) := dk_153 0 23 (dk_at dksX0_reads_2 3 rfl rfl)
theorem dX0_reads_54 : decode cX0_reads 54 = .ok (.aload_n 2, 1) := dk_44 (dk_at dksX0_reads_2 6 rfl rfl)
theorem dX0_reads_55 : decode cX0_reads 55 = .ok (.iload_n 3, 1) := dk_29 (dk_at dksX0_reads_2 7 rfl rfl)
theorem dX0_reads_56 : decode cX0_reads 56 = .ok (.invokevirtual 460, 3) := dk_182 1 204 (dk_at dksX0_reads_2 8 rfl rfl)
theorem dX0_reads_59 : decode cX0_reads 59 = .ok (.aload_n 0, 1) := dk_42 (dk_at dksX0_reads_2 11 rfl rfl)
theorem dX0_reads_60 : decode cX0_reads 60 = .ok (.getfield 52, 3) := dk_180 0 52 (dk_at dksX0_reads_2 12 rfl rfl)
theorem dX0_reads_63 : decode cX0_reads 63 = .ok (.getfield 262, 3) := dk_180 1 6 (dk_at dksX0_reads_2 15 rfl rfl)
theorem dX0_reads_66 : decode cX0_reads 66 = .ok (.iload_n 3, 1) := dk_29 (dk_at dksX0_reads_2 18 rfl rfl)
theorem dX0_reads_67 : decode cX0_reads 67 = .ok (.aaload, 1) := dk_50 (dk_at dksX0_reads_2 19 rfl rfl)
theorem dX0_reads_68 : decode cX0_reads 68 = .ok (.getfield 283, 3) := dk_180 1 27 (dk_at dksX0_reads_2 20 rfl rfl)
theorem dX0_reads_71 : decode cX0_reads 71 = .ok (.if_icmp .eq 5, 3) := dk_159 0 5 (dk_at dksX0_reads_3 0 rfl rfl)
theorem dX0_reads_74 : decode cX0_reads 74 = .ok (.iload_n 3, 1) := dk_29 (dk_at dksX0_reads_3 3 rfl rfl)
theorem dX0_reads_75 : decode cX0_reads 75 = .ok (.ireturn, 1) := dk_172 (dk_at dksX0_reads_3 4 rfl rfl)
theorem dX0_reads_76 : decode cX0_reads 76 = .ok (.iinc 3 1, 3) := dk_132 3 1 (dk_at dksX0_reads_3 5 rfl rfl)
theorem dX0_reads_79 : decode cX0_reads 79 = .ok (.goto (-49), 3) := dk_167 255 207 (dk_at dksX0_reads_3 8 rfl rfl)
theorem dX0_reads_82 : decode cX0_reads 82 = .ok (.ldc 3, 2) := dk_18 3 (dk_at dksX0_reads_3 11 rfl rfl)
theorem dX0_reads_84 : decode cX0_reads 84 = .ok (.ireturn, 1) := dk_172 (dk_at dksX0_reads_3 13 rfl rfl)
abbrev cX0_whose : ByteArray := prog_1_method_86_code
def yX0_whose : MethodName := ⟨RX0, "whose", "(II)I"⟩
def dkwX0_whose_5 : List UInt8 := [167, 0, 6, 22, 5, 136, 172]
abbrev dktX0_whose_5 : List UInt8 := dkwX0_whose_5 ++ []
def dkwX0_whose_4 : List UInt8 := [132, 7, 1, 167, 255, 203, 21, 4, 2, 160, 0, 8, 18, 3, 167, 0, 15, 28, 154, 0, 8, 21, 4]
abbrev dktX0_whose_4 : List UInt8 := dkwX0_whose_4 ++ dktX0_whose_5
def dkwX0_whose_3 : List UInt8 := [55, 8, 21, 4, 2, 159, 0, 11, 22, 8, 22, 5, 148, 156, 0, 11, 21, 7, 54, 4, 22, 8, 55, 5]
abbrev dktX0_whose_3 : List UInt8 := dkwX0_whose_3 ++ dktX0_whose_4
def dkwX0_whose_2 : List UInt8 := [42, 180, 0, 52, 180, 0, 110, 162, 0, 47, 45, 42, 180, 0, 52, 180, 1, 6, 21, 7, 50, 184, 1, 211]
abbrev dktX0_whose_2 : List UInt8 := dkwX0_whose_2 ++ dktX0_whose_3
def dkwX0_whose_1 : List UInt8 := [50, 78, 45, 182, 1, 190, 154, 0, 7, 19, 1, 193, 172, 2, 54, 4, 9, 55, 5, 3, 54, 7, 21, 7]
abbrev dktX0_whose_1 : List UInt8 := dkwX0_whose_1 ++ dktX0_whose_2
def dkwX0_whose_0 : List UInt8 := [27, 184, 1, 164, 153, 0, 12, 28, 3, 4, 184, 0, 114, 154, 0, 6, 18, 139, 172, 42, 180, 0, 89, 27]
abbrev dktX0_whose_0 : List UInt8 := dkwX0_whose_0 ++ dktX0_whose_1
theorem dksX0_whose_0 : cX0_whose.data.toList.drop 0 = dktX0_whose_0 := by decide +kernel
theorem dksX0_whose_1 : cX0_whose.data.toList.drop 24 = dktX0_whose_1 := dk_seg dksX0_whose_0 24 rfl rfl
theorem dksX0_whose_2 : cX0_whose.data.toList.drop 48 = dktX0_whose_2 := dk_seg dksX0_whose_1 24 rfl rfl
theorem dksX0_whose_3 : cX0_whose.data.toList.drop 72 = dktX0_whose_3 := dk_seg dksX0_whose_2 24 rfl rfl
theorem dksX0_whose_4 : cX0_whose.data.toList.drop 96 = dktX0_whose_4 := dk_seg dksX0_whose_3 24 rfl rfl
theorem dksX0_whose_5 : cX0_whose.data.toList.drop 119 = dktX0_whose_5 := dk_seg dksX0_whose_4 23 rfl rfl
theorem dX0_whose_0 : decode cX0_whose 0 = .ok (.iload_n 1, 1) := dk_27 (dk_at dksX0_whose_0 0 rfl rfl)
theorem dX0_whose_1 : decode cX0_whose 1 = .ok (.invokestatic 420, 3) := dk_184 1 164 (dk_at dksX0_whose_0 1 rfl rfl)
theorem dX0_whose_4 : decode cX0_whose 4 = .ok (.ifCond .eq 12, 3) := dk_153 0 12 (dk_at dksX0_whose_0 4 rfl rfl)
theorem dX0_whose_7 : decode cX0_whose 7 = .ok (.iload_n 2, 1) := dk_28 (dk_at dksX0_whose_0 7 rfl rfl)
theorem dX0_whose_8 : decode cX0_whose 8 = .ok (.iconst 0, 1) := dk_3 (dk_at dksX0_whose_0 8 rfl rfl)
theorem dX0_whose_9 : decode cX0_whose 9 = .ok (.iconst 1, 1) := dk_4 (dk_at dksX0_whose_0 9 rfl rfl)
theorem dX0_whose_10 : decode cX0_whose 10 = .ok (.invokestatic 114, 3) := dk_184 0 114 (dk_at dksX0_whose_0 10 rfl rfl)
theorem dX0_whose_13 : decode cX0_whose 13 = .ok (.ifCond .ne 6, 3) := dk_154 0 6 (dk_at dksX0_whose_0 13 rfl rfl)
theorem dX0_whose_16 : decode cX0_whose 16 = .ok (.ldc 139, 2) := dk_18 139 (dk_at dksX0_whose_0 16 rfl rfl)
theorem dX0_whose_18 : decode cX0_whose 18 = .ok (.ireturn, 1) := dk_172 (dk_at dksX0_whose_0 18 rfl rfl)
theorem dX0_whose_19 : decode cX0_whose 19 = .ok (.aload_n 0, 1) := dk_42 (dk_at dksX0_whose_0 19 rfl rfl)
theorem dX0_whose_20 : decode cX0_whose 20 = .ok (.getfield 89, 3) := dk_180 0 89 (dk_at dksX0_whose_0 20 rfl rfl)
theorem dX0_whose_23 : decode cX0_whose 23 = .ok (.iload_n 1, 1) := dk_27 (dk_at dksX0_whose_0 23 rfl rfl)
theorem dX0_whose_24 : decode cX0_whose 24 = .ok (.aaload, 1) := dk_50 (dk_at dksX0_whose_1 0 rfl rfl)
theorem dX0_whose_25 : decode cX0_whose 25 = .ok (.astore_n 3, 1) := dk_78 (dk_at dksX0_whose_1 1 rfl rfl)
theorem dX0_whose_26 : decode cX0_whose 26 = .ok (.aload_n 3, 1) := dk_45 (dk_at dksX0_whose_1 2 rfl rfl)
theorem dX0_whose_27 : decode cX0_whose 27 = .ok (.invokevirtual 446, 3) := dk_182 1 190 (dk_at dksX0_whose_1 3 rfl rfl)
theorem dX0_whose_30 : decode cX0_whose 30 = .ok (.ifCond .ne 7, 3) := dk_154 0 7 (dk_at dksX0_whose_1 6 rfl rfl)
theorem dX0_whose_33 : decode cX0_whose 33 = .ok (.ldc_w 449, 3) := dk_19 1 193 (dk_at dksX0_whose_1 9 rfl rfl)
theorem dX0_whose_36 : decode cX0_whose 36 = .ok (.ireturn, 1) := dk_172 (dk_at dksX0_whose_1 12 rfl rfl)
theorem dX0_whose_37 : decode cX0_whose 37 = .ok (.iconst (-1), 1) := dk_2 (dk_at dksX0_whose_1 13 rfl rfl)
theorem dX0_whose_38 : decode cX0_whose 38 = .ok (.istore 4, 2) := dk_54 4 (dk_at dksX0_whose_1 14 rfl rfl)
theorem dX0_whose_40 : decode cX0_whose 40 = .ok (.lconst 0, 1) := dk_9 (dk_at dksX0_whose_1 16 rfl rfl)
theorem dX0_whose_41 : decode cX0_whose 41 = .ok (.lstore 5, 2) := dk_55 5 (dk_at dksX0_whose_1 17 rfl rfl)
theorem dX0_whose_43 : decode cX0_whose 43 = .ok (.iconst 0, 1) := dk_3 (dk_at dksX0_whose_1 19 rfl rfl)
theorem dX0_whose_44 : decode cX0_whose 44 = .ok (.istore 7, 2) := dk_54 7 (dk_at dksX0_whose_1 20 rfl rfl)
theorem dX0_whose_46 : decode cX0_whose 46 = .ok (.iload 7, 2) := dk_21 7 (dk_at dksX0_whose_1 22 rfl rfl)
theorem dX0_whose_48 : decode cX0_whose 48 = .ok (.aload_n 0, 1) := dk_42 (dk_at dksX0_whose_2 0 rfl rfl)
theorem dX0_whose_49 : decode cX0_whose 49 = .ok (.getfield 52, 3) := dk_180 0 52 (dk_at dksX0_whose_2 1 rfl rfl)
theorem dX0_whose_52 : decode cX0_whose 52 = .ok (.getfield 110, 3) := dk_180 0 110 (dk_at dksX0_whose_2 4 rfl rfl)
theorem dX0_whose_55 : decode cX0_whose 55 = .ok (.if_icmp .ge 47, 3) := dk_162 0 47 (dk_at dksX0_whose_2 7 rfl rfl)
theorem dX0_whose_58 : decode cX0_whose 58 = .ok (.aload_n 3, 1) := dk_45 (dk_at dksX0_whose_2 10 rfl rfl)
theorem dX0_whose_59 : decode cX0_whose 59 = .ok (.aload_n 0, 1) := dk_42 (dk_at dksX0_whose_2 11 rfl rfl)
theorem dX0_whose_60 : decode cX0_whose 60 = .ok (.getfield 52, 3) := dk_180 0 52 (dk_at dksX0_whose_2 12 rfl rfl)
theorem dX0_whose_63 : decode cX0_whose 63 = .ok (.getfield 262, 3) := dk_180 1 6 (dk_at dksX0_whose_2 15 rfl rfl)
theorem dX0_whose_66 : decode cX0_whose 66 = .ok (.iload 7, 2) := dk_21 7 (dk_at dksX0_whose_2 18 rfl rfl)
theorem dX0_whose_68 : decode cX0_whose 68 = .ok (.aaload, 1) := dk_50 (dk_at dksX0_whose_2 20 rfl rfl)
theorem dX0_whose_69 : decode cX0_whose 69 = .ok (.invokestatic 467, 3) := dk_184 1 211 (dk_at dksX0_whose_2 21 rfl rfl)
theorem dX0_whose_72 : decode cX0_whose 72 = .ok (.lstore 8, 2) := dk_55 8 (dk_at dksX0_whose_3 0 rfl rfl)
theorem dX0_whose_74 : decode cX0_whose 74 = .ok (.iload 4, 2) := dk_21 4 (dk_at dksX0_whose_3 2 rfl rfl)
theorem dX0_whose_76 : decode cX0_whose 76 = .ok (.iconst (-1), 1) := dk_2 (dk_at dksX0_whose_3 4 rfl rfl)
theorem dX0_whose_77 : decode cX0_whose 77 = .ok (.if_icmp .eq 11, 3) := dk_159 0 11 (dk_at dksX0_whose_3 5 rfl rfl)
theorem dX0_whose_80 : decode cX0_whose 80 = .ok (.lload 8, 2) := dk_22 8 (dk_at dksX0_whose_3 8 rfl rfl)
theorem dX0_whose_82 : decode cX0_whose 82 = .ok (.lload 5, 2) := dk_22 5 (dk_at dksX0_whose_3 10 rfl rfl)
theorem dX0_whose_84 : decode cX0_whose 84 = .ok (.lcmp, 1) := dk_148 (dk_at dksX0_whose_3 12 rfl rfl)
theorem dX0_whose_85 : decode cX0_whose 85 = .ok (.ifCond .ge 11, 3) := dk_156 0 11 (dk_at dksX0_whose_3 13 rfl rfl)
theorem dX0_whose_88 : decode cX0_whose 88 = .ok (.iload 7, 2) := dk_21 7 (dk_at dksX0_whose_3 16 rfl rfl)
theorem dX0_whose_90 : decode cX0_whose 90 = .ok (.istore 4, 2) := dk_54 4 (dk_at dksX0_whose_3 18 rfl rfl)
theorem dX0_whose_92 : decode cX0_whose 92 = .ok (.lload 8, 2) := dk_22 8 (dk_at dksX0_whose_3 20 rfl rfl)
theorem dX0_whose_94 : decode cX0_whose 94 = .ok (.lstore 5, 2) := dk_55 5 (dk_at dksX0_whose_3 22 rfl rfl)
theorem dX0_whose_96 : decode cX0_whose 96 = .ok (.iinc 7 1, 3) := dk_132 7 1 (dk_at dksX0_whose_4 0 rfl rfl)
theorem dX0_whose_99 : decode cX0_whose 99 = .ok (.goto (-53), 3) := dk_167 255 203 (dk_at dksX0_whose_4 3 rfl rfl)
theorem dX0_whose_102 : decode cX0_whose 102 = .ok (.iload 4, 2) := dk_21 4 (dk_at dksX0_whose_4 6 rfl rfl)
theorem dX0_whose_104 : decode cX0_whose 104 = .ok (.iconst (-1), 1) := dk_2 (dk_at dksX0_whose_4 8 rfl rfl)
theorem dX0_whose_105 : decode cX0_whose 105 = .ok (.if_icmp .ne 8, 3) := dk_160 0 8 (dk_at dksX0_whose_4 9 rfl rfl)
theorem dX0_whose_108 : decode cX0_whose 108 = .ok (.ldc 3, 2) := dk_18 3 (dk_at dksX0_whose_4 12 rfl rfl)
theorem dX0_whose_110 : decode cX0_whose 110 = .ok (.goto 15, 3) := dk_167 0 15 (dk_at dksX0_whose_4 14 rfl rfl)
theorem dX0_whose_113 : decode cX0_whose 113 = .ok (.iload_n 2, 1) := dk_28 (dk_at dksX0_whose_4 17 rfl rfl)
theorem dX0_whose_114 : decode cX0_whose 114 = .ok (.ifCond .ne 8, 3) := dk_154 0 8 (dk_at dksX0_whose_4 18 rfl rfl)
theorem dX0_whose_117 : decode cX0_whose 117 = .ok (.iload 4, 2) := dk_21 4 (dk_at dksX0_whose_4 21 rfl rfl)
theorem dX0_whose_119 : decode cX0_whose 119 = .ok (.goto 6, 3) := dk_167 0 6 (dk_at dksX0_whose_5 0 rfl rfl)
theorem dX0_whose_122 : decode cX0_whose 122 = .ok (.lload 5, 2) := dk_22 5 (dk_at dksX0_whose_5 3 rfl rfl)
theorem dX0_whose_124 : decode cX0_whose 124 = .ok (.l2i, 1) := dk_136 (dk_at dksX0_whose_5 5 rfl rfl)
theorem dX0_whose_125 : decode cX0_whose 125 = .ok (.ireturn, 1) := dk_172 (dk_at dksX0_whose_5 6 rfl rfl)
abbrev cX0_offBy : ByteArray := prog_1_method_85_code
def yX0_offBy : MethodName := ⟨RX0, "offBy", "(LStoneSheets$Sheet;LStoneSheets$Rubbing;)J"⟩
def dkwX0_offBy_3 : List UInt8 := [173]
abbrev dktX0_offBy_3 : List UInt8 := dkwX0_offBy_3 ++ []
def dkwX0_offBy_2 : List UInt8 := [182, 1, 204, 133, 21, 5, 133, 101, 184, 1, 207, 167, 0, 4, 9, 97, 65, 132, 4, 1, 167, 255, 193, 32]
abbrev dktX0_offBy_2 : List UInt8 := dkwX0_offBy_2 ++ dktX0_offBy_3
def dkwX0_offBy_1 : List UInt8 := [21, 4, 182, 1, 67, 167, 0, 4, 3, 54, 5, 32, 42, 21, 4, 182, 1, 201, 153, 0, 20, 42, 21, 4]
abbrev dktX0_offBy_1 : List UInt8 := dkwX0_offBy_1 ++ dktX0_offBy_2
def dkwX0_offBy_0 : List UInt8 := [9, 65, 3, 54, 4, 21, 4, 42, 182, 1, 194, 162, 0, 60, 21, 4, 43, 180, 1, 17, 162, 0, 12, 43]
abbrev dktX0_offBy_0 : List UInt8 := dkwX0_offBy_0 ++ dktX0_offBy_1
theorem dksX0_offBy_0 : cX0_offBy.data.toList.drop 0 = dktX0_offBy_0 := by decide +kernel
theorem dksX0_offBy_1 : cX0_offBy.data.toList.drop 24 = dktX0_offBy_1 := dk_seg dksX0_offBy_0 24 rfl rfl
theorem dksX0_offBy_2 : cX0_offBy.data.toList.drop 48 = dktX0_offBy_2 := dk_seg dksX0_offBy_1 24 rfl rfl
theorem dksX0_offBy_3 : cX0_offBy.data.toList.drop 72 = dktX0_offBy_3 := dk_seg dksX0_offBy_2 24 rfl rfl
theorem dX0_offBy_0 : decode cX0_offBy 0 = .ok (.lconst 0, 1) := dk_9 (dk_at dksX0_offBy_0 0 rfl rfl)
theorem dX0_offBy_1 : decode cX0_offBy 1 = .ok (.lstore_n 2, 1) := dk_65 (dk_at dksX0_offBy_0 1 rfl rfl)
theorem dX0_offBy_2 : decode cX0_offBy 2 = .ok (.iconst 0, 1) := dk_3 (dk_at dksX0_offBy_0 2 rfl rfl)
theorem dX0_offBy_3 : decode cX0_offBy 3 = .ok (.istore 4, 2) := dk_54 4 (dk_at dksX0_offBy_0 3 rfl rfl)
theorem dX0_offBy_5 : decode cX0_offBy 5 = .ok (.iload 4, 2) := dk_21 4 (dk_at dksX0_offBy_0 5 rfl rfl)
theorem dX0_offBy_7 : decode cX0_offBy 7 = .ok (.aload_n 0, 1) := dk_42 (dk_at dksX0_offBy_0 7 rfl rfl)
theorem dX0_offBy_8 : decode cX0_offBy 8 = .ok (.invokevirtual 450, 3) := dk_182 1 194 (dk_at dksX0_offBy_0 8 rfl rfl)
theorem dX0_offBy_11 : decode cX0_offBy 11 = .ok (.if_icmp .ge 60, 3) := dk_162 0 60 (dk_at dksX0_offBy_0 11 rfl rfl)
theorem dX0_offBy_14 : decode cX0_offBy 14 = .ok (.iload 4, 2) := dk_21 4 (dk_at dksX0_offBy_0 14 rfl rfl)
theorem dX0_offBy_16 : decode cX0_offBy 16 = .ok (.aload_n 1, 1) := dk_43 (dk_at dksX0_offBy_0 16 rfl rfl)
theorem dX0_offBy_17 : decode cX0_offBy 17 = .ok (.getfield 273, 3) := dk_180 1 17 (dk_at dksX0_offBy_0 17 rfl rfl)
theorem dX0_offBy_20 : decode cX0_offBy 20 = .ok (.if_icmp .ge 12, 3) := dk_162 0 12 (dk_at dksX0_offBy_0 20 rfl rfl)
theorem dX0_offBy_23 : decode cX0_offBy 23 = .ok (.aload_n 1, 1) := dk_43 (dk_at dksX0_offBy_0 23 rfl rfl)
theorem dX0_offBy_24 : decode cX0_offBy 24 = .ok (.iload 4, 2) := dk_21 4 (dk_at dksX0_offBy_1 0 rfl rfl)
theorem dX0_offBy_26 : decode cX0_offBy 26 = .ok (.invokevirtual 323, 3) := dk_182 1 67 (dk_at dksX0_offBy_1 2 rfl rfl)
theorem dX0_offBy_29 : decode cX0_offBy 29 = .ok (.goto 4, 3) := dk_167 0 4 (dk_at dksX0_offBy_1 5 rfl rfl)
theorem dX0_offBy_32 : decode cX0_offBy 32 = .ok (.iconst 0, 1) := dk_3 (dk_at dksX0_offBy_1 8 rfl rfl)
theorem dX0_offBy_33 : decode cX0_offBy 33 = .ok (.istore 5, 2) := dk_54 5 (dk_at dksX0_offBy_1 9 rfl rfl)
theorem dX0_offBy_35 : decode cX0_offBy 35 = .ok (.lload_n 2, 1) := dk_32 (dk_at dksX0_offBy_1 11 rfl rfl)
theorem dX0_offBy_36 : decode cX0_offBy 36 = .ok (.aload_n 0, 1) := dk_42 (dk_at dksX0_offBy_1 12 rfl rfl)
theorem dX0_offBy_37 : decode cX0_offBy 37 = .ok (.iload 4, 2) := dk_21 4 (dk_at dksX0_offBy_1 13 rfl rfl)
theorem dX0_offBy_39 : decode cX0_offBy 39 = .ok (.invokevirtual 457, 3) := dk_182 1 201 (dk_at dksX0_offBy_1 15 rfl rfl)
theorem dX0_offBy_42 : decode cX0_offBy 42 = .ok (.ifCond .eq 20, 3) := dk_153 0 20 (dk_at dksX0_offBy_1 18 rfl rfl)
theorem dX0_offBy_45 : decode cX0_offBy 45 = .ok (.aload_n 0, 1) := dk_42 (dk_at dksX0_offBy_1 21 rfl rfl)
theorem dX0_offBy_46 : decode cX0_offBy 46 = .ok (.iload 4, 2) := dk_21 4 (dk_at dksX0_offBy_1 22 rfl rfl)
theorem dX0_offBy_48 : decode cX0_offBy 48 = .ok (.invokevirtual 460, 3) := dk_182 1 204 (dk_at dksX0_offBy_2 0 rfl rfl)
theorem dX0_offBy_51 : decode cX0_offBy 51 = .ok (.i2l, 1) := dk_133 (dk_at dksX0_offBy_2 3 rfl rfl)
theorem dX0_offBy_52 : decode cX0_offBy 52 = .ok (.iload 5, 2) := dk_21 5 (dk_at dksX0_offBy_2 4 rfl rfl)
theorem dX0_offBy_54 : decode cX0_offBy 54 = .ok (.i2l, 1) := dk_133 (dk_at dksX0_offBy_2 6 rfl rfl)
theorem dX0_offBy_55 : decode cX0_offBy 55 = .ok (.lsub, 1) := dk_101 (dk_at dksX0_offBy_2 7 rfl rfl)
theorem dX0_offBy_56 : decode cX0_offBy 56 = .ok (.invokestatic 463, 3) := dk_184 1 207 (dk_at dksX0_offBy_2 8 rfl rfl)
theorem dX0_offBy_59 : decode cX0_offBy 59 = .ok (.goto 4, 3) := dk_167 0 4 (dk_at dksX0_offBy_2 11 rfl rfl)
theorem dX0_offBy_62 : decode cX0_offBy 62 = .ok (.lconst 0, 1) := dk_9 (dk_at dksX0_offBy_2 14 rfl rfl)
theorem dX0_offBy_63 : decode cX0_offBy 63 = .ok (.ladd, 1) := dk_97 (dk_at dksX0_offBy_2 15 rfl rfl)
theorem dX0_offBy_64 : decode cX0_offBy 64 = .ok (.lstore_n 2, 1) := dk_65 (dk_at dksX0_offBy_2 16 rfl rfl)
theorem dX0_offBy_65 : decode cX0_offBy 65 = .ok (.iinc 4 1, 3) := dk_132 4 1 (dk_at dksX0_offBy_2 17 rfl rfl)
theorem dX0_offBy_68 : decode cX0_offBy 68 = .ok (.goto (-63), 3) := dk_167 255 193 (dk_at dksX0_offBy_2 20 rfl rfl)
theorem dX0_offBy_71 : decode cX0_offBy 71 = .ok (.lload_n 2, 1) := dk_32 (dk_at dksX0_offBy_2 23 rfl rfl)
theorem dX0_offBy_72 : decode cX0_offBy 72 = .ok (.lreturn, 1) := dk_173 (dk_at dksX0_offBy_3 0 rfl rfl)
abbrev cX0_copy : ByteArray := prog_1_method_88_code
def yX0_copy : MethodName := ⟨RX0, "copy", "(IIIII)I"⟩
def dkwX0_copy_5 : List UInt8 := [25, 7, 21, 4, 21, 5, 182, 1, 217, 21, 5, 172]
abbrev dktX0_copy_5 : List UInt8 := dkwX0_copy_5 ++ []
def dkwX0_copy_4 : List UInt8 := [163, 0, 16, 21, 4, 25, 7, 182, 1, 194, 21, 5, 100, 164, 0, 7, 19, 1, 200, 172, 42, 25, 6, 28]
abbrev dktX0_copy_4 : List UInt8 := dkwX0_copy_4 ++ dktX0_copy_5
def dkwX0_copy_3 : List UInt8 := [28, 155, 0, 38, 21, 4, 155, 0, 33, 21, 5, 155, 0, 28, 28, 25, 6, 182, 1, 194, 21, 5, 100]
abbrev dktX0_copy_3 : List UInt8 := dkwX0_copy_3 ++ dktX0_copy_4
def dkwX0_copy_2 : List UInt8 := [154, 0, 7, 19, 1, 193, 172, 25, 6, 182, 1, 178, 25, 7, 182, 1, 178, 159, 0, 7, 19, 1, 76, 172]
abbrev dktX0_copy_2 : List UInt8 := dkwX0_copy_2 ++ dktX0_copy_3
def dkwX0_copy_1 : List UInt8 := [58, 6, 42, 180, 0, 89, 29, 50, 58, 7, 25, 6, 182, 1, 190, 153, 0, 11, 25, 7, 182, 1, 190]
abbrev dktX0_copy_1 : List UInt8 := dkwX0_copy_1 ++ dktX0_copy_2
def dkwX0_copy_0 : List UInt8 := [27, 184, 1, 164, 153, 0, 10, 29, 184, 1, 164, 154, 0, 6, 18, 139, 172, 42, 180, 0, 89, 27, 50]
abbrev dktX0_copy_0 : List UInt8 := dkwX0_copy_0 ++ dktX0_copy_1
theorem dksX0_copy_0 : cX0_copy.data.toList.drop 0 = dktX0_copy_0 := by decide +kernel
theorem dksX0_copy_1 : cX0_copy.data.toList.drop 23 = dktX0_copy_1 := dk_seg dksX0_copy_0 23 rfl rfl
theorem dksX0_copy_2 : cX0_copy.data.toList.drop 46 = dktX0_copy_2 := dk_seg dksX0_copy_1 23 rfl rfl
theorem dksX0_copy_3 : cX0_copy.data.toList.drop 70 = dktX0_copy_3 := dk_seg dksX0_copy_2 24 rfl rfl
theorem dksX0_copy_4 : cX0_copy.data.toList.drop 93 = dktX0_copy_4 := dk_seg dksX0_copy_3 23 rfl rfl
theorem dksX0_copy_5 : cX0_copy.data.toList.drop 117 = dktX0_copy_5 := dk_seg dksX0_copy_4 24 rfl rfl
theorem dX0_copy_0 : decode cX0_copy 0 = .ok (.iload_n 1, 1) := dk_27 (dk_at dksX0_copy_0 0 rfl rfl)
theorem dX0_copy_1 : decode cX0_copy 1 = .ok (.invokestatic 420, 3) := dk_184 1 164 (dk_at dksX0_copy_0 1 rfl rfl)
theorem dX0_copy_4 : decode cX0_copy 4 = .ok (.ifCond .eq 10, 3) := dk_153 0 10 (dk_at dksX0_copy_0 4 rfl rfl)
theorem dX0_copy_7 : decode cX0_copy 7 = .ok (.iload_n 3, 1) := dk_29 (dk_at dksX0_copy_0 7 rfl rfl)
theorem dX0_copy_8 : decode cX0_copy 8 = .ok (.invokestatic 420, 3) := dk_184 1 164 (dk_at dksX0_copy_0 8 rfl rfl)
theorem dX0_copy_11 : decode cX0_copy 11 = .ok (.ifCond .ne 6, 3) := dk_154 0 6 (dk_at dksX0_copy_0 11 rfl rfl)
theorem dX0_copy_14 : decode cX0_copy 14 = .ok (.ldc 139, 2) := dk_18 139 (dk_at dksX0_copy_0 14 rfl rfl)
theorem dX0_copy_16 : decode cX0_copy 16 = .ok (.ireturn, 1) := dk_172 (dk_at dksX0_copy_0 16 rfl rfl)
theorem dX0_copy_17 : decode cX0_copy 17 = .ok (.aload_n 0, 1) := dk_42 (dk_at dksX0_copy_0 17 rfl rfl)
theorem dX0_copy_18 : decode cX0_copy 18 = .ok (.getfield 89, 3) := dk_180 0 89 (dk_at dksX0_copy_0 18 rfl rfl)
theorem dX0_copy_21 : decode cX0_copy 21 = .ok (.iload_n 1, 1) := dk_27 (dk_at dksX0_copy_0 21 rfl rfl)
theorem dX0_copy_22 : decode cX0_copy 22 = .ok (.aaload, 1) := dk_50 (dk_at dksX0_copy_0 22 rfl rfl)
theorem dX0_copy_23 : decode cX0_copy 23 = .ok (.astore 6, 2) := dk_58 6 (dk_at dksX0_copy_1 0 rfl rfl)
theorem dX0_copy_25 : decode cX0_copy 25 = .ok (.aload_n 0, 1) := dk_42 (dk_at dksX0_copy_1 2 rfl rfl)
theorem dX0_copy_26 : decode cX0_copy 26 = .ok (.getfield 89, 3) := dk_180 0 89 (dk_at dksX0_copy_1 3 rfl rfl)
theorem dX0_copy_29 : decode cX0_copy 29 = .ok (.iload_n 3, 1) := dk_29 (dk_at dksX0_copy_1 6 rfl rfl)
theorem dX0_copy_30 : decode cX0_copy 30 = .ok (.aaload, 1) := dk_50 (dk_at dksX0_copy_1 7 rfl rfl)
theorem dX0_copy_31 : decode cX0_copy 31 = .ok (.astore 7, 2) := dk_58 7 (dk_at dksX0_copy_1 8 rfl rfl)
theorem dX0_copy_33 : decode cX0_copy 33 = .ok (.aload 6, 2) := dk_25 6 (dk_at dksX0_copy_1 10 rfl rfl)
theorem dX0_copy_35 : decode cX0_copy 35 = .ok (.invokevirtual 446, 3) := dk_182 1 190 (dk_at dksX0_copy_1 12 rfl rfl)
theorem dX0_copy_38 : decode cX0_copy 38 = .ok (.ifCond .eq 11, 3) := dk_153 0 11 (dk_at dksX0_copy_1 15 rfl rfl)
theorem dX0_copy_41 : decode cX0_copy 41 = .ok (.aload 7, 2) := dk_25 7 (dk_at dksX0_copy_1 18 rfl rfl)
theorem dX0_copy_43 : decode cX0_copy 43 = .ok (.invokevirtual 446, 3) := dk_182 1 190 (dk_at dksX0_copy_1 20 rfl rfl)
theorem dX0_copy_46 : decode cX0_copy 46 = .ok (.ifCond .ne 7, 3) := dk_154 0 7 (dk_at dksX0_copy_2 0 rfl rfl)
theorem dX0_copy_49 : decode cX0_copy 49 = .ok (.ldc_w 449, 3) := dk_19 1 193 (dk_at dksX0_copy_2 3 rfl rfl)
theorem dX0_copy_52 : decode cX0_copy 52 = .ok (.ireturn, 1) := dk_172 (dk_at dksX0_copy_2 6 rfl rfl)
theorem dX0_copy_53 : decode cX0_copy 53 = .ok (.aload 6, 2) := dk_25 6 (dk_at dksX0_copy_2 7 rfl rfl)
theorem dX0_copy_55 : decode cX0_copy 55 = .ok (.invokevirtual 434, 3) := dk_182 1 178 (dk_at dksX0_copy_2 9 rfl rfl)
theorem dX0_copy_58 : decode cX0_copy 58 = .ok (.aload 7, 2) := dk_25 7 (dk_at dksX0_copy_2 12 rfl rfl)
theorem dX0_copy_60 : decode cX0_copy 60 = .ok (.invokevirtual 434, 3) := dk_182 1 178 (dk_at dksX0_copy_2 14 rfl rfl)
theorem dX0_copy_63 : decode cX0_copy 63 = .ok (.if_icmp .eq 7, 3) := dk_159 0 7 (dk_at dksX0_copy_2 17 rfl rfl)
theorem dX0_copy_66 : decode cX0_copy 66 = .ok (.ldc_w 332, 3) := dk_19 1 76 (dk_at dksX0_copy_2 20 rfl rfl)
theorem dX0_copy_69 : decode cX0_copy 69 = .ok (.ireturn, 1) := dk_172 (dk_at dksX0_copy_2 23 rfl rfl)
theorem dX0_copy_70 : decode cX0_copy 70 = .ok (.iload_n 2, 1) := dk_28 (dk_at dksX0_copy_3 0 rfl rfl)
theorem dX0_copy_71 : decode cX0_copy 71 = .ok (.ifCond .lt 38, 3) := dk_155 0 38 (dk_at dksX0_copy_3 1 rfl rfl)
theorem dX0_copy_74 : decode cX0_copy 74 = .ok (.iload 4, 2) := dk_21 4 (dk_at dksX0_copy_3 4 rfl rfl)
theorem dX0_copy_76 : decode cX0_copy 76 = .ok (.ifCond .lt 33, 3) := dk_155 0 33 (dk_at dksX0_copy_3 6 rfl rfl)
theorem dX0_copy_79 : decode cX0_copy 79 = .ok (.iload 5, 2) := dk_21 5 (dk_at dksX0_copy_3 9 rfl rfl)
theorem dX0_copy_81 : decode cX0_copy 81 = .ok (.ifCond .lt 28, 3) := dk_155 0 28 (dk_at dksX0_copy_3 11 rfl rfl)
theorem dX0_copy_84 : decode cX0_copy 84 = .ok (.iload_n 2, 1) := dk_28 (dk_at dksX0_copy_3 14 rfl rfl)
theorem dX0_copy_85 : decode cX0_copy 85 = .ok (.aload 6, 2) := dk_25 6 (dk_at dksX0_copy_3 15 rfl rfl)
theorem dX0_copy_87 : decode cX0_copy 87 = .ok (.invokevirtual 450, 3) := dk_182 1 194 (dk_at dksX0_copy_3 17 rfl rfl)
theorem dX0_copy_90 : decode cX0_copy 90 = .ok (.iload 5, 2) := dk_21 5 (dk_at dksX0_copy_3 20 rfl rfl)
theorem dX0_copy_92 : decode cX0_copy 92 = .ok (.isub, 1) := dk_100 (dk_at dksX0_copy_3 22 rfl rfl)
theorem dX0_copy_93 : decode cX0_copy 93 = .ok (.if_icmp .gt 16, 3) := dk_163 0 16 (dk_at dksX0_copy_4 0 rfl rfl)
theorem dX0_copy_96 : decode cX0_copy 96 = .ok (.iload 4, 2) := dk_21 4 (dk_at dksX0_copy_4 3 rfl rfl)
theorem dX0_copy_98 : decode cX0_copy 98 = .ok (.aload 7, 2) := dk_25 7 (dk_at dksX0_copy_4 5 rfl rfl)
theorem dX0_copy_100 : decode cX0_copy 100 = .ok (.invokevirtual 450, 3) := dk_182 1 194 (dk_at dksX0_copy_4 7 rfl rfl)
theorem dX0_copy_103 : decode cX0_copy 103 = .ok (.iload 5, 2) := dk_21 5 (dk_at dksX0_copy_4 10 rfl rfl)
theorem dX0_copy_105 : decode cX0_copy 105 = .ok (.isub, 1) := dk_100 (dk_at dksX0_copy_4 12 rfl rfl)
theorem dX0_copy_106 : decode cX0_copy 106 = .ok (.if_icmp .le 7, 3) := dk_164 0 7 (dk_at dksX0_copy_4 13 rfl rfl)
theorem dX0_copy_109 : decode cX0_copy 109 = .ok (.ldc_w 456, 3) := dk_19 1 200 (dk_at dksX0_copy_4 16 rfl rfl)
theorem dX0_copy_112 : decode cX0_copy 112 = .ok (.ireturn, 1) := dk_172 (dk_at dksX0_copy_4 19 rfl rfl)
theorem dX0_copy_113 : decode cX0_copy 113 = .ok (.aload_n 0, 1) := dk_42 (dk_at dksX0_copy_4 20 rfl rfl)
theorem dX0_copy_114 : decode cX0_copy 114 = .ok (.aload 6, 2) := dk_25 6 (dk_at dksX0_copy_4 21 rfl rfl)
theorem dX0_copy_116 : decode cX0_copy 116 = .ok (.iload_n 2, 1) := dk_28 (dk_at dksX0_copy_4 23 rfl rfl)
theorem dX0_copy_117 : decode cX0_copy 117 = .ok (.aload 7, 2) := dk_25 7 (dk_at dksX0_copy_5 0 rfl rfl)
theorem dX0_copy_119 : decode cX0_copy 119 = .ok (.iload 4, 2) := dk_21 4 (dk_at dksX0_copy_5 2 rfl rfl)
theorem dX0_copy_121 : decode cX0_copy 121 = .ok (.iload 5, 2) := dk_21 5 (dk_at dksX0_copy_5 4 rfl rfl)
theorem dX0_copy_123 : decode cX0_copy 123 = .ok (.invokevirtual 473, 3) := dk_182 1 217 (dk_at dksX0_copy_5 6 rfl rfl)
theorem dX0_copy_126 : decode cX0_copy 126 = .ok (.iload 5, 2) := dk_21 5 (dk_at dksX0_copy_5 9 rfl rfl)
theorem dX0_copy_128 : decode cX0_copy 128 = .ok (.ireturn, 1) := dk_172 (dk_at dksX0_copy_5 11 rfl rfl)
abbrev cX0_carries : ByteArray := prog_1_method_87_code
def yX0_carries : MethodName := ⟨RX0, "carries", "(LStoneSheets$Sheet;ILStoneSheets$Sheet;II)V"⟩
def dkwX0_carries_4 : List UInt8 := [180, 0, 100, 21, 8, 48, 81, 132, 8, 1, 167, 255, 231, 177]
abbrev dktX0_carries_4 : List UInt8 := dkwX0_carries_4 ++ []
def dkwX0_carries_3 : List UInt8 := [132, 8, 1, 167, 255, 232, 3, 54, 8, 21, 8, 21, 5, 162, 0, 24, 25, 7, 21, 4, 21, 8, 96, 42]
abbrev dktX0_carries_3 : List UInt8 := dkwX0_carries_3 ++ dktX0_carries_4
def dkwX0_carries_2 : List UInt8 := [3, 54, 8, 21, 8, 21, 5, 162, 0, 23, 42, 180, 0, 100, 21, 8, 25, 6, 28, 21, 8, 96, 48, 81]
abbrev dktX0_carries_2 : List UInt8 := dkwX0_carries_2 ++ dktX0_carries_3
def dkwX0_carries_1 : List UInt8 := [21, 5, 184, 0, 40, 177, 43, 180, 1, 167, 192, 1, 182, 58, 6, 45, 180, 1, 167, 192, 1, 182, 58, 7]
abbrev dktX0_carries_1 : List UInt8 := dkwX0_carries_1 ++ dktX0_carries_2
def dkwX0_carries_0 : List UInt8 := [43, 182, 1, 178, 154, 0, 26, 43, 180, 1, 167, 192, 1, 215, 28, 45, 180, 1, 167, 192, 1, 215, 21, 4]
abbrev dktX0_carries_0 : List UInt8 := dkwX0_carries_0 ++ dktX0_carries_1
theorem dksX0_carries_0 : cX0_carries.data.toList.drop 0 = dktX0_carries_0 := by decide +kernel
theorem dksX0_carries_1 : cX0_carries.data.toList.drop 24 = dktX0_carries_1 := dk_seg dksX0_carries_0 24 rfl rfl
theorem dksX0_carries_2 : cX0_carries.data.toList.drop 48 = dktX0_carries_2 := dk_seg dksX0_carries_1 24 rfl rfl
theorem dksX0_carries_3 : cX0_carries.data.toList.drop 72 = dktX0_carries_3 := dk_seg dksX0_carries_2 24 rfl rfl
theorem dksX0_carries_4 : cX0_carries.data.toList.drop 96 = dktX0_carries_4 := dk_seg dksX0_carries_3 24 rfl rfl
theorem dX0_carries_0 : decode cX0_carries 0 = .ok (.aload_n 1, 1) := dk_43 (dk_at dksX0_carries_0 0 rfl rfl)
theorem dX0_carries_1 : decode cX0_carries 1 = .ok (.invokevirtual 434, 3) := dk_182 1 178 (dk_at dksX0_carries_0 1 rfl rfl)
theorem dX0_carries_4 : decode cX0_carries 4 = .ok (.ifCond .ne 26, 3) := dk_154 0 26 (dk_at dksX0_carries_0 4 rfl rfl)
theorem dX0_carries_7 : decode cX0_carries 7 = .ok (.aload_n 1, 1) := dk_43 (dk_at dksX0_carries_0 7 rfl rfl)
theorem dX0_carries_8 : decode cX0_carries 8 = .ok (.getfield 423, 3) := dk_180 1 167 (dk_at dksX0_carries_0 8 rfl rfl)
theorem dX0_carries_11 : decode cX0_carries 11 = .ok (.checkcast 471, 3) := dk_192 1 215 (dk_at dksX0_carries_0 11 rfl rfl)
theorem dX0_carries_14 : decode cX0_carries 14 = .ok (.iload_n 2, 1) := dk_28 (dk_at dksX0_carries_0 14 rfl rfl)
theorem dX0_carries_15 : decode cX0_carries 15 = .ok (.aload_n 3, 1) := dk_45 (dk_at dksX0_carries_0 15 rfl rfl)
theorem dX0_carries_16 : decode cX0_carries 16 = .ok (.getfield 423, 3) := dk_180 1 167 (dk_at dksX0_carries_0 16 rfl rfl)
theorem dX0_carries_19 : decode cX0_carries 19 = .ok (.checkcast 471, 3) := dk_192 1 215 (dk_at dksX0_carries_0 19 rfl rfl)
theorem dX0_carries_22 : decode cX0_carries 22 = .ok (.iload 4, 2) := dk_21 4 (dk_at dksX0_carries_0 22 rfl rfl)
theorem dX0_carries_24 : decode cX0_carries 24 = .ok (.iload 5, 2) := dk_21 5 (dk_at dksX0_carries_1 0 rfl rfl)
theorem dX0_carries_26 : decode cX0_carries 26 = .ok (.invokestatic 40, 3) := dk_184 0 40 (dk_at dksX0_carries_1 2 rfl rfl)
theorem dX0_carries_29 : decode cX0_carries 29 = .ok (.return_, 1) := dk_177 (dk_at dksX0_carries_1 5 rfl rfl)
theorem dX0_carries_30 : decode cX0_carries 30 = .ok (.aload_n 1, 1) := dk_43 (dk_at dksX0_carries_1 6 rfl rfl)
theorem dX0_carries_31 : decode cX0_carries 31 = .ok (.getfield 423, 3) := dk_180 1 167 (dk_at dksX0_carries_1 7 rfl rfl)
theorem dX0_carries_34 : decode cX0_carries 34 = .ok (.checkcast 438, 3) := dk_192 1 182 (dk_at dksX0_carries_1 10 rfl rfl)
theorem dX0_carries_37 : decode cX0_carries 37 = .ok (.astore 6, 2) := dk_58 6 (dk_at dksX0_carries_1 13 rfl rfl)
theorem dX0_carries_39 : decode cX0_carries 39 = .ok (.aload_n 3, 1) := dk_45 (dk_at dksX0_carries_1 15 rfl rfl)
theorem dX0_carries_40 : decode cX0_carries 40 = .ok (.getfield 423, 3) := dk_180 1 167 (dk_at dksX0_carries_1 16 rfl rfl)
theorem dX0_carries_43 : decode cX0_carries 43 = .ok (.checkcast 438, 3) := dk_192 1 182 (dk_at dksX0_carries_1 19 rfl rfl)
theorem dX0_carries_46 : decode cX0_carries 46 = .ok (.astore 7, 2) := dk_58 7 (dk_at dksX0_carries_1 22 rfl rfl)
theorem dX0_carries_48 : decode cX0_carries 48 = .ok (.iconst 0, 1) := dk_3 (dk_at dksX0_carries_2 0 rfl rfl)
theorem dX0_carries_49 : decode cX0_carries 49 = .ok (.istore 8, 2) := dk_54 8 (dk_at dksX0_carries_2 1 rfl rfl)
theorem dX0_carries_51 : decode cX0_carries 51 = .ok (.iload 8, 2) := dk_21 8 (dk_at dksX0_carries_2 3 rfl rfl)
theorem dX0_carries_53 : decode cX0_carries 53 = .ok (.iload 5, 2) := dk_21 5 (dk_at dksX0_carries_2 5 rfl rfl)
theorem dX0_carries_55 : decode cX0_carries 55 = .ok (.if_icmp .ge 23, 3) := dk_162 0 23 (dk_at dksX0_carries_2 7 rfl rfl)
theorem dX0_carries_58 : decode cX0_carries 58 = .ok (.aload_n 0, 1) := dk_42 (dk_at dksX0_carries_2 10 rfl rfl)
theorem dX0_carries_59 : decode cX0_carries 59 = .ok (.getfield 100, 3) := dk_180 0 100 (dk_at dksX0_carries_2 11 rfl rfl)
theorem dX0_carries_62 : decode cX0_carries 62 = .ok (.iload 8, 2) := dk_21 8 (dk_at dksX0_carries_2 14 rfl rfl)
theorem dX0_carries_64 : decode cX0_carries 64 = .ok (.aload 6, 2) := dk_25 6 (dk_at dksX0_carries_2 16 rfl rfl)
theorem dX0_carries_66 : decode cX0_carries 66 = .ok (.iload_n 2, 1) := dk_28 (dk_at dksX0_carries_2 18 rfl rfl)
theorem dX0_carries_67 : decode cX0_carries 67 = .ok (.iload 8, 2) := dk_21 8 (dk_at dksX0_carries_2 19 rfl rfl)
theorem dX0_carries_69 : decode cX0_carries 69 = .ok (.iadd, 1) := dk_96 (dk_at dksX0_carries_2 21 rfl rfl)
theorem dX0_carries_70 : decode cX0_carries 70 = .ok (.faload, 1) := dk_48 (dk_at dksX0_carries_2 22 rfl rfl)
theorem dX0_carries_71 : decode cX0_carries 71 = .ok (.fastore, 1) := dk_81 (dk_at dksX0_carries_2 23 rfl rfl)
theorem dX0_carries_72 : decode cX0_carries 72 = .ok (.iinc 8 1, 3) := dk_132 8 1 (dk_at dksX0_carries_3 0 rfl rfl)
theorem dX0_carries_75 : decode cX0_carries 75 = .ok (.goto (-24), 3) := dk_167 255 232 (dk_at dksX0_carries_3 3 rfl rfl)
theorem dX0_carries_78 : decode cX0_carries 78 = .ok (.iconst 0, 1) := dk_3 (dk_at dksX0_carries_3 6 rfl rfl)
theorem dX0_carries_79 : decode cX0_carries 79 = .ok (.istore 8, 2) := dk_54 8 (dk_at dksX0_carries_3 7 rfl rfl)
theorem dX0_carries_81 : decode cX0_carries 81 = .ok (.iload 8, 2) := dk_21 8 (dk_at dksX0_carries_3 9 rfl rfl)
theorem dX0_carries_83 : decode cX0_carries 83 = .ok (.iload 5, 2) := dk_21 5 (dk_at dksX0_carries_3 11 rfl rfl)
theorem dX0_carries_85 : decode cX0_carries 85 = .ok (.if_icmp .ge 24, 3) := dk_162 0 24 (dk_at dksX0_carries_3 13 rfl rfl)
theorem dX0_carries_88 : decode cX0_carries 88 = .ok (.aload 7, 2) := dk_25 7 (dk_at dksX0_carries_3 16 rfl rfl)
theorem dX0_carries_90 : decode cX0_carries 90 = .ok (.iload 4, 2) := dk_21 4 (dk_at dksX0_carries_3 18 rfl rfl)
theorem dX0_carries_92 : decode cX0_carries 92 = .ok (.iload 8, 2) := dk_21 8 (dk_at dksX0_carries_3 20 rfl rfl)
theorem dX0_carries_94 : decode cX0_carries 94 = .ok (.iadd, 1) := dk_96 (dk_at dksX0_carries_3 22 rfl rfl)
theorem dX0_carries_95 : decode cX0_carries 95 = .ok (.aload_n 0, 1) := dk_42 (dk_at dksX0_carries_3 23 rfl rfl)
theorem dX0_carries_96 : decode cX0_carries 96 = .ok (.getfield 100, 3) := dk_180 0 100 (dk_at dksX0_carries_4 0 rfl rfl)
theorem dX0_carries_99 : decode cX0_carries 99 = .ok (.iload 8, 2) := dk_21 8 (dk_at dksX0_carries_4 3 rfl rfl)
theorem dX0_carries_101 : decode cX0_carries 101 = .ok (.faload, 1) := dk_48 (dk_at dksX0_carries_4 5 rfl rfl)
theorem dX0_carries_102 : decode cX0_carries 102 = .ok (.fastore, 1) := dk_81 (dk_at dksX0_carries_4 6 rfl rfl)
theorem dX0_carries_103 : decode cX0_carries 103 = .ok (.iinc 8 1, 3) := dk_132 8 1 (dk_at dksX0_carries_4 7 rfl rfl)
theorem dX0_carries_106 : decode cX0_carries 106 = .ok (.goto (-25), 3) := dk_167 255 231 (dk_at dksX0_carries_4 10 rfl rfl)
theorem dX0_carries_109 : decode cX0_carries 109 = .ok (.return_, 1) := dk_177 (dk_at dksX0_carries_4 13 rfl rfl)
abbrev cX0_lay : ByteArray := prog_1_method_90_code
def yX0_lay : MethodName := ⟨RX0, "lay", "(III)I"⟩
def dkwX0_lay_6 : List UInt8 := [21, 4, 172]
abbrev dktX0_lay_6 : List UInt8 := dkwX0_lay_6 ++ []
def dkwX0_lay_5 : List UInt8 := [42, 180, 0, 89, 29, 50, 182, 1, 231, 167, 0, 11, 187, 1, 235, 89, 29, 183, 1, 237, 181, 1, 239]
abbrev dktX0_lay_5 : List UInt8 := dkwX0_lay_5 ++ dktX0_lay_6
def dkwX0_lay_4 : List UInt8 := [160, 0, 18, 42, 180, 0, 52, 180, 1, 6, 29, 50, 182, 1, 227, 167, 0, 29, 28, 5, 160, 0, 16, 42]
abbrev dktX0_lay_4 : List UInt8 := dkwX0_lay_4 ++ dktX0_lay_5
def dkwX0_lay_3 : List UInt8 := [50, 182, 1, 224, 54, 4, 42, 180, 0, 96, 27, 50, 28, 154, 0, 7, 1, 167, 0, 49, 28, 4]
abbrev dktX0_lay_3 : List UInt8 := dkwX0_lay_3 ++ dktX0_lay_4
def dkwX0_lay_2 : List UInt8 := [160, 0, 19, 42, 180, 0, 89, 29, 50, 182, 1, 190, 154, 0, 7, 19, 1, 193, 172, 42, 180, 0, 96, 27]
abbrev dktX0_lay_2 : List UInt8 := dkwX0_lay_2 ++ dktX0_lay_3
def dkwX0_lay_1 : List UInt8 := [182, 1, 44, 153, 0, 15, 28, 5, 160, 0, 13, 29, 184, 1, 164, 154, 0, 6, 18, 139, 172, 28, 5]
abbrev dktX0_lay_1 : List UInt8 := dkwX0_lay_1 ++ dktX0_lay_2
def dkwX0_lay_0 : List UInt8 := [27, 184, 1, 221, 153, 0, 37, 28, 3, 6, 184, 0, 114, 153, 0, 28, 28, 4, 160, 0, 11, 42, 29]
abbrev dktX0_lay_0 : List UInt8 := dkwX0_lay_0 ++ dktX0_lay_1
theorem dksX0_lay_0 : cX0_lay.data.toList.drop 0 = dktX0_lay_0 := by decide +kernel
theorem dksX0_lay_1 : cX0_lay.data.toList.drop 23 = dktX0_lay_1 := dk_seg dksX0_lay_0 23 rfl rfl
theorem dksX0_lay_2 : cX0_lay.data.toList.drop 46 = dktX0_lay_2 := dk_seg dksX0_lay_1 23 rfl rfl
theorem dksX0_lay_3 : cX0_lay.data.toList.drop 70 = dktX0_lay_3 := dk_seg dksX0_lay_2 24 rfl rfl
theorem dksX0_lay_4 : cX0_lay.data.toList.drop 92 = dktX0_lay_4 := dk_seg dksX0_lay_3 22 rfl rfl
theorem dksX0_lay_5 : cX0_lay.data.toList.drop 116 = dktX0_lay_5 := dk_seg dksX0_lay_4 24 rfl rfl
theorem dksX0_lay_6 : cX0_lay.data.toList.drop 139 = dktX0_lay_6 := dk_seg dksX0_lay_5 23 rfl rfl
theorem dX0_lay_0 : decode cX0_lay 0 = .ok (.iload_n 1, 1) := dk_27 (dk_at dksX0_lay_0 0 rfl rfl)
theorem dX0_lay_1 : decode cX0_lay 1 = .ok (.invokestatic 477, 3) := dk_184 1 221 (dk_at dksX0_lay_0 1 rfl rfl)
theorem dX0_lay_4 : decode cX0_lay 4 = .ok (.ifCond .eq 37, 3) := dk_153 0 37 (dk_at dksX0_lay_0 4 rfl rfl)
theorem dX0_lay_7 : decode cX0_lay 7 = .ok (.iload_n 2, 1) := dk_28 (dk_at dksX0_lay_0 7 rfl rfl)
theorem dX0_lay_8 : decode cX0_lay 8 = .ok (.iconst 0, 1) := dk_3 (dk_at dksX0_lay_0 8 rfl rfl)
theorem dX0_lay_9 : decode cX0_lay 9 = .ok (.iconst 3, 1) := dk_6 (dk_at dksX0_lay_0 9 rfl rfl)
theorem dX0_lay_10 : decode cX0_lay 10 = .ok (.invokestatic 114, 3) := dk_184 0 114 (dk_at dksX0_lay_0 10 rfl rfl)
theorem dX0_lay_13 : decode cX0_lay 13 = .ok (.ifCond .eq 28, 3) := dk_153 0 28 (dk_at dksX0_lay_0 13 rfl rfl)
theorem dX0_lay_16 : decode cX0_lay 16 = .ok (.iload_n 2, 1) := dk_28 (dk_at dksX0_lay_0 16 rfl rfl)
theorem dX0_lay_17 : decode cX0_lay 17 = .ok (.iconst 1, 1) := dk_4 (dk_at dksX0_lay_0 17 rfl rfl)
theorem dX0_lay_18 : decode cX0_lay 18 = .ok (.if_icmp .ne 11, 3) := dk_160 0 11 (dk_at dksX0_lay_0 18 rfl rfl)
theorem dX0_lay_21 : decode cX0_lay 21 = .ok (.aload_n 0, 1) := dk_42 (dk_at dksX0_lay_0 21 rfl rfl)
theorem dX0_lay_22 : decode cX0_lay 22 = .ok (.iload_n 3, 1) := dk_29 (dk_at dksX0_lay_0 22 rfl rfl)
theorem dX0_lay_23 : decode cX0_lay 23 = .ok (.invokevirtual 300, 3) := dk_182 1 44 (dk_at dksX0_lay_1 0 rfl rfl)
theorem dX0_lay_26 : decode cX0_lay 26 = .ok (.ifCond .eq 15, 3) := dk_153 0 15 (dk_at dksX0_lay_1 3 rfl rfl)
theorem dX0_lay_29 : decode cX0_lay 29 = .ok (.iload_n 2, 1) := dk_28 (dk_at dksX0_lay_1 6 rfl rfl)
theorem dX0_lay_30 : decode cX0_lay 30 = .ok (.iconst 2, 1) := dk_5 (dk_at dksX0_lay_1 7 rfl rfl)
theorem dX0_lay_31 : decode cX0_lay 31 = .ok (.if_icmp .ne 13, 3) := dk_160 0 13 (dk_at dksX0_lay_1 8 rfl rfl)
theorem dX0_lay_34 : decode cX0_lay 34 = .ok (.iload_n 3, 1) := dk_29 (dk_at dksX0_lay_1 11 rfl rfl)
theorem dX0_lay_35 : decode cX0_lay 35 = .ok (.invokestatic 420, 3) := dk_184 1 164 (dk_at dksX0_lay_1 12 rfl rfl)
theorem dX0_lay_38 : decode cX0_lay 38 = .ok (.ifCond .ne 6, 3) := dk_154 0 6 (dk_at dksX0_lay_1 15 rfl rfl)
theorem dX0_lay_41 : decode cX0_lay 41 = .ok (.ldc 139, 2) := dk_18 139 (dk_at dksX0_lay_1 18 rfl rfl)
theorem dX0_lay_43 : decode cX0_lay 43 = .ok (.ireturn, 1) := dk_172 (dk_at dksX0_lay_1 20 rfl rfl)
theorem dX0_lay_44 : decode cX0_lay 44 = .ok (.iload_n 2, 1) := dk_28 (dk_at dksX0_lay_1 21 rfl rfl)
theorem dX0_lay_45 : decode cX0_lay 45 = .ok (.iconst 2, 1) := dk_5 (dk_at dksX0_lay_1 22 rfl rfl)
theorem dX0_lay_46 : decode cX0_lay 46 = .ok (.if_icmp .ne 19, 3) := dk_160 0 19 (dk_at dksX0_lay_2 0 rfl rfl)
theorem dX0_lay_49 : decode cX0_lay 49 = .ok (.aload_n 0, 1) := dk_42 (dk_at dksX0_lay_2 3 rfl rfl)
theorem dX0_lay_50 : decode cX0_lay 50 = .ok (.getfield 89, 3) := dk_180 0 89 (dk_at dksX0_lay_2 4 rfl rfl)
theorem dX0_lay_53 : decode cX0_lay 53 = .ok (.iload_n 3, 1) := dk_29 (dk_at dksX0_lay_2 7 rfl rfl)
theorem dX0_lay_54 : decode cX0_lay 54 = .ok (.aaload, 1) := dk_50 (dk_at dksX0_lay_2 8 rfl rfl)
theorem dX0_lay_55 : decode cX0_lay 55 = .ok (.invokevirtual 446, 3) := dk_182 1 190 (dk_at dksX0_lay_2 9 rfl rfl)
theorem dX0_lay_58 : decode cX0_lay 58 = .ok (.ifCond .ne 7, 3) := dk_154 0 7 (dk_at dksX0_lay_2 12 rfl rfl)
theorem dX0_lay_61 : decode cX0_lay 61 = .ok (.ldc_w 449, 3) := dk_19 1 193 (dk_at dksX0_lay_2 15 rfl rfl)
theorem dX0_lay_64 : decode cX0_lay 64 = .ok (.ireturn, 1) := dk_172 (dk_at dksX0_lay_2 18 rfl rfl)
theorem dX0_lay_65 : decode cX0_lay 65 = .ok (.aload_n 0, 1) := dk_42 (dk_at dksX0_lay_2 19 rfl rfl)
theorem dX0_lay_66 : decode cX0_lay 66 = .ok (.getfield 96, 3) := dk_180 0 96 (dk_at dksX0_lay_2 20 rfl rfl)
theorem dX0_lay_69 : decode cX0_lay 69 = .ok (.iload_n 1, 1) := dk_27 (dk_at dksX0_lay_2 23 rfl rfl)
theorem dX0_lay_70 : decode cX0_lay 70 = .ok (.aaload, 1) := dk_50 (dk_at dksX0_lay_3 0 rfl rfl)
theorem dX0_lay_71 : decode cX0_lay 71 = .ok (.invokevirtual 480, 3) := dk_182 1 224 (dk_at dksX0_lay_3 1 rfl rfl)
theorem dX0_lay_74 : decode cX0_lay 74 = .ok (.istore 4, 2) := dk_54 4 (dk_at dksX0_lay_3 4 rfl rfl)
theorem dX0_lay_76 : decode cX0_lay 76 = .ok (.aload_n 0, 1) := dk_42 (dk_at dksX0_lay_3 6 rfl rfl)
theorem dX0_lay_77 : decode cX0_lay 77 = .ok (.getfield 96, 3) := dk_180 0 96 (dk_at dksX0_lay_3 7 rfl rfl)
theorem dX0_lay_80 : decode cX0_lay 80 = .ok (.iload_n 1, 1) := dk_27 (dk_at dksX0_lay_3 10 rfl rfl)
theorem dX0_lay_81 : decode cX0_lay 81 = .ok (.aaload, 1) := dk_50 (dk_at dksX0_lay_3 11 rfl rfl)
theorem dX0_lay_82 : decode cX0_lay 82 = .ok (.iload_n 2, 1) := dk_28 (dk_at dksX0_lay_3 12 rfl rfl)
theorem dX0_lay_83 : decode cX0_lay 83 = .ok (.ifCond .ne 7, 3) := dk_154 0 7 (dk_at dksX0_lay_3 13 rfl rfl)
theorem dX0_lay_86 : decode cX0_lay 86 = .ok (.aconst_null, 1) := dk_1 (dk_at dksX0_lay_3 16 rfl rfl)
theorem dX0_lay_87 : decode cX0_lay 87 = .ok (.goto 49, 3) := dk_167 0 49 (dk_at dksX0_lay_3 17 rfl rfl)
theorem dX0_lay_90 : decode cX0_lay 90 = .ok (.iload_n 2, 1) := dk_28 (dk_at dksX0_lay_3 20 rfl rfl)
theorem dX0_lay_91 : decode cX0_lay 91 = .ok (.iconst 1, 1) := dk_4 (dk_at dksX0_lay_3 21 rfl rfl)
theorem dX0_lay_92 : decode cX0_lay 92 = .ok (.if_icmp .ne 18, 3) := dk_160 0 18 (dk_at dksX0_lay_4 0 rfl rfl)
theorem dX0_lay_95 : decode cX0_lay 95 = .ok (.aload_n 0, 1) := dk_42 (dk_at dksX0_lay_4 3 rfl rfl)
theorem dX0_lay_96 : decode cX0_lay 96 = .ok (.getfield 52, 3) := dk_180 0 52 (dk_at dksX0_lay_4 4 rfl rfl)
theorem dX0_lay_99 : decode cX0_lay 99 = .ok (.getfield 262, 3) := dk_180 1 6 (dk_at dksX0_lay_4 7 rfl rfl)
theorem dX0_lay_102 : decode cX0_lay 102 = .ok (.iload_n 3, 1) := dk_29 (dk_at dksX0_lay_4 10 rfl rfl)
theorem dX0_lay_103 : decode cX0_lay 103 = .ok (.aaload, 1) := dk_50 (dk_at dksX0_lay_4 11 rfl rfl)
theorem dX0_lay_104 : decode cX0_lay 104 = .ok (.invokevirtual 483, 3) := dk_182 1 227 (dk_at dksX0_lay_4 12 rfl rfl)
theorem dX0_lay_107 : decode cX0_lay 107 = .ok (.goto 29, 3) := dk_167 0 29 (dk_at dksX0_lay_4 15 rfl rfl)
theorem dX0_lay_110 : decode cX0_lay 110 = .ok (.iload_n 2, 1) := dk_28 (dk_at dksX0_lay_4 18 rfl rfl)
theorem dX0_lay_111 : decode cX0_lay 111 = .ok (.iconst 2, 1) := dk_5 (dk_at dksX0_lay_4 19 rfl rfl)
theorem dX0_lay_112 : decode cX0_lay 112 = .ok (.if_icmp .ne 16, 3) := dk_160 0 16 (dk_at dksX0_lay_4 20 rfl rfl)
theorem dX0_lay_115 : decode cX0_lay 115 = .ok (.aload_n 0, 1) := dk_42 (dk_at dksX0_lay_4 23 rfl rfl)
theorem dX0_lay_116 : decode cX0_lay 116 = .ok (.aload_n 0, 1) := dk_42 (dk_at dksX0_lay_5 0 rfl rfl)
theorem dX0_lay_117 : decode cX0_lay 117 = .ok (.getfield 89, 3) := dk_180 0 89 (dk_at dksX0_lay_5 1 rfl rfl)
theorem dX0_lay_120 : decode cX0_lay 120 = .ok (.iload_n 3, 1) := dk_29 (dk_at dksX0_lay_5 4 rfl rfl)
theorem dX0_lay_121 : decode cX0_lay 121 = .ok (.aaload, 1) := dk_50 (dk_at dksX0_lay_5 5 rfl rfl)
theorem dX0_lay_122 : decode cX0_lay 122 = .ok (.invokevirtual 487, 3) := dk_182 1 231 (dk_at dksX0_lay_5 6 rfl rfl)
theorem dX0_lay_125 : decode cX0_lay 125 = .ok (.goto 11, 3) := dk_167 0 11 (dk_at dksX0_lay_5 9 rfl rfl)
theorem dX0_lay_128 : decode cX0_lay 128 = .ok (.new 491, 3) := dk_187 1 235 (dk_at dksX0_lay_5 12 rfl rfl)
theorem dX0_lay_131 : decode cX0_lay 131 = .ok (.dup, 1) := dk_89 (dk_at dksX0_lay_5 15 rfl rfl)
theorem dX0_lay_132 : decode cX0_lay 132 = .ok (.iload_n 3, 1) := dk_29 (dk_at dksX0_lay_5 16 rfl rfl)
theorem dX0_lay_133 : decode cX0_lay 133 = .ok (.invokespecial 493, 3) := dk_183 1 237 (dk_at dksX0_lay_5 17 rfl rfl)
theorem dX0_lay_136 : decode cX0_lay 136 = .ok (.putfield 495, 3) := dk_181 1 239 (dk_at dksX0_lay_5 20 rfl rfl)
theorem dX0_lay_139 : decode cX0_lay 139 = .ok (.iload 4, 2) := dk_21 4 (dk_at dksX0_lay_6 0 rfl rfl)
theorem dX0_lay_141 : decode cX0_lay 141 = .ok (.ireturn, 1) := dk_172 (dk_at dksX0_lay_6 2 rfl rfl)
abbrev cX0_isSlot : ByteArray := prog_1_method_78_code
def yX0_isSlot : MethodName := ⟨RX0, "isSlot", "(I)Z"⟩
def dkwX0_isSlot_0 : List UInt8 := [26, 3, 7, 184, 0, 114, 172]
abbrev dktX0_isSlot_0 : List UInt8 := dkwX0_isSlot_0 ++ []
theorem dksX0_isSlot_0 : cX0_isSlot.data.toList.drop 0 = dktX0_isSlot_0 := by decide +kernel
theorem dX0_isSlot_0 : decode cX0_isSlot 0 = .ok (.iload_n 0, 1) := dk_26 (dk_at dksX0_isSlot_0 0 rfl rfl)
theorem dX0_isSlot_1 : decode cX0_isSlot 1 = .ok (.iconst 0, 1) := dk_3 (dk_at dksX0_isSlot_0 1 rfl rfl)
theorem dX0_isSlot_2 : decode cX0_isSlot 2 = .ok (.iconst 4, 1) := dk_7 (dk_at dksX0_isSlot_0 2 rfl rfl)
theorem dX0_isSlot_3 : decode cX0_isSlot 3 = .ok (.invokestatic 114, 3) := dk_184 0 114 (dk_at dksX0_isSlot_0 3 rfl rfl)
theorem dX0_isSlot_6 : decode cX0_isSlot 6 = .ok (.ireturn, 1) := dk_172 (dk_at dksX0_isSlot_0 6 rfl rfl)
abbrev cX0_own : ByteArray := prog_1_method_89_code
def yX0_own : MethodName := ⟨RX0, "own", "(LStoneSheets$Sheet;)LStoneSheets$Sheet;"⟩
def dkwX0_own_1 : List UInt8 := [43, 3, 44, 3, 43, 182, 1, 194, 182, 1, 217, 44, 176]
abbrev dktX0_own_1 : List UInt8 := dkwX0_own_1 ++ []
def dkwX0_own_0 : List UInt8 := [187, 0, 86, 89, 183, 0, 88, 77, 44, 43, 182, 1, 178, 43, 182, 1, 194, 184, 1, 171, 181, 1, 167, 42]
abbrev dktX0_own_0 : List UInt8 := dkwX0_own_0 ++ dktX0_own_1
theorem dksX0_own_0 : cX0_own.data.toList.drop 0 = dktX0_own_0 := by decide +kernel
theorem dksX0_own_1 : cX0_own.data.toList.drop 24 = dktX0_own_1 := dk_seg dksX0_own_0 24 rfl rfl
theorem dX0_own_0 : decode cX0_own 0 = .ok (.new 86, 3) := dk_187 0 86 (dk_at dksX0_own_0 0 rfl rfl)
theorem dX0_own_3 : decode cX0_own 3 = .ok (.dup, 1) := dk_89 (dk_at dksX0_own_0 3 rfl rfl)
theorem dX0_own_4 : decode cX0_own 4 = .ok (.invokespecial 88, 3) := dk_183 0 88 (dk_at dksX0_own_0 4 rfl rfl)
theorem dX0_own_7 : decode cX0_own 7 = .ok (.astore_n 2, 1) := dk_77 (dk_at dksX0_own_0 7 rfl rfl)
theorem dX0_own_8 : decode cX0_own 8 = .ok (.aload_n 2, 1) := dk_44 (dk_at dksX0_own_0 8 rfl rfl)
theorem dX0_own_9 : decode cX0_own 9 = .ok (.aload_n 1, 1) := dk_43 (dk_at dksX0_own_0 9 rfl rfl)
theorem dX0_own_10 : decode cX0_own 10 = .ok (.invokevirtual 434, 3) := dk_182 1 178 (dk_at dksX0_own_0 10 rfl rfl)
theorem dX0_own_13 : decode cX0_own 13 = .ok (.aload_n 1, 1) := dk_43 (dk_at dksX0_own_0 13 rfl rfl)
theorem dX0_own_14 : decode cX0_own 14 = .ok (.invokevirtual 450, 3) := dk_182 1 194 (dk_at dksX0_own_0 14 rfl rfl)
theorem dX0_own_17 : decode cX0_own 17 = .ok (.invokestatic 427, 3) := dk_184 1 171 (dk_at dksX0_own_0 17 rfl rfl)
theorem dX0_own_20 : decode cX0_own 20 = .ok (.putfield 423, 3) := dk_181 1 167 (dk_at dksX0_own_0 20 rfl rfl)
theorem dX0_own_23 : decode cX0_own 23 = .ok (.aload_n 0, 1) := dk_42 (dk_at dksX0_own_0 23 rfl rfl)
theorem dX0_own_24 : decode cX0_own 24 = .ok (.aload_n 1, 1) := dk_43 (dk_at dksX0_own_1 0 rfl rfl)
theorem dX0_own_25 : decode cX0_own 25 = .ok (.iconst 0, 1) := dk_3 (dk_at dksX0_own_1 1 rfl rfl)
theorem dX0_own_26 : decode cX0_own 26 = .ok (.aload_n 2, 1) := dk_44 (dk_at dksX0_own_1 2 rfl rfl)
theorem dX0_own_27 : decode cX0_own 27 = .ok (.iconst 0, 1) := dk_3 (dk_at dksX0_own_1 3 rfl rfl)
theorem dX0_own_28 : decode cX0_own 28 = .ok (.aload_n 1, 1) := dk_43 (dk_at dksX0_own_1 4 rfl rfl)
theorem dX0_own_29 : decode cX0_own 29 = .ok (.invokevirtual 450, 3) := dk_182 1 194 (dk_at dksX0_own_1 5 rfl rfl)
theorem dX0_own_32 : decode cX0_own 32 = .ok (.invokevirtual 473, 3) := dk_182 1 217 (dk_at dksX0_own_1 8 rfl rfl)
theorem dX0_own_35 : decode cX0_own 35 = .ok (.aload_n 2, 1) := dk_44 (dk_at dksX0_own_1 11 rfl rfl)
theorem dX0_own_36 : decode cX0_own 36 = .ok (.areturn, 1) := dk_176 (dk_at dksX0_own_1 12 rfl rfl)
abbrev cX0_ask : ByteArray := prog_1_method_91_code
def yX0_ask : MethodName := ⟨RX0, "ask", "(II)I"⟩
def dkwX0_ask_2 : List UInt8 := [185, 1, 242, 1, 0, 172, 58, 4, 19, 1, 76, 172]
abbrev dktX0_ask_2 : List UInt8 := dkwX0_ask_2 ++ []
def dkwX0_ask_1 : List UInt8 := [50, 180, 1, 239, 78, 45, 199, 0, 7, 19, 1, 193, 172, 45, 28, 184, 1, 70, 58, 4, 25, 4]
abbrev dktX0_ask_1 : List UInt8 := dkwX0_ask_1 ++ dktX0_ask_2
def dkwX0_ask_0 : List UInt8 := [27, 184, 1, 221, 153, 0, 12, 28, 3, 8, 184, 0, 114, 154, 0, 6, 18, 139, 172, 42, 180, 0, 96, 27]
abbrev dktX0_ask_0 : List UInt8 := dkwX0_ask_0 ++ dktX0_ask_1
theorem dksX0_ask_0 : cX0_ask.data.toList.drop 0 = dktX0_ask_0 := by decide +kernel
theorem dksX0_ask_1 : cX0_ask.data.toList.drop 24 = dktX0_ask_1 := dk_seg dksX0_ask_0 24 rfl rfl
theorem dksX0_ask_2 : cX0_ask.data.toList.drop 46 = dktX0_ask_2 := dk_seg dksX0_ask_1 22 rfl rfl
theorem dX0_ask_0 : decode cX0_ask 0 = .ok (.iload_n 1, 1) := dk_27 (dk_at dksX0_ask_0 0 rfl rfl)
theorem dX0_ask_1 : decode cX0_ask 1 = .ok (.invokestatic 477, 3) := dk_184 1 221 (dk_at dksX0_ask_0 1 rfl rfl)
theorem dX0_ask_4 : decode cX0_ask 4 = .ok (.ifCond .eq 12, 3) := dk_153 0 12 (dk_at dksX0_ask_0 4 rfl rfl)
theorem dX0_ask_7 : decode cX0_ask 7 = .ok (.iload_n 2, 1) := dk_28 (dk_at dksX0_ask_0 7 rfl rfl)
theorem dX0_ask_8 : decode cX0_ask 8 = .ok (.iconst 0, 1) := dk_3 (dk_at dksX0_ask_0 8 rfl rfl)
theorem dX0_ask_9 : decode cX0_ask 9 = .ok (.iconst 5, 1) := dk_8 (dk_at dksX0_ask_0 9 rfl rfl)
theorem dX0_ask_10 : decode cX0_ask 10 = .ok (.invokestatic 114, 3) := dk_184 0 114 (dk_at dksX0_ask_0 10 rfl rfl)
theorem dX0_ask_13 : decode cX0_ask 13 = .ok (.ifCond .ne 6, 3) := dk_154 0 6 (dk_at dksX0_ask_0 13 rfl rfl)
theorem dX0_ask_16 : decode cX0_ask 16 = .ok (.ldc 139, 2) := dk_18 139 (dk_at dksX0_ask_0 16 rfl rfl)
theorem dX0_ask_18 : decode cX0_ask 18 = .ok (.ireturn, 1) := dk_172 (dk_at dksX0_ask_0 18 rfl rfl)
theorem dX0_ask_19 : decode cX0_ask 19 = .ok (.aload_n 0, 1) := dk_42 (dk_at dksX0_ask_0 19 rfl rfl)
theorem dX0_ask_20 : decode cX0_ask 20 = .ok (.getfield 96, 3) := dk_180 0 96 (dk_at dksX0_ask_0 20 rfl rfl)
theorem dX0_ask_23 : decode cX0_ask 23 = .ok (.iload_n 1, 1) := dk_27 (dk_at dksX0_ask_0 23 rfl rfl)
theorem dX0_ask_24 : decode cX0_ask 24 = .ok (.aaload, 1) := dk_50 (dk_at dksX0_ask_1 0 rfl rfl)
theorem dX0_ask_25 : decode cX0_ask 25 = .ok (.getfield 495, 3) := dk_180 1 239 (dk_at dksX0_ask_1 1 rfl rfl)
theorem dX0_ask_28 : decode cX0_ask 28 = .ok (.astore_n 3, 1) := dk_78 (dk_at dksX0_ask_1 4 rfl rfl)
theorem dX0_ask_29 : decode cX0_ask 29 = .ok (.aload_n 3, 1) := dk_45 (dk_at dksX0_ask_1 5 rfl rfl)
theorem dX0_ask_30 : decode cX0_ask 30 = .ok (.ifnonnull 7, 3) := dk_199 0 7 (dk_at dksX0_ask_1 6 rfl rfl)
theorem dX0_ask_33 : decode cX0_ask 33 = .ok (.ldc_w 449, 3) := dk_19 1 193 (dk_at dksX0_ask_1 9 rfl rfl)
theorem dX0_ask_36 : decode cX0_ask 36 = .ok (.ireturn, 1) := dk_172 (dk_at dksX0_ask_1 12 rfl rfl)
theorem dX0_ask_37 : decode cX0_ask 37 = .ok (.aload_n 3, 1) := dk_45 (dk_at dksX0_ask_1 13 rfl rfl)
theorem dX0_ask_38 : decode cX0_ask 38 = .ok (.iload_n 2, 1) := dk_28 (dk_at dksX0_ask_1 14 rfl rfl)
theorem dX0_ask_39 : decode cX0_ask 39 = .ok (.invokestatic 326, 3) := dk_184 1 70 (dk_at dksX0_ask_1 15 rfl rfl)
theorem dX0_ask_42 : decode cX0_ask 42 = .ok (.astore 4, 2) := dk_58 4 (dk_at dksX0_ask_1 18 rfl rfl)
theorem dX0_ask_44 : decode cX0_ask 44 = .ok (.aload 4, 2) := dk_25 4 (dk_at dksX0_ask_1 20 rfl rfl)
theorem dX0_ask_46 : decode cX0_ask 46 = .ok (.invokeinterface 498 1, 5) := by decide +kernel
theorem dX0_ask_51 : decode cX0_ask 51 = .ok (.ireturn, 1) := dk_172 (dk_at dksX0_ask_2 5 rfl rfl)
theorem dX0_ask_52 : decode cX0_ask 52 = .ok (.astore 4, 2) := dk_58 4 (dk_at dksX0_ask_2 6 rfl rfl)
theorem dX0_ask_54 : decode cX0_ask 54 = .ok (.ldc_w 332, 3) := dk_19 1 76 (dk_at dksX0_ask_2 8 rfl rfl)
theorem dX0_ask_57 : decode cX0_ask 57 = .ok (.ireturn, 1) := dk_172 (dk_at dksX0_ask_2 11 rfl rfl)
abbrev cX0_item : ByteArray := prog_1_method_92_code
def yX0_item : MethodName := ⟨RX0, "item", "(II)I"⟩
def dkwX0_item_3 : List UInt8 := [167, 0, 6, 19, 1, 76, 172, 58, 4, 19, 1, 76, 172]
abbrev dktX0_item_3 : List UInt8 := dkwX0_item_3 ++ []
def dkwX0_item_2 : List UInt8 := [154, 0, 7, 19, 1, 200, 172, 25, 4, 28, 182, 1, 201, 153, 0, 12, 25, 4, 28, 182, 1, 204]
abbrev dktX0_item_2 : List UInt8 := dkwX0_item_2 ++ dktX0_item_3
def dkwX0_item_1 : List UInt8 := [19, 1, 193, 172, 45, 192, 0, 86, 58, 4, 28, 3, 25, 4, 182, 1, 194, 4, 100, 184, 0, 114]
abbrev dktX0_item_1 : List UInt8 := dkwX0_item_1 ++ dktX0_item_2
def dkwX0_item_0 : List UInt8 := [27, 184, 1, 221, 154, 0, 6, 18, 139, 172, 42, 180, 0, 96, 27, 50, 180, 1, 239, 78, 45, 199, 0, 7]
abbrev dktX0_item_0 : List UInt8 := dkwX0_item_0 ++ dktX0_item_1
theorem dksX0_item_0 : cX0_item.data.toList.drop 0 = dktX0_item_0 := by decide +kernel
theorem dksX0_item_1 : cX0_item.data.toList.drop 24 = dktX0_item_1 := dk_seg dksX0_item_0 24 rfl rfl
theorem dksX0_item_2 : cX0_item.data.toList.drop 46 = dktX0_item_2 := dk_seg dksX0_item_1 22 rfl rfl
theorem dksX0_item_3 : cX0_item.data.toList.drop 68 = dktX0_item_3 := dk_seg dksX0_item_2 22 rfl rfl
theorem dX0_item_0 : decode cX0_item 0 = .ok (.iload_n 1, 1) := dk_27 (dk_at dksX0_item_0 0 rfl rfl)
theorem dX0_item_1 : decode cX0_item 1 = .ok (.invokestatic 477, 3) := dk_184 1 221 (dk_at dksX0_item_0 1 rfl rfl)
theorem dX0_item_4 : decode cX0_item 4 = .ok (.ifCond .ne 6, 3) := dk_154 0 6 (dk_at dksX0_item_0 4 rfl rfl)
theorem dX0_item_7 : decode cX0_item 7 = .ok (.ldc 139, 2) := dk_18 139 (dk_at dksX0_item_0 7 rfl rfl)
theorem dX0_item_9 : decode cX0_item 9 = .ok (.ireturn, 1) := dk_172 (dk_at dksX0_item_0 9 rfl rfl)
theorem dX0_item_10 : decode cX0_item 10 = .ok (.aload_n 0, 1) := dk_42 (dk_at dksX0_item_0 10 rfl rfl)
theorem dX0_item_11 : decode cX0_item 11 = .ok (.getfield 96, 3) := dk_180 0 96 (dk_at dksX0_item_0 11 rfl rfl)
theorem dX0_item_14 : decode cX0_item 14 = .ok (.iload_n 1, 1) := dk_27 (dk_at dksX0_item_0 14 rfl rfl)
theorem dX0_item_15 : decode cX0_item 15 = .ok (.aaload, 1) := dk_50 (dk_at dksX0_item_0 15 rfl rfl)
theorem dX0_item_16 : decode cX0_item 16 = .ok (.getfield 495, 3) := dk_180 1 239 (dk_at dksX0_item_0 16 rfl rfl)
theorem dX0_item_19 : decode cX0_item 19 = .ok (.astore_n 3, 1) := dk_78 (dk_at dksX0_item_0 19 rfl rfl)
theorem dX0_item_20 : decode cX0_item 20 = .ok (.aload_n 3, 1) := dk_45 (dk_at dksX0_item_0 20 rfl rfl)
theorem dX0_item_21 : decode cX0_item 21 = .ok (.ifnonnull 7, 3) := dk_199 0 7 (dk_at dksX0_item_0 21 rfl rfl)
theorem dX0_item_24 : decode cX0_item 24 = .ok (.ldc_w 449, 3) := dk_19 1 193 (dk_at dksX0_item_1 0 rfl rfl)
theorem dX0_item_27 : decode cX0_item 27 = .ok (.ireturn, 1) := dk_172 (dk_at dksX0_item_1 3 rfl rfl)
theorem dX0_item_28 : decode cX0_item 28 = .ok (.aload_n 3, 1) := dk_45 (dk_at dksX0_item_1 4 rfl rfl)
theorem dX0_item_29 : decode cX0_item 29 = .ok (.checkcast 86, 3) := dk_192 0 86 (dk_at dksX0_item_1 5 rfl rfl)
theorem dX0_item_32 : decode cX0_item 32 = .ok (.astore 4, 2) := dk_58 4 (dk_at dksX0_item_1 8 rfl rfl)
theorem dX0_item_34 : decode cX0_item 34 = .ok (.iload_n 2, 1) := dk_28 (dk_at dksX0_item_1 10 rfl rfl)
theorem dX0_item_35 : decode cX0_item 35 = .ok (.iconst 0, 1) := dk_3 (dk_at dksX0_item_1 11 rfl rfl)
theorem dX0_item_36 : decode cX0_item 36 = .ok (.aload 4, 2) := dk_25 4 (dk_at dksX0_item_1 12 rfl rfl)
theorem dX0_item_38 : decode cX0_item 38 = .ok (.invokevirtual 450, 3) := dk_182 1 194 (dk_at dksX0_item_1 14 rfl rfl)
theorem dX0_item_41 : decode cX0_item 41 = .ok (.iconst 1, 1) := dk_4 (dk_at dksX0_item_1 17 rfl rfl)
theorem dX0_item_42 : decode cX0_item 42 = .ok (.isub, 1) := dk_100 (dk_at dksX0_item_1 18 rfl rfl)
theorem dX0_item_43 : decode cX0_item 43 = .ok (.invokestatic 114, 3) := dk_184 0 114 (dk_at dksX0_item_1 19 rfl rfl)
theorem dX0_item_46 : decode cX0_item 46 = .ok (.ifCond .ne 7, 3) := dk_154 0 7 (dk_at dksX0_item_2 0 rfl rfl)
theorem dX0_item_49 : decode cX0_item 49 = .ok (.ldc_w 456, 3) := dk_19 1 200 (dk_at dksX0_item_2 3 rfl rfl)
theorem dX0_item_52 : decode cX0_item 52 = .ok (.ireturn, 1) := dk_172 (dk_at dksX0_item_2 6 rfl rfl)
theorem dX0_item_53 : decode cX0_item 53 = .ok (.aload 4, 2) := dk_25 4 (dk_at dksX0_item_2 7 rfl rfl)
theorem dX0_item_55 : decode cX0_item 55 = .ok (.iload_n 2, 1) := dk_28 (dk_at dksX0_item_2 9 rfl rfl)
theorem dX0_item_56 : decode cX0_item 56 = .ok (.invokevirtual 457, 3) := dk_182 1 201 (dk_at dksX0_item_2 10 rfl rfl)
theorem dX0_item_59 : decode cX0_item 59 = .ok (.ifCond .eq 12, 3) := dk_153 0 12 (dk_at dksX0_item_2 13 rfl rfl)
theorem dX0_item_62 : decode cX0_item 62 = .ok (.aload 4, 2) := dk_25 4 (dk_at dksX0_item_2 16 rfl rfl)
theorem dX0_item_64 : decode cX0_item 64 = .ok (.iload_n 2, 1) := dk_28 (dk_at dksX0_item_2 18 rfl rfl)
theorem dX0_item_65 : decode cX0_item 65 = .ok (.invokevirtual 460, 3) := dk_182 1 204 (dk_at dksX0_item_2 19 rfl rfl)
theorem dX0_item_68 : decode cX0_item 68 = .ok (.goto 6, 3) := dk_167 0 6 (dk_at dksX0_item_3 0 rfl rfl)
theorem dX0_item_71 : decode cX0_item 71 = .ok (.ldc_w 332, 3) := dk_19 1 76 (dk_at dksX0_item_3 3 rfl rfl)
theorem dX0_item_74 : decode cX0_item 74 = .ok (.ireturn, 1) := dk_172 (dk_at dksX0_item_3 6 rfl rfl)
theorem dX0_item_75 : decode cX0_item 75 = .ok (.astore 4, 2) := dk_58 4 (dk_at dksX0_item_3 7 rfl rfl)
theorem dX0_item_77 : decode cX0_item 77 = .ok (.ldc_w 332, 3) := dk_19 1 76 (dk_at dksX0_item_3 9 rfl rfl)
theorem dX0_item_80 : decode cX0_item 80 = .ok (.ireturn, 1) := dk_172 (dk_at dksX0_item_3 12 rfl rfl)
abbrev cX0_rest : ByteArray := prog_1_method_93_code
def yX0_rest : MethodName := ⟨RX0, "rest", "(II)I"⟩
def dkwX0_rest_2 : List UInt8 := [28, 154, 0, 9, 19, 1, 248, 167, 0, 7, 21, 4, 28, 112, 172]
abbrev dktX0_rest_2 : List UInt8 := dkwX0_rest_2 ++ []
def dkwX0_rest_1 : List UInt8 := [19, 1, 193, 172, 45, 193, 1, 235, 154, 0, 7, 19, 1, 76, 172, 45, 192, 1, 235, 180, 1, 245, 54, 4]
abbrev dktX0_rest_1 : List UInt8 := dkwX0_rest_1 ++ dktX0_rest_2
def dkwX0_rest_0 : List UInt8 := [27, 184, 1, 221, 154, 0, 6, 18, 139, 172, 42, 180, 0, 96, 27, 50, 180, 1, 239, 78, 45, 199, 0, 7]
abbrev dktX0_rest_0 : List UInt8 := dkwX0_rest_0 ++ dktX0_rest_1
theorem dksX0_rest_0 : cX0_rest.data.toList.drop 0 = dktX0_rest_0 := by decide +kernel
theorem dksX0_rest_1 : cX0_rest.data.toList.drop 24 = dktX0_rest_1 := dk_seg dksX0_rest_0 24 rfl rfl
theorem dksX0_rest_2 : cX0_rest.data.toList.drop 48 = dktX0_rest_2 := dk_seg dksX0_rest_1 24 rfl rfl
theorem dX0_rest_0 : decode cX0_rest 0 = .ok (.iload_n 1, 1) := dk_27 (dk_at dksX0_rest_0 0 rfl rfl)
theorem dX0_rest_1 : decode cX0_rest 1 = .ok (.invokestatic 477, 3) := dk_184 1 221 (dk_at dksX0_rest_0 1 rfl rfl)
theorem dX0_rest_4 : decode cX0_rest 4 = .ok (.ifCond .ne 6, 3) := dk_154 0 6 (dk_at dksX0_rest_0 4 rfl rfl)
theorem dX0_rest_7 : decode cX0_rest 7 = .ok (.ldc 139, 2) := dk_18 139 (dk_at dksX0_rest_0 7 rfl rfl)
theorem dX0_rest_9 : decode cX0_rest 9 = .ok (.ireturn, 1) := dk_172 (dk_at dksX0_rest_0 9 rfl rfl)
theorem dX0_rest_10 : decode cX0_rest 10 = .ok (.aload_n 0, 1) := dk_42 (dk_at dksX0_rest_0 10 rfl rfl)
theorem dX0_rest_11 : decode cX0_rest 11 = .ok (.getfield 96, 3) := dk_180 0 96 (dk_at dksX0_rest_0 11 rfl rfl)
theorem dX0_rest_14 : decode cX0_rest 14 = .ok (.iload_n 1, 1) := dk_27 (dk_at dksX0_rest_0 14 rfl rfl)
theorem dX0_rest_15 : decode cX0_rest 15 = .ok (.aaload, 1) := dk_50 (dk_at dksX0_rest_0 15 rfl rfl)
theorem dX0_rest_16 : decode cX0_rest 16 = .ok (.getfield 495, 3) := dk_180 1 239 (dk_at dksX0_rest_0 16 rfl rfl)
theorem dX0_rest_19 : decode cX0_rest 19 = .ok (.astore_n 3, 1) := dk_78 (dk_at dksX0_rest_0 19 rfl rfl)
theorem dX0_rest_20 : decode cX0_rest 20 = .ok (.aload_n 3, 1) := dk_45 (dk_at dksX0_rest_0 20 rfl rfl)
theorem dX0_rest_21 : decode cX0_rest 21 = .ok (.ifnonnull 7, 3) := dk_199 0 7 (dk_at dksX0_rest_0 21 rfl rfl)
theorem dX0_rest_24 : decode cX0_rest 24 = .ok (.ldc_w 449, 3) := dk_19 1 193 (dk_at dksX0_rest_1 0 rfl rfl)
theorem dX0_rest_27 : decode cX0_rest 27 = .ok (.ireturn, 1) := dk_172 (dk_at dksX0_rest_1 3 rfl rfl)
theorem dX0_rest_28 : decode cX0_rest 28 = .ok (.aload_n 3, 1) := dk_45 (dk_at dksX0_rest_1 4 rfl rfl)
theorem dX0_rest_29 : decode cX0_rest 29 = .ok (.instanceof 491, 3) := dk_193 1 235 (dk_at dksX0_rest_1 5 rfl rfl)
theorem dX0_rest_32 : decode cX0_rest 32 = .ok (.ifCond .ne 7, 3) := dk_154 0 7 (dk_at dksX0_rest_1 8 rfl rfl)
theorem dX0_rest_35 : decode cX0_rest 35 = .ok (.ldc_w 332, 3) := dk_19 1 76 (dk_at dksX0_rest_1 11 rfl rfl)
theorem dX0_rest_38 : decode cX0_rest 38 = .ok (.ireturn, 1) := dk_172 (dk_at dksX0_rest_1 14 rfl rfl)
theorem dX0_rest_39 : decode cX0_rest 39 = .ok (.aload_n 3, 1) := dk_45 (dk_at dksX0_rest_1 15 rfl rfl)
theorem dX0_rest_40 : decode cX0_rest 40 = .ok (.checkcast 491, 3) := dk_192 1 235 (dk_at dksX0_rest_1 16 rfl rfl)
theorem dX0_rest_43 : decode cX0_rest 43 = .ok (.getfield 501, 3) := dk_180 1 245 (dk_at dksX0_rest_1 19 rfl rfl)
theorem dX0_rest_46 : decode cX0_rest 46 = .ok (.istore 4, 2) := dk_54 4 (dk_at dksX0_rest_1 22 rfl rfl)
theorem dX0_rest_48 : decode cX0_rest 48 = .ok (.iload_n 2, 1) := dk_28 (dk_at dksX0_rest_2 0 rfl rfl)
theorem dX0_rest_49 : decode cX0_rest 49 = .ok (.ifCond .ne 9, 3) := dk_154 0 9 (dk_at dksX0_rest_2 1 rfl rfl)
theorem dX0_rest_52 : decode cX0_rest 52 = .ok (.ldc_w 504, 3) := dk_19 1 248 (dk_at dksX0_rest_2 4 rfl rfl)
theorem dX0_rest_55 : decode cX0_rest 55 = .ok (.goto 7, 3) := dk_167 0 7 (dk_at dksX0_rest_2 7 rfl rfl)
theorem dX0_rest_58 : decode cX0_rest 58 = .ok (.iload 4, 2) := dk_21 4 (dk_at dksX0_rest_2 10 rfl rfl)
theorem dX0_rest_60 : decode cX0_rest 60 = .ok (.iload_n 2, 1) := dk_28 (dk_at dksX0_rest_2 12 rfl rfl)
theorem dX0_rest_61 : decode cX0_rest 61 = .ok (.irem, 1) := dk_112 (dk_at dksX0_rest_2 13 rfl rfl)
theorem dX0_rest_62 : decode cX0_rest 62 = .ok (.ireturn, 1) := dk_172 (dk_at dksX0_rest_2 14 rfl rfl)
abbrev cX0_tell : ByteArray := prog_1_method_94_code
def yX0_tell : MethodName := ⟨RX0, "tell", "(I)I"⟩
def dkwX0_tell_1 : List UInt8 := [180, 1, 249, 4, 96, 181, 1, 249, 42, 180, 1, 249, 172]
abbrev dktX0_tell_1 : List UInt8 := dkwX0_tell_1 ++ []
def dkwX0_tell_0 : List UInt8 := [42, 180, 1, 249, 16, 60, 160, 0, 6, 18, 134, 172, 42, 180, 0, 104, 42, 180, 1, 249, 27, 79, 42, 89]
abbrev dktX0_tell_0 : List UInt8 := dkwX0_tell_0 ++ dktX0_tell_1
theorem dksX0_tell_0 : cX0_tell.data.toList.drop 0 = dktX0_tell_0 := by decide +kernel
theorem dksX0_tell_1 : cX0_tell.data.toList.drop 24 = dktX0_tell_1 := dk_seg dksX0_tell_0 24 rfl rfl
theorem dX0_tell_0 : decode cX0_tell 0 = .ok (.aload_n 0, 1) := dk_42 (dk_at dksX0_tell_0 0 rfl rfl)
theorem dX0_tell_1 : decode cX0_tell 1 = .ok (.getfield 505, 3) := dk_180 1 249 (dk_at dksX0_tell_0 1 rfl rfl)
theorem dX0_tell_4 : decode cX0_tell 4 = .ok (.bipush 60, 2) := dk_16 60 (dk_at dksX0_tell_0 4 rfl rfl)
theorem dX0_tell_6 : decode cX0_tell 6 = .ok (.if_icmp .ne 6, 3) := dk_160 0 6 (dk_at dksX0_tell_0 6 rfl rfl)
theorem dX0_tell_9 : decode cX0_tell 9 = .ok (.ldc 134, 2) := dk_18 134 (dk_at dksX0_tell_0 9 rfl rfl)
theorem dX0_tell_11 : decode cX0_tell 11 = .ok (.ireturn, 1) := dk_172 (dk_at dksX0_tell_0 11 rfl rfl)
theorem dX0_tell_12 : decode cX0_tell 12 = .ok (.aload_n 0, 1) := dk_42 (dk_at dksX0_tell_0 12 rfl rfl)
theorem dX0_tell_13 : decode cX0_tell 13 = .ok (.getfield 104, 3) := dk_180 0 104 (dk_at dksX0_tell_0 13 rfl rfl)
theorem dX0_tell_16 : decode cX0_tell 16 = .ok (.aload_n 0, 1) := dk_42 (dk_at dksX0_tell_0 16 rfl rfl)
theorem dX0_tell_17 : decode cX0_tell 17 = .ok (.getfield 505, 3) := dk_180 1 249 (dk_at dksX0_tell_0 17 rfl rfl)
theorem dX0_tell_20 : decode cX0_tell 20 = .ok (.iload_n 1, 1) := dk_27 (dk_at dksX0_tell_0 20 rfl rfl)
theorem dX0_tell_21 : decode cX0_tell 21 = .ok (.iastore, 1) := dk_79 (dk_at dksX0_tell_0 21 rfl rfl)
theorem dX0_tell_22 : decode cX0_tell 22 = .ok (.aload_n 0, 1) := dk_42 (dk_at dksX0_tell_0 22 rfl rfl)
theorem dX0_tell_23 : decode cX0_tell 23 = .ok (.dup, 1) := dk_89 (dk_at dksX0_tell_0 23 rfl rfl)
theorem dX0_tell_24 : decode cX0_tell 24 = .ok (.getfield 505, 3) := dk_180 1 249 (dk_at dksX0_tell_1 0 rfl rfl)
theorem dX0_tell_27 : decode cX0_tell 27 = .ok (.iconst 1, 1) := dk_4 (dk_at dksX0_tell_1 3 rfl rfl)
theorem dX0_tell_28 : decode cX0_tell 28 = .ok (.iadd, 1) := dk_96 (dk_at dksX0_tell_1 4 rfl rfl)
theorem dX0_tell_29 : decode cX0_tell 29 = .ok (.putfield 505, 3) := dk_181 1 249 (dk_at dksX0_tell_1 5 rfl rfl)
theorem dX0_tell_32 : decode cX0_tell 32 = .ok (.aload_n 0, 1) := dk_42 (dk_at dksX0_tell_1 8 rfl rfl)
theorem dX0_tell_33 : decode cX0_tell 33 = .ok (.getfield 505, 3) := dk_180 1 249 (dk_at dksX0_tell_1 9 rfl rfl)
theorem dX0_tell_36 : decode cX0_tell 36 = .ok (.ireturn, 1) := dk_172 (dk_at dksX0_tell_1 12 rfl rfl)
abbrev cX0_check : ByteArray := prog_1_method_96_code
def yX0_check : MethodName := ⟨RX0, "check", "(I)I"⟩
def dkwX0_check_4 : List UInt8 := [96, 167, 0, 4, 3, 172]
abbrev dktX0_check_4 : List UInt8 := dkwX0_check_4 ++ []
def dkwX0_check_3 : List UInt8 := [160, 0, 6, 167, 0, 8, 4, 21, 4, 96, 172, 132, 4, 1, 167, 255, 216, 28, 29, 162, 0, 9, 4, 28]
abbrev dktX0_check_3 : List UInt8 := dkwX0_check_3 ++ dktX0_check_4
def dkwX0_check_2 : List UInt8 := [162, 0, 40, 21, 4, 29, 162, 0, 23, 42, 180, 0, 104, 21, 4, 46, 42, 180, 0, 107, 21, 4, 46]
abbrev dktX0_check_2 : List UInt8 := dkwX0_check_2 ++ dktX0_check_3
def dkwX0_check_1 : List UInt8 := [180, 1, 252, 154, 0, 7, 19, 1, 248, 172, 42, 27, 182, 1, 255, 62, 3, 54, 4, 21, 4, 28]
abbrev dktX0_check_1 : List UInt8 := dkwX0_check_1 ++ dktX0_check_2
def dkwX0_check_0 : List UInt8 := [42, 180, 1, 249, 61, 42, 3, 181, 1, 249, 27, 4, 16, 30, 184, 0, 114, 154, 0, 6, 18, 139, 172, 42]
abbrev dktX0_check_0 : List UInt8 := dkwX0_check_0 ++ dktX0_check_1
theorem dksX0_check_0 : cX0_check.data.toList.drop 0 = dktX0_check_0 := by decide +kernel
theorem dksX0_check_1 : cX0_check.data.toList.drop 24 = dktX0_check_1 := dk_seg dksX0_check_0 24 rfl rfl
theorem dksX0_check_2 : cX0_check.data.toList.drop 46 = dktX0_check_2 := dk_seg dksX0_check_1 22 rfl rfl
theorem dksX0_check_3 : cX0_check.data.toList.drop 69 = dktX0_check_3 := dk_seg dksX0_check_2 23 rfl rfl
theorem dksX0_check_4 : cX0_check.data.toList.drop 93 = dktX0_check_4 := dk_seg dksX0_check_3 24 rfl rfl
theorem dX0_check_0 : decode cX0_check 0 = .ok (.aload_n 0, 1) := dk_42 (dk_at dksX0_check_0 0 rfl rfl)
theorem dX0_check_1 : decode cX0_check 1 = .ok (.getfield 505, 3) := dk_180 1 249 (dk_at dksX0_check_0 1 rfl rfl)
theorem dX0_check_4 : decode cX0_check 4 = .ok (.istore_n 2, 1) := dk_61 (dk_at dksX0_check_0 4 rfl rfl)
theorem dX0_check_5 : decode cX0_check 5 = .ok (.aload_n 0, 1) := dk_42 (dk_at dksX0_check_0 5 rfl rfl)
theorem dX0_check_6 : decode cX0_check 6 = .ok (.iconst 0, 1) := dk_3 (dk_at dksX0_check_0 6 rfl rfl)
theorem dX0_check_7 : decode cX0_check 7 = .ok (.putfield 505, 3) := dk_181 1 249 (dk_at dksX0_check_0 7 rfl rfl)
theorem dX0_check_10 : decode cX0_check 10 = .ok (.iload_n 1, 1) := dk_27 (dk_at dksX0_check_0 10 rfl rfl)
theorem dX0_check_11 : decode cX0_check 11 = .ok (.iconst 1, 1) := dk_4 (dk_at dksX0_check_0 11 rfl rfl)
theorem dX0_check_12 : decode cX0_check 12 = .ok (.bipush 30, 2) := dk_16 30 (dk_at dksX0_check_0 12 rfl rfl)
theorem dX0_check_14 : decode cX0_check 14 = .ok (.invokestatic 114, 3) := dk_184 0 114 (dk_at dksX0_check_0 14 rfl rfl)
theorem dX0_check_17 : decode cX0_check 17 = .ok (.ifCond .ne 6, 3) := dk_154 0 6 (dk_at dksX0_check_0 17 rfl rfl)
theorem dX0_check_20 : decode cX0_check 20 = .ok (.ldc 139, 2) := dk_18 139 (dk_at dksX0_check_0 20 rfl rfl)
theorem dX0_check_22 : decode cX0_check 22 = .ok (.ireturn, 1) := dk_172 (dk_at dksX0_check_0 22 rfl rfl)
theorem dX0_check_23 : decode cX0_check 23 = .ok (.aload_n 0, 1) := dk_42 (dk_at dksX0_check_0 23 rfl rfl)
theorem dX0_check_24 : decode cX0_check 24 = .ok (.getfield 508, 3) := dk_180 1 252 (dk_at dksX0_check_1 0 rfl rfl)
theorem dX0_check_27 : decode cX0_check 27 = .ok (.ifCond .ne 7, 3) := dk_154 0 7 (dk_at dksX0_check_1 3 rfl rfl)
theorem dX0_check_30 : decode cX0_check 30 = .ok (.ldc_w 504, 3) := dk_19 1 248 (dk_at dksX0_check_1 6 rfl rfl)
theorem dX0_check_33 : decode cX0_check 33 = .ok (.ireturn, 1) := dk_172 (dk_at dksX0_check_1 9 rfl rfl)
theorem dX0_check_34 : decode cX0_check 34 = .ok (.aload_n 0, 1) := dk_42 (dk_at dksX0_check_1 10 rfl rfl)
theorem dX0_check_35 : decode cX0_check 35 = .ok (.iload_n 1, 1) := dk_27 (dk_at dksX0_check_1 11 rfl rfl)
theorem dX0_check_36 : decode cX0_check 36 = .ok (.invokevirtual 511, 3) := dk_182 1 255 (dk_at dksX0_check_1 12 rfl rfl)
theorem dX0_check_39 : decode cX0_check 39 = .ok (.istore_n 3, 1) := dk_62 (dk_at dksX0_check_1 15 rfl rfl)
theorem dX0_check_40 : decode cX0_check 40 = .ok (.iconst 0, 1) := dk_3 (dk_at dksX0_check_1 16 rfl rfl)
theorem dX0_check_41 : decode cX0_check 41 = .ok (.istore 4, 2) := dk_54 4 (dk_at dksX0_check_1 17 rfl rfl)
theorem dX0_check_43 : decode cX0_check 43 = .ok (.iload 4, 2) := dk_21 4 (dk_at dksX0_check_1 19 rfl rfl)
theorem dX0_check_45 : decode cX0_check 45 = .ok (.iload_n 2, 1) := dk_28 (dk_at dksX0_check_1 21 rfl rfl)
theorem dX0_check_46 : decode cX0_check 46 = .ok (.if_icmp .ge 40, 3) := dk_162 0 40 (dk_at dksX0_check_2 0 rfl rfl)
theorem dX0_check_49 : decode cX0_check 49 = .ok (.iload 4, 2) := dk_21 4 (dk_at dksX0_check_2 3 rfl rfl)
theorem dX0_check_51 : decode cX0_check 51 = .ok (.iload_n 3, 1) := dk_29 (dk_at dksX0_check_2 5 rfl rfl)
theorem dX0_check_52 : decode cX0_check 52 = .ok (.if_icmp .ge 23, 3) := dk_162 0 23 (dk_at dksX0_check_2 6 rfl rfl)
theorem dX0_check_55 : decode cX0_check 55 = .ok (.aload_n 0, 1) := dk_42 (dk_at dksX0_check_2 9 rfl rfl)
theorem dX0_check_56 : decode cX0_check 56 = .ok (.getfield 104, 3) := dk_180 0 104 (dk_at dksX0_check_2 10 rfl rfl)
theorem dX0_check_59 : decode cX0_check 59 = .ok (.iload 4, 2) := dk_21 4 (dk_at dksX0_check_2 13 rfl rfl)
theorem dX0_check_61 : decode cX0_check 61 = .ok (.iaload, 1) := dk_46 (dk_at dksX0_check_2 15 rfl rfl)
theorem dX0_check_62 : decode cX0_check 62 = .ok (.aload_n 0, 1) := dk_42 (dk_at dksX0_check_2 16 rfl rfl)
theorem dX0_check_63 : decode cX0_check 63 = .ok (.getfield 107, 3) := dk_180 0 107 (dk_at dksX0_check_2 17 rfl rfl)
theorem dX0_check_66 : decode cX0_check 66 = .ok (.iload 4, 2) := dk_21 4 (dk_at dksX0_check_2 20 rfl rfl)
theorem dX0_check_68 : decode cX0_check 68 = .ok (.iaload, 1) := dk_46 (dk_at dksX0_check_2 22 rfl rfl)
theorem dX0_check_69 : decode cX0_check 69 = .ok (.if_icmp .ne 6, 3) := dk_160 0 6 (dk_at dksX0_check_3 0 rfl rfl)
theorem dX0_check_72 : decode cX0_check 72 = .ok (.goto 8, 3) := dk_167 0 8 (dk_at dksX0_check_3 3 rfl rfl)
theorem dX0_check_75 : decode cX0_check 75 = .ok (.iconst 1, 1) := dk_4 (dk_at dksX0_check_3 6 rfl rfl)
theorem dX0_check_76 : decode cX0_check 76 = .ok (.iload 4, 2) := dk_21 4 (dk_at dksX0_check_3 7 rfl rfl)
theorem dX0_check_78 : decode cX0_check 78 = .ok (.iadd, 1) := dk_96 (dk_at dksX0_check_3 9 rfl rfl)
theorem dX0_check_79 : decode cX0_check 79 = .ok (.ireturn, 1) := dk_172 (dk_at dksX0_check_3 10 rfl rfl)
theorem dX0_check_80 : decode cX0_check 80 = .ok (.iinc 4 1, 3) := dk_132 4 1 (dk_at dksX0_check_3 11 rfl rfl)
theorem dX0_check_83 : decode cX0_check 83 = .ok (.goto (-40), 3) := dk_167 255 216 (dk_at dksX0_check_3 14 rfl rfl)
theorem dX0_check_86 : decode cX0_check 86 = .ok (.iload_n 2, 1) := dk_28 (dk_at dksX0_check_3 17 rfl rfl)
theorem dX0_check_87 : decode cX0_check 87 = .ok (.iload_n 3, 1) := dk_29 (dk_at dksX0_check_3 18 rfl rfl)
theorem dX0_check_88 : decode cX0_check 88 = .ok (.if_icmp .ge 9, 3) := dk_162 0 9 (dk_at dksX0_check_3 19 rfl rfl)
theorem dX0_check_91 : decode cX0_check 91 = .ok (.iconst 1, 1) := dk_4 (dk_at dksX0_check_3 22 rfl rfl)
theorem dX0_check_92 : decode cX0_check 92 = .ok (.iload_n 2, 1) := dk_28 (dk_at dksX0_check_3 23 rfl rfl)
theorem dX0_check_93 : decode cX0_check 93 = .ok (.iadd, 1) := dk_96 (dk_at dksX0_check_4 0 rfl rfl)
theorem dX0_check_94 : decode cX0_check 94 = .ok (.goto 4, 3) := dk_167 0 4 (dk_at dksX0_check_4 1 rfl rfl)
theorem dX0_check_97 : decode cX0_check 97 = .ok (.iconst 0, 1) := dk_3 (dk_at dksX0_check_4 4 rfl rfl)
theorem dX0_check_98 : decode cX0_check 98 = .ok (.ireturn, 1) := dk_172 (dk_at dksX0_check_4 5 rfl rfl)
abbrev cX0_rowsOfTides : ByteArray := prog_1_method_95_code
def yX0_rowsOfTides : MethodName := ⟨RX0, "rowsOfTides", "(I)I"⟩
def dkwX0_rowsOfTides_4 : List UInt8 := [182, 1, 154, 5, 28, 104, 172]
abbrev dktX0_rowsOfTides_4 : List UInt8 := dkwX0_rowsOfTides_4 ++ []
def dkwX0_rowsOfTides_3 : List UInt8 := [180, 0, 52, 182, 1, 120, 184, 1, 122, 79, 132, 2, 1, 167, 255, 196, 42, 180, 0, 52, 42, 180, 0, 59]
abbrev dktX0_rowsOfTides_3 : List UInt8 := dkwX0_rowsOfTides_3 ++ dktX0_rowsOfTides_4
def dkwX0_rowsOfTides_2 : List UInt8 := [180, 0, 107, 5, 28, 104, 42, 180, 0, 52, 182, 1, 152, 79, 42, 180, 0, 107, 5, 28, 104, 4, 96, 42]
abbrev dktX0_rowsOfTides_2 : List UInt8 := dkwX0_rowsOfTides_2 ++ dktX0_rowsOfTides_3
def dkwX0_rowsOfTides_1 : List UInt8 := [28, 27, 162, 0, 61, 42, 180, 0, 52, 180, 1, 143, 17, 39, 15, 162, 0, 48, 42, 182, 1, 146, 42]
abbrev dktX0_rowsOfTides_1 : List UInt8 := dkwX0_rowsOfTides_1 ++ dktX0_rowsOfTides_2
def dkwX0_rowsOfTides_0 : List UInt8 := [42, 180, 0, 59, 42, 180, 0, 52, 182, 1, 154, 42, 180, 0, 52, 42, 180, 0, 56, 182, 1, 154, 3, 61]
abbrev dktX0_rowsOfTides_0 : List UInt8 := dkwX0_rowsOfTides_0 ++ dktX0_rowsOfTides_1
theorem dksX0_rowsOfTides_0 : cX0_rowsOfTides.data.toList.drop 0 = dktX0_rowsOfTides_0 := by decide +kernel
theorem dksX0_rowsOfTides_1 : cX0_rowsOfTides.data.toList.drop 24 = dktX0_rowsOfTides_1 := dk_seg dksX0_rowsOfTides_0 24 rfl rfl
theorem dksX0_rowsOfTides_2 : cX0_rowsOfTides.data.toList.drop 47 = dktX0_rowsOfTides_2 := dk_seg dksX0_rowsOfTides_1 23 rfl rfl
theorem dksX0_rowsOfTides_3 : cX0_rowsOfTides.data.toList.drop 71 = dktX0_rowsOfTides_3 := dk_seg dksX0_rowsOfTides_2 24 rfl rfl
theorem dksX0_rowsOfTides_4 : cX0_rowsOfTides.data.toList.drop 95 = dktX0_rowsOfTides_4 := dk_seg dksX0_rowsOfTides_3 24 rfl rfl
theorem dX0_rowsOfTides_0 : decode cX0_rowsOfTides 0 = .ok (.aload_n 0, 1) := dk_42 (dk_at dksX0_rowsOfTides_0 0 rfl rfl)
theorem dX0_rowsOfTides_1 : decode cX0_rowsOfTides 1 = .ok (.getfield 59, 3) := dk_180 0 59 (dk_at dksX0_rowsOfTides_0 1 rfl rfl)
theorem dX0_rowsOfTides_4 : decode cX0_rowsOfTides 4 = .ok (.aload_n 0, 1) := dk_42 (dk_at dksX0_rowsOfTides_0 4 rfl rfl)
theorem dX0_rowsOfTides_5 : decode cX0_rowsOfTides 5 = .ok (.getfield 52, 3) := dk_180 0 52 (dk_at dksX0_rowsOfTides_0 5 rfl rfl)
theorem dX0_rowsOfTides_8 : decode cX0_rowsOfTides 8 = .ok (.invokevirtual 410, 3) := dk_182 1 154 (dk_at dksX0_rowsOfTides_0 8 rfl rfl)
theorem dX0_rowsOfTides_11 : decode cX0_rowsOfTides 11 = .ok (.aload_n 0, 1) := dk_42 (dk_at dksX0_rowsOfTides_0 11 rfl rfl)
theorem dX0_rowsOfTides_12 : decode cX0_rowsOfTides 12 = .ok (.getfield 52, 3) := dk_180 0 52 (dk_at dksX0_rowsOfTides_0 12 rfl rfl)
theorem dX0_rowsOfTides_15 : decode cX0_rowsOfTides 15 = .ok (.aload_n 0, 1) := dk_42 (dk_at dksX0_rowsOfTides_0 15 rfl rfl)
theorem dX0_rowsOfTides_16 : decode cX0_rowsOfTides 16 = .ok (.getfield 56, 3) := dk_180 0 56 (dk_at dksX0_rowsOfTides_0 16 rfl rfl)
theorem dX0_rowsOfTides_19 : decode cX0_rowsOfTides 19 = .ok (.invokevirtual 410, 3) := dk_182 1 154 (dk_at dksX0_rowsOfTides_0 19 rfl rfl)
theorem dX0_rowsOfTides_22 : decode cX0_rowsOfTides 22 = .ok (.iconst 0, 1) := dk_3 (dk_at dksX0_rowsOfTides_0 22 rfl rfl)
theorem dX0_rowsOfTides_23 : decode cX0_rowsOfTides 23 = .ok (.istore_n 2, 1) := dk_61 (dk_at dksX0_rowsOfTides_0 23 rfl rfl)
theorem dX0_rowsOfTides_24 : decode cX0_rowsOfTides 24 = .ok (.iload_n 2, 1) := dk_28 (dk_at dksX0_rowsOfTides_1 0 rfl rfl)
theorem dX0_rowsOfTides_25 : decode cX0_rowsOfTides 25 = .ok (.iload_n 1, 1) := dk_27 (dk_at dksX0_rowsOfTides_1 1 rfl rfl)
theorem dX0_rowsOfTides_26 : decode cX0_rowsOfTides 26 = .ok (.if_icmp .ge 61, 3) := dk_162 0 61 (dk_at dksX0_rowsOfTides_1 2 rfl rfl)
theorem dX0_rowsOfTides_29 : decode cX0_rowsOfTides 29 = .ok (.aload_n 0, 1) := dk_42 (dk_at dksX0_rowsOfTides_1 5 rfl rfl)
theorem dX0_rowsOfTides_30 : decode cX0_rowsOfTides 30 = .ok (.getfield 52, 3) := dk_180 0 52 (dk_at dksX0_rowsOfTides_1 6 rfl rfl)
theorem dX0_rowsOfTides_33 : decode cX0_rowsOfTides 33 = .ok (.getfield 399, 3) := dk_180 1 143 (dk_at dksX0_rowsOfTides_1 9 rfl rfl)
theorem dX0_rowsOfTides_36 : decode cX0_rowsOfTides 36 = .ok (.sipush 9999, 3) := dk_17 39 15 (dk_at dksX0_rowsOfTides_1 12 rfl rfl)
theorem dX0_rowsOfTides_39 : decode cX0_rowsOfTides 39 = .ok (.if_icmp .ge 48, 3) := dk_162 0 48 (dk_at dksX0_rowsOfTides_1 15 rfl rfl)
theorem dX0_rowsOfTides_42 : decode cX0_rowsOfTides 42 = .ok (.aload_n 0, 1) := dk_42 (dk_at dksX0_rowsOfTides_1 18 rfl rfl)
theorem dX0_rowsOfTides_43 : decode cX0_rowsOfTides 43 = .ok (.invokevirtual 402, 3) := dk_182 1 146 (dk_at dksX0_rowsOfTides_1 19 rfl rfl)
theorem dX0_rowsOfTides_46 : decode cX0_rowsOfTides 46 = .ok (.aload_n 0, 1) := dk_42 (dk_at dksX0_rowsOfTides_1 22 rfl rfl)
theorem dX0_rowsOfTides_47 : decode cX0_rowsOfTides 47 = .ok (.getfield 107, 3) := dk_180 0 107 (dk_at dksX0_rowsOfTides_2 0 rfl rfl)
theorem dX0_rowsOfTides_50 : decode cX0_rowsOfTides 50 = .ok (.iconst 2, 1) := dk_5 (dk_at dksX0_rowsOfTides_2 3 rfl rfl)
theorem dX0_rowsOfTides_51 : decode cX0_rowsOfTides 51 = .ok (.iload_n 2, 1) := dk_28 (dk_at dksX0_rowsOfTides_2 4 rfl rfl)
theorem dX0_rowsOfTides_52 : decode cX0_rowsOfTides 52 = .ok (.imul, 1) := dk_104 (dk_at dksX0_rowsOfTides_2 5 rfl rfl)
theorem dX0_rowsOfTides_53 : decode cX0_rowsOfTides 53 = .ok (.aload_n 0, 1) := dk_42 (dk_at dksX0_rowsOfTides_2 6 rfl rfl)
theorem dX0_rowsOfTides_54 : decode cX0_rowsOfTides 54 = .ok (.getfield 52, 3) := dk_180 0 52 (dk_at dksX0_rowsOfTides_2 7 rfl rfl)
theorem dX0_rowsOfTides_57 : decode cX0_rowsOfTides 57 = .ok (.invokevirtual 408, 3) := dk_182 1 152 (dk_at dksX0_rowsOfTides_2 10 rfl rfl)
theorem dX0_rowsOfTides_60 : decode cX0_rowsOfTides 60 = .ok (.iastore, 1) := dk_79 (dk_at dksX0_rowsOfTides_2 13 rfl rfl)
theorem dX0_rowsOfTides_61 : decode cX0_rowsOfTides 61 = .ok (.aload_n 0, 1) := dk_42 (dk_at dksX0_rowsOfTides_2 14 rfl rfl)
theorem dX0_rowsOfTides_62 : decode cX0_rowsOfTides 62 = .ok (.getfield 107, 3) := dk_180 0 107 (dk_at dksX0_rowsOfTides_2 15 rfl rfl)
theorem dX0_rowsOfTides_65 : decode cX0_rowsOfTides 65 = .ok (.iconst 2, 1) := dk_5 (dk_at dksX0_rowsOfTides_2 18 rfl rfl)
theorem dX0_rowsOfTides_66 : decode cX0_rowsOfTides 66 = .ok (.iload_n 2, 1) := dk_28 (dk_at dksX0_rowsOfTides_2 19 rfl rfl)
theorem dX0_rowsOfTides_67 : decode cX0_rowsOfTides 67 = .ok (.imul, 1) := dk_104 (dk_at dksX0_rowsOfTides_2 20 rfl rfl)
theorem dX0_rowsOfTides_68 : decode cX0_rowsOfTides 68 = .ok (.iconst 1, 1) := dk_4 (dk_at dksX0_rowsOfTides_2 21 rfl rfl)
theorem dX0_rowsOfTides_69 : decode cX0_rowsOfTides 69 = .ok (.iadd, 1) := dk_96 (dk_at dksX0_rowsOfTides_2 22 rfl rfl)
theorem dX0_rowsOfTides_70 : decode cX0_rowsOfTides 70 = .ok (.aload_n 0, 1) := dk_42 (dk_at dksX0_rowsOfTides_2 23 rfl rfl)
theorem dX0_rowsOfTides_71 : decode cX0_rowsOfTides 71 = .ok (.getfield 52, 3) := dk_180 0 52 (dk_at dksX0_rowsOfTides_3 0 rfl rfl)
theorem dX0_rowsOfTides_74 : decode cX0_rowsOfTides 74 = .ok (.invokevirtual 376, 3) := dk_182 1 120 (dk_at dksX0_rowsOfTides_3 3 rfl rfl)
theorem dX0_rowsOfTides_77 : decode cX0_rowsOfTides 77 = .ok (.invokestatic 378, 3) := dk_184 1 122 (dk_at dksX0_rowsOfTides_3 6 rfl rfl)
theorem dX0_rowsOfTides_80 : decode cX0_rowsOfTides 80 = .ok (.iastore, 1) := dk_79 (dk_at dksX0_rowsOfTides_3 9 rfl rfl)
theorem dX0_rowsOfTides_81 : decode cX0_rowsOfTides 81 = .ok (.iinc 2 1, 3) := dk_132 2 1 (dk_at dksX0_rowsOfTides_3 10 rfl rfl)
theorem dX0_rowsOfTides_84 : decode cX0_rowsOfTides 84 = .ok (.goto (-60), 3) := dk_167 255 196 (dk_at dksX0_rowsOfTides_3 13 rfl rfl)
theorem dX0_rowsOfTides_87 : decode cX0_rowsOfTides 87 = .ok (.aload_n 0, 1) := dk_42 (dk_at dksX0_rowsOfTides_3 16 rfl rfl)
theorem dX0_rowsOfTides_88 : decode cX0_rowsOfTides 88 = .ok (.getfield 52, 3) := dk_180 0 52 (dk_at dksX0_rowsOfTides_3 17 rfl rfl)
theorem dX0_rowsOfTides_91 : decode cX0_rowsOfTides 91 = .ok (.aload_n 0, 1) := dk_42 (dk_at dksX0_rowsOfTides_3 20 rfl rfl)
theorem dX0_rowsOfTides_92 : decode cX0_rowsOfTides 92 = .ok (.getfield 59, 3) := dk_180 0 59 (dk_at dksX0_rowsOfTides_3 21 rfl rfl)
theorem dX0_rowsOfTides_95 : decode cX0_rowsOfTides 95 = .ok (.invokevirtual 410, 3) := dk_182 1 154 (dk_at dksX0_rowsOfTides_4 0 rfl rfl)
theorem dX0_rowsOfTides_98 : decode cX0_rowsOfTides 98 = .ok (.iconst 2, 1) := dk_5 (dk_at dksX0_rowsOfTides_4 3 rfl rfl)
theorem dX0_rowsOfTides_99 : decode cX0_rowsOfTides 99 = .ok (.iload_n 2, 1) := dk_28 (dk_at dksX0_rowsOfTides_4 4 rfl rfl)
theorem dX0_rowsOfTides_100 : decode cX0_rowsOfTides 100 = .ok (.imul, 1) := dk_104 (dk_at dksX0_rowsOfTides_4 5 rfl rfl)
theorem dX0_rowsOfTides_101 : decode cX0_rowsOfTides 101 = .ok (.ireturn, 1) := dk_172 (dk_at dksX0_rowsOfTides_4 6 rfl rfl)
abbrev cX0_keep : ByteArray := prog_1_method_97_code
def yX0_keep : MethodName := ⟨RX0, "keep", "()I"⟩
def dkwX0_keep_0 : List UInt8 := [42, 180, 0, 56, 42, 180, 0, 52, 182, 1, 154, 42, 4, 181, 1, 252, 42, 180, 0, 52, 180, 0, 110, 172]
abbrev dktX0_keep_0 : List UInt8 := dkwX0_keep_0 ++ []
theorem dksX0_keep_0 : cX0_keep.data.toList.drop 0 = dktX0_keep_0 := by decide +kernel
theorem dX0_keep_0 : decode cX0_keep 0 = .ok (.aload_n 0, 1) := dk_42 (dk_at dksX0_keep_0 0 rfl rfl)
theorem dX0_keep_1 : decode cX0_keep 1 = .ok (.getfield 56, 3) := dk_180 0 56 (dk_at dksX0_keep_0 1 rfl rfl)
theorem dX0_keep_4 : decode cX0_keep 4 = .ok (.aload_n 0, 1) := dk_42 (dk_at dksX0_keep_0 4 rfl rfl)
theorem dX0_keep_5 : decode cX0_keep 5 = .ok (.getfield 52, 3) := dk_180 0 52 (dk_at dksX0_keep_0 5 rfl rfl)
theorem dX0_keep_8 : decode cX0_keep 8 = .ok (.invokevirtual 410, 3) := dk_182 1 154 (dk_at dksX0_keep_0 8 rfl rfl)
theorem dX0_keep_11 : decode cX0_keep 11 = .ok (.aload_n 0, 1) := dk_42 (dk_at dksX0_keep_0 11 rfl rfl)
theorem dX0_keep_12 : decode cX0_keep 12 = .ok (.iconst 1, 1) := dk_4 (dk_at dksX0_keep_0 12 rfl rfl)
theorem dX0_keep_13 : decode cX0_keep 13 = .ok (.putfield 508, 3) := dk_181 1 252 (dk_at dksX0_keep_0 13 rfl rfl)
theorem dX0_keep_16 : decode cX0_keep 16 = .ok (.aload_n 0, 1) := dk_42 (dk_at dksX0_keep_0 16 rfl rfl)
theorem dX0_keep_17 : decode cX0_keep 17 = .ok (.getfield 52, 3) := dk_180 0 52 (dk_at dksX0_keep_0 17 rfl rfl)
theorem dX0_keep_20 : decode cX0_keep 20 = .ok (.getfield 110, 3) := dk_180 0 110 (dk_at dksX0_keep_0 20 rfl rfl)
theorem dX0_keep_23 : decode cX0_keep 23 = .ok (.ireturn, 1) := dk_172 (dk_at dksX0_keep_0 23 rfl rfl)
abbrev cX0_back : ByteArray := prog_1_method_98_code
def yX0_back : MethodName := ⟨RX0, "back", "()I"⟩
def dkwX0_back_1 : List UInt8 := [180, 0, 52, 180, 0, 110, 172]
abbrev dktX0_back_1 : List UInt8 := dkwX0_back_1 ++ []
def dkwX0_back_0 : List UInt8 := [42, 180, 1, 252, 154, 0, 7, 19, 1, 248, 172, 42, 180, 0, 52, 42, 180, 0, 56, 182, 1, 154, 42]
abbrev dktX0_back_0 : List UInt8 := dkwX0_back_0 ++ dktX0_back_1
theorem dksX0_back_0 : cX0_back.data.toList.drop 0 = dktX0_back_0 := by decide +kernel
theorem dksX0_back_1 : cX0_back.data.toList.drop 23 = dktX0_back_1 := dk_seg dksX0_back_0 23 rfl rfl
theorem dX0_back_0 : decode cX0_back 0 = .ok (.aload_n 0, 1) := dk_42 (dk_at dksX0_back_0 0 rfl rfl)
theorem dX0_back_1 : decode cX0_back 1 = .ok (.getfield 508, 3) := dk_180 1 252 (dk_at dksX0_back_0 1 rfl rfl)
theorem dX0_back_4 : decode cX0_back 4 = .ok (.ifCond .ne 7, 3) := dk_154 0 7 (dk_at dksX0_back_0 4 rfl rfl)
theorem dX0_back_7 : decode cX0_back 7 = .ok (.ldc_w 504, 3) := dk_19 1 248 (dk_at dksX0_back_0 7 rfl rfl)
theorem dX0_back_10 : decode cX0_back 10 = .ok (.ireturn, 1) := dk_172 (dk_at dksX0_back_0 10 rfl rfl)
theorem dX0_back_11 : decode cX0_back 11 = .ok (.aload_n 0, 1) := dk_42 (dk_at dksX0_back_0 11 rfl rfl)
theorem dX0_back_12 : decode cX0_back 12 = .ok (.getfield 52, 3) := dk_180 0 52 (dk_at dksX0_back_0 12 rfl rfl)
theorem dX0_back_15 : decode cX0_back 15 = .ok (.aload_n 0, 1) := dk_42 (dk_at dksX0_back_0 15 rfl rfl)
theorem dX0_back_16 : decode cX0_back 16 = .ok (.getfield 56, 3) := dk_180 0 56 (dk_at dksX0_back_0 16 rfl rfl)
theorem dX0_back_19 : decode cX0_back 19 = .ok (.invokevirtual 410, 3) := dk_182 1 154 (dk_at dksX0_back_0 19 rfl rfl)
theorem dX0_back_22 : decode cX0_back 22 = .ok (.aload_n 0, 1) := dk_42 (dk_at dksX0_back_0 22 rfl rfl)
theorem dX0_back_23 : decode cX0_back 23 = .ok (.getfield 52, 3) := dk_180 0 52 (dk_at dksX0_back_1 0 rfl rfl)
theorem dX0_back_26 : decode cX0_back 26 = .ok (.getfield 110, 3) := dk_180 0 110 (dk_at dksX0_back_1 3 rfl rfl)
theorem dX0_back_29 : decode cX0_back 29 = .ok (.ireturn, 1) := dk_172 (dk_at dksX0_back_1 6 rfl rfl)
abbrev cX0_count : ByteArray := prog_1_method_99_code
def yX0_count : MethodName := ⟨RX0, "count", "(I)I"⟩
def dkwX0_count_4 : List UInt8 := [180, 0, 52, 180, 1, 99, 172, 18, 139, 172]
abbrev dktX0_count_4 : List UInt8 := dkwX0_count_4 ++ []
def dkwX0_count_3 : List UInt8 := [184, 1, 122, 172, 42, 180, 0, 52, 180, 0, 246, 172, 42, 180, 1, 249, 172, 42, 180, 0, 131, 172, 42]
abbrev dktX0_count_3 : List UInt8 := dkwX0_count_3 ++ dktX0_count_4
def dkwX0_count_2 : List UInt8 := [42, 180, 0, 52, 180, 0, 110, 172, 42, 180, 0, 52, 180, 1, 143, 172, 42, 180, 0, 52, 182, 1, 120]
abbrev dktX0_count_2 : List UInt8 := dkwX0_count_2 ++ dktX0_count_3
def dkwX0_count_1 : List UInt8 := [170, 0, 0, 0, 0, 0, 96, 0, 0, 0, 0, 0, 0, 0, 6, 0, 0, 0, 43, 0, 0, 0, 51, 0, 0, 0, 59, 0, 0, 0, 70, 0, 0, 0, 78, 0, 0, 0, 83, 0, 0, 0, 88]
abbrev dktX0_count_1 : List UInt8 := dkwX0_count_1 ++ dktX0_count_2
def dkwX0_count_0 : List UInt8 := [27]
abbrev dktX0_count_0 : List UInt8 := dkwX0_count_0 ++ dktX0_count_1
theorem dksX0_count_0 : cX0_count.data.toList.drop 0 = dktX0_count_0 := by decide +kernel
theorem dksX0_count_1 : cX0_count.data.toList.drop 1 = dktX0_count_1 := dk_seg dksX0_count_0 1 rfl rfl
theorem dksX0_count_2 : cX0_count.data.toList.drop 44 = dktX0_count_2 := dk_seg dksX0_count_1 43 rfl rfl
theorem dksX0_count_3 : cX0_count.data.toList.drop 67 = dktX0_count_3 := dk_seg dksX0_count_2 23 rfl rfl
theorem dksX0_count_4 : cX0_count.data.toList.drop 90 = dktX0_count_4 := dk_seg dksX0_count_3 23 rfl rfl
theorem dX0_count_0 : decode cX0_count 0 = .ok (.iload_n 1, 1) := dk_27 (dk_at dksX0_count_0 0 rfl rfl)
theorem dX0_count_1 : decode cX0_count 1 = .ok (.tableswitch 96 0 6 #[43, 51, 59, 70, 78, 83, 88], 43) := by decide +kernel
theorem dX0_count_44 : decode cX0_count 44 = .ok (.aload_n 0, 1) := dk_42 (dk_at dksX0_count_2 0 rfl rfl)
theorem dX0_count_45 : decode cX0_count 45 = .ok (.getfield 52, 3) := dk_180 0 52 (dk_at dksX0_count_2 1 rfl rfl)
theorem dX0_count_48 : decode cX0_count 48 = .ok (.getfield 110, 3) := dk_180 0 110 (dk_at dksX0_count_2 4 rfl rfl)
theorem dX0_count_51 : decode cX0_count 51 = .ok (.ireturn, 1) := dk_172 (dk_at dksX0_count_2 7 rfl rfl)
theorem dX0_count_52 : decode cX0_count 52 = .ok (.aload_n 0, 1) := dk_42 (dk_at dksX0_count_2 8 rfl rfl)
theorem dX0_count_53 : decode cX0_count 53 = .ok (.getfield 52, 3) := dk_180 0 52 (dk_at dksX0_count_2 9 rfl rfl)
theorem dX0_count_56 : decode cX0_count 56 = .ok (.getfield 399, 3) := dk_180 1 143 (dk_at dksX0_count_2 12 rfl rfl)
theorem dX0_count_59 : decode cX0_count 59 = .ok (.ireturn, 1) := dk_172 (dk_at dksX0_count_2 15 rfl rfl)
theorem dX0_count_60 : decode cX0_count 60 = .ok (.aload_n 0, 1) := dk_42 (dk_at dksX0_count_2 16 rfl rfl)
theorem dX0_count_61 : decode cX0_count 61 = .ok (.getfield 52, 3) := dk_180 0 52 (dk_at dksX0_count_2 17 rfl rfl)
theorem dX0_count_64 : decode cX0_count 64 = .ok (.invokevirtual 376, 3) := dk_182 1 120 (dk_at dksX0_count_2 20 rfl rfl)
theorem dX0_count_67 : decode cX0_count 67 = .ok (.invokestatic 378, 3) := dk_184 1 122 (dk_at dksX0_count_3 0 rfl rfl)
theorem dX0_count_70 : decode cX0_count 70 = .ok (.ireturn, 1) := dk_172 (dk_at dksX0_count_3 3 rfl rfl)
theorem dX0_count_71 : decode cX0_count 71 = .ok (.aload_n 0, 1) := dk_42 (dk_at dksX0_count_3 4 rfl rfl)
theorem dX0_count_72 : decode cX0_count 72 = .ok (.getfield 52, 3) := dk_180 0 52 (dk_at dksX0_count_3 5 rfl rfl)
theorem dX0_count_75 : decode cX0_count 75 = .ok (.getfield 246, 3) := dk_180 0 246 (dk_at dksX0_count_3 8 rfl rfl)
theorem dX0_count_78 : decode cX0_count 78 = .ok (.ireturn, 1) := dk_172 (dk_at dksX0_count_3 11 rfl rfl)
theorem dX0_count_79 : decode cX0_count 79 = .ok (.aload_n 0, 1) := dk_42 (dk_at dksX0_count_3 12 rfl rfl)
theorem dX0_count_80 : decode cX0_count 80 = .ok (.getfield 505, 3) := dk_180 1 249 (dk_at dksX0_count_3 13 rfl rfl)
theorem dX0_count_83 : decode cX0_count 83 = .ok (.ireturn, 1) := dk_172 (dk_at dksX0_count_3 16 rfl rfl)
theorem dX0_count_84 : decode cX0_count 84 = .ok (.aload_n 0, 1) := dk_42 (dk_at dksX0_count_3 17 rfl rfl)
theorem dX0_count_85 : decode cX0_count 85 = .ok (.getfield 131, 3) := dk_180 0 131 (dk_at dksX0_count_3 18 rfl rfl)
theorem dX0_count_88 : decode cX0_count 88 = .ok (.ireturn, 1) := dk_172 (dk_at dksX0_count_3 21 rfl rfl)
theorem dX0_count_89 : decode cX0_count 89 = .ok (.aload_n 0, 1) := dk_42 (dk_at dksX0_count_3 22 rfl rfl)
theorem dX0_count_90 : decode cX0_count 90 = .ok (.getfield 52, 3) := dk_180 0 52 (dk_at dksX0_count_4 0 rfl rfl)
theorem dX0_count_93 : decode cX0_count 93 = .ok (.getfield 355, 3) := dk_180 1 99 (dk_at dksX0_count_4 3 rfl rfl)
theorem dX0_count_96 : decode cX0_count 96 = .ok (.ireturn, 1) := dk_172 (dk_at dksX0_count_4 6 rfl rfl)
theorem dX0_count_97 : decode cX0_count 97 = .ok (.ldc 139, 2) := dk_18 139 (dk_at dksX0_count_4 7 rfl rfl)
theorem dX0_count_99 : decode cX0_count 99 = .ok (.ireturn, 1) := dk_172 (dk_at dksX0_count_4 9 rfl rfl)
theorem q81 : (Jvm.Cond.initialized "StoneSheets") ∈ lw_all := lw_g (lw_at lw_m1 1 rfl) rfl
theorem q109 : (Jvm.Cond.instantiable "StoneSheets" (24 : Nat)) ∈ lw_all := lw_g (lw_at lw_m1 29 rfl) rfl
theorem q111 : (Jvm.Cond.instanceMethod ({ cls := "StoneSheets", name := "<init>", desc := "()V" } : Jvm.MethodName)) ∈ lw_all := lw_g (lw_at lw_m1 31 rfl) rfl
theorem q112 : (Jvm.Cond.code ({ cls := "StoneSheets", name := "<init>", desc := "()V" } : Jvm.MethodName) prog_1_method_7_code (1 : Nat) (Option.none : Option Jvm.ClassFile.FieldType)) ∈ lw_all := lw_g (lw_at lw_m1 32 rfl) rfl
theorem q113 : (Jvm.Cond.methodLink "StoneSheets" (46 : Nat) ({ cls := "java/lang/Object", name := "<init>", desc := "()V" } : Jvm.MethodName)) ∈ lw_all := lw_g (lw_at lw_m1 33 rfl) rfl
theorem q116 : (Jvm.Cond.classLink "StoneSheets" (49 : Nat) "StoneSheets$State") ∈ lw_all := lw_g (lw_at lw_m1 36 rfl) rfl
theorem q118 : (Jvm.Cond.methodLinkNest "StoneSheets" (51 : Nat) ({ cls := "StoneSheets$State", name := "<init>", desc := "()V" } : Jvm.MethodName) "StoneSheets") ∈ lw_tbl := lw_at lw_m1 38 rfl
theorem q127 : (Jvm.Cond.fieldLinkNest "StoneSheets" (355 : Nat) "StoneSheets$State" "z" "I" "StoneSheets") ∈ lw_tbl := lw_at lw_m1 47 rfl
theorem q129 : (Jvm.Cond.fieldLinkNest "StoneSheets" (110 : Nat) "StoneSheets$State" "many" "I" "StoneSheets") ∈ lw_tbl := lw_at lw_m1 49 rfl
theorem q131 : (Jvm.Cond.fieldLinkNest "StoneSheets" (262 : Nat) "StoneSheets$State" "rubbing" "[LStoneSheets$Rubbing;" "StoneSheets") ∈ lw_tbl := lw_at lw_m1 51 rfl
theorem q133 : (Jvm.Cond.fieldLinkNest "StoneSheets" (345 : Nat) "StoneSheets$State" "wall" "[I" "StoneSheets") ∈ lw_tbl := lw_at lw_m1 53 rfl
theorem q135 : (Jvm.Cond.fieldLinkNest "StoneSheets" (396 : Nat) "StoneSheets$State" "found" "I" "StoneSheets") ∈ lw_tbl := lw_at lw_m1 55 rfl
theorem q137 : (Jvm.Cond.fieldLinkNest "StoneSheets" (399 : Nat) "StoneSheets$State" "tide" "I" "StoneSheets") ∈ lw_tbl := lw_at lw_m1 57 rfl
theorem q139 : (Jvm.Cond.fieldLinkNest "StoneSheets" (246 : Nat) "StoneSheets$State" "texts" "I" "StoneSheets") ∈ lw_tbl := lw_at lw_m1 59 rfl
theorem q141 : (Jvm.Cond.fieldLinkNest "StoneSheets" (249 : Nat) "StoneSheets$State" "text" "[LStoneSheets$Text;" "StoneSheets") ∈ lw_tbl := lw_at lw_m1 61 rfl
theorem q160 : (Jvm.Cond.classLink "StoneSheets" (73 : Nat) "StoneSheets$Fault") ∈ lw_all := lw_g (lw_at lw_m1 80 rfl) rfl
theorem q201 : (Jvm.Cond.methodLinkNest "StoneSheets" (75 : Nat) ({ cls := "StoneSheets$Fault", name := "<init>", desc := "()V" } : Jvm.MethodName) "StoneSheets") ∈ lw_tbl := lw_at lw_m1 121 rfl
theorem q211 : (Jvm.Cond.fieldLinkNest "StoneSheets" (143 : Nat) "StoneSheets$Fault" "place" "I" "StoneSheets") ∈ lw_tbl := lw_at lw_m1 131 rfl
theorem q228 : (Jvm.Cond.classLink "StoneSheets" (86 : Nat) "StoneSheets$Sheet") ∈ lw_all := lw_g (lw_at lw_m1 148 rfl) rfl
theorem q231 : (Jvm.Cond.methodLinkNest "StoneSheets" (88 : Nat) ({ cls := "StoneSheets$Sheet", name := "<init>", desc := "()V" } : Jvm.MethodName) "StoneSheets") ∈ lw_tbl := lw_at lw_m1 151 rfl
theorem q236 : (Jvm.Cond.fieldLinkNest "StoneSheets" (423 : Nat) "StoneSheets$Sheet" "row" "Ljava/lang/Object;" "StoneSheets") ∈ lw_tbl := lw_at lw_m1 156 rfl
theorem q240 : (Jvm.Cond.classLink "StoneSheets" (93 : Nat) "StoneSheets$Slot") ∈ lw_all := lw_g (lw_at lw_m1 160 rfl) rfl
theorem q243 : (Jvm.Cond.methodLinkNest "StoneSheets" (95 : Nat) ({ cls := "StoneSheets$Slot", name := "<init>", desc := "()V" } : Jvm.MethodName) "StoneSheets") ∈ lw_tbl := lw_at lw_m1 163 rfl
theorem q248 : (Jvm.Cond.fieldLinkNest "StoneSheets" (495 : Nat) "StoneSheets$Slot" "held" "Ljava/lang/Object;" "StoneSheets") ∈ lw_tbl := lw_at lw_m1 168 rfl
theorem q252 : (Jvm.Cond.fieldLink "StoneSheets" (52 : Nat) "StoneSheets" "now" "LStoneSheets$State;") ∈ lw_all := lw_g (lw_at lw_m1 172 rfl) rfl
theorem q253 : (Jvm.Cond.fieldLink "StoneSheets" (56 : Nat) "StoneSheets" "image" "LStoneSheets$State;") ∈ lw_all := lw_g (lw_at lw_m1 173 rfl) rfl
theorem q254 : (Jvm.Cond.fieldLink "StoneSheets" (59 : Nat) "StoneSheets" "aside" "LStoneSheets$State;") ∈ lw_all := lw_g (lw_at lw_m1 174 rfl) rfl
theorem q255 : (Jvm.Cond.fieldLink "StoneSheets" (62 : Nat) "StoneSheets" "before" "LStoneSheets$State;") ∈ lw_all := lw_g (lw_at lw_m1 175 rfl) rfl
theorem q256 : (Jvm.Cond.fieldLink "StoneSheets" (508 : Nat) "StoneSheets" "hasImage" "Z") ∈ lw_all := lw_g (lw_at lw_m1 176 rfl) rfl
theorem q257 : (Jvm.Cond.fieldLink "StoneSheets" (65 : Nat) "StoneSheets" "pile" "[I") ∈ lw_all := lw_g (lw_at lw_m1 177 rfl) rfl
theorem q258 : (Jvm.Cond.fieldLink "StoneSheets" (69 : Nat) "StoneSheets" "tape" "[B") ∈ lw_all := lw_g (lw_at lw_m1 178 rfl) rfl
theorem q259 : (Jvm.Cond.fieldLink "StoneSheets" (131 : Nat) "StoneSheets" "taped" "I") ∈ lw_all := lw_g (lw_at lw_m1 179 rfl) rfl
theorem q260 : (Jvm.Cond.fieldLink "StoneSheets" (76 : Nat) "StoneSheets" "fault" "LStoneSheets$Fault;") ∈ lw_all := lw_g (lw_at lw_m1 180 rfl) rfl
theorem q261 : (Jvm.Cond.fieldLink "StoneSheets" (140 : Nat) "StoneSheets" "from" "I") ∈ lw_all := lw_g (lw_at lw_m1 181 rfl) rfl
theorem q262 : (Jvm.Cond.fieldLink "StoneSheets" (146 : Nat) "StoneSheets" "to" "I") ∈ lw_all := lw_g (lw_at lw_m1 182 rfl) rfl
theorem q263 : (Jvm.Cond.fieldLink "StoneSheets" (149 : Nat) "StoneSheets" "end" "I") ∈ lw_all := lw_g (lw_at lw_m1 183 rfl) rfl
theorem q264 : (Jvm.Cond.fieldLink "StoneSheets" (208 : Nat) "StoneSheets" "parens" "I") ∈ lw_all := lw_g (lw_at lw_m1 184 rfl) rfl
theorem q265 : (Jvm.Cond.fieldLink "StoneSheets" (205 : Nat) "StoneSheets" "nots" "I") ∈ lw_all := lw_g (lw_at lw_m1 185 rfl) rfl
theorem q266 : (Jvm.Cond.fieldLink "StoneSheets" (211 : Nat) "StoneSheets" "wordMany" "I") ∈ lw_all := lw_g (lw_at lw_m1 186 rfl) rfl
theorem q267 : (Jvm.Cond.fieldLink "StoneSheets" (202 : Nat) "StoneSheets" "keyRead" "I") ∈ lw_all := lw_g (lw_at lw_m1 187 rfl) rfl
theorem q268 : (Jvm.Cond.fieldLink "StoneSheets" (80 : Nat) "StoneSheets" "named" "[I") ∈ lw_all := lw_g (lw_at lw_m1 188 rfl) rfl
theorem q269 : (Jvm.Cond.fieldLink "StoneSheets" (83 : Nat) "StoneSheets" "clashes" "[I") ∈ lw_all := lw_g (lw_at lw_m1 189 rfl) rfl
theorem q270 : (Jvm.Cond.fieldLink "StoneSheets" (89 : Nat) "StoneSheets" "sheets" "[LStoneSheets$Sheet;") ∈ lw_all := lw_g (lw_at lw_m1 190 rfl) rfl
theorem q271 : (Jvm.Cond.fieldLink "StoneSheets" (96 : Nat) "StoneSheets" "slots" "[LStoneSheets$Slot;") ∈ lw_all := lw_g (lw_at lw_m1 191 rfl) rfl
theorem q272 : (Jvm.Cond.fieldLink "StoneSheets" (100 : Nat) "StoneSheets" "carried" "[F") ∈ lw_all := lw_g (lw_at lw_m1 192 rfl) rfl
theorem q273 : (Jvm.Cond.fieldLink "StoneSheets" (104 : Nat) "StoneSheets" "waits" "[I") ∈ lw_all := lw_g (lw_at lw_m1 193 rfl) rfl
theorem q274 : (Jvm.Cond.fieldLink "StoneSheets" (505 : Nat) "StoneSheets" "waitMany" "I") ∈ lw_all := lw_g (lw_at lw_m1 194 rfl) rfl
theorem q275 : (Jvm.Cond.fieldLink "StoneSheets" (107 : Nat) "StoneSheets" "rows" "[I") ∈ lw_all := lw_g (lw_at lw_m1 195 rfl) rfl
theorem q276 : (Jvm.Cond.laysFinal "StoneSheets" "StoneSheets" "now" "LStoneSheets$State;") ∈ lw_all := lw_g (lw_at lw_m1 196 rfl) rfl
theorem q277 : (Jvm.Cond.soleField "StoneSheets" "now") ∈ lw_all := lw_g (lw_at lw_m1 197 rfl) rfl
theorem q278 : (Jvm.Cond.laysFinal "StoneSheets" "StoneSheets" "image" "LStoneSheets$State;") ∈ lw_all := lw_g (lw_at lw_m1 198 rfl) rfl
theorem q279 : (Jvm.Cond.soleField "StoneSheets" "image") ∈ lw_all := lw_g (lw_at lw_m1 199 rfl) rfl
theorem q280 : (Jvm.Cond.laysFinal "StoneSheets" "StoneSheets" "aside" "LStoneSheets$State;") ∈ lw_all := lw_g (lw_at lw_m1 200 rfl) rfl
theorem q281 : (Jvm.Cond.soleField "StoneSheets" "aside") ∈ lw_all := lw_g (lw_at lw_m1 201 rfl) rfl
theorem q282 : (Jvm.Cond.laysFinal "StoneSheets" "StoneSheets" "before" "LStoneSheets$State;") ∈ lw_all := lw_g (lw_at lw_m1 202 rfl) rfl
theorem q283 : (Jvm.Cond.soleField "StoneSheets" "before") ∈ lw_all := lw_g (lw_at lw_m1 203 rfl) rfl
theorem q284 : (Jvm.Cond.lays "StoneSheets" "StoneSheets" "hasImage" "Z") ∈ lw_all := lw_g (lw_at lw_m1 204 rfl) rfl
theorem q285 : (Jvm.Cond.soleField "StoneSheets" "hasImage") ∈ lw_all := lw_g (lw_at lw_m1 205 rfl) rfl
theorem q286 : (Jvm.Cond.laysFinal "StoneSheets" "StoneSheets" "pile" "[I") ∈ lw_all := lw_g (lw_at lw_m1 206 rfl) rfl
theorem q287 : (Jvm.Cond.soleField "StoneSheets" "pile") ∈ lw_all := lw_g (lw_at lw_m1 207 rfl) rfl
theorem q288 : (Jvm.Cond.laysFinal "StoneSheets" "StoneSheets" "tape" "[B") ∈ lw_all := lw_g (lw_at lw_m1 208 rfl) rfl
theorem q289 : (Jvm.Cond.soleField "StoneSheets" "tape") ∈ lw_all := lw_g (lw_at lw_m1 209 rfl) rfl
theorem q290 : (Jvm.Cond.lays "StoneSheets" "StoneSheets" "taped" "I") ∈ lw_all := lw_g (lw_at lw_m1 210 rfl) rfl
theorem q291 : (Jvm.Cond.soleField "StoneSheets" "taped") ∈ lw_all := lw_g (lw_at lw_m1 211 rfl) rfl
theorem q292 : (Jvm.Cond.laysFinal "StoneSheets" "StoneSheets" "fault" "LStoneSheets$Fault;") ∈ lw_all := lw_g (lw_at lw_m1 212 rfl) rfl
theorem q293 : (Jvm.Cond.soleField "StoneSheets" "fault") ∈ lw_all := lw_g (lw_at lw_m1 213 rfl) rfl
theorem q294 : (Jvm.Cond.lays "StoneSheets" "StoneSheets" "from" "I") ∈ lw_all := lw_g (lw_at lw_m1 214 rfl) rfl
theorem q295 : (Jvm.Cond.soleField "StoneSheets" "from") ∈ lw_all := lw_g (lw_at lw_m1 215 rfl) rfl
theorem q296 : (Jvm.Cond.lays "StoneSheets" "StoneSheets" "to" "I") ∈ lw_all := lw_g (lw_at lw_m1 216 rfl) rfl
theorem q297 : (Jvm.Cond.soleField "StoneSheets" "to") ∈ lw_all := lw_g (lw_at lw_m1 217 rfl) rfl
theorem q298 : (Jvm.Cond.lays "StoneSheets" "StoneSheets" "end" "I") ∈ lw_all := lw_g (lw_at lw_m1 218 rfl) rfl
theorem q299 : (Jvm.Cond.soleField "StoneSheets" "end") ∈ lw_all := lw_g (lw_at lw_m1 219 rfl) rfl
theorem q300 : (Jvm.Cond.lays "StoneSheets" "StoneSheets" "parens" "I") ∈ lw_all := lw_g (lw_at lw_m1 220 rfl) rfl
theorem q301 : (Jvm.Cond.soleField "StoneSheets" "parens") ∈ lw_all := lw_g (lw_at lw_m1 221 rfl) rfl
theorem q302 : (Jvm.Cond.lays "StoneSheets" "StoneSheets" "nots" "I") ∈ lw_all := lw_g (lw_at lw_m1 222 rfl) rfl
theorem q303 : (Jvm.Cond.soleField "StoneSheets" "nots") ∈ lw_all := lw_g (lw_at lw_m1 223 rfl) rfl
theorem q304 : (Jvm.Cond.lays "StoneSheets" "StoneSheets" "wordMany" "I") ∈ lw_all := lw_g (lw_at lw_m1 224 rfl) rfl
theorem q305 : (Jvm.Cond.soleField "StoneSheets" "wordMany") ∈ lw_all := lw_g (lw_at lw_m1 225 rfl) rfl
theorem q306 : (Jvm.Cond.lays "StoneSheets" "StoneSheets" "keyRead" "I") ∈ lw_all := lw_g (lw_at lw_m1 226 rfl) rfl
theorem q307 : (Jvm.Cond.soleField "StoneSheets" "keyRead") ∈ lw_all := lw_g (lw_at lw_m1 227 rfl) rfl
theorem q308 : (Jvm.Cond.laysFinal "StoneSheets" "StoneSheets" "named" "[I") ∈ lw_all := lw_g (lw_at lw_m1 228 rfl) rfl
theorem q309 : (Jvm.Cond.soleField "StoneSheets" "named") ∈ lw_all := lw_g (lw_at lw_m1 229 rfl) rfl
theorem q310 : (Jvm.Cond.laysFinal "StoneSheets" "StoneSheets" "clashes" "[I") ∈ lw_all := lw_g (lw_at lw_m1 230 rfl) rfl
theorem q311 : (Jvm.Cond.soleField "StoneSheets" "clashes") ∈ lw_all := lw_g (lw_at lw_m1 231 rfl) rfl
theorem q312 : (Jvm.Cond.laysFinal "StoneSheets" "StoneSheets" "sheets" "[LStoneSheets$Sheet;") ∈ lw_all := lw_g (lw_at lw_m1 232 rfl) rfl
theorem q313 : (Jvm.Cond.soleField "StoneSheets" "sheets") ∈ lw_all := lw_g (lw_at lw_m1 233 rfl) rfl
theorem q314 : (Jvm.Cond.laysFinal "StoneSheets" "StoneSheets" "slots" "[LStoneSheets$Slot;") ∈ lw_all := lw_g (lw_at lw_m1 234 rfl) rfl
theorem q315 : (Jvm.Cond.soleField "StoneSheets" "slots") ∈ lw_all := lw_g (lw_at lw_m1 235 rfl) rfl
theorem q316 : (Jvm.Cond.laysFinal "StoneSheets" "StoneSheets" "carried" "[F") ∈ lw_all := lw_g (lw_at lw_m1 236 rfl) rfl
theorem q317 : (Jvm.Cond.soleField "StoneSheets" "carried") ∈ lw_all := lw_g (lw_at lw_m1 237 rfl) rfl
theorem q318 : (Jvm.Cond.laysFinal "StoneSheets" "StoneSheets" "waits" "[I") ∈ lw_all := lw_g (lw_at lw_m1 238 rfl) rfl
theorem q319 : (Jvm.Cond.soleField "StoneSheets" "waits") ∈ lw_all := lw_g (lw_at lw_m1 239 rfl) rfl
theorem q320 : (Jvm.Cond.lays "StoneSheets" "StoneSheets" "waitMany" "I") ∈ lw_all := lw_g (lw_at lw_m2 0 rfl) rfl
theorem q321 : (Jvm.Cond.soleField "StoneSheets" "waitMany") ∈ lw_all := lw_g (lw_at lw_m2 1 rfl) rfl
theorem q322 : (Jvm.Cond.laysFinal "StoneSheets" "StoneSheets" "rows" "[I") ∈ lw_all := lw_g (lw_at lw_m2 2 rfl) rfl
theorem q323 : (Jvm.Cond.soleField "StoneSheets" "rows") ∈ lw_all := lw_g (lw_at lw_m2 3 rfl) rfl
theorem q324 : (Jvm.Cond.superclass "StoneSheets" "java/lang/Object") ∈ lw_all := lw_g (lw_at lw_m2 4 rfl) rfl
theorem q327 : (Jvm.Cond.instanceMethod ({ cls := "StoneSheets", name := "feed", desc := "(III)I" } : Jvm.MethodName)) ∈ lw_all := lw_g (lw_at lw_m2 7 rfl) rfl
theorem q328 : (Jvm.Cond.selects "StoneSheets" ({ cls := "StoneSheets", name := "feed", desc := "(III)I" } : Jvm.MethodName) ({ cls := "StoneSheets", name := "feed", desc := "(III)I" } : Jvm.MethodName)) ∈ lw_all := lw_g (lw_at lw_m2 8 rfl) rfl
theorem q329 : (Jvm.Cond.code ({ cls := "StoneSheets", name := "feed", desc := "(III)I" } : Jvm.MethodName) prog_1_method_11_code (4 : Nat) (Option.some Jvm.ClassFile.FieldType.int)) ∈ lw_all := lw_g (lw_at lw_m2 9 rfl) rfl
theorem q330 : (Jvm.Cond.constant "StoneSheets" (134 : Nat) (-1000000003 : Int32)) ∈ lw_all := lw_g (lw_at lw_m2 10 rfl) rfl
theorem q331 : (Jvm.Cond.methodLink "StoneSheets" (135 : Nat) ({ cls := "StoneSheets", name := "four", desc := "(I)V" } : Jvm.MethodName)) ∈ lw_all := lw_g (lw_at lw_m2 11 rfl) rfl
theorem q332 : (Jvm.Cond.privateMethod ({ cls := "StoneSheets", name := "four", desc := "(I)V" } : Jvm.MethodName)) ∈ lw_tbl := lw_at lw_m2 12 rfl
theorem q333 : (Jvm.Cond.instanceMethod ({ cls := "StoneSheets", name := "four", desc := "(I)V" } : Jvm.MethodName)) ∈ lw_all := lw_g (lw_at lw_m2 13 rfl) rfl
theorem q334 : (Jvm.Cond.code ({ cls := "StoneSheets", name := "four", desc := "(I)V" } : Jvm.MethodName) prog_1_method_12_code (3 : Nat) (Option.none : Option Jvm.ClassFile.FieldType)) ∈ lw_all := lw_g (lw_at lw_m2 14 rfl) rfl
theorem q336 : (Jvm.Cond.instanceMethod ({ cls := "StoneSheets", name := "trim", desc := "(I)I" } : Jvm.MethodName)) ∈ lw_all := lw_g (lw_at lw_m2 16 rfl) rfl
theorem q337 : (Jvm.Cond.selects "StoneSheets" ({ cls := "StoneSheets", name := "trim", desc := "(I)I" } : Jvm.MethodName) ({ cls := "StoneSheets", name := "trim", desc := "(I)I" } : Jvm.MethodName)) ∈ lw_all := lw_g (lw_at lw_m2 17 rfl) rfl
theorem q338 : (Jvm.Cond.code ({ cls := "StoneSheets", name := "trim", desc := "(I)I" } : Jvm.MethodName) prog_1_method_13_code (2 : Nat) (Option.some Jvm.ClassFile.FieldType.int)) ∈ lw_all := lw_g (lw_at lw_m2 18 rfl) rfl
theorem q339 : (Jvm.Cond.methodLink "StoneSheets" (114 : Nat) ({ cls := "StoneSheets", name := "isIn", desc := "(III)Z" } : Jvm.MethodName)) ∈ lw_all := lw_g (lw_at lw_m2 19 rfl) rfl
theorem q340 : (Jvm.Cond.static ({ cls := "StoneSheets", name := "isIn", desc := "(III)Z" } : Jvm.MethodName)) ∈ lw_all := lw_g (lw_at lw_m2 20 rfl) rfl
theorem q341 : (Jvm.Cond.code ({ cls := "StoneSheets", name := "isIn", desc := "(III)Z" } : Jvm.MethodName) prog_1_method_1_code (3 : Nat) (Option.some Jvm.ClassFile.FieldType.boolean)) ∈ lw_all := lw_g (lw_at lw_m2 21 rfl) rfl
theorem q342 : (Jvm.Cond.constant "StoneSheets" (139 : Nat) (-1000000001 : Int32)) ∈ lw_all := lw_g (lw_at lw_m2 22 rfl) rfl
theorem q344 : (Jvm.Cond.instanceMethod ({ cls := "StoneSheets", name := "text", desc := "()I" } : Jvm.MethodName)) ∈ lw_all := lw_g (lw_at lw_m2 24 rfl) rfl
theorem q345 : (Jvm.Cond.selects "StoneSheets" ({ cls := "StoneSheets", name := "text", desc := "()I" } : Jvm.MethodName) ({ cls := "StoneSheets", name := "text", desc := "()I" } : Jvm.MethodName)) ∈ lw_all := lw_g (lw_at lw_m2 25 rfl) rfl
theorem q346 : (Jvm.Cond.codeWith ({ cls := "StoneSheets", name := "text", desc := "()I" } : Jvm.MethodName) prog_1_method_31_code (4 : Nat) (Option.some Jvm.ClassFile.FieldType.int) [((0 : Nat), (20 : Nat), (73 : Nat), (73 : Nat)), ((27 : Nat), (66 : Nat), (73 : Nat), (73 : Nat)), ((0 : Nat), (20 : Nat), (89 : Nat), (0 : Nat)), ((27 : Nat), (66 : Nat), (89 : Nat), (0 : Nat)), ((73 : Nat), (82 : Nat), (89 : Nat), (0 : Nat))]) ∈ lw_all := lw_g (lw_at lw_m2 26 rfl) rfl
theorem q347 : (Jvm.Cond.methodLink "StoneSheets" (242 : Nat) ({ cls := "StoneSheets", name := "textRead", desc := "()LStoneSheets$Text;" } : Jvm.MethodName)) ∈ lw_all := lw_g (lw_at lw_m2 27 rfl) rfl
theorem q348 : (Jvm.Cond.privateMethod ({ cls := "StoneSheets", name := "textRead", desc := "()LStoneSheets$Text;" } : Jvm.MethodName)) ∈ lw_tbl := lw_at lw_m2 28 rfl
theorem q349 : (Jvm.Cond.instanceMethod ({ cls := "StoneSheets", name := "textRead", desc := "()LStoneSheets$Text;" } : Jvm.MethodName)) ∈ lw_all := lw_g (lw_at lw_m2 29 rfl) rfl
theorem q350 : (Jvm.Cond.code ({ cls := "StoneSheets", name := "textRead", desc := "()LStoneSheets$Text;" } : Jvm.MethodName) prog_1_method_30_code (2 : Nat) (Option.some (Jvm.ClassFile.FieldType.object "StoneSheets$Text"))) ∈ lw_all := lw_g (lw_at lw_m2 30 rfl) rfl
theorem q351 : (Jvm.Cond.methodLink "StoneSheets" (172 : Nat) ({ cls := "StoneSheets", name := "goes", desc := "()V" } : Jvm.MethodName)) ∈ lw_all := lw_g (lw_at lw_m2 31 rfl) rfl
theorem q352 : (Jvm.Cond.privateMethod ({ cls := "StoneSheets", name := "goes", desc := "()V" } : Jvm.MethodName)) ∈ lw_tbl := lw_at lw_m2 32 rfl
theorem q353 : (Jvm.Cond.instanceMethod ({ cls := "StoneSheets", name := "goes", desc := "()V" } : Jvm.MethodName)) ∈ lw_all := lw_g (lw_at lw_m2 33 rfl) rfl
theorem q354 : (Jvm.Cond.code ({ cls := "StoneSheets", name := "goes", desc := "()V" } : Jvm.MethodName) prog_1_method_17_code (5 : Nat) (Option.none : Option Jvm.ClassFile.FieldType)) ∈ lw_all := lw_g (lw_at lw_m2 34 rfl) rfl
theorem q355 : (Jvm.Cond.methodLink "StoneSheets" (152 : Nat) ({ cls := "StoneSheets", name := "isLetter", desc := "(I)Z" } : Jvm.MethodName)) ∈ lw_all := lw_g (lw_at lw_m2 35 rfl) rfl
theorem q356 : (Jvm.Cond.static ({ cls := "StoneSheets", name := "isLetter", desc := "(I)Z" } : Jvm.MethodName)) ∈ lw_all := lw_g (lw_at lw_m2 36 rfl) rfl
theorem q357 : (Jvm.Cond.code ({ cls := "StoneSheets", name := "isLetter", desc := "(I)Z" } : Jvm.MethodName) prog_1_method_15_code (1 : Nat) (Option.some Jvm.ClassFile.FieldType.boolean)) ∈ lw_all := lw_g (lw_at lw_m2 37 rfl) rfl
theorem q358 : (Jvm.Cond.methodLink "StoneSheets" (156 : Nat) ({ cls := "StoneSheets", name := "isDigit", desc := "(I)Z" } : Jvm.MethodName)) ∈ lw_all := lw_g (lw_at lw_m2 38 rfl) rfl
theorem q359 : (Jvm.Cond.static ({ cls := "StoneSheets", name := "isDigit", desc := "(I)Z" } : Jvm.MethodName)) ∈ lw_all := lw_g (lw_at lw_m2 39 rfl) rfl
theorem q360 : (Jvm.Cond.code ({ cls := "StoneSheets", name := "isDigit", desc := "(I)Z" } : Jvm.MethodName) prog_1_method_16_code (1 : Nat) (Option.some Jvm.ClassFile.FieldType.boolean)) ∈ lw_all := lw_g (lw_at lw_m2 40 rfl) rfl
theorem q361 : (Jvm.Cond.methodLink "StoneSheets" (159 : Nat) ({ cls := "StoneSheets", name := "wrong", desc := "()V" } : Jvm.MethodName)) ∈ lw_all := lw_g (lw_at lw_m2 41 rfl) rfl
theorem q362 : (Jvm.Cond.privateMethod ({ cls := "StoneSheets", name := "wrong", desc := "()V" } : Jvm.MethodName)) ∈ lw_tbl := lw_at lw_m2 42 rfl
theorem q363 : (Jvm.Cond.instanceMethod ({ cls := "StoneSheets", name := "wrong", desc := "()V" } : Jvm.MethodName)) ∈ lw_all := lw_g (lw_at lw_m2 43 rfl) rfl
theorem q364 : (Jvm.Cond.code ({ cls := "StoneSheets", name := "wrong", desc := "()V" } : Jvm.MethodName) prog_1_method_14_code (1 : Nat) (Option.none : Option Jvm.ClassFile.FieldType)) ∈ lw_all := lw_g (lw_at lw_m2 44 rfl) rfl
theorem q365 : (Jvm.Cond.methodLink "StoneSheets" (230 : Nat) ({ cls := "StoneSheets", name := "key", desc := "()I" } : Jvm.MethodName)) ∈ lw_all := lw_g (lw_at lw_m2 45 rfl) rfl
theorem q366 : (Jvm.Cond.privateMethod ({ cls := "StoneSheets", name := "key", desc := "()I" } : Jvm.MethodName)) ∈ lw_tbl := lw_at lw_m2 46 rfl
theorem q367 : (Jvm.Cond.instanceMethod ({ cls := "StoneSheets", name := "key", desc := "()I" } : Jvm.MethodName)) ∈ lw_all := lw_g (lw_at lw_m2 47 rfl) rfl
theorem q368 : (Jvm.Cond.code ({ cls := "StoneSheets", name := "key", desc := "()I" } : Jvm.MethodName) prog_1_method_29_code (2 : Nat) (Option.some Jvm.ClassFile.FieldType.int)) ∈ lw_all := lw_g (lw_at lw_m2 48 rfl) rfl
theorem q369 : (Jvm.Cond.stringRef "StoneSheets" (220 : Nat) "gain") ∈ lw_tbl := lw_at lw_m2 49 rfl
theorem q370 : (Jvm.Cond.methodLink "StoneSheets" (222 : Nat) ({ cls := "StoneSheets", name := "isWord", desc := "(Ljava/lang/String;)Z" } : Jvm.MethodName)) ∈ lw_all := lw_g (lw_at lw_m2 50 rfl) rfl
theorem q371 : (Jvm.Cond.privateMethod ({ cls := "StoneSheets", name := "isWord", desc := "(Ljava/lang/String;)Z" } : Jvm.MethodName)) ∈ lw_tbl := lw_at lw_m2 51 rfl
theorem q372 : (Jvm.Cond.instanceMethod ({ cls := "StoneSheets", name := "isWord", desc := "(Ljava/lang/String;)Z" } : Jvm.MethodName)) ∈ lw_all := lw_g (lw_at lw_m2 52 rfl) rfl
theorem q373 : (Jvm.Cond.code ({ cls := "StoneSheets", name := "isWord", desc := "(Ljava/lang/String;)Z" } : Jvm.MethodName) prog_1_method_18_code (4 : Nat) (Option.some Jvm.ClassFile.FieldType.boolean)) ∈ lw_all := lw_g (lw_at lw_m2 53 rfl) rfl
theorem q374 : (Jvm.Cond.methodLink "StoneSheets" (162 : Nat) ({ cls := "java/lang/String", name := "length", desc := "()I" } : Jvm.MethodName)) ∈ lw_all := lw_g (lw_at lw_m2 54 rfl) rfl
theorem q384 : (Jvm.Cond.methodLink "StoneSheets" (168 : Nat) ({ cls := "java/lang/String", name := "charAt", desc := "(I)C" } : Jvm.MethodName)) ∈ lw_all := lw_g (lw_at lw_m2 64 rfl) rfl
theorem q422 : (Jvm.Cond.stringRef "StoneSheets" (226 : Nat) "fee") ∈ lw_tbl := lw_at lw_m2 102 rfl
theorem q423 : (Jvm.Cond.stringRef "StoneSheets" (228 : Nat) "fine") ∈ lw_tbl := lw_at lw_m2 103 rfl
theorem q424 : (Jvm.Cond.methodLink "StoneSheets" (233 : Nat) ({ cls := "StoneSheets", name := "expression", desc := "()LStoneSheets$Words;" } : Jvm.MethodName)) ∈ lw_all := lw_g (lw_at lw_m2 104 rfl) rfl
theorem q425 : (Jvm.Cond.privateMethod ({ cls := "StoneSheets", name := "expression", desc := "()LStoneSheets$Words;" } : Jvm.MethodName)) ∈ lw_tbl := lw_at lw_m2 105 rfl
theorem q426 : (Jvm.Cond.instanceMethod ({ cls := "StoneSheets", name := "expression", desc := "()LStoneSheets$Words;" } : Jvm.MethodName)) ∈ lw_all := lw_g (lw_at lw_m2 106 rfl) rfl
theorem q427 : (Jvm.Cond.code ({ cls := "StoneSheets", name := "expression", desc := "()LStoneSheets$Words;" } : Jvm.MethodName) prog_1_method_21_code (2 : Nat) (Option.some (Jvm.ClassFile.FieldType.object "StoneSheets$Words"))) ∈ lw_all := lw_g (lw_at lw_m2 107 rfl) rfl
theorem q428 : (Jvm.Cond.classLink "StoneSheets" (119 : Nat) "StoneSheets$Words") ∈ lw_all := lw_g (lw_at lw_m2 108 rfl) rfl
theorem q430 : (Jvm.Cond.methodLinkNest "StoneSheets" (175 : Nat) ({ cls := "StoneSheets$Words", name := "<init>", desc := "()V" } : Jvm.MethodName) "StoneSheets") ∈ lw_tbl := lw_at lw_m2 110 rfl
theorem q435 : (Jvm.Cond.fieldLinkNest "StoneSheets" (121 : Nat) "StoneSheets$Words" "word" "[I" "StoneSheets") ∈ lw_tbl := lw_at lw_m2 115 rfl
theorem q437 : (Jvm.Cond.fieldLinkNest "StoneSheets" (124 : Nat) "StoneSheets$Words" "value" "[I" "StoneSheets") ∈ lw_tbl := lw_at lw_m2 117 rfl
theorem q439 : (Jvm.Cond.fieldLinkNest "StoneSheets" (118 : Nat) "StoneSheets$Words" "many" "I" "StoneSheets") ∈ lw_tbl := lw_at lw_m2 119 rfl
theorem q447 : (Jvm.Cond.methodLink "StoneSheets" (176 : Nat) ({ cls := "StoneSheets", name := "or", desc := "(LStoneSheets$Words;)V" } : Jvm.MethodName)) ∈ lw_all := lw_g (lw_at lw_m2 127 rfl) rfl
theorem q448 : (Jvm.Cond.privateMethod ({ cls := "StoneSheets", name := "or", desc := "(LStoneSheets$Words;)V" } : Jvm.MethodName)) ∈ lw_tbl := lw_at lw_m2 128 rfl
theorem q449 : (Jvm.Cond.instanceMethod ({ cls := "StoneSheets", name := "or", desc := "(LStoneSheets$Words;)V" } : Jvm.MethodName)) ∈ lw_all := lw_g (lw_at lw_m2 129 rfl) rfl
theorem q450 : (Jvm.Cond.code ({ cls := "StoneSheets", name := "or", desc := "(LStoneSheets$Words;)V" } : Jvm.MethodName) prog_1_method_22_code (2 : Nat) (Option.none : Option Jvm.ClassFile.FieldType)) ∈ lw_all := lw_g (lw_at lw_m2 130 rfl) rfl
theorem q451 : (Jvm.Cond.methodLink "StoneSheets" (180 : Nat) ({ cls := "StoneSheets", name := "and", desc := "(LStoneSheets$Words;)V" } : Jvm.MethodName)) ∈ lw_all := lw_g (lw_at lw_m2 131 rfl) rfl
theorem q452 : (Jvm.Cond.privateMethod ({ cls := "StoneSheets", name := "and", desc := "(LStoneSheets$Words;)V" } : Jvm.MethodName)) ∈ lw_tbl := lw_at lw_m2 132 rfl
theorem q453 : (Jvm.Cond.instanceMethod ({ cls := "StoneSheets", name := "and", desc := "(LStoneSheets$Words;)V" } : Jvm.MethodName)) ∈ lw_all := lw_g (lw_at lw_m2 133 rfl) rfl
theorem q454 : (Jvm.Cond.code ({ cls := "StoneSheets", name := "and", desc := "(LStoneSheets$Words;)V" } : Jvm.MethodName) prog_1_method_23_code (2 : Nat) (Option.none : Option Jvm.ClassFile.FieldType)) ∈ lw_all := lw_g (lw_at lw_m2 134 rfl) rfl
theorem q455 : (Jvm.Cond.methodLink "StoneSheets" (190 : Nat) ({ cls := "StoneSheets", name := "test", desc := "(LStoneSheets$Words;)V" } : Jvm.MethodName)) ∈ lw_all := lw_g (lw_at lw_m2 135 rfl) rfl
theorem q456 : (Jvm.Cond.privateMethod ({ cls := "StoneSheets", name := "test", desc := "(LStoneSheets$Words;)V" } : Jvm.MethodName)) ∈ lw_tbl := lw_at lw_m2 136 rfl
theorem q457 : (Jvm.Cond.instanceMethod ({ cls := "StoneSheets", name := "test", desc := "(LStoneSheets$Words;)V" } : Jvm.MethodName)) ∈ lw_all := lw_g (lw_at lw_m2 137 rfl) rfl
theorem q458 : (Jvm.Cond.code ({ cls := "StoneSheets", name := "test", desc := "(LStoneSheets$Words;)V" } : Jvm.MethodName) prog_1_method_24_code (3 : Nat) (Option.none : Option Jvm.ClassFile.FieldType)) ∈ lw_all := lw_g (lw_at lw_m2 138 rfl) rfl
theorem q459 : (Jvm.Cond.methodLink "StoneSheets" (193 : Nat) ({ cls := "StoneSheets", name := "sum", desc := "(LStoneSheets$Words;)V" } : Jvm.MethodName)) ∈ lw_all := lw_g (lw_at lw_m2 139 rfl) rfl
theorem q460 : (Jvm.Cond.privateMethod ({ cls := "StoneSheets", name := "sum", desc := "(LStoneSheets$Words;)V" } : Jvm.MethodName)) ∈ lw_tbl := lw_at lw_m2 140 rfl
theorem q461 : (Jvm.Cond.instanceMethod ({ cls := "StoneSheets", name := "sum", desc := "(LStoneSheets$Words;)V" } : Jvm.MethodName)) ∈ lw_all := lw_g (lw_at lw_m2 141 rfl) rfl
theorem q462 : (Jvm.Cond.code ({ cls := "StoneSheets", name := "sum", desc := "(LStoneSheets$Words;)V" } : Jvm.MethodName) prog_1_method_25_code (3 : Nat) (Option.none : Option Jvm.ClassFile.FieldType)) ∈ lw_all := lw_g (lw_at lw_m2 142 rfl) rfl
theorem q463 : (Jvm.Cond.methodLink "StoneSheets" (196 : Nat) ({ cls := "StoneSheets", name := "term", desc := "(LStoneSheets$Words;)V" } : Jvm.MethodName)) ∈ lw_all := lw_g (lw_at lw_m2 143 rfl) rfl
theorem q464 : (Jvm.Cond.privateMethod ({ cls := "StoneSheets", name := "term", desc := "(LStoneSheets$Words;)V" } : Jvm.MethodName)) ∈ lw_tbl := lw_at lw_m2 144 rfl
theorem q465 : (Jvm.Cond.instanceMethod ({ cls := "StoneSheets", name := "term", desc := "(LStoneSheets$Words;)V" } : Jvm.MethodName)) ∈ lw_all := lw_g (lw_at lw_m2 145 rfl) rfl
theorem q466 : (Jvm.Cond.code ({ cls := "StoneSheets", name := "term", desc := "(LStoneSheets$Words;)V" } : Jvm.MethodName) prog_1_method_26_code (3 : Nat) (Option.none : Option Jvm.ClassFile.FieldType)) ∈ lw_all := lw_g (lw_at lw_m2 146 rfl) rfl
theorem q467 : (Jvm.Cond.methodLink "StoneSheets" (199 : Nat) ({ cls := "StoneSheets", name := "piece", desc := "(LStoneSheets$Words;)V" } : Jvm.MethodName)) ∈ lw_all := lw_g (lw_at lw_m2 147 rfl) rfl
theorem q468 : (Jvm.Cond.privateMethod ({ cls := "StoneSheets", name := "piece", desc := "(LStoneSheets$Words;)V" } : Jvm.MethodName)) ∈ lw_tbl := lw_at lw_m2 148 rfl
theorem q469 : (Jvm.Cond.instanceMethod ({ cls := "StoneSheets", name := "piece", desc := "(LStoneSheets$Words;)V" } : Jvm.MethodName)) ∈ lw_all := lw_g (lw_at lw_m2 149 rfl) rfl
theorem q470 : (Jvm.Cond.code ({ cls := "StoneSheets", name := "piece", desc := "(LStoneSheets$Words;)V" } : Jvm.MethodName) prog_1_method_28_code (2 : Nat) (Option.none : Option Jvm.ClassFile.FieldType)) ∈ lw_all := lw_g (lw_at lw_m2 150 rfl) rfl
theorem q471 : (Jvm.Cond.methodLink "StoneSheets" (183 : Nat) ({ cls := "StoneSheets", name := "isSign", desc := "(I)Z" } : Jvm.MethodName)) ∈ lw_all := lw_g (lw_at lw_m2 151 rfl) rfl
theorem q472 : (Jvm.Cond.privateMethod ({ cls := "StoneSheets", name := "isSign", desc := "(I)Z" } : Jvm.MethodName)) ∈ lw_tbl := lw_at lw_m2 152 rfl
theorem q473 : (Jvm.Cond.instanceMethod ({ cls := "StoneSheets", name := "isSign", desc := "(I)Z" } : Jvm.MethodName)) ∈ lw_all := lw_g (lw_at lw_m2 153 rfl) rfl
theorem q474 : (Jvm.Cond.code ({ cls := "StoneSheets", name := "isSign", desc := "(I)Z" } : Jvm.MethodName) prog_1_method_19_code (2 : Nat) (Option.some Jvm.ClassFile.FieldType.boolean)) ∈ lw_all := lw_g (lw_at lw_m2 154 rfl) rfl
theorem q475 : (Jvm.Cond.methodLink "StoneSheets" (186 : Nat) ({ cls := "StoneSheets$Words", name := "add", desc := "(II)V" } : Jvm.MethodName)) ∈ lw_all := lw_g (lw_at lw_m2 155 rfl) rfl
theorem q479 : (Jvm.Cond.methodLink "StoneSheets" (214 : Nat) ({ cls := "StoneSheets", name := "number", desc := "()I" } : Jvm.MethodName)) ∈ lw_all := lw_g (lw_at lw_m2 159 rfl) rfl
theorem q480 : (Jvm.Cond.privateMethod ({ cls := "StoneSheets", name := "number", desc := "()I" } : Jvm.MethodName)) ∈ lw_tbl := lw_at lw_m2 160 rfl
theorem q481 : (Jvm.Cond.instanceMethod ({ cls := "StoneSheets", name := "number", desc := "()I" } : Jvm.MethodName)) ∈ lw_all := lw_g (lw_at lw_m2 161 rfl) rfl
theorem q482 : (Jvm.Cond.code ({ cls := "StoneSheets", name := "number", desc := "()I" } : Jvm.MethodName) prog_1_method_20_code (3 : Nat) (Option.some Jvm.ClassFile.FieldType.int)) ∈ lw_all := lw_g (lw_at lw_m2 162 rfl) rfl
theorem q483 : (Jvm.Cond.methodLink "StoneSheets" (217 : Nat) ({ cls := "StoneSheets", name := "isName", desc := "(I)Z" } : Jvm.MethodName)) ∈ lw_all := lw_g (lw_at lw_m2 163 rfl) rfl
theorem q484 : (Jvm.Cond.privateMethod ({ cls := "StoneSheets", name := "isName", desc := "(I)Z" } : Jvm.MethodName)) ∈ lw_tbl := lw_at lw_m2 164 rfl
theorem q485 : (Jvm.Cond.instanceMethod ({ cls := "StoneSheets", name := "isName", desc := "(I)Z" } : Jvm.MethodName)) ∈ lw_all := lw_g (lw_at lw_m2 165 rfl) rfl
theorem q486 : (Jvm.Cond.code ({ cls := "StoneSheets", name := "isName", desc := "(I)Z" } : Jvm.MethodName) prog_1_method_27_code (2 : Nat) (Option.some Jvm.ClassFile.FieldType.boolean)) ∈ lw_all := lw_g (lw_at lw_m2 166 rfl) rfl
theorem q487 : (Jvm.Cond.classLink "StoneSheets" (237 : Nat) "StoneSheets$Text") ∈ lw_all := lw_g (lw_at lw_m2 167 rfl) rfl
theorem q489 : (Jvm.Cond.methodLink "StoneSheets" (239 : Nat) ({ cls := "StoneSheets$Text", name := "<init>", desc := "(ILStoneSheets$Words;I)V" } : Jvm.MethodName)) ∈ lw_all := lw_g (lw_at lw_m2 169 rfl) rfl
theorem q494 : (Jvm.Cond.fieldLinkNest "StoneSheets" (253 : Nat) "StoneSheets$Text" "key" "I" "StoneSheets") ∈ lw_tbl := lw_at lw_m2 174 rfl
theorem q496 : (Jvm.Cond.fieldLinkNest "StoneSheets" (289 : Nat) "StoneSheets$Text" "words" "LStoneSheets$Words;" "StoneSheets") ∈ lw_tbl := lw_at lw_m2 176 rfl
theorem q498 : (Jvm.Cond.fieldLinkNest "StoneSheets" (255 : Nat) "StoneSheets$Text" "many" "I" "StoneSheets") ∈ lw_tbl := lw_at lw_m2 178 rfl
theorem q507 : (Jvm.Cond.instanceMethod ({ cls := "StoneSheets", name := "textTold", desc := "(II)I" } : Jvm.MethodName)) ∈ lw_all := lw_g (lw_at lw_m2 187 rfl) rfl
theorem q508 : (Jvm.Cond.selects "StoneSheets" ({ cls := "StoneSheets", name := "textTold", desc := "(II)I" } : Jvm.MethodName) ({ cls := "StoneSheets", name := "textTold", desc := "(II)I" } : Jvm.MethodName)) ∈ lw_all := lw_g (lw_at lw_m2 188 rfl) rfl
theorem q509 : (Jvm.Cond.code ({ cls := "StoneSheets", name := "textTold", desc := "(II)I" } : Jvm.MethodName) prog_1_method_32_code (3 : Nat) (Option.some Jvm.ClassFile.FieldType.int)) ∈ lw_all := lw_g (lw_at lw_m2 189 rfl) rfl
theorem q511 : (Jvm.Cond.instanceMethod ({ cls := "StoneSheets", name := "why", desc := "(I)I" } : Jvm.MethodName)) ∈ lw_all := lw_g (lw_at lw_m2 191 rfl) rfl
theorem q512 : (Jvm.Cond.selects "StoneSheets" ({ cls := "StoneSheets", name := "why", desc := "(I)I" } : Jvm.MethodName) ({ cls := "StoneSheets", name := "why", desc := "(I)I" } : Jvm.MethodName)) ∈ lw_all := lw_g (lw_at lw_m2 192 rfl) rfl
theorem q513 : (Jvm.Cond.code ({ cls := "StoneSheets", name := "why", desc := "(I)I" } : Jvm.MethodName) prog_1_method_34_code (2 : Nat) (Option.some Jvm.ClassFile.FieldType.int)) ∈ lw_all := lw_g (lw_at lw_m2 193 rfl) rfl
theorem q514 : (Jvm.Cond.methodLink "StoneSheets" (256 : Nat) ({ cls := "StoneSheets", name := "counts", desc := "(I)I" } : Jvm.MethodName)) ∈ lw_all := lw_g (lw_at lw_m2 194 rfl) rfl
theorem q515 : (Jvm.Cond.privateMethod ({ cls := "StoneSheets", name := "counts", desc := "(I)I" } : Jvm.MethodName)) ∈ lw_tbl := lw_at lw_m2 195 rfl
theorem q516 : (Jvm.Cond.instanceMethod ({ cls := "StoneSheets", name := "counts", desc := "(I)I" } : Jvm.MethodName)) ∈ lw_all := lw_g (lw_at lw_m2 196 rfl) rfl
theorem q517 : (Jvm.Cond.code ({ cls := "StoneSheets", name := "counts", desc := "(I)I" } : Jvm.MethodName) prog_1_method_33_code (4 : Nat) (Option.some Jvm.ClassFile.FieldType.int)) ∈ lw_all := lw_g (lw_at lw_m2 197 rfl) rfl
theorem q518 : (Jvm.Cond.methodLink "StoneSheets" (259 : Nat) ({ cls := "StoneSheets", name := "orNone", desc := "(I)I" } : Jvm.MethodName)) ∈ lw_all := lw_g (lw_at lw_m2 198 rfl) rfl
theorem q519 : (Jvm.Cond.static ({ cls := "StoneSheets", name := "orNone", desc := "(I)I" } : Jvm.MethodName)) ∈ lw_all := lw_g (lw_at lw_m2 199 rfl) rfl
theorem q520 : (Jvm.Cond.code ({ cls := "StoneSheets", name := "orNone", desc := "(I)I" } : Jvm.MethodName) prog_1_method_2_code (1 : Nat) (Option.some Jvm.ClassFile.FieldType.int)) ∈ lw_all := lw_g (lw_at lw_m2 200 rfl) rfl
theorem q521 : (Jvm.Cond.constant "StoneSheets" (3 : Nat) (-1000000005 : Int32)) ∈ lw_all := lw_g (lw_at lw_m2 201 rfl) rfl
theorem q523 : (Jvm.Cond.instanceMethod ({ cls := "StoneSheets", name := "rubbing", desc := "(III)I" } : Jvm.MethodName)) ∈ lw_all := lw_g (lw_at lw_m2 203 rfl) rfl
theorem q524 : (Jvm.Cond.selects "StoneSheets" ({ cls := "StoneSheets", name := "rubbing", desc := "(III)I" } : Jvm.MethodName) ({ cls := "StoneSheets", name := "rubbing", desc := "(III)I" } : Jvm.MethodName)) ∈ lw_all := lw_g (lw_at lw_m2 204 rfl) rfl
theorem q525 : (Jvm.Cond.code ({ cls := "StoneSheets", name := "rubbing", desc := "(III)I" } : Jvm.MethodName) prog_1_method_36_code (4 : Nat) (Option.some Jvm.ClassFile.FieldType.int)) ∈ lw_all := lw_g (lw_at lw_m2 205 rfl) rfl
theorem q526 : (Jvm.Cond.constant "StoneSheets" (276 : Nat) (65535 : Int32)) ∈ lw_all := lw_g (lw_at lw_m2 206 rfl) rfl
theorem q527 : (Jvm.Cond.methodLink "StoneSheets" (277 : Nat) ({ cls := "StoneSheets", name := "comes", desc := "(III)I" } : Jvm.MethodName)) ∈ lw_all := lw_g (lw_at lw_m2 207 rfl) rfl
theorem q528 : (Jvm.Cond.privateMethod ({ cls := "StoneSheets", name := "comes", desc := "(III)I" } : Jvm.MethodName)) ∈ lw_tbl := lw_at lw_m2 208 rfl
theorem q529 : (Jvm.Cond.instanceMethod ({ cls := "StoneSheets", name := "comes", desc := "(III)I" } : Jvm.MethodName)) ∈ lw_all := lw_g (lw_at lw_m2 209 rfl) rfl
theorem q530 : (Jvm.Cond.code ({ cls := "StoneSheets", name := "comes", desc := "(III)I" } : Jvm.MethodName) prog_1_method_35_code (5 : Nat) (Option.some Jvm.ClassFile.FieldType.int)) ∈ lw_all := lw_g (lw_at lw_m2 210 rfl) rfl
theorem q531 : (Jvm.Cond.methodLink "StoneSheets" (266 : Nat) ({ cls := "StoneSheets", name := "rubbingOf", desc := "(I)LStoneSheets$Rubbing;" } : Jvm.MethodName)) ∈ lw_all := lw_g (lw_at lw_m2 211 rfl) rfl
theorem q532 : (Jvm.Cond.static ({ cls := "StoneSheets", name := "rubbingOf", desc := "(I)LStoneSheets$Rubbing;" } : Jvm.MethodName)) ∈ lw_all := lw_g (lw_at lw_m2 212 rfl) rfl
theorem q533 : (Jvm.Cond.code ({ cls := "StoneSheets", name := "rubbingOf", desc := "(I)LStoneSheets$Rubbing;" } : Jvm.MethodName) prog_1_method_5_code (1 : Nat) (Option.some (Jvm.ClassFile.FieldType.object "StoneSheets$Rubbing"))) ∈ lw_all := lw_g (lw_at lw_m2 213 rfl) rfl
theorem q534 : (Jvm.Cond.classLink "StoneSheets" (19 : Nat) "StoneSheets$BoldRubbing") ∈ lw_all := lw_g (lw_at lw_m2 214 rfl) rfl
theorem q536 : (Jvm.Cond.methodLinkNest "StoneSheets" (21 : Nat) ({ cls := "StoneSheets$BoldRubbing", name := "<init>", desc := "()V" } : Jvm.MethodName) "StoneSheets") ∈ lw_tbl := lw_at lw_m2 216 rfl
theorem q544 : (Jvm.Cond.fieldLink "StoneSheets" (270 : Nat) "StoneSheets$Rubbing" "raw" "I") ∈ lw_all := lw_g (lw_at lw_m2 224 rfl) rfl
theorem q548 : (Jvm.Cond.fieldLink "StoneSheets" (273 : Nat) "StoneSheets$Rubbing" "size" "I") ∈ lw_all := lw_g (lw_at lw_m2 228 rfl) rfl
theorem q550 : (Jvm.Cond.fieldLink "StoneSheets" (306 : Nat) "StoneSheets$Rubbing" "isTurned" "Z") ∈ lw_all := lw_g (lw_at lw_m2 230 rfl) rfl
theorem q553 : (Jvm.Cond.fieldLink "StoneSheets" (286 : Nat) "StoneSheets$Rubbing" "laid" "I") ∈ lw_all := lw_g (lw_at lw_m2 233 rfl) rfl
theorem q556 : (Jvm.Cond.fieldLink "StoneSheets" (283 : Nat) "StoneSheets$Rubbing" "trust" "I") ∈ lw_all := lw_g (lw_at lw_m2 236 rfl) rfl
theorem q568 : (Jvm.Cond.classLink "StoneSheets" (25 : Nat) "StoneSheets$FaintRubbing") ∈ lw_all := lw_g (lw_at lw_m3 8 rfl) rfl
theorem q570 : (Jvm.Cond.methodLinkNest "StoneSheets" (27 : Nat) ({ cls := "StoneSheets$FaintRubbing", name := "<init>", desc := "()V" } : Jvm.MethodName) "StoneSheets") ∈ lw_tbl := lw_at lw_m3 10 rfl
theorem q580 : (Jvm.Cond.classLink "StoneSheets" (28 : Nat) "StoneSheets$TwiceRubbing") ∈ lw_all := lw_g (lw_at lw_m3 20 rfl) rfl
theorem q582 : (Jvm.Cond.methodLinkNest "StoneSheets" (30 : Nat) ({ cls := "StoneSheets$TwiceRubbing", name := "<init>", desc := "()V" } : Jvm.MethodName) "StoneSheets") ∈ lw_tbl := lw_at lw_m3 22 rfl
theorem q592 : (Jvm.Cond.classLink "StoneSheets" (31 : Nat) "StoneSheets$CrackedRubbing") ∈ lw_all := lw_g (lw_at lw_m3 32 rfl) rfl
theorem q594 : (Jvm.Cond.methodLinkNest "StoneSheets" (33 : Nat) ({ cls := "StoneSheets$CrackedRubbing", name := "<init>", desc := "()V" } : Jvm.MethodName) "StoneSheets") ∈ lw_tbl := lw_at lw_m3 34 rfl
theorem q604 : (Jvm.Cond.classLink "StoneSheets" (34 : Nat) "StoneSheets$MadeRubbing") ∈ lw_all := lw_g (lw_at lw_m3 44 rfl) rfl
theorem q606 : (Jvm.Cond.methodLinkNest "StoneSheets" (36 : Nat) ({ cls := "StoneSheets$MadeRubbing", name := "<init>", desc := "()V" } : Jvm.MethodName) "StoneSheets") ∈ lw_tbl := lw_at lw_m3 46 rfl
theorem q616 : (Jvm.Cond.classLink "StoneSheets" (37 : Nat) "StoneSheets$Rubbing") ∈ lw_all := lw_g (lw_at lw_m3 56 rfl) rfl
theorem q618 : (Jvm.Cond.methodLinkNest "StoneSheets" (39 : Nat) ({ cls := "StoneSheets$Rubbing", name := "<init>", desc := "()V" } : Jvm.MethodName) "StoneSheets") ∈ lw_tbl := lw_at lw_m3 58 rfl
theorem q626 : (Jvm.Cond.instanceMethod ({ cls := "StoneSheets", name := "told", desc := "(II)I" } : Jvm.MethodName)) ∈ lw_all := lw_g (lw_at lw_m3 66 rfl) rfl
theorem q627 : (Jvm.Cond.selects "StoneSheets" ({ cls := "StoneSheets", name := "told", desc := "(II)I" } : Jvm.MethodName) ({ cls := "StoneSheets", name := "told", desc := "(II)I" } : Jvm.MethodName)) ∈ lw_all := lw_g (lw_at lw_m3 67 rfl) rfl
theorem q628 : (Jvm.Cond.code ({ cls := "StoneSheets", name := "told", desc := "(II)I" } : Jvm.MethodName) prog_1_method_38_code (4 : Nat) (Option.some Jvm.ClassFile.FieldType.int)) ∈ lw_all := lw_g (lw_at lw_m3 68 rfl) rfl
theorem q629 : (Jvm.Cond.methodLink "StoneSheets" (300 : Nat) ({ cls := "StoneSheets", name := "isRubbing", desc := "(I)Z" } : Jvm.MethodName)) ∈ lw_all := lw_g (lw_at lw_m3 69 rfl) rfl
theorem q630 : (Jvm.Cond.privateMethod ({ cls := "StoneSheets", name := "isRubbing", desc := "(I)Z" } : Jvm.MethodName)) ∈ lw_tbl := lw_at lw_m3 70 rfl
theorem q631 : (Jvm.Cond.instanceMethod ({ cls := "StoneSheets", name := "isRubbing", desc := "(I)Z" } : Jvm.MethodName)) ∈ lw_all := lw_g (lw_at lw_m3 71 rfl) rfl
theorem q632 : (Jvm.Cond.code ({ cls := "StoneSheets", name := "isRubbing", desc := "(I)Z" } : Jvm.MethodName) prog_1_method_8_code (2 : Nat) (Option.some Jvm.ClassFile.FieldType.boolean)) ∈ lw_all := lw_g (lw_at lw_m3 72 rfl) rfl
theorem q633 : (Jvm.Cond.methodLink "StoneSheets" (303 : Nat) ({ cls := "StoneSheets$Rubbing", name := "kind", desc := "()I" } : Jvm.MethodName)) ∈ lw_all := lw_g (lw_at lw_m3 73 rfl) rfl
theorem q655 : (Jvm.Cond.methodLink "StoneSheets" (310 : Nat) ({ cls := "StoneSheets$Rubbing", name := "covered", desc := "()I" } : Jvm.MethodName)) ∈ lw_all := lw_g (lw_at lw_m3 95 rfl) rfl
theorem q666 : (Jvm.Cond.methodLink "StoneSheets" (313 : Nat) ({ cls := "StoneSheets", name := "gainOf", desc := "(LStoneSheets$Rubbing;)I" } : Jvm.MethodName)) ∈ lw_all := lw_g (lw_at lw_m3 106 rfl) rfl
theorem q667 : (Jvm.Cond.privateMethod ({ cls := "StoneSheets", name := "gainOf", desc := "(LStoneSheets$Rubbing;)I" } : Jvm.MethodName)) ∈ lw_tbl := lw_at lw_m3 107 rfl
theorem q668 : (Jvm.Cond.instanceMethod ({ cls := "StoneSheets", name := "gainOf", desc := "(LStoneSheets$Rubbing;)I" } : Jvm.MethodName)) ∈ lw_all := lw_g (lw_at lw_m3 108 rfl) rfl
theorem q669 : (Jvm.Cond.code ({ cls := "StoneSheets", name := "gainOf", desc := "(LStoneSheets$Rubbing;)I" } : Jvm.MethodName) prog_1_method_37_code (3 : Nat) (Option.some Jvm.ClassFile.FieldType.int)) ∈ lw_all := lw_g (lw_at lw_m3 109 rfl) rfl
theorem q689 : (Jvm.Cond.methodLink "StoneSheets" (293 : Nat) ({ cls := "StoneSheets", name := "reckon", desc := "(LStoneSheets$Words;)I" } : Jvm.MethodName)) ∈ lw_all := lw_g (lw_at lw_m3 129 rfl) rfl
theorem q690 : (Jvm.Cond.privateMethod ({ cls := "StoneSheets", name := "reckon", desc := "(LStoneSheets$Words;)I" } : Jvm.MethodName)) ∈ lw_tbl := lw_at lw_m3 130 rfl
theorem q691 : (Jvm.Cond.instanceMethod ({ cls := "StoneSheets", name := "reckon", desc := "(LStoneSheets$Words;)I" } : Jvm.MethodName)) ∈ lw_all := lw_g (lw_at lw_m3 131 rfl) rfl
theorem q692 : (Jvm.Cond.code ({ cls := "StoneSheets", name := "reckon", desc := "(LStoneSheets$Words;)I" } : Jvm.MethodName) prog_1_method_10_code (5 : Nat) (Option.some Jvm.ClassFile.FieldType.int)) ∈ lw_all := lw_g (lw_at lw_m3 132 rfl) rfl
theorem q693 : (Jvm.Cond.methodLink "StoneSheets" (127 : Nat) ({ cls := "StoneSheets", name := "both", desc := "(III)I" } : Jvm.MethodName)) ∈ lw_all := lw_g (lw_at lw_m3 133 rfl) rfl
theorem q694 : (Jvm.Cond.static ({ cls := "StoneSheets", name := "both", desc := "(III)I" } : Jvm.MethodName)) ∈ lw_all := lw_g (lw_at lw_m3 134 rfl) rfl
theorem q695 : (Jvm.Cond.code ({ cls := "StoneSheets", name := "both", desc := "(III)I" } : Jvm.MethodName) prog_1_method_9_code (3 : Nat) (Option.some Jvm.ClassFile.FieldType.int)) ∈ lw_all := lw_g (lw_at lw_m3 135 rfl) rfl
theorem q696 : (Jvm.Cond.methodLink "StoneSheets" (297 : Nat) ({ cls := "StoneSheets", name := "within", desc := "(III)I" } : Jvm.MethodName)) ∈ lw_all := lw_g (lw_at lw_m3 136 rfl) rfl
theorem q697 : (Jvm.Cond.static ({ cls := "StoneSheets", name := "within", desc := "(III)I" } : Jvm.MethodName)) ∈ lw_all := lw_g (lw_at lw_m3 137 rfl) rfl
theorem q698 : (Jvm.Cond.code ({ cls := "StoneSheets", name := "within", desc := "(III)I" } : Jvm.MethodName) prog_1_method_3_code (3 : Nat) (Option.some Jvm.ClassFile.FieldType.int)) ∈ lw_all := lw_g (lw_at lw_m3 138 rfl) rfl
theorem q699 : (Jvm.Cond.methodLink "StoneSheets" (4 : Nat) ({ cls := "java/lang/Math", name := "min", desc := "(II)I" } : Jvm.MethodName)) ∈ lw_all := lw_g (lw_at lw_m3 139 rfl) rfl
theorem q702 : (Jvm.Cond.methodLink "StoneSheets" (10 : Nat) ({ cls := "java/lang/Math", name := "max", desc := "(II)I" } : Jvm.MethodName)) ∈ lw_all := lw_g (lw_at lw_m3 142 rfl) rfl
theorem q705 : (Jvm.Cond.methodLink "StoneSheets" (317 : Nat) ({ cls := "StoneSheets$Rubbing", name := "loses", desc := "()I" } : Jvm.MethodName)) ∈ lw_all := lw_g (lw_at lw_m3 145 rfl) rfl
theorem q727 : (Jvm.Cond.methodLink "StoneSheets" (320 : Nat) ({ cls := "StoneSheets$Rubbing", name := "worth", desc := "()I" } : Jvm.MethodName)) ∈ lw_all := lw_g (lw_at lw_m3 167 rfl) rfl
theorem q752 : (Jvm.Cond.instanceMethod ({ cls := "StoneSheets", name := "says", desc := "(II)I" } : Jvm.MethodName)) ∈ lw_all := lw_g (lw_at lw_m3 192 rfl) rfl
theorem q753 : (Jvm.Cond.selects "StoneSheets" ({ cls := "StoneSheets", name := "says", desc := "(II)I" } : Jvm.MethodName) ({ cls := "StoneSheets", name := "says", desc := "(II)I" } : Jvm.MethodName)) ∈ lw_all := lw_g (lw_at lw_m3 193 rfl) rfl
theorem q754 : (Jvm.Cond.code ({ cls := "StoneSheets", name := "says", desc := "(II)I" } : Jvm.MethodName) prog_1_method_39_code (3 : Nat) (Option.some Jvm.ClassFile.FieldType.int)) ∈ lw_all := lw_g (lw_at lw_m3 194 rfl) rfl
theorem q755 : (Jvm.Cond.methodLink "StoneSheets" (323 : Nat) ({ cls := "StoneSheets$Rubbing", name := "saysAt", desc := "(I)I" } : Jvm.MethodName)) ∈ lw_all := lw_g (lw_at lw_m3 195 rfl) rfl
theorem q795 : (Jvm.Cond.instanceMethod ({ cls := "StoneSheets", name := "as", desc := "(II)I" } : Jvm.MethodName)) ∈ lw_all := lw_g (lw_at lw_m3 235 rfl) rfl
theorem q796 : (Jvm.Cond.selects "StoneSheets" ({ cls := "StoneSheets", name := "as", desc := "(II)I" } : Jvm.MethodName) ({ cls := "StoneSheets", name := "as", desc := "(II)I" } : Jvm.MethodName)) ∈ lw_all := lw_g (lw_at lw_m3 236 rfl) rfl
theorem q797 : (Jvm.Cond.codeWith ({ cls := "StoneSheets", name := "as", desc := "(II)I" } : Jvm.MethodName) prog_1_method_41_code (5 : Nat) (Option.some Jvm.ClassFile.FieldType.int) [((30 : Nat), (38 : Nat), (39 : Nat), (330 : Nat))]) ∈ lw_all := lw_g (lw_at lw_m3 237 rfl) rfl
theorem q798 : (Jvm.Cond.classLink "StoneSheets" (330 : Nat) "java/lang/ClassCastException") ∈ lw_all := lw_g (lw_at lw_m3 238 rfl) rfl
theorem q825 : (Jvm.Cond.methodLink "StoneSheets" (326 : Nat) ({ cls := "StoneSheets", name := "takenFor", desc := "(Ljava/lang/Object;I)LStoneSheets$Rubbing;" } : Jvm.MethodName)) ∈ lw_all := lw_g (lw_at lw_m4 25 rfl) rfl
theorem q826 : (Jvm.Cond.static ({ cls := "StoneSheets", name := "takenFor", desc := "(Ljava/lang/Object;I)LStoneSheets$Rubbing;" } : Jvm.MethodName)) ∈ lw_all := lw_g (lw_at lw_m4 26 rfl) rfl
theorem q827 : (Jvm.Cond.code ({ cls := "StoneSheets", name := "takenFor", desc := "(Ljava/lang/Object;I)LStoneSheets$Rubbing;" } : Jvm.MethodName) prog_1_method_40_code (2 : Nat) (Option.some (Jvm.ClassFile.FieldType.object "StoneSheets$Rubbing"))) ∈ lw_all := lw_g (lw_at lw_m4 27 rfl) rfl
theorem q828 : (Jvm.Cond.constant "StoneSheets" (332 : Nat) (-1000000012 : Int32)) ∈ lw_all := lw_g (lw_at lw_m4 28 rfl) rfl
theorem q830 : (Jvm.Cond.instanceMethod ({ cls := "StoneSheets", name := "turns", desc := "(II)I" } : Jvm.MethodName)) ∈ lw_all := lw_g (lw_at lw_m4 30 rfl) rfl
theorem q831 : (Jvm.Cond.selects "StoneSheets" ({ cls := "StoneSheets", name := "turns", desc := "(II)I" } : Jvm.MethodName) ({ cls := "StoneSheets", name := "turns", desc := "(II)I" } : Jvm.MethodName)) ∈ lw_all := lw_g (lw_at lw_m4 31 rfl) rfl
theorem q832 : (Jvm.Cond.code ({ cls := "StoneSheets", name := "turns", desc := "(II)I" } : Jvm.MethodName) prog_1_method_42_code (4 : Nat) (Option.some Jvm.ClassFile.FieldType.int)) ∈ lw_all := lw_g (lw_at lw_m4 32 rfl) rfl
theorem q833 : (Jvm.Cond.methodLink "StoneSheets" (333 : Nat) ({ cls := "StoneSheets$Rubbing", name := "takes", desc := "(LStoneSheets$Rubbing;)V" } : Jvm.MethodName)) ∈ lw_all := lw_g (lw_at lw_m4 33 rfl) rfl
theorem q844 : (Jvm.Cond.instanceMethod ({ cls := "StoneSheets", name := "set", desc := "(III)I" } : Jvm.MethodName)) ∈ lw_all := lw_g (lw_at lw_m4 44 rfl) rfl
theorem q845 : (Jvm.Cond.selects "StoneSheets" ({ cls := "StoneSheets", name := "set", desc := "(III)I" } : Jvm.MethodName) ({ cls := "StoneSheets", name := "set", desc := "(III)I" } : Jvm.MethodName)) ∈ lw_all := lw_g (lw_at lw_m4 45 rfl) rfl
theorem q846 : (Jvm.Cond.code ({ cls := "StoneSheets", name := "set", desc := "(III)I" } : Jvm.MethodName) prog_1_method_45_code (4 : Nat) (Option.some Jvm.ClassFile.FieldType.int)) ∈ lw_all := lw_g (lw_at lw_m4 46 rfl) rfl
theorem q847 : (Jvm.Cond.methodLink "StoneSheets" (337 : Nat) ({ cls := "StoneSheets", name := "isOf", desc := "(II)Z" } : Jvm.MethodName)) ∈ lw_all := lw_g (lw_at lw_m4 47 rfl) rfl
theorem q848 : (Jvm.Cond.static ({ cls := "StoneSheets", name := "isOf", desc := "(II)Z" } : Jvm.MethodName)) ∈ lw_all := lw_g (lw_at lw_m4 48 rfl) rfl
theorem q849 : (Jvm.Cond.code ({ cls := "StoneSheets", name := "isOf", desc := "(II)Z" } : Jvm.MethodName) prog_1_method_43_code (2 : Nat) (Option.some Jvm.ClassFile.FieldType.boolean)) ∈ lw_all := lw_g (lw_at lw_m4 49 rfl) rfl
theorem q850 : (Jvm.Cond.methodLink "StoneSheets" (341 : Nat) ({ cls := "StoneSheets", name := "becomes", desc := "(LStoneSheets$Rubbing;II)I" } : Jvm.MethodName)) ∈ lw_all := lw_g (lw_at lw_m4 50 rfl) rfl
theorem q851 : (Jvm.Cond.static ({ cls := "StoneSheets", name := "becomes", desc := "(LStoneSheets$Rubbing;II)I" } : Jvm.MethodName)) ∈ lw_all := lw_g (lw_at lw_m4 51 rfl) rfl
theorem q852 : (Jvm.Cond.code ({ cls := "StoneSheets", name := "becomes", desc := "(LStoneSheets$Rubbing;II)I" } : Jvm.MethodName) prog_1_method_44_code (4 : Nat) (Option.some Jvm.ClassFile.FieldType.int)) ∈ lw_all := lw_g (lw_at lw_m4 52 rfl) rfl
theorem q854 : (Jvm.Cond.instanceMethod ({ cls := "StoneSheets", name := "carve", desc := "(II)I" } : Jvm.MethodName)) ∈ lw_all := lw_g (lw_at lw_m4 54 rfl) rfl
theorem q855 : (Jvm.Cond.selects "StoneSheets" ({ cls := "StoneSheets", name := "carve", desc := "(II)I" } : Jvm.MethodName) ({ cls := "StoneSheets", name := "carve", desc := "(II)I" } : Jvm.MethodName)) ∈ lw_all := lw_g (lw_at lw_m4 55 rfl) rfl
theorem q856 : (Jvm.Cond.code ({ cls := "StoneSheets", name := "carve", desc := "(II)I" } : Jvm.MethodName) prog_1_method_47_code (3 : Nat) (Option.some Jvm.ClassFile.FieldType.int)) ∈ lw_all := lw_g (lw_at lw_m4 56 rfl) rfl
theorem q857 : (Jvm.Cond.methodLink "StoneSheets" (348 : Nat) ({ cls := "StoneSheets", name := "cuts", desc := "(II)I" } : Jvm.MethodName)) ∈ lw_all := lw_g (lw_at lw_m4 57 rfl) rfl
theorem q858 : (Jvm.Cond.privateMethod ({ cls := "StoneSheets", name := "cuts", desc := "(II)I" } : Jvm.MethodName)) ∈ lw_tbl := lw_at lw_m4 58 rfl
theorem q859 : (Jvm.Cond.instanceMethod ({ cls := "StoneSheets", name := "cuts", desc := "(II)I" } : Jvm.MethodName)) ∈ lw_all := lw_g (lw_at lw_m4 59 rfl) rfl
theorem q860 : (Jvm.Cond.code ({ cls := "StoneSheets", name := "cuts", desc := "(II)I" } : Jvm.MethodName) prog_1_method_46_code (4 : Nat) (Option.some Jvm.ClassFile.FieldType.int)) ∈ lw_all := lw_g (lw_at lw_m4 60 rfl) rfl
theorem q862 : (Jvm.Cond.instanceMethod ({ cls := "StoneSheets", name := "carved", desc := "(I)I" } : Jvm.MethodName)) ∈ lw_all := lw_g (lw_at lw_m4 62 rfl) rfl
theorem q863 : (Jvm.Cond.selects "StoneSheets" ({ cls := "StoneSheets", name := "carved", desc := "(I)I" } : Jvm.MethodName) ({ cls := "StoneSheets", name := "carved", desc := "(I)I" } : Jvm.MethodName)) ∈ lw_all := lw_g (lw_at lw_m4 63 rfl) rfl
theorem q864 : (Jvm.Cond.code ({ cls := "StoneSheets", name := "carved", desc := "(I)I" } : Jvm.MethodName) prog_1_method_48_code (2 : Nat) (Option.some Jvm.ClassFile.FieldType.int)) ∈ lw_all := lw_g (lw_at lw_m4 64 rfl) rfl
theorem q866 : (Jvm.Cond.instanceMethod ({ cls := "StoneSheets", name := "deal", desc := "(I)I" } : Jvm.MethodName)) ∈ lw_all := lw_g (lw_at lw_m4 66 rfl) rfl
theorem q867 : (Jvm.Cond.selects "StoneSheets" ({ cls := "StoneSheets", name := "deal", desc := "(I)I" } : Jvm.MethodName) ({ cls := "StoneSheets", name := "deal", desc := "(I)I" } : Jvm.MethodName)) ∈ lw_all := lw_g (lw_at lw_m4 67 rfl) rfl
theorem q868 : (Jvm.Cond.code ({ cls := "StoneSheets", name := "deal", desc := "(I)I" } : Jvm.MethodName) prog_1_method_49_code (6 : Nat) (Option.some Jvm.ClassFile.FieldType.int)) ∈ lw_all := lw_g (lw_at lw_m4 68 rfl) rfl
theorem q869 : (Jvm.Cond.methodLink "StoneSheets" (351 : Nat) ({ cls := "StoneSheets$State", name := "draw", desc := "()I" } : Jvm.MethodName)) ∈ lw_all := lw_g (lw_at lw_m4 69 rfl) rfl
theorem q874 : (Jvm.Cond.constant "StoneSheets" (354 : Nat) (65536 : Int32)) ∈ lw_all := lw_g (lw_at lw_m4 74 rfl) rfl
theorem q876 : (Jvm.Cond.instanceMethod ({ cls := "StoneSheets", name := "seed", desc := "(I)I" } : Jvm.MethodName)) ∈ lw_all := lw_g (lw_at lw_m4 76 rfl) rfl
theorem q877 : (Jvm.Cond.selects "StoneSheets" ({ cls := "StoneSheets", name := "seed", desc := "(I)I" } : Jvm.MethodName) ({ cls := "StoneSheets", name := "seed", desc := "(I)I" } : Jvm.MethodName)) ∈ lw_all := lw_g (lw_at lw_m4 77 rfl) rfl
theorem q878 : (Jvm.Cond.code ({ cls := "StoneSheets", name := "seed", desc := "(I)I" } : Jvm.MethodName) prog_1_method_50_code (3 : Nat) (Option.some Jvm.ClassFile.FieldType.int)) ∈ lw_all := lw_g (lw_at lw_m4 78 rfl) rfl
theorem q880 : (Jvm.Cond.instanceMethod ({ cls := "StoneSheets", name := "falseAt", desc := "(II)I" } : Jvm.MethodName)) ∈ lw_all := lw_g (lw_at lw_m4 80 rfl) rfl
theorem q881 : (Jvm.Cond.selects "StoneSheets" ({ cls := "StoneSheets", name := "falseAt", desc := "(II)I" } : Jvm.MethodName) ({ cls := "StoneSheets", name := "falseAt", desc := "(II)I" } : Jvm.MethodName)) ∈ lw_all := lw_g (lw_at lw_m4 81 rfl) rfl
theorem q882 : (Jvm.Cond.code ({ cls := "StoneSheets", name := "falseAt", desc := "(II)I" } : Jvm.MethodName) prog_1_method_52_code (3 : Nat) (Option.some Jvm.ClassFile.FieldType.int)) ∈ lw_all := lw_g (lw_at lw_m4 82 rfl) rfl
theorem q883 : (Jvm.Cond.methodLink "StoneSheets" (358 : Nat) ({ cls := "StoneSheets", name := "wrongAt", desc := "(LStoneSheets$Rubbing;I)I" } : Jvm.MethodName)) ∈ lw_all := lw_g (lw_at lw_m4 83 rfl) rfl
theorem q884 : (Jvm.Cond.privateMethod ({ cls := "StoneSheets", name := "wrongAt", desc := "(LStoneSheets$Rubbing;I)I" } : Jvm.MethodName)) ∈ lw_tbl := lw_at lw_m4 84 rfl
theorem q885 : (Jvm.Cond.instanceMethod ({ cls := "StoneSheets", name := "wrongAt", desc := "(LStoneSheets$Rubbing;I)I" } : Jvm.MethodName)) ∈ lw_all := lw_g (lw_at lw_m4 85 rfl) rfl
theorem q886 : (Jvm.Cond.code ({ cls := "StoneSheets", name := "wrongAt", desc := "(LStoneSheets$Rubbing;I)I" } : Jvm.MethodName) prog_1_method_51_code (5 : Nat) (Option.some Jvm.ClassFile.FieldType.int)) ∈ lw_all := lw_g (lw_at lw_m4 86 rfl) rfl
theorem q888 : (Jvm.Cond.instanceMethod ({ cls := "StoneSheets", name := "fits", desc := "(II)I" } : Jvm.MethodName)) ∈ lw_all := lw_g (lw_at lw_m4 88 rfl) rfl
theorem q889 : (Jvm.Cond.selects "StoneSheets" ({ cls := "StoneSheets", name := "fits", desc := "(II)I" } : Jvm.MethodName) ({ cls := "StoneSheets", name := "fits", desc := "(II)I" } : Jvm.MethodName)) ∈ lw_all := lw_g (lw_at lw_m4 89 rfl) rfl
theorem q890 : (Jvm.Cond.code ({ cls := "StoneSheets", name := "fits", desc := "(II)I" } : Jvm.MethodName) prog_1_method_53_code (8 : Nat) (Option.some Jvm.ClassFile.FieldType.int)) ∈ lw_all := lw_g (lw_at lw_m4 90 rfl) rfl
theorem q891 : (Jvm.Cond.constant "StoneSheets" (362 : Nat) (99999 : Int32)) ∈ lw_all := lw_g (lw_at lw_m4 91 rfl) rfl
theorem q893 : (Jvm.Cond.instanceMethod ({ cls := "StoneSheets", name := "join", desc := "(III)I" } : Jvm.MethodName)) ∈ lw_all := lw_g (lw_at lw_m4 93 rfl) rfl
theorem q894 : (Jvm.Cond.selects "StoneSheets" ({ cls := "StoneSheets", name := "join", desc := "(III)I" } : Jvm.MethodName) ({ cls := "StoneSheets", name := "join", desc := "(III)I" } : Jvm.MethodName)) ∈ lw_all := lw_g (lw_at lw_m4 94 rfl) rfl
theorem q895 : (Jvm.Cond.code ({ cls := "StoneSheets", name := "join", desc := "(III)I" } : Jvm.MethodName) prog_1_method_56_code (9 : Nat) (Option.some Jvm.ClassFile.FieldType.int)) ∈ lw_all := lw_g (lw_at lw_m4 95 rfl) rfl
theorem q896 : (Jvm.Cond.methodLink "StoneSheets" (363 : Nat) ({ cls := "StoneSheets", name := "areTwo", desc := "(II)Z" } : Jvm.MethodName)) ∈ lw_all := lw_g (lw_at lw_m4 96 rfl) rfl
theorem q897 : (Jvm.Cond.privateMethod ({ cls := "StoneSheets", name := "areTwo", desc := "(II)Z" } : Jvm.MethodName)) ∈ lw_tbl := lw_at lw_m4 97 rfl
theorem q898 : (Jvm.Cond.instanceMethod ({ cls := "StoneSheets", name := "areTwo", desc := "(II)Z" } : Jvm.MethodName)) ∈ lw_all := lw_g (lw_at lw_m4 98 rfl) rfl
theorem q899 : (Jvm.Cond.code ({ cls := "StoneSheets", name := "areTwo", desc := "(II)Z" } : Jvm.MethodName) prog_1_method_55_code (3 : Nat) (Option.some Jvm.ClassFile.FieldType.boolean)) ∈ lw_all := lw_g (lw_at lw_m4 99 rfl) rfl
theorem q900 : (Jvm.Cond.methodLink "StoneSheets" (366 : Nat) ({ cls := "StoneSheets", name := "alikeBy", desc := "(LStoneSheets$Rubbing;LStoneSheets$Rubbing;I)I" } : Jvm.MethodName)) ∈ lw_all := lw_g (lw_at lw_m4 100 rfl) rfl
theorem q901 : (Jvm.Cond.static ({ cls := "StoneSheets", name := "alikeBy", desc := "(LStoneSheets$Rubbing;LStoneSheets$Rubbing;I)I" } : Jvm.MethodName)) ∈ lw_all := lw_g (lw_at lw_m4 101 rfl) rfl
theorem q902 : (Jvm.Cond.code ({ cls := "StoneSheets", name := "alikeBy", desc := "(LStoneSheets$Rubbing;LStoneSheets$Rubbing;I)I" } : Jvm.MethodName) prog_1_method_54_code (5 : Nat) (Option.some Jvm.ClassFile.FieldType.int)) ∈ lw_all := lw_g (lw_at lw_m4 102 rfl) rfl
theorem q904 : (Jvm.Cond.instanceMethod ({ cls := "StoneSheets", name := "clash", desc := "(II)I" } : Jvm.MethodName)) ∈ lw_all := lw_g (lw_at lw_m4 104 rfl) rfl
theorem q905 : (Jvm.Cond.selects "StoneSheets" ({ cls := "StoneSheets", name := "clash", desc := "(II)I" } : Jvm.MethodName) ({ cls := "StoneSheets", name := "clash", desc := "(II)I" } : Jvm.MethodName)) ∈ lw_all := lw_g (lw_at lw_m4 105 rfl) rfl
theorem q906 : (Jvm.Cond.code ({ cls := "StoneSheets", name := "clash", desc := "(II)I" } : Jvm.MethodName) prog_1_method_58_code (3 : Nat) (Option.some Jvm.ClassFile.FieldType.int)) ∈ lw_all := lw_g (lw_at lw_m4 106 rfl) rfl
theorem q907 : (Jvm.Cond.methodLink "StoneSheets" (370 : Nat) ({ cls := "StoneSheets", name := "isClash", desc := "(II)Z" } : Jvm.MethodName)) ∈ lw_all := lw_g (lw_at lw_m4 107 rfl) rfl
theorem q908 : (Jvm.Cond.privateMethod ({ cls := "StoneSheets", name := "isClash", desc := "(II)Z" } : Jvm.MethodName)) ∈ lw_tbl := lw_at lw_m4 108 rfl
theorem q909 : (Jvm.Cond.instanceMethod ({ cls := "StoneSheets", name := "isClash", desc := "(II)Z" } : Jvm.MethodName)) ∈ lw_all := lw_g (lw_at lw_m4 109 rfl) rfl
theorem q910 : (Jvm.Cond.code ({ cls := "StoneSheets", name := "isClash", desc := "(II)Z" } : Jvm.MethodName) prog_1_method_57_code (7 : Nat) (Option.some Jvm.ClassFile.FieldType.boolean)) ∈ lw_all := lw_g (lw_at lw_m4 110 rfl) rfl
theorem q912 : (Jvm.Cond.instanceMethod ({ cls := "StoneSheets", name := "undone", desc := "()I" } : Jvm.MethodName)) ∈ lw_all := lw_g (lw_at lw_m4 112 rfl) rfl
theorem q913 : (Jvm.Cond.selects "StoneSheets" ({ cls := "StoneSheets", name := "undone", desc := "()I" } : Jvm.MethodName) ({ cls := "StoneSheets", name := "undone", desc := "()I" } : Jvm.MethodName)) ∈ lw_all := lw_g (lw_at lw_m4 113 rfl) rfl
theorem q914 : (Jvm.Cond.code ({ cls := "StoneSheets", name := "undone", desc := "()I" } : Jvm.MethodName) prog_1_method_61_code (4 : Nat) (Option.some Jvm.ClassFile.FieldType.int)) ∈ lw_all := lw_g (lw_at lw_m4 114 rfl) rfl
theorem q915 : (Jvm.Cond.methodLink "StoneSheets" (373 : Nat) ({ cls := "StoneSheets", name := "findClashes", desc := "()V" } : Jvm.MethodName)) ∈ lw_all := lw_g (lw_at lw_m4 115 rfl) rfl
theorem q916 : (Jvm.Cond.privateMethod ({ cls := "StoneSheets", name := "findClashes", desc := "()V" } : Jvm.MethodName)) ∈ lw_tbl := lw_at lw_m4 116 rfl
theorem q917 : (Jvm.Cond.instanceMethod ({ cls := "StoneSheets", name := "findClashes", desc := "()V" } : Jvm.MethodName)) ∈ lw_all := lw_g (lw_at lw_m4 117 rfl) rfl
theorem q918 : (Jvm.Cond.code ({ cls := "StoneSheets", name := "findClashes", desc := "()V" } : Jvm.MethodName) prog_1_method_59_code (3 : Nat) (Option.none : Option Jvm.ClassFile.FieldType)) ∈ lw_all := lw_g (lw_at lw_m4 118 rfl) rfl
theorem q919 : (Jvm.Cond.methodLink "StoneSheets" (376 : Nat) ({ cls := "StoneSheets$State", name := "laid", desc := "()I" } : Jvm.MethodName)) ∈ lw_all := lw_g (lw_at lw_m4 119 rfl) rfl
theorem q923 : (Jvm.Cond.methodLink "StoneSheets" (378 : Nat) ({ cls := "StoneSheets", name := "bits", desc := "(I)I" } : Jvm.MethodName)) ∈ lw_all := lw_g (lw_at lw_m4 123 rfl) rfl
theorem q924 : (Jvm.Cond.static ({ cls := "StoneSheets", name := "bits", desc := "(I)I" } : Jvm.MethodName)) ∈ lw_all := lw_g (lw_at lw_m4 124 rfl) rfl
theorem q925 : (Jvm.Cond.code ({ cls := "StoneSheets", name := "bits", desc := "(I)I" } : Jvm.MethodName) prog_1_method_4_code (1 : Nat) (Option.some Jvm.ClassFile.FieldType.int)) ∈ lw_all := lw_g (lw_at lw_m4 125 rfl) rfl
theorem q926 : (Jvm.Cond.methodLink "StoneSheets" (13 : Nat) ({ cls := "java/lang/Integer", name := "bitCount", desc := "(I)I" } : Jvm.MethodName)) ∈ lw_all := lw_g (lw_at lw_m4 126 rfl) rfl
theorem q932 : (Jvm.Cond.methodLink "StoneSheets" (381 : Nat) ({ cls := "StoneSheets", name := "isPeace", desc := "(I)Z" } : Jvm.MethodName)) ∈ lw_all := lw_g (lw_at lw_m4 132 rfl) rfl
theorem q933 : (Jvm.Cond.privateMethod ({ cls := "StoneSheets", name := "isPeace", desc := "(I)Z" } : Jvm.MethodName)) ∈ lw_tbl := lw_at lw_m4 133 rfl
theorem q934 : (Jvm.Cond.instanceMethod ({ cls := "StoneSheets", name := "isPeace", desc := "(I)Z" } : Jvm.MethodName)) ∈ lw_all := lw_g (lw_at lw_m4 134 rfl) rfl
theorem q935 : (Jvm.Cond.code ({ cls := "StoneSheets", name := "isPeace", desc := "(I)Z" } : Jvm.MethodName) prog_1_method_60_code (4 : Nat) (Option.some Jvm.ClassFile.FieldType.boolean)) ∈ lw_all := lw_g (lw_at lw_m4 135 rfl) rfl
theorem q937 : (Jvm.Cond.instanceMethod ({ cls := "StoneSheets", name := "borne", desc := "()I" } : Jvm.MethodName)) ∈ lw_all := lw_g (lw_at lw_m4 137 rfl) rfl
theorem q938 : (Jvm.Cond.selects "StoneSheets" ({ cls := "StoneSheets", name := "borne", desc := "()I" } : Jvm.MethodName) ({ cls := "StoneSheets", name := "borne", desc := "()I" } : Jvm.MethodName)) ∈ lw_all := lw_g (lw_at lw_m4 138 rfl) rfl
theorem q939 : (Jvm.Cond.code ({ cls := "StoneSheets", name := "borne", desc := "()I" } : Jvm.MethodName) prog_1_method_62_code (5 : Nat) (Option.some Jvm.ClassFile.FieldType.int)) ∈ lw_all := lw_g (lw_at lw_m4 139 rfl) rfl
theorem q940 : (Jvm.Cond.methodLink "StoneSheets" (384 : Nat) ({ cls := "StoneSheets$State", name := "coveredBy", desc := "(I)I" } : Jvm.MethodName)) ∈ lw_all := lw_g (lw_at lw_m4 140 rfl) rfl
theorem q946 : (Jvm.Cond.instanceMethod ({ cls := "StoneSheets", name := "look", desc := "(I)I" } : Jvm.MethodName)) ∈ lw_all := lw_g (lw_at lw_m4 146 rfl) rfl
theorem q947 : (Jvm.Cond.selects "StoneSheets" ({ cls := "StoneSheets", name := "look", desc := "(I)I" } : Jvm.MethodName) ({ cls := "StoneSheets", name := "look", desc := "(I)I" } : Jvm.MethodName)) ∈ lw_all := lw_g (lw_at lw_m4 147 rfl) rfl
theorem q948 : (Jvm.Cond.code ({ cls := "StoneSheets", name := "look", desc := "(I)I" } : Jvm.MethodName) prog_1_method_64_code (6 : Nat) (Option.some Jvm.ClassFile.FieldType.int)) ∈ lw_all := lw_g (lw_at lw_m4 148 rfl) rfl
theorem q949 : (Jvm.Cond.methodLink "StoneSheets" (390 : Nat) ({ cls := "StoneSheets", name := "falseOnes", desc := "(I)I" } : Jvm.MethodName)) ∈ lw_all := lw_g (lw_at lw_m4 149 rfl) rfl
theorem q950 : (Jvm.Cond.privateMethod ({ cls := "StoneSheets", name := "falseOnes", desc := "(I)I" } : Jvm.MethodName)) ∈ lw_tbl := lw_at lw_m4 150 rfl
theorem q951 : (Jvm.Cond.instanceMethod ({ cls := "StoneSheets", name := "falseOnes", desc := "(I)I" } : Jvm.MethodName)) ∈ lw_all := lw_g (lw_at lw_m4 151 rfl) rfl
theorem q952 : (Jvm.Cond.code ({ cls := "StoneSheets", name := "falseOnes", desc := "(I)I" } : Jvm.MethodName) prog_1_method_63_code (4 : Nat) (Option.some Jvm.ClassFile.FieldType.int)) ∈ lw_all := lw_g (lw_at lw_m4 152 rfl) rfl
theorem q953 : (Jvm.Cond.methodLink "StoneSheets" (387 : Nat) ({ cls := "StoneSheets$State", name := "isFalse", desc := "(II)Z" } : Jvm.MethodName)) ∈ lw_all := lw_g (lw_at lw_m4 153 rfl) rfl
theorem q970 : (Jvm.Cond.instanceMethod ({ cls := "StoneSheets", name := "tides", desc := "(I)I" } : Jvm.MethodName)) ∈ lw_all := lw_g (lw_at lw_m4 170 rfl) rfl
theorem q971 : (Jvm.Cond.selects "StoneSheets" ({ cls := "StoneSheets", name := "tides", desc := "(I)I" } : Jvm.MethodName) ({ cls := "StoneSheets", name := "tides", desc := "(I)I" } : Jvm.MethodName)) ∈ lw_all := lw_g (lw_at lw_m4 171 rfl) rfl
theorem q972 : (Jvm.Cond.code ({ cls := "StoneSheets", name := "tides", desc := "(I)I" } : Jvm.MethodName) prog_1_method_67_code (3 : Nat) (Option.some Jvm.ClassFile.FieldType.int)) ∈ lw_all := lw_g (lw_at lw_m4 172 rfl) rfl
theorem q973 : (Jvm.Cond.methodLink "StoneSheets" (405 : Nat) ({ cls := "StoneSheets", name := "goesOn", desc := "(I)V" } : Jvm.MethodName)) ∈ lw_all := lw_g (lw_at lw_m4 173 rfl) rfl
theorem q974 : (Jvm.Cond.privateMethod ({ cls := "StoneSheets", name := "goesOn", desc := "(I)V" } : Jvm.MethodName)) ∈ lw_tbl := lw_at lw_m4 174 rfl
theorem q975 : (Jvm.Cond.instanceMethod ({ cls := "StoneSheets", name := "goesOn", desc := "(I)V" } : Jvm.MethodName)) ∈ lw_all := lw_g (lw_at lw_m4 175 rfl) rfl
theorem q976 : (Jvm.Cond.code ({ cls := "StoneSheets", name := "goesOn", desc := "(I)V" } : Jvm.MethodName) prog_1_method_66_code (3 : Nat) (Option.none : Option Jvm.ClassFile.FieldType)) ∈ lw_all := lw_g (lw_at lw_m4 176 rfl) rfl
theorem q977 : (Jvm.Cond.methodLink "StoneSheets" (402 : Nat) ({ cls := "StoneSheets", name := "aTide", desc := "()V" } : Jvm.MethodName)) ∈ lw_all := lw_g (lw_at lw_m4 177 rfl) rfl
theorem q978 : (Jvm.Cond.privateMethod ({ cls := "StoneSheets", name := "aTide", desc := "()V" } : Jvm.MethodName)) ∈ lw_tbl := lw_at lw_m4 178 rfl
theorem q979 : (Jvm.Cond.instanceMethod ({ cls := "StoneSheets", name := "aTide", desc := "()V" } : Jvm.MethodName)) ∈ lw_all := lw_g (lw_at lw_m4 179 rfl) rfl
theorem q980 : (Jvm.Cond.code ({ cls := "StoneSheets", name := "aTide", desc := "()V" } : Jvm.MethodName) prog_1_method_65_code (4 : Nat) (Option.none : Option Jvm.ClassFile.FieldType)) ∈ lw_all := lw_g (lw_at lw_m4 180 rfl) rfl
theorem q981 : (Jvm.Cond.methodLink "StoneSheets" (393 : Nat) ({ cls := "StoneSheets$Rubbing", name := "covers", desc := "(I)Z" } : Jvm.MethodName)) ∈ lw_all := lw_g (lw_at lw_m4 181 rfl) rfl
theorem q983 : (Jvm.Cond.instanceMethod ({ cls := "StoneSheets", name := "book", desc := "(I)I" } : Jvm.MethodName)) ∈ lw_all := lw_g (lw_at lw_m4 183 rfl) rfl
theorem q984 : (Jvm.Cond.selects "StoneSheets" ({ cls := "StoneSheets", name := "book", desc := "(I)I" } : Jvm.MethodName) ({ cls := "StoneSheets", name := "book", desc := "(I)I" } : Jvm.MethodName)) ∈ lw_all := lw_g (lw_at lw_m4 184 rfl) rfl
theorem q985 : (Jvm.Cond.code ({ cls := "StoneSheets", name := "book", desc := "(I)I" } : Jvm.MethodName) prog_1_method_68_code (2 : Nat) (Option.some Jvm.ClassFile.FieldType.int)) ∈ lw_all := lw_g (lw_at lw_m4 185 rfl) rfl
theorem q986 : (Jvm.Cond.methodLink "StoneSheets" (408 : Nat) ({ cls := "StoneSheets$State", name := "trust", desc := "()I" } : Jvm.MethodName)) ∈ lw_all := lw_g (lw_at lw_m4 186 rfl) rfl
theorem q991 : (Jvm.Cond.instanceMethod ({ cls := "StoneSheets", name := "behind", desc := "(II)I" } : Jvm.MethodName)) ∈ lw_all := lw_g (lw_at lw_m4 191 rfl) rfl
theorem q992 : (Jvm.Cond.selects "StoneSheets" ({ cls := "StoneSheets", name := "behind", desc := "(II)I" } : Jvm.MethodName) ({ cls := "StoneSheets", name := "behind", desc := "(II)I" } : Jvm.MethodName)) ∈ lw_all := lw_g (lw_at lw_m4 192 rfl) rfl
theorem q993 : (Jvm.Cond.code ({ cls := "StoneSheets", name := "behind", desc := "(II)I" } : Jvm.MethodName) prog_1_method_71_code (4 : Nat) (Option.some Jvm.ClassFile.FieldType.int)) ∈ lw_all := lw_g (lw_at lw_m4 193 rfl) rfl
theorem q994 : (Jvm.Cond.methodLink "StoneSheets" (414 : Nat) ({ cls := "StoneSheets", name := "thinks", desc := "()V" } : Jvm.MethodName)) ∈ lw_all := lw_g (lw_at lw_m4 194 rfl) rfl
theorem q995 : (Jvm.Cond.privateMethod ({ cls := "StoneSheets", name := "thinks", desc := "()V" } : Jvm.MethodName)) ∈ lw_tbl := lw_at lw_m4 195 rfl
theorem q996 : (Jvm.Cond.instanceMethod ({ cls := "StoneSheets", name := "thinks", desc := "()V" } : Jvm.MethodName)) ∈ lw_all := lw_g (lw_at lw_m4 196 rfl) rfl
theorem q997 : (Jvm.Cond.code ({ cls := "StoneSheets", name := "thinks", desc := "()V" } : Jvm.MethodName) prog_1_method_69_code (1 : Nat) (Option.none : Option Jvm.ClassFile.FieldType)) ∈ lw_all := lw_g (lw_at lw_m4 197 rfl) rfl
theorem q998 : (Jvm.Cond.methodLink "StoneSheets" (410 : Nat) ({ cls := "StoneSheets$State", name := "copyOf", desc := "(LStoneSheets$State;)V" } : Jvm.MethodName)) ∈ lw_all := lw_g (lw_at lw_m4 198 rfl) rfl
theorem q1037 : (Jvm.Cond.static ({ cls := "StoneSheets", name := "copyRow", desc := "([I[I)V" } : Jvm.MethodName)) ∈ lw_all := lw_g (lw_at lw_m4 237 rfl) rfl
theorem q1038 : (Jvm.Cond.code ({ cls := "StoneSheets", name := "copyRow", desc := "([I[I)V" } : Jvm.MethodName) prog_1_method_6_code (2 : Nat) (Option.none : Option Jvm.ClassFile.FieldType)) ∈ lw_all := lw_g (lw_at lw_m4 238 rfl) rfl
theorem q1039 : (Jvm.Cond.methodLink "StoneSheets" (40 : Nat) ({ cls := "java/lang/System", name := "arraycopy", desc := "(Ljava/lang/Object;ILjava/lang/Object;II)V" } : Jvm.MethodName)) ∈ lw_all := lw_g (lw_at lw_m4 239 rfl) rfl
theorem q1043 : (Jvm.Cond.methodLink "StoneSheets" (417 : Nat) ({ cls := "StoneSheets", name := "putsBack", desc := "()V" } : Jvm.MethodName)) ∈ lw_all := lw_g (lw_at lw_m5 3 rfl) rfl
theorem q1044 : (Jvm.Cond.privateMethod ({ cls := "StoneSheets", name := "putsBack", desc := "()V" } : Jvm.MethodName)) ∈ lw_tbl := lw_at lw_m5 4 rfl
theorem q1045 : (Jvm.Cond.instanceMethod ({ cls := "StoneSheets", name := "putsBack", desc := "()V" } : Jvm.MethodName)) ∈ lw_all := lw_g (lw_at lw_m5 5 rfl) rfl
theorem q1046 : (Jvm.Cond.code ({ cls := "StoneSheets", name := "putsBack", desc := "()V" } : Jvm.MethodName) prog_1_method_70_code (1 : Nat) (Option.none : Option Jvm.ClassFile.FieldType)) ∈ lw_all := lw_g (lw_at lw_m5 6 rfl) rfl
theorem q1048 : (Jvm.Cond.instanceMethod ({ cls := "StoneSheets", name := "lasts", desc := "()I" } : Jvm.MethodName)) ∈ lw_all := lw_g (lw_at lw_m5 8 rfl) rfl
theorem q1049 : (Jvm.Cond.selects "StoneSheets" ({ cls := "StoneSheets", name := "lasts", desc := "()I" } : Jvm.MethodName) ({ cls := "StoneSheets", name := "lasts", desc := "()I" } : Jvm.MethodName)) ∈ lw_all := lw_g (lw_at lw_m5 9 rfl) rfl
theorem q1050 : (Jvm.Cond.code ({ cls := "StoneSheets", name := "lasts", desc := "()I" } : Jvm.MethodName) prog_1_method_72_code (2 : Nat) (Option.some Jvm.ClassFile.FieldType.int)) ∈ lw_all := lw_g (lw_at lw_m5 10 rfl) rfl
theorem q1052 : (Jvm.Cond.instanceMethod ({ cls := "StoneSheets", name := "best", desc := "(III)I" } : Jvm.MethodName)) ∈ lw_all := lw_g (lw_at lw_m5 12 rfl) rfl
theorem q1053 : (Jvm.Cond.selects "StoneSheets" ({ cls := "StoneSheets", name := "best", desc := "(III)I" } : Jvm.MethodName) ({ cls := "StoneSheets", name := "best", desc := "(III)I" } : Jvm.MethodName)) ∈ lw_all := lw_g (lw_at lw_m5 13 rfl) rfl
theorem q1054 : (Jvm.Cond.code ({ cls := "StoneSheets", name := "best", desc := "(III)I" } : Jvm.MethodName) prog_1_method_73_code (8 : Nat) (Option.some Jvm.ClassFile.FieldType.int)) ∈ lw_all := lw_g (lw_at lw_m5 14 rfl) rfl
theorem q1056 : (Jvm.Cond.instanceMethod ({ cls := "StoneSheets", name := "taught", desc := "(II)I" } : Jvm.MethodName)) ∈ lw_all := lw_g (lw_at lw_m5 16 rfl) rfl
theorem q1057 : (Jvm.Cond.selects "StoneSheets" ({ cls := "StoneSheets", name := "taught", desc := "(II)I" } : Jvm.MethodName) ({ cls := "StoneSheets", name := "taught", desc := "(II)I" } : Jvm.MethodName)) ∈ lw_all := lw_g (lw_at lw_m5 17 rfl) rfl
theorem q1058 : (Jvm.Cond.code ({ cls := "StoneSheets", name := "taught", desc := "(II)I" } : Jvm.MethodName) prog_1_method_74_code (7 : Nat) (Option.some Jvm.ClassFile.FieldType.int)) ∈ lw_all := lw_g (lw_at lw_m5 18 rfl) rfl
theorem q1060 : (Jvm.Cond.instanceMethod ({ cls := "StoneSheets", name := "fee", desc := "()I" } : Jvm.MethodName)) ∈ lw_all := lw_g (lw_at lw_m5 20 rfl) rfl
theorem q1061 : (Jvm.Cond.selects "StoneSheets" ({ cls := "StoneSheets", name := "fee", desc := "()I" } : Jvm.MethodName) ({ cls := "StoneSheets", name := "fee", desc := "()I" } : Jvm.MethodName)) ∈ lw_all := lw_g (lw_at lw_m5 21 rfl) rfl
theorem q1062 : (Jvm.Cond.code ({ cls := "StoneSheets", name := "fee", desc := "()I" } : Jvm.MethodName) prog_1_method_75_code (2 : Nat) (Option.some Jvm.ClassFile.FieldType.int)) ∈ lw_all := lw_g (lw_at lw_m5 22 rfl) rfl
theorem q1064 : (Jvm.Cond.instanceMethod ({ cls := "StoneSheets", name := "fine", desc := "(I)I" } : Jvm.MethodName)) ∈ lw_all := lw_g (lw_at lw_m5 24 rfl) rfl
theorem q1065 : (Jvm.Cond.selects "StoneSheets" ({ cls := "StoneSheets", name := "fine", desc := "(I)I" } : Jvm.MethodName) ({ cls := "StoneSheets", name := "fine", desc := "(I)I" } : Jvm.MethodName)) ∈ lw_all := lw_g (lw_at lw_m5 25 rfl) rfl
theorem q1066 : (Jvm.Cond.code ({ cls := "StoneSheets", name := "fine", desc := "(I)I" } : Jvm.MethodName) prog_1_method_76_code (4 : Nat) (Option.some Jvm.ClassFile.FieldType.int)) ∈ lw_all := lw_g (lw_at lw_m5 26 rfl) rfl
theorem q1068 : (Jvm.Cond.instanceMethod ({ cls := "StoneSheets", name := "sheet", desc := "(III)I" } : Jvm.MethodName)) ∈ lw_all := lw_g (lw_at lw_m5 28 rfl) rfl
theorem q1069 : (Jvm.Cond.selects "StoneSheets" ({ cls := "StoneSheets", name := "sheet", desc := "(III)I" } : Jvm.MethodName) ({ cls := "StoneSheets", name := "sheet", desc := "(III)I" } : Jvm.MethodName)) ∈ lw_all := lw_g (lw_at lw_m5 29 rfl) rfl
theorem q1070 : (Jvm.Cond.codeWith ({ cls := "StoneSheets", name := "sheet", desc := "(III)I" } : Jvm.MethodName) prog_1_method_80_code (5 : Nat) (Option.some Jvm.ClassFile.FieldType.int) [((45 : Nat), (69 : Nat), (70 : Nat), (431 : Nat))]) ∈ lw_all := lw_g (lw_at lw_m5 30 rfl) rfl
theorem q1071 : (Jvm.Cond.classLink "StoneSheets" (431 : Nat) "java/lang/NegativeArraySizeException") ∈ lw_all := lw_g (lw_at lw_m5 31 rfl) rfl
theorem q1085 : (Jvm.Cond.methodLink "StoneSheets" (420 : Nat) ({ cls := "StoneSheets", name := "isSheet", desc := "(I)Z" } : Jvm.MethodName)) ∈ lw_all := lw_g (lw_at lw_m5 45 rfl) rfl
theorem q1086 : (Jvm.Cond.static ({ cls := "StoneSheets", name := "isSheet", desc := "(I)Z" } : Jvm.MethodName)) ∈ lw_all := lw_g (lw_at lw_m5 46 rfl) rfl
theorem q1087 : (Jvm.Cond.code ({ cls := "StoneSheets", name := "isSheet", desc := "(I)Z" } : Jvm.MethodName) prog_1_method_77_code (1 : Nat) (Option.some Jvm.ClassFile.FieldType.boolean)) ∈ lw_all := lw_g (lw_at lw_m5 47 rfl) rfl
theorem q1088 : (Jvm.Cond.methodLink "StoneSheets" (427 : Nat) ({ cls := "StoneSheets", name := "rowOf", desc := "(ZI)Ljava/lang/Object;" } : Jvm.MethodName)) ∈ lw_all := lw_g (lw_at lw_m5 48 rfl) rfl
theorem q1089 : (Jvm.Cond.static ({ cls := "StoneSheets", name := "rowOf", desc := "(ZI)Ljava/lang/Object;" } : Jvm.MethodName)) ∈ lw_all := lw_g (lw_at lw_m5 49 rfl) rfl
theorem q1090 : (Jvm.Cond.code ({ cls := "StoneSheets", name := "rowOf", desc := "(ZI)Ljava/lang/Object;" } : Jvm.MethodName) prog_1_method_79_code (2 : Nat) (Option.some (Jvm.ClassFile.FieldType.object "java/lang/Object"))) ∈ lw_all := lw_g (lw_at lw_m5 50 rfl) rfl
theorem q1091 : (Jvm.Cond.constant "StoneSheets" (433 : Nat) (-1000000014 : Int32)) ∈ lw_all := lw_g (lw_at lw_m5 51 rfl) rfl
theorem q1094 : (Jvm.Cond.instanceMethod ({ cls := "StoneSheets", name := "mark", desc := "(III)I" } : Jvm.MethodName)) ∈ lw_all := lw_g (lw_at lw_m5 54 rfl) rfl
theorem q1095 : (Jvm.Cond.selects "StoneSheets" ({ cls := "StoneSheets", name := "mark", desc := "(III)I" } : Jvm.MethodName) ({ cls := "StoneSheets", name := "mark", desc := "(III)I" } : Jvm.MethodName)) ∈ lw_all := lw_g (lw_at lw_m5 55 rfl) rfl
theorem q1096 : (Jvm.Cond.code ({ cls := "StoneSheets", name := "mark", desc := "(III)I" } : Jvm.MethodName) prog_1_method_82_code (5 : Nat) (Option.some Jvm.ClassFile.FieldType.int)) ∈ lw_all := lw_g (lw_at lw_m5 56 rfl) rfl
theorem q1097 : (Jvm.Cond.methodLink "StoneSheets" (446 : Nat) ({ cls := "StoneSheets$Sheet", name := "isThere", desc := "()Z" } : Jvm.MethodName)) ∈ lw_all := lw_g (lw_at lw_m5 57 rfl) rfl
theorem q1101 : (Jvm.Cond.constant "StoneSheets" (449 : Nat) (-1000000011 : Int32)) ∈ lw_all := lw_g (lw_at lw_m5 61 rfl) rfl
theorem q1102 : (Jvm.Cond.methodLink "StoneSheets" (450 : Nat) ({ cls := "StoneSheets$Sheet", name := "size", desc := "()I" } : Jvm.MethodName)) ∈ lw_all := lw_g (lw_at lw_m5 62 rfl) rfl
theorem q1112 : (Jvm.Cond.methodLink "StoneSheets" (452 : Nat) ({ cls := "StoneSheets", name := "markIn", desc := "(LStoneSheets$Sheet;II)I" } : Jvm.MethodName)) ∈ lw_all := lw_g (lw_at lw_m5 72 rfl) rfl
theorem q1113 : (Jvm.Cond.static ({ cls := "StoneSheets", name := "markIn", desc := "(LStoneSheets$Sheet;II)I" } : Jvm.MethodName)) ∈ lw_all := lw_g (lw_at lw_m5 73 rfl) rfl
theorem q1114 : (Jvm.Cond.code ({ cls := "StoneSheets", name := "markIn", desc := "(LStoneSheets$Sheet;II)I" } : Jvm.MethodName) prog_1_method_81_code (3 : Nat) (Option.some Jvm.ClassFile.FieldType.int)) ∈ lw_all := lw_g (lw_at lw_m5 74 rfl) rfl
theorem q1115 : (Jvm.Cond.methodLink "StoneSheets" (434 : Nat) ({ cls := "StoneSheets$Sheet", name := "isFloats", desc := "()Z" } : Jvm.MethodName)) ∈ lw_all := lw_g (lw_at lw_m5 75 rfl) rfl
theorem q1116 : (Jvm.Cond.classLink "StoneSheets" (438 : Nat) "[F") ∈ lw_all := lw_g (lw_at lw_m5 76 rfl) rfl
theorem q1117 : (Jvm.Cond.constantFloat "StoneSheets" (441 : Nat) (2143289344 : UInt32)) ∈ lw_all := lw_g (lw_at lw_m5 77 rfl) rfl
theorem q1118 : (Jvm.Cond.constant "StoneSheets" (442 : Nat) (-99999 : Int32)) ∈ lw_all := lw_g (lw_at lw_m5 78 rfl) rfl
theorem q1119 : (Jvm.Cond.methodLink "StoneSheets" (443 : Nat) ({ cls := "StoneSheets$Sheet", name := "put", desc := "(II)V" } : Jvm.MethodName)) ∈ lw_all := lw_g (lw_at lw_m5 79 rfl) rfl
theorem q1123 : (Jvm.Cond.constant "StoneSheets" (456 : Nat) (-1000000013 : Int32)) ∈ lw_all := lw_g (lw_at lw_m5 83 rfl) rfl
theorem q1125 : (Jvm.Cond.instanceMethod ({ cls := "StoneSheets", name := "pour", desc := "(I)I" } : Jvm.MethodName)) ∈ lw_all := lw_g (lw_at lw_m5 85 rfl) rfl
theorem q1126 : (Jvm.Cond.selects "StoneSheets" ({ cls := "StoneSheets", name := "pour", desc := "(I)I" } : Jvm.MethodName) ({ cls := "StoneSheets", name := "pour", desc := "(I)I" } : Jvm.MethodName)) ∈ lw_all := lw_g (lw_at lw_m5 86 rfl) rfl
theorem q1127 : (Jvm.Cond.code ({ cls := "StoneSheets", name := "pour", desc := "(I)I" } : Jvm.MethodName) prog_1_method_83_code (6 : Nat) (Option.some Jvm.ClassFile.FieldType.int)) ∈ lw_all := lw_g (lw_at lw_m5 87 rfl) rfl
theorem q1128 : (Jvm.Cond.methodLink "StoneSheets" (457 : Nat) ({ cls := "StoneSheets$Sheet", name := "isNumber", desc := "(I)Z" } : Jvm.MethodName)) ∈ lw_all := lw_g (lw_at lw_m5 88 rfl) rfl
theorem q1132 : (Jvm.Cond.methodLink "StoneSheets" (460 : Nat) ({ cls := "StoneSheets$Sheet", name := "at", desc := "(I)I" } : Jvm.MethodName)) ∈ lw_all := lw_g (lw_at lw_m5 92 rfl) rfl
theorem q1137 : (Jvm.Cond.instanceMethod ({ cls := "StoneSheets", name := "reads", desc := "(I)I" } : Jvm.MethodName)) ∈ lw_all := lw_g (lw_at lw_m5 97 rfl) rfl
theorem q1138 : (Jvm.Cond.selects "StoneSheets" ({ cls := "StoneSheets", name := "reads", desc := "(I)I" } : Jvm.MethodName) ({ cls := "StoneSheets", name := "reads", desc := "(I)I" } : Jvm.MethodName)) ∈ lw_all := lw_g (lw_at lw_m5 98 rfl) rfl
theorem q1139 : (Jvm.Cond.code ({ cls := "StoneSheets", name := "reads", desc := "(I)I" } : Jvm.MethodName) prog_1_method_84_code (4 : Nat) (Option.some Jvm.ClassFile.FieldType.int)) ∈ lw_all := lw_g (lw_at lw_m5 99 rfl) rfl
theorem q1141 : (Jvm.Cond.instanceMethod ({ cls := "StoneSheets", name := "whose", desc := "(II)I" } : Jvm.MethodName)) ∈ lw_all := lw_g (lw_at lw_m5 101 rfl) rfl
theorem q1142 : (Jvm.Cond.selects "StoneSheets" ({ cls := "StoneSheets", name := "whose", desc := "(II)I" } : Jvm.MethodName) ({ cls := "StoneSheets", name := "whose", desc := "(II)I" } : Jvm.MethodName)) ∈ lw_all := lw_g (lw_at lw_m5 102 rfl) rfl
theorem q1143 : (Jvm.Cond.code ({ cls := "StoneSheets", name := "whose", desc := "(II)I" } : Jvm.MethodName) prog_1_method_86_code (10 : Nat) (Option.some Jvm.ClassFile.FieldType.int)) ∈ lw_all := lw_g (lw_at lw_m5 103 rfl) rfl
theorem q1144 : (Jvm.Cond.methodLink "StoneSheets" (467 : Nat) ({ cls := "StoneSheets", name := "offBy", desc := "(LStoneSheets$Sheet;LStoneSheets$Rubbing;)J" } : Jvm.MethodName)) ∈ lw_all := lw_g (lw_at lw_m5 104 rfl) rfl
theorem q1145 : (Jvm.Cond.static ({ cls := "StoneSheets", name := "offBy", desc := "(LStoneSheets$Sheet;LStoneSheets$Rubbing;)J" } : Jvm.MethodName)) ∈ lw_all := lw_g (lw_at lw_m5 105 rfl) rfl
theorem q1146 : (Jvm.Cond.code ({ cls := "StoneSheets", name := "offBy", desc := "(LStoneSheets$Sheet;LStoneSheets$Rubbing;)J" } : Jvm.MethodName) prog_1_method_85_code (6 : Nat) (Option.some Jvm.ClassFile.FieldType.long)) ∈ lw_all := lw_g (lw_at lw_m5 106 rfl) rfl
theorem q1147 : (Jvm.Cond.methodLink "StoneSheets" (463 : Nat) ({ cls := "java/lang/Math", name := "abs", desc := "(J)J" } : Jvm.MethodName)) ∈ lw_all := lw_g (lw_at lw_m5 107 rfl) rfl
theorem q1151 : (Jvm.Cond.instanceMethod ({ cls := "StoneSheets", name := "copy", desc := "(IIIII)I" } : Jvm.MethodName)) ∈ lw_all := lw_g (lw_at lw_m5 111 rfl) rfl
theorem q1152 : (Jvm.Cond.selects "StoneSheets" ({ cls := "StoneSheets", name := "copy", desc := "(IIIII)I" } : Jvm.MethodName) ({ cls := "StoneSheets", name := "copy", desc := "(IIIII)I" } : Jvm.MethodName)) ∈ lw_all := lw_g (lw_at lw_m5 112 rfl) rfl
theorem q1153 : (Jvm.Cond.code ({ cls := "StoneSheets", name := "copy", desc := "(IIIII)I" } : Jvm.MethodName) prog_1_method_88_code (8 : Nat) (Option.some Jvm.ClassFile.FieldType.int)) ∈ lw_all := lw_g (lw_at lw_m5 113 rfl) rfl
theorem q1154 : (Jvm.Cond.methodLink "StoneSheets" (473 : Nat) ({ cls := "StoneSheets", name := "carries", desc := "(LStoneSheets$Sheet;ILStoneSheets$Sheet;II)V" } : Jvm.MethodName)) ∈ lw_all := lw_g (lw_at lw_m5 114 rfl) rfl
theorem q1155 : (Jvm.Cond.privateMethod ({ cls := "StoneSheets", name := "carries", desc := "(LStoneSheets$Sheet;ILStoneSheets$Sheet;II)V" } : Jvm.MethodName)) ∈ lw_tbl := lw_at lw_m5 115 rfl
theorem q1156 : (Jvm.Cond.instanceMethod ({ cls := "StoneSheets", name := "carries", desc := "(LStoneSheets$Sheet;ILStoneSheets$Sheet;II)V" } : Jvm.MethodName)) ∈ lw_all := lw_g (lw_at lw_m5 116 rfl) rfl
theorem q1157 : (Jvm.Cond.code ({ cls := "StoneSheets", name := "carries", desc := "(LStoneSheets$Sheet;ILStoneSheets$Sheet;II)V" } : Jvm.MethodName) prog_1_method_87_code (9 : Nat) (Option.none : Option Jvm.ClassFile.FieldType)) ∈ lw_all := lw_g (lw_at lw_m5 117 rfl) rfl
theorem q1158 : (Jvm.Cond.classLink "StoneSheets" (471 : Nat) "[S") ∈ lw_all := lw_g (lw_at lw_m5 118 rfl) rfl
theorem q1160 : (Jvm.Cond.instanceMethod ({ cls := "StoneSheets", name := "lay", desc := "(III)I" } : Jvm.MethodName)) ∈ lw_all := lw_g (lw_at lw_m5 120 rfl) rfl
theorem q1161 : (Jvm.Cond.selects "StoneSheets" ({ cls := "StoneSheets", name := "lay", desc := "(III)I" } : Jvm.MethodName) ({ cls := "StoneSheets", name := "lay", desc := "(III)I" } : Jvm.MethodName)) ∈ lw_all := lw_g (lw_at lw_m5 121 rfl) rfl
theorem q1162 : (Jvm.Cond.code ({ cls := "StoneSheets", name := "lay", desc := "(III)I" } : Jvm.MethodName) prog_1_method_90_code (5 : Nat) (Option.some Jvm.ClassFile.FieldType.int)) ∈ lw_all := lw_g (lw_at lw_m5 122 rfl) rfl
theorem q1163 : (Jvm.Cond.methodLink "StoneSheets" (477 : Nat) ({ cls := "StoneSheets", name := "isSlot", desc := "(I)Z" } : Jvm.MethodName)) ∈ lw_all := lw_g (lw_at lw_m5 123 rfl) rfl
theorem q1164 : (Jvm.Cond.static ({ cls := "StoneSheets", name := "isSlot", desc := "(I)Z" } : Jvm.MethodName)) ∈ lw_all := lw_g (lw_at lw_m5 124 rfl) rfl
theorem q1165 : (Jvm.Cond.code ({ cls := "StoneSheets", name := "isSlot", desc := "(I)Z" } : Jvm.MethodName) prog_1_method_78_code (1 : Nat) (Option.some Jvm.ClassFile.FieldType.boolean)) ∈ lw_all := lw_g (lw_at lw_m5 125 rfl) rfl
theorem q1166 : (Jvm.Cond.methodLink "StoneSheets" (480 : Nat) ({ cls := "StoneSheets$Slot", name := "thing", desc := "()I" } : Jvm.MethodName)) ∈ lw_all := lw_g (lw_at lw_m5 126 rfl) rfl
theorem q1172 : (Jvm.Cond.methodLink "StoneSheets" (483 : Nat) ({ cls := "StoneSheets$Rubbing", name := "copy", desc := "()LStoneSheets$Rubbing;" } : Jvm.MethodName)) ∈ lw_all := lw_g (lw_at lw_m5 132 rfl) rfl
theorem q1184 : (Jvm.Cond.methodLink "StoneSheets" (487 : Nat) ({ cls := "StoneSheets", name := "own", desc := "(LStoneSheets$Sheet;)LStoneSheets$Sheet;" } : Jvm.MethodName)) ∈ lw_all := lw_g (lw_at lw_m5 144 rfl) rfl
theorem q1185 : (Jvm.Cond.privateMethod ({ cls := "StoneSheets", name := "own", desc := "(LStoneSheets$Sheet;)LStoneSheets$Sheet;" } : Jvm.MethodName)) ∈ lw_tbl := lw_at lw_m5 145 rfl
theorem q1186 : (Jvm.Cond.instanceMethod ({ cls := "StoneSheets", name := "own", desc := "(LStoneSheets$Sheet;)LStoneSheets$Sheet;" } : Jvm.MethodName)) ∈ lw_all := lw_g (lw_at lw_m5 146 rfl) rfl
theorem q1187 : (Jvm.Cond.code ({ cls := "StoneSheets", name := "own", desc := "(LStoneSheets$Sheet;)LStoneSheets$Sheet;" } : Jvm.MethodName) prog_1_method_89_code (3 : Nat) (Option.some (Jvm.ClassFile.FieldType.object "StoneSheets$Sheet"))) ∈ lw_all := lw_g (lw_at lw_m5 147 rfl) rfl
theorem q1188 : (Jvm.Cond.classLink "StoneSheets" (491 : Nat) "StoneSheets$Figure") ∈ lw_all := lw_g (lw_at lw_m5 148 rfl) rfl
theorem q1190 : (Jvm.Cond.methodLink "StoneSheets" (493 : Nat) ({ cls := "StoneSheets$Figure", name := "<init>", desc := "(I)V" } : Jvm.MethodName)) ∈ lw_all := lw_g (lw_at lw_m5 150 rfl) rfl
theorem q1195 : (Jvm.Cond.fieldLinkNest "StoneSheets" (501 : Nat) "StoneSheets$Figure" "v" "I" "StoneSheets") ∈ lw_tbl := lw_at lw_m5 155 rfl
theorem q1200 : (Jvm.Cond.instanceMethod ({ cls := "StoneSheets", name := "ask", desc := "(II)I" } : Jvm.MethodName)) ∈ lw_all := lw_g (lw_at lw_m5 160 rfl) rfl
theorem q1201 : (Jvm.Cond.selects "StoneSheets" ({ cls := "StoneSheets", name := "ask", desc := "(II)I" } : Jvm.MethodName) ({ cls := "StoneSheets", name := "ask", desc := "(II)I" } : Jvm.MethodName)) ∈ lw_all := lw_g (lw_at lw_m5 161 rfl) rfl
theorem q1202 : (Jvm.Cond.codeWith ({ cls := "StoneSheets", name := "ask", desc := "(II)I" } : Jvm.MethodName) prog_1_method_91_code (5 : Nat) (Option.some Jvm.ClassFile.FieldType.int) [((37 : Nat), (51 : Nat), (52 : Nat), (330 : Nat))]) ∈ lw_all := lw_g (lw_at lw_m5 162 rfl) rfl
theorem q1203 : (Jvm.Cond.interfaceEntry "StoneSheets" (498 : Nat)) ∈ lw_tbl := lw_at lw_m5 163 rfl
theorem q1204 : (Jvm.Cond.methodLink "StoneSheets" (498 : Nat) ({ cls := "StoneSheets$Trusted", name := "worth", desc := "()I" } : Jvm.MethodName)) ∈ lw_all := lw_g (lw_at lw_m5 164 rfl) rfl
theorem q1232 : (Jvm.Cond.instanceMethod ({ cls := "StoneSheets", name := "item", desc := "(II)I" } : Jvm.MethodName)) ∈ lw_all := lw_g (lw_at lw_m5 192 rfl) rfl
theorem q1233 : (Jvm.Cond.selects "StoneSheets" ({ cls := "StoneSheets", name := "item", desc := "(II)I" } : Jvm.MethodName) ({ cls := "StoneSheets", name := "item", desc := "(II)I" } : Jvm.MethodName)) ∈ lw_all := lw_g (lw_at lw_m5 193 rfl) rfl
theorem q1234 : (Jvm.Cond.codeWith ({ cls := "StoneSheets", name := "item", desc := "(II)I" } : Jvm.MethodName) prog_1_method_92_code (5 : Nat) (Option.some Jvm.ClassFile.FieldType.int) [((28 : Nat), (52 : Nat), (75 : Nat), (330 : Nat)), ((53 : Nat), (74 : Nat), (75 : Nat), (330 : Nat))]) ∈ lw_all := lw_g (lw_at lw_m5 194 rfl) rfl
theorem q1236 : (Jvm.Cond.instanceMethod ({ cls := "StoneSheets", name := "rest", desc := "(II)I" } : Jvm.MethodName)) ∈ lw_all := lw_g (lw_at lw_m5 196 rfl) rfl
theorem q1237 : (Jvm.Cond.selects "StoneSheets" ({ cls := "StoneSheets", name := "rest", desc := "(II)I" } : Jvm.MethodName) ({ cls := "StoneSheets", name := "rest", desc := "(II)I" } : Jvm.MethodName)) ∈ lw_all := lw_g (lw_at lw_m5 197 rfl) rfl
theorem q1238 : (Jvm.Cond.code ({ cls := "StoneSheets", name := "rest", desc := "(II)I" } : Jvm.MethodName) prog_1_method_93_code (5 : Nat) (Option.some Jvm.ClassFile.FieldType.int)) ∈ lw_all := lw_g (lw_at lw_m5 198 rfl) rfl
theorem q1239 : (Jvm.Cond.constant "StoneSheets" (504 : Nat) (-1000000002 : Int32)) ∈ lw_all := lw_g (lw_at lw_m5 199 rfl) rfl
theorem q1241 : (Jvm.Cond.instanceMethod ({ cls := "StoneSheets", name := "tell", desc := "(I)I" } : Jvm.MethodName)) ∈ lw_all := lw_g (lw_at lw_m5 201 rfl) rfl
theorem q1242 : (Jvm.Cond.selects "StoneSheets" ({ cls := "StoneSheets", name := "tell", desc := "(I)I" } : Jvm.MethodName) ({ cls := "StoneSheets", name := "tell", desc := "(I)I" } : Jvm.MethodName)) ∈ lw_all := lw_g (lw_at lw_m5 202 rfl) rfl
theorem q1243 : (Jvm.Cond.code ({ cls := "StoneSheets", name := "tell", desc := "(I)I" } : Jvm.MethodName) prog_1_method_94_code (2 : Nat) (Option.some Jvm.ClassFile.FieldType.int)) ∈ lw_all := lw_g (lw_at lw_m5 203 rfl) rfl
theorem q1245 : (Jvm.Cond.instanceMethod ({ cls := "StoneSheets", name := "check", desc := "(I)I" } : Jvm.MethodName)) ∈ lw_all := lw_g (lw_at lw_m5 205 rfl) rfl
theorem q1246 : (Jvm.Cond.selects "StoneSheets" ({ cls := "StoneSheets", name := "check", desc := "(I)I" } : Jvm.MethodName) ({ cls := "StoneSheets", name := "check", desc := "(I)I" } : Jvm.MethodName)) ∈ lw_all := lw_g (lw_at lw_m5 206 rfl) rfl
theorem q1247 : (Jvm.Cond.code ({ cls := "StoneSheets", name := "check", desc := "(I)I" } : Jvm.MethodName) prog_1_method_96_code (5 : Nat) (Option.some Jvm.ClassFile.FieldType.int)) ∈ lw_all := lw_g (lw_at lw_m5 207 rfl) rfl
theorem q1248 : (Jvm.Cond.methodLink "StoneSheets" (511 : Nat) ({ cls := "StoneSheets", name := "rowsOfTides", desc := "(I)I" } : Jvm.MethodName)) ∈ lw_all := lw_g (lw_at lw_m5 208 rfl) rfl
theorem q1249 : (Jvm.Cond.privateMethod ({ cls := "StoneSheets", name := "rowsOfTides", desc := "(I)I" } : Jvm.MethodName)) ∈ lw_tbl := lw_at lw_m5 209 rfl
theorem q1250 : (Jvm.Cond.instanceMethod ({ cls := "StoneSheets", name := "rowsOfTides", desc := "(I)I" } : Jvm.MethodName)) ∈ lw_all := lw_g (lw_at lw_m5 210 rfl) rfl
theorem q1251 : (Jvm.Cond.code ({ cls := "StoneSheets", name := "rowsOfTides", desc := "(I)I" } : Jvm.MethodName) prog_1_method_95_code (3 : Nat) (Option.some Jvm.ClassFile.FieldType.int)) ∈ lw_all := lw_g (lw_at lw_m5 211 rfl) rfl
theorem q1253 : (Jvm.Cond.instanceMethod ({ cls := "StoneSheets", name := "keep", desc := "()I" } : Jvm.MethodName)) ∈ lw_all := lw_g (lw_at lw_m5 213 rfl) rfl
theorem q1254 : (Jvm.Cond.selects "StoneSheets" ({ cls := "StoneSheets", name := "keep", desc := "()I" } : Jvm.MethodName) ({ cls := "StoneSheets", name := "keep", desc := "()I" } : Jvm.MethodName)) ∈ lw_all := lw_g (lw_at lw_m5 214 rfl) rfl
theorem q1255 : (Jvm.Cond.code ({ cls := "StoneSheets", name := "keep", desc := "()I" } : Jvm.MethodName) prog_1_method_97_code (1 : Nat) (Option.some Jvm.ClassFile.FieldType.int)) ∈ lw_all := lw_g (lw_at lw_m5 215 rfl) rfl
theorem q1257 : (Jvm.Cond.instanceMethod ({ cls := "StoneSheets", name := "back", desc := "()I" } : Jvm.MethodName)) ∈ lw_all := lw_g (lw_at lw_m5 217 rfl) rfl
theorem q1258 : (Jvm.Cond.selects "StoneSheets" ({ cls := "StoneSheets", name := "back", desc := "()I" } : Jvm.MethodName) ({ cls := "StoneSheets", name := "back", desc := "()I" } : Jvm.MethodName)) ∈ lw_all := lw_g (lw_at lw_m5 218 rfl) rfl
theorem q1259 : (Jvm.Cond.code ({ cls := "StoneSheets", name := "back", desc := "()I" } : Jvm.MethodName) prog_1_method_98_code (1 : Nat) (Option.some Jvm.ClassFile.FieldType.int)) ∈ lw_all := lw_g (lw_at lw_m5 219 rfl) rfl
theorem q1261 : (Jvm.Cond.instanceMethod ({ cls := "StoneSheets", name := "count", desc := "(I)I" } : Jvm.MethodName)) ∈ lw_all := lw_g (lw_at lw_m5 221 rfl) rfl
theorem q1262 : (Jvm.Cond.selects "StoneSheets" ({ cls := "StoneSheets", name := "count", desc := "(I)I" } : Jvm.MethodName) ({ cls := "StoneSheets", name := "count", desc := "(I)I" } : Jvm.MethodName)) ∈ lw_all := lw_g (lw_at lw_m5 222 rfl) rfl
theorem q1263 : (Jvm.Cond.code ({ cls := "StoneSheets", name := "count", desc := "(I)I" } : Jvm.MethodName) prog_1_method_99_code (2 : Nat) (Option.some Jvm.ClassFile.FieldType.int)) ∈ lw_all := lw_g (lw_at lw_m5 223 rfl) rfl
theorem in_X0 : ∀ w ∈ wsX00, w ∈ lw_all := lw_in wsX00 [276, 278, 280, 282, 284, 286, 288, 290, 292, 294, 296, 298, 300, 302, 304, 306, 308, 310, 312, 314, 316, 318, 320, 322] (by decide +kernel) (by decide +kernel)
