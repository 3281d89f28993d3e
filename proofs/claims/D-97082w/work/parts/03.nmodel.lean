/-! StoneSheetsModel -/
set_option maxRecDepth 100000
def RX5 : String := "StoneSheetsModel"
def TX5 : u_T := fun k => match k with
  | 0 => ("StoneSheetsModel", "s", "[I", true)
  | 1 => ("StoneSheetsModel", "image", "[I", true)
  | 2 => ("StoneSheetsModel", "aside", "[I", true)
  | 3 => ("StoneSheetsModel", "hasImage", "Z", false)
  | 4 => ("StoneSheetsModel", "tSort", "[I", true)
  | 5 => ("StoneSheetsModel", "tSize", "[I", true)
  | 6 => ("StoneSheetsModel", "tNumber", "[I", true)
  | 7 => ("StoneSheetsModel", "held", "[I", true)
  | 8 => ("StoneSheetsModel", "heldNumber", "[I", true)
  | 9 => ("StoneSheetsModel", "heldWorth", "[I", true)
  | 10 => ("StoneSheetsModel", "heldSize", "[I", true)
  | 11 => ("StoneSheetsModel", "heldRow", "[I", true)
  | 12 => ("StoneSheetsModel", "clashing", "[I", true)
  | 13 => ("StoneSheetsModel", "close", "[I", true)
  | 14 => ("StoneSheetsModel", "tape", "[I", true)
  | 15 => ("StoneSheetsModel", "taped", "I", false)
  | 16 => ("StoneSheetsModel", "begin", "I", false)
  | 17 => ("StoneSheetsModel", "behind", "I", false)
  | 18 => ("StoneSheetsModel", "token", "I", false)
  | 19 => ("StoneSheetsModel", "number", "I", false)
  | 20 => ("StoneSheetsModel", "letter", "I", false)
  | 21 => ("StoneSheetsModel", "deep", "I", false)
  | 22 => ("StoneSheetsModel", "turned", "I", false)
  | 23 => ("StoneSheetsModel", "laid", "I", false)
  | 24 => ("StoneSheetsModel", "laidAt", "I", false)
  | 25 => ("StoneSheetsModel", "said", "I", false)
  | 26 => ("StoneSheetsModel", "named", "[I", true)
  | 27 => ("StoneSheetsModel", "pile", "[I", true)
  | 28 => ("StoneSheetsModel", "carried", "[I", true)
  | 29 => ("StoneSheetsModel", "waits", "[I", true)
  | 30 => ("StoneSheetsModel", "waiting", "I", false)
  | _ => ("StoneSheetsModel", "rowDue", "[I", true)
def tyX5 : Nat → FieldType := fun k => match k with
  | 0 => .array .int
  | 1 => .array .int
  | 2 => .array .int
  | 3 => .boolean
  | 4 => .array .int
  | 5 => .array .int
  | 6 => .array .int
  | 7 => .array .int
  | 8 => .array .int
  | 9 => .array .int
  | 10 => .array .int
  | 11 => .array .int
  | 12 => .array .int
  | 13 => .array .int
  | 14 => .array .int
  | 15 => .int
  | 16 => .int
  | 17 => .int
  | 18 => .int
  | 19 => .int
  | 20 => .int
  | 21 => .int
  | 22 => .int
  | 23 => .int
  | 24 => .int
  | 25 => .int
  | 26 => .array .int
  | 27 => .array .int
  | 28 => .array .int
  | 29 => .array .int
  | 30 => .int
  | _ => .array .int
abbrev wsX50 : List Cond := u_ws RX5 TX5 32
set_option maxRecDepth 100000 in
theorem nmX5 : ∀ a, a < 32 → ∀ b, b < 32 → a ≠ b → (TX5 a).2.1 ≠ (TX5 b).2.1 := by decide +kernel
set_option maxRecDepth 100000 in
theorem tyX5_ok : ∀ k, k < 32 → parseFieldDescriptor (TX5 k).2.2.1 = some (tyX5 k) := by decide +kernel
abbrev cX5_init : ByteArray := prog_18_method_1_code
def yX5_init : MethodName := ⟨RX5, "<init>", "()V"⟩
def dkwX5_init_7 : List UInt8 := [60, 27, 7, 162, 0, 16, 42, 180, 0, 19, 27, 2, 79, 132, 1, 1, 167, 255, 241, 177]
abbrev dktX5_init_7 : List UInt8 := dkwX5_init_7 ++ []
def dkwX5_init_6 : List UInt8 := [42, 16, 60, 188, 10, 181, 0, 61, 42, 16, 60, 188, 10, 181, 0, 64, 42, 180, 0, 7, 7, 4, 79, 3]
abbrev dktX5_init_6 : List UInt8 := dkwX5_init_6 ++ dktX5_init_7
def dkwX5_init_5 : List UInt8 := [17, 0, 128, 188, 10, 181, 0, 52, 42, 16, 100, 188, 10, 181, 0, 55, 42, 16, 24, 188, 10, 181, 0, 58]
abbrev dktX5_init_5 : List UInt8 := dkwX5_init_5 ++ dktX5_init_6
def dkwX5_init_4 : List UInt8 := [188, 10, 181, 0, 43, 42, 16, 75, 188, 10, 181, 0, 46, 42, 16, 96, 188, 10, 181, 0, 49, 42]
abbrev dktX5_init_4 : List UInt8 := dkwX5_init_4 ++ dktX5_init_5
def dkwX5_init_3 : List UInt8 := [188, 10, 181, 0, 34, 42, 8, 188, 10, 181, 0, 37, 42, 16, 120, 188, 10, 181, 0, 40, 42, 16, 9]
abbrev dktX5_init_3 : List UInt8 := dkwX5_init_3 ++ dktX5_init_4
def dkwX5_init_2 : List UInt8 := [16, 96, 188, 10, 181, 0, 25, 42, 8, 188, 10, 181, 0, 28, 42, 8, 188, 10, 181, 0, 31, 42, 8]
abbrev dktX5_init_2 : List UInt8 := dkwX5_init_2 ++ dktX5_init_3
def dkwX5_init_1 : List UInt8 := [17, 12, 3, 188, 10, 181, 0, 16, 42, 7, 188, 10, 181, 0, 19, 42, 7, 188, 10, 181, 0, 22, 42]
abbrev dktX5_init_1 : List UInt8 := dkwX5_init_1 ++ dktX5_init_2
def dkwX5_init_0 : List UInt8 := [42, 183, 0, 1, 42, 17, 12, 3, 188, 10, 181, 0, 7, 42, 17, 12, 3, 188, 10, 181, 0, 13, 42]
abbrev dktX5_init_0 : List UInt8 := dkwX5_init_0 ++ dktX5_init_1
theorem dksX5_init_0 : cX5_init.data.toList.drop 0 = dktX5_init_0 := by decide +kernel
theorem dksX5_init_1 : cX5_init.data.toList.drop 23 = dktX5_init_1 := dk_seg dksX5_init_0 23 rfl rfl
theorem dksX5_init_2 : cX5_init.data.toList.drop 46 = dktX5_init_2 := dk_seg dksX5_init_1 23 rfl rfl
theorem dksX5_init_3 : cX5_init.data.toList.drop 69 = dktX5_init_3 := dk_seg dksX5_init_2 23 rfl rfl
theorem dksX5_init_4 : cX5_init.data.toList.drop 92 = dktX5_init_4 := dk_seg dksX5_init_3 23 rfl rfl
theorem dksX5_init_5 : cX5_init.data.toList.drop 114 = dktX5_init_5 := dk_seg dksX5_init_4 22 rfl rfl
theorem dksX5_init_6 : cX5_init.data.toList.drop 138 = dktX5_init_6 := dk_seg dksX5_init_5 24 rfl rfl
theorem dksX5_init_7 : cX5_init.data.toList.drop 162 = dktX5_init_7 := dk_seg dksX5_init_6 24 rfl rfl
theorem dX5_init_0 : decode cX5_init 0 = .ok (.aload_n 0, 1) := dk_42 (dk_at dksX5_init_0 0 rfl rfl)
theorem dX5_init_1 : decode cX5_init 1 = .ok (.invokespecial 1, 3) := dk_183 0 1 (dk_at dksX5_init_0 1 rfl rfl)
theorem dX5_init_4 : decode cX5_init 4 = .ok (.aload_n 0, 1) := dk_42 (dk_at dksX5_init_0 4 rfl rfl)
theorem dX5_init_5 : decode cX5_init 5 = .ok (.sipush 3075, 3) := dk_17 12 3 (dk_at dksX5_init_0 5 rfl rfl)
theorem dX5_init_8 : decode cX5_init 8 = .ok (.newarray .int, 2) := dk_188_10 (dk_at dksX5_init_0 8 rfl rfl)
theorem dX5_init_10 : decode cX5_init 10 = .ok (.putfield 7, 3) := dk_181 0 7 (dk_at dksX5_init_0 10 rfl rfl)
theorem dX5_init_13 : decode cX5_init 13 = .ok (.aload_n 0, 1) := dk_42 (dk_at dksX5_init_0 13 rfl rfl)
theorem dX5_init_14 : decode cX5_init 14 = .ok (.sipush 3075, 3) := dk_17 12 3 (dk_at dksX5_init_0 14 rfl rfl)
theorem dX5_init_17 : decode cX5_init 17 = .ok (.newarray .int, 2) := dk_188_10 (dk_at dksX5_init_0 17 rfl rfl)
theorem dX5_init_19 : decode cX5_init 19 = .ok (.putfield 13, 3) := dk_181 0 13 (dk_at dksX5_init_0 19 rfl rfl)
theorem dX5_init_22 : decode cX5_init 22 = .ok (.aload_n 0, 1) := dk_42 (dk_at dksX5_init_0 22 rfl rfl)
theorem dX5_init_23 : decode cX5_init 23 = .ok (.sipush 3075, 3) := dk_17 12 3 (dk_at dksX5_init_1 0 rfl rfl)
theorem dX5_init_26 : decode cX5_init 26 = .ok (.newarray .int, 2) := dk_188_10 (dk_at dksX5_init_1 3 rfl rfl)
theorem dX5_init_28 : decode cX5_init 28 = .ok (.putfield 16, 3) := dk_181 0 16 (dk_at dksX5_init_1 5 rfl rfl)
theorem dX5_init_31 : decode cX5_init 31 = .ok (.aload_n 0, 1) := dk_42 (dk_at dksX5_init_1 8 rfl rfl)
theorem dX5_init_32 : decode cX5_init 32 = .ok (.iconst 4, 1) := dk_7 (dk_at dksX5_init_1 9 rfl rfl)
theorem dX5_init_33 : decode cX5_init 33 = .ok (.newarray .int, 2) := dk_188_10 (dk_at dksX5_init_1 10 rfl rfl)
theorem dX5_init_35 : decode cX5_init 35 = .ok (.putfield 19, 3) := dk_181 0 19 (dk_at dksX5_init_1 12 rfl rfl)
theorem dX5_init_38 : decode cX5_init 38 = .ok (.aload_n 0, 1) := dk_42 (dk_at dksX5_init_1 15 rfl rfl)
theorem dX5_init_39 : decode cX5_init 39 = .ok (.iconst 4, 1) := dk_7 (dk_at dksX5_init_1 16 rfl rfl)
theorem dX5_init_40 : decode cX5_init 40 = .ok (.newarray .int, 2) := dk_188_10 (dk_at dksX5_init_1 17 rfl rfl)
theorem dX5_init_42 : decode cX5_init 42 = .ok (.putfield 22, 3) := dk_181 0 22 (dk_at dksX5_init_1 19 rfl rfl)
theorem dX5_init_45 : decode cX5_init 45 = .ok (.aload_n 0, 1) := dk_42 (dk_at dksX5_init_1 22 rfl rfl)
theorem dX5_init_46 : decode cX5_init 46 = .ok (.bipush 96, 2) := dk_16 96 (dk_at dksX5_init_2 0 rfl rfl)
theorem dX5_init_48 : decode cX5_init 48 = .ok (.newarray .int, 2) := dk_188_10 (dk_at dksX5_init_2 2 rfl rfl)
theorem dX5_init_50 : decode cX5_init 50 = .ok (.putfield 25, 3) := dk_181 0 25 (dk_at dksX5_init_2 4 rfl rfl)
theorem dX5_init_53 : decode cX5_init 53 = .ok (.aload_n 0, 1) := dk_42 (dk_at dksX5_init_2 7 rfl rfl)
theorem dX5_init_54 : decode cX5_init 54 = .ok (.iconst 5, 1) := dk_8 (dk_at dksX5_init_2 8 rfl rfl)
theorem dX5_init_55 : decode cX5_init 55 = .ok (.newarray .int, 2) := dk_188_10 (dk_at dksX5_init_2 9 rfl rfl)
theorem dX5_init_57 : decode cX5_init 57 = .ok (.putfield 28, 3) := dk_181 0 28 (dk_at dksX5_init_2 11 rfl rfl)
theorem dX5_init_60 : decode cX5_init 60 = .ok (.aload_n 0, 1) := dk_42 (dk_at dksX5_init_2 14 rfl rfl)
theorem dX5_init_61 : decode cX5_init 61 = .ok (.iconst 5, 1) := dk_8 (dk_at dksX5_init_2 15 rfl rfl)
theorem dX5_init_62 : decode cX5_init 62 = .ok (.newarray .int, 2) := dk_188_10 (dk_at dksX5_init_2 16 rfl rfl)
theorem dX5_init_64 : decode cX5_init 64 = .ok (.putfield 31, 3) := dk_181 0 31 (dk_at dksX5_init_2 18 rfl rfl)
theorem dX5_init_67 : decode cX5_init 67 = .ok (.aload_n 0, 1) := dk_42 (dk_at dksX5_init_2 21 rfl rfl)
theorem dX5_init_68 : decode cX5_init 68 = .ok (.iconst 5, 1) := dk_8 (dk_at dksX5_init_2 22 rfl rfl)
theorem dX5_init_69 : decode cX5_init 69 = .ok (.newarray .int, 2) := dk_188_10 (dk_at dksX5_init_3 0 rfl rfl)
theorem dX5_init_71 : decode cX5_init 71 = .ok (.putfield 34, 3) := dk_181 0 34 (dk_at dksX5_init_3 2 rfl rfl)
theorem dX5_init_74 : decode cX5_init 74 = .ok (.aload_n 0, 1) := dk_42 (dk_at dksX5_init_3 5 rfl rfl)
theorem dX5_init_75 : decode cX5_init 75 = .ok (.iconst 5, 1) := dk_8 (dk_at dksX5_init_3 6 rfl rfl)
theorem dX5_init_76 : decode cX5_init 76 = .ok (.newarray .int, 2) := dk_188_10 (dk_at dksX5_init_3 7 rfl rfl)
theorem dX5_init_78 : decode cX5_init 78 = .ok (.putfield 37, 3) := dk_181 0 37 (dk_at dksX5_init_3 9 rfl rfl)
theorem dX5_init_81 : decode cX5_init 81 = .ok (.aload_n 0, 1) := dk_42 (dk_at dksX5_init_3 12 rfl rfl)
theorem dX5_init_82 : decode cX5_init 82 = .ok (.bipush 120, 2) := dk_16 120 (dk_at dksX5_init_3 13 rfl rfl)
theorem dX5_init_84 : decode cX5_init 84 = .ok (.newarray .int, 2) := dk_188_10 (dk_at dksX5_init_3 15 rfl rfl)
theorem dX5_init_86 : decode cX5_init 86 = .ok (.putfield 40, 3) := dk_181 0 40 (dk_at dksX5_init_3 17 rfl rfl)
theorem dX5_init_89 : decode cX5_init 89 = .ok (.aload_n 0, 1) := dk_42 (dk_at dksX5_init_3 20 rfl rfl)
theorem dX5_init_90 : decode cX5_init 90 = .ok (.bipush 9, 2) := dk_16 9 (dk_at dksX5_init_3 21 rfl rfl)
theorem dX5_init_92 : decode cX5_init 92 = .ok (.newarray .int, 2) := dk_188_10 (dk_at dksX5_init_4 0 rfl rfl)
theorem dX5_init_94 : decode cX5_init 94 = .ok (.putfield 43, 3) := dk_181 0 43 (dk_at dksX5_init_4 2 rfl rfl)
theorem dX5_init_97 : decode cX5_init 97 = .ok (.aload_n 0, 1) := dk_42 (dk_at dksX5_init_4 5 rfl rfl)
theorem dX5_init_98 : decode cX5_init 98 = .ok (.bipush 75, 2) := dk_16 75 (dk_at dksX5_init_4 6 rfl rfl)
theorem dX5_init_100 : decode cX5_init 100 = .ok (.newarray .int, 2) := dk_188_10 (dk_at dksX5_init_4 8 rfl rfl)
theorem dX5_init_102 : decode cX5_init 102 = .ok (.putfield 46, 3) := dk_181 0 46 (dk_at dksX5_init_4 10 rfl rfl)
theorem dX5_init_105 : decode cX5_init 105 = .ok (.aload_n 0, 1) := dk_42 (dk_at dksX5_init_4 13 rfl rfl)
theorem dX5_init_106 : decode cX5_init 106 = .ok (.bipush 96, 2) := dk_16 96 (dk_at dksX5_init_4 14 rfl rfl)
theorem dX5_init_108 : decode cX5_init 108 = .ok (.newarray .int, 2) := dk_188_10 (dk_at dksX5_init_4 16 rfl rfl)
theorem dX5_init_110 : decode cX5_init 110 = .ok (.putfield 49, 3) := dk_181 0 49 (dk_at dksX5_init_4 18 rfl rfl)
theorem dX5_init_113 : decode cX5_init 113 = .ok (.aload_n 0, 1) := dk_42 (dk_at dksX5_init_4 21 rfl rfl)
theorem dX5_init_114 : decode cX5_init 114 = .ok (.sipush 128, 3) := dk_17 0 128 (dk_at dksX5_init_5 0 rfl rfl)
theorem dX5_init_117 : decode cX5_init 117 = .ok (.newarray .int, 2) := dk_188_10 (dk_at dksX5_init_5 3 rfl rfl)
theorem dX5_init_119 : decode cX5_init 119 = .ok (.putfield 52, 3) := dk_181 0 52 (dk_at dksX5_init_5 5 rfl rfl)
theorem dX5_init_122 : decode cX5_init 122 = .ok (.aload_n 0, 1) := dk_42 (dk_at dksX5_init_5 8 rfl rfl)
theorem dX5_init_123 : decode cX5_init 123 = .ok (.bipush 100, 2) := dk_16 100 (dk_at dksX5_init_5 9 rfl rfl)
theorem dX5_init_125 : decode cX5_init 125 = .ok (.newarray .int, 2) := dk_188_10 (dk_at dksX5_init_5 11 rfl rfl)
theorem dX5_init_127 : decode cX5_init 127 = .ok (.putfield 55, 3) := dk_181 0 55 (dk_at dksX5_init_5 13 rfl rfl)
theorem dX5_init_130 : decode cX5_init 130 = .ok (.aload_n 0, 1) := dk_42 (dk_at dksX5_init_5 16 rfl rfl)
theorem dX5_init_131 : decode cX5_init 131 = .ok (.bipush 24, 2) := dk_16 24 (dk_at dksX5_init_5 17 rfl rfl)
theorem dX5_init_133 : decode cX5_init 133 = .ok (.newarray .int, 2) := dk_188_10 (dk_at dksX5_init_5 19 rfl rfl)
theorem dX5_init_135 : decode cX5_init 135 = .ok (.putfield 58, 3) := dk_181 0 58 (dk_at dksX5_init_5 21 rfl rfl)
theorem dX5_init_138 : decode cX5_init 138 = .ok (.aload_n 0, 1) := dk_42 (dk_at dksX5_init_6 0 rfl rfl)
theorem dX5_init_139 : decode cX5_init 139 = .ok (.bipush 60, 2) := dk_16 60 (dk_at dksX5_init_6 1 rfl rfl)
theorem dX5_init_141 : decode cX5_init 141 = .ok (.newarray .int, 2) := dk_188_10 (dk_at dksX5_init_6 3 rfl rfl)
theorem dX5_init_143 : decode cX5_init 143 = .ok (.putfield 61, 3) := dk_181 0 61 (dk_at dksX5_init_6 5 rfl rfl)
theorem dX5_init_146 : decode cX5_init 146 = .ok (.aload_n 0, 1) := dk_42 (dk_at dksX5_init_6 8 rfl rfl)
theorem dX5_init_147 : decode cX5_init 147 = .ok (.bipush 60, 2) := dk_16 60 (dk_at dksX5_init_6 9 rfl rfl)
theorem dX5_init_149 : decode cX5_init 149 = .ok (.newarray .int, 2) := dk_188_10 (dk_at dksX5_init_6 11 rfl rfl)
theorem dX5_init_151 : decode cX5_init 151 = .ok (.putfield 64, 3) := dk_181 0 64 (dk_at dksX5_init_6 13 rfl rfl)
theorem dX5_init_154 : decode cX5_init 154 = .ok (.aload_n 0, 1) := dk_42 (dk_at dksX5_init_6 16 rfl rfl)
theorem dX5_init_155 : decode cX5_init 155 = .ok (.getfield 7, 3) := dk_180 0 7 (dk_at dksX5_init_6 17 rfl rfl)
theorem dX5_init_158 : decode cX5_init 158 = .ok (.iconst 4, 1) := dk_7 (dk_at dksX5_init_6 20 rfl rfl)
theorem dX5_init_159 : decode cX5_init 159 = .ok (.iconst 1, 1) := dk_4 (dk_at dksX5_init_6 21 rfl rfl)
theorem dX5_init_160 : decode cX5_init 160 = .ok (.iastore, 1) := dk_79 (dk_at dksX5_init_6 22 rfl rfl)
theorem dX5_init_161 : decode cX5_init 161 = .ok (.iconst 0, 1) := dk_3 (dk_at dksX5_init_6 23 rfl rfl)
theorem dX5_init_162 : decode cX5_init 162 = .ok (.istore_n 1, 1) := dk_60 (dk_at dksX5_init_7 0 rfl rfl)
theorem dX5_init_163 : decode cX5_init 163 = .ok (.iload_n 1, 1) := dk_27 (dk_at dksX5_init_7 1 rfl rfl)
theorem dX5_init_164 : decode cX5_init 164 = .ok (.iconst 4, 1) := dk_7 (dk_at dksX5_init_7 2 rfl rfl)
theorem dX5_init_165 : decode cX5_init 165 = .ok (.if_icmp .ge 16, 3) := dk_162 0 16 (dk_at dksX5_init_7 3 rfl rfl)
theorem dX5_init_168 : decode cX5_init 168 = .ok (.aload_n 0, 1) := dk_42 (dk_at dksX5_init_7 6 rfl rfl)
theorem dX5_init_169 : decode cX5_init 169 = .ok (.getfield 19, 3) := dk_180 0 19 (dk_at dksX5_init_7 7 rfl rfl)
theorem dX5_init_172 : decode cX5_init 172 = .ok (.iload_n 1, 1) := dk_27 (dk_at dksX5_init_7 10 rfl rfl)
theorem dX5_init_173 : decode cX5_init 173 = .ok (.iconst (-1), 1) := dk_2 (dk_at dksX5_init_7 11 rfl rfl)
theorem dX5_init_174 : decode cX5_init 174 = .ok (.iastore, 1) := dk_79 (dk_at dksX5_init_7 12 rfl rfl)
theorem dX5_init_175 : decode cX5_init 175 = .ok (.iinc 1 1, 3) := dk_132 1 1 (dk_at dksX5_init_7 13 rfl rfl)
theorem dX5_init_178 : decode cX5_init 178 = .ok (.goto (-15), 3) := dk_167 255 241 (dk_at dksX5_init_7 16 rfl rfl)
theorem dX5_init_181 : decode cX5_init 181 = .ok (.return_, 1) := dk_177 (dk_at dksX5_init_7 19 rfl rfl)
abbrev cX5_rubbing : ByteArray := prog_18_method_15_code
def yX5_rubbing : MethodName := ⟨RX5, "rubbing", "(III)I"⟩
def dkwX5_rubbing_2 : List UInt8 := [160, 0, 6, 18, 84, 172, 42, 27, 28, 29, 182, 0, 85, 42, 180, 0, 7, 3, 46, 4, 100, 172]
abbrev dktX5_rubbing_2 : List UInt8 := dkwX5_rubbing_2 ++ []
def dkwX5_rubbing_1 : List UInt8 := [29, 133, 10, 20, 0, 81, 184, 0, 68, 154, 0, 6, 18, 83, 172, 42, 180, 0, 7, 3, 46, 16, 9]
abbrev dktX5_rubbing_1 : List UInt8 := dkwX5_rubbing_1 ++ dktX5_rubbing_2
def dkwX5_rubbing_0 : List UInt8 := [27, 133, 9, 20, 0, 77, 184, 0, 68, 153, 0, 27, 28, 133, 9, 20, 0, 79, 184, 0, 68, 153, 0, 15]
abbrev dktX5_rubbing_0 : List UInt8 := dkwX5_rubbing_0 ++ dktX5_rubbing_1
theorem dksX5_rubbing_0 : cX5_rubbing.data.toList.drop 0 = dktX5_rubbing_0 := by decide +kernel
theorem dksX5_rubbing_1 : cX5_rubbing.data.toList.drop 24 = dktX5_rubbing_1 := dk_seg dksX5_rubbing_0 24 rfl rfl
theorem dksX5_rubbing_2 : cX5_rubbing.data.toList.drop 47 = dktX5_rubbing_2 := dk_seg dksX5_rubbing_1 23 rfl rfl
theorem dX5_rubbing_0 : decode cX5_rubbing 0 = .ok (.iload_n 1, 1) := dk_27 (dk_at dksX5_rubbing_0 0 rfl rfl)
theorem dX5_rubbing_1 : decode cX5_rubbing 1 = .ok (.i2l, 1) := dk_133 (dk_at dksX5_rubbing_0 1 rfl rfl)
theorem dX5_rubbing_2 : decode cX5_rubbing 2 = .ok (.lconst 0, 1) := dk_9 (dk_at dksX5_rubbing_0 2 rfl rfl)
theorem dX5_rubbing_3 : decode cX5_rubbing 3 = .ok (.ldc2_w 77, 3) := dk_20 0 77 (dk_at dksX5_rubbing_0 3 rfl rfl)
theorem dX5_rubbing_6 : decode cX5_rubbing 6 = .ok (.invokestatic 68, 3) := dk_184 0 68 (dk_at dksX5_rubbing_0 6 rfl rfl)
theorem dX5_rubbing_9 : decode cX5_rubbing 9 = .ok (.ifCond .eq 27, 3) := dk_153 0 27 (dk_at dksX5_rubbing_0 9 rfl rfl)
theorem dX5_rubbing_12 : decode cX5_rubbing 12 = .ok (.iload_n 2, 1) := dk_28 (dk_at dksX5_rubbing_0 12 rfl rfl)
theorem dX5_rubbing_13 : decode cX5_rubbing 13 = .ok (.i2l, 1) := dk_133 (dk_at dksX5_rubbing_0 13 rfl rfl)
theorem dX5_rubbing_14 : decode cX5_rubbing 14 = .ok (.lconst 0, 1) := dk_9 (dk_at dksX5_rubbing_0 14 rfl rfl)
theorem dX5_rubbing_15 : decode cX5_rubbing 15 = .ok (.ldc2_w 79, 3) := dk_20 0 79 (dk_at dksX5_rubbing_0 15 rfl rfl)
theorem dX5_rubbing_18 : decode cX5_rubbing 18 = .ok (.invokestatic 68, 3) := dk_184 0 68 (dk_at dksX5_rubbing_0 18 rfl rfl)
theorem dX5_rubbing_21 : decode cX5_rubbing 21 = .ok (.ifCond .eq 15, 3) := dk_153 0 15 (dk_at dksX5_rubbing_0 21 rfl rfl)
theorem dX5_rubbing_24 : decode cX5_rubbing 24 = .ok (.iload_n 3, 1) := dk_29 (dk_at dksX5_rubbing_1 0 rfl rfl)
theorem dX5_rubbing_25 : decode cX5_rubbing 25 = .ok (.i2l, 1) := dk_133 (dk_at dksX5_rubbing_1 1 rfl rfl)
theorem dX5_rubbing_26 : decode cX5_rubbing 26 = .ok (.lconst 1, 1) := dk_10 (dk_at dksX5_rubbing_1 2 rfl rfl)
theorem dX5_rubbing_27 : decode cX5_rubbing 27 = .ok (.ldc2_w 81, 3) := dk_20 0 81 (dk_at dksX5_rubbing_1 3 rfl rfl)
theorem dX5_rubbing_30 : decode cX5_rubbing 30 = .ok (.invokestatic 68, 3) := dk_184 0 68 (dk_at dksX5_rubbing_1 6 rfl rfl)
theorem dX5_rubbing_33 : decode cX5_rubbing 33 = .ok (.ifCond .ne 6, 3) := dk_154 0 6 (dk_at dksX5_rubbing_1 9 rfl rfl)
theorem dX5_rubbing_36 : decode cX5_rubbing 36 = .ok (.ldc 83, 2) := dk_18 83 (dk_at dksX5_rubbing_1 12 rfl rfl)
theorem dX5_rubbing_38 : decode cX5_rubbing 38 = .ok (.ireturn, 1) := dk_172 (dk_at dksX5_rubbing_1 14 rfl rfl)
theorem dX5_rubbing_39 : decode cX5_rubbing 39 = .ok (.aload_n 0, 1) := dk_42 (dk_at dksX5_rubbing_1 15 rfl rfl)
theorem dX5_rubbing_40 : decode cX5_rubbing 40 = .ok (.getfield 7, 3) := dk_180 0 7 (dk_at dksX5_rubbing_1 16 rfl rfl)
theorem dX5_rubbing_43 : decode cX5_rubbing 43 = .ok (.iconst 0, 1) := dk_3 (dk_at dksX5_rubbing_1 19 rfl rfl)
theorem dX5_rubbing_44 : decode cX5_rubbing 44 = .ok (.iaload, 1) := dk_46 (dk_at dksX5_rubbing_1 20 rfl rfl)
theorem dX5_rubbing_45 : decode cX5_rubbing 45 = .ok (.bipush 9, 2) := dk_16 9 (dk_at dksX5_rubbing_1 21 rfl rfl)
theorem dX5_rubbing_47 : decode cX5_rubbing 47 = .ok (.if_icmp .ne 6, 3) := dk_160 0 6 (dk_at dksX5_rubbing_2 0 rfl rfl)
theorem dX5_rubbing_50 : decode cX5_rubbing 50 = .ok (.ldc 84, 2) := dk_18 84 (dk_at dksX5_rubbing_2 3 rfl rfl)
theorem dX5_rubbing_52 : decode cX5_rubbing 52 = .ok (.ireturn, 1) := dk_172 (dk_at dksX5_rubbing_2 5 rfl rfl)
theorem dX5_rubbing_53 : decode cX5_rubbing 53 = .ok (.aload_n 0, 1) := dk_42 (dk_at dksX5_rubbing_2 6 rfl rfl)
theorem dX5_rubbing_54 : decode cX5_rubbing 54 = .ok (.iload_n 1, 1) := dk_27 (dk_at dksX5_rubbing_2 7 rfl rfl)
theorem dX5_rubbing_55 : decode cX5_rubbing 55 = .ok (.iload_n 2, 1) := dk_28 (dk_at dksX5_rubbing_2 8 rfl rfl)
theorem dX5_rubbing_56 : decode cX5_rubbing 56 = .ok (.iload_n 3, 1) := dk_29 (dk_at dksX5_rubbing_2 9 rfl rfl)
theorem dX5_rubbing_57 : decode cX5_rubbing 57 = .ok (.invokevirtual 85, 3) := dk_182 0 85 (dk_at dksX5_rubbing_2 10 rfl rfl)
theorem dX5_rubbing_60 : decode cX5_rubbing 60 = .ok (.aload_n 0, 1) := dk_42 (dk_at dksX5_rubbing_2 13 rfl rfl)
theorem dX5_rubbing_61 : decode cX5_rubbing 61 = .ok (.getfield 7, 3) := dk_180 0 7 (dk_at dksX5_rubbing_2 14 rfl rfl)
theorem dX5_rubbing_64 : decode cX5_rubbing 64 = .ok (.iconst 0, 1) := dk_3 (dk_at dksX5_rubbing_2 17 rfl rfl)
theorem dX5_rubbing_65 : decode cX5_rubbing 65 = .ok (.iaload, 1) := dk_46 (dk_at dksX5_rubbing_2 18 rfl rfl)
theorem dX5_rubbing_66 : decode cX5_rubbing 66 = .ok (.iconst 1, 1) := dk_4 (dk_at dksX5_rubbing_2 19 rfl rfl)
theorem dX5_rubbing_67 : decode cX5_rubbing 67 = .ok (.isub, 1) := dk_100 (dk_at dksX5_rubbing_2 20 rfl rfl)
theorem dX5_rubbing_68 : decode cX5_rubbing 68 = .ok (.ireturn, 1) := dk_172 (dk_at dksX5_rubbing_2 21 rfl rfl)
abbrev cX5_isIn : ByteArray := prog_18_method_2_code
def yX5_isIn : MethodName := ⟨RX5, "isIn", "(JJJ)Z"⟩
def dkwX5_isIn_0 : List UInt8 := [30, 32, 148, 155, 0, 14, 30, 22, 4, 148, 157, 0, 7, 4, 167, 0, 4, 3, 172]
abbrev dktX5_isIn_0 : List UInt8 := dkwX5_isIn_0 ++ []
theorem dksX5_isIn_0 : cX5_isIn.data.toList.drop 0 = dktX5_isIn_0 := by decide +kernel
theorem dX5_isIn_0 : decode cX5_isIn 0 = .ok (.lload_n 0, 1) := dk_30 (dk_at dksX5_isIn_0 0 rfl rfl)
theorem dX5_isIn_1 : decode cX5_isIn 1 = .ok (.lload_n 2, 1) := dk_32 (dk_at dksX5_isIn_0 1 rfl rfl)
theorem dX5_isIn_2 : decode cX5_isIn 2 = .ok (.lcmp, 1) := dk_148 (dk_at dksX5_isIn_0 2 rfl rfl)
theorem dX5_isIn_3 : decode cX5_isIn 3 = .ok (.ifCond .lt 14, 3) := dk_155 0 14 (dk_at dksX5_isIn_0 3 rfl rfl)
theorem dX5_isIn_6 : decode cX5_isIn 6 = .ok (.lload_n 0, 1) := dk_30 (dk_at dksX5_isIn_0 6 rfl rfl)
theorem dX5_isIn_7 : decode cX5_isIn 7 = .ok (.lload 4, 2) := dk_22 4 (dk_at dksX5_isIn_0 7 rfl rfl)
theorem dX5_isIn_9 : decode cX5_isIn 9 = .ok (.lcmp, 1) := dk_148 (dk_at dksX5_isIn_0 9 rfl rfl)
theorem dX5_isIn_10 : decode cX5_isIn 10 = .ok (.ifCond .gt 7, 3) := dk_157 0 7 (dk_at dksX5_isIn_0 10 rfl rfl)
theorem dX5_isIn_13 : decode cX5_isIn 13 = .ok (.iconst 1, 1) := dk_4 (dk_at dksX5_isIn_0 13 rfl rfl)
theorem dX5_isIn_14 : decode cX5_isIn 14 = .ok (.goto 4, 3) := dk_167 0 4 (dk_at dksX5_isIn_0 14 rfl rfl)
theorem dX5_isIn_17 : decode cX5_isIn 17 = .ok (.iconst 0, 1) := dk_3 (dk_at dksX5_isIn_0 17 rfl rfl)
theorem dX5_isIn_18 : decode cX5_isIn 18 = .ok (.ireturn, 1) := dk_172 (dk_at dksX5_isIn_0 18 rfl rfl)
abbrev cX5_comes : ByteArray := prog_18_method_14_code
def yX5_comes : MethodName := ⟨RX5, "comes", "(III)V"⟩
def dkwX5_comes_2 : List UInt8 := [182, 0, 73, 42, 21, 4, 7, 16, 16, 182, 0, 73, 42, 21, 4, 8, 16, 50, 182, 0, 73, 177]
abbrev dktX5_comes_2 : List UInt8 := dkwX5_comes_2 ++ []
def dkwX5_comes_1 : List UInt8 := [182, 0, 73, 42, 21, 4, 4, 28, 182, 0, 73, 42, 21, 4, 5, 29, 182, 0, 73, 42, 21, 4, 6, 3]
abbrev dktX5_comes_1 : List UInt8 := dkwX5_comes_1 ++ dktX5_comes_2
def dkwX5_comes_0 : List UInt8 := [42, 180, 0, 7, 3, 46, 54, 4, 42, 180, 0, 7, 3, 92, 46, 4, 96, 79, 42, 21, 4, 3, 27]
abbrev dktX5_comes_0 : List UInt8 := dkwX5_comes_0 ++ dktX5_comes_1
theorem dksX5_comes_0 : cX5_comes.data.toList.drop 0 = dktX5_comes_0 := by decide +kernel
theorem dksX5_comes_1 : cX5_comes.data.toList.drop 23 = dktX5_comes_1 := dk_seg dksX5_comes_0 23 rfl rfl
theorem dksX5_comes_2 : cX5_comes.data.toList.drop 47 = dktX5_comes_2 := dk_seg dksX5_comes_1 24 rfl rfl
theorem dX5_comes_0 : decode cX5_comes 0 = .ok (.aload_n 0, 1) := dk_42 (dk_at dksX5_comes_0 0 rfl rfl)
theorem dX5_comes_1 : decode cX5_comes 1 = .ok (.getfield 7, 3) := dk_180 0 7 (dk_at dksX5_comes_0 1 rfl rfl)
theorem dX5_comes_4 : decode cX5_comes 4 = .ok (.iconst 0, 1) := dk_3 (dk_at dksX5_comes_0 4 rfl rfl)
theorem dX5_comes_5 : decode cX5_comes 5 = .ok (.iaload, 1) := dk_46 (dk_at dksX5_comes_0 5 rfl rfl)
theorem dX5_comes_6 : decode cX5_comes 6 = .ok (.istore 4, 2) := dk_54 4 (dk_at dksX5_comes_0 6 rfl rfl)
theorem dX5_comes_8 : decode cX5_comes 8 = .ok (.aload_n 0, 1) := dk_42 (dk_at dksX5_comes_0 8 rfl rfl)
theorem dX5_comes_9 : decode cX5_comes 9 = .ok (.getfield 7, 3) := dk_180 0 7 (dk_at dksX5_comes_0 9 rfl rfl)
theorem dX5_comes_12 : decode cX5_comes 12 = .ok (.iconst 0, 1) := dk_3 (dk_at dksX5_comes_0 12 rfl rfl)
theorem dX5_comes_13 : decode cX5_comes 13 = .ok (.dup2, 1) := dk_92 (dk_at dksX5_comes_0 13 rfl rfl)
theorem dX5_comes_14 : decode cX5_comes 14 = .ok (.iaload, 1) := dk_46 (dk_at dksX5_comes_0 14 rfl rfl)
theorem dX5_comes_15 : decode cX5_comes 15 = .ok (.iconst 1, 1) := dk_4 (dk_at dksX5_comes_0 15 rfl rfl)
theorem dX5_comes_16 : decode cX5_comes 16 = .ok (.iadd, 1) := dk_96 (dk_at dksX5_comes_0 16 rfl rfl)
theorem dX5_comes_17 : decode cX5_comes 17 = .ok (.iastore, 1) := dk_79 (dk_at dksX5_comes_0 17 rfl rfl)
theorem dX5_comes_18 : decode cX5_comes 18 = .ok (.aload_n 0, 1) := dk_42 (dk_at dksX5_comes_0 18 rfl rfl)
theorem dX5_comes_19 : decode cX5_comes 19 = .ok (.iload 4, 2) := dk_21 4 (dk_at dksX5_comes_0 19 rfl rfl)
theorem dX5_comes_21 : decode cX5_comes 21 = .ok (.iconst 0, 1) := dk_3 (dk_at dksX5_comes_0 21 rfl rfl)
theorem dX5_comes_22 : decode cX5_comes 22 = .ok (.iload_n 1, 1) := dk_27 (dk_at dksX5_comes_0 22 rfl rfl)
theorem dX5_comes_23 : decode cX5_comes 23 = .ok (.invokevirtual 73, 3) := dk_182 0 73 (dk_at dksX5_comes_1 0 rfl rfl)
theorem dX5_comes_26 : decode cX5_comes 26 = .ok (.aload_n 0, 1) := dk_42 (dk_at dksX5_comes_1 3 rfl rfl)
theorem dX5_comes_27 : decode cX5_comes 27 = .ok (.iload 4, 2) := dk_21 4 (dk_at dksX5_comes_1 4 rfl rfl)
theorem dX5_comes_29 : decode cX5_comes 29 = .ok (.iconst 1, 1) := dk_4 (dk_at dksX5_comes_1 6 rfl rfl)
theorem dX5_comes_30 : decode cX5_comes 30 = .ok (.iload_n 2, 1) := dk_28 (dk_at dksX5_comes_1 7 rfl rfl)
theorem dX5_comes_31 : decode cX5_comes 31 = .ok (.invokevirtual 73, 3) := dk_182 0 73 (dk_at dksX5_comes_1 8 rfl rfl)
theorem dX5_comes_34 : decode cX5_comes 34 = .ok (.aload_n 0, 1) := dk_42 (dk_at dksX5_comes_1 11 rfl rfl)
theorem dX5_comes_35 : decode cX5_comes 35 = .ok (.iload 4, 2) := dk_21 4 (dk_at dksX5_comes_1 12 rfl rfl)
theorem dX5_comes_37 : decode cX5_comes 37 = .ok (.iconst 2, 1) := dk_5 (dk_at dksX5_comes_1 14 rfl rfl)
theorem dX5_comes_38 : decode cX5_comes 38 = .ok (.iload_n 3, 1) := dk_29 (dk_at dksX5_comes_1 15 rfl rfl)
theorem dX5_comes_39 : decode cX5_comes 39 = .ok (.invokevirtual 73, 3) := dk_182 0 73 (dk_at dksX5_comes_1 16 rfl rfl)
theorem dX5_comes_42 : decode cX5_comes 42 = .ok (.aload_n 0, 1) := dk_42 (dk_at dksX5_comes_1 19 rfl rfl)
theorem dX5_comes_43 : decode cX5_comes 43 = .ok (.iload 4, 2) := dk_21 4 (dk_at dksX5_comes_1 20 rfl rfl)
theorem dX5_comes_45 : decode cX5_comes 45 = .ok (.iconst 3, 1) := dk_6 (dk_at dksX5_comes_1 22 rfl rfl)
theorem dX5_comes_46 : decode cX5_comes 46 = .ok (.iconst 0, 1) := dk_3 (dk_at dksX5_comes_1 23 rfl rfl)
theorem dX5_comes_47 : decode cX5_comes 47 = .ok (.invokevirtual 73, 3) := dk_182 0 73 (dk_at dksX5_comes_2 0 rfl rfl)
theorem dX5_comes_50 : decode cX5_comes 50 = .ok (.aload_n 0, 1) := dk_42 (dk_at dksX5_comes_2 3 rfl rfl)
theorem dX5_comes_51 : decode cX5_comes 51 = .ok (.iload 4, 2) := dk_21 4 (dk_at dksX5_comes_2 4 rfl rfl)
theorem dX5_comes_53 : decode cX5_comes 53 = .ok (.iconst 4, 1) := dk_7 (dk_at dksX5_comes_2 6 rfl rfl)
theorem dX5_comes_54 : decode cX5_comes 54 = .ok (.bipush 16, 2) := dk_16 16 (dk_at dksX5_comes_2 7 rfl rfl)
theorem dX5_comes_56 : decode cX5_comes 56 = .ok (.invokevirtual 73, 3) := dk_182 0 73 (dk_at dksX5_comes_2 9 rfl rfl)
theorem dX5_comes_59 : decode cX5_comes 59 = .ok (.aload_n 0, 1) := dk_42 (dk_at dksX5_comes_2 12 rfl rfl)
theorem dX5_comes_60 : decode cX5_comes 60 = .ok (.iload 4, 2) := dk_21 4 (dk_at dksX5_comes_2 13 rfl rfl)
theorem dX5_comes_62 : decode cX5_comes 62 = .ok (.iconst 5, 1) := dk_8 (dk_at dksX5_comes_2 15 rfl rfl)
theorem dX5_comes_63 : decode cX5_comes 63 = .ok (.bipush 50, 2) := dk_16 50 (dk_at dksX5_comes_2 16 rfl rfl)
theorem dX5_comes_65 : decode cX5_comes 65 = .ok (.invokevirtual 73, 3) := dk_182 0 73 (dk_at dksX5_comes_2 18 rfl rfl)
theorem dX5_comes_68 : decode cX5_comes 68 = .ok (.return_, 1) := dk_177 (dk_at dksX5_comes_2 21 rfl rfl)
abbrev cX5_sets : ByteArray := prog_18_method_10_code
def yX5_sets : MethodName := ⟨RX5, "sets", "(III)V"⟩
def dkwX5_sets_0 : List UInt8 := [42, 180, 0, 7, 16, 21, 16, 6, 27, 104, 96, 28, 96, 29, 79, 177]
abbrev dktX5_sets_0 : List UInt8 := dkwX5_sets_0 ++ []
theorem dksX5_sets_0 : cX5_sets.data.toList.drop 0 = dktX5_sets_0 := by decide +kernel
theorem dX5_sets_0 : decode cX5_sets 0 = .ok (.aload_n 0, 1) := dk_42 (dk_at dksX5_sets_0 0 rfl rfl)
theorem dX5_sets_1 : decode cX5_sets 1 = .ok (.getfield 7, 3) := dk_180 0 7 (dk_at dksX5_sets_0 1 rfl rfl)
theorem dX5_sets_4 : decode cX5_sets 4 = .ok (.bipush 21, 2) := dk_16 21 (dk_at dksX5_sets_0 4 rfl rfl)
theorem dX5_sets_6 : decode cX5_sets 6 = .ok (.bipush 6, 2) := dk_16 6 (dk_at dksX5_sets_0 6 rfl rfl)
theorem dX5_sets_8 : decode cX5_sets 8 = .ok (.iload_n 1, 1) := dk_27 (dk_at dksX5_sets_0 8 rfl rfl)
theorem dX5_sets_9 : decode cX5_sets 9 = .ok (.imul, 1) := dk_104 (dk_at dksX5_sets_0 9 rfl rfl)
theorem dX5_sets_10 : decode cX5_sets 10 = .ok (.iadd, 1) := dk_96 (dk_at dksX5_sets_0 10 rfl rfl)
theorem dX5_sets_11 : decode cX5_sets 11 = .ok (.iload_n 2, 1) := dk_28 (dk_at dksX5_sets_0 11 rfl rfl)
theorem dX5_sets_12 : decode cX5_sets 12 = .ok (.iadd, 1) := dk_96 (dk_at dksX5_sets_0 12 rfl rfl)
theorem dX5_sets_13 : decode cX5_sets 13 = .ok (.iload_n 3, 1) := dk_29 (dk_at dksX5_sets_0 13 rfl rfl)
theorem dX5_sets_14 : decode cX5_sets 14 = .ok (.iastore, 1) := dk_79 (dk_at dksX5_sets_0 14 rfl rfl)
theorem dX5_sets_15 : decode cX5_sets 15 = .ok (.return_, 1) := dk_177 (dk_at dksX5_sets_0 15 rfl rfl)
abbrev cX5_told : ByteArray := prog_18_method_23_code
def yX5_told : MethodName := ⟨RX5, "told", "(II)I"⟩
def dkwX5_told_3 : List UInt8 := [172, 42, 27, 182, 0, 122, 172, 18, 83, 172]
abbrev dktX5_told_3 : List UInt8 := dkwX5_told_3 ++ []
def dkwX5_told_2 : List UInt8 := [42, 27, 28, 182, 0, 88, 172, 42, 27, 182, 0, 113, 172, 42, 27, 182, 0, 116, 172, 42, 27, 182, 0, 119]
abbrev dktX5_told_2 : List UInt8 := dkwX5_told_2 ++ dktX5_told_3
def dkwX5_told_1 : List UInt8 := [170, 0, 0, 0, 0, 0, 0, 87, 0, 0, 0, 0, 0, 0, 0, 9, 0, 0, 0, 56, 0, 0, 0, 56, 0, 0, 0, 56, 0, 0, 0, 56, 0, 0, 0, 56, 0, 0, 0, 56, 0, 0, 0, 63, 0, 0, 0, 69, 0, 0, 0, 75, 0, 0, 0, 81]
abbrev dktX5_told_1 : List UInt8 := dkwX5_told_1 ++ dktX5_told_2
def dkwX5_told_0 : List UInt8 := [42, 27, 182, 0, 109, 154, 0, 6, 18, 83, 172, 28]
abbrev dktX5_told_0 : List UInt8 := dkwX5_told_0 ++ dktX5_told_1
theorem dksX5_told_0 : cX5_told.data.toList.drop 0 = dktX5_told_0 := by decide +kernel
theorem dksX5_told_1 : cX5_told.data.toList.drop 12 = dktX5_told_1 := dk_seg dksX5_told_0 12 rfl rfl
theorem dksX5_told_2 : cX5_told.data.toList.drop 68 = dktX5_told_2 := dk_seg dksX5_told_1 56 rfl rfl
theorem dksX5_told_3 : cX5_told.data.toList.drop 92 = dktX5_told_3 := dk_seg dksX5_told_2 24 rfl rfl
theorem dX5_told_0 : decode cX5_told 0 = .ok (.aload_n 0, 1) := dk_42 (dk_at dksX5_told_0 0 rfl rfl)
theorem dX5_told_1 : decode cX5_told 1 = .ok (.iload_n 1, 1) := dk_27 (dk_at dksX5_told_0 1 rfl rfl)
theorem dX5_told_2 : decode cX5_told 2 = .ok (.invokevirtual 109, 3) := dk_182 0 109 (dk_at dksX5_told_0 2 rfl rfl)
theorem dX5_told_5 : decode cX5_told 5 = .ok (.ifCond .ne 6, 3) := dk_154 0 6 (dk_at dksX5_told_0 5 rfl rfl)
theorem dX5_told_8 : decode cX5_told 8 = .ok (.ldc 83, 2) := dk_18 83 (dk_at dksX5_told_0 8 rfl rfl)
theorem dX5_told_10 : decode cX5_told 10 = .ok (.ireturn, 1) := dk_172 (dk_at dksX5_told_0 10 rfl rfl)
theorem dX5_told_11 : decode cX5_told 11 = .ok (.iload_n 2, 1) := dk_28 (dk_at dksX5_told_0 11 rfl rfl)
theorem dX5_told_12 : decode cX5_told 12 = .ok (.tableswitch 87 0 9 #[56, 56, 56, 56, 56, 56, 63, 69, 75, 81], 56) := by decide +kernel
theorem dX5_told_68 : decode cX5_told 68 = .ok (.aload_n 0, 1) := dk_42 (dk_at dksX5_told_2 0 rfl rfl)
theorem dX5_told_69 : decode cX5_told 69 = .ok (.iload_n 1, 1) := dk_27 (dk_at dksX5_told_2 1 rfl rfl)
theorem dX5_told_70 : decode cX5_told 70 = .ok (.iload_n 2, 1) := dk_28 (dk_at dksX5_told_2 2 rfl rfl)
theorem dX5_told_71 : decode cX5_told 71 = .ok (.invokevirtual 88, 3) := dk_182 0 88 (dk_at dksX5_told_2 3 rfl rfl)
theorem dX5_told_74 : decode cX5_told 74 = .ok (.ireturn, 1) := dk_172 (dk_at dksX5_told_2 6 rfl rfl)
theorem dX5_told_75 : decode cX5_told 75 = .ok (.aload_n 0, 1) := dk_42 (dk_at dksX5_told_2 7 rfl rfl)
theorem dX5_told_76 : decode cX5_told 76 = .ok (.iload_n 1, 1) := dk_27 (dk_at dksX5_told_2 8 rfl rfl)
theorem dX5_told_77 : decode cX5_told 77 = .ok (.invokevirtual 113, 3) := dk_182 0 113 (dk_at dksX5_told_2 9 rfl rfl)
theorem dX5_told_80 : decode cX5_told 80 = .ok (.ireturn, 1) := dk_172 (dk_at dksX5_told_2 12 rfl rfl)
theorem dX5_told_81 : decode cX5_told 81 = .ok (.aload_n 0, 1) := dk_42 (dk_at dksX5_told_2 13 rfl rfl)
theorem dX5_told_82 : decode cX5_told 82 = .ok (.iload_n 1, 1) := dk_27 (dk_at dksX5_told_2 14 rfl rfl)
theorem dX5_told_83 : decode cX5_told 83 = .ok (.invokevirtual 116, 3) := dk_182 0 116 (dk_at dksX5_told_2 15 rfl rfl)
theorem dX5_told_86 : decode cX5_told 86 = .ok (.ireturn, 1) := dk_172 (dk_at dksX5_told_2 18 rfl rfl)
theorem dX5_told_87 : decode cX5_told 87 = .ok (.aload_n 0, 1) := dk_42 (dk_at dksX5_told_2 19 rfl rfl)
theorem dX5_told_88 : decode cX5_told 88 = .ok (.iload_n 1, 1) := dk_27 (dk_at dksX5_told_2 20 rfl rfl)
theorem dX5_told_89 : decode cX5_told 89 = .ok (.invokevirtual 119, 3) := dk_182 0 119 (dk_at dksX5_told_2 21 rfl rfl)
theorem dX5_told_92 : decode cX5_told 92 = .ok (.ireturn, 1) := dk_172 (dk_at dksX5_told_3 0 rfl rfl)
theorem dX5_told_93 : decode cX5_told 93 = .ok (.aload_n 0, 1) := dk_42 (dk_at dksX5_told_3 1 rfl rfl)
theorem dX5_told_94 : decode cX5_told 94 = .ok (.iload_n 1, 1) := dk_27 (dk_at dksX5_told_3 2 rfl rfl)
theorem dX5_told_95 : decode cX5_told 95 = .ok (.invokevirtual 122, 3) := dk_182 0 122 (dk_at dksX5_told_3 3 rfl rfl)
theorem dX5_told_98 : decode cX5_told 98 = .ok (.ireturn, 1) := dk_172 (dk_at dksX5_told_3 6 rfl rfl)
theorem dX5_told_99 : decode cX5_told 99 = .ok (.ldc 83, 2) := dk_18 83 (dk_at dksX5_told_3 7 rfl rfl)
theorem dX5_told_101 : decode cX5_told 101 = .ok (.ireturn, 1) := dk_172 (dk_at dksX5_told_3 9 rfl rfl)
abbrev cX5_isRubbing : ByteArray := prog_18_method_11_code
def yX5_isRubbing : MethodName := ⟨RX5, "isRubbing", "(I)Z"⟩
def dkwX5_isRubbing_0 : List UInt8 := [27, 133, 9, 42, 180, 0, 7, 3, 46, 4, 100, 133, 184, 0, 68, 172]
abbrev dktX5_isRubbing_0 : List UInt8 := dkwX5_isRubbing_0 ++ []
theorem dksX5_isRubbing_0 : cX5_isRubbing.data.toList.drop 0 = dktX5_isRubbing_0 := by decide +kernel
theorem dX5_isRubbing_0 : decode cX5_isRubbing 0 = .ok (.iload_n 1, 1) := dk_27 (dk_at dksX5_isRubbing_0 0 rfl rfl)
theorem dX5_isRubbing_1 : decode cX5_isRubbing 1 = .ok (.i2l, 1) := dk_133 (dk_at dksX5_isRubbing_0 1 rfl rfl)
theorem dX5_isRubbing_2 : decode cX5_isRubbing 2 = .ok (.lconst 0, 1) := dk_9 (dk_at dksX5_isRubbing_0 2 rfl rfl)
theorem dX5_isRubbing_3 : decode cX5_isRubbing 3 = .ok (.aload_n 0, 1) := dk_42 (dk_at dksX5_isRubbing_0 3 rfl rfl)
theorem dX5_isRubbing_4 : decode cX5_isRubbing 4 = .ok (.getfield 7, 3) := dk_180 0 7 (dk_at dksX5_isRubbing_0 4 rfl rfl)
theorem dX5_isRubbing_7 : decode cX5_isRubbing 7 = .ok (.iconst 0, 1) := dk_3 (dk_at dksX5_isRubbing_0 7 rfl rfl)
theorem dX5_isRubbing_8 : decode cX5_isRubbing 8 = .ok (.iaload, 1) := dk_46 (dk_at dksX5_isRubbing_0 8 rfl rfl)
theorem dX5_isRubbing_9 : decode cX5_isRubbing 9 = .ok (.iconst 1, 1) := dk_4 (dk_at dksX5_isRubbing_0 9 rfl rfl)
theorem dX5_isRubbing_10 : decode cX5_isRubbing 10 = .ok (.isub, 1) := dk_100 (dk_at dksX5_isRubbing_0 10 rfl rfl)
theorem dX5_isRubbing_11 : decode cX5_isRubbing 11 = .ok (.i2l, 1) := dk_133 (dk_at dksX5_isRubbing_0 11 rfl rfl)
theorem dX5_isRubbing_12 : decode cX5_isRubbing 12 = .ok (.invokestatic 68, 3) := dk_184 0 68 (dk_at dksX5_isRubbing_0 12 rfl rfl)
theorem dX5_isRubbing_15 : decode cX5_isRubbing 15 = .ok (.ireturn, 1) := dk_172 (dk_at dksX5_isRubbing_0 15 rfl rfl)
abbrev cX5_of : ByteArray := prog_18_method_9_code
def yX5_of : MethodName := ⟨RX5, "of", "(II)I"⟩
def dkwX5_of_0 : List UInt8 := [42, 180, 0, 7, 16, 21, 16, 6, 27, 104, 96, 28, 96, 46, 172]
abbrev dktX5_of_0 : List UInt8 := dkwX5_of_0 ++ []
theorem dksX5_of_0 : cX5_of.data.toList.drop 0 = dktX5_of_0 := by decide +kernel
theorem dX5_of_0 : decode cX5_of 0 = .ok (.aload_n 0, 1) := dk_42 (dk_at dksX5_of_0 0 rfl rfl)
theorem dX5_of_1 : decode cX5_of 1 = .ok (.getfield 7, 3) := dk_180 0 7 (dk_at dksX5_of_0 1 rfl rfl)
theorem dX5_of_4 : decode cX5_of 4 = .ok (.bipush 21, 2) := dk_16 21 (dk_at dksX5_of_0 4 rfl rfl)
theorem dX5_of_6 : decode cX5_of 6 = .ok (.bipush 6, 2) := dk_16 6 (dk_at dksX5_of_0 6 rfl rfl)
theorem dX5_of_8 : decode cX5_of 8 = .ok (.iload_n 1, 1) := dk_27 (dk_at dksX5_of_0 8 rfl rfl)
theorem dX5_of_9 : decode cX5_of 9 = .ok (.imul, 1) := dk_104 (dk_at dksX5_of_0 9 rfl rfl)
theorem dX5_of_10 : decode cX5_of 10 = .ok (.iadd, 1) := dk_96 (dk_at dksX5_of_0 10 rfl rfl)
theorem dX5_of_11 : decode cX5_of 11 = .ok (.iload_n 2, 1) := dk_28 (dk_at dksX5_of_0 11 rfl rfl)
theorem dX5_of_12 : decode cX5_of 12 = .ok (.iadd, 1) := dk_96 (dk_at dksX5_of_0 12 rfl rfl)
theorem dX5_of_13 : decode cX5_of 13 = .ok (.iaload, 1) := dk_46 (dk_at dksX5_of_0 13 rfl rfl)
theorem dX5_of_14 : decode cX5_of 14 = .ok (.ireturn, 1) := dk_172 (dk_at dksX5_of_0 14 rfl rfl)
abbrev cX5_covers : ByteArray := prog_18_method_22_code
def yX5_covers : MethodName := ⟨RX5, "covers", "(I)I"⟩
def dkwX5_covers_0 : List UInt8 := [42, 27, 42, 27, 7, 182, 0, 88, 182, 0, 106, 172]
abbrev dktX5_covers_0 : List UInt8 := dkwX5_covers_0 ++ []
theorem dksX5_covers_0 : cX5_covers.data.toList.drop 0 = dktX5_covers_0 := by decide +kernel
theorem dX5_covers_0 : decode cX5_covers 0 = .ok (.aload_n 0, 1) := dk_42 (dk_at dksX5_covers_0 0 rfl rfl)
theorem dX5_covers_1 : decode cX5_covers 1 = .ok (.iload_n 1, 1) := dk_27 (dk_at dksX5_covers_0 1 rfl rfl)
theorem dX5_covers_2 : decode cX5_covers 2 = .ok (.aload_n 0, 1) := dk_42 (dk_at dksX5_covers_0 2 rfl rfl)
theorem dX5_covers_3 : decode cX5_covers 3 = .ok (.iload_n 1, 1) := dk_27 (dk_at dksX5_covers_0 3 rfl rfl)
theorem dX5_covers_4 : decode cX5_covers 4 = .ok (.iconst 4, 1) := dk_7 (dk_at dksX5_covers_0 4 rfl rfl)
theorem dX5_covers_5 : decode cX5_covers 5 = .ok (.invokevirtual 88, 3) := dk_182 0 88 (dk_at dksX5_covers_0 5 rfl rfl)
theorem dX5_covers_8 : decode cX5_covers 8 = .ok (.invokevirtual 106, 3) := dk_182 0 106 (dk_at dksX5_covers_0 8 rfl rfl)
theorem dX5_covers_11 : decode cX5_covers 11 = .ok (.ireturn, 1) := dk_172 (dk_at dksX5_covers_0 11 rfl rfl)
abbrev cX5_coversFrom : ByteArray := prog_18_method_21_code
def yX5_coversFrom : MethodName := ⟨RX5, "coversFrom", "(II)I"⟩
def dkwX5_coversFrom_0 : List UInt8 := [4, 42, 27, 5, 182, 0, 88, 120, 4, 100, 28, 120, 18, 105, 126, 172]
abbrev dktX5_coversFrom_0 : List UInt8 := dkwX5_coversFrom_0 ++ []
theorem dksX5_coversFrom_0 : cX5_coversFrom.data.toList.drop 0 = dktX5_coversFrom_0 := by decide +kernel
theorem dX5_coversFrom_0 : decode cX5_coversFrom 0 = .ok (.iconst 1, 1) := dk_4 (dk_at dksX5_coversFrom_0 0 rfl rfl)
theorem dX5_coversFrom_1 : decode cX5_coversFrom 1 = .ok (.aload_n 0, 1) := dk_42 (dk_at dksX5_coversFrom_0 1 rfl rfl)
theorem dX5_coversFrom_2 : decode cX5_coversFrom 2 = .ok (.iload_n 1, 1) := dk_27 (dk_at dksX5_coversFrom_0 2 rfl rfl)
theorem dX5_coversFrom_3 : decode cX5_coversFrom 3 = .ok (.iconst 2, 1) := dk_5 (dk_at dksX5_coversFrom_0 3 rfl rfl)
theorem dX5_coversFrom_4 : decode cX5_coversFrom 4 = .ok (.invokevirtual 88, 3) := dk_182 0 88 (dk_at dksX5_coversFrom_0 4 rfl rfl)
theorem dX5_coversFrom_7 : decode cX5_coversFrom 7 = .ok (.ishl, 1) := dk_120 (dk_at dksX5_coversFrom_0 7 rfl rfl)
theorem dX5_coversFrom_8 : decode cX5_coversFrom 8 = .ok (.iconst 1, 1) := dk_4 (dk_at dksX5_coversFrom_0 8 rfl rfl)
theorem dX5_coversFrom_9 : decode cX5_coversFrom 9 = .ok (.isub, 1) := dk_100 (dk_at dksX5_coversFrom_0 9 rfl rfl)
theorem dX5_coversFrom_10 : decode cX5_coversFrom 10 = .ok (.iload_n 2, 1) := dk_28 (dk_at dksX5_coversFrom_0 10 rfl rfl)
theorem dX5_coversFrom_11 : decode cX5_coversFrom 11 = .ok (.ishl, 1) := dk_120 (dk_at dksX5_coversFrom_0 11 rfl rfl)
theorem dX5_coversFrom_12 : decode cX5_coversFrom 12 = .ok (.ldc 105, 2) := dk_18 105 (dk_at dksX5_coversFrom_0 12 rfl rfl)
theorem dX5_coversFrom_14 : decode cX5_coversFrom 14 = .ok (.iand, 1) := dk_126 (dk_at dksX5_coversFrom_0 14 rfl rfl)
theorem dX5_coversFrom_15 : decode cX5_coversFrom 15 = .ok (.ireturn, 1) := dk_172 (dk_at dksX5_coversFrom_0 15 rfl rfl)
abbrev cX5_gains : ByteArray := prog_18_method_18_code
def yX5_gains : MethodName := ⟨RX5, "gains", "(I)I"⟩
def dkwX5_gains_4 : List UInt8 := [28, 4, 96, 172, 28, 5, 108, 172, 28, 5, 108, 5, 96, 172, 3, 172, 28, 172]
abbrev dktX5_gains_4 : List UInt8 := dkwX5_gains_4 ++ []
def dkwX5_gains_3 : List UInt8 := [170, 0, 0, 0, 0, 0, 0, 52, 0, 0, 0, 1, 0, 0, 0, 5, 0, 0, 0, 36, 0, 0, 0, 40, 0, 0, 0, 36, 0, 0, 0, 44, 0, 0, 0, 50]
abbrev dktX5_gains_3 : List UInt8 := dkwX5_gains_3 ++ dktX5_gains_4
def dkwX5_gains_2 : List UInt8 := [182, 0, 88, 79, 42, 29, 182, 0, 99, 16, 99, 184, 0, 102, 61, 42, 27, 3, 182, 0, 88]
abbrev dktX5_gains_2 : List UInt8 := dkwX5_gains_2 ++ dktX5_gains_3
def dkwX5_gains_1 : List UInt8 := [79, 42, 180, 0, 52, 16, 115, 42, 27, 5, 182, 0, 88, 79, 42, 180, 0, 52, 16, 108, 42, 27, 7]
abbrev dktX5_gains_1 : List UInt8 := dkwX5_gains_1 ++ dktX5_gains_2
def dkwX5_gains_0 : List UInt8 := [6, 61, 42, 3, 182, 0, 96, 62, 29, 155, 0, 53, 42, 180, 0, 52, 16, 116, 42, 27, 8, 182, 0, 88]
abbrev dktX5_gains_0 : List UInt8 := dkwX5_gains_0 ++ dktX5_gains_1
theorem dksX5_gains_0 : cX5_gains.data.toList.drop 0 = dktX5_gains_0 := by decide +kernel
theorem dksX5_gains_1 : cX5_gains.data.toList.drop 24 = dktX5_gains_1 := dk_seg dksX5_gains_0 24 rfl rfl
theorem dksX5_gains_2 : cX5_gains.data.toList.drop 47 = dktX5_gains_2 := dk_seg dksX5_gains_1 23 rfl rfl
theorem dksX5_gains_3 : cX5_gains.data.toList.drop 68 = dktX5_gains_3 := dk_seg dksX5_gains_2 21 rfl rfl
theorem dksX5_gains_4 : cX5_gains.data.toList.drop 104 = dktX5_gains_4 := dk_seg dksX5_gains_3 36 rfl rfl
theorem dX5_gains_0 : decode cX5_gains 0 = .ok (.iconst 3, 1) := dk_6 (dk_at dksX5_gains_0 0 rfl rfl)
theorem dX5_gains_1 : decode cX5_gains 1 = .ok (.istore_n 2, 1) := dk_61 (dk_at dksX5_gains_0 1 rfl rfl)
theorem dX5_gains_2 : decode cX5_gains 2 = .ok (.aload_n 0, 1) := dk_42 (dk_at dksX5_gains_0 2 rfl rfl)
theorem dX5_gains_3 : decode cX5_gains 3 = .ok (.iconst 0, 1) := dk_3 (dk_at dksX5_gains_0 3 rfl rfl)
theorem dX5_gains_4 : decode cX5_gains 4 = .ok (.invokevirtual 96, 3) := dk_182 0 96 (dk_at dksX5_gains_0 4 rfl rfl)
theorem dX5_gains_7 : decode cX5_gains 7 = .ok (.istore_n 3, 1) := dk_62 (dk_at dksX5_gains_0 7 rfl rfl)
theorem dX5_gains_8 : decode cX5_gains 8 = .ok (.iload_n 3, 1) := dk_29 (dk_at dksX5_gains_0 8 rfl rfl)
theorem dX5_gains_9 : decode cX5_gains 9 = .ok (.ifCond .lt 53, 3) := dk_155 0 53 (dk_at dksX5_gains_0 9 rfl rfl)
theorem dX5_gains_12 : decode cX5_gains 12 = .ok (.aload_n 0, 1) := dk_42 (dk_at dksX5_gains_0 12 rfl rfl)
theorem dX5_gains_13 : decode cX5_gains 13 = .ok (.getfield 52, 3) := dk_180 0 52 (dk_at dksX5_gains_0 13 rfl rfl)
theorem dX5_gains_16 : decode cX5_gains 16 = .ok (.bipush 116, 2) := dk_16 116 (dk_at dksX5_gains_0 16 rfl rfl)
theorem dX5_gains_18 : decode cX5_gains 18 = .ok (.aload_n 0, 1) := dk_42 (dk_at dksX5_gains_0 18 rfl rfl)
theorem dX5_gains_19 : decode cX5_gains 19 = .ok (.iload_n 1, 1) := dk_27 (dk_at dksX5_gains_0 19 rfl rfl)
theorem dX5_gains_20 : decode cX5_gains 20 = .ok (.iconst 5, 1) := dk_8 (dk_at dksX5_gains_0 20 rfl rfl)
theorem dX5_gains_21 : decode cX5_gains 21 = .ok (.invokevirtual 88, 3) := dk_182 0 88 (dk_at dksX5_gains_0 21 rfl rfl)
theorem dX5_gains_24 : decode cX5_gains 24 = .ok (.iastore, 1) := dk_79 (dk_at dksX5_gains_1 0 rfl rfl)
theorem dX5_gains_25 : decode cX5_gains 25 = .ok (.aload_n 0, 1) := dk_42 (dk_at dksX5_gains_1 1 rfl rfl)
theorem dX5_gains_26 : decode cX5_gains 26 = .ok (.getfield 52, 3) := dk_180 0 52 (dk_at dksX5_gains_1 2 rfl rfl)
theorem dX5_gains_29 : decode cX5_gains 29 = .ok (.bipush 115, 2) := dk_16 115 (dk_at dksX5_gains_1 5 rfl rfl)
theorem dX5_gains_31 : decode cX5_gains 31 = .ok (.aload_n 0, 1) := dk_42 (dk_at dksX5_gains_1 7 rfl rfl)
theorem dX5_gains_32 : decode cX5_gains 32 = .ok (.iload_n 1, 1) := dk_27 (dk_at dksX5_gains_1 8 rfl rfl)
theorem dX5_gains_33 : decode cX5_gains 33 = .ok (.iconst 2, 1) := dk_5 (dk_at dksX5_gains_1 9 rfl rfl)
theorem dX5_gains_34 : decode cX5_gains 34 = .ok (.invokevirtual 88, 3) := dk_182 0 88 (dk_at dksX5_gains_1 10 rfl rfl)
theorem dX5_gains_37 : decode cX5_gains 37 = .ok (.iastore, 1) := dk_79 (dk_at dksX5_gains_1 13 rfl rfl)
theorem dX5_gains_38 : decode cX5_gains 38 = .ok (.aload_n 0, 1) := dk_42 (dk_at dksX5_gains_1 14 rfl rfl)
theorem dX5_gains_39 : decode cX5_gains 39 = .ok (.getfield 52, 3) := dk_180 0 52 (dk_at dksX5_gains_1 15 rfl rfl)
theorem dX5_gains_42 : decode cX5_gains 42 = .ok (.bipush 108, 2) := dk_16 108 (dk_at dksX5_gains_1 18 rfl rfl)
theorem dX5_gains_44 : decode cX5_gains 44 = .ok (.aload_n 0, 1) := dk_42 (dk_at dksX5_gains_1 20 rfl rfl)
theorem dX5_gains_45 : decode cX5_gains 45 = .ok (.iload_n 1, 1) := dk_27 (dk_at dksX5_gains_1 21 rfl rfl)
theorem dX5_gains_46 : decode cX5_gains 46 = .ok (.iconst 4, 1) := dk_7 (dk_at dksX5_gains_1 22 rfl rfl)
theorem dX5_gains_47 : decode cX5_gains 47 = .ok (.invokevirtual 88, 3) := dk_182 0 88 (dk_at dksX5_gains_2 0 rfl rfl)
theorem dX5_gains_50 : decode cX5_gains 50 = .ok (.iastore, 1) := dk_79 (dk_at dksX5_gains_2 3 rfl rfl)
theorem dX5_gains_51 : decode cX5_gains 51 = .ok (.aload_n 0, 1) := dk_42 (dk_at dksX5_gains_2 4 rfl rfl)
theorem dX5_gains_52 : decode cX5_gains 52 = .ok (.iload_n 3, 1) := dk_29 (dk_at dksX5_gains_2 5 rfl rfl)
theorem dX5_gains_53 : decode cX5_gains 53 = .ok (.invokevirtual 99, 3) := dk_182 0 99 (dk_at dksX5_gains_2 6 rfl rfl)
theorem dX5_gains_56 : decode cX5_gains 56 = .ok (.bipush 99, 2) := dk_16 99 (dk_at dksX5_gains_2 9 rfl rfl)
theorem dX5_gains_58 : decode cX5_gains 58 = .ok (.invokestatic 102, 3) := dk_184 0 102 (dk_at dksX5_gains_2 11 rfl rfl)
theorem dX5_gains_61 : decode cX5_gains 61 = .ok (.istore_n 2, 1) := dk_61 (dk_at dksX5_gains_2 14 rfl rfl)
theorem dX5_gains_62 : decode cX5_gains 62 = .ok (.aload_n 0, 1) := dk_42 (dk_at dksX5_gains_2 15 rfl rfl)
theorem dX5_gains_63 : decode cX5_gains 63 = .ok (.iload_n 1, 1) := dk_27 (dk_at dksX5_gains_2 16 rfl rfl)
theorem dX5_gains_64 : decode cX5_gains 64 = .ok (.iconst 0, 1) := dk_3 (dk_at dksX5_gains_2 17 rfl rfl)
theorem dX5_gains_65 : decode cX5_gains 65 = .ok (.invokevirtual 88, 3) := dk_182 0 88 (dk_at dksX5_gains_2 18 rfl rfl)
theorem dX5_gains_68 : decode cX5_gains 68 = .ok (.tableswitch 52 1 5 #[36, 40, 36, 44, 50], 36) := by decide +kernel
theorem dX5_gains_104 : decode cX5_gains 104 = .ok (.iload_n 2, 1) := dk_28 (dk_at dksX5_gains_4 0 rfl rfl)
theorem dX5_gains_105 : decode cX5_gains 105 = .ok (.iconst 1, 1) := dk_4 (dk_at dksX5_gains_4 1 rfl rfl)
theorem dX5_gains_106 : decode cX5_gains 106 = .ok (.iadd, 1) := dk_96 (dk_at dksX5_gains_4 2 rfl rfl)
theorem dX5_gains_107 : decode cX5_gains 107 = .ok (.ireturn, 1) := dk_172 (dk_at dksX5_gains_4 3 rfl rfl)
theorem dX5_gains_108 : decode cX5_gains 108 = .ok (.iload_n 2, 1) := dk_28 (dk_at dksX5_gains_4 4 rfl rfl)
theorem dX5_gains_109 : decode cX5_gains 109 = .ok (.iconst 2, 1) := dk_5 (dk_at dksX5_gains_4 5 rfl rfl)
theorem dX5_gains_110 : decode cX5_gains 110 = .ok (.idiv, 1) := dk_108 (dk_at dksX5_gains_4 6 rfl rfl)
theorem dX5_gains_111 : decode cX5_gains 111 = .ok (.ireturn, 1) := dk_172 (dk_at dksX5_gains_4 7 rfl rfl)
theorem dX5_gains_112 : decode cX5_gains 112 = .ok (.iload_n 2, 1) := dk_28 (dk_at dksX5_gains_4 8 rfl rfl)
theorem dX5_gains_113 : decode cX5_gains 113 = .ok (.iconst 2, 1) := dk_5 (dk_at dksX5_gains_4 9 rfl rfl)
theorem dX5_gains_114 : decode cX5_gains 114 = .ok (.idiv, 1) := dk_108 (dk_at dksX5_gains_4 10 rfl rfl)
theorem dX5_gains_115 : decode cX5_gains 115 = .ok (.iconst 2, 1) := dk_5 (dk_at dksX5_gains_4 11 rfl rfl)
theorem dX5_gains_116 : decode cX5_gains 116 = .ok (.iadd, 1) := dk_96 (dk_at dksX5_gains_4 12 rfl rfl)
theorem dX5_gains_117 : decode cX5_gains 117 = .ok (.ireturn, 1) := dk_172 (dk_at dksX5_gains_4 13 rfl rfl)
theorem dX5_gains_118 : decode cX5_gains 118 = .ok (.iconst 0, 1) := dk_3 (dk_at dksX5_gains_4 14 rfl rfl)
theorem dX5_gains_119 : decode cX5_gains 119 = .ok (.ireturn, 1) := dk_172 (dk_at dksX5_gains_4 15 rfl rfl)
theorem dX5_gains_120 : decode cX5_gains 120 = .ok (.iload_n 2, 1) := dk_28 (dk_at dksX5_gains_4 16 rfl rfl)
theorem dX5_gains_121 : decode cX5_gains 121 = .ok (.ireturn, 1) := dk_172 (dk_at dksX5_gains_4 17 rfl rfl)
abbrev cX5_counts : ByteArray := prog_18_method_81_code
def yX5_counts : MethodName := ⟨RX5, "counts", "(I)I"⟩
def dkwX5_counts_1 : List UInt8 := [27, 160, 0, 7, 29, 167, 0, 4, 28, 61, 132, 3, 1, 167, 255, 223, 28, 172]
abbrev dktX5_counts_1 : List UInt8 := dkwX5_counts_1 ++ []
def dkwX5_counts_0 : List UInt8 := [2, 61, 3, 62, 29, 42, 180, 0, 7, 4, 46, 162, 0, 29, 42, 180, 0, 7, 42, 29, 182, 1, 28, 46]
abbrev dktX5_counts_0 : List UInt8 := dkwX5_counts_0 ++ dktX5_counts_1
theorem dksX5_counts_0 : cX5_counts.data.toList.drop 0 = dktX5_counts_0 := by decide +kernel
theorem dksX5_counts_1 : cX5_counts.data.toList.drop 24 = dktX5_counts_1 := dk_seg dksX5_counts_0 24 rfl rfl
theorem dX5_counts_0 : decode cX5_counts 0 = .ok (.iconst (-1), 1) := dk_2 (dk_at dksX5_counts_0 0 rfl rfl)
theorem dX5_counts_1 : decode cX5_counts 1 = .ok (.istore_n 2, 1) := dk_61 (dk_at dksX5_counts_0 1 rfl rfl)
theorem dX5_counts_2 : decode cX5_counts 2 = .ok (.iconst 0, 1) := dk_3 (dk_at dksX5_counts_0 2 rfl rfl)
theorem dX5_counts_3 : decode cX5_counts 3 = .ok (.istore_n 3, 1) := dk_62 (dk_at dksX5_counts_0 3 rfl rfl)
theorem dX5_counts_4 : decode cX5_counts 4 = .ok (.iload_n 3, 1) := dk_29 (dk_at dksX5_counts_0 4 rfl rfl)
theorem dX5_counts_5 : decode cX5_counts 5 = .ok (.aload_n 0, 1) := dk_42 (dk_at dksX5_counts_0 5 rfl rfl)
theorem dX5_counts_6 : decode cX5_counts 6 = .ok (.getfield 7, 3) := dk_180 0 7 (dk_at dksX5_counts_0 6 rfl rfl)
theorem dX5_counts_9 : decode cX5_counts 9 = .ok (.iconst 1, 1) := dk_4 (dk_at dksX5_counts_0 9 rfl rfl)
theorem dX5_counts_10 : decode cX5_counts 10 = .ok (.iaload, 1) := dk_46 (dk_at dksX5_counts_0 10 rfl rfl)
theorem dX5_counts_11 : decode cX5_counts 11 = .ok (.if_icmp .ge 29, 3) := dk_162 0 29 (dk_at dksX5_counts_0 11 rfl rfl)
theorem dX5_counts_14 : decode cX5_counts 14 = .ok (.aload_n 0, 1) := dk_42 (dk_at dksX5_counts_0 14 rfl rfl)
theorem dX5_counts_15 : decode cX5_counts 15 = .ok (.getfield 7, 3) := dk_180 0 7 (dk_at dksX5_counts_0 15 rfl rfl)
theorem dX5_counts_18 : decode cX5_counts 18 = .ok (.aload_n 0, 1) := dk_42 (dk_at dksX5_counts_0 18 rfl rfl)
theorem dX5_counts_19 : decode cX5_counts 19 = .ok (.iload_n 3, 1) := dk_29 (dk_at dksX5_counts_0 19 rfl rfl)
theorem dX5_counts_20 : decode cX5_counts 20 = .ok (.invokevirtual 284, 3) := dk_182 1 28 (dk_at dksX5_counts_0 20 rfl rfl)
theorem dX5_counts_23 : decode cX5_counts 23 = .ok (.iaload, 1) := dk_46 (dk_at dksX5_counts_0 23 rfl rfl)
theorem dX5_counts_24 : decode cX5_counts 24 = .ok (.iload_n 1, 1) := dk_27 (dk_at dksX5_counts_1 0 rfl rfl)
theorem dX5_counts_25 : decode cX5_counts 25 = .ok (.if_icmp .ne 7, 3) := dk_160 0 7 (dk_at dksX5_counts_1 1 rfl rfl)
theorem dX5_counts_28 : decode cX5_counts 28 = .ok (.iload_n 3, 1) := dk_29 (dk_at dksX5_counts_1 4 rfl rfl)
theorem dX5_counts_29 : decode cX5_counts 29 = .ok (.goto 4, 3) := dk_167 0 4 (dk_at dksX5_counts_1 5 rfl rfl)
theorem dX5_counts_32 : decode cX5_counts 32 = .ok (.iload_n 2, 1) := dk_28 (dk_at dksX5_counts_1 8 rfl rfl)
theorem dX5_counts_33 : decode cX5_counts 33 = .ok (.istore_n 2, 1) := dk_61 (dk_at dksX5_counts_1 9 rfl rfl)
theorem dX5_counts_34 : decode cX5_counts 34 = .ok (.iinc 3 1, 3) := dk_132 3 1 (dk_at dksX5_counts_1 10 rfl rfl)
theorem dX5_counts_37 : decode cX5_counts 37 = .ok (.goto (-33), 3) := dk_167 255 223 (dk_at dksX5_counts_1 13 rfl rfl)
theorem dX5_counts_40 : decode cX5_counts 40 = .ok (.iload_n 2, 1) := dk_28 (dk_at dksX5_counts_1 16 rfl rfl)
theorem dX5_counts_41 : decode cX5_counts 41 = .ok (.ireturn, 1) := dk_172 (dk_at dksX5_counts_1 17 rfl rfl)
abbrev cX5_textAt : ByteArray := prog_18_method_8_code
def yX5_textAt : MethodName := ⟨RX5, "textAt", "(I)I"⟩
def dkwX5_textAt_0 : List UInt8 := [16, 75, 17, 0, 200, 27, 104, 96, 172]
abbrev dktX5_textAt_0 : List UInt8 := dkwX5_textAt_0 ++ []
theorem dksX5_textAt_0 : cX5_textAt.data.toList.drop 0 = dktX5_textAt_0 := by decide +kernel
theorem dX5_textAt_0 : decode cX5_textAt 0 = .ok (.bipush 75, 2) := dk_16 75 (dk_at dksX5_textAt_0 0 rfl rfl)
theorem dX5_textAt_2 : decode cX5_textAt 2 = .ok (.sipush 200, 3) := dk_17 0 200 (dk_at dksX5_textAt_0 2 rfl rfl)
theorem dX5_textAt_5 : decode cX5_textAt 5 = .ok (.iload_n 1, 1) := dk_27 (dk_at dksX5_textAt_0 5 rfl rfl)
theorem dX5_textAt_6 : decode cX5_textAt 6 = .ok (.imul, 1) := dk_104 (dk_at dksX5_textAt_0 6 rfl rfl)
theorem dX5_textAt_7 : decode cX5_textAt 7 = .ok (.iadd, 1) := dk_96 (dk_at dksX5_textAt_0 7 rfl rfl)
theorem dX5_textAt_8 : decode cX5_textAt 8 = .ok (.ireturn, 1) := dk_172 (dk_at dksX5_textAt_0 8 rfl rfl)
abbrev cX5_worked : ByteArray := prog_18_method_84_code
def yX5_worked : MethodName := ⟨RX5, "worked", "(I)I"⟩
def dkwX5_worked_7 : List UInt8 := [3, 46, 172]
abbrev dktX5_worked_7 : List UInt8 := dkwX5_worked_7 ++ []
def dkwX5_worked_6 : List UInt8 := [28, 4, 100, 46, 42, 180, 0, 55, 28, 46, 184, 1, 42, 79, 132, 3, 1, 167, 255, 100, 42, 180, 0, 55]
abbrev dktX5_worked_6 : List UInt8 := dkwX5_worked_6 ++ dktX5_worked_7
def dkwX5_worked_5 : List UInt8 := [167, 0, 4, 3, 79, 167, 0, 33, 132, 2, 255, 42, 180, 0, 55, 28, 4, 100, 21, 5, 42, 180, 0, 55]
abbrev dktX5_worked_5 : List UInt8 := dkwX5_worked_5 ++ dktX5_worked_6
def dkwX5_worked_4 : List UInt8 := [16, 33, 160, 0, 30, 42, 180, 0, 55, 28, 4, 100, 42, 180, 0, 55, 28, 4, 100, 46, 154, 0, 7, 4]
abbrev dktX5_worked_4 : List UInt8 := dkwX5_worked_4 ++ dktX5_worked_5
def dkwX5_worked_3 : List UInt8 := [154, 0, 8, 21, 5, 167, 0, 10, 42, 180, 0, 52, 21, 5, 46, 79, 132, 2, 1, 167, 0, 67, 21, 5]
abbrev dktX5_worked_3 : List UInt8 := dkwX5_worked_3 ++ dktX5_worked_4
def dkwX5_worked_2 : List UInt8 := [96, 5, 29, 104, 96, 4, 96, 46, 54, 5, 21, 4, 5, 159, 0, 32, 42, 180, 0, 55, 28, 21, 4]
abbrev dktX5_worked_2 : List UInt8 := dkwX5_worked_2 ++ dktX5_worked_3
def dkwX5_worked_1 : List UInt8 := [42, 27, 182, 1, 28, 7, 96, 5, 29, 104, 96, 46, 54, 4, 42, 180, 0, 7, 42, 27, 182, 1, 28, 7]
abbrev dktX5_worked_1 : List UInt8 := dkwX5_worked_1 ++ dktX5_worked_2
def dkwX5_worked_0 : List UInt8 := [3, 61, 3, 62, 29, 42, 180, 0, 7, 42, 27, 182, 1, 28, 5, 96, 46, 162, 0, 146, 42, 180, 0, 7]
abbrev dktX5_worked_0 : List UInt8 := dkwX5_worked_0 ++ dktX5_worked_1
theorem dksX5_worked_0 : cX5_worked.data.toList.drop 0 = dktX5_worked_0 := by decide +kernel
theorem dksX5_worked_1 : cX5_worked.data.toList.drop 24 = dktX5_worked_1 := dk_seg dksX5_worked_0 24 rfl rfl
theorem dksX5_worked_2 : cX5_worked.data.toList.drop 48 = dktX5_worked_2 := dk_seg dksX5_worked_1 24 rfl rfl
theorem dksX5_worked_3 : cX5_worked.data.toList.drop 71 = dktX5_worked_3 := dk_seg dksX5_worked_2 23 rfl rfl
theorem dksX5_worked_4 : cX5_worked.data.toList.drop 95 = dktX5_worked_4 := dk_seg dksX5_worked_3 24 rfl rfl
theorem dksX5_worked_5 : cX5_worked.data.toList.drop 119 = dktX5_worked_5 := dk_seg dksX5_worked_4 24 rfl rfl
theorem dksX5_worked_6 : cX5_worked.data.toList.drop 143 = dktX5_worked_6 := dk_seg dksX5_worked_5 24 rfl rfl
theorem dksX5_worked_7 : cX5_worked.data.toList.drop 167 = dktX5_worked_7 := dk_seg dksX5_worked_6 24 rfl rfl
theorem dX5_worked_0 : decode cX5_worked 0 = .ok (.iconst 0, 1) := dk_3 (dk_at dksX5_worked_0 0 rfl rfl)
theorem dX5_worked_1 : decode cX5_worked 1 = .ok (.istore_n 2, 1) := dk_61 (dk_at dksX5_worked_0 1 rfl rfl)
theorem dX5_worked_2 : decode cX5_worked 2 = .ok (.iconst 0, 1) := dk_3 (dk_at dksX5_worked_0 2 rfl rfl)
theorem dX5_worked_3 : decode cX5_worked 3 = .ok (.istore_n 3, 1) := dk_62 (dk_at dksX5_worked_0 3 rfl rfl)
theorem dX5_worked_4 : decode cX5_worked 4 = .ok (.iload_n 3, 1) := dk_29 (dk_at dksX5_worked_0 4 rfl rfl)
theorem dX5_worked_5 : decode cX5_worked 5 = .ok (.aload_n 0, 1) := dk_42 (dk_at dksX5_worked_0 5 rfl rfl)
theorem dX5_worked_6 : decode cX5_worked 6 = .ok (.getfield 7, 3) := dk_180 0 7 (dk_at dksX5_worked_0 6 rfl rfl)
theorem dX5_worked_9 : decode cX5_worked 9 = .ok (.aload_n 0, 1) := dk_42 (dk_at dksX5_worked_0 9 rfl rfl)
theorem dX5_worked_10 : decode cX5_worked 10 = .ok (.iload_n 1, 1) := dk_27 (dk_at dksX5_worked_0 10 rfl rfl)
theorem dX5_worked_11 : decode cX5_worked 11 = .ok (.invokevirtual 284, 3) := dk_182 1 28 (dk_at dksX5_worked_0 11 rfl rfl)
theorem dX5_worked_14 : decode cX5_worked 14 = .ok (.iconst 2, 1) := dk_5 (dk_at dksX5_worked_0 14 rfl rfl)
theorem dX5_worked_15 : decode cX5_worked 15 = .ok (.iadd, 1) := dk_96 (dk_at dksX5_worked_0 15 rfl rfl)
theorem dX5_worked_16 : decode cX5_worked 16 = .ok (.iaload, 1) := dk_46 (dk_at dksX5_worked_0 16 rfl rfl)
theorem dX5_worked_17 : decode cX5_worked 17 = .ok (.if_icmp .ge 146, 3) := dk_162 0 146 (dk_at dksX5_worked_0 17 rfl rfl)
theorem dX5_worked_20 : decode cX5_worked 20 = .ok (.aload_n 0, 1) := dk_42 (dk_at dksX5_worked_0 20 rfl rfl)
theorem dX5_worked_21 : decode cX5_worked 21 = .ok (.getfield 7, 3) := dk_180 0 7 (dk_at dksX5_worked_0 21 rfl rfl)
theorem dX5_worked_24 : decode cX5_worked 24 = .ok (.aload_n 0, 1) := dk_42 (dk_at dksX5_worked_1 0 rfl rfl)
theorem dX5_worked_25 : decode cX5_worked 25 = .ok (.iload_n 1, 1) := dk_27 (dk_at dksX5_worked_1 1 rfl rfl)
theorem dX5_worked_26 : decode cX5_worked 26 = .ok (.invokevirtual 284, 3) := dk_182 1 28 (dk_at dksX5_worked_1 2 rfl rfl)
theorem dX5_worked_29 : decode cX5_worked 29 = .ok (.iconst 4, 1) := dk_7 (dk_at dksX5_worked_1 5 rfl rfl)
theorem dX5_worked_30 : decode cX5_worked 30 = .ok (.iadd, 1) := dk_96 (dk_at dksX5_worked_1 6 rfl rfl)
theorem dX5_worked_31 : decode cX5_worked 31 = .ok (.iconst 2, 1) := dk_5 (dk_at dksX5_worked_1 7 rfl rfl)
theorem dX5_worked_32 : decode cX5_worked 32 = .ok (.iload_n 3, 1) := dk_29 (dk_at dksX5_worked_1 8 rfl rfl)
theorem dX5_worked_33 : decode cX5_worked 33 = .ok (.imul, 1) := dk_104 (dk_at dksX5_worked_1 9 rfl rfl)
theorem dX5_worked_34 : decode cX5_worked 34 = .ok (.iadd, 1) := dk_96 (dk_at dksX5_worked_1 10 rfl rfl)
theorem dX5_worked_35 : decode cX5_worked 35 = .ok (.iaload, 1) := dk_46 (dk_at dksX5_worked_1 11 rfl rfl)
theorem dX5_worked_36 : decode cX5_worked 36 = .ok (.istore 4, 2) := dk_54 4 (dk_at dksX5_worked_1 12 rfl rfl)
theorem dX5_worked_38 : decode cX5_worked 38 = .ok (.aload_n 0, 1) := dk_42 (dk_at dksX5_worked_1 14 rfl rfl)
theorem dX5_worked_39 : decode cX5_worked 39 = .ok (.getfield 7, 3) := dk_180 0 7 (dk_at dksX5_worked_1 15 rfl rfl)
theorem dX5_worked_42 : decode cX5_worked 42 = .ok (.aload_n 0, 1) := dk_42 (dk_at dksX5_worked_1 18 rfl rfl)
theorem dX5_worked_43 : decode cX5_worked 43 = .ok (.iload_n 1, 1) := dk_27 (dk_at dksX5_worked_1 19 rfl rfl)
theorem dX5_worked_44 : decode cX5_worked 44 = .ok (.invokevirtual 284, 3) := dk_182 1 28 (dk_at dksX5_worked_1 20 rfl rfl)
theorem dX5_worked_47 : decode cX5_worked 47 = .ok (.iconst 4, 1) := dk_7 (dk_at dksX5_worked_1 23 rfl rfl)
theorem dX5_worked_48 : decode cX5_worked 48 = .ok (.iadd, 1) := dk_96 (dk_at dksX5_worked_2 0 rfl rfl)
theorem dX5_worked_49 : decode cX5_worked 49 = .ok (.iconst 2, 1) := dk_5 (dk_at dksX5_worked_2 1 rfl rfl)
theorem dX5_worked_50 : decode cX5_worked 50 = .ok (.iload_n 3, 1) := dk_29 (dk_at dksX5_worked_2 2 rfl rfl)
theorem dX5_worked_51 : decode cX5_worked 51 = .ok (.imul, 1) := dk_104 (dk_at dksX5_worked_2 3 rfl rfl)
theorem dX5_worked_52 : decode cX5_worked 52 = .ok (.iadd, 1) := dk_96 (dk_at dksX5_worked_2 4 rfl rfl)
theorem dX5_worked_53 : decode cX5_worked 53 = .ok (.iconst 1, 1) := dk_4 (dk_at dksX5_worked_2 5 rfl rfl)
theorem dX5_worked_54 : decode cX5_worked 54 = .ok (.iadd, 1) := dk_96 (dk_at dksX5_worked_2 6 rfl rfl)
theorem dX5_worked_55 : decode cX5_worked 55 = .ok (.iaload, 1) := dk_46 (dk_at dksX5_worked_2 7 rfl rfl)
theorem dX5_worked_56 : decode cX5_worked 56 = .ok (.istore 5, 2) := dk_54 5 (dk_at dksX5_worked_2 8 rfl rfl)
theorem dX5_worked_58 : decode cX5_worked 58 = .ok (.iload 4, 2) := dk_21 4 (dk_at dksX5_worked_2 10 rfl rfl)
theorem dX5_worked_60 : decode cX5_worked 60 = .ok (.iconst 2, 1) := dk_5 (dk_at dksX5_worked_2 12 rfl rfl)
theorem dX5_worked_61 : decode cX5_worked 61 = .ok (.if_icmp .eq 32, 3) := dk_159 0 32 (dk_at dksX5_worked_2 13 rfl rfl)
theorem dX5_worked_64 : decode cX5_worked 64 = .ok (.aload_n 0, 1) := dk_42 (dk_at dksX5_worked_2 16 rfl rfl)
theorem dX5_worked_65 : decode cX5_worked 65 = .ok (.getfield 55, 3) := dk_180 0 55 (dk_at dksX5_worked_2 17 rfl rfl)
theorem dX5_worked_68 : decode cX5_worked 68 = .ok (.iload_n 2, 1) := dk_28 (dk_at dksX5_worked_2 20 rfl rfl)
theorem dX5_worked_69 : decode cX5_worked 69 = .ok (.iload 4, 2) := dk_21 4 (dk_at dksX5_worked_2 21 rfl rfl)
theorem dX5_worked_71 : decode cX5_worked 71 = .ok (.ifCond .ne 8, 3) := dk_154 0 8 (dk_at dksX5_worked_3 0 rfl rfl)
theorem dX5_worked_74 : decode cX5_worked 74 = .ok (.iload 5, 2) := dk_21 5 (dk_at dksX5_worked_3 3 rfl rfl)
theorem dX5_worked_76 : decode cX5_worked 76 = .ok (.goto 10, 3) := dk_167 0 10 (dk_at dksX5_worked_3 5 rfl rfl)
theorem dX5_worked_79 : decode cX5_worked 79 = .ok (.aload_n 0, 1) := dk_42 (dk_at dksX5_worked_3 8 rfl rfl)
theorem dX5_worked_80 : decode cX5_worked 80 = .ok (.getfield 52, 3) := dk_180 0 52 (dk_at dksX5_worked_3 9 rfl rfl)
theorem dX5_worked_83 : decode cX5_worked 83 = .ok (.iload 5, 2) := dk_21 5 (dk_at dksX5_worked_3 12 rfl rfl)
theorem dX5_worked_85 : decode cX5_worked 85 = .ok (.iaload, 1) := dk_46 (dk_at dksX5_worked_3 14 rfl rfl)
theorem dX5_worked_86 : decode cX5_worked 86 = .ok (.iastore, 1) := dk_79 (dk_at dksX5_worked_3 15 rfl rfl)
theorem dX5_worked_87 : decode cX5_worked 87 = .ok (.iinc 2 1, 3) := dk_132 2 1 (dk_at dksX5_worked_3 16 rfl rfl)
theorem dX5_worked_90 : decode cX5_worked 90 = .ok (.goto 67, 3) := dk_167 0 67 (dk_at dksX5_worked_3 19 rfl rfl)
theorem dX5_worked_93 : decode cX5_worked 93 = .ok (.iload 5, 2) := dk_21 5 (dk_at dksX5_worked_3 22 rfl rfl)
theorem dX5_worked_95 : decode cX5_worked 95 = .ok (.bipush 33, 2) := dk_16 33 (dk_at dksX5_worked_4 0 rfl rfl)
theorem dX5_worked_97 : decode cX5_worked 97 = .ok (.if_icmp .ne 30, 3) := dk_160 0 30 (dk_at dksX5_worked_4 2 rfl rfl)
theorem dX5_worked_100 : decode cX5_worked 100 = .ok (.aload_n 0, 1) := dk_42 (dk_at dksX5_worked_4 5 rfl rfl)
theorem dX5_worked_101 : decode cX5_worked 101 = .ok (.getfield 55, 3) := dk_180 0 55 (dk_at dksX5_worked_4 6 rfl rfl)
theorem dX5_worked_104 : decode cX5_worked 104 = .ok (.iload_n 2, 1) := dk_28 (dk_at dksX5_worked_4 9 rfl rfl)
theorem dX5_worked_105 : decode cX5_worked 105 = .ok (.iconst 1, 1) := dk_4 (dk_at dksX5_worked_4 10 rfl rfl)
theorem dX5_worked_106 : decode cX5_worked 106 = .ok (.isub, 1) := dk_100 (dk_at dksX5_worked_4 11 rfl rfl)
theorem dX5_worked_107 : decode cX5_worked 107 = .ok (.aload_n 0, 1) := dk_42 (dk_at dksX5_worked_4 12 rfl rfl)
theorem dX5_worked_108 : decode cX5_worked 108 = .ok (.getfield 55, 3) := dk_180 0 55 (dk_at dksX5_worked_4 13 rfl rfl)
theorem dX5_worked_111 : decode cX5_worked 111 = .ok (.iload_n 2, 1) := dk_28 (dk_at dksX5_worked_4 16 rfl rfl)
theorem dX5_worked_112 : decode cX5_worked 112 = .ok (.iconst 1, 1) := dk_4 (dk_at dksX5_worked_4 17 rfl rfl)
theorem dX5_worked_113 : decode cX5_worked 113 = .ok (.isub, 1) := dk_100 (dk_at dksX5_worked_4 18 rfl rfl)
theorem dX5_worked_114 : decode cX5_worked 114 = .ok (.iaload, 1) := dk_46 (dk_at dksX5_worked_4 19 rfl rfl)
theorem dX5_worked_115 : decode cX5_worked 115 = .ok (.ifCond .ne 7, 3) := dk_154 0 7 (dk_at dksX5_worked_4 20 rfl rfl)
theorem dX5_worked_118 : decode cX5_worked 118 = .ok (.iconst 1, 1) := dk_4 (dk_at dksX5_worked_4 23 rfl rfl)
theorem dX5_worked_119 : decode cX5_worked 119 = .ok (.goto 4, 3) := dk_167 0 4 (dk_at dksX5_worked_5 0 rfl rfl)
theorem dX5_worked_122 : decode cX5_worked 122 = .ok (.iconst 0, 1) := dk_3 (dk_at dksX5_worked_5 3 rfl rfl)
theorem dX5_worked_123 : decode cX5_worked 123 = .ok (.iastore, 1) := dk_79 (dk_at dksX5_worked_5 4 rfl rfl)
theorem dX5_worked_124 : decode cX5_worked 124 = .ok (.goto 33, 3) := dk_167 0 33 (dk_at dksX5_worked_5 5 rfl rfl)
theorem dX5_worked_127 : decode cX5_worked 127 = .ok (.iinc 2 (-1), 3) := dk_132 2 255 (dk_at dksX5_worked_5 8 rfl rfl)
theorem dX5_worked_130 : decode cX5_worked 130 = .ok (.aload_n 0, 1) := dk_42 (dk_at dksX5_worked_5 11 rfl rfl)
theorem dX5_worked_131 : decode cX5_worked 131 = .ok (.getfield 55, 3) := dk_180 0 55 (dk_at dksX5_worked_5 12 rfl rfl)
theorem dX5_worked_134 : decode cX5_worked 134 = .ok (.iload_n 2, 1) := dk_28 (dk_at dksX5_worked_5 15 rfl rfl)
theorem dX5_worked_135 : decode cX5_worked 135 = .ok (.iconst 1, 1) := dk_4 (dk_at dksX5_worked_5 16 rfl rfl)
theorem dX5_worked_136 : decode cX5_worked 136 = .ok (.isub, 1) := dk_100 (dk_at dksX5_worked_5 17 rfl rfl)
theorem dX5_worked_137 : decode cX5_worked 137 = .ok (.iload 5, 2) := dk_21 5 (dk_at dksX5_worked_5 18 rfl rfl)
theorem dX5_worked_139 : decode cX5_worked 139 = .ok (.aload_n 0, 1) := dk_42 (dk_at dksX5_worked_5 20 rfl rfl)
theorem dX5_worked_140 : decode cX5_worked 140 = .ok (.getfield 55, 3) := dk_180 0 55 (dk_at dksX5_worked_5 21 rfl rfl)
theorem dX5_worked_143 : decode cX5_worked 143 = .ok (.iload_n 2, 1) := dk_28 (dk_at dksX5_worked_6 0 rfl rfl)
theorem dX5_worked_144 : decode cX5_worked 144 = .ok (.iconst 1, 1) := dk_4 (dk_at dksX5_worked_6 1 rfl rfl)
theorem dX5_worked_145 : decode cX5_worked 145 = .ok (.isub, 1) := dk_100 (dk_at dksX5_worked_6 2 rfl rfl)
theorem dX5_worked_146 : decode cX5_worked 146 = .ok (.iaload, 1) := dk_46 (dk_at dksX5_worked_6 3 rfl rfl)
theorem dX5_worked_147 : decode cX5_worked 147 = .ok (.aload_n 0, 1) := dk_42 (dk_at dksX5_worked_6 4 rfl rfl)
theorem dX5_worked_148 : decode cX5_worked 148 = .ok (.getfield 55, 3) := dk_180 0 55 (dk_at dksX5_worked_6 5 rfl rfl)
theorem dX5_worked_151 : decode cX5_worked 151 = .ok (.iload_n 2, 1) := dk_28 (dk_at dksX5_worked_6 8 rfl rfl)
theorem dX5_worked_152 : decode cX5_worked 152 = .ok (.iaload, 1) := dk_46 (dk_at dksX5_worked_6 9 rfl rfl)
theorem dX5_worked_153 : decode cX5_worked 153 = .ok (.invokestatic 298, 3) := dk_184 1 42 (dk_at dksX5_worked_6 10 rfl rfl)
theorem dX5_worked_156 : decode cX5_worked 156 = .ok (.iastore, 1) := dk_79 (dk_at dksX5_worked_6 13 rfl rfl)
theorem dX5_worked_157 : decode cX5_worked 157 = .ok (.iinc 3 1, 3) := dk_132 3 1 (dk_at dksX5_worked_6 14 rfl rfl)
theorem dX5_worked_160 : decode cX5_worked 160 = .ok (.goto (-156), 3) := dk_167 255 100 (dk_at dksX5_worked_6 17 rfl rfl)
theorem dX5_worked_163 : decode cX5_worked 163 = .ok (.aload_n 0, 1) := dk_42 (dk_at dksX5_worked_6 20 rfl rfl)
theorem dX5_worked_164 : decode cX5_worked 164 = .ok (.getfield 55, 3) := dk_180 0 55 (dk_at dksX5_worked_6 21 rfl rfl)
theorem dX5_worked_167 : decode cX5_worked 167 = .ok (.iconst 0, 1) := dk_3 (dk_at dksX5_worked_7 0 rfl rfl)
theorem dX5_worked_168 : decode cX5_worked 168 = .ok (.iaload, 1) := dk_46 (dk_at dksX5_worked_7 1 rfl rfl)
theorem dX5_worked_169 : decode cX5_worked 169 = .ok (.ireturn, 1) := dk_172 (dk_at dksX5_worked_7 2 rfl rfl)
abbrev cX5_joined : ByteArray := prog_18_method_83_code
def yX5_joined : MethodName := ⟨RX5, "joined", "(III)I"⟩
def dkwX5_joined_6 : List UInt8 := [167, 0, 4, 3, 172]
abbrev dktX5_joined_6 : List UInt8 := dkwX5_joined_6 ++ []
def dkwX5_joined_5 : List UInt8 := [153, 0, 11, 28, 153, 0, 7, 4, 167, 0, 4, 3, 172, 27, 154, 0, 7, 28, 153, 0, 7, 4]
abbrev dktX5_joined_5 : List UInt8 := dkwX5_joined_5 ++ dktX5_joined_6
def dkwX5_joined_4 : List UInt8 := [28, 164, 0, 7, 4, 167, 0, 4, 3, 172, 27, 28, 160, 0, 7, 4, 167, 0, 4, 3, 172, 27]
abbrev dktX5_joined_4 : List UInt8 := dkwX5_joined_4 ++ dktX5_joined_5
def dkwX5_joined_3 : List UInt8 := [160, 0, 8, 27, 116, 167, 0, 6, 27, 28, 108, 172, 27, 28, 162, 0, 7, 4, 167, 0, 4, 3, 172, 27]
abbrev dktX5_joined_3 : List UInt8 := dkwX5_joined_3 ++ dktX5_joined_4
def dkwX5_joined_2 : List UInt8 := [27, 28, 96, 172, 27, 28, 100, 172, 27, 28, 104, 172, 28, 154, 0, 7, 3, 167, 0, 16, 28, 2]
abbrev dktX5_joined_2 : List UInt8 := dkwX5_joined_2 ++ dktX5_joined_3
def dkwX5_joined_1 : List UInt8 := [170, 0, 0, 0, 0, 0, 196, 0, 0, 0, 38, 0, 0, 0, 62, 0, 0, 0, 182, 0, 0, 0, 196, 0, 0, 0, 196, 0, 0, 0, 196, 0, 0, 0, 123, 0, 0, 0, 115, 0, 0, 0, 196, 0, 0, 0, 119, 0, 0, 0, 196, 0, 0, 0, 127, 0, 0, 0, 196, 0, 0, 0, 196, 0, 0, 0, 196, 0, 0, 0, 196, 0, 0, 0, 196, 0, 0, 0, 196, 0, 0, 0, 196, 0, 0, 0, 196, 0, 0, 0, 196, 0, 0, 0, 196, 0, 0, 0, 196, 0, 0, 0, 196, 0, 0, 0, 149, 0, 0, 0, 171, 0, 0, 0, 160]
abbrev dktX5_joined_1 : List UInt8 := dkwX5_joined_1 ++ dktX5_joined_2
def dkwX5_joined_0 : List UInt8 := [26]
abbrev dktX5_joined_0 : List UInt8 := dkwX5_joined_0 ++ dktX5_joined_1
theorem dksX5_joined_0 : cX5_joined.data.toList.drop 0 = dktX5_joined_0 := by decide +kernel
theorem dksX5_joined_1 : cX5_joined.data.toList.drop 1 = dktX5_joined_1 := dk_seg dksX5_joined_0 1 rfl rfl
theorem dksX5_joined_2 : cX5_joined.data.toList.drop 116 = dktX5_joined_2 := dk_seg dksX5_joined_1 115 rfl rfl
theorem dksX5_joined_3 : cX5_joined.data.toList.drop 138 = dktX5_joined_3 := dk_seg dksX5_joined_2 22 rfl rfl
theorem dksX5_joined_4 : cX5_joined.data.toList.drop 162 = dktX5_joined_4 := dk_seg dksX5_joined_3 24 rfl rfl
theorem dksX5_joined_5 : cX5_joined.data.toList.drop 184 = dktX5_joined_5 := dk_seg dksX5_joined_4 22 rfl rfl
theorem dksX5_joined_6 : cX5_joined.data.toList.drop 206 = dktX5_joined_6 := dk_seg dksX5_joined_5 22 rfl rfl
theorem dX5_joined_0 : decode cX5_joined 0 = .ok (.iload_n 0, 1) := dk_26 (dk_at dksX5_joined_0 0 rfl rfl)
theorem dX5_joined_1 : decode cX5_joined 1 = .ok (.tableswitch 196 38 62 #[182, 196, 196, 196, 123, 115, 196, 119, 196, 127, 196, 196, 196, 196, 196, 196, 196, 196, 196, 196, 196, 196, 149, 171, 160], 115) := by decide +kernel
theorem dX5_joined_116 : decode cX5_joined 116 = .ok (.iload_n 1, 1) := dk_27 (dk_at dksX5_joined_2 0 rfl rfl)
theorem dX5_joined_117 : decode cX5_joined 117 = .ok (.iload_n 2, 1) := dk_28 (dk_at dksX5_joined_2 1 rfl rfl)
theorem dX5_joined_118 : decode cX5_joined 118 = .ok (.iadd, 1) := dk_96 (dk_at dksX5_joined_2 2 rfl rfl)
theorem dX5_joined_119 : decode cX5_joined 119 = .ok (.ireturn, 1) := dk_172 (dk_at dksX5_joined_2 3 rfl rfl)
theorem dX5_joined_120 : decode cX5_joined 120 = .ok (.iload_n 1, 1) := dk_27 (dk_at dksX5_joined_2 4 rfl rfl)
theorem dX5_joined_121 : decode cX5_joined 121 = .ok (.iload_n 2, 1) := dk_28 (dk_at dksX5_joined_2 5 rfl rfl)
theorem dX5_joined_122 : decode cX5_joined 122 = .ok (.isub, 1) := dk_100 (dk_at dksX5_joined_2 6 rfl rfl)
theorem dX5_joined_123 : decode cX5_joined 123 = .ok (.ireturn, 1) := dk_172 (dk_at dksX5_joined_2 7 rfl rfl)
theorem dX5_joined_124 : decode cX5_joined 124 = .ok (.iload_n 1, 1) := dk_27 (dk_at dksX5_joined_2 8 rfl rfl)
theorem dX5_joined_125 : decode cX5_joined 125 = .ok (.iload_n 2, 1) := dk_28 (dk_at dksX5_joined_2 9 rfl rfl)
theorem dX5_joined_126 : decode cX5_joined 126 = .ok (.imul, 1) := dk_104 (dk_at dksX5_joined_2 10 rfl rfl)
theorem dX5_joined_127 : decode cX5_joined 127 = .ok (.ireturn, 1) := dk_172 (dk_at dksX5_joined_2 11 rfl rfl)
theorem dX5_joined_128 : decode cX5_joined 128 = .ok (.iload_n 2, 1) := dk_28 (dk_at dksX5_joined_2 12 rfl rfl)
theorem dX5_joined_129 : decode cX5_joined 129 = .ok (.ifCond .ne 7, 3) := dk_154 0 7 (dk_at dksX5_joined_2 13 rfl rfl)
theorem dX5_joined_132 : decode cX5_joined 132 = .ok (.iconst 0, 1) := dk_3 (dk_at dksX5_joined_2 16 rfl rfl)
theorem dX5_joined_133 : decode cX5_joined 133 = .ok (.goto 16, 3) := dk_167 0 16 (dk_at dksX5_joined_2 17 rfl rfl)
theorem dX5_joined_136 : decode cX5_joined 136 = .ok (.iload_n 2, 1) := dk_28 (dk_at dksX5_joined_2 20 rfl rfl)
theorem dX5_joined_137 : decode cX5_joined 137 = .ok (.iconst (-1), 1) := dk_2 (dk_at dksX5_joined_2 21 rfl rfl)
theorem dX5_joined_138 : decode cX5_joined 138 = .ok (.if_icmp .ne 8, 3) := dk_160 0 8 (dk_at dksX5_joined_3 0 rfl rfl)
theorem dX5_joined_141 : decode cX5_joined 141 = .ok (.iload_n 1, 1) := dk_27 (dk_at dksX5_joined_3 3 rfl rfl)
theorem dX5_joined_142 : decode cX5_joined 142 = .ok (.ineg, 1) := dk_116 (dk_at dksX5_joined_3 4 rfl rfl)
theorem dX5_joined_143 : decode cX5_joined 143 = .ok (.goto 6, 3) := dk_167 0 6 (dk_at dksX5_joined_3 5 rfl rfl)
theorem dX5_joined_146 : decode cX5_joined 146 = .ok (.iload_n 1, 1) := dk_27 (dk_at dksX5_joined_3 8 rfl rfl)
theorem dX5_joined_147 : decode cX5_joined 147 = .ok (.iload_n 2, 1) := dk_28 (dk_at dksX5_joined_3 9 rfl rfl)
theorem dX5_joined_148 : decode cX5_joined 148 = .ok (.idiv, 1) := dk_108 (dk_at dksX5_joined_3 10 rfl rfl)
theorem dX5_joined_149 : decode cX5_joined 149 = .ok (.ireturn, 1) := dk_172 (dk_at dksX5_joined_3 11 rfl rfl)
theorem dX5_joined_150 : decode cX5_joined 150 = .ok (.iload_n 1, 1) := dk_27 (dk_at dksX5_joined_3 12 rfl rfl)
theorem dX5_joined_151 : decode cX5_joined 151 = .ok (.iload_n 2, 1) := dk_28 (dk_at dksX5_joined_3 13 rfl rfl)
theorem dX5_joined_152 : decode cX5_joined 152 = .ok (.if_icmp .ge 7, 3) := dk_162 0 7 (dk_at dksX5_joined_3 14 rfl rfl)
theorem dX5_joined_155 : decode cX5_joined 155 = .ok (.iconst 1, 1) := dk_4 (dk_at dksX5_joined_3 17 rfl rfl)
theorem dX5_joined_156 : decode cX5_joined 156 = .ok (.goto 4, 3) := dk_167 0 4 (dk_at dksX5_joined_3 18 rfl rfl)
theorem dX5_joined_159 : decode cX5_joined 159 = .ok (.iconst 0, 1) := dk_3 (dk_at dksX5_joined_3 21 rfl rfl)
theorem dX5_joined_160 : decode cX5_joined 160 = .ok (.ireturn, 1) := dk_172 (dk_at dksX5_joined_3 22 rfl rfl)
theorem dX5_joined_161 : decode cX5_joined 161 = .ok (.iload_n 1, 1) := dk_27 (dk_at dksX5_joined_3 23 rfl rfl)
theorem dX5_joined_162 : decode cX5_joined 162 = .ok (.iload_n 2, 1) := dk_28 (dk_at dksX5_joined_4 0 rfl rfl)
theorem dX5_joined_163 : decode cX5_joined 163 = .ok (.if_icmp .le 7, 3) := dk_164 0 7 (dk_at dksX5_joined_4 1 rfl rfl)
theorem dX5_joined_166 : decode cX5_joined 166 = .ok (.iconst 1, 1) := dk_4 (dk_at dksX5_joined_4 4 rfl rfl)
theorem dX5_joined_167 : decode cX5_joined 167 = .ok (.goto 4, 3) := dk_167 0 4 (dk_at dksX5_joined_4 5 rfl rfl)
theorem dX5_joined_170 : decode cX5_joined 170 = .ok (.iconst 0, 1) := dk_3 (dk_at dksX5_joined_4 8 rfl rfl)
theorem dX5_joined_171 : decode cX5_joined 171 = .ok (.ireturn, 1) := dk_172 (dk_at dksX5_joined_4 9 rfl rfl)
theorem dX5_joined_172 : decode cX5_joined 172 = .ok (.iload_n 1, 1) := dk_27 (dk_at dksX5_joined_4 10 rfl rfl)
theorem dX5_joined_173 : decode cX5_joined 173 = .ok (.iload_n 2, 1) := dk_28 (dk_at dksX5_joined_4 11 rfl rfl)
theorem dX5_joined_174 : decode cX5_joined 174 = .ok (.if_icmp .ne 7, 3) := dk_160 0 7 (dk_at dksX5_joined_4 12 rfl rfl)
theorem dX5_joined_177 : decode cX5_joined 177 = .ok (.iconst 1, 1) := dk_4 (dk_at dksX5_joined_4 15 rfl rfl)
theorem dX5_joined_178 : decode cX5_joined 178 = .ok (.goto 4, 3) := dk_167 0 4 (dk_at dksX5_joined_4 16 rfl rfl)
theorem dX5_joined_181 : decode cX5_joined 181 = .ok (.iconst 0, 1) := dk_3 (dk_at dksX5_joined_4 19 rfl rfl)
theorem dX5_joined_182 : decode cX5_joined 182 = .ok (.ireturn, 1) := dk_172 (dk_at dksX5_joined_4 20 rfl rfl)
theorem dX5_joined_183 : decode cX5_joined 183 = .ok (.iload_n 1, 1) := dk_27 (dk_at dksX5_joined_4 21 rfl rfl)
theorem dX5_joined_184 : decode cX5_joined 184 = .ok (.ifCond .eq 11, 3) := dk_153 0 11 (dk_at dksX5_joined_5 0 rfl rfl)
theorem dX5_joined_187 : decode cX5_joined 187 = .ok (.iload_n 2, 1) := dk_28 (dk_at dksX5_joined_5 3 rfl rfl)
theorem dX5_joined_188 : decode cX5_joined 188 = .ok (.ifCond .eq 7, 3) := dk_153 0 7 (dk_at dksX5_joined_5 4 rfl rfl)
theorem dX5_joined_191 : decode cX5_joined 191 = .ok (.iconst 1, 1) := dk_4 (dk_at dksX5_joined_5 7 rfl rfl)
theorem dX5_joined_192 : decode cX5_joined 192 = .ok (.goto 4, 3) := dk_167 0 4 (dk_at dksX5_joined_5 8 rfl rfl)
theorem dX5_joined_195 : decode cX5_joined 195 = .ok (.iconst 0, 1) := dk_3 (dk_at dksX5_joined_5 11 rfl rfl)
theorem dX5_joined_196 : decode cX5_joined 196 = .ok (.ireturn, 1) := dk_172 (dk_at dksX5_joined_5 12 rfl rfl)
theorem dX5_joined_197 : decode cX5_joined 197 = .ok (.iload_n 1, 1) := dk_27 (dk_at dksX5_joined_5 13 rfl rfl)
theorem dX5_joined_198 : decode cX5_joined 198 = .ok (.ifCond .ne 7, 3) := dk_154 0 7 (dk_at dksX5_joined_5 14 rfl rfl)
theorem dX5_joined_201 : decode cX5_joined 201 = .ok (.iload_n 2, 1) := dk_28 (dk_at dksX5_joined_5 17 rfl rfl)
theorem dX5_joined_202 : decode cX5_joined 202 = .ok (.ifCond .eq 7, 3) := dk_153 0 7 (dk_at dksX5_joined_5 18 rfl rfl)
theorem dX5_joined_205 : decode cX5_joined 205 = .ok (.iconst 1, 1) := dk_4 (dk_at dksX5_joined_5 21 rfl rfl)
theorem dX5_joined_206 : decode cX5_joined 206 = .ok (.goto 4, 3) := dk_167 0 4 (dk_at dksX5_joined_6 0 rfl rfl)
theorem dX5_joined_209 : decode cX5_joined 209 = .ok (.iconst 0, 1) := dk_3 (dk_at dksX5_joined_6 3 rfl rfl)
theorem dX5_joined_210 : decode cX5_joined 210 = .ok (.ireturn, 1) := dk_172 (dk_at dksX5_joined_6 4 rfl rfl)
abbrev cX5_within : ByteArray := prog_18_method_4_code
def yX5_within : MethodName := ⟨RX5, "within", "(II)I"⟩
def dkwX5_within_0 : List UInt8 := [26, 156, 0, 7, 3, 167, 0, 13, 26, 27, 164, 0, 7, 27, 167, 0, 4, 26, 172]
abbrev dktX5_within_0 : List UInt8 := dkwX5_within_0 ++ []
theorem dksX5_within_0 : cX5_within.data.toList.drop 0 = dktX5_within_0 := by decide +kernel
theorem dX5_within_0 : decode cX5_within 0 = .ok (.iload_n 0, 1) := dk_26 (dk_at dksX5_within_0 0 rfl rfl)
theorem dX5_within_1 : decode cX5_within 1 = .ok (.ifCond .ge 7, 3) := dk_156 0 7 (dk_at dksX5_within_0 1 rfl rfl)
theorem dX5_within_4 : decode cX5_within 4 = .ok (.iconst 0, 1) := dk_3 (dk_at dksX5_within_0 4 rfl rfl)
theorem dX5_within_5 : decode cX5_within 5 = .ok (.goto 13, 3) := dk_167 0 13 (dk_at dksX5_within_0 5 rfl rfl)
theorem dX5_within_8 : decode cX5_within 8 = .ok (.iload_n 0, 1) := dk_26 (dk_at dksX5_within_0 8 rfl rfl)
theorem dX5_within_9 : decode cX5_within 9 = .ok (.iload_n 1, 1) := dk_27 (dk_at dksX5_within_0 9 rfl rfl)
theorem dX5_within_10 : decode cX5_within 10 = .ok (.if_icmp .le 7, 3) := dk_164 0 7 (dk_at dksX5_within_0 10 rfl rfl)
theorem dX5_within_13 : decode cX5_within 13 = .ok (.iload_n 1, 1) := dk_27 (dk_at dksX5_within_0 13 rfl rfl)
theorem dX5_within_14 : decode cX5_within 14 = .ok (.goto 4, 3) := dk_167 0 4 (dk_at dksX5_within_0 14 rfl rfl)
theorem dX5_within_17 : decode cX5_within 17 = .ok (.iload_n 0, 1) := dk_26 (dk_at dksX5_within_0 17 rfl rfl)
theorem dX5_within_18 : decode cX5_within 18 = .ok (.ireturn, 1) := dk_172 (dk_at dksX5_within_0 18 rfl rfl)
abbrev cX5_loses : ByteArray := prog_18_method_19_code
def yX5_loses : MethodName := ⟨RX5, "loses", "(I)I"⟩
def dkwX5_loses_2 : List UInt8 := [16, 7, 172, 6, 172, 16, 14, 172, 16, 20, 172, 8, 172]
abbrev dktX5_loses_2 : List UInt8 := dkwX5_loses_2 ++ []
def dkwX5_loses_1 : List UInt8 := [170, 0, 0, 0, 0, 45, 0, 0, 0, 1, 0, 0, 0, 5, 0, 0, 0, 34, 0, 0, 0, 37, 0, 0, 0, 39, 0, 0, 0, 37, 0, 0, 0, 42]
abbrev dktX5_loses_1 : List UInt8 := dkwX5_loses_1 ++ dktX5_loses_2
def dkwX5_loses_0 : List UInt8 := [42, 27, 3, 182, 0, 88]
abbrev dktX5_loses_0 : List UInt8 := dkwX5_loses_0 ++ dktX5_loses_1
theorem dksX5_loses_0 : cX5_loses.data.toList.drop 0 = dktX5_loses_0 := by decide +kernel
theorem dksX5_loses_1 : cX5_loses.data.toList.drop 6 = dktX5_loses_1 := dk_seg dksX5_loses_0 6 rfl rfl
theorem dksX5_loses_2 : cX5_loses.data.toList.drop 40 = dktX5_loses_2 := dk_seg dksX5_loses_1 34 rfl rfl
theorem dX5_loses_0 : decode cX5_loses 0 = .ok (.aload_n 0, 1) := dk_42 (dk_at dksX5_loses_0 0 rfl rfl)
theorem dX5_loses_1 : decode cX5_loses 1 = .ok (.iload_n 1, 1) := dk_27 (dk_at dksX5_loses_0 1 rfl rfl)
theorem dX5_loses_2 : decode cX5_loses 2 = .ok (.iconst 0, 1) := dk_3 (dk_at dksX5_loses_0 2 rfl rfl)
theorem dX5_loses_3 : decode cX5_loses 3 = .ok (.invokevirtual 88, 3) := dk_182 0 88 (dk_at dksX5_loses_0 3 rfl rfl)
theorem dX5_loses_6 : decode cX5_loses 6 = .ok (.tableswitch 45 1 5 #[34, 37, 39, 37, 42], 34) := by decide +kernel
theorem dX5_loses_40 : decode cX5_loses 40 = .ok (.bipush 7, 2) := dk_16 7 (dk_at dksX5_loses_2 0 rfl rfl)
theorem dX5_loses_42 : decode cX5_loses 42 = .ok (.ireturn, 1) := dk_172 (dk_at dksX5_loses_2 2 rfl rfl)
theorem dX5_loses_43 : decode cX5_loses 43 = .ok (.iconst 3, 1) := dk_6 (dk_at dksX5_loses_2 3 rfl rfl)
theorem dX5_loses_44 : decode cX5_loses 44 = .ok (.ireturn, 1) := dk_172 (dk_at dksX5_loses_2 4 rfl rfl)
theorem dX5_loses_45 : decode cX5_loses 45 = .ok (.bipush 14, 2) := dk_16 14 (dk_at dksX5_loses_2 5 rfl rfl)
theorem dX5_loses_47 : decode cX5_loses 47 = .ok (.ireturn, 1) := dk_172 (dk_at dksX5_loses_2 7 rfl rfl)
theorem dX5_loses_48 : decode cX5_loses 48 = .ok (.bipush 20, 2) := dk_16 20 (dk_at dksX5_loses_2 8 rfl rfl)
theorem dX5_loses_50 : decode cX5_loses 50 = .ok (.ireturn, 1) := dk_172 (dk_at dksX5_loses_2 10 rfl rfl)
theorem dX5_loses_51 : decode cX5_loses 51 = .ok (.iconst 5, 1) := dk_8 (dk_at dksX5_loses_2 11 rfl rfl)
theorem dX5_loses_52 : decode cX5_loses 52 = .ok (.ireturn, 1) := dk_172 (dk_at dksX5_loses_2 12 rfl rfl)
abbrev cX5_worth : ByteArray := prog_18_method_20_code
def yX5_worth : MethodName := ⟨RX5, "worth", "(I)I"⟩
def dkwX5_worth_2 : List UInt8 := [28, 8, 96, 172, 16, 99, 28, 100, 172, 5, 28, 8, 96, 104, 172, 16, 93, 28, 100, 172, 4, 172, 28, 172]
abbrev dktX5_worth_2 : List UInt8 := dkwX5_worth_2 ++ []
def dkwX5_worth_1 : List UInt8 := [170, 0, 0, 0, 0, 0, 57, 0, 0, 0, 1, 0, 0, 0, 5, 0, 0, 0, 35, 0, 0, 0, 39, 0, 0, 0, 44, 0, 0, 0, 50, 0, 0, 0, 55]
abbrev dktX5_worth_1 : List UInt8 := dkwX5_worth_1 ++ dktX5_worth_2
def dkwX5_worth_0 : List UInt8 := [42, 27, 8, 182, 0, 88, 61, 42, 27, 3, 182, 0, 88]
abbrev dktX5_worth_0 : List UInt8 := dkwX5_worth_0 ++ dktX5_worth_1
theorem dksX5_worth_0 : cX5_worth.data.toList.drop 0 = dktX5_worth_0 := by decide +kernel
theorem dksX5_worth_1 : cX5_worth.data.toList.drop 13 = dktX5_worth_1 := dk_seg dksX5_worth_0 13 rfl rfl
theorem dksX5_worth_2 : cX5_worth.data.toList.drop 48 = dktX5_worth_2 := dk_seg dksX5_worth_1 35 rfl rfl
theorem dX5_worth_0 : decode cX5_worth 0 = .ok (.aload_n 0, 1) := dk_42 (dk_at dksX5_worth_0 0 rfl rfl)
theorem dX5_worth_1 : decode cX5_worth 1 = .ok (.iload_n 1, 1) := dk_27 (dk_at dksX5_worth_0 1 rfl rfl)
theorem dX5_worth_2 : decode cX5_worth 2 = .ok (.iconst 5, 1) := dk_8 (dk_at dksX5_worth_0 2 rfl rfl)
theorem dX5_worth_3 : decode cX5_worth 3 = .ok (.invokevirtual 88, 3) := dk_182 0 88 (dk_at dksX5_worth_0 3 rfl rfl)
theorem dX5_worth_6 : decode cX5_worth 6 = .ok (.istore_n 2, 1) := dk_61 (dk_at dksX5_worth_0 6 rfl rfl)
theorem dX5_worth_7 : decode cX5_worth 7 = .ok (.aload_n 0, 1) := dk_42 (dk_at dksX5_worth_0 7 rfl rfl)
theorem dX5_worth_8 : decode cX5_worth 8 = .ok (.iload_n 1, 1) := dk_27 (dk_at dksX5_worth_0 8 rfl rfl)
theorem dX5_worth_9 : decode cX5_worth 9 = .ok (.iconst 0, 1) := dk_3 (dk_at dksX5_worth_0 9 rfl rfl)
theorem dX5_worth_10 : decode cX5_worth 10 = .ok (.invokevirtual 88, 3) := dk_182 0 88 (dk_at dksX5_worth_0 10 rfl rfl)
theorem dX5_worth_13 : decode cX5_worth 13 = .ok (.tableswitch 57 1 5 #[35, 39, 44, 50, 55], 35) := by decide +kernel
theorem dX5_worth_48 : decode cX5_worth 48 = .ok (.iload_n 2, 1) := dk_28 (dk_at dksX5_worth_2 0 rfl rfl)
theorem dX5_worth_49 : decode cX5_worth 49 = .ok (.iconst 5, 1) := dk_8 (dk_at dksX5_worth_2 1 rfl rfl)
theorem dX5_worth_50 : decode cX5_worth 50 = .ok (.iadd, 1) := dk_96 (dk_at dksX5_worth_2 2 rfl rfl)
theorem dX5_worth_51 : decode cX5_worth 51 = .ok (.ireturn, 1) := dk_172 (dk_at dksX5_worth_2 3 rfl rfl)
theorem dX5_worth_52 : decode cX5_worth 52 = .ok (.bipush 99, 2) := dk_16 99 (dk_at dksX5_worth_2 4 rfl rfl)
theorem dX5_worth_54 : decode cX5_worth 54 = .ok (.iload_n 2, 1) := dk_28 (dk_at dksX5_worth_2 6 rfl rfl)
theorem dX5_worth_55 : decode cX5_worth 55 = .ok (.isub, 1) := dk_100 (dk_at dksX5_worth_2 7 rfl rfl)
theorem dX5_worth_56 : decode cX5_worth 56 = .ok (.ireturn, 1) := dk_172 (dk_at dksX5_worth_2 8 rfl rfl)
theorem dX5_worth_57 : decode cX5_worth 57 = .ok (.iconst 2, 1) := dk_5 (dk_at dksX5_worth_2 9 rfl rfl)
theorem dX5_worth_58 : decode cX5_worth 58 = .ok (.iload_n 2, 1) := dk_28 (dk_at dksX5_worth_2 10 rfl rfl)
theorem dX5_worth_59 : decode cX5_worth 59 = .ok (.iconst 5, 1) := dk_8 (dk_at dksX5_worth_2 11 rfl rfl)
theorem dX5_worth_60 : decode cX5_worth 60 = .ok (.iadd, 1) := dk_96 (dk_at dksX5_worth_2 12 rfl rfl)
theorem dX5_worth_61 : decode cX5_worth 61 = .ok (.imul, 1) := dk_104 (dk_at dksX5_worth_2 13 rfl rfl)
theorem dX5_worth_62 : decode cX5_worth 62 = .ok (.ireturn, 1) := dk_172 (dk_at dksX5_worth_2 14 rfl rfl)
theorem dX5_worth_63 : decode cX5_worth 63 = .ok (.bipush 93, 2) := dk_16 93 (dk_at dksX5_worth_2 15 rfl rfl)
theorem dX5_worth_65 : decode cX5_worth 65 = .ok (.iload_n 2, 1) := dk_28 (dk_at dksX5_worth_2 17 rfl rfl)
theorem dX5_worth_66 : decode cX5_worth 66 = .ok (.isub, 1) := dk_100 (dk_at dksX5_worth_2 18 rfl rfl)
theorem dX5_worth_67 : decode cX5_worth 67 = .ok (.ireturn, 1) := dk_172 (dk_at dksX5_worth_2 19 rfl rfl)
theorem dX5_worth_68 : decode cX5_worth 68 = .ok (.iconst 1, 1) := dk_4 (dk_at dksX5_worth_2 20 rfl rfl)
theorem dX5_worth_69 : decode cX5_worth 69 = .ok (.ireturn, 1) := dk_172 (dk_at dksX5_worth_2 21 rfl rfl)
theorem dX5_worth_70 : decode cX5_worth 70 = .ok (.iload_n 2, 1) := dk_28 (dk_at dksX5_worth_2 22 rfl rfl)
theorem dX5_worth_71 : decode cX5_worth 71 = .ok (.ireturn, 1) := dk_172 (dk_at dksX5_worth_2 23 rfl rfl)
abbrev cX5_says : ByteArray := prog_18_method_24_code
def yX5_says : MethodName := ⟨RX5, "says", "(II)I"⟩
def dkwX5_says_1 : List UInt8 := [153, 0, 12, 42, 27, 28, 182, 0, 125, 167, 0, 5, 18, 83, 172]
abbrev dktX5_says_1 : List UInt8 := dkwX5_says_1 ++ []
def dkwX5_says_0 : List UInt8 := [42, 27, 182, 0, 109, 153, 0, 30, 28, 133, 9, 42, 27, 5, 182, 0, 88, 4, 100, 133, 184, 0, 68]
abbrev dktX5_says_0 : List UInt8 := dkwX5_says_0 ++ dktX5_says_1
theorem dksX5_says_0 : cX5_says.data.toList.drop 0 = dktX5_says_0 := by decide +kernel
theorem dksX5_says_1 : cX5_says.data.toList.drop 23 = dktX5_says_1 := dk_seg dksX5_says_0 23 rfl rfl
theorem dX5_says_0 : decode cX5_says 0 = .ok (.aload_n 0, 1) := dk_42 (dk_at dksX5_says_0 0 rfl rfl)
theorem dX5_says_1 : decode cX5_says 1 = .ok (.iload_n 1, 1) := dk_27 (dk_at dksX5_says_0 1 rfl rfl)
theorem dX5_says_2 : decode cX5_says 2 = .ok (.invokevirtual 109, 3) := dk_182 0 109 (dk_at dksX5_says_0 2 rfl rfl)
theorem dX5_says_5 : decode cX5_says 5 = .ok (.ifCond .eq 30, 3) := dk_153 0 30 (dk_at dksX5_says_0 5 rfl rfl)
theorem dX5_says_8 : decode cX5_says 8 = .ok (.iload_n 2, 1) := dk_28 (dk_at dksX5_says_0 8 rfl rfl)
theorem dX5_says_9 : decode cX5_says 9 = .ok (.i2l, 1) := dk_133 (dk_at dksX5_says_0 9 rfl rfl)
theorem dX5_says_10 : decode cX5_says 10 = .ok (.lconst 0, 1) := dk_9 (dk_at dksX5_says_0 10 rfl rfl)
theorem dX5_says_11 : decode cX5_says 11 = .ok (.aload_n 0, 1) := dk_42 (dk_at dksX5_says_0 11 rfl rfl)
theorem dX5_says_12 : decode cX5_says 12 = .ok (.iload_n 1, 1) := dk_27 (dk_at dksX5_says_0 12 rfl rfl)
theorem dX5_says_13 : decode cX5_says 13 = .ok (.iconst 2, 1) := dk_5 (dk_at dksX5_says_0 13 rfl rfl)
theorem dX5_says_14 : decode cX5_says 14 = .ok (.invokevirtual 88, 3) := dk_182 0 88 (dk_at dksX5_says_0 14 rfl rfl)
theorem dX5_says_17 : decode cX5_says 17 = .ok (.iconst 1, 1) := dk_4 (dk_at dksX5_says_0 17 rfl rfl)
theorem dX5_says_18 : decode cX5_says 18 = .ok (.isub, 1) := dk_100 (dk_at dksX5_says_0 18 rfl rfl)
theorem dX5_says_19 : decode cX5_says 19 = .ok (.i2l, 1) := dk_133 (dk_at dksX5_says_0 19 rfl rfl)
theorem dX5_says_20 : decode cX5_says 20 = .ok (.invokestatic 68, 3) := dk_184 0 68 (dk_at dksX5_says_0 20 rfl rfl)
theorem dX5_says_23 : decode cX5_says 23 = .ok (.ifCond .eq 12, 3) := dk_153 0 12 (dk_at dksX5_says_1 0 rfl rfl)
theorem dX5_says_26 : decode cX5_says 26 = .ok (.aload_n 0, 1) := dk_42 (dk_at dksX5_says_1 3 rfl rfl)
theorem dX5_says_27 : decode cX5_says 27 = .ok (.iload_n 1, 1) := dk_27 (dk_at dksX5_says_1 4 rfl rfl)
theorem dX5_says_28 : decode cX5_says 28 = .ok (.iload_n 2, 1) := dk_28 (dk_at dksX5_says_1 5 rfl rfl)
theorem dX5_says_29 : decode cX5_says 29 = .ok (.invokevirtual 125, 3) := dk_182 0 125 (dk_at dksX5_says_1 6 rfl rfl)
theorem dX5_says_32 : decode cX5_says 32 = .ok (.goto 5, 3) := dk_167 0 5 (dk_at dksX5_says_1 9 rfl rfl)
theorem dX5_says_35 : decode cX5_says 35 = .ok (.ldc 83, 2) := dk_18 83 (dk_at dksX5_says_1 12 rfl rfl)
theorem dX5_says_37 : decode cX5_says 37 = .ok (.ireturn, 1) := dk_172 (dk_at dksX5_says_1 14 rfl rfl)
abbrev cX5_saysAt : ByteArray := prog_18_method_17_code
def yX5_saysAt : MethodName := ⟨RX5, "saysAt", "(II)I"⟩
def dkwX5_saysAt_5 : List UInt8 := [182, 0, 88, 5, 108, 160, 0, 7, 6, 167, 0, 5, 21, 5, 172, 5, 172, 21, 4, 172]
abbrev dktX5_saysAt_5 : List UInt8 := dkwX5_saysAt_5 ++ []
def dkwX5_saysAt_4 : List UInt8 := [21, 4, 184, 0, 92, 172, 21, 5, 172, 21, 4, 184, 0, 92, 184, 0, 92, 172, 28, 42, 27, 5]
abbrev dktX5_saysAt_4 : List UInt8 := dkwX5_saysAt_4 ++ dktX5_saysAt_5
def dkwX5_saysAt_3 : List UInt8 := [170, 0, 0, 0, 0, 0, 0, 75, 0, 0, 0, 1, 0, 0, 0, 5, 0, 0, 0, 36, 0, 0, 0, 42, 0, 0, 0, 45, 0, 0, 0, 54, 0, 0, 0, 73]
abbrev dktX5_saysAt_3 : List UInt8 := dkwX5_saysAt_3 ++ dktX5_saysAt_4
def dkwX5_saysAt_2 : List UInt8 := [167, 0, 4, 3, 54, 5, 42, 27, 3, 182, 0, 88]
abbrev dktX5_saysAt_2 : List UInt8 := dkwX5_saysAt_2 ++ dktX5_saysAt_3
def dkwX5_saysAt_1 : List UInt8 := [62, 42, 27, 4, 182, 0, 88, 5, 29, 104, 122, 6, 126, 54, 4, 21, 4, 158, 0, 10, 21, 4, 4, 100]
abbrev dktX5_saysAt_1 : List UInt8 := dkwX5_saysAt_1 ++ dktX5_saysAt_2
def dkwX5_saysAt_0 : List UInt8 := [42, 27, 6, 182, 0, 88, 4, 160, 0, 16, 42, 27, 5, 182, 0, 88, 4, 100, 28, 100, 167, 0, 4, 28]
abbrev dktX5_saysAt_0 : List UInt8 := dkwX5_saysAt_0 ++ dktX5_saysAt_1
theorem dksX5_saysAt_0 : cX5_saysAt.data.toList.drop 0 = dktX5_saysAt_0 := by decide +kernel
theorem dksX5_saysAt_1 : cX5_saysAt.data.toList.drop 24 = dktX5_saysAt_1 := dk_seg dksX5_saysAt_0 24 rfl rfl
theorem dksX5_saysAt_2 : cX5_saysAt.data.toList.drop 48 = dktX5_saysAt_2 := dk_seg dksX5_saysAt_1 24 rfl rfl
theorem dksX5_saysAt_3 : cX5_saysAt.data.toList.drop 60 = dktX5_saysAt_3 := dk_seg dksX5_saysAt_2 12 rfl rfl
theorem dksX5_saysAt_4 : cX5_saysAt.data.toList.drop 96 = dktX5_saysAt_4 := dk_seg dksX5_saysAt_3 36 rfl rfl
theorem dksX5_saysAt_5 : cX5_saysAt.data.toList.drop 118 = dktX5_saysAt_5 := dk_seg dksX5_saysAt_4 22 rfl rfl
theorem dX5_saysAt_0 : decode cX5_saysAt 0 = .ok (.aload_n 0, 1) := dk_42 (dk_at dksX5_saysAt_0 0 rfl rfl)
theorem dX5_saysAt_1 : decode cX5_saysAt 1 = .ok (.iload_n 1, 1) := dk_27 (dk_at dksX5_saysAt_0 1 rfl rfl)
theorem dX5_saysAt_2 : decode cX5_saysAt 2 = .ok (.iconst 3, 1) := dk_6 (dk_at dksX5_saysAt_0 2 rfl rfl)
theorem dX5_saysAt_3 : decode cX5_saysAt 3 = .ok (.invokevirtual 88, 3) := dk_182 0 88 (dk_at dksX5_saysAt_0 3 rfl rfl)
theorem dX5_saysAt_6 : decode cX5_saysAt 6 = .ok (.iconst 1, 1) := dk_4 (dk_at dksX5_saysAt_0 6 rfl rfl)
theorem dX5_saysAt_7 : decode cX5_saysAt 7 = .ok (.if_icmp .ne 16, 3) := dk_160 0 16 (dk_at dksX5_saysAt_0 7 rfl rfl)
theorem dX5_saysAt_10 : decode cX5_saysAt 10 = .ok (.aload_n 0, 1) := dk_42 (dk_at dksX5_saysAt_0 10 rfl rfl)
theorem dX5_saysAt_11 : decode cX5_saysAt 11 = .ok (.iload_n 1, 1) := dk_27 (dk_at dksX5_saysAt_0 11 rfl rfl)
theorem dX5_saysAt_12 : decode cX5_saysAt 12 = .ok (.iconst 2, 1) := dk_5 (dk_at dksX5_saysAt_0 12 rfl rfl)
theorem dX5_saysAt_13 : decode cX5_saysAt 13 = .ok (.invokevirtual 88, 3) := dk_182 0 88 (dk_at dksX5_saysAt_0 13 rfl rfl)
theorem dX5_saysAt_16 : decode cX5_saysAt 16 = .ok (.iconst 1, 1) := dk_4 (dk_at dksX5_saysAt_0 16 rfl rfl)
theorem dX5_saysAt_17 : decode cX5_saysAt 17 = .ok (.isub, 1) := dk_100 (dk_at dksX5_saysAt_0 17 rfl rfl)
theorem dX5_saysAt_18 : decode cX5_saysAt 18 = .ok (.iload_n 2, 1) := dk_28 (dk_at dksX5_saysAt_0 18 rfl rfl)
theorem dX5_saysAt_19 : decode cX5_saysAt 19 = .ok (.isub, 1) := dk_100 (dk_at dksX5_saysAt_0 19 rfl rfl)
theorem dX5_saysAt_20 : decode cX5_saysAt 20 = .ok (.goto 4, 3) := dk_167 0 4 (dk_at dksX5_saysAt_0 20 rfl rfl)
theorem dX5_saysAt_23 : decode cX5_saysAt 23 = .ok (.iload_n 2, 1) := dk_28 (dk_at dksX5_saysAt_0 23 rfl rfl)
theorem dX5_saysAt_24 : decode cX5_saysAt 24 = .ok (.istore_n 3, 1) := dk_62 (dk_at dksX5_saysAt_1 0 rfl rfl)
theorem dX5_saysAt_25 : decode cX5_saysAt 25 = .ok (.aload_n 0, 1) := dk_42 (dk_at dksX5_saysAt_1 1 rfl rfl)
theorem dX5_saysAt_26 : decode cX5_saysAt 26 = .ok (.iload_n 1, 1) := dk_27 (dk_at dksX5_saysAt_1 2 rfl rfl)
theorem dX5_saysAt_27 : decode cX5_saysAt 27 = .ok (.iconst 1, 1) := dk_4 (dk_at dksX5_saysAt_1 3 rfl rfl)
theorem dX5_saysAt_28 : decode cX5_saysAt 28 = .ok (.invokevirtual 88, 3) := dk_182 0 88 (dk_at dksX5_saysAt_1 4 rfl rfl)
theorem dX5_saysAt_31 : decode cX5_saysAt 31 = .ok (.iconst 2, 1) := dk_5 (dk_at dksX5_saysAt_1 7 rfl rfl)
theorem dX5_saysAt_32 : decode cX5_saysAt 32 = .ok (.iload_n 3, 1) := dk_29 (dk_at dksX5_saysAt_1 8 rfl rfl)
theorem dX5_saysAt_33 : decode cX5_saysAt 33 = .ok (.imul, 1) := dk_104 (dk_at dksX5_saysAt_1 9 rfl rfl)
theorem dX5_saysAt_34 : decode cX5_saysAt 34 = .ok (.ishr, 1) := dk_122 (dk_at dksX5_saysAt_1 10 rfl rfl)
theorem dX5_saysAt_35 : decode cX5_saysAt 35 = .ok (.iconst 3, 1) := dk_6 (dk_at dksX5_saysAt_1 11 rfl rfl)
theorem dX5_saysAt_36 : decode cX5_saysAt 36 = .ok (.iand, 1) := dk_126 (dk_at dksX5_saysAt_1 12 rfl rfl)
theorem dX5_saysAt_37 : decode cX5_saysAt 37 = .ok (.istore 4, 2) := dk_54 4 (dk_at dksX5_saysAt_1 13 rfl rfl)
theorem dX5_saysAt_39 : decode cX5_saysAt 39 = .ok (.iload 4, 2) := dk_21 4 (dk_at dksX5_saysAt_1 15 rfl rfl)
theorem dX5_saysAt_41 : decode cX5_saysAt 41 = .ok (.ifCond .le 10, 3) := dk_158 0 10 (dk_at dksX5_saysAt_1 17 rfl rfl)
theorem dX5_saysAt_44 : decode cX5_saysAt 44 = .ok (.iload 4, 2) := dk_21 4 (dk_at dksX5_saysAt_1 20 rfl rfl)
theorem dX5_saysAt_46 : decode cX5_saysAt 46 = .ok (.iconst 1, 1) := dk_4 (dk_at dksX5_saysAt_1 22 rfl rfl)
theorem dX5_saysAt_47 : decode cX5_saysAt 47 = .ok (.isub, 1) := dk_100 (dk_at dksX5_saysAt_1 23 rfl rfl)
theorem dX5_saysAt_48 : decode cX5_saysAt 48 = .ok (.goto 4, 3) := dk_167 0 4 (dk_at dksX5_saysAt_2 0 rfl rfl)
theorem dX5_saysAt_51 : decode cX5_saysAt 51 = .ok (.iconst 0, 1) := dk_3 (dk_at dksX5_saysAt_2 3 rfl rfl)
theorem dX5_saysAt_52 : decode cX5_saysAt 52 = .ok (.istore 5, 2) := dk_54 5 (dk_at dksX5_saysAt_2 4 rfl rfl)
theorem dX5_saysAt_54 : decode cX5_saysAt 54 = .ok (.aload_n 0, 1) := dk_42 (dk_at dksX5_saysAt_2 6 rfl rfl)
theorem dX5_saysAt_55 : decode cX5_saysAt 55 = .ok (.iload_n 1, 1) := dk_27 (dk_at dksX5_saysAt_2 7 rfl rfl)
theorem dX5_saysAt_56 : decode cX5_saysAt 56 = .ok (.iconst 0, 1) := dk_3 (dk_at dksX5_saysAt_2 8 rfl rfl)
theorem dX5_saysAt_57 : decode cX5_saysAt 57 = .ok (.invokevirtual 88, 3) := dk_182 0 88 (dk_at dksX5_saysAt_2 9 rfl rfl)
theorem dX5_saysAt_60 : decode cX5_saysAt 60 = .ok (.tableswitch 75 1 5 #[36, 42, 45, 54, 73], 36) := by decide +kernel
theorem dX5_saysAt_96 : decode cX5_saysAt 96 = .ok (.iload 4, 2) := dk_21 4 (dk_at dksX5_saysAt_4 0 rfl rfl)
theorem dX5_saysAt_98 : decode cX5_saysAt 98 = .ok (.invokestatic 92, 3) := dk_184 0 92 (dk_at dksX5_saysAt_4 2 rfl rfl)
theorem dX5_saysAt_101 : decode cX5_saysAt 101 = .ok (.ireturn, 1) := dk_172 (dk_at dksX5_saysAt_4 5 rfl rfl)
theorem dX5_saysAt_102 : decode cX5_saysAt 102 = .ok (.iload 5, 2) := dk_21 5 (dk_at dksX5_saysAt_4 6 rfl rfl)
theorem dX5_saysAt_104 : decode cX5_saysAt 104 = .ok (.ireturn, 1) := dk_172 (dk_at dksX5_saysAt_4 8 rfl rfl)
theorem dX5_saysAt_105 : decode cX5_saysAt 105 = .ok (.iload 4, 2) := dk_21 4 (dk_at dksX5_saysAt_4 9 rfl rfl)
theorem dX5_saysAt_107 : decode cX5_saysAt 107 = .ok (.invokestatic 92, 3) := dk_184 0 92 (dk_at dksX5_saysAt_4 11 rfl rfl)
theorem dX5_saysAt_110 : decode cX5_saysAt 110 = .ok (.invokestatic 92, 3) := dk_184 0 92 (dk_at dksX5_saysAt_4 14 rfl rfl)
theorem dX5_saysAt_113 : decode cX5_saysAt 113 = .ok (.ireturn, 1) := dk_172 (dk_at dksX5_saysAt_4 17 rfl rfl)
theorem dX5_saysAt_114 : decode cX5_saysAt 114 = .ok (.iload_n 2, 1) := dk_28 (dk_at dksX5_saysAt_4 18 rfl rfl)
theorem dX5_saysAt_115 : decode cX5_saysAt 115 = .ok (.aload_n 0, 1) := dk_42 (dk_at dksX5_saysAt_4 19 rfl rfl)
theorem dX5_saysAt_116 : decode cX5_saysAt 116 = .ok (.iload_n 1, 1) := dk_27 (dk_at dksX5_saysAt_4 20 rfl rfl)
theorem dX5_saysAt_117 : decode cX5_saysAt 117 = .ok (.iconst 2, 1) := dk_5 (dk_at dksX5_saysAt_4 21 rfl rfl)
theorem dX5_saysAt_118 : decode cX5_saysAt 118 = .ok (.invokevirtual 88, 3) := dk_182 0 88 (dk_at dksX5_saysAt_5 0 rfl rfl)
theorem dX5_saysAt_121 : decode cX5_saysAt 121 = .ok (.iconst 2, 1) := dk_5 (dk_at dksX5_saysAt_5 3 rfl rfl)
theorem dX5_saysAt_122 : decode cX5_saysAt 122 = .ok (.idiv, 1) := dk_108 (dk_at dksX5_saysAt_5 4 rfl rfl)
theorem dX5_saysAt_123 : decode cX5_saysAt 123 = .ok (.if_icmp .ne 7, 3) := dk_160 0 7 (dk_at dksX5_saysAt_5 5 rfl rfl)
theorem dX5_saysAt_126 : decode cX5_saysAt 126 = .ok (.iconst 3, 1) := dk_6 (dk_at dksX5_saysAt_5 8 rfl rfl)
theorem dX5_saysAt_127 : decode cX5_saysAt 127 = .ok (.goto 5, 3) := dk_167 0 5 (dk_at dksX5_saysAt_5 9 rfl rfl)
theorem dX5_saysAt_130 : decode cX5_saysAt 130 = .ok (.iload 5, 2) := dk_21 5 (dk_at dksX5_saysAt_5 12 rfl rfl)
theorem dX5_saysAt_132 : decode cX5_saysAt 132 = .ok (.ireturn, 1) := dk_172 (dk_at dksX5_saysAt_5 14 rfl rfl)
theorem dX5_saysAt_133 : decode cX5_saysAt 133 = .ok (.iconst 2, 1) := dk_5 (dk_at dksX5_saysAt_5 15 rfl rfl)
theorem dX5_saysAt_134 : decode cX5_saysAt 134 = .ok (.ireturn, 1) := dk_172 (dk_at dksX5_saysAt_5 16 rfl rfl)
theorem dX5_saysAt_135 : decode cX5_saysAt 135 = .ok (.iload 4, 2) := dk_21 4 (dk_at dksX5_saysAt_5 17 rfl rfl)
theorem dX5_saysAt_137 : decode cX5_saysAt 137 = .ok (.ireturn, 1) := dk_172 (dk_at dksX5_saysAt_5 19 rfl rfl)
abbrev cX5_bolder : ByteArray := prog_18_method_16_code
def yX5_bolder : MethodName := ⟨RX5, "bolder", "(I)I"⟩
def dkwX5_bolder_0 : List UInt8 := [26, 158, 0, 14, 26, 6, 162, 0, 9, 26, 4, 96, 167, 0, 4, 26, 172]
abbrev dktX5_bolder_0 : List UInt8 := dkwX5_bolder_0 ++ []
theorem dksX5_bolder_0 : cX5_bolder.data.toList.drop 0 = dktX5_bolder_0 := by decide +kernel
theorem dX5_bolder_0 : decode cX5_bolder 0 = .ok (.iload_n 0, 1) := dk_26 (dk_at dksX5_bolder_0 0 rfl rfl)
theorem dX5_bolder_1 : decode cX5_bolder 1 = .ok (.ifCond .le 14, 3) := dk_158 0 14 (dk_at dksX5_bolder_0 1 rfl rfl)
theorem dX5_bolder_4 : decode cX5_bolder 4 = .ok (.iload_n 0, 1) := dk_26 (dk_at dksX5_bolder_0 4 rfl rfl)
theorem dX5_bolder_5 : decode cX5_bolder 5 = .ok (.iconst 3, 1) := dk_6 (dk_at dksX5_bolder_0 5 rfl rfl)
theorem dX5_bolder_6 : decode cX5_bolder 6 = .ok (.if_icmp .ge 9, 3) := dk_162 0 9 (dk_at dksX5_bolder_0 6 rfl rfl)
theorem dX5_bolder_9 : decode cX5_bolder 9 = .ok (.iload_n 0, 1) := dk_26 (dk_at dksX5_bolder_0 9 rfl rfl)
theorem dX5_bolder_10 : decode cX5_bolder 10 = .ok (.iconst 1, 1) := dk_4 (dk_at dksX5_bolder_0 10 rfl rfl)
theorem dX5_bolder_11 : decode cX5_bolder 11 = .ok (.iadd, 1) := dk_96 (dk_at dksX5_bolder_0 11 rfl rfl)
theorem dX5_bolder_12 : decode cX5_bolder 12 = .ok (.goto 4, 3) := dk_167 0 4 (dk_at dksX5_bolder_0 12 rfl rfl)
theorem dX5_bolder_15 : decode cX5_bolder 15 = .ok (.iload_n 0, 1) := dk_26 (dk_at dksX5_bolder_0 15 rfl rfl)
theorem dX5_bolder_16 : decode cX5_bolder 16 = .ok (.ireturn, 1) := dk_172 (dk_at dksX5_bolder_0 16 rfl rfl)
abbrev cX5_as : ByteArray := prog_18_method_26_code
def yX5_as : MethodName := ⟨RX5, "as", "(II)I"⟩
def dkwX5_as_1 : List UInt8 := [27, 3, 182, 0, 88, 28, 184, 0, 128, 153, 0, 12, 42, 27, 5, 182, 0, 88, 167, 0, 5, 18, 132, 172]
abbrev dktX5_as_1 : List UInt8 := dkwX5_as_1 ++ []
def dkwX5_as_0 : List UInt8 := [42, 27, 182, 0, 109, 153, 0, 15, 28, 133, 9, 20, 0, 77, 184, 0, 68, 154, 0, 6, 18, 83, 172, 42]
abbrev dktX5_as_0 : List UInt8 := dkwX5_as_0 ++ dktX5_as_1
theorem dksX5_as_0 : cX5_as.data.toList.drop 0 = dktX5_as_0 := by decide +kernel
theorem dksX5_as_1 : cX5_as.data.toList.drop 24 = dktX5_as_1 := dk_seg dksX5_as_0 24 rfl rfl
theorem dX5_as_0 : decode cX5_as 0 = .ok (.aload_n 0, 1) := dk_42 (dk_at dksX5_as_0 0 rfl rfl)
theorem dX5_as_1 : decode cX5_as 1 = .ok (.iload_n 1, 1) := dk_27 (dk_at dksX5_as_0 1 rfl rfl)
theorem dX5_as_2 : decode cX5_as 2 = .ok (.invokevirtual 109, 3) := dk_182 0 109 (dk_at dksX5_as_0 2 rfl rfl)
theorem dX5_as_5 : decode cX5_as 5 = .ok (.ifCond .eq 15, 3) := dk_153 0 15 (dk_at dksX5_as_0 5 rfl rfl)
theorem dX5_as_8 : decode cX5_as 8 = .ok (.iload_n 2, 1) := dk_28 (dk_at dksX5_as_0 8 rfl rfl)
theorem dX5_as_9 : decode cX5_as 9 = .ok (.i2l, 1) := dk_133 (dk_at dksX5_as_0 9 rfl rfl)
theorem dX5_as_10 : decode cX5_as 10 = .ok (.lconst 0, 1) := dk_9 (dk_at dksX5_as_0 10 rfl rfl)
theorem dX5_as_11 : decode cX5_as 11 = .ok (.ldc2_w 77, 3) := dk_20 0 77 (dk_at dksX5_as_0 11 rfl rfl)
theorem dX5_as_14 : decode cX5_as 14 = .ok (.invokestatic 68, 3) := dk_184 0 68 (dk_at dksX5_as_0 14 rfl rfl)
theorem dX5_as_17 : decode cX5_as 17 = .ok (.ifCond .ne 6, 3) := dk_154 0 6 (dk_at dksX5_as_0 17 rfl rfl)
theorem dX5_as_20 : decode cX5_as 20 = .ok (.ldc 83, 2) := dk_18 83 (dk_at dksX5_as_0 20 rfl rfl)
theorem dX5_as_22 : decode cX5_as 22 = .ok (.ireturn, 1) := dk_172 (dk_at dksX5_as_0 22 rfl rfl)
theorem dX5_as_23 : decode cX5_as 23 = .ok (.aload_n 0, 1) := dk_42 (dk_at dksX5_as_0 23 rfl rfl)
theorem dX5_as_24 : decode cX5_as 24 = .ok (.iload_n 1, 1) := dk_27 (dk_at dksX5_as_1 0 rfl rfl)
theorem dX5_as_25 : decode cX5_as 25 = .ok (.iconst 0, 1) := dk_3 (dk_at dksX5_as_1 1 rfl rfl)
theorem dX5_as_26 : decode cX5_as 26 = .ok (.invokevirtual 88, 3) := dk_182 0 88 (dk_at dksX5_as_1 2 rfl rfl)
theorem dX5_as_29 : decode cX5_as 29 = .ok (.iload_n 2, 1) := dk_28 (dk_at dksX5_as_1 5 rfl rfl)
theorem dX5_as_30 : decode cX5_as 30 = .ok (.invokestatic 128, 3) := dk_184 0 128 (dk_at dksX5_as_1 6 rfl rfl)
theorem dX5_as_33 : decode cX5_as 33 = .ok (.ifCond .eq 12, 3) := dk_153 0 12 (dk_at dksX5_as_1 9 rfl rfl)
theorem dX5_as_36 : decode cX5_as 36 = .ok (.aload_n 0, 1) := dk_42 (dk_at dksX5_as_1 12 rfl rfl)
theorem dX5_as_37 : decode cX5_as 37 = .ok (.iload_n 1, 1) := dk_27 (dk_at dksX5_as_1 13 rfl rfl)
theorem dX5_as_38 : decode cX5_as 38 = .ok (.iconst 2, 1) := dk_5 (dk_at dksX5_as_1 14 rfl rfl)
theorem dX5_as_39 : decode cX5_as 39 = .ok (.invokevirtual 88, 3) := dk_182 0 88 (dk_at dksX5_as_1 15 rfl rfl)
theorem dX5_as_42 : decode cX5_as 42 = .ok (.goto 5, 3) := dk_167 0 5 (dk_at dksX5_as_1 18 rfl rfl)
theorem dX5_as_45 : decode cX5_as 45 = .ok (.ldc 132, 2) := dk_18 132 (dk_at dksX5_as_1 21 rfl rfl)
theorem dX5_as_47 : decode cX5_as 47 = .ok (.ireturn, 1) := dk_172 (dk_at dksX5_as_1 23 rfl rfl)
abbrev cX5_isOf : ByteArray := prog_18_method_25_code
def yX5_isOf : MethodName := ⟨RX5, "isOf", "(II)Z"⟩
def dkwX5_isOf_1 : List UInt8 := [26, 7, 160, 0, 7, 4, 167, 0, 4, 3, 172]
abbrev dktX5_isOf_1 : List UInt8 := dkwX5_isOf_1 ++ []
def dkwX5_isOf_0 : List UInt8 := [26, 27, 159, 0, 27, 27, 153, 0, 23, 27, 4, 160, 0, 8, 26, 6, 159, 0, 13, 27, 5, 160, 0, 12]
abbrev dktX5_isOf_0 : List UInt8 := dkwX5_isOf_0 ++ dktX5_isOf_1
theorem dksX5_isOf_0 : cX5_isOf.data.toList.drop 0 = dktX5_isOf_0 := by decide +kernel
theorem dksX5_isOf_1 : cX5_isOf.data.toList.drop 24 = dktX5_isOf_1 := dk_seg dksX5_isOf_0 24 rfl rfl
theorem dX5_isOf_0 : decode cX5_isOf 0 = .ok (.iload_n 0, 1) := dk_26 (dk_at dksX5_isOf_0 0 rfl rfl)
theorem dX5_isOf_1 : decode cX5_isOf 1 = .ok (.iload_n 1, 1) := dk_27 (dk_at dksX5_isOf_0 1 rfl rfl)
theorem dX5_isOf_2 : decode cX5_isOf 2 = .ok (.if_icmp .eq 27, 3) := dk_159 0 27 (dk_at dksX5_isOf_0 2 rfl rfl)
theorem dX5_isOf_5 : decode cX5_isOf 5 = .ok (.iload_n 1, 1) := dk_27 (dk_at dksX5_isOf_0 5 rfl rfl)
theorem dX5_isOf_6 : decode cX5_isOf 6 = .ok (.ifCond .eq 23, 3) := dk_153 0 23 (dk_at dksX5_isOf_0 6 rfl rfl)
theorem dX5_isOf_9 : decode cX5_isOf 9 = .ok (.iload_n 1, 1) := dk_27 (dk_at dksX5_isOf_0 9 rfl rfl)
theorem dX5_isOf_10 : decode cX5_isOf 10 = .ok (.iconst 1, 1) := dk_4 (dk_at dksX5_isOf_0 10 rfl rfl)
theorem dX5_isOf_11 : decode cX5_isOf 11 = .ok (.if_icmp .ne 8, 3) := dk_160 0 8 (dk_at dksX5_isOf_0 11 rfl rfl)
theorem dX5_isOf_14 : decode cX5_isOf 14 = .ok (.iload_n 0, 1) := dk_26 (dk_at dksX5_isOf_0 14 rfl rfl)
theorem dX5_isOf_15 : decode cX5_isOf 15 = .ok (.iconst 3, 1) := dk_6 (dk_at dksX5_isOf_0 15 rfl rfl)
theorem dX5_isOf_16 : decode cX5_isOf 16 = .ok (.if_icmp .eq 13, 3) := dk_159 0 13 (dk_at dksX5_isOf_0 16 rfl rfl)
theorem dX5_isOf_19 : decode cX5_isOf 19 = .ok (.iload_n 1, 1) := dk_27 (dk_at dksX5_isOf_0 19 rfl rfl)
theorem dX5_isOf_20 : decode cX5_isOf 20 = .ok (.iconst 2, 1) := dk_5 (dk_at dksX5_isOf_0 20 rfl rfl)
theorem dX5_isOf_21 : decode cX5_isOf 21 = .ok (.if_icmp .ne 12, 3) := dk_160 0 12 (dk_at dksX5_isOf_0 21 rfl rfl)
theorem dX5_isOf_24 : decode cX5_isOf 24 = .ok (.iload_n 0, 1) := dk_26 (dk_at dksX5_isOf_1 0 rfl rfl)
theorem dX5_isOf_25 : decode cX5_isOf 25 = .ok (.iconst 4, 1) := dk_7 (dk_at dksX5_isOf_1 1 rfl rfl)
theorem dX5_isOf_26 : decode cX5_isOf 26 = .ok (.if_icmp .ne 7, 3) := dk_160 0 7 (dk_at dksX5_isOf_1 2 rfl rfl)
theorem dX5_isOf_29 : decode cX5_isOf 29 = .ok (.iconst 1, 1) := dk_4 (dk_at dksX5_isOf_1 5 rfl rfl)
theorem dX5_isOf_30 : decode cX5_isOf 30 = .ok (.goto 4, 3) := dk_167 0 4 (dk_at dksX5_isOf_1 6 rfl rfl)
theorem dX5_isOf_33 : decode cX5_isOf 33 = .ok (.iconst 0, 1) := dk_3 (dk_at dksX5_isOf_1 9 rfl rfl)
theorem dX5_isOf_34 : decode cX5_isOf 34 = .ok (.ireturn, 1) := dk_172 (dk_at dksX5_isOf_1 10 rfl rfl)
abbrev cX5_turns : ByteArray := prog_18_method_27_code
def yX5_turns : MethodName := ⟨RX5, "turns", "(II)I"⟩
def dkwX5_turns_1 : List UInt8 := [16, 6, 27, 104, 96, 28, 182, 0, 133, 167, 0, 5, 18, 83, 172]
abbrev dktX5_turns_1 : List UInt8 := dkwX5_turns_1 ++ []
def dkwX5_turns_0 : List UInt8 := [42, 27, 182, 0, 109, 153, 0, 30, 28, 133, 9, 20, 0, 77, 184, 0, 68, 153, 0, 18, 42, 16, 21]
abbrev dktX5_turns_0 : List UInt8 := dkwX5_turns_0 ++ dktX5_turns_1
theorem dksX5_turns_0 : cX5_turns.data.toList.drop 0 = dktX5_turns_0 := by decide +kernel
theorem dksX5_turns_1 : cX5_turns.data.toList.drop 23 = dktX5_turns_1 := dk_seg dksX5_turns_0 23 rfl rfl
theorem dX5_turns_0 : decode cX5_turns 0 = .ok (.aload_n 0, 1) := dk_42 (dk_at dksX5_turns_0 0 rfl rfl)
theorem dX5_turns_1 : decode cX5_turns 1 = .ok (.iload_n 1, 1) := dk_27 (dk_at dksX5_turns_0 1 rfl rfl)
theorem dX5_turns_2 : decode cX5_turns 2 = .ok (.invokevirtual 109, 3) := dk_182 0 109 (dk_at dksX5_turns_0 2 rfl rfl)
theorem dX5_turns_5 : decode cX5_turns 5 = .ok (.ifCond .eq 30, 3) := dk_153 0 30 (dk_at dksX5_turns_0 5 rfl rfl)
theorem dX5_turns_8 : decode cX5_turns 8 = .ok (.iload_n 2, 1) := dk_28 (dk_at dksX5_turns_0 8 rfl rfl)
theorem dX5_turns_9 : decode cX5_turns 9 = .ok (.i2l, 1) := dk_133 (dk_at dksX5_turns_0 9 rfl rfl)
theorem dX5_turns_10 : decode cX5_turns 10 = .ok (.lconst 0, 1) := dk_9 (dk_at dksX5_turns_0 10 rfl rfl)
theorem dX5_turns_11 : decode cX5_turns 11 = .ok (.ldc2_w 77, 3) := dk_20 0 77 (dk_at dksX5_turns_0 11 rfl rfl)
theorem dX5_turns_14 : decode cX5_turns 14 = .ok (.invokestatic 68, 3) := dk_184 0 68 (dk_at dksX5_turns_0 14 rfl rfl)
theorem dX5_turns_17 : decode cX5_turns 17 = .ok (.ifCond .eq 18, 3) := dk_153 0 18 (dk_at dksX5_turns_0 17 rfl rfl)
theorem dX5_turns_20 : decode cX5_turns 20 = .ok (.aload_n 0, 1) := dk_42 (dk_at dksX5_turns_0 20 rfl rfl)
theorem dX5_turns_21 : decode cX5_turns 21 = .ok (.bipush 21, 2) := dk_16 21 (dk_at dksX5_turns_0 21 rfl rfl)
theorem dX5_turns_23 : decode cX5_turns 23 = .ok (.bipush 6, 2) := dk_16 6 (dk_at dksX5_turns_1 0 rfl rfl)
theorem dX5_turns_25 : decode cX5_turns 25 = .ok (.iload_n 1, 1) := dk_27 (dk_at dksX5_turns_1 2 rfl rfl)
theorem dX5_turns_26 : decode cX5_turns 26 = .ok (.imul, 1) := dk_104 (dk_at dksX5_turns_1 3 rfl rfl)
theorem dX5_turns_27 : decode cX5_turns 27 = .ok (.iadd, 1) := dk_96 (dk_at dksX5_turns_1 4 rfl rfl)
theorem dX5_turns_28 : decode cX5_turns 28 = .ok (.iload_n 2, 1) := dk_28 (dk_at dksX5_turns_1 5 rfl rfl)
theorem dX5_turns_29 : decode cX5_turns 29 = .ok (.invokevirtual 133, 3) := dk_182 0 133 (dk_at dksX5_turns_1 6 rfl rfl)
theorem dX5_turns_32 : decode cX5_turns 32 = .ok (.goto 5, 3) := dk_167 0 5 (dk_at dksX5_turns_1 9 rfl rfl)
theorem dX5_turns_35 : decode cX5_turns 35 = .ok (.ldc 83, 2) := dk_18 83 (dk_at dksX5_turns_1 12 rfl rfl)
theorem dX5_turns_37 : decode cX5_turns 37 = .ok (.ireturn, 1) := dk_172 (dk_at dksX5_turns_1 14 rfl rfl)
abbrev cX5_becomes : ByteArray := prog_18_method_7_code
def yX5_becomes : MethodName := ⟨RX5, "becomes", "(II)I"⟩
def dkwX5_becomes_0 : List UInt8 := [42, 180, 0, 7, 27, 46, 62, 42, 180, 0, 7, 27, 28, 79, 29, 172]
abbrev dktX5_becomes_0 : List UInt8 := dkwX5_becomes_0 ++ []
theorem dksX5_becomes_0 : cX5_becomes.data.toList.drop 0 = dktX5_becomes_0 := by decide +kernel
theorem dX5_becomes_0 : decode cX5_becomes 0 = .ok (.aload_n 0, 1) := dk_42 (dk_at dksX5_becomes_0 0 rfl rfl)
theorem dX5_becomes_1 : decode cX5_becomes 1 = .ok (.getfield 7, 3) := dk_180 0 7 (dk_at dksX5_becomes_0 1 rfl rfl)
theorem dX5_becomes_4 : decode cX5_becomes 4 = .ok (.iload_n 1, 1) := dk_27 (dk_at dksX5_becomes_0 4 rfl rfl)
theorem dX5_becomes_5 : decode cX5_becomes 5 = .ok (.iaload, 1) := dk_46 (dk_at dksX5_becomes_0 5 rfl rfl)
theorem dX5_becomes_6 : decode cX5_becomes 6 = .ok (.istore_n 3, 1) := dk_62 (dk_at dksX5_becomes_0 6 rfl rfl)
theorem dX5_becomes_7 : decode cX5_becomes 7 = .ok (.aload_n 0, 1) := dk_42 (dk_at dksX5_becomes_0 7 rfl rfl)
theorem dX5_becomes_8 : decode cX5_becomes 8 = .ok (.getfield 7, 3) := dk_180 0 7 (dk_at dksX5_becomes_0 8 rfl rfl)
theorem dX5_becomes_11 : decode cX5_becomes 11 = .ok (.iload_n 1, 1) := dk_27 (dk_at dksX5_becomes_0 11 rfl rfl)
theorem dX5_becomes_12 : decode cX5_becomes 12 = .ok (.iload_n 2, 1) := dk_28 (dk_at dksX5_becomes_0 12 rfl rfl)
theorem dX5_becomes_13 : decode cX5_becomes 13 = .ok (.iastore, 1) := dk_79 (dk_at dksX5_becomes_0 13 rfl rfl)
theorem dX5_becomes_14 : decode cX5_becomes 14 = .ok (.iload_n 3, 1) := dk_29 (dk_at dksX5_becomes_0 14 rfl rfl)
theorem dX5_becomes_15 : decode cX5_becomes 15 = .ok (.ireturn, 1) := dk_172 (dk_at dksX5_becomes_0 15 rfl rfl)
abbrev cX5_set : ByteArray := prog_18_method_29_code
def yX5_set : MethodName := ⟨RX5, "set", "(III)I"⟩
def dkwX5_set_2 : List UInt8 := [16, 21, 16, 6, 27, 104, 96, 28, 96, 29, 182, 0, 133, 172]
abbrev dktX5_set_2 : List UInt8 := dkwX5_set_2 ++ []
def dkwX5_set_1 : List UInt8 := [160, 0, 7, 10, 167, 0, 4, 9, 28, 184, 0, 136, 133, 184, 0, 68, 154, 0, 6, 18, 83, 172, 42]
abbrev dktX5_set_1 : List UInt8 := dkwX5_set_1 ++ dktX5_set_2
def dkwX5_set_0 : List UInt8 := [42, 27, 182, 0, 109, 153, 0, 38, 28, 133, 10, 20, 0, 77, 184, 0, 68, 153, 0, 26, 29, 133, 28, 5]
abbrev dktX5_set_0 : List UInt8 := dkwX5_set_0 ++ dktX5_set_1
theorem dksX5_set_0 : cX5_set.data.toList.drop 0 = dktX5_set_0 := by decide +kernel
theorem dksX5_set_1 : cX5_set.data.toList.drop 24 = dktX5_set_1 := dk_seg dksX5_set_0 24 rfl rfl
theorem dksX5_set_2 : cX5_set.data.toList.drop 47 = dktX5_set_2 := dk_seg dksX5_set_1 23 rfl rfl
theorem dX5_set_0 : decode cX5_set 0 = .ok (.aload_n 0, 1) := dk_42 (dk_at dksX5_set_0 0 rfl rfl)
theorem dX5_set_1 : decode cX5_set 1 = .ok (.iload_n 1, 1) := dk_27 (dk_at dksX5_set_0 1 rfl rfl)
theorem dX5_set_2 : decode cX5_set 2 = .ok (.invokevirtual 109, 3) := dk_182 0 109 (dk_at dksX5_set_0 2 rfl rfl)
theorem dX5_set_5 : decode cX5_set 5 = .ok (.ifCond .eq 38, 3) := dk_153 0 38 (dk_at dksX5_set_0 5 rfl rfl)
theorem dX5_set_8 : decode cX5_set 8 = .ok (.iload_n 2, 1) := dk_28 (dk_at dksX5_set_0 8 rfl rfl)
theorem dX5_set_9 : decode cX5_set 9 = .ok (.i2l, 1) := dk_133 (dk_at dksX5_set_0 9 rfl rfl)
theorem dX5_set_10 : decode cX5_set 10 = .ok (.lconst 1, 1) := dk_10 (dk_at dksX5_set_0 10 rfl rfl)
theorem dX5_set_11 : decode cX5_set 11 = .ok (.ldc2_w 77, 3) := dk_20 0 77 (dk_at dksX5_set_0 11 rfl rfl)
theorem dX5_set_14 : decode cX5_set 14 = .ok (.invokestatic 68, 3) := dk_184 0 68 (dk_at dksX5_set_0 14 rfl rfl)
theorem dX5_set_17 : decode cX5_set 17 = .ok (.ifCond .eq 26, 3) := dk_153 0 26 (dk_at dksX5_set_0 17 rfl rfl)
theorem dX5_set_20 : decode cX5_set 20 = .ok (.iload_n 3, 1) := dk_29 (dk_at dksX5_set_0 20 rfl rfl)
theorem dX5_set_21 : decode cX5_set 21 = .ok (.i2l, 1) := dk_133 (dk_at dksX5_set_0 21 rfl rfl)
theorem dX5_set_22 : decode cX5_set 22 = .ok (.iload_n 2, 1) := dk_28 (dk_at dksX5_set_0 22 rfl rfl)
theorem dX5_set_23 : decode cX5_set 23 = .ok (.iconst 2, 1) := dk_5 (dk_at dksX5_set_0 23 rfl rfl)
theorem dX5_set_24 : decode cX5_set 24 = .ok (.if_icmp .ne 7, 3) := dk_160 0 7 (dk_at dksX5_set_1 0 rfl rfl)
theorem dX5_set_27 : decode cX5_set 27 = .ok (.lconst 1, 1) := dk_10 (dk_at dksX5_set_1 3 rfl rfl)
theorem dX5_set_28 : decode cX5_set 28 = .ok (.goto 4, 3) := dk_167 0 4 (dk_at dksX5_set_1 4 rfl rfl)
theorem dX5_set_31 : decode cX5_set 31 = .ok (.lconst 0, 1) := dk_9 (dk_at dksX5_set_1 7 rfl rfl)
theorem dX5_set_32 : decode cX5_set 32 = .ok (.iload_n 2, 1) := dk_28 (dk_at dksX5_set_1 8 rfl rfl)
theorem dX5_set_33 : decode cX5_set 33 = .ok (.invokestatic 136, 3) := dk_184 0 136 (dk_at dksX5_set_1 9 rfl rfl)
theorem dX5_set_36 : decode cX5_set 36 = .ok (.i2l, 1) := dk_133 (dk_at dksX5_set_1 12 rfl rfl)
theorem dX5_set_37 : decode cX5_set 37 = .ok (.invokestatic 68, 3) := dk_184 0 68 (dk_at dksX5_set_1 13 rfl rfl)
theorem dX5_set_40 : decode cX5_set 40 = .ok (.ifCond .ne 6, 3) := dk_154 0 6 (dk_at dksX5_set_1 16 rfl rfl)
theorem dX5_set_43 : decode cX5_set 43 = .ok (.ldc 83, 2) := dk_18 83 (dk_at dksX5_set_1 19 rfl rfl)
theorem dX5_set_45 : decode cX5_set 45 = .ok (.ireturn, 1) := dk_172 (dk_at dksX5_set_1 21 rfl rfl)
theorem dX5_set_46 : decode cX5_set 46 = .ok (.aload_n 0, 1) := dk_42 (dk_at dksX5_set_1 22 rfl rfl)
theorem dX5_set_47 : decode cX5_set 47 = .ok (.bipush 21, 2) := dk_16 21 (dk_at dksX5_set_2 0 rfl rfl)
theorem dX5_set_49 : decode cX5_set 49 = .ok (.bipush 6, 2) := dk_16 6 (dk_at dksX5_set_2 2 rfl rfl)
theorem dX5_set_51 : decode cX5_set 51 = .ok (.iload_n 1, 1) := dk_27 (dk_at dksX5_set_2 4 rfl rfl)
theorem dX5_set_52 : decode cX5_set 52 = .ok (.imul, 1) := dk_104 (dk_at dksX5_set_2 5 rfl rfl)
theorem dX5_set_53 : decode cX5_set 53 = .ok (.iadd, 1) := dk_96 (dk_at dksX5_set_2 6 rfl rfl)
theorem dX5_set_54 : decode cX5_set 54 = .ok (.iload_n 2, 1) := dk_28 (dk_at dksX5_set_2 7 rfl rfl)
theorem dX5_set_55 : decode cX5_set 55 = .ok (.iadd, 1) := dk_96 (dk_at dksX5_set_2 8 rfl rfl)
theorem dX5_set_56 : decode cX5_set 56 = .ok (.iload_n 3, 1) := dk_29 (dk_at dksX5_set_2 9 rfl rfl)
theorem dX5_set_57 : decode cX5_set 57 = .ok (.invokevirtual 133, 3) := dk_182 0 133 (dk_at dksX5_set_2 10 rfl rfl)
theorem dX5_set_60 : decode cX5_set 60 = .ok (.ireturn, 1) := dk_172 (dk_at dksX5_set_2 13 rfl rfl)
abbrev cX5_mostOf : ByteArray := prog_18_method_28_code
def yX5_mostOf : MethodName := ⟨RX5, "mostOf", "(I)I"⟩
def dkwX5_mostOf_2 : List UInt8 := [18, 105, 172, 16, 8, 172, 4, 172, 16, 16, 172, 16, 99, 172]
abbrev dktX5_mostOf_2 : List UInt8 := dkwX5_mostOf_2 ++ []
def dkwX5_mostOf_1 : List UInt8 := [170, 0, 0, 0, 0, 0, 42, 0, 0, 0, 1, 0, 0, 0, 4, 0, 0, 0, 31, 0, 0, 0, 34, 0, 0, 0, 37, 0, 0, 0, 39]
abbrev dktX5_mostOf_1 : List UInt8 := dkwX5_mostOf_1 ++ dktX5_mostOf_2
def dkwX5_mostOf_0 : List UInt8 := [26]
abbrev dktX5_mostOf_0 : List UInt8 := dkwX5_mostOf_0 ++ dktX5_mostOf_1
theorem dksX5_mostOf_0 : cX5_mostOf.data.toList.drop 0 = dktX5_mostOf_0 := by decide +kernel
theorem dksX5_mostOf_1 : cX5_mostOf.data.toList.drop 1 = dktX5_mostOf_1 := dk_seg dksX5_mostOf_0 1 rfl rfl
theorem dksX5_mostOf_2 : cX5_mostOf.data.toList.drop 32 = dktX5_mostOf_2 := dk_seg dksX5_mostOf_1 31 rfl rfl
theorem dX5_mostOf_0 : decode cX5_mostOf 0 = .ok (.iload_n 0, 1) := dk_26 (dk_at dksX5_mostOf_0 0 rfl rfl)
theorem dX5_mostOf_1 : decode cX5_mostOf 1 = .ok (.tableswitch 42 1 4 #[31, 34, 37, 39], 31) := by decide +kernel
theorem dX5_mostOf_32 : decode cX5_mostOf 32 = .ok (.ldc 105, 2) := dk_18 105 (dk_at dksX5_mostOf_2 0 rfl rfl)
theorem dX5_mostOf_34 : decode cX5_mostOf 34 = .ok (.ireturn, 1) := dk_172 (dk_at dksX5_mostOf_2 2 rfl rfl)
theorem dX5_mostOf_35 : decode cX5_mostOf 35 = .ok (.bipush 8, 2) := dk_16 8 (dk_at dksX5_mostOf_2 3 rfl rfl)
theorem dX5_mostOf_37 : decode cX5_mostOf 37 = .ok (.ireturn, 1) := dk_172 (dk_at dksX5_mostOf_2 5 rfl rfl)
theorem dX5_mostOf_38 : decode cX5_mostOf 38 = .ok (.iconst 1, 1) := dk_4 (dk_at dksX5_mostOf_2 6 rfl rfl)
theorem dX5_mostOf_39 : decode cX5_mostOf 39 = .ok (.ireturn, 1) := dk_172 (dk_at dksX5_mostOf_2 7 rfl rfl)
theorem dX5_mostOf_40 : decode cX5_mostOf 40 = .ok (.bipush 16, 2) := dk_16 16 (dk_at dksX5_mostOf_2 8 rfl rfl)
theorem dX5_mostOf_42 : decode cX5_mostOf 42 = .ok (.ireturn, 1) := dk_172 (dk_at dksX5_mostOf_2 10 rfl rfl)
theorem dX5_mostOf_43 : decode cX5_mostOf 43 = .ok (.bipush 99, 2) := dk_16 99 (dk_at dksX5_mostOf_2 11 rfl rfl)
theorem dX5_mostOf_45 : decode cX5_mostOf 45 = .ok (.ireturn, 1) := dk_172 (dk_at dksX5_mostOf_2 13 rfl rfl)
abbrev cX5_carve : ByteArray := prog_18_method_30_code
def yX5_carve : MethodName := ⟨RX5, "carve", "(II)I"⟩
def dkwX5_carve_1 : List UInt8 := [42, 8, 27, 96, 28, 182, 0, 133, 167, 0, 5, 18, 83, 172]
abbrev dktX5_carve_1 : List UInt8 := dkwX5_carve_1 ++ []
def dkwX5_carve_0 : List UInt8 := [27, 133, 9, 20, 0, 139, 184, 0, 68, 153, 0, 26, 28, 133, 9, 20, 0, 141, 184, 0, 68, 153, 0, 14]
abbrev dktX5_carve_0 : List UInt8 := dkwX5_carve_0 ++ dktX5_carve_1
theorem dksX5_carve_0 : cX5_carve.data.toList.drop 0 = dktX5_carve_0 := by decide +kernel
theorem dksX5_carve_1 : cX5_carve.data.toList.drop 24 = dktX5_carve_1 := dk_seg dksX5_carve_0 24 rfl rfl
theorem dX5_carve_0 : decode cX5_carve 0 = .ok (.iload_n 1, 1) := dk_27 (dk_at dksX5_carve_0 0 rfl rfl)
theorem dX5_carve_1 : decode cX5_carve 1 = .ok (.i2l, 1) := dk_133 (dk_at dksX5_carve_0 1 rfl rfl)
theorem dX5_carve_2 : decode cX5_carve 2 = .ok (.lconst 0, 1) := dk_9 (dk_at dksX5_carve_0 2 rfl rfl)
theorem dX5_carve_3 : decode cX5_carve 3 = .ok (.ldc2_w 139, 3) := dk_20 0 139 (dk_at dksX5_carve_0 3 rfl rfl)
theorem dX5_carve_6 : decode cX5_carve 6 = .ok (.invokestatic 68, 3) := dk_184 0 68 (dk_at dksX5_carve_0 6 rfl rfl)
theorem dX5_carve_9 : decode cX5_carve 9 = .ok (.ifCond .eq 26, 3) := dk_153 0 26 (dk_at dksX5_carve_0 9 rfl rfl)
theorem dX5_carve_12 : decode cX5_carve 12 = .ok (.iload_n 2, 1) := dk_28 (dk_at dksX5_carve_0 12 rfl rfl)
theorem dX5_carve_13 : decode cX5_carve 13 = .ok (.i2l, 1) := dk_133 (dk_at dksX5_carve_0 13 rfl rfl)
theorem dX5_carve_14 : decode cX5_carve 14 = .ok (.lconst 0, 1) := dk_9 (dk_at dksX5_carve_0 14 rfl rfl)
theorem dX5_carve_15 : decode cX5_carve 15 = .ok (.ldc2_w 141, 3) := dk_20 0 141 (dk_at dksX5_carve_0 15 rfl rfl)
theorem dX5_carve_18 : decode cX5_carve 18 = .ok (.invokestatic 68, 3) := dk_184 0 68 (dk_at dksX5_carve_0 18 rfl rfl)
theorem dX5_carve_21 : decode cX5_carve 21 = .ok (.ifCond .eq 14, 3) := dk_153 0 14 (dk_at dksX5_carve_0 21 rfl rfl)
theorem dX5_carve_24 : decode cX5_carve 24 = .ok (.aload_n 0, 1) := dk_42 (dk_at dksX5_carve_1 0 rfl rfl)
theorem dX5_carve_25 : decode cX5_carve 25 = .ok (.iconst 5, 1) := dk_8 (dk_at dksX5_carve_1 1 rfl rfl)
theorem dX5_carve_26 : decode cX5_carve 26 = .ok (.iload_n 1, 1) := dk_27 (dk_at dksX5_carve_1 2 rfl rfl)
theorem dX5_carve_27 : decode cX5_carve 27 = .ok (.iadd, 1) := dk_96 (dk_at dksX5_carve_1 3 rfl rfl)
theorem dX5_carve_28 : decode cX5_carve 28 = .ok (.iload_n 2, 1) := dk_28 (dk_at dksX5_carve_1 4 rfl rfl)
theorem dX5_carve_29 : decode cX5_carve 29 = .ok (.invokevirtual 133, 3) := dk_182 0 133 (dk_at dksX5_carve_1 5 rfl rfl)
theorem dX5_carve_32 : decode cX5_carve 32 = .ok (.goto 5, 3) := dk_167 0 5 (dk_at dksX5_carve_1 8 rfl rfl)
theorem dX5_carve_35 : decode cX5_carve 35 = .ok (.ldc 83, 2) := dk_18 83 (dk_at dksX5_carve_1 11 rfl rfl)
theorem dX5_carve_37 : decode cX5_carve 37 = .ok (.ireturn, 1) := dk_172 (dk_at dksX5_carve_1 13 rfl rfl)
abbrev cX5_carved : ByteArray := prog_18_method_31_code
def yX5_carved : MethodName := ⟨RX5, "carved", "(I)I"⟩
def dkwX5_carved_1 : List UInt8 := [18, 83, 172]
abbrev dktX5_carved_1 : List UInt8 := dkwX5_carved_1 ++ []
def dkwX5_carved_0 : List UInt8 := [27, 133, 9, 20, 0, 139, 184, 0, 68, 153, 0, 14, 42, 180, 0, 7, 8, 27, 96, 46, 167, 0, 5]
abbrev dktX5_carved_0 : List UInt8 := dkwX5_carved_0 ++ dktX5_carved_1
theorem dksX5_carved_0 : cX5_carved.data.toList.drop 0 = dktX5_carved_0 := by decide +kernel
theorem dksX5_carved_1 : cX5_carved.data.toList.drop 23 = dktX5_carved_1 := dk_seg dksX5_carved_0 23 rfl rfl
theorem dX5_carved_0 : decode cX5_carved 0 = .ok (.iload_n 1, 1) := dk_27 (dk_at dksX5_carved_0 0 rfl rfl)
theorem dX5_carved_1 : decode cX5_carved 1 = .ok (.i2l, 1) := dk_133 (dk_at dksX5_carved_0 1 rfl rfl)
theorem dX5_carved_2 : decode cX5_carved 2 = .ok (.lconst 0, 1) := dk_9 (dk_at dksX5_carved_0 2 rfl rfl)
theorem dX5_carved_3 : decode cX5_carved 3 = .ok (.ldc2_w 139, 3) := dk_20 0 139 (dk_at dksX5_carved_0 3 rfl rfl)
theorem dX5_carved_6 : decode cX5_carved 6 = .ok (.invokestatic 68, 3) := dk_184 0 68 (dk_at dksX5_carved_0 6 rfl rfl)
theorem dX5_carved_9 : decode cX5_carved 9 = .ok (.ifCond .eq 14, 3) := dk_153 0 14 (dk_at dksX5_carved_0 9 rfl rfl)
theorem dX5_carved_12 : decode cX5_carved 12 = .ok (.aload_n 0, 1) := dk_42 (dk_at dksX5_carved_0 12 rfl rfl)
theorem dX5_carved_13 : decode cX5_carved 13 = .ok (.getfield 7, 3) := dk_180 0 7 (dk_at dksX5_carved_0 13 rfl rfl)
theorem dX5_carved_16 : decode cX5_carved 16 = .ok (.iconst 5, 1) := dk_8 (dk_at dksX5_carved_0 16 rfl rfl)
theorem dX5_carved_17 : decode cX5_carved 17 = .ok (.iload_n 1, 1) := dk_27 (dk_at dksX5_carved_0 17 rfl rfl)
theorem dX5_carved_18 : decode cX5_carved 18 = .ok (.iadd, 1) := dk_96 (dk_at dksX5_carved_0 18 rfl rfl)
theorem dX5_carved_19 : decode cX5_carved 19 = .ok (.iaload, 1) := dk_46 (dk_at dksX5_carved_0 19 rfl rfl)
theorem dX5_carved_20 : decode cX5_carved 20 = .ok (.goto 5, 3) := dk_167 0 5 (dk_at dksX5_carved_0 20 rfl rfl)
theorem dX5_carved_23 : decode cX5_carved 23 = .ok (.ldc 83, 2) := dk_18 83 (dk_at dksX5_carved_1 0 rfl rfl)
theorem dX5_carved_25 : decode cX5_carved 25 = .ok (.ireturn, 1) := dk_172 (dk_at dksX5_carved_1 2 rfl rfl)
abbrev cX5_deal : ByteArray := prog_18_method_32_code
def yX5_deal : MethodName := ⟨RX5, "deal", "(I)I"⟩
def dkwX5_deal_3 : List UInt8 := [167, 255, 204, 28, 172]
abbrev dktX5_deal_3 : List UInt8 := dkwX5_deal_3 ++ []
def dkwX5_deal_2 : List UInt8 := [112, 54, 4, 42, 29, 21, 4, 4, 42, 182, 0, 145, 16, 8, 112, 96, 182, 0, 85, 132, 2, 1]
abbrev dktX5_deal_2 : List UInt8 := dkwX5_deal_2 ++ dktX5_deal_3
def dkwX5_deal_1 : List UInt8 := [180, 0, 7, 3, 46, 16, 9, 162, 0, 42, 42, 182, 0, 145, 16, 6, 112, 62, 42, 182, 0, 145, 18, 149]
abbrev dktX5_deal_1 : List UInt8 := dkwX5_deal_1 ++ dktX5_deal_2
def dkwX5_deal_0 : List UInt8 := [27, 133, 10, 20, 0, 143, 184, 0, 68, 154, 0, 6, 18, 83, 172, 3, 61, 28, 27, 162, 0, 53, 42]
abbrev dktX5_deal_0 : List UInt8 := dkwX5_deal_0 ++ dktX5_deal_1
theorem dksX5_deal_0 : cX5_deal.data.toList.drop 0 = dktX5_deal_0 := by decide +kernel
theorem dksX5_deal_1 : cX5_deal.data.toList.drop 23 = dktX5_deal_1 := dk_seg dksX5_deal_0 23 rfl rfl
theorem dksX5_deal_2 : cX5_deal.data.toList.drop 47 = dktX5_deal_2 := dk_seg dksX5_deal_1 24 rfl rfl
theorem dksX5_deal_3 : cX5_deal.data.toList.drop 69 = dktX5_deal_3 := dk_seg dksX5_deal_2 22 rfl rfl
theorem dX5_deal_0 : decode cX5_deal 0 = .ok (.iload_n 1, 1) := dk_27 (dk_at dksX5_deal_0 0 rfl rfl)
theorem dX5_deal_1 : decode cX5_deal 1 = .ok (.i2l, 1) := dk_133 (dk_at dksX5_deal_0 1 rfl rfl)
theorem dX5_deal_2 : decode cX5_deal 2 = .ok (.lconst 1, 1) := dk_10 (dk_at dksX5_deal_0 2 rfl rfl)
theorem dX5_deal_3 : decode cX5_deal 3 = .ok (.ldc2_w 143, 3) := dk_20 0 143 (dk_at dksX5_deal_0 3 rfl rfl)
theorem dX5_deal_6 : decode cX5_deal 6 = .ok (.invokestatic 68, 3) := dk_184 0 68 (dk_at dksX5_deal_0 6 rfl rfl)
theorem dX5_deal_9 : decode cX5_deal 9 = .ok (.ifCond .ne 6, 3) := dk_154 0 6 (dk_at dksX5_deal_0 9 rfl rfl)
theorem dX5_deal_12 : decode cX5_deal 12 = .ok (.ldc 83, 2) := dk_18 83 (dk_at dksX5_deal_0 12 rfl rfl)
theorem dX5_deal_14 : decode cX5_deal 14 = .ok (.ireturn, 1) := dk_172 (dk_at dksX5_deal_0 14 rfl rfl)
theorem dX5_deal_15 : decode cX5_deal 15 = .ok (.iconst 0, 1) := dk_3 (dk_at dksX5_deal_0 15 rfl rfl)
theorem dX5_deal_16 : decode cX5_deal 16 = .ok (.istore_n 2, 1) := dk_61 (dk_at dksX5_deal_0 16 rfl rfl)
theorem dX5_deal_17 : decode cX5_deal 17 = .ok (.iload_n 2, 1) := dk_28 (dk_at dksX5_deal_0 17 rfl rfl)
theorem dX5_deal_18 : decode cX5_deal 18 = .ok (.iload_n 1, 1) := dk_27 (dk_at dksX5_deal_0 18 rfl rfl)
theorem dX5_deal_19 : decode cX5_deal 19 = .ok (.if_icmp .ge 53, 3) := dk_162 0 53 (dk_at dksX5_deal_0 19 rfl rfl)
theorem dX5_deal_22 : decode cX5_deal 22 = .ok (.aload_n 0, 1) := dk_42 (dk_at dksX5_deal_0 22 rfl rfl)
theorem dX5_deal_23 : decode cX5_deal 23 = .ok (.getfield 7, 3) := dk_180 0 7 (dk_at dksX5_deal_1 0 rfl rfl)
theorem dX5_deal_26 : decode cX5_deal 26 = .ok (.iconst 0, 1) := dk_3 (dk_at dksX5_deal_1 3 rfl rfl)
theorem dX5_deal_27 : decode cX5_deal 27 = .ok (.iaload, 1) := dk_46 (dk_at dksX5_deal_1 4 rfl rfl)
theorem dX5_deal_28 : decode cX5_deal 28 = .ok (.bipush 9, 2) := dk_16 9 (dk_at dksX5_deal_1 5 rfl rfl)
theorem dX5_deal_30 : decode cX5_deal 30 = .ok (.if_icmp .ge 42, 3) := dk_162 0 42 (dk_at dksX5_deal_1 7 rfl rfl)
theorem dX5_deal_33 : decode cX5_deal 33 = .ok (.aload_n 0, 1) := dk_42 (dk_at dksX5_deal_1 10 rfl rfl)
theorem dX5_deal_34 : decode cX5_deal 34 = .ok (.invokevirtual 145, 3) := dk_182 0 145 (dk_at dksX5_deal_1 11 rfl rfl)
theorem dX5_deal_37 : decode cX5_deal 37 = .ok (.bipush 6, 2) := dk_16 6 (dk_at dksX5_deal_1 14 rfl rfl)
theorem dX5_deal_39 : decode cX5_deal 39 = .ok (.irem, 1) := dk_112 (dk_at dksX5_deal_1 16 rfl rfl)
theorem dX5_deal_40 : decode cX5_deal 40 = .ok (.istore_n 3, 1) := dk_62 (dk_at dksX5_deal_1 17 rfl rfl)
theorem dX5_deal_41 : decode cX5_deal 41 = .ok (.aload_n 0, 1) := dk_42 (dk_at dksX5_deal_1 18 rfl rfl)
theorem dX5_deal_42 : decode cX5_deal 42 = .ok (.invokevirtual 145, 3) := dk_182 0 145 (dk_at dksX5_deal_1 19 rfl rfl)
theorem dX5_deal_45 : decode cX5_deal 45 = .ok (.ldc 149, 2) := dk_18 149 (dk_at dksX5_deal_1 22 rfl rfl)
theorem dX5_deal_47 : decode cX5_deal 47 = .ok (.irem, 1) := dk_112 (dk_at dksX5_deal_2 0 rfl rfl)
theorem dX5_deal_48 : decode cX5_deal 48 = .ok (.istore 4, 2) := dk_54 4 (dk_at dksX5_deal_2 1 rfl rfl)
theorem dX5_deal_50 : decode cX5_deal 50 = .ok (.aload_n 0, 1) := dk_42 (dk_at dksX5_deal_2 3 rfl rfl)
theorem dX5_deal_51 : decode cX5_deal 51 = .ok (.iload_n 3, 1) := dk_29 (dk_at dksX5_deal_2 4 rfl rfl)
theorem dX5_deal_52 : decode cX5_deal 52 = .ok (.iload 4, 2) := dk_21 4 (dk_at dksX5_deal_2 5 rfl rfl)
theorem dX5_deal_54 : decode cX5_deal 54 = .ok (.iconst 1, 1) := dk_4 (dk_at dksX5_deal_2 7 rfl rfl)
theorem dX5_deal_55 : decode cX5_deal 55 = .ok (.aload_n 0, 1) := dk_42 (dk_at dksX5_deal_2 8 rfl rfl)
theorem dX5_deal_56 : decode cX5_deal 56 = .ok (.invokevirtual 145, 3) := dk_182 0 145 (dk_at dksX5_deal_2 9 rfl rfl)
theorem dX5_deal_59 : decode cX5_deal 59 = .ok (.bipush 8, 2) := dk_16 8 (dk_at dksX5_deal_2 12 rfl rfl)
theorem dX5_deal_61 : decode cX5_deal 61 = .ok (.irem, 1) := dk_112 (dk_at dksX5_deal_2 14 rfl rfl)
theorem dX5_deal_62 : decode cX5_deal 62 = .ok (.iadd, 1) := dk_96 (dk_at dksX5_deal_2 15 rfl rfl)
theorem dX5_deal_63 : decode cX5_deal 63 = .ok (.invokevirtual 85, 3) := dk_182 0 85 (dk_at dksX5_deal_2 16 rfl rfl)
theorem dX5_deal_66 : decode cX5_deal 66 = .ok (.iinc 2 1, 3) := dk_132 2 1 (dk_at dksX5_deal_2 19 rfl rfl)
theorem dX5_deal_69 : decode cX5_deal 69 = .ok (.goto (-52), 3) := dk_167 255 204 (dk_at dksX5_deal_3 0 rfl rfl)
theorem dX5_deal_72 : decode cX5_deal 72 = .ok (.iload_n 2, 1) := dk_28 (dk_at dksX5_deal_3 3 rfl rfl)
theorem dX5_deal_73 : decode cX5_deal 73 = .ok (.ireturn, 1) := dk_172 (dk_at dksX5_deal_3 4 rfl rfl)
abbrev cX5_drawn : ByteArray := prog_18_method_13_code
def yX5_drawn : MethodName := ⟨RX5, "drawn", "()I"⟩
def dkwX5_drawn_1 : List UInt8 := [46, 16, 8, 124, 172]
abbrev dktX5_drawn_1 : List UInt8 := dkwX5_drawn_1 ++ []
def dkwX5_drawn_0 : List UInt8 := [42, 180, 0, 7, 7, 42, 180, 0, 7, 7, 46, 18, 72, 104, 17, 48, 57, 96, 79, 42, 180, 0, 7, 7]
abbrev dktX5_drawn_0 : List UInt8 := dkwX5_drawn_0 ++ dktX5_drawn_1
theorem dksX5_drawn_0 : cX5_drawn.data.toList.drop 0 = dktX5_drawn_0 := by decide +kernel
theorem dksX5_drawn_1 : cX5_drawn.data.toList.drop 24 = dktX5_drawn_1 := dk_seg dksX5_drawn_0 24 rfl rfl
theorem dX5_drawn_0 : decode cX5_drawn 0 = .ok (.aload_n 0, 1) := dk_42 (dk_at dksX5_drawn_0 0 rfl rfl)
theorem dX5_drawn_1 : decode cX5_drawn 1 = .ok (.getfield 7, 3) := dk_180 0 7 (dk_at dksX5_drawn_0 1 rfl rfl)
theorem dX5_drawn_4 : decode cX5_drawn 4 = .ok (.iconst 4, 1) := dk_7 (dk_at dksX5_drawn_0 4 rfl rfl)
theorem dX5_drawn_5 : decode cX5_drawn 5 = .ok (.aload_n 0, 1) := dk_42 (dk_at dksX5_drawn_0 5 rfl rfl)
theorem dX5_drawn_6 : decode cX5_drawn 6 = .ok (.getfield 7, 3) := dk_180 0 7 (dk_at dksX5_drawn_0 6 rfl rfl)
theorem dX5_drawn_9 : decode cX5_drawn 9 = .ok (.iconst 4, 1) := dk_7 (dk_at dksX5_drawn_0 9 rfl rfl)
theorem dX5_drawn_10 : decode cX5_drawn 10 = .ok (.iaload, 1) := dk_46 (dk_at dksX5_drawn_0 10 rfl rfl)
theorem dX5_drawn_11 : decode cX5_drawn 11 = .ok (.ldc 72, 2) := dk_18 72 (dk_at dksX5_drawn_0 11 rfl rfl)
theorem dX5_drawn_13 : decode cX5_drawn 13 = .ok (.imul, 1) := dk_104 (dk_at dksX5_drawn_0 13 rfl rfl)
theorem dX5_drawn_14 : decode cX5_drawn 14 = .ok (.sipush 12345, 3) := dk_17 48 57 (dk_at dksX5_drawn_0 14 rfl rfl)
theorem dX5_drawn_17 : decode cX5_drawn 17 = .ok (.iadd, 1) := dk_96 (dk_at dksX5_drawn_0 17 rfl rfl)
theorem dX5_drawn_18 : decode cX5_drawn 18 = .ok (.iastore, 1) := dk_79 (dk_at dksX5_drawn_0 18 rfl rfl)
theorem dX5_drawn_19 : decode cX5_drawn 19 = .ok (.aload_n 0, 1) := dk_42 (dk_at dksX5_drawn_0 19 rfl rfl)
theorem dX5_drawn_20 : decode cX5_drawn 20 = .ok (.getfield 7, 3) := dk_180 0 7 (dk_at dksX5_drawn_0 20 rfl rfl)
theorem dX5_drawn_23 : decode cX5_drawn 23 = .ok (.iconst 4, 1) := dk_7 (dk_at dksX5_drawn_0 23 rfl rfl)
theorem dX5_drawn_24 : decode cX5_drawn 24 = .ok (.iaload, 1) := dk_46 (dk_at dksX5_drawn_1 0 rfl rfl)
theorem dX5_drawn_25 : decode cX5_drawn 25 = .ok (.bipush 8, 2) := dk_16 8 (dk_at dksX5_drawn_1 1 rfl rfl)
theorem dX5_drawn_27 : decode cX5_drawn 27 = .ok (.iushr, 1) := dk_124 (dk_at dksX5_drawn_1 3 rfl rfl)
theorem dX5_drawn_28 : decode cX5_drawn 28 = .ok (.ireturn, 1) := dk_172 (dk_at dksX5_drawn_1 4 rfl rfl)
abbrev cX5_seed : ByteArray := prog_18_method_33_code
def yX5_seed : MethodName := ⟨RX5, "seed", "(I)I"⟩
def dkwX5_seed_0 : List UInt8 := [42, 7, 27, 182, 0, 133, 172]
abbrev dktX5_seed_0 : List UInt8 := dkwX5_seed_0 ++ []
theorem dksX5_seed_0 : cX5_seed.data.toList.drop 0 = dktX5_seed_0 := by decide +kernel
theorem dX5_seed_0 : decode cX5_seed 0 = .ok (.aload_n 0, 1) := dk_42 (dk_at dksX5_seed_0 0 rfl rfl)
theorem dX5_seed_1 : decode cX5_seed 1 = .ok (.iconst 4, 1) := dk_7 (dk_at dksX5_seed_0 1 rfl rfl)
theorem dX5_seed_2 : decode cX5_seed 2 = .ok (.iload_n 1, 1) := dk_27 (dk_at dksX5_seed_0 2 rfl rfl)
theorem dX5_seed_3 : decode cX5_seed 3 = .ok (.invokevirtual 133, 3) := dk_182 0 133 (dk_at dksX5_seed_0 3 rfl rfl)
theorem dX5_seed_6 : decode cX5_seed 6 = .ok (.ireturn, 1) := dk_172 (dk_at dksX5_seed_0 6 rfl rfl)
abbrev cX5_falseAt : ByteArray := prog_18_method_35_code
def yX5_falseAt : MethodName := ⟨RX5, "falseAt", "(II)I"⟩
def dkwX5_falseAt_1 : List UInt8 := [182, 0, 150, 167, 0, 5, 18, 83, 172]
abbrev dktX5_falseAt_1 : List UInt8 := dkwX5_falseAt_1 ++ []
def dkwX5_falseAt_0 : List UInt8 := [42, 27, 182, 0, 109, 153, 0, 24, 28, 133, 9, 20, 0, 139, 184, 0, 68, 153, 0, 12, 42, 27, 28]
abbrev dktX5_falseAt_0 : List UInt8 := dkwX5_falseAt_0 ++ dktX5_falseAt_1
theorem dksX5_falseAt_0 : cX5_falseAt.data.toList.drop 0 = dktX5_falseAt_0 := by decide +kernel
theorem dksX5_falseAt_1 : cX5_falseAt.data.toList.drop 23 = dktX5_falseAt_1 := dk_seg dksX5_falseAt_0 23 rfl rfl
theorem dX5_falseAt_0 : decode cX5_falseAt 0 = .ok (.aload_n 0, 1) := dk_42 (dk_at dksX5_falseAt_0 0 rfl rfl)
theorem dX5_falseAt_1 : decode cX5_falseAt 1 = .ok (.iload_n 1, 1) := dk_27 (dk_at dksX5_falseAt_0 1 rfl rfl)
theorem dX5_falseAt_2 : decode cX5_falseAt 2 = .ok (.invokevirtual 109, 3) := dk_182 0 109 (dk_at dksX5_falseAt_0 2 rfl rfl)
theorem dX5_falseAt_5 : decode cX5_falseAt 5 = .ok (.ifCond .eq 24, 3) := dk_153 0 24 (dk_at dksX5_falseAt_0 5 rfl rfl)
theorem dX5_falseAt_8 : decode cX5_falseAt 8 = .ok (.iload_n 2, 1) := dk_28 (dk_at dksX5_falseAt_0 8 rfl rfl)
theorem dX5_falseAt_9 : decode cX5_falseAt 9 = .ok (.i2l, 1) := dk_133 (dk_at dksX5_falseAt_0 9 rfl rfl)
theorem dX5_falseAt_10 : decode cX5_falseAt 10 = .ok (.lconst 0, 1) := dk_9 (dk_at dksX5_falseAt_0 10 rfl rfl)
theorem dX5_falseAt_11 : decode cX5_falseAt 11 = .ok (.ldc2_w 139, 3) := dk_20 0 139 (dk_at dksX5_falseAt_0 11 rfl rfl)
theorem dX5_falseAt_14 : decode cX5_falseAt 14 = .ok (.invokestatic 68, 3) := dk_184 0 68 (dk_at dksX5_falseAt_0 14 rfl rfl)
theorem dX5_falseAt_17 : decode cX5_falseAt 17 = .ok (.ifCond .eq 12, 3) := dk_153 0 12 (dk_at dksX5_falseAt_0 17 rfl rfl)
theorem dX5_falseAt_20 : decode cX5_falseAt 20 = .ok (.aload_n 0, 1) := dk_42 (dk_at dksX5_falseAt_0 20 rfl rfl)
theorem dX5_falseAt_21 : decode cX5_falseAt 21 = .ok (.iload_n 1, 1) := dk_27 (dk_at dksX5_falseAt_0 21 rfl rfl)
theorem dX5_falseAt_22 : decode cX5_falseAt 22 = .ok (.iload_n 2, 1) := dk_28 (dk_at dksX5_falseAt_0 22 rfl rfl)
theorem dX5_falseAt_23 : decode cX5_falseAt 23 = .ok (.invokevirtual 150, 3) := dk_182 0 150 (dk_at dksX5_falseAt_1 0 rfl rfl)
theorem dX5_falseAt_26 : decode cX5_falseAt 26 = .ok (.goto 5, 3) := dk_167 0 5 (dk_at dksX5_falseAt_1 3 rfl rfl)
theorem dX5_falseAt_29 : decode cX5_falseAt 29 = .ok (.ldc 83, 2) := dk_18 83 (dk_at dksX5_falseAt_1 6 rfl rfl)
theorem dX5_falseAt_31 : decode cX5_falseAt 31 = .ok (.ireturn, 1) := dk_172 (dk_at dksX5_falseAt_1 8 rfl rfl)
abbrev cX5_falseOf : ByteArray := prog_18_method_34_code
def yX5_falseOf : MethodName := ⟨RX5, "falseOf", "(II)I"⟩
def dkwX5_falseOf_2 : List UInt8 := [160, 0, 7, 3, 167, 0, 4, 4, 96, 62, 132, 4, 1, 167, 255, 204, 29, 172]
abbrev dktX5_falseOf_2 : List UInt8 := dkwX5_falseOf_2 ++ []
def dkwX5_falseOf_1 : List UInt8 := [162, 0, 38, 29, 42, 27, 21, 4, 182, 0, 125, 42, 180, 0, 7, 8, 28, 96, 21, 4, 96, 46]
abbrev dktX5_falseOf_1 : List UInt8 := dkwX5_falseOf_1 ++ dktX5_falseOf_2
def dkwX5_falseOf_0 : List UInt8 := [3, 62, 3, 54, 4, 21, 4, 42, 27, 5, 182, 0, 88, 162, 0, 47, 28, 21, 4, 96, 16, 16]
abbrev dktX5_falseOf_0 : List UInt8 := dkwX5_falseOf_0 ++ dktX5_falseOf_1
theorem dksX5_falseOf_0 : cX5_falseOf.data.toList.drop 0 = dktX5_falseOf_0 := by decide +kernel
theorem dksX5_falseOf_1 : cX5_falseOf.data.toList.drop 22 = dktX5_falseOf_1 := dk_seg dksX5_falseOf_0 22 rfl rfl
theorem dksX5_falseOf_2 : cX5_falseOf.data.toList.drop 44 = dktX5_falseOf_2 := dk_seg dksX5_falseOf_1 22 rfl rfl
theorem dX5_falseOf_0 : decode cX5_falseOf 0 = .ok (.iconst 0, 1) := dk_3 (dk_at dksX5_falseOf_0 0 rfl rfl)
theorem dX5_falseOf_1 : decode cX5_falseOf 1 = .ok (.istore_n 3, 1) := dk_62 (dk_at dksX5_falseOf_0 1 rfl rfl)
theorem dX5_falseOf_2 : decode cX5_falseOf 2 = .ok (.iconst 0, 1) := dk_3 (dk_at dksX5_falseOf_0 2 rfl rfl)
theorem dX5_falseOf_3 : decode cX5_falseOf 3 = .ok (.istore 4, 2) := dk_54 4 (dk_at dksX5_falseOf_0 3 rfl rfl)
theorem dX5_falseOf_5 : decode cX5_falseOf 5 = .ok (.iload 4, 2) := dk_21 4 (dk_at dksX5_falseOf_0 5 rfl rfl)
theorem dX5_falseOf_7 : decode cX5_falseOf 7 = .ok (.aload_n 0, 1) := dk_42 (dk_at dksX5_falseOf_0 7 rfl rfl)
theorem dX5_falseOf_8 : decode cX5_falseOf 8 = .ok (.iload_n 1, 1) := dk_27 (dk_at dksX5_falseOf_0 8 rfl rfl)
theorem dX5_falseOf_9 : decode cX5_falseOf 9 = .ok (.iconst 2, 1) := dk_5 (dk_at dksX5_falseOf_0 9 rfl rfl)
theorem dX5_falseOf_10 : decode cX5_falseOf 10 = .ok (.invokevirtual 88, 3) := dk_182 0 88 (dk_at dksX5_falseOf_0 10 rfl rfl)
theorem dX5_falseOf_13 : decode cX5_falseOf 13 = .ok (.if_icmp .ge 47, 3) := dk_162 0 47 (dk_at dksX5_falseOf_0 13 rfl rfl)
theorem dX5_falseOf_16 : decode cX5_falseOf 16 = .ok (.iload_n 2, 1) := dk_28 (dk_at dksX5_falseOf_0 16 rfl rfl)
theorem dX5_falseOf_17 : decode cX5_falseOf 17 = .ok (.iload 4, 2) := dk_21 4 (dk_at dksX5_falseOf_0 17 rfl rfl)
theorem dX5_falseOf_19 : decode cX5_falseOf 19 = .ok (.iadd, 1) := dk_96 (dk_at dksX5_falseOf_0 19 rfl rfl)
theorem dX5_falseOf_20 : decode cX5_falseOf 20 = .ok (.bipush 16, 2) := dk_16 16 (dk_at dksX5_falseOf_0 20 rfl rfl)
theorem dX5_falseOf_22 : decode cX5_falseOf 22 = .ok (.if_icmp .ge 38, 3) := dk_162 0 38 (dk_at dksX5_falseOf_1 0 rfl rfl)
theorem dX5_falseOf_25 : decode cX5_falseOf 25 = .ok (.iload_n 3, 1) := dk_29 (dk_at dksX5_falseOf_1 3 rfl rfl)
theorem dX5_falseOf_26 : decode cX5_falseOf 26 = .ok (.aload_n 0, 1) := dk_42 (dk_at dksX5_falseOf_1 4 rfl rfl)
theorem dX5_falseOf_27 : decode cX5_falseOf 27 = .ok (.iload_n 1, 1) := dk_27 (dk_at dksX5_falseOf_1 5 rfl rfl)
theorem dX5_falseOf_28 : decode cX5_falseOf 28 = .ok (.iload 4, 2) := dk_21 4 (dk_at dksX5_falseOf_1 6 rfl rfl)
theorem dX5_falseOf_30 : decode cX5_falseOf 30 = .ok (.invokevirtual 125, 3) := dk_182 0 125 (dk_at dksX5_falseOf_1 8 rfl rfl)
theorem dX5_falseOf_33 : decode cX5_falseOf 33 = .ok (.aload_n 0, 1) := dk_42 (dk_at dksX5_falseOf_1 11 rfl rfl)
theorem dX5_falseOf_34 : decode cX5_falseOf 34 = .ok (.getfield 7, 3) := dk_180 0 7 (dk_at dksX5_falseOf_1 12 rfl rfl)
theorem dX5_falseOf_37 : decode cX5_falseOf 37 = .ok (.iconst 5, 1) := dk_8 (dk_at dksX5_falseOf_1 15 rfl rfl)
theorem dX5_falseOf_38 : decode cX5_falseOf 38 = .ok (.iload_n 2, 1) := dk_28 (dk_at dksX5_falseOf_1 16 rfl rfl)
theorem dX5_falseOf_39 : decode cX5_falseOf 39 = .ok (.iadd, 1) := dk_96 (dk_at dksX5_falseOf_1 17 rfl rfl)
theorem dX5_falseOf_40 : decode cX5_falseOf 40 = .ok (.iload 4, 2) := dk_21 4 (dk_at dksX5_falseOf_1 18 rfl rfl)
theorem dX5_falseOf_42 : decode cX5_falseOf 42 = .ok (.iadd, 1) := dk_96 (dk_at dksX5_falseOf_1 20 rfl rfl)
theorem dX5_falseOf_43 : decode cX5_falseOf 43 = .ok (.iaload, 1) := dk_46 (dk_at dksX5_falseOf_1 21 rfl rfl)
theorem dX5_falseOf_44 : decode cX5_falseOf 44 = .ok (.if_icmp .ne 7, 3) := dk_160 0 7 (dk_at dksX5_falseOf_2 0 rfl rfl)
theorem dX5_falseOf_47 : decode cX5_falseOf 47 = .ok (.iconst 0, 1) := dk_3 (dk_at dksX5_falseOf_2 3 rfl rfl)
theorem dX5_falseOf_48 : decode cX5_falseOf 48 = .ok (.goto 4, 3) := dk_167 0 4 (dk_at dksX5_falseOf_2 4 rfl rfl)
theorem dX5_falseOf_51 : decode cX5_falseOf 51 = .ok (.iconst 1, 1) := dk_4 (dk_at dksX5_falseOf_2 7 rfl rfl)
theorem dX5_falseOf_52 : decode cX5_falseOf 52 = .ok (.iadd, 1) := dk_96 (dk_at dksX5_falseOf_2 8 rfl rfl)
theorem dX5_falseOf_53 : decode cX5_falseOf 53 = .ok (.istore_n 3, 1) := dk_62 (dk_at dksX5_falseOf_2 9 rfl rfl)
theorem dX5_falseOf_54 : decode cX5_falseOf 54 = .ok (.iinc 4 1, 3) := dk_132 4 1 (dk_at dksX5_falseOf_2 10 rfl rfl)
theorem dX5_falseOf_57 : decode cX5_falseOf 57 = .ok (.goto (-52), 3) := dk_167 255 204 (dk_at dksX5_falseOf_2 13 rfl rfl)
theorem dX5_falseOf_60 : decode cX5_falseOf 60 = .ok (.iload_n 3, 1) := dk_29 (dk_at dksX5_falseOf_2 16 rfl rfl)
theorem dX5_falseOf_61 : decode cX5_falseOf 61 = .ok (.ireturn, 1) := dk_172 (dk_at dksX5_falseOf_2 17 rfl rfl)
abbrev cX5_fits : ByteArray := prog_18_method_36_code
def yX5_fits : MethodName := ⟨RX5, "fits", "(II)I"⟩
def dkwX5_fits_3 : List UInt8 := [154, 0, 7, 29, 167, 0, 9, 42, 27, 29, 182, 0, 150, 172]
abbrev dktX5_fits_3 : List UInt8 := dkwX5_fits_3 ++ []
def dkwX5_fits_2 : List UInt8 := [27, 29, 182, 0, 150, 162, 0, 8, 21, 4, 167, 0, 4, 29, 62, 132, 4, 1, 167, 255, 216, 28]
abbrev dktX5_fits_2 : List UInt8 := dkwX5_fits_2 ++ dktX5_fits_3
def dkwX5_fits_1 : List UInt8 := [54, 4, 21, 4, 16, 16, 42, 27, 5, 182, 0, 88, 100, 163, 0, 32, 42, 27, 21, 4, 182, 0, 150, 42]
abbrev dktX5_fits_1 : List UInt8 := dkwX5_fits_1 ++ dktX5_fits_2
def dkwX5_fits_0 : List UInt8 := [42, 27, 182, 0, 109, 153, 0, 13, 28, 133, 9, 10, 184, 0, 68, 154, 0, 6, 18, 83, 172, 3, 62, 4]
abbrev dktX5_fits_0 : List UInt8 := dkwX5_fits_0 ++ dktX5_fits_1
theorem dksX5_fits_0 : cX5_fits.data.toList.drop 0 = dktX5_fits_0 := by decide +kernel
theorem dksX5_fits_1 : cX5_fits.data.toList.drop 24 = dktX5_fits_1 := dk_seg dksX5_fits_0 24 rfl rfl
theorem dksX5_fits_2 : cX5_fits.data.toList.drop 48 = dktX5_fits_2 := dk_seg dksX5_fits_1 24 rfl rfl
theorem dksX5_fits_3 : cX5_fits.data.toList.drop 70 = dktX5_fits_3 := dk_seg dksX5_fits_2 22 rfl rfl
theorem dX5_fits_0 : decode cX5_fits 0 = .ok (.aload_n 0, 1) := dk_42 (dk_at dksX5_fits_0 0 rfl rfl)
theorem dX5_fits_1 : decode cX5_fits 1 = .ok (.iload_n 1, 1) := dk_27 (dk_at dksX5_fits_0 1 rfl rfl)
theorem dX5_fits_2 : decode cX5_fits 2 = .ok (.invokevirtual 109, 3) := dk_182 0 109 (dk_at dksX5_fits_0 2 rfl rfl)
theorem dX5_fits_5 : decode cX5_fits 5 = .ok (.ifCond .eq 13, 3) := dk_153 0 13 (dk_at dksX5_fits_0 5 rfl rfl)
theorem dX5_fits_8 : decode cX5_fits 8 = .ok (.iload_n 2, 1) := dk_28 (dk_at dksX5_fits_0 8 rfl rfl)
theorem dX5_fits_9 : decode cX5_fits 9 = .ok (.i2l, 1) := dk_133 (dk_at dksX5_fits_0 9 rfl rfl)
theorem dX5_fits_10 : decode cX5_fits 10 = .ok (.lconst 0, 1) := dk_9 (dk_at dksX5_fits_0 10 rfl rfl)
theorem dX5_fits_11 : decode cX5_fits 11 = .ok (.lconst 1, 1) := dk_10 (dk_at dksX5_fits_0 11 rfl rfl)
theorem dX5_fits_12 : decode cX5_fits 12 = .ok (.invokestatic 68, 3) := dk_184 0 68 (dk_at dksX5_fits_0 12 rfl rfl)
theorem dX5_fits_15 : decode cX5_fits 15 = .ok (.ifCond .ne 6, 3) := dk_154 0 6 (dk_at dksX5_fits_0 15 rfl rfl)
theorem dX5_fits_18 : decode cX5_fits 18 = .ok (.ldc 83, 2) := dk_18 83 (dk_at dksX5_fits_0 18 rfl rfl)
theorem dX5_fits_20 : decode cX5_fits 20 = .ok (.ireturn, 1) := dk_172 (dk_at dksX5_fits_0 20 rfl rfl)
theorem dX5_fits_21 : decode cX5_fits 21 = .ok (.iconst 0, 1) := dk_3 (dk_at dksX5_fits_0 21 rfl rfl)
theorem dX5_fits_22 : decode cX5_fits 22 = .ok (.istore_n 3, 1) := dk_62 (dk_at dksX5_fits_0 22 rfl rfl)
theorem dX5_fits_23 : decode cX5_fits 23 = .ok (.iconst 1, 1) := dk_4 (dk_at dksX5_fits_0 23 rfl rfl)
theorem dX5_fits_24 : decode cX5_fits 24 = .ok (.istore 4, 2) := dk_54 4 (dk_at dksX5_fits_1 0 rfl rfl)
theorem dX5_fits_26 : decode cX5_fits 26 = .ok (.iload 4, 2) := dk_21 4 (dk_at dksX5_fits_1 2 rfl rfl)
theorem dX5_fits_28 : decode cX5_fits 28 = .ok (.bipush 16, 2) := dk_16 16 (dk_at dksX5_fits_1 4 rfl rfl)
theorem dX5_fits_30 : decode cX5_fits 30 = .ok (.aload_n 0, 1) := dk_42 (dk_at dksX5_fits_1 6 rfl rfl)
theorem dX5_fits_31 : decode cX5_fits 31 = .ok (.iload_n 1, 1) := dk_27 (dk_at dksX5_fits_1 7 rfl rfl)
theorem dX5_fits_32 : decode cX5_fits 32 = .ok (.iconst 2, 1) := dk_5 (dk_at dksX5_fits_1 8 rfl rfl)
theorem dX5_fits_33 : decode cX5_fits 33 = .ok (.invokevirtual 88, 3) := dk_182 0 88 (dk_at dksX5_fits_1 9 rfl rfl)
theorem dX5_fits_36 : decode cX5_fits 36 = .ok (.isub, 1) := dk_100 (dk_at dksX5_fits_1 12 rfl rfl)
theorem dX5_fits_37 : decode cX5_fits 37 = .ok (.if_icmp .gt 32, 3) := dk_163 0 32 (dk_at dksX5_fits_1 13 rfl rfl)
theorem dX5_fits_40 : decode cX5_fits 40 = .ok (.aload_n 0, 1) := dk_42 (dk_at dksX5_fits_1 16 rfl rfl)
theorem dX5_fits_41 : decode cX5_fits 41 = .ok (.iload_n 1, 1) := dk_27 (dk_at dksX5_fits_1 17 rfl rfl)
theorem dX5_fits_42 : decode cX5_fits 42 = .ok (.iload 4, 2) := dk_21 4 (dk_at dksX5_fits_1 18 rfl rfl)
theorem dX5_fits_44 : decode cX5_fits 44 = .ok (.invokevirtual 150, 3) := dk_182 0 150 (dk_at dksX5_fits_1 20 rfl rfl)
theorem dX5_fits_47 : decode cX5_fits 47 = .ok (.aload_n 0, 1) := dk_42 (dk_at dksX5_fits_1 23 rfl rfl)
theorem dX5_fits_48 : decode cX5_fits 48 = .ok (.iload_n 1, 1) := dk_27 (dk_at dksX5_fits_2 0 rfl rfl)
theorem dX5_fits_49 : decode cX5_fits 49 = .ok (.iload_n 3, 1) := dk_29 (dk_at dksX5_fits_2 1 rfl rfl)
theorem dX5_fits_50 : decode cX5_fits 50 = .ok (.invokevirtual 150, 3) := dk_182 0 150 (dk_at dksX5_fits_2 2 rfl rfl)
theorem dX5_fits_53 : decode cX5_fits 53 = .ok (.if_icmp .ge 8, 3) := dk_162 0 8 (dk_at dksX5_fits_2 5 rfl rfl)
theorem dX5_fits_56 : decode cX5_fits 56 = .ok (.iload 4, 2) := dk_21 4 (dk_at dksX5_fits_2 8 rfl rfl)
theorem dX5_fits_58 : decode cX5_fits 58 = .ok (.goto 4, 3) := dk_167 0 4 (dk_at dksX5_fits_2 10 rfl rfl)
theorem dX5_fits_61 : decode cX5_fits 61 = .ok (.iload_n 3, 1) := dk_29 (dk_at dksX5_fits_2 13 rfl rfl)
theorem dX5_fits_62 : decode cX5_fits 62 = .ok (.istore_n 3, 1) := dk_62 (dk_at dksX5_fits_2 14 rfl rfl)
theorem dX5_fits_63 : decode cX5_fits 63 = .ok (.iinc 4 1, 3) := dk_132 4 1 (dk_at dksX5_fits_2 15 rfl rfl)
theorem dX5_fits_66 : decode cX5_fits 66 = .ok (.goto (-40), 3) := dk_167 255 216 (dk_at dksX5_fits_2 18 rfl rfl)
theorem dX5_fits_69 : decode cX5_fits 69 = .ok (.iload_n 2, 1) := dk_28 (dk_at dksX5_fits_2 21 rfl rfl)
theorem dX5_fits_70 : decode cX5_fits 70 = .ok (.ifCond .ne 7, 3) := dk_154 0 7 (dk_at dksX5_fits_3 0 rfl rfl)
theorem dX5_fits_73 : decode cX5_fits 73 = .ok (.iload_n 3, 1) := dk_29 (dk_at dksX5_fits_3 3 rfl rfl)
theorem dX5_fits_74 : decode cX5_fits 74 = .ok (.goto 9, 3) := dk_167 0 9 (dk_at dksX5_fits_3 4 rfl rfl)
theorem dX5_fits_77 : decode cX5_fits 77 = .ok (.aload_n 0, 1) := dk_42 (dk_at dksX5_fits_3 7 rfl rfl)
theorem dX5_fits_78 : decode cX5_fits 78 = .ok (.iload_n 1, 1) := dk_27 (dk_at dksX5_fits_3 8 rfl rfl)
theorem dX5_fits_79 : decode cX5_fits 79 = .ok (.iload_n 3, 1) := dk_29 (dk_at dksX5_fits_3 9 rfl rfl)
theorem dX5_fits_80 : decode cX5_fits 80 = .ok (.invokevirtual 150, 3) := dk_182 0 150 (dk_at dksX5_fits_3 10 rfl rfl)
theorem dX5_fits_83 : decode cX5_fits 83 = .ok (.ireturn, 1) := dk_172 (dk_at dksX5_fits_3 13 rfl rfl)
abbrev cX5_join : ByteArray := prog_18_method_38_code
def yX5_join : MethodName := ⟨RX5, "join", "(III)I"⟩
def dkwX5_join_4 : List UInt8 := [28, 21, 4, 182, 0, 153, 172]
abbrev dktX5_join_4 : List UInt8 := dkwX5_join_4 ++ []
def dkwX5_join_3 : List UInt8 := [167, 0, 5, 21, 4, 54, 4, 132, 5, 1, 167, 255, 214, 29, 154, 0, 8, 21, 4, 167, 0, 11, 42, 27]
abbrev dktX5_join_3 : List UInt8 := dkwX5_join_3 ++ dktX5_join_4
def dkwX5_join_2 : List UInt8 := [162, 0, 37, 42, 27, 28, 21, 5, 182, 0, 153, 42, 27, 28, 21, 4, 182, 0, 153, 164, 0, 8, 21, 5]
abbrev dktX5_join_2 : List UInt8 := dkwX5_join_2 ++ dktX5_join_3
def dkwX5_join_1 : List UInt8 := [10, 184, 0, 68, 154, 0, 6, 18, 83, 172, 3, 54, 4, 4, 54, 5, 21, 5, 42, 27, 5, 182, 0, 88]
abbrev dktX5_join_1 : List UInt8 := dkwX5_join_1 ++ dktX5_join_2
def dkwX5_join_0 : List UInt8 := [42, 27, 182, 0, 109, 153, 0, 26, 42, 28, 182, 0, 109, 153, 0, 18, 27, 28, 159, 0, 13, 29, 133, 9]
abbrev dktX5_join_0 : List UInt8 := dkwX5_join_0 ++ dktX5_join_1
theorem dksX5_join_0 : cX5_join.data.toList.drop 0 = dktX5_join_0 := by decide +kernel
theorem dksX5_join_1 : cX5_join.data.toList.drop 24 = dktX5_join_1 := dk_seg dksX5_join_0 24 rfl rfl
theorem dksX5_join_2 : cX5_join.data.toList.drop 48 = dktX5_join_2 := dk_seg dksX5_join_1 24 rfl rfl
theorem dksX5_join_3 : cX5_join.data.toList.drop 72 = dktX5_join_3 := dk_seg dksX5_join_2 24 rfl rfl
theorem dksX5_join_4 : cX5_join.data.toList.drop 96 = dktX5_join_4 := dk_seg dksX5_join_3 24 rfl rfl
theorem dX5_join_0 : decode cX5_join 0 = .ok (.aload_n 0, 1) := dk_42 (dk_at dksX5_join_0 0 rfl rfl)
theorem dX5_join_1 : decode cX5_join 1 = .ok (.iload_n 1, 1) := dk_27 (dk_at dksX5_join_0 1 rfl rfl)
theorem dX5_join_2 : decode cX5_join 2 = .ok (.invokevirtual 109, 3) := dk_182 0 109 (dk_at dksX5_join_0 2 rfl rfl)
theorem dX5_join_5 : decode cX5_join 5 = .ok (.ifCond .eq 26, 3) := dk_153 0 26 (dk_at dksX5_join_0 5 rfl rfl)
theorem dX5_join_8 : decode cX5_join 8 = .ok (.aload_n 0, 1) := dk_42 (dk_at dksX5_join_0 8 rfl rfl)
theorem dX5_join_9 : decode cX5_join 9 = .ok (.iload_n 2, 1) := dk_28 (dk_at dksX5_join_0 9 rfl rfl)
theorem dX5_join_10 : decode cX5_join 10 = .ok (.invokevirtual 109, 3) := dk_182 0 109 (dk_at dksX5_join_0 10 rfl rfl)
theorem dX5_join_13 : decode cX5_join 13 = .ok (.ifCond .eq 18, 3) := dk_153 0 18 (dk_at dksX5_join_0 13 rfl rfl)
theorem dX5_join_16 : decode cX5_join 16 = .ok (.iload_n 1, 1) := dk_27 (dk_at dksX5_join_0 16 rfl rfl)
theorem dX5_join_17 : decode cX5_join 17 = .ok (.iload_n 2, 1) := dk_28 (dk_at dksX5_join_0 17 rfl rfl)
theorem dX5_join_18 : decode cX5_join 18 = .ok (.if_icmp .eq 13, 3) := dk_159 0 13 (dk_at dksX5_join_0 18 rfl rfl)
theorem dX5_join_21 : decode cX5_join 21 = .ok (.iload_n 3, 1) := dk_29 (dk_at dksX5_join_0 21 rfl rfl)
theorem dX5_join_22 : decode cX5_join 22 = .ok (.i2l, 1) := dk_133 (dk_at dksX5_join_0 22 rfl rfl)
theorem dX5_join_23 : decode cX5_join 23 = .ok (.lconst 0, 1) := dk_9 (dk_at dksX5_join_0 23 rfl rfl)
theorem dX5_join_24 : decode cX5_join 24 = .ok (.lconst 1, 1) := dk_10 (dk_at dksX5_join_1 0 rfl rfl)
theorem dX5_join_25 : decode cX5_join 25 = .ok (.invokestatic 68, 3) := dk_184 0 68 (dk_at dksX5_join_1 1 rfl rfl)
theorem dX5_join_28 : decode cX5_join 28 = .ok (.ifCond .ne 6, 3) := dk_154 0 6 (dk_at dksX5_join_1 4 rfl rfl)
theorem dX5_join_31 : decode cX5_join 31 = .ok (.ldc 83, 2) := dk_18 83 (dk_at dksX5_join_1 7 rfl rfl)
theorem dX5_join_33 : decode cX5_join 33 = .ok (.ireturn, 1) := dk_172 (dk_at dksX5_join_1 9 rfl rfl)
theorem dX5_join_34 : decode cX5_join 34 = .ok (.iconst 0, 1) := dk_3 (dk_at dksX5_join_1 10 rfl rfl)
theorem dX5_join_35 : decode cX5_join 35 = .ok (.istore 4, 2) := dk_54 4 (dk_at dksX5_join_1 11 rfl rfl)
theorem dX5_join_37 : decode cX5_join 37 = .ok (.iconst 1, 1) := dk_4 (dk_at dksX5_join_1 13 rfl rfl)
theorem dX5_join_38 : decode cX5_join 38 = .ok (.istore 5, 2) := dk_54 5 (dk_at dksX5_join_1 14 rfl rfl)
theorem dX5_join_40 : decode cX5_join 40 = .ok (.iload 5, 2) := dk_21 5 (dk_at dksX5_join_1 16 rfl rfl)
theorem dX5_join_42 : decode cX5_join 42 = .ok (.aload_n 0, 1) := dk_42 (dk_at dksX5_join_1 18 rfl rfl)
theorem dX5_join_43 : decode cX5_join 43 = .ok (.iload_n 1, 1) := dk_27 (dk_at dksX5_join_1 19 rfl rfl)
theorem dX5_join_44 : decode cX5_join 44 = .ok (.iconst 2, 1) := dk_5 (dk_at dksX5_join_1 20 rfl rfl)
theorem dX5_join_45 : decode cX5_join 45 = .ok (.invokevirtual 88, 3) := dk_182 0 88 (dk_at dksX5_join_1 21 rfl rfl)
theorem dX5_join_48 : decode cX5_join 48 = .ok (.if_icmp .ge 37, 3) := dk_162 0 37 (dk_at dksX5_join_2 0 rfl rfl)
theorem dX5_join_51 : decode cX5_join 51 = .ok (.aload_n 0, 1) := dk_42 (dk_at dksX5_join_2 3 rfl rfl)
theorem dX5_join_52 : decode cX5_join 52 = .ok (.iload_n 1, 1) := dk_27 (dk_at dksX5_join_2 4 rfl rfl)
theorem dX5_join_53 : decode cX5_join 53 = .ok (.iload_n 2, 1) := dk_28 (dk_at dksX5_join_2 5 rfl rfl)
theorem dX5_join_54 : decode cX5_join 54 = .ok (.iload 5, 2) := dk_21 5 (dk_at dksX5_join_2 6 rfl rfl)
theorem dX5_join_56 : decode cX5_join 56 = .ok (.invokevirtual 153, 3) := dk_182 0 153 (dk_at dksX5_join_2 8 rfl rfl)
theorem dX5_join_59 : decode cX5_join 59 = .ok (.aload_n 0, 1) := dk_42 (dk_at dksX5_join_2 11 rfl rfl)
theorem dX5_join_60 : decode cX5_join 60 = .ok (.iload_n 1, 1) := dk_27 (dk_at dksX5_join_2 12 rfl rfl)
theorem dX5_join_61 : decode cX5_join 61 = .ok (.iload_n 2, 1) := dk_28 (dk_at dksX5_join_2 13 rfl rfl)
theorem dX5_join_62 : decode cX5_join 62 = .ok (.iload 4, 2) := dk_21 4 (dk_at dksX5_join_2 14 rfl rfl)
theorem dX5_join_64 : decode cX5_join 64 = .ok (.invokevirtual 153, 3) := dk_182 0 153 (dk_at dksX5_join_2 16 rfl rfl)
theorem dX5_join_67 : decode cX5_join 67 = .ok (.if_icmp .le 8, 3) := dk_164 0 8 (dk_at dksX5_join_2 19 rfl rfl)
theorem dX5_join_70 : decode cX5_join 70 = .ok (.iload 5, 2) := dk_21 5 (dk_at dksX5_join_2 22 rfl rfl)
theorem dX5_join_72 : decode cX5_join 72 = .ok (.goto 5, 3) := dk_167 0 5 (dk_at dksX5_join_3 0 rfl rfl)
theorem dX5_join_75 : decode cX5_join 75 = .ok (.iload 4, 2) := dk_21 4 (dk_at dksX5_join_3 3 rfl rfl)
theorem dX5_join_77 : decode cX5_join 77 = .ok (.istore 4, 2) := dk_54 4 (dk_at dksX5_join_3 5 rfl rfl)
theorem dX5_join_79 : decode cX5_join 79 = .ok (.iinc 5 1, 3) := dk_132 5 1 (dk_at dksX5_join_3 7 rfl rfl)
theorem dX5_join_82 : decode cX5_join 82 = .ok (.goto (-42), 3) := dk_167 255 214 (dk_at dksX5_join_3 10 rfl rfl)
theorem dX5_join_85 : decode cX5_join 85 = .ok (.iload_n 3, 1) := dk_29 (dk_at dksX5_join_3 13 rfl rfl)
theorem dX5_join_86 : decode cX5_join 86 = .ok (.ifCond .ne 8, 3) := dk_154 0 8 (dk_at dksX5_join_3 14 rfl rfl)
theorem dX5_join_89 : decode cX5_join 89 = .ok (.iload 4, 2) := dk_21 4 (dk_at dksX5_join_3 17 rfl rfl)
theorem dX5_join_91 : decode cX5_join 91 = .ok (.goto 11, 3) := dk_167 0 11 (dk_at dksX5_join_3 19 rfl rfl)
theorem dX5_join_94 : decode cX5_join 94 = .ok (.aload_n 0, 1) := dk_42 (dk_at dksX5_join_3 22 rfl rfl)
theorem dX5_join_95 : decode cX5_join 95 = .ok (.iload_n 1, 1) := dk_27 (dk_at dksX5_join_3 23 rfl rfl)
theorem dX5_join_96 : decode cX5_join 96 = .ok (.iload_n 2, 1) := dk_28 (dk_at dksX5_join_4 0 rfl rfl)
theorem dX5_join_97 : decode cX5_join 97 = .ok (.iload 4, 2) := dk_21 4 (dk_at dksX5_join_4 1 rfl rfl)
theorem dX5_join_99 : decode cX5_join 99 = .ok (.invokevirtual 153, 3) := dk_182 0 153 (dk_at dksX5_join_4 3 rfl rfl)
theorem dX5_join_102 : decode cX5_join 102 = .ok (.ireturn, 1) := dk_172 (dk_at dksX5_join_4 6 rfl rfl)
abbrev cX5_joinBy : ByteArray := prog_18_method_37_code
def yX5_joinBy : MethodName := ⟨RX5, "joinBy", "(III)I"⟩
def dkwX5_joinBy_2 : List UInt8 := [160, 0, 7, 4, 167, 0, 5, 16, 254, 96, 54, 4, 132, 5, 1, 167, 255, 199, 21, 4, 172]
abbrev dktX5_joinBy_2 : List UInt8 := dkwX5_joinBy_2 ++ []
def dkwX5_joinBy_1 : List UInt8 := [182, 0, 88, 162, 0, 39, 21, 4, 42, 27, 21, 5, 182, 0, 125, 42, 28, 21, 5, 29, 100, 182, 0, 125]
abbrev dktX5_joinBy_1 : List UInt8 := dkwX5_joinBy_1 ++ dktX5_joinBy_2
def dkwX5_joinBy_0 : List UInt8 := [3, 54, 4, 29, 54, 5, 21, 5, 42, 27, 5, 182, 0, 88, 162, 0, 52, 21, 5, 29, 100, 42, 28, 5]
abbrev dktX5_joinBy_0 : List UInt8 := dkwX5_joinBy_0 ++ dktX5_joinBy_1
theorem dksX5_joinBy_0 : cX5_joinBy.data.toList.drop 0 = dktX5_joinBy_0 := by decide +kernel
theorem dksX5_joinBy_1 : cX5_joinBy.data.toList.drop 24 = dktX5_joinBy_1 := dk_seg dksX5_joinBy_0 24 rfl rfl
theorem dksX5_joinBy_2 : cX5_joinBy.data.toList.drop 48 = dktX5_joinBy_2 := dk_seg dksX5_joinBy_1 24 rfl rfl
theorem dX5_joinBy_0 : decode cX5_joinBy 0 = .ok (.iconst 0, 1) := dk_3 (dk_at dksX5_joinBy_0 0 rfl rfl)
theorem dX5_joinBy_1 : decode cX5_joinBy 1 = .ok (.istore 4, 2) := dk_54 4 (dk_at dksX5_joinBy_0 1 rfl rfl)
theorem dX5_joinBy_3 : decode cX5_joinBy 3 = .ok (.iload_n 3, 1) := dk_29 (dk_at dksX5_joinBy_0 3 rfl rfl)
theorem dX5_joinBy_4 : decode cX5_joinBy 4 = .ok (.istore 5, 2) := dk_54 5 (dk_at dksX5_joinBy_0 4 rfl rfl)
theorem dX5_joinBy_6 : decode cX5_joinBy 6 = .ok (.iload 5, 2) := dk_21 5 (dk_at dksX5_joinBy_0 6 rfl rfl)
theorem dX5_joinBy_8 : decode cX5_joinBy 8 = .ok (.aload_n 0, 1) := dk_42 (dk_at dksX5_joinBy_0 8 rfl rfl)
theorem dX5_joinBy_9 : decode cX5_joinBy 9 = .ok (.iload_n 1, 1) := dk_27 (dk_at dksX5_joinBy_0 9 rfl rfl)
theorem dX5_joinBy_10 : decode cX5_joinBy 10 = .ok (.iconst 2, 1) := dk_5 (dk_at dksX5_joinBy_0 10 rfl rfl)
theorem dX5_joinBy_11 : decode cX5_joinBy 11 = .ok (.invokevirtual 88, 3) := dk_182 0 88 (dk_at dksX5_joinBy_0 11 rfl rfl)
theorem dX5_joinBy_14 : decode cX5_joinBy 14 = .ok (.if_icmp .ge 52, 3) := dk_162 0 52 (dk_at dksX5_joinBy_0 14 rfl rfl)
theorem dX5_joinBy_17 : decode cX5_joinBy 17 = .ok (.iload 5, 2) := dk_21 5 (dk_at dksX5_joinBy_0 17 rfl rfl)
theorem dX5_joinBy_19 : decode cX5_joinBy 19 = .ok (.iload_n 3, 1) := dk_29 (dk_at dksX5_joinBy_0 19 rfl rfl)
theorem dX5_joinBy_20 : decode cX5_joinBy 20 = .ok (.isub, 1) := dk_100 (dk_at dksX5_joinBy_0 20 rfl rfl)
theorem dX5_joinBy_21 : decode cX5_joinBy 21 = .ok (.aload_n 0, 1) := dk_42 (dk_at dksX5_joinBy_0 21 rfl rfl)
theorem dX5_joinBy_22 : decode cX5_joinBy 22 = .ok (.iload_n 2, 1) := dk_28 (dk_at dksX5_joinBy_0 22 rfl rfl)
theorem dX5_joinBy_23 : decode cX5_joinBy 23 = .ok (.iconst 2, 1) := dk_5 (dk_at dksX5_joinBy_0 23 rfl rfl)
theorem dX5_joinBy_24 : decode cX5_joinBy 24 = .ok (.invokevirtual 88, 3) := dk_182 0 88 (dk_at dksX5_joinBy_1 0 rfl rfl)
theorem dX5_joinBy_27 : decode cX5_joinBy 27 = .ok (.if_icmp .ge 39, 3) := dk_162 0 39 (dk_at dksX5_joinBy_1 3 rfl rfl)
theorem dX5_joinBy_30 : decode cX5_joinBy 30 = .ok (.iload 4, 2) := dk_21 4 (dk_at dksX5_joinBy_1 6 rfl rfl)
theorem dX5_joinBy_32 : decode cX5_joinBy 32 = .ok (.aload_n 0, 1) := dk_42 (dk_at dksX5_joinBy_1 8 rfl rfl)
theorem dX5_joinBy_33 : decode cX5_joinBy 33 = .ok (.iload_n 1, 1) := dk_27 (dk_at dksX5_joinBy_1 9 rfl rfl)
theorem dX5_joinBy_34 : decode cX5_joinBy 34 = .ok (.iload 5, 2) := dk_21 5 (dk_at dksX5_joinBy_1 10 rfl rfl)
theorem dX5_joinBy_36 : decode cX5_joinBy 36 = .ok (.invokevirtual 125, 3) := dk_182 0 125 (dk_at dksX5_joinBy_1 12 rfl rfl)
theorem dX5_joinBy_39 : decode cX5_joinBy 39 = .ok (.aload_n 0, 1) := dk_42 (dk_at dksX5_joinBy_1 15 rfl rfl)
theorem dX5_joinBy_40 : decode cX5_joinBy 40 = .ok (.iload_n 2, 1) := dk_28 (dk_at dksX5_joinBy_1 16 rfl rfl)
theorem dX5_joinBy_41 : decode cX5_joinBy 41 = .ok (.iload 5, 2) := dk_21 5 (dk_at dksX5_joinBy_1 17 rfl rfl)
theorem dX5_joinBy_43 : decode cX5_joinBy 43 = .ok (.iload_n 3, 1) := dk_29 (dk_at dksX5_joinBy_1 19 rfl rfl)
theorem dX5_joinBy_44 : decode cX5_joinBy 44 = .ok (.isub, 1) := dk_100 (dk_at dksX5_joinBy_1 20 rfl rfl)
theorem dX5_joinBy_45 : decode cX5_joinBy 45 = .ok (.invokevirtual 125, 3) := dk_182 0 125 (dk_at dksX5_joinBy_1 21 rfl rfl)
theorem dX5_joinBy_48 : decode cX5_joinBy 48 = .ok (.if_icmp .ne 7, 3) := dk_160 0 7 (dk_at dksX5_joinBy_2 0 rfl rfl)
theorem dX5_joinBy_51 : decode cX5_joinBy 51 = .ok (.iconst 1, 1) := dk_4 (dk_at dksX5_joinBy_2 3 rfl rfl)
theorem dX5_joinBy_52 : decode cX5_joinBy 52 = .ok (.goto 5, 3) := dk_167 0 5 (dk_at dksX5_joinBy_2 4 rfl rfl)
theorem dX5_joinBy_55 : decode cX5_joinBy 55 = .ok (.bipush (-2), 2) := dk_16 254 (dk_at dksX5_joinBy_2 7 rfl rfl)
theorem dX5_joinBy_57 : decode cX5_joinBy 57 = .ok (.iadd, 1) := dk_96 (dk_at dksX5_joinBy_2 9 rfl rfl)
theorem dX5_joinBy_58 : decode cX5_joinBy 58 = .ok (.istore 4, 2) := dk_54 4 (dk_at dksX5_joinBy_2 10 rfl rfl)
theorem dX5_joinBy_60 : decode cX5_joinBy 60 = .ok (.iinc 5 1, 3) := dk_132 5 1 (dk_at dksX5_joinBy_2 12 rfl rfl)
theorem dX5_joinBy_63 : decode cX5_joinBy 63 = .ok (.goto (-57), 3) := dk_167 255 199 (dk_at dksX5_joinBy_2 15 rfl rfl)
theorem dX5_joinBy_66 : decode cX5_joinBy 66 = .ok (.iload 4, 2) := dk_21 4 (dk_at dksX5_joinBy_2 18 rfl rfl)
theorem dX5_joinBy_68 : decode cX5_joinBy 68 = .ok (.ireturn, 1) := dk_172 (dk_at dksX5_joinBy_2 20 rfl rfl)
abbrev cX5_clash : ByteArray := prog_18_method_40_code
def yX5_clash : MethodName := ⟨RX5, "clash", "(II)I"⟩
def dkwX5_clash_1 : List UInt8 := [42, 27, 28, 182, 0, 157, 153, 0, 7, 4, 167, 0, 4, 3, 172]
abbrev dktX5_clash_1 : List UInt8 := dkwX5_clash_1 ++ []
def dkwX5_clash_0 : List UInt8 := [42, 27, 182, 0, 109, 153, 0, 16, 42, 28, 182, 0, 109, 153, 0, 8, 27, 28, 160, 0, 6, 18, 83, 172]
abbrev dktX5_clash_0 : List UInt8 := dkwX5_clash_0 ++ dktX5_clash_1
theorem dksX5_clash_0 : cX5_clash.data.toList.drop 0 = dktX5_clash_0 := by decide +kernel
theorem dksX5_clash_1 : cX5_clash.data.toList.drop 24 = dktX5_clash_1 := dk_seg dksX5_clash_0 24 rfl rfl
theorem dX5_clash_0 : decode cX5_clash 0 = .ok (.aload_n 0, 1) := dk_42 (dk_at dksX5_clash_0 0 rfl rfl)
theorem dX5_clash_1 : decode cX5_clash 1 = .ok (.iload_n 1, 1) := dk_27 (dk_at dksX5_clash_0 1 rfl rfl)
theorem dX5_clash_2 : decode cX5_clash 2 = .ok (.invokevirtual 109, 3) := dk_182 0 109 (dk_at dksX5_clash_0 2 rfl rfl)
theorem dX5_clash_5 : decode cX5_clash 5 = .ok (.ifCond .eq 16, 3) := dk_153 0 16 (dk_at dksX5_clash_0 5 rfl rfl)
theorem dX5_clash_8 : decode cX5_clash 8 = .ok (.aload_n 0, 1) := dk_42 (dk_at dksX5_clash_0 8 rfl rfl)
theorem dX5_clash_9 : decode cX5_clash 9 = .ok (.iload_n 2, 1) := dk_28 (dk_at dksX5_clash_0 9 rfl rfl)
theorem dX5_clash_10 : decode cX5_clash 10 = .ok (.invokevirtual 109, 3) := dk_182 0 109 (dk_at dksX5_clash_0 10 rfl rfl)
theorem dX5_clash_13 : decode cX5_clash 13 = .ok (.ifCond .eq 8, 3) := dk_153 0 8 (dk_at dksX5_clash_0 13 rfl rfl)
theorem dX5_clash_16 : decode cX5_clash 16 = .ok (.iload_n 1, 1) := dk_27 (dk_at dksX5_clash_0 16 rfl rfl)
theorem dX5_clash_17 : decode cX5_clash 17 = .ok (.iload_n 2, 1) := dk_28 (dk_at dksX5_clash_0 17 rfl rfl)
theorem dX5_clash_18 : decode cX5_clash 18 = .ok (.if_icmp .ne 6, 3) := dk_160 0 6 (dk_at dksX5_clash_0 18 rfl rfl)
theorem dX5_clash_21 : decode cX5_clash 21 = .ok (.ldc 83, 2) := dk_18 83 (dk_at dksX5_clash_0 21 rfl rfl)
theorem dX5_clash_23 : decode cX5_clash 23 = .ok (.ireturn, 1) := dk_172 (dk_at dksX5_clash_0 23 rfl rfl)
theorem dX5_clash_24 : decode cX5_clash 24 = .ok (.aload_n 0, 1) := dk_42 (dk_at dksX5_clash_1 0 rfl rfl)
theorem dX5_clash_25 : decode cX5_clash 25 = .ok (.iload_n 1, 1) := dk_27 (dk_at dksX5_clash_1 1 rfl rfl)
theorem dX5_clash_26 : decode cX5_clash 26 = .ok (.iload_n 2, 1) := dk_28 (dk_at dksX5_clash_1 2 rfl rfl)
theorem dX5_clash_27 : decode cX5_clash 27 = .ok (.invokevirtual 157, 3) := dk_182 0 157 (dk_at dksX5_clash_1 3 rfl rfl)
theorem dX5_clash_30 : decode cX5_clash 30 = .ok (.ifCond .eq 7, 3) := dk_153 0 7 (dk_at dksX5_clash_1 6 rfl rfl)
theorem dX5_clash_33 : decode cX5_clash 33 = .ok (.iconst 1, 1) := dk_4 (dk_at dksX5_clash_1 9 rfl rfl)
theorem dX5_clash_34 : decode cX5_clash 34 = .ok (.goto 4, 3) := dk_167 0 4 (dk_at dksX5_clash_1 10 rfl rfl)
theorem dX5_clash_37 : decode cX5_clash 37 = .ok (.iconst 0, 1) := dk_3 (dk_at dksX5_clash_1 13 rfl rfl)
theorem dX5_clash_38 : decode cX5_clash 38 = .ok (.ireturn, 1) := dk_172 (dk_at dksX5_clash_1 14 rfl rfl)
abbrev cX5_doClash : ByteArray := prog_18_method_39_code
def yX5_doClash : MethodName := ⟨RX5, "doClash", "(II)Z"⟩
def dkwX5_doClash_3 : List UInt8 := [3, 172]
abbrev dktX5_doClash_3 : List UInt8 := dkwX5_doClash_3 ++ []
def dkwX5_doClash_2 : List UInt8 := [28, 21, 4, 42, 28, 7, 182, 0, 88, 100, 182, 0, 125, 159, 0, 5, 4, 172, 132, 4, 1, 167, 255, 203]
abbrev dktX5_doClash_2 : List UInt8 := dkwX5_doClash_2 ++ dktX5_doClash_3
def dkwX5_doClash_1 : List UInt8 := [21, 4, 122, 4, 126, 4, 160, 0, 36, 42, 27, 21, 4, 42, 27, 7, 182, 0, 88, 100, 182, 0, 125, 42]
abbrev dktX5_doClash_1 : List UInt8 := dkwX5_doClash_1 ++ dktX5_doClash_2
def dkwX5_doClash_0 : List UInt8 := [42, 27, 182, 0, 113, 42, 28, 182, 0, 113, 126, 62, 3, 54, 4, 21, 4, 16, 16, 162, 0, 52, 29]
abbrev dktX5_doClash_0 : List UInt8 := dkwX5_doClash_0 ++ dktX5_doClash_1
theorem dksX5_doClash_0 : cX5_doClash.data.toList.drop 0 = dktX5_doClash_0 := by decide +kernel
theorem dksX5_doClash_1 : cX5_doClash.data.toList.drop 23 = dktX5_doClash_1 := dk_seg dksX5_doClash_0 23 rfl rfl
theorem dksX5_doClash_2 : cX5_doClash.data.toList.drop 47 = dktX5_doClash_2 := dk_seg dksX5_doClash_1 24 rfl rfl
theorem dksX5_doClash_3 : cX5_doClash.data.toList.drop 71 = dktX5_doClash_3 := dk_seg dksX5_doClash_2 24 rfl rfl
theorem dX5_doClash_0 : decode cX5_doClash 0 = .ok (.aload_n 0, 1) := dk_42 (dk_at dksX5_doClash_0 0 rfl rfl)
theorem dX5_doClash_1 : decode cX5_doClash 1 = .ok (.iload_n 1, 1) := dk_27 (dk_at dksX5_doClash_0 1 rfl rfl)
theorem dX5_doClash_2 : decode cX5_doClash 2 = .ok (.invokevirtual 113, 3) := dk_182 0 113 (dk_at dksX5_doClash_0 2 rfl rfl)
theorem dX5_doClash_5 : decode cX5_doClash 5 = .ok (.aload_n 0, 1) := dk_42 (dk_at dksX5_doClash_0 5 rfl rfl)
theorem dX5_doClash_6 : decode cX5_doClash 6 = .ok (.iload_n 2, 1) := dk_28 (dk_at dksX5_doClash_0 6 rfl rfl)
theorem dX5_doClash_7 : decode cX5_doClash 7 = .ok (.invokevirtual 113, 3) := dk_182 0 113 (dk_at dksX5_doClash_0 7 rfl rfl)
theorem dX5_doClash_10 : decode cX5_doClash 10 = .ok (.iand, 1) := dk_126 (dk_at dksX5_doClash_0 10 rfl rfl)
theorem dX5_doClash_11 : decode cX5_doClash 11 = .ok (.istore_n 3, 1) := dk_62 (dk_at dksX5_doClash_0 11 rfl rfl)
theorem dX5_doClash_12 : decode cX5_doClash 12 = .ok (.iconst 0, 1) := dk_3 (dk_at dksX5_doClash_0 12 rfl rfl)
theorem dX5_doClash_13 : decode cX5_doClash 13 = .ok (.istore 4, 2) := dk_54 4 (dk_at dksX5_doClash_0 13 rfl rfl)
theorem dX5_doClash_15 : decode cX5_doClash 15 = .ok (.iload 4, 2) := dk_21 4 (dk_at dksX5_doClash_0 15 rfl rfl)
theorem dX5_doClash_17 : decode cX5_doClash 17 = .ok (.bipush 16, 2) := dk_16 16 (dk_at dksX5_doClash_0 17 rfl rfl)
theorem dX5_doClash_19 : decode cX5_doClash 19 = .ok (.if_icmp .ge 52, 3) := dk_162 0 52 (dk_at dksX5_doClash_0 19 rfl rfl)
theorem dX5_doClash_22 : decode cX5_doClash 22 = .ok (.iload_n 3, 1) := dk_29 (dk_at dksX5_doClash_0 22 rfl rfl)
theorem dX5_doClash_23 : decode cX5_doClash 23 = .ok (.iload 4, 2) := dk_21 4 (dk_at dksX5_doClash_1 0 rfl rfl)
theorem dX5_doClash_25 : decode cX5_doClash 25 = .ok (.ishr, 1) := dk_122 (dk_at dksX5_doClash_1 2 rfl rfl)
theorem dX5_doClash_26 : decode cX5_doClash 26 = .ok (.iconst 1, 1) := dk_4 (dk_at dksX5_doClash_1 3 rfl rfl)
theorem dX5_doClash_27 : decode cX5_doClash 27 = .ok (.iand, 1) := dk_126 (dk_at dksX5_doClash_1 4 rfl rfl)
theorem dX5_doClash_28 : decode cX5_doClash 28 = .ok (.iconst 1, 1) := dk_4 (dk_at dksX5_doClash_1 5 rfl rfl)
theorem dX5_doClash_29 : decode cX5_doClash 29 = .ok (.if_icmp .ne 36, 3) := dk_160 0 36 (dk_at dksX5_doClash_1 6 rfl rfl)
theorem dX5_doClash_32 : decode cX5_doClash 32 = .ok (.aload_n 0, 1) := dk_42 (dk_at dksX5_doClash_1 9 rfl rfl)
theorem dX5_doClash_33 : decode cX5_doClash 33 = .ok (.iload_n 1, 1) := dk_27 (dk_at dksX5_doClash_1 10 rfl rfl)
theorem dX5_doClash_34 : decode cX5_doClash 34 = .ok (.iload 4, 2) := dk_21 4 (dk_at dksX5_doClash_1 11 rfl rfl)
theorem dX5_doClash_36 : decode cX5_doClash 36 = .ok (.aload_n 0, 1) := dk_42 (dk_at dksX5_doClash_1 13 rfl rfl)
theorem dX5_doClash_37 : decode cX5_doClash 37 = .ok (.iload_n 1, 1) := dk_27 (dk_at dksX5_doClash_1 14 rfl rfl)
theorem dX5_doClash_38 : decode cX5_doClash 38 = .ok (.iconst 4, 1) := dk_7 (dk_at dksX5_doClash_1 15 rfl rfl)
theorem dX5_doClash_39 : decode cX5_doClash 39 = .ok (.invokevirtual 88, 3) := dk_182 0 88 (dk_at dksX5_doClash_1 16 rfl rfl)
theorem dX5_doClash_42 : decode cX5_doClash 42 = .ok (.isub, 1) := dk_100 (dk_at dksX5_doClash_1 19 rfl rfl)
theorem dX5_doClash_43 : decode cX5_doClash 43 = .ok (.invokevirtual 125, 3) := dk_182 0 125 (dk_at dksX5_doClash_1 20 rfl rfl)
theorem dX5_doClash_46 : decode cX5_doClash 46 = .ok (.aload_n 0, 1) := dk_42 (dk_at dksX5_doClash_1 23 rfl rfl)
theorem dX5_doClash_47 : decode cX5_doClash 47 = .ok (.iload_n 2, 1) := dk_28 (dk_at dksX5_doClash_2 0 rfl rfl)
theorem dX5_doClash_48 : decode cX5_doClash 48 = .ok (.iload 4, 2) := dk_21 4 (dk_at dksX5_doClash_2 1 rfl rfl)
theorem dX5_doClash_50 : decode cX5_doClash 50 = .ok (.aload_n 0, 1) := dk_42 (dk_at dksX5_doClash_2 3 rfl rfl)
theorem dX5_doClash_51 : decode cX5_doClash 51 = .ok (.iload_n 2, 1) := dk_28 (dk_at dksX5_doClash_2 4 rfl rfl)
theorem dX5_doClash_52 : decode cX5_doClash 52 = .ok (.iconst 4, 1) := dk_7 (dk_at dksX5_doClash_2 5 rfl rfl)
theorem dX5_doClash_53 : decode cX5_doClash 53 = .ok (.invokevirtual 88, 3) := dk_182 0 88 (dk_at dksX5_doClash_2 6 rfl rfl)
theorem dX5_doClash_56 : decode cX5_doClash 56 = .ok (.isub, 1) := dk_100 (dk_at dksX5_doClash_2 9 rfl rfl)
theorem dX5_doClash_57 : decode cX5_doClash 57 = .ok (.invokevirtual 125, 3) := dk_182 0 125 (dk_at dksX5_doClash_2 10 rfl rfl)
theorem dX5_doClash_60 : decode cX5_doClash 60 = .ok (.if_icmp .eq 5, 3) := dk_159 0 5 (dk_at dksX5_doClash_2 13 rfl rfl)
theorem dX5_doClash_63 : decode cX5_doClash 63 = .ok (.iconst 1, 1) := dk_4 (dk_at dksX5_doClash_2 16 rfl rfl)
theorem dX5_doClash_64 : decode cX5_doClash 64 = .ok (.ireturn, 1) := dk_172 (dk_at dksX5_doClash_2 17 rfl rfl)
theorem dX5_doClash_65 : decode cX5_doClash 65 = .ok (.iinc 4 1, 3) := dk_132 4 1 (dk_at dksX5_doClash_2 18 rfl rfl)
theorem dX5_doClash_68 : decode cX5_doClash 68 = .ok (.goto (-53), 3) := dk_167 255 203 (dk_at dksX5_doClash_2 21 rfl rfl)
theorem dX5_doClash_71 : decode cX5_doClash 71 = .ok (.iconst 0, 1) := dk_3 (dk_at dksX5_doClash_3 0 rfl rfl)
theorem dX5_doClash_72 : decode cX5_doClash 72 = .ok (.ireturn, 1) := dk_172 (dk_at dksX5_doClash_3 1 rfl rfl)
abbrev cX5_undone : ByteArray := prog_18_method_45_code
def yX5_undone : MethodName := ⟨RX5, "undone", "()I"⟩
def dkwX5_undone_3 : List UInt8 := [167, 255, 200, 28, 172]
abbrev dktX5_undone_3 : List UInt8 := dkwX5_undone_3 ++ []
def dkwX5_undone_2 : List UInt8 := [153, 0, 19, 42, 27, 29, 2, 130, 126, 182, 0, 169, 153, 0, 7, 29, 167, 0, 4, 28, 61, 132, 3, 255]
abbrev dktX5_undone_2 : List UInt8 := dkwX5_undone_2 ++ dktX5_undone_3
def dkwX5_undone_1 : List UInt8 := [154, 0, 18, 29, 184, 0, 166, 28, 184, 0, 166, 163, 0, 7, 4, 167, 0, 4, 3, 54, 4, 21, 4]
abbrev dktX5_undone_1 : List UInt8 := dkwX5_undone_1 ++ dktX5_undone_2
def dkwX5_undone_0 : List UInt8 := [42, 182, 0, 160, 42, 182, 0, 163, 60, 27, 61, 27, 62, 29, 155, 0, 58, 29, 27, 2, 130, 126]
abbrev dktX5_undone_0 : List UInt8 := dkwX5_undone_0 ++ dktX5_undone_1
theorem dksX5_undone_0 : cX5_undone.data.toList.drop 0 = dktX5_undone_0 := by decide +kernel
theorem dksX5_undone_1 : cX5_undone.data.toList.drop 22 = dktX5_undone_1 := dk_seg dksX5_undone_0 22 rfl rfl
theorem dksX5_undone_2 : cX5_undone.data.toList.drop 45 = dktX5_undone_2 := dk_seg dksX5_undone_1 23 rfl rfl
theorem dksX5_undone_3 : cX5_undone.data.toList.drop 69 = dktX5_undone_3 := dk_seg dksX5_undone_2 24 rfl rfl
theorem dX5_undone_0 : decode cX5_undone 0 = .ok (.aload_n 0, 1) := dk_42 (dk_at dksX5_undone_0 0 rfl rfl)
theorem dX5_undone_1 : decode cX5_undone 1 = .ok (.invokevirtual 160, 3) := dk_182 0 160 (dk_at dksX5_undone_0 1 rfl rfl)
theorem dX5_undone_4 : decode cX5_undone 4 = .ok (.aload_n 0, 1) := dk_42 (dk_at dksX5_undone_0 4 rfl rfl)
theorem dX5_undone_5 : decode cX5_undone 5 = .ok (.invokevirtual 163, 3) := dk_182 0 163 (dk_at dksX5_undone_0 5 rfl rfl)
theorem dX5_undone_8 : decode cX5_undone 8 = .ok (.istore_n 1, 1) := dk_60 (dk_at dksX5_undone_0 8 rfl rfl)
theorem dX5_undone_9 : decode cX5_undone 9 = .ok (.iload_n 1, 1) := dk_27 (dk_at dksX5_undone_0 9 rfl rfl)
theorem dX5_undone_10 : decode cX5_undone 10 = .ok (.istore_n 2, 1) := dk_61 (dk_at dksX5_undone_0 10 rfl rfl)
theorem dX5_undone_11 : decode cX5_undone 11 = .ok (.iload_n 1, 1) := dk_27 (dk_at dksX5_undone_0 11 rfl rfl)
theorem dX5_undone_12 : decode cX5_undone 12 = .ok (.istore_n 3, 1) := dk_62 (dk_at dksX5_undone_0 12 rfl rfl)
theorem dX5_undone_13 : decode cX5_undone 13 = .ok (.iload_n 3, 1) := dk_29 (dk_at dksX5_undone_0 13 rfl rfl)
theorem dX5_undone_14 : decode cX5_undone 14 = .ok (.ifCond .lt 58, 3) := dk_155 0 58 (dk_at dksX5_undone_0 14 rfl rfl)
theorem dX5_undone_17 : decode cX5_undone 17 = .ok (.iload_n 3, 1) := dk_29 (dk_at dksX5_undone_0 17 rfl rfl)
theorem dX5_undone_18 : decode cX5_undone 18 = .ok (.iload_n 1, 1) := dk_27 (dk_at dksX5_undone_0 18 rfl rfl)
theorem dX5_undone_19 : decode cX5_undone 19 = .ok (.iconst (-1), 1) := dk_2 (dk_at dksX5_undone_0 19 rfl rfl)
theorem dX5_undone_20 : decode cX5_undone 20 = .ok (.ixor, 1) := dk_130 (dk_at dksX5_undone_0 20 rfl rfl)
theorem dX5_undone_21 : decode cX5_undone 21 = .ok (.iand, 1) := dk_126 (dk_at dksX5_undone_0 21 rfl rfl)
theorem dX5_undone_22 : decode cX5_undone 22 = .ok (.ifCond .ne 18, 3) := dk_154 0 18 (dk_at dksX5_undone_1 0 rfl rfl)
theorem dX5_undone_25 : decode cX5_undone 25 = .ok (.iload_n 3, 1) := dk_29 (dk_at dksX5_undone_1 3 rfl rfl)
theorem dX5_undone_26 : decode cX5_undone 26 = .ok (.invokestatic 166, 3) := dk_184 0 166 (dk_at dksX5_undone_1 4 rfl rfl)
theorem dX5_undone_29 : decode cX5_undone 29 = .ok (.iload_n 2, 1) := dk_28 (dk_at dksX5_undone_1 7 rfl rfl)
theorem dX5_undone_30 : decode cX5_undone 30 = .ok (.invokestatic 166, 3) := dk_184 0 166 (dk_at dksX5_undone_1 8 rfl rfl)
theorem dX5_undone_33 : decode cX5_undone 33 = .ok (.if_icmp .gt 7, 3) := dk_163 0 7 (dk_at dksX5_undone_1 11 rfl rfl)
theorem dX5_undone_36 : decode cX5_undone 36 = .ok (.iconst 1, 1) := dk_4 (dk_at dksX5_undone_1 14 rfl rfl)
theorem dX5_undone_37 : decode cX5_undone 37 = .ok (.goto 4, 3) := dk_167 0 4 (dk_at dksX5_undone_1 15 rfl rfl)
theorem dX5_undone_40 : decode cX5_undone 40 = .ok (.iconst 0, 1) := dk_3 (dk_at dksX5_undone_1 18 rfl rfl)
theorem dX5_undone_41 : decode cX5_undone 41 = .ok (.istore 4, 2) := dk_54 4 (dk_at dksX5_undone_1 19 rfl rfl)
theorem dX5_undone_43 : decode cX5_undone 43 = .ok (.iload 4, 2) := dk_21 4 (dk_at dksX5_undone_1 21 rfl rfl)
theorem dX5_undone_45 : decode cX5_undone 45 = .ok (.ifCond .eq 19, 3) := dk_153 0 19 (dk_at dksX5_undone_2 0 rfl rfl)
theorem dX5_undone_48 : decode cX5_undone 48 = .ok (.aload_n 0, 1) := dk_42 (dk_at dksX5_undone_2 3 rfl rfl)
theorem dX5_undone_49 : decode cX5_undone 49 = .ok (.iload_n 1, 1) := dk_27 (dk_at dksX5_undone_2 4 rfl rfl)
theorem dX5_undone_50 : decode cX5_undone 50 = .ok (.iload_n 3, 1) := dk_29 (dk_at dksX5_undone_2 5 rfl rfl)
theorem dX5_undone_51 : decode cX5_undone 51 = .ok (.iconst (-1), 1) := dk_2 (dk_at dksX5_undone_2 6 rfl rfl)
theorem dX5_undone_52 : decode cX5_undone 52 = .ok (.ixor, 1) := dk_130 (dk_at dksX5_undone_2 7 rfl rfl)
theorem dX5_undone_53 : decode cX5_undone 53 = .ok (.iand, 1) := dk_126 (dk_at dksX5_undone_2 8 rfl rfl)
theorem dX5_undone_54 : decode cX5_undone 54 = .ok (.invokevirtual 169, 3) := dk_182 0 169 (dk_at dksX5_undone_2 9 rfl rfl)
theorem dX5_undone_57 : decode cX5_undone 57 = .ok (.ifCond .eq 7, 3) := dk_153 0 7 (dk_at dksX5_undone_2 12 rfl rfl)
theorem dX5_undone_60 : decode cX5_undone 60 = .ok (.iload_n 3, 1) := dk_29 (dk_at dksX5_undone_2 15 rfl rfl)
theorem dX5_undone_61 : decode cX5_undone 61 = .ok (.goto 4, 3) := dk_167 0 4 (dk_at dksX5_undone_2 16 rfl rfl)
theorem dX5_undone_64 : decode cX5_undone 64 = .ok (.iload_n 2, 1) := dk_28 (dk_at dksX5_undone_2 19 rfl rfl)
theorem dX5_undone_65 : decode cX5_undone 65 = .ok (.istore_n 2, 1) := dk_61 (dk_at dksX5_undone_2 20 rfl rfl)
theorem dX5_undone_66 : decode cX5_undone 66 = .ok (.iinc 3 (-1), 3) := dk_132 3 255 (dk_at dksX5_undone_2 21 rfl rfl)
theorem dX5_undone_69 : decode cX5_undone 69 = .ok (.goto (-56), 3) := dk_167 255 200 (dk_at dksX5_undone_3 0 rfl rfl)
theorem dX5_undone_72 : decode cX5_undone 72 = .ok (.iload_n 2, 1) := dk_28 (dk_at dksX5_undone_3 3 rfl rfl)
theorem dX5_undone_73 : decode cX5_undone 73 = .ok (.ireturn, 1) := dk_172 (dk_at dksX5_undone_3 4 rfl rfl)
abbrev cX5_findClashing : ByteArray := prog_18_method_43_code
def yX5_findClashing : MethodName := ⟨RX5, "findClashing", "()V"⟩
def dkwX5_findClashing_3 : List UInt8 := [167, 255, 188, 177]
abbrev dktX5_findClashing_3 : List UInt8 := dkwX5_findClashing_3 ++ []
def dkwX5_findClashing_2 : List UInt8 := [182, 0, 157, 153, 0, 9, 4, 28, 120, 167, 0, 4, 3, 128, 79, 132, 2, 1, 167, 255, 213, 132, 1, 1]
abbrev dktX5_findClashing_2 : List UInt8 := dkwX5_findClashing_2 ++ dktX5_findClashing_3
def dkwX5_findClashing_1 : List UInt8 := [180, 0, 7, 3, 46, 162, 0, 39, 42, 180, 0, 43, 27, 92, 46, 28, 27, 159, 0, 18, 42, 27, 28]
abbrev dktX5_findClashing_1 : List UInt8 := dkwX5_findClashing_1 ++ dktX5_findClashing_2
def dkwX5_findClashing_0 : List UInt8 := [3, 60, 27, 42, 180, 0, 7, 3, 46, 162, 0, 64, 42, 180, 0, 43, 27, 3, 79, 3, 61, 28, 42]
abbrev dktX5_findClashing_0 : List UInt8 := dkwX5_findClashing_0 ++ dktX5_findClashing_1
theorem dksX5_findClashing_0 : cX5_findClashing.data.toList.drop 0 = dktX5_findClashing_0 := by decide +kernel
theorem dksX5_findClashing_1 : cX5_findClashing.data.toList.drop 23 = dktX5_findClashing_1 := dk_seg dksX5_findClashing_0 23 rfl rfl
theorem dksX5_findClashing_2 : cX5_findClashing.data.toList.drop 46 = dktX5_findClashing_2 := dk_seg dksX5_findClashing_1 23 rfl rfl
theorem dksX5_findClashing_3 : cX5_findClashing.data.toList.drop 70 = dktX5_findClashing_3 := dk_seg dksX5_findClashing_2 24 rfl rfl
theorem dX5_findClashing_0 : decode cX5_findClashing 0 = .ok (.iconst 0, 1) := dk_3 (dk_at dksX5_findClashing_0 0 rfl rfl)
theorem dX5_findClashing_1 : decode cX5_findClashing 1 = .ok (.istore_n 1, 1) := dk_60 (dk_at dksX5_findClashing_0 1 rfl rfl)
theorem dX5_findClashing_2 : decode cX5_findClashing 2 = .ok (.iload_n 1, 1) := dk_27 (dk_at dksX5_findClashing_0 2 rfl rfl)
theorem dX5_findClashing_3 : decode cX5_findClashing 3 = .ok (.aload_n 0, 1) := dk_42 (dk_at dksX5_findClashing_0 3 rfl rfl)
theorem dX5_findClashing_4 : decode cX5_findClashing 4 = .ok (.getfield 7, 3) := dk_180 0 7 (dk_at dksX5_findClashing_0 4 rfl rfl)
theorem dX5_findClashing_7 : decode cX5_findClashing 7 = .ok (.iconst 0, 1) := dk_3 (dk_at dksX5_findClashing_0 7 rfl rfl)
theorem dX5_findClashing_8 : decode cX5_findClashing 8 = .ok (.iaload, 1) := dk_46 (dk_at dksX5_findClashing_0 8 rfl rfl)
theorem dX5_findClashing_9 : decode cX5_findClashing 9 = .ok (.if_icmp .ge 64, 3) := dk_162 0 64 (dk_at dksX5_findClashing_0 9 rfl rfl)
theorem dX5_findClashing_12 : decode cX5_findClashing 12 = .ok (.aload_n 0, 1) := dk_42 (dk_at dksX5_findClashing_0 12 rfl rfl)
theorem dX5_findClashing_13 : decode cX5_findClashing 13 = .ok (.getfield 43, 3) := dk_180 0 43 (dk_at dksX5_findClashing_0 13 rfl rfl)
theorem dX5_findClashing_16 : decode cX5_findClashing 16 = .ok (.iload_n 1, 1) := dk_27 (dk_at dksX5_findClashing_0 16 rfl rfl)
theorem dX5_findClashing_17 : decode cX5_findClashing 17 = .ok (.iconst 0, 1) := dk_3 (dk_at dksX5_findClashing_0 17 rfl rfl)
theorem dX5_findClashing_18 : decode cX5_findClashing 18 = .ok (.iastore, 1) := dk_79 (dk_at dksX5_findClashing_0 18 rfl rfl)
theorem dX5_findClashing_19 : decode cX5_findClashing 19 = .ok (.iconst 0, 1) := dk_3 (dk_at dksX5_findClashing_0 19 rfl rfl)
theorem dX5_findClashing_20 : decode cX5_findClashing 20 = .ok (.istore_n 2, 1) := dk_61 (dk_at dksX5_findClashing_0 20 rfl rfl)
theorem dX5_findClashing_21 : decode cX5_findClashing 21 = .ok (.iload_n 2, 1) := dk_28 (dk_at dksX5_findClashing_0 21 rfl rfl)
theorem dX5_findClashing_22 : decode cX5_findClashing 22 = .ok (.aload_n 0, 1) := dk_42 (dk_at dksX5_findClashing_0 22 rfl rfl)
theorem dX5_findClashing_23 : decode cX5_findClashing 23 = .ok (.getfield 7, 3) := dk_180 0 7 (dk_at dksX5_findClashing_1 0 rfl rfl)
theorem dX5_findClashing_26 : decode cX5_findClashing 26 = .ok (.iconst 0, 1) := dk_3 (dk_at dksX5_findClashing_1 3 rfl rfl)
theorem dX5_findClashing_27 : decode cX5_findClashing 27 = .ok (.iaload, 1) := dk_46 (dk_at dksX5_findClashing_1 4 rfl rfl)
theorem dX5_findClashing_28 : decode cX5_findClashing 28 = .ok (.if_icmp .ge 39, 3) := dk_162 0 39 (dk_at dksX5_findClashing_1 5 rfl rfl)
theorem dX5_findClashing_31 : decode cX5_findClashing 31 = .ok (.aload_n 0, 1) := dk_42 (dk_at dksX5_findClashing_1 8 rfl rfl)
theorem dX5_findClashing_32 : decode cX5_findClashing 32 = .ok (.getfield 43, 3) := dk_180 0 43 (dk_at dksX5_findClashing_1 9 rfl rfl)
theorem dX5_findClashing_35 : decode cX5_findClashing 35 = .ok (.iload_n 1, 1) := dk_27 (dk_at dksX5_findClashing_1 12 rfl rfl)
theorem dX5_findClashing_36 : decode cX5_findClashing 36 = .ok (.dup2, 1) := dk_92 (dk_at dksX5_findClashing_1 13 rfl rfl)
theorem dX5_findClashing_37 : decode cX5_findClashing 37 = .ok (.iaload, 1) := dk_46 (dk_at dksX5_findClashing_1 14 rfl rfl)
theorem dX5_findClashing_38 : decode cX5_findClashing 38 = .ok (.iload_n 2, 1) := dk_28 (dk_at dksX5_findClashing_1 15 rfl rfl)
theorem dX5_findClashing_39 : decode cX5_findClashing 39 = .ok (.iload_n 1, 1) := dk_27 (dk_at dksX5_findClashing_1 16 rfl rfl)
theorem dX5_findClashing_40 : decode cX5_findClashing 40 = .ok (.if_icmp .eq 18, 3) := dk_159 0 18 (dk_at dksX5_findClashing_1 17 rfl rfl)
theorem dX5_findClashing_43 : decode cX5_findClashing 43 = .ok (.aload_n 0, 1) := dk_42 (dk_at dksX5_findClashing_1 20 rfl rfl)
theorem dX5_findClashing_44 : decode cX5_findClashing 44 = .ok (.iload_n 1, 1) := dk_27 (dk_at dksX5_findClashing_1 21 rfl rfl)
theorem dX5_findClashing_45 : decode cX5_findClashing 45 = .ok (.iload_n 2, 1) := dk_28 (dk_at dksX5_findClashing_1 22 rfl rfl)
theorem dX5_findClashing_46 : decode cX5_findClashing 46 = .ok (.invokevirtual 157, 3) := dk_182 0 157 (dk_at dksX5_findClashing_2 0 rfl rfl)
theorem dX5_findClashing_49 : decode cX5_findClashing 49 = .ok (.ifCond .eq 9, 3) := dk_153 0 9 (dk_at dksX5_findClashing_2 3 rfl rfl)
theorem dX5_findClashing_52 : decode cX5_findClashing 52 = .ok (.iconst 1, 1) := dk_4 (dk_at dksX5_findClashing_2 6 rfl rfl)
theorem dX5_findClashing_53 : decode cX5_findClashing 53 = .ok (.iload_n 2, 1) := dk_28 (dk_at dksX5_findClashing_2 7 rfl rfl)
theorem dX5_findClashing_54 : decode cX5_findClashing 54 = .ok (.ishl, 1) := dk_120 (dk_at dksX5_findClashing_2 8 rfl rfl)
theorem dX5_findClashing_55 : decode cX5_findClashing 55 = .ok (.goto 4, 3) := dk_167 0 4 (dk_at dksX5_findClashing_2 9 rfl rfl)
theorem dX5_findClashing_58 : decode cX5_findClashing 58 = .ok (.iconst 0, 1) := dk_3 (dk_at dksX5_findClashing_2 12 rfl rfl)
theorem dX5_findClashing_59 : decode cX5_findClashing 59 = .ok (.ior, 1) := dk_128 (dk_at dksX5_findClashing_2 13 rfl rfl)
theorem dX5_findClashing_60 : decode cX5_findClashing 60 = .ok (.iastore, 1) := dk_79 (dk_at dksX5_findClashing_2 14 rfl rfl)
theorem dX5_findClashing_61 : decode cX5_findClashing 61 = .ok (.iinc 2 1, 3) := dk_132 2 1 (dk_at dksX5_findClashing_2 15 rfl rfl)
theorem dX5_findClashing_64 : decode cX5_findClashing 64 = .ok (.goto (-43), 3) := dk_167 255 213 (dk_at dksX5_findClashing_2 18 rfl rfl)
theorem dX5_findClashing_67 : decode cX5_findClashing 67 = .ok (.iinc 1 1, 3) := dk_132 1 1 (dk_at dksX5_findClashing_2 21 rfl rfl)
theorem dX5_findClashing_70 : decode cX5_findClashing 70 = .ok (.goto (-68), 3) := dk_167 255 188 (dk_at dksX5_findClashing_3 0 rfl rfl)
theorem dX5_findClashing_73 : decode cX5_findClashing 73 = .ok (.return_, 1) := dk_177 (dk_at dksX5_findClashing_3 3 rfl rfl)
abbrev cX5_laidOnes : ByteArray := prog_18_method_41_code
def yX5_laidOnes : MethodName := ⟨RX5, "laidOnes", "()I"⟩
def dkwX5_laidOnes_1 : List UInt8 := [162, 0, 9, 4, 28, 120, 167, 0, 4, 3, 128, 60, 132, 2, 1, 167, 255, 222, 27, 172]
abbrev dktX5_laidOnes_1 : List UInt8 := dkwX5_laidOnes_1 ++ []
def dkwX5_laidOnes_0 : List UInt8 := [3, 60, 3, 61, 28, 42, 180, 0, 7, 3, 46, 162, 0, 30, 27, 42, 28, 7, 182, 0, 88, 16, 16]
abbrev dktX5_laidOnes_0 : List UInt8 := dkwX5_laidOnes_0 ++ dktX5_laidOnes_1
theorem dksX5_laidOnes_0 : cX5_laidOnes.data.toList.drop 0 = dktX5_laidOnes_0 := by decide +kernel
theorem dksX5_laidOnes_1 : cX5_laidOnes.data.toList.drop 23 = dktX5_laidOnes_1 := dk_seg dksX5_laidOnes_0 23 rfl rfl
theorem dX5_laidOnes_0 : decode cX5_laidOnes 0 = .ok (.iconst 0, 1) := dk_3 (dk_at dksX5_laidOnes_0 0 rfl rfl)
theorem dX5_laidOnes_1 : decode cX5_laidOnes 1 = .ok (.istore_n 1, 1) := dk_60 (dk_at dksX5_laidOnes_0 1 rfl rfl)
theorem dX5_laidOnes_2 : decode cX5_laidOnes 2 = .ok (.iconst 0, 1) := dk_3 (dk_at dksX5_laidOnes_0 2 rfl rfl)
theorem dX5_laidOnes_3 : decode cX5_laidOnes 3 = .ok (.istore_n 2, 1) := dk_61 (dk_at dksX5_laidOnes_0 3 rfl rfl)
theorem dX5_laidOnes_4 : decode cX5_laidOnes 4 = .ok (.iload_n 2, 1) := dk_28 (dk_at dksX5_laidOnes_0 4 rfl rfl)
theorem dX5_laidOnes_5 : decode cX5_laidOnes 5 = .ok (.aload_n 0, 1) := dk_42 (dk_at dksX5_laidOnes_0 5 rfl rfl)
theorem dX5_laidOnes_6 : decode cX5_laidOnes 6 = .ok (.getfield 7, 3) := dk_180 0 7 (dk_at dksX5_laidOnes_0 6 rfl rfl)
theorem dX5_laidOnes_9 : decode cX5_laidOnes 9 = .ok (.iconst 0, 1) := dk_3 (dk_at dksX5_laidOnes_0 9 rfl rfl)
theorem dX5_laidOnes_10 : decode cX5_laidOnes 10 = .ok (.iaload, 1) := dk_46 (dk_at dksX5_laidOnes_0 10 rfl rfl)
theorem dX5_laidOnes_11 : decode cX5_laidOnes 11 = .ok (.if_icmp .ge 30, 3) := dk_162 0 30 (dk_at dksX5_laidOnes_0 11 rfl rfl)
theorem dX5_laidOnes_14 : decode cX5_laidOnes 14 = .ok (.iload_n 1, 1) := dk_27 (dk_at dksX5_laidOnes_0 14 rfl rfl)
theorem dX5_laidOnes_15 : decode cX5_laidOnes 15 = .ok (.aload_n 0, 1) := dk_42 (dk_at dksX5_laidOnes_0 15 rfl rfl)
theorem dX5_laidOnes_16 : decode cX5_laidOnes 16 = .ok (.iload_n 2, 1) := dk_28 (dk_at dksX5_laidOnes_0 16 rfl rfl)
theorem dX5_laidOnes_17 : decode cX5_laidOnes 17 = .ok (.iconst 4, 1) := dk_7 (dk_at dksX5_laidOnes_0 17 rfl rfl)
theorem dX5_laidOnes_18 : decode cX5_laidOnes 18 = .ok (.invokevirtual 88, 3) := dk_182 0 88 (dk_at dksX5_laidOnes_0 18 rfl rfl)
theorem dX5_laidOnes_21 : decode cX5_laidOnes 21 = .ok (.bipush 16, 2) := dk_16 16 (dk_at dksX5_laidOnes_0 21 rfl rfl)
theorem dX5_laidOnes_23 : decode cX5_laidOnes 23 = .ok (.if_icmp .ge 9, 3) := dk_162 0 9 (dk_at dksX5_laidOnes_1 0 rfl rfl)
theorem dX5_laidOnes_26 : decode cX5_laidOnes 26 = .ok (.iconst 1, 1) := dk_4 (dk_at dksX5_laidOnes_1 3 rfl rfl)
theorem dX5_laidOnes_27 : decode cX5_laidOnes 27 = .ok (.iload_n 2, 1) := dk_28 (dk_at dksX5_laidOnes_1 4 rfl rfl)
theorem dX5_laidOnes_28 : decode cX5_laidOnes 28 = .ok (.ishl, 1) := dk_120 (dk_at dksX5_laidOnes_1 5 rfl rfl)
theorem dX5_laidOnes_29 : decode cX5_laidOnes 29 = .ok (.goto 4, 3) := dk_167 0 4 (dk_at dksX5_laidOnes_1 6 rfl rfl)
theorem dX5_laidOnes_32 : decode cX5_laidOnes 32 = .ok (.iconst 0, 1) := dk_3 (dk_at dksX5_laidOnes_1 9 rfl rfl)
theorem dX5_laidOnes_33 : decode cX5_laidOnes 33 = .ok (.ior, 1) := dk_128 (dk_at dksX5_laidOnes_1 10 rfl rfl)
theorem dX5_laidOnes_34 : decode cX5_laidOnes 34 = .ok (.istore_n 1, 1) := dk_60 (dk_at dksX5_laidOnes_1 11 rfl rfl)
theorem dX5_laidOnes_35 : decode cX5_laidOnes 35 = .ok (.iinc 2 1, 3) := dk_132 2 1 (dk_at dksX5_laidOnes_1 12 rfl rfl)
theorem dX5_laidOnes_38 : decode cX5_laidOnes 38 = .ok (.goto (-34), 3) := dk_167 255 222 (dk_at dksX5_laidOnes_1 15 rfl rfl)
theorem dX5_laidOnes_41 : decode cX5_laidOnes 41 = .ok (.iload_n 1, 1) := dk_27 (dk_at dksX5_laidOnes_1 18 rfl rfl)
theorem dX5_laidOnes_42 : decode cX5_laidOnes 42 = .ok (.ireturn, 1) := dk_172 (dk_at dksX5_laidOnes_1 19 rfl rfl)
abbrev cX5_manyIn : ByteArray := prog_18_method_6_code
def yX5_manyIn : MethodName := ⟨RX5, "manyIn", "(I)I"⟩
def dkwX5_manyIn_0 : List UInt8 := [3, 60, 26, 61, 28, 153, 0, 15, 132, 1, 1, 28, 28, 4, 100, 126, 61, 167, 255, 243, 27, 172]
abbrev dktX5_manyIn_0 : List UInt8 := dkwX5_manyIn_0 ++ []
theorem dksX5_manyIn_0 : cX5_manyIn.data.toList.drop 0 = dktX5_manyIn_0 := by decide +kernel
theorem dX5_manyIn_0 : decode cX5_manyIn 0 = .ok (.iconst 0, 1) := dk_3 (dk_at dksX5_manyIn_0 0 rfl rfl)
theorem dX5_manyIn_1 : decode cX5_manyIn 1 = .ok (.istore_n 1, 1) := dk_60 (dk_at dksX5_manyIn_0 1 rfl rfl)
theorem dX5_manyIn_2 : decode cX5_manyIn 2 = .ok (.iload_n 0, 1) := dk_26 (dk_at dksX5_manyIn_0 2 rfl rfl)
theorem dX5_manyIn_3 : decode cX5_manyIn 3 = .ok (.istore_n 2, 1) := dk_61 (dk_at dksX5_manyIn_0 3 rfl rfl)
theorem dX5_manyIn_4 : decode cX5_manyIn 4 = .ok (.iload_n 2, 1) := dk_28 (dk_at dksX5_manyIn_0 4 rfl rfl)
theorem dX5_manyIn_5 : decode cX5_manyIn 5 = .ok (.ifCond .eq 15, 3) := dk_153 0 15 (dk_at dksX5_manyIn_0 5 rfl rfl)
theorem dX5_manyIn_8 : decode cX5_manyIn 8 = .ok (.iinc 1 1, 3) := dk_132 1 1 (dk_at dksX5_manyIn_0 8 rfl rfl)
theorem dX5_manyIn_11 : decode cX5_manyIn 11 = .ok (.iload_n 2, 1) := dk_28 (dk_at dksX5_manyIn_0 11 rfl rfl)
theorem dX5_manyIn_12 : decode cX5_manyIn 12 = .ok (.iload_n 2, 1) := dk_28 (dk_at dksX5_manyIn_0 12 rfl rfl)
theorem dX5_manyIn_13 : decode cX5_manyIn 13 = .ok (.iconst 1, 1) := dk_4 (dk_at dksX5_manyIn_0 13 rfl rfl)
theorem dX5_manyIn_14 : decode cX5_manyIn 14 = .ok (.isub, 1) := dk_100 (dk_at dksX5_manyIn_0 14 rfl rfl)
theorem dX5_manyIn_15 : decode cX5_manyIn 15 = .ok (.iand, 1) := dk_126 (dk_at dksX5_manyIn_0 15 rfl rfl)
theorem dX5_manyIn_16 : decode cX5_manyIn 16 = .ok (.istore_n 2, 1) := dk_61 (dk_at dksX5_manyIn_0 16 rfl rfl)
theorem dX5_manyIn_17 : decode cX5_manyIn 17 = .ok (.goto (-13), 3) := dk_167 255 243 (dk_at dksX5_manyIn_0 17 rfl rfl)
theorem dX5_manyIn_20 : decode cX5_manyIn 20 = .ok (.iload_n 1, 1) := dk_27 (dk_at dksX5_manyIn_0 20 rfl rfl)
theorem dX5_manyIn_21 : decode cX5_manyIn 21 = .ok (.ireturn, 1) := dk_172 (dk_at dksX5_manyIn_0 21 rfl rfl)
abbrev cX5_areAtPeace : ByteArray := prog_18_method_44_code
def yX5_areAtPeace : MethodName := ⟨RX5, "areAtPeace", "(I)Z"⟩
def dkwX5_areAtPeace_1 : List UInt8 := [180, 0, 43, 28, 46, 27, 126, 153, 0, 5, 3, 172, 132, 2, 1, 167, 255, 221, 4, 172]
abbrev dktX5_areAtPeace_1 : List UInt8 := dkwX5_areAtPeace_1 ++ []
def dkwX5_areAtPeace_0 : List UInt8 := [3, 61, 28, 42, 180, 0, 7, 3, 46, 162, 0, 31, 27, 28, 122, 4, 126, 4, 160, 0, 16, 42]
abbrev dktX5_areAtPeace_0 : List UInt8 := dkwX5_areAtPeace_0 ++ dktX5_areAtPeace_1
theorem dksX5_areAtPeace_0 : cX5_areAtPeace.data.toList.drop 0 = dktX5_areAtPeace_0 := by decide +kernel
theorem dksX5_areAtPeace_1 : cX5_areAtPeace.data.toList.drop 22 = dktX5_areAtPeace_1 := dk_seg dksX5_areAtPeace_0 22 rfl rfl
theorem dX5_areAtPeace_0 : decode cX5_areAtPeace 0 = .ok (.iconst 0, 1) := dk_3 (dk_at dksX5_areAtPeace_0 0 rfl rfl)
theorem dX5_areAtPeace_1 : decode cX5_areAtPeace 1 = .ok (.istore_n 2, 1) := dk_61 (dk_at dksX5_areAtPeace_0 1 rfl rfl)
theorem dX5_areAtPeace_2 : decode cX5_areAtPeace 2 = .ok (.iload_n 2, 1) := dk_28 (dk_at dksX5_areAtPeace_0 2 rfl rfl)
theorem dX5_areAtPeace_3 : decode cX5_areAtPeace 3 = .ok (.aload_n 0, 1) := dk_42 (dk_at dksX5_areAtPeace_0 3 rfl rfl)
theorem dX5_areAtPeace_4 : decode cX5_areAtPeace 4 = .ok (.getfield 7, 3) := dk_180 0 7 (dk_at dksX5_areAtPeace_0 4 rfl rfl)
theorem dX5_areAtPeace_7 : decode cX5_areAtPeace 7 = .ok (.iconst 0, 1) := dk_3 (dk_at dksX5_areAtPeace_0 7 rfl rfl)
theorem dX5_areAtPeace_8 : decode cX5_areAtPeace 8 = .ok (.iaload, 1) := dk_46 (dk_at dksX5_areAtPeace_0 8 rfl rfl)
theorem dX5_areAtPeace_9 : decode cX5_areAtPeace 9 = .ok (.if_icmp .ge 31, 3) := dk_162 0 31 (dk_at dksX5_areAtPeace_0 9 rfl rfl)
theorem dX5_areAtPeace_12 : decode cX5_areAtPeace 12 = .ok (.iload_n 1, 1) := dk_27 (dk_at dksX5_areAtPeace_0 12 rfl rfl)
theorem dX5_areAtPeace_13 : decode cX5_areAtPeace 13 = .ok (.iload_n 2, 1) := dk_28 (dk_at dksX5_areAtPeace_0 13 rfl rfl)
theorem dX5_areAtPeace_14 : decode cX5_areAtPeace 14 = .ok (.ishr, 1) := dk_122 (dk_at dksX5_areAtPeace_0 14 rfl rfl)
theorem dX5_areAtPeace_15 : decode cX5_areAtPeace 15 = .ok (.iconst 1, 1) := dk_4 (dk_at dksX5_areAtPeace_0 15 rfl rfl)
theorem dX5_areAtPeace_16 : decode cX5_areAtPeace 16 = .ok (.iand, 1) := dk_126 (dk_at dksX5_areAtPeace_0 16 rfl rfl)
theorem dX5_areAtPeace_17 : decode cX5_areAtPeace 17 = .ok (.iconst 1, 1) := dk_4 (dk_at dksX5_areAtPeace_0 17 rfl rfl)
theorem dX5_areAtPeace_18 : decode cX5_areAtPeace 18 = .ok (.if_icmp .ne 16, 3) := dk_160 0 16 (dk_at dksX5_areAtPeace_0 18 rfl rfl)
theorem dX5_areAtPeace_21 : decode cX5_areAtPeace 21 = .ok (.aload_n 0, 1) := dk_42 (dk_at dksX5_areAtPeace_0 21 rfl rfl)
theorem dX5_areAtPeace_22 : decode cX5_areAtPeace 22 = .ok (.getfield 43, 3) := dk_180 0 43 (dk_at dksX5_areAtPeace_1 0 rfl rfl)
theorem dX5_areAtPeace_25 : decode cX5_areAtPeace 25 = .ok (.iload_n 2, 1) := dk_28 (dk_at dksX5_areAtPeace_1 3 rfl rfl)
theorem dX5_areAtPeace_26 : decode cX5_areAtPeace 26 = .ok (.iaload, 1) := dk_46 (dk_at dksX5_areAtPeace_1 4 rfl rfl)
theorem dX5_areAtPeace_27 : decode cX5_areAtPeace 27 = .ok (.iload_n 1, 1) := dk_27 (dk_at dksX5_areAtPeace_1 5 rfl rfl)
theorem dX5_areAtPeace_28 : decode cX5_areAtPeace 28 = .ok (.iand, 1) := dk_126 (dk_at dksX5_areAtPeace_1 6 rfl rfl)
theorem dX5_areAtPeace_29 : decode cX5_areAtPeace 29 = .ok (.ifCond .eq 5, 3) := dk_153 0 5 (dk_at dksX5_areAtPeace_1 7 rfl rfl)
theorem dX5_areAtPeace_32 : decode cX5_areAtPeace 32 = .ok (.iconst 0, 1) := dk_3 (dk_at dksX5_areAtPeace_1 10 rfl rfl)
theorem dX5_areAtPeace_33 : decode cX5_areAtPeace 33 = .ok (.ireturn, 1) := dk_172 (dk_at dksX5_areAtPeace_1 11 rfl rfl)
theorem dX5_areAtPeace_34 : decode cX5_areAtPeace 34 = .ok (.iinc 2 1, 3) := dk_132 2 1 (dk_at dksX5_areAtPeace_1 12 rfl rfl)
theorem dX5_areAtPeace_37 : decode cX5_areAtPeace 37 = .ok (.goto (-35), 3) := dk_167 255 221 (dk_at dksX5_areAtPeace_1 15 rfl rfl)
theorem dX5_areAtPeace_40 : decode cX5_areAtPeace 40 = .ok (.iconst 1, 1) := dk_4 (dk_at dksX5_areAtPeace_1 18 rfl rfl)
theorem dX5_areAtPeace_41 : decode cX5_areAtPeace 41 = .ok (.ireturn, 1) := dk_172 (dk_at dksX5_areAtPeace_1 19 rfl rfl)
abbrev cX5_borne : ByteArray := prog_18_method_46_code
def yX5_borne : MethodName := ⟨RX5, "borne", "()I"⟩
def dkwX5_borne_3 : List UInt8 := [132, 4, 255, 167, 255, 198, 29, 172]
abbrev dktX5_borne_3 : List UInt8 := dkwX5_borne_3 ++ []
def dkwX5_borne_2 : List UInt8 := [54, 5, 21, 5, 153, 0, 18, 42, 21, 4, 182, 0, 172, 28, 160, 0, 8, 21, 4, 167, 0, 4, 29, 62]
abbrev dktX5_borne_2 : List UInt8 := dkwX5_borne_2 ++ dktX5_borne_3
def dkwX5_borne_1 : List UInt8 := [2, 130, 126, 154, 0, 19, 21, 4, 184, 0, 166, 29, 184, 0, 166, 163, 0, 7, 4, 167, 0, 4, 3]
abbrev dktX5_borne_1 : List UInt8 := dkwX5_borne_1 ++ dktX5_borne_2
def dkwX5_borne_0 : List UInt8 := [42, 182, 0, 163, 60, 42, 27, 182, 0, 172, 61, 27, 62, 27, 54, 4, 21, 4, 155, 0, 59, 21, 4, 27]
abbrev dktX5_borne_0 : List UInt8 := dkwX5_borne_0 ++ dktX5_borne_1
theorem dksX5_borne_0 : cX5_borne.data.toList.drop 0 = dktX5_borne_0 := by decide +kernel
theorem dksX5_borne_1 : cX5_borne.data.toList.drop 24 = dktX5_borne_1 := dk_seg dksX5_borne_0 24 rfl rfl
theorem dksX5_borne_2 : cX5_borne.data.toList.drop 47 = dktX5_borne_2 := dk_seg dksX5_borne_1 23 rfl rfl
theorem dksX5_borne_3 : cX5_borne.data.toList.drop 71 = dktX5_borne_3 := dk_seg dksX5_borne_2 24 rfl rfl
theorem dX5_borne_0 : decode cX5_borne 0 = .ok (.aload_n 0, 1) := dk_42 (dk_at dksX5_borne_0 0 rfl rfl)
theorem dX5_borne_1 : decode cX5_borne 1 = .ok (.invokevirtual 163, 3) := dk_182 0 163 (dk_at dksX5_borne_0 1 rfl rfl)
theorem dX5_borne_4 : decode cX5_borne 4 = .ok (.istore_n 1, 1) := dk_60 (dk_at dksX5_borne_0 4 rfl rfl)
theorem dX5_borne_5 : decode cX5_borne 5 = .ok (.aload_n 0, 1) := dk_42 (dk_at dksX5_borne_0 5 rfl rfl)
theorem dX5_borne_6 : decode cX5_borne 6 = .ok (.iload_n 1, 1) := dk_27 (dk_at dksX5_borne_0 6 rfl rfl)
theorem dX5_borne_7 : decode cX5_borne 7 = .ok (.invokevirtual 172, 3) := dk_182 0 172 (dk_at dksX5_borne_0 7 rfl rfl)
theorem dX5_borne_10 : decode cX5_borne 10 = .ok (.istore_n 2, 1) := dk_61 (dk_at dksX5_borne_0 10 rfl rfl)
theorem dX5_borne_11 : decode cX5_borne 11 = .ok (.iload_n 1, 1) := dk_27 (dk_at dksX5_borne_0 11 rfl rfl)
theorem dX5_borne_12 : decode cX5_borne 12 = .ok (.istore_n 3, 1) := dk_62 (dk_at dksX5_borne_0 12 rfl rfl)
theorem dX5_borne_13 : decode cX5_borne 13 = .ok (.iload_n 1, 1) := dk_27 (dk_at dksX5_borne_0 13 rfl rfl)
theorem dX5_borne_14 : decode cX5_borne 14 = .ok (.istore 4, 2) := dk_54 4 (dk_at dksX5_borne_0 14 rfl rfl)
theorem dX5_borne_16 : decode cX5_borne 16 = .ok (.iload 4, 2) := dk_21 4 (dk_at dksX5_borne_0 16 rfl rfl)
theorem dX5_borne_18 : decode cX5_borne 18 = .ok (.ifCond .lt 59, 3) := dk_155 0 59 (dk_at dksX5_borne_0 18 rfl rfl)
theorem dX5_borne_21 : decode cX5_borne 21 = .ok (.iload 4, 2) := dk_21 4 (dk_at dksX5_borne_0 21 rfl rfl)
theorem dX5_borne_23 : decode cX5_borne 23 = .ok (.iload_n 1, 1) := dk_27 (dk_at dksX5_borne_0 23 rfl rfl)
theorem dX5_borne_24 : decode cX5_borne 24 = .ok (.iconst (-1), 1) := dk_2 (dk_at dksX5_borne_1 0 rfl rfl)
theorem dX5_borne_25 : decode cX5_borne 25 = .ok (.ixor, 1) := dk_130 (dk_at dksX5_borne_1 1 rfl rfl)
theorem dX5_borne_26 : decode cX5_borne 26 = .ok (.iand, 1) := dk_126 (dk_at dksX5_borne_1 2 rfl rfl)
theorem dX5_borne_27 : decode cX5_borne 27 = .ok (.ifCond .ne 19, 3) := dk_154 0 19 (dk_at dksX5_borne_1 3 rfl rfl)
theorem dX5_borne_30 : decode cX5_borne 30 = .ok (.iload 4, 2) := dk_21 4 (dk_at dksX5_borne_1 6 rfl rfl)
theorem dX5_borne_32 : decode cX5_borne 32 = .ok (.invokestatic 166, 3) := dk_184 0 166 (dk_at dksX5_borne_1 8 rfl rfl)
theorem dX5_borne_35 : decode cX5_borne 35 = .ok (.iload_n 3, 1) := dk_29 (dk_at dksX5_borne_1 11 rfl rfl)
theorem dX5_borne_36 : decode cX5_borne 36 = .ok (.invokestatic 166, 3) := dk_184 0 166 (dk_at dksX5_borne_1 12 rfl rfl)
theorem dX5_borne_39 : decode cX5_borne 39 = .ok (.if_icmp .gt 7, 3) := dk_163 0 7 (dk_at dksX5_borne_1 15 rfl rfl)
theorem dX5_borne_42 : decode cX5_borne 42 = .ok (.iconst 1, 1) := dk_4 (dk_at dksX5_borne_1 18 rfl rfl)
theorem dX5_borne_43 : decode cX5_borne 43 = .ok (.goto 4, 3) := dk_167 0 4 (dk_at dksX5_borne_1 19 rfl rfl)
theorem dX5_borne_46 : decode cX5_borne 46 = .ok (.iconst 0, 1) := dk_3 (dk_at dksX5_borne_1 22 rfl rfl)
theorem dX5_borne_47 : decode cX5_borne 47 = .ok (.istore 5, 2) := dk_54 5 (dk_at dksX5_borne_2 0 rfl rfl)
theorem dX5_borne_49 : decode cX5_borne 49 = .ok (.iload 5, 2) := dk_21 5 (dk_at dksX5_borne_2 2 rfl rfl)
theorem dX5_borne_51 : decode cX5_borne 51 = .ok (.ifCond .eq 18, 3) := dk_153 0 18 (dk_at dksX5_borne_2 4 rfl rfl)
theorem dX5_borne_54 : decode cX5_borne 54 = .ok (.aload_n 0, 1) := dk_42 (dk_at dksX5_borne_2 7 rfl rfl)
theorem dX5_borne_55 : decode cX5_borne 55 = .ok (.iload 4, 2) := dk_21 4 (dk_at dksX5_borne_2 8 rfl rfl)
theorem dX5_borne_57 : decode cX5_borne 57 = .ok (.invokevirtual 172, 3) := dk_182 0 172 (dk_at dksX5_borne_2 10 rfl rfl)
theorem dX5_borne_60 : decode cX5_borne 60 = .ok (.iload_n 2, 1) := dk_28 (dk_at dksX5_borne_2 13 rfl rfl)
theorem dX5_borne_61 : decode cX5_borne 61 = .ok (.if_icmp .ne 8, 3) := dk_160 0 8 (dk_at dksX5_borne_2 14 rfl rfl)
theorem dX5_borne_64 : decode cX5_borne 64 = .ok (.iload 4, 2) := dk_21 4 (dk_at dksX5_borne_2 17 rfl rfl)
theorem dX5_borne_66 : decode cX5_borne 66 = .ok (.goto 4, 3) := dk_167 0 4 (dk_at dksX5_borne_2 19 rfl rfl)
theorem dX5_borne_69 : decode cX5_borne 69 = .ok (.iload_n 3, 1) := dk_29 (dk_at dksX5_borne_2 22 rfl rfl)
theorem dX5_borne_70 : decode cX5_borne 70 = .ok (.istore_n 3, 1) := dk_62 (dk_at dksX5_borne_2 23 rfl rfl)
theorem dX5_borne_71 : decode cX5_borne 71 = .ok (.iinc 4 (-1), 3) := dk_132 4 255 (dk_at dksX5_borne_3 0 rfl rfl)
theorem dX5_borne_74 : decode cX5_borne 74 = .ok (.goto (-58), 3) := dk_167 255 198 (dk_at dksX5_borne_3 3 rfl rfl)
theorem dX5_borne_77 : decode cX5_borne 77 = .ok (.iload_n 3, 1) := dk_29 (dk_at dksX5_borne_3 6 rfl rfl)
theorem dX5_borne_78 : decode cX5_borne 78 = .ok (.ireturn, 1) := dk_172 (dk_at dksX5_borne_3 7 rfl rfl)
abbrev cX5_coveredBy : ByteArray := prog_18_method_42_code
def yX5_coveredBy : MethodName := ⟨RX5, "coveredBy", "(I)I"⟩
def dkwX5_coveredBy_1 : List UInt8 := [42, 29, 182, 0, 113, 167, 0, 4, 3, 128, 61, 132, 3, 1, 167, 255, 222, 28, 172]
abbrev dktX5_coveredBy_1 : List UInt8 := dkwX5_coveredBy_1 ++ []
def dkwX5_coveredBy_0 : List UInt8 := [3, 61, 3, 62, 29, 42, 180, 0, 7, 3, 46, 162, 0, 30, 28, 27, 29, 122, 4, 126, 4, 160, 0, 11]
abbrev dktX5_coveredBy_0 : List UInt8 := dkwX5_coveredBy_0 ++ dktX5_coveredBy_1
theorem dksX5_coveredBy_0 : cX5_coveredBy.data.toList.drop 0 = dktX5_coveredBy_0 := by decide +kernel
theorem dksX5_coveredBy_1 : cX5_coveredBy.data.toList.drop 24 = dktX5_coveredBy_1 := dk_seg dksX5_coveredBy_0 24 rfl rfl
theorem dX5_coveredBy_0 : decode cX5_coveredBy 0 = .ok (.iconst 0, 1) := dk_3 (dk_at dksX5_coveredBy_0 0 rfl rfl)
theorem dX5_coveredBy_1 : decode cX5_coveredBy 1 = .ok (.istore_n 2, 1) := dk_61 (dk_at dksX5_coveredBy_0 1 rfl rfl)
theorem dX5_coveredBy_2 : decode cX5_coveredBy 2 = .ok (.iconst 0, 1) := dk_3 (dk_at dksX5_coveredBy_0 2 rfl rfl)
theorem dX5_coveredBy_3 : decode cX5_coveredBy 3 = .ok (.istore_n 3, 1) := dk_62 (dk_at dksX5_coveredBy_0 3 rfl rfl)
theorem dX5_coveredBy_4 : decode cX5_coveredBy 4 = .ok (.iload_n 3, 1) := dk_29 (dk_at dksX5_coveredBy_0 4 rfl rfl)
theorem dX5_coveredBy_5 : decode cX5_coveredBy 5 = .ok (.aload_n 0, 1) := dk_42 (dk_at dksX5_coveredBy_0 5 rfl rfl)
theorem dX5_coveredBy_6 : decode cX5_coveredBy 6 = .ok (.getfield 7, 3) := dk_180 0 7 (dk_at dksX5_coveredBy_0 6 rfl rfl)
theorem dX5_coveredBy_9 : decode cX5_coveredBy 9 = .ok (.iconst 0, 1) := dk_3 (dk_at dksX5_coveredBy_0 9 rfl rfl)
theorem dX5_coveredBy_10 : decode cX5_coveredBy 10 = .ok (.iaload, 1) := dk_46 (dk_at dksX5_coveredBy_0 10 rfl rfl)
theorem dX5_coveredBy_11 : decode cX5_coveredBy 11 = .ok (.if_icmp .ge 30, 3) := dk_162 0 30 (dk_at dksX5_coveredBy_0 11 rfl rfl)
theorem dX5_coveredBy_14 : decode cX5_coveredBy 14 = .ok (.iload_n 2, 1) := dk_28 (dk_at dksX5_coveredBy_0 14 rfl rfl)
theorem dX5_coveredBy_15 : decode cX5_coveredBy 15 = .ok (.iload_n 1, 1) := dk_27 (dk_at dksX5_coveredBy_0 15 rfl rfl)
theorem dX5_coveredBy_16 : decode cX5_coveredBy 16 = .ok (.iload_n 3, 1) := dk_29 (dk_at dksX5_coveredBy_0 16 rfl rfl)
theorem dX5_coveredBy_17 : decode cX5_coveredBy 17 = .ok (.ishr, 1) := dk_122 (dk_at dksX5_coveredBy_0 17 rfl rfl)
theorem dX5_coveredBy_18 : decode cX5_coveredBy 18 = .ok (.iconst 1, 1) := dk_4 (dk_at dksX5_coveredBy_0 18 rfl rfl)
theorem dX5_coveredBy_19 : decode cX5_coveredBy 19 = .ok (.iand, 1) := dk_126 (dk_at dksX5_coveredBy_0 19 rfl rfl)
theorem dX5_coveredBy_20 : decode cX5_coveredBy 20 = .ok (.iconst 1, 1) := dk_4 (dk_at dksX5_coveredBy_0 20 rfl rfl)
theorem dX5_coveredBy_21 : decode cX5_coveredBy 21 = .ok (.if_icmp .ne 11, 3) := dk_160 0 11 (dk_at dksX5_coveredBy_0 21 rfl rfl)
theorem dX5_coveredBy_24 : decode cX5_coveredBy 24 = .ok (.aload_n 0, 1) := dk_42 (dk_at dksX5_coveredBy_1 0 rfl rfl)
theorem dX5_coveredBy_25 : decode cX5_coveredBy 25 = .ok (.iload_n 3, 1) := dk_29 (dk_at dksX5_coveredBy_1 1 rfl rfl)
theorem dX5_coveredBy_26 : decode cX5_coveredBy 26 = .ok (.invokevirtual 113, 3) := dk_182 0 113 (dk_at dksX5_coveredBy_1 2 rfl rfl)
theorem dX5_coveredBy_29 : decode cX5_coveredBy 29 = .ok (.goto 4, 3) := dk_167 0 4 (dk_at dksX5_coveredBy_1 5 rfl rfl)
theorem dX5_coveredBy_32 : decode cX5_coveredBy 32 = .ok (.iconst 0, 1) := dk_3 (dk_at dksX5_coveredBy_1 8 rfl rfl)
theorem dX5_coveredBy_33 : decode cX5_coveredBy 33 = .ok (.ior, 1) := dk_128 (dk_at dksX5_coveredBy_1 9 rfl rfl)
theorem dX5_coveredBy_34 : decode cX5_coveredBy 34 = .ok (.istore_n 2, 1) := dk_61 (dk_at dksX5_coveredBy_1 10 rfl rfl)
theorem dX5_coveredBy_35 : decode cX5_coveredBy 35 = .ok (.iinc 3 1, 3) := dk_132 3 1 (dk_at dksX5_coveredBy_1 11 rfl rfl)
theorem dX5_coveredBy_38 : decode cX5_coveredBy 38 = .ok (.goto (-34), 3) := dk_167 255 222 (dk_at dksX5_coveredBy_1 14 rfl rfl)
theorem dX5_coveredBy_41 : decode cX5_coveredBy 41 = .ok (.iload_n 2, 1) := dk_28 (dk_at dksX5_coveredBy_1 17 rfl rfl)
theorem dX5_coveredBy_42 : decode cX5_coveredBy 42 = .ok (.ireturn, 1) := dk_172 (dk_at dksX5_coveredBy_1 18 rfl rfl)
abbrev cX5_look : ByteArray := prog_18_method_48_code
def yX5_look : MethodName := ⟨RX5, "look", "(I)I"⟩
def dkwX5_look_2 : List UInt8 := [27, 154, 0, 7, 28, 167, 0, 8, 42, 28, 182, 0, 175, 172]
abbrev dktX5_look_2 : List UInt8 := dkwX5_look_2 ++ []
def dkwX5_look_1 : List UInt8 := [29, 182, 0, 175, 42, 28, 182, 0, 175, 164, 0, 7, 29, 167, 0, 4, 28, 61, 132, 3, 1, 167, 255, 228]
abbrev dktX5_look_1 : List UInt8 := dkwX5_look_1 ++ dktX5_look_2
def dkwX5_look_0 : List UInt8 := [27, 133, 9, 10, 184, 0, 68, 154, 0, 6, 18, 83, 172, 3, 61, 4, 62, 29, 16, 16, 162, 0, 28, 42]
abbrev dktX5_look_0 : List UInt8 := dkwX5_look_0 ++ dktX5_look_1
theorem dksX5_look_0 : cX5_look.data.toList.drop 0 = dktX5_look_0 := by decide +kernel
theorem dksX5_look_1 : cX5_look.data.toList.drop 24 = dktX5_look_1 := dk_seg dksX5_look_0 24 rfl rfl
theorem dksX5_look_2 : cX5_look.data.toList.drop 48 = dktX5_look_2 := dk_seg dksX5_look_1 24 rfl rfl
theorem dX5_look_0 : decode cX5_look 0 = .ok (.iload_n 1, 1) := dk_27 (dk_at dksX5_look_0 0 rfl rfl)
theorem dX5_look_1 : decode cX5_look 1 = .ok (.i2l, 1) := dk_133 (dk_at dksX5_look_0 1 rfl rfl)
theorem dX5_look_2 : decode cX5_look 2 = .ok (.lconst 0, 1) := dk_9 (dk_at dksX5_look_0 2 rfl rfl)
theorem dX5_look_3 : decode cX5_look 3 = .ok (.lconst 1, 1) := dk_10 (dk_at dksX5_look_0 3 rfl rfl)
theorem dX5_look_4 : decode cX5_look 4 = .ok (.invokestatic 68, 3) := dk_184 0 68 (dk_at dksX5_look_0 4 rfl rfl)
theorem dX5_look_7 : decode cX5_look 7 = .ok (.ifCond .ne 6, 3) := dk_154 0 6 (dk_at dksX5_look_0 7 rfl rfl)
theorem dX5_look_10 : decode cX5_look 10 = .ok (.ldc 83, 2) := dk_18 83 (dk_at dksX5_look_0 10 rfl rfl)
theorem dX5_look_12 : decode cX5_look 12 = .ok (.ireturn, 1) := dk_172 (dk_at dksX5_look_0 12 rfl rfl)
theorem dX5_look_13 : decode cX5_look 13 = .ok (.iconst 0, 1) := dk_3 (dk_at dksX5_look_0 13 rfl rfl)
theorem dX5_look_14 : decode cX5_look 14 = .ok (.istore_n 2, 1) := dk_61 (dk_at dksX5_look_0 14 rfl rfl)
theorem dX5_look_15 : decode cX5_look 15 = .ok (.iconst 1, 1) := dk_4 (dk_at dksX5_look_0 15 rfl rfl)
theorem dX5_look_16 : decode cX5_look 16 = .ok (.istore_n 3, 1) := dk_62 (dk_at dksX5_look_0 16 rfl rfl)
theorem dX5_look_17 : decode cX5_look 17 = .ok (.iload_n 3, 1) := dk_29 (dk_at dksX5_look_0 17 rfl rfl)
theorem dX5_look_18 : decode cX5_look 18 = .ok (.bipush 16, 2) := dk_16 16 (dk_at dksX5_look_0 18 rfl rfl)
theorem dX5_look_20 : decode cX5_look 20 = .ok (.if_icmp .ge 28, 3) := dk_162 0 28 (dk_at dksX5_look_0 20 rfl rfl)
theorem dX5_look_23 : decode cX5_look 23 = .ok (.aload_n 0, 1) := dk_42 (dk_at dksX5_look_0 23 rfl rfl)
theorem dX5_look_24 : decode cX5_look 24 = .ok (.iload_n 3, 1) := dk_29 (dk_at dksX5_look_1 0 rfl rfl)
theorem dX5_look_25 : decode cX5_look 25 = .ok (.invokevirtual 175, 3) := dk_182 0 175 (dk_at dksX5_look_1 1 rfl rfl)
theorem dX5_look_28 : decode cX5_look 28 = .ok (.aload_n 0, 1) := dk_42 (dk_at dksX5_look_1 4 rfl rfl)
theorem dX5_look_29 : decode cX5_look 29 = .ok (.iload_n 2, 1) := dk_28 (dk_at dksX5_look_1 5 rfl rfl)
theorem dX5_look_30 : decode cX5_look 30 = .ok (.invokevirtual 175, 3) := dk_182 0 175 (dk_at dksX5_look_1 6 rfl rfl)
theorem dX5_look_33 : decode cX5_look 33 = .ok (.if_icmp .le 7, 3) := dk_164 0 7 (dk_at dksX5_look_1 9 rfl rfl)
theorem dX5_look_36 : decode cX5_look 36 = .ok (.iload_n 3, 1) := dk_29 (dk_at dksX5_look_1 12 rfl rfl)
theorem dX5_look_37 : decode cX5_look 37 = .ok (.goto 4, 3) := dk_167 0 4 (dk_at dksX5_look_1 13 rfl rfl)
theorem dX5_look_40 : decode cX5_look 40 = .ok (.iload_n 2, 1) := dk_28 (dk_at dksX5_look_1 16 rfl rfl)
theorem dX5_look_41 : decode cX5_look 41 = .ok (.istore_n 2, 1) := dk_61 (dk_at dksX5_look_1 17 rfl rfl)
theorem dX5_look_42 : decode cX5_look 42 = .ok (.iinc 3 1, 3) := dk_132 3 1 (dk_at dksX5_look_1 18 rfl rfl)
theorem dX5_look_45 : decode cX5_look 45 = .ok (.goto (-28), 3) := dk_167 255 228 (dk_at dksX5_look_1 21 rfl rfl)
theorem dX5_look_48 : decode cX5_look 48 = .ok (.iload_n 1, 1) := dk_27 (dk_at dksX5_look_2 0 rfl rfl)
theorem dX5_look_49 : decode cX5_look 49 = .ok (.ifCond .ne 7, 3) := dk_154 0 7 (dk_at dksX5_look_2 1 rfl rfl)
theorem dX5_look_52 : decode cX5_look 52 = .ok (.iload_n 2, 1) := dk_28 (dk_at dksX5_look_2 4 rfl rfl)
theorem dX5_look_53 : decode cX5_look 53 = .ok (.goto 8, 3) := dk_167 0 8 (dk_at dksX5_look_2 5 rfl rfl)
theorem dX5_look_56 : decode cX5_look 56 = .ok (.aload_n 0, 1) := dk_42 (dk_at dksX5_look_2 8 rfl rfl)
theorem dX5_look_57 : decode cX5_look 57 = .ok (.iload_n 2, 1) := dk_28 (dk_at dksX5_look_2 9 rfl rfl)
theorem dX5_look_58 : decode cX5_look 58 = .ok (.invokevirtual 175, 3) := dk_182 0 175 (dk_at dksX5_look_2 10 rfl rfl)
theorem dX5_look_61 : decode cX5_look 61 = .ok (.ireturn, 1) := dk_172 (dk_at dksX5_look_2 13 rfl rfl)
abbrev cX5_otherwiseAt : ByteArray := prog_18_method_47_code
def yX5_otherwiseAt : MethodName := ⟨RX5, "otherwiseAt", "(I)I"⟩
def dkwX5_otherwiseAt_2 : List UInt8 := [46, 159, 0, 7, 4, 167, 0, 4, 3, 96, 61, 132, 3, 1, 167, 255, 198, 28, 172]
abbrev dktX5_otherwiseAt_2 : List UInt8 := dkwX5_otherwiseAt_2 ++ []
def dkwX5_otherwiseAt_1 : List UInt8 := [4, 160, 0, 31, 42, 29, 27, 42, 29, 7, 182, 0, 88, 100, 182, 0, 125, 42, 180, 0, 7, 8, 27, 96]
abbrev dktX5_otherwiseAt_1 : List UInt8 := dkwX5_otherwiseAt_1 ++ dktX5_otherwiseAt_2
def dkwX5_otherwiseAt_0 : List UInt8 := [3, 61, 3, 62, 29, 42, 180, 0, 7, 3, 46, 162, 0, 54, 28, 42, 29, 182, 0, 113, 27, 122, 4, 126]
abbrev dktX5_otherwiseAt_0 : List UInt8 := dkwX5_otherwiseAt_0 ++ dktX5_otherwiseAt_1
theorem dksX5_otherwiseAt_0 : cX5_otherwiseAt.data.toList.drop 0 = dktX5_otherwiseAt_0 := by decide +kernel
theorem dksX5_otherwiseAt_1 : cX5_otherwiseAt.data.toList.drop 24 = dktX5_otherwiseAt_1 := dk_seg dksX5_otherwiseAt_0 24 rfl rfl
theorem dksX5_otherwiseAt_2 : cX5_otherwiseAt.data.toList.drop 48 = dktX5_otherwiseAt_2 := dk_seg dksX5_otherwiseAt_1 24 rfl rfl
theorem dX5_otherwiseAt_0 : decode cX5_otherwiseAt 0 = .ok (.iconst 0, 1) := dk_3 (dk_at dksX5_otherwiseAt_0 0 rfl rfl)
theorem dX5_otherwiseAt_1 : decode cX5_otherwiseAt 1 = .ok (.istore_n 2, 1) := dk_61 (dk_at dksX5_otherwiseAt_0 1 rfl rfl)
theorem dX5_otherwiseAt_2 : decode cX5_otherwiseAt 2 = .ok (.iconst 0, 1) := dk_3 (dk_at dksX5_otherwiseAt_0 2 rfl rfl)
theorem dX5_otherwiseAt_3 : decode cX5_otherwiseAt 3 = .ok (.istore_n 3, 1) := dk_62 (dk_at dksX5_otherwiseAt_0 3 rfl rfl)
theorem dX5_otherwiseAt_4 : decode cX5_otherwiseAt 4 = .ok (.iload_n 3, 1) := dk_29 (dk_at dksX5_otherwiseAt_0 4 rfl rfl)
theorem dX5_otherwiseAt_5 : decode cX5_otherwiseAt 5 = .ok (.aload_n 0, 1) := dk_42 (dk_at dksX5_otherwiseAt_0 5 rfl rfl)
theorem dX5_otherwiseAt_6 : decode cX5_otherwiseAt 6 = .ok (.getfield 7, 3) := dk_180 0 7 (dk_at dksX5_otherwiseAt_0 6 rfl rfl)
theorem dX5_otherwiseAt_9 : decode cX5_otherwiseAt 9 = .ok (.iconst 0, 1) := dk_3 (dk_at dksX5_otherwiseAt_0 9 rfl rfl)
theorem dX5_otherwiseAt_10 : decode cX5_otherwiseAt 10 = .ok (.iaload, 1) := dk_46 (dk_at dksX5_otherwiseAt_0 10 rfl rfl)
theorem dX5_otherwiseAt_11 : decode cX5_otherwiseAt 11 = .ok (.if_icmp .ge 54, 3) := dk_162 0 54 (dk_at dksX5_otherwiseAt_0 11 rfl rfl)
theorem dX5_otherwiseAt_14 : decode cX5_otherwiseAt 14 = .ok (.iload_n 2, 1) := dk_28 (dk_at dksX5_otherwiseAt_0 14 rfl rfl)
theorem dX5_otherwiseAt_15 : decode cX5_otherwiseAt 15 = .ok (.aload_n 0, 1) := dk_42 (dk_at dksX5_otherwiseAt_0 15 rfl rfl)
theorem dX5_otherwiseAt_16 : decode cX5_otherwiseAt 16 = .ok (.iload_n 3, 1) := dk_29 (dk_at dksX5_otherwiseAt_0 16 rfl rfl)
theorem dX5_otherwiseAt_17 : decode cX5_otherwiseAt 17 = .ok (.invokevirtual 113, 3) := dk_182 0 113 (dk_at dksX5_otherwiseAt_0 17 rfl rfl)
theorem dX5_otherwiseAt_20 : decode cX5_otherwiseAt 20 = .ok (.iload_n 1, 1) := dk_27 (dk_at dksX5_otherwiseAt_0 20 rfl rfl)
theorem dX5_otherwiseAt_21 : decode cX5_otherwiseAt 21 = .ok (.ishr, 1) := dk_122 (dk_at dksX5_otherwiseAt_0 21 rfl rfl)
theorem dX5_otherwiseAt_22 : decode cX5_otherwiseAt 22 = .ok (.iconst 1, 1) := dk_4 (dk_at dksX5_otherwiseAt_0 22 rfl rfl)
theorem dX5_otherwiseAt_23 : decode cX5_otherwiseAt 23 = .ok (.iand, 1) := dk_126 (dk_at dksX5_otherwiseAt_0 23 rfl rfl)
theorem dX5_otherwiseAt_24 : decode cX5_otherwiseAt 24 = .ok (.iconst 1, 1) := dk_4 (dk_at dksX5_otherwiseAt_1 0 rfl rfl)
theorem dX5_otherwiseAt_25 : decode cX5_otherwiseAt 25 = .ok (.if_icmp .ne 31, 3) := dk_160 0 31 (dk_at dksX5_otherwiseAt_1 1 rfl rfl)
theorem dX5_otherwiseAt_28 : decode cX5_otherwiseAt 28 = .ok (.aload_n 0, 1) := dk_42 (dk_at dksX5_otherwiseAt_1 4 rfl rfl)
theorem dX5_otherwiseAt_29 : decode cX5_otherwiseAt 29 = .ok (.iload_n 3, 1) := dk_29 (dk_at dksX5_otherwiseAt_1 5 rfl rfl)
theorem dX5_otherwiseAt_30 : decode cX5_otherwiseAt 30 = .ok (.iload_n 1, 1) := dk_27 (dk_at dksX5_otherwiseAt_1 6 rfl rfl)
theorem dX5_otherwiseAt_31 : decode cX5_otherwiseAt 31 = .ok (.aload_n 0, 1) := dk_42 (dk_at dksX5_otherwiseAt_1 7 rfl rfl)
theorem dX5_otherwiseAt_32 : decode cX5_otherwiseAt 32 = .ok (.iload_n 3, 1) := dk_29 (dk_at dksX5_otherwiseAt_1 8 rfl rfl)
theorem dX5_otherwiseAt_33 : decode cX5_otherwiseAt 33 = .ok (.iconst 4, 1) := dk_7 (dk_at dksX5_otherwiseAt_1 9 rfl rfl)
theorem dX5_otherwiseAt_34 : decode cX5_otherwiseAt 34 = .ok (.invokevirtual 88, 3) := dk_182 0 88 (dk_at dksX5_otherwiseAt_1 10 rfl rfl)
theorem dX5_otherwiseAt_37 : decode cX5_otherwiseAt 37 = .ok (.isub, 1) := dk_100 (dk_at dksX5_otherwiseAt_1 13 rfl rfl)
theorem dX5_otherwiseAt_38 : decode cX5_otherwiseAt 38 = .ok (.invokevirtual 125, 3) := dk_182 0 125 (dk_at dksX5_otherwiseAt_1 14 rfl rfl)
theorem dX5_otherwiseAt_41 : decode cX5_otherwiseAt 41 = .ok (.aload_n 0, 1) := dk_42 (dk_at dksX5_otherwiseAt_1 17 rfl rfl)
theorem dX5_otherwiseAt_42 : decode cX5_otherwiseAt 42 = .ok (.getfield 7, 3) := dk_180 0 7 (dk_at dksX5_otherwiseAt_1 18 rfl rfl)
theorem dX5_otherwiseAt_45 : decode cX5_otherwiseAt 45 = .ok (.iconst 5, 1) := dk_8 (dk_at dksX5_otherwiseAt_1 21 rfl rfl)
theorem dX5_otherwiseAt_46 : decode cX5_otherwiseAt 46 = .ok (.iload_n 1, 1) := dk_27 (dk_at dksX5_otherwiseAt_1 22 rfl rfl)
theorem dX5_otherwiseAt_47 : decode cX5_otherwiseAt 47 = .ok (.iadd, 1) := dk_96 (dk_at dksX5_otherwiseAt_1 23 rfl rfl)
theorem dX5_otherwiseAt_48 : decode cX5_otherwiseAt 48 = .ok (.iaload, 1) := dk_46 (dk_at dksX5_otherwiseAt_2 0 rfl rfl)
theorem dX5_otherwiseAt_49 : decode cX5_otherwiseAt 49 = .ok (.if_icmp .eq 7, 3) := dk_159 0 7 (dk_at dksX5_otherwiseAt_2 1 rfl rfl)
theorem dX5_otherwiseAt_52 : decode cX5_otherwiseAt 52 = .ok (.iconst 1, 1) := dk_4 (dk_at dksX5_otherwiseAt_2 4 rfl rfl)
theorem dX5_otherwiseAt_53 : decode cX5_otherwiseAt 53 = .ok (.goto 4, 3) := dk_167 0 4 (dk_at dksX5_otherwiseAt_2 5 rfl rfl)
theorem dX5_otherwiseAt_56 : decode cX5_otherwiseAt 56 = .ok (.iconst 0, 1) := dk_3 (dk_at dksX5_otherwiseAt_2 8 rfl rfl)
theorem dX5_otherwiseAt_57 : decode cX5_otherwiseAt 57 = .ok (.iadd, 1) := dk_96 (dk_at dksX5_otherwiseAt_2 9 rfl rfl)
theorem dX5_otherwiseAt_58 : decode cX5_otherwiseAt 58 = .ok (.istore_n 2, 1) := dk_61 (dk_at dksX5_otherwiseAt_2 10 rfl rfl)
theorem dX5_otherwiseAt_59 : decode cX5_otherwiseAt 59 = .ok (.iinc 3 1, 3) := dk_132 3 1 (dk_at dksX5_otherwiseAt_2 11 rfl rfl)
theorem dX5_otherwiseAt_62 : decode cX5_otherwiseAt 62 = .ok (.goto (-58), 3) := dk_167 255 198 (dk_at dksX5_otherwiseAt_2 14 rfl rfl)
theorem dX5_otherwiseAt_65 : decode cX5_otherwiseAt 65 = .ok (.iload_n 2, 1) := dk_28 (dk_at dksX5_otherwiseAt_2 17 rfl rfl)
theorem dX5_otherwiseAt_66 : decode cX5_otherwiseAt 66 = .ok (.ireturn, 1) := dk_172 (dk_at dksX5_otherwiseAt_2 18 rfl rfl)
abbrev cX5_tides : ByteArray := prog_18_method_51_code
def yX5_tides : MethodName := ⟨RX5, "tides", "(I)I"⟩
def dkwX5_tides_2 : List UInt8 := [167, 255, 232, 42, 180, 0, 7, 6, 46, 28, 100, 172]
abbrev dktX5_tides_2 : List UInt8 := dkwX5_tides_2 ++ []
def dkwX5_tides_1 : List UInt8 := [29, 27, 162, 0, 25, 42, 180, 0, 7, 5, 46, 17, 39, 15, 162, 0, 13, 42, 182, 0, 178, 132, 3, 1]
abbrev dktX5_tides_1 : List UInt8 := dkwX5_tides_1 ++ dktX5_tides_2
def dkwX5_tides_0 : List UInt8 := [27, 133, 10, 20, 0, 181, 184, 0, 68, 154, 0, 6, 18, 83, 172, 42, 180, 0, 7, 6, 46, 61, 3, 62]
abbrev dktX5_tides_0 : List UInt8 := dkwX5_tides_0 ++ dktX5_tides_1
theorem dksX5_tides_0 : cX5_tides.data.toList.drop 0 = dktX5_tides_0 := by decide +kernel
theorem dksX5_tides_1 : cX5_tides.data.toList.drop 24 = dktX5_tides_1 := dk_seg dksX5_tides_0 24 rfl rfl
theorem dksX5_tides_2 : cX5_tides.data.toList.drop 48 = dktX5_tides_2 := dk_seg dksX5_tides_1 24 rfl rfl
theorem dX5_tides_0 : decode cX5_tides 0 = .ok (.iload_n 1, 1) := dk_27 (dk_at dksX5_tides_0 0 rfl rfl)
theorem dX5_tides_1 : decode cX5_tides 1 = .ok (.i2l, 1) := dk_133 (dk_at dksX5_tides_0 1 rfl rfl)
theorem dX5_tides_2 : decode cX5_tides 2 = .ok (.lconst 1, 1) := dk_10 (dk_at dksX5_tides_0 2 rfl rfl)
theorem dX5_tides_3 : decode cX5_tides 3 = .ok (.ldc2_w 181, 3) := dk_20 0 181 (dk_at dksX5_tides_0 3 rfl rfl)
theorem dX5_tides_6 : decode cX5_tides 6 = .ok (.invokestatic 68, 3) := dk_184 0 68 (dk_at dksX5_tides_0 6 rfl rfl)
theorem dX5_tides_9 : decode cX5_tides 9 = .ok (.ifCond .ne 6, 3) := dk_154 0 6 (dk_at dksX5_tides_0 9 rfl rfl)
theorem dX5_tides_12 : decode cX5_tides 12 = .ok (.ldc 83, 2) := dk_18 83 (dk_at dksX5_tides_0 12 rfl rfl)
theorem dX5_tides_14 : decode cX5_tides 14 = .ok (.ireturn, 1) := dk_172 (dk_at dksX5_tides_0 14 rfl rfl)
theorem dX5_tides_15 : decode cX5_tides 15 = .ok (.aload_n 0, 1) := dk_42 (dk_at dksX5_tides_0 15 rfl rfl)
theorem dX5_tides_16 : decode cX5_tides 16 = .ok (.getfield 7, 3) := dk_180 0 7 (dk_at dksX5_tides_0 16 rfl rfl)
theorem dX5_tides_19 : decode cX5_tides 19 = .ok (.iconst 3, 1) := dk_6 (dk_at dksX5_tides_0 19 rfl rfl)
theorem dX5_tides_20 : decode cX5_tides 20 = .ok (.iaload, 1) := dk_46 (dk_at dksX5_tides_0 20 rfl rfl)
theorem dX5_tides_21 : decode cX5_tides 21 = .ok (.istore_n 2, 1) := dk_61 (dk_at dksX5_tides_0 21 rfl rfl)
theorem dX5_tides_22 : decode cX5_tides 22 = .ok (.iconst 0, 1) := dk_3 (dk_at dksX5_tides_0 22 rfl rfl)
theorem dX5_tides_23 : decode cX5_tides 23 = .ok (.istore_n 3, 1) := dk_62 (dk_at dksX5_tides_0 23 rfl rfl)
theorem dX5_tides_24 : decode cX5_tides 24 = .ok (.iload_n 3, 1) := dk_29 (dk_at dksX5_tides_1 0 rfl rfl)
theorem dX5_tides_25 : decode cX5_tides 25 = .ok (.iload_n 1, 1) := dk_27 (dk_at dksX5_tides_1 1 rfl rfl)
theorem dX5_tides_26 : decode cX5_tides 26 = .ok (.if_icmp .ge 25, 3) := dk_162 0 25 (dk_at dksX5_tides_1 2 rfl rfl)
theorem dX5_tides_29 : decode cX5_tides 29 = .ok (.aload_n 0, 1) := dk_42 (dk_at dksX5_tides_1 5 rfl rfl)
theorem dX5_tides_30 : decode cX5_tides 30 = .ok (.getfield 7, 3) := dk_180 0 7 (dk_at dksX5_tides_1 6 rfl rfl)
theorem dX5_tides_33 : decode cX5_tides 33 = .ok (.iconst 2, 1) := dk_5 (dk_at dksX5_tides_1 9 rfl rfl)
theorem dX5_tides_34 : decode cX5_tides 34 = .ok (.iaload, 1) := dk_46 (dk_at dksX5_tides_1 10 rfl rfl)
theorem dX5_tides_35 : decode cX5_tides 35 = .ok (.sipush 9999, 3) := dk_17 39 15 (dk_at dksX5_tides_1 11 rfl rfl)
theorem dX5_tides_38 : decode cX5_tides 38 = .ok (.if_icmp .ge 13, 3) := dk_162 0 13 (dk_at dksX5_tides_1 14 rfl rfl)
theorem dX5_tides_41 : decode cX5_tides 41 = .ok (.aload_n 0, 1) := dk_42 (dk_at dksX5_tides_1 17 rfl rfl)
theorem dX5_tides_42 : decode cX5_tides 42 = .ok (.invokevirtual 178, 3) := dk_182 0 178 (dk_at dksX5_tides_1 18 rfl rfl)
theorem dX5_tides_45 : decode cX5_tides 45 = .ok (.iinc 3 1, 3) := dk_132 3 1 (dk_at dksX5_tides_1 21 rfl rfl)
theorem dX5_tides_48 : decode cX5_tides 48 = .ok (.goto (-24), 3) := dk_167 255 232 (dk_at dksX5_tides_2 0 rfl rfl)
theorem dX5_tides_51 : decode cX5_tides 51 = .ok (.aload_n 0, 1) := dk_42 (dk_at dksX5_tides_2 3 rfl rfl)
theorem dX5_tides_52 : decode cX5_tides 52 = .ok (.getfield 7, 3) := dk_180 0 7 (dk_at dksX5_tides_2 4 rfl rfl)
theorem dX5_tides_55 : decode cX5_tides 55 = .ok (.iconst 3, 1) := dk_6 (dk_at dksX5_tides_2 7 rfl rfl)
theorem dX5_tides_56 : decode cX5_tides 56 = .ok (.iaload, 1) := dk_46 (dk_at dksX5_tides_2 8 rfl rfl)
theorem dX5_tides_57 : decode cX5_tides 57 = .ok (.iload_n 2, 1) := dk_28 (dk_at dksX5_tides_2 9 rfl rfl)
theorem dX5_tides_58 : decode cX5_tides 58 = .ok (.isub, 1) := dk_100 (dk_at dksX5_tides_2 10 rfl rfl)
theorem dX5_tides_59 : decode cX5_tides 59 = .ok (.ireturn, 1) := dk_172 (dk_at dksX5_tides_2 11 rfl rfl)
abbrev cX5_goesOn : ByteArray := prog_18_method_49_code
def yX5_goesOn : MethodName := ⟨RX5, "goesOn", "()V"⟩
def dkwX5_goesOn_6 : List UInt8 := [92, 46, 4, 96, 79, 177]
abbrev dktX5_goesOn_6 : List UInt8 := dkwX5_goesOn_6 ++ []
def dkwX5_goesOn_5 : List UInt8 := [182, 0, 73, 42, 180, 0, 7, 6, 92, 46, 4, 96, 79, 132, 2, 1, 167, 255, 133, 42, 180, 0, 7, 5]
abbrev dktX5_goesOn_5 : List UInt8 := dkwX5_goesOn_5 ++ dktX5_goesOn_6
def dkwX5_goesOn_4 : List UInt8 := [21, 4, 16, 99, 184, 0, 102, 182, 0, 73, 29, 154, 0, 26, 21, 4, 157, 0, 21, 42, 28, 7, 16, 16]
abbrev dktX5_goesOn_4 : List UInt8 := dkwX5_goesOn_4 ++ dktX5_goesOn_5
def dkwX5_goesOn_3 : List UInt8 := [153, 0, 11, 42, 28, 182, 0, 116, 167, 0, 9, 42, 28, 182, 0, 119, 116, 96, 54, 4, 42, 28, 8]
abbrev dktX5_goesOn_3 : List UInt8 := dkwX5_goesOn_3 ++ dktX5_goesOn_4
def dkwX5_goesOn_2 : List UInt8 := [42, 180, 0, 7, 8, 27, 96, 46, 160, 0, 7, 4, 167, 0, 4, 3, 62, 42, 28, 8, 182, 0, 88, 29]
abbrev dktX5_goesOn_2 : List UInt8 := dkwX5_goesOn_2 ++ dktX5_goesOn_3
def dkwX5_goesOn_1 : List UInt8 := [182, 0, 113, 27, 122, 4, 126, 4, 160, 0, 100, 42, 28, 27, 42, 28, 7, 182, 0, 88, 100, 182, 0, 125]
abbrev dktX5_goesOn_1 : List UInt8 := dkwX5_goesOn_1 ++ dktX5_goesOn_2
def dkwX5_goesOn_0 : List UInt8 := [42, 182, 0, 145, 16, 16, 112, 60, 3, 61, 28, 42, 180, 0, 7, 3, 46, 162, 0, 119, 42, 28]
abbrev dktX5_goesOn_0 : List UInt8 := dkwX5_goesOn_0 ++ dktX5_goesOn_1
theorem dksX5_goesOn_0 : cX5_goesOn.data.toList.drop 0 = dktX5_goesOn_0 := by decide +kernel
theorem dksX5_goesOn_1 : cX5_goesOn.data.toList.drop 22 = dktX5_goesOn_1 := dk_seg dksX5_goesOn_0 22 rfl rfl
theorem dksX5_goesOn_2 : cX5_goesOn.data.toList.drop 46 = dktX5_goesOn_2 := dk_seg dksX5_goesOn_1 24 rfl rfl
theorem dksX5_goesOn_3 : cX5_goesOn.data.toList.drop 70 = dktX5_goesOn_3 := dk_seg dksX5_goesOn_2 24 rfl rfl
theorem dksX5_goesOn_4 : cX5_goesOn.data.toList.drop 93 = dktX5_goesOn_4 := dk_seg dksX5_goesOn_3 23 rfl rfl
theorem dksX5_goesOn_5 : cX5_goesOn.data.toList.drop 117 = dktX5_goesOn_5 := dk_seg dksX5_goesOn_4 24 rfl rfl
theorem dksX5_goesOn_6 : cX5_goesOn.data.toList.drop 141 = dktX5_goesOn_6 := dk_seg dksX5_goesOn_5 24 rfl rfl
theorem dX5_goesOn_0 : decode cX5_goesOn 0 = .ok (.aload_n 0, 1) := dk_42 (dk_at dksX5_goesOn_0 0 rfl rfl)
theorem dX5_goesOn_1 : decode cX5_goesOn 1 = .ok (.invokevirtual 145, 3) := dk_182 0 145 (dk_at dksX5_goesOn_0 1 rfl rfl)
theorem dX5_goesOn_4 : decode cX5_goesOn 4 = .ok (.bipush 16, 2) := dk_16 16 (dk_at dksX5_goesOn_0 4 rfl rfl)
theorem dX5_goesOn_6 : decode cX5_goesOn 6 = .ok (.irem, 1) := dk_112 (dk_at dksX5_goesOn_0 6 rfl rfl)
theorem dX5_goesOn_7 : decode cX5_goesOn 7 = .ok (.istore_n 1, 1) := dk_60 (dk_at dksX5_goesOn_0 7 rfl rfl)
theorem dX5_goesOn_8 : decode cX5_goesOn 8 = .ok (.iconst 0, 1) := dk_3 (dk_at dksX5_goesOn_0 8 rfl rfl)
theorem dX5_goesOn_9 : decode cX5_goesOn 9 = .ok (.istore_n 2, 1) := dk_61 (dk_at dksX5_goesOn_0 9 rfl rfl)
theorem dX5_goesOn_10 : decode cX5_goesOn 10 = .ok (.iload_n 2, 1) := dk_28 (dk_at dksX5_goesOn_0 10 rfl rfl)
theorem dX5_goesOn_11 : decode cX5_goesOn 11 = .ok (.aload_n 0, 1) := dk_42 (dk_at dksX5_goesOn_0 11 rfl rfl)
theorem dX5_goesOn_12 : decode cX5_goesOn 12 = .ok (.getfield 7, 3) := dk_180 0 7 (dk_at dksX5_goesOn_0 12 rfl rfl)
theorem dX5_goesOn_15 : decode cX5_goesOn 15 = .ok (.iconst 0, 1) := dk_3 (dk_at dksX5_goesOn_0 15 rfl rfl)
theorem dX5_goesOn_16 : decode cX5_goesOn 16 = .ok (.iaload, 1) := dk_46 (dk_at dksX5_goesOn_0 16 rfl rfl)
theorem dX5_goesOn_17 : decode cX5_goesOn 17 = .ok (.if_icmp .ge 119, 3) := dk_162 0 119 (dk_at dksX5_goesOn_0 17 rfl rfl)
theorem dX5_goesOn_20 : decode cX5_goesOn 20 = .ok (.aload_n 0, 1) := dk_42 (dk_at dksX5_goesOn_0 20 rfl rfl)
theorem dX5_goesOn_21 : decode cX5_goesOn 21 = .ok (.iload_n 2, 1) := dk_28 (dk_at dksX5_goesOn_0 21 rfl rfl)
theorem dX5_goesOn_22 : decode cX5_goesOn 22 = .ok (.invokevirtual 113, 3) := dk_182 0 113 (dk_at dksX5_goesOn_1 0 rfl rfl)
theorem dX5_goesOn_25 : decode cX5_goesOn 25 = .ok (.iload_n 1, 1) := dk_27 (dk_at dksX5_goesOn_1 3 rfl rfl)
theorem dX5_goesOn_26 : decode cX5_goesOn 26 = .ok (.ishr, 1) := dk_122 (dk_at dksX5_goesOn_1 4 rfl rfl)
theorem dX5_goesOn_27 : decode cX5_goesOn 27 = .ok (.iconst 1, 1) := dk_4 (dk_at dksX5_goesOn_1 5 rfl rfl)
theorem dX5_goesOn_28 : decode cX5_goesOn 28 = .ok (.iand, 1) := dk_126 (dk_at dksX5_goesOn_1 6 rfl rfl)
theorem dX5_goesOn_29 : decode cX5_goesOn 29 = .ok (.iconst 1, 1) := dk_4 (dk_at dksX5_goesOn_1 7 rfl rfl)
theorem dX5_goesOn_30 : decode cX5_goesOn 30 = .ok (.if_icmp .ne 100, 3) := dk_160 0 100 (dk_at dksX5_goesOn_1 8 rfl rfl)
theorem dX5_goesOn_33 : decode cX5_goesOn 33 = .ok (.aload_n 0, 1) := dk_42 (dk_at dksX5_goesOn_1 11 rfl rfl)
theorem dX5_goesOn_34 : decode cX5_goesOn 34 = .ok (.iload_n 2, 1) := dk_28 (dk_at dksX5_goesOn_1 12 rfl rfl)
theorem dX5_goesOn_35 : decode cX5_goesOn 35 = .ok (.iload_n 1, 1) := dk_27 (dk_at dksX5_goesOn_1 13 rfl rfl)
theorem dX5_goesOn_36 : decode cX5_goesOn 36 = .ok (.aload_n 0, 1) := dk_42 (dk_at dksX5_goesOn_1 14 rfl rfl)
theorem dX5_goesOn_37 : decode cX5_goesOn 37 = .ok (.iload_n 2, 1) := dk_28 (dk_at dksX5_goesOn_1 15 rfl rfl)
theorem dX5_goesOn_38 : decode cX5_goesOn 38 = .ok (.iconst 4, 1) := dk_7 (dk_at dksX5_goesOn_1 16 rfl rfl)
theorem dX5_goesOn_39 : decode cX5_goesOn 39 = .ok (.invokevirtual 88, 3) := dk_182 0 88 (dk_at dksX5_goesOn_1 17 rfl rfl)
theorem dX5_goesOn_42 : decode cX5_goesOn 42 = .ok (.isub, 1) := dk_100 (dk_at dksX5_goesOn_1 20 rfl rfl)
theorem dX5_goesOn_43 : decode cX5_goesOn 43 = .ok (.invokevirtual 125, 3) := dk_182 0 125 (dk_at dksX5_goesOn_1 21 rfl rfl)
theorem dX5_goesOn_46 : decode cX5_goesOn 46 = .ok (.aload_n 0, 1) := dk_42 (dk_at dksX5_goesOn_2 0 rfl rfl)
theorem dX5_goesOn_47 : decode cX5_goesOn 47 = .ok (.getfield 7, 3) := dk_180 0 7 (dk_at dksX5_goesOn_2 1 rfl rfl)
theorem dX5_goesOn_50 : decode cX5_goesOn 50 = .ok (.iconst 5, 1) := dk_8 (dk_at dksX5_goesOn_2 4 rfl rfl)
theorem dX5_goesOn_51 : decode cX5_goesOn 51 = .ok (.iload_n 1, 1) := dk_27 (dk_at dksX5_goesOn_2 5 rfl rfl)
theorem dX5_goesOn_52 : decode cX5_goesOn 52 = .ok (.iadd, 1) := dk_96 (dk_at dksX5_goesOn_2 6 rfl rfl)
theorem dX5_goesOn_53 : decode cX5_goesOn 53 = .ok (.iaload, 1) := dk_46 (dk_at dksX5_goesOn_2 7 rfl rfl)
theorem dX5_goesOn_54 : decode cX5_goesOn 54 = .ok (.if_icmp .ne 7, 3) := dk_160 0 7 (dk_at dksX5_goesOn_2 8 rfl rfl)
theorem dX5_goesOn_57 : decode cX5_goesOn 57 = .ok (.iconst 1, 1) := dk_4 (dk_at dksX5_goesOn_2 11 rfl rfl)
theorem dX5_goesOn_58 : decode cX5_goesOn 58 = .ok (.goto 4, 3) := dk_167 0 4 (dk_at dksX5_goesOn_2 12 rfl rfl)
theorem dX5_goesOn_61 : decode cX5_goesOn 61 = .ok (.iconst 0, 1) := dk_3 (dk_at dksX5_goesOn_2 15 rfl rfl)
theorem dX5_goesOn_62 : decode cX5_goesOn 62 = .ok (.istore_n 3, 1) := dk_62 (dk_at dksX5_goesOn_2 16 rfl rfl)
theorem dX5_goesOn_63 : decode cX5_goesOn 63 = .ok (.aload_n 0, 1) := dk_42 (dk_at dksX5_goesOn_2 17 rfl rfl)
theorem dX5_goesOn_64 : decode cX5_goesOn 64 = .ok (.iload_n 2, 1) := dk_28 (dk_at dksX5_goesOn_2 18 rfl rfl)
theorem dX5_goesOn_65 : decode cX5_goesOn 65 = .ok (.iconst 5, 1) := dk_8 (dk_at dksX5_goesOn_2 19 rfl rfl)
theorem dX5_goesOn_66 : decode cX5_goesOn 66 = .ok (.invokevirtual 88, 3) := dk_182 0 88 (dk_at dksX5_goesOn_2 20 rfl rfl)
theorem dX5_goesOn_69 : decode cX5_goesOn 69 = .ok (.iload_n 3, 1) := dk_29 (dk_at dksX5_goesOn_2 23 rfl rfl)
theorem dX5_goesOn_70 : decode cX5_goesOn 70 = .ok (.ifCond .eq 11, 3) := dk_153 0 11 (dk_at dksX5_goesOn_3 0 rfl rfl)
theorem dX5_goesOn_73 : decode cX5_goesOn 73 = .ok (.aload_n 0, 1) := dk_42 (dk_at dksX5_goesOn_3 3 rfl rfl)
theorem dX5_goesOn_74 : decode cX5_goesOn 74 = .ok (.iload_n 2, 1) := dk_28 (dk_at dksX5_goesOn_3 4 rfl rfl)
theorem dX5_goesOn_75 : decode cX5_goesOn 75 = .ok (.invokevirtual 116, 3) := dk_182 0 116 (dk_at dksX5_goesOn_3 5 rfl rfl)
theorem dX5_goesOn_78 : decode cX5_goesOn 78 = .ok (.goto 9, 3) := dk_167 0 9 (dk_at dksX5_goesOn_3 8 rfl rfl)
theorem dX5_goesOn_81 : decode cX5_goesOn 81 = .ok (.aload_n 0, 1) := dk_42 (dk_at dksX5_goesOn_3 11 rfl rfl)
theorem dX5_goesOn_82 : decode cX5_goesOn 82 = .ok (.iload_n 2, 1) := dk_28 (dk_at dksX5_goesOn_3 12 rfl rfl)
theorem dX5_goesOn_83 : decode cX5_goesOn 83 = .ok (.invokevirtual 119, 3) := dk_182 0 119 (dk_at dksX5_goesOn_3 13 rfl rfl)
theorem dX5_goesOn_86 : decode cX5_goesOn 86 = .ok (.ineg, 1) := dk_116 (dk_at dksX5_goesOn_3 16 rfl rfl)
theorem dX5_goesOn_87 : decode cX5_goesOn 87 = .ok (.iadd, 1) := dk_96 (dk_at dksX5_goesOn_3 17 rfl rfl)
theorem dX5_goesOn_88 : decode cX5_goesOn 88 = .ok (.istore 4, 2) := dk_54 4 (dk_at dksX5_goesOn_3 18 rfl rfl)
theorem dX5_goesOn_90 : decode cX5_goesOn 90 = .ok (.aload_n 0, 1) := dk_42 (dk_at dksX5_goesOn_3 20 rfl rfl)
theorem dX5_goesOn_91 : decode cX5_goesOn 91 = .ok (.iload_n 2, 1) := dk_28 (dk_at dksX5_goesOn_3 21 rfl rfl)
theorem dX5_goesOn_92 : decode cX5_goesOn 92 = .ok (.iconst 5, 1) := dk_8 (dk_at dksX5_goesOn_3 22 rfl rfl)
theorem dX5_goesOn_93 : decode cX5_goesOn 93 = .ok (.iload 4, 2) := dk_21 4 (dk_at dksX5_goesOn_4 0 rfl rfl)
theorem dX5_goesOn_95 : decode cX5_goesOn 95 = .ok (.bipush 99, 2) := dk_16 99 (dk_at dksX5_goesOn_4 2 rfl rfl)
theorem dX5_goesOn_97 : decode cX5_goesOn 97 = .ok (.invokestatic 102, 3) := dk_184 0 102 (dk_at dksX5_goesOn_4 4 rfl rfl)
theorem dX5_goesOn_100 : decode cX5_goesOn 100 = .ok (.invokevirtual 73, 3) := dk_182 0 73 (dk_at dksX5_goesOn_4 7 rfl rfl)
theorem dX5_goesOn_103 : decode cX5_goesOn 103 = .ok (.iload_n 3, 1) := dk_29 (dk_at dksX5_goesOn_4 10 rfl rfl)
theorem dX5_goesOn_104 : decode cX5_goesOn 104 = .ok (.ifCond .ne 26, 3) := dk_154 0 26 (dk_at dksX5_goesOn_4 11 rfl rfl)
theorem dX5_goesOn_107 : decode cX5_goesOn 107 = .ok (.iload 4, 2) := dk_21 4 (dk_at dksX5_goesOn_4 14 rfl rfl)
theorem dX5_goesOn_109 : decode cX5_goesOn 109 = .ok (.ifCond .gt 21, 3) := dk_157 0 21 (dk_at dksX5_goesOn_4 16 rfl rfl)
theorem dX5_goesOn_112 : decode cX5_goesOn 112 = .ok (.aload_n 0, 1) := dk_42 (dk_at dksX5_goesOn_4 19 rfl rfl)
theorem dX5_goesOn_113 : decode cX5_goesOn 113 = .ok (.iload_n 2, 1) := dk_28 (dk_at dksX5_goesOn_4 20 rfl rfl)
theorem dX5_goesOn_114 : decode cX5_goesOn 114 = .ok (.iconst 4, 1) := dk_7 (dk_at dksX5_goesOn_4 21 rfl rfl)
theorem dX5_goesOn_115 : decode cX5_goesOn 115 = .ok (.bipush 16, 2) := dk_16 16 (dk_at dksX5_goesOn_4 22 rfl rfl)
theorem dX5_goesOn_117 : decode cX5_goesOn 117 = .ok (.invokevirtual 73, 3) := dk_182 0 73 (dk_at dksX5_goesOn_5 0 rfl rfl)
theorem dX5_goesOn_120 : decode cX5_goesOn 120 = .ok (.aload_n 0, 1) := dk_42 (dk_at dksX5_goesOn_5 3 rfl rfl)
theorem dX5_goesOn_121 : decode cX5_goesOn 121 = .ok (.getfield 7, 3) := dk_180 0 7 (dk_at dksX5_goesOn_5 4 rfl rfl)
theorem dX5_goesOn_124 : decode cX5_goesOn 124 = .ok (.iconst 3, 1) := dk_6 (dk_at dksX5_goesOn_5 7 rfl rfl)
theorem dX5_goesOn_125 : decode cX5_goesOn 125 = .ok (.dup2, 1) := dk_92 (dk_at dksX5_goesOn_5 8 rfl rfl)
theorem dX5_goesOn_126 : decode cX5_goesOn 126 = .ok (.iaload, 1) := dk_46 (dk_at dksX5_goesOn_5 9 rfl rfl)
theorem dX5_goesOn_127 : decode cX5_goesOn 127 = .ok (.iconst 1, 1) := dk_4 (dk_at dksX5_goesOn_5 10 rfl rfl)
theorem dX5_goesOn_128 : decode cX5_goesOn 128 = .ok (.iadd, 1) := dk_96 (dk_at dksX5_goesOn_5 11 rfl rfl)
theorem dX5_goesOn_129 : decode cX5_goesOn 129 = .ok (.iastore, 1) := dk_79 (dk_at dksX5_goesOn_5 12 rfl rfl)
theorem dX5_goesOn_130 : decode cX5_goesOn 130 = .ok (.iinc 2 1, 3) := dk_132 2 1 (dk_at dksX5_goesOn_5 13 rfl rfl)
theorem dX5_goesOn_133 : decode cX5_goesOn 133 = .ok (.goto (-123), 3) := dk_167 255 133 (dk_at dksX5_goesOn_5 16 rfl rfl)
theorem dX5_goesOn_136 : decode cX5_goesOn 136 = .ok (.aload_n 0, 1) := dk_42 (dk_at dksX5_goesOn_5 19 rfl rfl)
theorem dX5_goesOn_137 : decode cX5_goesOn 137 = .ok (.getfield 7, 3) := dk_180 0 7 (dk_at dksX5_goesOn_5 20 rfl rfl)
theorem dX5_goesOn_140 : decode cX5_goesOn 140 = .ok (.iconst 2, 1) := dk_5 (dk_at dksX5_goesOn_5 23 rfl rfl)
theorem dX5_goesOn_141 : decode cX5_goesOn 141 = .ok (.dup2, 1) := dk_92 (dk_at dksX5_goesOn_6 0 rfl rfl)
theorem dX5_goesOn_142 : decode cX5_goesOn 142 = .ok (.iaload, 1) := dk_46 (dk_at dksX5_goesOn_6 1 rfl rfl)
theorem dX5_goesOn_143 : decode cX5_goesOn 143 = .ok (.iconst 1, 1) := dk_4 (dk_at dksX5_goesOn_6 2 rfl rfl)
theorem dX5_goesOn_144 : decode cX5_goesOn 144 = .ok (.iadd, 1) := dk_96 (dk_at dksX5_goesOn_6 3 rfl rfl)
theorem dX5_goesOn_145 : decode cX5_goesOn 145 = .ok (.iastore, 1) := dk_79 (dk_at dksX5_goesOn_6 4 rfl rfl)
theorem dX5_goesOn_146 : decode cX5_goesOn 146 = .ok (.return_, 1) := dk_177 (dk_at dksX5_goesOn_6 5 rfl rfl)
abbrev cX5_book : ByteArray := prog_18_method_53_code
def yX5_book : MethodName := ⟨RX5, "book", "(I)I"⟩
def dkwX5_book_3 : List UInt8 := [182, 0, 172, 2, 130, 126, 172, 18, 83, 172]
abbrev dktX5_book_3 : List UInt8 := dkwX5_book_3 ++ []
def dkwX5_book_2 : List UInt8 := [42, 180, 0, 7, 6, 46, 172, 42, 182, 0, 183, 172, 42, 182, 0, 163, 172, 18, 105, 42, 42, 182, 0, 163]
abbrev dktX5_book_2 : List UInt8 := dkwX5_book_2 ++ dktX5_book_3
def dkwX5_book_1 : List UInt8 := [170, 0, 0, 0, 0, 0, 62, 0, 0, 0, 0, 0, 0, 0, 3, 0, 0, 0, 31, 0, 0, 0, 38, 0, 0, 0, 43, 0, 0, 0, 48]
abbrev dktX5_book_1 : List UInt8 := dkwX5_book_1 ++ dktX5_book_2
def dkwX5_book_0 : List UInt8 := [27]
abbrev dktX5_book_0 : List UInt8 := dkwX5_book_0 ++ dktX5_book_1
theorem dksX5_book_0 : cX5_book.data.toList.drop 0 = dktX5_book_0 := by decide +kernel
theorem dksX5_book_1 : cX5_book.data.toList.drop 1 = dktX5_book_1 := dk_seg dksX5_book_0 1 rfl rfl
theorem dksX5_book_2 : cX5_book.data.toList.drop 32 = dktX5_book_2 := dk_seg dksX5_book_1 31 rfl rfl
theorem dksX5_book_3 : cX5_book.data.toList.drop 56 = dktX5_book_3 := dk_seg dksX5_book_2 24 rfl rfl
theorem dX5_book_0 : decode cX5_book 0 = .ok (.iload_n 1, 1) := dk_27 (dk_at dksX5_book_0 0 rfl rfl)
theorem dX5_book_1 : decode cX5_book 1 = .ok (.tableswitch 62 0 3 #[31, 38, 43, 48], 31) := by decide +kernel
theorem dX5_book_32 : decode cX5_book 32 = .ok (.aload_n 0, 1) := dk_42 (dk_at dksX5_book_2 0 rfl rfl)
theorem dX5_book_33 : decode cX5_book 33 = .ok (.getfield 7, 3) := dk_180 0 7 (dk_at dksX5_book_2 1 rfl rfl)
theorem dX5_book_36 : decode cX5_book 36 = .ok (.iconst 3, 1) := dk_6 (dk_at dksX5_book_2 4 rfl rfl)
theorem dX5_book_37 : decode cX5_book 37 = .ok (.iaload, 1) := dk_46 (dk_at dksX5_book_2 5 rfl rfl)
theorem dX5_book_38 : decode cX5_book 38 = .ok (.ireturn, 1) := dk_172 (dk_at dksX5_book_2 6 rfl rfl)
theorem dX5_book_39 : decode cX5_book 39 = .ok (.aload_n 0, 1) := dk_42 (dk_at dksX5_book_2 7 rfl rfl)
theorem dX5_book_40 : decode cX5_book 40 = .ok (.invokevirtual 183, 3) := dk_182 0 183 (dk_at dksX5_book_2 8 rfl rfl)
theorem dX5_book_43 : decode cX5_book 43 = .ok (.ireturn, 1) := dk_172 (dk_at dksX5_book_2 11 rfl rfl)
theorem dX5_book_44 : decode cX5_book 44 = .ok (.aload_n 0, 1) := dk_42 (dk_at dksX5_book_2 12 rfl rfl)
theorem dX5_book_45 : decode cX5_book 45 = .ok (.invokevirtual 163, 3) := dk_182 0 163 (dk_at dksX5_book_2 13 rfl rfl)
theorem dX5_book_48 : decode cX5_book 48 = .ok (.ireturn, 1) := dk_172 (dk_at dksX5_book_2 16 rfl rfl)
theorem dX5_book_49 : decode cX5_book 49 = .ok (.ldc 105, 2) := dk_18 105 (dk_at dksX5_book_2 17 rfl rfl)
theorem dX5_book_51 : decode cX5_book 51 = .ok (.aload_n 0, 1) := dk_42 (dk_at dksX5_book_2 19 rfl rfl)
theorem dX5_book_52 : decode cX5_book 52 = .ok (.aload_n 0, 1) := dk_42 (dk_at dksX5_book_2 20 rfl rfl)
theorem dX5_book_53 : decode cX5_book 53 = .ok (.invokevirtual 163, 3) := dk_182 0 163 (dk_at dksX5_book_2 21 rfl rfl)
theorem dX5_book_56 : decode cX5_book 56 = .ok (.invokevirtual 172, 3) := dk_182 0 172 (dk_at dksX5_book_3 0 rfl rfl)
theorem dX5_book_59 : decode cX5_book 59 = .ok (.iconst (-1), 1) := dk_2 (dk_at dksX5_book_3 3 rfl rfl)
theorem dX5_book_60 : decode cX5_book 60 = .ok (.ixor, 1) := dk_130 (dk_at dksX5_book_3 4 rfl rfl)
theorem dX5_book_61 : decode cX5_book 61 = .ok (.iand, 1) := dk_126 (dk_at dksX5_book_3 5 rfl rfl)
theorem dX5_book_62 : decode cX5_book 62 = .ok (.ireturn, 1) := dk_172 (dk_at dksX5_book_3 6 rfl rfl)
theorem dX5_book_63 : decode cX5_book 63 = .ok (.ldc 83, 2) := dk_18 83 (dk_at dksX5_book_3 7 rfl rfl)
theorem dX5_book_65 : decode cX5_book 65 = .ok (.ireturn, 1) := dk_172 (dk_at dksX5_book_3 9 rfl rfl)
abbrev cX5_allTrust : ByteArray := prog_18_method_52_code
def yX5_allTrust : MethodName := ⟨RX5, "allTrust", "()I"⟩
def dkwX5_allTrust_1 : List UInt8 := [132, 2, 1, 167, 255, 234, 27, 172]
abbrev dktX5_allTrust_1 : List UInt8 := dkwX5_allTrust_1 ++ []
def dkwX5_allTrust_0 : List UInt8 := [3, 60, 3, 61, 28, 42, 180, 0, 7, 3, 46, 162, 0, 18, 27, 42, 28, 8, 182, 0, 88, 96, 60]
abbrev dktX5_allTrust_0 : List UInt8 := dkwX5_allTrust_0 ++ dktX5_allTrust_1
theorem dksX5_allTrust_0 : cX5_allTrust.data.toList.drop 0 = dktX5_allTrust_0 := by decide +kernel
theorem dksX5_allTrust_1 : cX5_allTrust.data.toList.drop 23 = dktX5_allTrust_1 := dk_seg dksX5_allTrust_0 23 rfl rfl
theorem dX5_allTrust_0 : decode cX5_allTrust 0 = .ok (.iconst 0, 1) := dk_3 (dk_at dksX5_allTrust_0 0 rfl rfl)
theorem dX5_allTrust_1 : decode cX5_allTrust 1 = .ok (.istore_n 1, 1) := dk_60 (dk_at dksX5_allTrust_0 1 rfl rfl)
theorem dX5_allTrust_2 : decode cX5_allTrust 2 = .ok (.iconst 0, 1) := dk_3 (dk_at dksX5_allTrust_0 2 rfl rfl)
theorem dX5_allTrust_3 : decode cX5_allTrust 3 = .ok (.istore_n 2, 1) := dk_61 (dk_at dksX5_allTrust_0 3 rfl rfl)
theorem dX5_allTrust_4 : decode cX5_allTrust 4 = .ok (.iload_n 2, 1) := dk_28 (dk_at dksX5_allTrust_0 4 rfl rfl)
theorem dX5_allTrust_5 : decode cX5_allTrust 5 = .ok (.aload_n 0, 1) := dk_42 (dk_at dksX5_allTrust_0 5 rfl rfl)
theorem dX5_allTrust_6 : decode cX5_allTrust 6 = .ok (.getfield 7, 3) := dk_180 0 7 (dk_at dksX5_allTrust_0 6 rfl rfl)
theorem dX5_allTrust_9 : decode cX5_allTrust 9 = .ok (.iconst 0, 1) := dk_3 (dk_at dksX5_allTrust_0 9 rfl rfl)
theorem dX5_allTrust_10 : decode cX5_allTrust 10 = .ok (.iaload, 1) := dk_46 (dk_at dksX5_allTrust_0 10 rfl rfl)
theorem dX5_allTrust_11 : decode cX5_allTrust 11 = .ok (.if_icmp .ge 18, 3) := dk_162 0 18 (dk_at dksX5_allTrust_0 11 rfl rfl)
theorem dX5_allTrust_14 : decode cX5_allTrust 14 = .ok (.iload_n 1, 1) := dk_27 (dk_at dksX5_allTrust_0 14 rfl rfl)
theorem dX5_allTrust_15 : decode cX5_allTrust 15 = .ok (.aload_n 0, 1) := dk_42 (dk_at dksX5_allTrust_0 15 rfl rfl)
theorem dX5_allTrust_16 : decode cX5_allTrust 16 = .ok (.iload_n 2, 1) := dk_28 (dk_at dksX5_allTrust_0 16 rfl rfl)
theorem dX5_allTrust_17 : decode cX5_allTrust 17 = .ok (.iconst 5, 1) := dk_8 (dk_at dksX5_allTrust_0 17 rfl rfl)
theorem dX5_allTrust_18 : decode cX5_allTrust 18 = .ok (.invokevirtual 88, 3) := dk_182 0 88 (dk_at dksX5_allTrust_0 18 rfl rfl)
theorem dX5_allTrust_21 : decode cX5_allTrust 21 = .ok (.iadd, 1) := dk_96 (dk_at dksX5_allTrust_0 21 rfl rfl)
theorem dX5_allTrust_22 : decode cX5_allTrust 22 = .ok (.istore_n 1, 1) := dk_60 (dk_at dksX5_allTrust_0 22 rfl rfl)
theorem dX5_allTrust_23 : decode cX5_allTrust 23 = .ok (.iinc 2 1, 3) := dk_132 2 1 (dk_at dksX5_allTrust_1 0 rfl rfl)
theorem dX5_allTrust_26 : decode cX5_allTrust 26 = .ok (.goto (-22), 3) := dk_167 255 234 (dk_at dksX5_allTrust_1 3 rfl rfl)
theorem dX5_allTrust_29 : decode cX5_allTrust 29 = .ok (.iload_n 1, 1) := dk_27 (dk_at dksX5_allTrust_1 6 rfl rfl)
theorem dX5_allTrust_30 : decode cX5_allTrust 30 = .ok (.ireturn, 1) := dk_172 (dk_at dksX5_allTrust_1 7 rfl rfl)
abbrev cX5_behind : ByteArray := prog_18_method_56_code
def yX5_behind : MethodName := ⟨RX5, "behind", "(II)I"⟩
def dkwX5_behind_3 : List UInt8 := [180, 0, 7, 6, 46, 167, 0, 11, 42, 28, 6, 100, 8, 182, 0, 88, 62, 42, 182, 0, 193, 29, 172]
abbrev dktX5_behind_3 : List UInt8 := dkwX5_behind_3 ++ []
def dkwX5_behind_2 : List UInt8 := [182, 0, 183, 167, 0, 37, 28, 4, 160, 0, 10, 42, 182, 0, 163, 167, 0, 25, 28, 5, 160, 0, 12, 42]
abbrev dktX5_behind_2 : List UInt8 := dkwX5_behind_2 ++ dktX5_behind_3
def dkwX5_behind_1 : List UInt8 := [184, 0, 68, 154, 0, 6, 18, 83, 172, 42, 182, 0, 186, 42, 27, 182, 0, 189, 28, 154, 0, 10, 42]
abbrev dktX5_behind_1 : List UInt8 := dkwX5_behind_1 ++ dktX5_behind_2
def dkwX5_behind_0 : List UInt8 := [27, 133, 9, 20, 0, 181, 184, 0, 68, 153, 0, 21, 28, 133, 9, 5, 42, 180, 0, 7, 3, 46, 96, 133]
abbrev dktX5_behind_0 : List UInt8 := dkwX5_behind_0 ++ dktX5_behind_1
theorem dksX5_behind_0 : cX5_behind.data.toList.drop 0 = dktX5_behind_0 := by decide +kernel
theorem dksX5_behind_1 : cX5_behind.data.toList.drop 24 = dktX5_behind_1 := dk_seg dksX5_behind_0 24 rfl rfl
theorem dksX5_behind_2 : cX5_behind.data.toList.drop 47 = dktX5_behind_2 := dk_seg dksX5_behind_1 23 rfl rfl
theorem dksX5_behind_3 : cX5_behind.data.toList.drop 71 = dktX5_behind_3 := dk_seg dksX5_behind_2 24 rfl rfl
theorem dX5_behind_0 : decode cX5_behind 0 = .ok (.iload_n 1, 1) := dk_27 (dk_at dksX5_behind_0 0 rfl rfl)
theorem dX5_behind_1 : decode cX5_behind 1 = .ok (.i2l, 1) := dk_133 (dk_at dksX5_behind_0 1 rfl rfl)
theorem dX5_behind_2 : decode cX5_behind 2 = .ok (.lconst 0, 1) := dk_9 (dk_at dksX5_behind_0 2 rfl rfl)
theorem dX5_behind_3 : decode cX5_behind 3 = .ok (.ldc2_w 181, 3) := dk_20 0 181 (dk_at dksX5_behind_0 3 rfl rfl)
theorem dX5_behind_6 : decode cX5_behind 6 = .ok (.invokestatic 68, 3) := dk_184 0 68 (dk_at dksX5_behind_0 6 rfl rfl)
theorem dX5_behind_9 : decode cX5_behind 9 = .ok (.ifCond .eq 21, 3) := dk_153 0 21 (dk_at dksX5_behind_0 9 rfl rfl)
theorem dX5_behind_12 : decode cX5_behind 12 = .ok (.iload_n 2, 1) := dk_28 (dk_at dksX5_behind_0 12 rfl rfl)
theorem dX5_behind_13 : decode cX5_behind 13 = .ok (.i2l, 1) := dk_133 (dk_at dksX5_behind_0 13 rfl rfl)
theorem dX5_behind_14 : decode cX5_behind 14 = .ok (.lconst 0, 1) := dk_9 (dk_at dksX5_behind_0 14 rfl rfl)
theorem dX5_behind_15 : decode cX5_behind 15 = .ok (.iconst 2, 1) := dk_5 (dk_at dksX5_behind_0 15 rfl rfl)
theorem dX5_behind_16 : decode cX5_behind 16 = .ok (.aload_n 0, 1) := dk_42 (dk_at dksX5_behind_0 16 rfl rfl)
theorem dX5_behind_17 : decode cX5_behind 17 = .ok (.getfield 7, 3) := dk_180 0 7 (dk_at dksX5_behind_0 17 rfl rfl)
theorem dX5_behind_20 : decode cX5_behind 20 = .ok (.iconst 0, 1) := dk_3 (dk_at dksX5_behind_0 20 rfl rfl)
theorem dX5_behind_21 : decode cX5_behind 21 = .ok (.iaload, 1) := dk_46 (dk_at dksX5_behind_0 21 rfl rfl)
theorem dX5_behind_22 : decode cX5_behind 22 = .ok (.iadd, 1) := dk_96 (dk_at dksX5_behind_0 22 rfl rfl)
theorem dX5_behind_23 : decode cX5_behind 23 = .ok (.i2l, 1) := dk_133 (dk_at dksX5_behind_0 23 rfl rfl)
theorem dX5_behind_24 : decode cX5_behind 24 = .ok (.invokestatic 68, 3) := dk_184 0 68 (dk_at dksX5_behind_1 0 rfl rfl)
theorem dX5_behind_27 : decode cX5_behind 27 = .ok (.ifCond .ne 6, 3) := dk_154 0 6 (dk_at dksX5_behind_1 3 rfl rfl)
theorem dX5_behind_30 : decode cX5_behind 30 = .ok (.ldc 83, 2) := dk_18 83 (dk_at dksX5_behind_1 6 rfl rfl)
theorem dX5_behind_32 : decode cX5_behind 32 = .ok (.ireturn, 1) := dk_172 (dk_at dksX5_behind_1 8 rfl rfl)
theorem dX5_behind_33 : decode cX5_behind 33 = .ok (.aload_n 0, 1) := dk_42 (dk_at dksX5_behind_1 9 rfl rfl)
theorem dX5_behind_34 : decode cX5_behind 34 = .ok (.invokevirtual 186, 3) := dk_182 0 186 (dk_at dksX5_behind_1 10 rfl rfl)
theorem dX5_behind_37 : decode cX5_behind 37 = .ok (.aload_n 0, 1) := dk_42 (dk_at dksX5_behind_1 13 rfl rfl)
theorem dX5_behind_38 : decode cX5_behind 38 = .ok (.iload_n 1, 1) := dk_27 (dk_at dksX5_behind_1 14 rfl rfl)
theorem dX5_behind_39 : decode cX5_behind 39 = .ok (.invokevirtual 189, 3) := dk_182 0 189 (dk_at dksX5_behind_1 15 rfl rfl)
theorem dX5_behind_42 : decode cX5_behind 42 = .ok (.iload_n 2, 1) := dk_28 (dk_at dksX5_behind_1 18 rfl rfl)
theorem dX5_behind_43 : decode cX5_behind 43 = .ok (.ifCond .ne 10, 3) := dk_154 0 10 (dk_at dksX5_behind_1 19 rfl rfl)
theorem dX5_behind_46 : decode cX5_behind 46 = .ok (.aload_n 0, 1) := dk_42 (dk_at dksX5_behind_1 22 rfl rfl)
theorem dX5_behind_47 : decode cX5_behind 47 = .ok (.invokevirtual 183, 3) := dk_182 0 183 (dk_at dksX5_behind_2 0 rfl rfl)
theorem dX5_behind_50 : decode cX5_behind 50 = .ok (.goto 37, 3) := dk_167 0 37 (dk_at dksX5_behind_2 3 rfl rfl)
theorem dX5_behind_53 : decode cX5_behind 53 = .ok (.iload_n 2, 1) := dk_28 (dk_at dksX5_behind_2 6 rfl rfl)
theorem dX5_behind_54 : decode cX5_behind 54 = .ok (.iconst 1, 1) := dk_4 (dk_at dksX5_behind_2 7 rfl rfl)
theorem dX5_behind_55 : decode cX5_behind 55 = .ok (.if_icmp .ne 10, 3) := dk_160 0 10 (dk_at dksX5_behind_2 8 rfl rfl)
theorem dX5_behind_58 : decode cX5_behind 58 = .ok (.aload_n 0, 1) := dk_42 (dk_at dksX5_behind_2 11 rfl rfl)
theorem dX5_behind_59 : decode cX5_behind 59 = .ok (.invokevirtual 163, 3) := dk_182 0 163 (dk_at dksX5_behind_2 12 rfl rfl)
theorem dX5_behind_62 : decode cX5_behind 62 = .ok (.goto 25, 3) := dk_167 0 25 (dk_at dksX5_behind_2 15 rfl rfl)
theorem dX5_behind_65 : decode cX5_behind 65 = .ok (.iload_n 2, 1) := dk_28 (dk_at dksX5_behind_2 18 rfl rfl)
theorem dX5_behind_66 : decode cX5_behind 66 = .ok (.iconst 2, 1) := dk_5 (dk_at dksX5_behind_2 19 rfl rfl)
theorem dX5_behind_67 : decode cX5_behind 67 = .ok (.if_icmp .ne 12, 3) := dk_160 0 12 (dk_at dksX5_behind_2 20 rfl rfl)
theorem dX5_behind_70 : decode cX5_behind 70 = .ok (.aload_n 0, 1) := dk_42 (dk_at dksX5_behind_2 23 rfl rfl)
theorem dX5_behind_71 : decode cX5_behind 71 = .ok (.getfield 7, 3) := dk_180 0 7 (dk_at dksX5_behind_3 0 rfl rfl)
theorem dX5_behind_74 : decode cX5_behind 74 = .ok (.iconst 3, 1) := dk_6 (dk_at dksX5_behind_3 3 rfl rfl)
theorem dX5_behind_75 : decode cX5_behind 75 = .ok (.iaload, 1) := dk_46 (dk_at dksX5_behind_3 4 rfl rfl)
theorem dX5_behind_76 : decode cX5_behind 76 = .ok (.goto 11, 3) := dk_167 0 11 (dk_at dksX5_behind_3 5 rfl rfl)
theorem dX5_behind_79 : decode cX5_behind 79 = .ok (.aload_n 0, 1) := dk_42 (dk_at dksX5_behind_3 8 rfl rfl)
theorem dX5_behind_80 : decode cX5_behind 80 = .ok (.iload_n 2, 1) := dk_28 (dk_at dksX5_behind_3 9 rfl rfl)
theorem dX5_behind_81 : decode cX5_behind 81 = .ok (.iconst 3, 1) := dk_6 (dk_at dksX5_behind_3 10 rfl rfl)
theorem dX5_behind_82 : decode cX5_behind 82 = .ok (.isub, 1) := dk_100 (dk_at dksX5_behind_3 11 rfl rfl)
theorem dX5_behind_83 : decode cX5_behind 83 = .ok (.iconst 5, 1) := dk_8 (dk_at dksX5_behind_3 12 rfl rfl)
theorem dX5_behind_84 : decode cX5_behind 84 = .ok (.invokevirtual 88, 3) := dk_182 0 88 (dk_at dksX5_behind_3 13 rfl rfl)
theorem dX5_behind_87 : decode cX5_behind 87 = .ok (.istore_n 3, 1) := dk_62 (dk_at dksX5_behind_3 16 rfl rfl)
theorem dX5_behind_88 : decode cX5_behind 88 = .ok (.aload_n 0, 1) := dk_42 (dk_at dksX5_behind_3 17 rfl rfl)
theorem dX5_behind_89 : decode cX5_behind 89 = .ok (.invokevirtual 193, 3) := dk_182 0 193 (dk_at dksX5_behind_3 18 rfl rfl)
theorem dX5_behind_92 : decode cX5_behind 92 = .ok (.iload_n 3, 1) := dk_29 (dk_at dksX5_behind_3 21 rfl rfl)
theorem dX5_behind_93 : decode cX5_behind 93 = .ok (.ireturn, 1) := dk_172 (dk_at dksX5_behind_3 22 rfl rfl)
abbrev cX5_laysBy : ByteArray := prog_18_method_54_code
def yX5_laysBy : MethodName := ⟨RX5, "laysBy", "()V"⟩
def dkwX5_laysBy_1 : List UInt8 := [167, 255, 235, 177]
abbrev dktX5_laysBy_1 : List UInt8 := dkwX5_laysBy_1 ++ []
def dkwX5_laysBy_0 : List UInt8 := [3, 60, 27, 16, 75, 162, 0, 21, 42, 180, 0, 46, 27, 42, 180, 0, 7, 27, 46, 79, 132, 1, 1]
abbrev dktX5_laysBy_0 : List UInt8 := dkwX5_laysBy_0 ++ dktX5_laysBy_1
theorem dksX5_laysBy_0 : cX5_laysBy.data.toList.drop 0 = dktX5_laysBy_0 := by decide +kernel
theorem dksX5_laysBy_1 : cX5_laysBy.data.toList.drop 23 = dktX5_laysBy_1 := dk_seg dksX5_laysBy_0 23 rfl rfl
theorem dX5_laysBy_0 : decode cX5_laysBy 0 = .ok (.iconst 0, 1) := dk_3 (dk_at dksX5_laysBy_0 0 rfl rfl)
theorem dX5_laysBy_1 : decode cX5_laysBy 1 = .ok (.istore_n 1, 1) := dk_60 (dk_at dksX5_laysBy_0 1 rfl rfl)
theorem dX5_laysBy_2 : decode cX5_laysBy 2 = .ok (.iload_n 1, 1) := dk_27 (dk_at dksX5_laysBy_0 2 rfl rfl)
theorem dX5_laysBy_3 : decode cX5_laysBy 3 = .ok (.bipush 75, 2) := dk_16 75 (dk_at dksX5_laysBy_0 3 rfl rfl)
theorem dX5_laysBy_5 : decode cX5_laysBy 5 = .ok (.if_icmp .ge 21, 3) := dk_162 0 21 (dk_at dksX5_laysBy_0 5 rfl rfl)
theorem dX5_laysBy_8 : decode cX5_laysBy 8 = .ok (.aload_n 0, 1) := dk_42 (dk_at dksX5_laysBy_0 8 rfl rfl)
theorem dX5_laysBy_9 : decode cX5_laysBy 9 = .ok (.getfield 46, 3) := dk_180 0 46 (dk_at dksX5_laysBy_0 9 rfl rfl)
theorem dX5_laysBy_12 : decode cX5_laysBy 12 = .ok (.iload_n 1, 1) := dk_27 (dk_at dksX5_laysBy_0 12 rfl rfl)
theorem dX5_laysBy_13 : decode cX5_laysBy 13 = .ok (.aload_n 0, 1) := dk_42 (dk_at dksX5_laysBy_0 13 rfl rfl)
theorem dX5_laysBy_14 : decode cX5_laysBy 14 = .ok (.getfield 7, 3) := dk_180 0 7 (dk_at dksX5_laysBy_0 14 rfl rfl)
theorem dX5_laysBy_17 : decode cX5_laysBy 17 = .ok (.iload_n 1, 1) := dk_27 (dk_at dksX5_laysBy_0 17 rfl rfl)
theorem dX5_laysBy_18 : decode cX5_laysBy 18 = .ok (.iaload, 1) := dk_46 (dk_at dksX5_laysBy_0 18 rfl rfl)
theorem dX5_laysBy_19 : decode cX5_laysBy 19 = .ok (.iastore, 1) := dk_79 (dk_at dksX5_laysBy_0 19 rfl rfl)
theorem dX5_laysBy_20 : decode cX5_laysBy 20 = .ok (.iinc 1 1, 3) := dk_132 1 1 (dk_at dksX5_laysBy_0 20 rfl rfl)
theorem dX5_laysBy_23 : decode cX5_laysBy 23 = .ok (.goto (-21), 3) := dk_167 255 235 (dk_at dksX5_laysBy_1 0 rfl rfl)
theorem dX5_laysBy_26 : decode cX5_laysBy 26 = .ok (.return_, 1) := dk_177 (dk_at dksX5_laysBy_1 3 rfl rfl)
abbrev cX5_goesOnMany : ByteArray := prog_18_method_50_code
def yX5_goesOnMany : MethodName := ⟨RX5, "goesOnMany", "(I)V"⟩
def dkwX5_goesOnMany_0 : List UInt8 := [3, 61, 28, 27, 162, 0, 13, 42, 182, 0, 178, 132, 2, 1, 167, 255, 244, 177]
abbrev dktX5_goesOnMany_0 : List UInt8 := dkwX5_goesOnMany_0 ++ []
theorem dksX5_goesOnMany_0 : cX5_goesOnMany.data.toList.drop 0 = dktX5_goesOnMany_0 := by decide +kernel
theorem dX5_goesOnMany_0 : decode cX5_goesOnMany 0 = .ok (.iconst 0, 1) := dk_3 (dk_at dksX5_goesOnMany_0 0 rfl rfl)
theorem dX5_goesOnMany_1 : decode cX5_goesOnMany 1 = .ok (.istore_n 2, 1) := dk_61 (dk_at dksX5_goesOnMany_0 1 rfl rfl)
theorem dX5_goesOnMany_2 : decode cX5_goesOnMany 2 = .ok (.iload_n 2, 1) := dk_28 (dk_at dksX5_goesOnMany_0 2 rfl rfl)
theorem dX5_goesOnMany_3 : decode cX5_goesOnMany 3 = .ok (.iload_n 1, 1) := dk_27 (dk_at dksX5_goesOnMany_0 3 rfl rfl)
theorem dX5_goesOnMany_4 : decode cX5_goesOnMany 4 = .ok (.if_icmp .ge 13, 3) := dk_162 0 13 (dk_at dksX5_goesOnMany_0 4 rfl rfl)
theorem dX5_goesOnMany_7 : decode cX5_goesOnMany 7 = .ok (.aload_n 0, 1) := dk_42 (dk_at dksX5_goesOnMany_0 7 rfl rfl)
theorem dX5_goesOnMany_8 : decode cX5_goesOnMany 8 = .ok (.invokevirtual 178, 3) := dk_182 0 178 (dk_at dksX5_goesOnMany_0 8 rfl rfl)
theorem dX5_goesOnMany_11 : decode cX5_goesOnMany 11 = .ok (.iinc 2 1, 3) := dk_132 2 1 (dk_at dksX5_goesOnMany_0 11 rfl rfl)
theorem dX5_goesOnMany_14 : decode cX5_goesOnMany 14 = .ok (.goto (-12), 3) := dk_167 255 244 (dk_at dksX5_goesOnMany_0 14 rfl rfl)
theorem dX5_goesOnMany_17 : decode cX5_goesOnMany 17 = .ok (.return_, 1) := dk_177 (dk_at dksX5_goesOnMany_0 17 rfl rfl)
abbrev cX5_laysBack : ByteArray := prog_18_method_55_code
def yX5_laysBack : MethodName := ⟨RX5, "laysBack", "()V"⟩
def dkwX5_laysBack_1 : List UInt8 := [167, 255, 235, 177]
abbrev dktX5_laysBack_1 : List UInt8 := dkwX5_laysBack_1 ++ []
def dkwX5_laysBack_0 : List UInt8 := [3, 60, 27, 16, 75, 162, 0, 21, 42, 180, 0, 7, 27, 42, 180, 0, 46, 27, 46, 79, 132, 1, 1]
abbrev dktX5_laysBack_0 : List UInt8 := dkwX5_laysBack_0 ++ dktX5_laysBack_1
theorem dksX5_laysBack_0 : cX5_laysBack.data.toList.drop 0 = dktX5_laysBack_0 := by decide +kernel
theorem dksX5_laysBack_1 : cX5_laysBack.data.toList.drop 23 = dktX5_laysBack_1 := dk_seg dksX5_laysBack_0 23 rfl rfl
theorem dX5_laysBack_0 : decode cX5_laysBack 0 = .ok (.iconst 0, 1) := dk_3 (dk_at dksX5_laysBack_0 0 rfl rfl)
theorem dX5_laysBack_1 : decode cX5_laysBack 1 = .ok (.istore_n 1, 1) := dk_60 (dk_at dksX5_laysBack_0 1 rfl rfl)
theorem dX5_laysBack_2 : decode cX5_laysBack 2 = .ok (.iload_n 1, 1) := dk_27 (dk_at dksX5_laysBack_0 2 rfl rfl)
theorem dX5_laysBack_3 : decode cX5_laysBack 3 = .ok (.bipush 75, 2) := dk_16 75 (dk_at dksX5_laysBack_0 3 rfl rfl)
theorem dX5_laysBack_5 : decode cX5_laysBack 5 = .ok (.if_icmp .ge 21, 3) := dk_162 0 21 (dk_at dksX5_laysBack_0 5 rfl rfl)
theorem dX5_laysBack_8 : decode cX5_laysBack 8 = .ok (.aload_n 0, 1) := dk_42 (dk_at dksX5_laysBack_0 8 rfl rfl)
theorem dX5_laysBack_9 : decode cX5_laysBack 9 = .ok (.getfield 7, 3) := dk_180 0 7 (dk_at dksX5_laysBack_0 9 rfl rfl)
theorem dX5_laysBack_12 : decode cX5_laysBack 12 = .ok (.iload_n 1, 1) := dk_27 (dk_at dksX5_laysBack_0 12 rfl rfl)
theorem dX5_laysBack_13 : decode cX5_laysBack 13 = .ok (.aload_n 0, 1) := dk_42 (dk_at dksX5_laysBack_0 13 rfl rfl)
theorem dX5_laysBack_14 : decode cX5_laysBack 14 = .ok (.getfield 46, 3) := dk_180 0 46 (dk_at dksX5_laysBack_0 14 rfl rfl)
theorem dX5_laysBack_17 : decode cX5_laysBack 17 = .ok (.iload_n 1, 1) := dk_27 (dk_at dksX5_laysBack_0 17 rfl rfl)
theorem dX5_laysBack_18 : decode cX5_laysBack 18 = .ok (.iaload, 1) := dk_46 (dk_at dksX5_laysBack_0 18 rfl rfl)
theorem dX5_laysBack_19 : decode cX5_laysBack 19 = .ok (.iastore, 1) := dk_79 (dk_at dksX5_laysBack_0 19 rfl rfl)
theorem dX5_laysBack_20 : decode cX5_laysBack 20 = .ok (.iinc 1 1, 3) := dk_132 1 1 (dk_at dksX5_laysBack_0 20 rfl rfl)
theorem dX5_laysBack_23 : decode cX5_laysBack 23 = .ok (.goto (-21), 3) := dk_167 255 235 (dk_at dksX5_laysBack_1 0 rfl rfl)
theorem dX5_laysBack_26 : decode cX5_laysBack 26 = .ok (.return_, 1) := dk_177 (dk_at dksX5_laysBack_1 3 rfl rfl)
abbrev cX5_lasts : ByteArray := prog_18_method_57_code
def yX5_lasts : MethodName := ⟨RX5, "lasts", "()I"⟩
def dkwX5_lasts_2 : List UInt8 := [184, 0, 196, 172]
abbrev dktX5_lasts_2 : List UInt8 := dkwX5_lasts_2 ++ []
def dkwX5_lasts_1 : List UInt8 := [154, 0, 7, 28, 167, 0, 4, 2, 60, 42, 182, 0, 178, 132, 2, 1, 167, 255, 225, 42, 182, 0, 193, 27]
abbrev dktX5_lasts_1 : List UInt8 := dkwX5_lasts_1 ++ dktX5_lasts_2
def dkwX5_lasts_0 : List UInt8 := [42, 182, 0, 186, 2, 60, 3, 61, 28, 17, 1, 44, 163, 0, 30, 27, 156, 0, 26, 42, 182, 0, 163]
abbrev dktX5_lasts_0 : List UInt8 := dkwX5_lasts_0 ++ dktX5_lasts_1
theorem dksX5_lasts_0 : cX5_lasts.data.toList.drop 0 = dktX5_lasts_0 := by decide +kernel
theorem dksX5_lasts_1 : cX5_lasts.data.toList.drop 23 = dktX5_lasts_1 := dk_seg dksX5_lasts_0 23 rfl rfl
theorem dksX5_lasts_2 : cX5_lasts.data.toList.drop 47 = dktX5_lasts_2 := dk_seg dksX5_lasts_1 24 rfl rfl
theorem dX5_lasts_0 : decode cX5_lasts 0 = .ok (.aload_n 0, 1) := dk_42 (dk_at dksX5_lasts_0 0 rfl rfl)
theorem dX5_lasts_1 : decode cX5_lasts 1 = .ok (.invokevirtual 186, 3) := dk_182 0 186 (dk_at dksX5_lasts_0 1 rfl rfl)
theorem dX5_lasts_4 : decode cX5_lasts 4 = .ok (.iconst (-1), 1) := dk_2 (dk_at dksX5_lasts_0 4 rfl rfl)
theorem dX5_lasts_5 : decode cX5_lasts 5 = .ok (.istore_n 1, 1) := dk_60 (dk_at dksX5_lasts_0 5 rfl rfl)
theorem dX5_lasts_6 : decode cX5_lasts 6 = .ok (.iconst 0, 1) := dk_3 (dk_at dksX5_lasts_0 6 rfl rfl)
theorem dX5_lasts_7 : decode cX5_lasts 7 = .ok (.istore_n 2, 1) := dk_61 (dk_at dksX5_lasts_0 7 rfl rfl)
theorem dX5_lasts_8 : decode cX5_lasts 8 = .ok (.iload_n 2, 1) := dk_28 (dk_at dksX5_lasts_0 8 rfl rfl)
theorem dX5_lasts_9 : decode cX5_lasts 9 = .ok (.sipush 300, 3) := dk_17 1 44 (dk_at dksX5_lasts_0 9 rfl rfl)
theorem dX5_lasts_12 : decode cX5_lasts 12 = .ok (.if_icmp .gt 30, 3) := dk_163 0 30 (dk_at dksX5_lasts_0 12 rfl rfl)
theorem dX5_lasts_15 : decode cX5_lasts 15 = .ok (.iload_n 1, 1) := dk_27 (dk_at dksX5_lasts_0 15 rfl rfl)
theorem dX5_lasts_16 : decode cX5_lasts 16 = .ok (.ifCond .ge 26, 3) := dk_156 0 26 (dk_at dksX5_lasts_0 16 rfl rfl)
theorem dX5_lasts_19 : decode cX5_lasts 19 = .ok (.aload_n 0, 1) := dk_42 (dk_at dksX5_lasts_0 19 rfl rfl)
theorem dX5_lasts_20 : decode cX5_lasts 20 = .ok (.invokevirtual 163, 3) := dk_182 0 163 (dk_at dksX5_lasts_0 20 rfl rfl)
theorem dX5_lasts_23 : decode cX5_lasts 23 = .ok (.ifCond .ne 7, 3) := dk_154 0 7 (dk_at dksX5_lasts_1 0 rfl rfl)
theorem dX5_lasts_26 : decode cX5_lasts 26 = .ok (.iload_n 2, 1) := dk_28 (dk_at dksX5_lasts_1 3 rfl rfl)
theorem dX5_lasts_27 : decode cX5_lasts 27 = .ok (.goto 4, 3) := dk_167 0 4 (dk_at dksX5_lasts_1 4 rfl rfl)
theorem dX5_lasts_30 : decode cX5_lasts 30 = .ok (.iconst (-1), 1) := dk_2 (dk_at dksX5_lasts_1 7 rfl rfl)
theorem dX5_lasts_31 : decode cX5_lasts 31 = .ok (.istore_n 1, 1) := dk_60 (dk_at dksX5_lasts_1 8 rfl rfl)
theorem dX5_lasts_32 : decode cX5_lasts 32 = .ok (.aload_n 0, 1) := dk_42 (dk_at dksX5_lasts_1 9 rfl rfl)
theorem dX5_lasts_33 : decode cX5_lasts 33 = .ok (.invokevirtual 178, 3) := dk_182 0 178 (dk_at dksX5_lasts_1 10 rfl rfl)
theorem dX5_lasts_36 : decode cX5_lasts 36 = .ok (.iinc 2 1, 3) := dk_132 2 1 (dk_at dksX5_lasts_1 13 rfl rfl)
theorem dX5_lasts_39 : decode cX5_lasts 39 = .ok (.goto (-31), 3) := dk_167 255 225 (dk_at dksX5_lasts_1 16 rfl rfl)
theorem dX5_lasts_42 : decode cX5_lasts 42 = .ok (.aload_n 0, 1) := dk_42 (dk_at dksX5_lasts_1 19 rfl rfl)
theorem dX5_lasts_43 : decode cX5_lasts 43 = .ok (.invokevirtual 193, 3) := dk_182 0 193 (dk_at dksX5_lasts_1 20 rfl rfl)
theorem dX5_lasts_46 : decode cX5_lasts 46 = .ok (.iload_n 1, 1) := dk_27 (dk_at dksX5_lasts_1 23 rfl rfl)
theorem dX5_lasts_47 : decode cX5_lasts 47 = .ok (.invokestatic 196, 3) := dk_184 0 196 (dk_at dksX5_lasts_2 0 rfl rfl)
theorem dX5_lasts_50 : decode cX5_lasts 50 = .ok (.ireturn, 1) := dk_172 (dk_at dksX5_lasts_2 3 rfl rfl)
abbrev cX5_orNone : ByteArray := prog_18_method_3_code
def yX5_orNone : MethodName := ⟨RX5, "orNone", "(I)I"⟩
def dkwX5_orNone_0 : List UInt8 := [26, 156, 0, 8, 18, 67, 167, 0, 4, 26, 172]
abbrev dktX5_orNone_0 : List UInt8 := dkwX5_orNone_0 ++ []
theorem dksX5_orNone_0 : cX5_orNone.data.toList.drop 0 = dktX5_orNone_0 := by decide +kernel
theorem dX5_orNone_0 : decode cX5_orNone 0 = .ok (.iload_n 0, 1) := dk_26 (dk_at dksX5_orNone_0 0 rfl rfl)
theorem dX5_orNone_1 : decode cX5_orNone 1 = .ok (.ifCond .ge 8, 3) := dk_156 0 8 (dk_at dksX5_orNone_0 1 rfl rfl)
theorem dX5_orNone_4 : decode cX5_orNone 4 = .ok (.ldc 67, 2) := dk_18 67 (dk_at dksX5_orNone_0 4 rfl rfl)
theorem dX5_orNone_6 : decode cX5_orNone 6 = .ok (.goto 4, 3) := dk_167 0 4 (dk_at dksX5_orNone_0 6 rfl rfl)
theorem dX5_orNone_9 : decode cX5_orNone 9 = .ok (.iload_n 0, 1) := dk_26 (dk_at dksX5_orNone_0 9 rfl rfl)
theorem dX5_orNone_10 : decode cX5_orNone 10 = .ok (.ireturn, 1) := dk_172 (dk_at dksX5_orNone_0 10 rfl rfl)
abbrev cX5_best : ByteArray := prog_18_method_58_code
def yX5_best : MethodName := ⟨RX5, "best", "(III)I"⟩
def dkwX5_best_5 : List UInt8 := [21, 4, 167, 0, 5, 21, 5, 172]
abbrev dktX5_best_5 : List UInt8 := dkwX5_best_5 ++ []
def dkwX5_best_4 : List UInt8 := [21, 5, 164, 0, 8, 21, 7, 167, 0, 5, 21, 5, 54, 5, 132, 6, 1, 167, 255, 189, 29, 154, 0, 8]
abbrev dktX5_best_4 : List UInt8 := dkwX5_best_4 ++ dktX5_best_5
def dkwX5_best_3 : List UInt8 := [54, 7, 42, 182, 0, 193, 21, 7, 21, 5, 164, 0, 8, 21, 6, 167, 0, 5, 21, 4, 54, 4, 21, 7]
abbrev dktX5_best_3 : List UInt8 := dkwX5_best_3 ++ dktX5_best_4
def dkwX5_best_2 : List UInt8 := [16, 16, 162, 0, 66, 42, 27, 7, 21, 6, 182, 0, 73, 42, 28, 182, 0, 189, 42, 27, 8, 182, 0, 88]
abbrev dktX5_best_2 : List UInt8 := dkwX5_best_2 ++ dktX5_best_3
def dkwX5_best_1 : List UInt8 := [184, 0, 68, 154, 0, 6, 18, 83, 172, 42, 182, 0, 186, 3, 54, 4, 2, 54, 5, 3, 54, 6, 21, 6]
abbrev dktX5_best_1 : List UInt8 := dkwX5_best_1 ++ dktX5_best_2
def dkwX5_best_0 : List UInt8 := [42, 27, 182, 0, 109, 153, 0, 25, 28, 133, 10, 20, 0, 199, 184, 0, 68, 153, 0, 13, 29, 133, 9, 10]
abbrev dktX5_best_0 : List UInt8 := dkwX5_best_0 ++ dktX5_best_1
theorem dksX5_best_0 : cX5_best.data.toList.drop 0 = dktX5_best_0 := by decide +kernel
theorem dksX5_best_1 : cX5_best.data.toList.drop 24 = dktX5_best_1 := dk_seg dksX5_best_0 24 rfl rfl
theorem dksX5_best_2 : cX5_best.data.toList.drop 48 = dktX5_best_2 := dk_seg dksX5_best_1 24 rfl rfl
theorem dksX5_best_3 : cX5_best.data.toList.drop 72 = dktX5_best_3 := dk_seg dksX5_best_2 24 rfl rfl
theorem dksX5_best_4 : cX5_best.data.toList.drop 96 = dktX5_best_4 := dk_seg dksX5_best_3 24 rfl rfl
theorem dksX5_best_5 : cX5_best.data.toList.drop 120 = dktX5_best_5 := dk_seg dksX5_best_4 24 rfl rfl
theorem dX5_best_0 : decode cX5_best 0 = .ok (.aload_n 0, 1) := dk_42 (dk_at dksX5_best_0 0 rfl rfl)
theorem dX5_best_1 : decode cX5_best 1 = .ok (.iload_n 1, 1) := dk_27 (dk_at dksX5_best_0 1 rfl rfl)
theorem dX5_best_2 : decode cX5_best 2 = .ok (.invokevirtual 109, 3) := dk_182 0 109 (dk_at dksX5_best_0 2 rfl rfl)
theorem dX5_best_5 : decode cX5_best 5 = .ok (.ifCond .eq 25, 3) := dk_153 0 25 (dk_at dksX5_best_0 5 rfl rfl)
theorem dX5_best_8 : decode cX5_best 8 = .ok (.iload_n 2, 1) := dk_28 (dk_at dksX5_best_0 8 rfl rfl)
theorem dX5_best_9 : decode cX5_best 9 = .ok (.i2l, 1) := dk_133 (dk_at dksX5_best_0 9 rfl rfl)
theorem dX5_best_10 : decode cX5_best 10 = .ok (.lconst 1, 1) := dk_10 (dk_at dksX5_best_0 10 rfl rfl)
theorem dX5_best_11 : decode cX5_best 11 = .ok (.ldc2_w 199, 3) := dk_20 0 199 (dk_at dksX5_best_0 11 rfl rfl)
theorem dX5_best_14 : decode cX5_best 14 = .ok (.invokestatic 68, 3) := dk_184 0 68 (dk_at dksX5_best_0 14 rfl rfl)
theorem dX5_best_17 : decode cX5_best 17 = .ok (.ifCond .eq 13, 3) := dk_153 0 13 (dk_at dksX5_best_0 17 rfl rfl)
theorem dX5_best_20 : decode cX5_best 20 = .ok (.iload_n 3, 1) := dk_29 (dk_at dksX5_best_0 20 rfl rfl)
theorem dX5_best_21 : decode cX5_best 21 = .ok (.i2l, 1) := dk_133 (dk_at dksX5_best_0 21 rfl rfl)
theorem dX5_best_22 : decode cX5_best 22 = .ok (.lconst 0, 1) := dk_9 (dk_at dksX5_best_0 22 rfl rfl)
theorem dX5_best_23 : decode cX5_best 23 = .ok (.lconst 1, 1) := dk_10 (dk_at dksX5_best_0 23 rfl rfl)
theorem dX5_best_24 : decode cX5_best 24 = .ok (.invokestatic 68, 3) := dk_184 0 68 (dk_at dksX5_best_1 0 rfl rfl)
theorem dX5_best_27 : decode cX5_best 27 = .ok (.ifCond .ne 6, 3) := dk_154 0 6 (dk_at dksX5_best_1 3 rfl rfl)
theorem dX5_best_30 : decode cX5_best 30 = .ok (.ldc 83, 2) := dk_18 83 (dk_at dksX5_best_1 6 rfl rfl)
theorem dX5_best_32 : decode cX5_best 32 = .ok (.ireturn, 1) := dk_172 (dk_at dksX5_best_1 8 rfl rfl)
theorem dX5_best_33 : decode cX5_best 33 = .ok (.aload_n 0, 1) := dk_42 (dk_at dksX5_best_1 9 rfl rfl)
theorem dX5_best_34 : decode cX5_best 34 = .ok (.invokevirtual 186, 3) := dk_182 0 186 (dk_at dksX5_best_1 10 rfl rfl)
theorem dX5_best_37 : decode cX5_best 37 = .ok (.iconst 0, 1) := dk_3 (dk_at dksX5_best_1 13 rfl rfl)
theorem dX5_best_38 : decode cX5_best 38 = .ok (.istore 4, 2) := dk_54 4 (dk_at dksX5_best_1 14 rfl rfl)
theorem dX5_best_40 : decode cX5_best 40 = .ok (.iconst (-1), 1) := dk_2 (dk_at dksX5_best_1 16 rfl rfl)
theorem dX5_best_41 : decode cX5_best 41 = .ok (.istore 5, 2) := dk_54 5 (dk_at dksX5_best_1 17 rfl rfl)
theorem dX5_best_43 : decode cX5_best 43 = .ok (.iconst 0, 1) := dk_3 (dk_at dksX5_best_1 19 rfl rfl)
theorem dX5_best_44 : decode cX5_best 44 = .ok (.istore 6, 2) := dk_54 6 (dk_at dksX5_best_1 20 rfl rfl)
theorem dX5_best_46 : decode cX5_best 46 = .ok (.iload 6, 2) := dk_21 6 (dk_at dksX5_best_1 22 rfl rfl)
theorem dX5_best_48 : decode cX5_best 48 = .ok (.bipush 16, 2) := dk_16 16 (dk_at dksX5_best_2 0 rfl rfl)
theorem dX5_best_50 : decode cX5_best 50 = .ok (.if_icmp .ge 66, 3) := dk_162 0 66 (dk_at dksX5_best_2 2 rfl rfl)
theorem dX5_best_53 : decode cX5_best 53 = .ok (.aload_n 0, 1) := dk_42 (dk_at dksX5_best_2 5 rfl rfl)
theorem dX5_best_54 : decode cX5_best 54 = .ok (.iload_n 1, 1) := dk_27 (dk_at dksX5_best_2 6 rfl rfl)
theorem dX5_best_55 : decode cX5_best 55 = .ok (.iconst 4, 1) := dk_7 (dk_at dksX5_best_2 7 rfl rfl)
theorem dX5_best_56 : decode cX5_best 56 = .ok (.iload 6, 2) := dk_21 6 (dk_at dksX5_best_2 8 rfl rfl)
theorem dX5_best_58 : decode cX5_best 58 = .ok (.invokevirtual 73, 3) := dk_182 0 73 (dk_at dksX5_best_2 10 rfl rfl)
theorem dX5_best_61 : decode cX5_best 61 = .ok (.aload_n 0, 1) := dk_42 (dk_at dksX5_best_2 13 rfl rfl)
theorem dX5_best_62 : decode cX5_best 62 = .ok (.iload_n 2, 1) := dk_28 (dk_at dksX5_best_2 14 rfl rfl)
theorem dX5_best_63 : decode cX5_best 63 = .ok (.invokevirtual 189, 3) := dk_182 0 189 (dk_at dksX5_best_2 15 rfl rfl)
theorem dX5_best_66 : decode cX5_best 66 = .ok (.aload_n 0, 1) := dk_42 (dk_at dksX5_best_2 18 rfl rfl)
theorem dX5_best_67 : decode cX5_best 67 = .ok (.iload_n 1, 1) := dk_27 (dk_at dksX5_best_2 19 rfl rfl)
theorem dX5_best_68 : decode cX5_best 68 = .ok (.iconst 5, 1) := dk_8 (dk_at dksX5_best_2 20 rfl rfl)
theorem dX5_best_69 : decode cX5_best 69 = .ok (.invokevirtual 88, 3) := dk_182 0 88 (dk_at dksX5_best_2 21 rfl rfl)
theorem dX5_best_72 : decode cX5_best 72 = .ok (.istore 7, 2) := dk_54 7 (dk_at dksX5_best_3 0 rfl rfl)
theorem dX5_best_74 : decode cX5_best 74 = .ok (.aload_n 0, 1) := dk_42 (dk_at dksX5_best_3 2 rfl rfl)
theorem dX5_best_75 : decode cX5_best 75 = .ok (.invokevirtual 193, 3) := dk_182 0 193 (dk_at dksX5_best_3 3 rfl rfl)
theorem dX5_best_78 : decode cX5_best 78 = .ok (.iload 7, 2) := dk_21 7 (dk_at dksX5_best_3 6 rfl rfl)
theorem dX5_best_80 : decode cX5_best 80 = .ok (.iload 5, 2) := dk_21 5 (dk_at dksX5_best_3 8 rfl rfl)
theorem dX5_best_82 : decode cX5_best 82 = .ok (.if_icmp .le 8, 3) := dk_164 0 8 (dk_at dksX5_best_3 10 rfl rfl)
theorem dX5_best_85 : decode cX5_best 85 = .ok (.iload 6, 2) := dk_21 6 (dk_at dksX5_best_3 13 rfl rfl)
theorem dX5_best_87 : decode cX5_best 87 = .ok (.goto 5, 3) := dk_167 0 5 (dk_at dksX5_best_3 15 rfl rfl)
theorem dX5_best_90 : decode cX5_best 90 = .ok (.iload 4, 2) := dk_21 4 (dk_at dksX5_best_3 18 rfl rfl)
theorem dX5_best_92 : decode cX5_best 92 = .ok (.istore 4, 2) := dk_54 4 (dk_at dksX5_best_3 20 rfl rfl)
theorem dX5_best_94 : decode cX5_best 94 = .ok (.iload 7, 2) := dk_21 7 (dk_at dksX5_best_3 22 rfl rfl)
theorem dX5_best_96 : decode cX5_best 96 = .ok (.iload 5, 2) := dk_21 5 (dk_at dksX5_best_4 0 rfl rfl)
theorem dX5_best_98 : decode cX5_best 98 = .ok (.if_icmp .le 8, 3) := dk_164 0 8 (dk_at dksX5_best_4 2 rfl rfl)
theorem dX5_best_101 : decode cX5_best 101 = .ok (.iload 7, 2) := dk_21 7 (dk_at dksX5_best_4 5 rfl rfl)
theorem dX5_best_103 : decode cX5_best 103 = .ok (.goto 5, 3) := dk_167 0 5 (dk_at dksX5_best_4 7 rfl rfl)
theorem dX5_best_106 : decode cX5_best 106 = .ok (.iload 5, 2) := dk_21 5 (dk_at dksX5_best_4 10 rfl rfl)
theorem dX5_best_108 : decode cX5_best 108 = .ok (.istore 5, 2) := dk_54 5 (dk_at dksX5_best_4 12 rfl rfl)
theorem dX5_best_110 : decode cX5_best 110 = .ok (.iinc 6 1, 3) := dk_132 6 1 (dk_at dksX5_best_4 14 rfl rfl)
theorem dX5_best_113 : decode cX5_best 113 = .ok (.goto (-67), 3) := dk_167 255 189 (dk_at dksX5_best_4 17 rfl rfl)
theorem dX5_best_116 : decode cX5_best 116 = .ok (.iload_n 3, 1) := dk_29 (dk_at dksX5_best_4 20 rfl rfl)
theorem dX5_best_117 : decode cX5_best 117 = .ok (.ifCond .ne 8, 3) := dk_154 0 8 (dk_at dksX5_best_4 21 rfl rfl)
theorem dX5_best_120 : decode cX5_best 120 = .ok (.iload 4, 2) := dk_21 4 (dk_at dksX5_best_5 0 rfl rfl)
theorem dX5_best_122 : decode cX5_best 122 = .ok (.goto 5, 3) := dk_167 0 5 (dk_at dksX5_best_5 2 rfl rfl)
theorem dX5_best_125 : decode cX5_best 125 = .ok (.iload 5, 2) := dk_21 5 (dk_at dksX5_best_5 5 rfl rfl)
theorem dX5_best_127 : decode cX5_best 127 = .ok (.ireturn, 1) := dk_172 (dk_at dksX5_best_5 7 rfl rfl)
abbrev cX5_taught : ByteArray := prog_18_method_59_code
def yX5_taught : MethodName := ⟨RX5, "taught", "(II)I"⟩
def dkwX5_taught_5 : List UInt8 := [154, 0, 7, 29, 167, 0, 5, 21, 4, 172]
abbrev dktX5_taught_5 : List UInt8 := dkwX5_taught_5 ++ []
def dkwX5_taught_4 : List UInt8 := [21, 6, 21, 4, 164, 0, 8, 21, 6, 167, 0, 5, 21, 4, 54, 4, 132, 5, 1, 167, 255, 179, 28]
abbrev dktX5_taught_4 : List UInt8 := dkwX5_taught_4 ++ dktX5_taught_5
def dkwX5_taught_3 : List UInt8 := [182, 0, 183, 54, 6, 42, 182, 0, 193, 21, 6, 21, 4, 164, 0, 8, 21, 5, 167, 0, 4, 29, 62]
abbrev dktX5_taught_3 : List UInt8 := dkwX5_taught_3 ++ dktX5_taught_4
def dkwX5_taught_2 : List UInt8 := [8, 21, 5, 96, 42, 180, 0, 7, 8, 21, 5, 96, 46, 4, 96, 7, 112, 79, 42, 27, 182, 0, 189, 42]
abbrev dktX5_taught_2 : List UInt8 := dkwX5_taught_2 ++ dktX5_taught_3
def dkwX5_taught_1 : List UInt8 := [172, 42, 182, 0, 186, 3, 62, 2, 54, 4, 3, 54, 5, 21, 5, 16, 16, 162, 0, 76, 42, 180, 0, 7]
abbrev dktX5_taught_1 : List UInt8 := dkwX5_taught_1 ++ dktX5_taught_2
def dkwX5_taught_0 : List UInt8 := [27, 133, 10, 20, 0, 199, 184, 0, 68, 153, 0, 13, 28, 133, 9, 10, 184, 0, 68, 154, 0, 6, 18, 83]
abbrev dktX5_taught_0 : List UInt8 := dkwX5_taught_0 ++ dktX5_taught_1
theorem dksX5_taught_0 : cX5_taught.data.toList.drop 0 = dktX5_taught_0 := by decide +kernel
theorem dksX5_taught_1 : cX5_taught.data.toList.drop 24 = dktX5_taught_1 := dk_seg dksX5_taught_0 24 rfl rfl
theorem dksX5_taught_2 : cX5_taught.data.toList.drop 48 = dktX5_taught_2 := dk_seg dksX5_taught_1 24 rfl rfl
theorem dksX5_taught_3 : cX5_taught.data.toList.drop 72 = dktX5_taught_3 := dk_seg dksX5_taught_2 24 rfl rfl
theorem dksX5_taught_4 : cX5_taught.data.toList.drop 95 = dktX5_taught_4 := dk_seg dksX5_taught_3 23 rfl rfl
theorem dksX5_taught_5 : cX5_taught.data.toList.drop 118 = dktX5_taught_5 := dk_seg dksX5_taught_4 23 rfl rfl
theorem dX5_taught_0 : decode cX5_taught 0 = .ok (.iload_n 1, 1) := dk_27 (dk_at dksX5_taught_0 0 rfl rfl)
theorem dX5_taught_1 : decode cX5_taught 1 = .ok (.i2l, 1) := dk_133 (dk_at dksX5_taught_0 1 rfl rfl)
theorem dX5_taught_2 : decode cX5_taught 2 = .ok (.lconst 1, 1) := dk_10 (dk_at dksX5_taught_0 2 rfl rfl)
theorem dX5_taught_3 : decode cX5_taught 3 = .ok (.ldc2_w 199, 3) := dk_20 0 199 (dk_at dksX5_taught_0 3 rfl rfl)
theorem dX5_taught_6 : decode cX5_taught 6 = .ok (.invokestatic 68, 3) := dk_184 0 68 (dk_at dksX5_taught_0 6 rfl rfl)
theorem dX5_taught_9 : decode cX5_taught 9 = .ok (.ifCond .eq 13, 3) := dk_153 0 13 (dk_at dksX5_taught_0 9 rfl rfl)
theorem dX5_taught_12 : decode cX5_taught 12 = .ok (.iload_n 2, 1) := dk_28 (dk_at dksX5_taught_0 12 rfl rfl)
theorem dX5_taught_13 : decode cX5_taught 13 = .ok (.i2l, 1) := dk_133 (dk_at dksX5_taught_0 13 rfl rfl)
theorem dX5_taught_14 : decode cX5_taught 14 = .ok (.lconst 0, 1) := dk_9 (dk_at dksX5_taught_0 14 rfl rfl)
theorem dX5_taught_15 : decode cX5_taught 15 = .ok (.lconst 1, 1) := dk_10 (dk_at dksX5_taught_0 15 rfl rfl)
theorem dX5_taught_16 : decode cX5_taught 16 = .ok (.invokestatic 68, 3) := dk_184 0 68 (dk_at dksX5_taught_0 16 rfl rfl)
theorem dX5_taught_19 : decode cX5_taught 19 = .ok (.ifCond .ne 6, 3) := dk_154 0 6 (dk_at dksX5_taught_0 19 rfl rfl)
theorem dX5_taught_22 : decode cX5_taught 22 = .ok (.ldc 83, 2) := dk_18 83 (dk_at dksX5_taught_0 22 rfl rfl)
theorem dX5_taught_24 : decode cX5_taught 24 = .ok (.ireturn, 1) := dk_172 (dk_at dksX5_taught_1 0 rfl rfl)
theorem dX5_taught_25 : decode cX5_taught 25 = .ok (.aload_n 0, 1) := dk_42 (dk_at dksX5_taught_1 1 rfl rfl)
theorem dX5_taught_26 : decode cX5_taught 26 = .ok (.invokevirtual 186, 3) := dk_182 0 186 (dk_at dksX5_taught_1 2 rfl rfl)
theorem dX5_taught_29 : decode cX5_taught 29 = .ok (.iconst 0, 1) := dk_3 (dk_at dksX5_taught_1 5 rfl rfl)
theorem dX5_taught_30 : decode cX5_taught 30 = .ok (.istore_n 3, 1) := dk_62 (dk_at dksX5_taught_1 6 rfl rfl)
theorem dX5_taught_31 : decode cX5_taught 31 = .ok (.iconst (-1), 1) := dk_2 (dk_at dksX5_taught_1 7 rfl rfl)
theorem dX5_taught_32 : decode cX5_taught 32 = .ok (.istore 4, 2) := dk_54 4 (dk_at dksX5_taught_1 8 rfl rfl)
theorem dX5_taught_34 : decode cX5_taught 34 = .ok (.iconst 0, 1) := dk_3 (dk_at dksX5_taught_1 10 rfl rfl)
theorem dX5_taught_35 : decode cX5_taught 35 = .ok (.istore 5, 2) := dk_54 5 (dk_at dksX5_taught_1 11 rfl rfl)
theorem dX5_taught_37 : decode cX5_taught 37 = .ok (.iload 5, 2) := dk_21 5 (dk_at dksX5_taught_1 13 rfl rfl)
theorem dX5_taught_39 : decode cX5_taught 39 = .ok (.bipush 16, 2) := dk_16 16 (dk_at dksX5_taught_1 15 rfl rfl)
theorem dX5_taught_41 : decode cX5_taught 41 = .ok (.if_icmp .ge 76, 3) := dk_162 0 76 (dk_at dksX5_taught_1 17 rfl rfl)
theorem dX5_taught_44 : decode cX5_taught 44 = .ok (.aload_n 0, 1) := dk_42 (dk_at dksX5_taught_1 20 rfl rfl)
theorem dX5_taught_45 : decode cX5_taught 45 = .ok (.getfield 7, 3) := dk_180 0 7 (dk_at dksX5_taught_1 21 rfl rfl)
theorem dX5_taught_48 : decode cX5_taught 48 = .ok (.iconst 5, 1) := dk_8 (dk_at dksX5_taught_2 0 rfl rfl)
theorem dX5_taught_49 : decode cX5_taught 49 = .ok (.iload 5, 2) := dk_21 5 (dk_at dksX5_taught_2 1 rfl rfl)
theorem dX5_taught_51 : decode cX5_taught 51 = .ok (.iadd, 1) := dk_96 (dk_at dksX5_taught_2 3 rfl rfl)
theorem dX5_taught_52 : decode cX5_taught 52 = .ok (.aload_n 0, 1) := dk_42 (dk_at dksX5_taught_2 4 rfl rfl)
theorem dX5_taught_53 : decode cX5_taught 53 = .ok (.getfield 7, 3) := dk_180 0 7 (dk_at dksX5_taught_2 5 rfl rfl)
theorem dX5_taught_56 : decode cX5_taught 56 = .ok (.iconst 5, 1) := dk_8 (dk_at dksX5_taught_2 8 rfl rfl)
theorem dX5_taught_57 : decode cX5_taught 57 = .ok (.iload 5, 2) := dk_21 5 (dk_at dksX5_taught_2 9 rfl rfl)
theorem dX5_taught_59 : decode cX5_taught 59 = .ok (.iadd, 1) := dk_96 (dk_at dksX5_taught_2 11 rfl rfl)
theorem dX5_taught_60 : decode cX5_taught 60 = .ok (.iaload, 1) := dk_46 (dk_at dksX5_taught_2 12 rfl rfl)
theorem dX5_taught_61 : decode cX5_taught 61 = .ok (.iconst 1, 1) := dk_4 (dk_at dksX5_taught_2 13 rfl rfl)
theorem dX5_taught_62 : decode cX5_taught 62 = .ok (.iadd, 1) := dk_96 (dk_at dksX5_taught_2 14 rfl rfl)
theorem dX5_taught_63 : decode cX5_taught 63 = .ok (.iconst 4, 1) := dk_7 (dk_at dksX5_taught_2 15 rfl rfl)
theorem dX5_taught_64 : decode cX5_taught 64 = .ok (.irem, 1) := dk_112 (dk_at dksX5_taught_2 16 rfl rfl)
theorem dX5_taught_65 : decode cX5_taught 65 = .ok (.iastore, 1) := dk_79 (dk_at dksX5_taught_2 17 rfl rfl)
theorem dX5_taught_66 : decode cX5_taught 66 = .ok (.aload_n 0, 1) := dk_42 (dk_at dksX5_taught_2 18 rfl rfl)
theorem dX5_taught_67 : decode cX5_taught 67 = .ok (.iload_n 1, 1) := dk_27 (dk_at dksX5_taught_2 19 rfl rfl)
theorem dX5_taught_68 : decode cX5_taught 68 = .ok (.invokevirtual 189, 3) := dk_182 0 189 (dk_at dksX5_taught_2 20 rfl rfl)
theorem dX5_taught_71 : decode cX5_taught 71 = .ok (.aload_n 0, 1) := dk_42 (dk_at dksX5_taught_2 23 rfl rfl)
theorem dX5_taught_72 : decode cX5_taught 72 = .ok (.invokevirtual 183, 3) := dk_182 0 183 (dk_at dksX5_taught_3 0 rfl rfl)
theorem dX5_taught_75 : decode cX5_taught 75 = .ok (.istore 6, 2) := dk_54 6 (dk_at dksX5_taught_3 3 rfl rfl)
theorem dX5_taught_77 : decode cX5_taught 77 = .ok (.aload_n 0, 1) := dk_42 (dk_at dksX5_taught_3 5 rfl rfl)
theorem dX5_taught_78 : decode cX5_taught 78 = .ok (.invokevirtual 193, 3) := dk_182 0 193 (dk_at dksX5_taught_3 6 rfl rfl)
theorem dX5_taught_81 : decode cX5_taught 81 = .ok (.iload 6, 2) := dk_21 6 (dk_at dksX5_taught_3 9 rfl rfl)
theorem dX5_taught_83 : decode cX5_taught 83 = .ok (.iload 4, 2) := dk_21 4 (dk_at dksX5_taught_3 11 rfl rfl)
theorem dX5_taught_85 : decode cX5_taught 85 = .ok (.if_icmp .le 8, 3) := dk_164 0 8 (dk_at dksX5_taught_3 13 rfl rfl)
theorem dX5_taught_88 : decode cX5_taught 88 = .ok (.iload 5, 2) := dk_21 5 (dk_at dksX5_taught_3 16 rfl rfl)
theorem dX5_taught_90 : decode cX5_taught 90 = .ok (.goto 4, 3) := dk_167 0 4 (dk_at dksX5_taught_3 18 rfl rfl)
theorem dX5_taught_93 : decode cX5_taught 93 = .ok (.iload_n 3, 1) := dk_29 (dk_at dksX5_taught_3 21 rfl rfl)
theorem dX5_taught_94 : decode cX5_taught 94 = .ok (.istore_n 3, 1) := dk_62 (dk_at dksX5_taught_3 22 rfl rfl)
theorem dX5_taught_95 : decode cX5_taught 95 = .ok (.iload 6, 2) := dk_21 6 (dk_at dksX5_taught_4 0 rfl rfl)
theorem dX5_taught_97 : decode cX5_taught 97 = .ok (.iload 4, 2) := dk_21 4 (dk_at dksX5_taught_4 2 rfl rfl)
theorem dX5_taught_99 : decode cX5_taught 99 = .ok (.if_icmp .le 8, 3) := dk_164 0 8 (dk_at dksX5_taught_4 4 rfl rfl)
theorem dX5_taught_102 : decode cX5_taught 102 = .ok (.iload 6, 2) := dk_21 6 (dk_at dksX5_taught_4 7 rfl rfl)
theorem dX5_taught_104 : decode cX5_taught 104 = .ok (.goto 5, 3) := dk_167 0 5 (dk_at dksX5_taught_4 9 rfl rfl)
theorem dX5_taught_107 : decode cX5_taught 107 = .ok (.iload 4, 2) := dk_21 4 (dk_at dksX5_taught_4 12 rfl rfl)
theorem dX5_taught_109 : decode cX5_taught 109 = .ok (.istore 4, 2) := dk_54 4 (dk_at dksX5_taught_4 14 rfl rfl)
theorem dX5_taught_111 : decode cX5_taught 111 = .ok (.iinc 5 1, 3) := dk_132 5 1 (dk_at dksX5_taught_4 16 rfl rfl)
theorem dX5_taught_114 : decode cX5_taught 114 = .ok (.goto (-77), 3) := dk_167 255 179 (dk_at dksX5_taught_4 19 rfl rfl)
theorem dX5_taught_117 : decode cX5_taught 117 = .ok (.iload_n 2, 1) := dk_28 (dk_at dksX5_taught_4 22 rfl rfl)
theorem dX5_taught_118 : decode cX5_taught 118 = .ok (.ifCond .ne 7, 3) := dk_154 0 7 (dk_at dksX5_taught_5 0 rfl rfl)
theorem dX5_taught_121 : decode cX5_taught 121 = .ok (.iload_n 3, 1) := dk_29 (dk_at dksX5_taught_5 3 rfl rfl)
theorem dX5_taught_122 : decode cX5_taught 122 = .ok (.goto 5, 3) := dk_167 0 5 (dk_at dksX5_taught_5 4 rfl rfl)
theorem dX5_taught_125 : decode cX5_taught 125 = .ok (.iload 4, 2) := dk_21 4 (dk_at dksX5_taught_5 7 rfl rfl)
theorem dX5_taught_127 : decode cX5_taught 127 = .ok (.ireturn, 1) := dk_172 (dk_at dksX5_taught_5 9 rfl rfl)
abbrev cX5_fee : ByteArray := prog_18_method_60_code
def yX5_fee : MethodName := ⟨RX5, "fee", "()I"⟩
def dkwX5_fee_2 : List UInt8 := [172]
abbrev dktX5_fee_2 : List UInt8 := dkwX5_fee_2 ++ []
def dkwX5_fee_1 : List UInt8 := [180, 0, 7, 5, 46, 79, 42, 180, 0, 52, 16, 102, 42, 180, 0, 7, 6, 46, 79, 42, 27, 182, 0, 99]
abbrev dktX5_fee_1 : List UInt8 := dkwX5_fee_1 ++ dktX5_fee_2
def dkwX5_fee_0 : List UInt8 := [42, 4, 182, 0, 96, 60, 27, 156, 0, 10, 42, 180, 0, 7, 6, 46, 172, 42, 180, 0, 52, 16, 110, 42]
abbrev dktX5_fee_0 : List UInt8 := dkwX5_fee_0 ++ dktX5_fee_1
theorem dksX5_fee_0 : cX5_fee.data.toList.drop 0 = dktX5_fee_0 := by decide +kernel
theorem dksX5_fee_1 : cX5_fee.data.toList.drop 24 = dktX5_fee_1 := dk_seg dksX5_fee_0 24 rfl rfl
theorem dksX5_fee_2 : cX5_fee.data.toList.drop 48 = dktX5_fee_2 := dk_seg dksX5_fee_1 24 rfl rfl
theorem dX5_fee_0 : decode cX5_fee 0 = .ok (.aload_n 0, 1) := dk_42 (dk_at dksX5_fee_0 0 rfl rfl)
theorem dX5_fee_1 : decode cX5_fee 1 = .ok (.iconst 1, 1) := dk_4 (dk_at dksX5_fee_0 1 rfl rfl)
theorem dX5_fee_2 : decode cX5_fee 2 = .ok (.invokevirtual 96, 3) := dk_182 0 96 (dk_at dksX5_fee_0 2 rfl rfl)
theorem dX5_fee_5 : decode cX5_fee 5 = .ok (.istore_n 1, 1) := dk_60 (dk_at dksX5_fee_0 5 rfl rfl)
theorem dX5_fee_6 : decode cX5_fee 6 = .ok (.iload_n 1, 1) := dk_27 (dk_at dksX5_fee_0 6 rfl rfl)
theorem dX5_fee_7 : decode cX5_fee 7 = .ok (.ifCond .ge 10, 3) := dk_156 0 10 (dk_at dksX5_fee_0 7 rfl rfl)
theorem dX5_fee_10 : decode cX5_fee 10 = .ok (.aload_n 0, 1) := dk_42 (dk_at dksX5_fee_0 10 rfl rfl)
theorem dX5_fee_11 : decode cX5_fee 11 = .ok (.getfield 7, 3) := dk_180 0 7 (dk_at dksX5_fee_0 11 rfl rfl)
theorem dX5_fee_14 : decode cX5_fee 14 = .ok (.iconst 3, 1) := dk_6 (dk_at dksX5_fee_0 14 rfl rfl)
theorem dX5_fee_15 : decode cX5_fee 15 = .ok (.iaload, 1) := dk_46 (dk_at dksX5_fee_0 15 rfl rfl)
theorem dX5_fee_16 : decode cX5_fee 16 = .ok (.ireturn, 1) := dk_172 (dk_at dksX5_fee_0 16 rfl rfl)
theorem dX5_fee_17 : decode cX5_fee 17 = .ok (.aload_n 0, 1) := dk_42 (dk_at dksX5_fee_0 17 rfl rfl)
theorem dX5_fee_18 : decode cX5_fee 18 = .ok (.getfield 52, 3) := dk_180 0 52 (dk_at dksX5_fee_0 18 rfl rfl)
theorem dX5_fee_21 : decode cX5_fee 21 = .ok (.bipush 110, 2) := dk_16 110 (dk_at dksX5_fee_0 21 rfl rfl)
theorem dX5_fee_23 : decode cX5_fee 23 = .ok (.aload_n 0, 1) := dk_42 (dk_at dksX5_fee_0 23 rfl rfl)
theorem dX5_fee_24 : decode cX5_fee 24 = .ok (.getfield 7, 3) := dk_180 0 7 (dk_at dksX5_fee_1 0 rfl rfl)
theorem dX5_fee_27 : decode cX5_fee 27 = .ok (.iconst 2, 1) := dk_5 (dk_at dksX5_fee_1 3 rfl rfl)
theorem dX5_fee_28 : decode cX5_fee 28 = .ok (.iaload, 1) := dk_46 (dk_at dksX5_fee_1 4 rfl rfl)
theorem dX5_fee_29 : decode cX5_fee 29 = .ok (.iastore, 1) := dk_79 (dk_at dksX5_fee_1 5 rfl rfl)
theorem dX5_fee_30 : decode cX5_fee 30 = .ok (.aload_n 0, 1) := dk_42 (dk_at dksX5_fee_1 6 rfl rfl)
theorem dX5_fee_31 : decode cX5_fee 31 = .ok (.getfield 52, 3) := dk_180 0 52 (dk_at dksX5_fee_1 7 rfl rfl)
theorem dX5_fee_34 : decode cX5_fee 34 = .ok (.bipush 102, 2) := dk_16 102 (dk_at dksX5_fee_1 10 rfl rfl)
theorem dX5_fee_36 : decode cX5_fee 36 = .ok (.aload_n 0, 1) := dk_42 (dk_at dksX5_fee_1 12 rfl rfl)
theorem dX5_fee_37 : decode cX5_fee 37 = .ok (.getfield 7, 3) := dk_180 0 7 (dk_at dksX5_fee_1 13 rfl rfl)
theorem dX5_fee_40 : decode cX5_fee 40 = .ok (.iconst 3, 1) := dk_6 (dk_at dksX5_fee_1 16 rfl rfl)
theorem dX5_fee_41 : decode cX5_fee 41 = .ok (.iaload, 1) := dk_46 (dk_at dksX5_fee_1 17 rfl rfl)
theorem dX5_fee_42 : decode cX5_fee 42 = .ok (.iastore, 1) := dk_79 (dk_at dksX5_fee_1 18 rfl rfl)
theorem dX5_fee_43 : decode cX5_fee 43 = .ok (.aload_n 0, 1) := dk_42 (dk_at dksX5_fee_1 19 rfl rfl)
theorem dX5_fee_44 : decode cX5_fee 44 = .ok (.iload_n 1, 1) := dk_27 (dk_at dksX5_fee_1 20 rfl rfl)
theorem dX5_fee_45 : decode cX5_fee 45 = .ok (.invokevirtual 99, 3) := dk_182 0 99 (dk_at dksX5_fee_1 21 rfl rfl)
theorem dX5_fee_48 : decode cX5_fee 48 = .ok (.ireturn, 1) := dk_172 (dk_at dksX5_fee_2 0 rfl rfl)
abbrev cX5_fine : ByteArray := prog_18_method_61_code
def yX5_fine : MethodName := ⟨RX5, "fine", "(I)I"⟩
def dkwX5_fine_2 : List UInt8 := [27, 5, 182, 0, 88, 79, 42, 28, 182, 0, 99, 172]
abbrev dktX5_fine_2 : List UInt8 := dkwX5_fine_2 ++ []
def dkwX5_fine_1 : List UInt8 := [182, 0, 88, 172, 42, 180, 0, 52, 16, 116, 42, 27, 8, 182, 0, 88, 79, 42, 180, 0, 52, 16, 115, 42]
abbrev dktX5_fine_1 : List UInt8 := dkwX5_fine_1 ++ dktX5_fine_2
def dkwX5_fine_0 : List UInt8 := [42, 27, 182, 0, 109, 154, 0, 6, 18, 83, 172, 42, 5, 182, 0, 96, 61, 28, 156, 0, 10, 42, 27, 8]
abbrev dktX5_fine_0 : List UInt8 := dkwX5_fine_0 ++ dktX5_fine_1
theorem dksX5_fine_0 : cX5_fine.data.toList.drop 0 = dktX5_fine_0 := by decide +kernel
theorem dksX5_fine_1 : cX5_fine.data.toList.drop 24 = dktX5_fine_1 := dk_seg dksX5_fine_0 24 rfl rfl
theorem dksX5_fine_2 : cX5_fine.data.toList.drop 48 = dktX5_fine_2 := dk_seg dksX5_fine_1 24 rfl rfl
theorem dX5_fine_0 : decode cX5_fine 0 = .ok (.aload_n 0, 1) := dk_42 (dk_at dksX5_fine_0 0 rfl rfl)
theorem dX5_fine_1 : decode cX5_fine 1 = .ok (.iload_n 1, 1) := dk_27 (dk_at dksX5_fine_0 1 rfl rfl)
theorem dX5_fine_2 : decode cX5_fine 2 = .ok (.invokevirtual 109, 3) := dk_182 0 109 (dk_at dksX5_fine_0 2 rfl rfl)
theorem dX5_fine_5 : decode cX5_fine 5 = .ok (.ifCond .ne 6, 3) := dk_154 0 6 (dk_at dksX5_fine_0 5 rfl rfl)
theorem dX5_fine_8 : decode cX5_fine 8 = .ok (.ldc 83, 2) := dk_18 83 (dk_at dksX5_fine_0 8 rfl rfl)
theorem dX5_fine_10 : decode cX5_fine 10 = .ok (.ireturn, 1) := dk_172 (dk_at dksX5_fine_0 10 rfl rfl)
theorem dX5_fine_11 : decode cX5_fine 11 = .ok (.aload_n 0, 1) := dk_42 (dk_at dksX5_fine_0 11 rfl rfl)
theorem dX5_fine_12 : decode cX5_fine 12 = .ok (.iconst 2, 1) := dk_5 (dk_at dksX5_fine_0 12 rfl rfl)
theorem dX5_fine_13 : decode cX5_fine 13 = .ok (.invokevirtual 96, 3) := dk_182 0 96 (dk_at dksX5_fine_0 13 rfl rfl)
theorem dX5_fine_16 : decode cX5_fine 16 = .ok (.istore_n 2, 1) := dk_61 (dk_at dksX5_fine_0 16 rfl rfl)
theorem dX5_fine_17 : decode cX5_fine 17 = .ok (.iload_n 2, 1) := dk_28 (dk_at dksX5_fine_0 17 rfl rfl)
theorem dX5_fine_18 : decode cX5_fine 18 = .ok (.ifCond .ge 10, 3) := dk_156 0 10 (dk_at dksX5_fine_0 18 rfl rfl)
theorem dX5_fine_21 : decode cX5_fine 21 = .ok (.aload_n 0, 1) := dk_42 (dk_at dksX5_fine_0 21 rfl rfl)
theorem dX5_fine_22 : decode cX5_fine 22 = .ok (.iload_n 1, 1) := dk_27 (dk_at dksX5_fine_0 22 rfl rfl)
theorem dX5_fine_23 : decode cX5_fine 23 = .ok (.iconst 5, 1) := dk_8 (dk_at dksX5_fine_0 23 rfl rfl)
theorem dX5_fine_24 : decode cX5_fine 24 = .ok (.invokevirtual 88, 3) := dk_182 0 88 (dk_at dksX5_fine_1 0 rfl rfl)
theorem dX5_fine_27 : decode cX5_fine 27 = .ok (.ireturn, 1) := dk_172 (dk_at dksX5_fine_1 3 rfl rfl)
theorem dX5_fine_28 : decode cX5_fine 28 = .ok (.aload_n 0, 1) := dk_42 (dk_at dksX5_fine_1 4 rfl rfl)
theorem dX5_fine_29 : decode cX5_fine 29 = .ok (.getfield 52, 3) := dk_180 0 52 (dk_at dksX5_fine_1 5 rfl rfl)
theorem dX5_fine_32 : decode cX5_fine 32 = .ok (.bipush 116, 2) := dk_16 116 (dk_at dksX5_fine_1 8 rfl rfl)
theorem dX5_fine_34 : decode cX5_fine 34 = .ok (.aload_n 0, 1) := dk_42 (dk_at dksX5_fine_1 10 rfl rfl)
theorem dX5_fine_35 : decode cX5_fine 35 = .ok (.iload_n 1, 1) := dk_27 (dk_at dksX5_fine_1 11 rfl rfl)
theorem dX5_fine_36 : decode cX5_fine 36 = .ok (.iconst 5, 1) := dk_8 (dk_at dksX5_fine_1 12 rfl rfl)
theorem dX5_fine_37 : decode cX5_fine 37 = .ok (.invokevirtual 88, 3) := dk_182 0 88 (dk_at dksX5_fine_1 13 rfl rfl)
theorem dX5_fine_40 : decode cX5_fine 40 = .ok (.iastore, 1) := dk_79 (dk_at dksX5_fine_1 16 rfl rfl)
theorem dX5_fine_41 : decode cX5_fine 41 = .ok (.aload_n 0, 1) := dk_42 (dk_at dksX5_fine_1 17 rfl rfl)
theorem dX5_fine_42 : decode cX5_fine 42 = .ok (.getfield 52, 3) := dk_180 0 52 (dk_at dksX5_fine_1 18 rfl rfl)
theorem dX5_fine_45 : decode cX5_fine 45 = .ok (.bipush 115, 2) := dk_16 115 (dk_at dksX5_fine_1 21 rfl rfl)
theorem dX5_fine_47 : decode cX5_fine 47 = .ok (.aload_n 0, 1) := dk_42 (dk_at dksX5_fine_1 23 rfl rfl)
theorem dX5_fine_48 : decode cX5_fine 48 = .ok (.iload_n 1, 1) := dk_27 (dk_at dksX5_fine_2 0 rfl rfl)
theorem dX5_fine_49 : decode cX5_fine 49 = .ok (.iconst 2, 1) := dk_5 (dk_at dksX5_fine_2 1 rfl rfl)
theorem dX5_fine_50 : decode cX5_fine 50 = .ok (.invokevirtual 88, 3) := dk_182 0 88 (dk_at dksX5_fine_2 2 rfl rfl)
theorem dX5_fine_53 : decode cX5_fine 53 = .ok (.iastore, 1) := dk_79 (dk_at dksX5_fine_2 5 rfl rfl)
theorem dX5_fine_54 : decode cX5_fine 54 = .ok (.aload_n 0, 1) := dk_42 (dk_at dksX5_fine_2 6 rfl rfl)
theorem dX5_fine_55 : decode cX5_fine 55 = .ok (.iload_n 2, 1) := dk_28 (dk_at dksX5_fine_2 7 rfl rfl)
theorem dX5_fine_56 : decode cX5_fine 56 = .ok (.invokevirtual 99, 3) := dk_182 0 99 (dk_at dksX5_fine_2 8 rfl rfl)
theorem dX5_fine_59 : decode cX5_fine 59 = .ok (.ireturn, 1) := dk_172 (dk_at dksX5_fine_2 11 rfl rfl)
abbrev cX5_feed : ByteArray := prog_18_method_62_code
def yX5_feed : MethodName := ⟨RX5, "feed", "(III)I"⟩
def dkwX5_feed_4 : List UInt8 := [180, 0, 201, 172]
abbrev dktX5_feed_4 : List UInt8 := dkwX5_feed_4 ++ []
def dkwX5_feed_3 : List UInt8 := [17, 0, 255, 126, 79, 42, 89, 180, 0, 201, 4, 96, 181, 0, 201, 132, 4, 1, 167, 255, 186, 42]
abbrev dktX5_feed_3 : List UInt8 := dkwX5_feed_3 ++ dktX5_feed_4
def dkwX5_feed_2 : List UInt8 := [29, 54, 5, 42, 180, 0, 49, 42, 180, 0, 201, 21, 5, 16, 24, 16, 8, 21, 4, 7, 112, 104, 100, 122]
abbrev dktX5_feed_2 : List UInt8 := dkwX5_feed_2 ++ dktX5_feed_3
def dkwX5_feed_1 : List UInt8 := [162, 0, 69, 21, 4, 7, 162, 0, 7, 27, 167, 0, 15, 21, 4, 16, 8, 162, 0, 7, 28, 167, 0, 4]
abbrev dktX5_feed_1 : List UInt8 := dkwX5_feed_1 ++ dktX5_feed_2
def dkwX5_feed_0 : List UInt8 := [42, 180, 0, 201, 16, 12, 96, 16, 96, 164, 0, 6, 18, 84, 172, 3, 54, 4, 21, 4, 16, 12]
abbrev dktX5_feed_0 : List UInt8 := dkwX5_feed_0 ++ dktX5_feed_1
theorem dksX5_feed_0 : cX5_feed.data.toList.drop 0 = dktX5_feed_0 := by decide +kernel
theorem dksX5_feed_1 : cX5_feed.data.toList.drop 22 = dktX5_feed_1 := dk_seg dksX5_feed_0 22 rfl rfl
theorem dksX5_feed_2 : cX5_feed.data.toList.drop 46 = dktX5_feed_2 := dk_seg dksX5_feed_1 24 rfl rfl
theorem dksX5_feed_3 : cX5_feed.data.toList.drop 70 = dktX5_feed_3 := dk_seg dksX5_feed_2 24 rfl rfl
theorem dksX5_feed_4 : cX5_feed.data.toList.drop 92 = dktX5_feed_4 := dk_seg dksX5_feed_3 22 rfl rfl
theorem dX5_feed_0 : decode cX5_feed 0 = .ok (.aload_n 0, 1) := dk_42 (dk_at dksX5_feed_0 0 rfl rfl)
theorem dX5_feed_1 : decode cX5_feed 1 = .ok (.getfield 201, 3) := dk_180 0 201 (dk_at dksX5_feed_0 1 rfl rfl)
theorem dX5_feed_4 : decode cX5_feed 4 = .ok (.bipush 12, 2) := dk_16 12 (dk_at dksX5_feed_0 4 rfl rfl)
theorem dX5_feed_6 : decode cX5_feed 6 = .ok (.iadd, 1) := dk_96 (dk_at dksX5_feed_0 6 rfl rfl)
theorem dX5_feed_7 : decode cX5_feed 7 = .ok (.bipush 96, 2) := dk_16 96 (dk_at dksX5_feed_0 7 rfl rfl)
theorem dX5_feed_9 : decode cX5_feed 9 = .ok (.if_icmp .le 6, 3) := dk_164 0 6 (dk_at dksX5_feed_0 9 rfl rfl)
theorem dX5_feed_12 : decode cX5_feed 12 = .ok (.ldc 84, 2) := dk_18 84 (dk_at dksX5_feed_0 12 rfl rfl)
theorem dX5_feed_14 : decode cX5_feed 14 = .ok (.ireturn, 1) := dk_172 (dk_at dksX5_feed_0 14 rfl rfl)
theorem dX5_feed_15 : decode cX5_feed 15 = .ok (.iconst 0, 1) := dk_3 (dk_at dksX5_feed_0 15 rfl rfl)
theorem dX5_feed_16 : decode cX5_feed 16 = .ok (.istore 4, 2) := dk_54 4 (dk_at dksX5_feed_0 16 rfl rfl)
theorem dX5_feed_18 : decode cX5_feed 18 = .ok (.iload 4, 2) := dk_21 4 (dk_at dksX5_feed_0 18 rfl rfl)
theorem dX5_feed_20 : decode cX5_feed 20 = .ok (.bipush 12, 2) := dk_16 12 (dk_at dksX5_feed_0 20 rfl rfl)
theorem dX5_feed_22 : decode cX5_feed 22 = .ok (.if_icmp .ge 69, 3) := dk_162 0 69 (dk_at dksX5_feed_1 0 rfl rfl)
theorem dX5_feed_25 : decode cX5_feed 25 = .ok (.iload 4, 2) := dk_21 4 (dk_at dksX5_feed_1 3 rfl rfl)
theorem dX5_feed_27 : decode cX5_feed 27 = .ok (.iconst 4, 1) := dk_7 (dk_at dksX5_feed_1 5 rfl rfl)
theorem dX5_feed_28 : decode cX5_feed 28 = .ok (.if_icmp .ge 7, 3) := dk_162 0 7 (dk_at dksX5_feed_1 6 rfl rfl)
theorem dX5_feed_31 : decode cX5_feed 31 = .ok (.iload_n 1, 1) := dk_27 (dk_at dksX5_feed_1 9 rfl rfl)
theorem dX5_feed_32 : decode cX5_feed 32 = .ok (.goto 15, 3) := dk_167 0 15 (dk_at dksX5_feed_1 10 rfl rfl)
theorem dX5_feed_35 : decode cX5_feed 35 = .ok (.iload 4, 2) := dk_21 4 (dk_at dksX5_feed_1 13 rfl rfl)
theorem dX5_feed_37 : decode cX5_feed 37 = .ok (.bipush 8, 2) := dk_16 8 (dk_at dksX5_feed_1 15 rfl rfl)
theorem dX5_feed_39 : decode cX5_feed 39 = .ok (.if_icmp .ge 7, 3) := dk_162 0 7 (dk_at dksX5_feed_1 17 rfl rfl)
theorem dX5_feed_42 : decode cX5_feed 42 = .ok (.iload_n 2, 1) := dk_28 (dk_at dksX5_feed_1 20 rfl rfl)
theorem dX5_feed_43 : decode cX5_feed 43 = .ok (.goto 4, 3) := dk_167 0 4 (dk_at dksX5_feed_1 21 rfl rfl)
theorem dX5_feed_46 : decode cX5_feed 46 = .ok (.iload_n 3, 1) := dk_29 (dk_at dksX5_feed_2 0 rfl rfl)
theorem dX5_feed_47 : decode cX5_feed 47 = .ok (.istore 5, 2) := dk_54 5 (dk_at dksX5_feed_2 1 rfl rfl)
theorem dX5_feed_49 : decode cX5_feed 49 = .ok (.aload_n 0, 1) := dk_42 (dk_at dksX5_feed_2 3 rfl rfl)
theorem dX5_feed_50 : decode cX5_feed 50 = .ok (.getfield 49, 3) := dk_180 0 49 (dk_at dksX5_feed_2 4 rfl rfl)
theorem dX5_feed_53 : decode cX5_feed 53 = .ok (.aload_n 0, 1) := dk_42 (dk_at dksX5_feed_2 7 rfl rfl)
theorem dX5_feed_54 : decode cX5_feed 54 = .ok (.getfield 201, 3) := dk_180 0 201 (dk_at dksX5_feed_2 8 rfl rfl)
theorem dX5_feed_57 : decode cX5_feed 57 = .ok (.iload 5, 2) := dk_21 5 (dk_at dksX5_feed_2 11 rfl rfl)
theorem dX5_feed_59 : decode cX5_feed 59 = .ok (.bipush 24, 2) := dk_16 24 (dk_at dksX5_feed_2 13 rfl rfl)
theorem dX5_feed_61 : decode cX5_feed 61 = .ok (.bipush 8, 2) := dk_16 8 (dk_at dksX5_feed_2 15 rfl rfl)
theorem dX5_feed_63 : decode cX5_feed 63 = .ok (.iload 4, 2) := dk_21 4 (dk_at dksX5_feed_2 17 rfl rfl)
theorem dX5_feed_65 : decode cX5_feed 65 = .ok (.iconst 4, 1) := dk_7 (dk_at dksX5_feed_2 19 rfl rfl)
theorem dX5_feed_66 : decode cX5_feed 66 = .ok (.irem, 1) := dk_112 (dk_at dksX5_feed_2 20 rfl rfl)
theorem dX5_feed_67 : decode cX5_feed 67 = .ok (.imul, 1) := dk_104 (dk_at dksX5_feed_2 21 rfl rfl)
theorem dX5_feed_68 : decode cX5_feed 68 = .ok (.isub, 1) := dk_100 (dk_at dksX5_feed_2 22 rfl rfl)
theorem dX5_feed_69 : decode cX5_feed 69 = .ok (.ishr, 1) := dk_122 (dk_at dksX5_feed_2 23 rfl rfl)
theorem dX5_feed_70 : decode cX5_feed 70 = .ok (.sipush 255, 3) := dk_17 0 255 (dk_at dksX5_feed_3 0 rfl rfl)
theorem dX5_feed_73 : decode cX5_feed 73 = .ok (.iand, 1) := dk_126 (dk_at dksX5_feed_3 3 rfl rfl)
theorem dX5_feed_74 : decode cX5_feed 74 = .ok (.iastore, 1) := dk_79 (dk_at dksX5_feed_3 4 rfl rfl)
theorem dX5_feed_75 : decode cX5_feed 75 = .ok (.aload_n 0, 1) := dk_42 (dk_at dksX5_feed_3 5 rfl rfl)
theorem dX5_feed_76 : decode cX5_feed 76 = .ok (.dup, 1) := dk_89 (dk_at dksX5_feed_3 6 rfl rfl)
theorem dX5_feed_77 : decode cX5_feed 77 = .ok (.getfield 201, 3) := dk_180 0 201 (dk_at dksX5_feed_3 7 rfl rfl)
theorem dX5_feed_80 : decode cX5_feed 80 = .ok (.iconst 1, 1) := dk_4 (dk_at dksX5_feed_3 10 rfl rfl)
theorem dX5_feed_81 : decode cX5_feed 81 = .ok (.iadd, 1) := dk_96 (dk_at dksX5_feed_3 11 rfl rfl)
theorem dX5_feed_82 : decode cX5_feed 82 = .ok (.putfield 201, 3) := dk_181 0 201 (dk_at dksX5_feed_3 12 rfl rfl)
theorem dX5_feed_85 : decode cX5_feed 85 = .ok (.iinc 4 1, 3) := dk_132 4 1 (dk_at dksX5_feed_3 15 rfl rfl)
theorem dX5_feed_88 : decode cX5_feed 88 = .ok (.goto (-70), 3) := dk_167 255 186 (dk_at dksX5_feed_3 18 rfl rfl)
theorem dX5_feed_91 : decode cX5_feed 91 = .ok (.aload_n 0, 1) := dk_42 (dk_at dksX5_feed_3 21 rfl rfl)
theorem dX5_feed_92 : decode cX5_feed 92 = .ok (.getfield 201, 3) := dk_180 0 201 (dk_at dksX5_feed_4 0 rfl rfl)
theorem dX5_feed_95 : decode cX5_feed 95 = .ok (.ireturn, 1) := dk_172 (dk_at dksX5_feed_4 3 rfl rfl)
abbrev cX5_trim : ByteArray := prog_18_method_63_code
def yX5_trim : MethodName := ⟨RX5, "trim", "(I)I"⟩
def dkwX5_trim_0 : List UInt8 := [27, 133, 9, 42, 180, 0, 201, 133, 184, 0, 68, 154, 0, 6, 18, 83, 172, 42, 27, 181, 0, 201, 27, 172]
abbrev dktX5_trim_0 : List UInt8 := dkwX5_trim_0 ++ []
theorem dksX5_trim_0 : cX5_trim.data.toList.drop 0 = dktX5_trim_0 := by decide +kernel
theorem dX5_trim_0 : decode cX5_trim 0 = .ok (.iload_n 1, 1) := dk_27 (dk_at dksX5_trim_0 0 rfl rfl)
theorem dX5_trim_1 : decode cX5_trim 1 = .ok (.i2l, 1) := dk_133 (dk_at dksX5_trim_0 1 rfl rfl)
theorem dX5_trim_2 : decode cX5_trim 2 = .ok (.lconst 0, 1) := dk_9 (dk_at dksX5_trim_0 2 rfl rfl)
theorem dX5_trim_3 : decode cX5_trim 3 = .ok (.aload_n 0, 1) := dk_42 (dk_at dksX5_trim_0 3 rfl rfl)
theorem dX5_trim_4 : decode cX5_trim 4 = .ok (.getfield 201, 3) := dk_180 0 201 (dk_at dksX5_trim_0 4 rfl rfl)
theorem dX5_trim_7 : decode cX5_trim 7 = .ok (.i2l, 1) := dk_133 (dk_at dksX5_trim_0 7 rfl rfl)
theorem dX5_trim_8 : decode cX5_trim 8 = .ok (.invokestatic 68, 3) := dk_184 0 68 (dk_at dksX5_trim_0 8 rfl rfl)
theorem dX5_trim_11 : decode cX5_trim 11 = .ok (.ifCond .ne 6, 3) := dk_154 0 6 (dk_at dksX5_trim_0 11 rfl rfl)
theorem dX5_trim_14 : decode cX5_trim 14 = .ok (.ldc 83, 2) := dk_18 83 (dk_at dksX5_trim_0 14 rfl rfl)
theorem dX5_trim_16 : decode cX5_trim 16 = .ok (.ireturn, 1) := dk_172 (dk_at dksX5_trim_0 16 rfl rfl)
theorem dX5_trim_17 : decode cX5_trim 17 = .ok (.aload_n 0, 1) := dk_42 (dk_at dksX5_trim_0 17 rfl rfl)
theorem dX5_trim_18 : decode cX5_trim 18 = .ok (.iload_n 1, 1) := dk_27 (dk_at dksX5_trim_0 18 rfl rfl)
theorem dX5_trim_19 : decode cX5_trim 19 = .ok (.putfield 201, 3) := dk_181 0 201 (dk_at dksX5_trim_0 19 rfl rfl)
theorem dX5_trim_22 : decode cX5_trim 22 = .ok (.iload_n 1, 1) := dk_27 (dk_at dksX5_trim_0 22 rfl rfl)
theorem dX5_trim_23 : decode cX5_trim 23 = .ok (.ireturn, 1) := dk_172 (dk_at dksX5_trim_0 23 rfl rfl)
abbrev cX5_text : ByteArray := prog_18_method_79_code
def yX5_text : MethodName := ⟨RX5, "text", "()I"⟩
def dkwX5_text_3 : List UInt8 := [180, 0, 241, 79, 42, 180, 0, 7, 4, 92, 46, 4, 96, 79, 42, 180, 0, 7, 4, 46, 4, 100, 172]
abbrev dktX5_text_3 : List UInt8 := dkwX5_text_3 ++ []
def dkwX5_text_2 : List UInt8 := [3, 96, 27, 79, 42, 180, 0, 7, 28, 4, 96, 42, 180, 1, 13, 79, 42, 180, 0, 7, 28, 5, 96, 42]
abbrev dktX5_text_2 : List UInt8 := dkwX5_text_2 ++ dktX5_text_3
def dkwX5_text_1 : List UInt8 := [16, 14, 160, 0, 6, 18, 84, 172, 42, 42, 180, 0, 7, 4, 46, 182, 1, 28, 61, 42, 180, 0, 7, 28]
abbrev dktX5_text_1 : List UInt8 := dkwX5_text_1 ++ dktX5_text_2
def dkwX5_text_0 : List UInt8 := [42, 182, 1, 34, 60, 27, 156, 0, 11, 16, 156, 42, 180, 0, 219, 100, 172, 42, 180, 0, 7, 4, 46]
abbrev dktX5_text_0 : List UInt8 := dkwX5_text_0 ++ dktX5_text_1
theorem dksX5_text_0 : cX5_text.data.toList.drop 0 = dktX5_text_0 := by decide +kernel
theorem dksX5_text_1 : cX5_text.data.toList.drop 23 = dktX5_text_1 := dk_seg dksX5_text_0 23 rfl rfl
theorem dksX5_text_2 : cX5_text.data.toList.drop 47 = dktX5_text_2 := dk_seg dksX5_text_1 24 rfl rfl
theorem dksX5_text_3 : cX5_text.data.toList.drop 71 = dktX5_text_3 := dk_seg dksX5_text_2 24 rfl rfl
theorem dX5_text_0 : decode cX5_text 0 = .ok (.aload_n 0, 1) := dk_42 (dk_at dksX5_text_0 0 rfl rfl)
theorem dX5_text_1 : decode cX5_text 1 = .ok (.invokevirtual 290, 3) := dk_182 1 34 (dk_at dksX5_text_0 1 rfl rfl)
theorem dX5_text_4 : decode cX5_text 4 = .ok (.istore_n 1, 1) := dk_60 (dk_at dksX5_text_0 4 rfl rfl)
theorem dX5_text_5 : decode cX5_text 5 = .ok (.iload_n 1, 1) := dk_27 (dk_at dksX5_text_0 5 rfl rfl)
theorem dX5_text_6 : decode cX5_text 6 = .ok (.ifCond .ge 11, 3) := dk_156 0 11 (dk_at dksX5_text_0 6 rfl rfl)
theorem dX5_text_9 : decode cX5_text 9 = .ok (.bipush (-100), 2) := dk_16 156 (dk_at dksX5_text_0 9 rfl rfl)
theorem dX5_text_11 : decode cX5_text 11 = .ok (.aload_n 0, 1) := dk_42 (dk_at dksX5_text_0 11 rfl rfl)
theorem dX5_text_12 : decode cX5_text 12 = .ok (.getfield 219, 3) := dk_180 0 219 (dk_at dksX5_text_0 12 rfl rfl)
theorem dX5_text_15 : decode cX5_text 15 = .ok (.isub, 1) := dk_100 (dk_at dksX5_text_0 15 rfl rfl)
theorem dX5_text_16 : decode cX5_text 16 = .ok (.ireturn, 1) := dk_172 (dk_at dksX5_text_0 16 rfl rfl)
theorem dX5_text_17 : decode cX5_text 17 = .ok (.aload_n 0, 1) := dk_42 (dk_at dksX5_text_0 17 rfl rfl)
theorem dX5_text_18 : decode cX5_text 18 = .ok (.getfield 7, 3) := dk_180 0 7 (dk_at dksX5_text_0 18 rfl rfl)
theorem dX5_text_21 : decode cX5_text 21 = .ok (.iconst 1, 1) := dk_4 (dk_at dksX5_text_0 21 rfl rfl)
theorem dX5_text_22 : decode cX5_text 22 = .ok (.iaload, 1) := dk_46 (dk_at dksX5_text_0 22 rfl rfl)
theorem dX5_text_23 : decode cX5_text 23 = .ok (.bipush 14, 2) := dk_16 14 (dk_at dksX5_text_1 0 rfl rfl)
theorem dX5_text_25 : decode cX5_text 25 = .ok (.if_icmp .ne 6, 3) := dk_160 0 6 (dk_at dksX5_text_1 2 rfl rfl)
theorem dX5_text_28 : decode cX5_text 28 = .ok (.ldc 84, 2) := dk_18 84 (dk_at dksX5_text_1 5 rfl rfl)
theorem dX5_text_30 : decode cX5_text 30 = .ok (.ireturn, 1) := dk_172 (dk_at dksX5_text_1 7 rfl rfl)
theorem dX5_text_31 : decode cX5_text 31 = .ok (.aload_n 0, 1) := dk_42 (dk_at dksX5_text_1 8 rfl rfl)
theorem dX5_text_32 : decode cX5_text 32 = .ok (.aload_n 0, 1) := dk_42 (dk_at dksX5_text_1 9 rfl rfl)
theorem dX5_text_33 : decode cX5_text 33 = .ok (.getfield 7, 3) := dk_180 0 7 (dk_at dksX5_text_1 10 rfl rfl)
theorem dX5_text_36 : decode cX5_text 36 = .ok (.iconst 1, 1) := dk_4 (dk_at dksX5_text_1 13 rfl rfl)
theorem dX5_text_37 : decode cX5_text 37 = .ok (.iaload, 1) := dk_46 (dk_at dksX5_text_1 14 rfl rfl)
theorem dX5_text_38 : decode cX5_text 38 = .ok (.invokevirtual 284, 3) := dk_182 1 28 (dk_at dksX5_text_1 15 rfl rfl)
theorem dX5_text_41 : decode cX5_text 41 = .ok (.istore_n 2, 1) := dk_61 (dk_at dksX5_text_1 18 rfl rfl)
theorem dX5_text_42 : decode cX5_text 42 = .ok (.aload_n 0, 1) := dk_42 (dk_at dksX5_text_1 19 rfl rfl)
theorem dX5_text_43 : decode cX5_text 43 = .ok (.getfield 7, 3) := dk_180 0 7 (dk_at dksX5_text_1 20 rfl rfl)
theorem dX5_text_46 : decode cX5_text 46 = .ok (.iload_n 2, 1) := dk_28 (dk_at dksX5_text_1 23 rfl rfl)
theorem dX5_text_47 : decode cX5_text 47 = .ok (.iconst 0, 1) := dk_3 (dk_at dksX5_text_2 0 rfl rfl)
theorem dX5_text_48 : decode cX5_text 48 = .ok (.iadd, 1) := dk_96 (dk_at dksX5_text_2 1 rfl rfl)
theorem dX5_text_49 : decode cX5_text 49 = .ok (.iload_n 1, 1) := dk_27 (dk_at dksX5_text_2 2 rfl rfl)
theorem dX5_text_50 : decode cX5_text 50 = .ok (.iastore, 1) := dk_79 (dk_at dksX5_text_2 3 rfl rfl)
theorem dX5_text_51 : decode cX5_text 51 = .ok (.aload_n 0, 1) := dk_42 (dk_at dksX5_text_2 4 rfl rfl)
theorem dX5_text_52 : decode cX5_text 52 = .ok (.getfield 7, 3) := dk_180 0 7 (dk_at dksX5_text_2 5 rfl rfl)
theorem dX5_text_55 : decode cX5_text 55 = .ok (.iload_n 2, 1) := dk_28 (dk_at dksX5_text_2 8 rfl rfl)
theorem dX5_text_56 : decode cX5_text 56 = .ok (.iconst 1, 1) := dk_4 (dk_at dksX5_text_2 9 rfl rfl)
theorem dX5_text_57 : decode cX5_text 57 = .ok (.iadd, 1) := dk_96 (dk_at dksX5_text_2 10 rfl rfl)
theorem dX5_text_58 : decode cX5_text 58 = .ok (.aload_n 0, 1) := dk_42 (dk_at dksX5_text_2 11 rfl rfl)
theorem dX5_text_59 : decode cX5_text 59 = .ok (.getfield 269, 3) := dk_180 1 13 (dk_at dksX5_text_2 12 rfl rfl)
theorem dX5_text_62 : decode cX5_text 62 = .ok (.iastore, 1) := dk_79 (dk_at dksX5_text_2 15 rfl rfl)
theorem dX5_text_63 : decode cX5_text 63 = .ok (.aload_n 0, 1) := dk_42 (dk_at dksX5_text_2 16 rfl rfl)
theorem dX5_text_64 : decode cX5_text 64 = .ok (.getfield 7, 3) := dk_180 0 7 (dk_at dksX5_text_2 17 rfl rfl)
theorem dX5_text_67 : decode cX5_text 67 = .ok (.iload_n 2, 1) := dk_28 (dk_at dksX5_text_2 20 rfl rfl)
theorem dX5_text_68 : decode cX5_text 68 = .ok (.iconst 2, 1) := dk_5 (dk_at dksX5_text_2 21 rfl rfl)
theorem dX5_text_69 : decode cX5_text 69 = .ok (.iadd, 1) := dk_96 (dk_at dksX5_text_2 22 rfl rfl)
theorem dX5_text_70 : decode cX5_text 70 = .ok (.aload_n 0, 1) := dk_42 (dk_at dksX5_text_2 23 rfl rfl)
theorem dX5_text_71 : decode cX5_text 71 = .ok (.getfield 241, 3) := dk_180 0 241 (dk_at dksX5_text_3 0 rfl rfl)
theorem dX5_text_74 : decode cX5_text 74 = .ok (.iastore, 1) := dk_79 (dk_at dksX5_text_3 3 rfl rfl)
theorem dX5_text_75 : decode cX5_text 75 = .ok (.aload_n 0, 1) := dk_42 (dk_at dksX5_text_3 4 rfl rfl)
theorem dX5_text_76 : decode cX5_text 76 = .ok (.getfield 7, 3) := dk_180 0 7 (dk_at dksX5_text_3 5 rfl rfl)
theorem dX5_text_79 : decode cX5_text 79 = .ok (.iconst 1, 1) := dk_4 (dk_at dksX5_text_3 8 rfl rfl)
theorem dX5_text_80 : decode cX5_text 80 = .ok (.dup2, 1) := dk_92 (dk_at dksX5_text_3 9 rfl rfl)
theorem dX5_text_81 : decode cX5_text 81 = .ok (.iaload, 1) := dk_46 (dk_at dksX5_text_3 10 rfl rfl)
theorem dX5_text_82 : decode cX5_text 82 = .ok (.iconst 1, 1) := dk_4 (dk_at dksX5_text_3 11 rfl rfl)
theorem dX5_text_83 : decode cX5_text 83 = .ok (.iadd, 1) := dk_96 (dk_at dksX5_text_3 12 rfl rfl)
theorem dX5_text_84 : decode cX5_text 84 = .ok (.iastore, 1) := dk_79 (dk_at dksX5_text_3 13 rfl rfl)
theorem dX5_text_85 : decode cX5_text 85 = .ok (.aload_n 0, 1) := dk_42 (dk_at dksX5_text_3 14 rfl rfl)
theorem dX5_text_86 : decode cX5_text 86 = .ok (.getfield 7, 3) := dk_180 0 7 (dk_at dksX5_text_3 15 rfl rfl)
theorem dX5_text_89 : decode cX5_text 89 = .ok (.iconst 1, 1) := dk_4 (dk_at dksX5_text_3 18 rfl rfl)
theorem dX5_text_90 : decode cX5_text 90 = .ok (.iaload, 1) := dk_46 (dk_at dksX5_text_3 19 rfl rfl)
theorem dX5_text_91 : decode cX5_text 91 = .ok (.iconst 1, 1) := dk_4 (dk_at dksX5_text_3 20 rfl rfl)
theorem dX5_text_92 : decode cX5_text 92 = .ok (.isub, 1) := dk_100 (dk_at dksX5_text_3 21 rfl rfl)
theorem dX5_text_93 : decode cX5_text 93 = .ok (.ireturn, 1) := dk_172 (dk_at dksX5_text_3 22 rfl rfl)
abbrev cX5_parse : ByteArray := prog_18_method_78_code
def yX5_parse : MethodName := ⟨RX5, "parse", "()I"⟩
def dkwX5_parse_5 : List UInt8 := [28, 153, 0, 7, 27, 167, 0, 4, 2, 172]
abbrev dktX5_parse_5 : List UInt8 := dkwX5_parse_5 ++ []
def dkwX5_parse_4 : List UInt8 := [182, 1, 25, 153, 0, 14, 42, 180, 0, 216, 154, 0, 7, 4, 167, 0, 4, 3, 61, 42, 3, 181, 0, 201]
abbrev dktX5_parse_4 : List UInt8 := dkwX5_parse_4 ++ dktX5_parse_5
def dkwX5_parse_3 : List UInt8 := [182, 1, 31, 60, 27, 155, 0, 7, 4, 167, 0, 4, 3, 61, 28, 153, 0, 28, 42, 182, 0, 250, 42, 27]
abbrev dktX5_parse_3 : List UInt8 := dkwX5_parse_3 ++ dktX5_parse_4
def dkwX5_parse_2 : List UInt8 := [180, 0, 7, 4, 46, 182, 1, 28, 7, 96, 167, 0, 6, 17, 11, 59, 181, 0, 238, 42, 182, 0, 250, 42]
abbrev dktX5_parse_2 : List UInt8 := dkwX5_parse_2 ++ dktX5_parse_3
def dkwX5_parse_1 : List UInt8 := [181, 0, 241, 42, 3, 181, 1, 13, 42, 42, 180, 0, 7, 4, 46, 16, 14, 162, 0, 18, 42, 42]
abbrev dktX5_parse_1 : List UInt8 := dkwX5_parse_1 ++ dktX5_parse_2
def dkwX5_parse_0 : List UInt8 := [42, 3, 181, 0, 213, 42, 6, 181, 0, 216, 42, 3, 181, 1, 22, 42, 3, 181, 1, 19, 42, 3]
abbrev dktX5_parse_0 : List UInt8 := dkwX5_parse_0 ++ dktX5_parse_1
theorem dksX5_parse_0 : cX5_parse.data.toList.drop 0 = dktX5_parse_0 := by decide +kernel
theorem dksX5_parse_1 : cX5_parse.data.toList.drop 22 = dktX5_parse_1 := dk_seg dksX5_parse_0 22 rfl rfl
theorem dksX5_parse_2 : cX5_parse.data.toList.drop 44 = dktX5_parse_2 := dk_seg dksX5_parse_1 22 rfl rfl
theorem dksX5_parse_3 : cX5_parse.data.toList.drop 68 = dktX5_parse_3 := dk_seg dksX5_parse_2 24 rfl rfl
theorem dksX5_parse_4 : cX5_parse.data.toList.drop 92 = dktX5_parse_4 := dk_seg dksX5_parse_3 24 rfl rfl
theorem dksX5_parse_5 : cX5_parse.data.toList.drop 116 = dktX5_parse_5 := dk_seg dksX5_parse_4 24 rfl rfl
theorem dX5_parse_0 : decode cX5_parse 0 = .ok (.aload_n 0, 1) := dk_42 (dk_at dksX5_parse_0 0 rfl rfl)
theorem dX5_parse_1 : decode cX5_parse 1 = .ok (.iconst 0, 1) := dk_3 (dk_at dksX5_parse_0 1 rfl rfl)
theorem dX5_parse_2 : decode cX5_parse 2 = .ok (.putfield 213, 3) := dk_181 0 213 (dk_at dksX5_parse_0 2 rfl rfl)
theorem dX5_parse_5 : decode cX5_parse 5 = .ok (.aload_n 0, 1) := dk_42 (dk_at dksX5_parse_0 5 rfl rfl)
theorem dX5_parse_6 : decode cX5_parse 6 = .ok (.iconst 3, 1) := dk_6 (dk_at dksX5_parse_0 6 rfl rfl)
theorem dX5_parse_7 : decode cX5_parse 7 = .ok (.putfield 216, 3) := dk_181 0 216 (dk_at dksX5_parse_0 7 rfl rfl)
theorem dX5_parse_10 : decode cX5_parse 10 = .ok (.aload_n 0, 1) := dk_42 (dk_at dksX5_parse_0 10 rfl rfl)
theorem dX5_parse_11 : decode cX5_parse 11 = .ok (.iconst 0, 1) := dk_3 (dk_at dksX5_parse_0 11 rfl rfl)
theorem dX5_parse_12 : decode cX5_parse 12 = .ok (.putfield 278, 3) := dk_181 1 22 (dk_at dksX5_parse_0 12 rfl rfl)
theorem dX5_parse_15 : decode cX5_parse 15 = .ok (.aload_n 0, 1) := dk_42 (dk_at dksX5_parse_0 15 rfl rfl)
theorem dX5_parse_16 : decode cX5_parse 16 = .ok (.iconst 0, 1) := dk_3 (dk_at dksX5_parse_0 16 rfl rfl)
theorem dX5_parse_17 : decode cX5_parse 17 = .ok (.putfield 275, 3) := dk_181 1 19 (dk_at dksX5_parse_0 17 rfl rfl)
theorem dX5_parse_20 : decode cX5_parse 20 = .ok (.aload_n 0, 1) := dk_42 (dk_at dksX5_parse_0 20 rfl rfl)
theorem dX5_parse_21 : decode cX5_parse 21 = .ok (.iconst 0, 1) := dk_3 (dk_at dksX5_parse_0 21 rfl rfl)
theorem dX5_parse_22 : decode cX5_parse 22 = .ok (.putfield 241, 3) := dk_181 0 241 (dk_at dksX5_parse_1 0 rfl rfl)
theorem dX5_parse_25 : decode cX5_parse 25 = .ok (.aload_n 0, 1) := dk_42 (dk_at dksX5_parse_1 3 rfl rfl)
theorem dX5_parse_26 : decode cX5_parse 26 = .ok (.iconst 0, 1) := dk_3 (dk_at dksX5_parse_1 4 rfl rfl)
theorem dX5_parse_27 : decode cX5_parse 27 = .ok (.putfield 269, 3) := dk_181 1 13 (dk_at dksX5_parse_1 5 rfl rfl)
theorem dX5_parse_30 : decode cX5_parse 30 = .ok (.aload_n 0, 1) := dk_42 (dk_at dksX5_parse_1 8 rfl rfl)
theorem dX5_parse_31 : decode cX5_parse 31 = .ok (.aload_n 0, 1) := dk_42 (dk_at dksX5_parse_1 9 rfl rfl)
theorem dX5_parse_32 : decode cX5_parse 32 = .ok (.getfield 7, 3) := dk_180 0 7 (dk_at dksX5_parse_1 10 rfl rfl)
theorem dX5_parse_35 : decode cX5_parse 35 = .ok (.iconst 1, 1) := dk_4 (dk_at dksX5_parse_1 13 rfl rfl)
theorem dX5_parse_36 : decode cX5_parse 36 = .ok (.iaload, 1) := dk_46 (dk_at dksX5_parse_1 14 rfl rfl)
theorem dX5_parse_37 : decode cX5_parse 37 = .ok (.bipush 14, 2) := dk_16 14 (dk_at dksX5_parse_1 15 rfl rfl)
theorem dX5_parse_39 : decode cX5_parse 39 = .ok (.if_icmp .ge 18, 3) := dk_162 0 18 (dk_at dksX5_parse_1 17 rfl rfl)
theorem dX5_parse_42 : decode cX5_parse 42 = .ok (.aload_n 0, 1) := dk_42 (dk_at dksX5_parse_1 20 rfl rfl)
theorem dX5_parse_43 : decode cX5_parse 43 = .ok (.aload_n 0, 1) := dk_42 (dk_at dksX5_parse_1 21 rfl rfl)
theorem dX5_parse_44 : decode cX5_parse 44 = .ok (.getfield 7, 3) := dk_180 0 7 (dk_at dksX5_parse_2 0 rfl rfl)
theorem dX5_parse_47 : decode cX5_parse 47 = .ok (.iconst 1, 1) := dk_4 (dk_at dksX5_parse_2 3 rfl rfl)
theorem dX5_parse_48 : decode cX5_parse 48 = .ok (.iaload, 1) := dk_46 (dk_at dksX5_parse_2 4 rfl rfl)
theorem dX5_parse_49 : decode cX5_parse 49 = .ok (.invokevirtual 284, 3) := dk_182 1 28 (dk_at dksX5_parse_2 5 rfl rfl)
theorem dX5_parse_52 : decode cX5_parse 52 = .ok (.iconst 4, 1) := dk_7 (dk_at dksX5_parse_2 8 rfl rfl)
theorem dX5_parse_53 : decode cX5_parse 53 = .ok (.iadd, 1) := dk_96 (dk_at dksX5_parse_2 9 rfl rfl)
theorem dX5_parse_54 : decode cX5_parse 54 = .ok (.goto 6, 3) := dk_167 0 6 (dk_at dksX5_parse_2 10 rfl rfl)
theorem dX5_parse_57 : decode cX5_parse 57 = .ok (.sipush 2875, 3) := dk_17 11 59 (dk_at dksX5_parse_2 13 rfl rfl)
theorem dX5_parse_60 : decode cX5_parse 60 = .ok (.putfield 238, 3) := dk_181 0 238 (dk_at dksX5_parse_2 16 rfl rfl)
theorem dX5_parse_63 : decode cX5_parse 63 = .ok (.aload_n 0, 1) := dk_42 (dk_at dksX5_parse_2 19 rfl rfl)
theorem dX5_parse_64 : decode cX5_parse 64 = .ok (.invokevirtual 250, 3) := dk_182 0 250 (dk_at dksX5_parse_2 20 rfl rfl)
theorem dX5_parse_67 : decode cX5_parse 67 = .ok (.aload_n 0, 1) := dk_42 (dk_at dksX5_parse_2 23 rfl rfl)
theorem dX5_parse_68 : decode cX5_parse 68 = .ok (.invokevirtual 287, 3) := dk_182 1 31 (dk_at dksX5_parse_3 0 rfl rfl)
theorem dX5_parse_71 : decode cX5_parse 71 = .ok (.istore_n 1, 1) := dk_60 (dk_at dksX5_parse_3 3 rfl rfl)
theorem dX5_parse_72 : decode cX5_parse 72 = .ok (.iload_n 1, 1) := dk_27 (dk_at dksX5_parse_3 4 rfl rfl)
theorem dX5_parse_73 : decode cX5_parse 73 = .ok (.ifCond .lt 7, 3) := dk_155 0 7 (dk_at dksX5_parse_3 5 rfl rfl)
theorem dX5_parse_76 : decode cX5_parse 76 = .ok (.iconst 1, 1) := dk_4 (dk_at dksX5_parse_3 8 rfl rfl)
theorem dX5_parse_77 : decode cX5_parse 77 = .ok (.goto 4, 3) := dk_167 0 4 (dk_at dksX5_parse_3 9 rfl rfl)
theorem dX5_parse_80 : decode cX5_parse 80 = .ok (.iconst 0, 1) := dk_3 (dk_at dksX5_parse_3 12 rfl rfl)
theorem dX5_parse_81 : decode cX5_parse 81 = .ok (.istore_n 2, 1) := dk_61 (dk_at dksX5_parse_3 13 rfl rfl)
theorem dX5_parse_82 : decode cX5_parse 82 = .ok (.iload_n 2, 1) := dk_28 (dk_at dksX5_parse_3 14 rfl rfl)
theorem dX5_parse_83 : decode cX5_parse 83 = .ok (.ifCond .eq 28, 3) := dk_153 0 28 (dk_at dksX5_parse_3 15 rfl rfl)
theorem dX5_parse_86 : decode cX5_parse 86 = .ok (.aload_n 0, 1) := dk_42 (dk_at dksX5_parse_3 18 rfl rfl)
theorem dX5_parse_87 : decode cX5_parse 87 = .ok (.invokevirtual 250, 3) := dk_182 0 250 (dk_at dksX5_parse_3 19 rfl rfl)
theorem dX5_parse_90 : decode cX5_parse 90 = .ok (.aload_n 0, 1) := dk_42 (dk_at dksX5_parse_3 22 rfl rfl)
theorem dX5_parse_91 : decode cX5_parse 91 = .ok (.iload_n 1, 1) := dk_27 (dk_at dksX5_parse_3 23 rfl rfl)
theorem dX5_parse_92 : decode cX5_parse 92 = .ok (.invokevirtual 281, 3) := dk_182 1 25 (dk_at dksX5_parse_4 0 rfl rfl)
theorem dX5_parse_95 : decode cX5_parse 95 = .ok (.ifCond .eq 14, 3) := dk_153 0 14 (dk_at dksX5_parse_4 3 rfl rfl)
theorem dX5_parse_98 : decode cX5_parse 98 = .ok (.aload_n 0, 1) := dk_42 (dk_at dksX5_parse_4 6 rfl rfl)
theorem dX5_parse_99 : decode cX5_parse 99 = .ok (.getfield 216, 3) := dk_180 0 216 (dk_at dksX5_parse_4 7 rfl rfl)
theorem dX5_parse_102 : decode cX5_parse 102 = .ok (.ifCond .ne 7, 3) := dk_154 0 7 (dk_at dksX5_parse_4 10 rfl rfl)
theorem dX5_parse_105 : decode cX5_parse 105 = .ok (.iconst 1, 1) := dk_4 (dk_at dksX5_parse_4 13 rfl rfl)
theorem dX5_parse_106 : decode cX5_parse 106 = .ok (.goto 4, 3) := dk_167 0 4 (dk_at dksX5_parse_4 14 rfl rfl)
theorem dX5_parse_109 : decode cX5_parse 109 = .ok (.iconst 0, 1) := dk_3 (dk_at dksX5_parse_4 17 rfl rfl)
theorem dX5_parse_110 : decode cX5_parse 110 = .ok (.istore_n 2, 1) := dk_61 (dk_at dksX5_parse_4 18 rfl rfl)
theorem dX5_parse_111 : decode cX5_parse 111 = .ok (.aload_n 0, 1) := dk_42 (dk_at dksX5_parse_4 19 rfl rfl)
theorem dX5_parse_112 : decode cX5_parse 112 = .ok (.iconst 0, 1) := dk_3 (dk_at dksX5_parse_4 20 rfl rfl)
theorem dX5_parse_113 : decode cX5_parse 113 = .ok (.putfield 201, 3) := dk_181 0 201 (dk_at dksX5_parse_4 21 rfl rfl)
theorem dX5_parse_116 : decode cX5_parse 116 = .ok (.iload_n 2, 1) := dk_28 (dk_at dksX5_parse_5 0 rfl rfl)
theorem dX5_parse_117 : decode cX5_parse 117 = .ok (.ifCond .eq 7, 3) := dk_153 0 7 (dk_at dksX5_parse_5 1 rfl rfl)
theorem dX5_parse_120 : decode cX5_parse 120 = .ok (.iload_n 1, 1) := dk_27 (dk_at dksX5_parse_5 4 rfl rfl)
theorem dX5_parse_121 : decode cX5_parse 121 = .ok (.goto 4, 3) := dk_167 0 4 (dk_at dksX5_parse_5 5 rfl rfl)
theorem dX5_parse_124 : decode cX5_parse 124 = .ok (.iconst (-1), 1) := dk_2 (dk_at dksX5_parse_5 8 rfl rfl)
theorem dX5_parse_125 : decode cX5_parse 125 = .ok (.ireturn, 1) := dk_172 (dk_at dksX5_parse_5 9 rfl rfl)
abbrev cX5_nextToken : ByteArray := prog_18_method_66_code
def yX5_nextToken : MethodName := ⟨RX5, "nextToken", "()V"⟩
def dkwX5_nextToken_14 : List UInt8 := [42, 180, 0, 219, 46, 181, 0, 225, 42, 89, 180, 0, 213, 4, 96, 181, 0, 213, 177]
abbrev dktX5_nextToken_14 : List UInt8 := dkwX5_nextToken_14 ++ []
def dkwX5_nextToken_13 : List UInt8 := [164, 0, 7, 7, 167, 0, 4, 5, 181, 0, 216, 167, 0, 31, 42, 6, 181, 0, 216, 42, 42, 180, 0, 49]
abbrev dktX5_nextToken_13 : List UInt8 := dkwX5_nextToken_13 ++ dktX5_nextToken_14
def dkwX5_nextToken_12 : List UInt8 := [96, 181, 0, 213, 167, 255, 191, 42, 27, 154, 0, 16, 42, 180, 0, 213, 42, 180, 0, 219, 100, 7]
abbrev dktX5_nextToken_12 : List UInt8 := dkwX5_nextToken_12 ++ dktX5_nextToken_13
def dkwX5_nextToken_11 : List UInt8 := [180, 0, 213, 46, 96, 16, 48, 100, 167, 0, 7, 42, 180, 0, 231, 181, 0, 231, 42, 89, 180, 0, 213, 4]
abbrev dktX5_nextToken_11 : List UInt8 := dkwX5_nextToken_11 ++ dktX5_nextToken_12
def dkwX5_nextToken_10 : List UInt8 := [180, 0, 213, 42, 180, 0, 219, 100, 7, 162, 0, 26, 16, 10, 42, 180, 0, 231, 104, 42, 180, 0, 49, 42]
abbrev dktX5_nextToken_10 : List UInt8 := dkwX5_nextToken_10 ++ dktX5_nextToken_11
def dkwX5_nextToken_9 : List UInt8 := [182, 0, 228, 153, 0, 105, 42, 3, 181, 0, 231, 42, 42, 180, 0, 213, 182, 0, 228, 153, 0, 60, 42, 42]
abbrev dktX5_nextToken_9 : List UInt8 := dkwX5_nextToken_9 ++ dktX5_nextToken_10
def dkwX5_nextToken_8 : List UInt8 := [180, 0, 49, 42, 180, 0, 219, 46, 167, 0, 4, 3, 181, 0, 225, 167, 0, 144, 42, 42, 180, 0, 219]
abbrev dktX5_nextToken_8 : List UInt8 := dkwX5_nextToken_8 ++ dktX5_nextToken_9
def dkwX5_nextToken_7 : List UInt8 := [167, 0, 4, 4, 181, 0, 216, 42, 42, 180, 0, 213, 42, 180, 0, 219, 100, 4, 160, 0, 15, 42]
abbrev dktX5_nextToken_7 : List UInt8 := dkwX5_nextToken_7 ++ dktX5_nextToken_8
def dkwX5_nextToken_6 : List UInt8 := [153, 0, 16, 42, 89, 180, 0, 213, 4, 96, 181, 0, 213, 167, 255, 235, 42, 27, 153, 0, 7, 7]
abbrev dktX5_nextToken_6 : List UInt8 := dkwX5_nextToken_6 ++ dktX5_nextToken_7
def dkwX5_nextToken_5 : List UInt8 := [167, 0, 225, 42, 42, 180, 0, 219, 182, 0, 222, 153, 0, 73, 42, 42, 180, 0, 213, 182, 0, 222]
abbrev dktX5_nextToken_5 : List UInt8 := dkwX5_nextToken_5 ++ dktX5_nextToken_6
def dkwX5_nextToken_4 : List UInt8 := [180, 0, 213, 181, 0, 219, 42, 180, 0, 219, 42, 180, 0, 201, 160, 0, 11, 42, 3, 181, 0, 216]
abbrev dktX5_nextToken_4 : List UInt8 := dkwX5_nextToken_4 ++ dktX5_nextToken_5
def dkwX5_nextToken_3 : List UInt8 := [167, 255, 221, 27, 153, 0, 15, 28, 42, 180, 0, 213, 160, 0, 7, 4, 167, 0, 4, 3, 60, 42, 42]
abbrev dktX5_nextToken_3 : List UInt8 := dkwX5_nextToken_3 ++ dktX5_nextToken_4
def dkwX5_nextToken_2 : List UInt8 := [180, 0, 49, 42, 180, 0, 213, 46, 16, 32, 160, 0, 16, 42, 89, 180, 0, 213, 4, 96, 181, 0, 213]
abbrev dktX5_nextToken_2 : List UInt8 := dkwX5_nextToken_2 ++ dktX5_nextToken_3
def dkwX5_nextToken_1 : List UInt8 := [167, 0, 4, 3, 60, 42, 180, 0, 213, 61, 42, 180, 0, 213, 42, 180, 0, 201, 162, 0, 30, 42]
abbrev dktX5_nextToken_1 : List UInt8 := dkwX5_nextToken_1 ++ dktX5_nextToken_2
def dkwX5_nextToken_0 : List UInt8 := [42, 180, 0, 213, 158, 0, 23, 42, 180, 0, 216, 4, 159, 0, 11, 42, 180, 0, 216, 5, 160, 0, 7, 4]
abbrev dktX5_nextToken_0 : List UInt8 := dkwX5_nextToken_0 ++ dktX5_nextToken_1
theorem dksX5_nextToken_0 : cX5_nextToken.data.toList.drop 0 = dktX5_nextToken_0 := by decide +kernel
theorem dksX5_nextToken_1 : cX5_nextToken.data.toList.drop 24 = dktX5_nextToken_1 := dk_seg dksX5_nextToken_0 24 rfl rfl
theorem dksX5_nextToken_2 : cX5_nextToken.data.toList.drop 46 = dktX5_nextToken_2 := dk_seg dksX5_nextToken_1 22 rfl rfl
theorem dksX5_nextToken_3 : cX5_nextToken.data.toList.drop 69 = dktX5_nextToken_3 := dk_seg dksX5_nextToken_2 23 rfl rfl
theorem dksX5_nextToken_4 : cX5_nextToken.data.toList.drop 92 = dktX5_nextToken_4 := dk_seg dksX5_nextToken_3 23 rfl rfl
theorem dksX5_nextToken_5 : cX5_nextToken.data.toList.drop 114 = dktX5_nextToken_5 := dk_seg dksX5_nextToken_4 22 rfl rfl
theorem dksX5_nextToken_6 : cX5_nextToken.data.toList.drop 136 = dktX5_nextToken_6 := dk_seg dksX5_nextToken_5 22 rfl rfl
theorem dksX5_nextToken_7 : cX5_nextToken.data.toList.drop 158 = dktX5_nextToken_7 := dk_seg dksX5_nextToken_6 22 rfl rfl
theorem dksX5_nextToken_8 : cX5_nextToken.data.toList.drop 180 = dktX5_nextToken_8 := dk_seg dksX5_nextToken_7 22 rfl rfl
theorem dksX5_nextToken_9 : cX5_nextToken.data.toList.drop 203 = dktX5_nextToken_9 := dk_seg dksX5_nextToken_8 23 rfl rfl
theorem dksX5_nextToken_10 : cX5_nextToken.data.toList.drop 227 = dktX5_nextToken_10 := dk_seg dksX5_nextToken_9 24 rfl rfl
theorem dksX5_nextToken_11 : cX5_nextToken.data.toList.drop 251 = dktX5_nextToken_11 := dk_seg dksX5_nextToken_10 24 rfl rfl
theorem dksX5_nextToken_12 : cX5_nextToken.data.toList.drop 275 = dktX5_nextToken_12 := dk_seg dksX5_nextToken_11 24 rfl rfl
theorem dksX5_nextToken_13 : cX5_nextToken.data.toList.drop 297 = dktX5_nextToken_13 := dk_seg dksX5_nextToken_12 22 rfl rfl
theorem dksX5_nextToken_14 : cX5_nextToken.data.toList.drop 321 = dktX5_nextToken_14 := dk_seg dksX5_nextToken_13 24 rfl rfl
theorem dX5_nextToken_0 : decode cX5_nextToken 0 = .ok (.aload_n 0, 1) := dk_42 (dk_at dksX5_nextToken_0 0 rfl rfl)
theorem dX5_nextToken_1 : decode cX5_nextToken 1 = .ok (.getfield 213, 3) := dk_180 0 213 (dk_at dksX5_nextToken_0 1 rfl rfl)
theorem dX5_nextToken_4 : decode cX5_nextToken 4 = .ok (.ifCond .le 23, 3) := dk_158 0 23 (dk_at dksX5_nextToken_0 4 rfl rfl)
theorem dX5_nextToken_7 : decode cX5_nextToken 7 = .ok (.aload_n 0, 1) := dk_42 (dk_at dksX5_nextToken_0 7 rfl rfl)
theorem dX5_nextToken_8 : decode cX5_nextToken 8 = .ok (.getfield 216, 3) := dk_180 0 216 (dk_at dksX5_nextToken_0 8 rfl rfl)
theorem dX5_nextToken_11 : decode cX5_nextToken 11 = .ok (.iconst 1, 1) := dk_4 (dk_at dksX5_nextToken_0 11 rfl rfl)
theorem dX5_nextToken_12 : decode cX5_nextToken 12 = .ok (.if_icmp .eq 11, 3) := dk_159 0 11 (dk_at dksX5_nextToken_0 12 rfl rfl)
theorem dX5_nextToken_15 : decode cX5_nextToken 15 = .ok (.aload_n 0, 1) := dk_42 (dk_at dksX5_nextToken_0 15 rfl rfl)
theorem dX5_nextToken_16 : decode cX5_nextToken 16 = .ok (.getfield 216, 3) := dk_180 0 216 (dk_at dksX5_nextToken_0 16 rfl rfl)
theorem dX5_nextToken_19 : decode cX5_nextToken 19 = .ok (.iconst 2, 1) := dk_5 (dk_at dksX5_nextToken_0 19 rfl rfl)
theorem dX5_nextToken_20 : decode cX5_nextToken 20 = .ok (.if_icmp .ne 7, 3) := dk_160 0 7 (dk_at dksX5_nextToken_0 20 rfl rfl)
theorem dX5_nextToken_23 : decode cX5_nextToken 23 = .ok (.iconst 1, 1) := dk_4 (dk_at dksX5_nextToken_0 23 rfl rfl)
theorem dX5_nextToken_24 : decode cX5_nextToken 24 = .ok (.goto 4, 3) := dk_167 0 4 (dk_at dksX5_nextToken_1 0 rfl rfl)
theorem dX5_nextToken_27 : decode cX5_nextToken 27 = .ok (.iconst 0, 1) := dk_3 (dk_at dksX5_nextToken_1 3 rfl rfl)
theorem dX5_nextToken_28 : decode cX5_nextToken 28 = .ok (.istore_n 1, 1) := dk_60 (dk_at dksX5_nextToken_1 4 rfl rfl)
theorem dX5_nextToken_29 : decode cX5_nextToken 29 = .ok (.aload_n 0, 1) := dk_42 (dk_at dksX5_nextToken_1 5 rfl rfl)
theorem dX5_nextToken_30 : decode cX5_nextToken 30 = .ok (.getfield 213, 3) := dk_180 0 213 (dk_at dksX5_nextToken_1 6 rfl rfl)
theorem dX5_nextToken_33 : decode cX5_nextToken 33 = .ok (.istore_n 2, 1) := dk_61 (dk_at dksX5_nextToken_1 9 rfl rfl)
theorem dX5_nextToken_34 : decode cX5_nextToken 34 = .ok (.aload_n 0, 1) := dk_42 (dk_at dksX5_nextToken_1 10 rfl rfl)
theorem dX5_nextToken_35 : decode cX5_nextToken 35 = .ok (.getfield 213, 3) := dk_180 0 213 (dk_at dksX5_nextToken_1 11 rfl rfl)
theorem dX5_nextToken_38 : decode cX5_nextToken 38 = .ok (.aload_n 0, 1) := dk_42 (dk_at dksX5_nextToken_1 14 rfl rfl)
theorem dX5_nextToken_39 : decode cX5_nextToken 39 = .ok (.getfield 201, 3) := dk_180 0 201 (dk_at dksX5_nextToken_1 15 rfl rfl)
theorem dX5_nextToken_42 : decode cX5_nextToken 42 = .ok (.if_icmp .ge 30, 3) := dk_162 0 30 (dk_at dksX5_nextToken_1 18 rfl rfl)
theorem dX5_nextToken_45 : decode cX5_nextToken 45 = .ok (.aload_n 0, 1) := dk_42 (dk_at dksX5_nextToken_1 21 rfl rfl)
theorem dX5_nextToken_46 : decode cX5_nextToken 46 = .ok (.getfield 49, 3) := dk_180 0 49 (dk_at dksX5_nextToken_2 0 rfl rfl)
theorem dX5_nextToken_49 : decode cX5_nextToken 49 = .ok (.aload_n 0, 1) := dk_42 (dk_at dksX5_nextToken_2 3 rfl rfl)
theorem dX5_nextToken_50 : decode cX5_nextToken 50 = .ok (.getfield 213, 3) := dk_180 0 213 (dk_at dksX5_nextToken_2 4 rfl rfl)
theorem dX5_nextToken_53 : decode cX5_nextToken 53 = .ok (.iaload, 1) := dk_46 (dk_at dksX5_nextToken_2 7 rfl rfl)
theorem dX5_nextToken_54 : decode cX5_nextToken 54 = .ok (.bipush 32, 2) := dk_16 32 (dk_at dksX5_nextToken_2 8 rfl rfl)
theorem dX5_nextToken_56 : decode cX5_nextToken 56 = .ok (.if_icmp .ne 16, 3) := dk_160 0 16 (dk_at dksX5_nextToken_2 10 rfl rfl)
theorem dX5_nextToken_59 : decode cX5_nextToken 59 = .ok (.aload_n 0, 1) := dk_42 (dk_at dksX5_nextToken_2 13 rfl rfl)
theorem dX5_nextToken_60 : decode cX5_nextToken 60 = .ok (.dup, 1) := dk_89 (dk_at dksX5_nextToken_2 14 rfl rfl)
theorem dX5_nextToken_61 : decode cX5_nextToken 61 = .ok (.getfield 213, 3) := dk_180 0 213 (dk_at dksX5_nextToken_2 15 rfl rfl)
theorem dX5_nextToken_64 : decode cX5_nextToken 64 = .ok (.iconst 1, 1) := dk_4 (dk_at dksX5_nextToken_2 18 rfl rfl)
theorem dX5_nextToken_65 : decode cX5_nextToken 65 = .ok (.iadd, 1) := dk_96 (dk_at dksX5_nextToken_2 19 rfl rfl)
theorem dX5_nextToken_66 : decode cX5_nextToken 66 = .ok (.putfield 213, 3) := dk_181 0 213 (dk_at dksX5_nextToken_2 20 rfl rfl)
theorem dX5_nextToken_69 : decode cX5_nextToken 69 = .ok (.goto (-35), 3) := dk_167 255 221 (dk_at dksX5_nextToken_3 0 rfl rfl)
theorem dX5_nextToken_72 : decode cX5_nextToken 72 = .ok (.iload_n 1, 1) := dk_27 (dk_at dksX5_nextToken_3 3 rfl rfl)
theorem dX5_nextToken_73 : decode cX5_nextToken 73 = .ok (.ifCond .eq 15, 3) := dk_153 0 15 (dk_at dksX5_nextToken_3 4 rfl rfl)
theorem dX5_nextToken_76 : decode cX5_nextToken 76 = .ok (.iload_n 2, 1) := dk_28 (dk_at dksX5_nextToken_3 7 rfl rfl)
theorem dX5_nextToken_77 : decode cX5_nextToken 77 = .ok (.aload_n 0, 1) := dk_42 (dk_at dksX5_nextToken_3 8 rfl rfl)
theorem dX5_nextToken_78 : decode cX5_nextToken 78 = .ok (.getfield 213, 3) := dk_180 0 213 (dk_at dksX5_nextToken_3 9 rfl rfl)
theorem dX5_nextToken_81 : decode cX5_nextToken 81 = .ok (.if_icmp .ne 7, 3) := dk_160 0 7 (dk_at dksX5_nextToken_3 12 rfl rfl)
theorem dX5_nextToken_84 : decode cX5_nextToken 84 = .ok (.iconst 1, 1) := dk_4 (dk_at dksX5_nextToken_3 15 rfl rfl)
theorem dX5_nextToken_85 : decode cX5_nextToken 85 = .ok (.goto 4, 3) := dk_167 0 4 (dk_at dksX5_nextToken_3 16 rfl rfl)
theorem dX5_nextToken_88 : decode cX5_nextToken 88 = .ok (.iconst 0, 1) := dk_3 (dk_at dksX5_nextToken_3 19 rfl rfl)
theorem dX5_nextToken_89 : decode cX5_nextToken 89 = .ok (.istore_n 1, 1) := dk_60 (dk_at dksX5_nextToken_3 20 rfl rfl)
theorem dX5_nextToken_90 : decode cX5_nextToken 90 = .ok (.aload_n 0, 1) := dk_42 (dk_at dksX5_nextToken_3 21 rfl rfl)
theorem dX5_nextToken_91 : decode cX5_nextToken 91 = .ok (.aload_n 0, 1) := dk_42 (dk_at dksX5_nextToken_3 22 rfl rfl)
theorem dX5_nextToken_92 : decode cX5_nextToken 92 = .ok (.getfield 213, 3) := dk_180 0 213 (dk_at dksX5_nextToken_4 0 rfl rfl)
theorem dX5_nextToken_95 : decode cX5_nextToken 95 = .ok (.putfield 219, 3) := dk_181 0 219 (dk_at dksX5_nextToken_4 3 rfl rfl)
theorem dX5_nextToken_98 : decode cX5_nextToken 98 = .ok (.aload_n 0, 1) := dk_42 (dk_at dksX5_nextToken_4 6 rfl rfl)
theorem dX5_nextToken_99 : decode cX5_nextToken 99 = .ok (.getfield 219, 3) := dk_180 0 219 (dk_at dksX5_nextToken_4 7 rfl rfl)
theorem dX5_nextToken_102 : decode cX5_nextToken 102 = .ok (.aload_n 0, 1) := dk_42 (dk_at dksX5_nextToken_4 10 rfl rfl)
theorem dX5_nextToken_103 : decode cX5_nextToken 103 = .ok (.getfield 201, 3) := dk_180 0 201 (dk_at dksX5_nextToken_4 11 rfl rfl)
theorem dX5_nextToken_106 : decode cX5_nextToken 106 = .ok (.if_icmp .ne 11, 3) := dk_160 0 11 (dk_at dksX5_nextToken_4 14 rfl rfl)
theorem dX5_nextToken_109 : decode cX5_nextToken 109 = .ok (.aload_n 0, 1) := dk_42 (dk_at dksX5_nextToken_4 17 rfl rfl)
theorem dX5_nextToken_110 : decode cX5_nextToken 110 = .ok (.iconst 0, 1) := dk_3 (dk_at dksX5_nextToken_4 18 rfl rfl)
theorem dX5_nextToken_111 : decode cX5_nextToken 111 = .ok (.putfield 216, 3) := dk_181 0 216 (dk_at dksX5_nextToken_4 19 rfl rfl)
theorem dX5_nextToken_114 : decode cX5_nextToken 114 = .ok (.goto 225, 3) := dk_167 0 225 (dk_at dksX5_nextToken_5 0 rfl rfl)
theorem dX5_nextToken_117 : decode cX5_nextToken 117 = .ok (.aload_n 0, 1) := dk_42 (dk_at dksX5_nextToken_5 3 rfl rfl)
theorem dX5_nextToken_118 : decode cX5_nextToken 118 = .ok (.aload_n 0, 1) := dk_42 (dk_at dksX5_nextToken_5 4 rfl rfl)
theorem dX5_nextToken_119 : decode cX5_nextToken 119 = .ok (.getfield 219, 3) := dk_180 0 219 (dk_at dksX5_nextToken_5 5 rfl rfl)
theorem dX5_nextToken_122 : decode cX5_nextToken 122 = .ok (.invokevirtual 222, 3) := dk_182 0 222 (dk_at dksX5_nextToken_5 8 rfl rfl)
theorem dX5_nextToken_125 : decode cX5_nextToken 125 = .ok (.ifCond .eq 73, 3) := dk_153 0 73 (dk_at dksX5_nextToken_5 11 rfl rfl)
theorem dX5_nextToken_128 : decode cX5_nextToken 128 = .ok (.aload_n 0, 1) := dk_42 (dk_at dksX5_nextToken_5 14 rfl rfl)
theorem dX5_nextToken_129 : decode cX5_nextToken 129 = .ok (.aload_n 0, 1) := dk_42 (dk_at dksX5_nextToken_5 15 rfl rfl)
theorem dX5_nextToken_130 : decode cX5_nextToken 130 = .ok (.getfield 213, 3) := dk_180 0 213 (dk_at dksX5_nextToken_5 16 rfl rfl)
theorem dX5_nextToken_133 : decode cX5_nextToken 133 = .ok (.invokevirtual 222, 3) := dk_182 0 222 (dk_at dksX5_nextToken_5 19 rfl rfl)
theorem dX5_nextToken_136 : decode cX5_nextToken 136 = .ok (.ifCond .eq 16, 3) := dk_153 0 16 (dk_at dksX5_nextToken_6 0 rfl rfl)
theorem dX5_nextToken_139 : decode cX5_nextToken 139 = .ok (.aload_n 0, 1) := dk_42 (dk_at dksX5_nextToken_6 3 rfl rfl)
theorem dX5_nextToken_140 : decode cX5_nextToken 140 = .ok (.dup, 1) := dk_89 (dk_at dksX5_nextToken_6 4 rfl rfl)
theorem dX5_nextToken_141 : decode cX5_nextToken 141 = .ok (.getfield 213, 3) := dk_180 0 213 (dk_at dksX5_nextToken_6 5 rfl rfl)
theorem dX5_nextToken_144 : decode cX5_nextToken 144 = .ok (.iconst 1, 1) := dk_4 (dk_at dksX5_nextToken_6 8 rfl rfl)
theorem dX5_nextToken_145 : decode cX5_nextToken 145 = .ok (.iadd, 1) := dk_96 (dk_at dksX5_nextToken_6 9 rfl rfl)
theorem dX5_nextToken_146 : decode cX5_nextToken 146 = .ok (.putfield 213, 3) := dk_181 0 213 (dk_at dksX5_nextToken_6 10 rfl rfl)
theorem dX5_nextToken_149 : decode cX5_nextToken 149 = .ok (.goto (-21), 3) := dk_167 255 235 (dk_at dksX5_nextToken_6 13 rfl rfl)
theorem dX5_nextToken_152 : decode cX5_nextToken 152 = .ok (.aload_n 0, 1) := dk_42 (dk_at dksX5_nextToken_6 16 rfl rfl)
theorem dX5_nextToken_153 : decode cX5_nextToken 153 = .ok (.iload_n 1, 1) := dk_27 (dk_at dksX5_nextToken_6 17 rfl rfl)
theorem dX5_nextToken_154 : decode cX5_nextToken 154 = .ok (.ifCond .eq 7, 3) := dk_153 0 7 (dk_at dksX5_nextToken_6 18 rfl rfl)
theorem dX5_nextToken_157 : decode cX5_nextToken 157 = .ok (.iconst 4, 1) := dk_7 (dk_at dksX5_nextToken_6 21 rfl rfl)
theorem dX5_nextToken_158 : decode cX5_nextToken 158 = .ok (.goto 4, 3) := dk_167 0 4 (dk_at dksX5_nextToken_7 0 rfl rfl)
theorem dX5_nextToken_161 : decode cX5_nextToken 161 = .ok (.iconst 1, 1) := dk_4 (dk_at dksX5_nextToken_7 3 rfl rfl)
theorem dX5_nextToken_162 : decode cX5_nextToken 162 = .ok (.putfield 216, 3) := dk_181 0 216 (dk_at dksX5_nextToken_7 4 rfl rfl)
theorem dX5_nextToken_165 : decode cX5_nextToken 165 = .ok (.aload_n 0, 1) := dk_42 (dk_at dksX5_nextToken_7 7 rfl rfl)
theorem dX5_nextToken_166 : decode cX5_nextToken 166 = .ok (.aload_n 0, 1) := dk_42 (dk_at dksX5_nextToken_7 8 rfl rfl)
theorem dX5_nextToken_167 : decode cX5_nextToken 167 = .ok (.getfield 213, 3) := dk_180 0 213 (dk_at dksX5_nextToken_7 9 rfl rfl)
theorem dX5_nextToken_170 : decode cX5_nextToken 170 = .ok (.aload_n 0, 1) := dk_42 (dk_at dksX5_nextToken_7 12 rfl rfl)
theorem dX5_nextToken_171 : decode cX5_nextToken 171 = .ok (.getfield 219, 3) := dk_180 0 219 (dk_at dksX5_nextToken_7 13 rfl rfl)
theorem dX5_nextToken_174 : decode cX5_nextToken 174 = .ok (.isub, 1) := dk_100 (dk_at dksX5_nextToken_7 16 rfl rfl)
theorem dX5_nextToken_175 : decode cX5_nextToken 175 = .ok (.iconst 1, 1) := dk_4 (dk_at dksX5_nextToken_7 17 rfl rfl)
theorem dX5_nextToken_176 : decode cX5_nextToken 176 = .ok (.if_icmp .ne 15, 3) := dk_160 0 15 (dk_at dksX5_nextToken_7 18 rfl rfl)
theorem dX5_nextToken_179 : decode cX5_nextToken 179 = .ok (.aload_n 0, 1) := dk_42 (dk_at dksX5_nextToken_7 21 rfl rfl)
theorem dX5_nextToken_180 : decode cX5_nextToken 180 = .ok (.getfield 49, 3) := dk_180 0 49 (dk_at dksX5_nextToken_8 0 rfl rfl)
theorem dX5_nextToken_183 : decode cX5_nextToken 183 = .ok (.aload_n 0, 1) := dk_42 (dk_at dksX5_nextToken_8 3 rfl rfl)
theorem dX5_nextToken_184 : decode cX5_nextToken 184 = .ok (.getfield 219, 3) := dk_180 0 219 (dk_at dksX5_nextToken_8 4 rfl rfl)
theorem dX5_nextToken_187 : decode cX5_nextToken 187 = .ok (.iaload, 1) := dk_46 (dk_at dksX5_nextToken_8 7 rfl rfl)
theorem dX5_nextToken_188 : decode cX5_nextToken 188 = .ok (.goto 4, 3) := dk_167 0 4 (dk_at dksX5_nextToken_8 8 rfl rfl)
theorem dX5_nextToken_191 : decode cX5_nextToken 191 = .ok (.iconst 0, 1) := dk_3 (dk_at dksX5_nextToken_8 11 rfl rfl)
theorem dX5_nextToken_192 : decode cX5_nextToken 192 = .ok (.putfield 225, 3) := dk_181 0 225 (dk_at dksX5_nextToken_8 12 rfl rfl)
theorem dX5_nextToken_195 : decode cX5_nextToken 195 = .ok (.goto 144, 3) := dk_167 0 144 (dk_at dksX5_nextToken_8 15 rfl rfl)
theorem dX5_nextToken_198 : decode cX5_nextToken 198 = .ok (.aload_n 0, 1) := dk_42 (dk_at dksX5_nextToken_8 18 rfl rfl)
theorem dX5_nextToken_199 : decode cX5_nextToken 199 = .ok (.aload_n 0, 1) := dk_42 (dk_at dksX5_nextToken_8 19 rfl rfl)
theorem dX5_nextToken_200 : decode cX5_nextToken 200 = .ok (.getfield 219, 3) := dk_180 0 219 (dk_at dksX5_nextToken_8 20 rfl rfl)
theorem dX5_nextToken_203 : decode cX5_nextToken 203 = .ok (.invokevirtual 228, 3) := dk_182 0 228 (dk_at dksX5_nextToken_9 0 rfl rfl)
theorem dX5_nextToken_206 : decode cX5_nextToken 206 = .ok (.ifCond .eq 105, 3) := dk_153 0 105 (dk_at dksX5_nextToken_9 3 rfl rfl)
theorem dX5_nextToken_209 : decode cX5_nextToken 209 = .ok (.aload_n 0, 1) := dk_42 (dk_at dksX5_nextToken_9 6 rfl rfl)
theorem dX5_nextToken_210 : decode cX5_nextToken 210 = .ok (.iconst 0, 1) := dk_3 (dk_at dksX5_nextToken_9 7 rfl rfl)
theorem dX5_nextToken_211 : decode cX5_nextToken 211 = .ok (.putfield 231, 3) := dk_181 0 231 (dk_at dksX5_nextToken_9 8 rfl rfl)
theorem dX5_nextToken_214 : decode cX5_nextToken 214 = .ok (.aload_n 0, 1) := dk_42 (dk_at dksX5_nextToken_9 11 rfl rfl)
theorem dX5_nextToken_215 : decode cX5_nextToken 215 = .ok (.aload_n 0, 1) := dk_42 (dk_at dksX5_nextToken_9 12 rfl rfl)
theorem dX5_nextToken_216 : decode cX5_nextToken 216 = .ok (.getfield 213, 3) := dk_180 0 213 (dk_at dksX5_nextToken_9 13 rfl rfl)
theorem dX5_nextToken_219 : decode cX5_nextToken 219 = .ok (.invokevirtual 228, 3) := dk_182 0 228 (dk_at dksX5_nextToken_9 16 rfl rfl)
theorem dX5_nextToken_222 : decode cX5_nextToken 222 = .ok (.ifCond .eq 60, 3) := dk_153 0 60 (dk_at dksX5_nextToken_9 19 rfl rfl)
theorem dX5_nextToken_225 : decode cX5_nextToken 225 = .ok (.aload_n 0, 1) := dk_42 (dk_at dksX5_nextToken_9 22 rfl rfl)
theorem dX5_nextToken_226 : decode cX5_nextToken 226 = .ok (.aload_n 0, 1) := dk_42 (dk_at dksX5_nextToken_9 23 rfl rfl)
theorem dX5_nextToken_227 : decode cX5_nextToken 227 = .ok (.getfield 213, 3) := dk_180 0 213 (dk_at dksX5_nextToken_10 0 rfl rfl)
theorem dX5_nextToken_230 : decode cX5_nextToken 230 = .ok (.aload_n 0, 1) := dk_42 (dk_at dksX5_nextToken_10 3 rfl rfl)
theorem dX5_nextToken_231 : decode cX5_nextToken 231 = .ok (.getfield 219, 3) := dk_180 0 219 (dk_at dksX5_nextToken_10 4 rfl rfl)
theorem dX5_nextToken_234 : decode cX5_nextToken 234 = .ok (.isub, 1) := dk_100 (dk_at dksX5_nextToken_10 7 rfl rfl)
theorem dX5_nextToken_235 : decode cX5_nextToken 235 = .ok (.iconst 4, 1) := dk_7 (dk_at dksX5_nextToken_10 8 rfl rfl)
theorem dX5_nextToken_236 : decode cX5_nextToken 236 = .ok (.if_icmp .ge 26, 3) := dk_162 0 26 (dk_at dksX5_nextToken_10 9 rfl rfl)
theorem dX5_nextToken_239 : decode cX5_nextToken 239 = .ok (.bipush 10, 2) := dk_16 10 (dk_at dksX5_nextToken_10 12 rfl rfl)
theorem dX5_nextToken_241 : decode cX5_nextToken 241 = .ok (.aload_n 0, 1) := dk_42 (dk_at dksX5_nextToken_10 14 rfl rfl)
theorem dX5_nextToken_242 : decode cX5_nextToken 242 = .ok (.getfield 231, 3) := dk_180 0 231 (dk_at dksX5_nextToken_10 15 rfl rfl)
theorem dX5_nextToken_245 : decode cX5_nextToken 245 = .ok (.imul, 1) := dk_104 (dk_at dksX5_nextToken_10 18 rfl rfl)
theorem dX5_nextToken_246 : decode cX5_nextToken 246 = .ok (.aload_n 0, 1) := dk_42 (dk_at dksX5_nextToken_10 19 rfl rfl)
theorem dX5_nextToken_247 : decode cX5_nextToken 247 = .ok (.getfield 49, 3) := dk_180 0 49 (dk_at dksX5_nextToken_10 20 rfl rfl)
theorem dX5_nextToken_250 : decode cX5_nextToken 250 = .ok (.aload_n 0, 1) := dk_42 (dk_at dksX5_nextToken_10 23 rfl rfl)
theorem dX5_nextToken_251 : decode cX5_nextToken 251 = .ok (.getfield 213, 3) := dk_180 0 213 (dk_at dksX5_nextToken_11 0 rfl rfl)
theorem dX5_nextToken_254 : decode cX5_nextToken 254 = .ok (.iaload, 1) := dk_46 (dk_at dksX5_nextToken_11 3 rfl rfl)
theorem dX5_nextToken_255 : decode cX5_nextToken 255 = .ok (.iadd, 1) := dk_96 (dk_at dksX5_nextToken_11 4 rfl rfl)
theorem dX5_nextToken_256 : decode cX5_nextToken 256 = .ok (.bipush 48, 2) := dk_16 48 (dk_at dksX5_nextToken_11 5 rfl rfl)
theorem dX5_nextToken_258 : decode cX5_nextToken 258 = .ok (.isub, 1) := dk_100 (dk_at dksX5_nextToken_11 7 rfl rfl)
theorem dX5_nextToken_259 : decode cX5_nextToken 259 = .ok (.goto 7, 3) := dk_167 0 7 (dk_at dksX5_nextToken_11 8 rfl rfl)
theorem dX5_nextToken_262 : decode cX5_nextToken 262 = .ok (.aload_n 0, 1) := dk_42 (dk_at dksX5_nextToken_11 11 rfl rfl)
theorem dX5_nextToken_263 : decode cX5_nextToken 263 = .ok (.getfield 231, 3) := dk_180 0 231 (dk_at dksX5_nextToken_11 12 rfl rfl)
theorem dX5_nextToken_266 : decode cX5_nextToken 266 = .ok (.putfield 231, 3) := dk_181 0 231 (dk_at dksX5_nextToken_11 15 rfl rfl)
theorem dX5_nextToken_269 : decode cX5_nextToken 269 = .ok (.aload_n 0, 1) := dk_42 (dk_at dksX5_nextToken_11 18 rfl rfl)
theorem dX5_nextToken_270 : decode cX5_nextToken 270 = .ok (.dup, 1) := dk_89 (dk_at dksX5_nextToken_11 19 rfl rfl)
theorem dX5_nextToken_271 : decode cX5_nextToken 271 = .ok (.getfield 213, 3) := dk_180 0 213 (dk_at dksX5_nextToken_11 20 rfl rfl)
theorem dX5_nextToken_274 : decode cX5_nextToken 274 = .ok (.iconst 1, 1) := dk_4 (dk_at dksX5_nextToken_11 23 rfl rfl)
theorem dX5_nextToken_275 : decode cX5_nextToken 275 = .ok (.iadd, 1) := dk_96 (dk_at dksX5_nextToken_12 0 rfl rfl)
theorem dX5_nextToken_276 : decode cX5_nextToken 276 = .ok (.putfield 213, 3) := dk_181 0 213 (dk_at dksX5_nextToken_12 1 rfl rfl)
theorem dX5_nextToken_279 : decode cX5_nextToken 279 = .ok (.goto (-65), 3) := dk_167 255 191 (dk_at dksX5_nextToken_12 4 rfl rfl)
theorem dX5_nextToken_282 : decode cX5_nextToken 282 = .ok (.aload_n 0, 1) := dk_42 (dk_at dksX5_nextToken_12 7 rfl rfl)
theorem dX5_nextToken_283 : decode cX5_nextToken 283 = .ok (.iload_n 1, 1) := dk_27 (dk_at dksX5_nextToken_12 8 rfl rfl)
theorem dX5_nextToken_284 : decode cX5_nextToken 284 = .ok (.ifCond .ne 16, 3) := dk_154 0 16 (dk_at dksX5_nextToken_12 9 rfl rfl)
theorem dX5_nextToken_287 : decode cX5_nextToken 287 = .ok (.aload_n 0, 1) := dk_42 (dk_at dksX5_nextToken_12 12 rfl rfl)
theorem dX5_nextToken_288 : decode cX5_nextToken 288 = .ok (.getfield 213, 3) := dk_180 0 213 (dk_at dksX5_nextToken_12 13 rfl rfl)
theorem dX5_nextToken_291 : decode cX5_nextToken 291 = .ok (.aload_n 0, 1) := dk_42 (dk_at dksX5_nextToken_12 16 rfl rfl)
theorem dX5_nextToken_292 : decode cX5_nextToken 292 = .ok (.getfield 219, 3) := dk_180 0 219 (dk_at dksX5_nextToken_12 17 rfl rfl)
theorem dX5_nextToken_295 : decode cX5_nextToken 295 = .ok (.isub, 1) := dk_100 (dk_at dksX5_nextToken_12 20 rfl rfl)
theorem dX5_nextToken_296 : decode cX5_nextToken 296 = .ok (.iconst 4, 1) := dk_7 (dk_at dksX5_nextToken_12 21 rfl rfl)
theorem dX5_nextToken_297 : decode cX5_nextToken 297 = .ok (.if_icmp .le 7, 3) := dk_164 0 7 (dk_at dksX5_nextToken_13 0 rfl rfl)
theorem dX5_nextToken_300 : decode cX5_nextToken 300 = .ok (.iconst 4, 1) := dk_7 (dk_at dksX5_nextToken_13 3 rfl rfl)
theorem dX5_nextToken_301 : decode cX5_nextToken 301 = .ok (.goto 4, 3) := dk_167 0 4 (dk_at dksX5_nextToken_13 4 rfl rfl)
theorem dX5_nextToken_304 : decode cX5_nextToken 304 = .ok (.iconst 2, 1) := dk_5 (dk_at dksX5_nextToken_13 7 rfl rfl)
theorem dX5_nextToken_305 : decode cX5_nextToken 305 = .ok (.putfield 216, 3) := dk_181 0 216 (dk_at dksX5_nextToken_13 8 rfl rfl)
theorem dX5_nextToken_308 : decode cX5_nextToken 308 = .ok (.goto 31, 3) := dk_167 0 31 (dk_at dksX5_nextToken_13 11 rfl rfl)
theorem dX5_nextToken_311 : decode cX5_nextToken 311 = .ok (.aload_n 0, 1) := dk_42 (dk_at dksX5_nextToken_13 14 rfl rfl)
theorem dX5_nextToken_312 : decode cX5_nextToken 312 = .ok (.iconst 3, 1) := dk_6 (dk_at dksX5_nextToken_13 15 rfl rfl)
theorem dX5_nextToken_313 : decode cX5_nextToken 313 = .ok (.putfield 216, 3) := dk_181 0 216 (dk_at dksX5_nextToken_13 16 rfl rfl)
theorem dX5_nextToken_316 : decode cX5_nextToken 316 = .ok (.aload_n 0, 1) := dk_42 (dk_at dksX5_nextToken_13 19 rfl rfl)
theorem dX5_nextToken_317 : decode cX5_nextToken 317 = .ok (.aload_n 0, 1) := dk_42 (dk_at dksX5_nextToken_13 20 rfl rfl)
theorem dX5_nextToken_318 : decode cX5_nextToken 318 = .ok (.getfield 49, 3) := dk_180 0 49 (dk_at dksX5_nextToken_13 21 rfl rfl)
theorem dX5_nextToken_321 : decode cX5_nextToken 321 = .ok (.aload_n 0, 1) := dk_42 (dk_at dksX5_nextToken_14 0 rfl rfl)
theorem dX5_nextToken_322 : decode cX5_nextToken 322 = .ok (.getfield 219, 3) := dk_180 0 219 (dk_at dksX5_nextToken_14 1 rfl rfl)
theorem dX5_nextToken_325 : decode cX5_nextToken 325 = .ok (.iaload, 1) := dk_46 (dk_at dksX5_nextToken_14 4 rfl rfl)
theorem dX5_nextToken_326 : decode cX5_nextToken 326 = .ok (.putfield 225, 3) := dk_181 0 225 (dk_at dksX5_nextToken_14 5 rfl rfl)
theorem dX5_nextToken_329 : decode cX5_nextToken 329 = .ok (.aload_n 0, 1) := dk_42 (dk_at dksX5_nextToken_14 8 rfl rfl)
theorem dX5_nextToken_330 : decode cX5_nextToken 330 = .ok (.dup, 1) := dk_89 (dk_at dksX5_nextToken_14 9 rfl rfl)
theorem dX5_nextToken_331 : decode cX5_nextToken 331 = .ok (.getfield 213, 3) := dk_180 0 213 (dk_at dksX5_nextToken_14 10 rfl rfl)
theorem dX5_nextToken_334 : decode cX5_nextToken 334 = .ok (.iconst 1, 1) := dk_4 (dk_at dksX5_nextToken_14 13 rfl rfl)
theorem dX5_nextToken_335 : decode cX5_nextToken 335 = .ok (.iadd, 1) := dk_96 (dk_at dksX5_nextToken_14 14 rfl rfl)
theorem dX5_nextToken_336 : decode cX5_nextToken 336 = .ok (.putfield 213, 3) := dk_181 0 213 (dk_at dksX5_nextToken_14 15 rfl rfl)
theorem dX5_nextToken_339 : decode cX5_nextToken 339 = .ok (.return_, 1) := dk_177 (dk_at dksX5_nextToken_14 18 rfl rfl)
abbrev cX5_isLetter : ByteArray := prog_18_method_64_code
def yX5_isLetter : MethodName := ⟨RX5, "isLetter", "(I)Z"⟩
def dkwX5_isLetter_1 : List UInt8 := [153, 0, 7, 4, 167, 0, 4, 3, 172]
abbrev dktX5_isLetter_1 : List UInt8 := dkwX5_isLetter_1 ++ []
def dkwX5_isLetter_0 : List UInt8 := [27, 42, 180, 0, 201, 162, 0, 26, 42, 180, 0, 49, 27, 46, 133, 20, 0, 205, 20, 0, 207, 184, 0, 68]
abbrev dktX5_isLetter_0 : List UInt8 := dkwX5_isLetter_0 ++ dktX5_isLetter_1
theorem dksX5_isLetter_0 : cX5_isLetter.data.toList.drop 0 = dktX5_isLetter_0 := by decide +kernel
theorem dksX5_isLetter_1 : cX5_isLetter.data.toList.drop 24 = dktX5_isLetter_1 := dk_seg dksX5_isLetter_0 24 rfl rfl
theorem dX5_isLetter_0 : decode cX5_isLetter 0 = .ok (.iload_n 1, 1) := dk_27 (dk_at dksX5_isLetter_0 0 rfl rfl)
theorem dX5_isLetter_1 : decode cX5_isLetter 1 = .ok (.aload_n 0, 1) := dk_42 (dk_at dksX5_isLetter_0 1 rfl rfl)
theorem dX5_isLetter_2 : decode cX5_isLetter 2 = .ok (.getfield 201, 3) := dk_180 0 201 (dk_at dksX5_isLetter_0 2 rfl rfl)
theorem dX5_isLetter_5 : decode cX5_isLetter 5 = .ok (.if_icmp .ge 26, 3) := dk_162 0 26 (dk_at dksX5_isLetter_0 5 rfl rfl)
theorem dX5_isLetter_8 : decode cX5_isLetter 8 = .ok (.aload_n 0, 1) := dk_42 (dk_at dksX5_isLetter_0 8 rfl rfl)
theorem dX5_isLetter_9 : decode cX5_isLetter 9 = .ok (.getfield 49, 3) := dk_180 0 49 (dk_at dksX5_isLetter_0 9 rfl rfl)
theorem dX5_isLetter_12 : decode cX5_isLetter 12 = .ok (.iload_n 1, 1) := dk_27 (dk_at dksX5_isLetter_0 12 rfl rfl)
theorem dX5_isLetter_13 : decode cX5_isLetter 13 = .ok (.iaload, 1) := dk_46 (dk_at dksX5_isLetter_0 13 rfl rfl)
theorem dX5_isLetter_14 : decode cX5_isLetter 14 = .ok (.i2l, 1) := dk_133 (dk_at dksX5_isLetter_0 14 rfl rfl)
theorem dX5_isLetter_15 : decode cX5_isLetter 15 = .ok (.ldc2_w 205, 3) := dk_20 0 205 (dk_at dksX5_isLetter_0 15 rfl rfl)
theorem dX5_isLetter_18 : decode cX5_isLetter 18 = .ok (.ldc2_w 207, 3) := dk_20 0 207 (dk_at dksX5_isLetter_0 18 rfl rfl)
theorem dX5_isLetter_21 : decode cX5_isLetter 21 = .ok (.invokestatic 68, 3) := dk_184 0 68 (dk_at dksX5_isLetter_0 21 rfl rfl)
theorem dX5_isLetter_24 : decode cX5_isLetter 24 = .ok (.ifCond .eq 7, 3) := dk_153 0 7 (dk_at dksX5_isLetter_1 0 rfl rfl)
theorem dX5_isLetter_27 : decode cX5_isLetter 27 = .ok (.iconst 1, 1) := dk_4 (dk_at dksX5_isLetter_1 3 rfl rfl)
theorem dX5_isLetter_28 : decode cX5_isLetter 28 = .ok (.goto 4, 3) := dk_167 0 4 (dk_at dksX5_isLetter_1 4 rfl rfl)
theorem dX5_isLetter_31 : decode cX5_isLetter 31 = .ok (.iconst 0, 1) := dk_3 (dk_at dksX5_isLetter_1 7 rfl rfl)
theorem dX5_isLetter_32 : decode cX5_isLetter 32 = .ok (.ireturn, 1) := dk_172 (dk_at dksX5_isLetter_1 8 rfl rfl)
abbrev cX5_isDigit : ByteArray := prog_18_method_65_code
def yX5_isDigit : MethodName := ⟨RX5, "isDigit", "(I)Z"⟩
def dkwX5_isDigit_1 : List UInt8 := [153, 0, 7, 4, 167, 0, 4, 3, 172]
abbrev dktX5_isDigit_1 : List UInt8 := dkwX5_isDigit_1 ++ []
def dkwX5_isDigit_0 : List UInt8 := [27, 42, 180, 0, 201, 162, 0, 26, 42, 180, 0, 49, 27, 46, 133, 20, 0, 209, 20, 0, 211, 184, 0, 68]
abbrev dktX5_isDigit_0 : List UInt8 := dkwX5_isDigit_0 ++ dktX5_isDigit_1
theorem dksX5_isDigit_0 : cX5_isDigit.data.toList.drop 0 = dktX5_isDigit_0 := by decide +kernel
theorem dksX5_isDigit_1 : cX5_isDigit.data.toList.drop 24 = dktX5_isDigit_1 := dk_seg dksX5_isDigit_0 24 rfl rfl
theorem dX5_isDigit_0 : decode cX5_isDigit 0 = .ok (.iload_n 1, 1) := dk_27 (dk_at dksX5_isDigit_0 0 rfl rfl)
theorem dX5_isDigit_1 : decode cX5_isDigit 1 = .ok (.aload_n 0, 1) := dk_42 (dk_at dksX5_isDigit_0 1 rfl rfl)
theorem dX5_isDigit_2 : decode cX5_isDigit 2 = .ok (.getfield 201, 3) := dk_180 0 201 (dk_at dksX5_isDigit_0 2 rfl rfl)
theorem dX5_isDigit_5 : decode cX5_isDigit 5 = .ok (.if_icmp .ge 26, 3) := dk_162 0 26 (dk_at dksX5_isDigit_0 5 rfl rfl)
theorem dX5_isDigit_8 : decode cX5_isDigit 8 = .ok (.aload_n 0, 1) := dk_42 (dk_at dksX5_isDigit_0 8 rfl rfl)
theorem dX5_isDigit_9 : decode cX5_isDigit 9 = .ok (.getfield 49, 3) := dk_180 0 49 (dk_at dksX5_isDigit_0 9 rfl rfl)
theorem dX5_isDigit_12 : decode cX5_isDigit 12 = .ok (.iload_n 1, 1) := dk_27 (dk_at dksX5_isDigit_0 12 rfl rfl)
theorem dX5_isDigit_13 : decode cX5_isDigit 13 = .ok (.iaload, 1) := dk_46 (dk_at dksX5_isDigit_0 13 rfl rfl)
theorem dX5_isDigit_14 : decode cX5_isDigit 14 = .ok (.i2l, 1) := dk_133 (dk_at dksX5_isDigit_0 14 rfl rfl)
theorem dX5_isDigit_15 : decode cX5_isDigit 15 = .ok (.ldc2_w 209, 3) := dk_20 0 209 (dk_at dksX5_isDigit_0 15 rfl rfl)
theorem dX5_isDigit_18 : decode cX5_isDigit 18 = .ok (.ldc2_w 211, 3) := dk_20 0 211 (dk_at dksX5_isDigit_0 18 rfl rfl)
theorem dX5_isDigit_21 : decode cX5_isDigit 21 = .ok (.invokestatic 68, 3) := dk_184 0 68 (dk_at dksX5_isDigit_0 21 rfl rfl)
theorem dX5_isDigit_24 : decode cX5_isDigit 24 = .ok (.ifCond .eq 7, 3) := dk_153 0 7 (dk_at dksX5_isDigit_1 0 rfl rfl)
theorem dX5_isDigit_27 : decode cX5_isDigit 27 = .ok (.iconst 1, 1) := dk_4 (dk_at dksX5_isDigit_1 3 rfl rfl)
theorem dX5_isDigit_28 : decode cX5_isDigit 28 = .ok (.goto 4, 3) := dk_167 0 4 (dk_at dksX5_isDigit_1 4 rfl rfl)
theorem dX5_isDigit_31 : decode cX5_isDigit 31 = .ok (.iconst 0, 1) := dk_3 (dk_at dksX5_isDigit_1 7 rfl rfl)
theorem dX5_isDigit_32 : decode cX5_isDigit 32 = .ok (.ireturn, 1) := dk_172 (dk_at dksX5_isDigit_1 8 rfl rfl)
abbrev cX5_key : ByteArray := prog_18_method_69_code
def yX5_key : MethodName := ⟨RX5, "key", "()I"⟩
def dkwX5_key_2 : List UInt8 := [5, 167, 0, 4, 2, 172]
abbrev dktX5_key_2 : List UInt8 := dkwX5_key_2 ++ []
def dkwX5_key_1 : List UInt8 := [3, 182, 0, 234, 153, 0, 5, 4, 172, 42, 16, 102, 16, 105, 16, 110, 16, 101, 182, 0, 234, 153, 0, 7]
abbrev dktX5_key_1 : List UInt8 := dkwX5_key_1 ++ dktX5_key_2
def dkwX5_key_0 : List UInt8 := [42, 16, 103, 16, 97, 16, 105, 16, 110, 182, 0, 234, 153, 0, 5, 3, 172, 42, 16, 102, 16, 101, 16, 101]
abbrev dktX5_key_0 : List UInt8 := dkwX5_key_0 ++ dktX5_key_1
theorem dksX5_key_0 : cX5_key.data.toList.drop 0 = dktX5_key_0 := by decide +kernel
theorem dksX5_key_1 : cX5_key.data.toList.drop 24 = dktX5_key_1 := dk_seg dksX5_key_0 24 rfl rfl
theorem dksX5_key_2 : cX5_key.data.toList.drop 48 = dktX5_key_2 := dk_seg dksX5_key_1 24 rfl rfl
theorem dX5_key_0 : decode cX5_key 0 = .ok (.aload_n 0, 1) := dk_42 (dk_at dksX5_key_0 0 rfl rfl)
theorem dX5_key_1 : decode cX5_key 1 = .ok (.bipush 103, 2) := dk_16 103 (dk_at dksX5_key_0 1 rfl rfl)
theorem dX5_key_3 : decode cX5_key 3 = .ok (.bipush 97, 2) := dk_16 97 (dk_at dksX5_key_0 3 rfl rfl)
theorem dX5_key_5 : decode cX5_key 5 = .ok (.bipush 105, 2) := dk_16 105 (dk_at dksX5_key_0 5 rfl rfl)
theorem dX5_key_7 : decode cX5_key 7 = .ok (.bipush 110, 2) := dk_16 110 (dk_at dksX5_key_0 7 rfl rfl)
theorem dX5_key_9 : decode cX5_key 9 = .ok (.invokevirtual 234, 3) := dk_182 0 234 (dk_at dksX5_key_0 9 rfl rfl)
theorem dX5_key_12 : decode cX5_key 12 = .ok (.ifCond .eq 5, 3) := dk_153 0 5 (dk_at dksX5_key_0 12 rfl rfl)
theorem dX5_key_15 : decode cX5_key 15 = .ok (.iconst 0, 1) := dk_3 (dk_at dksX5_key_0 15 rfl rfl)
theorem dX5_key_16 : decode cX5_key 16 = .ok (.ireturn, 1) := dk_172 (dk_at dksX5_key_0 16 rfl rfl)
theorem dX5_key_17 : decode cX5_key 17 = .ok (.aload_n 0, 1) := dk_42 (dk_at dksX5_key_0 17 rfl rfl)
theorem dX5_key_18 : decode cX5_key 18 = .ok (.bipush 102, 2) := dk_16 102 (dk_at dksX5_key_0 18 rfl rfl)
theorem dX5_key_20 : decode cX5_key 20 = .ok (.bipush 101, 2) := dk_16 101 (dk_at dksX5_key_0 20 rfl rfl)
theorem dX5_key_22 : decode cX5_key 22 = .ok (.bipush 101, 2) := dk_16 101 (dk_at dksX5_key_0 22 rfl rfl)
theorem dX5_key_24 : decode cX5_key 24 = .ok (.iconst 0, 1) := dk_3 (dk_at dksX5_key_1 0 rfl rfl)
theorem dX5_key_25 : decode cX5_key 25 = .ok (.invokevirtual 234, 3) := dk_182 0 234 (dk_at dksX5_key_1 1 rfl rfl)
theorem dX5_key_28 : decode cX5_key 28 = .ok (.ifCond .eq 5, 3) := dk_153 0 5 (dk_at dksX5_key_1 4 rfl rfl)
theorem dX5_key_31 : decode cX5_key 31 = .ok (.iconst 1, 1) := dk_4 (dk_at dksX5_key_1 7 rfl rfl)
theorem dX5_key_32 : decode cX5_key 32 = .ok (.ireturn, 1) := dk_172 (dk_at dksX5_key_1 8 rfl rfl)
theorem dX5_key_33 : decode cX5_key 33 = .ok (.aload_n 0, 1) := dk_42 (dk_at dksX5_key_1 9 rfl rfl)
theorem dX5_key_34 : decode cX5_key 34 = .ok (.bipush 102, 2) := dk_16 102 (dk_at dksX5_key_1 10 rfl rfl)
theorem dX5_key_36 : decode cX5_key 36 = .ok (.bipush 105, 2) := dk_16 105 (dk_at dksX5_key_1 12 rfl rfl)
theorem dX5_key_38 : decode cX5_key 38 = .ok (.bipush 110, 2) := dk_16 110 (dk_at dksX5_key_1 14 rfl rfl)
theorem dX5_key_40 : decode cX5_key 40 = .ok (.bipush 101, 2) := dk_16 101 (dk_at dksX5_key_1 16 rfl rfl)
theorem dX5_key_42 : decode cX5_key 42 = .ok (.invokevirtual 234, 3) := dk_182 0 234 (dk_at dksX5_key_1 18 rfl rfl)
theorem dX5_key_45 : decode cX5_key 45 = .ok (.ifCond .eq 7, 3) := dk_153 0 7 (dk_at dksX5_key_1 21 rfl rfl)
theorem dX5_key_48 : decode cX5_key 48 = .ok (.iconst 2, 1) := dk_5 (dk_at dksX5_key_2 0 rfl rfl)
theorem dX5_key_49 : decode cX5_key 49 = .ok (.goto 4, 3) := dk_167 0 4 (dk_at dksX5_key_2 1 rfl rfl)
theorem dX5_key_52 : decode cX5_key 52 = .ok (.iconst (-1), 1) := dk_2 (dk_at dksX5_key_2 4 rfl rfl)
theorem dX5_key_53 : decode cX5_key 53 = .ok (.ireturn, 1) := dk_172 (dk_at dksX5_key_2 5 rfl rfl)
abbrev cX5_isWordAt : ByteArray := prog_18_method_68_code
def yX5_isWordAt : MethodName := ⟨RX5, "isWordAt", "(IIII)Z"⟩
def dkwX5_isWordAt_4 : List UInt8 := [160, 0, 7, 4, 167, 0, 4, 3, 172]
abbrev dktX5_isWordAt_4 : List UInt8 := dkwX5_isWordAt_4 ++ []
def dkwX5_isWordAt_3 : List UInt8 := [46, 29, 160, 0, 28, 21, 4, 153, 0, 19, 42, 180, 0, 49, 42, 180, 0, 219, 6, 96, 46, 21, 4]
abbrev dktX5_isWordAt_3 : List UInt8 := dkwX5_isWordAt_3 ++ dktX5_isWordAt_4
def dkwX5_isWordAt_2 : List UInt8 := [180, 0, 49, 42, 180, 0, 219, 4, 96, 46, 28, 160, 0, 43, 42, 180, 0, 49, 42, 180, 0, 219, 5, 96]
abbrev dktX5_isWordAt_2 : List UInt8 := dkwX5_isWordAt_2 ++ dktX5_isWordAt_3
def dkwX5_isWordAt_1 : List UInt8 := [42, 180, 0, 219, 100, 21, 5, 160, 0, 71, 42, 180, 0, 49, 42, 180, 0, 219, 46, 27, 160, 0, 58, 42]
abbrev dktX5_isWordAt_1 : List UInt8 := dkwX5_isWordAt_1 ++ dktX5_isWordAt_2
def dkwX5_isWordAt_0 : List UInt8 := [21, 4, 154, 0, 7, 6, 167, 0, 4, 7, 54, 5, 42, 180, 0, 216, 4, 160, 0, 85, 42, 180, 0, 213]
abbrev dktX5_isWordAt_0 : List UInt8 := dkwX5_isWordAt_0 ++ dktX5_isWordAt_1
theorem dksX5_isWordAt_0 : cX5_isWordAt.data.toList.drop 0 = dktX5_isWordAt_0 := by decide +kernel
theorem dksX5_isWordAt_1 : cX5_isWordAt.data.toList.drop 24 = dktX5_isWordAt_1 := dk_seg dksX5_isWordAt_0 24 rfl rfl
theorem dksX5_isWordAt_2 : cX5_isWordAt.data.toList.drop 48 = dktX5_isWordAt_2 := dk_seg dksX5_isWordAt_1 24 rfl rfl
theorem dksX5_isWordAt_3 : cX5_isWordAt.data.toList.drop 72 = dktX5_isWordAt_3 := dk_seg dksX5_isWordAt_2 24 rfl rfl
theorem dksX5_isWordAt_4 : cX5_isWordAt.data.toList.drop 95 = dktX5_isWordAt_4 := dk_seg dksX5_isWordAt_3 23 rfl rfl
theorem dX5_isWordAt_0 : decode cX5_isWordAt 0 = .ok (.iload 4, 2) := dk_21 4 (dk_at dksX5_isWordAt_0 0 rfl rfl)
theorem dX5_isWordAt_2 : decode cX5_isWordAt 2 = .ok (.ifCond .ne 7, 3) := dk_154 0 7 (dk_at dksX5_isWordAt_0 2 rfl rfl)
theorem dX5_isWordAt_5 : decode cX5_isWordAt 5 = .ok (.iconst 3, 1) := dk_6 (dk_at dksX5_isWordAt_0 5 rfl rfl)
theorem dX5_isWordAt_6 : decode cX5_isWordAt 6 = .ok (.goto 4, 3) := dk_167 0 4 (dk_at dksX5_isWordAt_0 6 rfl rfl)
theorem dX5_isWordAt_9 : decode cX5_isWordAt 9 = .ok (.iconst 4, 1) := dk_7 (dk_at dksX5_isWordAt_0 9 rfl rfl)
theorem dX5_isWordAt_10 : decode cX5_isWordAt 10 = .ok (.istore 5, 2) := dk_54 5 (dk_at dksX5_isWordAt_0 10 rfl rfl)
theorem dX5_isWordAt_12 : decode cX5_isWordAt 12 = .ok (.aload_n 0, 1) := dk_42 (dk_at dksX5_isWordAt_0 12 rfl rfl)
theorem dX5_isWordAt_13 : decode cX5_isWordAt 13 = .ok (.getfield 216, 3) := dk_180 0 216 (dk_at dksX5_isWordAt_0 13 rfl rfl)
theorem dX5_isWordAt_16 : decode cX5_isWordAt 16 = .ok (.iconst 1, 1) := dk_4 (dk_at dksX5_isWordAt_0 16 rfl rfl)
theorem dX5_isWordAt_17 : decode cX5_isWordAt 17 = .ok (.if_icmp .ne 85, 3) := dk_160 0 85 (dk_at dksX5_isWordAt_0 17 rfl rfl)
theorem dX5_isWordAt_20 : decode cX5_isWordAt 20 = .ok (.aload_n 0, 1) := dk_42 (dk_at dksX5_isWordAt_0 20 rfl rfl)
theorem dX5_isWordAt_21 : decode cX5_isWordAt 21 = .ok (.getfield 213, 3) := dk_180 0 213 (dk_at dksX5_isWordAt_0 21 rfl rfl)
theorem dX5_isWordAt_24 : decode cX5_isWordAt 24 = .ok (.aload_n 0, 1) := dk_42 (dk_at dksX5_isWordAt_1 0 rfl rfl)
theorem dX5_isWordAt_25 : decode cX5_isWordAt 25 = .ok (.getfield 219, 3) := dk_180 0 219 (dk_at dksX5_isWordAt_1 1 rfl rfl)
theorem dX5_isWordAt_28 : decode cX5_isWordAt 28 = .ok (.isub, 1) := dk_100 (dk_at dksX5_isWordAt_1 4 rfl rfl)
theorem dX5_isWordAt_29 : decode cX5_isWordAt 29 = .ok (.iload 5, 2) := dk_21 5 (dk_at dksX5_isWordAt_1 5 rfl rfl)
theorem dX5_isWordAt_31 : decode cX5_isWordAt 31 = .ok (.if_icmp .ne 71, 3) := dk_160 0 71 (dk_at dksX5_isWordAt_1 7 rfl rfl)
theorem dX5_isWordAt_34 : decode cX5_isWordAt 34 = .ok (.aload_n 0, 1) := dk_42 (dk_at dksX5_isWordAt_1 10 rfl rfl)
theorem dX5_isWordAt_35 : decode cX5_isWordAt 35 = .ok (.getfield 49, 3) := dk_180 0 49 (dk_at dksX5_isWordAt_1 11 rfl rfl)
theorem dX5_isWordAt_38 : decode cX5_isWordAt 38 = .ok (.aload_n 0, 1) := dk_42 (dk_at dksX5_isWordAt_1 14 rfl rfl)
theorem dX5_isWordAt_39 : decode cX5_isWordAt 39 = .ok (.getfield 219, 3) := dk_180 0 219 (dk_at dksX5_isWordAt_1 15 rfl rfl)
theorem dX5_isWordAt_42 : decode cX5_isWordAt 42 = .ok (.iaload, 1) := dk_46 (dk_at dksX5_isWordAt_1 18 rfl rfl)
theorem dX5_isWordAt_43 : decode cX5_isWordAt 43 = .ok (.iload_n 1, 1) := dk_27 (dk_at dksX5_isWordAt_1 19 rfl rfl)
theorem dX5_isWordAt_44 : decode cX5_isWordAt 44 = .ok (.if_icmp .ne 58, 3) := dk_160 0 58 (dk_at dksX5_isWordAt_1 20 rfl rfl)
theorem dX5_isWordAt_47 : decode cX5_isWordAt 47 = .ok (.aload_n 0, 1) := dk_42 (dk_at dksX5_isWordAt_1 23 rfl rfl)
theorem dX5_isWordAt_48 : decode cX5_isWordAt 48 = .ok (.getfield 49, 3) := dk_180 0 49 (dk_at dksX5_isWordAt_2 0 rfl rfl)
theorem dX5_isWordAt_51 : decode cX5_isWordAt 51 = .ok (.aload_n 0, 1) := dk_42 (dk_at dksX5_isWordAt_2 3 rfl rfl)
theorem dX5_isWordAt_52 : decode cX5_isWordAt 52 = .ok (.getfield 219, 3) := dk_180 0 219 (dk_at dksX5_isWordAt_2 4 rfl rfl)
theorem dX5_isWordAt_55 : decode cX5_isWordAt 55 = .ok (.iconst 1, 1) := dk_4 (dk_at dksX5_isWordAt_2 7 rfl rfl)
theorem dX5_isWordAt_56 : decode cX5_isWordAt 56 = .ok (.iadd, 1) := dk_96 (dk_at dksX5_isWordAt_2 8 rfl rfl)
theorem dX5_isWordAt_57 : decode cX5_isWordAt 57 = .ok (.iaload, 1) := dk_46 (dk_at dksX5_isWordAt_2 9 rfl rfl)
theorem dX5_isWordAt_58 : decode cX5_isWordAt 58 = .ok (.iload_n 2, 1) := dk_28 (dk_at dksX5_isWordAt_2 10 rfl rfl)
theorem dX5_isWordAt_59 : decode cX5_isWordAt 59 = .ok (.if_icmp .ne 43, 3) := dk_160 0 43 (dk_at dksX5_isWordAt_2 11 rfl rfl)
theorem dX5_isWordAt_62 : decode cX5_isWordAt 62 = .ok (.aload_n 0, 1) := dk_42 (dk_at dksX5_isWordAt_2 14 rfl rfl)
theorem dX5_isWordAt_63 : decode cX5_isWordAt 63 = .ok (.getfield 49, 3) := dk_180 0 49 (dk_at dksX5_isWordAt_2 15 rfl rfl)
theorem dX5_isWordAt_66 : decode cX5_isWordAt 66 = .ok (.aload_n 0, 1) := dk_42 (dk_at dksX5_isWordAt_2 18 rfl rfl)
theorem dX5_isWordAt_67 : decode cX5_isWordAt 67 = .ok (.getfield 219, 3) := dk_180 0 219 (dk_at dksX5_isWordAt_2 19 rfl rfl)
theorem dX5_isWordAt_70 : decode cX5_isWordAt 70 = .ok (.iconst 2, 1) := dk_5 (dk_at dksX5_isWordAt_2 22 rfl rfl)
theorem dX5_isWordAt_71 : decode cX5_isWordAt 71 = .ok (.iadd, 1) := dk_96 (dk_at dksX5_isWordAt_2 23 rfl rfl)
theorem dX5_isWordAt_72 : decode cX5_isWordAt 72 = .ok (.iaload, 1) := dk_46 (dk_at dksX5_isWordAt_3 0 rfl rfl)
theorem dX5_isWordAt_73 : decode cX5_isWordAt 73 = .ok (.iload_n 3, 1) := dk_29 (dk_at dksX5_isWordAt_3 1 rfl rfl)
theorem dX5_isWordAt_74 : decode cX5_isWordAt 74 = .ok (.if_icmp .ne 28, 3) := dk_160 0 28 (dk_at dksX5_isWordAt_3 2 rfl rfl)
theorem dX5_isWordAt_77 : decode cX5_isWordAt 77 = .ok (.iload 4, 2) := dk_21 4 (dk_at dksX5_isWordAt_3 5 rfl rfl)
theorem dX5_isWordAt_79 : decode cX5_isWordAt 79 = .ok (.ifCond .eq 19, 3) := dk_153 0 19 (dk_at dksX5_isWordAt_3 7 rfl rfl)
theorem dX5_isWordAt_82 : decode cX5_isWordAt 82 = .ok (.aload_n 0, 1) := dk_42 (dk_at dksX5_isWordAt_3 10 rfl rfl)
theorem dX5_isWordAt_83 : decode cX5_isWordAt 83 = .ok (.getfield 49, 3) := dk_180 0 49 (dk_at dksX5_isWordAt_3 11 rfl rfl)
theorem dX5_isWordAt_86 : decode cX5_isWordAt 86 = .ok (.aload_n 0, 1) := dk_42 (dk_at dksX5_isWordAt_3 14 rfl rfl)
theorem dX5_isWordAt_87 : decode cX5_isWordAt 87 = .ok (.getfield 219, 3) := dk_180 0 219 (dk_at dksX5_isWordAt_3 15 rfl rfl)
theorem dX5_isWordAt_90 : decode cX5_isWordAt 90 = .ok (.iconst 3, 1) := dk_6 (dk_at dksX5_isWordAt_3 18 rfl rfl)
theorem dX5_isWordAt_91 : decode cX5_isWordAt 91 = .ok (.iadd, 1) := dk_96 (dk_at dksX5_isWordAt_3 19 rfl rfl)
theorem dX5_isWordAt_92 : decode cX5_isWordAt 92 = .ok (.iaload, 1) := dk_46 (dk_at dksX5_isWordAt_3 20 rfl rfl)
theorem dX5_isWordAt_93 : decode cX5_isWordAt 93 = .ok (.iload 4, 2) := dk_21 4 (dk_at dksX5_isWordAt_3 21 rfl rfl)
theorem dX5_isWordAt_95 : decode cX5_isWordAt 95 = .ok (.if_icmp .ne 7, 3) := dk_160 0 7 (dk_at dksX5_isWordAt_4 0 rfl rfl)
theorem dX5_isWordAt_98 : decode cX5_isWordAt 98 = .ok (.iconst 1, 1) := dk_4 (dk_at dksX5_isWordAt_4 3 rfl rfl)
theorem dX5_isWordAt_99 : decode cX5_isWordAt 99 = .ok (.goto 4, 3) := dk_167 0 4 (dk_at dksX5_isWordAt_4 4 rfl rfl)
theorem dX5_isWordAt_102 : decode cX5_isWordAt 102 = .ok (.iconst 0, 1) := dk_3 (dk_at dksX5_isWordAt_4 7 rfl rfl)
theorem dX5_isWordAt_103 : decode cX5_isWordAt 103 = .ok (.ireturn, 1) := dk_172 (dk_at dksX5_isWordAt_4 8 rfl rfl)
abbrev cX5_either : ByteArray := prog_18_method_72_code
def yX5_either : MethodName := ⟨RX5, "either", "(I)Z"⟩
def dkwX5_either_1 : List UInt8 := [27, 182, 0, 244, 154, 0, 5, 3, 172, 42, 5, 16, 124, 182, 0, 253, 167, 255, 226, 4, 172]
abbrev dktX5_either_1 : List UInt8 := dkwX5_either_1 ++ []
def dkwX5_either_0 : List UInt8 := [42, 27, 182, 0, 244, 154, 0, 5, 3, 172, 42, 16, 124, 182, 0, 247, 153, 0, 27, 42, 182, 0, 250, 42]
abbrev dktX5_either_0 : List UInt8 := dkwX5_either_0 ++ dktX5_either_1
theorem dksX5_either_0 : cX5_either.data.toList.drop 0 = dktX5_either_0 := by decide +kernel
theorem dksX5_either_1 : cX5_either.data.toList.drop 24 = dktX5_either_1 := dk_seg dksX5_either_0 24 rfl rfl
theorem dX5_either_0 : decode cX5_either 0 = .ok (.aload_n 0, 1) := dk_42 (dk_at dksX5_either_0 0 rfl rfl)
theorem dX5_either_1 : decode cX5_either 1 = .ok (.iload_n 1, 1) := dk_27 (dk_at dksX5_either_0 1 rfl rfl)
theorem dX5_either_2 : decode cX5_either 2 = .ok (.invokevirtual 244, 3) := dk_182 0 244 (dk_at dksX5_either_0 2 rfl rfl)
theorem dX5_either_5 : decode cX5_either 5 = .ok (.ifCond .ne 5, 3) := dk_154 0 5 (dk_at dksX5_either_0 5 rfl rfl)
theorem dX5_either_8 : decode cX5_either 8 = .ok (.iconst 0, 1) := dk_3 (dk_at dksX5_either_0 8 rfl rfl)
theorem dX5_either_9 : decode cX5_either 9 = .ok (.ireturn, 1) := dk_172 (dk_at dksX5_either_0 9 rfl rfl)
theorem dX5_either_10 : decode cX5_either 10 = .ok (.aload_n 0, 1) := dk_42 (dk_at dksX5_either_0 10 rfl rfl)
theorem dX5_either_11 : decode cX5_either 11 = .ok (.bipush 124, 2) := dk_16 124 (dk_at dksX5_either_0 11 rfl rfl)
theorem dX5_either_13 : decode cX5_either 13 = .ok (.invokevirtual 247, 3) := dk_182 0 247 (dk_at dksX5_either_0 13 rfl rfl)
theorem dX5_either_16 : decode cX5_either 16 = .ok (.ifCond .eq 27, 3) := dk_153 0 27 (dk_at dksX5_either_0 16 rfl rfl)
theorem dX5_either_19 : decode cX5_either 19 = .ok (.aload_n 0, 1) := dk_42 (dk_at dksX5_either_0 19 rfl rfl)
theorem dX5_either_20 : decode cX5_either 20 = .ok (.invokevirtual 250, 3) := dk_182 0 250 (dk_at dksX5_either_0 20 rfl rfl)
theorem dX5_either_23 : decode cX5_either 23 = .ok (.aload_n 0, 1) := dk_42 (dk_at dksX5_either_0 23 rfl rfl)
theorem dX5_either_24 : decode cX5_either 24 = .ok (.iload_n 1, 1) := dk_27 (dk_at dksX5_either_1 0 rfl rfl)
theorem dX5_either_25 : decode cX5_either 25 = .ok (.invokevirtual 244, 3) := dk_182 0 244 (dk_at dksX5_either_1 1 rfl rfl)
theorem dX5_either_28 : decode cX5_either 28 = .ok (.ifCond .ne 5, 3) := dk_154 0 5 (dk_at dksX5_either_1 4 rfl rfl)
theorem dX5_either_31 : decode cX5_either 31 = .ok (.iconst 0, 1) := dk_3 (dk_at dksX5_either_1 7 rfl rfl)
theorem dX5_either_32 : decode cX5_either 32 = .ok (.ireturn, 1) := dk_172 (dk_at dksX5_either_1 8 rfl rfl)
theorem dX5_either_33 : decode cX5_either 33 = .ok (.aload_n 0, 1) := dk_42 (dk_at dksX5_either_1 9 rfl rfl)
theorem dX5_either_34 : decode cX5_either 34 = .ok (.iconst 2, 1) := dk_5 (dk_at dksX5_either_1 10 rfl rfl)
theorem dX5_either_35 : decode cX5_either 35 = .ok (.bipush 124, 2) := dk_16 124 (dk_at dksX5_either_1 11 rfl rfl)
theorem dX5_either_37 : decode cX5_either 37 = .ok (.invokevirtual 253, 3) := dk_182 0 253 (dk_at dksX5_either_1 13 rfl rfl)
theorem dX5_either_40 : decode cX5_either 40 = .ok (.goto (-30), 3) := dk_167 255 226 (dk_at dksX5_either_1 16 rfl rfl)
theorem dX5_either_43 : decode cX5_either 43 = .ok (.iconst 1, 1) := dk_4 (dk_at dksX5_either_1 19 rfl rfl)
theorem dX5_either_44 : decode cX5_either 44 = .ok (.ireturn, 1) := dk_172 (dk_at dksX5_either_1 20 rfl rfl)
abbrev cX5_both : ByteArray := prog_18_method_73_code
def yX5_both : MethodName := ⟨RX5, "both", "(I)Z"⟩
def dkwX5_both_1 : List UInt8 := [27, 182, 1, 1, 154, 0, 5, 3, 172, 42, 5, 16, 38, 182, 0, 253, 167, 255, 226, 4, 172]
abbrev dktX5_both_1 : List UInt8 := dkwX5_both_1 ++ []
def dkwX5_both_0 : List UInt8 := [42, 27, 182, 1, 1, 154, 0, 5, 3, 172, 42, 16, 38, 182, 0, 247, 153, 0, 27, 42, 182, 0, 250, 42]
abbrev dktX5_both_0 : List UInt8 := dkwX5_both_0 ++ dktX5_both_1
theorem dksX5_both_0 : cX5_both.data.toList.drop 0 = dktX5_both_0 := by decide +kernel
theorem dksX5_both_1 : cX5_both.data.toList.drop 24 = dktX5_both_1 := dk_seg dksX5_both_0 24 rfl rfl
theorem dX5_both_0 : decode cX5_both 0 = .ok (.aload_n 0, 1) := dk_42 (dk_at dksX5_both_0 0 rfl rfl)
theorem dX5_both_1 : decode cX5_both 1 = .ok (.iload_n 1, 1) := dk_27 (dk_at dksX5_both_0 1 rfl rfl)
theorem dX5_both_2 : decode cX5_both 2 = .ok (.invokevirtual 257, 3) := dk_182 1 1 (dk_at dksX5_both_0 2 rfl rfl)
theorem dX5_both_5 : decode cX5_both 5 = .ok (.ifCond .ne 5, 3) := dk_154 0 5 (dk_at dksX5_both_0 5 rfl rfl)
theorem dX5_both_8 : decode cX5_both 8 = .ok (.iconst 0, 1) := dk_3 (dk_at dksX5_both_0 8 rfl rfl)
theorem dX5_both_9 : decode cX5_both 9 = .ok (.ireturn, 1) := dk_172 (dk_at dksX5_both_0 9 rfl rfl)
theorem dX5_both_10 : decode cX5_both 10 = .ok (.aload_n 0, 1) := dk_42 (dk_at dksX5_both_0 10 rfl rfl)
theorem dX5_both_11 : decode cX5_both 11 = .ok (.bipush 38, 2) := dk_16 38 (dk_at dksX5_both_0 11 rfl rfl)
theorem dX5_both_13 : decode cX5_both 13 = .ok (.invokevirtual 247, 3) := dk_182 0 247 (dk_at dksX5_both_0 13 rfl rfl)
theorem dX5_both_16 : decode cX5_both 16 = .ok (.ifCond .eq 27, 3) := dk_153 0 27 (dk_at dksX5_both_0 16 rfl rfl)
theorem dX5_both_19 : decode cX5_both 19 = .ok (.aload_n 0, 1) := dk_42 (dk_at dksX5_both_0 19 rfl rfl)
theorem dX5_both_20 : decode cX5_both 20 = .ok (.invokevirtual 250, 3) := dk_182 0 250 (dk_at dksX5_both_0 20 rfl rfl)
theorem dX5_both_23 : decode cX5_both 23 = .ok (.aload_n 0, 1) := dk_42 (dk_at dksX5_both_0 23 rfl rfl)
theorem dX5_both_24 : decode cX5_both 24 = .ok (.iload_n 1, 1) := dk_27 (dk_at dksX5_both_1 0 rfl rfl)
theorem dX5_both_25 : decode cX5_both 25 = .ok (.invokevirtual 257, 3) := dk_182 1 1 (dk_at dksX5_both_1 1 rfl rfl)
theorem dX5_both_28 : decode cX5_both 28 = .ok (.ifCond .ne 5, 3) := dk_154 0 5 (dk_at dksX5_both_1 4 rfl rfl)
theorem dX5_both_31 : decode cX5_both 31 = .ok (.iconst 0, 1) := dk_3 (dk_at dksX5_both_1 7 rfl rfl)
theorem dX5_both_32 : decode cX5_both 32 = .ok (.ireturn, 1) := dk_172 (dk_at dksX5_both_1 8 rfl rfl)
theorem dX5_both_33 : decode cX5_both 33 = .ok (.aload_n 0, 1) := dk_42 (dk_at dksX5_both_1 9 rfl rfl)
theorem dX5_both_34 : decode cX5_both 34 = .ok (.iconst 2, 1) := dk_5 (dk_at dksX5_both_1 10 rfl rfl)
theorem dX5_both_35 : decode cX5_both 35 = .ok (.bipush 38, 2) := dk_16 38 (dk_at dksX5_both_1 11 rfl rfl)
theorem dX5_both_37 : decode cX5_both 37 = .ok (.invokevirtual 253, 3) := dk_182 0 253 (dk_at dksX5_both_1 13 rfl rfl)
theorem dX5_both_40 : decode cX5_both 40 = .ok (.goto (-30), 3) := dk_167 255 226 (dk_at dksX5_both_1 16 rfl rfl)
theorem dX5_both_43 : decode cX5_both 43 = .ok (.iconst 1, 1) := dk_4 (dk_at dksX5_both_1 19 rfl rfl)
theorem dX5_both_44 : decode cX5_both 44 = .ok (.ireturn, 1) := dk_172 (dk_at dksX5_both_1 20 rfl rfl)
abbrev cX5_test : ByteArray := prog_18_method_74_code
def yX5_test : MethodName := ⟨RX5, "test", "(I)Z"⟩
def dkwX5_test_2 : List UInt8 := [42, 27, 182, 1, 4, 154, 0, 5, 3, 172, 42, 5, 28, 182, 0, 253, 4, 172]
abbrev dktX5_test_2 : List UInt8 := dkwX5_test_2 ++ []
def dkwX5_test_1 : List UInt8 := [182, 0, 247, 154, 0, 12, 42, 16, 62, 182, 0, 247, 153, 0, 28, 42, 180, 0, 225, 61, 42, 182, 0, 250]
abbrev dktX5_test_1 : List UInt8 := dkwX5_test_1 ++ dktX5_test_2
def dkwX5_test_0 : List UInt8 := [42, 27, 182, 1, 4, 154, 0, 5, 3, 172, 42, 16, 60, 182, 0, 247, 154, 0, 21, 42, 16, 61]
abbrev dktX5_test_0 : List UInt8 := dkwX5_test_0 ++ dktX5_test_1
theorem dksX5_test_0 : cX5_test.data.toList.drop 0 = dktX5_test_0 := by decide +kernel
theorem dksX5_test_1 : cX5_test.data.toList.drop 22 = dktX5_test_1 := dk_seg dksX5_test_0 22 rfl rfl
theorem dksX5_test_2 : cX5_test.data.toList.drop 46 = dktX5_test_2 := dk_seg dksX5_test_1 24 rfl rfl
theorem dX5_test_0 : decode cX5_test 0 = .ok (.aload_n 0, 1) := dk_42 (dk_at dksX5_test_0 0 rfl rfl)
theorem dX5_test_1 : decode cX5_test 1 = .ok (.iload_n 1, 1) := dk_27 (dk_at dksX5_test_0 1 rfl rfl)
theorem dX5_test_2 : decode cX5_test 2 = .ok (.invokevirtual 260, 3) := dk_182 1 4 (dk_at dksX5_test_0 2 rfl rfl)
theorem dX5_test_5 : decode cX5_test 5 = .ok (.ifCond .ne 5, 3) := dk_154 0 5 (dk_at dksX5_test_0 5 rfl rfl)
theorem dX5_test_8 : decode cX5_test 8 = .ok (.iconst 0, 1) := dk_3 (dk_at dksX5_test_0 8 rfl rfl)
theorem dX5_test_9 : decode cX5_test 9 = .ok (.ireturn, 1) := dk_172 (dk_at dksX5_test_0 9 rfl rfl)
theorem dX5_test_10 : decode cX5_test 10 = .ok (.aload_n 0, 1) := dk_42 (dk_at dksX5_test_0 10 rfl rfl)
theorem dX5_test_11 : decode cX5_test 11 = .ok (.bipush 60, 2) := dk_16 60 (dk_at dksX5_test_0 11 rfl rfl)
theorem dX5_test_13 : decode cX5_test 13 = .ok (.invokevirtual 247, 3) := dk_182 0 247 (dk_at dksX5_test_0 13 rfl rfl)
theorem dX5_test_16 : decode cX5_test 16 = .ok (.ifCond .ne 21, 3) := dk_154 0 21 (dk_at dksX5_test_0 16 rfl rfl)
theorem dX5_test_19 : decode cX5_test 19 = .ok (.aload_n 0, 1) := dk_42 (dk_at dksX5_test_0 19 rfl rfl)
theorem dX5_test_20 : decode cX5_test 20 = .ok (.bipush 61, 2) := dk_16 61 (dk_at dksX5_test_0 20 rfl rfl)
theorem dX5_test_22 : decode cX5_test 22 = .ok (.invokevirtual 247, 3) := dk_182 0 247 (dk_at dksX5_test_1 0 rfl rfl)
theorem dX5_test_25 : decode cX5_test 25 = .ok (.ifCond .ne 12, 3) := dk_154 0 12 (dk_at dksX5_test_1 3 rfl rfl)
theorem dX5_test_28 : decode cX5_test 28 = .ok (.aload_n 0, 1) := dk_42 (dk_at dksX5_test_1 6 rfl rfl)
theorem dX5_test_29 : decode cX5_test 29 = .ok (.bipush 62, 2) := dk_16 62 (dk_at dksX5_test_1 7 rfl rfl)
theorem dX5_test_31 : decode cX5_test 31 = .ok (.invokevirtual 247, 3) := dk_182 0 247 (dk_at dksX5_test_1 9 rfl rfl)
theorem dX5_test_34 : decode cX5_test 34 = .ok (.ifCond .eq 28, 3) := dk_153 0 28 (dk_at dksX5_test_1 12 rfl rfl)
theorem dX5_test_37 : decode cX5_test 37 = .ok (.aload_n 0, 1) := dk_42 (dk_at dksX5_test_1 15 rfl rfl)
theorem dX5_test_38 : decode cX5_test 38 = .ok (.getfield 225, 3) := dk_180 0 225 (dk_at dksX5_test_1 16 rfl rfl)
theorem dX5_test_41 : decode cX5_test 41 = .ok (.istore_n 2, 1) := dk_61 (dk_at dksX5_test_1 19 rfl rfl)
theorem dX5_test_42 : decode cX5_test 42 = .ok (.aload_n 0, 1) := dk_42 (dk_at dksX5_test_1 20 rfl rfl)
theorem dX5_test_43 : decode cX5_test 43 = .ok (.invokevirtual 250, 3) := dk_182 0 250 (dk_at dksX5_test_1 21 rfl rfl)
theorem dX5_test_46 : decode cX5_test 46 = .ok (.aload_n 0, 1) := dk_42 (dk_at dksX5_test_2 0 rfl rfl)
theorem dX5_test_47 : decode cX5_test 47 = .ok (.iload_n 1, 1) := dk_27 (dk_at dksX5_test_2 1 rfl rfl)
theorem dX5_test_48 : decode cX5_test 48 = .ok (.invokevirtual 260, 3) := dk_182 1 4 (dk_at dksX5_test_2 2 rfl rfl)
theorem dX5_test_51 : decode cX5_test 51 = .ok (.ifCond .ne 5, 3) := dk_154 0 5 (dk_at dksX5_test_2 5 rfl rfl)
theorem dX5_test_54 : decode cX5_test 54 = .ok (.iconst 0, 1) := dk_3 (dk_at dksX5_test_2 8 rfl rfl)
theorem dX5_test_55 : decode cX5_test 55 = .ok (.ireturn, 1) := dk_172 (dk_at dksX5_test_2 9 rfl rfl)
theorem dX5_test_56 : decode cX5_test 56 = .ok (.aload_n 0, 1) := dk_42 (dk_at dksX5_test_2 10 rfl rfl)
theorem dX5_test_57 : decode cX5_test 57 = .ok (.iconst 2, 1) := dk_5 (dk_at dksX5_test_2 11 rfl rfl)
theorem dX5_test_58 : decode cX5_test 58 = .ok (.iload_n 2, 1) := dk_28 (dk_at dksX5_test_2 12 rfl rfl)
theorem dX5_test_59 : decode cX5_test 59 = .ok (.invokevirtual 253, 3) := dk_182 0 253 (dk_at dksX5_test_2 13 rfl rfl)
theorem dX5_test_62 : decode cX5_test 62 = .ok (.iconst 1, 1) := dk_4 (dk_at dksX5_test_2 16 rfl rfl)
theorem dX5_test_63 : decode cX5_test 63 = .ok (.ireturn, 1) := dk_172 (dk_at dksX5_test_2 17 rfl rfl)
abbrev cX5_sum : ByteArray := prog_18_method_75_code
def yX5_sum : MethodName := ⟨RX5, "sum", "(I)Z"⟩
def dkwX5_sum_2 : List UInt8 := [172, 42, 5, 28, 182, 0, 253, 167, 255, 213, 4, 172]
abbrev dktX5_sum_2 : List UInt8 := dkwX5_sum_2 ++ []
def dkwX5_sum_1 : List UInt8 := [182, 0, 247, 153, 0, 31, 42, 180, 0, 225, 61, 42, 182, 0, 250, 42, 27, 182, 1, 7, 154, 0, 5, 3]
abbrev dktX5_sum_1 : List UInt8 := dkwX5_sum_1 ++ dktX5_sum_2
def dkwX5_sum_0 : List UInt8 := [42, 27, 182, 1, 7, 154, 0, 5, 3, 172, 42, 16, 43, 182, 0, 247, 154, 0, 12, 42, 16, 45]
abbrev dktX5_sum_0 : List UInt8 := dkwX5_sum_0 ++ dktX5_sum_1
theorem dksX5_sum_0 : cX5_sum.data.toList.drop 0 = dktX5_sum_0 := by decide +kernel
theorem dksX5_sum_1 : cX5_sum.data.toList.drop 22 = dktX5_sum_1 := dk_seg dksX5_sum_0 22 rfl rfl
theorem dksX5_sum_2 : cX5_sum.data.toList.drop 46 = dktX5_sum_2 := dk_seg dksX5_sum_1 24 rfl rfl
theorem dX5_sum_0 : decode cX5_sum 0 = .ok (.aload_n 0, 1) := dk_42 (dk_at dksX5_sum_0 0 rfl rfl)
theorem dX5_sum_1 : decode cX5_sum 1 = .ok (.iload_n 1, 1) := dk_27 (dk_at dksX5_sum_0 1 rfl rfl)
theorem dX5_sum_2 : decode cX5_sum 2 = .ok (.invokevirtual 263, 3) := dk_182 1 7 (dk_at dksX5_sum_0 2 rfl rfl)
theorem dX5_sum_5 : decode cX5_sum 5 = .ok (.ifCond .ne 5, 3) := dk_154 0 5 (dk_at dksX5_sum_0 5 rfl rfl)
theorem dX5_sum_8 : decode cX5_sum 8 = .ok (.iconst 0, 1) := dk_3 (dk_at dksX5_sum_0 8 rfl rfl)
theorem dX5_sum_9 : decode cX5_sum 9 = .ok (.ireturn, 1) := dk_172 (dk_at dksX5_sum_0 9 rfl rfl)
theorem dX5_sum_10 : decode cX5_sum 10 = .ok (.aload_n 0, 1) := dk_42 (dk_at dksX5_sum_0 10 rfl rfl)
theorem dX5_sum_11 : decode cX5_sum 11 = .ok (.bipush 43, 2) := dk_16 43 (dk_at dksX5_sum_0 11 rfl rfl)
theorem dX5_sum_13 : decode cX5_sum 13 = .ok (.invokevirtual 247, 3) := dk_182 0 247 (dk_at dksX5_sum_0 13 rfl rfl)
theorem dX5_sum_16 : decode cX5_sum 16 = .ok (.ifCond .ne 12, 3) := dk_154 0 12 (dk_at dksX5_sum_0 16 rfl rfl)
theorem dX5_sum_19 : decode cX5_sum 19 = .ok (.aload_n 0, 1) := dk_42 (dk_at dksX5_sum_0 19 rfl rfl)
theorem dX5_sum_20 : decode cX5_sum 20 = .ok (.bipush 45, 2) := dk_16 45 (dk_at dksX5_sum_0 20 rfl rfl)
theorem dX5_sum_22 : decode cX5_sum 22 = .ok (.invokevirtual 247, 3) := dk_182 0 247 (dk_at dksX5_sum_1 0 rfl rfl)
theorem dX5_sum_25 : decode cX5_sum 25 = .ok (.ifCond .eq 31, 3) := dk_153 0 31 (dk_at dksX5_sum_1 3 rfl rfl)
theorem dX5_sum_28 : decode cX5_sum 28 = .ok (.aload_n 0, 1) := dk_42 (dk_at dksX5_sum_1 6 rfl rfl)
theorem dX5_sum_29 : decode cX5_sum 29 = .ok (.getfield 225, 3) := dk_180 0 225 (dk_at dksX5_sum_1 7 rfl rfl)
theorem dX5_sum_32 : decode cX5_sum 32 = .ok (.istore_n 2, 1) := dk_61 (dk_at dksX5_sum_1 10 rfl rfl)
theorem dX5_sum_33 : decode cX5_sum 33 = .ok (.aload_n 0, 1) := dk_42 (dk_at dksX5_sum_1 11 rfl rfl)
theorem dX5_sum_34 : decode cX5_sum 34 = .ok (.invokevirtual 250, 3) := dk_182 0 250 (dk_at dksX5_sum_1 12 rfl rfl)
theorem dX5_sum_37 : decode cX5_sum 37 = .ok (.aload_n 0, 1) := dk_42 (dk_at dksX5_sum_1 15 rfl rfl)
theorem dX5_sum_38 : decode cX5_sum 38 = .ok (.iload_n 1, 1) := dk_27 (dk_at dksX5_sum_1 16 rfl rfl)
theorem dX5_sum_39 : decode cX5_sum 39 = .ok (.invokevirtual 263, 3) := dk_182 1 7 (dk_at dksX5_sum_1 17 rfl rfl)
theorem dX5_sum_42 : decode cX5_sum 42 = .ok (.ifCond .ne 5, 3) := dk_154 0 5 (dk_at dksX5_sum_1 20 rfl rfl)
theorem dX5_sum_45 : decode cX5_sum 45 = .ok (.iconst 0, 1) := dk_3 (dk_at dksX5_sum_1 23 rfl rfl)
theorem dX5_sum_46 : decode cX5_sum 46 = .ok (.ireturn, 1) := dk_172 (dk_at dksX5_sum_2 0 rfl rfl)
theorem dX5_sum_47 : decode cX5_sum 47 = .ok (.aload_n 0, 1) := dk_42 (dk_at dksX5_sum_2 1 rfl rfl)
theorem dX5_sum_48 : decode cX5_sum 48 = .ok (.iconst 2, 1) := dk_5 (dk_at dksX5_sum_2 2 rfl rfl)
theorem dX5_sum_49 : decode cX5_sum 49 = .ok (.iload_n 2, 1) := dk_28 (dk_at dksX5_sum_2 3 rfl rfl)
theorem dX5_sum_50 : decode cX5_sum 50 = .ok (.invokevirtual 253, 3) := dk_182 0 253 (dk_at dksX5_sum_2 4 rfl rfl)
theorem dX5_sum_53 : decode cX5_sum 53 = .ok (.goto (-43), 3) := dk_167 255 213 (dk_at dksX5_sum_2 7 rfl rfl)
theorem dX5_sum_56 : decode cX5_sum 56 = .ok (.iconst 1, 1) := dk_4 (dk_at dksX5_sum_2 10 rfl rfl)
theorem dX5_sum_57 : decode cX5_sum 57 = .ok (.ireturn, 1) := dk_172 (dk_at dksX5_sum_2 11 rfl rfl)
abbrev cX5_term : ByteArray := prog_18_method_76_code
def yX5_term : MethodName := ⟨RX5, "term", "(I)Z"⟩
def dkwX5_term_2 : List UInt8 := [172, 42, 5, 28, 182, 0, 253, 167, 255, 213, 4, 172]
abbrev dktX5_term_2 : List UInt8 := dkwX5_term_2 ++ []
def dkwX5_term_1 : List UInt8 := [182, 0, 247, 153, 0, 31, 42, 180, 0, 225, 61, 42, 182, 0, 250, 42, 27, 182, 1, 10, 154, 0, 5, 3]
abbrev dktX5_term_1 : List UInt8 := dkwX5_term_1 ++ dktX5_term_2
def dkwX5_term_0 : List UInt8 := [42, 27, 182, 1, 10, 154, 0, 5, 3, 172, 42, 16, 42, 182, 0, 247, 154, 0, 12, 42, 16, 47]
abbrev dktX5_term_0 : List UInt8 := dkwX5_term_0 ++ dktX5_term_1
theorem dksX5_term_0 : cX5_term.data.toList.drop 0 = dktX5_term_0 := by decide +kernel
theorem dksX5_term_1 : cX5_term.data.toList.drop 22 = dktX5_term_1 := dk_seg dksX5_term_0 22 rfl rfl
theorem dksX5_term_2 : cX5_term.data.toList.drop 46 = dktX5_term_2 := dk_seg dksX5_term_1 24 rfl rfl
theorem dX5_term_0 : decode cX5_term 0 = .ok (.aload_n 0, 1) := dk_42 (dk_at dksX5_term_0 0 rfl rfl)
theorem dX5_term_1 : decode cX5_term 1 = .ok (.iload_n 1, 1) := dk_27 (dk_at dksX5_term_0 1 rfl rfl)
theorem dX5_term_2 : decode cX5_term 2 = .ok (.invokevirtual 266, 3) := dk_182 1 10 (dk_at dksX5_term_0 2 rfl rfl)
theorem dX5_term_5 : decode cX5_term 5 = .ok (.ifCond .ne 5, 3) := dk_154 0 5 (dk_at dksX5_term_0 5 rfl rfl)
theorem dX5_term_8 : decode cX5_term 8 = .ok (.iconst 0, 1) := dk_3 (dk_at dksX5_term_0 8 rfl rfl)
theorem dX5_term_9 : decode cX5_term 9 = .ok (.ireturn, 1) := dk_172 (dk_at dksX5_term_0 9 rfl rfl)
theorem dX5_term_10 : decode cX5_term 10 = .ok (.aload_n 0, 1) := dk_42 (dk_at dksX5_term_0 10 rfl rfl)
theorem dX5_term_11 : decode cX5_term 11 = .ok (.bipush 42, 2) := dk_16 42 (dk_at dksX5_term_0 11 rfl rfl)
theorem dX5_term_13 : decode cX5_term 13 = .ok (.invokevirtual 247, 3) := dk_182 0 247 (dk_at dksX5_term_0 13 rfl rfl)
theorem dX5_term_16 : decode cX5_term 16 = .ok (.ifCond .ne 12, 3) := dk_154 0 12 (dk_at dksX5_term_0 16 rfl rfl)
theorem dX5_term_19 : decode cX5_term 19 = .ok (.aload_n 0, 1) := dk_42 (dk_at dksX5_term_0 19 rfl rfl)
theorem dX5_term_20 : decode cX5_term 20 = .ok (.bipush 47, 2) := dk_16 47 (dk_at dksX5_term_0 20 rfl rfl)
theorem dX5_term_22 : decode cX5_term 22 = .ok (.invokevirtual 247, 3) := dk_182 0 247 (dk_at dksX5_term_1 0 rfl rfl)
theorem dX5_term_25 : decode cX5_term 25 = .ok (.ifCond .eq 31, 3) := dk_153 0 31 (dk_at dksX5_term_1 3 rfl rfl)
theorem dX5_term_28 : decode cX5_term 28 = .ok (.aload_n 0, 1) := dk_42 (dk_at dksX5_term_1 6 rfl rfl)
theorem dX5_term_29 : decode cX5_term 29 = .ok (.getfield 225, 3) := dk_180 0 225 (dk_at dksX5_term_1 7 rfl rfl)
theorem dX5_term_32 : decode cX5_term 32 = .ok (.istore_n 2, 1) := dk_61 (dk_at dksX5_term_1 10 rfl rfl)
theorem dX5_term_33 : decode cX5_term 33 = .ok (.aload_n 0, 1) := dk_42 (dk_at dksX5_term_1 11 rfl rfl)
theorem dX5_term_34 : decode cX5_term 34 = .ok (.invokevirtual 250, 3) := dk_182 0 250 (dk_at dksX5_term_1 12 rfl rfl)
theorem dX5_term_37 : decode cX5_term 37 = .ok (.aload_n 0, 1) := dk_42 (dk_at dksX5_term_1 15 rfl rfl)
theorem dX5_term_38 : decode cX5_term 38 = .ok (.iload_n 1, 1) := dk_27 (dk_at dksX5_term_1 16 rfl rfl)
theorem dX5_term_39 : decode cX5_term 39 = .ok (.invokevirtual 266, 3) := dk_182 1 10 (dk_at dksX5_term_1 17 rfl rfl)
theorem dX5_term_42 : decode cX5_term 42 = .ok (.ifCond .ne 5, 3) := dk_154 0 5 (dk_at dksX5_term_1 20 rfl rfl)
theorem dX5_term_45 : decode cX5_term 45 = .ok (.iconst 0, 1) := dk_3 (dk_at dksX5_term_1 23 rfl rfl)
theorem dX5_term_46 : decode cX5_term 46 = .ok (.ireturn, 1) := dk_172 (dk_at dksX5_term_2 0 rfl rfl)
theorem dX5_term_47 : decode cX5_term 47 = .ok (.aload_n 0, 1) := dk_42 (dk_at dksX5_term_2 1 rfl rfl)
theorem dX5_term_48 : decode cX5_term 48 = .ok (.iconst 2, 1) := dk_5 (dk_at dksX5_term_2 2 rfl rfl)
theorem dX5_term_49 : decode cX5_term 49 = .ok (.iload_n 2, 1) := dk_28 (dk_at dksX5_term_2 3 rfl rfl)
theorem dX5_term_50 : decode cX5_term 50 = .ok (.invokevirtual 253, 3) := dk_182 0 253 (dk_at dksX5_term_2 4 rfl rfl)
theorem dX5_term_53 : decode cX5_term 53 = .ok (.goto (-43), 3) := dk_167 255 213 (dk_at dksX5_term_2 7 rfl rfl)
theorem dX5_term_56 : decode cX5_term 56 = .ok (.iconst 1, 1) := dk_4 (dk_at dksX5_term_2 10 rfl rfl)
theorem dX5_term_57 : decode cX5_term 57 = .ok (.ireturn, 1) := dk_172 (dk_at dksX5_term_2 11 rfl rfl)
abbrev cX5_part0 : ByteArray := prog_18_method_77_code
def yX5_part0 : MethodName := ⟨RX5, "part0", "(I)Z"⟩
def dkwX5_part0_9 : List UInt8 := [4, 172]
abbrev dktX5_part0_9 : List UInt8 := dkwX5_part0_9 ++ []
def dkwX5_part0_8 : List UInt8 := [16, 41, 182, 0, 247, 154, 0, 5, 3, 172, 42, 89, 180, 1, 22, 4, 100, 181, 1, 22, 42, 182, 0, 250]
abbrev dktX5_part0_8 : List UInt8 := dkwX5_part0_8 ++ dktX5_part0_9
def dkwX5_part0_7 : List UInt8 := [172, 42, 89, 180, 1, 22, 4, 96, 181, 1, 22, 42, 182, 0, 250, 42, 27, 182, 1, 25, 153, 0, 12, 42]
abbrev dktX5_part0_7 : List UInt8 := dkwX5_part0_7 ++ dktX5_part0_8
def dkwX5_part0_6 : List UInt8 := [182, 0, 253, 4, 172, 42, 16, 40, 182, 0, 247, 153, 0, 12, 42, 180, 1, 22, 16, 8, 160, 0, 5, 3]
abbrev dktX5_part0_6 : List UInt8 := dkwX5_part0_6 ++ dktX5_part0_7
def dkwX5_part0_5 : List UInt8 := [182, 1, 10, 154, 0, 5, 3, 172, 42, 89, 180, 1, 19, 4, 100, 181, 1, 19, 42, 5, 16, 33]
abbrev dktX5_part0_5 : List UInt8 := dkwX5_part0_5 ++ dktX5_part0_6
def dkwX5_part0_4 : List UInt8 := [180, 1, 19, 16, 8, 162, 0, 46, 42, 89, 180, 1, 19, 4, 96, 181, 1, 19, 42, 182, 0, 250, 42, 27]
abbrev dktX5_part0_4 : List UInt8 := dkwX5_part0_4 ++ dktX5_part0_5
def dkwX5_part0_3 : List UInt8 := [180, 1, 13, 4, 96, 181, 1, 13, 42, 182, 0, 250, 4, 172, 42, 16, 33, 182, 0, 247, 153, 0, 55, 42]
abbrev dktX5_part0_3 : List UInt8 := dkwX5_part0_3 ++ dktX5_part0_4
def dkwX5_part0_2 : List UInt8 := [27, 42, 180, 0, 225, 184, 1, 16, 153, 0, 28, 42, 4, 42, 180, 0, 225, 182, 0, 253, 42, 89]
abbrev dktX5_part0_2 : List UInt8 := dkwX5_part0_2 ++ dktX5_part0_3
def dkwX5_part0_1 : List UInt8 := [181, 1, 13, 42, 182, 0, 250, 4, 172, 42, 180, 0, 216, 4, 160, 0, 46, 42, 180, 0, 225, 153, 0, 39]
abbrev dktX5_part0_1 : List UInt8 := dkwX5_part0_1 ++ dktX5_part0_2
def dkwX5_part0_0 : List UInt8 := [42, 180, 0, 216, 5, 160, 0, 28, 42, 3, 42, 180, 0, 231, 182, 0, 253, 42, 89, 180, 1, 13, 4, 96]
abbrev dktX5_part0_0 : List UInt8 := dkwX5_part0_0 ++ dktX5_part0_1
theorem dksX5_part0_0 : cX5_part0.data.toList.drop 0 = dktX5_part0_0 := by decide +kernel
theorem dksX5_part0_1 : cX5_part0.data.toList.drop 24 = dktX5_part0_1 := dk_seg dksX5_part0_0 24 rfl rfl
theorem dksX5_part0_2 : cX5_part0.data.toList.drop 48 = dktX5_part0_2 := dk_seg dksX5_part0_1 24 rfl rfl
theorem dksX5_part0_3 : cX5_part0.data.toList.drop 70 = dktX5_part0_3 := dk_seg dksX5_part0_2 22 rfl rfl
theorem dksX5_part0_4 : cX5_part0.data.toList.drop 94 = dktX5_part0_4 := dk_seg dksX5_part0_3 24 rfl rfl
theorem dksX5_part0_5 : cX5_part0.data.toList.drop 118 = dktX5_part0_5 := dk_seg dksX5_part0_4 24 rfl rfl
theorem dksX5_part0_6 : cX5_part0.data.toList.drop 140 = dktX5_part0_6 := dk_seg dksX5_part0_5 22 rfl rfl
theorem dksX5_part0_7 : cX5_part0.data.toList.drop 164 = dktX5_part0_7 := dk_seg dksX5_part0_6 24 rfl rfl
theorem dksX5_part0_8 : cX5_part0.data.toList.drop 188 = dktX5_part0_8 := dk_seg dksX5_part0_7 24 rfl rfl
theorem dksX5_part0_9 : cX5_part0.data.toList.drop 212 = dktX5_part0_9 := dk_seg dksX5_part0_8 24 rfl rfl
theorem dX5_part0_0 : decode cX5_part0 0 = .ok (.aload_n 0, 1) := dk_42 (dk_at dksX5_part0_0 0 rfl rfl)
theorem dX5_part0_1 : decode cX5_part0 1 = .ok (.getfield 216, 3) := dk_180 0 216 (dk_at dksX5_part0_0 1 rfl rfl)
theorem dX5_part0_4 : decode cX5_part0 4 = .ok (.iconst 2, 1) := dk_5 (dk_at dksX5_part0_0 4 rfl rfl)
theorem dX5_part0_5 : decode cX5_part0 5 = .ok (.if_icmp .ne 28, 3) := dk_160 0 28 (dk_at dksX5_part0_0 5 rfl rfl)
theorem dX5_part0_8 : decode cX5_part0 8 = .ok (.aload_n 0, 1) := dk_42 (dk_at dksX5_part0_0 8 rfl rfl)
theorem dX5_part0_9 : decode cX5_part0 9 = .ok (.iconst 0, 1) := dk_3 (dk_at dksX5_part0_0 9 rfl rfl)
theorem dX5_part0_10 : decode cX5_part0 10 = .ok (.aload_n 0, 1) := dk_42 (dk_at dksX5_part0_0 10 rfl rfl)
theorem dX5_part0_11 : decode cX5_part0 11 = .ok (.getfield 231, 3) := dk_180 0 231 (dk_at dksX5_part0_0 11 rfl rfl)
theorem dX5_part0_14 : decode cX5_part0 14 = .ok (.invokevirtual 253, 3) := dk_182 0 253 (dk_at dksX5_part0_0 14 rfl rfl)
theorem dX5_part0_17 : decode cX5_part0 17 = .ok (.aload_n 0, 1) := dk_42 (dk_at dksX5_part0_0 17 rfl rfl)
theorem dX5_part0_18 : decode cX5_part0 18 = .ok (.dup, 1) := dk_89 (dk_at dksX5_part0_0 18 rfl rfl)
theorem dX5_part0_19 : decode cX5_part0 19 = .ok (.getfield 269, 3) := dk_180 1 13 (dk_at dksX5_part0_0 19 rfl rfl)
theorem dX5_part0_22 : decode cX5_part0 22 = .ok (.iconst 1, 1) := dk_4 (dk_at dksX5_part0_0 22 rfl rfl)
theorem dX5_part0_23 : decode cX5_part0 23 = .ok (.iadd, 1) := dk_96 (dk_at dksX5_part0_0 23 rfl rfl)
theorem dX5_part0_24 : decode cX5_part0 24 = .ok (.putfield 269, 3) := dk_181 1 13 (dk_at dksX5_part0_1 0 rfl rfl)
theorem dX5_part0_27 : decode cX5_part0 27 = .ok (.aload_n 0, 1) := dk_42 (dk_at dksX5_part0_1 3 rfl rfl)
theorem dX5_part0_28 : decode cX5_part0 28 = .ok (.invokevirtual 250, 3) := dk_182 0 250 (dk_at dksX5_part0_1 4 rfl rfl)
theorem dX5_part0_31 : decode cX5_part0 31 = .ok (.iconst 1, 1) := dk_4 (dk_at dksX5_part0_1 7 rfl rfl)
theorem dX5_part0_32 : decode cX5_part0 32 = .ok (.ireturn, 1) := dk_172 (dk_at dksX5_part0_1 8 rfl rfl)
theorem dX5_part0_33 : decode cX5_part0 33 = .ok (.aload_n 0, 1) := dk_42 (dk_at dksX5_part0_1 9 rfl rfl)
theorem dX5_part0_34 : decode cX5_part0 34 = .ok (.getfield 216, 3) := dk_180 0 216 (dk_at dksX5_part0_1 10 rfl rfl)
theorem dX5_part0_37 : decode cX5_part0 37 = .ok (.iconst 1, 1) := dk_4 (dk_at dksX5_part0_1 13 rfl rfl)
theorem dX5_part0_38 : decode cX5_part0 38 = .ok (.if_icmp .ne 46, 3) := dk_160 0 46 (dk_at dksX5_part0_1 14 rfl rfl)
theorem dX5_part0_41 : decode cX5_part0 41 = .ok (.aload_n 0, 1) := dk_42 (dk_at dksX5_part0_1 17 rfl rfl)
theorem dX5_part0_42 : decode cX5_part0 42 = .ok (.getfield 225, 3) := dk_180 0 225 (dk_at dksX5_part0_1 18 rfl rfl)
theorem dX5_part0_45 : decode cX5_part0 45 = .ok (.ifCond .eq 39, 3) := dk_153 0 39 (dk_at dksX5_part0_1 21 rfl rfl)
theorem dX5_part0_48 : decode cX5_part0 48 = .ok (.iload_n 1, 1) := dk_27 (dk_at dksX5_part0_2 0 rfl rfl)
theorem dX5_part0_49 : decode cX5_part0 49 = .ok (.aload_n 0, 1) := dk_42 (dk_at dksX5_part0_2 1 rfl rfl)
theorem dX5_part0_50 : decode cX5_part0 50 = .ok (.getfield 225, 3) := dk_180 0 225 (dk_at dksX5_part0_2 2 rfl rfl)
theorem dX5_part0_53 : decode cX5_part0 53 = .ok (.invokestatic 272, 3) := dk_184 1 16 (dk_at dksX5_part0_2 5 rfl rfl)
theorem dX5_part0_56 : decode cX5_part0 56 = .ok (.ifCond .eq 28, 3) := dk_153 0 28 (dk_at dksX5_part0_2 8 rfl rfl)
theorem dX5_part0_59 : decode cX5_part0 59 = .ok (.aload_n 0, 1) := dk_42 (dk_at dksX5_part0_2 11 rfl rfl)
theorem dX5_part0_60 : decode cX5_part0 60 = .ok (.iconst 1, 1) := dk_4 (dk_at dksX5_part0_2 12 rfl rfl)
theorem dX5_part0_61 : decode cX5_part0 61 = .ok (.aload_n 0, 1) := dk_42 (dk_at dksX5_part0_2 13 rfl rfl)
theorem dX5_part0_62 : decode cX5_part0 62 = .ok (.getfield 225, 3) := dk_180 0 225 (dk_at dksX5_part0_2 14 rfl rfl)
theorem dX5_part0_65 : decode cX5_part0 65 = .ok (.invokevirtual 253, 3) := dk_182 0 253 (dk_at dksX5_part0_2 17 rfl rfl)
theorem dX5_part0_68 : decode cX5_part0 68 = .ok (.aload_n 0, 1) := dk_42 (dk_at dksX5_part0_2 20 rfl rfl)
theorem dX5_part0_69 : decode cX5_part0 69 = .ok (.dup, 1) := dk_89 (dk_at dksX5_part0_2 21 rfl rfl)
theorem dX5_part0_70 : decode cX5_part0 70 = .ok (.getfield 269, 3) := dk_180 1 13 (dk_at dksX5_part0_3 0 rfl rfl)
theorem dX5_part0_73 : decode cX5_part0 73 = .ok (.iconst 1, 1) := dk_4 (dk_at dksX5_part0_3 3 rfl rfl)
theorem dX5_part0_74 : decode cX5_part0 74 = .ok (.iadd, 1) := dk_96 (dk_at dksX5_part0_3 4 rfl rfl)
theorem dX5_part0_75 : decode cX5_part0 75 = .ok (.putfield 269, 3) := dk_181 1 13 (dk_at dksX5_part0_3 5 rfl rfl)
theorem dX5_part0_78 : decode cX5_part0 78 = .ok (.aload_n 0, 1) := dk_42 (dk_at dksX5_part0_3 8 rfl rfl)
theorem dX5_part0_79 : decode cX5_part0 79 = .ok (.invokevirtual 250, 3) := dk_182 0 250 (dk_at dksX5_part0_3 9 rfl rfl)
theorem dX5_part0_82 : decode cX5_part0 82 = .ok (.iconst 1, 1) := dk_4 (dk_at dksX5_part0_3 12 rfl rfl)
theorem dX5_part0_83 : decode cX5_part0 83 = .ok (.ireturn, 1) := dk_172 (dk_at dksX5_part0_3 13 rfl rfl)
theorem dX5_part0_84 : decode cX5_part0 84 = .ok (.aload_n 0, 1) := dk_42 (dk_at dksX5_part0_3 14 rfl rfl)
theorem dX5_part0_85 : decode cX5_part0 85 = .ok (.bipush 33, 2) := dk_16 33 (dk_at dksX5_part0_3 15 rfl rfl)
theorem dX5_part0_87 : decode cX5_part0 87 = .ok (.invokevirtual 247, 3) := dk_182 0 247 (dk_at dksX5_part0_3 17 rfl rfl)
theorem dX5_part0_90 : decode cX5_part0 90 = .ok (.ifCond .eq 55, 3) := dk_153 0 55 (dk_at dksX5_part0_3 20 rfl rfl)
theorem dX5_part0_93 : decode cX5_part0 93 = .ok (.aload_n 0, 1) := dk_42 (dk_at dksX5_part0_3 23 rfl rfl)
theorem dX5_part0_94 : decode cX5_part0 94 = .ok (.getfield 275, 3) := dk_180 1 19 (dk_at dksX5_part0_4 0 rfl rfl)
theorem dX5_part0_97 : decode cX5_part0 97 = .ok (.bipush 8, 2) := dk_16 8 (dk_at dksX5_part0_4 3 rfl rfl)
theorem dX5_part0_99 : decode cX5_part0 99 = .ok (.if_icmp .ge 46, 3) := dk_162 0 46 (dk_at dksX5_part0_4 5 rfl rfl)
theorem dX5_part0_102 : decode cX5_part0 102 = .ok (.aload_n 0, 1) := dk_42 (dk_at dksX5_part0_4 8 rfl rfl)
theorem dX5_part0_103 : decode cX5_part0 103 = .ok (.dup, 1) := dk_89 (dk_at dksX5_part0_4 9 rfl rfl)
theorem dX5_part0_104 : decode cX5_part0 104 = .ok (.getfield 275, 3) := dk_180 1 19 (dk_at dksX5_part0_4 10 rfl rfl)
theorem dX5_part0_107 : decode cX5_part0 107 = .ok (.iconst 1, 1) := dk_4 (dk_at dksX5_part0_4 13 rfl rfl)
theorem dX5_part0_108 : decode cX5_part0 108 = .ok (.iadd, 1) := dk_96 (dk_at dksX5_part0_4 14 rfl rfl)
theorem dX5_part0_109 : decode cX5_part0 109 = .ok (.putfield 275, 3) := dk_181 1 19 (dk_at dksX5_part0_4 15 rfl rfl)
theorem dX5_part0_112 : decode cX5_part0 112 = .ok (.aload_n 0, 1) := dk_42 (dk_at dksX5_part0_4 18 rfl rfl)
theorem dX5_part0_113 : decode cX5_part0 113 = .ok (.invokevirtual 250, 3) := dk_182 0 250 (dk_at dksX5_part0_4 19 rfl rfl)
theorem dX5_part0_116 : decode cX5_part0 116 = .ok (.aload_n 0, 1) := dk_42 (dk_at dksX5_part0_4 22 rfl rfl)
theorem dX5_part0_117 : decode cX5_part0 117 = .ok (.iload_n 1, 1) := dk_27 (dk_at dksX5_part0_4 23 rfl rfl)
theorem dX5_part0_118 : decode cX5_part0 118 = .ok (.invokevirtual 266, 3) := dk_182 1 10 (dk_at dksX5_part0_5 0 rfl rfl)
theorem dX5_part0_121 : decode cX5_part0 121 = .ok (.ifCond .ne 5, 3) := dk_154 0 5 (dk_at dksX5_part0_5 3 rfl rfl)
theorem dX5_part0_124 : decode cX5_part0 124 = .ok (.iconst 0, 1) := dk_3 (dk_at dksX5_part0_5 6 rfl rfl)
theorem dX5_part0_125 : decode cX5_part0 125 = .ok (.ireturn, 1) := dk_172 (dk_at dksX5_part0_5 7 rfl rfl)
theorem dX5_part0_126 : decode cX5_part0 126 = .ok (.aload_n 0, 1) := dk_42 (dk_at dksX5_part0_5 8 rfl rfl)
theorem dX5_part0_127 : decode cX5_part0 127 = .ok (.dup, 1) := dk_89 (dk_at dksX5_part0_5 9 rfl rfl)
theorem dX5_part0_128 : decode cX5_part0 128 = .ok (.getfield 275, 3) := dk_180 1 19 (dk_at dksX5_part0_5 10 rfl rfl)
theorem dX5_part0_131 : decode cX5_part0 131 = .ok (.iconst 1, 1) := dk_4 (dk_at dksX5_part0_5 13 rfl rfl)
theorem dX5_part0_132 : decode cX5_part0 132 = .ok (.isub, 1) := dk_100 (dk_at dksX5_part0_5 14 rfl rfl)
theorem dX5_part0_133 : decode cX5_part0 133 = .ok (.putfield 275, 3) := dk_181 1 19 (dk_at dksX5_part0_5 15 rfl rfl)
theorem dX5_part0_136 : decode cX5_part0 136 = .ok (.aload_n 0, 1) := dk_42 (dk_at dksX5_part0_5 18 rfl rfl)
theorem dX5_part0_137 : decode cX5_part0 137 = .ok (.iconst 2, 1) := dk_5 (dk_at dksX5_part0_5 19 rfl rfl)
theorem dX5_part0_138 : decode cX5_part0 138 = .ok (.bipush 33, 2) := dk_16 33 (dk_at dksX5_part0_5 20 rfl rfl)
theorem dX5_part0_140 : decode cX5_part0 140 = .ok (.invokevirtual 253, 3) := dk_182 0 253 (dk_at dksX5_part0_6 0 rfl rfl)
theorem dX5_part0_143 : decode cX5_part0 143 = .ok (.iconst 1, 1) := dk_4 (dk_at dksX5_part0_6 3 rfl rfl)
theorem dX5_part0_144 : decode cX5_part0 144 = .ok (.ireturn, 1) := dk_172 (dk_at dksX5_part0_6 4 rfl rfl)
theorem dX5_part0_145 : decode cX5_part0 145 = .ok (.aload_n 0, 1) := dk_42 (dk_at dksX5_part0_6 5 rfl rfl)
theorem dX5_part0_146 : decode cX5_part0 146 = .ok (.bipush 40, 2) := dk_16 40 (dk_at dksX5_part0_6 6 rfl rfl)
theorem dX5_part0_148 : decode cX5_part0 148 = .ok (.invokevirtual 247, 3) := dk_182 0 247 (dk_at dksX5_part0_6 8 rfl rfl)
theorem dX5_part0_151 : decode cX5_part0 151 = .ok (.ifCond .eq 12, 3) := dk_153 0 12 (dk_at dksX5_part0_6 11 rfl rfl)
theorem dX5_part0_154 : decode cX5_part0 154 = .ok (.aload_n 0, 1) := dk_42 (dk_at dksX5_part0_6 14 rfl rfl)
theorem dX5_part0_155 : decode cX5_part0 155 = .ok (.getfield 278, 3) := dk_180 1 22 (dk_at dksX5_part0_6 15 rfl rfl)
theorem dX5_part0_158 : decode cX5_part0 158 = .ok (.bipush 8, 2) := dk_16 8 (dk_at dksX5_part0_6 18 rfl rfl)
theorem dX5_part0_160 : decode cX5_part0 160 = .ok (.if_icmp .ne 5, 3) := dk_160 0 5 (dk_at dksX5_part0_6 20 rfl rfl)
theorem dX5_part0_163 : decode cX5_part0 163 = .ok (.iconst 0, 1) := dk_3 (dk_at dksX5_part0_6 23 rfl rfl)
theorem dX5_part0_164 : decode cX5_part0 164 = .ok (.ireturn, 1) := dk_172 (dk_at dksX5_part0_7 0 rfl rfl)
theorem dX5_part0_165 : decode cX5_part0 165 = .ok (.aload_n 0, 1) := dk_42 (dk_at dksX5_part0_7 1 rfl rfl)
theorem dX5_part0_166 : decode cX5_part0 166 = .ok (.dup, 1) := dk_89 (dk_at dksX5_part0_7 2 rfl rfl)
theorem dX5_part0_167 : decode cX5_part0 167 = .ok (.getfield 278, 3) := dk_180 1 22 (dk_at dksX5_part0_7 3 rfl rfl)
theorem dX5_part0_170 : decode cX5_part0 170 = .ok (.iconst 1, 1) := dk_4 (dk_at dksX5_part0_7 6 rfl rfl)
theorem dX5_part0_171 : decode cX5_part0 171 = .ok (.iadd, 1) := dk_96 (dk_at dksX5_part0_7 7 rfl rfl)
theorem dX5_part0_172 : decode cX5_part0 172 = .ok (.putfield 278, 3) := dk_181 1 22 (dk_at dksX5_part0_7 8 rfl rfl)
theorem dX5_part0_175 : decode cX5_part0 175 = .ok (.aload_n 0, 1) := dk_42 (dk_at dksX5_part0_7 11 rfl rfl)
theorem dX5_part0_176 : decode cX5_part0 176 = .ok (.invokevirtual 250, 3) := dk_182 0 250 (dk_at dksX5_part0_7 12 rfl rfl)
theorem dX5_part0_179 : decode cX5_part0 179 = .ok (.aload_n 0, 1) := dk_42 (dk_at dksX5_part0_7 15 rfl rfl)
theorem dX5_part0_180 : decode cX5_part0 180 = .ok (.iload_n 1, 1) := dk_27 (dk_at dksX5_part0_7 16 rfl rfl)
theorem dX5_part0_181 : decode cX5_part0 181 = .ok (.invokevirtual 281, 3) := dk_182 1 25 (dk_at dksX5_part0_7 17 rfl rfl)
theorem dX5_part0_184 : decode cX5_part0 184 = .ok (.ifCond .eq 12, 3) := dk_153 0 12 (dk_at dksX5_part0_7 20 rfl rfl)
theorem dX5_part0_187 : decode cX5_part0 187 = .ok (.aload_n 0, 1) := dk_42 (dk_at dksX5_part0_7 23 rfl rfl)
theorem dX5_part0_188 : decode cX5_part0 188 = .ok (.bipush 41, 2) := dk_16 41 (dk_at dksX5_part0_8 0 rfl rfl)
theorem dX5_part0_190 : decode cX5_part0 190 = .ok (.invokevirtual 247, 3) := dk_182 0 247 (dk_at dksX5_part0_8 2 rfl rfl)
theorem dX5_part0_193 : decode cX5_part0 193 = .ok (.ifCond .ne 5, 3) := dk_154 0 5 (dk_at dksX5_part0_8 5 rfl rfl)
theorem dX5_part0_196 : decode cX5_part0 196 = .ok (.iconst 0, 1) := dk_3 (dk_at dksX5_part0_8 8 rfl rfl)
theorem dX5_part0_197 : decode cX5_part0 197 = .ok (.ireturn, 1) := dk_172 (dk_at dksX5_part0_8 9 rfl rfl)
theorem dX5_part0_198 : decode cX5_part0 198 = .ok (.aload_n 0, 1) := dk_42 (dk_at dksX5_part0_8 10 rfl rfl)
theorem dX5_part0_199 : decode cX5_part0 199 = .ok (.dup, 1) := dk_89 (dk_at dksX5_part0_8 11 rfl rfl)
theorem dX5_part0_200 : decode cX5_part0 200 = .ok (.getfield 278, 3) := dk_180 1 22 (dk_at dksX5_part0_8 12 rfl rfl)
theorem dX5_part0_203 : decode cX5_part0 203 = .ok (.iconst 1, 1) := dk_4 (dk_at dksX5_part0_8 15 rfl rfl)
theorem dX5_part0_204 : decode cX5_part0 204 = .ok (.isub, 1) := dk_100 (dk_at dksX5_part0_8 16 rfl rfl)
theorem dX5_part0_205 : decode cX5_part0 205 = .ok (.putfield 278, 3) := dk_181 1 22 (dk_at dksX5_part0_8 17 rfl rfl)
theorem dX5_part0_208 : decode cX5_part0 208 = .ok (.aload_n 0, 1) := dk_42 (dk_at dksX5_part0_8 20 rfl rfl)
theorem dX5_part0_209 : decode cX5_part0 209 = .ok (.invokevirtual 250, 3) := dk_182 0 250 (dk_at dksX5_part0_8 21 rfl rfl)
theorem dX5_part0_212 : decode cX5_part0 212 = .ok (.iconst 1, 1) := dk_4 (dk_at dksX5_part0_9 0 rfl rfl)
theorem dX5_part0_213 : decode cX5_part0 213 = .ok (.ireturn, 1) := dk_172 (dk_at dksX5_part0_9 1 rfl rfl)
abbrev cX5_step : ByteArray := prog_18_method_71_code
def yX5_step : MethodName := ⟨RX5, "step", "(II)V"⟩
def dkwX5_step_2 : List UInt8 := [177]
abbrev dktX5_step_2 : List UInt8 := dkwX5_step_2 ++ []
def dkwX5_step_1 : List UInt8 := [180, 0, 238, 5, 42, 180, 0, 241, 104, 96, 4, 96, 28, 79, 42, 89, 180, 0, 241, 4, 96, 181, 0, 241]
abbrev dktX5_step_1 : List UInt8 := dkwX5_step_1 ++ dktX5_step_2
def dkwX5_step_0 : List UInt8 := [42, 180, 0, 7, 42, 180, 0, 238, 5, 42, 180, 0, 241, 104, 96, 27, 79, 42, 180, 0, 7, 42]
abbrev dktX5_step_0 : List UInt8 := dkwX5_step_0 ++ dktX5_step_1
theorem dksX5_step_0 : cX5_step.data.toList.drop 0 = dktX5_step_0 := by decide +kernel
theorem dksX5_step_1 : cX5_step.data.toList.drop 22 = dktX5_step_1 := dk_seg dksX5_step_0 22 rfl rfl
theorem dksX5_step_2 : cX5_step.data.toList.drop 46 = dktX5_step_2 := dk_seg dksX5_step_1 24 rfl rfl
theorem dX5_step_0 : decode cX5_step 0 = .ok (.aload_n 0, 1) := dk_42 (dk_at dksX5_step_0 0 rfl rfl)
theorem dX5_step_1 : decode cX5_step 1 = .ok (.getfield 7, 3) := dk_180 0 7 (dk_at dksX5_step_0 1 rfl rfl)
theorem dX5_step_4 : decode cX5_step 4 = .ok (.aload_n 0, 1) := dk_42 (dk_at dksX5_step_0 4 rfl rfl)
theorem dX5_step_5 : decode cX5_step 5 = .ok (.getfield 238, 3) := dk_180 0 238 (dk_at dksX5_step_0 5 rfl rfl)
theorem dX5_step_8 : decode cX5_step 8 = .ok (.iconst 2, 1) := dk_5 (dk_at dksX5_step_0 8 rfl rfl)
theorem dX5_step_9 : decode cX5_step 9 = .ok (.aload_n 0, 1) := dk_42 (dk_at dksX5_step_0 9 rfl rfl)
theorem dX5_step_10 : decode cX5_step 10 = .ok (.getfield 241, 3) := dk_180 0 241 (dk_at dksX5_step_0 10 rfl rfl)
theorem dX5_step_13 : decode cX5_step 13 = .ok (.imul, 1) := dk_104 (dk_at dksX5_step_0 13 rfl rfl)
theorem dX5_step_14 : decode cX5_step 14 = .ok (.iadd, 1) := dk_96 (dk_at dksX5_step_0 14 rfl rfl)
theorem dX5_step_15 : decode cX5_step 15 = .ok (.iload_n 1, 1) := dk_27 (dk_at dksX5_step_0 15 rfl rfl)
theorem dX5_step_16 : decode cX5_step 16 = .ok (.iastore, 1) := dk_79 (dk_at dksX5_step_0 16 rfl rfl)
theorem dX5_step_17 : decode cX5_step 17 = .ok (.aload_n 0, 1) := dk_42 (dk_at dksX5_step_0 17 rfl rfl)
theorem dX5_step_18 : decode cX5_step 18 = .ok (.getfield 7, 3) := dk_180 0 7 (dk_at dksX5_step_0 18 rfl rfl)
theorem dX5_step_21 : decode cX5_step 21 = .ok (.aload_n 0, 1) := dk_42 (dk_at dksX5_step_0 21 rfl rfl)
theorem dX5_step_22 : decode cX5_step 22 = .ok (.getfield 238, 3) := dk_180 0 238 (dk_at dksX5_step_1 0 rfl rfl)
theorem dX5_step_25 : decode cX5_step 25 = .ok (.iconst 2, 1) := dk_5 (dk_at dksX5_step_1 3 rfl rfl)
theorem dX5_step_26 : decode cX5_step 26 = .ok (.aload_n 0, 1) := dk_42 (dk_at dksX5_step_1 4 rfl rfl)
theorem dX5_step_27 : decode cX5_step 27 = .ok (.getfield 241, 3) := dk_180 0 241 (dk_at dksX5_step_1 5 rfl rfl)
theorem dX5_step_30 : decode cX5_step 30 = .ok (.imul, 1) := dk_104 (dk_at dksX5_step_1 8 rfl rfl)
theorem dX5_step_31 : decode cX5_step 31 = .ok (.iadd, 1) := dk_96 (dk_at dksX5_step_1 9 rfl rfl)
theorem dX5_step_32 : decode cX5_step 32 = .ok (.iconst 1, 1) := dk_4 (dk_at dksX5_step_1 10 rfl rfl)
theorem dX5_step_33 : decode cX5_step 33 = .ok (.iadd, 1) := dk_96 (dk_at dksX5_step_1 11 rfl rfl)
theorem dX5_step_34 : decode cX5_step 34 = .ok (.iload_n 2, 1) := dk_28 (dk_at dksX5_step_1 12 rfl rfl)
theorem dX5_step_35 : decode cX5_step 35 = .ok (.iastore, 1) := dk_79 (dk_at dksX5_step_1 13 rfl rfl)
theorem dX5_step_36 : decode cX5_step 36 = .ok (.aload_n 0, 1) := dk_42 (dk_at dksX5_step_1 14 rfl rfl)
theorem dX5_step_37 : decode cX5_step 37 = .ok (.dup, 1) := dk_89 (dk_at dksX5_step_1 15 rfl rfl)
theorem dX5_step_38 : decode cX5_step 38 = .ok (.getfield 241, 3) := dk_180 0 241 (dk_at dksX5_step_1 16 rfl rfl)
theorem dX5_step_41 : decode cX5_step 41 = .ok (.iconst 1, 1) := dk_4 (dk_at dksX5_step_1 19 rfl rfl)
theorem dX5_step_42 : decode cX5_step 42 = .ok (.iadd, 1) := dk_96 (dk_at dksX5_step_1 20 rfl rfl)
theorem dX5_step_43 : decode cX5_step 43 = .ok (.putfield 241, 3) := dk_181 0 241 (dk_at dksX5_step_1 21 rfl rfl)
theorem dX5_step_46 : decode cX5_step 46 = .ok (.return_, 1) := dk_177 (dk_at dksX5_step_2 0 rfl rfl)
abbrev cX5_isName : ByteArray := prog_18_method_70_code
def yX5_isName : MethodName := ⟨RX5, "isName", "(II)Z"⟩
def dkwX5_isName_4 : List UInt8 := [27, 16, 115, 160, 0, 7, 4, 167, 0, 4, 3, 172]
abbrev dktX5_isName_4 : List UInt8 := dkwX5_isName_4 ++ []
def dkwX5_isName_3 : List UInt8 := [27, 16, 110, 159, 0, 9, 27, 16, 102, 160, 0, 7, 4, 167, 0, 4, 3, 172, 27, 16, 116, 159, 0, 9]
abbrev dktX5_isName_3 : List UInt8 := dkwX5_isName_3 ++ dktX5_isName_4
def dkwX5_isName_2 : List UInt8 := [27, 16, 116, 159, 0, 15, 27, 16, 115, 159, 0, 9, 27, 16, 108, 160, 0, 7, 4, 167, 0, 4, 3, 172]
abbrev dktX5_isName_2 : List UInt8 := dkwX5_isName_2 ++ dktX5_isName_3
def dkwX5_isName_1 : List UInt8 := [171, 0, 0, 0, 0, 0, 69, 0, 0, 0, 2, 0, 0, 0, 0, 0, 0, 0, 27, 0, 0, 0, 1, 0, 0, 0, 51]
abbrev dktX5_isName_1 : List UInt8 := dkwX5_isName_1 ++ dktX5_isName_2
def dkwX5_isName_0 : List UInt8 := [26]
abbrev dktX5_isName_0 : List UInt8 := dkwX5_isName_0 ++ dktX5_isName_1
theorem dksX5_isName_0 : cX5_isName.data.toList.drop 0 = dktX5_isName_0 := by decide +kernel
theorem dksX5_isName_1 : cX5_isName.data.toList.drop 1 = dktX5_isName_1 := dk_seg dksX5_isName_0 1 rfl rfl
theorem dksX5_isName_2 : cX5_isName.data.toList.drop 28 = dktX5_isName_2 := dk_seg dksX5_isName_1 27 rfl rfl
theorem dksX5_isName_3 : cX5_isName.data.toList.drop 52 = dktX5_isName_3 := dk_seg dksX5_isName_2 24 rfl rfl
theorem dksX5_isName_4 : cX5_isName.data.toList.drop 76 = dktX5_isName_4 := dk_seg dksX5_isName_3 24 rfl rfl
theorem dX5_isName_0 : decode cX5_isName 0 = .ok (.iload_n 0, 1) := dk_26 (dk_at dksX5_isName_0 0 rfl rfl)
theorem dX5_isName_1 : decode cX5_isName 1 = .ok (.lookupswitch 69 #[(0, 27), (1, 51)], 27) := by decide +kernel
theorem dX5_isName_28 : decode cX5_isName 28 = .ok (.iload_n 1, 1) := dk_27 (dk_at dksX5_isName_2 0 rfl rfl)
theorem dX5_isName_29 : decode cX5_isName 29 = .ok (.bipush 116, 2) := dk_16 116 (dk_at dksX5_isName_2 1 rfl rfl)
theorem dX5_isName_31 : decode cX5_isName 31 = .ok (.if_icmp .eq 15, 3) := dk_159 0 15 (dk_at dksX5_isName_2 3 rfl rfl)
theorem dX5_isName_34 : decode cX5_isName 34 = .ok (.iload_n 1, 1) := dk_27 (dk_at dksX5_isName_2 6 rfl rfl)
theorem dX5_isName_35 : decode cX5_isName 35 = .ok (.bipush 115, 2) := dk_16 115 (dk_at dksX5_isName_2 7 rfl rfl)
theorem dX5_isName_37 : decode cX5_isName 37 = .ok (.if_icmp .eq 9, 3) := dk_159 0 9 (dk_at dksX5_isName_2 9 rfl rfl)
theorem dX5_isName_40 : decode cX5_isName 40 = .ok (.iload_n 1, 1) := dk_27 (dk_at dksX5_isName_2 12 rfl rfl)
theorem dX5_isName_41 : decode cX5_isName 41 = .ok (.bipush 108, 2) := dk_16 108 (dk_at dksX5_isName_2 13 rfl rfl)
theorem dX5_isName_43 : decode cX5_isName 43 = .ok (.if_icmp .ne 7, 3) := dk_160 0 7 (dk_at dksX5_isName_2 15 rfl rfl)
theorem dX5_isName_46 : decode cX5_isName 46 = .ok (.iconst 1, 1) := dk_4 (dk_at dksX5_isName_2 18 rfl rfl)
theorem dX5_isName_47 : decode cX5_isName 47 = .ok (.goto 4, 3) := dk_167 0 4 (dk_at dksX5_isName_2 19 rfl rfl)
theorem dX5_isName_50 : decode cX5_isName 50 = .ok (.iconst 0, 1) := dk_3 (dk_at dksX5_isName_2 22 rfl rfl)
theorem dX5_isName_51 : decode cX5_isName 51 = .ok (.ireturn, 1) := dk_172 (dk_at dksX5_isName_2 23 rfl rfl)
theorem dX5_isName_52 : decode cX5_isName 52 = .ok (.iload_n 1, 1) := dk_27 (dk_at dksX5_isName_3 0 rfl rfl)
theorem dX5_isName_53 : decode cX5_isName 53 = .ok (.bipush 110, 2) := dk_16 110 (dk_at dksX5_isName_3 1 rfl rfl)
theorem dX5_isName_55 : decode cX5_isName 55 = .ok (.if_icmp .eq 9, 3) := dk_159 0 9 (dk_at dksX5_isName_3 3 rfl rfl)
theorem dX5_isName_58 : decode cX5_isName 58 = .ok (.iload_n 1, 1) := dk_27 (dk_at dksX5_isName_3 6 rfl rfl)
theorem dX5_isName_59 : decode cX5_isName 59 = .ok (.bipush 102, 2) := dk_16 102 (dk_at dksX5_isName_3 7 rfl rfl)
theorem dX5_isName_61 : decode cX5_isName 61 = .ok (.if_icmp .ne 7, 3) := dk_160 0 7 (dk_at dksX5_isName_3 9 rfl rfl)
theorem dX5_isName_64 : decode cX5_isName 64 = .ok (.iconst 1, 1) := dk_4 (dk_at dksX5_isName_3 12 rfl rfl)
theorem dX5_isName_65 : decode cX5_isName 65 = .ok (.goto 4, 3) := dk_167 0 4 (dk_at dksX5_isName_3 13 rfl rfl)
theorem dX5_isName_68 : decode cX5_isName 68 = .ok (.iconst 0, 1) := dk_3 (dk_at dksX5_isName_3 16 rfl rfl)
theorem dX5_isName_69 : decode cX5_isName 69 = .ok (.ireturn, 1) := dk_172 (dk_at dksX5_isName_3 17 rfl rfl)
theorem dX5_isName_70 : decode cX5_isName 70 = .ok (.iload_n 1, 1) := dk_27 (dk_at dksX5_isName_3 18 rfl rfl)
theorem dX5_isName_71 : decode cX5_isName 71 = .ok (.bipush 116, 2) := dk_16 116 (dk_at dksX5_isName_3 19 rfl rfl)
theorem dX5_isName_73 : decode cX5_isName 73 = .ok (.if_icmp .eq 9, 3) := dk_159 0 9 (dk_at dksX5_isName_3 21 rfl rfl)
theorem dX5_isName_76 : decode cX5_isName 76 = .ok (.iload_n 1, 1) := dk_27 (dk_at dksX5_isName_4 0 rfl rfl)
theorem dX5_isName_77 : decode cX5_isName 77 = .ok (.bipush 115, 2) := dk_16 115 (dk_at dksX5_isName_4 1 rfl rfl)
theorem dX5_isName_79 : decode cX5_isName 79 = .ok (.if_icmp .ne 7, 3) := dk_160 0 7 (dk_at dksX5_isName_4 3 rfl rfl)
theorem dX5_isName_82 : decode cX5_isName 82 = .ok (.iconst 1, 1) := dk_4 (dk_at dksX5_isName_4 6 rfl rfl)
theorem dX5_isName_83 : decode cX5_isName 83 = .ok (.goto 4, 3) := dk_167 0 4 (dk_at dksX5_isName_4 7 rfl rfl)
theorem dX5_isName_86 : decode cX5_isName 86 = .ok (.iconst 0, 1) := dk_3 (dk_at dksX5_isName_4 10 rfl rfl)
theorem dX5_isName_87 : decode cX5_isName 87 = .ok (.ireturn, 1) := dk_172 (dk_at dksX5_isName_4 11 rfl rfl)
abbrev cX5_isSign : ByteArray := prog_18_method_67_code
def yX5_isSign : MethodName := ⟨RX5, "isSign", "(I)Z"⟩
def dkwX5_isSign_0 : List UInt8 := [42, 180, 0, 216, 6, 160, 0, 15, 42, 180, 0, 225, 27, 160, 0, 7, 4, 167, 0, 4, 3, 172]
abbrev dktX5_isSign_0 : List UInt8 := dkwX5_isSign_0 ++ []
theorem dksX5_isSign_0 : cX5_isSign.data.toList.drop 0 = dktX5_isSign_0 := by decide +kernel
theorem dX5_isSign_0 : decode cX5_isSign 0 = .ok (.aload_n 0, 1) := dk_42 (dk_at dksX5_isSign_0 0 rfl rfl)
theorem dX5_isSign_1 : decode cX5_isSign 1 = .ok (.getfield 216, 3) := dk_180 0 216 (dk_at dksX5_isSign_0 1 rfl rfl)
theorem dX5_isSign_4 : decode cX5_isSign 4 = .ok (.iconst 3, 1) := dk_6 (dk_at dksX5_isSign_0 4 rfl rfl)
theorem dX5_isSign_5 : decode cX5_isSign 5 = .ok (.if_icmp .ne 15, 3) := dk_160 0 15 (dk_at dksX5_isSign_0 5 rfl rfl)
theorem dX5_isSign_8 : decode cX5_isSign 8 = .ok (.aload_n 0, 1) := dk_42 (dk_at dksX5_isSign_0 8 rfl rfl)
theorem dX5_isSign_9 : decode cX5_isSign 9 = .ok (.getfield 225, 3) := dk_180 0 225 (dk_at dksX5_isSign_0 9 rfl rfl)
theorem dX5_isSign_12 : decode cX5_isSign 12 = .ok (.iload_n 1, 1) := dk_27 (dk_at dksX5_isSign_0 12 rfl rfl)
theorem dX5_isSign_13 : decode cX5_isSign 13 = .ok (.if_icmp .ne 7, 3) := dk_160 0 7 (dk_at dksX5_isSign_0 13 rfl rfl)
theorem dX5_isSign_16 : decode cX5_isSign 16 = .ok (.iconst 1, 1) := dk_4 (dk_at dksX5_isSign_0 16 rfl rfl)
theorem dX5_isSign_17 : decode cX5_isSign 17 = .ok (.goto 4, 3) := dk_167 0 4 (dk_at dksX5_isSign_0 17 rfl rfl)
theorem dX5_isSign_20 : decode cX5_isSign 20 = .ok (.iconst 0, 1) := dk_3 (dk_at dksX5_isSign_0 20 rfl rfl)
theorem dX5_isSign_21 : decode cX5_isSign 21 = .ok (.ireturn, 1) := dk_172 (dk_at dksX5_isSign_0 21 rfl rfl)
abbrev cX5_textTold : ByteArray := prog_18_method_80_code
def yX5_textTold : MethodName := ⟨RX5, "textTold", "(II)I"⟩
def dkwX5_textTold_1 : List UInt8 := [180, 0, 7, 42, 27, 182, 1, 28, 28, 96, 46, 172]
abbrev dktX5_textTold_1 : List UInt8 := dkwX5_textTold_1 ++ []
def dkwX5_textTold_0 : List UInt8 := [42, 27, 182, 1, 37, 153, 0, 13, 28, 133, 9, 10, 184, 0, 68, 154, 0, 6, 18, 83, 172, 42]
abbrev dktX5_textTold_0 : List UInt8 := dkwX5_textTold_0 ++ dktX5_textTold_1
theorem dksX5_textTold_0 : cX5_textTold.data.toList.drop 0 = dktX5_textTold_0 := by decide +kernel
theorem dksX5_textTold_1 : cX5_textTold.data.toList.drop 22 = dktX5_textTold_1 := dk_seg dksX5_textTold_0 22 rfl rfl
theorem dX5_textTold_0 : decode cX5_textTold 0 = .ok (.aload_n 0, 1) := dk_42 (dk_at dksX5_textTold_0 0 rfl rfl)
theorem dX5_textTold_1 : decode cX5_textTold 1 = .ok (.iload_n 1, 1) := dk_27 (dk_at dksX5_textTold_0 1 rfl rfl)
theorem dX5_textTold_2 : decode cX5_textTold 2 = .ok (.invokevirtual 293, 3) := dk_182 1 37 (dk_at dksX5_textTold_0 2 rfl rfl)
theorem dX5_textTold_5 : decode cX5_textTold 5 = .ok (.ifCond .eq 13, 3) := dk_153 0 13 (dk_at dksX5_textTold_0 5 rfl rfl)
theorem dX5_textTold_8 : decode cX5_textTold 8 = .ok (.iload_n 2, 1) := dk_28 (dk_at dksX5_textTold_0 8 rfl rfl)
theorem dX5_textTold_9 : decode cX5_textTold 9 = .ok (.i2l, 1) := dk_133 (dk_at dksX5_textTold_0 9 rfl rfl)
theorem dX5_textTold_10 : decode cX5_textTold 10 = .ok (.lconst 0, 1) := dk_9 (dk_at dksX5_textTold_0 10 rfl rfl)
theorem dX5_textTold_11 : decode cX5_textTold 11 = .ok (.lconst 1, 1) := dk_10 (dk_at dksX5_textTold_0 11 rfl rfl)
theorem dX5_textTold_12 : decode cX5_textTold 12 = .ok (.invokestatic 68, 3) := dk_184 0 68 (dk_at dksX5_textTold_0 12 rfl rfl)
theorem dX5_textTold_15 : decode cX5_textTold 15 = .ok (.ifCond .ne 6, 3) := dk_154 0 6 (dk_at dksX5_textTold_0 15 rfl rfl)
theorem dX5_textTold_18 : decode cX5_textTold 18 = .ok (.ldc 83, 2) := dk_18 83 (dk_at dksX5_textTold_0 18 rfl rfl)
theorem dX5_textTold_20 : decode cX5_textTold 20 = .ok (.ireturn, 1) := dk_172 (dk_at dksX5_textTold_0 20 rfl rfl)
theorem dX5_textTold_21 : decode cX5_textTold 21 = .ok (.aload_n 0, 1) := dk_42 (dk_at dksX5_textTold_0 21 rfl rfl)
theorem dX5_textTold_22 : decode cX5_textTold 22 = .ok (.getfield 7, 3) := dk_180 0 7 (dk_at dksX5_textTold_1 0 rfl rfl)
theorem dX5_textTold_25 : decode cX5_textTold 25 = .ok (.aload_n 0, 1) := dk_42 (dk_at dksX5_textTold_1 3 rfl rfl)
theorem dX5_textTold_26 : decode cX5_textTold 26 = .ok (.iload_n 1, 1) := dk_27 (dk_at dksX5_textTold_1 4 rfl rfl)
theorem dX5_textTold_27 : decode cX5_textTold 27 = .ok (.invokevirtual 284, 3) := dk_182 1 28 (dk_at dksX5_textTold_1 5 rfl rfl)
theorem dX5_textTold_30 : decode cX5_textTold 30 = .ok (.iload_n 2, 1) := dk_28 (dk_at dksX5_textTold_1 8 rfl rfl)
theorem dX5_textTold_31 : decode cX5_textTold 31 = .ok (.iadd, 1) := dk_96 (dk_at dksX5_textTold_1 9 rfl rfl)
theorem dX5_textTold_32 : decode cX5_textTold 32 = .ok (.iaload, 1) := dk_46 (dk_at dksX5_textTold_1 10 rfl rfl)
theorem dX5_textTold_33 : decode cX5_textTold 33 = .ok (.ireturn, 1) := dk_172 (dk_at dksX5_textTold_1 11 rfl rfl)
abbrev cX5_isText : ByteArray := prog_18_method_12_code
def yX5_isText : MethodName := ⟨RX5, "isText", "(I)Z"⟩
def dkwX5_isText_0 : List UInt8 := [27, 133, 9, 42, 180, 0, 7, 4, 46, 4, 100, 133, 184, 0, 68, 172]
abbrev dktX5_isText_0 : List UInt8 := dkwX5_isText_0 ++ []
theorem dksX5_isText_0 : cX5_isText.data.toList.drop 0 = dktX5_isText_0 := by decide +kernel
theorem dX5_isText_0 : decode cX5_isText 0 = .ok (.iload_n 1, 1) := dk_27 (dk_at dksX5_isText_0 0 rfl rfl)
theorem dX5_isText_1 : decode cX5_isText 1 = .ok (.i2l, 1) := dk_133 (dk_at dksX5_isText_0 1 rfl rfl)
theorem dX5_isText_2 : decode cX5_isText 2 = .ok (.lconst 0, 1) := dk_9 (dk_at dksX5_isText_0 2 rfl rfl)
theorem dX5_isText_3 : decode cX5_isText 3 = .ok (.aload_n 0, 1) := dk_42 (dk_at dksX5_isText_0 3 rfl rfl)
theorem dX5_isText_4 : decode cX5_isText 4 = .ok (.getfield 7, 3) := dk_180 0 7 (dk_at dksX5_isText_0 4 rfl rfl)
theorem dX5_isText_7 : decode cX5_isText 7 = .ok (.iconst 1, 1) := dk_4 (dk_at dksX5_isText_0 7 rfl rfl)
theorem dX5_isText_8 : decode cX5_isText 8 = .ok (.iaload, 1) := dk_46 (dk_at dksX5_isText_0 8 rfl rfl)
theorem dX5_isText_9 : decode cX5_isText 9 = .ok (.iconst 1, 1) := dk_4 (dk_at dksX5_isText_0 9 rfl rfl)
theorem dX5_isText_10 : decode cX5_isText 10 = .ok (.isub, 1) := dk_100 (dk_at dksX5_isText_0 10 rfl rfl)
theorem dX5_isText_11 : decode cX5_isText 11 = .ok (.i2l, 1) := dk_133 (dk_at dksX5_isText_0 11 rfl rfl)
theorem dX5_isText_12 : decode cX5_isText 12 = .ok (.invokestatic 68, 3) := dk_184 0 68 (dk_at dksX5_isText_0 12 rfl rfl)
theorem dX5_isText_15 : decode cX5_isText 15 = .ok (.ireturn, 1) := dk_172 (dk_at dksX5_isText_0 15 rfl rfl)
abbrev cX5_why : ByteArray := prog_18_method_82_code
def yX5_why : MethodName := ⟨RX5, "why", "(I)I"⟩
def dkwX5_why_1 : List UInt8 := [18, 83, 172]
abbrev dktX5_why_1 : List UInt8 := dkwX5_why_1 ++ []
def dkwX5_why_0 : List UInt8 := [27, 133, 9, 20, 1, 40, 184, 0, 68, 153, 0, 14, 42, 27, 182, 0, 96, 184, 0, 196, 167, 0, 5]
abbrev dktX5_why_0 : List UInt8 := dkwX5_why_0 ++ dktX5_why_1
theorem dksX5_why_0 : cX5_why.data.toList.drop 0 = dktX5_why_0 := by decide +kernel
theorem dksX5_why_1 : cX5_why.data.toList.drop 23 = dktX5_why_1 := dk_seg dksX5_why_0 23 rfl rfl
theorem dX5_why_0 : decode cX5_why 0 = .ok (.iload_n 1, 1) := dk_27 (dk_at dksX5_why_0 0 rfl rfl)
theorem dX5_why_1 : decode cX5_why 1 = .ok (.i2l, 1) := dk_133 (dk_at dksX5_why_0 1 rfl rfl)
theorem dX5_why_2 : decode cX5_why 2 = .ok (.lconst 0, 1) := dk_9 (dk_at dksX5_why_0 2 rfl rfl)
theorem dX5_why_3 : decode cX5_why 3 = .ok (.ldc2_w 296, 3) := dk_20 1 40 (dk_at dksX5_why_0 3 rfl rfl)
theorem dX5_why_6 : decode cX5_why 6 = .ok (.invokestatic 68, 3) := dk_184 0 68 (dk_at dksX5_why_0 6 rfl rfl)
theorem dX5_why_9 : decode cX5_why 9 = .ok (.ifCond .eq 14, 3) := dk_153 0 14 (dk_at dksX5_why_0 9 rfl rfl)
theorem dX5_why_12 : decode cX5_why 12 = .ok (.aload_n 0, 1) := dk_42 (dk_at dksX5_why_0 12 rfl rfl)
theorem dX5_why_13 : decode cX5_why 13 = .ok (.iload_n 1, 1) := dk_27 (dk_at dksX5_why_0 13 rfl rfl)
theorem dX5_why_14 : decode cX5_why 14 = .ok (.invokevirtual 96, 3) := dk_182 0 96 (dk_at dksX5_why_0 14 rfl rfl)
theorem dX5_why_17 : decode cX5_why 17 = .ok (.invokestatic 196, 3) := dk_184 0 196 (dk_at dksX5_why_0 17 rfl rfl)
theorem dX5_why_20 : decode cX5_why 20 = .ok (.goto 5, 3) := dk_167 0 5 (dk_at dksX5_why_0 20 rfl rfl)
theorem dX5_why_23 : decode cX5_why 23 = .ok (.ldc 83, 2) := dk_18 83 (dk_at dksX5_why_1 0 rfl rfl)
theorem dX5_why_25 : decode cX5_why 25 = .ok (.ireturn, 1) := dk_172 (dk_at dksX5_why_1 2 rfl rfl)
abbrev cX5_sheet : ByteArray := prog_18_method_86_code
def yX5_sheet : MethodName := ⟨RX5, "sheet", "(III)I"⟩
def dkwX5_sheet_4 : List UInt8 := [42, 180, 0, 22, 27, 46, 172]
abbrev dktX5_sheet_4 : List UInt8 := dkwX5_sheet_4 ++ []
def dkwX5_sheet_3 : List UInt8 := [16, 24, 162, 0, 22, 42, 180, 0, 25, 16, 24, 27, 104, 21, 4, 96, 3, 79, 132, 4, 1, 167, 255, 233]
abbrev dktX5_sheet_3 : List UInt8 := dkwX5_sheet_3 ++ dktX5_sheet_4
def dkwX5_sheet_2 : List UInt8 := [27, 28, 79, 42, 180, 0, 22, 27, 28, 156, 0, 7, 3, 167, 0, 4, 29, 79, 3, 54, 4, 21, 4]
abbrev dktX5_sheet_2 : List UInt8 := dkwX5_sheet_2 ++ dktX5_sheet_3
def dkwX5_sheet_1 : List UInt8 := [16, 24, 164, 0, 6, 18, 83, 172, 28, 155, 0, 11, 29, 156, 0, 7, 19, 1, 50, 172, 42, 180, 0, 19]
abbrev dktX5_sheet_1 : List UInt8 := dkwX5_sheet_1 ++ dktX5_sheet_2
def dkwX5_sheet_0 : List UInt8 := [27, 184, 1, 45, 153, 0, 25, 28, 133, 20, 1, 48, 10, 184, 0, 68, 153, 0, 13, 28, 155, 0, 12, 29]
abbrev dktX5_sheet_0 : List UInt8 := dkwX5_sheet_0 ++ dktX5_sheet_1
theorem dksX5_sheet_0 : cX5_sheet.data.toList.drop 0 = dktX5_sheet_0 := by decide +kernel
theorem dksX5_sheet_1 : cX5_sheet.data.toList.drop 24 = dktX5_sheet_1 := dk_seg dksX5_sheet_0 24 rfl rfl
theorem dksX5_sheet_2 : cX5_sheet.data.toList.drop 48 = dktX5_sheet_2 := dk_seg dksX5_sheet_1 24 rfl rfl
theorem dksX5_sheet_3 : cX5_sheet.data.toList.drop 71 = dktX5_sheet_3 := dk_seg dksX5_sheet_2 23 rfl rfl
theorem dksX5_sheet_4 : cX5_sheet.data.toList.drop 95 = dktX5_sheet_4 := dk_seg dksX5_sheet_3 24 rfl rfl
theorem dX5_sheet_0 : decode cX5_sheet 0 = .ok (.iload_n 1, 1) := dk_27 (dk_at dksX5_sheet_0 0 rfl rfl)
theorem dX5_sheet_1 : decode cX5_sheet 1 = .ok (.invokestatic 301, 3) := dk_184 1 45 (dk_at dksX5_sheet_0 1 rfl rfl)
theorem dX5_sheet_4 : decode cX5_sheet 4 = .ok (.ifCond .eq 25, 3) := dk_153 0 25 (dk_at dksX5_sheet_0 4 rfl rfl)
theorem dX5_sheet_7 : decode cX5_sheet 7 = .ok (.iload_n 2, 1) := dk_28 (dk_at dksX5_sheet_0 7 rfl rfl)
theorem dX5_sheet_8 : decode cX5_sheet 8 = .ok (.i2l, 1) := dk_133 (dk_at dksX5_sheet_0 8 rfl rfl)
theorem dX5_sheet_9 : decode cX5_sheet 9 = .ok (.ldc2_w 304, 3) := dk_20 1 48 (dk_at dksX5_sheet_0 9 rfl rfl)
theorem dX5_sheet_12 : decode cX5_sheet 12 = .ok (.lconst 1, 1) := dk_10 (dk_at dksX5_sheet_0 12 rfl rfl)
theorem dX5_sheet_13 : decode cX5_sheet 13 = .ok (.invokestatic 68, 3) := dk_184 0 68 (dk_at dksX5_sheet_0 13 rfl rfl)
theorem dX5_sheet_16 : decode cX5_sheet 16 = .ok (.ifCond .eq 13, 3) := dk_153 0 13 (dk_at dksX5_sheet_0 16 rfl rfl)
theorem dX5_sheet_19 : decode cX5_sheet 19 = .ok (.iload_n 2, 1) := dk_28 (dk_at dksX5_sheet_0 19 rfl rfl)
theorem dX5_sheet_20 : decode cX5_sheet 20 = .ok (.ifCond .lt 12, 3) := dk_155 0 12 (dk_at dksX5_sheet_0 20 rfl rfl)
theorem dX5_sheet_23 : decode cX5_sheet 23 = .ok (.iload_n 3, 1) := dk_29 (dk_at dksX5_sheet_0 23 rfl rfl)
theorem dX5_sheet_24 : decode cX5_sheet 24 = .ok (.bipush 24, 2) := dk_16 24 (dk_at dksX5_sheet_1 0 rfl rfl)
theorem dX5_sheet_26 : decode cX5_sheet 26 = .ok (.if_icmp .le 6, 3) := dk_164 0 6 (dk_at dksX5_sheet_1 2 rfl rfl)
theorem dX5_sheet_29 : decode cX5_sheet 29 = .ok (.ldc 83, 2) := dk_18 83 (dk_at dksX5_sheet_1 5 rfl rfl)
theorem dX5_sheet_31 : decode cX5_sheet 31 = .ok (.ireturn, 1) := dk_172 (dk_at dksX5_sheet_1 7 rfl rfl)
theorem dX5_sheet_32 : decode cX5_sheet 32 = .ok (.iload_n 2, 1) := dk_28 (dk_at dksX5_sheet_1 8 rfl rfl)
theorem dX5_sheet_33 : decode cX5_sheet 33 = .ok (.ifCond .lt 11, 3) := dk_155 0 11 (dk_at dksX5_sheet_1 9 rfl rfl)
theorem dX5_sheet_36 : decode cX5_sheet 36 = .ok (.iload_n 3, 1) := dk_29 (dk_at dksX5_sheet_1 12 rfl rfl)
theorem dX5_sheet_37 : decode cX5_sheet 37 = .ok (.ifCond .ge 7, 3) := dk_156 0 7 (dk_at dksX5_sheet_1 13 rfl rfl)
theorem dX5_sheet_40 : decode cX5_sheet 40 = .ok (.ldc_w 306, 3) := dk_19 1 50 (dk_at dksX5_sheet_1 16 rfl rfl)
theorem dX5_sheet_43 : decode cX5_sheet 43 = .ok (.ireturn, 1) := dk_172 (dk_at dksX5_sheet_1 19 rfl rfl)
theorem dX5_sheet_44 : decode cX5_sheet 44 = .ok (.aload_n 0, 1) := dk_42 (dk_at dksX5_sheet_1 20 rfl rfl)
theorem dX5_sheet_45 : decode cX5_sheet 45 = .ok (.getfield 19, 3) := dk_180 0 19 (dk_at dksX5_sheet_1 21 rfl rfl)
theorem dX5_sheet_48 : decode cX5_sheet 48 = .ok (.iload_n 1, 1) := dk_27 (dk_at dksX5_sheet_2 0 rfl rfl)
theorem dX5_sheet_49 : decode cX5_sheet 49 = .ok (.iload_n 2, 1) := dk_28 (dk_at dksX5_sheet_2 1 rfl rfl)
theorem dX5_sheet_50 : decode cX5_sheet 50 = .ok (.iastore, 1) := dk_79 (dk_at dksX5_sheet_2 2 rfl rfl)
theorem dX5_sheet_51 : decode cX5_sheet 51 = .ok (.aload_n 0, 1) := dk_42 (dk_at dksX5_sheet_2 3 rfl rfl)
theorem dX5_sheet_52 : decode cX5_sheet 52 = .ok (.getfield 22, 3) := dk_180 0 22 (dk_at dksX5_sheet_2 4 rfl rfl)
theorem dX5_sheet_55 : decode cX5_sheet 55 = .ok (.iload_n 1, 1) := dk_27 (dk_at dksX5_sheet_2 7 rfl rfl)
theorem dX5_sheet_56 : decode cX5_sheet 56 = .ok (.iload_n 2, 1) := dk_28 (dk_at dksX5_sheet_2 8 rfl rfl)
theorem dX5_sheet_57 : decode cX5_sheet 57 = .ok (.ifCond .ge 7, 3) := dk_156 0 7 (dk_at dksX5_sheet_2 9 rfl rfl)
theorem dX5_sheet_60 : decode cX5_sheet 60 = .ok (.iconst 0, 1) := dk_3 (dk_at dksX5_sheet_2 12 rfl rfl)
theorem dX5_sheet_61 : decode cX5_sheet 61 = .ok (.goto 4, 3) := dk_167 0 4 (dk_at dksX5_sheet_2 13 rfl rfl)
theorem dX5_sheet_64 : decode cX5_sheet 64 = .ok (.iload_n 3, 1) := dk_29 (dk_at dksX5_sheet_2 16 rfl rfl)
theorem dX5_sheet_65 : decode cX5_sheet 65 = .ok (.iastore, 1) := dk_79 (dk_at dksX5_sheet_2 17 rfl rfl)
theorem dX5_sheet_66 : decode cX5_sheet 66 = .ok (.iconst 0, 1) := dk_3 (dk_at dksX5_sheet_2 18 rfl rfl)
theorem dX5_sheet_67 : decode cX5_sheet 67 = .ok (.istore 4, 2) := dk_54 4 (dk_at dksX5_sheet_2 19 rfl rfl)
theorem dX5_sheet_69 : decode cX5_sheet 69 = .ok (.iload 4, 2) := dk_21 4 (dk_at dksX5_sheet_2 21 rfl rfl)
theorem dX5_sheet_71 : decode cX5_sheet 71 = .ok (.bipush 24, 2) := dk_16 24 (dk_at dksX5_sheet_3 0 rfl rfl)
theorem dX5_sheet_73 : decode cX5_sheet 73 = .ok (.if_icmp .ge 22, 3) := dk_162 0 22 (dk_at dksX5_sheet_3 2 rfl rfl)
theorem dX5_sheet_76 : decode cX5_sheet 76 = .ok (.aload_n 0, 1) := dk_42 (dk_at dksX5_sheet_3 5 rfl rfl)
theorem dX5_sheet_77 : decode cX5_sheet 77 = .ok (.getfield 25, 3) := dk_180 0 25 (dk_at dksX5_sheet_3 6 rfl rfl)
theorem dX5_sheet_80 : decode cX5_sheet 80 = .ok (.bipush 24, 2) := dk_16 24 (dk_at dksX5_sheet_3 9 rfl rfl)
theorem dX5_sheet_82 : decode cX5_sheet 82 = .ok (.iload_n 1, 1) := dk_27 (dk_at dksX5_sheet_3 11 rfl rfl)
theorem dX5_sheet_83 : decode cX5_sheet 83 = .ok (.imul, 1) := dk_104 (dk_at dksX5_sheet_3 12 rfl rfl)
theorem dX5_sheet_84 : decode cX5_sheet 84 = .ok (.iload 4, 2) := dk_21 4 (dk_at dksX5_sheet_3 13 rfl rfl)
theorem dX5_sheet_86 : decode cX5_sheet 86 = .ok (.iadd, 1) := dk_96 (dk_at dksX5_sheet_3 15 rfl rfl)
theorem dX5_sheet_87 : decode cX5_sheet 87 = .ok (.iconst 0, 1) := dk_3 (dk_at dksX5_sheet_3 16 rfl rfl)
theorem dX5_sheet_88 : decode cX5_sheet 88 = .ok (.iastore, 1) := dk_79 (dk_at dksX5_sheet_3 17 rfl rfl)
theorem dX5_sheet_89 : decode cX5_sheet 89 = .ok (.iinc 4 1, 3) := dk_132 4 1 (dk_at dksX5_sheet_3 18 rfl rfl)
theorem dX5_sheet_92 : decode cX5_sheet 92 = .ok (.goto (-23), 3) := dk_167 255 233 (dk_at dksX5_sheet_3 21 rfl rfl)
theorem dX5_sheet_95 : decode cX5_sheet 95 = .ok (.aload_n 0, 1) := dk_42 (dk_at dksX5_sheet_4 0 rfl rfl)
theorem dX5_sheet_96 : decode cX5_sheet 96 = .ok (.getfield 22, 3) := dk_180 0 22 (dk_at dksX5_sheet_4 1 rfl rfl)
theorem dX5_sheet_99 : decode cX5_sheet 99 = .ok (.iload_n 1, 1) := dk_27 (dk_at dksX5_sheet_4 4 rfl rfl)
theorem dX5_sheet_100 : decode cX5_sheet 100 = .ok (.iaload, 1) := dk_46 (dk_at dksX5_sheet_4 5 rfl rfl)
theorem dX5_sheet_101 : decode cX5_sheet 101 = .ok (.ireturn, 1) := dk_172 (dk_at dksX5_sheet_4 6 rfl rfl)
abbrev cX5_isSheet : ByteArray := prog_18_method_85_code
def yX5_isSheet : MethodName := ⟨RX5, "isSheet", "(I)Z"⟩
def dkwX5_isSheet_0 : List UInt8 := [26, 133, 9, 20, 0, 141, 184, 0, 68, 172]
abbrev dktX5_isSheet_0 : List UInt8 := dkwX5_isSheet_0 ++ []
theorem dksX5_isSheet_0 : cX5_isSheet.data.toList.drop 0 = dktX5_isSheet_0 := by decide +kernel
theorem dX5_isSheet_0 : decode cX5_isSheet 0 = .ok (.iload_n 0, 1) := dk_26 (dk_at dksX5_isSheet_0 0 rfl rfl)
theorem dX5_isSheet_1 : decode cX5_isSheet 1 = .ok (.i2l, 1) := dk_133 (dk_at dksX5_isSheet_0 1 rfl rfl)
theorem dX5_isSheet_2 : decode cX5_isSheet 2 = .ok (.lconst 0, 1) := dk_9 (dk_at dksX5_isSheet_0 2 rfl rfl)
theorem dX5_isSheet_3 : decode cX5_isSheet 3 = .ok (.ldc2_w 141, 3) := dk_20 0 141 (dk_at dksX5_isSheet_0 3 rfl rfl)
theorem dX5_isSheet_6 : decode cX5_isSheet 6 = .ok (.invokestatic 68, 3) := dk_184 0 68 (dk_at dksX5_isSheet_0 6 rfl rfl)
theorem dX5_isSheet_9 : decode cX5_isSheet 9 = .ok (.ireturn, 1) := dk_172 (dk_at dksX5_isSheet_0 9 rfl rfl)
abbrev cX5_mark : ByteArray := prog_18_method_87_code
def yX5_mark : MethodName := ⟨RX5, "mark", "(III)I"⟩
def dkwX5_mark_5 : List UInt8 := [16, 16, 120, 16, 16, 122, 167, 0, 4, 29, 79, 4, 172]
abbrev dktX5_mark_5 : List UInt8 := dkwX5_mark_5 ++ []
def dkwX5_mark_4 : List UInt8 := [18, 83, 172, 42, 180, 0, 25, 16, 24, 27, 104, 28, 96, 42, 180, 0, 19, 27, 46, 154, 0, 13, 29]
abbrev dktX5_mark_4 : List UInt8 := dkwX5_mark_4 ++ dktX5_mark_5
def dkwX5_mark_3 : List UInt8 := [160, 0, 26, 29, 18, 67, 159, 0, 20, 29, 133, 20, 1, 53, 20, 1, 55, 184, 0, 68, 154, 0, 6]
abbrev dktX5_mark_3 : List UInt8 := dkwX5_mark_3 ++ dktX5_mark_4
def dkwX5_mark_2 : List UInt8 := [180, 0, 19, 27, 46, 154, 0, 12, 29, 18, 67, 160, 0, 6, 18, 132, 172, 42, 180, 0, 19, 27, 46, 4]
abbrev dktX5_mark_2 : List UInt8 := dkwX5_mark_2 ++ dktX5_mark_3
def dkwX5_mark_1 : List UInt8 := [133, 9, 42, 180, 0, 22, 27, 46, 4, 100, 133, 184, 0, 68, 154, 0, 7, 19, 1, 52, 172, 42]
abbrev dktX5_mark_1 : List UInt8 := dkwX5_mark_1 ++ dktX5_mark_2
def dkwX5_mark_0 : List UInt8 := [27, 184, 1, 45, 154, 0, 6, 18, 83, 172, 42, 180, 0, 19, 27, 46, 156, 0, 7, 19, 1, 51, 172, 28]
abbrev dktX5_mark_0 : List UInt8 := dkwX5_mark_0 ++ dktX5_mark_1
theorem dksX5_mark_0 : cX5_mark.data.toList.drop 0 = dktX5_mark_0 := by decide +kernel
theorem dksX5_mark_1 : cX5_mark.data.toList.drop 24 = dktX5_mark_1 := dk_seg dksX5_mark_0 24 rfl rfl
theorem dksX5_mark_2 : cX5_mark.data.toList.drop 46 = dktX5_mark_2 := dk_seg dksX5_mark_1 22 rfl rfl
theorem dksX5_mark_3 : cX5_mark.data.toList.drop 70 = dktX5_mark_3 := dk_seg dksX5_mark_2 24 rfl rfl
theorem dksX5_mark_4 : cX5_mark.data.toList.drop 93 = dktX5_mark_4 := dk_seg dksX5_mark_3 23 rfl rfl
theorem dksX5_mark_5 : cX5_mark.data.toList.drop 116 = dktX5_mark_5 := dk_seg dksX5_mark_4 23 rfl rfl
theorem dX5_mark_0 : decode cX5_mark 0 = .ok (.iload_n 1, 1) := dk_27 (dk_at dksX5_mark_0 0 rfl rfl)
theorem dX5_mark_1 : decode cX5_mark 1 = .ok (.invokestatic 301, 3) := dk_184 1 45 (dk_at dksX5_mark_0 1 rfl rfl)
theorem dX5_mark_4 : decode cX5_mark 4 = .ok (.ifCond .ne 6, 3) := dk_154 0 6 (dk_at dksX5_mark_0 4 rfl rfl)
theorem dX5_mark_7 : decode cX5_mark 7 = .ok (.ldc 83, 2) := dk_18 83 (dk_at dksX5_mark_0 7 rfl rfl)
theorem dX5_mark_9 : decode cX5_mark 9 = .ok (.ireturn, 1) := dk_172 (dk_at dksX5_mark_0 9 rfl rfl)
theorem dX5_mark_10 : decode cX5_mark 10 = .ok (.aload_n 0, 1) := dk_42 (dk_at dksX5_mark_0 10 rfl rfl)
theorem dX5_mark_11 : decode cX5_mark 11 = .ok (.getfield 19, 3) := dk_180 0 19 (dk_at dksX5_mark_0 11 rfl rfl)
theorem dX5_mark_14 : decode cX5_mark 14 = .ok (.iload_n 1, 1) := dk_27 (dk_at dksX5_mark_0 14 rfl rfl)
theorem dX5_mark_15 : decode cX5_mark 15 = .ok (.iaload, 1) := dk_46 (dk_at dksX5_mark_0 15 rfl rfl)
theorem dX5_mark_16 : decode cX5_mark 16 = .ok (.ifCond .ge 7, 3) := dk_156 0 7 (dk_at dksX5_mark_0 16 rfl rfl)
theorem dX5_mark_19 : decode cX5_mark 19 = .ok (.ldc_w 307, 3) := dk_19 1 51 (dk_at dksX5_mark_0 19 rfl rfl)
theorem dX5_mark_22 : decode cX5_mark 22 = .ok (.ireturn, 1) := dk_172 (dk_at dksX5_mark_0 22 rfl rfl)
theorem dX5_mark_23 : decode cX5_mark 23 = .ok (.iload_n 2, 1) := dk_28 (dk_at dksX5_mark_0 23 rfl rfl)
theorem dX5_mark_24 : decode cX5_mark 24 = .ok (.i2l, 1) := dk_133 (dk_at dksX5_mark_1 0 rfl rfl)
theorem dX5_mark_25 : decode cX5_mark 25 = .ok (.lconst 0, 1) := dk_9 (dk_at dksX5_mark_1 1 rfl rfl)
theorem dX5_mark_26 : decode cX5_mark 26 = .ok (.aload_n 0, 1) := dk_42 (dk_at dksX5_mark_1 2 rfl rfl)
theorem dX5_mark_27 : decode cX5_mark 27 = .ok (.getfield 22, 3) := dk_180 0 22 (dk_at dksX5_mark_1 3 rfl rfl)
theorem dX5_mark_30 : decode cX5_mark 30 = .ok (.iload_n 1, 1) := dk_27 (dk_at dksX5_mark_1 6 rfl rfl)
theorem dX5_mark_31 : decode cX5_mark 31 = .ok (.iaload, 1) := dk_46 (dk_at dksX5_mark_1 7 rfl rfl)
theorem dX5_mark_32 : decode cX5_mark 32 = .ok (.iconst 1, 1) := dk_4 (dk_at dksX5_mark_1 8 rfl rfl)
theorem dX5_mark_33 : decode cX5_mark 33 = .ok (.isub, 1) := dk_100 (dk_at dksX5_mark_1 9 rfl rfl)
theorem dX5_mark_34 : decode cX5_mark 34 = .ok (.i2l, 1) := dk_133 (dk_at dksX5_mark_1 10 rfl rfl)
theorem dX5_mark_35 : decode cX5_mark 35 = .ok (.invokestatic 68, 3) := dk_184 0 68 (dk_at dksX5_mark_1 11 rfl rfl)
theorem dX5_mark_38 : decode cX5_mark 38 = .ok (.ifCond .ne 7, 3) := dk_154 0 7 (dk_at dksX5_mark_1 14 rfl rfl)
theorem dX5_mark_41 : decode cX5_mark 41 = .ok (.ldc_w 308, 3) := dk_19 1 52 (dk_at dksX5_mark_1 17 rfl rfl)
theorem dX5_mark_44 : decode cX5_mark 44 = .ok (.ireturn, 1) := dk_172 (dk_at dksX5_mark_1 20 rfl rfl)
theorem dX5_mark_45 : decode cX5_mark 45 = .ok (.aload_n 0, 1) := dk_42 (dk_at dksX5_mark_1 21 rfl rfl)
theorem dX5_mark_46 : decode cX5_mark 46 = .ok (.getfield 19, 3) := dk_180 0 19 (dk_at dksX5_mark_2 0 rfl rfl)
theorem dX5_mark_49 : decode cX5_mark 49 = .ok (.iload_n 1, 1) := dk_27 (dk_at dksX5_mark_2 3 rfl rfl)
theorem dX5_mark_50 : decode cX5_mark 50 = .ok (.iaload, 1) := dk_46 (dk_at dksX5_mark_2 4 rfl rfl)
theorem dX5_mark_51 : decode cX5_mark 51 = .ok (.ifCond .ne 12, 3) := dk_154 0 12 (dk_at dksX5_mark_2 5 rfl rfl)
theorem dX5_mark_54 : decode cX5_mark 54 = .ok (.iload_n 3, 1) := dk_29 (dk_at dksX5_mark_2 8 rfl rfl)
theorem dX5_mark_55 : decode cX5_mark 55 = .ok (.ldc 67, 2) := dk_18 67 (dk_at dksX5_mark_2 9 rfl rfl)
theorem dX5_mark_57 : decode cX5_mark 57 = .ok (.if_icmp .ne 6, 3) := dk_160 0 6 (dk_at dksX5_mark_2 11 rfl rfl)
theorem dX5_mark_60 : decode cX5_mark 60 = .ok (.ldc 132, 2) := dk_18 132 (dk_at dksX5_mark_2 14 rfl rfl)
theorem dX5_mark_62 : decode cX5_mark 62 = .ok (.ireturn, 1) := dk_172 (dk_at dksX5_mark_2 16 rfl rfl)
theorem dX5_mark_63 : decode cX5_mark 63 = .ok (.aload_n 0, 1) := dk_42 (dk_at dksX5_mark_2 17 rfl rfl)
theorem dX5_mark_64 : decode cX5_mark 64 = .ok (.getfield 19, 3) := dk_180 0 19 (dk_at dksX5_mark_2 18 rfl rfl)
theorem dX5_mark_67 : decode cX5_mark 67 = .ok (.iload_n 1, 1) := dk_27 (dk_at dksX5_mark_2 21 rfl rfl)
theorem dX5_mark_68 : decode cX5_mark 68 = .ok (.iaload, 1) := dk_46 (dk_at dksX5_mark_2 22 rfl rfl)
theorem dX5_mark_69 : decode cX5_mark 69 = .ok (.iconst 1, 1) := dk_4 (dk_at dksX5_mark_2 23 rfl rfl)
theorem dX5_mark_70 : decode cX5_mark 70 = .ok (.if_icmp .ne 26, 3) := dk_160 0 26 (dk_at dksX5_mark_3 0 rfl rfl)
theorem dX5_mark_73 : decode cX5_mark 73 = .ok (.iload_n 3, 1) := dk_29 (dk_at dksX5_mark_3 3 rfl rfl)
theorem dX5_mark_74 : decode cX5_mark 74 = .ok (.ldc 67, 2) := dk_18 67 (dk_at dksX5_mark_3 4 rfl rfl)
theorem dX5_mark_76 : decode cX5_mark 76 = .ok (.if_icmp .eq 20, 3) := dk_159 0 20 (dk_at dksX5_mark_3 6 rfl rfl)
theorem dX5_mark_79 : decode cX5_mark 79 = .ok (.iload_n 3, 1) := dk_29 (dk_at dksX5_mark_3 9 rfl rfl)
theorem dX5_mark_80 : decode cX5_mark 80 = .ok (.i2l, 1) := dk_133 (dk_at dksX5_mark_3 10 rfl rfl)
theorem dX5_mark_81 : decode cX5_mark 81 = .ok (.ldc2_w 309, 3) := dk_20 1 53 (dk_at dksX5_mark_3 11 rfl rfl)
theorem dX5_mark_84 : decode cX5_mark 84 = .ok (.ldc2_w 311, 3) := dk_20 1 55 (dk_at dksX5_mark_3 14 rfl rfl)
theorem dX5_mark_87 : decode cX5_mark 87 = .ok (.invokestatic 68, 3) := dk_184 0 68 (dk_at dksX5_mark_3 17 rfl rfl)
theorem dX5_mark_90 : decode cX5_mark 90 = .ok (.ifCond .ne 6, 3) := dk_154 0 6 (dk_at dksX5_mark_3 20 rfl rfl)
theorem dX5_mark_93 : decode cX5_mark 93 = .ok (.ldc 83, 2) := dk_18 83 (dk_at dksX5_mark_4 0 rfl rfl)
theorem dX5_mark_95 : decode cX5_mark 95 = .ok (.ireturn, 1) := dk_172 (dk_at dksX5_mark_4 2 rfl rfl)
theorem dX5_mark_96 : decode cX5_mark 96 = .ok (.aload_n 0, 1) := dk_42 (dk_at dksX5_mark_4 3 rfl rfl)
theorem dX5_mark_97 : decode cX5_mark 97 = .ok (.getfield 25, 3) := dk_180 0 25 (dk_at dksX5_mark_4 4 rfl rfl)
theorem dX5_mark_100 : decode cX5_mark 100 = .ok (.bipush 24, 2) := dk_16 24 (dk_at dksX5_mark_4 7 rfl rfl)
theorem dX5_mark_102 : decode cX5_mark 102 = .ok (.iload_n 1, 1) := dk_27 (dk_at dksX5_mark_4 9 rfl rfl)
theorem dX5_mark_103 : decode cX5_mark 103 = .ok (.imul, 1) := dk_104 (dk_at dksX5_mark_4 10 rfl rfl)
theorem dX5_mark_104 : decode cX5_mark 104 = .ok (.iload_n 2, 1) := dk_28 (dk_at dksX5_mark_4 11 rfl rfl)
theorem dX5_mark_105 : decode cX5_mark 105 = .ok (.iadd, 1) := dk_96 (dk_at dksX5_mark_4 12 rfl rfl)
theorem dX5_mark_106 : decode cX5_mark 106 = .ok (.aload_n 0, 1) := dk_42 (dk_at dksX5_mark_4 13 rfl rfl)
theorem dX5_mark_107 : decode cX5_mark 107 = .ok (.getfield 19, 3) := dk_180 0 19 (dk_at dksX5_mark_4 14 rfl rfl)
theorem dX5_mark_110 : decode cX5_mark 110 = .ok (.iload_n 1, 1) := dk_27 (dk_at dksX5_mark_4 17 rfl rfl)
theorem dX5_mark_111 : decode cX5_mark 111 = .ok (.iaload, 1) := dk_46 (dk_at dksX5_mark_4 18 rfl rfl)
theorem dX5_mark_112 : decode cX5_mark 112 = .ok (.ifCond .ne 13, 3) := dk_154 0 13 (dk_at dksX5_mark_4 19 rfl rfl)
theorem dX5_mark_115 : decode cX5_mark 115 = .ok (.iload_n 3, 1) := dk_29 (dk_at dksX5_mark_4 22 rfl rfl)
theorem dX5_mark_116 : decode cX5_mark 116 = .ok (.bipush 16, 2) := dk_16 16 (dk_at dksX5_mark_5 0 rfl rfl)
theorem dX5_mark_118 : decode cX5_mark 118 = .ok (.ishl, 1) := dk_120 (dk_at dksX5_mark_5 2 rfl rfl)
theorem dX5_mark_119 : decode cX5_mark 119 = .ok (.bipush 16, 2) := dk_16 16 (dk_at dksX5_mark_5 3 rfl rfl)
theorem dX5_mark_121 : decode cX5_mark 121 = .ok (.ishr, 1) := dk_122 (dk_at dksX5_mark_5 5 rfl rfl)
theorem dX5_mark_122 : decode cX5_mark 122 = .ok (.goto 4, 3) := dk_167 0 4 (dk_at dksX5_mark_5 6 rfl rfl)
theorem dX5_mark_125 : decode cX5_mark 125 = .ok (.iload_n 3, 1) := dk_29 (dk_at dksX5_mark_5 9 rfl rfl)
theorem dX5_mark_126 : decode cX5_mark 126 = .ok (.iastore, 1) := dk_79 (dk_at dksX5_mark_5 10 rfl rfl)
theorem dX5_mark_127 : decode cX5_mark 127 = .ok (.iconst 1, 1) := dk_4 (dk_at dksX5_mark_5 11 rfl rfl)
theorem dX5_mark_128 : decode cX5_mark 128 = .ok (.ireturn, 1) := dk_172 (dk_at dksX5_mark_5 12 rfl rfl)
abbrev cX5_pour : ByteArray := prog_18_method_88_code
def yX5_pour : MethodName := ⟨RX5, "pour", "(I)I"⟩
def dkwX5_pour_4 : List UInt8 := [160, 0, 7, 3, 167, 0, 4, 4, 96, 61, 132, 3, 1, 167, 255, 176, 28, 172]
abbrev dktX5_pour_4 : List UInt8 := dkwX5_pour_4 ++ []
def dkwX5_pour_3 : List UInt8 := [167, 0, 9, 21, 4, 6, 184, 0, 102, 54, 5, 28, 21, 5, 42, 8, 29, 96, 21, 5, 182, 0, 133]
abbrev dktX5_pour_3 : List UInt8 := dkwX5_pour_3 ++ dktX5_pour_4
def dkwX5_pour_2 : List UInt8 := [16, 24, 27, 104, 29, 96, 46, 54, 4, 21, 4, 18, 67, 160, 0, 14, 42, 180, 0, 7, 8, 29, 96, 46]
abbrev dktX5_pour_2 : List UInt8 := dkwX5_pour_2 ++ dktX5_pour_3
def dkwX5_pour_1 : List UInt8 := [61, 3, 62, 29, 42, 180, 0, 22, 27, 46, 162, 0, 76, 29, 16, 16, 162, 0, 70, 42, 180, 0, 25]
abbrev dktX5_pour_1 : List UInt8 := dkwX5_pour_1 ++ dktX5_pour_2
def dkwX5_pour_0 : List UInt8 := [27, 184, 1, 45, 154, 0, 6, 18, 83, 172, 42, 180, 0, 19, 27, 46, 156, 0, 7, 19, 1, 51, 172, 3]
abbrev dktX5_pour_0 : List UInt8 := dkwX5_pour_0 ++ dktX5_pour_1
theorem dksX5_pour_0 : cX5_pour.data.toList.drop 0 = dktX5_pour_0 := by decide +kernel
theorem dksX5_pour_1 : cX5_pour.data.toList.drop 24 = dktX5_pour_1 := dk_seg dksX5_pour_0 24 rfl rfl
theorem dksX5_pour_2 : cX5_pour.data.toList.drop 47 = dktX5_pour_2 := dk_seg dksX5_pour_1 23 rfl rfl
theorem dksX5_pour_3 : cX5_pour.data.toList.drop 71 = dktX5_pour_3 := dk_seg dksX5_pour_2 24 rfl rfl
theorem dksX5_pour_4 : cX5_pour.data.toList.drop 94 = dktX5_pour_4 := dk_seg dksX5_pour_3 23 rfl rfl
theorem dX5_pour_0 : decode cX5_pour 0 = .ok (.iload_n 1, 1) := dk_27 (dk_at dksX5_pour_0 0 rfl rfl)
theorem dX5_pour_1 : decode cX5_pour 1 = .ok (.invokestatic 301, 3) := dk_184 1 45 (dk_at dksX5_pour_0 1 rfl rfl)
theorem dX5_pour_4 : decode cX5_pour 4 = .ok (.ifCond .ne 6, 3) := dk_154 0 6 (dk_at dksX5_pour_0 4 rfl rfl)
theorem dX5_pour_7 : decode cX5_pour 7 = .ok (.ldc 83, 2) := dk_18 83 (dk_at dksX5_pour_0 7 rfl rfl)
theorem dX5_pour_9 : decode cX5_pour 9 = .ok (.ireturn, 1) := dk_172 (dk_at dksX5_pour_0 9 rfl rfl)
theorem dX5_pour_10 : decode cX5_pour 10 = .ok (.aload_n 0, 1) := dk_42 (dk_at dksX5_pour_0 10 rfl rfl)
theorem dX5_pour_11 : decode cX5_pour 11 = .ok (.getfield 19, 3) := dk_180 0 19 (dk_at dksX5_pour_0 11 rfl rfl)
theorem dX5_pour_14 : decode cX5_pour 14 = .ok (.iload_n 1, 1) := dk_27 (dk_at dksX5_pour_0 14 rfl rfl)
theorem dX5_pour_15 : decode cX5_pour 15 = .ok (.iaload, 1) := dk_46 (dk_at dksX5_pour_0 15 rfl rfl)
theorem dX5_pour_16 : decode cX5_pour 16 = .ok (.ifCond .ge 7, 3) := dk_156 0 7 (dk_at dksX5_pour_0 16 rfl rfl)
theorem dX5_pour_19 : decode cX5_pour 19 = .ok (.ldc_w 307, 3) := dk_19 1 51 (dk_at dksX5_pour_0 19 rfl rfl)
theorem dX5_pour_22 : decode cX5_pour 22 = .ok (.ireturn, 1) := dk_172 (dk_at dksX5_pour_0 22 rfl rfl)
theorem dX5_pour_23 : decode cX5_pour 23 = .ok (.iconst 0, 1) := dk_3 (dk_at dksX5_pour_0 23 rfl rfl)
theorem dX5_pour_24 : decode cX5_pour 24 = .ok (.istore_n 2, 1) := dk_61 (dk_at dksX5_pour_1 0 rfl rfl)
theorem dX5_pour_25 : decode cX5_pour 25 = .ok (.iconst 0, 1) := dk_3 (dk_at dksX5_pour_1 1 rfl rfl)
theorem dX5_pour_26 : decode cX5_pour 26 = .ok (.istore_n 3, 1) := dk_62 (dk_at dksX5_pour_1 2 rfl rfl)
theorem dX5_pour_27 : decode cX5_pour 27 = .ok (.iload_n 3, 1) := dk_29 (dk_at dksX5_pour_1 3 rfl rfl)
theorem dX5_pour_28 : decode cX5_pour 28 = .ok (.aload_n 0, 1) := dk_42 (dk_at dksX5_pour_1 4 rfl rfl)
theorem dX5_pour_29 : decode cX5_pour 29 = .ok (.getfield 22, 3) := dk_180 0 22 (dk_at dksX5_pour_1 5 rfl rfl)
theorem dX5_pour_32 : decode cX5_pour 32 = .ok (.iload_n 1, 1) := dk_27 (dk_at dksX5_pour_1 8 rfl rfl)
theorem dX5_pour_33 : decode cX5_pour 33 = .ok (.iaload, 1) := dk_46 (dk_at dksX5_pour_1 9 rfl rfl)
theorem dX5_pour_34 : decode cX5_pour 34 = .ok (.if_icmp .ge 76, 3) := dk_162 0 76 (dk_at dksX5_pour_1 10 rfl rfl)
theorem dX5_pour_37 : decode cX5_pour 37 = .ok (.iload_n 3, 1) := dk_29 (dk_at dksX5_pour_1 13 rfl rfl)
theorem dX5_pour_38 : decode cX5_pour 38 = .ok (.bipush 16, 2) := dk_16 16 (dk_at dksX5_pour_1 14 rfl rfl)
theorem dX5_pour_40 : decode cX5_pour 40 = .ok (.if_icmp .ge 70, 3) := dk_162 0 70 (dk_at dksX5_pour_1 16 rfl rfl)
theorem dX5_pour_43 : decode cX5_pour 43 = .ok (.aload_n 0, 1) := dk_42 (dk_at dksX5_pour_1 19 rfl rfl)
theorem dX5_pour_44 : decode cX5_pour 44 = .ok (.getfield 25, 3) := dk_180 0 25 (dk_at dksX5_pour_1 20 rfl rfl)
theorem dX5_pour_47 : decode cX5_pour 47 = .ok (.bipush 24, 2) := dk_16 24 (dk_at dksX5_pour_2 0 rfl rfl)
theorem dX5_pour_49 : decode cX5_pour 49 = .ok (.iload_n 1, 1) := dk_27 (dk_at dksX5_pour_2 2 rfl rfl)
theorem dX5_pour_50 : decode cX5_pour 50 = .ok (.imul, 1) := dk_104 (dk_at dksX5_pour_2 3 rfl rfl)
theorem dX5_pour_51 : decode cX5_pour 51 = .ok (.iload_n 3, 1) := dk_29 (dk_at dksX5_pour_2 4 rfl rfl)
theorem dX5_pour_52 : decode cX5_pour 52 = .ok (.iadd, 1) := dk_96 (dk_at dksX5_pour_2 5 rfl rfl)
theorem dX5_pour_53 : decode cX5_pour 53 = .ok (.iaload, 1) := dk_46 (dk_at dksX5_pour_2 6 rfl rfl)
theorem dX5_pour_54 : decode cX5_pour 54 = .ok (.istore 4, 2) := dk_54 4 (dk_at dksX5_pour_2 7 rfl rfl)
theorem dX5_pour_56 : decode cX5_pour 56 = .ok (.iload 4, 2) := dk_21 4 (dk_at dksX5_pour_2 9 rfl rfl)
theorem dX5_pour_58 : decode cX5_pour 58 = .ok (.ldc 67, 2) := dk_18 67 (dk_at dksX5_pour_2 11 rfl rfl)
theorem dX5_pour_60 : decode cX5_pour 60 = .ok (.if_icmp .ne 14, 3) := dk_160 0 14 (dk_at dksX5_pour_2 13 rfl rfl)
theorem dX5_pour_63 : decode cX5_pour 63 = .ok (.aload_n 0, 1) := dk_42 (dk_at dksX5_pour_2 16 rfl rfl)
theorem dX5_pour_64 : decode cX5_pour 64 = .ok (.getfield 7, 3) := dk_180 0 7 (dk_at dksX5_pour_2 17 rfl rfl)
theorem dX5_pour_67 : decode cX5_pour 67 = .ok (.iconst 5, 1) := dk_8 (dk_at dksX5_pour_2 20 rfl rfl)
theorem dX5_pour_68 : decode cX5_pour 68 = .ok (.iload_n 3, 1) := dk_29 (dk_at dksX5_pour_2 21 rfl rfl)
theorem dX5_pour_69 : decode cX5_pour 69 = .ok (.iadd, 1) := dk_96 (dk_at dksX5_pour_2 22 rfl rfl)
theorem dX5_pour_70 : decode cX5_pour 70 = .ok (.iaload, 1) := dk_46 (dk_at dksX5_pour_2 23 rfl rfl)
theorem dX5_pour_71 : decode cX5_pour 71 = .ok (.goto 9, 3) := dk_167 0 9 (dk_at dksX5_pour_3 0 rfl rfl)
theorem dX5_pour_74 : decode cX5_pour 74 = .ok (.iload 4, 2) := dk_21 4 (dk_at dksX5_pour_3 3 rfl rfl)
theorem dX5_pour_76 : decode cX5_pour 76 = .ok (.iconst 3, 1) := dk_6 (dk_at dksX5_pour_3 5 rfl rfl)
theorem dX5_pour_77 : decode cX5_pour 77 = .ok (.invokestatic 102, 3) := dk_184 0 102 (dk_at dksX5_pour_3 6 rfl rfl)
theorem dX5_pour_80 : decode cX5_pour 80 = .ok (.istore 5, 2) := dk_54 5 (dk_at dksX5_pour_3 9 rfl rfl)
theorem dX5_pour_82 : decode cX5_pour 82 = .ok (.iload_n 2, 1) := dk_28 (dk_at dksX5_pour_3 11 rfl rfl)
theorem dX5_pour_83 : decode cX5_pour 83 = .ok (.iload 5, 2) := dk_21 5 (dk_at dksX5_pour_3 12 rfl rfl)
theorem dX5_pour_85 : decode cX5_pour 85 = .ok (.aload_n 0, 1) := dk_42 (dk_at dksX5_pour_3 14 rfl rfl)
theorem dX5_pour_86 : decode cX5_pour 86 = .ok (.iconst 5, 1) := dk_8 (dk_at dksX5_pour_3 15 rfl rfl)
theorem dX5_pour_87 : decode cX5_pour 87 = .ok (.iload_n 3, 1) := dk_29 (dk_at dksX5_pour_3 16 rfl rfl)
theorem dX5_pour_88 : decode cX5_pour 88 = .ok (.iadd, 1) := dk_96 (dk_at dksX5_pour_3 17 rfl rfl)
theorem dX5_pour_89 : decode cX5_pour 89 = .ok (.iload 5, 2) := dk_21 5 (dk_at dksX5_pour_3 18 rfl rfl)
theorem dX5_pour_91 : decode cX5_pour 91 = .ok (.invokevirtual 133, 3) := dk_182 0 133 (dk_at dksX5_pour_3 20 rfl rfl)
theorem dX5_pour_94 : decode cX5_pour 94 = .ok (.if_icmp .ne 7, 3) := dk_160 0 7 (dk_at dksX5_pour_4 0 rfl rfl)
theorem dX5_pour_97 : decode cX5_pour 97 = .ok (.iconst 0, 1) := dk_3 (dk_at dksX5_pour_4 3 rfl rfl)
theorem dX5_pour_98 : decode cX5_pour 98 = .ok (.goto 4, 3) := dk_167 0 4 (dk_at dksX5_pour_4 4 rfl rfl)
theorem dX5_pour_101 : decode cX5_pour 101 = .ok (.iconst 1, 1) := dk_4 (dk_at dksX5_pour_4 7 rfl rfl)
theorem dX5_pour_102 : decode cX5_pour 102 = .ok (.iadd, 1) := dk_96 (dk_at dksX5_pour_4 8 rfl rfl)
theorem dX5_pour_103 : decode cX5_pour 103 = .ok (.istore_n 2, 1) := dk_61 (dk_at dksX5_pour_4 9 rfl rfl)
theorem dX5_pour_104 : decode cX5_pour 104 = .ok (.iinc 3 1, 3) := dk_132 3 1 (dk_at dksX5_pour_4 10 rfl rfl)
theorem dX5_pour_107 : decode cX5_pour 107 = .ok (.goto (-80), 3) := dk_167 255 176 (dk_at dksX5_pour_4 13 rfl rfl)
theorem dX5_pour_110 : decode cX5_pour 110 = .ok (.iload_n 2, 1) := dk_28 (dk_at dksX5_pour_4 16 rfl rfl)
theorem dX5_pour_111 : decode cX5_pour 111 = .ok (.ireturn, 1) := dk_172 (dk_at dksX5_pour_4 17 rfl rfl)
abbrev cX5_reads : ByteArray := prog_18_method_89_code
def yX5_reads : MethodName := ⟨RX5, "reads", "(I)I"⟩
def dkwX5_reads_3 : List UInt8 := [159, 0, 5, 28, 172, 132, 2, 1, 167, 255, 203, 18, 67, 172]
abbrev dktX5_reads_3 : List UInt8 := dkwX5_reads_3 ++ []
def dkwX5_reads_2 : List UInt8 := [18, 67, 159, 0, 25, 28, 42, 180, 0, 7, 3, 46, 162, 0, 13, 29, 42, 28, 8, 182, 0, 88]
abbrev dktX5_reads_2 : List UInt8 := dkwX5_reads_2 ++ dktX5_reads_3
def dkwX5_reads_1 : List UInt8 := [61, 28, 42, 180, 0, 22, 27, 46, 162, 0, 49, 42, 180, 0, 25, 16, 24, 27, 104, 28, 96, 46, 62, 29]
abbrev dktX5_reads_1 : List UInt8 := dkwX5_reads_1 ++ dktX5_reads_2
def dkwX5_reads_0 : List UInt8 := [27, 184, 1, 45, 154, 0, 6, 18, 83, 172, 42, 180, 0, 19, 27, 46, 156, 0, 7, 19, 1, 51, 172, 3]
abbrev dktX5_reads_0 : List UInt8 := dkwX5_reads_0 ++ dktX5_reads_1
theorem dksX5_reads_0 : cX5_reads.data.toList.drop 0 = dktX5_reads_0 := by decide +kernel
theorem dksX5_reads_1 : cX5_reads.data.toList.drop 24 = dktX5_reads_1 := dk_seg dksX5_reads_0 24 rfl rfl
theorem dksX5_reads_2 : cX5_reads.data.toList.drop 48 = dktX5_reads_2 := dk_seg dksX5_reads_1 24 rfl rfl
theorem dksX5_reads_3 : cX5_reads.data.toList.drop 70 = dktX5_reads_3 := dk_seg dksX5_reads_2 22 rfl rfl
theorem dX5_reads_0 : decode cX5_reads 0 = .ok (.iload_n 1, 1) := dk_27 (dk_at dksX5_reads_0 0 rfl rfl)
theorem dX5_reads_1 : decode cX5_reads 1 = .ok (.invokestatic 301, 3) := dk_184 1 45 (dk_at dksX5_reads_0 1 rfl rfl)
theorem dX5_reads_4 : decode cX5_reads 4 = .ok (.ifCond .ne 6, 3) := dk_154 0 6 (dk_at dksX5_reads_0 4 rfl rfl)
theorem dX5_reads_7 : decode cX5_reads 7 = .ok (.ldc 83, 2) := dk_18 83 (dk_at dksX5_reads_0 7 rfl rfl)
theorem dX5_reads_9 : decode cX5_reads 9 = .ok (.ireturn, 1) := dk_172 (dk_at dksX5_reads_0 9 rfl rfl)
theorem dX5_reads_10 : decode cX5_reads 10 = .ok (.aload_n 0, 1) := dk_42 (dk_at dksX5_reads_0 10 rfl rfl)
theorem dX5_reads_11 : decode cX5_reads 11 = .ok (.getfield 19, 3) := dk_180 0 19 (dk_at dksX5_reads_0 11 rfl rfl)
theorem dX5_reads_14 : decode cX5_reads 14 = .ok (.iload_n 1, 1) := dk_27 (dk_at dksX5_reads_0 14 rfl rfl)
theorem dX5_reads_15 : decode cX5_reads 15 = .ok (.iaload, 1) := dk_46 (dk_at dksX5_reads_0 15 rfl rfl)
theorem dX5_reads_16 : decode cX5_reads 16 = .ok (.ifCond .ge 7, 3) := dk_156 0 7 (dk_at dksX5_reads_0 16 rfl rfl)
theorem dX5_reads_19 : decode cX5_reads 19 = .ok (.ldc_w 307, 3) := dk_19 1 51 (dk_at dksX5_reads_0 19 rfl rfl)
theorem dX5_reads_22 : decode cX5_reads 22 = .ok (.ireturn, 1) := dk_172 (dk_at dksX5_reads_0 22 rfl rfl)
theorem dX5_reads_23 : decode cX5_reads 23 = .ok (.iconst 0, 1) := dk_3 (dk_at dksX5_reads_0 23 rfl rfl)
theorem dX5_reads_24 : decode cX5_reads 24 = .ok (.istore_n 2, 1) := dk_61 (dk_at dksX5_reads_1 0 rfl rfl)
theorem dX5_reads_25 : decode cX5_reads 25 = .ok (.iload_n 2, 1) := dk_28 (dk_at dksX5_reads_1 1 rfl rfl)
theorem dX5_reads_26 : decode cX5_reads 26 = .ok (.aload_n 0, 1) := dk_42 (dk_at dksX5_reads_1 2 rfl rfl)
theorem dX5_reads_27 : decode cX5_reads 27 = .ok (.getfield 22, 3) := dk_180 0 22 (dk_at dksX5_reads_1 3 rfl rfl)
theorem dX5_reads_30 : decode cX5_reads 30 = .ok (.iload_n 1, 1) := dk_27 (dk_at dksX5_reads_1 6 rfl rfl)
theorem dX5_reads_31 : decode cX5_reads 31 = .ok (.iaload, 1) := dk_46 (dk_at dksX5_reads_1 7 rfl rfl)
theorem dX5_reads_32 : decode cX5_reads 32 = .ok (.if_icmp .ge 49, 3) := dk_162 0 49 (dk_at dksX5_reads_1 8 rfl rfl)
theorem dX5_reads_35 : decode cX5_reads 35 = .ok (.aload_n 0, 1) := dk_42 (dk_at dksX5_reads_1 11 rfl rfl)
theorem dX5_reads_36 : decode cX5_reads 36 = .ok (.getfield 25, 3) := dk_180 0 25 (dk_at dksX5_reads_1 12 rfl rfl)
theorem dX5_reads_39 : decode cX5_reads 39 = .ok (.bipush 24, 2) := dk_16 24 (dk_at dksX5_reads_1 15 rfl rfl)
theorem dX5_reads_41 : decode cX5_reads 41 = .ok (.iload_n 1, 1) := dk_27 (dk_at dksX5_reads_1 17 rfl rfl)
theorem dX5_reads_42 : decode cX5_reads 42 = .ok (.imul, 1) := dk_104 (dk_at dksX5_reads_1 18 rfl rfl)
theorem dX5_reads_43 : decode cX5_reads 43 = .ok (.iload_n 2, 1) := dk_28 (dk_at dksX5_reads_1 19 rfl rfl)
theorem dX5_reads_44 : decode cX5_reads 44 = .ok (.iadd, 1) := dk_96 (dk_at dksX5_reads_1 20 rfl rfl)
theorem dX5_reads_45 : decode cX5_reads 45 = .ok (.iaload, 1) := dk_46 (dk_at dksX5_reads_1 21 rfl rfl)
theorem dX5_reads_46 : decode cX5_reads 46 = .ok (.istore_n 3, 1) := dk_62 (dk_at dksX5_reads_1 22 rfl rfl)
theorem dX5_reads_47 : decode cX5_reads 47 = .ok (.iload_n 3, 1) := dk_29 (dk_at dksX5_reads_1 23 rfl rfl)
theorem dX5_reads_48 : decode cX5_reads 48 = .ok (.ldc 67, 2) := dk_18 67 (dk_at dksX5_reads_2 0 rfl rfl)
theorem dX5_reads_50 : decode cX5_reads 50 = .ok (.if_icmp .eq 25, 3) := dk_159 0 25 (dk_at dksX5_reads_2 2 rfl rfl)
theorem dX5_reads_53 : decode cX5_reads 53 = .ok (.iload_n 2, 1) := dk_28 (dk_at dksX5_reads_2 5 rfl rfl)
theorem dX5_reads_54 : decode cX5_reads 54 = .ok (.aload_n 0, 1) := dk_42 (dk_at dksX5_reads_2 6 rfl rfl)
theorem dX5_reads_55 : decode cX5_reads 55 = .ok (.getfield 7, 3) := dk_180 0 7 (dk_at dksX5_reads_2 7 rfl rfl)
theorem dX5_reads_58 : decode cX5_reads 58 = .ok (.iconst 0, 1) := dk_3 (dk_at dksX5_reads_2 10 rfl rfl)
theorem dX5_reads_59 : decode cX5_reads 59 = .ok (.iaload, 1) := dk_46 (dk_at dksX5_reads_2 11 rfl rfl)
theorem dX5_reads_60 : decode cX5_reads 60 = .ok (.if_icmp .ge 13, 3) := dk_162 0 13 (dk_at dksX5_reads_2 12 rfl rfl)
theorem dX5_reads_63 : decode cX5_reads 63 = .ok (.iload_n 3, 1) := dk_29 (dk_at dksX5_reads_2 15 rfl rfl)
theorem dX5_reads_64 : decode cX5_reads 64 = .ok (.aload_n 0, 1) := dk_42 (dk_at dksX5_reads_2 16 rfl rfl)
theorem dX5_reads_65 : decode cX5_reads 65 = .ok (.iload_n 2, 1) := dk_28 (dk_at dksX5_reads_2 17 rfl rfl)
theorem dX5_reads_66 : decode cX5_reads 66 = .ok (.iconst 5, 1) := dk_8 (dk_at dksX5_reads_2 18 rfl rfl)
theorem dX5_reads_67 : decode cX5_reads 67 = .ok (.invokevirtual 88, 3) := dk_182 0 88 (dk_at dksX5_reads_2 19 rfl rfl)
theorem dX5_reads_70 : decode cX5_reads 70 = .ok (.if_icmp .eq 5, 3) := dk_159 0 5 (dk_at dksX5_reads_3 0 rfl rfl)
theorem dX5_reads_73 : decode cX5_reads 73 = .ok (.iload_n 2, 1) := dk_28 (dk_at dksX5_reads_3 3 rfl rfl)
theorem dX5_reads_74 : decode cX5_reads 74 = .ok (.ireturn, 1) := dk_172 (dk_at dksX5_reads_3 4 rfl rfl)
theorem dX5_reads_75 : decode cX5_reads 75 = .ok (.iinc 2 1, 3) := dk_132 2 1 (dk_at dksX5_reads_3 5 rfl rfl)
theorem dX5_reads_78 : decode cX5_reads 78 = .ok (.goto (-53), 3) := dk_167 255 203 (dk_at dksX5_reads_3 8 rfl rfl)
theorem dX5_reads_81 : decode cX5_reads 81 = .ok (.ldc 67, 2) := dk_18 67 (dk_at dksX5_reads_3 11 rfl rfl)
theorem dX5_reads_83 : decode cX5_reads 83 = .ok (.ireturn, 1) := dk_172 (dk_at dksX5_reads_3 13 rfl rfl)
abbrev cX5_whose : ByteArray := prog_18_method_90_code
def yX5_whose : MethodName := ⟨RX5, "whose", "(II)I"⟩
def dkwX5_whose_7 : List UInt8 := [18, 67, 167, 0, 13, 28, 154, 0, 7, 29, 167, 0, 5, 21, 4, 172]
abbrev dktX5_whose_7 : List UInt8 := dkwX5_whose_7 ++ []
def dkwX5_whose_6 : List UInt8 := [21, 6, 21, 4, 162, 0, 10, 21, 5, 62, 21, 6, 54, 4, 132, 5, 1, 167, 255, 142, 29, 156, 0, 8]
abbrev dktX5_whose_6 : List UInt8 := dkwX5_whose_6 ++ dktX5_whose_7
def dkwX5_whose_5 : List UInt8 := [182, 0, 125, 167, 0, 4, 3, 184, 1, 57, 96, 54, 6, 132, 7, 1, 167, 255, 183, 29, 155, 0, 10]
abbrev dktX5_whose_5 : List UInt8 := dkwX5_whose_5 ++ dktX5_whose_6
def dkwX5_whose_4 : List UInt8 := [167, 0, 32, 21, 8, 21, 7, 42, 21, 5, 5, 182, 0, 88, 162, 0, 14, 42, 21, 5, 21, 7]
abbrev dktX5_whose_4 : List UInt8 := dkwX5_whose_4 ++ dktX5_whose_5
def dkwX5_whose_3 : List UInt8 := [180, 0, 25, 16, 24, 27, 104, 21, 7, 96, 46, 54, 8, 21, 6, 21, 8, 18, 67, 160, 0, 7, 3]
abbrev dktX5_whose_3 : List UInt8 := dkwX5_whose_3 ++ dktX5_whose_4
def dkwX5_whose_2 : List UInt8 := [46, 162, 0, 109, 3, 54, 6, 3, 54, 7, 21, 7, 42, 180, 0, 22, 27, 46, 162, 0, 68, 42]
abbrev dktX5_whose_2 : List UInt8 := dkwX5_whose_2 ++ dktX5_whose_3
def dkwX5_whose_1 : List UInt8 := [27, 46, 156, 0, 7, 19, 1, 51, 172, 2, 62, 3, 54, 4, 3, 54, 5, 21, 5, 42, 180, 0, 7, 3]
abbrev dktX5_whose_1 : List UInt8 := dkwX5_whose_1 ++ dktX5_whose_2
def dkwX5_whose_0 : List UInt8 := [27, 184, 1, 45, 153, 0, 13, 28, 133, 9, 10, 184, 0, 68, 154, 0, 6, 18, 83, 172, 42, 180, 0, 19]
abbrev dktX5_whose_0 : List UInt8 := dkwX5_whose_0 ++ dktX5_whose_1
theorem dksX5_whose_0 : cX5_whose.data.toList.drop 0 = dktX5_whose_0 := by decide +kernel
theorem dksX5_whose_1 : cX5_whose.data.toList.drop 24 = dktX5_whose_1 := dk_seg dksX5_whose_0 24 rfl rfl
theorem dksX5_whose_2 : cX5_whose.data.toList.drop 48 = dktX5_whose_2 := dk_seg dksX5_whose_1 24 rfl rfl
theorem dksX5_whose_3 : cX5_whose.data.toList.drop 70 = dktX5_whose_3 := dk_seg dksX5_whose_2 22 rfl rfl
theorem dksX5_whose_4 : cX5_whose.data.toList.drop 93 = dktX5_whose_4 := dk_seg dksX5_whose_3 23 rfl rfl
theorem dksX5_whose_5 : cX5_whose.data.toList.drop 115 = dktX5_whose_5 := dk_seg dksX5_whose_4 22 rfl rfl
theorem dksX5_whose_6 : cX5_whose.data.toList.drop 138 = dktX5_whose_6 := dk_seg dksX5_whose_5 23 rfl rfl
theorem dksX5_whose_7 : cX5_whose.data.toList.drop 162 = dktX5_whose_7 := dk_seg dksX5_whose_6 24 rfl rfl
theorem dX5_whose_0 : decode cX5_whose 0 = .ok (.iload_n 1, 1) := dk_27 (dk_at dksX5_whose_0 0 rfl rfl)
theorem dX5_whose_1 : decode cX5_whose 1 = .ok (.invokestatic 301, 3) := dk_184 1 45 (dk_at dksX5_whose_0 1 rfl rfl)
theorem dX5_whose_4 : decode cX5_whose 4 = .ok (.ifCond .eq 13, 3) := dk_153 0 13 (dk_at dksX5_whose_0 4 rfl rfl)
theorem dX5_whose_7 : decode cX5_whose 7 = .ok (.iload_n 2, 1) := dk_28 (dk_at dksX5_whose_0 7 rfl rfl)
theorem dX5_whose_8 : decode cX5_whose 8 = .ok (.i2l, 1) := dk_133 (dk_at dksX5_whose_0 8 rfl rfl)
theorem dX5_whose_9 : decode cX5_whose 9 = .ok (.lconst 0, 1) := dk_9 (dk_at dksX5_whose_0 9 rfl rfl)
theorem dX5_whose_10 : decode cX5_whose 10 = .ok (.lconst 1, 1) := dk_10 (dk_at dksX5_whose_0 10 rfl rfl)
theorem dX5_whose_11 : decode cX5_whose 11 = .ok (.invokestatic 68, 3) := dk_184 0 68 (dk_at dksX5_whose_0 11 rfl rfl)
theorem dX5_whose_14 : decode cX5_whose 14 = .ok (.ifCond .ne 6, 3) := dk_154 0 6 (dk_at dksX5_whose_0 14 rfl rfl)
theorem dX5_whose_17 : decode cX5_whose 17 = .ok (.ldc 83, 2) := dk_18 83 (dk_at dksX5_whose_0 17 rfl rfl)
theorem dX5_whose_19 : decode cX5_whose 19 = .ok (.ireturn, 1) := dk_172 (dk_at dksX5_whose_0 19 rfl rfl)
theorem dX5_whose_20 : decode cX5_whose 20 = .ok (.aload_n 0, 1) := dk_42 (dk_at dksX5_whose_0 20 rfl rfl)
theorem dX5_whose_21 : decode cX5_whose 21 = .ok (.getfield 19, 3) := dk_180 0 19 (dk_at dksX5_whose_0 21 rfl rfl)
theorem dX5_whose_24 : decode cX5_whose 24 = .ok (.iload_n 1, 1) := dk_27 (dk_at dksX5_whose_1 0 rfl rfl)
theorem dX5_whose_25 : decode cX5_whose 25 = .ok (.iaload, 1) := dk_46 (dk_at dksX5_whose_1 1 rfl rfl)
theorem dX5_whose_26 : decode cX5_whose 26 = .ok (.ifCond .ge 7, 3) := dk_156 0 7 (dk_at dksX5_whose_1 2 rfl rfl)
theorem dX5_whose_29 : decode cX5_whose 29 = .ok (.ldc_w 307, 3) := dk_19 1 51 (dk_at dksX5_whose_1 5 rfl rfl)
theorem dX5_whose_32 : decode cX5_whose 32 = .ok (.ireturn, 1) := dk_172 (dk_at dksX5_whose_1 8 rfl rfl)
theorem dX5_whose_33 : decode cX5_whose 33 = .ok (.iconst (-1), 1) := dk_2 (dk_at dksX5_whose_1 9 rfl rfl)
theorem dX5_whose_34 : decode cX5_whose 34 = .ok (.istore_n 3, 1) := dk_62 (dk_at dksX5_whose_1 10 rfl rfl)
theorem dX5_whose_35 : decode cX5_whose 35 = .ok (.iconst 0, 1) := dk_3 (dk_at dksX5_whose_1 11 rfl rfl)
theorem dX5_whose_36 : decode cX5_whose 36 = .ok (.istore 4, 2) := dk_54 4 (dk_at dksX5_whose_1 12 rfl rfl)
theorem dX5_whose_38 : decode cX5_whose 38 = .ok (.iconst 0, 1) := dk_3 (dk_at dksX5_whose_1 14 rfl rfl)
theorem dX5_whose_39 : decode cX5_whose 39 = .ok (.istore 5, 2) := dk_54 5 (dk_at dksX5_whose_1 15 rfl rfl)
theorem dX5_whose_41 : decode cX5_whose 41 = .ok (.iload 5, 2) := dk_21 5 (dk_at dksX5_whose_1 17 rfl rfl)
theorem dX5_whose_43 : decode cX5_whose 43 = .ok (.aload_n 0, 1) := dk_42 (dk_at dksX5_whose_1 19 rfl rfl)
theorem dX5_whose_44 : decode cX5_whose 44 = .ok (.getfield 7, 3) := dk_180 0 7 (dk_at dksX5_whose_1 20 rfl rfl)
theorem dX5_whose_47 : decode cX5_whose 47 = .ok (.iconst 0, 1) := dk_3 (dk_at dksX5_whose_1 23 rfl rfl)
theorem dX5_whose_48 : decode cX5_whose 48 = .ok (.iaload, 1) := dk_46 (dk_at dksX5_whose_2 0 rfl rfl)
theorem dX5_whose_49 : decode cX5_whose 49 = .ok (.if_icmp .ge 109, 3) := dk_162 0 109 (dk_at dksX5_whose_2 1 rfl rfl)
theorem dX5_whose_52 : decode cX5_whose 52 = .ok (.iconst 0, 1) := dk_3 (dk_at dksX5_whose_2 4 rfl rfl)
theorem dX5_whose_53 : decode cX5_whose 53 = .ok (.istore 6, 2) := dk_54 6 (dk_at dksX5_whose_2 5 rfl rfl)
theorem dX5_whose_55 : decode cX5_whose 55 = .ok (.iconst 0, 1) := dk_3 (dk_at dksX5_whose_2 7 rfl rfl)
theorem dX5_whose_56 : decode cX5_whose 56 = .ok (.istore 7, 2) := dk_54 7 (dk_at dksX5_whose_2 8 rfl rfl)
theorem dX5_whose_58 : decode cX5_whose 58 = .ok (.iload 7, 2) := dk_21 7 (dk_at dksX5_whose_2 10 rfl rfl)
theorem dX5_whose_60 : decode cX5_whose 60 = .ok (.aload_n 0, 1) := dk_42 (dk_at dksX5_whose_2 12 rfl rfl)
theorem dX5_whose_61 : decode cX5_whose 61 = .ok (.getfield 22, 3) := dk_180 0 22 (dk_at dksX5_whose_2 13 rfl rfl)
theorem dX5_whose_64 : decode cX5_whose 64 = .ok (.iload_n 1, 1) := dk_27 (dk_at dksX5_whose_2 16 rfl rfl)
theorem dX5_whose_65 : decode cX5_whose 65 = .ok (.iaload, 1) := dk_46 (dk_at dksX5_whose_2 17 rfl rfl)
theorem dX5_whose_66 : decode cX5_whose 66 = .ok (.if_icmp .ge 68, 3) := dk_162 0 68 (dk_at dksX5_whose_2 18 rfl rfl)
theorem dX5_whose_69 : decode cX5_whose 69 = .ok (.aload_n 0, 1) := dk_42 (dk_at dksX5_whose_2 21 rfl rfl)
theorem dX5_whose_70 : decode cX5_whose 70 = .ok (.getfield 25, 3) := dk_180 0 25 (dk_at dksX5_whose_3 0 rfl rfl)
theorem dX5_whose_73 : decode cX5_whose 73 = .ok (.bipush 24, 2) := dk_16 24 (dk_at dksX5_whose_3 3 rfl rfl)
theorem dX5_whose_75 : decode cX5_whose 75 = .ok (.iload_n 1, 1) := dk_27 (dk_at dksX5_whose_3 5 rfl rfl)
theorem dX5_whose_76 : decode cX5_whose 76 = .ok (.imul, 1) := dk_104 (dk_at dksX5_whose_3 6 rfl rfl)
theorem dX5_whose_77 : decode cX5_whose 77 = .ok (.iload 7, 2) := dk_21 7 (dk_at dksX5_whose_3 7 rfl rfl)
theorem dX5_whose_79 : decode cX5_whose 79 = .ok (.iadd, 1) := dk_96 (dk_at dksX5_whose_3 9 rfl rfl)
theorem dX5_whose_80 : decode cX5_whose 80 = .ok (.iaload, 1) := dk_46 (dk_at dksX5_whose_3 10 rfl rfl)
theorem dX5_whose_81 : decode cX5_whose 81 = .ok (.istore 8, 2) := dk_54 8 (dk_at dksX5_whose_3 11 rfl rfl)
theorem dX5_whose_83 : decode cX5_whose 83 = .ok (.iload 6, 2) := dk_21 6 (dk_at dksX5_whose_3 13 rfl rfl)
theorem dX5_whose_85 : decode cX5_whose 85 = .ok (.iload 8, 2) := dk_21 8 (dk_at dksX5_whose_3 15 rfl rfl)
theorem dX5_whose_87 : decode cX5_whose 87 = .ok (.ldc 67, 2) := dk_18 67 (dk_at dksX5_whose_3 17 rfl rfl)
theorem dX5_whose_89 : decode cX5_whose 89 = .ok (.if_icmp .ne 7, 3) := dk_160 0 7 (dk_at dksX5_whose_3 19 rfl rfl)
theorem dX5_whose_92 : decode cX5_whose 92 = .ok (.iconst 0, 1) := dk_3 (dk_at dksX5_whose_3 22 rfl rfl)
theorem dX5_whose_93 : decode cX5_whose 93 = .ok (.goto 32, 3) := dk_167 0 32 (dk_at dksX5_whose_4 0 rfl rfl)
theorem dX5_whose_96 : decode cX5_whose 96 = .ok (.iload 8, 2) := dk_21 8 (dk_at dksX5_whose_4 3 rfl rfl)
theorem dX5_whose_98 : decode cX5_whose 98 = .ok (.iload 7, 2) := dk_21 7 (dk_at dksX5_whose_4 5 rfl rfl)
theorem dX5_whose_100 : decode cX5_whose 100 = .ok (.aload_n 0, 1) := dk_42 (dk_at dksX5_whose_4 7 rfl rfl)
theorem dX5_whose_101 : decode cX5_whose 101 = .ok (.iload 5, 2) := dk_21 5 (dk_at dksX5_whose_4 8 rfl rfl)
theorem dX5_whose_103 : decode cX5_whose 103 = .ok (.iconst 2, 1) := dk_5 (dk_at dksX5_whose_4 10 rfl rfl)
theorem dX5_whose_104 : decode cX5_whose 104 = .ok (.invokevirtual 88, 3) := dk_182 0 88 (dk_at dksX5_whose_4 11 rfl rfl)
theorem dX5_whose_107 : decode cX5_whose 107 = .ok (.if_icmp .ge 14, 3) := dk_162 0 14 (dk_at dksX5_whose_4 14 rfl rfl)
theorem dX5_whose_110 : decode cX5_whose 110 = .ok (.aload_n 0, 1) := dk_42 (dk_at dksX5_whose_4 17 rfl rfl)
theorem dX5_whose_111 : decode cX5_whose 111 = .ok (.iload 5, 2) := dk_21 5 (dk_at dksX5_whose_4 18 rfl rfl)
theorem dX5_whose_113 : decode cX5_whose 113 = .ok (.iload 7, 2) := dk_21 7 (dk_at dksX5_whose_4 20 rfl rfl)
theorem dX5_whose_115 : decode cX5_whose 115 = .ok (.invokevirtual 125, 3) := dk_182 0 125 (dk_at dksX5_whose_5 0 rfl rfl)
theorem dX5_whose_118 : decode cX5_whose 118 = .ok (.goto 4, 3) := dk_167 0 4 (dk_at dksX5_whose_5 3 rfl rfl)
theorem dX5_whose_121 : decode cX5_whose 121 = .ok (.iconst 0, 1) := dk_3 (dk_at dksX5_whose_5 6 rfl rfl)
theorem dX5_whose_122 : decode cX5_whose 122 = .ok (.invokestatic 313, 3) := dk_184 1 57 (dk_at dksX5_whose_5 7 rfl rfl)
theorem dX5_whose_125 : decode cX5_whose 125 = .ok (.iadd, 1) := dk_96 (dk_at dksX5_whose_5 10 rfl rfl)
theorem dX5_whose_126 : decode cX5_whose 126 = .ok (.istore 6, 2) := dk_54 6 (dk_at dksX5_whose_5 11 rfl rfl)
theorem dX5_whose_128 : decode cX5_whose 128 = .ok (.iinc 7 1, 3) := dk_132 7 1 (dk_at dksX5_whose_5 13 rfl rfl)
theorem dX5_whose_131 : decode cX5_whose 131 = .ok (.goto (-73), 3) := dk_167 255 183 (dk_at dksX5_whose_5 16 rfl rfl)
theorem dX5_whose_134 : decode cX5_whose 134 = .ok (.iload_n 3, 1) := dk_29 (dk_at dksX5_whose_5 19 rfl rfl)
theorem dX5_whose_135 : decode cX5_whose 135 = .ok (.ifCond .lt 10, 3) := dk_155 0 10 (dk_at dksX5_whose_5 20 rfl rfl)
theorem dX5_whose_138 : decode cX5_whose 138 = .ok (.iload 6, 2) := dk_21 6 (dk_at dksX5_whose_6 0 rfl rfl)
theorem dX5_whose_140 : decode cX5_whose 140 = .ok (.iload 4, 2) := dk_21 4 (dk_at dksX5_whose_6 2 rfl rfl)
theorem dX5_whose_142 : decode cX5_whose 142 = .ok (.if_icmp .ge 10, 3) := dk_162 0 10 (dk_at dksX5_whose_6 4 rfl rfl)
theorem dX5_whose_145 : decode cX5_whose 145 = .ok (.iload 5, 2) := dk_21 5 (dk_at dksX5_whose_6 7 rfl rfl)
theorem dX5_whose_147 : decode cX5_whose 147 = .ok (.istore_n 3, 1) := dk_62 (dk_at dksX5_whose_6 9 rfl rfl)
theorem dX5_whose_148 : decode cX5_whose 148 = .ok (.iload 6, 2) := dk_21 6 (dk_at dksX5_whose_6 10 rfl rfl)
theorem dX5_whose_150 : decode cX5_whose 150 = .ok (.istore 4, 2) := dk_54 4 (dk_at dksX5_whose_6 12 rfl rfl)
theorem dX5_whose_152 : decode cX5_whose 152 = .ok (.iinc 5 1, 3) := dk_132 5 1 (dk_at dksX5_whose_6 14 rfl rfl)
theorem dX5_whose_155 : decode cX5_whose 155 = .ok (.goto (-114), 3) := dk_167 255 142 (dk_at dksX5_whose_6 17 rfl rfl)
theorem dX5_whose_158 : decode cX5_whose 158 = .ok (.iload_n 3, 1) := dk_29 (dk_at dksX5_whose_6 20 rfl rfl)
theorem dX5_whose_159 : decode cX5_whose 159 = .ok (.ifCond .ge 8, 3) := dk_156 0 8 (dk_at dksX5_whose_6 21 rfl rfl)
theorem dX5_whose_162 : decode cX5_whose 162 = .ok (.ldc 67, 2) := dk_18 67 (dk_at dksX5_whose_7 0 rfl rfl)
theorem dX5_whose_164 : decode cX5_whose 164 = .ok (.goto 13, 3) := dk_167 0 13 (dk_at dksX5_whose_7 2 rfl rfl)
theorem dX5_whose_167 : decode cX5_whose 167 = .ok (.iload_n 2, 1) := dk_28 (dk_at dksX5_whose_7 5 rfl rfl)
theorem dX5_whose_168 : decode cX5_whose 168 = .ok (.ifCond .ne 7, 3) := dk_154 0 7 (dk_at dksX5_whose_7 6 rfl rfl)
theorem dX5_whose_171 : decode cX5_whose 171 = .ok (.iload_n 3, 1) := dk_29 (dk_at dksX5_whose_7 9 rfl rfl)
theorem dX5_whose_172 : decode cX5_whose 172 = .ok (.goto 5, 3) := dk_167 0 5 (dk_at dksX5_whose_7 10 rfl rfl)
theorem dX5_whose_175 : decode cX5_whose 175 = .ok (.iload 4, 2) := dk_21 4 (dk_at dksX5_whose_7 13 rfl rfl)
theorem dX5_whose_177 : decode cX5_whose 177 = .ok (.ireturn, 1) := dk_172 (dk_at dksX5_whose_7 15 rfl rfl)
abbrev cX5_off : ByteArray := prog_18_method_5_code
def yX5_off : MethodName := ⟨RX5, "off", "(II)I"⟩
def dkwX5_off_0 : List UInt8 := [26, 27, 162, 0, 9, 27, 26, 100, 167, 0, 6, 26, 27, 100, 172]
abbrev dktX5_off_0 : List UInt8 := dkwX5_off_0 ++ []
theorem dksX5_off_0 : cX5_off.data.toList.drop 0 = dktX5_off_0 := by decide +kernel
theorem dX5_off_0 : decode cX5_off 0 = .ok (.iload_n 0, 1) := dk_26 (dk_at dksX5_off_0 0 rfl rfl)
theorem dX5_off_1 : decode cX5_off 1 = .ok (.iload_n 1, 1) := dk_27 (dk_at dksX5_off_0 1 rfl rfl)
theorem dX5_off_2 : decode cX5_off 2 = .ok (.if_icmp .ge 9, 3) := dk_162 0 9 (dk_at dksX5_off_0 2 rfl rfl)
theorem dX5_off_5 : decode cX5_off 5 = .ok (.iload_n 1, 1) := dk_27 (dk_at dksX5_off_0 5 rfl rfl)
theorem dX5_off_6 : decode cX5_off 6 = .ok (.iload_n 0, 1) := dk_26 (dk_at dksX5_off_0 6 rfl rfl)
theorem dX5_off_7 : decode cX5_off 7 = .ok (.isub, 1) := dk_100 (dk_at dksX5_off_0 7 rfl rfl)
theorem dX5_off_8 : decode cX5_off 8 = .ok (.goto 6, 3) := dk_167 0 6 (dk_at dksX5_off_0 8 rfl rfl)
theorem dX5_off_11 : decode cX5_off 11 = .ok (.iload_n 0, 1) := dk_26 (dk_at dksX5_off_0 11 rfl rfl)
theorem dX5_off_12 : decode cX5_off 12 = .ok (.iload_n 1, 1) := dk_27 (dk_at dksX5_off_0 12 rfl rfl)
theorem dX5_off_13 : decode cX5_off 13 = .ok (.isub, 1) := dk_100 (dk_at dksX5_off_0 13 rfl rfl)
theorem dX5_off_14 : decode cX5_off 14 = .ok (.ireturn, 1) := dk_172 (dk_at dksX5_off_0 14 rfl rfl)
abbrev cX5_copy : ByteArray := prog_18_method_91_code
def yX5_copy : MethodName := ⟨RX5, "copy", "(IIIII)I"⟩
def dkwX5_copy_8 : List UInt8 := [172]
abbrev dktX5_copy_8 : List UInt8 := dkwX5_copy_8 ++ []
def dkwX5_copy_7 : List UInt8 := [29, 104, 21, 4, 96, 21, 6, 96, 42, 180, 0, 58, 21, 6, 46, 79, 132, 6, 1, 167, 255, 224, 21, 5]
abbrev dktX5_copy_7 : List UInt8 := dkwX5_copy_7 ++ dktX5_copy_8
def dkwX5_copy_6 : List UInt8 := [46, 79, 132, 6, 1, 167, 255, 225, 3, 54, 6, 21, 6, 21, 5, 162, 0, 31, 42, 180, 0, 25, 16, 24]
abbrev dktX5_copy_6 : List UInt8 := dkwX5_copy_6 ++ dktX5_copy_7
def dkwX5_copy_5 : List UInt8 := [21, 5, 162, 0, 30, 42, 180, 0, 58, 21, 6, 42, 180, 0, 25, 16, 24, 27, 104, 28, 96, 21, 6, 96]
abbrev dktX5_copy_5 : List UInt8 := dkwX5_copy_5 ++ dktX5_copy_6
def dkwX5_copy_4 : List UInt8 := [21, 5, 133, 97, 42, 180, 0, 22, 29, 46, 133, 148, 158, 0, 7, 19, 1, 52, 172, 3, 54, 6, 21, 6]
abbrev dktX5_copy_4 : List UInt8 := dkwX5_copy_4 ++ dktX5_copy_5
def dkwX5_copy_3 : List UInt8 := [155, 0, 38, 28, 133, 21, 5, 133, 97, 42, 180, 0, 22, 27, 46, 133, 148, 157, 0, 21, 21, 4, 133]
abbrev dktX5_copy_3 : List UInt8 := dkwX5_copy_3 ++ dktX5_copy_4
def dkwX5_copy_2 : List UInt8 := [180, 0, 19, 29, 46, 159, 0, 6, 18, 132, 172, 28, 155, 0, 48, 21, 4, 155, 0, 43, 21, 5]
abbrev dktX5_copy_2 : List UInt8 := dkwX5_copy_2 ++ dktX5_copy_3
def dkwX5_copy_1 : List UInt8 := [155, 0, 12, 42, 180, 0, 19, 29, 46, 156, 0, 7, 19, 1, 51, 172, 42, 180, 0, 19, 27, 46, 42]
abbrev dktX5_copy_1 : List UInt8 := dkwX5_copy_1 ++ dktX5_copy_2
def dkwX5_copy_0 : List UInt8 := [27, 184, 1, 45, 153, 0, 10, 29, 184, 1, 45, 154, 0, 6, 18, 83, 172, 42, 180, 0, 19, 27, 46]
abbrev dktX5_copy_0 : List UInt8 := dkwX5_copy_0 ++ dktX5_copy_1
theorem dksX5_copy_0 : cX5_copy.data.toList.drop 0 = dktX5_copy_0 := by decide +kernel
theorem dksX5_copy_1 : cX5_copy.data.toList.drop 23 = dktX5_copy_1 := dk_seg dksX5_copy_0 23 rfl rfl
theorem dksX5_copy_2 : cX5_copy.data.toList.drop 46 = dktX5_copy_2 := dk_seg dksX5_copy_1 23 rfl rfl
theorem dksX5_copy_3 : cX5_copy.data.toList.drop 68 = dktX5_copy_3 := dk_seg dksX5_copy_2 22 rfl rfl
theorem dksX5_copy_4 : cX5_copy.data.toList.drop 91 = dktX5_copy_4 := dk_seg dksX5_copy_3 23 rfl rfl
theorem dksX5_copy_5 : cX5_copy.data.toList.drop 115 = dktX5_copy_5 := dk_seg dksX5_copy_4 24 rfl rfl
theorem dksX5_copy_6 : cX5_copy.data.toList.drop 139 = dktX5_copy_6 := dk_seg dksX5_copy_5 24 rfl rfl
theorem dksX5_copy_7 : cX5_copy.data.toList.drop 163 = dktX5_copy_7 := dk_seg dksX5_copy_6 24 rfl rfl
theorem dksX5_copy_8 : cX5_copy.data.toList.drop 187 = dktX5_copy_8 := dk_seg dksX5_copy_7 24 rfl rfl
theorem dX5_copy_0 : decode cX5_copy 0 = .ok (.iload_n 1, 1) := dk_27 (dk_at dksX5_copy_0 0 rfl rfl)
theorem dX5_copy_1 : decode cX5_copy 1 = .ok (.invokestatic 301, 3) := dk_184 1 45 (dk_at dksX5_copy_0 1 rfl rfl)
theorem dX5_copy_4 : decode cX5_copy 4 = .ok (.ifCond .eq 10, 3) := dk_153 0 10 (dk_at dksX5_copy_0 4 rfl rfl)
theorem dX5_copy_7 : decode cX5_copy 7 = .ok (.iload_n 3, 1) := dk_29 (dk_at dksX5_copy_0 7 rfl rfl)
theorem dX5_copy_8 : decode cX5_copy 8 = .ok (.invokestatic 301, 3) := dk_184 1 45 (dk_at dksX5_copy_0 8 rfl rfl)
theorem dX5_copy_11 : decode cX5_copy 11 = .ok (.ifCond .ne 6, 3) := dk_154 0 6 (dk_at dksX5_copy_0 11 rfl rfl)
theorem dX5_copy_14 : decode cX5_copy 14 = .ok (.ldc 83, 2) := dk_18 83 (dk_at dksX5_copy_0 14 rfl rfl)
theorem dX5_copy_16 : decode cX5_copy 16 = .ok (.ireturn, 1) := dk_172 (dk_at dksX5_copy_0 16 rfl rfl)
theorem dX5_copy_17 : decode cX5_copy 17 = .ok (.aload_n 0, 1) := dk_42 (dk_at dksX5_copy_0 17 rfl rfl)
theorem dX5_copy_18 : decode cX5_copy 18 = .ok (.getfield 19, 3) := dk_180 0 19 (dk_at dksX5_copy_0 18 rfl rfl)
theorem dX5_copy_21 : decode cX5_copy 21 = .ok (.iload_n 1, 1) := dk_27 (dk_at dksX5_copy_0 21 rfl rfl)
theorem dX5_copy_22 : decode cX5_copy 22 = .ok (.iaload, 1) := dk_46 (dk_at dksX5_copy_0 22 rfl rfl)
theorem dX5_copy_23 : decode cX5_copy 23 = .ok (.ifCond .lt 12, 3) := dk_155 0 12 (dk_at dksX5_copy_1 0 rfl rfl)
theorem dX5_copy_26 : decode cX5_copy 26 = .ok (.aload_n 0, 1) := dk_42 (dk_at dksX5_copy_1 3 rfl rfl)
theorem dX5_copy_27 : decode cX5_copy 27 = .ok (.getfield 19, 3) := dk_180 0 19 (dk_at dksX5_copy_1 4 rfl rfl)
theorem dX5_copy_30 : decode cX5_copy 30 = .ok (.iload_n 3, 1) := dk_29 (dk_at dksX5_copy_1 7 rfl rfl)
theorem dX5_copy_31 : decode cX5_copy 31 = .ok (.iaload, 1) := dk_46 (dk_at dksX5_copy_1 8 rfl rfl)
theorem dX5_copy_32 : decode cX5_copy 32 = .ok (.ifCond .ge 7, 3) := dk_156 0 7 (dk_at dksX5_copy_1 9 rfl rfl)
theorem dX5_copy_35 : decode cX5_copy 35 = .ok (.ldc_w 307, 3) := dk_19 1 51 (dk_at dksX5_copy_1 12 rfl rfl)
theorem dX5_copy_38 : decode cX5_copy 38 = .ok (.ireturn, 1) := dk_172 (dk_at dksX5_copy_1 15 rfl rfl)
theorem dX5_copy_39 : decode cX5_copy 39 = .ok (.aload_n 0, 1) := dk_42 (dk_at dksX5_copy_1 16 rfl rfl)
theorem dX5_copy_40 : decode cX5_copy 40 = .ok (.getfield 19, 3) := dk_180 0 19 (dk_at dksX5_copy_1 17 rfl rfl)
theorem dX5_copy_43 : decode cX5_copy 43 = .ok (.iload_n 1, 1) := dk_27 (dk_at dksX5_copy_1 20 rfl rfl)
theorem dX5_copy_44 : decode cX5_copy 44 = .ok (.iaload, 1) := dk_46 (dk_at dksX5_copy_1 21 rfl rfl)
theorem dX5_copy_45 : decode cX5_copy 45 = .ok (.aload_n 0, 1) := dk_42 (dk_at dksX5_copy_1 22 rfl rfl)
theorem dX5_copy_46 : decode cX5_copy 46 = .ok (.getfield 19, 3) := dk_180 0 19 (dk_at dksX5_copy_2 0 rfl rfl)
theorem dX5_copy_49 : decode cX5_copy 49 = .ok (.iload_n 3, 1) := dk_29 (dk_at dksX5_copy_2 3 rfl rfl)
theorem dX5_copy_50 : decode cX5_copy 50 = .ok (.iaload, 1) := dk_46 (dk_at dksX5_copy_2 4 rfl rfl)
theorem dX5_copy_51 : decode cX5_copy 51 = .ok (.if_icmp .eq 6, 3) := dk_159 0 6 (dk_at dksX5_copy_2 5 rfl rfl)
theorem dX5_copy_54 : decode cX5_copy 54 = .ok (.ldc 132, 2) := dk_18 132 (dk_at dksX5_copy_2 8 rfl rfl)
theorem dX5_copy_56 : decode cX5_copy 56 = .ok (.ireturn, 1) := dk_172 (dk_at dksX5_copy_2 10 rfl rfl)
theorem dX5_copy_57 : decode cX5_copy 57 = .ok (.iload_n 2, 1) := dk_28 (dk_at dksX5_copy_2 11 rfl rfl)
theorem dX5_copy_58 : decode cX5_copy 58 = .ok (.ifCond .lt 48, 3) := dk_155 0 48 (dk_at dksX5_copy_2 12 rfl rfl)
theorem dX5_copy_61 : decode cX5_copy 61 = .ok (.iload 4, 2) := dk_21 4 (dk_at dksX5_copy_2 15 rfl rfl)
theorem dX5_copy_63 : decode cX5_copy 63 = .ok (.ifCond .lt 43, 3) := dk_155 0 43 (dk_at dksX5_copy_2 17 rfl rfl)
theorem dX5_copy_66 : decode cX5_copy 66 = .ok (.iload 5, 2) := dk_21 5 (dk_at dksX5_copy_2 20 rfl rfl)
theorem dX5_copy_68 : decode cX5_copy 68 = .ok (.ifCond .lt 38, 3) := dk_155 0 38 (dk_at dksX5_copy_3 0 rfl rfl)
theorem dX5_copy_71 : decode cX5_copy 71 = .ok (.iload_n 2, 1) := dk_28 (dk_at dksX5_copy_3 3 rfl rfl)
theorem dX5_copy_72 : decode cX5_copy 72 = .ok (.i2l, 1) := dk_133 (dk_at dksX5_copy_3 4 rfl rfl)
theorem dX5_copy_73 : decode cX5_copy 73 = .ok (.iload 5, 2) := dk_21 5 (dk_at dksX5_copy_3 5 rfl rfl)
theorem dX5_copy_75 : decode cX5_copy 75 = .ok (.i2l, 1) := dk_133 (dk_at dksX5_copy_3 7 rfl rfl)
theorem dX5_copy_76 : decode cX5_copy 76 = .ok (.ladd, 1) := dk_97 (dk_at dksX5_copy_3 8 rfl rfl)
theorem dX5_copy_77 : decode cX5_copy 77 = .ok (.aload_n 0, 1) := dk_42 (dk_at dksX5_copy_3 9 rfl rfl)
theorem dX5_copy_78 : decode cX5_copy 78 = .ok (.getfield 22, 3) := dk_180 0 22 (dk_at dksX5_copy_3 10 rfl rfl)
theorem dX5_copy_81 : decode cX5_copy 81 = .ok (.iload_n 1, 1) := dk_27 (dk_at dksX5_copy_3 13 rfl rfl)
theorem dX5_copy_82 : decode cX5_copy 82 = .ok (.iaload, 1) := dk_46 (dk_at dksX5_copy_3 14 rfl rfl)
theorem dX5_copy_83 : decode cX5_copy 83 = .ok (.i2l, 1) := dk_133 (dk_at dksX5_copy_3 15 rfl rfl)
theorem dX5_copy_84 : decode cX5_copy 84 = .ok (.lcmp, 1) := dk_148 (dk_at dksX5_copy_3 16 rfl rfl)
theorem dX5_copy_85 : decode cX5_copy 85 = .ok (.ifCond .gt 21, 3) := dk_157 0 21 (dk_at dksX5_copy_3 17 rfl rfl)
theorem dX5_copy_88 : decode cX5_copy 88 = .ok (.iload 4, 2) := dk_21 4 (dk_at dksX5_copy_3 20 rfl rfl)
theorem dX5_copy_90 : decode cX5_copy 90 = .ok (.i2l, 1) := dk_133 (dk_at dksX5_copy_3 22 rfl rfl)
theorem dX5_copy_91 : decode cX5_copy 91 = .ok (.iload 5, 2) := dk_21 5 (dk_at dksX5_copy_4 0 rfl rfl)
theorem dX5_copy_93 : decode cX5_copy 93 = .ok (.i2l, 1) := dk_133 (dk_at dksX5_copy_4 2 rfl rfl)
theorem dX5_copy_94 : decode cX5_copy 94 = .ok (.ladd, 1) := dk_97 (dk_at dksX5_copy_4 3 rfl rfl)
theorem dX5_copy_95 : decode cX5_copy 95 = .ok (.aload_n 0, 1) := dk_42 (dk_at dksX5_copy_4 4 rfl rfl)
theorem dX5_copy_96 : decode cX5_copy 96 = .ok (.getfield 22, 3) := dk_180 0 22 (dk_at dksX5_copy_4 5 rfl rfl)
theorem dX5_copy_99 : decode cX5_copy 99 = .ok (.iload_n 3, 1) := dk_29 (dk_at dksX5_copy_4 8 rfl rfl)
theorem dX5_copy_100 : decode cX5_copy 100 = .ok (.iaload, 1) := dk_46 (dk_at dksX5_copy_4 9 rfl rfl)
theorem dX5_copy_101 : decode cX5_copy 101 = .ok (.i2l, 1) := dk_133 (dk_at dksX5_copy_4 10 rfl rfl)
theorem dX5_copy_102 : decode cX5_copy 102 = .ok (.lcmp, 1) := dk_148 (dk_at dksX5_copy_4 11 rfl rfl)
theorem dX5_copy_103 : decode cX5_copy 103 = .ok (.ifCond .le 7, 3) := dk_158 0 7 (dk_at dksX5_copy_4 12 rfl rfl)
theorem dX5_copy_106 : decode cX5_copy 106 = .ok (.ldc_w 308, 3) := dk_19 1 52 (dk_at dksX5_copy_4 15 rfl rfl)
theorem dX5_copy_109 : decode cX5_copy 109 = .ok (.ireturn, 1) := dk_172 (dk_at dksX5_copy_4 18 rfl rfl)
theorem dX5_copy_110 : decode cX5_copy 110 = .ok (.iconst 0, 1) := dk_3 (dk_at dksX5_copy_4 19 rfl rfl)
theorem dX5_copy_111 : decode cX5_copy 111 = .ok (.istore 6, 2) := dk_54 6 (dk_at dksX5_copy_4 20 rfl rfl)
theorem dX5_copy_113 : decode cX5_copy 113 = .ok (.iload 6, 2) := dk_21 6 (dk_at dksX5_copy_4 22 rfl rfl)
theorem dX5_copy_115 : decode cX5_copy 115 = .ok (.iload 5, 2) := dk_21 5 (dk_at dksX5_copy_5 0 rfl rfl)
theorem dX5_copy_117 : decode cX5_copy 117 = .ok (.if_icmp .ge 30, 3) := dk_162 0 30 (dk_at dksX5_copy_5 2 rfl rfl)
theorem dX5_copy_120 : decode cX5_copy 120 = .ok (.aload_n 0, 1) := dk_42 (dk_at dksX5_copy_5 5 rfl rfl)
theorem dX5_copy_121 : decode cX5_copy 121 = .ok (.getfield 58, 3) := dk_180 0 58 (dk_at dksX5_copy_5 6 rfl rfl)
theorem dX5_copy_124 : decode cX5_copy 124 = .ok (.iload 6, 2) := dk_21 6 (dk_at dksX5_copy_5 9 rfl rfl)
theorem dX5_copy_126 : decode cX5_copy 126 = .ok (.aload_n 0, 1) := dk_42 (dk_at dksX5_copy_5 11 rfl rfl)
theorem dX5_copy_127 : decode cX5_copy 127 = .ok (.getfield 25, 3) := dk_180 0 25 (dk_at dksX5_copy_5 12 rfl rfl)
theorem dX5_copy_130 : decode cX5_copy 130 = .ok (.bipush 24, 2) := dk_16 24 (dk_at dksX5_copy_5 15 rfl rfl)
theorem dX5_copy_132 : decode cX5_copy 132 = .ok (.iload_n 1, 1) := dk_27 (dk_at dksX5_copy_5 17 rfl rfl)
theorem dX5_copy_133 : decode cX5_copy 133 = .ok (.imul, 1) := dk_104 (dk_at dksX5_copy_5 18 rfl rfl)
theorem dX5_copy_134 : decode cX5_copy 134 = .ok (.iload_n 2, 1) := dk_28 (dk_at dksX5_copy_5 19 rfl rfl)
theorem dX5_copy_135 : decode cX5_copy 135 = .ok (.iadd, 1) := dk_96 (dk_at dksX5_copy_5 20 rfl rfl)
theorem dX5_copy_136 : decode cX5_copy 136 = .ok (.iload 6, 2) := dk_21 6 (dk_at dksX5_copy_5 21 rfl rfl)
theorem dX5_copy_138 : decode cX5_copy 138 = .ok (.iadd, 1) := dk_96 (dk_at dksX5_copy_5 23 rfl rfl)
theorem dX5_copy_139 : decode cX5_copy 139 = .ok (.iaload, 1) := dk_46 (dk_at dksX5_copy_6 0 rfl rfl)
theorem dX5_copy_140 : decode cX5_copy 140 = .ok (.iastore, 1) := dk_79 (dk_at dksX5_copy_6 1 rfl rfl)
theorem dX5_copy_141 : decode cX5_copy 141 = .ok (.iinc 6 1, 3) := dk_132 6 1 (dk_at dksX5_copy_6 2 rfl rfl)
theorem dX5_copy_144 : decode cX5_copy 144 = .ok (.goto (-31), 3) := dk_167 255 225 (dk_at dksX5_copy_6 5 rfl rfl)
theorem dX5_copy_147 : decode cX5_copy 147 = .ok (.iconst 0, 1) := dk_3 (dk_at dksX5_copy_6 8 rfl rfl)
theorem dX5_copy_148 : decode cX5_copy 148 = .ok (.istore 6, 2) := dk_54 6 (dk_at dksX5_copy_6 9 rfl rfl)
theorem dX5_copy_150 : decode cX5_copy 150 = .ok (.iload 6, 2) := dk_21 6 (dk_at dksX5_copy_6 11 rfl rfl)
theorem dX5_copy_152 : decode cX5_copy 152 = .ok (.iload 5, 2) := dk_21 5 (dk_at dksX5_copy_6 13 rfl rfl)
theorem dX5_copy_154 : decode cX5_copy 154 = .ok (.if_icmp .ge 31, 3) := dk_162 0 31 (dk_at dksX5_copy_6 15 rfl rfl)
theorem dX5_copy_157 : decode cX5_copy 157 = .ok (.aload_n 0, 1) := dk_42 (dk_at dksX5_copy_6 18 rfl rfl)
theorem dX5_copy_158 : decode cX5_copy 158 = .ok (.getfield 25, 3) := dk_180 0 25 (dk_at dksX5_copy_6 19 rfl rfl)
theorem dX5_copy_161 : decode cX5_copy 161 = .ok (.bipush 24, 2) := dk_16 24 (dk_at dksX5_copy_6 22 rfl rfl)
theorem dX5_copy_163 : decode cX5_copy 163 = .ok (.iload_n 3, 1) := dk_29 (dk_at dksX5_copy_7 0 rfl rfl)
theorem dX5_copy_164 : decode cX5_copy 164 = .ok (.imul, 1) := dk_104 (dk_at dksX5_copy_7 1 rfl rfl)
theorem dX5_copy_165 : decode cX5_copy 165 = .ok (.iload 4, 2) := dk_21 4 (dk_at dksX5_copy_7 2 rfl rfl)
theorem dX5_copy_167 : decode cX5_copy 167 = .ok (.iadd, 1) := dk_96 (dk_at dksX5_copy_7 4 rfl rfl)
theorem dX5_copy_168 : decode cX5_copy 168 = .ok (.iload 6, 2) := dk_21 6 (dk_at dksX5_copy_7 5 rfl rfl)
theorem dX5_copy_170 : decode cX5_copy 170 = .ok (.iadd, 1) := dk_96 (dk_at dksX5_copy_7 7 rfl rfl)
theorem dX5_copy_171 : decode cX5_copy 171 = .ok (.aload_n 0, 1) := dk_42 (dk_at dksX5_copy_7 8 rfl rfl)
theorem dX5_copy_172 : decode cX5_copy 172 = .ok (.getfield 58, 3) := dk_180 0 58 (dk_at dksX5_copy_7 9 rfl rfl)
theorem dX5_copy_175 : decode cX5_copy 175 = .ok (.iload 6, 2) := dk_21 6 (dk_at dksX5_copy_7 12 rfl rfl)
theorem dX5_copy_177 : decode cX5_copy 177 = .ok (.iaload, 1) := dk_46 (dk_at dksX5_copy_7 14 rfl rfl)
theorem dX5_copy_178 : decode cX5_copy 178 = .ok (.iastore, 1) := dk_79 (dk_at dksX5_copy_7 15 rfl rfl)
theorem dX5_copy_179 : decode cX5_copy 179 = .ok (.iinc 6 1, 3) := dk_132 6 1 (dk_at dksX5_copy_7 16 rfl rfl)
theorem dX5_copy_182 : decode cX5_copy 182 = .ok (.goto (-32), 3) := dk_167 255 224 (dk_at dksX5_copy_7 19 rfl rfl)
theorem dX5_copy_185 : decode cX5_copy 185 = .ok (.iload 5, 2) := dk_21 5 (dk_at dksX5_copy_7 22 rfl rfl)
theorem dX5_copy_187 : decode cX5_copy 187 = .ok (.ireturn, 1) := dk_172 (dk_at dksX5_copy_8 0 rfl rfl)
abbrev cX5_lay : ByteArray := prog_18_method_93_code
def yX5_lay : MethodName := ⟨RX5, "lay", "(III)I"⟩
def dkwX5_lay_8 : List UInt8 := [172]
abbrev dktX5_lay_8 : List UInt8 := dkwX5_lay_8 ++ []
def dkwX5_lay_7 : List UInt8 := [21, 6, 96, 42, 180, 0, 25, 16, 24, 29, 104, 21, 6, 96, 46, 79, 132, 6, 1, 167, 255, 222, 21, 5]
abbrev dktX5_lay_7 : List UInt8 := dkwX5_lay_7 ++ dktX5_lay_8
def dkwX5_lay_6 : List UInt8 := [180, 0, 22, 29, 46, 79, 3, 54, 6, 21, 6, 16, 24, 162, 0, 33, 42, 180, 0, 40, 16, 24, 27, 104]
abbrev dktX5_lay_6 : List UInt8 := dkwX5_lay_6 ++ dktX5_lay_7
def dkwX5_lay_5 : List UInt8 := [160, 0, 11, 42, 29, 182, 0, 122, 167, 0, 4, 3, 79, 28, 5, 160, 0, 55, 42, 180, 0, 37, 27, 42]
abbrev dktX5_lay_5 : List UInt8 := dkwX5_lay_5 ++ dktX5_lay_6
def dkwX5_lay_4 : List UInt8 := [28, 4, 160, 0, 12, 42, 29, 3, 182, 0, 88, 167, 0, 4, 29, 79, 42, 180, 0, 34, 27, 28, 4]
abbrev dktX5_lay_4 : List UInt8 := dkwX5_lay_4 ++ dktX5_lay_5
def dkwX5_lay_3 : List UInt8 := [19, 1, 51, 172, 42, 180, 0, 28, 27, 46, 54, 5, 42, 180, 0, 28, 27, 28, 79, 42, 180, 0, 31, 27]
abbrev dktX5_lay_3 : List UInt8 := dkwX5_lay_3 ++ dktX5_lay_4
def dkwX5_lay_2 : List UInt8 := [21, 4, 154, 0, 6, 18, 83, 172, 28, 5, 160, 0, 16, 42, 180, 0, 19, 29, 46, 156, 0, 7]
abbrev dktX5_lay_2 : List UInt8 := dkwX5_lay_2 ++ dktX5_lay_3
def dkwX5_lay_1 : List UInt8 := [160, 0, 14, 29, 184, 1, 45, 153, 0, 7, 4, 167, 0, 4, 3, 54, 4, 27, 184, 1, 62, 153, 0, 8]
abbrev dktX5_lay_1 : List UInt8 := dkwX5_lay_1 ++ dktX5_lay_2
def dkwX5_lay_0 : List UInt8 := [28, 153, 0, 33, 28, 6, 159, 0, 28, 28, 4, 160, 0, 11, 42, 29, 182, 0, 109, 154, 0, 15, 28, 5]
abbrev dktX5_lay_0 : List UInt8 := dkwX5_lay_0 ++ dktX5_lay_1
theorem dksX5_lay_0 : cX5_lay.data.toList.drop 0 = dktX5_lay_0 := by decide +kernel
theorem dksX5_lay_1 : cX5_lay.data.toList.drop 24 = dktX5_lay_1 := dk_seg dksX5_lay_0 24 rfl rfl
theorem dksX5_lay_2 : cX5_lay.data.toList.drop 48 = dktX5_lay_2 := dk_seg dksX5_lay_1 24 rfl rfl
theorem dksX5_lay_3 : cX5_lay.data.toList.drop 70 = dktX5_lay_3 := dk_seg dksX5_lay_2 22 rfl rfl
theorem dksX5_lay_4 : cX5_lay.data.toList.drop 94 = dktX5_lay_4 := dk_seg dksX5_lay_3 24 rfl rfl
theorem dksX5_lay_5 : cX5_lay.data.toList.drop 117 = dktX5_lay_5 := dk_seg dksX5_lay_4 23 rfl rfl
theorem dksX5_lay_6 : cX5_lay.data.toList.drop 141 = dktX5_lay_6 := dk_seg dksX5_lay_5 24 rfl rfl
theorem dksX5_lay_7 : cX5_lay.data.toList.drop 165 = dktX5_lay_7 := dk_seg dksX5_lay_6 24 rfl rfl
theorem dksX5_lay_8 : cX5_lay.data.toList.drop 189 = dktX5_lay_8 := dk_seg dksX5_lay_7 24 rfl rfl
theorem dX5_lay_0 : decode cX5_lay 0 = .ok (.iload_n 2, 1) := dk_28 (dk_at dksX5_lay_0 0 rfl rfl)
theorem dX5_lay_1 : decode cX5_lay 1 = .ok (.ifCond .eq 33, 3) := dk_153 0 33 (dk_at dksX5_lay_0 1 rfl rfl)
theorem dX5_lay_4 : decode cX5_lay 4 = .ok (.iload_n 2, 1) := dk_28 (dk_at dksX5_lay_0 4 rfl rfl)
theorem dX5_lay_5 : decode cX5_lay 5 = .ok (.iconst 3, 1) := dk_6 (dk_at dksX5_lay_0 5 rfl rfl)
theorem dX5_lay_6 : decode cX5_lay 6 = .ok (.if_icmp .eq 28, 3) := dk_159 0 28 (dk_at dksX5_lay_0 6 rfl rfl)
theorem dX5_lay_9 : decode cX5_lay 9 = .ok (.iload_n 2, 1) := dk_28 (dk_at dksX5_lay_0 9 rfl rfl)
theorem dX5_lay_10 : decode cX5_lay 10 = .ok (.iconst 1, 1) := dk_4 (dk_at dksX5_lay_0 10 rfl rfl)
theorem dX5_lay_11 : decode cX5_lay 11 = .ok (.if_icmp .ne 11, 3) := dk_160 0 11 (dk_at dksX5_lay_0 11 rfl rfl)
theorem dX5_lay_14 : decode cX5_lay 14 = .ok (.aload_n 0, 1) := dk_42 (dk_at dksX5_lay_0 14 rfl rfl)
theorem dX5_lay_15 : decode cX5_lay 15 = .ok (.iload_n 3, 1) := dk_29 (dk_at dksX5_lay_0 15 rfl rfl)
theorem dX5_lay_16 : decode cX5_lay 16 = .ok (.invokevirtual 109, 3) := dk_182 0 109 (dk_at dksX5_lay_0 16 rfl rfl)
theorem dX5_lay_19 : decode cX5_lay 19 = .ok (.ifCond .ne 15, 3) := dk_154 0 15 (dk_at dksX5_lay_0 19 rfl rfl)
theorem dX5_lay_22 : decode cX5_lay 22 = .ok (.iload_n 2, 1) := dk_28 (dk_at dksX5_lay_0 22 rfl rfl)
theorem dX5_lay_23 : decode cX5_lay 23 = .ok (.iconst 2, 1) := dk_5 (dk_at dksX5_lay_0 23 rfl rfl)
theorem dX5_lay_24 : decode cX5_lay 24 = .ok (.if_icmp .ne 14, 3) := dk_160 0 14 (dk_at dksX5_lay_1 0 rfl rfl)
theorem dX5_lay_27 : decode cX5_lay 27 = .ok (.iload_n 3, 1) := dk_29 (dk_at dksX5_lay_1 3 rfl rfl)
theorem dX5_lay_28 : decode cX5_lay 28 = .ok (.invokestatic 301, 3) := dk_184 1 45 (dk_at dksX5_lay_1 4 rfl rfl)
theorem dX5_lay_31 : decode cX5_lay 31 = .ok (.ifCond .eq 7, 3) := dk_153 0 7 (dk_at dksX5_lay_1 7 rfl rfl)
theorem dX5_lay_34 : decode cX5_lay 34 = .ok (.iconst 1, 1) := dk_4 (dk_at dksX5_lay_1 10 rfl rfl)
theorem dX5_lay_35 : decode cX5_lay 35 = .ok (.goto 4, 3) := dk_167 0 4 (dk_at dksX5_lay_1 11 rfl rfl)
theorem dX5_lay_38 : decode cX5_lay 38 = .ok (.iconst 0, 1) := dk_3 (dk_at dksX5_lay_1 14 rfl rfl)
theorem dX5_lay_39 : decode cX5_lay 39 = .ok (.istore 4, 2) := dk_54 4 (dk_at dksX5_lay_1 15 rfl rfl)
theorem dX5_lay_41 : decode cX5_lay 41 = .ok (.iload_n 1, 1) := dk_27 (dk_at dksX5_lay_1 17 rfl rfl)
theorem dX5_lay_42 : decode cX5_lay 42 = .ok (.invokestatic 318, 3) := dk_184 1 62 (dk_at dksX5_lay_1 18 rfl rfl)
theorem dX5_lay_45 : decode cX5_lay 45 = .ok (.ifCond .eq 8, 3) := dk_153 0 8 (dk_at dksX5_lay_1 21 rfl rfl)
theorem dX5_lay_48 : decode cX5_lay 48 = .ok (.iload 4, 2) := dk_21 4 (dk_at dksX5_lay_2 0 rfl rfl)
theorem dX5_lay_50 : decode cX5_lay 50 = .ok (.ifCond .ne 6, 3) := dk_154 0 6 (dk_at dksX5_lay_2 2 rfl rfl)
theorem dX5_lay_53 : decode cX5_lay 53 = .ok (.ldc 83, 2) := dk_18 83 (dk_at dksX5_lay_2 5 rfl rfl)
theorem dX5_lay_55 : decode cX5_lay 55 = .ok (.ireturn, 1) := dk_172 (dk_at dksX5_lay_2 7 rfl rfl)
theorem dX5_lay_56 : decode cX5_lay 56 = .ok (.iload_n 2, 1) := dk_28 (dk_at dksX5_lay_2 8 rfl rfl)
theorem dX5_lay_57 : decode cX5_lay 57 = .ok (.iconst 2, 1) := dk_5 (dk_at dksX5_lay_2 9 rfl rfl)
theorem dX5_lay_58 : decode cX5_lay 58 = .ok (.if_icmp .ne 16, 3) := dk_160 0 16 (dk_at dksX5_lay_2 10 rfl rfl)
theorem dX5_lay_61 : decode cX5_lay 61 = .ok (.aload_n 0, 1) := dk_42 (dk_at dksX5_lay_2 13 rfl rfl)
theorem dX5_lay_62 : decode cX5_lay 62 = .ok (.getfield 19, 3) := dk_180 0 19 (dk_at dksX5_lay_2 14 rfl rfl)
theorem dX5_lay_65 : decode cX5_lay 65 = .ok (.iload_n 3, 1) := dk_29 (dk_at dksX5_lay_2 17 rfl rfl)
theorem dX5_lay_66 : decode cX5_lay 66 = .ok (.iaload, 1) := dk_46 (dk_at dksX5_lay_2 18 rfl rfl)
theorem dX5_lay_67 : decode cX5_lay 67 = .ok (.ifCond .ge 7, 3) := dk_156 0 7 (dk_at dksX5_lay_2 19 rfl rfl)
theorem dX5_lay_70 : decode cX5_lay 70 = .ok (.ldc_w 307, 3) := dk_19 1 51 (dk_at dksX5_lay_3 0 rfl rfl)
theorem dX5_lay_73 : decode cX5_lay 73 = .ok (.ireturn, 1) := dk_172 (dk_at dksX5_lay_3 3 rfl rfl)
theorem dX5_lay_74 : decode cX5_lay 74 = .ok (.aload_n 0, 1) := dk_42 (dk_at dksX5_lay_3 4 rfl rfl)
theorem dX5_lay_75 : decode cX5_lay 75 = .ok (.getfield 28, 3) := dk_180 0 28 (dk_at dksX5_lay_3 5 rfl rfl)
theorem dX5_lay_78 : decode cX5_lay 78 = .ok (.iload_n 1, 1) := dk_27 (dk_at dksX5_lay_3 8 rfl rfl)
theorem dX5_lay_79 : decode cX5_lay 79 = .ok (.iaload, 1) := dk_46 (dk_at dksX5_lay_3 9 rfl rfl)
theorem dX5_lay_80 : decode cX5_lay 80 = .ok (.istore 5, 2) := dk_54 5 (dk_at dksX5_lay_3 10 rfl rfl)
theorem dX5_lay_82 : decode cX5_lay 82 = .ok (.aload_n 0, 1) := dk_42 (dk_at dksX5_lay_3 12 rfl rfl)
theorem dX5_lay_83 : decode cX5_lay 83 = .ok (.getfield 28, 3) := dk_180 0 28 (dk_at dksX5_lay_3 13 rfl rfl)
theorem dX5_lay_86 : decode cX5_lay 86 = .ok (.iload_n 1, 1) := dk_27 (dk_at dksX5_lay_3 16 rfl rfl)
theorem dX5_lay_87 : decode cX5_lay 87 = .ok (.iload_n 2, 1) := dk_28 (dk_at dksX5_lay_3 17 rfl rfl)
theorem dX5_lay_88 : decode cX5_lay 88 = .ok (.iastore, 1) := dk_79 (dk_at dksX5_lay_3 18 rfl rfl)
theorem dX5_lay_89 : decode cX5_lay 89 = .ok (.aload_n 0, 1) := dk_42 (dk_at dksX5_lay_3 19 rfl rfl)
theorem dX5_lay_90 : decode cX5_lay 90 = .ok (.getfield 31, 3) := dk_180 0 31 (dk_at dksX5_lay_3 20 rfl rfl)
theorem dX5_lay_93 : decode cX5_lay 93 = .ok (.iload_n 1, 1) := dk_27 (dk_at dksX5_lay_3 23 rfl rfl)
theorem dX5_lay_94 : decode cX5_lay 94 = .ok (.iload_n 2, 1) := dk_28 (dk_at dksX5_lay_4 0 rfl rfl)
theorem dX5_lay_95 : decode cX5_lay 95 = .ok (.iconst 1, 1) := dk_4 (dk_at dksX5_lay_4 1 rfl rfl)
theorem dX5_lay_96 : decode cX5_lay 96 = .ok (.if_icmp .ne 12, 3) := dk_160 0 12 (dk_at dksX5_lay_4 2 rfl rfl)
theorem dX5_lay_99 : decode cX5_lay 99 = .ok (.aload_n 0, 1) := dk_42 (dk_at dksX5_lay_4 5 rfl rfl)
theorem dX5_lay_100 : decode cX5_lay 100 = .ok (.iload_n 3, 1) := dk_29 (dk_at dksX5_lay_4 6 rfl rfl)
theorem dX5_lay_101 : decode cX5_lay 101 = .ok (.iconst 0, 1) := dk_3 (dk_at dksX5_lay_4 7 rfl rfl)
theorem dX5_lay_102 : decode cX5_lay 102 = .ok (.invokevirtual 88, 3) := dk_182 0 88 (dk_at dksX5_lay_4 8 rfl rfl)
theorem dX5_lay_105 : decode cX5_lay 105 = .ok (.goto 4, 3) := dk_167 0 4 (dk_at dksX5_lay_4 11 rfl rfl)
theorem dX5_lay_108 : decode cX5_lay 108 = .ok (.iload_n 3, 1) := dk_29 (dk_at dksX5_lay_4 14 rfl rfl)
theorem dX5_lay_109 : decode cX5_lay 109 = .ok (.iastore, 1) := dk_79 (dk_at dksX5_lay_4 15 rfl rfl)
theorem dX5_lay_110 : decode cX5_lay 110 = .ok (.aload_n 0, 1) := dk_42 (dk_at dksX5_lay_4 16 rfl rfl)
theorem dX5_lay_111 : decode cX5_lay 111 = .ok (.getfield 34, 3) := dk_180 0 34 (dk_at dksX5_lay_4 17 rfl rfl)
theorem dX5_lay_114 : decode cX5_lay 114 = .ok (.iload_n 1, 1) := dk_27 (dk_at dksX5_lay_4 20 rfl rfl)
theorem dX5_lay_115 : decode cX5_lay 115 = .ok (.iload_n 2, 1) := dk_28 (dk_at dksX5_lay_4 21 rfl rfl)
theorem dX5_lay_116 : decode cX5_lay 116 = .ok (.iconst 1, 1) := dk_4 (dk_at dksX5_lay_4 22 rfl rfl)
theorem dX5_lay_117 : decode cX5_lay 117 = .ok (.if_icmp .ne 11, 3) := dk_160 0 11 (dk_at dksX5_lay_5 0 rfl rfl)
theorem dX5_lay_120 : decode cX5_lay 120 = .ok (.aload_n 0, 1) := dk_42 (dk_at dksX5_lay_5 3 rfl rfl)
theorem dX5_lay_121 : decode cX5_lay 121 = .ok (.iload_n 3, 1) := dk_29 (dk_at dksX5_lay_5 4 rfl rfl)
theorem dX5_lay_122 : decode cX5_lay 122 = .ok (.invokevirtual 122, 3) := dk_182 0 122 (dk_at dksX5_lay_5 5 rfl rfl)
theorem dX5_lay_125 : decode cX5_lay 125 = .ok (.goto 4, 3) := dk_167 0 4 (dk_at dksX5_lay_5 8 rfl rfl)
theorem dX5_lay_128 : decode cX5_lay 128 = .ok (.iconst 0, 1) := dk_3 (dk_at dksX5_lay_5 11 rfl rfl)
theorem dX5_lay_129 : decode cX5_lay 129 = .ok (.iastore, 1) := dk_79 (dk_at dksX5_lay_5 12 rfl rfl)
theorem dX5_lay_130 : decode cX5_lay 130 = .ok (.iload_n 2, 1) := dk_28 (dk_at dksX5_lay_5 13 rfl rfl)
theorem dX5_lay_131 : decode cX5_lay 131 = .ok (.iconst 2, 1) := dk_5 (dk_at dksX5_lay_5 14 rfl rfl)
theorem dX5_lay_132 : decode cX5_lay 132 = .ok (.if_icmp .ne 55, 3) := dk_160 0 55 (dk_at dksX5_lay_5 15 rfl rfl)
theorem dX5_lay_135 : decode cX5_lay 135 = .ok (.aload_n 0, 1) := dk_42 (dk_at dksX5_lay_5 18 rfl rfl)
theorem dX5_lay_136 : decode cX5_lay 136 = .ok (.getfield 37, 3) := dk_180 0 37 (dk_at dksX5_lay_5 19 rfl rfl)
theorem dX5_lay_139 : decode cX5_lay 139 = .ok (.iload_n 1, 1) := dk_27 (dk_at dksX5_lay_5 22 rfl rfl)
theorem dX5_lay_140 : decode cX5_lay 140 = .ok (.aload_n 0, 1) := dk_42 (dk_at dksX5_lay_5 23 rfl rfl)
theorem dX5_lay_141 : decode cX5_lay 141 = .ok (.getfield 22, 3) := dk_180 0 22 (dk_at dksX5_lay_6 0 rfl rfl)
theorem dX5_lay_144 : decode cX5_lay 144 = .ok (.iload_n 3, 1) := dk_29 (dk_at dksX5_lay_6 3 rfl rfl)
theorem dX5_lay_145 : decode cX5_lay 145 = .ok (.iaload, 1) := dk_46 (dk_at dksX5_lay_6 4 rfl rfl)
theorem dX5_lay_146 : decode cX5_lay 146 = .ok (.iastore, 1) := dk_79 (dk_at dksX5_lay_6 5 rfl rfl)
theorem dX5_lay_147 : decode cX5_lay 147 = .ok (.iconst 0, 1) := dk_3 (dk_at dksX5_lay_6 6 rfl rfl)
theorem dX5_lay_148 : decode cX5_lay 148 = .ok (.istore 6, 2) := dk_54 6 (dk_at dksX5_lay_6 7 rfl rfl)
theorem dX5_lay_150 : decode cX5_lay 150 = .ok (.iload 6, 2) := dk_21 6 (dk_at dksX5_lay_6 9 rfl rfl)
theorem dX5_lay_152 : decode cX5_lay 152 = .ok (.bipush 24, 2) := dk_16 24 (dk_at dksX5_lay_6 11 rfl rfl)
theorem dX5_lay_154 : decode cX5_lay 154 = .ok (.if_icmp .ge 33, 3) := dk_162 0 33 (dk_at dksX5_lay_6 13 rfl rfl)
theorem dX5_lay_157 : decode cX5_lay 157 = .ok (.aload_n 0, 1) := dk_42 (dk_at dksX5_lay_6 16 rfl rfl)
theorem dX5_lay_158 : decode cX5_lay 158 = .ok (.getfield 40, 3) := dk_180 0 40 (dk_at dksX5_lay_6 17 rfl rfl)
theorem dX5_lay_161 : decode cX5_lay 161 = .ok (.bipush 24, 2) := dk_16 24 (dk_at dksX5_lay_6 20 rfl rfl)
theorem dX5_lay_163 : decode cX5_lay 163 = .ok (.iload_n 1, 1) := dk_27 (dk_at dksX5_lay_6 22 rfl rfl)
theorem dX5_lay_164 : decode cX5_lay 164 = .ok (.imul, 1) := dk_104 (dk_at dksX5_lay_6 23 rfl rfl)
theorem dX5_lay_165 : decode cX5_lay 165 = .ok (.iload 6, 2) := dk_21 6 (dk_at dksX5_lay_7 0 rfl rfl)
theorem dX5_lay_167 : decode cX5_lay 167 = .ok (.iadd, 1) := dk_96 (dk_at dksX5_lay_7 2 rfl rfl)
theorem dX5_lay_168 : decode cX5_lay 168 = .ok (.aload_n 0, 1) := dk_42 (dk_at dksX5_lay_7 3 rfl rfl)
theorem dX5_lay_169 : decode cX5_lay 169 = .ok (.getfield 25, 3) := dk_180 0 25 (dk_at dksX5_lay_7 4 rfl rfl)
theorem dX5_lay_172 : decode cX5_lay 172 = .ok (.bipush 24, 2) := dk_16 24 (dk_at dksX5_lay_7 7 rfl rfl)
theorem dX5_lay_174 : decode cX5_lay 174 = .ok (.iload_n 3, 1) := dk_29 (dk_at dksX5_lay_7 9 rfl rfl)
theorem dX5_lay_175 : decode cX5_lay 175 = .ok (.imul, 1) := dk_104 (dk_at dksX5_lay_7 10 rfl rfl)
theorem dX5_lay_176 : decode cX5_lay 176 = .ok (.iload 6, 2) := dk_21 6 (dk_at dksX5_lay_7 11 rfl rfl)
theorem dX5_lay_178 : decode cX5_lay 178 = .ok (.iadd, 1) := dk_96 (dk_at dksX5_lay_7 13 rfl rfl)
theorem dX5_lay_179 : decode cX5_lay 179 = .ok (.iaload, 1) := dk_46 (dk_at dksX5_lay_7 14 rfl rfl)
theorem dX5_lay_180 : decode cX5_lay 180 = .ok (.iastore, 1) := dk_79 (dk_at dksX5_lay_7 15 rfl rfl)
theorem dX5_lay_181 : decode cX5_lay 181 = .ok (.iinc 6 1, 3) := dk_132 6 1 (dk_at dksX5_lay_7 16 rfl rfl)
theorem dX5_lay_184 : decode cX5_lay 184 = .ok (.goto (-34), 3) := dk_167 255 222 (dk_at dksX5_lay_7 19 rfl rfl)
theorem dX5_lay_187 : decode cX5_lay 187 = .ok (.iload 5, 2) := dk_21 5 (dk_at dksX5_lay_7 22 rfl rfl)
theorem dX5_lay_189 : decode cX5_lay 189 = .ok (.ireturn, 1) := dk_172 (dk_at dksX5_lay_8 0 rfl rfl)
abbrev cX5_isSlot : ByteArray := prog_18_method_92_code
def yX5_isSlot : MethodName := ⟨RX5, "isSlot", "(I)Z"⟩
def dkwX5_isSlot_0 : List UInt8 := [26, 133, 9, 20, 1, 60, 184, 0, 68, 172]
abbrev dktX5_isSlot_0 : List UInt8 := dkwX5_isSlot_0 ++ []
theorem dksX5_isSlot_0 : cX5_isSlot.data.toList.drop 0 = dktX5_isSlot_0 := by decide +kernel
theorem dX5_isSlot_0 : decode cX5_isSlot 0 = .ok (.iload_n 0, 1) := dk_26 (dk_at dksX5_isSlot_0 0 rfl rfl)
theorem dX5_isSlot_1 : decode cX5_isSlot 1 = .ok (.i2l, 1) := dk_133 (dk_at dksX5_isSlot_0 1 rfl rfl)
theorem dX5_isSlot_2 : decode cX5_isSlot 2 = .ok (.lconst 0, 1) := dk_9 (dk_at dksX5_isSlot_0 2 rfl rfl)
theorem dX5_isSlot_3 : decode cX5_isSlot 3 = .ok (.ldc2_w 316, 3) := dk_20 1 60 (dk_at dksX5_isSlot_0 3 rfl rfl)
theorem dX5_isSlot_6 : decode cX5_isSlot 6 = .ok (.invokestatic 68, 3) := dk_184 0 68 (dk_at dksX5_isSlot_0 6 rfl rfl)
theorem dX5_isSlot_9 : decode cX5_isSlot 9 = .ok (.ireturn, 1) := dk_172 (dk_at dksX5_isSlot_0 9 rfl rfl)
abbrev cX5_ask : ByteArray := prog_18_method_94_code
def yX5_ask : MethodName := ⟨RX5, "ask", "(II)I"⟩
def dkwX5_ask_2 : List UInt8 := [180, 0, 31, 27, 46, 28, 184, 0, 128, 153, 0, 12, 42, 180, 0, 34, 27, 46, 167, 0, 5, 18, 132, 172]
abbrev dktX5_ask_2 : List UInt8 := dkwX5_ask_2 ++ []
def dkwX5_ask_1 : List UInt8 := [180, 0, 28, 27, 46, 154, 0, 7, 19, 1, 51, 172, 42, 180, 0, 28, 27, 46, 4, 160, 0, 25, 42]
abbrev dktX5_ask_1 : List UInt8 := dkwX5_ask_1 ++ dktX5_ask_2
def dkwX5_ask_0 : List UInt8 := [27, 184, 1, 62, 153, 0, 15, 28, 133, 9, 20, 0, 77, 184, 0, 68, 154, 0, 6, 18, 83, 172, 42]
abbrev dktX5_ask_0 : List UInt8 := dkwX5_ask_0 ++ dktX5_ask_1
theorem dksX5_ask_0 : cX5_ask.data.toList.drop 0 = dktX5_ask_0 := by decide +kernel
theorem dksX5_ask_1 : cX5_ask.data.toList.drop 23 = dktX5_ask_1 := dk_seg dksX5_ask_0 23 rfl rfl
theorem dksX5_ask_2 : cX5_ask.data.toList.drop 46 = dktX5_ask_2 := dk_seg dksX5_ask_1 23 rfl rfl
theorem dX5_ask_0 : decode cX5_ask 0 = .ok (.iload_n 1, 1) := dk_27 (dk_at dksX5_ask_0 0 rfl rfl)
theorem dX5_ask_1 : decode cX5_ask 1 = .ok (.invokestatic 318, 3) := dk_184 1 62 (dk_at dksX5_ask_0 1 rfl rfl)
theorem dX5_ask_4 : decode cX5_ask 4 = .ok (.ifCond .eq 15, 3) := dk_153 0 15 (dk_at dksX5_ask_0 4 rfl rfl)
theorem dX5_ask_7 : decode cX5_ask 7 = .ok (.iload_n 2, 1) := dk_28 (dk_at dksX5_ask_0 7 rfl rfl)
theorem dX5_ask_8 : decode cX5_ask 8 = .ok (.i2l, 1) := dk_133 (dk_at dksX5_ask_0 8 rfl rfl)
theorem dX5_ask_9 : decode cX5_ask 9 = .ok (.lconst 0, 1) := dk_9 (dk_at dksX5_ask_0 9 rfl rfl)
theorem dX5_ask_10 : decode cX5_ask 10 = .ok (.ldc2_w 77, 3) := dk_20 0 77 (dk_at dksX5_ask_0 10 rfl rfl)
theorem dX5_ask_13 : decode cX5_ask 13 = .ok (.invokestatic 68, 3) := dk_184 0 68 (dk_at dksX5_ask_0 13 rfl rfl)
theorem dX5_ask_16 : decode cX5_ask 16 = .ok (.ifCond .ne 6, 3) := dk_154 0 6 (dk_at dksX5_ask_0 16 rfl rfl)
theorem dX5_ask_19 : decode cX5_ask 19 = .ok (.ldc 83, 2) := dk_18 83 (dk_at dksX5_ask_0 19 rfl rfl)
theorem dX5_ask_21 : decode cX5_ask 21 = .ok (.ireturn, 1) := dk_172 (dk_at dksX5_ask_0 21 rfl rfl)
theorem dX5_ask_22 : decode cX5_ask 22 = .ok (.aload_n 0, 1) := dk_42 (dk_at dksX5_ask_0 22 rfl rfl)
theorem dX5_ask_23 : decode cX5_ask 23 = .ok (.getfield 28, 3) := dk_180 0 28 (dk_at dksX5_ask_1 0 rfl rfl)
theorem dX5_ask_26 : decode cX5_ask 26 = .ok (.iload_n 1, 1) := dk_27 (dk_at dksX5_ask_1 3 rfl rfl)
theorem dX5_ask_27 : decode cX5_ask 27 = .ok (.iaload, 1) := dk_46 (dk_at dksX5_ask_1 4 rfl rfl)
theorem dX5_ask_28 : decode cX5_ask 28 = .ok (.ifCond .ne 7, 3) := dk_154 0 7 (dk_at dksX5_ask_1 5 rfl rfl)
theorem dX5_ask_31 : decode cX5_ask 31 = .ok (.ldc_w 307, 3) := dk_19 1 51 (dk_at dksX5_ask_1 8 rfl rfl)
theorem dX5_ask_34 : decode cX5_ask 34 = .ok (.ireturn, 1) := dk_172 (dk_at dksX5_ask_1 11 rfl rfl)
theorem dX5_ask_35 : decode cX5_ask 35 = .ok (.aload_n 0, 1) := dk_42 (dk_at dksX5_ask_1 12 rfl rfl)
theorem dX5_ask_36 : decode cX5_ask 36 = .ok (.getfield 28, 3) := dk_180 0 28 (dk_at dksX5_ask_1 13 rfl rfl)
theorem dX5_ask_39 : decode cX5_ask 39 = .ok (.iload_n 1, 1) := dk_27 (dk_at dksX5_ask_1 16 rfl rfl)
theorem dX5_ask_40 : decode cX5_ask 40 = .ok (.iaload, 1) := dk_46 (dk_at dksX5_ask_1 17 rfl rfl)
theorem dX5_ask_41 : decode cX5_ask 41 = .ok (.iconst 1, 1) := dk_4 (dk_at dksX5_ask_1 18 rfl rfl)
theorem dX5_ask_42 : decode cX5_ask 42 = .ok (.if_icmp .ne 25, 3) := dk_160 0 25 (dk_at dksX5_ask_1 19 rfl rfl)
theorem dX5_ask_45 : decode cX5_ask 45 = .ok (.aload_n 0, 1) := dk_42 (dk_at dksX5_ask_1 22 rfl rfl)
theorem dX5_ask_46 : decode cX5_ask 46 = .ok (.getfield 31, 3) := dk_180 0 31 (dk_at dksX5_ask_2 0 rfl rfl)
theorem dX5_ask_49 : decode cX5_ask 49 = .ok (.iload_n 1, 1) := dk_27 (dk_at dksX5_ask_2 3 rfl rfl)
theorem dX5_ask_50 : decode cX5_ask 50 = .ok (.iaload, 1) := dk_46 (dk_at dksX5_ask_2 4 rfl rfl)
theorem dX5_ask_51 : decode cX5_ask 51 = .ok (.iload_n 2, 1) := dk_28 (dk_at dksX5_ask_2 5 rfl rfl)
theorem dX5_ask_52 : decode cX5_ask 52 = .ok (.invokestatic 128, 3) := dk_184 0 128 (dk_at dksX5_ask_2 6 rfl rfl)
theorem dX5_ask_55 : decode cX5_ask 55 = .ok (.ifCond .eq 12, 3) := dk_153 0 12 (dk_at dksX5_ask_2 9 rfl rfl)
theorem dX5_ask_58 : decode cX5_ask 58 = .ok (.aload_n 0, 1) := dk_42 (dk_at dksX5_ask_2 12 rfl rfl)
theorem dX5_ask_59 : decode cX5_ask 59 = .ok (.getfield 34, 3) := dk_180 0 34 (dk_at dksX5_ask_2 13 rfl rfl)
theorem dX5_ask_62 : decode cX5_ask 62 = .ok (.iload_n 1, 1) := dk_27 (dk_at dksX5_ask_2 16 rfl rfl)
theorem dX5_ask_63 : decode cX5_ask 63 = .ok (.iaload, 1) := dk_46 (dk_at dksX5_ask_2 17 rfl rfl)
theorem dX5_ask_64 : decode cX5_ask 64 = .ok (.goto 5, 3) := dk_167 0 5 (dk_at dksX5_ask_2 18 rfl rfl)
theorem dX5_ask_67 : decode cX5_ask 67 = .ok (.ldc 132, 2) := dk_18 132 (dk_at dksX5_ask_2 21 rfl rfl)
theorem dX5_ask_69 : decode cX5_ask 69 = .ok (.ireturn, 1) := dk_172 (dk_at dksX5_ask_2 23 rfl rfl)
abbrev cX5_item : ByteArray := prog_18_method_95_code
def yX5_item : MethodName := ⟨RX5, "item", "(II)I"⟩
def dkwX5_item_3 : List UInt8 := [29, 18, 67, 160, 0, 8, 18, 132, 167, 0, 4, 29, 172]
abbrev dktX5_item_3 : List UInt8 := dkwX5_item_3 ++ []
def dkwX5_item_2 : List UInt8 := [100, 133, 184, 0, 68, 154, 0, 7, 19, 1, 52, 172, 42, 180, 0, 40, 16, 24, 27, 104, 28, 96, 46, 62]
abbrev dktX5_item_2 : List UInt8 := dkwX5_item_2 ++ dktX5_item_3
def dkwX5_item_1 : List UInt8 := [27, 46, 154, 0, 9, 19, 1, 51, 167, 0, 5, 18, 132, 172, 28, 133, 9, 42, 180, 0, 37, 27, 46, 4]
abbrev dktX5_item_1 : List UInt8 := dkwX5_item_1 ++ dktX5_item_2
def dkwX5_item_0 : List UInt8 := [27, 184, 1, 62, 154, 0, 6, 18, 83, 172, 42, 180, 0, 28, 27, 46, 5, 159, 0, 21, 42, 180, 0, 28]
abbrev dktX5_item_0 : List UInt8 := dkwX5_item_0 ++ dktX5_item_1
theorem dksX5_item_0 : cX5_item.data.toList.drop 0 = dktX5_item_0 := by decide +kernel
theorem dksX5_item_1 : cX5_item.data.toList.drop 24 = dktX5_item_1 := dk_seg dksX5_item_0 24 rfl rfl
theorem dksX5_item_2 : cX5_item.data.toList.drop 48 = dktX5_item_2 := dk_seg dksX5_item_1 24 rfl rfl
theorem dksX5_item_3 : cX5_item.data.toList.drop 72 = dktX5_item_3 := dk_seg dksX5_item_2 24 rfl rfl
theorem dX5_item_0 : decode cX5_item 0 = .ok (.iload_n 1, 1) := dk_27 (dk_at dksX5_item_0 0 rfl rfl)
theorem dX5_item_1 : decode cX5_item 1 = .ok (.invokestatic 318, 3) := dk_184 1 62 (dk_at dksX5_item_0 1 rfl rfl)
theorem dX5_item_4 : decode cX5_item 4 = .ok (.ifCond .ne 6, 3) := dk_154 0 6 (dk_at dksX5_item_0 4 rfl rfl)
theorem dX5_item_7 : decode cX5_item 7 = .ok (.ldc 83, 2) := dk_18 83 (dk_at dksX5_item_0 7 rfl rfl)
theorem dX5_item_9 : decode cX5_item 9 = .ok (.ireturn, 1) := dk_172 (dk_at dksX5_item_0 9 rfl rfl)
theorem dX5_item_10 : decode cX5_item 10 = .ok (.aload_n 0, 1) := dk_42 (dk_at dksX5_item_0 10 rfl rfl)
theorem dX5_item_11 : decode cX5_item 11 = .ok (.getfield 28, 3) := dk_180 0 28 (dk_at dksX5_item_0 11 rfl rfl)
theorem dX5_item_14 : decode cX5_item 14 = .ok (.iload_n 1, 1) := dk_27 (dk_at dksX5_item_0 14 rfl rfl)
theorem dX5_item_15 : decode cX5_item 15 = .ok (.iaload, 1) := dk_46 (dk_at dksX5_item_0 15 rfl rfl)
theorem dX5_item_16 : decode cX5_item 16 = .ok (.iconst 2, 1) := dk_5 (dk_at dksX5_item_0 16 rfl rfl)
theorem dX5_item_17 : decode cX5_item 17 = .ok (.if_icmp .eq 21, 3) := dk_159 0 21 (dk_at dksX5_item_0 17 rfl rfl)
theorem dX5_item_20 : decode cX5_item 20 = .ok (.aload_n 0, 1) := dk_42 (dk_at dksX5_item_0 20 rfl rfl)
theorem dX5_item_21 : decode cX5_item 21 = .ok (.getfield 28, 3) := dk_180 0 28 (dk_at dksX5_item_0 21 rfl rfl)
theorem dX5_item_24 : decode cX5_item 24 = .ok (.iload_n 1, 1) := dk_27 (dk_at dksX5_item_1 0 rfl rfl)
theorem dX5_item_25 : decode cX5_item 25 = .ok (.iaload, 1) := dk_46 (dk_at dksX5_item_1 1 rfl rfl)
theorem dX5_item_26 : decode cX5_item 26 = .ok (.ifCond .ne 9, 3) := dk_154 0 9 (dk_at dksX5_item_1 2 rfl rfl)
theorem dX5_item_29 : decode cX5_item 29 = .ok (.ldc_w 307, 3) := dk_19 1 51 (dk_at dksX5_item_1 5 rfl rfl)
theorem dX5_item_32 : decode cX5_item 32 = .ok (.goto 5, 3) := dk_167 0 5 (dk_at dksX5_item_1 8 rfl rfl)
theorem dX5_item_35 : decode cX5_item 35 = .ok (.ldc 132, 2) := dk_18 132 (dk_at dksX5_item_1 11 rfl rfl)
theorem dX5_item_37 : decode cX5_item 37 = .ok (.ireturn, 1) := dk_172 (dk_at dksX5_item_1 13 rfl rfl)
theorem dX5_item_38 : decode cX5_item 38 = .ok (.iload_n 2, 1) := dk_28 (dk_at dksX5_item_1 14 rfl rfl)
theorem dX5_item_39 : decode cX5_item 39 = .ok (.i2l, 1) := dk_133 (dk_at dksX5_item_1 15 rfl rfl)
theorem dX5_item_40 : decode cX5_item 40 = .ok (.lconst 0, 1) := dk_9 (dk_at dksX5_item_1 16 rfl rfl)
theorem dX5_item_41 : decode cX5_item 41 = .ok (.aload_n 0, 1) := dk_42 (dk_at dksX5_item_1 17 rfl rfl)
theorem dX5_item_42 : decode cX5_item 42 = .ok (.getfield 37, 3) := dk_180 0 37 (dk_at dksX5_item_1 18 rfl rfl)
theorem dX5_item_45 : decode cX5_item 45 = .ok (.iload_n 1, 1) := dk_27 (dk_at dksX5_item_1 21 rfl rfl)
theorem dX5_item_46 : decode cX5_item 46 = .ok (.iaload, 1) := dk_46 (dk_at dksX5_item_1 22 rfl rfl)
theorem dX5_item_47 : decode cX5_item 47 = .ok (.iconst 1, 1) := dk_4 (dk_at dksX5_item_1 23 rfl rfl)
theorem dX5_item_48 : decode cX5_item 48 = .ok (.isub, 1) := dk_100 (dk_at dksX5_item_2 0 rfl rfl)
theorem dX5_item_49 : decode cX5_item 49 = .ok (.i2l, 1) := dk_133 (dk_at dksX5_item_2 1 rfl rfl)
theorem dX5_item_50 : decode cX5_item 50 = .ok (.invokestatic 68, 3) := dk_184 0 68 (dk_at dksX5_item_2 2 rfl rfl)
theorem dX5_item_53 : decode cX5_item 53 = .ok (.ifCond .ne 7, 3) := dk_154 0 7 (dk_at dksX5_item_2 5 rfl rfl)
theorem dX5_item_56 : decode cX5_item 56 = .ok (.ldc_w 308, 3) := dk_19 1 52 (dk_at dksX5_item_2 8 rfl rfl)
theorem dX5_item_59 : decode cX5_item 59 = .ok (.ireturn, 1) := dk_172 (dk_at dksX5_item_2 11 rfl rfl)
theorem dX5_item_60 : decode cX5_item 60 = .ok (.aload_n 0, 1) := dk_42 (dk_at dksX5_item_2 12 rfl rfl)
theorem dX5_item_61 : decode cX5_item 61 = .ok (.getfield 40, 3) := dk_180 0 40 (dk_at dksX5_item_2 13 rfl rfl)
theorem dX5_item_64 : decode cX5_item 64 = .ok (.bipush 24, 2) := dk_16 24 (dk_at dksX5_item_2 16 rfl rfl)
theorem dX5_item_66 : decode cX5_item 66 = .ok (.iload_n 1, 1) := dk_27 (dk_at dksX5_item_2 18 rfl rfl)
theorem dX5_item_67 : decode cX5_item 67 = .ok (.imul, 1) := dk_104 (dk_at dksX5_item_2 19 rfl rfl)
theorem dX5_item_68 : decode cX5_item 68 = .ok (.iload_n 2, 1) := dk_28 (dk_at dksX5_item_2 20 rfl rfl)
theorem dX5_item_69 : decode cX5_item 69 = .ok (.iadd, 1) := dk_96 (dk_at dksX5_item_2 21 rfl rfl)
theorem dX5_item_70 : decode cX5_item 70 = .ok (.iaload, 1) := dk_46 (dk_at dksX5_item_2 22 rfl rfl)
theorem dX5_item_71 : decode cX5_item 71 = .ok (.istore_n 3, 1) := dk_62 (dk_at dksX5_item_2 23 rfl rfl)
theorem dX5_item_72 : decode cX5_item 72 = .ok (.iload_n 3, 1) := dk_29 (dk_at dksX5_item_3 0 rfl rfl)
theorem dX5_item_73 : decode cX5_item 73 = .ok (.ldc 67, 2) := dk_18 67 (dk_at dksX5_item_3 1 rfl rfl)
theorem dX5_item_75 : decode cX5_item 75 = .ok (.if_icmp .ne 8, 3) := dk_160 0 8 (dk_at dksX5_item_3 3 rfl rfl)
theorem dX5_item_78 : decode cX5_item 78 = .ok (.ldc 132, 2) := dk_18 132 (dk_at dksX5_item_3 6 rfl rfl)
theorem dX5_item_80 : decode cX5_item 80 = .ok (.goto 4, 3) := dk_167 0 4 (dk_at dksX5_item_3 8 rfl rfl)
theorem dX5_item_83 : decode cX5_item 83 = .ok (.iload_n 3, 1) := dk_29 (dk_at dksX5_item_3 11 rfl rfl)
theorem dX5_item_84 : decode cX5_item 84 = .ok (.ireturn, 1) := dk_172 (dk_at dksX5_item_3 12 rfl rfl)
abbrev cX5_rest : ByteArray := prog_18_method_96_code
def yX5_rest : MethodName := ⟨RX5, "rest", "(II)I"⟩
def dkwX5_rest_2 : List UInt8 := [42, 180, 0, 31, 27, 46, 28, 112, 172]
abbrev dktX5_rest_2 : List UInt8 := dkwX5_rest_2 ++ []
def dkwX5_rest_1 : List UInt8 := [27, 46, 154, 0, 9, 19, 1, 51, 167, 0, 5, 18, 132, 172, 28, 154, 0, 9, 19, 1, 65, 167, 0, 11]
abbrev dktX5_rest_1 : List UInt8 := dkwX5_rest_1 ++ dktX5_rest_2
def dkwX5_rest_0 : List UInt8 := [27, 184, 1, 62, 154, 0, 6, 18, 83, 172, 42, 180, 0, 28, 27, 46, 6, 159, 0, 21, 42, 180, 0, 28]
abbrev dktX5_rest_0 : List UInt8 := dkwX5_rest_0 ++ dktX5_rest_1
theorem dksX5_rest_0 : cX5_rest.data.toList.drop 0 = dktX5_rest_0 := by decide +kernel
theorem dksX5_rest_1 : cX5_rest.data.toList.drop 24 = dktX5_rest_1 := dk_seg dksX5_rest_0 24 rfl rfl
theorem dksX5_rest_2 : cX5_rest.data.toList.drop 48 = dktX5_rest_2 := dk_seg dksX5_rest_1 24 rfl rfl
theorem dX5_rest_0 : decode cX5_rest 0 = .ok (.iload_n 1, 1) := dk_27 (dk_at dksX5_rest_0 0 rfl rfl)
theorem dX5_rest_1 : decode cX5_rest 1 = .ok (.invokestatic 318, 3) := dk_184 1 62 (dk_at dksX5_rest_0 1 rfl rfl)
theorem dX5_rest_4 : decode cX5_rest 4 = .ok (.ifCond .ne 6, 3) := dk_154 0 6 (dk_at dksX5_rest_0 4 rfl rfl)
theorem dX5_rest_7 : decode cX5_rest 7 = .ok (.ldc 83, 2) := dk_18 83 (dk_at dksX5_rest_0 7 rfl rfl)
theorem dX5_rest_9 : decode cX5_rest 9 = .ok (.ireturn, 1) := dk_172 (dk_at dksX5_rest_0 9 rfl rfl)
theorem dX5_rest_10 : decode cX5_rest 10 = .ok (.aload_n 0, 1) := dk_42 (dk_at dksX5_rest_0 10 rfl rfl)
theorem dX5_rest_11 : decode cX5_rest 11 = .ok (.getfield 28, 3) := dk_180 0 28 (dk_at dksX5_rest_0 11 rfl rfl)
theorem dX5_rest_14 : decode cX5_rest 14 = .ok (.iload_n 1, 1) := dk_27 (dk_at dksX5_rest_0 14 rfl rfl)
theorem dX5_rest_15 : decode cX5_rest 15 = .ok (.iaload, 1) := dk_46 (dk_at dksX5_rest_0 15 rfl rfl)
theorem dX5_rest_16 : decode cX5_rest 16 = .ok (.iconst 3, 1) := dk_6 (dk_at dksX5_rest_0 16 rfl rfl)
theorem dX5_rest_17 : decode cX5_rest 17 = .ok (.if_icmp .eq 21, 3) := dk_159 0 21 (dk_at dksX5_rest_0 17 rfl rfl)
theorem dX5_rest_20 : decode cX5_rest 20 = .ok (.aload_n 0, 1) := dk_42 (dk_at dksX5_rest_0 20 rfl rfl)
theorem dX5_rest_21 : decode cX5_rest 21 = .ok (.getfield 28, 3) := dk_180 0 28 (dk_at dksX5_rest_0 21 rfl rfl)
theorem dX5_rest_24 : decode cX5_rest 24 = .ok (.iload_n 1, 1) := dk_27 (dk_at dksX5_rest_1 0 rfl rfl)
theorem dX5_rest_25 : decode cX5_rest 25 = .ok (.iaload, 1) := dk_46 (dk_at dksX5_rest_1 1 rfl rfl)
theorem dX5_rest_26 : decode cX5_rest 26 = .ok (.ifCond .ne 9, 3) := dk_154 0 9 (dk_at dksX5_rest_1 2 rfl rfl)
theorem dX5_rest_29 : decode cX5_rest 29 = .ok (.ldc_w 307, 3) := dk_19 1 51 (dk_at dksX5_rest_1 5 rfl rfl)
theorem dX5_rest_32 : decode cX5_rest 32 = .ok (.goto 5, 3) := dk_167 0 5 (dk_at dksX5_rest_1 8 rfl rfl)
theorem dX5_rest_35 : decode cX5_rest 35 = .ok (.ldc 132, 2) := dk_18 132 (dk_at dksX5_rest_1 11 rfl rfl)
theorem dX5_rest_37 : decode cX5_rest 37 = .ok (.ireturn, 1) := dk_172 (dk_at dksX5_rest_1 13 rfl rfl)
theorem dX5_rest_38 : decode cX5_rest 38 = .ok (.iload_n 2, 1) := dk_28 (dk_at dksX5_rest_1 14 rfl rfl)
theorem dX5_rest_39 : decode cX5_rest 39 = .ok (.ifCond .ne 9, 3) := dk_154 0 9 (dk_at dksX5_rest_1 15 rfl rfl)
theorem dX5_rest_42 : decode cX5_rest 42 = .ok (.ldc_w 321, 3) := dk_19 1 65 (dk_at dksX5_rest_1 18 rfl rfl)
theorem dX5_rest_45 : decode cX5_rest 45 = .ok (.goto 11, 3) := dk_167 0 11 (dk_at dksX5_rest_1 21 rfl rfl)
theorem dX5_rest_48 : decode cX5_rest 48 = .ok (.aload_n 0, 1) := dk_42 (dk_at dksX5_rest_2 0 rfl rfl)
theorem dX5_rest_49 : decode cX5_rest 49 = .ok (.getfield 31, 3) := dk_180 0 31 (dk_at dksX5_rest_2 1 rfl rfl)
theorem dX5_rest_52 : decode cX5_rest 52 = .ok (.iload_n 1, 1) := dk_27 (dk_at dksX5_rest_2 4 rfl rfl)
theorem dX5_rest_53 : decode cX5_rest 53 = .ok (.iaload, 1) := dk_46 (dk_at dksX5_rest_2 5 rfl rfl)
theorem dX5_rest_54 : decode cX5_rest 54 = .ok (.iload_n 2, 1) := dk_28 (dk_at dksX5_rest_2 6 rfl rfl)
theorem dX5_rest_55 : decode cX5_rest 55 = .ok (.irem, 1) := dk_112 (dk_at dksX5_rest_2 7 rfl rfl)
theorem dX5_rest_56 : decode cX5_rest 56 = .ok (.ireturn, 1) := dk_172 (dk_at dksX5_rest_2 8 rfl rfl)
abbrev cX5_tell : ByteArray := prog_18_method_97_code
def yX5_tell : MethodName := ⟨RX5, "tell", "(I)I"⟩
def dkwX5_tell_1 : List UInt8 := [180, 1, 66, 4, 96, 181, 1, 66, 42, 180, 1, 66, 172]
abbrev dktX5_tell_1 : List UInt8 := dkwX5_tell_1 ++ []
def dkwX5_tell_0 : List UInt8 := [42, 180, 1, 66, 16, 60, 160, 0, 6, 18, 84, 172, 42, 180, 0, 61, 42, 180, 1, 66, 27, 79, 42, 89]
abbrev dktX5_tell_0 : List UInt8 := dkwX5_tell_0 ++ dktX5_tell_1
theorem dksX5_tell_0 : cX5_tell.data.toList.drop 0 = dktX5_tell_0 := by decide +kernel
theorem dksX5_tell_1 : cX5_tell.data.toList.drop 24 = dktX5_tell_1 := dk_seg dksX5_tell_0 24 rfl rfl
theorem dX5_tell_0 : decode cX5_tell 0 = .ok (.aload_n 0, 1) := dk_42 (dk_at dksX5_tell_0 0 rfl rfl)
theorem dX5_tell_1 : decode cX5_tell 1 = .ok (.getfield 322, 3) := dk_180 1 66 (dk_at dksX5_tell_0 1 rfl rfl)
theorem dX5_tell_4 : decode cX5_tell 4 = .ok (.bipush 60, 2) := dk_16 60 (dk_at dksX5_tell_0 4 rfl rfl)
theorem dX5_tell_6 : decode cX5_tell 6 = .ok (.if_icmp .ne 6, 3) := dk_160 0 6 (dk_at dksX5_tell_0 6 rfl rfl)
theorem dX5_tell_9 : decode cX5_tell 9 = .ok (.ldc 84, 2) := dk_18 84 (dk_at dksX5_tell_0 9 rfl rfl)
theorem dX5_tell_11 : decode cX5_tell 11 = .ok (.ireturn, 1) := dk_172 (dk_at dksX5_tell_0 11 rfl rfl)
theorem dX5_tell_12 : decode cX5_tell 12 = .ok (.aload_n 0, 1) := dk_42 (dk_at dksX5_tell_0 12 rfl rfl)
theorem dX5_tell_13 : decode cX5_tell 13 = .ok (.getfield 61, 3) := dk_180 0 61 (dk_at dksX5_tell_0 13 rfl rfl)
theorem dX5_tell_16 : decode cX5_tell 16 = .ok (.aload_n 0, 1) := dk_42 (dk_at dksX5_tell_0 16 rfl rfl)
theorem dX5_tell_17 : decode cX5_tell 17 = .ok (.getfield 322, 3) := dk_180 1 66 (dk_at dksX5_tell_0 17 rfl rfl)
theorem dX5_tell_20 : decode cX5_tell 20 = .ok (.iload_n 1, 1) := dk_27 (dk_at dksX5_tell_0 20 rfl rfl)
theorem dX5_tell_21 : decode cX5_tell 21 = .ok (.iastore, 1) := dk_79 (dk_at dksX5_tell_0 21 rfl rfl)
theorem dX5_tell_22 : decode cX5_tell 22 = .ok (.aload_n 0, 1) := dk_42 (dk_at dksX5_tell_0 22 rfl rfl)
theorem dX5_tell_23 : decode cX5_tell 23 = .ok (.dup, 1) := dk_89 (dk_at dksX5_tell_0 23 rfl rfl)
theorem dX5_tell_24 : decode cX5_tell 24 = .ok (.getfield 322, 3) := dk_180 1 66 (dk_at dksX5_tell_1 0 rfl rfl)
theorem dX5_tell_27 : decode cX5_tell 27 = .ok (.iconst 1, 1) := dk_4 (dk_at dksX5_tell_1 3 rfl rfl)
theorem dX5_tell_28 : decode cX5_tell 28 = .ok (.iadd, 1) := dk_96 (dk_at dksX5_tell_1 4 rfl rfl)
theorem dX5_tell_29 : decode cX5_tell 29 = .ok (.putfield 322, 3) := dk_181 1 66 (dk_at dksX5_tell_1 5 rfl rfl)
theorem dX5_tell_32 : decode cX5_tell 32 = .ok (.aload_n 0, 1) := dk_42 (dk_at dksX5_tell_1 8 rfl rfl)
theorem dX5_tell_33 : decode cX5_tell 33 = .ok (.getfield 322, 3) := dk_180 1 66 (dk_at dksX5_tell_1 9 rfl rfl)
theorem dX5_tell_36 : decode cX5_tell 36 = .ok (.ireturn, 1) := dk_172 (dk_at dksX5_tell_1 12 rfl rfl)
abbrev cX5_check : ByteArray := prog_18_method_99_code
def yX5_check : MethodName := ⟨RX5, "check", "(I)I"⟩
def dkwX5_check_8 : List UInt8 := [21, 4, 96, 172]
abbrev dktX5_check_8 : List UInt8 := dkwX5_check_8 ++ []
def dkwX5_check_7 : List UInt8 := [132, 4, 1, 167, 255, 224, 21, 4, 28, 160, 0, 13, 21, 4, 29, 160, 0, 7, 3, 167, 0, 7, 4]
abbrev dktX5_check_7 : List UInt8 := dkwX5_check_7 ++ dktX5_check_8
def dkwX5_check_6 : List UInt8 := [21, 4, 29, 162, 0, 26, 42, 180, 0, 61, 21, 4, 46, 42, 180, 0, 64, 21, 4, 46, 160, 0, 9]
abbrev dktX5_check_6 : List UInt8 := dkwX5_check_6 ++ dktX5_check_7
def dkwX5_check_5 : List UInt8 := [167, 255, 203, 42, 42, 180, 0, 16, 42, 180, 0, 7, 182, 1, 75, 3, 54, 4, 21, 4, 28, 162, 0, 32]
abbrev dktX5_check_5 : List UInt8 := dkwX5_check_5 ++ dktX5_check_6
def dkwX5_check_4 : List UInt8 := [79, 42, 180, 0, 64, 29, 4, 96, 42, 182, 0, 163, 184, 0, 166, 79, 132, 3, 2, 132, 4, 1]
abbrev dktX5_check_4 : List UInt8 := dkwX5_check_4 ++ dktX5_check_5
def dkwX5_check_3 : List UInt8 := [180, 0, 7, 5, 46, 17, 39, 15, 162, 0, 41, 42, 182, 0, 178, 42, 180, 0, 64, 29, 42, 182, 0, 183]
abbrev dktX5_check_3 : List UInt8 := dkwX5_check_3 ++ dktX5_check_4
def dkwX5_check_2 : List UInt8 := [42, 42, 180, 0, 13, 42, 180, 0, 7, 182, 1, 75, 3, 62, 3, 54, 4, 21, 4, 27, 162, 0, 53, 42]
abbrev dktX5_check_2 : List UInt8 := dkwX5_check_2 ++ dktX5_check_3
def dkwX5_check_1 : List UInt8 := [172, 42, 180, 1, 71, 154, 0, 7, 19, 1, 65, 172, 42, 42, 180, 0, 7, 42, 180, 0, 16, 182, 1, 75]
abbrev dktX5_check_1 : List UInt8 := dkwX5_check_1 ++ dktX5_check_2
def dkwX5_check_0 : List UInt8 := [42, 180, 1, 66, 61, 42, 3, 181, 1, 66, 27, 133, 10, 20, 1, 69, 184, 0, 68, 154, 0, 6, 18, 83]
abbrev dktX5_check_0 : List UInt8 := dkwX5_check_0 ++ dktX5_check_1
theorem dksX5_check_0 : cX5_check.data.toList.drop 0 = dktX5_check_0 := by decide +kernel
theorem dksX5_check_1 : cX5_check.data.toList.drop 24 = dktX5_check_1 := dk_seg dksX5_check_0 24 rfl rfl
theorem dksX5_check_2 : cX5_check.data.toList.drop 48 = dktX5_check_2 := dk_seg dksX5_check_1 24 rfl rfl
theorem dksX5_check_3 : cX5_check.data.toList.drop 72 = dktX5_check_3 := dk_seg dksX5_check_2 24 rfl rfl
theorem dksX5_check_4 : cX5_check.data.toList.drop 96 = dktX5_check_4 := dk_seg dksX5_check_3 24 rfl rfl
theorem dksX5_check_5 : cX5_check.data.toList.drop 118 = dktX5_check_5 := dk_seg dksX5_check_4 22 rfl rfl
theorem dksX5_check_6 : cX5_check.data.toList.drop 142 = dktX5_check_6 := dk_seg dksX5_check_5 24 rfl rfl
theorem dksX5_check_7 : cX5_check.data.toList.drop 165 = dktX5_check_7 := dk_seg dksX5_check_6 23 rfl rfl
theorem dksX5_check_8 : cX5_check.data.toList.drop 188 = dktX5_check_8 := dk_seg dksX5_check_7 23 rfl rfl
theorem dX5_check_0 : decode cX5_check 0 = .ok (.aload_n 0, 1) := dk_42 (dk_at dksX5_check_0 0 rfl rfl)
theorem dX5_check_1 : decode cX5_check 1 = .ok (.getfield 322, 3) := dk_180 1 66 (dk_at dksX5_check_0 1 rfl rfl)
theorem dX5_check_4 : decode cX5_check 4 = .ok (.istore_n 2, 1) := dk_61 (dk_at dksX5_check_0 4 rfl rfl)
theorem dX5_check_5 : decode cX5_check 5 = .ok (.aload_n 0, 1) := dk_42 (dk_at dksX5_check_0 5 rfl rfl)
theorem dX5_check_6 : decode cX5_check 6 = .ok (.iconst 0, 1) := dk_3 (dk_at dksX5_check_0 6 rfl rfl)
theorem dX5_check_7 : decode cX5_check 7 = .ok (.putfield 322, 3) := dk_181 1 66 (dk_at dksX5_check_0 7 rfl rfl)
theorem dX5_check_10 : decode cX5_check 10 = .ok (.iload_n 1, 1) := dk_27 (dk_at dksX5_check_0 10 rfl rfl)
theorem dX5_check_11 : decode cX5_check 11 = .ok (.i2l, 1) := dk_133 (dk_at dksX5_check_0 11 rfl rfl)
theorem dX5_check_12 : decode cX5_check 12 = .ok (.lconst 1, 1) := dk_10 (dk_at dksX5_check_0 12 rfl rfl)
theorem dX5_check_13 : decode cX5_check 13 = .ok (.ldc2_w 325, 3) := dk_20 1 69 (dk_at dksX5_check_0 13 rfl rfl)
theorem dX5_check_16 : decode cX5_check 16 = .ok (.invokestatic 68, 3) := dk_184 0 68 (dk_at dksX5_check_0 16 rfl rfl)
theorem dX5_check_19 : decode cX5_check 19 = .ok (.ifCond .ne 6, 3) := dk_154 0 6 (dk_at dksX5_check_0 19 rfl rfl)
theorem dX5_check_22 : decode cX5_check 22 = .ok (.ldc 83, 2) := dk_18 83 (dk_at dksX5_check_0 22 rfl rfl)
theorem dX5_check_24 : decode cX5_check 24 = .ok (.ireturn, 1) := dk_172 (dk_at dksX5_check_1 0 rfl rfl)
theorem dX5_check_25 : decode cX5_check 25 = .ok (.aload_n 0, 1) := dk_42 (dk_at dksX5_check_1 1 rfl rfl)
theorem dX5_check_26 : decode cX5_check 26 = .ok (.getfield 327, 3) := dk_180 1 71 (dk_at dksX5_check_1 2 rfl rfl)
theorem dX5_check_29 : decode cX5_check 29 = .ok (.ifCond .ne 7, 3) := dk_154 0 7 (dk_at dksX5_check_1 5 rfl rfl)
theorem dX5_check_32 : decode cX5_check 32 = .ok (.ldc_w 321, 3) := dk_19 1 65 (dk_at dksX5_check_1 8 rfl rfl)
theorem dX5_check_35 : decode cX5_check 35 = .ok (.ireturn, 1) := dk_172 (dk_at dksX5_check_1 11 rfl rfl)
theorem dX5_check_36 : decode cX5_check 36 = .ok (.aload_n 0, 1) := dk_42 (dk_at dksX5_check_1 12 rfl rfl)
theorem dX5_check_37 : decode cX5_check 37 = .ok (.aload_n 0, 1) := dk_42 (dk_at dksX5_check_1 13 rfl rfl)
theorem dX5_check_38 : decode cX5_check 38 = .ok (.getfield 7, 3) := dk_180 0 7 (dk_at dksX5_check_1 14 rfl rfl)
theorem dX5_check_41 : decode cX5_check 41 = .ok (.aload_n 0, 1) := dk_42 (dk_at dksX5_check_1 17 rfl rfl)
theorem dX5_check_42 : decode cX5_check 42 = .ok (.getfield 16, 3) := dk_180 0 16 (dk_at dksX5_check_1 18 rfl rfl)
theorem dX5_check_45 : decode cX5_check 45 = .ok (.invokevirtual 331, 3) := dk_182 1 75 (dk_at dksX5_check_1 21 rfl rfl)
theorem dX5_check_48 : decode cX5_check 48 = .ok (.aload_n 0, 1) := dk_42 (dk_at dksX5_check_2 0 rfl rfl)
theorem dX5_check_49 : decode cX5_check 49 = .ok (.aload_n 0, 1) := dk_42 (dk_at dksX5_check_2 1 rfl rfl)
theorem dX5_check_50 : decode cX5_check 50 = .ok (.getfield 13, 3) := dk_180 0 13 (dk_at dksX5_check_2 2 rfl rfl)
theorem dX5_check_53 : decode cX5_check 53 = .ok (.aload_n 0, 1) := dk_42 (dk_at dksX5_check_2 5 rfl rfl)
theorem dX5_check_54 : decode cX5_check 54 = .ok (.getfield 7, 3) := dk_180 0 7 (dk_at dksX5_check_2 6 rfl rfl)
theorem dX5_check_57 : decode cX5_check 57 = .ok (.invokevirtual 331, 3) := dk_182 1 75 (dk_at dksX5_check_2 9 rfl rfl)
theorem dX5_check_60 : decode cX5_check 60 = .ok (.iconst 0, 1) := dk_3 (dk_at dksX5_check_2 12 rfl rfl)
theorem dX5_check_61 : decode cX5_check 61 = .ok (.istore_n 3, 1) := dk_62 (dk_at dksX5_check_2 13 rfl rfl)
theorem dX5_check_62 : decode cX5_check 62 = .ok (.iconst 0, 1) := dk_3 (dk_at dksX5_check_2 14 rfl rfl)
theorem dX5_check_63 : decode cX5_check 63 = .ok (.istore 4, 2) := dk_54 4 (dk_at dksX5_check_2 15 rfl rfl)
theorem dX5_check_65 : decode cX5_check 65 = .ok (.iload 4, 2) := dk_21 4 (dk_at dksX5_check_2 17 rfl rfl)
theorem dX5_check_67 : decode cX5_check 67 = .ok (.iload_n 1, 1) := dk_27 (dk_at dksX5_check_2 19 rfl rfl)
theorem dX5_check_68 : decode cX5_check 68 = .ok (.if_icmp .ge 53, 3) := dk_162 0 53 (dk_at dksX5_check_2 20 rfl rfl)
theorem dX5_check_71 : decode cX5_check 71 = .ok (.aload_n 0, 1) := dk_42 (dk_at dksX5_check_2 23 rfl rfl)
theorem dX5_check_72 : decode cX5_check 72 = .ok (.getfield 7, 3) := dk_180 0 7 (dk_at dksX5_check_3 0 rfl rfl)
theorem dX5_check_75 : decode cX5_check 75 = .ok (.iconst 2, 1) := dk_5 (dk_at dksX5_check_3 3 rfl rfl)
theorem dX5_check_76 : decode cX5_check 76 = .ok (.iaload, 1) := dk_46 (dk_at dksX5_check_3 4 rfl rfl)
theorem dX5_check_77 : decode cX5_check 77 = .ok (.sipush 9999, 3) := dk_17 39 15 (dk_at dksX5_check_3 5 rfl rfl)
theorem dX5_check_80 : decode cX5_check 80 = .ok (.if_icmp .ge 41, 3) := dk_162 0 41 (dk_at dksX5_check_3 8 rfl rfl)
theorem dX5_check_83 : decode cX5_check 83 = .ok (.aload_n 0, 1) := dk_42 (dk_at dksX5_check_3 11 rfl rfl)
theorem dX5_check_84 : decode cX5_check 84 = .ok (.invokevirtual 178, 3) := dk_182 0 178 (dk_at dksX5_check_3 12 rfl rfl)
theorem dX5_check_87 : decode cX5_check 87 = .ok (.aload_n 0, 1) := dk_42 (dk_at dksX5_check_3 15 rfl rfl)
theorem dX5_check_88 : decode cX5_check 88 = .ok (.getfield 64, 3) := dk_180 0 64 (dk_at dksX5_check_3 16 rfl rfl)
theorem dX5_check_91 : decode cX5_check 91 = .ok (.iload_n 3, 1) := dk_29 (dk_at dksX5_check_3 19 rfl rfl)
theorem dX5_check_92 : decode cX5_check 92 = .ok (.aload_n 0, 1) := dk_42 (dk_at dksX5_check_3 20 rfl rfl)
theorem dX5_check_93 : decode cX5_check 93 = .ok (.invokevirtual 183, 3) := dk_182 0 183 (dk_at dksX5_check_3 21 rfl rfl)
theorem dX5_check_96 : decode cX5_check 96 = .ok (.iastore, 1) := dk_79 (dk_at dksX5_check_4 0 rfl rfl)
theorem dX5_check_97 : decode cX5_check 97 = .ok (.aload_n 0, 1) := dk_42 (dk_at dksX5_check_4 1 rfl rfl)
theorem dX5_check_98 : decode cX5_check 98 = .ok (.getfield 64, 3) := dk_180 0 64 (dk_at dksX5_check_4 2 rfl rfl)
theorem dX5_check_101 : decode cX5_check 101 = .ok (.iload_n 3, 1) := dk_29 (dk_at dksX5_check_4 5 rfl rfl)
theorem dX5_check_102 : decode cX5_check 102 = .ok (.iconst 1, 1) := dk_4 (dk_at dksX5_check_4 6 rfl rfl)
theorem dX5_check_103 : decode cX5_check 103 = .ok (.iadd, 1) := dk_96 (dk_at dksX5_check_4 7 rfl rfl)
theorem dX5_check_104 : decode cX5_check 104 = .ok (.aload_n 0, 1) := dk_42 (dk_at dksX5_check_4 8 rfl rfl)
theorem dX5_check_105 : decode cX5_check 105 = .ok (.invokevirtual 163, 3) := dk_182 0 163 (dk_at dksX5_check_4 9 rfl rfl)
theorem dX5_check_108 : decode cX5_check 108 = .ok (.invokestatic 166, 3) := dk_184 0 166 (dk_at dksX5_check_4 12 rfl rfl)
theorem dX5_check_111 : decode cX5_check 111 = .ok (.iastore, 1) := dk_79 (dk_at dksX5_check_4 15 rfl rfl)
theorem dX5_check_112 : decode cX5_check 112 = .ok (.iinc 3 2, 3) := dk_132 3 2 (dk_at dksX5_check_4 16 rfl rfl)
theorem dX5_check_115 : decode cX5_check 115 = .ok (.iinc 4 1, 3) := dk_132 4 1 (dk_at dksX5_check_4 19 rfl rfl)
theorem dX5_check_118 : decode cX5_check 118 = .ok (.goto (-53), 3) := dk_167 255 203 (dk_at dksX5_check_5 0 rfl rfl)
theorem dX5_check_121 : decode cX5_check 121 = .ok (.aload_n 0, 1) := dk_42 (dk_at dksX5_check_5 3 rfl rfl)
theorem dX5_check_122 : decode cX5_check 122 = .ok (.aload_n 0, 1) := dk_42 (dk_at dksX5_check_5 4 rfl rfl)
theorem dX5_check_123 : decode cX5_check 123 = .ok (.getfield 16, 3) := dk_180 0 16 (dk_at dksX5_check_5 5 rfl rfl)
theorem dX5_check_126 : decode cX5_check 126 = .ok (.aload_n 0, 1) := dk_42 (dk_at dksX5_check_5 8 rfl rfl)
theorem dX5_check_127 : decode cX5_check 127 = .ok (.getfield 7, 3) := dk_180 0 7 (dk_at dksX5_check_5 9 rfl rfl)
theorem dX5_check_130 : decode cX5_check 130 = .ok (.invokevirtual 331, 3) := dk_182 1 75 (dk_at dksX5_check_5 12 rfl rfl)
theorem dX5_check_133 : decode cX5_check 133 = .ok (.iconst 0, 1) := dk_3 (dk_at dksX5_check_5 15 rfl rfl)
theorem dX5_check_134 : decode cX5_check 134 = .ok (.istore 4, 2) := dk_54 4 (dk_at dksX5_check_5 16 rfl rfl)
theorem dX5_check_136 : decode cX5_check 136 = .ok (.iload 4, 2) := dk_21 4 (dk_at dksX5_check_5 18 rfl rfl)
theorem dX5_check_138 : decode cX5_check 138 = .ok (.iload_n 2, 1) := dk_28 (dk_at dksX5_check_5 20 rfl rfl)
theorem dX5_check_139 : decode cX5_check 139 = .ok (.if_icmp .ge 32, 3) := dk_162 0 32 (dk_at dksX5_check_5 21 rfl rfl)
theorem dX5_check_142 : decode cX5_check 142 = .ok (.iload 4, 2) := dk_21 4 (dk_at dksX5_check_6 0 rfl rfl)
theorem dX5_check_144 : decode cX5_check 144 = .ok (.iload_n 3, 1) := dk_29 (dk_at dksX5_check_6 2 rfl rfl)
theorem dX5_check_145 : decode cX5_check 145 = .ok (.if_icmp .ge 26, 3) := dk_162 0 26 (dk_at dksX5_check_6 3 rfl rfl)
theorem dX5_check_148 : decode cX5_check 148 = .ok (.aload_n 0, 1) := dk_42 (dk_at dksX5_check_6 6 rfl rfl)
theorem dX5_check_149 : decode cX5_check 149 = .ok (.getfield 61, 3) := dk_180 0 61 (dk_at dksX5_check_6 7 rfl rfl)
theorem dX5_check_152 : decode cX5_check 152 = .ok (.iload 4, 2) := dk_21 4 (dk_at dksX5_check_6 10 rfl rfl)
theorem dX5_check_154 : decode cX5_check 154 = .ok (.iaload, 1) := dk_46 (dk_at dksX5_check_6 12 rfl rfl)
theorem dX5_check_155 : decode cX5_check 155 = .ok (.aload_n 0, 1) := dk_42 (dk_at dksX5_check_6 13 rfl rfl)
theorem dX5_check_156 : decode cX5_check 156 = .ok (.getfield 64, 3) := dk_180 0 64 (dk_at dksX5_check_6 14 rfl rfl)
theorem dX5_check_159 : decode cX5_check 159 = .ok (.iload 4, 2) := dk_21 4 (dk_at dksX5_check_6 17 rfl rfl)
theorem dX5_check_161 : decode cX5_check 161 = .ok (.iaload, 1) := dk_46 (dk_at dksX5_check_6 19 rfl rfl)
theorem dX5_check_162 : decode cX5_check 162 = .ok (.if_icmp .ne 9, 3) := dk_160 0 9 (dk_at dksX5_check_6 20 rfl rfl)
theorem dX5_check_165 : decode cX5_check 165 = .ok (.iinc 4 1, 3) := dk_132 4 1 (dk_at dksX5_check_7 0 rfl rfl)
theorem dX5_check_168 : decode cX5_check 168 = .ok (.goto (-32), 3) := dk_167 255 224 (dk_at dksX5_check_7 3 rfl rfl)
theorem dX5_check_171 : decode cX5_check 171 = .ok (.iload 4, 2) := dk_21 4 (dk_at dksX5_check_7 6 rfl rfl)
theorem dX5_check_173 : decode cX5_check 173 = .ok (.iload_n 2, 1) := dk_28 (dk_at dksX5_check_7 8 rfl rfl)
theorem dX5_check_174 : decode cX5_check 174 = .ok (.if_icmp .ne 13, 3) := dk_160 0 13 (dk_at dksX5_check_7 9 rfl rfl)
theorem dX5_check_177 : decode cX5_check 177 = .ok (.iload 4, 2) := dk_21 4 (dk_at dksX5_check_7 12 rfl rfl)
theorem dX5_check_179 : decode cX5_check 179 = .ok (.iload_n 3, 1) := dk_29 (dk_at dksX5_check_7 14 rfl rfl)
theorem dX5_check_180 : decode cX5_check 180 = .ok (.if_icmp .ne 7, 3) := dk_160 0 7 (dk_at dksX5_check_7 15 rfl rfl)
theorem dX5_check_183 : decode cX5_check 183 = .ok (.iconst 0, 1) := dk_3 (dk_at dksX5_check_7 18 rfl rfl)
theorem dX5_check_184 : decode cX5_check 184 = .ok (.goto 7, 3) := dk_167 0 7 (dk_at dksX5_check_7 19 rfl rfl)
theorem dX5_check_187 : decode cX5_check 187 = .ok (.iconst 1, 1) := dk_4 (dk_at dksX5_check_7 22 rfl rfl)
theorem dX5_check_188 : decode cX5_check 188 = .ok (.iload 4, 2) := dk_21 4 (dk_at dksX5_check_8 0 rfl rfl)
theorem dX5_check_190 : decode cX5_check 190 = .ok (.iadd, 1) := dk_96 (dk_at dksX5_check_8 2 rfl rfl)
theorem dX5_check_191 : decode cX5_check 191 = .ok (.ireturn, 1) := dk_172 (dk_at dksX5_check_8 3 rfl rfl)
abbrev cX5_setAside : ByteArray := prog_18_method_98_code
def yX5_setAside : MethodName := ⟨RX5, "setAside", "([I[I)V"⟩
def dkwX5_setAside_0 : List UInt8 := [3, 62, 29, 17, 11, 59, 162, 0, 15, 44, 29, 43, 29, 46, 79, 132, 3, 1, 167, 255, 240, 177]
abbrev dktX5_setAside_0 : List UInt8 := dkwX5_setAside_0 ++ []
theorem dksX5_setAside_0 : cX5_setAside.data.toList.drop 0 = dktX5_setAside_0 := by decide +kernel
theorem dX5_setAside_0 : decode cX5_setAside 0 = .ok (.iconst 0, 1) := dk_3 (dk_at dksX5_setAside_0 0 rfl rfl)
theorem dX5_setAside_1 : decode cX5_setAside 1 = .ok (.istore_n 3, 1) := dk_62 (dk_at dksX5_setAside_0 1 rfl rfl)
theorem dX5_setAside_2 : decode cX5_setAside 2 = .ok (.iload_n 3, 1) := dk_29 (dk_at dksX5_setAside_0 2 rfl rfl)
theorem dX5_setAside_3 : decode cX5_setAside 3 = .ok (.sipush 2875, 3) := dk_17 11 59 (dk_at dksX5_setAside_0 3 rfl rfl)
theorem dX5_setAside_6 : decode cX5_setAside 6 = .ok (.if_icmp .ge 15, 3) := dk_162 0 15 (dk_at dksX5_setAside_0 6 rfl rfl)
theorem dX5_setAside_9 : decode cX5_setAside 9 = .ok (.aload_n 2, 1) := dk_44 (dk_at dksX5_setAside_0 9 rfl rfl)
theorem dX5_setAside_10 : decode cX5_setAside 10 = .ok (.iload_n 3, 1) := dk_29 (dk_at dksX5_setAside_0 10 rfl rfl)
theorem dX5_setAside_11 : decode cX5_setAside 11 = .ok (.aload_n 1, 1) := dk_43 (dk_at dksX5_setAside_0 11 rfl rfl)
theorem dX5_setAside_12 : decode cX5_setAside 12 = .ok (.iload_n 3, 1) := dk_29 (dk_at dksX5_setAside_0 12 rfl rfl)
theorem dX5_setAside_13 : decode cX5_setAside 13 = .ok (.iaload, 1) := dk_46 (dk_at dksX5_setAside_0 13 rfl rfl)
theorem dX5_setAside_14 : decode cX5_setAside 14 = .ok (.iastore, 1) := dk_79 (dk_at dksX5_setAside_0 14 rfl rfl)
theorem dX5_setAside_15 : decode cX5_setAside 15 = .ok (.iinc 3 1, 3) := dk_132 3 1 (dk_at dksX5_setAside_0 15 rfl rfl)
theorem dX5_setAside_18 : decode cX5_setAside 18 = .ok (.goto (-16), 3) := dk_167 255 240 (dk_at dksX5_setAside_0 18 rfl rfl)
theorem dX5_setAside_21 : decode cX5_setAside 21 = .ok (.return_, 1) := dk_177 (dk_at dksX5_setAside_0 21 rfl rfl)
abbrev cX5_keep : ByteArray := prog_18_method_100_code
def yX5_keep : MethodName := ⟨RX5, "keep", "()I"⟩
def dkwX5_keep_0 : List UInt8 := [42, 4, 181, 1, 71, 42, 42, 180, 0, 7, 42, 180, 0, 13, 182, 1, 75, 42, 180, 0, 7, 3, 46, 172]
abbrev dktX5_keep_0 : List UInt8 := dkwX5_keep_0 ++ []
theorem dksX5_keep_0 : cX5_keep.data.toList.drop 0 = dktX5_keep_0 := by decide +kernel
theorem dX5_keep_0 : decode cX5_keep 0 = .ok (.aload_n 0, 1) := dk_42 (dk_at dksX5_keep_0 0 rfl rfl)
theorem dX5_keep_1 : decode cX5_keep 1 = .ok (.iconst 1, 1) := dk_4 (dk_at dksX5_keep_0 1 rfl rfl)
theorem dX5_keep_2 : decode cX5_keep 2 = .ok (.putfield 327, 3) := dk_181 1 71 (dk_at dksX5_keep_0 2 rfl rfl)
theorem dX5_keep_5 : decode cX5_keep 5 = .ok (.aload_n 0, 1) := dk_42 (dk_at dksX5_keep_0 5 rfl rfl)
theorem dX5_keep_6 : decode cX5_keep 6 = .ok (.aload_n 0, 1) := dk_42 (dk_at dksX5_keep_0 6 rfl rfl)
theorem dX5_keep_7 : decode cX5_keep 7 = .ok (.getfield 7, 3) := dk_180 0 7 (dk_at dksX5_keep_0 7 rfl rfl)
theorem dX5_keep_10 : decode cX5_keep 10 = .ok (.aload_n 0, 1) := dk_42 (dk_at dksX5_keep_0 10 rfl rfl)
theorem dX5_keep_11 : decode cX5_keep 11 = .ok (.getfield 13, 3) := dk_180 0 13 (dk_at dksX5_keep_0 11 rfl rfl)
theorem dX5_keep_14 : decode cX5_keep 14 = .ok (.invokevirtual 331, 3) := dk_182 1 75 (dk_at dksX5_keep_0 14 rfl rfl)
theorem dX5_keep_17 : decode cX5_keep 17 = .ok (.aload_n 0, 1) := dk_42 (dk_at dksX5_keep_0 17 rfl rfl)
theorem dX5_keep_18 : decode cX5_keep 18 = .ok (.getfield 7, 3) := dk_180 0 7 (dk_at dksX5_keep_0 18 rfl rfl)
theorem dX5_keep_21 : decode cX5_keep 21 = .ok (.iconst 0, 1) := dk_3 (dk_at dksX5_keep_0 21 rfl rfl)
theorem dX5_keep_22 : decode cX5_keep 22 = .ok (.iaload, 1) := dk_46 (dk_at dksX5_keep_0 22 rfl rfl)
theorem dX5_keep_23 : decode cX5_keep 23 = .ok (.ireturn, 1) := dk_172 (dk_at dksX5_keep_0 23 rfl rfl)
abbrev cX5_back : ByteArray := prog_18_method_101_code
def yX5_back : MethodName := ⟨RX5, "back", "()I"⟩
def dkwX5_back_1 : List UInt8 := [180, 0, 7, 3, 46, 172]
abbrev dktX5_back_1 : List UInt8 := dkwX5_back_1 ++ []
def dkwX5_back_0 : List UInt8 := [42, 180, 1, 71, 154, 0, 7, 19, 1, 65, 172, 42, 42, 180, 0, 13, 42, 180, 0, 7, 182, 1, 75, 42]
abbrev dktX5_back_0 : List UInt8 := dkwX5_back_0 ++ dktX5_back_1
theorem dksX5_back_0 : cX5_back.data.toList.drop 0 = dktX5_back_0 := by decide +kernel
theorem dksX5_back_1 : cX5_back.data.toList.drop 24 = dktX5_back_1 := dk_seg dksX5_back_0 24 rfl rfl
theorem dX5_back_0 : decode cX5_back 0 = .ok (.aload_n 0, 1) := dk_42 (dk_at dksX5_back_0 0 rfl rfl)
theorem dX5_back_1 : decode cX5_back 1 = .ok (.getfield 327, 3) := dk_180 1 71 (dk_at dksX5_back_0 1 rfl rfl)
theorem dX5_back_4 : decode cX5_back 4 = .ok (.ifCond .ne 7, 3) := dk_154 0 7 (dk_at dksX5_back_0 4 rfl rfl)
theorem dX5_back_7 : decode cX5_back 7 = .ok (.ldc_w 321, 3) := dk_19 1 65 (dk_at dksX5_back_0 7 rfl rfl)
theorem dX5_back_10 : decode cX5_back 10 = .ok (.ireturn, 1) := dk_172 (dk_at dksX5_back_0 10 rfl rfl)
theorem dX5_back_11 : decode cX5_back 11 = .ok (.aload_n 0, 1) := dk_42 (dk_at dksX5_back_0 11 rfl rfl)
theorem dX5_back_12 : decode cX5_back 12 = .ok (.aload_n 0, 1) := dk_42 (dk_at dksX5_back_0 12 rfl rfl)
theorem dX5_back_13 : decode cX5_back 13 = .ok (.getfield 13, 3) := dk_180 0 13 (dk_at dksX5_back_0 13 rfl rfl)
theorem dX5_back_16 : decode cX5_back 16 = .ok (.aload_n 0, 1) := dk_42 (dk_at dksX5_back_0 16 rfl rfl)
theorem dX5_back_17 : decode cX5_back 17 = .ok (.getfield 7, 3) := dk_180 0 7 (dk_at dksX5_back_0 17 rfl rfl)
theorem dX5_back_20 : decode cX5_back 20 = .ok (.invokevirtual 331, 3) := dk_182 1 75 (dk_at dksX5_back_0 20 rfl rfl)
theorem dX5_back_23 : decode cX5_back 23 = .ok (.aload_n 0, 1) := dk_42 (dk_at dksX5_back_0 23 rfl rfl)
theorem dX5_back_24 : decode cX5_back 24 = .ok (.getfield 7, 3) := dk_180 0 7 (dk_at dksX5_back_1 0 rfl rfl)
theorem dX5_back_27 : decode cX5_back 27 = .ok (.iconst 0, 1) := dk_3 (dk_at dksX5_back_1 3 rfl rfl)
theorem dX5_back_28 : decode cX5_back 28 = .ok (.iaload, 1) := dk_46 (dk_at dksX5_back_1 4 rfl rfl)
theorem dX5_back_29 : decode cX5_back 29 = .ok (.ireturn, 1) := dk_172 (dk_at dksX5_back_1 5 rfl rfl)
abbrev cX5_count : ByteArray := prog_18_method_102_code
def yX5_count : MethodName := ⟨RX5, "count", "(I)I"⟩
def dkwX5_count_4 : List UInt8 := [18, 83, 172]
abbrev dktX5_count_4 : List UInt8 := dkwX5_count_4 ++ []
def dkwX5_count_3 : List UInt8 := [180, 0, 7, 4, 46, 172, 42, 180, 1, 66, 172, 42, 180, 0, 201, 172, 42, 180, 0, 7, 7, 46, 172]
abbrev dktX5_count_3 : List UInt8 := dkwX5_count_3 ++ dktX5_count_4
def dkwX5_count_2 : List UInt8 := [42, 180, 0, 7, 3, 46, 172, 42, 180, 0, 7, 5, 46, 172, 42, 182, 0, 163, 184, 0, 166, 172, 42]
abbrev dktX5_count_2 : List UInt8 := dkwX5_count_2 ++ dktX5_count_3
def dkwX5_count_1 : List UInt8 := [170, 0, 0, 0, 0, 0, 89, 0, 0, 0, 0, 0, 0, 0, 6, 0, 0, 0, 43, 0, 0, 0, 50, 0, 0, 0, 57, 0, 0, 0, 65, 0, 0, 0, 72, 0, 0, 0, 77, 0, 0, 0, 82]
abbrev dktX5_count_1 : List UInt8 := dkwX5_count_1 ++ dktX5_count_2
def dkwX5_count_0 : List UInt8 := [27]
abbrev dktX5_count_0 : List UInt8 := dkwX5_count_0 ++ dktX5_count_1
theorem dksX5_count_0 : cX5_count.data.toList.drop 0 = dktX5_count_0 := by decide +kernel
theorem dksX5_count_1 : cX5_count.data.toList.drop 1 = dktX5_count_1 := dk_seg dksX5_count_0 1 rfl rfl
theorem dksX5_count_2 : cX5_count.data.toList.drop 44 = dktX5_count_2 := dk_seg dksX5_count_1 43 rfl rfl
theorem dksX5_count_3 : cX5_count.data.toList.drop 67 = dktX5_count_3 := dk_seg dksX5_count_2 23 rfl rfl
theorem dksX5_count_4 : cX5_count.data.toList.drop 90 = dktX5_count_4 := dk_seg dksX5_count_3 23 rfl rfl
theorem dX5_count_0 : decode cX5_count 0 = .ok (.iload_n 1, 1) := dk_27 (dk_at dksX5_count_0 0 rfl rfl)
theorem dX5_count_1 : decode cX5_count 1 = .ok (.tableswitch 89 0 6 #[43, 50, 57, 65, 72, 77, 82], 43) := by decide +kernel
theorem dX5_count_44 : decode cX5_count 44 = .ok (.aload_n 0, 1) := dk_42 (dk_at dksX5_count_2 0 rfl rfl)
theorem dX5_count_45 : decode cX5_count 45 = .ok (.getfield 7, 3) := dk_180 0 7 (dk_at dksX5_count_2 1 rfl rfl)
theorem dX5_count_48 : decode cX5_count 48 = .ok (.iconst 0, 1) := dk_3 (dk_at dksX5_count_2 4 rfl rfl)
theorem dX5_count_49 : decode cX5_count 49 = .ok (.iaload, 1) := dk_46 (dk_at dksX5_count_2 5 rfl rfl)
theorem dX5_count_50 : decode cX5_count 50 = .ok (.ireturn, 1) := dk_172 (dk_at dksX5_count_2 6 rfl rfl)
theorem dX5_count_51 : decode cX5_count 51 = .ok (.aload_n 0, 1) := dk_42 (dk_at dksX5_count_2 7 rfl rfl)
theorem dX5_count_52 : decode cX5_count 52 = .ok (.getfield 7, 3) := dk_180 0 7 (dk_at dksX5_count_2 8 rfl rfl)
theorem dX5_count_55 : decode cX5_count 55 = .ok (.iconst 2, 1) := dk_5 (dk_at dksX5_count_2 11 rfl rfl)
theorem dX5_count_56 : decode cX5_count 56 = .ok (.iaload, 1) := dk_46 (dk_at dksX5_count_2 12 rfl rfl)
theorem dX5_count_57 : decode cX5_count 57 = .ok (.ireturn, 1) := dk_172 (dk_at dksX5_count_2 13 rfl rfl)
theorem dX5_count_58 : decode cX5_count 58 = .ok (.aload_n 0, 1) := dk_42 (dk_at dksX5_count_2 14 rfl rfl)
theorem dX5_count_59 : decode cX5_count 59 = .ok (.invokevirtual 163, 3) := dk_182 0 163 (dk_at dksX5_count_2 15 rfl rfl)
theorem dX5_count_62 : decode cX5_count 62 = .ok (.invokestatic 166, 3) := dk_184 0 166 (dk_at dksX5_count_2 18 rfl rfl)
theorem dX5_count_65 : decode cX5_count 65 = .ok (.ireturn, 1) := dk_172 (dk_at dksX5_count_2 21 rfl rfl)
theorem dX5_count_66 : decode cX5_count 66 = .ok (.aload_n 0, 1) := dk_42 (dk_at dksX5_count_2 22 rfl rfl)
theorem dX5_count_67 : decode cX5_count 67 = .ok (.getfield 7, 3) := dk_180 0 7 (dk_at dksX5_count_3 0 rfl rfl)
theorem dX5_count_70 : decode cX5_count 70 = .ok (.iconst 1, 1) := dk_4 (dk_at dksX5_count_3 3 rfl rfl)
theorem dX5_count_71 : decode cX5_count 71 = .ok (.iaload, 1) := dk_46 (dk_at dksX5_count_3 4 rfl rfl)
theorem dX5_count_72 : decode cX5_count 72 = .ok (.ireturn, 1) := dk_172 (dk_at dksX5_count_3 5 rfl rfl)
theorem dX5_count_73 : decode cX5_count 73 = .ok (.aload_n 0, 1) := dk_42 (dk_at dksX5_count_3 6 rfl rfl)
theorem dX5_count_74 : decode cX5_count 74 = .ok (.getfield 322, 3) := dk_180 1 66 (dk_at dksX5_count_3 7 rfl rfl)
theorem dX5_count_77 : decode cX5_count 77 = .ok (.ireturn, 1) := dk_172 (dk_at dksX5_count_3 10 rfl rfl)
theorem dX5_count_78 : decode cX5_count 78 = .ok (.aload_n 0, 1) := dk_42 (dk_at dksX5_count_3 11 rfl rfl)
theorem dX5_count_79 : decode cX5_count 79 = .ok (.getfield 201, 3) := dk_180 0 201 (dk_at dksX5_count_3 12 rfl rfl)
theorem dX5_count_82 : decode cX5_count 82 = .ok (.ireturn, 1) := dk_172 (dk_at dksX5_count_3 15 rfl rfl)
theorem dX5_count_83 : decode cX5_count 83 = .ok (.aload_n 0, 1) := dk_42 (dk_at dksX5_count_3 16 rfl rfl)
theorem dX5_count_84 : decode cX5_count 84 = .ok (.getfield 7, 3) := dk_180 0 7 (dk_at dksX5_count_3 17 rfl rfl)
theorem dX5_count_87 : decode cX5_count 87 = .ok (.iconst 4, 1) := dk_7 (dk_at dksX5_count_3 20 rfl rfl)
theorem dX5_count_88 : decode cX5_count 88 = .ok (.iaload, 1) := dk_46 (dk_at dksX5_count_3 21 rfl rfl)
theorem dX5_count_89 : decode cX5_count 89 = .ok (.ireturn, 1) := dk_172 (dk_at dksX5_count_3 22 rfl rfl)
theorem dX5_count_90 : decode cX5_count 90 = .ok (.ldc 83, 2) := dk_18 83 (dk_at dksX5_count_4 0 rfl rfl)
theorem dX5_count_92 : decode cX5_count 92 = .ok (.ireturn, 1) := dk_172 (dk_at dksX5_count_4 2 rfl rfl)
theorem q89 : (Jvm.Cond.initialized "StoneSheetsModel") ∈ lw_all := lw_g (lw_at lw_m1 9 rfl) rfl
theorem q1265 : (Jvm.Cond.instantiable "StoneSheetsModel" (32 : Nat)) ∈ lw_all := lw_g (lw_at lw_m5 225 rfl) rfl
theorem q1267 : (Jvm.Cond.instanceMethod ({ cls := "StoneSheetsModel", name := "<init>", desc := "()V" } : Jvm.MethodName)) ∈ lw_all := lw_g (lw_at lw_m5 227 rfl) rfl
theorem q1268 : (Jvm.Cond.code ({ cls := "StoneSheetsModel", name := "<init>", desc := "()V" } : Jvm.MethodName) prog_18_method_1_code (2 : Nat) (Option.none : Option Jvm.ClassFile.FieldType)) ∈ lw_all := lw_g (lw_at lw_m5 228 rfl) rfl
theorem q1269 : (Jvm.Cond.methodLink "StoneSheetsModel" (1 : Nat) ({ cls := "java/lang/Object", name := "<init>", desc := "()V" } : Jvm.MethodName)) ∈ lw_all := lw_g (lw_at lw_m5 229 rfl) rfl
theorem q1270 : (Jvm.Cond.fieldLink "StoneSheetsModel" (7 : Nat) "StoneSheetsModel" "s" "[I") ∈ lw_all := lw_g (lw_at lw_m5 230 rfl) rfl
theorem q1271 : (Jvm.Cond.fieldLink "StoneSheetsModel" (13 : Nat) "StoneSheetsModel" "image" "[I") ∈ lw_all := lw_g (lw_at lw_m5 231 rfl) rfl
theorem q1272 : (Jvm.Cond.fieldLink "StoneSheetsModel" (16 : Nat) "StoneSheetsModel" "aside" "[I") ∈ lw_all := lw_g (lw_at lw_m5 232 rfl) rfl
theorem q1273 : (Jvm.Cond.fieldLink "StoneSheetsModel" (327 : Nat) "StoneSheetsModel" "hasImage" "Z") ∈ lw_all := lw_g (lw_at lw_m5 233 rfl) rfl
theorem q1274 : (Jvm.Cond.fieldLink "StoneSheetsModel" (19 : Nat) "StoneSheetsModel" "tSort" "[I") ∈ lw_all := lw_g (lw_at lw_m5 234 rfl) rfl
theorem q1275 : (Jvm.Cond.fieldLink "StoneSheetsModel" (22 : Nat) "StoneSheetsModel" "tSize" "[I") ∈ lw_all := lw_g (lw_at lw_m5 235 rfl) rfl
theorem q1276 : (Jvm.Cond.fieldLink "StoneSheetsModel" (25 : Nat) "StoneSheetsModel" "tNumber" "[I") ∈ lw_all := lw_g (lw_at lw_m5 236 rfl) rfl
theorem q1277 : (Jvm.Cond.fieldLink "StoneSheetsModel" (28 : Nat) "StoneSheetsModel" "held" "[I") ∈ lw_all := lw_g (lw_at lw_m5 237 rfl) rfl
theorem q1278 : (Jvm.Cond.fieldLink "StoneSheetsModel" (31 : Nat) "StoneSheetsModel" "heldNumber" "[I") ∈ lw_all := lw_g (lw_at lw_m5 238 rfl) rfl
theorem q1279 : (Jvm.Cond.fieldLink "StoneSheetsModel" (34 : Nat) "StoneSheetsModel" "heldWorth" "[I") ∈ lw_all := lw_g (lw_at lw_m5 239 rfl) rfl
theorem q1280 : (Jvm.Cond.fieldLink "StoneSheetsModel" (37 : Nat) "StoneSheetsModel" "heldSize" "[I") ∈ lw_all := lw_g (lw_at lw_m6 0 rfl) rfl
theorem q1281 : (Jvm.Cond.fieldLink "StoneSheetsModel" (40 : Nat) "StoneSheetsModel" "heldRow" "[I") ∈ lw_all := lw_g (lw_at lw_m6 1 rfl) rfl
theorem q1282 : (Jvm.Cond.fieldLink "StoneSheetsModel" (43 : Nat) "StoneSheetsModel" "clashing" "[I") ∈ lw_all := lw_g (lw_at lw_m6 2 rfl) rfl
theorem q1283 : (Jvm.Cond.fieldLink "StoneSheetsModel" (46 : Nat) "StoneSheetsModel" "close" "[I") ∈ lw_all := lw_g (lw_at lw_m6 3 rfl) rfl
theorem q1284 : (Jvm.Cond.fieldLink "StoneSheetsModel" (49 : Nat) "StoneSheetsModel" "tape" "[I") ∈ lw_all := lw_g (lw_at lw_m6 4 rfl) rfl
theorem q1285 : (Jvm.Cond.fieldLink "StoneSheetsModel" (201 : Nat) "StoneSheetsModel" "taped" "I") ∈ lw_all := lw_g (lw_at lw_m6 5 rfl) rfl
theorem q1286 : (Jvm.Cond.fieldLink "StoneSheetsModel" (219 : Nat) "StoneSheetsModel" "begin" "I") ∈ lw_all := lw_g (lw_at lw_m6 6 rfl) rfl
theorem q1287 : (Jvm.Cond.fieldLink "StoneSheetsModel" (213 : Nat) "StoneSheetsModel" "behind" "I") ∈ lw_all := lw_g (lw_at lw_m6 7 rfl) rfl
theorem q1288 : (Jvm.Cond.fieldLink "StoneSheetsModel" (216 : Nat) "StoneSheetsModel" "token" "I") ∈ lw_all := lw_g (lw_at lw_m6 8 rfl) rfl
theorem q1289 : (Jvm.Cond.fieldLink "StoneSheetsModel" (231 : Nat) "StoneSheetsModel" "number" "I") ∈ lw_all := lw_g (lw_at lw_m6 9 rfl) rfl
theorem q1290 : (Jvm.Cond.fieldLink "StoneSheetsModel" (225 : Nat) "StoneSheetsModel" "letter" "I") ∈ lw_all := lw_g (lw_at lw_m6 10 rfl) rfl
theorem q1291 : (Jvm.Cond.fieldLink "StoneSheetsModel" (278 : Nat) "StoneSheetsModel" "deep" "I") ∈ lw_all := lw_g (lw_at lw_m6 11 rfl) rfl
theorem q1292 : (Jvm.Cond.fieldLink "StoneSheetsModel" (275 : Nat) "StoneSheetsModel" "turned" "I") ∈ lw_all := lw_g (lw_at lw_m6 12 rfl) rfl
theorem q1293 : (Jvm.Cond.fieldLink "StoneSheetsModel" (241 : Nat) "StoneSheetsModel" "laid" "I") ∈ lw_all := lw_g (lw_at lw_m6 13 rfl) rfl
theorem q1294 : (Jvm.Cond.fieldLink "StoneSheetsModel" (238 : Nat) "StoneSheetsModel" "laidAt" "I") ∈ lw_all := lw_g (lw_at lw_m6 14 rfl) rfl
theorem q1295 : (Jvm.Cond.fieldLink "StoneSheetsModel" (269 : Nat) "StoneSheetsModel" "said" "I") ∈ lw_all := lw_g (lw_at lw_m6 15 rfl) rfl
theorem q1296 : (Jvm.Cond.fieldLink "StoneSheetsModel" (52 : Nat) "StoneSheetsModel" "named" "[I") ∈ lw_all := lw_g (lw_at lw_m6 16 rfl) rfl
theorem q1297 : (Jvm.Cond.fieldLink "StoneSheetsModel" (55 : Nat) "StoneSheetsModel" "pile" "[I") ∈ lw_all := lw_g (lw_at lw_m6 17 rfl) rfl
theorem q1298 : (Jvm.Cond.fieldLink "StoneSheetsModel" (58 : Nat) "StoneSheetsModel" "carried" "[I") ∈ lw_all := lw_g (lw_at lw_m6 18 rfl) rfl
theorem q1299 : (Jvm.Cond.fieldLink "StoneSheetsModel" (61 : Nat) "StoneSheetsModel" "waits" "[I") ∈ lw_all := lw_g (lw_at lw_m6 19 rfl) rfl
theorem q1300 : (Jvm.Cond.fieldLink "StoneSheetsModel" (322 : Nat) "StoneSheetsModel" "waiting" "I") ∈ lw_all := lw_g (lw_at lw_m6 20 rfl) rfl
theorem q1301 : (Jvm.Cond.fieldLink "StoneSheetsModel" (64 : Nat) "StoneSheetsModel" "rowDue" "[I") ∈ lw_all := lw_g (lw_at lw_m6 21 rfl) rfl
theorem q1302 : (Jvm.Cond.laysFinal "StoneSheetsModel" "StoneSheetsModel" "s" "[I") ∈ lw_all := lw_g (lw_at lw_m6 22 rfl) rfl
theorem q1303 : (Jvm.Cond.soleField "StoneSheetsModel" "s") ∈ lw_all := lw_g (lw_at lw_m6 23 rfl) rfl
theorem q1304 : (Jvm.Cond.laysFinal "StoneSheetsModel" "StoneSheetsModel" "image" "[I") ∈ lw_all := lw_g (lw_at lw_m6 24 rfl) rfl
theorem q1305 : (Jvm.Cond.soleField "StoneSheetsModel" "image") ∈ lw_all := lw_g (lw_at lw_m6 25 rfl) rfl
theorem q1306 : (Jvm.Cond.laysFinal "StoneSheetsModel" "StoneSheetsModel" "aside" "[I") ∈ lw_all := lw_g (lw_at lw_m6 26 rfl) rfl
theorem q1307 : (Jvm.Cond.soleField "StoneSheetsModel" "aside") ∈ lw_all := lw_g (lw_at lw_m6 27 rfl) rfl
theorem q1308 : (Jvm.Cond.lays "StoneSheetsModel" "StoneSheetsModel" "hasImage" "Z") ∈ lw_all := lw_g (lw_at lw_m6 28 rfl) rfl
theorem q1309 : (Jvm.Cond.soleField "StoneSheetsModel" "hasImage") ∈ lw_all := lw_g (lw_at lw_m6 29 rfl) rfl
theorem q1310 : (Jvm.Cond.laysFinal "StoneSheetsModel" "StoneSheetsModel" "tSort" "[I") ∈ lw_all := lw_g (lw_at lw_m6 30 rfl) rfl
theorem q1311 : (Jvm.Cond.soleField "StoneSheetsModel" "tSort") ∈ lw_all := lw_g (lw_at lw_m6 31 rfl) rfl
theorem q1312 : (Jvm.Cond.laysFinal "StoneSheetsModel" "StoneSheetsModel" "tSize" "[I") ∈ lw_all := lw_g (lw_at lw_m6 32 rfl) rfl
theorem q1313 : (Jvm.Cond.soleField "StoneSheetsModel" "tSize") ∈ lw_all := lw_g (lw_at lw_m6 33 rfl) rfl
theorem q1314 : (Jvm.Cond.laysFinal "StoneSheetsModel" "StoneSheetsModel" "tNumber" "[I") ∈ lw_all := lw_g (lw_at lw_m6 34 rfl) rfl
theorem q1315 : (Jvm.Cond.soleField "StoneSheetsModel" "tNumber") ∈ lw_all := lw_g (lw_at lw_m6 35 rfl) rfl
theorem q1316 : (Jvm.Cond.laysFinal "StoneSheetsModel" "StoneSheetsModel" "held" "[I") ∈ lw_all := lw_g (lw_at lw_m6 36 rfl) rfl
theorem q1317 : (Jvm.Cond.soleField "StoneSheetsModel" "held") ∈ lw_all := lw_g (lw_at lw_m6 37 rfl) rfl
theorem q1318 : (Jvm.Cond.laysFinal "StoneSheetsModel" "StoneSheetsModel" "heldNumber" "[I") ∈ lw_all := lw_g (lw_at lw_m6 38 rfl) rfl
theorem q1319 : (Jvm.Cond.soleField "StoneSheetsModel" "heldNumber") ∈ lw_all := lw_g (lw_at lw_m6 39 rfl) rfl
theorem q1320 : (Jvm.Cond.laysFinal "StoneSheetsModel" "StoneSheetsModel" "heldWorth" "[I") ∈ lw_all := lw_g (lw_at lw_m6 40 rfl) rfl
theorem q1321 : (Jvm.Cond.soleField "StoneSheetsModel" "heldWorth") ∈ lw_all := lw_g (lw_at lw_m6 41 rfl) rfl
theorem q1322 : (Jvm.Cond.laysFinal "StoneSheetsModel" "StoneSheetsModel" "heldSize" "[I") ∈ lw_all := lw_g (lw_at lw_m6 42 rfl) rfl
theorem q1323 : (Jvm.Cond.soleField "StoneSheetsModel" "heldSize") ∈ lw_all := lw_g (lw_at lw_m6 43 rfl) rfl
theorem q1324 : (Jvm.Cond.laysFinal "StoneSheetsModel" "StoneSheetsModel" "heldRow" "[I") ∈ lw_all := lw_g (lw_at lw_m6 44 rfl) rfl
theorem q1325 : (Jvm.Cond.soleField "StoneSheetsModel" "heldRow") ∈ lw_all := lw_g (lw_at lw_m6 45 rfl) rfl
theorem q1326 : (Jvm.Cond.laysFinal "StoneSheetsModel" "StoneSheetsModel" "clashing" "[I") ∈ lw_all := lw_g (lw_at lw_m6 46 rfl) rfl
theorem q1327 : (Jvm.Cond.soleField "StoneSheetsModel" "clashing") ∈ lw_all := lw_g (lw_at lw_m6 47 rfl) rfl
theorem q1328 : (Jvm.Cond.laysFinal "StoneSheetsModel" "StoneSheetsModel" "close" "[I") ∈ lw_all := lw_g (lw_at lw_m6 48 rfl) rfl
theorem q1329 : (Jvm.Cond.soleField "StoneSheetsModel" "close") ∈ lw_all := lw_g (lw_at lw_m6 49 rfl) rfl
theorem q1330 : (Jvm.Cond.laysFinal "StoneSheetsModel" "StoneSheetsModel" "tape" "[I") ∈ lw_all := lw_g (lw_at lw_m6 50 rfl) rfl
theorem q1331 : (Jvm.Cond.soleField "StoneSheetsModel" "tape") ∈ lw_all := lw_g (lw_at lw_m6 51 rfl) rfl
theorem q1332 : (Jvm.Cond.lays "StoneSheetsModel" "StoneSheetsModel" "taped" "I") ∈ lw_all := lw_g (lw_at lw_m6 52 rfl) rfl
theorem q1333 : (Jvm.Cond.soleField "StoneSheetsModel" "taped") ∈ lw_all := lw_g (lw_at lw_m6 53 rfl) rfl
theorem q1334 : (Jvm.Cond.lays "StoneSheetsModel" "StoneSheetsModel" "begin" "I") ∈ lw_all := lw_g (lw_at lw_m6 54 rfl) rfl
theorem q1335 : (Jvm.Cond.soleField "StoneSheetsModel" "begin") ∈ lw_all := lw_g (lw_at lw_m6 55 rfl) rfl
theorem q1336 : (Jvm.Cond.lays "StoneSheetsModel" "StoneSheetsModel" "behind" "I") ∈ lw_all := lw_g (lw_at lw_m6 56 rfl) rfl
theorem q1337 : (Jvm.Cond.soleField "StoneSheetsModel" "behind") ∈ lw_all := lw_g (lw_at lw_m6 57 rfl) rfl
theorem q1338 : (Jvm.Cond.lays "StoneSheetsModel" "StoneSheetsModel" "token" "I") ∈ lw_all := lw_g (lw_at lw_m6 58 rfl) rfl
theorem q1339 : (Jvm.Cond.soleField "StoneSheetsModel" "token") ∈ lw_all := lw_g (lw_at lw_m6 59 rfl) rfl
theorem q1340 : (Jvm.Cond.lays "StoneSheetsModel" "StoneSheetsModel" "number" "I") ∈ lw_all := lw_g (lw_at lw_m6 60 rfl) rfl
theorem q1341 : (Jvm.Cond.soleField "StoneSheetsModel" "number") ∈ lw_all := lw_g (lw_at lw_m6 61 rfl) rfl
theorem q1342 : (Jvm.Cond.lays "StoneSheetsModel" "StoneSheetsModel" "letter" "I") ∈ lw_all := lw_g (lw_at lw_m6 62 rfl) rfl
theorem q1343 : (Jvm.Cond.soleField "StoneSheetsModel" "letter") ∈ lw_all := lw_g (lw_at lw_m6 63 rfl) rfl
theorem q1344 : (Jvm.Cond.lays "StoneSheetsModel" "StoneSheetsModel" "deep" "I") ∈ lw_all := lw_g (lw_at lw_m6 64 rfl) rfl
theorem q1345 : (Jvm.Cond.soleField "StoneSheetsModel" "deep") ∈ lw_all := lw_g (lw_at lw_m6 65 rfl) rfl
theorem q1346 : (Jvm.Cond.lays "StoneSheetsModel" "StoneSheetsModel" "turned" "I") ∈ lw_all := lw_g (lw_at lw_m6 66 rfl) rfl
theorem q1347 : (Jvm.Cond.soleField "StoneSheetsModel" "turned") ∈ lw_all := lw_g (lw_at lw_m6 67 rfl) rfl
theorem q1348 : (Jvm.Cond.lays "StoneSheetsModel" "StoneSheetsModel" "laid" "I") ∈ lw_all := lw_g (lw_at lw_m6 68 rfl) rfl
theorem q1349 : (Jvm.Cond.soleField "StoneSheetsModel" "laid") ∈ lw_all := lw_g (lw_at lw_m6 69 rfl) rfl
theorem q1350 : (Jvm.Cond.lays "StoneSheetsModel" "StoneSheetsModel" "laidAt" "I") ∈ lw_all := lw_g (lw_at lw_m6 70 rfl) rfl
theorem q1351 : (Jvm.Cond.soleField "StoneSheetsModel" "laidAt") ∈ lw_all := lw_g (lw_at lw_m6 71 rfl) rfl
theorem q1352 : (Jvm.Cond.lays "StoneSheetsModel" "StoneSheetsModel" "said" "I") ∈ lw_all := lw_g (lw_at lw_m6 72 rfl) rfl
theorem q1353 : (Jvm.Cond.soleField "StoneSheetsModel" "said") ∈ lw_all := lw_g (lw_at lw_m6 73 rfl) rfl
theorem q1354 : (Jvm.Cond.laysFinal "StoneSheetsModel" "StoneSheetsModel" "named" "[I") ∈ lw_all := lw_g (lw_at lw_m6 74 rfl) rfl
theorem q1355 : (Jvm.Cond.soleField "StoneSheetsModel" "named") ∈ lw_all := lw_g (lw_at lw_m6 75 rfl) rfl
theorem q1356 : (Jvm.Cond.laysFinal "StoneSheetsModel" "StoneSheetsModel" "pile" "[I") ∈ lw_all := lw_g (lw_at lw_m6 76 rfl) rfl
theorem q1357 : (Jvm.Cond.soleField "StoneSheetsModel" "pile") ∈ lw_all := lw_g (lw_at lw_m6 77 rfl) rfl
theorem q1358 : (Jvm.Cond.laysFinal "StoneSheetsModel" "StoneSheetsModel" "carried" "[I") ∈ lw_all := lw_g (lw_at lw_m6 78 rfl) rfl
theorem q1359 : (Jvm.Cond.soleField "StoneSheetsModel" "carried") ∈ lw_all := lw_g (lw_at lw_m6 79 rfl) rfl
theorem q1360 : (Jvm.Cond.laysFinal "StoneSheetsModel" "StoneSheetsModel" "waits" "[I") ∈ lw_all := lw_g (lw_at lw_m6 80 rfl) rfl
theorem q1361 : (Jvm.Cond.soleField "StoneSheetsModel" "waits") ∈ lw_all := lw_g (lw_at lw_m6 81 rfl) rfl
theorem q1362 : (Jvm.Cond.lays "StoneSheetsModel" "StoneSheetsModel" "waiting" "I") ∈ lw_all := lw_g (lw_at lw_m6 82 rfl) rfl
theorem q1363 : (Jvm.Cond.soleField "StoneSheetsModel" "waiting") ∈ lw_all := lw_g (lw_at lw_m6 83 rfl) rfl
theorem q1364 : (Jvm.Cond.laysFinal "StoneSheetsModel" "StoneSheetsModel" "rowDue" "[I") ∈ lw_all := lw_g (lw_at lw_m6 84 rfl) rfl
theorem q1365 : (Jvm.Cond.soleField "StoneSheetsModel" "rowDue") ∈ lw_all := lw_g (lw_at lw_m6 85 rfl) rfl
theorem q1366 : (Jvm.Cond.superclass "StoneSheetsModel" "java/lang/Object") ∈ lw_all := lw_g (lw_at lw_m6 86 rfl) rfl
theorem q1368 : (Jvm.Cond.instanceMethod ({ cls := "StoneSheetsModel", name := "rubbing", desc := "(III)I" } : Jvm.MethodName)) ∈ lw_all := lw_g (lw_at lw_m6 88 rfl) rfl
theorem q1369 : (Jvm.Cond.selects "StoneSheetsModel" ({ cls := "StoneSheetsModel", name := "rubbing", desc := "(III)I" } : Jvm.MethodName) ({ cls := "StoneSheetsModel", name := "rubbing", desc := "(III)I" } : Jvm.MethodName)) ∈ lw_all := lw_g (lw_at lw_m6 89 rfl) rfl
theorem q1370 : (Jvm.Cond.code ({ cls := "StoneSheetsModel", name := "rubbing", desc := "(III)I" } : Jvm.MethodName) prog_18_method_15_code (4 : Nat) (Option.some Jvm.ClassFile.FieldType.int)) ∈ lw_all := lw_g (lw_at lw_m6 90 rfl) rfl
theorem q1371 : (Jvm.Cond.constantLong "StoneSheetsModel" (77 : Nat) (5 : Int64)) ∈ lw_all := lw_g (lw_at lw_m6 91 rfl) rfl
theorem q1372 : (Jvm.Cond.methodLink "StoneSheetsModel" (68 : Nat) ({ cls := "StoneSheetsModel", name := "isIn", desc := "(JJJ)Z" } : Jvm.MethodName)) ∈ lw_all := lw_g (lw_at lw_m6 92 rfl) rfl
theorem q1373 : (Jvm.Cond.static ({ cls := "StoneSheetsModel", name := "isIn", desc := "(JJJ)Z" } : Jvm.MethodName)) ∈ lw_all := lw_g (lw_at lw_m6 93 rfl) rfl
theorem q1374 : (Jvm.Cond.code ({ cls := "StoneSheetsModel", name := "isIn", desc := "(JJJ)Z" } : Jvm.MethodName) prog_18_method_2_code (6 : Nat) (Option.some Jvm.ClassFile.FieldType.boolean)) ∈ lw_all := lw_g (lw_at lw_m6 94 rfl) rfl
theorem q1375 : (Jvm.Cond.constantLong "StoneSheetsModel" (79 : Nat) (65535 : Int64)) ∈ lw_all := lw_g (lw_at lw_m6 95 rfl) rfl
theorem q1376 : (Jvm.Cond.constantLong "StoneSheetsModel" (81 : Nat) (8 : Int64)) ∈ lw_all := lw_g (lw_at lw_m6 96 rfl) rfl
theorem q1377 : (Jvm.Cond.constant "StoneSheetsModel" (83 : Nat) (-1000000001 : Int32)) ∈ lw_all := lw_g (lw_at lw_m6 97 rfl) rfl
theorem q1378 : (Jvm.Cond.constant "StoneSheetsModel" (84 : Nat) (-1000000003 : Int32)) ∈ lw_all := lw_g (lw_at lw_m6 98 rfl) rfl
theorem q1379 : (Jvm.Cond.methodLink "StoneSheetsModel" (85 : Nat) ({ cls := "StoneSheetsModel", name := "comes", desc := "(III)V" } : Jvm.MethodName)) ∈ lw_all := lw_g (lw_at lw_m6 99 rfl) rfl
theorem q1380 : (Jvm.Cond.privateMethod ({ cls := "StoneSheetsModel", name := "comes", desc := "(III)V" } : Jvm.MethodName)) ∈ lw_tbl := lw_at lw_m6 100 rfl
theorem q1381 : (Jvm.Cond.instanceMethod ({ cls := "StoneSheetsModel", name := "comes", desc := "(III)V" } : Jvm.MethodName)) ∈ lw_all := lw_g (lw_at lw_m6 101 rfl) rfl
theorem q1382 : (Jvm.Cond.code ({ cls := "StoneSheetsModel", name := "comes", desc := "(III)V" } : Jvm.MethodName) prog_18_method_14_code (5 : Nat) (Option.none : Option Jvm.ClassFile.FieldType)) ∈ lw_all := lw_g (lw_at lw_m6 102 rfl) rfl
theorem q1383 : (Jvm.Cond.methodLink "StoneSheetsModel" (73 : Nat) ({ cls := "StoneSheetsModel", name := "sets", desc := "(III)V" } : Jvm.MethodName)) ∈ lw_all := lw_g (lw_at lw_m6 103 rfl) rfl
theorem q1384 : (Jvm.Cond.privateMethod ({ cls := "StoneSheetsModel", name := "sets", desc := "(III)V" } : Jvm.MethodName)) ∈ lw_tbl := lw_at lw_m6 104 rfl
theorem q1385 : (Jvm.Cond.instanceMethod ({ cls := "StoneSheetsModel", name := "sets", desc := "(III)V" } : Jvm.MethodName)) ∈ lw_all := lw_g (lw_at lw_m6 105 rfl) rfl
theorem q1386 : (Jvm.Cond.code ({ cls := "StoneSheetsModel", name := "sets", desc := "(III)V" } : Jvm.MethodName) prog_18_method_10_code (4 : Nat) (Option.none : Option Jvm.ClassFile.FieldType)) ∈ lw_all := lw_g (lw_at lw_m6 106 rfl) rfl
theorem q1388 : (Jvm.Cond.instanceMethod ({ cls := "StoneSheetsModel", name := "told", desc := "(II)I" } : Jvm.MethodName)) ∈ lw_all := lw_g (lw_at lw_m6 108 rfl) rfl
theorem q1389 : (Jvm.Cond.selects "StoneSheetsModel" ({ cls := "StoneSheetsModel", name := "told", desc := "(II)I" } : Jvm.MethodName) ({ cls := "StoneSheetsModel", name := "told", desc := "(II)I" } : Jvm.MethodName)) ∈ lw_all := lw_g (lw_at lw_m6 109 rfl) rfl
theorem q1390 : (Jvm.Cond.code ({ cls := "StoneSheetsModel", name := "told", desc := "(II)I" } : Jvm.MethodName) prog_18_method_23_code (3 : Nat) (Option.some Jvm.ClassFile.FieldType.int)) ∈ lw_all := lw_g (lw_at lw_m6 110 rfl) rfl
theorem q1391 : (Jvm.Cond.methodLink "StoneSheetsModel" (109 : Nat) ({ cls := "StoneSheetsModel", name := "isRubbing", desc := "(I)Z" } : Jvm.MethodName)) ∈ lw_all := lw_g (lw_at lw_m6 111 rfl) rfl
theorem q1392 : (Jvm.Cond.privateMethod ({ cls := "StoneSheetsModel", name := "isRubbing", desc := "(I)Z" } : Jvm.MethodName)) ∈ lw_tbl := lw_at lw_m6 112 rfl
theorem q1393 : (Jvm.Cond.instanceMethod ({ cls := "StoneSheetsModel", name := "isRubbing", desc := "(I)Z" } : Jvm.MethodName)) ∈ lw_all := lw_g (lw_at lw_m6 113 rfl) rfl
theorem q1394 : (Jvm.Cond.code ({ cls := "StoneSheetsModel", name := "isRubbing", desc := "(I)Z" } : Jvm.MethodName) prog_18_method_11_code (2 : Nat) (Option.some Jvm.ClassFile.FieldType.boolean)) ∈ lw_all := lw_g (lw_at lw_m6 114 rfl) rfl
theorem q1395 : (Jvm.Cond.methodLink "StoneSheetsModel" (88 : Nat) ({ cls := "StoneSheetsModel", name := "of", desc := "(II)I" } : Jvm.MethodName)) ∈ lw_all := lw_g (lw_at lw_m6 115 rfl) rfl
theorem q1396 : (Jvm.Cond.privateMethod ({ cls := "StoneSheetsModel", name := "of", desc := "(II)I" } : Jvm.MethodName)) ∈ lw_tbl := lw_at lw_m6 116 rfl
theorem q1397 : (Jvm.Cond.instanceMethod ({ cls := "StoneSheetsModel", name := "of", desc := "(II)I" } : Jvm.MethodName)) ∈ lw_all := lw_g (lw_at lw_m6 117 rfl) rfl
theorem q1398 : (Jvm.Cond.code ({ cls := "StoneSheetsModel", name := "of", desc := "(II)I" } : Jvm.MethodName) prog_18_method_9_code (3 : Nat) (Option.some Jvm.ClassFile.FieldType.int)) ∈ lw_all := lw_g (lw_at lw_m6 118 rfl) rfl
theorem q1399 : (Jvm.Cond.methodLink "StoneSheetsModel" (113 : Nat) ({ cls := "StoneSheetsModel", name := "covers", desc := "(I)I" } : Jvm.MethodName)) ∈ lw_all := lw_g (lw_at lw_m6 119 rfl) rfl
theorem q1400 : (Jvm.Cond.privateMethod ({ cls := "StoneSheetsModel", name := "covers", desc := "(I)I" } : Jvm.MethodName)) ∈ lw_tbl := lw_at lw_m6 120 rfl
theorem q1401 : (Jvm.Cond.instanceMethod ({ cls := "StoneSheetsModel", name := "covers", desc := "(I)I" } : Jvm.MethodName)) ∈ lw_all := lw_g (lw_at lw_m6 121 rfl) rfl
theorem q1402 : (Jvm.Cond.code ({ cls := "StoneSheetsModel", name := "covers", desc := "(I)I" } : Jvm.MethodName) prog_18_method_22_code (2 : Nat) (Option.some Jvm.ClassFile.FieldType.int)) ∈ lw_all := lw_g (lw_at lw_m6 122 rfl) rfl
theorem q1403 : (Jvm.Cond.methodLink "StoneSheetsModel" (106 : Nat) ({ cls := "StoneSheetsModel", name := "coversFrom", desc := "(II)I" } : Jvm.MethodName)) ∈ lw_all := lw_g (lw_at lw_m6 123 rfl) rfl
theorem q1404 : (Jvm.Cond.privateMethod ({ cls := "StoneSheetsModel", name := "coversFrom", desc := "(II)I" } : Jvm.MethodName)) ∈ lw_tbl := lw_at lw_m6 124 rfl
theorem q1405 : (Jvm.Cond.instanceMethod ({ cls := "StoneSheetsModel", name := "coversFrom", desc := "(II)I" } : Jvm.MethodName)) ∈ lw_all := lw_g (lw_at lw_m6 125 rfl) rfl
theorem q1406 : (Jvm.Cond.code ({ cls := "StoneSheetsModel", name := "coversFrom", desc := "(II)I" } : Jvm.MethodName) prog_18_method_21_code (3 : Nat) (Option.some Jvm.ClassFile.FieldType.int)) ∈ lw_all := lw_g (lw_at lw_m6 126 rfl) rfl
theorem q1407 : (Jvm.Cond.constant "StoneSheetsModel" (105 : Nat) (65535 : Int32)) ∈ lw_all := lw_g (lw_at lw_m6 127 rfl) rfl
theorem q1408 : (Jvm.Cond.methodLink "StoneSheetsModel" (116 : Nat) ({ cls := "StoneSheetsModel", name := "gains", desc := "(I)I" } : Jvm.MethodName)) ∈ lw_all := lw_g (lw_at lw_m6 128 rfl) rfl
theorem q1409 : (Jvm.Cond.privateMethod ({ cls := "StoneSheetsModel", name := "gains", desc := "(I)I" } : Jvm.MethodName)) ∈ lw_tbl := lw_at lw_m6 129 rfl
theorem q1410 : (Jvm.Cond.instanceMethod ({ cls := "StoneSheetsModel", name := "gains", desc := "(I)I" } : Jvm.MethodName)) ∈ lw_all := lw_g (lw_at lw_m6 130 rfl) rfl
theorem q1411 : (Jvm.Cond.code ({ cls := "StoneSheetsModel", name := "gains", desc := "(I)I" } : Jvm.MethodName) prog_18_method_18_code (4 : Nat) (Option.some Jvm.ClassFile.FieldType.int)) ∈ lw_all := lw_g (lw_at lw_m6 131 rfl) rfl
theorem q1412 : (Jvm.Cond.methodLink "StoneSheetsModel" (96 : Nat) ({ cls := "StoneSheetsModel", name := "counts", desc := "(I)I" } : Jvm.MethodName)) ∈ lw_all := lw_g (lw_at lw_m6 132 rfl) rfl
theorem q1413 : (Jvm.Cond.privateMethod ({ cls := "StoneSheetsModel", name := "counts", desc := "(I)I" } : Jvm.MethodName)) ∈ lw_tbl := lw_at lw_m6 133 rfl
theorem q1414 : (Jvm.Cond.instanceMethod ({ cls := "StoneSheetsModel", name := "counts", desc := "(I)I" } : Jvm.MethodName)) ∈ lw_all := lw_g (lw_at lw_m6 134 rfl) rfl
theorem q1415 : (Jvm.Cond.code ({ cls := "StoneSheetsModel", name := "counts", desc := "(I)I" } : Jvm.MethodName) prog_18_method_81_code (4 : Nat) (Option.some Jvm.ClassFile.FieldType.int)) ∈ lw_all := lw_g (lw_at lw_m6 135 rfl) rfl
theorem q1416 : (Jvm.Cond.methodLink "StoneSheetsModel" (284 : Nat) ({ cls := "StoneSheetsModel", name := "textAt", desc := "(I)I" } : Jvm.MethodName)) ∈ lw_all := lw_g (lw_at lw_m6 136 rfl) rfl
theorem q1417 : (Jvm.Cond.privateMethod ({ cls := "StoneSheetsModel", name := "textAt", desc := "(I)I" } : Jvm.MethodName)) ∈ lw_tbl := lw_at lw_m6 137 rfl
theorem q1418 : (Jvm.Cond.instanceMethod ({ cls := "StoneSheetsModel", name := "textAt", desc := "(I)I" } : Jvm.MethodName)) ∈ lw_all := lw_g (lw_at lw_m6 138 rfl) rfl
theorem q1419 : (Jvm.Cond.code ({ cls := "StoneSheetsModel", name := "textAt", desc := "(I)I" } : Jvm.MethodName) prog_18_method_8_code (2 : Nat) (Option.some Jvm.ClassFile.FieldType.int)) ∈ lw_all := lw_g (lw_at lw_m6 139 rfl) rfl
theorem q1420 : (Jvm.Cond.methodLink "StoneSheetsModel" (99 : Nat) ({ cls := "StoneSheetsModel", name := "worked", desc := "(I)I" } : Jvm.MethodName)) ∈ lw_all := lw_g (lw_at lw_m6 140 rfl) rfl
theorem q1421 : (Jvm.Cond.privateMethod ({ cls := "StoneSheetsModel", name := "worked", desc := "(I)I" } : Jvm.MethodName)) ∈ lw_tbl := lw_at lw_m6 141 rfl
theorem q1422 : (Jvm.Cond.instanceMethod ({ cls := "StoneSheetsModel", name := "worked", desc := "(I)I" } : Jvm.MethodName)) ∈ lw_all := lw_g (lw_at lw_m6 142 rfl) rfl
theorem q1423 : (Jvm.Cond.code ({ cls := "StoneSheetsModel", name := "worked", desc := "(I)I" } : Jvm.MethodName) prog_18_method_84_code (6 : Nat) (Option.some Jvm.ClassFile.FieldType.int)) ∈ lw_all := lw_g (lw_at lw_m6 143 rfl) rfl
theorem q1424 : (Jvm.Cond.methodLink "StoneSheetsModel" (298 : Nat) ({ cls := "StoneSheetsModel", name := "joined", desc := "(III)I" } : Jvm.MethodName)) ∈ lw_all := lw_g (lw_at lw_m6 144 rfl) rfl
theorem q1425 : (Jvm.Cond.static ({ cls := "StoneSheetsModel", name := "joined", desc := "(III)I" } : Jvm.MethodName)) ∈ lw_all := lw_g (lw_at lw_m6 145 rfl) rfl
theorem q1426 : (Jvm.Cond.code ({ cls := "StoneSheetsModel", name := "joined", desc := "(III)I" } : Jvm.MethodName) prog_18_method_83_code (3 : Nat) (Option.some Jvm.ClassFile.FieldType.int)) ∈ lw_all := lw_g (lw_at lw_m6 146 rfl) rfl
theorem q1427 : (Jvm.Cond.methodLink "StoneSheetsModel" (102 : Nat) ({ cls := "StoneSheetsModel", name := "within", desc := "(II)I" } : Jvm.MethodName)) ∈ lw_all := lw_g (lw_at lw_m6 147 rfl) rfl
theorem q1428 : (Jvm.Cond.static ({ cls := "StoneSheetsModel", name := "within", desc := "(II)I" } : Jvm.MethodName)) ∈ lw_all := lw_g (lw_at lw_m6 148 rfl) rfl
theorem q1429 : (Jvm.Cond.code ({ cls := "StoneSheetsModel", name := "within", desc := "(II)I" } : Jvm.MethodName) prog_18_method_4_code (2 : Nat) (Option.some Jvm.ClassFile.FieldType.int)) ∈ lw_all := lw_g (lw_at lw_m6 149 rfl) rfl
theorem q1430 : (Jvm.Cond.methodLink "StoneSheetsModel" (119 : Nat) ({ cls := "StoneSheetsModel", name := "loses", desc := "(I)I" } : Jvm.MethodName)) ∈ lw_all := lw_g (lw_at lw_m6 150 rfl) rfl
theorem q1431 : (Jvm.Cond.privateMethod ({ cls := "StoneSheetsModel", name := "loses", desc := "(I)I" } : Jvm.MethodName)) ∈ lw_tbl := lw_at lw_m6 151 rfl
theorem q1432 : (Jvm.Cond.instanceMethod ({ cls := "StoneSheetsModel", name := "loses", desc := "(I)I" } : Jvm.MethodName)) ∈ lw_all := lw_g (lw_at lw_m6 152 rfl) rfl
theorem q1433 : (Jvm.Cond.code ({ cls := "StoneSheetsModel", name := "loses", desc := "(I)I" } : Jvm.MethodName) prog_18_method_19_code (2 : Nat) (Option.some Jvm.ClassFile.FieldType.int)) ∈ lw_all := lw_g (lw_at lw_m6 153 rfl) rfl
theorem q1434 : (Jvm.Cond.methodLink "StoneSheetsModel" (122 : Nat) ({ cls := "StoneSheetsModel", name := "worth", desc := "(I)I" } : Jvm.MethodName)) ∈ lw_all := lw_g (lw_at lw_m6 154 rfl) rfl
theorem q1435 : (Jvm.Cond.privateMethod ({ cls := "StoneSheetsModel", name := "worth", desc := "(I)I" } : Jvm.MethodName)) ∈ lw_tbl := lw_at lw_m6 155 rfl
theorem q1436 : (Jvm.Cond.instanceMethod ({ cls := "StoneSheetsModel", name := "worth", desc := "(I)I" } : Jvm.MethodName)) ∈ lw_all := lw_g (lw_at lw_m6 156 rfl) rfl
theorem q1437 : (Jvm.Cond.code ({ cls := "StoneSheetsModel", name := "worth", desc := "(I)I" } : Jvm.MethodName) prog_18_method_20_code (3 : Nat) (Option.some Jvm.ClassFile.FieldType.int)) ∈ lw_all := lw_g (lw_at lw_m6 157 rfl) rfl
theorem q1439 : (Jvm.Cond.instanceMethod ({ cls := "StoneSheetsModel", name := "says", desc := "(II)I" } : Jvm.MethodName)) ∈ lw_all := lw_g (lw_at lw_m6 159 rfl) rfl
theorem q1440 : (Jvm.Cond.selects "StoneSheetsModel" ({ cls := "StoneSheetsModel", name := "says", desc := "(II)I" } : Jvm.MethodName) ({ cls := "StoneSheetsModel", name := "says", desc := "(II)I" } : Jvm.MethodName)) ∈ lw_all := lw_g (lw_at lw_m6 160 rfl) rfl
theorem q1441 : (Jvm.Cond.code ({ cls := "StoneSheetsModel", name := "says", desc := "(II)I" } : Jvm.MethodName) prog_18_method_24_code (3 : Nat) (Option.some Jvm.ClassFile.FieldType.int)) ∈ lw_all := lw_g (lw_at lw_m6 161 rfl) rfl
theorem q1442 : (Jvm.Cond.methodLink "StoneSheetsModel" (125 : Nat) ({ cls := "StoneSheetsModel", name := "saysAt", desc := "(II)I" } : Jvm.MethodName)) ∈ lw_all := lw_g (lw_at lw_m6 162 rfl) rfl
theorem q1443 : (Jvm.Cond.privateMethod ({ cls := "StoneSheetsModel", name := "saysAt", desc := "(II)I" } : Jvm.MethodName)) ∈ lw_tbl := lw_at lw_m6 163 rfl
theorem q1444 : (Jvm.Cond.instanceMethod ({ cls := "StoneSheetsModel", name := "saysAt", desc := "(II)I" } : Jvm.MethodName)) ∈ lw_all := lw_g (lw_at lw_m6 164 rfl) rfl
theorem q1445 : (Jvm.Cond.code ({ cls := "StoneSheetsModel", name := "saysAt", desc := "(II)I" } : Jvm.MethodName) prog_18_method_17_code (6 : Nat) (Option.some Jvm.ClassFile.FieldType.int)) ∈ lw_all := lw_g (lw_at lw_m6 165 rfl) rfl
theorem q1446 : (Jvm.Cond.methodLink "StoneSheetsModel" (92 : Nat) ({ cls := "StoneSheetsModel", name := "bolder", desc := "(I)I" } : Jvm.MethodName)) ∈ lw_all := lw_g (lw_at lw_m6 166 rfl) rfl
theorem q1447 : (Jvm.Cond.static ({ cls := "StoneSheetsModel", name := "bolder", desc := "(I)I" } : Jvm.MethodName)) ∈ lw_all := lw_g (lw_at lw_m6 167 rfl) rfl
theorem q1448 : (Jvm.Cond.code ({ cls := "StoneSheetsModel", name := "bolder", desc := "(I)I" } : Jvm.MethodName) prog_18_method_16_code (1 : Nat) (Option.some Jvm.ClassFile.FieldType.int)) ∈ lw_all := lw_g (lw_at lw_m6 168 rfl) rfl
theorem q1450 : (Jvm.Cond.instanceMethod ({ cls := "StoneSheetsModel", name := "as", desc := "(II)I" } : Jvm.MethodName)) ∈ lw_all := lw_g (lw_at lw_m6 170 rfl) rfl
theorem q1451 : (Jvm.Cond.selects "StoneSheetsModel" ({ cls := "StoneSheetsModel", name := "as", desc := "(II)I" } : Jvm.MethodName) ({ cls := "StoneSheetsModel", name := "as", desc := "(II)I" } : Jvm.MethodName)) ∈ lw_all := lw_g (lw_at lw_m6 171 rfl) rfl
theorem q1452 : (Jvm.Cond.code ({ cls := "StoneSheetsModel", name := "as", desc := "(II)I" } : Jvm.MethodName) prog_18_method_26_code (3 : Nat) (Option.some Jvm.ClassFile.FieldType.int)) ∈ lw_all := lw_g (lw_at lw_m6 172 rfl) rfl
theorem q1453 : (Jvm.Cond.methodLink "StoneSheetsModel" (128 : Nat) ({ cls := "StoneSheetsModel", name := "isOf", desc := "(II)Z" } : Jvm.MethodName)) ∈ lw_all := lw_g (lw_at lw_m6 173 rfl) rfl
theorem q1454 : (Jvm.Cond.static ({ cls := "StoneSheetsModel", name := "isOf", desc := "(II)Z" } : Jvm.MethodName)) ∈ lw_all := lw_g (lw_at lw_m6 174 rfl) rfl
theorem q1455 : (Jvm.Cond.code ({ cls := "StoneSheetsModel", name := "isOf", desc := "(II)Z" } : Jvm.MethodName) prog_18_method_25_code (2 : Nat) (Option.some Jvm.ClassFile.FieldType.boolean)) ∈ lw_all := lw_g (lw_at lw_m6 175 rfl) rfl
theorem q1456 : (Jvm.Cond.constant "StoneSheetsModel" (132 : Nat) (-1000000012 : Int32)) ∈ lw_all := lw_g (lw_at lw_m6 176 rfl) rfl
theorem q1458 : (Jvm.Cond.instanceMethod ({ cls := "StoneSheetsModel", name := "turns", desc := "(II)I" } : Jvm.MethodName)) ∈ lw_all := lw_g (lw_at lw_m6 178 rfl) rfl
theorem q1459 : (Jvm.Cond.selects "StoneSheetsModel" ({ cls := "StoneSheetsModel", name := "turns", desc := "(II)I" } : Jvm.MethodName) ({ cls := "StoneSheetsModel", name := "turns", desc := "(II)I" } : Jvm.MethodName)) ∈ lw_all := lw_g (lw_at lw_m6 179 rfl) rfl
theorem q1460 : (Jvm.Cond.code ({ cls := "StoneSheetsModel", name := "turns", desc := "(II)I" } : Jvm.MethodName) prog_18_method_27_code (3 : Nat) (Option.some Jvm.ClassFile.FieldType.int)) ∈ lw_all := lw_g (lw_at lw_m6 180 rfl) rfl
theorem q1461 : (Jvm.Cond.methodLink "StoneSheetsModel" (133 : Nat) ({ cls := "StoneSheetsModel", name := "becomes", desc := "(II)I" } : Jvm.MethodName)) ∈ lw_all := lw_g (lw_at lw_m6 181 rfl) rfl
theorem q1462 : (Jvm.Cond.privateMethod ({ cls := "StoneSheetsModel", name := "becomes", desc := "(II)I" } : Jvm.MethodName)) ∈ lw_tbl := lw_at lw_m6 182 rfl
theorem q1463 : (Jvm.Cond.instanceMethod ({ cls := "StoneSheetsModel", name := "becomes", desc := "(II)I" } : Jvm.MethodName)) ∈ lw_all := lw_g (lw_at lw_m6 183 rfl) rfl
theorem q1464 : (Jvm.Cond.code ({ cls := "StoneSheetsModel", name := "becomes", desc := "(II)I" } : Jvm.MethodName) prog_18_method_7_code (4 : Nat) (Option.some Jvm.ClassFile.FieldType.int)) ∈ lw_all := lw_g (lw_at lw_m6 184 rfl) rfl
theorem q1466 : (Jvm.Cond.instanceMethod ({ cls := "StoneSheetsModel", name := "set", desc := "(III)I" } : Jvm.MethodName)) ∈ lw_all := lw_g (lw_at lw_m6 186 rfl) rfl
theorem q1467 : (Jvm.Cond.selects "StoneSheetsModel" ({ cls := "StoneSheetsModel", name := "set", desc := "(III)I" } : Jvm.MethodName) ({ cls := "StoneSheetsModel", name := "set", desc := "(III)I" } : Jvm.MethodName)) ∈ lw_all := lw_g (lw_at lw_m6 187 rfl) rfl
theorem q1468 : (Jvm.Cond.code ({ cls := "StoneSheetsModel", name := "set", desc := "(III)I" } : Jvm.MethodName) prog_18_method_29_code (4 : Nat) (Option.some Jvm.ClassFile.FieldType.int)) ∈ lw_all := lw_g (lw_at lw_m6 188 rfl) rfl
theorem q1469 : (Jvm.Cond.methodLink "StoneSheetsModel" (136 : Nat) ({ cls := "StoneSheetsModel", name := "mostOf", desc := "(I)I" } : Jvm.MethodName)) ∈ lw_all := lw_g (lw_at lw_m6 189 rfl) rfl
theorem q1470 : (Jvm.Cond.static ({ cls := "StoneSheetsModel", name := "mostOf", desc := "(I)I" } : Jvm.MethodName)) ∈ lw_all := lw_g (lw_at lw_m6 190 rfl) rfl
theorem q1471 : (Jvm.Cond.code ({ cls := "StoneSheetsModel", name := "mostOf", desc := "(I)I" } : Jvm.MethodName) prog_18_method_28_code (1 : Nat) (Option.some Jvm.ClassFile.FieldType.int)) ∈ lw_all := lw_g (lw_at lw_m6 191 rfl) rfl
theorem q1473 : (Jvm.Cond.instanceMethod ({ cls := "StoneSheetsModel", name := "carve", desc := "(II)I" } : Jvm.MethodName)) ∈ lw_all := lw_g (lw_at lw_m6 193 rfl) rfl
theorem q1474 : (Jvm.Cond.selects "StoneSheetsModel" ({ cls := "StoneSheetsModel", name := "carve", desc := "(II)I" } : Jvm.MethodName) ({ cls := "StoneSheetsModel", name := "carve", desc := "(II)I" } : Jvm.MethodName)) ∈ lw_all := lw_g (lw_at lw_m6 194 rfl) rfl
theorem q1475 : (Jvm.Cond.code ({ cls := "StoneSheetsModel", name := "carve", desc := "(II)I" } : Jvm.MethodName) prog_18_method_30_code (3 : Nat) (Option.some Jvm.ClassFile.FieldType.int)) ∈ lw_all := lw_g (lw_at lw_m6 195 rfl) rfl
theorem q1476 : (Jvm.Cond.constantLong "StoneSheetsModel" (139 : Nat) (15 : Int64)) ∈ lw_all := lw_g (lw_at lw_m6 196 rfl) rfl
theorem q1477 : (Jvm.Cond.constantLong "StoneSheetsModel" (141 : Nat) (3 : Int64)) ∈ lw_all := lw_g (lw_at lw_m6 197 rfl) rfl
theorem q1479 : (Jvm.Cond.instanceMethod ({ cls := "StoneSheetsModel", name := "carved", desc := "(I)I" } : Jvm.MethodName)) ∈ lw_all := lw_g (lw_at lw_m6 199 rfl) rfl
theorem q1480 : (Jvm.Cond.selects "StoneSheetsModel" ({ cls := "StoneSheetsModel", name := "carved", desc := "(I)I" } : Jvm.MethodName) ({ cls := "StoneSheetsModel", name := "carved", desc := "(I)I" } : Jvm.MethodName)) ∈ lw_all := lw_g (lw_at lw_m6 200 rfl) rfl
theorem q1481 : (Jvm.Cond.code ({ cls := "StoneSheetsModel", name := "carved", desc := "(I)I" } : Jvm.MethodName) prog_18_method_31_code (2 : Nat) (Option.some Jvm.ClassFile.FieldType.int)) ∈ lw_all := lw_g (lw_at lw_m6 201 rfl) rfl
theorem q1483 : (Jvm.Cond.instanceMethod ({ cls := "StoneSheetsModel", name := "deal", desc := "(I)I" } : Jvm.MethodName)) ∈ lw_all := lw_g (lw_at lw_m6 203 rfl) rfl
theorem q1484 : (Jvm.Cond.selects "StoneSheetsModel" ({ cls := "StoneSheetsModel", name := "deal", desc := "(I)I" } : Jvm.MethodName) ({ cls := "StoneSheetsModel", name := "deal", desc := "(I)I" } : Jvm.MethodName)) ∈ lw_all := lw_g (lw_at lw_m6 204 rfl) rfl
theorem q1485 : (Jvm.Cond.code ({ cls := "StoneSheetsModel", name := "deal", desc := "(I)I" } : Jvm.MethodName) prog_18_method_32_code (5 : Nat) (Option.some Jvm.ClassFile.FieldType.int)) ∈ lw_all := lw_g (lw_at lw_m6 205 rfl) rfl
theorem q1486 : (Jvm.Cond.constantLong "StoneSheetsModel" (143 : Nat) (9 : Int64)) ∈ lw_all := lw_g (lw_at lw_m6 206 rfl) rfl
theorem q1487 : (Jvm.Cond.methodLink "StoneSheetsModel" (145 : Nat) ({ cls := "StoneSheetsModel", name := "drawn", desc := "()I" } : Jvm.MethodName)) ∈ lw_all := lw_g (lw_at lw_m6 207 rfl) rfl
theorem q1488 : (Jvm.Cond.privateMethod ({ cls := "StoneSheetsModel", name := "drawn", desc := "()I" } : Jvm.MethodName)) ∈ lw_tbl := lw_at lw_m6 208 rfl
theorem q1489 : (Jvm.Cond.instanceMethod ({ cls := "StoneSheetsModel", name := "drawn", desc := "()I" } : Jvm.MethodName)) ∈ lw_all := lw_g (lw_at lw_m6 209 rfl) rfl
theorem q1490 : (Jvm.Cond.code ({ cls := "StoneSheetsModel", name := "drawn", desc := "()I" } : Jvm.MethodName) prog_18_method_13_code (1 : Nat) (Option.some Jvm.ClassFile.FieldType.int)) ∈ lw_all := lw_g (lw_at lw_m6 210 rfl) rfl
theorem q1491 : (Jvm.Cond.constant "StoneSheetsModel" (72 : Nat) (1103515245 : Int32)) ∈ lw_all := lw_g (lw_at lw_m6 211 rfl) rfl
theorem q1492 : (Jvm.Cond.constant "StoneSheetsModel" (149 : Nat) (65536 : Int32)) ∈ lw_all := lw_g (lw_at lw_m6 212 rfl) rfl
theorem q1494 : (Jvm.Cond.instanceMethod ({ cls := "StoneSheetsModel", name := "seed", desc := "(I)I" } : Jvm.MethodName)) ∈ lw_all := lw_g (lw_at lw_m6 214 rfl) rfl
theorem q1495 : (Jvm.Cond.selects "StoneSheetsModel" ({ cls := "StoneSheetsModel", name := "seed", desc := "(I)I" } : Jvm.MethodName) ({ cls := "StoneSheetsModel", name := "seed", desc := "(I)I" } : Jvm.MethodName)) ∈ lw_all := lw_g (lw_at lw_m6 215 rfl) rfl
theorem q1496 : (Jvm.Cond.code ({ cls := "StoneSheetsModel", name := "seed", desc := "(I)I" } : Jvm.MethodName) prog_18_method_33_code (2 : Nat) (Option.some Jvm.ClassFile.FieldType.int)) ∈ lw_all := lw_g (lw_at lw_m6 216 rfl) rfl
theorem q1498 : (Jvm.Cond.instanceMethod ({ cls := "StoneSheetsModel", name := "falseAt", desc := "(II)I" } : Jvm.MethodName)) ∈ lw_all := lw_g (lw_at lw_m6 218 rfl) rfl
theorem q1499 : (Jvm.Cond.selects "StoneSheetsModel" ({ cls := "StoneSheetsModel", name := "falseAt", desc := "(II)I" } : Jvm.MethodName) ({ cls := "StoneSheetsModel", name := "falseAt", desc := "(II)I" } : Jvm.MethodName)) ∈ lw_all := lw_g (lw_at lw_m6 219 rfl) rfl
theorem q1500 : (Jvm.Cond.code ({ cls := "StoneSheetsModel", name := "falseAt", desc := "(II)I" } : Jvm.MethodName) prog_18_method_35_code (3 : Nat) (Option.some Jvm.ClassFile.FieldType.int)) ∈ lw_all := lw_g (lw_at lw_m6 220 rfl) rfl
theorem q1501 : (Jvm.Cond.methodLink "StoneSheetsModel" (150 : Nat) ({ cls := "StoneSheetsModel", name := "falseOf", desc := "(II)I" } : Jvm.MethodName)) ∈ lw_all := lw_g (lw_at lw_m6 221 rfl) rfl
theorem q1502 : (Jvm.Cond.privateMethod ({ cls := "StoneSheetsModel", name := "falseOf", desc := "(II)I" } : Jvm.MethodName)) ∈ lw_tbl := lw_at lw_m6 222 rfl
theorem q1503 : (Jvm.Cond.instanceMethod ({ cls := "StoneSheetsModel", name := "falseOf", desc := "(II)I" } : Jvm.MethodName)) ∈ lw_all := lw_g (lw_at lw_m6 223 rfl) rfl
theorem q1504 : (Jvm.Cond.code ({ cls := "StoneSheetsModel", name := "falseOf", desc := "(II)I" } : Jvm.MethodName) prog_18_method_34_code (5 : Nat) (Option.some Jvm.ClassFile.FieldType.int)) ∈ lw_all := lw_g (lw_at lw_m6 224 rfl) rfl
theorem q1506 : (Jvm.Cond.instanceMethod ({ cls := "StoneSheetsModel", name := "fits", desc := "(II)I" } : Jvm.MethodName)) ∈ lw_all := lw_g (lw_at lw_m6 226 rfl) rfl
theorem q1507 : (Jvm.Cond.selects "StoneSheetsModel" ({ cls := "StoneSheetsModel", name := "fits", desc := "(II)I" } : Jvm.MethodName) ({ cls := "StoneSheetsModel", name := "fits", desc := "(II)I" } : Jvm.MethodName)) ∈ lw_all := lw_g (lw_at lw_m6 227 rfl) rfl
theorem q1508 : (Jvm.Cond.code ({ cls := "StoneSheetsModel", name := "fits", desc := "(II)I" } : Jvm.MethodName) prog_18_method_36_code (5 : Nat) (Option.some Jvm.ClassFile.FieldType.int)) ∈ lw_all := lw_g (lw_at lw_m6 228 rfl) rfl
theorem q1510 : (Jvm.Cond.instanceMethod ({ cls := "StoneSheetsModel", name := "join", desc := "(III)I" } : Jvm.MethodName)) ∈ lw_all := lw_g (lw_at lw_m6 230 rfl) rfl
theorem q1511 : (Jvm.Cond.selects "StoneSheetsModel" ({ cls := "StoneSheetsModel", name := "join", desc := "(III)I" } : Jvm.MethodName) ({ cls := "StoneSheetsModel", name := "join", desc := "(III)I" } : Jvm.MethodName)) ∈ lw_all := lw_g (lw_at lw_m6 231 rfl) rfl
theorem q1512 : (Jvm.Cond.code ({ cls := "StoneSheetsModel", name := "join", desc := "(III)I" } : Jvm.MethodName) prog_18_method_38_code (6 : Nat) (Option.some Jvm.ClassFile.FieldType.int)) ∈ lw_all := lw_g (lw_at lw_m6 232 rfl) rfl
theorem q1513 : (Jvm.Cond.methodLink "StoneSheetsModel" (153 : Nat) ({ cls := "StoneSheetsModel", name := "joinBy", desc := "(III)I" } : Jvm.MethodName)) ∈ lw_all := lw_g (lw_at lw_m6 233 rfl) rfl
theorem q1514 : (Jvm.Cond.privateMethod ({ cls := "StoneSheetsModel", name := "joinBy", desc := "(III)I" } : Jvm.MethodName)) ∈ lw_tbl := lw_at lw_m6 234 rfl
theorem q1515 : (Jvm.Cond.instanceMethod ({ cls := "StoneSheetsModel", name := "joinBy", desc := "(III)I" } : Jvm.MethodName)) ∈ lw_all := lw_g (lw_at lw_m6 235 rfl) rfl
theorem q1516 : (Jvm.Cond.code ({ cls := "StoneSheetsModel", name := "joinBy", desc := "(III)I" } : Jvm.MethodName) prog_18_method_37_code (6 : Nat) (Option.some Jvm.ClassFile.FieldType.int)) ∈ lw_all := lw_g (lw_at lw_m6 236 rfl) rfl
theorem q1518 : (Jvm.Cond.instanceMethod ({ cls := "StoneSheetsModel", name := "clash", desc := "(II)I" } : Jvm.MethodName)) ∈ lw_all := lw_g (lw_at lw_m6 238 rfl) rfl
theorem q1519 : (Jvm.Cond.selects "StoneSheetsModel" ({ cls := "StoneSheetsModel", name := "clash", desc := "(II)I" } : Jvm.MethodName) ({ cls := "StoneSheetsModel", name := "clash", desc := "(II)I" } : Jvm.MethodName)) ∈ lw_all := lw_g (lw_at lw_m6 239 rfl) rfl
theorem q1520 : (Jvm.Cond.code ({ cls := "StoneSheetsModel", name := "clash", desc := "(II)I" } : Jvm.MethodName) prog_18_method_40_code (3 : Nat) (Option.some Jvm.ClassFile.FieldType.int)) ∈ lw_all := lw_g (lw_at lw_m7 0 rfl) rfl
theorem q1521 : (Jvm.Cond.methodLink "StoneSheetsModel" (157 : Nat) ({ cls := "StoneSheetsModel", name := "doClash", desc := "(II)Z" } : Jvm.MethodName)) ∈ lw_all := lw_g (lw_at lw_m7 1 rfl) rfl
theorem q1522 : (Jvm.Cond.privateMethod ({ cls := "StoneSheetsModel", name := "doClash", desc := "(II)Z" } : Jvm.MethodName)) ∈ lw_tbl := lw_at lw_m7 2 rfl
theorem q1523 : (Jvm.Cond.instanceMethod ({ cls := "StoneSheetsModel", name := "doClash", desc := "(II)Z" } : Jvm.MethodName)) ∈ lw_all := lw_g (lw_at lw_m7 3 rfl) rfl
theorem q1524 : (Jvm.Cond.code ({ cls := "StoneSheetsModel", name := "doClash", desc := "(II)Z" } : Jvm.MethodName) prog_18_method_39_code (5 : Nat) (Option.some Jvm.ClassFile.FieldType.boolean)) ∈ lw_all := lw_g (lw_at lw_m7 4 rfl) rfl
theorem q1526 : (Jvm.Cond.instanceMethod ({ cls := "StoneSheetsModel", name := "undone", desc := "()I" } : Jvm.MethodName)) ∈ lw_all := lw_g (lw_at lw_m7 6 rfl) rfl
theorem q1527 : (Jvm.Cond.selects "StoneSheetsModel" ({ cls := "StoneSheetsModel", name := "undone", desc := "()I" } : Jvm.MethodName) ({ cls := "StoneSheetsModel", name := "undone", desc := "()I" } : Jvm.MethodName)) ∈ lw_all := lw_g (lw_at lw_m7 7 rfl) rfl
theorem q1528 : (Jvm.Cond.code ({ cls := "StoneSheetsModel", name := "undone", desc := "()I" } : Jvm.MethodName) prog_18_method_45_code (5 : Nat) (Option.some Jvm.ClassFile.FieldType.int)) ∈ lw_all := lw_g (lw_at lw_m7 8 rfl) rfl
theorem q1529 : (Jvm.Cond.methodLink "StoneSheetsModel" (160 : Nat) ({ cls := "StoneSheetsModel", name := "findClashing", desc := "()V" } : Jvm.MethodName)) ∈ lw_all := lw_g (lw_at lw_m7 9 rfl) rfl
theorem q1530 : (Jvm.Cond.privateMethod ({ cls := "StoneSheetsModel", name := "findClashing", desc := "()V" } : Jvm.MethodName)) ∈ lw_tbl := lw_at lw_m7 10 rfl
theorem q1531 : (Jvm.Cond.instanceMethod ({ cls := "StoneSheetsModel", name := "findClashing", desc := "()V" } : Jvm.MethodName)) ∈ lw_all := lw_g (lw_at lw_m7 11 rfl) rfl
theorem q1532 : (Jvm.Cond.code ({ cls := "StoneSheetsModel", name := "findClashing", desc := "()V" } : Jvm.MethodName) prog_18_method_43_code (3 : Nat) (Option.none : Option Jvm.ClassFile.FieldType)) ∈ lw_all := lw_g (lw_at lw_m7 12 rfl) rfl
theorem q1533 : (Jvm.Cond.methodLink "StoneSheetsModel" (163 : Nat) ({ cls := "StoneSheetsModel", name := "laidOnes", desc := "()I" } : Jvm.MethodName)) ∈ lw_all := lw_g (lw_at lw_m7 13 rfl) rfl
theorem q1534 : (Jvm.Cond.privateMethod ({ cls := "StoneSheetsModel", name := "laidOnes", desc := "()I" } : Jvm.MethodName)) ∈ lw_tbl := lw_at lw_m7 14 rfl
theorem q1535 : (Jvm.Cond.instanceMethod ({ cls := "StoneSheetsModel", name := "laidOnes", desc := "()I" } : Jvm.MethodName)) ∈ lw_all := lw_g (lw_at lw_m7 15 rfl) rfl
theorem q1536 : (Jvm.Cond.code ({ cls := "StoneSheetsModel", name := "laidOnes", desc := "()I" } : Jvm.MethodName) prog_18_method_41_code (3 : Nat) (Option.some Jvm.ClassFile.FieldType.int)) ∈ lw_all := lw_g (lw_at lw_m7 16 rfl) rfl
theorem q1537 : (Jvm.Cond.methodLink "StoneSheetsModel" (166 : Nat) ({ cls := "StoneSheetsModel", name := "manyIn", desc := "(I)I" } : Jvm.MethodName)) ∈ lw_all := lw_g (lw_at lw_m7 17 rfl) rfl
theorem q1538 : (Jvm.Cond.static ({ cls := "StoneSheetsModel", name := "manyIn", desc := "(I)I" } : Jvm.MethodName)) ∈ lw_all := lw_g (lw_at lw_m7 18 rfl) rfl
theorem q1539 : (Jvm.Cond.code ({ cls := "StoneSheetsModel", name := "manyIn", desc := "(I)I" } : Jvm.MethodName) prog_18_method_6_code (3 : Nat) (Option.some Jvm.ClassFile.FieldType.int)) ∈ lw_all := lw_g (lw_at lw_m7 19 rfl) rfl
theorem q1540 : (Jvm.Cond.methodLink "StoneSheetsModel" (169 : Nat) ({ cls := "StoneSheetsModel", name := "areAtPeace", desc := "(I)Z" } : Jvm.MethodName)) ∈ lw_all := lw_g (lw_at lw_m7 20 rfl) rfl
theorem q1541 : (Jvm.Cond.privateMethod ({ cls := "StoneSheetsModel", name := "areAtPeace", desc := "(I)Z" } : Jvm.MethodName)) ∈ lw_tbl := lw_at lw_m7 21 rfl
theorem q1542 : (Jvm.Cond.instanceMethod ({ cls := "StoneSheetsModel", name := "areAtPeace", desc := "(I)Z" } : Jvm.MethodName)) ∈ lw_all := lw_g (lw_at lw_m7 22 rfl) rfl
theorem q1543 : (Jvm.Cond.code ({ cls := "StoneSheetsModel", name := "areAtPeace", desc := "(I)Z" } : Jvm.MethodName) prog_18_method_44_code (3 : Nat) (Option.some Jvm.ClassFile.FieldType.boolean)) ∈ lw_all := lw_g (lw_at lw_m7 23 rfl) rfl
theorem q1545 : (Jvm.Cond.instanceMethod ({ cls := "StoneSheetsModel", name := "borne", desc := "()I" } : Jvm.MethodName)) ∈ lw_all := lw_g (lw_at lw_m7 25 rfl) rfl
theorem q1546 : (Jvm.Cond.selects "StoneSheetsModel" ({ cls := "StoneSheetsModel", name := "borne", desc := "()I" } : Jvm.MethodName) ({ cls := "StoneSheetsModel", name := "borne", desc := "()I" } : Jvm.MethodName)) ∈ lw_all := lw_g (lw_at lw_m7 26 rfl) rfl
theorem q1547 : (Jvm.Cond.code ({ cls := "StoneSheetsModel", name := "borne", desc := "()I" } : Jvm.MethodName) prog_18_method_46_code (6 : Nat) (Option.some Jvm.ClassFile.FieldType.int)) ∈ lw_all := lw_g (lw_at lw_m7 27 rfl) rfl
theorem q1548 : (Jvm.Cond.methodLink "StoneSheetsModel" (172 : Nat) ({ cls := "StoneSheetsModel", name := "coveredBy", desc := "(I)I" } : Jvm.MethodName)) ∈ lw_all := lw_g (lw_at lw_m7 28 rfl) rfl
theorem q1549 : (Jvm.Cond.privateMethod ({ cls := "StoneSheetsModel", name := "coveredBy", desc := "(I)I" } : Jvm.MethodName)) ∈ lw_tbl := lw_at lw_m7 29 rfl
theorem q1550 : (Jvm.Cond.instanceMethod ({ cls := "StoneSheetsModel", name := "coveredBy", desc := "(I)I" } : Jvm.MethodName)) ∈ lw_all := lw_g (lw_at lw_m7 30 rfl) rfl
theorem q1551 : (Jvm.Cond.code ({ cls := "StoneSheetsModel", name := "coveredBy", desc := "(I)I" } : Jvm.MethodName) prog_18_method_42_code (4 : Nat) (Option.some Jvm.ClassFile.FieldType.int)) ∈ lw_all := lw_g (lw_at lw_m7 31 rfl) rfl
theorem q1553 : (Jvm.Cond.instanceMethod ({ cls := "StoneSheetsModel", name := "look", desc := "(I)I" } : Jvm.MethodName)) ∈ lw_all := lw_g (lw_at lw_m7 33 rfl) rfl
theorem q1554 : (Jvm.Cond.selects "StoneSheetsModel" ({ cls := "StoneSheetsModel", name := "look", desc := "(I)I" } : Jvm.MethodName) ({ cls := "StoneSheetsModel", name := "look", desc := "(I)I" } : Jvm.MethodName)) ∈ lw_all := lw_g (lw_at lw_m7 34 rfl) rfl
theorem q1555 : (Jvm.Cond.code ({ cls := "StoneSheetsModel", name := "look", desc := "(I)I" } : Jvm.MethodName) prog_18_method_48_code (4 : Nat) (Option.some Jvm.ClassFile.FieldType.int)) ∈ lw_all := lw_g (lw_at lw_m7 35 rfl) rfl
theorem q1556 : (Jvm.Cond.methodLink "StoneSheetsModel" (175 : Nat) ({ cls := "StoneSheetsModel", name := "otherwiseAt", desc := "(I)I" } : Jvm.MethodName)) ∈ lw_all := lw_g (lw_at lw_m7 36 rfl) rfl
theorem q1557 : (Jvm.Cond.privateMethod ({ cls := "StoneSheetsModel", name := "otherwiseAt", desc := "(I)I" } : Jvm.MethodName)) ∈ lw_tbl := lw_at lw_m7 37 rfl
theorem q1558 : (Jvm.Cond.instanceMethod ({ cls := "StoneSheetsModel", name := "otherwiseAt", desc := "(I)I" } : Jvm.MethodName)) ∈ lw_all := lw_g (lw_at lw_m7 38 rfl) rfl
theorem q1559 : (Jvm.Cond.code ({ cls := "StoneSheetsModel", name := "otherwiseAt", desc := "(I)I" } : Jvm.MethodName) prog_18_method_47_code (4 : Nat) (Option.some Jvm.ClassFile.FieldType.int)) ∈ lw_all := lw_g (lw_at lw_m7 39 rfl) rfl
theorem q1561 : (Jvm.Cond.instanceMethod ({ cls := "StoneSheetsModel", name := "tides", desc := "(I)I" } : Jvm.MethodName)) ∈ lw_all := lw_g (lw_at lw_m7 41 rfl) rfl
theorem q1562 : (Jvm.Cond.selects "StoneSheetsModel" ({ cls := "StoneSheetsModel", name := "tides", desc := "(I)I" } : Jvm.MethodName) ({ cls := "StoneSheetsModel", name := "tides", desc := "(I)I" } : Jvm.MethodName)) ∈ lw_all := lw_g (lw_at lw_m7 42 rfl) rfl
theorem q1563 : (Jvm.Cond.code ({ cls := "StoneSheetsModel", name := "tides", desc := "(I)I" } : Jvm.MethodName) prog_18_method_51_code (4 : Nat) (Option.some Jvm.ClassFile.FieldType.int)) ∈ lw_all := lw_g (lw_at lw_m7 43 rfl) rfl
theorem q1564 : (Jvm.Cond.constantLong "StoneSheetsModel" (181 : Nat) (100 : Int64)) ∈ lw_all := lw_g (lw_at lw_m7 44 rfl) rfl
theorem q1565 : (Jvm.Cond.methodLink "StoneSheetsModel" (178 : Nat) ({ cls := "StoneSheetsModel", name := "goesOn", desc := "()V" } : Jvm.MethodName)) ∈ lw_all := lw_g (lw_at lw_m7 45 rfl) rfl
theorem q1566 : (Jvm.Cond.privateMethod ({ cls := "StoneSheetsModel", name := "goesOn", desc := "()V" } : Jvm.MethodName)) ∈ lw_tbl := lw_at lw_m7 46 rfl
theorem q1567 : (Jvm.Cond.instanceMethod ({ cls := "StoneSheetsModel", name := "goesOn", desc := "()V" } : Jvm.MethodName)) ∈ lw_all := lw_g (lw_at lw_m7 47 rfl) rfl
theorem q1568 : (Jvm.Cond.code ({ cls := "StoneSheetsModel", name := "goesOn", desc := "()V" } : Jvm.MethodName) prog_18_method_49_code (5 : Nat) (Option.none : Option Jvm.ClassFile.FieldType)) ∈ lw_all := lw_g (lw_at lw_m7 48 rfl) rfl
theorem q1570 : (Jvm.Cond.instanceMethod ({ cls := "StoneSheetsModel", name := "book", desc := "(I)I" } : Jvm.MethodName)) ∈ lw_all := lw_g (lw_at lw_m7 50 rfl) rfl
theorem q1571 : (Jvm.Cond.selects "StoneSheetsModel" ({ cls := "StoneSheetsModel", name := "book", desc := "(I)I" } : Jvm.MethodName) ({ cls := "StoneSheetsModel", name := "book", desc := "(I)I" } : Jvm.MethodName)) ∈ lw_all := lw_g (lw_at lw_m7 51 rfl) rfl
theorem q1572 : (Jvm.Cond.code ({ cls := "StoneSheetsModel", name := "book", desc := "(I)I" } : Jvm.MethodName) prog_18_method_53_code (2 : Nat) (Option.some Jvm.ClassFile.FieldType.int)) ∈ lw_all := lw_g (lw_at lw_m7 52 rfl) rfl
theorem q1573 : (Jvm.Cond.methodLink "StoneSheetsModel" (183 : Nat) ({ cls := "StoneSheetsModel", name := "allTrust", desc := "()I" } : Jvm.MethodName)) ∈ lw_all := lw_g (lw_at lw_m7 53 rfl) rfl
theorem q1574 : (Jvm.Cond.privateMethod ({ cls := "StoneSheetsModel", name := "allTrust", desc := "()I" } : Jvm.MethodName)) ∈ lw_tbl := lw_at lw_m7 54 rfl
theorem q1575 : (Jvm.Cond.instanceMethod ({ cls := "StoneSheetsModel", name := "allTrust", desc := "()I" } : Jvm.MethodName)) ∈ lw_all := lw_g (lw_at lw_m7 55 rfl) rfl
theorem q1576 : (Jvm.Cond.code ({ cls := "StoneSheetsModel", name := "allTrust", desc := "()I" } : Jvm.MethodName) prog_18_method_52_code (3 : Nat) (Option.some Jvm.ClassFile.FieldType.int)) ∈ lw_all := lw_g (lw_at lw_m7 56 rfl) rfl
theorem q1578 : (Jvm.Cond.instanceMethod ({ cls := "StoneSheetsModel", name := "behind", desc := "(II)I" } : Jvm.MethodName)) ∈ lw_all := lw_g (lw_at lw_m7 58 rfl) rfl
theorem q1579 : (Jvm.Cond.selects "StoneSheetsModel" ({ cls := "StoneSheetsModel", name := "behind", desc := "(II)I" } : Jvm.MethodName) ({ cls := "StoneSheetsModel", name := "behind", desc := "(II)I" } : Jvm.MethodName)) ∈ lw_all := lw_g (lw_at lw_m7 59 rfl) rfl
theorem q1580 : (Jvm.Cond.code ({ cls := "StoneSheetsModel", name := "behind", desc := "(II)I" } : Jvm.MethodName) prog_18_method_56_code (4 : Nat) (Option.some Jvm.ClassFile.FieldType.int)) ∈ lw_all := lw_g (lw_at lw_m7 60 rfl) rfl
theorem q1581 : (Jvm.Cond.methodLink "StoneSheetsModel" (186 : Nat) ({ cls := "StoneSheetsModel", name := "laysBy", desc := "()V" } : Jvm.MethodName)) ∈ lw_all := lw_g (lw_at lw_m7 61 rfl) rfl
theorem q1582 : (Jvm.Cond.privateMethod ({ cls := "StoneSheetsModel", name := "laysBy", desc := "()V" } : Jvm.MethodName)) ∈ lw_tbl := lw_at lw_m7 62 rfl
theorem q1583 : (Jvm.Cond.instanceMethod ({ cls := "StoneSheetsModel", name := "laysBy", desc := "()V" } : Jvm.MethodName)) ∈ lw_all := lw_g (lw_at lw_m7 63 rfl) rfl
theorem q1584 : (Jvm.Cond.code ({ cls := "StoneSheetsModel", name := "laysBy", desc := "()V" } : Jvm.MethodName) prog_18_method_54_code (2 : Nat) (Option.none : Option Jvm.ClassFile.FieldType)) ∈ lw_all := lw_g (lw_at lw_m7 64 rfl) rfl
theorem q1585 : (Jvm.Cond.methodLink "StoneSheetsModel" (189 : Nat) ({ cls := "StoneSheetsModel", name := "goesOnMany", desc := "(I)V" } : Jvm.MethodName)) ∈ lw_all := lw_g (lw_at lw_m7 65 rfl) rfl
theorem q1586 : (Jvm.Cond.privateMethod ({ cls := "StoneSheetsModel", name := "goesOnMany", desc := "(I)V" } : Jvm.MethodName)) ∈ lw_tbl := lw_at lw_m7 66 rfl
theorem q1587 : (Jvm.Cond.instanceMethod ({ cls := "StoneSheetsModel", name := "goesOnMany", desc := "(I)V" } : Jvm.MethodName)) ∈ lw_all := lw_g (lw_at lw_m7 67 rfl) rfl
theorem q1588 : (Jvm.Cond.code ({ cls := "StoneSheetsModel", name := "goesOnMany", desc := "(I)V" } : Jvm.MethodName) prog_18_method_50_code (3 : Nat) (Option.none : Option Jvm.ClassFile.FieldType)) ∈ lw_all := lw_g (lw_at lw_m7 68 rfl) rfl
theorem q1589 : (Jvm.Cond.methodLink "StoneSheetsModel" (193 : Nat) ({ cls := "StoneSheetsModel", name := "laysBack", desc := "()V" } : Jvm.MethodName)) ∈ lw_all := lw_g (lw_at lw_m7 69 rfl) rfl
theorem q1590 : (Jvm.Cond.privateMethod ({ cls := "StoneSheetsModel", name := "laysBack", desc := "()V" } : Jvm.MethodName)) ∈ lw_tbl := lw_at lw_m7 70 rfl
theorem q1591 : (Jvm.Cond.instanceMethod ({ cls := "StoneSheetsModel", name := "laysBack", desc := "()V" } : Jvm.MethodName)) ∈ lw_all := lw_g (lw_at lw_m7 71 rfl) rfl
theorem q1592 : (Jvm.Cond.code ({ cls := "StoneSheetsModel", name := "laysBack", desc := "()V" } : Jvm.MethodName) prog_18_method_55_code (2 : Nat) (Option.none : Option Jvm.ClassFile.FieldType)) ∈ lw_all := lw_g (lw_at lw_m7 72 rfl) rfl
theorem q1594 : (Jvm.Cond.instanceMethod ({ cls := "StoneSheetsModel", name := "lasts", desc := "()I" } : Jvm.MethodName)) ∈ lw_all := lw_g (lw_at lw_m7 74 rfl) rfl
theorem q1595 : (Jvm.Cond.selects "StoneSheetsModel" ({ cls := "StoneSheetsModel", name := "lasts", desc := "()I" } : Jvm.MethodName) ({ cls := "StoneSheetsModel", name := "lasts", desc := "()I" } : Jvm.MethodName)) ∈ lw_all := lw_g (lw_at lw_m7 75 rfl) rfl
theorem q1596 : (Jvm.Cond.code ({ cls := "StoneSheetsModel", name := "lasts", desc := "()I" } : Jvm.MethodName) prog_18_method_57_code (3 : Nat) (Option.some Jvm.ClassFile.FieldType.int)) ∈ lw_all := lw_g (lw_at lw_m7 76 rfl) rfl
theorem q1597 : (Jvm.Cond.methodLink "StoneSheetsModel" (196 : Nat) ({ cls := "StoneSheetsModel", name := "orNone", desc := "(I)I" } : Jvm.MethodName)) ∈ lw_all := lw_g (lw_at lw_m7 77 rfl) rfl
theorem q1598 : (Jvm.Cond.static ({ cls := "StoneSheetsModel", name := "orNone", desc := "(I)I" } : Jvm.MethodName)) ∈ lw_all := lw_g (lw_at lw_m7 78 rfl) rfl
theorem q1599 : (Jvm.Cond.code ({ cls := "StoneSheetsModel", name := "orNone", desc := "(I)I" } : Jvm.MethodName) prog_18_method_3_code (1 : Nat) (Option.some Jvm.ClassFile.FieldType.int)) ∈ lw_all := lw_g (lw_at lw_m7 79 rfl) rfl
theorem q1600 : (Jvm.Cond.constant "StoneSheetsModel" (67 : Nat) (-1000000005 : Int32)) ∈ lw_all := lw_g (lw_at lw_m7 80 rfl) rfl
theorem q1602 : (Jvm.Cond.instanceMethod ({ cls := "StoneSheetsModel", name := "best", desc := "(III)I" } : Jvm.MethodName)) ∈ lw_all := lw_g (lw_at lw_m7 82 rfl) rfl
theorem q1603 : (Jvm.Cond.selects "StoneSheetsModel" ({ cls := "StoneSheetsModel", name := "best", desc := "(III)I" } : Jvm.MethodName) ({ cls := "StoneSheetsModel", name := "best", desc := "(III)I" } : Jvm.MethodName)) ∈ lw_all := lw_g (lw_at lw_m7 83 rfl) rfl
theorem q1604 : (Jvm.Cond.code ({ cls := "StoneSheetsModel", name := "best", desc := "(III)I" } : Jvm.MethodName) prog_18_method_58_code (8 : Nat) (Option.some Jvm.ClassFile.FieldType.int)) ∈ lw_all := lw_g (lw_at lw_m7 84 rfl) rfl
theorem q1605 : (Jvm.Cond.constantLong "StoneSheetsModel" (199 : Nat) (60 : Int64)) ∈ lw_all := lw_g (lw_at lw_m7 85 rfl) rfl
theorem q1607 : (Jvm.Cond.instanceMethod ({ cls := "StoneSheetsModel", name := "taught", desc := "(II)I" } : Jvm.MethodName)) ∈ lw_all := lw_g (lw_at lw_m7 87 rfl) rfl
theorem q1608 : (Jvm.Cond.selects "StoneSheetsModel" ({ cls := "StoneSheetsModel", name := "taught", desc := "(II)I" } : Jvm.MethodName) ({ cls := "StoneSheetsModel", name := "taught", desc := "(II)I" } : Jvm.MethodName)) ∈ lw_all := lw_g (lw_at lw_m7 88 rfl) rfl
theorem q1609 : (Jvm.Cond.code ({ cls := "StoneSheetsModel", name := "taught", desc := "(II)I" } : Jvm.MethodName) prog_18_method_59_code (7 : Nat) (Option.some Jvm.ClassFile.FieldType.int)) ∈ lw_all := lw_g (lw_at lw_m7 89 rfl) rfl
theorem q1611 : (Jvm.Cond.instanceMethod ({ cls := "StoneSheetsModel", name := "fee", desc := "()I" } : Jvm.MethodName)) ∈ lw_all := lw_g (lw_at lw_m7 91 rfl) rfl
theorem q1612 : (Jvm.Cond.selects "StoneSheetsModel" ({ cls := "StoneSheetsModel", name := "fee", desc := "()I" } : Jvm.MethodName) ({ cls := "StoneSheetsModel", name := "fee", desc := "()I" } : Jvm.MethodName)) ∈ lw_all := lw_g (lw_at lw_m7 92 rfl) rfl
theorem q1613 : (Jvm.Cond.code ({ cls := "StoneSheetsModel", name := "fee", desc := "()I" } : Jvm.MethodName) prog_18_method_60_code (2 : Nat) (Option.some Jvm.ClassFile.FieldType.int)) ∈ lw_all := lw_g (lw_at lw_m7 93 rfl) rfl
theorem q1615 : (Jvm.Cond.instanceMethod ({ cls := "StoneSheetsModel", name := "fine", desc := "(I)I" } : Jvm.MethodName)) ∈ lw_all := lw_g (lw_at lw_m7 95 rfl) rfl
theorem q1616 : (Jvm.Cond.selects "StoneSheetsModel" ({ cls := "StoneSheetsModel", name := "fine", desc := "(I)I" } : Jvm.MethodName) ({ cls := "StoneSheetsModel", name := "fine", desc := "(I)I" } : Jvm.MethodName)) ∈ lw_all := lw_g (lw_at lw_m7 96 rfl) rfl
theorem q1617 : (Jvm.Cond.code ({ cls := "StoneSheetsModel", name := "fine", desc := "(I)I" } : Jvm.MethodName) prog_18_method_61_code (3 : Nat) (Option.some Jvm.ClassFile.FieldType.int)) ∈ lw_all := lw_g (lw_at lw_m7 97 rfl) rfl
theorem q1619 : (Jvm.Cond.instanceMethod ({ cls := "StoneSheetsModel", name := "feed", desc := "(III)I" } : Jvm.MethodName)) ∈ lw_all := lw_g (lw_at lw_m7 99 rfl) rfl
theorem q1620 : (Jvm.Cond.selects "StoneSheetsModel" ({ cls := "StoneSheetsModel", name := "feed", desc := "(III)I" } : Jvm.MethodName) ({ cls := "StoneSheetsModel", name := "feed", desc := "(III)I" } : Jvm.MethodName)) ∈ lw_all := lw_g (lw_at lw_m7 100 rfl) rfl
theorem q1621 : (Jvm.Cond.code ({ cls := "StoneSheetsModel", name := "feed", desc := "(III)I" } : Jvm.MethodName) prog_18_method_62_code (6 : Nat) (Option.some Jvm.ClassFile.FieldType.int)) ∈ lw_all := lw_g (lw_at lw_m7 101 rfl) rfl
theorem q1623 : (Jvm.Cond.instanceMethod ({ cls := "StoneSheetsModel", name := "trim", desc := "(I)I" } : Jvm.MethodName)) ∈ lw_all := lw_g (lw_at lw_m7 103 rfl) rfl
theorem q1624 : (Jvm.Cond.selects "StoneSheetsModel" ({ cls := "StoneSheetsModel", name := "trim", desc := "(I)I" } : Jvm.MethodName) ({ cls := "StoneSheetsModel", name := "trim", desc := "(I)I" } : Jvm.MethodName)) ∈ lw_all := lw_g (lw_at lw_m7 104 rfl) rfl
theorem q1625 : (Jvm.Cond.code ({ cls := "StoneSheetsModel", name := "trim", desc := "(I)I" } : Jvm.MethodName) prog_18_method_63_code (2 : Nat) (Option.some Jvm.ClassFile.FieldType.int)) ∈ lw_all := lw_g (lw_at lw_m7 105 rfl) rfl
theorem q1627 : (Jvm.Cond.instanceMethod ({ cls := "StoneSheetsModel", name := "text", desc := "()I" } : Jvm.MethodName)) ∈ lw_all := lw_g (lw_at lw_m7 107 rfl) rfl
theorem q1628 : (Jvm.Cond.selects "StoneSheetsModel" ({ cls := "StoneSheetsModel", name := "text", desc := "()I" } : Jvm.MethodName) ({ cls := "StoneSheetsModel", name := "text", desc := "()I" } : Jvm.MethodName)) ∈ lw_all := lw_g (lw_at lw_m7 108 rfl) rfl
theorem q1629 : (Jvm.Cond.code ({ cls := "StoneSheetsModel", name := "text", desc := "()I" } : Jvm.MethodName) prog_18_method_79_code (3 : Nat) (Option.some Jvm.ClassFile.FieldType.int)) ∈ lw_all := lw_g (lw_at lw_m7 109 rfl) rfl
theorem q1630 : (Jvm.Cond.methodLink "StoneSheetsModel" (290 : Nat) ({ cls := "StoneSheetsModel", name := "parse", desc := "()I" } : Jvm.MethodName)) ∈ lw_all := lw_g (lw_at lw_m7 110 rfl) rfl
theorem q1631 : (Jvm.Cond.privateMethod ({ cls := "StoneSheetsModel", name := "parse", desc := "()I" } : Jvm.MethodName)) ∈ lw_tbl := lw_at lw_m7 111 rfl
theorem q1632 : (Jvm.Cond.instanceMethod ({ cls := "StoneSheetsModel", name := "parse", desc := "()I" } : Jvm.MethodName)) ∈ lw_all := lw_g (lw_at lw_m7 112 rfl) rfl
theorem q1633 : (Jvm.Cond.code ({ cls := "StoneSheetsModel", name := "parse", desc := "()I" } : Jvm.MethodName) prog_18_method_78_code (3 : Nat) (Option.some Jvm.ClassFile.FieldType.int)) ∈ lw_all := lw_g (lw_at lw_m7 113 rfl) rfl
theorem q1634 : (Jvm.Cond.methodLink "StoneSheetsModel" (250 : Nat) ({ cls := "StoneSheetsModel", name := "nextToken", desc := "()V" } : Jvm.MethodName)) ∈ lw_all := lw_g (lw_at lw_m7 114 rfl) rfl
theorem q1635 : (Jvm.Cond.privateMethod ({ cls := "StoneSheetsModel", name := "nextToken", desc := "()V" } : Jvm.MethodName)) ∈ lw_tbl := lw_at lw_m7 115 rfl
theorem q1636 : (Jvm.Cond.instanceMethod ({ cls := "StoneSheetsModel", name := "nextToken", desc := "()V" } : Jvm.MethodName)) ∈ lw_all := lw_g (lw_at lw_m7 116 rfl) rfl
theorem q1637 : (Jvm.Cond.code ({ cls := "StoneSheetsModel", name := "nextToken", desc := "()V" } : Jvm.MethodName) prog_18_method_66_code (3 : Nat) (Option.none : Option Jvm.ClassFile.FieldType)) ∈ lw_all := lw_g (lw_at lw_m7 117 rfl) rfl
theorem q1638 : (Jvm.Cond.methodLink "StoneSheetsModel" (222 : Nat) ({ cls := "StoneSheetsModel", name := "isLetter", desc := "(I)Z" } : Jvm.MethodName)) ∈ lw_all := lw_g (lw_at lw_m7 118 rfl) rfl
theorem q1639 : (Jvm.Cond.privateMethod ({ cls := "StoneSheetsModel", name := "isLetter", desc := "(I)Z" } : Jvm.MethodName)) ∈ lw_tbl := lw_at lw_m7 119 rfl
theorem q1640 : (Jvm.Cond.instanceMethod ({ cls := "StoneSheetsModel", name := "isLetter", desc := "(I)Z" } : Jvm.MethodName)) ∈ lw_all := lw_g (lw_at lw_m7 120 rfl) rfl
theorem q1641 : (Jvm.Cond.code ({ cls := "StoneSheetsModel", name := "isLetter", desc := "(I)Z" } : Jvm.MethodName) prog_18_method_64_code (2 : Nat) (Option.some Jvm.ClassFile.FieldType.boolean)) ∈ lw_all := lw_g (lw_at lw_m7 121 rfl) rfl
theorem q1642 : (Jvm.Cond.constantLong "StoneSheetsModel" (205 : Nat) (97 : Int64)) ∈ lw_all := lw_g (lw_at lw_m7 122 rfl) rfl
theorem q1643 : (Jvm.Cond.constantLong "StoneSheetsModel" (207 : Nat) (122 : Int64)) ∈ lw_all := lw_g (lw_at lw_m7 123 rfl) rfl
theorem q1644 : (Jvm.Cond.methodLink "StoneSheetsModel" (228 : Nat) ({ cls := "StoneSheetsModel", name := "isDigit", desc := "(I)Z" } : Jvm.MethodName)) ∈ lw_all := lw_g (lw_at lw_m7 124 rfl) rfl
theorem q1645 : (Jvm.Cond.privateMethod ({ cls := "StoneSheetsModel", name := "isDigit", desc := "(I)Z" } : Jvm.MethodName)) ∈ lw_tbl := lw_at lw_m7 125 rfl
theorem q1646 : (Jvm.Cond.instanceMethod ({ cls := "StoneSheetsModel", name := "isDigit", desc := "(I)Z" } : Jvm.MethodName)) ∈ lw_all := lw_g (lw_at lw_m7 126 rfl) rfl
theorem q1647 : (Jvm.Cond.code ({ cls := "StoneSheetsModel", name := "isDigit", desc := "(I)Z" } : Jvm.MethodName) prog_18_method_65_code (2 : Nat) (Option.some Jvm.ClassFile.FieldType.boolean)) ∈ lw_all := lw_g (lw_at lw_m7 127 rfl) rfl
theorem q1648 : (Jvm.Cond.constantLong "StoneSheetsModel" (209 : Nat) (48 : Int64)) ∈ lw_all := lw_g (lw_at lw_m7 128 rfl) rfl
theorem q1649 : (Jvm.Cond.constantLong "StoneSheetsModel" (211 : Nat) (57 : Int64)) ∈ lw_all := lw_g (lw_at lw_m7 129 rfl) rfl
theorem q1650 : (Jvm.Cond.methodLink "StoneSheetsModel" (287 : Nat) ({ cls := "StoneSheetsModel", name := "key", desc := "()I" } : Jvm.MethodName)) ∈ lw_all := lw_g (lw_at lw_m7 130 rfl) rfl
theorem q1651 : (Jvm.Cond.privateMethod ({ cls := "StoneSheetsModel", name := "key", desc := "()I" } : Jvm.MethodName)) ∈ lw_tbl := lw_at lw_m7 131 rfl
theorem q1652 : (Jvm.Cond.instanceMethod ({ cls := "StoneSheetsModel", name := "key", desc := "()I" } : Jvm.MethodName)) ∈ lw_all := lw_g (lw_at lw_m7 132 rfl) rfl
theorem q1653 : (Jvm.Cond.code ({ cls := "StoneSheetsModel", name := "key", desc := "()I" } : Jvm.MethodName) prog_18_method_69_code (1 : Nat) (Option.some Jvm.ClassFile.FieldType.int)) ∈ lw_all := lw_g (lw_at lw_m7 133 rfl) rfl
theorem q1654 : (Jvm.Cond.methodLink "StoneSheetsModel" (234 : Nat) ({ cls := "StoneSheetsModel", name := "isWordAt", desc := "(IIII)Z" } : Jvm.MethodName)) ∈ lw_all := lw_g (lw_at lw_m7 134 rfl) rfl
theorem q1655 : (Jvm.Cond.privateMethod ({ cls := "StoneSheetsModel", name := "isWordAt", desc := "(IIII)Z" } : Jvm.MethodName)) ∈ lw_tbl := lw_at lw_m7 135 rfl
theorem q1656 : (Jvm.Cond.instanceMethod ({ cls := "StoneSheetsModel", name := "isWordAt", desc := "(IIII)Z" } : Jvm.MethodName)) ∈ lw_all := lw_g (lw_at lw_m7 136 rfl) rfl
theorem q1657 : (Jvm.Cond.code ({ cls := "StoneSheetsModel", name := "isWordAt", desc := "(IIII)Z" } : Jvm.MethodName) prog_18_method_68_code (6 : Nat) (Option.some Jvm.ClassFile.FieldType.boolean)) ∈ lw_all := lw_g (lw_at lw_m7 137 rfl) rfl
theorem q1658 : (Jvm.Cond.methodLink "StoneSheetsModel" (281 : Nat) ({ cls := "StoneSheetsModel", name := "either", desc := "(I)Z" } : Jvm.MethodName)) ∈ lw_all := lw_g (lw_at lw_m7 138 rfl) rfl
theorem q1659 : (Jvm.Cond.privateMethod ({ cls := "StoneSheetsModel", name := "either", desc := "(I)Z" } : Jvm.MethodName)) ∈ lw_tbl := lw_at lw_m7 139 rfl
theorem q1660 : (Jvm.Cond.instanceMethod ({ cls := "StoneSheetsModel", name := "either", desc := "(I)Z" } : Jvm.MethodName)) ∈ lw_all := lw_g (lw_at lw_m7 140 rfl) rfl
theorem q1661 : (Jvm.Cond.code ({ cls := "StoneSheetsModel", name := "either", desc := "(I)Z" } : Jvm.MethodName) prog_18_method_72_code (2 : Nat) (Option.some Jvm.ClassFile.FieldType.boolean)) ∈ lw_all := lw_g (lw_at lw_m7 141 rfl) rfl
theorem q1662 : (Jvm.Cond.methodLink "StoneSheetsModel" (244 : Nat) ({ cls := "StoneSheetsModel", name := "both", desc := "(I)Z" } : Jvm.MethodName)) ∈ lw_all := lw_g (lw_at lw_m7 142 rfl) rfl
theorem q1663 : (Jvm.Cond.privateMethod ({ cls := "StoneSheetsModel", name := "both", desc := "(I)Z" } : Jvm.MethodName)) ∈ lw_tbl := lw_at lw_m7 143 rfl
theorem q1664 : (Jvm.Cond.instanceMethod ({ cls := "StoneSheetsModel", name := "both", desc := "(I)Z" } : Jvm.MethodName)) ∈ lw_all := lw_g (lw_at lw_m7 144 rfl) rfl
theorem q1665 : (Jvm.Cond.code ({ cls := "StoneSheetsModel", name := "both", desc := "(I)Z" } : Jvm.MethodName) prog_18_method_73_code (2 : Nat) (Option.some Jvm.ClassFile.FieldType.boolean)) ∈ lw_all := lw_g (lw_at lw_m7 145 rfl) rfl
theorem q1666 : (Jvm.Cond.methodLink "StoneSheetsModel" (257 : Nat) ({ cls := "StoneSheetsModel", name := "test", desc := "(I)Z" } : Jvm.MethodName)) ∈ lw_all := lw_g (lw_at lw_m7 146 rfl) rfl
theorem q1667 : (Jvm.Cond.privateMethod ({ cls := "StoneSheetsModel", name := "test", desc := "(I)Z" } : Jvm.MethodName)) ∈ lw_tbl := lw_at lw_m7 147 rfl
theorem q1668 : (Jvm.Cond.instanceMethod ({ cls := "StoneSheetsModel", name := "test", desc := "(I)Z" } : Jvm.MethodName)) ∈ lw_all := lw_g (lw_at lw_m7 148 rfl) rfl
theorem q1669 : (Jvm.Cond.code ({ cls := "StoneSheetsModel", name := "test", desc := "(I)Z" } : Jvm.MethodName) prog_18_method_74_code (3 : Nat) (Option.some Jvm.ClassFile.FieldType.boolean)) ∈ lw_all := lw_g (lw_at lw_m7 149 rfl) rfl
theorem q1670 : (Jvm.Cond.methodLink "StoneSheetsModel" (260 : Nat) ({ cls := "StoneSheetsModel", name := "sum", desc := "(I)Z" } : Jvm.MethodName)) ∈ lw_all := lw_g (lw_at lw_m7 150 rfl) rfl
theorem q1671 : (Jvm.Cond.privateMethod ({ cls := "StoneSheetsModel", name := "sum", desc := "(I)Z" } : Jvm.MethodName)) ∈ lw_tbl := lw_at lw_m7 151 rfl
theorem q1672 : (Jvm.Cond.instanceMethod ({ cls := "StoneSheetsModel", name := "sum", desc := "(I)Z" } : Jvm.MethodName)) ∈ lw_all := lw_g (lw_at lw_m7 152 rfl) rfl
theorem q1673 : (Jvm.Cond.code ({ cls := "StoneSheetsModel", name := "sum", desc := "(I)Z" } : Jvm.MethodName) prog_18_method_75_code (3 : Nat) (Option.some Jvm.ClassFile.FieldType.boolean)) ∈ lw_all := lw_g (lw_at lw_m7 153 rfl) rfl
theorem q1674 : (Jvm.Cond.methodLink "StoneSheetsModel" (263 : Nat) ({ cls := "StoneSheetsModel", name := "term", desc := "(I)Z" } : Jvm.MethodName)) ∈ lw_all := lw_g (lw_at lw_m7 154 rfl) rfl
theorem q1675 : (Jvm.Cond.privateMethod ({ cls := "StoneSheetsModel", name := "term", desc := "(I)Z" } : Jvm.MethodName)) ∈ lw_tbl := lw_at lw_m7 155 rfl
theorem q1676 : (Jvm.Cond.instanceMethod ({ cls := "StoneSheetsModel", name := "term", desc := "(I)Z" } : Jvm.MethodName)) ∈ lw_all := lw_g (lw_at lw_m7 156 rfl) rfl
theorem q1677 : (Jvm.Cond.code ({ cls := "StoneSheetsModel", name := "term", desc := "(I)Z" } : Jvm.MethodName) prog_18_method_76_code (3 : Nat) (Option.some Jvm.ClassFile.FieldType.boolean)) ∈ lw_all := lw_g (lw_at lw_m7 157 rfl) rfl
theorem q1678 : (Jvm.Cond.methodLink "StoneSheetsModel" (266 : Nat) ({ cls := "StoneSheetsModel", name := "part0", desc := "(I)Z" } : Jvm.MethodName)) ∈ lw_all := lw_g (lw_at lw_m7 158 rfl) rfl
theorem q1679 : (Jvm.Cond.privateMethod ({ cls := "StoneSheetsModel", name := "part0", desc := "(I)Z" } : Jvm.MethodName)) ∈ lw_tbl := lw_at lw_m7 159 rfl
theorem q1680 : (Jvm.Cond.instanceMethod ({ cls := "StoneSheetsModel", name := "part0", desc := "(I)Z" } : Jvm.MethodName)) ∈ lw_all := lw_g (lw_at lw_m7 160 rfl) rfl
theorem q1681 : (Jvm.Cond.code ({ cls := "StoneSheetsModel", name := "part0", desc := "(I)Z" } : Jvm.MethodName) prog_18_method_77_code (2 : Nat) (Option.some Jvm.ClassFile.FieldType.boolean)) ∈ lw_all := lw_g (lw_at lw_m7 161 rfl) rfl
theorem q1682 : (Jvm.Cond.methodLink "StoneSheetsModel" (253 : Nat) ({ cls := "StoneSheetsModel", name := "step", desc := "(II)V" } : Jvm.MethodName)) ∈ lw_all := lw_g (lw_at lw_m7 162 rfl) rfl
theorem q1683 : (Jvm.Cond.privateMethod ({ cls := "StoneSheetsModel", name := "step", desc := "(II)V" } : Jvm.MethodName)) ∈ lw_tbl := lw_at lw_m7 163 rfl
theorem q1684 : (Jvm.Cond.instanceMethod ({ cls := "StoneSheetsModel", name := "step", desc := "(II)V" } : Jvm.MethodName)) ∈ lw_all := lw_g (lw_at lw_m7 164 rfl) rfl
theorem q1685 : (Jvm.Cond.code ({ cls := "StoneSheetsModel", name := "step", desc := "(II)V" } : Jvm.MethodName) prog_18_method_71_code (3 : Nat) (Option.none : Option Jvm.ClassFile.FieldType)) ∈ lw_all := lw_g (lw_at lw_m7 165 rfl) rfl
theorem q1686 : (Jvm.Cond.methodLink "StoneSheetsModel" (272 : Nat) ({ cls := "StoneSheetsModel", name := "isName", desc := "(II)Z" } : Jvm.MethodName)) ∈ lw_all := lw_g (lw_at lw_m7 166 rfl) rfl
theorem q1687 : (Jvm.Cond.static ({ cls := "StoneSheetsModel", name := "isName", desc := "(II)Z" } : Jvm.MethodName)) ∈ lw_all := lw_g (lw_at lw_m7 167 rfl) rfl
theorem q1688 : (Jvm.Cond.code ({ cls := "StoneSheetsModel", name := "isName", desc := "(II)Z" } : Jvm.MethodName) prog_18_method_70_code (2 : Nat) (Option.some Jvm.ClassFile.FieldType.boolean)) ∈ lw_all := lw_g (lw_at lw_m7 168 rfl) rfl
theorem q1689 : (Jvm.Cond.methodLink "StoneSheetsModel" (247 : Nat) ({ cls := "StoneSheetsModel", name := "isSign", desc := "(I)Z" } : Jvm.MethodName)) ∈ lw_all := lw_g (lw_at lw_m7 169 rfl) rfl
theorem q1690 : (Jvm.Cond.privateMethod ({ cls := "StoneSheetsModel", name := "isSign", desc := "(I)Z" } : Jvm.MethodName)) ∈ lw_tbl := lw_at lw_m7 170 rfl
theorem q1691 : (Jvm.Cond.instanceMethod ({ cls := "StoneSheetsModel", name := "isSign", desc := "(I)Z" } : Jvm.MethodName)) ∈ lw_all := lw_g (lw_at lw_m7 171 rfl) rfl
theorem q1692 : (Jvm.Cond.code ({ cls := "StoneSheetsModel", name := "isSign", desc := "(I)Z" } : Jvm.MethodName) prog_18_method_67_code (2 : Nat) (Option.some Jvm.ClassFile.FieldType.boolean)) ∈ lw_all := lw_g (lw_at lw_m7 172 rfl) rfl
theorem q1694 : (Jvm.Cond.instanceMethod ({ cls := "StoneSheetsModel", name := "textTold", desc := "(II)I" } : Jvm.MethodName)) ∈ lw_all := lw_g (lw_at lw_m7 174 rfl) rfl
theorem q1695 : (Jvm.Cond.selects "StoneSheetsModel" ({ cls := "StoneSheetsModel", name := "textTold", desc := "(II)I" } : Jvm.MethodName) ({ cls := "StoneSheetsModel", name := "textTold", desc := "(II)I" } : Jvm.MethodName)) ∈ lw_all := lw_g (lw_at lw_m7 175 rfl) rfl
theorem q1696 : (Jvm.Cond.code ({ cls := "StoneSheetsModel", name := "textTold", desc := "(II)I" } : Jvm.MethodName) prog_18_method_80_code (3 : Nat) (Option.some Jvm.ClassFile.FieldType.int)) ∈ lw_all := lw_g (lw_at lw_m7 176 rfl) rfl
theorem q1697 : (Jvm.Cond.methodLink "StoneSheetsModel" (293 : Nat) ({ cls := "StoneSheetsModel", name := "isText", desc := "(I)Z" } : Jvm.MethodName)) ∈ lw_all := lw_g (lw_at lw_m7 177 rfl) rfl
theorem q1698 : (Jvm.Cond.privateMethod ({ cls := "StoneSheetsModel", name := "isText", desc := "(I)Z" } : Jvm.MethodName)) ∈ lw_tbl := lw_at lw_m7 178 rfl
theorem q1699 : (Jvm.Cond.instanceMethod ({ cls := "StoneSheetsModel", name := "isText", desc := "(I)Z" } : Jvm.MethodName)) ∈ lw_all := lw_g (lw_at lw_m7 179 rfl) rfl
theorem q1700 : (Jvm.Cond.code ({ cls := "StoneSheetsModel", name := "isText", desc := "(I)Z" } : Jvm.MethodName) prog_18_method_12_code (2 : Nat) (Option.some Jvm.ClassFile.FieldType.boolean)) ∈ lw_all := lw_g (lw_at lw_m7 180 rfl) rfl
theorem q1702 : (Jvm.Cond.instanceMethod ({ cls := "StoneSheetsModel", name := "why", desc := "(I)I" } : Jvm.MethodName)) ∈ lw_all := lw_g (lw_at lw_m7 182 rfl) rfl
theorem q1703 : (Jvm.Cond.selects "StoneSheetsModel" ({ cls := "StoneSheetsModel", name := "why", desc := "(I)I" } : Jvm.MethodName) ({ cls := "StoneSheetsModel", name := "why", desc := "(I)I" } : Jvm.MethodName)) ∈ lw_all := lw_g (lw_at lw_m7 183 rfl) rfl
theorem q1704 : (Jvm.Cond.code ({ cls := "StoneSheetsModel", name := "why", desc := "(I)I" } : Jvm.MethodName) prog_18_method_82_code (2 : Nat) (Option.some Jvm.ClassFile.FieldType.int)) ∈ lw_all := lw_g (lw_at lw_m7 184 rfl) rfl
theorem q1705 : (Jvm.Cond.constantLong "StoneSheetsModel" (296 : Nat) (2 : Int64)) ∈ lw_all := lw_g (lw_at lw_m7 185 rfl) rfl
theorem q1707 : (Jvm.Cond.instanceMethod ({ cls := "StoneSheetsModel", name := "sheet", desc := "(III)I" } : Jvm.MethodName)) ∈ lw_all := lw_g (lw_at lw_m7 187 rfl) rfl
theorem q1708 : (Jvm.Cond.selects "StoneSheetsModel" ({ cls := "StoneSheetsModel", name := "sheet", desc := "(III)I" } : Jvm.MethodName) ({ cls := "StoneSheetsModel", name := "sheet", desc := "(III)I" } : Jvm.MethodName)) ∈ lw_all := lw_g (lw_at lw_m7 188 rfl) rfl
theorem q1709 : (Jvm.Cond.code ({ cls := "StoneSheetsModel", name := "sheet", desc := "(III)I" } : Jvm.MethodName) prog_18_method_86_code (5 : Nat) (Option.some Jvm.ClassFile.FieldType.int)) ∈ lw_all := lw_g (lw_at lw_m7 189 rfl) rfl
theorem q1710 : (Jvm.Cond.methodLink "StoneSheetsModel" (301 : Nat) ({ cls := "StoneSheetsModel", name := "isSheet", desc := "(I)Z" } : Jvm.MethodName)) ∈ lw_all := lw_g (lw_at lw_m7 190 rfl) rfl
theorem q1711 : (Jvm.Cond.static ({ cls := "StoneSheetsModel", name := "isSheet", desc := "(I)Z" } : Jvm.MethodName)) ∈ lw_all := lw_g (lw_at lw_m7 191 rfl) rfl
theorem q1712 : (Jvm.Cond.code ({ cls := "StoneSheetsModel", name := "isSheet", desc := "(I)Z" } : Jvm.MethodName) prog_18_method_85_code (1 : Nat) (Option.some Jvm.ClassFile.FieldType.boolean)) ∈ lw_all := lw_g (lw_at lw_m7 192 rfl) rfl
theorem q1713 : (Jvm.Cond.constantLong "StoneSheetsModel" (304 : Nat) (-1 : Int64)) ∈ lw_all := lw_g (lw_at lw_m7 193 rfl) rfl
theorem q1714 : (Jvm.Cond.constant "StoneSheetsModel" (306 : Nat) (-1000000014 : Int32)) ∈ lw_all := lw_g (lw_at lw_m7 194 rfl) rfl
theorem q1716 : (Jvm.Cond.instanceMethod ({ cls := "StoneSheetsModel", name := "mark", desc := "(III)I" } : Jvm.MethodName)) ∈ lw_all := lw_g (lw_at lw_m7 196 rfl) rfl
theorem q1717 : (Jvm.Cond.selects "StoneSheetsModel" ({ cls := "StoneSheetsModel", name := "mark", desc := "(III)I" } : Jvm.MethodName) ({ cls := "StoneSheetsModel", name := "mark", desc := "(III)I" } : Jvm.MethodName)) ∈ lw_all := lw_g (lw_at lw_m7 197 rfl) rfl
theorem q1718 : (Jvm.Cond.code ({ cls := "StoneSheetsModel", name := "mark", desc := "(III)I" } : Jvm.MethodName) prog_18_method_87_code (4 : Nat) (Option.some Jvm.ClassFile.FieldType.int)) ∈ lw_all := lw_g (lw_at lw_m7 198 rfl) rfl
theorem q1719 : (Jvm.Cond.constant "StoneSheetsModel" (307 : Nat) (-1000000011 : Int32)) ∈ lw_all := lw_g (lw_at lw_m7 199 rfl) rfl
theorem q1720 : (Jvm.Cond.constant "StoneSheetsModel" (308 : Nat) (-1000000013 : Int32)) ∈ lw_all := lw_g (lw_at lw_m7 200 rfl) rfl
theorem q1721 : (Jvm.Cond.constantLong "StoneSheetsModel" (309 : Nat) (-99999 : Int64)) ∈ lw_all := lw_g (lw_at lw_m7 201 rfl) rfl
theorem q1722 : (Jvm.Cond.constantLong "StoneSheetsModel" (311 : Nat) (99999 : Int64)) ∈ lw_all := lw_g (lw_at lw_m7 202 rfl) rfl
theorem q1724 : (Jvm.Cond.instanceMethod ({ cls := "StoneSheetsModel", name := "pour", desc := "(I)I" } : Jvm.MethodName)) ∈ lw_all := lw_g (lw_at lw_m7 204 rfl) rfl
theorem q1725 : (Jvm.Cond.selects "StoneSheetsModel" ({ cls := "StoneSheetsModel", name := "pour", desc := "(I)I" } : Jvm.MethodName) ({ cls := "StoneSheetsModel", name := "pour", desc := "(I)I" } : Jvm.MethodName)) ∈ lw_all := lw_g (lw_at lw_m7 205 rfl) rfl
theorem q1726 : (Jvm.Cond.code ({ cls := "StoneSheetsModel", name := "pour", desc := "(I)I" } : Jvm.MethodName) prog_18_method_88_code (6 : Nat) (Option.some Jvm.ClassFile.FieldType.int)) ∈ lw_all := lw_g (lw_at lw_m7 206 rfl) rfl
theorem q1728 : (Jvm.Cond.instanceMethod ({ cls := "StoneSheetsModel", name := "reads", desc := "(I)I" } : Jvm.MethodName)) ∈ lw_all := lw_g (lw_at lw_m7 208 rfl) rfl
theorem q1729 : (Jvm.Cond.selects "StoneSheetsModel" ({ cls := "StoneSheetsModel", name := "reads", desc := "(I)I" } : Jvm.MethodName) ({ cls := "StoneSheetsModel", name := "reads", desc := "(I)I" } : Jvm.MethodName)) ∈ lw_all := lw_g (lw_at lw_m7 209 rfl) rfl
theorem q1730 : (Jvm.Cond.code ({ cls := "StoneSheetsModel", name := "reads", desc := "(I)I" } : Jvm.MethodName) prog_18_method_89_code (4 : Nat) (Option.some Jvm.ClassFile.FieldType.int)) ∈ lw_all := lw_g (lw_at lw_m7 210 rfl) rfl
theorem q1732 : (Jvm.Cond.instanceMethod ({ cls := "StoneSheetsModel", name := "whose", desc := "(II)I" } : Jvm.MethodName)) ∈ lw_all := lw_g (lw_at lw_m7 212 rfl) rfl
theorem q1733 : (Jvm.Cond.selects "StoneSheetsModel" ({ cls := "StoneSheetsModel", name := "whose", desc := "(II)I" } : Jvm.MethodName) ({ cls := "StoneSheetsModel", name := "whose", desc := "(II)I" } : Jvm.MethodName)) ∈ lw_all := lw_g (lw_at lw_m7 213 rfl) rfl
theorem q1734 : (Jvm.Cond.code ({ cls := "StoneSheetsModel", name := "whose", desc := "(II)I" } : Jvm.MethodName) prog_18_method_90_code (9 : Nat) (Option.some Jvm.ClassFile.FieldType.int)) ∈ lw_all := lw_g (lw_at lw_m7 214 rfl) rfl
theorem q1735 : (Jvm.Cond.methodLink "StoneSheetsModel" (313 : Nat) ({ cls := "StoneSheetsModel", name := "off", desc := "(II)I" } : Jvm.MethodName)) ∈ lw_all := lw_g (lw_at lw_m7 215 rfl) rfl
theorem q1736 : (Jvm.Cond.static ({ cls := "StoneSheetsModel", name := "off", desc := "(II)I" } : Jvm.MethodName)) ∈ lw_all := lw_g (lw_at lw_m7 216 rfl) rfl
theorem q1737 : (Jvm.Cond.code ({ cls := "StoneSheetsModel", name := "off", desc := "(II)I" } : Jvm.MethodName) prog_18_method_5_code (2 : Nat) (Option.some Jvm.ClassFile.FieldType.int)) ∈ lw_all := lw_g (lw_at lw_m7 217 rfl) rfl
theorem q1739 : (Jvm.Cond.instanceMethod ({ cls := "StoneSheetsModel", name := "copy", desc := "(IIIII)I" } : Jvm.MethodName)) ∈ lw_all := lw_g (lw_at lw_m7 219 rfl) rfl
theorem q1740 : (Jvm.Cond.selects "StoneSheetsModel" ({ cls := "StoneSheetsModel", name := "copy", desc := "(IIIII)I" } : Jvm.MethodName) ({ cls := "StoneSheetsModel", name := "copy", desc := "(IIIII)I" } : Jvm.MethodName)) ∈ lw_all := lw_g (lw_at lw_m7 220 rfl) rfl
theorem q1741 : (Jvm.Cond.code ({ cls := "StoneSheetsModel", name := "copy", desc := "(IIIII)I" } : Jvm.MethodName) prog_18_method_91_code (7 : Nat) (Option.some Jvm.ClassFile.FieldType.int)) ∈ lw_all := lw_g (lw_at lw_m7 221 rfl) rfl
theorem q1743 : (Jvm.Cond.instanceMethod ({ cls := "StoneSheetsModel", name := "lay", desc := "(III)I" } : Jvm.MethodName)) ∈ lw_all := lw_g (lw_at lw_m7 223 rfl) rfl
theorem q1744 : (Jvm.Cond.selects "StoneSheetsModel" ({ cls := "StoneSheetsModel", name := "lay", desc := "(III)I" } : Jvm.MethodName) ({ cls := "StoneSheetsModel", name := "lay", desc := "(III)I" } : Jvm.MethodName)) ∈ lw_all := lw_g (lw_at lw_m7 224 rfl) rfl
theorem q1745 : (Jvm.Cond.code ({ cls := "StoneSheetsModel", name := "lay", desc := "(III)I" } : Jvm.MethodName) prog_18_method_93_code (7 : Nat) (Option.some Jvm.ClassFile.FieldType.int)) ∈ lw_all := lw_g (lw_at lw_m7 225 rfl) rfl
theorem q1746 : (Jvm.Cond.methodLink "StoneSheetsModel" (318 : Nat) ({ cls := "StoneSheetsModel", name := "isSlot", desc := "(I)Z" } : Jvm.MethodName)) ∈ lw_all := lw_g (lw_at lw_m7 226 rfl) rfl
theorem q1747 : (Jvm.Cond.static ({ cls := "StoneSheetsModel", name := "isSlot", desc := "(I)Z" } : Jvm.MethodName)) ∈ lw_all := lw_g (lw_at lw_m7 227 rfl) rfl
theorem q1748 : (Jvm.Cond.code ({ cls := "StoneSheetsModel", name := "isSlot", desc := "(I)Z" } : Jvm.MethodName) prog_18_method_92_code (1 : Nat) (Option.some Jvm.ClassFile.FieldType.boolean)) ∈ lw_all := lw_g (lw_at lw_m7 228 rfl) rfl
theorem q1749 : (Jvm.Cond.constantLong "StoneSheetsModel" (316 : Nat) (4 : Int64)) ∈ lw_all := lw_g (lw_at lw_m7 229 rfl) rfl
theorem q1751 : (Jvm.Cond.instanceMethod ({ cls := "StoneSheetsModel", name := "ask", desc := "(II)I" } : Jvm.MethodName)) ∈ lw_all := lw_g (lw_at lw_m7 231 rfl) rfl
theorem q1752 : (Jvm.Cond.selects "StoneSheetsModel" ({ cls := "StoneSheetsModel", name := "ask", desc := "(II)I" } : Jvm.MethodName) ({ cls := "StoneSheetsModel", name := "ask", desc := "(II)I" } : Jvm.MethodName)) ∈ lw_all := lw_g (lw_at lw_m7 232 rfl) rfl
theorem q1753 : (Jvm.Cond.code ({ cls := "StoneSheetsModel", name := "ask", desc := "(II)I" } : Jvm.MethodName) prog_18_method_94_code (3 : Nat) (Option.some Jvm.ClassFile.FieldType.int)) ∈ lw_all := lw_g (lw_at lw_m7 233 rfl) rfl
theorem q1755 : (Jvm.Cond.instanceMethod ({ cls := "StoneSheetsModel", name := "item", desc := "(II)I" } : Jvm.MethodName)) ∈ lw_all := lw_g (lw_at lw_m7 235 rfl) rfl
theorem q1756 : (Jvm.Cond.selects "StoneSheetsModel" ({ cls := "StoneSheetsModel", name := "item", desc := "(II)I" } : Jvm.MethodName) ({ cls := "StoneSheetsModel", name := "item", desc := "(II)I" } : Jvm.MethodName)) ∈ lw_all := lw_g (lw_at lw_m7 236 rfl) rfl
theorem q1757 : (Jvm.Cond.code ({ cls := "StoneSheetsModel", name := "item", desc := "(II)I" } : Jvm.MethodName) prog_18_method_95_code (4 : Nat) (Option.some Jvm.ClassFile.FieldType.int)) ∈ lw_all := lw_g (lw_at lw_m7 237 rfl) rfl
theorem q1759 : (Jvm.Cond.instanceMethod ({ cls := "StoneSheetsModel", name := "rest", desc := "(II)I" } : Jvm.MethodName)) ∈ lw_all := lw_g (lw_at lw_m7 239 rfl) rfl
theorem q1760 : (Jvm.Cond.selects "StoneSheetsModel" ({ cls := "StoneSheetsModel", name := "rest", desc := "(II)I" } : Jvm.MethodName) ({ cls := "StoneSheetsModel", name := "rest", desc := "(II)I" } : Jvm.MethodName)) ∈ lw_all := lw_g (lw_at lw_m8 0 rfl) rfl
theorem q1761 : (Jvm.Cond.code ({ cls := "StoneSheetsModel", name := "rest", desc := "(II)I" } : Jvm.MethodName) prog_18_method_96_code (3 : Nat) (Option.some Jvm.ClassFile.FieldType.int)) ∈ lw_all := lw_g (lw_at lw_m8 1 rfl) rfl
theorem q1762 : (Jvm.Cond.constant "StoneSheetsModel" (321 : Nat) (-1000000002 : Int32)) ∈ lw_all := lw_g (lw_at lw_m8 2 rfl) rfl
theorem q1764 : (Jvm.Cond.instanceMethod ({ cls := "StoneSheetsModel", name := "tell", desc := "(I)I" } : Jvm.MethodName)) ∈ lw_all := lw_g (lw_at lw_m8 4 rfl) rfl
theorem q1765 : (Jvm.Cond.selects "StoneSheetsModel" ({ cls := "StoneSheetsModel", name := "tell", desc := "(I)I" } : Jvm.MethodName) ({ cls := "StoneSheetsModel", name := "tell", desc := "(I)I" } : Jvm.MethodName)) ∈ lw_all := lw_g (lw_at lw_m8 5 rfl) rfl
theorem q1766 : (Jvm.Cond.code ({ cls := "StoneSheetsModel", name := "tell", desc := "(I)I" } : Jvm.MethodName) prog_18_method_97_code (2 : Nat) (Option.some Jvm.ClassFile.FieldType.int)) ∈ lw_all := lw_g (lw_at lw_m8 6 rfl) rfl
theorem q1768 : (Jvm.Cond.instanceMethod ({ cls := "StoneSheetsModel", name := "check", desc := "(I)I" } : Jvm.MethodName)) ∈ lw_all := lw_g (lw_at lw_m8 8 rfl) rfl
theorem q1769 : (Jvm.Cond.selects "StoneSheetsModel" ({ cls := "StoneSheetsModel", name := "check", desc := "(I)I" } : Jvm.MethodName) ({ cls := "StoneSheetsModel", name := "check", desc := "(I)I" } : Jvm.MethodName)) ∈ lw_all := lw_g (lw_at lw_m8 9 rfl) rfl
theorem q1770 : (Jvm.Cond.code ({ cls := "StoneSheetsModel", name := "check", desc := "(I)I" } : Jvm.MethodName) prog_18_method_99_code (5 : Nat) (Option.some Jvm.ClassFile.FieldType.int)) ∈ lw_all := lw_g (lw_at lw_m8 10 rfl) rfl
theorem q1771 : (Jvm.Cond.constantLong "StoneSheetsModel" (325 : Nat) (30 : Int64)) ∈ lw_all := lw_g (lw_at lw_m8 11 rfl) rfl
theorem q1772 : (Jvm.Cond.methodLink "StoneSheetsModel" (331 : Nat) ({ cls := "StoneSheetsModel", name := "setAside", desc := "([I[I)V" } : Jvm.MethodName)) ∈ lw_all := lw_g (lw_at lw_m8 12 rfl) rfl
theorem q1773 : (Jvm.Cond.privateMethod ({ cls := "StoneSheetsModel", name := "setAside", desc := "([I[I)V" } : Jvm.MethodName)) ∈ lw_tbl := lw_at lw_m8 13 rfl
theorem q1774 : (Jvm.Cond.instanceMethod ({ cls := "StoneSheetsModel", name := "setAside", desc := "([I[I)V" } : Jvm.MethodName)) ∈ lw_all := lw_g (lw_at lw_m8 14 rfl) rfl
theorem q1775 : (Jvm.Cond.code ({ cls := "StoneSheetsModel", name := "setAside", desc := "([I[I)V" } : Jvm.MethodName) prog_18_method_98_code (4 : Nat) (Option.none : Option Jvm.ClassFile.FieldType)) ∈ lw_all := lw_g (lw_at lw_m8 15 rfl) rfl
theorem q1777 : (Jvm.Cond.instanceMethod ({ cls := "StoneSheetsModel", name := "keep", desc := "()I" } : Jvm.MethodName)) ∈ lw_all := lw_g (lw_at lw_m8 17 rfl) rfl
theorem q1778 : (Jvm.Cond.selects "StoneSheetsModel" ({ cls := "StoneSheetsModel", name := "keep", desc := "()I" } : Jvm.MethodName) ({ cls := "StoneSheetsModel", name := "keep", desc := "()I" } : Jvm.MethodName)) ∈ lw_all := lw_g (lw_at lw_m8 18 rfl) rfl
theorem q1779 : (Jvm.Cond.code ({ cls := "StoneSheetsModel", name := "keep", desc := "()I" } : Jvm.MethodName) prog_18_method_100_code (1 : Nat) (Option.some Jvm.ClassFile.FieldType.int)) ∈ lw_all := lw_g (lw_at lw_m8 19 rfl) rfl
theorem q1781 : (Jvm.Cond.instanceMethod ({ cls := "StoneSheetsModel", name := "back", desc := "()I" } : Jvm.MethodName)) ∈ lw_all := lw_g (lw_at lw_m8 21 rfl) rfl
theorem q1782 : (Jvm.Cond.selects "StoneSheetsModel" ({ cls := "StoneSheetsModel", name := "back", desc := "()I" } : Jvm.MethodName) ({ cls := "StoneSheetsModel", name := "back", desc := "()I" } : Jvm.MethodName)) ∈ lw_all := lw_g (lw_at lw_m8 22 rfl) rfl
theorem q1783 : (Jvm.Cond.code ({ cls := "StoneSheetsModel", name := "back", desc := "()I" } : Jvm.MethodName) prog_18_method_101_code (1 : Nat) (Option.some Jvm.ClassFile.FieldType.int)) ∈ lw_all := lw_g (lw_at lw_m8 23 rfl) rfl
theorem q1785 : (Jvm.Cond.instanceMethod ({ cls := "StoneSheetsModel", name := "count", desc := "(I)I" } : Jvm.MethodName)) ∈ lw_all := lw_g (lw_at lw_m8 25 rfl) rfl
theorem q1786 : (Jvm.Cond.selects "StoneSheetsModel" ({ cls := "StoneSheetsModel", name := "count", desc := "(I)I" } : Jvm.MethodName) ({ cls := "StoneSheetsModel", name := "count", desc := "(I)I" } : Jvm.MethodName)) ∈ lw_all := lw_g (lw_at lw_m8 26 rfl) rfl
theorem q1787 : (Jvm.Cond.code ({ cls := "StoneSheetsModel", name := "count", desc := "(I)I" } : Jvm.MethodName) prog_18_method_102_code (2 : Nat) (Option.some Jvm.ClassFile.FieldType.int)) ∈ lw_all := lw_g (lw_at lw_m8 27 rfl) rfl
theorem in_X5 : ∀ w ∈ wsX50, w ∈ lw_all := lw_in wsX50 [1302, 1304, 1306, 1308, 1310, 1312, 1314, 1316, 1318, 1320, 1322, 1324, 1326, 1328, 1330, 1332, 1334, 1336, 1338, 1340, 1342, 1344, 1346, 1348, 1350, 1352, 1354, 1356, 1358, 1360, 1362, 1364] (by decide +kernel) (by decide +kernel)
