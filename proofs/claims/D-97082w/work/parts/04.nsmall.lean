/-! StoneSheets$State -/
set_option maxRecDepth 100000
def RX1 : String := "StoneSheets$State"
def TX1 : u_T := fun k => match k with
  | 0 => ("StoneSheets$State", "z", "I", false)
  | 1 => ("StoneSheets$State", "many", "I", false)
  | 2 => ("StoneSheets$State", "rubbing", "[LStoneSheets$Rubbing;", true)
  | 3 => ("StoneSheets$State", "wall", "[I", true)
  | 4 => ("StoneSheets$State", "found", "I", false)
  | 5 => ("StoneSheets$State", "tide", "I", false)
  | 6 => ("StoneSheets$State", "texts", "I", false)
  | _ => ("StoneSheets$State", "text", "[LStoneSheets$Text;", true)
def tyX1 : Nat → FieldType := fun k => match k with
  | 0 => .int
  | 1 => .int
  | 2 => .array (.object "StoneSheets$Rubbing")
  | 3 => .array .int
  | 4 => .int
  | 5 => .int
  | 6 => .int
  | _ => .array (.object "StoneSheets$Text")
abbrev wsX10 : List Cond := u_ws RX1 TX1 8
theorem nmX1 : ∀ a, a < 8 → ∀ b, b < 8 → a ≠ b → (TX1 a).2.1 ≠ (TX1 b).2.1 := by decide +kernel
theorem tyX1_ok : ∀ k, k < 8 → parseFieldDescriptor (TX1 k).2.2.1 = some (tyX1 k) := by decide +kernel
abbrev cX1_init : ByteArray := prog_12_method_1_code
def yX1_init : MethodName := ⟨RX1, "<init>", "()V"⟩
def dkwX1_init_1 : List UInt8 := [181, 0, 21, 42, 16, 14, 189, 0, 25, 181, 0, 27, 177]
abbrev dktX1_init_1 : List UInt8 := dkwX1_init_1 ++ []
def dkwX1_init_0 : List UInt8 := [42, 183, 0, 3, 42, 4, 181, 0, 9, 42, 16, 9, 189, 0, 15, 181, 0, 17, 42, 16, 16, 188, 10]
abbrev dktX1_init_0 : List UInt8 := dkwX1_init_0 ++ dktX1_init_1
theorem dksX1_init_0 : cX1_init.data.toList.drop 0 = dktX1_init_0 := by decide +kernel
theorem dksX1_init_1 : cX1_init.data.toList.drop 23 = dktX1_init_1 := dk_seg dksX1_init_0 23 rfl rfl
theorem dX1_init_0 : decode cX1_init 0 = .ok (.aload_n 0, 1) := dk_42 (dk_at dksX1_init_0 0 rfl rfl)
theorem dX1_init_1 : decode cX1_init 1 = .ok (.invokespecial 3, 3) := dk_183 0 3 (dk_at dksX1_init_0 1 rfl rfl)
theorem dX1_init_4 : decode cX1_init 4 = .ok (.aload_n 0, 1) := dk_42 (dk_at dksX1_init_0 4 rfl rfl)
theorem dX1_init_5 : decode cX1_init 5 = .ok (.iconst 1, 1) := dk_4 (dk_at dksX1_init_0 5 rfl rfl)
theorem dX1_init_6 : decode cX1_init 6 = .ok (.putfield 9, 3) := dk_181 0 9 (dk_at dksX1_init_0 6 rfl rfl)
theorem dX1_init_9 : decode cX1_init 9 = .ok (.aload_n 0, 1) := dk_42 (dk_at dksX1_init_0 9 rfl rfl)
theorem dX1_init_10 : decode cX1_init 10 = .ok (.bipush 9, 2) := dk_16 9 (dk_at dksX1_init_0 10 rfl rfl)
theorem dX1_init_12 : decode cX1_init 12 = .ok (.anewarray 15, 3) := dk_189 0 15 (dk_at dksX1_init_0 12 rfl rfl)
theorem dX1_init_15 : decode cX1_init 15 = .ok (.putfield 17, 3) := dk_181 0 17 (dk_at dksX1_init_0 15 rfl rfl)
theorem dX1_init_18 : decode cX1_init 18 = .ok (.aload_n 0, 1) := dk_42 (dk_at dksX1_init_0 18 rfl rfl)
theorem dX1_init_19 : decode cX1_init 19 = .ok (.bipush 16, 2) := dk_16 16 (dk_at dksX1_init_0 19 rfl rfl)
theorem dX1_init_21 : decode cX1_init 21 = .ok (.newarray .int, 2) := dk_188_10 (dk_at dksX1_init_0 21 rfl rfl)
theorem dX1_init_23 : decode cX1_init 23 = .ok (.putfield 21, 3) := dk_181 0 21 (dk_at dksX1_init_1 0 rfl rfl)
theorem dX1_init_26 : decode cX1_init 26 = .ok (.aload_n 0, 1) := dk_42 (dk_at dksX1_init_1 3 rfl rfl)
theorem dX1_init_27 : decode cX1_init 27 = .ok (.bipush 14, 2) := dk_16 14 (dk_at dksX1_init_1 4 rfl rfl)
theorem dX1_init_29 : decode cX1_init 29 = .ok (.anewarray 25, 3) := dk_189 0 25 (dk_at dksX1_init_1 6 rfl rfl)
theorem dX1_init_32 : decode cX1_init 32 = .ok (.putfield 27, 3) := dk_181 0 27 (dk_at dksX1_init_1 9 rfl rfl)
theorem dX1_init_35 : decode cX1_init 35 = .ok (.return_, 1) := dk_177 (dk_at dksX1_init_1 12 rfl rfl)
abbrev cX1_draw : ByteArray := prog_12_method_3_code
def yX1_draw : MethodName := ⟨RX1, "draw", "()I"⟩
def dkwX1_draw_0 : List UInt8 := [42, 42, 180, 0, 9, 18, 65, 104, 17, 48, 57, 96, 181, 0, 9, 42, 180, 0, 9, 16, 8, 124, 172]
abbrev dktX1_draw_0 : List UInt8 := dkwX1_draw_0 ++ []
theorem dksX1_draw_0 : cX1_draw.data.toList.drop 0 = dktX1_draw_0 := by decide +kernel
theorem dX1_draw_0 : decode cX1_draw 0 = .ok (.aload_n 0, 1) := dk_42 (dk_at dksX1_draw_0 0 rfl rfl)
theorem dX1_draw_1 : decode cX1_draw 1 = .ok (.aload_n 0, 1) := dk_42 (dk_at dksX1_draw_0 1 rfl rfl)
theorem dX1_draw_2 : decode cX1_draw 2 = .ok (.getfield 9, 3) := dk_180 0 9 (dk_at dksX1_draw_0 2 rfl rfl)
theorem dX1_draw_5 : decode cX1_draw 5 = .ok (.ldc 65, 2) := dk_18 65 (dk_at dksX1_draw_0 5 rfl rfl)
theorem dX1_draw_7 : decode cX1_draw 7 = .ok (.imul, 1) := dk_104 (dk_at dksX1_draw_0 7 rfl rfl)
theorem dX1_draw_8 : decode cX1_draw 8 = .ok (.sipush 12345, 3) := dk_17 48 57 (dk_at dksX1_draw_0 8 rfl rfl)
theorem dX1_draw_11 : decode cX1_draw 11 = .ok (.iadd, 1) := dk_96 (dk_at dksX1_draw_0 11 rfl rfl)
theorem dX1_draw_12 : decode cX1_draw 12 = .ok (.putfield 9, 3) := dk_181 0 9 (dk_at dksX1_draw_0 12 rfl rfl)
theorem dX1_draw_15 : decode cX1_draw 15 = .ok (.aload_n 0, 1) := dk_42 (dk_at dksX1_draw_0 15 rfl rfl)
theorem dX1_draw_16 : decode cX1_draw 16 = .ok (.getfield 9, 3) := dk_180 0 9 (dk_at dksX1_draw_0 16 rfl rfl)
theorem dX1_draw_19 : decode cX1_draw 19 = .ok (.bipush 8, 2) := dk_16 8 (dk_at dksX1_draw_0 19 rfl rfl)
theorem dX1_draw_21 : decode cX1_draw 21 = .ok (.iushr, 1) := dk_124 (dk_at dksX1_draw_0 21 rfl rfl)
theorem dX1_draw_22 : decode cX1_draw 22 = .ok (.ireturn, 1) := dk_172 (dk_at dksX1_draw_0 22 rfl rfl)
abbrev cX1_laid : ByteArray := prog_12_method_4_code
def yX1_laid : MethodName := ⟨RX1, "laid", "()I"⟩
def dkwX1_laid_1 : List UInt8 := [160, 0, 7, 3, 167, 0, 6, 4, 28, 120, 128, 60, 132, 2, 1, 167, 255, 221, 27, 172]
abbrev dktX1_laid_1 : List UInt8 := dkwX1_laid_1 ++ []
def dkwX1_laid_0 : List UInt8 := [3, 60, 3, 61, 28, 42, 180, 0, 31, 162, 0, 33, 27, 42, 180, 0, 17, 28, 50, 180, 0, 66, 16, 16]
abbrev dktX1_laid_0 : List UInt8 := dkwX1_laid_0 ++ dktX1_laid_1
theorem dksX1_laid_0 : cX1_laid.data.toList.drop 0 = dktX1_laid_0 := by decide +kernel
theorem dksX1_laid_1 : cX1_laid.data.toList.drop 24 = dktX1_laid_1 := dk_seg dksX1_laid_0 24 rfl rfl
theorem dX1_laid_0 : decode cX1_laid 0 = .ok (.iconst 0, 1) := dk_3 (dk_at dksX1_laid_0 0 rfl rfl)
theorem dX1_laid_1 : decode cX1_laid 1 = .ok (.istore_n 1, 1) := dk_60 (dk_at dksX1_laid_0 1 rfl rfl)
theorem dX1_laid_2 : decode cX1_laid 2 = .ok (.iconst 0, 1) := dk_3 (dk_at dksX1_laid_0 2 rfl rfl)
theorem dX1_laid_3 : decode cX1_laid 3 = .ok (.istore_n 2, 1) := dk_61 (dk_at dksX1_laid_0 3 rfl rfl)
theorem dX1_laid_4 : decode cX1_laid 4 = .ok (.iload_n 2, 1) := dk_28 (dk_at dksX1_laid_0 4 rfl rfl)
theorem dX1_laid_5 : decode cX1_laid 5 = .ok (.aload_n 0, 1) := dk_42 (dk_at dksX1_laid_0 5 rfl rfl)
theorem dX1_laid_6 : decode cX1_laid 6 = .ok (.getfield 31, 3) := dk_180 0 31 (dk_at dksX1_laid_0 6 rfl rfl)
theorem dX1_laid_9 : decode cX1_laid 9 = .ok (.if_icmp .ge 33, 3) := dk_162 0 33 (dk_at dksX1_laid_0 9 rfl rfl)
theorem dX1_laid_12 : decode cX1_laid 12 = .ok (.iload_n 1, 1) := dk_27 (dk_at dksX1_laid_0 12 rfl rfl)
theorem dX1_laid_13 : decode cX1_laid 13 = .ok (.aload_n 0, 1) := dk_42 (dk_at dksX1_laid_0 13 rfl rfl)
theorem dX1_laid_14 : decode cX1_laid 14 = .ok (.getfield 17, 3) := dk_180 0 17 (dk_at dksX1_laid_0 14 rfl rfl)
theorem dX1_laid_17 : decode cX1_laid 17 = .ok (.iload_n 2, 1) := dk_28 (dk_at dksX1_laid_0 17 rfl rfl)
theorem dX1_laid_18 : decode cX1_laid 18 = .ok (.aaload, 1) := dk_50 (dk_at dksX1_laid_0 18 rfl rfl)
theorem dX1_laid_19 : decode cX1_laid 19 = .ok (.getfield 66, 3) := dk_180 0 66 (dk_at dksX1_laid_0 19 rfl rfl)
theorem dX1_laid_22 : decode cX1_laid 22 = .ok (.bipush 16, 2) := dk_16 16 (dk_at dksX1_laid_0 22 rfl rfl)
theorem dX1_laid_24 : decode cX1_laid 24 = .ok (.if_icmp .ne 7, 3) := dk_160 0 7 (dk_at dksX1_laid_1 0 rfl rfl)
theorem dX1_laid_27 : decode cX1_laid 27 = .ok (.iconst 0, 1) := dk_3 (dk_at dksX1_laid_1 3 rfl rfl)
theorem dX1_laid_28 : decode cX1_laid 28 = .ok (.goto 6, 3) := dk_167 0 6 (dk_at dksX1_laid_1 4 rfl rfl)
theorem dX1_laid_31 : decode cX1_laid 31 = .ok (.iconst 1, 1) := dk_4 (dk_at dksX1_laid_1 7 rfl rfl)
theorem dX1_laid_32 : decode cX1_laid 32 = .ok (.iload_n 2, 1) := dk_28 (dk_at dksX1_laid_1 8 rfl rfl)
theorem dX1_laid_33 : decode cX1_laid 33 = .ok (.ishl, 1) := dk_120 (dk_at dksX1_laid_1 9 rfl rfl)
theorem dX1_laid_34 : decode cX1_laid 34 = .ok (.ior, 1) := dk_128 (dk_at dksX1_laid_1 10 rfl rfl)
theorem dX1_laid_35 : decode cX1_laid 35 = .ok (.istore_n 1, 1) := dk_60 (dk_at dksX1_laid_1 11 rfl rfl)
theorem dX1_laid_36 : decode cX1_laid 36 = .ok (.iinc 2 1, 3) := dk_132 2 1 (dk_at dksX1_laid_1 12 rfl rfl)
theorem dX1_laid_39 : decode cX1_laid 39 = .ok (.goto (-35), 3) := dk_167 255 221 (dk_at dksX1_laid_1 15 rfl rfl)
theorem dX1_laid_42 : decode cX1_laid 42 = .ok (.iload_n 1, 1) := dk_27 (dk_at dksX1_laid_1 18 rfl rfl)
theorem dX1_laid_43 : decode cX1_laid 43 = .ok (.ireturn, 1) := dk_172 (dk_at dksX1_laid_1 19 rfl rfl)
abbrev cX1_coveredBy : ByteArray := prog_12_method_6_code
def yX1_coveredBy : MethodName := ⟨RX1, "coveredBy", "(I)I"⟩
def dkwX1_coveredBy_1 : List UInt8 := [180, 0, 17, 29, 50, 182, 0, 72, 167, 0, 4, 3, 128, 61, 132, 3, 1, 167, 255, 220, 28, 172]
abbrev dktX1_coveredBy_1 : List UInt8 := dkwX1_coveredBy_1 ++ []
def dkwX1_coveredBy_0 : List UInt8 := [3, 61, 3, 62, 29, 42, 180, 0, 31, 162, 0, 34, 28, 27, 29, 122, 4, 126, 4, 160, 0, 15, 42]
abbrev dktX1_coveredBy_0 : List UInt8 := dkwX1_coveredBy_0 ++ dktX1_coveredBy_1
theorem dksX1_coveredBy_0 : cX1_coveredBy.data.toList.drop 0 = dktX1_coveredBy_0 := by decide +kernel
theorem dksX1_coveredBy_1 : cX1_coveredBy.data.toList.drop 23 = dktX1_coveredBy_1 := dk_seg dksX1_coveredBy_0 23 rfl rfl
theorem dX1_coveredBy_0 : decode cX1_coveredBy 0 = .ok (.iconst 0, 1) := dk_3 (dk_at dksX1_coveredBy_0 0 rfl rfl)
theorem dX1_coveredBy_1 : decode cX1_coveredBy 1 = .ok (.istore_n 2, 1) := dk_61 (dk_at dksX1_coveredBy_0 1 rfl rfl)
theorem dX1_coveredBy_2 : decode cX1_coveredBy 2 = .ok (.iconst 0, 1) := dk_3 (dk_at dksX1_coveredBy_0 2 rfl rfl)
theorem dX1_coveredBy_3 : decode cX1_coveredBy 3 = .ok (.istore_n 3, 1) := dk_62 (dk_at dksX1_coveredBy_0 3 rfl rfl)
theorem dX1_coveredBy_4 : decode cX1_coveredBy 4 = .ok (.iload_n 3, 1) := dk_29 (dk_at dksX1_coveredBy_0 4 rfl rfl)
theorem dX1_coveredBy_5 : decode cX1_coveredBy 5 = .ok (.aload_n 0, 1) := dk_42 (dk_at dksX1_coveredBy_0 5 rfl rfl)
theorem dX1_coveredBy_6 : decode cX1_coveredBy 6 = .ok (.getfield 31, 3) := dk_180 0 31 (dk_at dksX1_coveredBy_0 6 rfl rfl)
theorem dX1_coveredBy_9 : decode cX1_coveredBy 9 = .ok (.if_icmp .ge 34, 3) := dk_162 0 34 (dk_at dksX1_coveredBy_0 9 rfl rfl)
theorem dX1_coveredBy_12 : decode cX1_coveredBy 12 = .ok (.iload_n 2, 1) := dk_28 (dk_at dksX1_coveredBy_0 12 rfl rfl)
theorem dX1_coveredBy_13 : decode cX1_coveredBy 13 = .ok (.iload_n 1, 1) := dk_27 (dk_at dksX1_coveredBy_0 13 rfl rfl)
theorem dX1_coveredBy_14 : decode cX1_coveredBy 14 = .ok (.iload_n 3, 1) := dk_29 (dk_at dksX1_coveredBy_0 14 rfl rfl)
theorem dX1_coveredBy_15 : decode cX1_coveredBy 15 = .ok (.ishr, 1) := dk_122 (dk_at dksX1_coveredBy_0 15 rfl rfl)
theorem dX1_coveredBy_16 : decode cX1_coveredBy 16 = .ok (.iconst 1, 1) := dk_4 (dk_at dksX1_coveredBy_0 16 rfl rfl)
theorem dX1_coveredBy_17 : decode cX1_coveredBy 17 = .ok (.iand, 1) := dk_126 (dk_at dksX1_coveredBy_0 17 rfl rfl)
theorem dX1_coveredBy_18 : decode cX1_coveredBy 18 = .ok (.iconst 1, 1) := dk_4 (dk_at dksX1_coveredBy_0 18 rfl rfl)
theorem dX1_coveredBy_19 : decode cX1_coveredBy 19 = .ok (.if_icmp .ne 15, 3) := dk_160 0 15 (dk_at dksX1_coveredBy_0 19 rfl rfl)
theorem dX1_coveredBy_22 : decode cX1_coveredBy 22 = .ok (.aload_n 0, 1) := dk_42 (dk_at dksX1_coveredBy_0 22 rfl rfl)
theorem dX1_coveredBy_23 : decode cX1_coveredBy 23 = .ok (.getfield 17, 3) := dk_180 0 17 (dk_at dksX1_coveredBy_1 0 rfl rfl)
theorem dX1_coveredBy_26 : decode cX1_coveredBy 26 = .ok (.iload_n 3, 1) := dk_29 (dk_at dksX1_coveredBy_1 3 rfl rfl)
theorem dX1_coveredBy_27 : decode cX1_coveredBy 27 = .ok (.aaload, 1) := dk_50 (dk_at dksX1_coveredBy_1 4 rfl rfl)
theorem dX1_coveredBy_28 : decode cX1_coveredBy 28 = .ok (.invokevirtual 72, 3) := dk_182 0 72 (dk_at dksX1_coveredBy_1 5 rfl rfl)
theorem dX1_coveredBy_31 : decode cX1_coveredBy 31 = .ok (.goto 4, 3) := dk_167 0 4 (dk_at dksX1_coveredBy_1 8 rfl rfl)
theorem dX1_coveredBy_34 : decode cX1_coveredBy 34 = .ok (.iconst 0, 1) := dk_3 (dk_at dksX1_coveredBy_1 11 rfl rfl)
theorem dX1_coveredBy_35 : decode cX1_coveredBy 35 = .ok (.ior, 1) := dk_128 (dk_at dksX1_coveredBy_1 12 rfl rfl)
theorem dX1_coveredBy_36 : decode cX1_coveredBy 36 = .ok (.istore_n 2, 1) := dk_61 (dk_at dksX1_coveredBy_1 13 rfl rfl)
theorem dX1_coveredBy_37 : decode cX1_coveredBy 37 = .ok (.iinc 3 1, 3) := dk_132 3 1 (dk_at dksX1_coveredBy_1 14 rfl rfl)
theorem dX1_coveredBy_40 : decode cX1_coveredBy 40 = .ok (.goto (-36), 3) := dk_167 255 220 (dk_at dksX1_coveredBy_1 17 rfl rfl)
theorem dX1_coveredBy_43 : decode cX1_coveredBy 43 = .ok (.iload_n 2, 1) := dk_28 (dk_at dksX1_coveredBy_1 20 rfl rfl)
theorem dX1_coveredBy_44 : decode cX1_coveredBy 44 = .ok (.ireturn, 1) := dk_172 (dk_at dksX1_coveredBy_1 21 rfl rfl)
abbrev cX1_isFalse : ByteArray := prog_12_method_7_code
def yX1_isFalse : MethodName := ⟨RX1, "isFalse", "(II)Z"⟩
def dkwX1_isFalse_1 : List UInt8 := [182, 0, 79, 42, 180, 0, 21, 28, 46, 159, 0, 7, 4, 167, 0, 4, 3, 172]
abbrev dktX1_isFalse_1 : List UInt8 := dkwX1_isFalse_1 ++ []
def dkwX1_isFalse_0 : List UInt8 := [42, 180, 0, 17, 27, 50, 78, 45, 28, 182, 0, 75, 153, 0, 26, 45, 28, 45, 180, 0, 66, 100]
abbrev dktX1_isFalse_0 : List UInt8 := dkwX1_isFalse_0 ++ dktX1_isFalse_1
theorem dksX1_isFalse_0 : cX1_isFalse.data.toList.drop 0 = dktX1_isFalse_0 := by decide +kernel
theorem dksX1_isFalse_1 : cX1_isFalse.data.toList.drop 22 = dktX1_isFalse_1 := dk_seg dksX1_isFalse_0 22 rfl rfl
theorem dX1_isFalse_0 : decode cX1_isFalse 0 = .ok (.aload_n 0, 1) := dk_42 (dk_at dksX1_isFalse_0 0 rfl rfl)
theorem dX1_isFalse_1 : decode cX1_isFalse 1 = .ok (.getfield 17, 3) := dk_180 0 17 (dk_at dksX1_isFalse_0 1 rfl rfl)
theorem dX1_isFalse_4 : decode cX1_isFalse 4 = .ok (.iload_n 1, 1) := dk_27 (dk_at dksX1_isFalse_0 4 rfl rfl)
theorem dX1_isFalse_5 : decode cX1_isFalse 5 = .ok (.aaload, 1) := dk_50 (dk_at dksX1_isFalse_0 5 rfl rfl)
theorem dX1_isFalse_6 : decode cX1_isFalse 6 = .ok (.astore_n 3, 1) := dk_78 (dk_at dksX1_isFalse_0 6 rfl rfl)
theorem dX1_isFalse_7 : decode cX1_isFalse 7 = .ok (.aload_n 3, 1) := dk_45 (dk_at dksX1_isFalse_0 7 rfl rfl)
theorem dX1_isFalse_8 : decode cX1_isFalse 8 = .ok (.iload_n 2, 1) := dk_28 (dk_at dksX1_isFalse_0 8 rfl rfl)
theorem dX1_isFalse_9 : decode cX1_isFalse 9 = .ok (.invokevirtual 75, 3) := dk_182 0 75 (dk_at dksX1_isFalse_0 9 rfl rfl)
theorem dX1_isFalse_12 : decode cX1_isFalse 12 = .ok (.ifCond .eq 26, 3) := dk_153 0 26 (dk_at dksX1_isFalse_0 12 rfl rfl)
theorem dX1_isFalse_15 : decode cX1_isFalse 15 = .ok (.aload_n 3, 1) := dk_45 (dk_at dksX1_isFalse_0 15 rfl rfl)
theorem dX1_isFalse_16 : decode cX1_isFalse 16 = .ok (.iload_n 2, 1) := dk_28 (dk_at dksX1_isFalse_0 16 rfl rfl)
theorem dX1_isFalse_17 : decode cX1_isFalse 17 = .ok (.aload_n 3, 1) := dk_45 (dk_at dksX1_isFalse_0 17 rfl rfl)
theorem dX1_isFalse_18 : decode cX1_isFalse 18 = .ok (.getfield 66, 3) := dk_180 0 66 (dk_at dksX1_isFalse_0 18 rfl rfl)
theorem dX1_isFalse_21 : decode cX1_isFalse 21 = .ok (.isub, 1) := dk_100 (dk_at dksX1_isFalse_0 21 rfl rfl)
theorem dX1_isFalse_22 : decode cX1_isFalse 22 = .ok (.invokevirtual 79, 3) := dk_182 0 79 (dk_at dksX1_isFalse_1 0 rfl rfl)
theorem dX1_isFalse_25 : decode cX1_isFalse 25 = .ok (.aload_n 0, 1) := dk_42 (dk_at dksX1_isFalse_1 3 rfl rfl)
theorem dX1_isFalse_26 : decode cX1_isFalse 26 = .ok (.getfield 21, 3) := dk_180 0 21 (dk_at dksX1_isFalse_1 4 rfl rfl)
theorem dX1_isFalse_29 : decode cX1_isFalse 29 = .ok (.iload_n 2, 1) := dk_28 (dk_at dksX1_isFalse_1 7 rfl rfl)
theorem dX1_isFalse_30 : decode cX1_isFalse 30 = .ok (.iaload, 1) := dk_46 (dk_at dksX1_isFalse_1 8 rfl rfl)
theorem dX1_isFalse_31 : decode cX1_isFalse 31 = .ok (.if_icmp .eq 7, 3) := dk_159 0 7 (dk_at dksX1_isFalse_1 9 rfl rfl)
theorem dX1_isFalse_34 : decode cX1_isFalse 34 = .ok (.iconst 1, 1) := dk_4 (dk_at dksX1_isFalse_1 12 rfl rfl)
theorem dX1_isFalse_35 : decode cX1_isFalse 35 = .ok (.goto 4, 3) := dk_167 0 4 (dk_at dksX1_isFalse_1 13 rfl rfl)
theorem dX1_isFalse_38 : decode cX1_isFalse 38 = .ok (.iconst 0, 1) := dk_3 (dk_at dksX1_isFalse_1 16 rfl rfl)
theorem dX1_isFalse_39 : decode cX1_isFalse 39 = .ok (.ireturn, 1) := dk_172 (dk_at dksX1_isFalse_1 17 rfl rfl)
abbrev cX1_trust : ByteArray := prog_12_method_5_code
def yX1_trust : MethodName := ⟨RX1, "trust", "()I"⟩
def dkwX1_trust_1 : List UInt8 := [132, 2, 1, 167, 255, 233, 27, 172]
abbrev dktX1_trust_1 : List UInt8 := dkwX1_trust_1 ++ []
def dkwX1_trust_0 : List UInt8 := [3, 60, 3, 61, 28, 42, 180, 0, 31, 162, 0, 21, 27, 42, 180, 0, 17, 28, 50, 180, 0, 69, 96, 60]
abbrev dktX1_trust_0 : List UInt8 := dkwX1_trust_0 ++ dktX1_trust_1
theorem dksX1_trust_0 : cX1_trust.data.toList.drop 0 = dktX1_trust_0 := by decide +kernel
theorem dksX1_trust_1 : cX1_trust.data.toList.drop 24 = dktX1_trust_1 := dk_seg dksX1_trust_0 24 rfl rfl
theorem dX1_trust_0 : decode cX1_trust 0 = .ok (.iconst 0, 1) := dk_3 (dk_at dksX1_trust_0 0 rfl rfl)
theorem dX1_trust_1 : decode cX1_trust 1 = .ok (.istore_n 1, 1) := dk_60 (dk_at dksX1_trust_0 1 rfl rfl)
theorem dX1_trust_2 : decode cX1_trust 2 = .ok (.iconst 0, 1) := dk_3 (dk_at dksX1_trust_0 2 rfl rfl)
theorem dX1_trust_3 : decode cX1_trust 3 = .ok (.istore_n 2, 1) := dk_61 (dk_at dksX1_trust_0 3 rfl rfl)
theorem dX1_trust_4 : decode cX1_trust 4 = .ok (.iload_n 2, 1) := dk_28 (dk_at dksX1_trust_0 4 rfl rfl)
theorem dX1_trust_5 : decode cX1_trust 5 = .ok (.aload_n 0, 1) := dk_42 (dk_at dksX1_trust_0 5 rfl rfl)
theorem dX1_trust_6 : decode cX1_trust 6 = .ok (.getfield 31, 3) := dk_180 0 31 (dk_at dksX1_trust_0 6 rfl rfl)
theorem dX1_trust_9 : decode cX1_trust 9 = .ok (.if_icmp .ge 21, 3) := dk_162 0 21 (dk_at dksX1_trust_0 9 rfl rfl)
theorem dX1_trust_12 : decode cX1_trust 12 = .ok (.iload_n 1, 1) := dk_27 (dk_at dksX1_trust_0 12 rfl rfl)
theorem dX1_trust_13 : decode cX1_trust 13 = .ok (.aload_n 0, 1) := dk_42 (dk_at dksX1_trust_0 13 rfl rfl)
theorem dX1_trust_14 : decode cX1_trust 14 = .ok (.getfield 17, 3) := dk_180 0 17 (dk_at dksX1_trust_0 14 rfl rfl)
theorem dX1_trust_17 : decode cX1_trust 17 = .ok (.iload_n 2, 1) := dk_28 (dk_at dksX1_trust_0 17 rfl rfl)
theorem dX1_trust_18 : decode cX1_trust 18 = .ok (.aaload, 1) := dk_50 (dk_at dksX1_trust_0 18 rfl rfl)
theorem dX1_trust_19 : decode cX1_trust 19 = .ok (.getfield 69, 3) := dk_180 0 69 (dk_at dksX1_trust_0 19 rfl rfl)
theorem dX1_trust_22 : decode cX1_trust 22 = .ok (.iadd, 1) := dk_96 (dk_at dksX1_trust_0 22 rfl rfl)
theorem dX1_trust_23 : decode cX1_trust 23 = .ok (.istore_n 1, 1) := dk_60 (dk_at dksX1_trust_0 23 rfl rfl)
theorem dX1_trust_24 : decode cX1_trust 24 = .ok (.iinc 2 1, 3) := dk_132 2 1 (dk_at dksX1_trust_1 0 rfl rfl)
theorem dX1_trust_27 : decode cX1_trust 27 = .ok (.goto (-23), 3) := dk_167 255 233 (dk_at dksX1_trust_1 3 rfl rfl)
theorem dX1_trust_30 : decode cX1_trust 30 = .ok (.iload_n 1, 1) := dk_27 (dk_at dksX1_trust_1 6 rfl rfl)
theorem dX1_trust_31 : decode cX1_trust 31 = .ok (.ireturn, 1) := dk_172 (dk_at dksX1_trust_1 7 rfl rfl)
abbrev cX1_copyOf : ByteArray := prog_12_method_2_code
def yX1_copyOf : MethodName := ⟨RX1, "copyOf", "(LStoneSheets$State;)V"⟩
def dkwX1_copyOf_6 : List UInt8 := [16, 14, 184, 0, 59, 177]
abbrev dktX1_copyOf_6 : List UInt8 := dkwX1_copyOf_6 ++ []
def dkwX1_copyOf_5 : List UInt8 := [180, 0, 53, 181, 0, 53, 42, 43, 180, 0, 56, 181, 0, 56, 43, 180, 0, 27, 3, 42, 180, 0, 27, 3]
abbrev dktX1_copyOf_5 : List UInt8 := dkwX1_copyOf_5 ++ dktX1_copyOf_6
def dkwX1_copyOf_4 : List UInt8 := [167, 255, 185, 43, 180, 0, 21, 42, 180, 0, 21, 184, 0, 46, 42, 43, 180, 0, 50, 181, 0, 50, 42, 43]
abbrev dktX1_copyOf_4 : List UInt8 := dkwX1_copyOf_4 ++ dktX1_copyOf_5
def dkwX1_copyOf_3 : List UInt8 := [182, 0, 38, 83, 42, 180, 0, 17, 28, 50, 43, 180, 0, 17, 28, 50, 182, 0, 42, 132, 2, 1]
abbrev dktX1_copyOf_3 : List UInt8 := dkwX1_copyOf_3 ++ dktX1_copyOf_4
def dkwX1_copyOf_2 : List UInt8 := [180, 0, 17, 28, 50, 182, 0, 34, 159, 0, 18, 42, 180, 0, 17, 28, 43, 180, 0, 17, 28, 50]
abbrev dktX1_copyOf_2 : List UInt8 := dkwX1_copyOf_2 ++ dktX1_copyOf_3
def dkwX1_copyOf_1 : List UInt8 := [162, 0, 69, 42, 180, 0, 17, 28, 50, 198, 0, 24, 42, 180, 0, 17, 28, 50, 182, 0, 34, 43]
abbrev dktX1_copyOf_1 : List UInt8 := dkwX1_copyOf_1 ++ dktX1_copyOf_2
def dkwX1_copyOf_0 : List UInt8 := [42, 43, 180, 0, 9, 181, 0, 9, 42, 43, 180, 0, 31, 181, 0, 31, 3, 61, 28, 42, 180, 0, 31]
abbrev dktX1_copyOf_0 : List UInt8 := dkwX1_copyOf_0 ++ dktX1_copyOf_1
theorem dksX1_copyOf_0 : cX1_copyOf.data.toList.drop 0 = dktX1_copyOf_0 := by decide +kernel
theorem dksX1_copyOf_1 : cX1_copyOf.data.toList.drop 23 = dktX1_copyOf_1 := dk_seg dksX1_copyOf_0 23 rfl rfl
theorem dksX1_copyOf_2 : cX1_copyOf.data.toList.drop 45 = dktX1_copyOf_2 := dk_seg dksX1_copyOf_1 22 rfl rfl
theorem dksX1_copyOf_3 : cX1_copyOf.data.toList.drop 67 = dktX1_copyOf_3 := dk_seg dksX1_copyOf_2 22 rfl rfl
theorem dksX1_copyOf_4 : cX1_copyOf.data.toList.drop 89 = dktX1_copyOf_4 := dk_seg dksX1_copyOf_3 22 rfl rfl
theorem dksX1_copyOf_5 : cX1_copyOf.data.toList.drop 113 = dktX1_copyOf_5 := dk_seg dksX1_copyOf_4 24 rfl rfl
theorem dksX1_copyOf_6 : cX1_copyOf.data.toList.drop 137 = dktX1_copyOf_6 := dk_seg dksX1_copyOf_5 24 rfl rfl
theorem dX1_copyOf_0 : decode cX1_copyOf 0 = .ok (.aload_n 0, 1) := dk_42 (dk_at dksX1_copyOf_0 0 rfl rfl)
theorem dX1_copyOf_1 : decode cX1_copyOf 1 = .ok (.aload_n 1, 1) := dk_43 (dk_at dksX1_copyOf_0 1 rfl rfl)
theorem dX1_copyOf_2 : decode cX1_copyOf 2 = .ok (.getfield 9, 3) := dk_180 0 9 (dk_at dksX1_copyOf_0 2 rfl rfl)
theorem dX1_copyOf_5 : decode cX1_copyOf 5 = .ok (.putfield 9, 3) := dk_181 0 9 (dk_at dksX1_copyOf_0 5 rfl rfl)
theorem dX1_copyOf_8 : decode cX1_copyOf 8 = .ok (.aload_n 0, 1) := dk_42 (dk_at dksX1_copyOf_0 8 rfl rfl)
theorem dX1_copyOf_9 : decode cX1_copyOf 9 = .ok (.aload_n 1, 1) := dk_43 (dk_at dksX1_copyOf_0 9 rfl rfl)
theorem dX1_copyOf_10 : decode cX1_copyOf 10 = .ok (.getfield 31, 3) := dk_180 0 31 (dk_at dksX1_copyOf_0 10 rfl rfl)
theorem dX1_copyOf_13 : decode cX1_copyOf 13 = .ok (.putfield 31, 3) := dk_181 0 31 (dk_at dksX1_copyOf_0 13 rfl rfl)
theorem dX1_copyOf_16 : decode cX1_copyOf 16 = .ok (.iconst 0, 1) := dk_3 (dk_at dksX1_copyOf_0 16 rfl rfl)
theorem dX1_copyOf_17 : decode cX1_copyOf 17 = .ok (.istore_n 2, 1) := dk_61 (dk_at dksX1_copyOf_0 17 rfl rfl)
theorem dX1_copyOf_18 : decode cX1_copyOf 18 = .ok (.iload_n 2, 1) := dk_28 (dk_at dksX1_copyOf_0 18 rfl rfl)
theorem dX1_copyOf_19 : decode cX1_copyOf 19 = .ok (.aload_n 0, 1) := dk_42 (dk_at dksX1_copyOf_0 19 rfl rfl)
theorem dX1_copyOf_20 : decode cX1_copyOf 20 = .ok (.getfield 31, 3) := dk_180 0 31 (dk_at dksX1_copyOf_0 20 rfl rfl)
theorem dX1_copyOf_23 : decode cX1_copyOf 23 = .ok (.if_icmp .ge 69, 3) := dk_162 0 69 (dk_at dksX1_copyOf_1 0 rfl rfl)
theorem dX1_copyOf_26 : decode cX1_copyOf 26 = .ok (.aload_n 0, 1) := dk_42 (dk_at dksX1_copyOf_1 3 rfl rfl)
theorem dX1_copyOf_27 : decode cX1_copyOf 27 = .ok (.getfield 17, 3) := dk_180 0 17 (dk_at dksX1_copyOf_1 4 rfl rfl)
theorem dX1_copyOf_30 : decode cX1_copyOf 30 = .ok (.iload_n 2, 1) := dk_28 (dk_at dksX1_copyOf_1 7 rfl rfl)
theorem dX1_copyOf_31 : decode cX1_copyOf 31 = .ok (.aaload, 1) := dk_50 (dk_at dksX1_copyOf_1 8 rfl rfl)
theorem dX1_copyOf_32 : decode cX1_copyOf 32 = .ok (.ifnull 24, 3) := dk_198 0 24 (dk_at dksX1_copyOf_1 9 rfl rfl)
theorem dX1_copyOf_35 : decode cX1_copyOf 35 = .ok (.aload_n 0, 1) := dk_42 (dk_at dksX1_copyOf_1 12 rfl rfl)
theorem dX1_copyOf_36 : decode cX1_copyOf 36 = .ok (.getfield 17, 3) := dk_180 0 17 (dk_at dksX1_copyOf_1 13 rfl rfl)
theorem dX1_copyOf_39 : decode cX1_copyOf 39 = .ok (.iload_n 2, 1) := dk_28 (dk_at dksX1_copyOf_1 16 rfl rfl)
theorem dX1_copyOf_40 : decode cX1_copyOf 40 = .ok (.aaload, 1) := dk_50 (dk_at dksX1_copyOf_1 17 rfl rfl)
theorem dX1_copyOf_41 : decode cX1_copyOf 41 = .ok (.invokevirtual 34, 3) := dk_182 0 34 (dk_at dksX1_copyOf_1 18 rfl rfl)
theorem dX1_copyOf_44 : decode cX1_copyOf 44 = .ok (.aload_n 1, 1) := dk_43 (dk_at dksX1_copyOf_1 21 rfl rfl)
theorem dX1_copyOf_45 : decode cX1_copyOf 45 = .ok (.getfield 17, 3) := dk_180 0 17 (dk_at dksX1_copyOf_2 0 rfl rfl)
theorem dX1_copyOf_48 : decode cX1_copyOf 48 = .ok (.iload_n 2, 1) := dk_28 (dk_at dksX1_copyOf_2 3 rfl rfl)
theorem dX1_copyOf_49 : decode cX1_copyOf 49 = .ok (.aaload, 1) := dk_50 (dk_at dksX1_copyOf_2 4 rfl rfl)
theorem dX1_copyOf_50 : decode cX1_copyOf 50 = .ok (.invokevirtual 34, 3) := dk_182 0 34 (dk_at dksX1_copyOf_2 5 rfl rfl)
theorem dX1_copyOf_53 : decode cX1_copyOf 53 = .ok (.if_icmp .eq 18, 3) := dk_159 0 18 (dk_at dksX1_copyOf_2 8 rfl rfl)
theorem dX1_copyOf_56 : decode cX1_copyOf 56 = .ok (.aload_n 0, 1) := dk_42 (dk_at dksX1_copyOf_2 11 rfl rfl)
theorem dX1_copyOf_57 : decode cX1_copyOf 57 = .ok (.getfield 17, 3) := dk_180 0 17 (dk_at dksX1_copyOf_2 12 rfl rfl)
theorem dX1_copyOf_60 : decode cX1_copyOf 60 = .ok (.iload_n 2, 1) := dk_28 (dk_at dksX1_copyOf_2 15 rfl rfl)
theorem dX1_copyOf_61 : decode cX1_copyOf 61 = .ok (.aload_n 1, 1) := dk_43 (dk_at dksX1_copyOf_2 16 rfl rfl)
theorem dX1_copyOf_62 : decode cX1_copyOf 62 = .ok (.getfield 17, 3) := dk_180 0 17 (dk_at dksX1_copyOf_2 17 rfl rfl)
theorem dX1_copyOf_65 : decode cX1_copyOf 65 = .ok (.iload_n 2, 1) := dk_28 (dk_at dksX1_copyOf_2 20 rfl rfl)
theorem dX1_copyOf_66 : decode cX1_copyOf 66 = .ok (.aaload, 1) := dk_50 (dk_at dksX1_copyOf_2 21 rfl rfl)
theorem dX1_copyOf_67 : decode cX1_copyOf 67 = .ok (.invokevirtual 38, 3) := dk_182 0 38 (dk_at dksX1_copyOf_3 0 rfl rfl)
theorem dX1_copyOf_70 : decode cX1_copyOf 70 = .ok (.aastore, 1) := dk_83 (dk_at dksX1_copyOf_3 3 rfl rfl)
theorem dX1_copyOf_71 : decode cX1_copyOf 71 = .ok (.aload_n 0, 1) := dk_42 (dk_at dksX1_copyOf_3 4 rfl rfl)
theorem dX1_copyOf_72 : decode cX1_copyOf 72 = .ok (.getfield 17, 3) := dk_180 0 17 (dk_at dksX1_copyOf_3 5 rfl rfl)
theorem dX1_copyOf_75 : decode cX1_copyOf 75 = .ok (.iload_n 2, 1) := dk_28 (dk_at dksX1_copyOf_3 8 rfl rfl)
theorem dX1_copyOf_76 : decode cX1_copyOf 76 = .ok (.aaload, 1) := dk_50 (dk_at dksX1_copyOf_3 9 rfl rfl)
theorem dX1_copyOf_77 : decode cX1_copyOf 77 = .ok (.aload_n 1, 1) := dk_43 (dk_at dksX1_copyOf_3 10 rfl rfl)
theorem dX1_copyOf_78 : decode cX1_copyOf 78 = .ok (.getfield 17, 3) := dk_180 0 17 (dk_at dksX1_copyOf_3 11 rfl rfl)
theorem dX1_copyOf_81 : decode cX1_copyOf 81 = .ok (.iload_n 2, 1) := dk_28 (dk_at dksX1_copyOf_3 14 rfl rfl)
theorem dX1_copyOf_82 : decode cX1_copyOf 82 = .ok (.aaload, 1) := dk_50 (dk_at dksX1_copyOf_3 15 rfl rfl)
theorem dX1_copyOf_83 : decode cX1_copyOf 83 = .ok (.invokevirtual 42, 3) := dk_182 0 42 (dk_at dksX1_copyOf_3 16 rfl rfl)
theorem dX1_copyOf_86 : decode cX1_copyOf 86 = .ok (.iinc 2 1, 3) := dk_132 2 1 (dk_at dksX1_copyOf_3 19 rfl rfl)
theorem dX1_copyOf_89 : decode cX1_copyOf 89 = .ok (.goto (-71), 3) := dk_167 255 185 (dk_at dksX1_copyOf_4 0 rfl rfl)
theorem dX1_copyOf_92 : decode cX1_copyOf 92 = .ok (.aload_n 1, 1) := dk_43 (dk_at dksX1_copyOf_4 3 rfl rfl)
theorem dX1_copyOf_93 : decode cX1_copyOf 93 = .ok (.getfield 21, 3) := dk_180 0 21 (dk_at dksX1_copyOf_4 4 rfl rfl)
theorem dX1_copyOf_96 : decode cX1_copyOf 96 = .ok (.aload_n 0, 1) := dk_42 (dk_at dksX1_copyOf_4 7 rfl rfl)
theorem dX1_copyOf_97 : decode cX1_copyOf 97 = .ok (.getfield 21, 3) := dk_180 0 21 (dk_at dksX1_copyOf_4 8 rfl rfl)
theorem dX1_copyOf_100 : decode cX1_copyOf 100 = .ok (.invokestatic 46, 3) := dk_184 0 46 (dk_at dksX1_copyOf_4 11 rfl rfl)
theorem dX1_copyOf_103 : decode cX1_copyOf 103 = .ok (.aload_n 0, 1) := dk_42 (dk_at dksX1_copyOf_4 14 rfl rfl)
theorem dX1_copyOf_104 : decode cX1_copyOf 104 = .ok (.aload_n 1, 1) := dk_43 (dk_at dksX1_copyOf_4 15 rfl rfl)
theorem dX1_copyOf_105 : decode cX1_copyOf 105 = .ok (.getfield 50, 3) := dk_180 0 50 (dk_at dksX1_copyOf_4 16 rfl rfl)
theorem dX1_copyOf_108 : decode cX1_copyOf 108 = .ok (.putfield 50, 3) := dk_181 0 50 (dk_at dksX1_copyOf_4 19 rfl rfl)
theorem dX1_copyOf_111 : decode cX1_copyOf 111 = .ok (.aload_n 0, 1) := dk_42 (dk_at dksX1_copyOf_4 22 rfl rfl)
theorem dX1_copyOf_112 : decode cX1_copyOf 112 = .ok (.aload_n 1, 1) := dk_43 (dk_at dksX1_copyOf_4 23 rfl rfl)
theorem dX1_copyOf_113 : decode cX1_copyOf 113 = .ok (.getfield 53, 3) := dk_180 0 53 (dk_at dksX1_copyOf_5 0 rfl rfl)
theorem dX1_copyOf_116 : decode cX1_copyOf 116 = .ok (.putfield 53, 3) := dk_181 0 53 (dk_at dksX1_copyOf_5 3 rfl rfl)
theorem dX1_copyOf_119 : decode cX1_copyOf 119 = .ok (.aload_n 0, 1) := dk_42 (dk_at dksX1_copyOf_5 6 rfl rfl)
theorem dX1_copyOf_120 : decode cX1_copyOf 120 = .ok (.aload_n 1, 1) := dk_43 (dk_at dksX1_copyOf_5 7 rfl rfl)
theorem dX1_copyOf_121 : decode cX1_copyOf 121 = .ok (.getfield 56, 3) := dk_180 0 56 (dk_at dksX1_copyOf_5 8 rfl rfl)
theorem dX1_copyOf_124 : decode cX1_copyOf 124 = .ok (.putfield 56, 3) := dk_181 0 56 (dk_at dksX1_copyOf_5 11 rfl rfl)
theorem dX1_copyOf_127 : decode cX1_copyOf 127 = .ok (.aload_n 1, 1) := dk_43 (dk_at dksX1_copyOf_5 14 rfl rfl)
theorem dX1_copyOf_128 : decode cX1_copyOf 128 = .ok (.getfield 27, 3) := dk_180 0 27 (dk_at dksX1_copyOf_5 15 rfl rfl)
theorem dX1_copyOf_131 : decode cX1_copyOf 131 = .ok (.iconst 0, 1) := dk_3 (dk_at dksX1_copyOf_5 18 rfl rfl)
theorem dX1_copyOf_132 : decode cX1_copyOf 132 = .ok (.aload_n 0, 1) := dk_42 (dk_at dksX1_copyOf_5 19 rfl rfl)
theorem dX1_copyOf_133 : decode cX1_copyOf 133 = .ok (.getfield 27, 3) := dk_180 0 27 (dk_at dksX1_copyOf_5 20 rfl rfl)
theorem dX1_copyOf_136 : decode cX1_copyOf 136 = .ok (.iconst 0, 1) := dk_3 (dk_at dksX1_copyOf_5 23 rfl rfl)
theorem dX1_copyOf_137 : decode cX1_copyOf 137 = .ok (.bipush 14, 2) := dk_16 14 (dk_at dksX1_copyOf_6 0 rfl rfl)
theorem dX1_copyOf_139 : decode cX1_copyOf 139 = .ok (.invokestatic 59, 3) := dk_184 0 59 (dk_at dksX1_copyOf_6 2 rfl rfl)
theorem dX1_copyOf_142 : decode cX1_copyOf 142 = .ok (.return_, 1) := dk_177 (dk_at dksX1_copyOf_6 5 rfl rfl)
theorem q82 : (Jvm.Cond.initialized "StoneSheets$State") ∈ lw_all := lw_g (lw_at lw_m1 2 rfl) rfl
theorem q117 : (Jvm.Cond.instantiable "StoneSheets$State" (8 : Nat)) ∈ lw_all := lw_g (lw_at lw_m1 37 rfl) rfl
theorem q119 : (Jvm.Cond.instanceMethod ({ cls := "StoneSheets$State", name := "<init>", desc := "()V" } : Jvm.MethodName)) ∈ lw_all := lw_g (lw_at lw_m1 39 rfl) rfl
theorem q120 : (Jvm.Cond.code ({ cls := "StoneSheets$State", name := "<init>", desc := "()V" } : Jvm.MethodName) prog_12_method_1_code (1 : Nat) (Option.none : Option Jvm.ClassFile.FieldType)) ∈ lw_all := lw_g (lw_at lw_m1 40 rfl) rfl
theorem q121 : (Jvm.Cond.methodLink "StoneSheets$State" (3 : Nat) ({ cls := "java/lang/Object", name := "<init>", desc := "()V" } : Jvm.MethodName)) ∈ lw_all := lw_g (lw_at lw_m1 41 rfl) rfl
theorem q122 : (Jvm.Cond.classLink "StoneSheets$State" (15 : Nat) "StoneSheets$Rubbing") ∈ lw_all := lw_g (lw_at lw_m1 42 rfl) rfl
theorem q124 : (Jvm.Cond.classLink "StoneSheets$State" (25 : Nat) "StoneSheets$Text") ∈ lw_all := lw_g (lw_at lw_m1 44 rfl) rfl
theorem q126 : (Jvm.Cond.fieldLink "StoneSheets$State" (9 : Nat) "StoneSheets$State" "z" "I") ∈ lw_all := lw_g (lw_at lw_m1 46 rfl) rfl
theorem q128 : (Jvm.Cond.fieldLink "StoneSheets$State" (31 : Nat) "StoneSheets$State" "many" "I") ∈ lw_all := lw_g (lw_at lw_m1 48 rfl) rfl
theorem q130 : (Jvm.Cond.fieldLink "StoneSheets$State" (17 : Nat) "StoneSheets$State" "rubbing" "[LStoneSheets$Rubbing;") ∈ lw_all := lw_g (lw_at lw_m1 50 rfl) rfl
theorem q132 : (Jvm.Cond.fieldLink "StoneSheets$State" (21 : Nat) "StoneSheets$State" "wall" "[I") ∈ lw_all := lw_g (lw_at lw_m1 52 rfl) rfl
theorem q134 : (Jvm.Cond.fieldLink "StoneSheets$State" (50 : Nat) "StoneSheets$State" "found" "I") ∈ lw_all := lw_g (lw_at lw_m1 54 rfl) rfl
theorem q136 : (Jvm.Cond.fieldLink "StoneSheets$State" (53 : Nat) "StoneSheets$State" "tide" "I") ∈ lw_all := lw_g (lw_at lw_m1 56 rfl) rfl
theorem q138 : (Jvm.Cond.fieldLink "StoneSheets$State" (56 : Nat) "StoneSheets$State" "texts" "I") ∈ lw_all := lw_g (lw_at lw_m1 58 rfl) rfl
theorem q140 : (Jvm.Cond.fieldLink "StoneSheets$State" (27 : Nat) "StoneSheets$State" "text" "[LStoneSheets$Text;") ∈ lw_all := lw_g (lw_at lw_m1 60 rfl) rfl
theorem q142 : (Jvm.Cond.lays "StoneSheets$State" "StoneSheets$State" "z" "I") ∈ lw_all := lw_g (lw_at lw_m1 62 rfl) rfl
theorem q143 : (Jvm.Cond.soleField "StoneSheets$State" "z") ∈ lw_all := lw_g (lw_at lw_m1 63 rfl) rfl
theorem q144 : (Jvm.Cond.lays "StoneSheets$State" "StoneSheets$State" "many" "I") ∈ lw_all := lw_g (lw_at lw_m1 64 rfl) rfl
theorem q145 : (Jvm.Cond.soleField "StoneSheets$State" "many") ∈ lw_all := lw_g (lw_at lw_m1 65 rfl) rfl
theorem q146 : (Jvm.Cond.laysFinal "StoneSheets$State" "StoneSheets$State" "rubbing" "[LStoneSheets$Rubbing;") ∈ lw_all := lw_g (lw_at lw_m1 66 rfl) rfl
theorem q147 : (Jvm.Cond.soleField "StoneSheets$State" "rubbing") ∈ lw_all := lw_g (lw_at lw_m1 67 rfl) rfl
theorem q148 : (Jvm.Cond.laysFinal "StoneSheets$State" "StoneSheets$State" "wall" "[I") ∈ lw_all := lw_g (lw_at lw_m1 68 rfl) rfl
theorem q149 : (Jvm.Cond.soleField "StoneSheets$State" "wall") ∈ lw_all := lw_g (lw_at lw_m1 69 rfl) rfl
theorem q150 : (Jvm.Cond.lays "StoneSheets$State" "StoneSheets$State" "found" "I") ∈ lw_all := lw_g (lw_at lw_m1 70 rfl) rfl
theorem q151 : (Jvm.Cond.soleField "StoneSheets$State" "found") ∈ lw_all := lw_g (lw_at lw_m1 71 rfl) rfl
theorem q152 : (Jvm.Cond.lays "StoneSheets$State" "StoneSheets$State" "tide" "I") ∈ lw_all := lw_g (lw_at lw_m1 72 rfl) rfl
theorem q153 : (Jvm.Cond.soleField "StoneSheets$State" "tide") ∈ lw_all := lw_g (lw_at lw_m1 73 rfl) rfl
theorem q154 : (Jvm.Cond.lays "StoneSheets$State" "StoneSheets$State" "texts" "I") ∈ lw_all := lw_g (lw_at lw_m1 74 rfl) rfl
theorem q155 : (Jvm.Cond.soleField "StoneSheets$State" "texts") ∈ lw_all := lw_g (lw_at lw_m1 75 rfl) rfl
theorem q156 : (Jvm.Cond.laysFinal "StoneSheets$State" "StoneSheets$State" "text" "[LStoneSheets$Text;") ∈ lw_all := lw_g (lw_at lw_m1 76 rfl) rfl
theorem q157 : (Jvm.Cond.soleField "StoneSheets$State" "text") ∈ lw_all := lw_g (lw_at lw_m1 77 rfl) rfl
theorem q158 : (Jvm.Cond.superclass "StoneSheets$State" "java/lang/Object") ∈ lw_all := lw_g (lw_at lw_m1 78 rfl) rfl
theorem q552 : (Jvm.Cond.fieldLink "StoneSheets$State" (66 : Nat) "StoneSheets$Rubbing" "laid" "I") ∈ lw_all := lw_g (lw_at lw_m2 232 rfl) rfl
theorem q555 : (Jvm.Cond.fieldLink "StoneSheets$State" (69 : Nat) "StoneSheets$Rubbing" "trust" "I") ∈ lw_all := lw_g (lw_at lw_m2 235 rfl) rfl
theorem q870 : (Jvm.Cond.instanceMethod ({ cls := "StoneSheets$State", name := "draw", desc := "()I" } : Jvm.MethodName)) ∈ lw_all := lw_g (lw_at lw_m4 70 rfl) rfl
theorem q871 : (Jvm.Cond.selects "StoneSheets$State" ({ cls := "StoneSheets$State", name := "draw", desc := "()I" } : Jvm.MethodName) ({ cls := "StoneSheets$State", name := "draw", desc := "()I" } : Jvm.MethodName)) ∈ lw_all := lw_g (lw_at lw_m4 71 rfl) rfl
theorem q872 : (Jvm.Cond.code ({ cls := "StoneSheets$State", name := "draw", desc := "()I" } : Jvm.MethodName) prog_12_method_3_code (1 : Nat) (Option.some Jvm.ClassFile.FieldType.int)) ∈ lw_all := lw_g (lw_at lw_m4 72 rfl) rfl
theorem q873 : (Jvm.Cond.constant "StoneSheets$State" (65 : Nat) (1103515245 : Int32)) ∈ lw_all := lw_g (lw_at lw_m4 73 rfl) rfl
theorem q920 : (Jvm.Cond.instanceMethod ({ cls := "StoneSheets$State", name := "laid", desc := "()I" } : Jvm.MethodName)) ∈ lw_all := lw_g (lw_at lw_m4 120 rfl) rfl
theorem q921 : (Jvm.Cond.selects "StoneSheets$State" ({ cls := "StoneSheets$State", name := "laid", desc := "()I" } : Jvm.MethodName) ({ cls := "StoneSheets$State", name := "laid", desc := "()I" } : Jvm.MethodName)) ∈ lw_all := lw_g (lw_at lw_m4 121 rfl) rfl
theorem q922 : (Jvm.Cond.code ({ cls := "StoneSheets$State", name := "laid", desc := "()I" } : Jvm.MethodName) prog_12_method_4_code (3 : Nat) (Option.some Jvm.ClassFile.FieldType.int)) ∈ lw_all := lw_g (lw_at lw_m4 122 rfl) rfl
theorem q941 : (Jvm.Cond.instanceMethod ({ cls := "StoneSheets$State", name := "coveredBy", desc := "(I)I" } : Jvm.MethodName)) ∈ lw_all := lw_g (lw_at lw_m4 141 rfl) rfl
theorem q942 : (Jvm.Cond.selects "StoneSheets$State" ({ cls := "StoneSheets$State", name := "coveredBy", desc := "(I)I" } : Jvm.MethodName) ({ cls := "StoneSheets$State", name := "coveredBy", desc := "(I)I" } : Jvm.MethodName)) ∈ lw_all := lw_g (lw_at lw_m4 142 rfl) rfl
theorem q943 : (Jvm.Cond.code ({ cls := "StoneSheets$State", name := "coveredBy", desc := "(I)I" } : Jvm.MethodName) prog_12_method_6_code (4 : Nat) (Option.some Jvm.ClassFile.FieldType.int)) ∈ lw_all := lw_g (lw_at lw_m4 143 rfl) rfl
theorem q944 : (Jvm.Cond.methodLink "StoneSheets$State" (72 : Nat) ({ cls := "StoneSheets$Rubbing", name := "covered", desc := "()I" } : Jvm.MethodName)) ∈ lw_all := lw_g (lw_at lw_m4 144 rfl) rfl
theorem q954 : (Jvm.Cond.instanceMethod ({ cls := "StoneSheets$State", name := "isFalse", desc := "(II)Z" } : Jvm.MethodName)) ∈ lw_all := lw_g (lw_at lw_m4 154 rfl) rfl
theorem q955 : (Jvm.Cond.selects "StoneSheets$State" ({ cls := "StoneSheets$State", name := "isFalse", desc := "(II)Z" } : Jvm.MethodName) ({ cls := "StoneSheets$State", name := "isFalse", desc := "(II)Z" } : Jvm.MethodName)) ∈ lw_all := lw_g (lw_at lw_m4 155 rfl) rfl
theorem q956 : (Jvm.Cond.code ({ cls := "StoneSheets$State", name := "isFalse", desc := "(II)Z" } : Jvm.MethodName) prog_12_method_7_code (4 : Nat) (Option.some Jvm.ClassFile.FieldType.boolean)) ∈ lw_all := lw_g (lw_at lw_m4 156 rfl) rfl
theorem q957 : (Jvm.Cond.methodLink "StoneSheets$State" (75 : Nat) ({ cls := "StoneSheets$Rubbing", name := "covers", desc := "(I)Z" } : Jvm.MethodName)) ∈ lw_all := lw_g (lw_at lw_m4 157 rfl) rfl
theorem q968 : (Jvm.Cond.methodLink "StoneSheets$State" (79 : Nat) ({ cls := "StoneSheets$Rubbing", name := "saysAt", desc := "(I)I" } : Jvm.MethodName)) ∈ lw_all := lw_g (lw_at lw_m4 168 rfl) rfl
theorem q987 : (Jvm.Cond.instanceMethod ({ cls := "StoneSheets$State", name := "trust", desc := "()I" } : Jvm.MethodName)) ∈ lw_all := lw_g (lw_at lw_m4 187 rfl) rfl
theorem q988 : (Jvm.Cond.selects "StoneSheets$State" ({ cls := "StoneSheets$State", name := "trust", desc := "()I" } : Jvm.MethodName) ({ cls := "StoneSheets$State", name := "trust", desc := "()I" } : Jvm.MethodName)) ∈ lw_all := lw_g (lw_at lw_m4 188 rfl) rfl
theorem q989 : (Jvm.Cond.code ({ cls := "StoneSheets$State", name := "trust", desc := "()I" } : Jvm.MethodName) prog_12_method_5_code (3 : Nat) (Option.some Jvm.ClassFile.FieldType.int)) ∈ lw_all := lw_g (lw_at lw_m4 189 rfl) rfl
theorem q999 : (Jvm.Cond.instanceMethod ({ cls := "StoneSheets$State", name := "copyOf", desc := "(LStoneSheets$State;)V" } : Jvm.MethodName)) ∈ lw_all := lw_g (lw_at lw_m4 199 rfl) rfl
theorem q1000 : (Jvm.Cond.selects "StoneSheets$State" ({ cls := "StoneSheets$State", name := "copyOf", desc := "(LStoneSheets$State;)V" } : Jvm.MethodName) ({ cls := "StoneSheets$State", name := "copyOf", desc := "(LStoneSheets$State;)V" } : Jvm.MethodName)) ∈ lw_all := lw_g (lw_at lw_m4 200 rfl) rfl
theorem q1001 : (Jvm.Cond.code ({ cls := "StoneSheets$State", name := "copyOf", desc := "(LStoneSheets$State;)V" } : Jvm.MethodName) prog_12_method_2_code (3 : Nat) (Option.none : Option Jvm.ClassFile.FieldType)) ∈ lw_all := lw_g (lw_at lw_m4 201 rfl) rfl
theorem q1002 : (Jvm.Cond.methodLink "StoneSheets$State" (34 : Nat) ({ cls := "StoneSheets$Rubbing", name := "kind", desc := "()I" } : Jvm.MethodName)) ∈ lw_all := lw_g (lw_at lw_m4 202 rfl) rfl
theorem q1003 : (Jvm.Cond.methodLink "StoneSheets$State" (38 : Nat) ({ cls := "StoneSheets$Rubbing", name := "another", desc := "()LStoneSheets$Rubbing;" } : Jvm.MethodName)) ∈ lw_all := lw_g (lw_at lw_m4 203 rfl) rfl
theorem q1035 : (Jvm.Cond.methodLink "StoneSheets$State" (42 : Nat) ({ cls := "StoneSheets$Rubbing", name := "takes", desc := "(LStoneSheets$Rubbing;)V" } : Jvm.MethodName)) ∈ lw_all := lw_g (lw_at lw_m4 235 rfl) rfl
theorem q1036 : (Jvm.Cond.methodLinkNest "StoneSheets$State" (46 : Nat) ({ cls := "StoneSheets", name := "copyRow", desc := "([I[I)V" } : Jvm.MethodName) "StoneSheets") ∈ lw_tbl := lw_at lw_m4 236 rfl
theorem q1042 : (Jvm.Cond.methodLink "StoneSheets$State" (59 : Nat) ({ cls := "java/lang/System", name := "arraycopy", desc := "(Ljava/lang/Object;ILjava/lang/Object;II)V" } : Jvm.MethodName)) ∈ lw_all := lw_g (lw_at lw_m5 2 rfl) rfl
theorem in_X1 : ∀ w ∈ wsX10, w ∈ lw_all := lw_in wsX10 [142, 144, 146, 148, 150, 152, 154, 156] (by decide +kernel) (by decide +kernel)

/-! StoneSheets$Fault -/
set_option maxRecDepth 100000
def RX2 : String := "StoneSheets$Fault"
def TX2 : u_T := fun k => match k with
  | 0 => ("java/lang/Throwable", "cause", "Ljava/lang/Throwable;", false)
  | 1 => ("java/lang/Throwable", "stackTrace", "[Ljava/lang/StackTraceElement;", false)
  | 2 => ("java/lang/Throwable", "suppressedExceptions", "Ljava/util/List;", false)
  | 3 => ("java/lang/Throwable", "detailMessage", "Ljava/lang/String;", false)
  | 4 => ("java/lang/Throwable", "backtrace", "Ljava/lang/Object;", false)
  | 5 => ("java/lang/Throwable", "depth", "I", false)
  | _ => ("StoneSheets$Fault", "place", "I", false)
def tyX2 : Nat → FieldType := fun k => match k with
  | 0 => .object "java/lang/Throwable"
  | 1 => .array (.object "java/lang/StackTraceElement")
  | 2 => .object "java/util/List"
  | 3 => .object "java/lang/String"
  | 4 => .object "java/lang/Object"
  | 5 => .int
  | _ => .int
abbrev wsX20 : List Cond := u_ws RX2 TX2 7
theorem nmX2 : ∀ a, a < 7 → ∀ b, b < 7 → a ≠ b → (TX2 a).2.1 ≠ (TX2 b).2.1 := by decide +kernel
theorem tyX2_ok : ∀ k, k < 7 → parseFieldDescriptor (TX2 k).2.2.1 = some (tyX2 k) := by decide +kernel
abbrev cX2_init : ByteArray := prog_5_method_1_code
def yX2_init : MethodName := ⟨RX2, "<init>", "()V"⟩
theorem dX2_init_0 : decode cX2_init 0 = .ok (.aload_n 0, 1) := by decide +kernel
theorem dX2_init_1 : decode cX2_init 1 = .ok (.invokespecial 1, 3) := by decide +kernel
theorem dX2_init_4 : decode cX2_init 4 = .ok (.return_, 1) := by decide +kernel
theorem q86 : (Jvm.Cond.initialized "StoneSheets$Fault") ∈ lw_all := lw_g (lw_at lw_m1 6 rfl) rfl
theorem q161 : (Jvm.Cond.instantiable "StoneSheets$Fault" (7 : Nat)) ∈ lw_all := lw_g (lw_at lw_m1 81 rfl) rfl
theorem q162 : (Jvm.Cond.castable "StoneSheets$Fault" "StoneSheets$Fault") ∈ lw_tbl := lw_at lw_m1 82 rfl
theorem q169 : (Jvm.Cond.selects "StoneSheets$Fault" ({ cls := "java/lang/Throwable", name := "fillInStackTrace", desc := "(I)Ljava/lang/Throwable;" } : Jvm.MethodName) ({ cls := "java/lang/Throwable", name := "fillInStackTrace", desc := "(I)Ljava/lang/Throwable;" } : Jvm.MethodName)) ∈ lw_all := lw_g (lw_at lw_m1 89 rfl) rfl
theorem q170 : (Jvm.Cond.selects "StoneSheets$Fault" ({ cls := "java/lang/Throwable", name := "fillInStackTrace", desc := "()Ljava/lang/Throwable;" } : Jvm.MethodName) ({ cls := "java/lang/Throwable", name := "fillInStackTrace", desc := "()Ljava/lang/Throwable;" } : Jvm.MethodName)) ∈ lw_all := lw_g (lw_at lw_m1 90 rfl) rfl
theorem q171 : (Jvm.Cond.lays "StoneSheets$Fault" "java/lang/Throwable" "cause" "Ljava/lang/Throwable;") ∈ lw_all := lw_g (lw_at lw_m1 91 rfl) rfl
theorem q173 : (Jvm.Cond.lays "StoneSheets$Fault" "java/lang/Throwable" "stackTrace" "[Ljava/lang/StackTraceElement;") ∈ lw_all := lw_g (lw_at lw_m1 93 rfl) rfl
theorem q175 : (Jvm.Cond.lays "StoneSheets$Fault" "java/lang/Throwable" "suppressedExceptions" "Ljava/util/List;") ∈ lw_all := lw_g (lw_at lw_m1 95 rfl) rfl
theorem q177 : (Jvm.Cond.lays "StoneSheets$Fault" "java/lang/Throwable" "detailMessage" "Ljava/lang/String;") ∈ lw_all := lw_g (lw_at lw_m1 97 rfl) rfl
theorem q179 : (Jvm.Cond.lays "StoneSheets$Fault" "java/lang/Throwable" "backtrace" "Ljava/lang/Object;") ∈ lw_all := lw_g (lw_at lw_m1 99 rfl) rfl
theorem q202 : (Jvm.Cond.instanceMethod ({ cls := "StoneSheets$Fault", name := "<init>", desc := "()V" } : Jvm.MethodName)) ∈ lw_all := lw_g (lw_at lw_m1 122 rfl) rfl
theorem q203 : (Jvm.Cond.code ({ cls := "StoneSheets$Fault", name := "<init>", desc := "()V" } : Jvm.MethodName) prog_5_method_1_code (1 : Nat) (Option.none : Option Jvm.ClassFile.FieldType)) ∈ lw_all := lw_g (lw_at lw_m1 123 rfl) rfl
theorem q204 : (Jvm.Cond.methodLink "StoneSheets$Fault" (1 : Nat) ({ cls := "java/lang/RuntimeException", name := "<init>", desc := "()V" } : Jvm.MethodName)) ∈ lw_all := lw_g (lw_at lw_m1 124 rfl) rfl
theorem q217 : (Jvm.Cond.lays "StoneSheets$Fault" "StoneSheets$Fault" "place" "I") ∈ lw_all := lw_g (lw_at lw_m1 137 rfl) rfl
theorem q218 : (Jvm.Cond.soleField "StoneSheets$Fault" "place") ∈ lw_all := lw_g (lw_at lw_m1 138 rfl) rfl
theorem q223 : (Jvm.Cond.lays "StoneSheets$Fault" "java/lang/Throwable" "depth" "I") ∈ lw_all := lw_g (lw_at lw_m1 143 rfl) rfl
theorem q226 : (Jvm.Cond.superclass "StoneSheets$Fault" "java/lang/RuntimeException") ∈ lw_all := lw_g (lw_at lw_m1 146 rfl) rfl
theorem in_X2 : ∀ w ∈ wsX20, w ∈ lw_all := lw_in wsX20 [171, 173, 175, 177, 179, 223, 217] (by decide +kernel) (by decide +kernel)

/-! StoneSheets$Sheet -/
set_option maxRecDepth 100000
def RX3 : String := "StoneSheets$Sheet"
def TX3 : u_T := fun k => match k with
  | _ => ("StoneSheets$Sheet", "row", "Ljava/lang/Object;", false)
def tyX3 : Nat → FieldType := fun k => match k with
  | _ => .object "java/lang/Object"
abbrev wsX30 : List Cond := u_ws RX3 TX3 1
theorem nmX3 : ∀ a, a < 1 → ∀ b, b < 1 → a ≠ b → (TX3 a).2.1 ≠ (TX3 b).2.1 := by decide +kernel
theorem tyX3_ok : ∀ k, k < 1 → parseFieldDescriptor (TX3 k).2.2.1 = some (tyX3 k) := by decide +kernel
abbrev cX3_init : ByteArray := prog_10_method_1_code
def yX3_init : MethodName := ⟨RX3, "<init>", "()V"⟩
theorem dX3_init_0 : decode cX3_init 0 = .ok (.aload_n 0, 1) := by decide +kernel
theorem dX3_init_1 : decode cX3_init 1 = .ok (.invokespecial 1, 3) := by decide +kernel
theorem dX3_init_4 : decode cX3_init 4 = .ok (.return_, 1) := by decide +kernel
abbrev cX3_isThere : ByteArray := prog_10_method_2_code
def yX3_isThere : MethodName := ⟨RX3, "isThere", "()Z"⟩
def dkwX3_isThere_0 : List UInt8 := [42, 180, 0, 7, 198, 0, 7, 4, 167, 0, 4, 3, 172]
abbrev dktX3_isThere_0 : List UInt8 := dkwX3_isThere_0 ++ []
theorem dksX3_isThere_0 : cX3_isThere.data.toList.drop 0 = dktX3_isThere_0 := by decide +kernel
theorem dX3_isThere_0 : decode cX3_isThere 0 = .ok (.aload_n 0, 1) := dk_42 (dk_at dksX3_isThere_0 0 rfl rfl)
theorem dX3_isThere_1 : decode cX3_isThere 1 = .ok (.getfield 7, 3) := dk_180 0 7 (dk_at dksX3_isThere_0 1 rfl rfl)
theorem dX3_isThere_4 : decode cX3_isThere 4 = .ok (.ifnull 7, 3) := dk_198 0 7 (dk_at dksX3_isThere_0 4 rfl rfl)
theorem dX3_isThere_7 : decode cX3_isThere 7 = .ok (.iconst 1, 1) := dk_4 (dk_at dksX3_isThere_0 7 rfl rfl)
theorem dX3_isThere_8 : decode cX3_isThere 8 = .ok (.goto 4, 3) := dk_167 0 4 (dk_at dksX3_isThere_0 8 rfl rfl)
theorem dX3_isThere_11 : decode cX3_isThere 11 = .ok (.iconst 0, 1) := dk_3 (dk_at dksX3_isThere_0 11 rfl rfl)
theorem dX3_isThere_12 : decode cX3_isThere 12 = .ok (.ireturn, 1) := dk_172 (dk_at dksX3_isThere_0 12 rfl rfl)
abbrev cX3_size : ByteArray := prog_10_method_4_code
def yX3_size : MethodName := ⟨RX3, "size", "()I"⟩
def dkwX3_size_1 : List UInt8 := [192, 0, 19, 190, 172]
abbrev dktX3_size_1 : List UInt8 := dkwX3_size_1 ++ []
def dkwX3_size_0 : List UInt8 := [42, 182, 0, 15, 153, 0, 14, 42, 180, 0, 7, 192, 0, 13, 190, 167, 0, 11, 42, 180, 0, 7]
abbrev dktX3_size_0 : List UInt8 := dkwX3_size_0 ++ dktX3_size_1
theorem dksX3_size_0 : cX3_size.data.toList.drop 0 = dktX3_size_0 := by decide +kernel
theorem dksX3_size_1 : cX3_size.data.toList.drop 22 = dktX3_size_1 := dk_seg dksX3_size_0 22 rfl rfl
theorem dX3_size_0 : decode cX3_size 0 = .ok (.aload_n 0, 1) := dk_42 (dk_at dksX3_size_0 0 rfl rfl)
theorem dX3_size_1 : decode cX3_size 1 = .ok (.invokevirtual 15, 3) := dk_182 0 15 (dk_at dksX3_size_0 1 rfl rfl)
theorem dX3_size_4 : decode cX3_size 4 = .ok (.ifCond .eq 14, 3) := dk_153 0 14 (dk_at dksX3_size_0 4 rfl rfl)
theorem dX3_size_7 : decode cX3_size 7 = .ok (.aload_n 0, 1) := dk_42 (dk_at dksX3_size_0 7 rfl rfl)
theorem dX3_size_8 : decode cX3_size 8 = .ok (.getfield 7, 3) := dk_180 0 7 (dk_at dksX3_size_0 8 rfl rfl)
theorem dX3_size_11 : decode cX3_size 11 = .ok (.checkcast 13, 3) := dk_192 0 13 (dk_at dksX3_size_0 11 rfl rfl)
theorem dX3_size_14 : decode cX3_size 14 = .ok (.arraylength, 1) := dk_190 (dk_at dksX3_size_0 14 rfl rfl)
theorem dX3_size_15 : decode cX3_size 15 = .ok (.goto 11, 3) := dk_167 0 11 (dk_at dksX3_size_0 15 rfl rfl)
theorem dX3_size_18 : decode cX3_size 18 = .ok (.aload_n 0, 1) := dk_42 (dk_at dksX3_size_0 18 rfl rfl)
theorem dX3_size_19 : decode cX3_size 19 = .ok (.getfield 7, 3) := dk_180 0 7 (dk_at dksX3_size_0 19 rfl rfl)
theorem dX3_size_22 : decode cX3_size 22 = .ok (.checkcast 19, 3) := dk_192 0 19 (dk_at dksX3_size_1 0 rfl rfl)
theorem dX3_size_25 : decode cX3_size 25 = .ok (.arraylength, 1) := dk_190 (dk_at dksX3_size_1 3 rfl rfl)
theorem dX3_size_26 : decode cX3_size 26 = .ok (.ireturn, 1) := dk_172 (dk_at dksX3_size_1 4 rfl rfl)
abbrev cX3_isFloats : ByteArray := prog_10_method_3_code
def yX3_isFloats : MethodName := ⟨RX3, "isFloats", "()Z"⟩
def dkwX3_isFloats_0 : List UInt8 := [42, 180, 0, 7, 193, 0, 13, 172]
abbrev dktX3_isFloats_0 : List UInt8 := dkwX3_isFloats_0 ++ []
theorem dksX3_isFloats_0 : cX3_isFloats.data.toList.drop 0 = dktX3_isFloats_0 := by decide +kernel
theorem dX3_isFloats_0 : decode cX3_isFloats 0 = .ok (.aload_n 0, 1) := dk_42 (dk_at dksX3_isFloats_0 0 rfl rfl)
theorem dX3_isFloats_1 : decode cX3_isFloats 1 = .ok (.getfield 7, 3) := dk_180 0 7 (dk_at dksX3_isFloats_0 1 rfl rfl)
theorem dX3_isFloats_4 : decode cX3_isFloats 4 = .ok (.instanceof 13, 3) := dk_193 0 13 (dk_at dksX3_isFloats_0 4 rfl rfl)
theorem dX3_isFloats_7 : decode cX3_isFloats 7 = .ok (.ireturn, 1) := dk_172 (dk_at dksX3_isFloats_0 7 rfl rfl)
abbrev cX3_put : ByteArray := prog_10_method_7_code
def yX3_put : MethodName := ⟨RX3, "put", "(II)V"⟩
def dkwX3_put_1 : List UInt8 := [180, 0, 7, 192, 0, 19, 27, 28, 147, 86, 177]
abbrev dktX3_put_1 : List UInt8 := dkwX3_put_1 ++ []
def dkwX3_put_0 : List UInt8 := [42, 182, 0, 15, 153, 0, 17, 42, 180, 0, 7, 192, 0, 13, 27, 28, 134, 81, 167, 0, 14, 42]
abbrev dktX3_put_0 : List UInt8 := dkwX3_put_0 ++ dktX3_put_1
theorem dksX3_put_0 : cX3_put.data.toList.drop 0 = dktX3_put_0 := by decide +kernel
theorem dksX3_put_1 : cX3_put.data.toList.drop 22 = dktX3_put_1 := dk_seg dksX3_put_0 22 rfl rfl
theorem dX3_put_0 : decode cX3_put 0 = .ok (.aload_n 0, 1) := dk_42 (dk_at dksX3_put_0 0 rfl rfl)
theorem dX3_put_1 : decode cX3_put 1 = .ok (.invokevirtual 15, 3) := dk_182 0 15 (dk_at dksX3_put_0 1 rfl rfl)
theorem dX3_put_4 : decode cX3_put 4 = .ok (.ifCond .eq 17, 3) := dk_153 0 17 (dk_at dksX3_put_0 4 rfl rfl)
theorem dX3_put_7 : decode cX3_put 7 = .ok (.aload_n 0, 1) := dk_42 (dk_at dksX3_put_0 7 rfl rfl)
theorem dX3_put_8 : decode cX3_put 8 = .ok (.getfield 7, 3) := dk_180 0 7 (dk_at dksX3_put_0 8 rfl rfl)
theorem dX3_put_11 : decode cX3_put 11 = .ok (.checkcast 13, 3) := dk_192 0 13 (dk_at dksX3_put_0 11 rfl rfl)
theorem dX3_put_14 : decode cX3_put 14 = .ok (.iload_n 1, 1) := dk_27 (dk_at dksX3_put_0 14 rfl rfl)
theorem dX3_put_15 : decode cX3_put 15 = .ok (.iload_n 2, 1) := dk_28 (dk_at dksX3_put_0 15 rfl rfl)
theorem dX3_put_16 : decode cX3_put 16 = .ok (.i2f, 1) := dk_134 (dk_at dksX3_put_0 16 rfl rfl)
theorem dX3_put_17 : decode cX3_put 17 = .ok (.fastore, 1) := dk_81 (dk_at dksX3_put_0 17 rfl rfl)
theorem dX3_put_18 : decode cX3_put 18 = .ok (.goto 14, 3) := dk_167 0 14 (dk_at dksX3_put_0 18 rfl rfl)
theorem dX3_put_21 : decode cX3_put 21 = .ok (.aload_n 0, 1) := dk_42 (dk_at dksX3_put_0 21 rfl rfl)
theorem dX3_put_22 : decode cX3_put 22 = .ok (.getfield 7, 3) := dk_180 0 7 (dk_at dksX3_put_1 0 rfl rfl)
theorem dX3_put_25 : decode cX3_put 25 = .ok (.checkcast 19, 3) := dk_192 0 19 (dk_at dksX3_put_1 3 rfl rfl)
theorem dX3_put_28 : decode cX3_put 28 = .ok (.iload_n 1, 1) := dk_27 (dk_at dksX3_put_1 6 rfl rfl)
theorem dX3_put_29 : decode cX3_put 29 = .ok (.iload_n 2, 1) := dk_28 (dk_at dksX3_put_1 7 rfl rfl)
theorem dX3_put_30 : decode cX3_put 30 = .ok (.i2s, 1) := dk_147 (dk_at dksX3_put_1 8 rfl rfl)
theorem dX3_put_31 : decode cX3_put 31 = .ok (.sastore, 1) := dk_86 (dk_at dksX3_put_1 9 rfl rfl)
theorem dX3_put_32 : decode cX3_put 32 = .ok (.return_, 1) := dk_177 (dk_at dksX3_put_1 10 rfl rfl)
abbrev cX3_isNumber : ByteArray := prog_10_method_5_code
def yX3_isNumber : MethodName := ⟨RX3, "isNumber", "(I)Z"⟩
def dkwX3_isNumber_1 : List UInt8 := [48, 149, 154, 0, 7, 4, 167, 0, 4, 3, 172]
abbrev dktX3_isNumber_1 : List UInt8 := dkwX3_isNumber_1 ++ []
def dkwX3_isNumber_0 : List UInt8 := [42, 182, 0, 15, 153, 0, 25, 42, 180, 0, 7, 192, 0, 13, 27, 48, 42, 180, 0, 7, 192, 0, 13, 27]
abbrev dktX3_isNumber_0 : List UInt8 := dkwX3_isNumber_0 ++ dktX3_isNumber_1
theorem dksX3_isNumber_0 : cX3_isNumber.data.toList.drop 0 = dktX3_isNumber_0 := by decide +kernel
theorem dksX3_isNumber_1 : cX3_isNumber.data.toList.drop 24 = dktX3_isNumber_1 := dk_seg dksX3_isNumber_0 24 rfl rfl
theorem dX3_isNumber_0 : decode cX3_isNumber 0 = .ok (.aload_n 0, 1) := dk_42 (dk_at dksX3_isNumber_0 0 rfl rfl)
theorem dX3_isNumber_1 : decode cX3_isNumber 1 = .ok (.invokevirtual 15, 3) := dk_182 0 15 (dk_at dksX3_isNumber_0 1 rfl rfl)
theorem dX3_isNumber_4 : decode cX3_isNumber 4 = .ok (.ifCond .eq 25, 3) := dk_153 0 25 (dk_at dksX3_isNumber_0 4 rfl rfl)
theorem dX3_isNumber_7 : decode cX3_isNumber 7 = .ok (.aload_n 0, 1) := dk_42 (dk_at dksX3_isNumber_0 7 rfl rfl)
theorem dX3_isNumber_8 : decode cX3_isNumber 8 = .ok (.getfield 7, 3) := dk_180 0 7 (dk_at dksX3_isNumber_0 8 rfl rfl)
theorem dX3_isNumber_11 : decode cX3_isNumber 11 = .ok (.checkcast 13, 3) := dk_192 0 13 (dk_at dksX3_isNumber_0 11 rfl rfl)
theorem dX3_isNumber_14 : decode cX3_isNumber 14 = .ok (.iload_n 1, 1) := dk_27 (dk_at dksX3_isNumber_0 14 rfl rfl)
theorem dX3_isNumber_15 : decode cX3_isNumber 15 = .ok (.faload, 1) := dk_48 (dk_at dksX3_isNumber_0 15 rfl rfl)
theorem dX3_isNumber_16 : decode cX3_isNumber 16 = .ok (.aload_n 0, 1) := dk_42 (dk_at dksX3_isNumber_0 16 rfl rfl)
theorem dX3_isNumber_17 : decode cX3_isNumber 17 = .ok (.getfield 7, 3) := dk_180 0 7 (dk_at dksX3_isNumber_0 17 rfl rfl)
theorem dX3_isNumber_20 : decode cX3_isNumber 20 = .ok (.checkcast 13, 3) := dk_192 0 13 (dk_at dksX3_isNumber_0 20 rfl rfl)
theorem dX3_isNumber_23 : decode cX3_isNumber 23 = .ok (.iload_n 1, 1) := dk_27 (dk_at dksX3_isNumber_0 23 rfl rfl)
theorem dX3_isNumber_24 : decode cX3_isNumber 24 = .ok (.faload, 1) := dk_48 (dk_at dksX3_isNumber_1 0 rfl rfl)
theorem dX3_isNumber_25 : decode cX3_isNumber 25 = .ok (.fcmp .l, 1) := dk_149 (dk_at dksX3_isNumber_1 1 rfl rfl)
theorem dX3_isNumber_26 : decode cX3_isNumber 26 = .ok (.ifCond .ne 7, 3) := dk_154 0 7 (dk_at dksX3_isNumber_1 2 rfl rfl)
theorem dX3_isNumber_29 : decode cX3_isNumber 29 = .ok (.iconst 1, 1) := dk_4 (dk_at dksX3_isNumber_1 5 rfl rfl)
theorem dX3_isNumber_30 : decode cX3_isNumber 30 = .ok (.goto 4, 3) := dk_167 0 4 (dk_at dksX3_isNumber_1 6 rfl rfl)
theorem dX3_isNumber_33 : decode cX3_isNumber 33 = .ok (.iconst 0, 1) := dk_3 (dk_at dksX3_isNumber_1 9 rfl rfl)
theorem dX3_isNumber_34 : decode cX3_isNumber 34 = .ok (.ireturn, 1) := dk_172 (dk_at dksX3_isNumber_1 10 rfl rfl)
abbrev cX3_at : ByteArray := prog_10_method_6_code
def yX3_at : MethodName := ⟨RX3, "at", "(I)I"⟩
def dkwX3_at_1 : List UInt8 := [192, 0, 19, 27, 53, 172]
abbrev dktX3_at_1 : List UInt8 := dkwX3_at_1 ++ []
def dkwX3_at_0 : List UInt8 := [42, 182, 0, 15, 153, 0, 16, 42, 180, 0, 7, 192, 0, 13, 27, 48, 139, 167, 0, 12, 42, 180, 0, 7]
abbrev dktX3_at_0 : List UInt8 := dkwX3_at_0 ++ dktX3_at_1
theorem dksX3_at_0 : cX3_at.data.toList.drop 0 = dktX3_at_0 := by decide +kernel
theorem dksX3_at_1 : cX3_at.data.toList.drop 24 = dktX3_at_1 := dk_seg dksX3_at_0 24 rfl rfl
theorem dX3_at_0 : decode cX3_at 0 = .ok (.aload_n 0, 1) := dk_42 (dk_at dksX3_at_0 0 rfl rfl)
theorem dX3_at_1 : decode cX3_at 1 = .ok (.invokevirtual 15, 3) := dk_182 0 15 (dk_at dksX3_at_0 1 rfl rfl)
theorem dX3_at_4 : decode cX3_at 4 = .ok (.ifCond .eq 16, 3) := dk_153 0 16 (dk_at dksX3_at_0 4 rfl rfl)
theorem dX3_at_7 : decode cX3_at 7 = .ok (.aload_n 0, 1) := dk_42 (dk_at dksX3_at_0 7 rfl rfl)
theorem dX3_at_8 : decode cX3_at 8 = .ok (.getfield 7, 3) := dk_180 0 7 (dk_at dksX3_at_0 8 rfl rfl)
theorem dX3_at_11 : decode cX3_at 11 = .ok (.checkcast 13, 3) := dk_192 0 13 (dk_at dksX3_at_0 11 rfl rfl)
theorem dX3_at_14 : decode cX3_at 14 = .ok (.iload_n 1, 1) := dk_27 (dk_at dksX3_at_0 14 rfl rfl)
theorem dX3_at_15 : decode cX3_at 15 = .ok (.faload, 1) := dk_48 (dk_at dksX3_at_0 15 rfl rfl)
theorem dX3_at_16 : decode cX3_at 16 = .ok (.f2i, 1) := dk_139 (dk_at dksX3_at_0 16 rfl rfl)
theorem dX3_at_17 : decode cX3_at 17 = .ok (.goto 12, 3) := dk_167 0 12 (dk_at dksX3_at_0 17 rfl rfl)
theorem dX3_at_20 : decode cX3_at 20 = .ok (.aload_n 0, 1) := dk_42 (dk_at dksX3_at_0 20 rfl rfl)
theorem dX3_at_21 : decode cX3_at 21 = .ok (.getfield 7, 3) := dk_180 0 7 (dk_at dksX3_at_0 21 rfl rfl)
theorem dX3_at_24 : decode cX3_at 24 = .ok (.checkcast 19, 3) := dk_192 0 19 (dk_at dksX3_at_1 0 rfl rfl)
theorem dX3_at_27 : decode cX3_at 27 = .ok (.iload_n 1, 1) := dk_27 (dk_at dksX3_at_1 3 rfl rfl)
theorem dX3_at_28 : decode cX3_at 28 = .ok (.saload, 1) := dk_53 (dk_at dksX3_at_1 4 rfl rfl)
theorem dX3_at_29 : decode cX3_at 29 = .ok (.ireturn, 1) := dk_172 (dk_at dksX3_at_1 5 rfl rfl)
theorem q87 : (Jvm.Cond.initialized "StoneSheets$Sheet") ∈ lw_all := lw_g (lw_at lw_m1 7 rfl) rfl
theorem q230 : (Jvm.Cond.instantiable "StoneSheets$Sheet" (1 : Nat)) ∈ lw_all := lw_g (lw_at lw_m1 150 rfl) rfl
theorem q232 : (Jvm.Cond.instanceMethod ({ cls := "StoneSheets$Sheet", name := "<init>", desc := "()V" } : Jvm.MethodName)) ∈ lw_all := lw_g (lw_at lw_m1 152 rfl) rfl
theorem q233 : (Jvm.Cond.code ({ cls := "StoneSheets$Sheet", name := "<init>", desc := "()V" } : Jvm.MethodName) prog_10_method_1_code (1 : Nat) (Option.none : Option Jvm.ClassFile.FieldType)) ∈ lw_all := lw_g (lw_at lw_m1 153 rfl) rfl
theorem q234 : (Jvm.Cond.methodLink "StoneSheets$Sheet" (1 : Nat) ({ cls := "java/lang/Object", name := "<init>", desc := "()V" } : Jvm.MethodName)) ∈ lw_all := lw_g (lw_at lw_m1 154 rfl) rfl
theorem q235 : (Jvm.Cond.fieldLink "StoneSheets$Sheet" (7 : Nat) "StoneSheets$Sheet" "row" "Ljava/lang/Object;") ∈ lw_all := lw_g (lw_at lw_m1 155 rfl) rfl
theorem q237 : (Jvm.Cond.lays "StoneSheets$Sheet" "StoneSheets$Sheet" "row" "Ljava/lang/Object;") ∈ lw_all := lw_g (lw_at lw_m1 157 rfl) rfl
theorem q238 : (Jvm.Cond.soleField "StoneSheets$Sheet" "row") ∈ lw_all := lw_g (lw_at lw_m1 158 rfl) rfl
theorem q239 : (Jvm.Cond.superclass "StoneSheets$Sheet" "java/lang/Object") ∈ lw_all := lw_g (lw_at lw_m1 159 rfl) rfl
theorem q1098 : (Jvm.Cond.instanceMethod ({ cls := "StoneSheets$Sheet", name := "isThere", desc := "()Z" } : Jvm.MethodName)) ∈ lw_all := lw_g (lw_at lw_m5 58 rfl) rfl
theorem q1099 : (Jvm.Cond.selects "StoneSheets$Sheet" ({ cls := "StoneSheets$Sheet", name := "isThere", desc := "()Z" } : Jvm.MethodName) ({ cls := "StoneSheets$Sheet", name := "isThere", desc := "()Z" } : Jvm.MethodName)) ∈ lw_all := lw_g (lw_at lw_m5 59 rfl) rfl
theorem q1100 : (Jvm.Cond.code ({ cls := "StoneSheets$Sheet", name := "isThere", desc := "()Z" } : Jvm.MethodName) prog_10_method_2_code (1 : Nat) (Option.some Jvm.ClassFile.FieldType.boolean)) ∈ lw_all := lw_g (lw_at lw_m5 60 rfl) rfl
theorem q1103 : (Jvm.Cond.instanceMethod ({ cls := "StoneSheets$Sheet", name := "size", desc := "()I" } : Jvm.MethodName)) ∈ lw_all := lw_g (lw_at lw_m5 63 rfl) rfl
theorem q1104 : (Jvm.Cond.selects "StoneSheets$Sheet" ({ cls := "StoneSheets$Sheet", name := "size", desc := "()I" } : Jvm.MethodName) ({ cls := "StoneSheets$Sheet", name := "size", desc := "()I" } : Jvm.MethodName)) ∈ lw_all := lw_g (lw_at lw_m5 64 rfl) rfl
theorem q1105 : (Jvm.Cond.code ({ cls := "StoneSheets$Sheet", name := "size", desc := "()I" } : Jvm.MethodName) prog_10_method_4_code (1 : Nat) (Option.some Jvm.ClassFile.FieldType.int)) ∈ lw_all := lw_g (lw_at lw_m5 65 rfl) rfl
theorem q1106 : (Jvm.Cond.methodLink "StoneSheets$Sheet" (15 : Nat) ({ cls := "StoneSheets$Sheet", name := "isFloats", desc := "()Z" } : Jvm.MethodName)) ∈ lw_all := lw_g (lw_at lw_m5 66 rfl) rfl
theorem q1107 : (Jvm.Cond.instanceMethod ({ cls := "StoneSheets$Sheet", name := "isFloats", desc := "()Z" } : Jvm.MethodName)) ∈ lw_all := lw_g (lw_at lw_m5 67 rfl) rfl
theorem q1108 : (Jvm.Cond.selects "StoneSheets$Sheet" ({ cls := "StoneSheets$Sheet", name := "isFloats", desc := "()Z" } : Jvm.MethodName) ({ cls := "StoneSheets$Sheet", name := "isFloats", desc := "()Z" } : Jvm.MethodName)) ∈ lw_all := lw_g (lw_at lw_m5 68 rfl) rfl
theorem q1109 : (Jvm.Cond.code ({ cls := "StoneSheets$Sheet", name := "isFloats", desc := "()Z" } : Jvm.MethodName) prog_10_method_3_code (1 : Nat) (Option.some Jvm.ClassFile.FieldType.boolean)) ∈ lw_all := lw_g (lw_at lw_m5 69 rfl) rfl
theorem q1110 : (Jvm.Cond.classLink "StoneSheets$Sheet" (13 : Nat) "[F") ∈ lw_all := lw_g (lw_at lw_m5 70 rfl) rfl
theorem q1111 : (Jvm.Cond.classLink "StoneSheets$Sheet" (19 : Nat) "[S") ∈ lw_all := lw_g (lw_at lw_m5 71 rfl) rfl
theorem q1120 : (Jvm.Cond.instanceMethod ({ cls := "StoneSheets$Sheet", name := "put", desc := "(II)V" } : Jvm.MethodName)) ∈ lw_all := lw_g (lw_at lw_m5 80 rfl) rfl
theorem q1121 : (Jvm.Cond.selects "StoneSheets$Sheet" ({ cls := "StoneSheets$Sheet", name := "put", desc := "(II)V" } : Jvm.MethodName) ({ cls := "StoneSheets$Sheet", name := "put", desc := "(II)V" } : Jvm.MethodName)) ∈ lw_all := lw_g (lw_at lw_m5 81 rfl) rfl
theorem q1122 : (Jvm.Cond.code ({ cls := "StoneSheets$Sheet", name := "put", desc := "(II)V" } : Jvm.MethodName) prog_10_method_7_code (3 : Nat) (Option.none : Option Jvm.ClassFile.FieldType)) ∈ lw_all := lw_g (lw_at lw_m5 82 rfl) rfl
theorem q1129 : (Jvm.Cond.instanceMethod ({ cls := "StoneSheets$Sheet", name := "isNumber", desc := "(I)Z" } : Jvm.MethodName)) ∈ lw_all := lw_g (lw_at lw_m5 89 rfl) rfl
theorem q1130 : (Jvm.Cond.selects "StoneSheets$Sheet" ({ cls := "StoneSheets$Sheet", name := "isNumber", desc := "(I)Z" } : Jvm.MethodName) ({ cls := "StoneSheets$Sheet", name := "isNumber", desc := "(I)Z" } : Jvm.MethodName)) ∈ lw_all := lw_g (lw_at lw_m5 90 rfl) rfl
theorem q1131 : (Jvm.Cond.code ({ cls := "StoneSheets$Sheet", name := "isNumber", desc := "(I)Z" } : Jvm.MethodName) prog_10_method_5_code (2 : Nat) (Option.some Jvm.ClassFile.FieldType.boolean)) ∈ lw_all := lw_g (lw_at lw_m5 91 rfl) rfl
theorem q1133 : (Jvm.Cond.instanceMethod ({ cls := "StoneSheets$Sheet", name := "at", desc := "(I)I" } : Jvm.MethodName)) ∈ lw_all := lw_g (lw_at lw_m5 93 rfl) rfl
theorem q1134 : (Jvm.Cond.selects "StoneSheets$Sheet" ({ cls := "StoneSheets$Sheet", name := "at", desc := "(I)I" } : Jvm.MethodName) ({ cls := "StoneSheets$Sheet", name := "at", desc := "(I)I" } : Jvm.MethodName)) ∈ lw_all := lw_g (lw_at lw_m5 94 rfl) rfl
theorem q1135 : (Jvm.Cond.code ({ cls := "StoneSheets$Sheet", name := "at", desc := "(I)I" } : Jvm.MethodName) prog_10_method_6_code (2 : Nat) (Option.some Jvm.ClassFile.FieldType.int)) ∈ lw_all := lw_g (lw_at lw_m5 95 rfl) rfl
theorem in_X3 : ∀ w ∈ wsX30, w ∈ lw_all := lw_in wsX30 [237] (by decide +kernel) (by decide +kernel)

/-! StoneSheets$Slot -/
set_option maxRecDepth 100000
def RX4 : String := "StoneSheets$Slot"
def TX4 : u_T := fun k => match k with
  | _ => ("StoneSheets$Slot", "held", "Ljava/lang/Object;", false)
def tyX4 : Nat → FieldType := fun k => match k with
  | _ => .object "java/lang/Object"
abbrev wsX40 : List Cond := u_ws RX4 TX4 1
theorem nmX4 : ∀ a, a < 1 → ∀ b, b < 1 → a ≠ b → (TX4 a).2.1 ≠ (TX4 b).2.1 := by decide +kernel
theorem tyX4_ok : ∀ k, k < 1 → parseFieldDescriptor (TX4 k).2.2.1 = some (tyX4 k) := by decide +kernel
abbrev cX4_init : ByteArray := prog_11_method_1_code
def yX4_init : MethodName := ⟨RX4, "<init>", "()V"⟩
theorem dX4_init_0 : decode cX4_init 0 = .ok (.aload_n 0, 1) := by decide +kernel
theorem dX4_init_1 : decode cX4_init 1 = .ok (.invokespecial 1, 3) := by decide +kernel
theorem dX4_init_4 : decode cX4_init 4 = .ok (.return_, 1) := by decide +kernel
abbrev cX4_thing : ByteArray := prog_11_method_2_code
def yX4_thing : MethodName := ⟨RX4, "thing", "()I"⟩
def dkwX4_thing_1 : List UInt8 := [167, 0, 18, 42, 180, 0, 7, 193, 0, 15, 153, 0, 7, 5, 167, 0, 4, 6, 172]
abbrev dktX4_thing_1 : List UInt8 := dkwX4_thing_1 ++ []
def dkwX4_thing_0 : List UInt8 := [42, 180, 0, 7, 199, 0, 7, 3, 167, 0, 32, 42, 180, 0, 7, 193, 0, 13, 153, 0, 7, 4]
abbrev dktX4_thing_0 : List UInt8 := dkwX4_thing_0 ++ dktX4_thing_1
theorem dksX4_thing_0 : cX4_thing.data.toList.drop 0 = dktX4_thing_0 := by decide +kernel
theorem dksX4_thing_1 : cX4_thing.data.toList.drop 22 = dktX4_thing_1 := dk_seg dksX4_thing_0 22 rfl rfl
theorem dX4_thing_0 : decode cX4_thing 0 = .ok (.aload_n 0, 1) := dk_42 (dk_at dksX4_thing_0 0 rfl rfl)
theorem dX4_thing_1 : decode cX4_thing 1 = .ok (.getfield 7, 3) := dk_180 0 7 (dk_at dksX4_thing_0 1 rfl rfl)
theorem dX4_thing_4 : decode cX4_thing 4 = .ok (.ifnonnull 7, 3) := dk_199 0 7 (dk_at dksX4_thing_0 4 rfl rfl)
theorem dX4_thing_7 : decode cX4_thing 7 = .ok (.iconst 0, 1) := dk_3 (dk_at dksX4_thing_0 7 rfl rfl)
theorem dX4_thing_8 : decode cX4_thing 8 = .ok (.goto 32, 3) := dk_167 0 32 (dk_at dksX4_thing_0 8 rfl rfl)
theorem dX4_thing_11 : decode cX4_thing 11 = .ok (.aload_n 0, 1) := dk_42 (dk_at dksX4_thing_0 11 rfl rfl)
theorem dX4_thing_12 : decode cX4_thing 12 = .ok (.getfield 7, 3) := dk_180 0 7 (dk_at dksX4_thing_0 12 rfl rfl)
theorem dX4_thing_15 : decode cX4_thing 15 = .ok (.instanceof 13, 3) := dk_193 0 13 (dk_at dksX4_thing_0 15 rfl rfl)
theorem dX4_thing_18 : decode cX4_thing 18 = .ok (.ifCond .eq 7, 3) := dk_153 0 7 (dk_at dksX4_thing_0 18 rfl rfl)
theorem dX4_thing_21 : decode cX4_thing 21 = .ok (.iconst 1, 1) := dk_4 (dk_at dksX4_thing_0 21 rfl rfl)
theorem dX4_thing_22 : decode cX4_thing 22 = .ok (.goto 18, 3) := dk_167 0 18 (dk_at dksX4_thing_1 0 rfl rfl)
theorem dX4_thing_25 : decode cX4_thing 25 = .ok (.aload_n 0, 1) := dk_42 (dk_at dksX4_thing_1 3 rfl rfl)
theorem dX4_thing_26 : decode cX4_thing 26 = .ok (.getfield 7, 3) := dk_180 0 7 (dk_at dksX4_thing_1 4 rfl rfl)
theorem dX4_thing_29 : decode cX4_thing 29 = .ok (.instanceof 15, 3) := dk_193 0 15 (dk_at dksX4_thing_1 7 rfl rfl)
theorem dX4_thing_32 : decode cX4_thing 32 = .ok (.ifCond .eq 7, 3) := dk_153 0 7 (dk_at dksX4_thing_1 10 rfl rfl)
theorem dX4_thing_35 : decode cX4_thing 35 = .ok (.iconst 2, 1) := dk_5 (dk_at dksX4_thing_1 13 rfl rfl)
theorem dX4_thing_36 : decode cX4_thing 36 = .ok (.goto 4, 3) := dk_167 0 4 (dk_at dksX4_thing_1 14 rfl rfl)
theorem dX4_thing_39 : decode cX4_thing 39 = .ok (.iconst 3, 1) := dk_6 (dk_at dksX4_thing_1 17 rfl rfl)
theorem dX4_thing_40 : decode cX4_thing 40 = .ok (.ireturn, 1) := dk_172 (dk_at dksX4_thing_1 18 rfl rfl)
theorem q88 : (Jvm.Cond.initialized "StoneSheets$Slot") ∈ lw_all := lw_g (lw_at lw_m1 8 rfl) rfl
theorem q242 : (Jvm.Cond.instantiable "StoneSheets$Slot" (1 : Nat)) ∈ lw_all := lw_g (lw_at lw_m1 162 rfl) rfl
theorem q244 : (Jvm.Cond.instanceMethod ({ cls := "StoneSheets$Slot", name := "<init>", desc := "()V" } : Jvm.MethodName)) ∈ lw_all := lw_g (lw_at lw_m1 164 rfl) rfl
theorem q245 : (Jvm.Cond.code ({ cls := "StoneSheets$Slot", name := "<init>", desc := "()V" } : Jvm.MethodName) prog_11_method_1_code (1 : Nat) (Option.none : Option Jvm.ClassFile.FieldType)) ∈ lw_all := lw_g (lw_at lw_m1 165 rfl) rfl
theorem q246 : (Jvm.Cond.methodLink "StoneSheets$Slot" (1 : Nat) ({ cls := "java/lang/Object", name := "<init>", desc := "()V" } : Jvm.MethodName)) ∈ lw_all := lw_g (lw_at lw_m1 166 rfl) rfl
theorem q247 : (Jvm.Cond.fieldLink "StoneSheets$Slot" (7 : Nat) "StoneSheets$Slot" "held" "Ljava/lang/Object;") ∈ lw_all := lw_g (lw_at lw_m1 167 rfl) rfl
theorem q249 : (Jvm.Cond.lays "StoneSheets$Slot" "StoneSheets$Slot" "held" "Ljava/lang/Object;") ∈ lw_all := lw_g (lw_at lw_m1 169 rfl) rfl
theorem q250 : (Jvm.Cond.soleField "StoneSheets$Slot" "held") ∈ lw_all := lw_g (lw_at lw_m1 170 rfl) rfl
theorem q251 : (Jvm.Cond.superclass "StoneSheets$Slot" "java/lang/Object") ∈ lw_all := lw_g (lw_at lw_m1 171 rfl) rfl
theorem q1167 : (Jvm.Cond.instanceMethod ({ cls := "StoneSheets$Slot", name := "thing", desc := "()I" } : Jvm.MethodName)) ∈ lw_all := lw_g (lw_at lw_m5 127 rfl) rfl
theorem q1168 : (Jvm.Cond.selects "StoneSheets$Slot" ({ cls := "StoneSheets$Slot", name := "thing", desc := "()I" } : Jvm.MethodName) ({ cls := "StoneSheets$Slot", name := "thing", desc := "()I" } : Jvm.MethodName)) ∈ lw_all := lw_g (lw_at lw_m5 128 rfl) rfl
theorem q1169 : (Jvm.Cond.code ({ cls := "StoneSheets$Slot", name := "thing", desc := "()I" } : Jvm.MethodName) prog_11_method_2_code (1 : Nat) (Option.some Jvm.ClassFile.FieldType.int)) ∈ lw_all := lw_g (lw_at lw_m5 129 rfl) rfl
theorem q1170 : (Jvm.Cond.classLink "StoneSheets$Slot" (13 : Nat) "StoneSheets$Rubbing") ∈ lw_all := lw_g (lw_at lw_m5 130 rfl) rfl
theorem q1171 : (Jvm.Cond.classLink "StoneSheets$Slot" (15 : Nat) "StoneSheets$Sheet") ∈ lw_all := lw_g (lw_at lw_m5 131 rfl) rfl
theorem in_X4 : ∀ w ∈ wsX40, w ∈ lw_all := lw_in wsX40 [249] (by decide +kernel) (by decide +kernel)

/-! StoneSheets$Rubbing -/
set_option maxRecDepth 100000
def RX6 : String := "StoneSheets$Rubbing"
def TX6 : u_T := fun k => match k with
  | 0 => ("StoneSheets$Rubbing", "raw", "I", false)
  | 1 => ("StoneSheets$Rubbing", "size", "I", false)
  | 2 => ("StoneSheets$Rubbing", "isTurned", "Z", false)
  | 3 => ("StoneSheets$Rubbing", "laid", "I", false)
  | _ => ("StoneSheets$Rubbing", "trust", "I", false)
def tyX6 : Nat → FieldType := fun k => match k with
  | 0 => .int
  | 1 => .int
  | 2 => .boolean
  | 3 => .int
  | _ => .int
abbrev wsX60 : List Cond := u_ws RX6 TX6 5
theorem nmX6 : ∀ a, a < 5 → ∀ b, b < 5 → a ≠ b → (TX6 a).2.1 ≠ (TX6 b).2.1 := by decide +kernel
theorem tyX6_ok : ∀ k, k < 5 → parseFieldDescriptor (TX6 k).2.2.1 = some (tyX6 k) := by decide +kernel
abbrev cX6_init : ByteArray := prog_8_method_1_code
def yX6_init : MethodName := ⟨RX6, "<init>", "()V"⟩
def dkwX6_init_0 : List UInt8 := [42, 183, 0, 3, 42, 16, 16, 181, 0, 9, 42, 16, 50, 181, 0, 15, 177]
abbrev dktX6_init_0 : List UInt8 := dkwX6_init_0 ++ []
theorem dksX6_init_0 : cX6_init.data.toList.drop 0 = dktX6_init_0 := by decide +kernel
theorem dX6_init_0 : decode cX6_init 0 = .ok (.aload_n 0, 1) := dk_42 (dk_at dksX6_init_0 0 rfl rfl)
theorem dX6_init_1 : decode cX6_init 1 = .ok (.invokespecial 3, 3) := dk_183 0 3 (dk_at dksX6_init_0 1 rfl rfl)
theorem dX6_init_4 : decode cX6_init 4 = .ok (.aload_n 0, 1) := dk_42 (dk_at dksX6_init_0 4 rfl rfl)
theorem dX6_init_5 : decode cX6_init 5 = .ok (.bipush 16, 2) := dk_16 16 (dk_at dksX6_init_0 5 rfl rfl)
theorem dX6_init_7 : decode cX6_init 7 = .ok (.putfield 9, 3) := dk_181 0 9 (dk_at dksX6_init_0 7 rfl rfl)
theorem dX6_init_10 : decode cX6_init 10 = .ok (.aload_n 0, 1) := dk_42 (dk_at dksX6_init_0 10 rfl rfl)
theorem dX6_init_11 : decode cX6_init 11 = .ok (.bipush 50, 2) := dk_16 50 (dk_at dksX6_init_0 11 rfl rfl)
theorem dX6_init_13 : decode cX6_init 13 = .ok (.putfield 15, 3) := dk_181 0 15 (dk_at dksX6_init_0 13 rfl rfl)
theorem dX6_init_16 : decode cX6_init 16 = .ok (.return_, 1) := dk_177 (dk_at dksX6_init_0 16 rfl rfl)
abbrev cX6_kind : ByteArray := prog_8_method_2_code
def yX6_kind : MethodName := ⟨RX6, "kind", "()I"⟩
theorem dX6_kind_0 : decode cX6_kind 0 = .ok (.iconst 0, 1) := by decide +kernel
theorem dX6_kind_1 : decode cX6_kind 1 = .ok (.ireturn, 1) := by decide +kernel
abbrev cX6_covered : ByteArray := prog_8_method_10_code
def yX6_covered : MethodName := ⟨RX6, "covered", "()I"⟩
def dkwX6_covered_1 : List UInt8 := [180, 0, 9, 120, 18, 45, 126, 172]
abbrev dktX6_covered_1 : List UInt8 := dkwX6_covered_1 ++ []
def dkwX6_covered_0 : List UInt8 := [42, 180, 0, 9, 16, 16, 160, 0, 7, 3, 167, 0, 19, 4, 42, 180, 0, 22, 120, 4, 100, 42]
abbrev dktX6_covered_0 : List UInt8 := dkwX6_covered_0 ++ dktX6_covered_1
theorem dksX6_covered_0 : cX6_covered.data.toList.drop 0 = dktX6_covered_0 := by decide +kernel
theorem dksX6_covered_1 : cX6_covered.data.toList.drop 22 = dktX6_covered_1 := dk_seg dksX6_covered_0 22 rfl rfl
theorem dX6_covered_0 : decode cX6_covered 0 = .ok (.aload_n 0, 1) := dk_42 (dk_at dksX6_covered_0 0 rfl rfl)
theorem dX6_covered_1 : decode cX6_covered 1 = .ok (.getfield 9, 3) := dk_180 0 9 (dk_at dksX6_covered_0 1 rfl rfl)
theorem dX6_covered_4 : decode cX6_covered 4 = .ok (.bipush 16, 2) := dk_16 16 (dk_at dksX6_covered_0 4 rfl rfl)
theorem dX6_covered_6 : decode cX6_covered 6 = .ok (.if_icmp .ne 7, 3) := dk_160 0 7 (dk_at dksX6_covered_0 6 rfl rfl)
theorem dX6_covered_9 : decode cX6_covered 9 = .ok (.iconst 0, 1) := dk_3 (dk_at dksX6_covered_0 9 rfl rfl)
theorem dX6_covered_10 : decode cX6_covered 10 = .ok (.goto 19, 3) := dk_167 0 19 (dk_at dksX6_covered_0 10 rfl rfl)
theorem dX6_covered_13 : decode cX6_covered 13 = .ok (.iconst 1, 1) := dk_4 (dk_at dksX6_covered_0 13 rfl rfl)
theorem dX6_covered_14 : decode cX6_covered 14 = .ok (.aload_n 0, 1) := dk_42 (dk_at dksX6_covered_0 14 rfl rfl)
theorem dX6_covered_15 : decode cX6_covered 15 = .ok (.getfield 22, 3) := dk_180 0 22 (dk_at dksX6_covered_0 15 rfl rfl)
theorem dX6_covered_18 : decode cX6_covered 18 = .ok (.ishl, 1) := dk_120 (dk_at dksX6_covered_0 18 rfl rfl)
theorem dX6_covered_19 : decode cX6_covered 19 = .ok (.iconst 1, 1) := dk_4 (dk_at dksX6_covered_0 19 rfl rfl)
theorem dX6_covered_20 : decode cX6_covered 20 = .ok (.isub, 1) := dk_100 (dk_at dksX6_covered_0 20 rfl rfl)
theorem dX6_covered_21 : decode cX6_covered 21 = .ok (.aload_n 0, 1) := dk_42 (dk_at dksX6_covered_0 21 rfl rfl)
theorem dX6_covered_22 : decode cX6_covered 22 = .ok (.getfield 9, 3) := dk_180 0 9 (dk_at dksX6_covered_1 0 rfl rfl)
theorem dX6_covered_25 : decode cX6_covered 25 = .ok (.ishl, 1) := dk_120 (dk_at dksX6_covered_1 3 rfl rfl)
theorem dX6_covered_26 : decode cX6_covered 26 = .ok (.ldc 45, 2) := dk_18 45 (dk_at dksX6_covered_1 4 rfl rfl)
theorem dX6_covered_28 : decode cX6_covered 28 = .ok (.iand, 1) := dk_126 (dk_at dksX6_covered_1 6 rfl rfl)
theorem dX6_covered_29 : decode cX6_covered 29 = .ok (.ireturn, 1) := dk_172 (dk_at dksX6_covered_1 7 rfl rfl)
abbrev cX6_loses : ByteArray := prog_8_method_3_code
def yX6_loses : MethodName := ⟨RX6, "loses", "()I"⟩
theorem dX6_loses_0 : decode cX6_loses 0 = .ok (.iconst 5, 1) := by decide +kernel
theorem dX6_loses_1 : decode cX6_loses 1 = .ok (.ireturn, 1) := by decide +kernel
abbrev cX6_worth : ByteArray := prog_8_method_4_code
def yX6_worth : MethodName := ⟨RX6, "worth", "()I"⟩
theorem dX6_worth_0 : decode cX6_worth 0 = .ok (.aload_n 0, 1) := by decide +kernel
theorem dX6_worth_1 : decode cX6_worth 1 = .ok (.getfield 15, 3) := by decide +kernel
theorem dX6_worth_4 : decode cX6_worth 4 = .ok (.ireturn, 1) := by decide +kernel
abbrev cX6_saysAt : ByteArray := prog_8_method_8_code
def yX6_saysAt : MethodName := ⟨RX6, "saysAt", "(I)I"⟩
def dkwX6_saysAt_1 : List UInt8 := [27, 104, 122, 6, 126, 27, 182, 0, 37, 172]
abbrev dktX6_saysAt_1 : List UInt8 := dkwX6_saysAt_1 ++ []
def dkwX6_saysAt_0 : List UInt8 := [42, 42, 180, 0, 19, 5, 42, 180, 0, 25, 153, 0, 14, 42, 180, 0, 22, 4, 100, 27, 100, 167, 0, 4]
abbrev dktX6_saysAt_0 : List UInt8 := dkwX6_saysAt_0 ++ dktX6_saysAt_1
theorem dksX6_saysAt_0 : cX6_saysAt.data.toList.drop 0 = dktX6_saysAt_0 := by decide +kernel
theorem dksX6_saysAt_1 : cX6_saysAt.data.toList.drop 24 = dktX6_saysAt_1 := dk_seg dksX6_saysAt_0 24 rfl rfl
theorem dX6_saysAt_0 : decode cX6_saysAt 0 = .ok (.aload_n 0, 1) := dk_42 (dk_at dksX6_saysAt_0 0 rfl rfl)
theorem dX6_saysAt_1 : decode cX6_saysAt 1 = .ok (.aload_n 0, 1) := dk_42 (dk_at dksX6_saysAt_0 1 rfl rfl)
theorem dX6_saysAt_2 : decode cX6_saysAt 2 = .ok (.getfield 19, 3) := dk_180 0 19 (dk_at dksX6_saysAt_0 2 rfl rfl)
theorem dX6_saysAt_5 : decode cX6_saysAt 5 = .ok (.iconst 2, 1) := dk_5 (dk_at dksX6_saysAt_0 5 rfl rfl)
theorem dX6_saysAt_6 : decode cX6_saysAt 6 = .ok (.aload_n 0, 1) := dk_42 (dk_at dksX6_saysAt_0 6 rfl rfl)
theorem dX6_saysAt_7 : decode cX6_saysAt 7 = .ok (.getfield 25, 3) := dk_180 0 25 (dk_at dksX6_saysAt_0 7 rfl rfl)
theorem dX6_saysAt_10 : decode cX6_saysAt 10 = .ok (.ifCond .eq 14, 3) := dk_153 0 14 (dk_at dksX6_saysAt_0 10 rfl rfl)
theorem dX6_saysAt_13 : decode cX6_saysAt 13 = .ok (.aload_n 0, 1) := dk_42 (dk_at dksX6_saysAt_0 13 rfl rfl)
theorem dX6_saysAt_14 : decode cX6_saysAt 14 = .ok (.getfield 22, 3) := dk_180 0 22 (dk_at dksX6_saysAt_0 14 rfl rfl)
theorem dX6_saysAt_17 : decode cX6_saysAt 17 = .ok (.iconst 1, 1) := dk_4 (dk_at dksX6_saysAt_0 17 rfl rfl)
theorem dX6_saysAt_18 : decode cX6_saysAt 18 = .ok (.isub, 1) := dk_100 (dk_at dksX6_saysAt_0 18 rfl rfl)
theorem dX6_saysAt_19 : decode cX6_saysAt 19 = .ok (.iload_n 1, 1) := dk_27 (dk_at dksX6_saysAt_0 19 rfl rfl)
theorem dX6_saysAt_20 : decode cX6_saysAt 20 = .ok (.isub, 1) := dk_100 (dk_at dksX6_saysAt_0 20 rfl rfl)
theorem dX6_saysAt_21 : decode cX6_saysAt 21 = .ok (.goto 4, 3) := dk_167 0 4 (dk_at dksX6_saysAt_0 21 rfl rfl)
theorem dX6_saysAt_24 : decode cX6_saysAt 24 = .ok (.iload_n 1, 1) := dk_27 (dk_at dksX6_saysAt_1 0 rfl rfl)
theorem dX6_saysAt_25 : decode cX6_saysAt 25 = .ok (.imul, 1) := dk_104 (dk_at dksX6_saysAt_1 1 rfl rfl)
theorem dX6_saysAt_26 : decode cX6_saysAt 26 = .ok (.ishr, 1) := dk_122 (dk_at dksX6_saysAt_1 2 rfl rfl)
theorem dX6_saysAt_27 : decode cX6_saysAt 27 = .ok (.iconst 3, 1) := dk_6 (dk_at dksX6_saysAt_1 3 rfl rfl)
theorem dX6_saysAt_28 : decode cX6_saysAt 28 = .ok (.iand, 1) := dk_126 (dk_at dksX6_saysAt_1 4 rfl rfl)
theorem dX6_saysAt_29 : decode cX6_saysAt 29 = .ok (.iload_n 1, 1) := dk_27 (dk_at dksX6_saysAt_1 5 rfl rfl)
theorem dX6_saysAt_30 : decode cX6_saysAt 30 = .ok (.invokevirtual 37, 3) := dk_182 0 37 (dk_at dksX6_saysAt_1 6 rfl rfl)
theorem dX6_saysAt_33 : decode cX6_saysAt 33 = .ok (.ireturn, 1) := dk_172 (dk_at dksX6_saysAt_1 9 rfl rfl)
abbrev cX6_takes : ByteArray := prog_8_method_6_code
def yX6_takes : MethodName := ⟨RX6, "takes", "(LStoneSheets$Rubbing;)V"⟩
def dkwX6_takes_1 : List UInt8 := [42, 43, 180, 0, 9, 181, 0, 9, 42, 43, 180, 0, 15, 181, 0, 15, 177]
abbrev dktX6_takes_1 : List UInt8 := dkwX6_takes_1 ++ []
def dkwX6_takes_0 : List UInt8 := [42, 43, 180, 0, 19, 181, 0, 19, 42, 43, 180, 0, 22, 181, 0, 22, 42, 43, 180, 0, 25, 181, 0, 25]
abbrev dktX6_takes_0 : List UInt8 := dkwX6_takes_0 ++ dktX6_takes_1
theorem dksX6_takes_0 : cX6_takes.data.toList.drop 0 = dktX6_takes_0 := by decide +kernel
theorem dksX6_takes_1 : cX6_takes.data.toList.drop 24 = dktX6_takes_1 := dk_seg dksX6_takes_0 24 rfl rfl
theorem dX6_takes_0 : decode cX6_takes 0 = .ok (.aload_n 0, 1) := dk_42 (dk_at dksX6_takes_0 0 rfl rfl)
theorem dX6_takes_1 : decode cX6_takes 1 = .ok (.aload_n 1, 1) := dk_43 (dk_at dksX6_takes_0 1 rfl rfl)
theorem dX6_takes_2 : decode cX6_takes 2 = .ok (.getfield 19, 3) := dk_180 0 19 (dk_at dksX6_takes_0 2 rfl rfl)
theorem dX6_takes_5 : decode cX6_takes 5 = .ok (.putfield 19, 3) := dk_181 0 19 (dk_at dksX6_takes_0 5 rfl rfl)
theorem dX6_takes_8 : decode cX6_takes 8 = .ok (.aload_n 0, 1) := dk_42 (dk_at dksX6_takes_0 8 rfl rfl)
theorem dX6_takes_9 : decode cX6_takes 9 = .ok (.aload_n 1, 1) := dk_43 (dk_at dksX6_takes_0 9 rfl rfl)
theorem dX6_takes_10 : decode cX6_takes 10 = .ok (.getfield 22, 3) := dk_180 0 22 (dk_at dksX6_takes_0 10 rfl rfl)
theorem dX6_takes_13 : decode cX6_takes 13 = .ok (.putfield 22, 3) := dk_181 0 22 (dk_at dksX6_takes_0 13 rfl rfl)
theorem dX6_takes_16 : decode cX6_takes 16 = .ok (.aload_n 0, 1) := dk_42 (dk_at dksX6_takes_0 16 rfl rfl)
theorem dX6_takes_17 : decode cX6_takes 17 = .ok (.aload_n 1, 1) := dk_43 (dk_at dksX6_takes_0 17 rfl rfl)
theorem dX6_takes_18 : decode cX6_takes 18 = .ok (.getfield 25, 3) := dk_180 0 25 (dk_at dksX6_takes_0 18 rfl rfl)
theorem dX6_takes_21 : decode cX6_takes 21 = .ok (.putfield 25, 3) := dk_181 0 25 (dk_at dksX6_takes_0 21 rfl rfl)
theorem dX6_takes_24 : decode cX6_takes 24 = .ok (.aload_n 0, 1) := dk_42 (dk_at dksX6_takes_1 0 rfl rfl)
theorem dX6_takes_25 : decode cX6_takes 25 = .ok (.aload_n 1, 1) := dk_43 (dk_at dksX6_takes_1 1 rfl rfl)
theorem dX6_takes_26 : decode cX6_takes 26 = .ok (.getfield 9, 3) := dk_180 0 9 (dk_at dksX6_takes_1 2 rfl rfl)
theorem dX6_takes_29 : decode cX6_takes 29 = .ok (.putfield 9, 3) := dk_181 0 9 (dk_at dksX6_takes_1 5 rfl rfl)
theorem dX6_takes_32 : decode cX6_takes 32 = .ok (.aload_n 0, 1) := dk_42 (dk_at dksX6_takes_1 8 rfl rfl)
theorem dX6_takes_33 : decode cX6_takes 33 = .ok (.aload_n 1, 1) := dk_43 (dk_at dksX6_takes_1 9 rfl rfl)
theorem dX6_takes_34 : decode cX6_takes 34 = .ok (.getfield 15, 3) := dk_180 0 15 (dk_at dksX6_takes_1 10 rfl rfl)
theorem dX6_takes_37 : decode cX6_takes 37 = .ok (.putfield 15, 3) := dk_181 0 15 (dk_at dksX6_takes_1 13 rfl rfl)
theorem dX6_takes_40 : decode cX6_takes 40 = .ok (.return_, 1) := dk_177 (dk_at dksX6_takes_1 16 rfl rfl)
abbrev cX6_covers : ByteArray := prog_8_method_9_code
def yX6_covers : MethodName := ⟨RX6, "covers", "(I)Z"⟩
def dkwX6_covers_1 : List UInt8 := [100, 184, 0, 41, 153, 0, 7, 4, 167, 0, 4, 3, 172]
abbrev dktX6_covers_1 : List UInt8 := dkwX6_covers_1 ++ []
def dkwX6_covers_0 : List UInt8 := [42, 180, 0, 9, 16, 16, 159, 0, 29, 27, 42, 180, 0, 9, 42, 180, 0, 9, 42, 180, 0, 22, 96, 4]
abbrev dktX6_covers_0 : List UInt8 := dkwX6_covers_0 ++ dktX6_covers_1
theorem dksX6_covers_0 : cX6_covers.data.toList.drop 0 = dktX6_covers_0 := by decide +kernel
theorem dksX6_covers_1 : cX6_covers.data.toList.drop 24 = dktX6_covers_1 := dk_seg dksX6_covers_0 24 rfl rfl
theorem dX6_covers_0 : decode cX6_covers 0 = .ok (.aload_n 0, 1) := dk_42 (dk_at dksX6_covers_0 0 rfl rfl)
theorem dX6_covers_1 : decode cX6_covers 1 = .ok (.getfield 9, 3) := dk_180 0 9 (dk_at dksX6_covers_0 1 rfl rfl)
theorem dX6_covers_4 : decode cX6_covers 4 = .ok (.bipush 16, 2) := dk_16 16 (dk_at dksX6_covers_0 4 rfl rfl)
theorem dX6_covers_6 : decode cX6_covers 6 = .ok (.if_icmp .eq 29, 3) := dk_159 0 29 (dk_at dksX6_covers_0 6 rfl rfl)
theorem dX6_covers_9 : decode cX6_covers 9 = .ok (.iload_n 1, 1) := dk_27 (dk_at dksX6_covers_0 9 rfl rfl)
theorem dX6_covers_10 : decode cX6_covers 10 = .ok (.aload_n 0, 1) := dk_42 (dk_at dksX6_covers_0 10 rfl rfl)
theorem dX6_covers_11 : decode cX6_covers 11 = .ok (.getfield 9, 3) := dk_180 0 9 (dk_at dksX6_covers_0 11 rfl rfl)
theorem dX6_covers_14 : decode cX6_covers 14 = .ok (.aload_n 0, 1) := dk_42 (dk_at dksX6_covers_0 14 rfl rfl)
theorem dX6_covers_15 : decode cX6_covers 15 = .ok (.getfield 9, 3) := dk_180 0 9 (dk_at dksX6_covers_0 15 rfl rfl)
theorem dX6_covers_18 : decode cX6_covers 18 = .ok (.aload_n 0, 1) := dk_42 (dk_at dksX6_covers_0 18 rfl rfl)
theorem dX6_covers_19 : decode cX6_covers 19 = .ok (.getfield 22, 3) := dk_180 0 22 (dk_at dksX6_covers_0 19 rfl rfl)
theorem dX6_covers_22 : decode cX6_covers 22 = .ok (.iadd, 1) := dk_96 (dk_at dksX6_covers_0 22 rfl rfl)
theorem dX6_covers_23 : decode cX6_covers 23 = .ok (.iconst 1, 1) := dk_4 (dk_at dksX6_covers_0 23 rfl rfl)
theorem dX6_covers_24 : decode cX6_covers 24 = .ok (.isub, 1) := dk_100 (dk_at dksX6_covers_1 0 rfl rfl)
theorem dX6_covers_25 : decode cX6_covers 25 = .ok (.invokestatic 41, 3) := dk_184 0 41 (dk_at dksX6_covers_1 1 rfl rfl)
theorem dX6_covers_28 : decode cX6_covers 28 = .ok (.ifCond .eq 7, 3) := dk_153 0 7 (dk_at dksX6_covers_1 4 rfl rfl)
theorem dX6_covers_31 : decode cX6_covers 31 = .ok (.iconst 1, 1) := dk_4 (dk_at dksX6_covers_1 7 rfl rfl)
theorem dX6_covers_32 : decode cX6_covers 32 = .ok (.goto 4, 3) := dk_167 0 4 (dk_at dksX6_covers_1 8 rfl rfl)
theorem dX6_covers_35 : decode cX6_covers 35 = .ok (.iconst 0, 1) := dk_3 (dk_at dksX6_covers_1 11 rfl rfl)
theorem dX6_covers_36 : decode cX6_covers 36 = .ok (.ireturn, 1) := dk_172 (dk_at dksX6_covers_1 12 rfl rfl)
abbrev cX6_another : ByteArray := prog_8_method_5_code
def yX6_another : MethodName := ⟨RX6, "another", "()LStoneSheets$Rubbing;"⟩
def dkwX6_another_0 : List UInt8 := [187, 0, 10, 89, 183, 0, 18, 176]
abbrev dktX6_another_0 : List UInt8 := dkwX6_another_0 ++ []
theorem dksX6_another_0 : cX6_another.data.toList.drop 0 = dktX6_another_0 := by decide +kernel
theorem dX6_another_0 : decode cX6_another 0 = .ok (.new 10, 3) := dk_187 0 10 (dk_at dksX6_another_0 0 rfl rfl)
theorem dX6_another_3 : decode cX6_another 3 = .ok (.dup, 1) := dk_89 (dk_at dksX6_another_0 3 rfl rfl)
theorem dX6_another_4 : decode cX6_another 4 = .ok (.invokespecial 18, 3) := dk_183 0 18 (dk_at dksX6_another_0 4 rfl rfl)
theorem dX6_another_7 : decode cX6_another 7 = .ok (.areturn, 1) := dk_176 (dk_at dksX6_another_0 7 rfl rfl)
abbrev cX6_copy : ByteArray := prog_8_method_7_code
def yX6_copy : MethodName := ⟨RX6, "copy", "()LStoneSheets$Rubbing;"⟩
def dkwX6_copy_0 : List UInt8 := [42, 182, 0, 29, 76, 43, 42, 182, 0, 33, 43, 176]
abbrev dktX6_copy_0 : List UInt8 := dkwX6_copy_0 ++ []
theorem dksX6_copy_0 : cX6_copy.data.toList.drop 0 = dktX6_copy_0 := by decide +kernel
theorem dX6_copy_0 : decode cX6_copy 0 = .ok (.aload_n 0, 1) := dk_42 (dk_at dksX6_copy_0 0 rfl rfl)
theorem dX6_copy_1 : decode cX6_copy 1 = .ok (.invokevirtual 29, 3) := dk_182 0 29 (dk_at dksX6_copy_0 1 rfl rfl)
theorem dX6_copy_4 : decode cX6_copy 4 = .ok (.astore_n 1, 1) := dk_76 (dk_at dksX6_copy_0 4 rfl rfl)
theorem dX6_copy_5 : decode cX6_copy 5 = .ok (.aload_n 1, 1) := dk_43 (dk_at dksX6_copy_0 5 rfl rfl)
theorem dX6_copy_6 : decode cX6_copy 6 = .ok (.aload_n 0, 1) := dk_42 (dk_at dksX6_copy_0 6 rfl rfl)
theorem dX6_copy_7 : decode cX6_copy 7 = .ok (.invokevirtual 33, 3) := dk_182 0 33 (dk_at dksX6_copy_0 7 rfl rfl)
theorem dX6_copy_10 : decode cX6_copy 10 = .ok (.aload_n 1, 1) := dk_43 (dk_at dksX6_copy_0 10 rfl rfl)
theorem dX6_copy_11 : decode cX6_copy 11 = .ok (.areturn, 1) := dk_176 (dk_at dksX6_copy_0 11 rfl rfl)
theorem q90 : (Jvm.Cond.initialized "StoneSheets$Rubbing") ∈ lw_all := lw_g (lw_at lw_m1 10 rfl) rfl
theorem q540 : (Jvm.Cond.instanceMethod ({ cls := "StoneSheets$Rubbing", name := "<init>", desc := "()V" } : Jvm.MethodName)) ∈ lw_all := lw_g (lw_at lw_m2 220 rfl) rfl
theorem q541 : (Jvm.Cond.code ({ cls := "StoneSheets$Rubbing", name := "<init>", desc := "()V" } : Jvm.MethodName) prog_8_method_1_code (1 : Nat) (Option.none : Option Jvm.ClassFile.FieldType)) ∈ lw_all := lw_g (lw_at lw_m2 221 rfl) rfl
theorem q542 : (Jvm.Cond.methodLink "StoneSheets$Rubbing" (3 : Nat) ({ cls := "java/lang/Object", name := "<init>", desc := "()V" } : Jvm.MethodName)) ∈ lw_all := lw_g (lw_at lw_m2 222 rfl) rfl
theorem q543 : (Jvm.Cond.fieldLink "StoneSheets$Rubbing" (19 : Nat) "StoneSheets$Rubbing" "raw" "I") ∈ lw_all := lw_g (lw_at lw_m2 223 rfl) rfl
theorem q547 : (Jvm.Cond.fieldLink "StoneSheets$Rubbing" (22 : Nat) "StoneSheets$Rubbing" "size" "I") ∈ lw_all := lw_g (lw_at lw_m2 227 rfl) rfl
theorem q549 : (Jvm.Cond.fieldLink "StoneSheets$Rubbing" (25 : Nat) "StoneSheets$Rubbing" "isTurned" "Z") ∈ lw_all := lw_g (lw_at lw_m2 229 rfl) rfl
theorem q551 : (Jvm.Cond.fieldLink "StoneSheets$Rubbing" (9 : Nat) "StoneSheets$Rubbing" "laid" "I") ∈ lw_all := lw_g (lw_at lw_m2 231 rfl) rfl
theorem q554 : (Jvm.Cond.fieldLink "StoneSheets$Rubbing" (15 : Nat) "StoneSheets$Rubbing" "trust" "I") ∈ lw_all := lw_g (lw_at lw_m2 234 rfl) rfl
theorem q558 : (Jvm.Cond.soleField "StoneSheets$Rubbing" "raw") ∈ lw_all := lw_g (lw_at lw_m2 238 rfl) rfl
theorem q560 : (Jvm.Cond.soleField "StoneSheets$Rubbing" "size") ∈ lw_all := lw_g (lw_at lw_m3 0 rfl) rfl
theorem q562 : (Jvm.Cond.soleField "StoneSheets$Rubbing" "isTurned") ∈ lw_all := lw_g (lw_at lw_m3 2 rfl) rfl
theorem q564 : (Jvm.Cond.soleField "StoneSheets$Rubbing" "laid") ∈ lw_all := lw_g (lw_at lw_m3 4 rfl) rfl
theorem q566 : (Jvm.Cond.soleField "StoneSheets$Rubbing" "trust") ∈ lw_all := lw_g (lw_at lw_m3 6 rfl) rfl
theorem q617 : (Jvm.Cond.instantiable "StoneSheets$Rubbing" (5 : Nat)) ∈ lw_all := lw_g (lw_at lw_m3 57 rfl) rfl
theorem q619 : (Jvm.Cond.lays "StoneSheets$Rubbing" "StoneSheets$Rubbing" "raw" "I") ∈ lw_all := lw_g (lw_at lw_m3 59 rfl) rfl
theorem q620 : (Jvm.Cond.lays "StoneSheets$Rubbing" "StoneSheets$Rubbing" "size" "I") ∈ lw_all := lw_g (lw_at lw_m3 60 rfl) rfl
theorem q621 : (Jvm.Cond.lays "StoneSheets$Rubbing" "StoneSheets$Rubbing" "isTurned" "Z") ∈ lw_all := lw_g (lw_at lw_m3 61 rfl) rfl
theorem q622 : (Jvm.Cond.lays "StoneSheets$Rubbing" "StoneSheets$Rubbing" "laid" "I") ∈ lw_all := lw_g (lw_at lw_m3 62 rfl) rfl
theorem q623 : (Jvm.Cond.lays "StoneSheets$Rubbing" "StoneSheets$Rubbing" "trust" "I") ∈ lw_all := lw_g (lw_at lw_m3 63 rfl) rfl
theorem q624 : (Jvm.Cond.superclass "StoneSheets$Rubbing" "java/lang/Object") ∈ lw_all := lw_g (lw_at lw_m3 64 rfl) rfl
theorem q634 : (Jvm.Cond.instanceMethod ({ cls := "StoneSheets$Rubbing", name := "kind", desc := "()I" } : Jvm.MethodName)) ∈ lw_all := lw_g (lw_at lw_m3 74 rfl) rfl
theorem q635 : (Jvm.Cond.selects "StoneSheets$Rubbing" ({ cls := "StoneSheets$Rubbing", name := "kind", desc := "()I" } : Jvm.MethodName) ({ cls := "StoneSheets$Rubbing", name := "kind", desc := "()I" } : Jvm.MethodName)) ∈ lw_all := lw_g (lw_at lw_m3 75 rfl) rfl
theorem q636 : (Jvm.Cond.sameMethod "StoneSheets$Rubbing" "StoneSheets$Rubbing" "kind" "()I") ∈ lw_all := lw_g (lw_at lw_m3 76 rfl) rfl
theorem q654 : (Jvm.Cond.code ({ cls := "StoneSheets$Rubbing", name := "kind", desc := "()I" } : Jvm.MethodName) prog_8_method_2_code (1 : Nat) (Option.some Jvm.ClassFile.FieldType.int)) ∈ lw_all := lw_g (lw_at lw_m3 94 rfl) rfl
theorem q656 : (Jvm.Cond.instanceMethod ({ cls := "StoneSheets$Rubbing", name := "covered", desc := "()I" } : Jvm.MethodName)) ∈ lw_all := lw_g (lw_at lw_m3 96 rfl) rfl
theorem q657 : (Jvm.Cond.selects "StoneSheets$Rubbing" ({ cls := "StoneSheets$Rubbing", name := "covered", desc := "()I" } : Jvm.MethodName) ({ cls := "StoneSheets$Rubbing", name := "covered", desc := "()I" } : Jvm.MethodName)) ∈ lw_all := lw_g (lw_at lw_m3 97 rfl) rfl
theorem q658 : (Jvm.Cond.sameMethod "StoneSheets$Rubbing" "StoneSheets$Rubbing" "covered" "()I") ∈ lw_all := lw_g (lw_at lw_m3 98 rfl) rfl
theorem q664 : (Jvm.Cond.code ({ cls := "StoneSheets$Rubbing", name := "covered", desc := "()I" } : Jvm.MethodName) prog_8_method_10_code (1 : Nat) (Option.some Jvm.ClassFile.FieldType.int)) ∈ lw_all := lw_g (lw_at lw_m3 104 rfl) rfl
theorem q665 : (Jvm.Cond.constant "StoneSheets$Rubbing" (45 : Nat) (65535 : Int32)) ∈ lw_all := lw_g (lw_at lw_m3 105 rfl) rfl
theorem q686 : (Jvm.Cond.unhidden "StoneSheets$Rubbing" "gains" "(I)I") ∈ lw_tbl := lw_at lw_m3 126 rfl
theorem q706 : (Jvm.Cond.instanceMethod ({ cls := "StoneSheets$Rubbing", name := "loses", desc := "()I" } : Jvm.MethodName)) ∈ lw_all := lw_g (lw_at lw_m3 146 rfl) rfl
theorem q707 : (Jvm.Cond.selects "StoneSheets$Rubbing" ({ cls := "StoneSheets$Rubbing", name := "loses", desc := "()I" } : Jvm.MethodName) ({ cls := "StoneSheets$Rubbing", name := "loses", desc := "()I" } : Jvm.MethodName)) ∈ lw_all := lw_g (lw_at lw_m3 147 rfl) rfl
theorem q708 : (Jvm.Cond.sameMethod "StoneSheets$Rubbing" "StoneSheets$Rubbing" "loses" "()I") ∈ lw_all := lw_g (lw_at lw_m3 148 rfl) rfl
theorem q726 : (Jvm.Cond.code ({ cls := "StoneSheets$Rubbing", name := "loses", desc := "()I" } : Jvm.MethodName) prog_8_method_3_code (1 : Nat) (Option.some Jvm.ClassFile.FieldType.int)) ∈ lw_all := lw_g (lw_at lw_m3 166 rfl) rfl
theorem q728 : (Jvm.Cond.instanceMethod ({ cls := "StoneSheets$Rubbing", name := "worth", desc := "()I" } : Jvm.MethodName)) ∈ lw_all := lw_g (lw_at lw_m3 168 rfl) rfl
theorem q729 : (Jvm.Cond.selects "StoneSheets$Rubbing" ({ cls := "StoneSheets$Rubbing", name := "worth", desc := "()I" } : Jvm.MethodName) ({ cls := "StoneSheets$Rubbing", name := "worth", desc := "()I" } : Jvm.MethodName)) ∈ lw_all := lw_g (lw_at lw_m3 169 rfl) rfl
theorem q730 : (Jvm.Cond.sameMethod "StoneSheets$Rubbing" "StoneSheets$Rubbing" "worth" "()I") ∈ lw_all := lw_g (lw_at lw_m3 170 rfl) rfl
theorem q750 : (Jvm.Cond.code ({ cls := "StoneSheets$Rubbing", name := "worth", desc := "()I" } : Jvm.MethodName) prog_8_method_4_code (1 : Nat) (Option.some Jvm.ClassFile.FieldType.int)) ∈ lw_all := lw_g (lw_at lw_m3 190 rfl) rfl
theorem q756 : (Jvm.Cond.instanceMethod ({ cls := "StoneSheets$Rubbing", name := "saysAt", desc := "(I)I" } : Jvm.MethodName)) ∈ lw_all := lw_g (lw_at lw_m3 196 rfl) rfl
theorem q757 : (Jvm.Cond.selects "StoneSheets$Rubbing" ({ cls := "StoneSheets$Rubbing", name := "saysAt", desc := "(I)I" } : Jvm.MethodName) ({ cls := "StoneSheets$Rubbing", name := "saysAt", desc := "(I)I" } : Jvm.MethodName)) ∈ lw_all := lw_g (lw_at lw_m3 197 rfl) rfl
theorem q758 : (Jvm.Cond.sameMethod "StoneSheets$Rubbing" "StoneSheets$Rubbing" "saysAt" "(I)I") ∈ lw_all := lw_g (lw_at lw_m3 198 rfl) rfl
theorem q764 : (Jvm.Cond.code ({ cls := "StoneSheets$Rubbing", name := "saysAt", desc := "(I)I" } : Jvm.MethodName) prog_8_method_8_code (2 : Nat) (Option.some Jvm.ClassFile.FieldType.int)) ∈ lw_all := lw_g (lw_at lw_m3 204 rfl) rfl
theorem q786 : (Jvm.Cond.unhidden "StoneSheets$Rubbing" "says" "(II)I") ∈ lw_tbl := lw_at lw_m3 226 rfl
theorem q834 : (Jvm.Cond.instanceMethod ({ cls := "StoneSheets$Rubbing", name := "takes", desc := "(LStoneSheets$Rubbing;)V" } : Jvm.MethodName)) ∈ lw_all := lw_g (lw_at lw_m4 34 rfl) rfl
theorem q835 : (Jvm.Cond.selects "StoneSheets$Rubbing" ({ cls := "StoneSheets$Rubbing", name := "takes", desc := "(LStoneSheets$Rubbing;)V" } : Jvm.MethodName) ({ cls := "StoneSheets$Rubbing", name := "takes", desc := "(LStoneSheets$Rubbing;)V" } : Jvm.MethodName)) ∈ lw_all := lw_g (lw_at lw_m4 35 rfl) rfl
theorem q836 : (Jvm.Cond.sameMethod "StoneSheets$Rubbing" "StoneSheets$Rubbing" "takes" "(LStoneSheets$Rubbing;)V") ∈ lw_all := lw_g (lw_at lw_m4 36 rfl) rfl
theorem q842 : (Jvm.Cond.code ({ cls := "StoneSheets$Rubbing", name := "takes", desc := "(LStoneSheets$Rubbing;)V" } : Jvm.MethodName) prog_8_method_6_code (2 : Nat) (Option.none : Option Jvm.ClassFile.FieldType)) ∈ lw_all := lw_g (lw_at lw_m4 42 rfl) rfl
theorem q958 : (Jvm.Cond.instanceMethod ({ cls := "StoneSheets$Rubbing", name := "covers", desc := "(I)Z" } : Jvm.MethodName)) ∈ lw_all := lw_g (lw_at lw_m4 158 rfl) rfl
theorem q959 : (Jvm.Cond.selects "StoneSheets$Rubbing" ({ cls := "StoneSheets$Rubbing", name := "covers", desc := "(I)Z" } : Jvm.MethodName) ({ cls := "StoneSheets$Rubbing", name := "covers", desc := "(I)Z" } : Jvm.MethodName)) ∈ lw_all := lw_g (lw_at lw_m4 159 rfl) rfl
theorem q960 : (Jvm.Cond.sameMethod "StoneSheets$Rubbing" "StoneSheets$Rubbing" "covers" "(I)Z") ∈ lw_all := lw_g (lw_at lw_m4 160 rfl) rfl
theorem q966 : (Jvm.Cond.code ({ cls := "StoneSheets$Rubbing", name := "covers", desc := "(I)Z" } : Jvm.MethodName) prog_8_method_9_code (2 : Nat) (Option.some Jvm.ClassFile.FieldType.boolean)) ∈ lw_all := lw_g (lw_at lw_m4 166 rfl) rfl
theorem q967 : (Jvm.Cond.methodLinkNest "StoneSheets$Rubbing" (41 : Nat) ({ cls := "StoneSheets", name := "isIn", desc := "(III)Z" } : Jvm.MethodName) "StoneSheets") ∈ lw_tbl := lw_at lw_m4 167 rfl
theorem q1004 : (Jvm.Cond.instanceMethod ({ cls := "StoneSheets$Rubbing", name := "another", desc := "()LStoneSheets$Rubbing;" } : Jvm.MethodName)) ∈ lw_all := lw_g (lw_at lw_m4 204 rfl) rfl
theorem q1005 : (Jvm.Cond.selects "StoneSheets$Rubbing" ({ cls := "StoneSheets$Rubbing", name := "another", desc := "()LStoneSheets$Rubbing;" } : Jvm.MethodName) ({ cls := "StoneSheets$Rubbing", name := "another", desc := "()LStoneSheets$Rubbing;" } : Jvm.MethodName)) ∈ lw_all := lw_g (lw_at lw_m4 205 rfl) rfl
theorem q1006 : (Jvm.Cond.sameMethod "StoneSheets$Rubbing" "StoneSheets$Rubbing" "another" "()LStoneSheets$Rubbing;") ∈ lw_all := lw_g (lw_at lw_m4 206 rfl) rfl
theorem q1032 : (Jvm.Cond.code ({ cls := "StoneSheets$Rubbing", name := "another", desc := "()LStoneSheets$Rubbing;" } : Jvm.MethodName) prog_8_method_5_code (1 : Nat) (Option.some (Jvm.ClassFile.FieldType.object "StoneSheets$Rubbing"))) ∈ lw_all := lw_g (lw_at lw_m4 232 rfl) rfl
theorem q1033 : (Jvm.Cond.classLink "StoneSheets$Rubbing" (10 : Nat) "StoneSheets$Rubbing") ∈ lw_all := lw_g (lw_at lw_m4 233 rfl) rfl
theorem q1034 : (Jvm.Cond.methodLink "StoneSheets$Rubbing" (18 : Nat) ({ cls := "StoneSheets$Rubbing", name := "<init>", desc := "()V" } : Jvm.MethodName)) ∈ lw_all := lw_g (lw_at lw_m4 234 rfl) rfl
theorem q1173 : (Jvm.Cond.instanceMethod ({ cls := "StoneSheets$Rubbing", name := "copy", desc := "()LStoneSheets$Rubbing;" } : Jvm.MethodName)) ∈ lw_all := lw_g (lw_at lw_m5 133 rfl) rfl
theorem q1174 : (Jvm.Cond.selects "StoneSheets$Rubbing" ({ cls := "StoneSheets$Rubbing", name := "copy", desc := "()LStoneSheets$Rubbing;" } : Jvm.MethodName) ({ cls := "StoneSheets$Rubbing", name := "copy", desc := "()LStoneSheets$Rubbing;" } : Jvm.MethodName)) ∈ lw_all := lw_g (lw_at lw_m5 134 rfl) rfl
theorem q1175 : (Jvm.Cond.sameMethod "StoneSheets$Rubbing" "StoneSheets$Rubbing" "copy" "()LStoneSheets$Rubbing;") ∈ lw_all := lw_g (lw_at lw_m5 135 rfl) rfl
theorem q1181 : (Jvm.Cond.code ({ cls := "StoneSheets$Rubbing", name := "copy", desc := "()LStoneSheets$Rubbing;" } : Jvm.MethodName) prog_8_method_7_code (2 : Nat) (Option.some (Jvm.ClassFile.FieldType.object "StoneSheets$Rubbing"))) ∈ lw_all := lw_g (lw_at lw_m5 141 rfl) rfl
theorem q1182 : (Jvm.Cond.methodLink "StoneSheets$Rubbing" (29 : Nat) ({ cls := "StoneSheets$Rubbing", name := "another", desc := "()LStoneSheets$Rubbing;" } : Jvm.MethodName)) ∈ lw_all := lw_g (lw_at lw_m5 142 rfl) rfl
theorem q1183 : (Jvm.Cond.methodLink "StoneSheets$Rubbing" (33 : Nat) ({ cls := "StoneSheets$Rubbing", name := "takes", desc := "(LStoneSheets$Rubbing;)V" } : Jvm.MethodName)) ∈ lw_all := lw_g (lw_at lw_m5 143 rfl) rfl
theorem q1223 : (Jvm.Cond.castable "StoneSheets$Rubbing" "StoneSheets$Trusted") ∈ lw_tbl := lw_at lw_m5 183 rfl
theorem q1224 : (Jvm.Cond.selects "StoneSheets$Rubbing" ({ cls := "StoneSheets$Trusted", name := "worth", desc := "()I" } : Jvm.MethodName) ({ cls := "StoneSheets$Rubbing", name := "worth", desc := "()I" } : Jvm.MethodName)) ∈ lw_all := lw_g (lw_at lw_m5 184 rfl) rfl
theorem q1225 : (Jvm.Cond.unhidden "StoneSheets$Rubbing" "worth" "()I") ∈ lw_tbl := lw_at lw_m5 185 rfl
theorem q1226 : (Jvm.Cond.publicMethod ({ cls := "StoneSheets$Rubbing", name := "worth", desc := "()I" } : Jvm.MethodName)) ∈ lw_tbl := lw_at lw_m5 186 rfl
theorem in_X6 : ∀ w ∈ wsX60, w ∈ lw_all := lw_in wsX60 [619, 620, 621, 622, 623] (by decide +kernel) (by decide +kernel)

/-! StoneSheets$BoldRubbing -/
set_option maxRecDepth 100000
def RX7 : String := "StoneSheets$BoldRubbing"
def TX7 : u_T := fun k => match k with
  | 0 => ("StoneSheets$Rubbing", "raw", "I", false)
  | 1 => ("StoneSheets$Rubbing", "size", "I", false)
  | 2 => ("StoneSheets$Rubbing", "isTurned", "Z", false)
  | 3 => ("StoneSheets$Rubbing", "laid", "I", false)
  | _ => ("StoneSheets$Rubbing", "trust", "I", false)
def tyX7 : Nat → FieldType := fun k => match k with
  | 0 => .int
  | 1 => .int
  | 2 => .boolean
  | 3 => .int
  | _ => .int
abbrev wsX70 : List Cond := u_ws RX7 TX7 5
theorem nmX7 : ∀ a, a < 5 → ∀ b, b < 5 → a ≠ b → (TX7 a).2.1 ≠ (TX7 b).2.1 := by decide +kernel
theorem tyX7_ok : ∀ k, k < 5 → parseFieldDescriptor (TX7 k).2.2.1 = some (tyX7 k) := by decide +kernel
abbrev cX7_init : ByteArray := prog_2_method_1_code
def yX7_init : MethodName := ⟨RX7, "<init>", "()V"⟩
theorem dX7_init_0 : decode cX7_init 0 = .ok (.aload_n 0, 1) := by decide +kernel
theorem dX7_init_1 : decode cX7_init 1 = .ok (.invokespecial 3, 3) := by decide +kernel
theorem dX7_init_4 : decode cX7_init 4 = .ok (.return_, 1) := by decide +kernel
abbrev cX7_kind : ByteArray := prog_2_method_2_code
def yX7_kind : MethodName := ⟨RX7, "kind", "()I"⟩
theorem dX7_kind_0 : decode cX7_kind 0 = .ok (.iconst 1, 1) := by decide +kernel
theorem dX7_kind_1 : decode cX7_kind 1 = .ok (.ireturn, 1) := by decide +kernel
abbrev cX7_gains : ByteArray := prog_2_method_5_code
def yX7_gains : MethodName := ⟨RX7, "gains", "(I)I"⟩
def dkwX7_gains_0 : List UInt8 := [42, 27, 183, 0, 24, 4, 96, 172]
abbrev dktX7_gains_0 : List UInt8 := dkwX7_gains_0 ++ []
theorem dksX7_gains_0 : cX7_gains.data.toList.drop 0 = dktX7_gains_0 := by decide +kernel
theorem dX7_gains_0 : decode cX7_gains 0 = .ok (.aload_n 0, 1) := dk_42 (dk_at dksX7_gains_0 0 rfl rfl)
theorem dX7_gains_1 : decode cX7_gains 1 = .ok (.iload_n 1, 1) := dk_27 (dk_at dksX7_gains_0 1 rfl rfl)
theorem dX7_gains_2 : decode cX7_gains 2 = .ok (.invokespecial 24, 3) := dk_183 0 24 (dk_at dksX7_gains_0 2 rfl rfl)
theorem dX7_gains_5 : decode cX7_gains 5 = .ok (.iconst 1, 1) := dk_4 (dk_at dksX7_gains_0 5 rfl rfl)
theorem dX7_gains_6 : decode cX7_gains 6 = .ok (.iadd, 1) := dk_96 (dk_at dksX7_gains_0 6 rfl rfl)
theorem dX7_gains_7 : decode cX7_gains 7 = .ok (.ireturn, 1) := dk_172 (dk_at dksX7_gains_0 7 rfl rfl)
abbrev cX7_loses : ByteArray := prog_2_method_6_code
def yX7_loses : MethodName := ⟨RX7, "loses", "()I"⟩
def dkwX7_loses_0 : List UInt8 := [42, 183, 0, 27, 5, 96, 172]
abbrev dktX7_loses_0 : List UInt8 := dkwX7_loses_0 ++ []
theorem dksX7_loses_0 : cX7_loses.data.toList.drop 0 = dktX7_loses_0 := by decide +kernel
theorem dX7_loses_0 : decode cX7_loses 0 = .ok (.aload_n 0, 1) := dk_42 (dk_at dksX7_loses_0 0 rfl rfl)
theorem dX7_loses_1 : decode cX7_loses 1 = .ok (.invokespecial 27, 3) := dk_183 0 27 (dk_at dksX7_loses_0 1 rfl rfl)
theorem dX7_loses_4 : decode cX7_loses 4 = .ok (.iconst 2, 1) := dk_5 (dk_at dksX7_loses_0 4 rfl rfl)
theorem dX7_loses_5 : decode cX7_loses 5 = .ok (.iadd, 1) := dk_96 (dk_at dksX7_loses_0 5 rfl rfl)
theorem dX7_loses_6 : decode cX7_loses 6 = .ok (.ireturn, 1) := dk_172 (dk_at dksX7_loses_0 6 rfl rfl)
abbrev cX7_worth : ByteArray := prog_2_method_7_code
def yX7_worth : MethodName := ⟨RX7, "worth", "()I"⟩
def dkwX7_worth_0 : List UInt8 := [42, 183, 0, 31, 8, 96, 172]
abbrev dktX7_worth_0 : List UInt8 := dkwX7_worth_0 ++ []
theorem dksX7_worth_0 : cX7_worth.data.toList.drop 0 = dktX7_worth_0 := by decide +kernel
theorem dX7_worth_0 : decode cX7_worth 0 = .ok (.aload_n 0, 1) := dk_42 (dk_at dksX7_worth_0 0 rfl rfl)
theorem dX7_worth_1 : decode cX7_worth 1 = .ok (.invokespecial 31, 3) := dk_183 0 31 (dk_at dksX7_worth_0 1 rfl rfl)
theorem dX7_worth_4 : decode cX7_worth 4 = .ok (.iconst 5, 1) := dk_8 (dk_at dksX7_worth_0 4 rfl rfl)
theorem dX7_worth_5 : decode cX7_worth 5 = .ok (.iadd, 1) := dk_96 (dk_at dksX7_worth_0 5 rfl rfl)
theorem dX7_worth_6 : decode cX7_worth 6 = .ok (.ireturn, 1) := dk_172 (dk_at dksX7_worth_0 6 rfl rfl)
abbrev cX7_says : ByteArray := prog_2_method_4_code
def yX7_says : MethodName := ⟨RX7, "says", "(II)I"⟩
def dkwX7_says_0 : List UInt8 := [42, 27, 28, 183, 0, 15, 184, 0, 18, 172]
abbrev dktX7_says_0 : List UInt8 := dkwX7_says_0 ++ []
theorem dksX7_says_0 : cX7_says.data.toList.drop 0 = dktX7_says_0 := by decide +kernel
theorem dX7_says_0 : decode cX7_says 0 = .ok (.aload_n 0, 1) := dk_42 (dk_at dksX7_says_0 0 rfl rfl)
theorem dX7_says_1 : decode cX7_says 1 = .ok (.iload_n 1, 1) := dk_27 (dk_at dksX7_says_0 1 rfl rfl)
theorem dX7_says_2 : decode cX7_says 2 = .ok (.iload_n 2, 1) := dk_28 (dk_at dksX7_says_0 2 rfl rfl)
theorem dX7_says_3 : decode cX7_says 3 = .ok (.invokespecial 15, 3) := dk_183 0 15 (dk_at dksX7_says_0 3 rfl rfl)
theorem dX7_says_6 : decode cX7_says 6 = .ok (.invokestatic 18, 3) := dk_184 0 18 (dk_at dksX7_says_0 6 rfl rfl)
theorem dX7_says_9 : decode cX7_says 9 = .ok (.ireturn, 1) := dk_172 (dk_at dksX7_says_0 9 rfl rfl)
abbrev cX7_bolder : ByteArray := prog_2_method_3_code
def yX7_bolder : MethodName := ⟨RX7, "bolder", "(I)I"⟩
def dkwX7_bolder_0 : List UInt8 := [26, 154, 0, 7, 3, 167, 0, 10, 6, 26, 4, 96, 184, 0, 9, 172]
abbrev dktX7_bolder_0 : List UInt8 := dkwX7_bolder_0 ++ []
theorem dksX7_bolder_0 : cX7_bolder.data.toList.drop 0 = dktX7_bolder_0 := by decide +kernel
theorem dX7_bolder_0 : decode cX7_bolder 0 = .ok (.iload_n 0, 1) := dk_26 (dk_at dksX7_bolder_0 0 rfl rfl)
theorem dX7_bolder_1 : decode cX7_bolder 1 = .ok (.ifCond .ne 7, 3) := dk_154 0 7 (dk_at dksX7_bolder_0 1 rfl rfl)
theorem dX7_bolder_4 : decode cX7_bolder 4 = .ok (.iconst 0, 1) := dk_3 (dk_at dksX7_bolder_0 4 rfl rfl)
theorem dX7_bolder_5 : decode cX7_bolder 5 = .ok (.goto 10, 3) := dk_167 0 10 (dk_at dksX7_bolder_0 5 rfl rfl)
theorem dX7_bolder_8 : decode cX7_bolder 8 = .ok (.iconst 3, 1) := dk_6 (dk_at dksX7_bolder_0 8 rfl rfl)
theorem dX7_bolder_9 : decode cX7_bolder 9 = .ok (.iload_n 0, 1) := dk_26 (dk_at dksX7_bolder_0 9 rfl rfl)
theorem dX7_bolder_10 : decode cX7_bolder 10 = .ok (.iconst 1, 1) := dk_4 (dk_at dksX7_bolder_0 10 rfl rfl)
theorem dX7_bolder_11 : decode cX7_bolder 11 = .ok (.iadd, 1) := dk_96 (dk_at dksX7_bolder_0 11 rfl rfl)
theorem dX7_bolder_12 : decode cX7_bolder 12 = .ok (.invokestatic 9, 3) := dk_184 0 9 (dk_at dksX7_bolder_0 12 rfl rfl)
theorem dX7_bolder_15 : decode cX7_bolder 15 = .ok (.ireturn, 1) := dk_172 (dk_at dksX7_bolder_0 15 rfl rfl)
abbrev cX7_another : ByteArray := prog_2_method_8_code
def yX7_another : MethodName := ⟨RX7, "another", "()LStoneSheets$Rubbing;"⟩
def dkwX7_another_0 : List UInt8 := [187, 0, 19, 89, 183, 0, 34, 176]
abbrev dktX7_another_0 : List UInt8 := dkwX7_another_0 ++ []
theorem dksX7_another_0 : cX7_another.data.toList.drop 0 = dktX7_another_0 := by decide +kernel
theorem dX7_another_0 : decode cX7_another 0 = .ok (.new 19, 3) := dk_187 0 19 (dk_at dksX7_another_0 0 rfl rfl)
theorem dX7_another_3 : decode cX7_another 3 = .ok (.dup, 1) := dk_89 (dk_at dksX7_another_0 3 rfl rfl)
theorem dX7_another_4 : decode cX7_another 4 = .ok (.invokespecial 34, 3) := dk_183 0 34 (dk_at dksX7_another_0 4 rfl rfl)
theorem dX7_another_7 : decode cX7_another 7 = .ok (.areturn, 1) := dk_176 (dk_at dksX7_another_0 7 rfl rfl)
theorem q91 : (Jvm.Cond.initialized "StoneSheets$BoldRubbing") ∈ lw_all := lw_g (lw_at lw_m1 11 rfl) rfl
theorem q535 : (Jvm.Cond.instantiable "StoneSheets$BoldRubbing" (5 : Nat)) ∈ lw_all := lw_g (lw_at lw_m2 215 rfl) rfl
theorem q537 : (Jvm.Cond.instanceMethod ({ cls := "StoneSheets$BoldRubbing", name := "<init>", desc := "()V" } : Jvm.MethodName)) ∈ lw_all := lw_g (lw_at lw_m2 217 rfl) rfl
theorem q538 : (Jvm.Cond.code ({ cls := "StoneSheets$BoldRubbing", name := "<init>", desc := "()V" } : Jvm.MethodName) prog_2_method_1_code (1 : Nat) (Option.none : Option Jvm.ClassFile.FieldType)) ∈ lw_all := lw_g (lw_at lw_m2 218 rfl) rfl
theorem q539 : (Jvm.Cond.methodLinkNest "StoneSheets$BoldRubbing" (3 : Nat) ({ cls := "StoneSheets$Rubbing", name := "<init>", desc := "()V" } : Jvm.MethodName) "StoneSheets") ∈ lw_tbl := lw_at lw_m2 219 rfl
theorem q557 : (Jvm.Cond.lays "StoneSheets$BoldRubbing" "StoneSheets$Rubbing" "raw" "I") ∈ lw_all := lw_g (lw_at lw_m2 237 rfl) rfl
theorem q559 : (Jvm.Cond.lays "StoneSheets$BoldRubbing" "StoneSheets$Rubbing" "size" "I") ∈ lw_all := lw_g (lw_at lw_m2 239 rfl) rfl
theorem q561 : (Jvm.Cond.lays "StoneSheets$BoldRubbing" "StoneSheets$Rubbing" "isTurned" "Z") ∈ lw_all := lw_g (lw_at lw_m3 1 rfl) rfl
theorem q563 : (Jvm.Cond.lays "StoneSheets$BoldRubbing" "StoneSheets$Rubbing" "laid" "I") ∈ lw_all := lw_g (lw_at lw_m3 3 rfl) rfl
theorem q565 : (Jvm.Cond.lays "StoneSheets$BoldRubbing" "StoneSheets$Rubbing" "trust" "I") ∈ lw_all := lw_g (lw_at lw_m3 5 rfl) rfl
theorem q567 : (Jvm.Cond.superclass "StoneSheets$BoldRubbing" "StoneSheets$Rubbing") ∈ lw_all := lw_g (lw_at lw_m3 7 rfl) rfl
theorem q637 : (Jvm.Cond.selects "StoneSheets$BoldRubbing" ({ cls := "StoneSheets$Rubbing", name := "kind", desc := "()I" } : Jvm.MethodName) ({ cls := "StoneSheets$BoldRubbing", name := "kind", desc := "()I" } : Jvm.MethodName)) ∈ lw_all := lw_g (lw_at lw_m3 77 rfl) rfl
theorem q638 : (Jvm.Cond.instanceMethod ({ cls := "StoneSheets$BoldRubbing", name := "kind", desc := "()I" } : Jvm.MethodName)) ∈ lw_all := lw_g (lw_at lw_m3 78 rfl) rfl
theorem q639 : (Jvm.Cond.code ({ cls := "StoneSheets$BoldRubbing", name := "kind", desc := "()I" } : Jvm.MethodName) prog_2_method_2_code (1 : Nat) (Option.some Jvm.ClassFile.FieldType.int)) ∈ lw_all := lw_g (lw_at lw_m3 79 rfl) rfl
theorem q659 : (Jvm.Cond.selects "StoneSheets$BoldRubbing" ({ cls := "StoneSheets$Rubbing", name := "covered", desc := "()I" } : Jvm.MethodName) ({ cls := "StoneSheets$Rubbing", name := "covered", desc := "()I" } : Jvm.MethodName)) ∈ lw_all := lw_g (lw_at lw_m3 99 rfl) rfl
theorem q671 : (Jvm.Cond.selects "StoneSheets$BoldRubbing" ({ cls := "StoneSheets$Trusted", name := "gains", desc := "(I)I" } : Jvm.MethodName) ({ cls := "StoneSheets$BoldRubbing", name := "gains", desc := "(I)I" } : Jvm.MethodName)) ∈ lw_all := lw_g (lw_at lw_m3 111 rfl) rfl
theorem q672 : (Jvm.Cond.instanceMethod ({ cls := "StoneSheets$BoldRubbing", name := "gains", desc := "(I)I" } : Jvm.MethodName)) ∈ lw_all := lw_g (lw_at lw_m3 112 rfl) rfl
theorem q673 : (Jvm.Cond.code ({ cls := "StoneSheets$BoldRubbing", name := "gains", desc := "(I)I" } : Jvm.MethodName) prog_2_method_5_code (2 : Nat) (Option.some Jvm.ClassFile.FieldType.int)) ∈ lw_all := lw_g (lw_at lw_m3 113 rfl) rfl
theorem q709 : (Jvm.Cond.selects "StoneSheets$BoldRubbing" ({ cls := "StoneSheets$Rubbing", name := "loses", desc := "()I" } : Jvm.MethodName) ({ cls := "StoneSheets$BoldRubbing", name := "loses", desc := "()I" } : Jvm.MethodName)) ∈ lw_all := lw_g (lw_at lw_m3 149 rfl) rfl
theorem q710 : (Jvm.Cond.instanceMethod ({ cls := "StoneSheets$BoldRubbing", name := "loses", desc := "()I" } : Jvm.MethodName)) ∈ lw_all := lw_g (lw_at lw_m3 150 rfl) rfl
theorem q711 : (Jvm.Cond.code ({ cls := "StoneSheets$BoldRubbing", name := "loses", desc := "()I" } : Jvm.MethodName) prog_2_method_6_code (1 : Nat) (Option.some Jvm.ClassFile.FieldType.int)) ∈ lw_all := lw_g (lw_at lw_m3 151 rfl) rfl
theorem q712 : (Jvm.Cond.methodLink "StoneSheets$BoldRubbing" (27 : Nat) ({ cls := "StoneSheets$Rubbing", name := "loses", desc := "()I" } : Jvm.MethodName)) ∈ lw_all := lw_g (lw_at lw_m3 152 rfl) rfl
theorem q731 : (Jvm.Cond.selects "StoneSheets$BoldRubbing" ({ cls := "StoneSheets$Rubbing", name := "worth", desc := "()I" } : Jvm.MethodName) ({ cls := "StoneSheets$BoldRubbing", name := "worth", desc := "()I" } : Jvm.MethodName)) ∈ lw_all := lw_g (lw_at lw_m3 171 rfl) rfl
theorem q732 : (Jvm.Cond.instanceMethod ({ cls := "StoneSheets$BoldRubbing", name := "worth", desc := "()I" } : Jvm.MethodName)) ∈ lw_all := lw_g (lw_at lw_m3 172 rfl) rfl
theorem q733 : (Jvm.Cond.code ({ cls := "StoneSheets$BoldRubbing", name := "worth", desc := "()I" } : Jvm.MethodName) prog_2_method_7_code (1 : Nat) (Option.some Jvm.ClassFile.FieldType.int)) ∈ lw_all := lw_g (lw_at lw_m3 173 rfl) rfl
theorem q734 : (Jvm.Cond.methodLink "StoneSheets$BoldRubbing" (31 : Nat) ({ cls := "StoneSheets$Rubbing", name := "worth", desc := "()I" } : Jvm.MethodName)) ∈ lw_all := lw_g (lw_at lw_m3 174 rfl) rfl
theorem q759 : (Jvm.Cond.selects "StoneSheets$BoldRubbing" ({ cls := "StoneSheets$Rubbing", name := "saysAt", desc := "(I)I" } : Jvm.MethodName) ({ cls := "StoneSheets$Rubbing", name := "saysAt", desc := "(I)I" } : Jvm.MethodName)) ∈ lw_all := lw_g (lw_at lw_m3 199 rfl) rfl
theorem q766 : (Jvm.Cond.selects "StoneSheets$BoldRubbing" ({ cls := "StoneSheets$Says", name := "says", desc := "(II)I" } : Jvm.MethodName) ({ cls := "StoneSheets$BoldRubbing", name := "says", desc := "(II)I" } : Jvm.MethodName)) ∈ lw_all := lw_g (lw_at lw_m3 206 rfl) rfl
theorem q767 : (Jvm.Cond.instanceMethod ({ cls := "StoneSheets$BoldRubbing", name := "says", desc := "(II)I" } : Jvm.MethodName)) ∈ lw_all := lw_g (lw_at lw_m3 207 rfl) rfl
theorem q768 : (Jvm.Cond.code ({ cls := "StoneSheets$BoldRubbing", name := "says", desc := "(II)I" } : Jvm.MethodName) prog_2_method_4_code (3 : Nat) (Option.some Jvm.ClassFile.FieldType.int)) ∈ lw_all := lw_g (lw_at lw_m3 208 rfl) rfl
theorem q771 : (Jvm.Cond.methodLink "StoneSheets$BoldRubbing" (18 : Nat) ({ cls := "StoneSheets$BoldRubbing", name := "bolder", desc := "(I)I" } : Jvm.MethodName)) ∈ lw_all := lw_g (lw_at lw_m3 211 rfl) rfl
theorem q772 : (Jvm.Cond.static ({ cls := "StoneSheets$BoldRubbing", name := "bolder", desc := "(I)I" } : Jvm.MethodName)) ∈ lw_all := lw_g (lw_at lw_m3 212 rfl) rfl
theorem q773 : (Jvm.Cond.code ({ cls := "StoneSheets$BoldRubbing", name := "bolder", desc := "(I)I" } : Jvm.MethodName) prog_2_method_3_code (1 : Nat) (Option.some Jvm.ClassFile.FieldType.int)) ∈ lw_all := lw_g (lw_at lw_m3 213 rfl) rfl
theorem q774 : (Jvm.Cond.methodLink "StoneSheets$BoldRubbing" (9 : Nat) ({ cls := "java/lang/Math", name := "min", desc := "(II)I" } : Jvm.MethodName)) ∈ lw_all := lw_g (lw_at lw_m3 214 rfl) rfl
theorem q837 : (Jvm.Cond.selects "StoneSheets$BoldRubbing" ({ cls := "StoneSheets$Rubbing", name := "takes", desc := "(LStoneSheets$Rubbing;)V" } : Jvm.MethodName) ({ cls := "StoneSheets$Rubbing", name := "takes", desc := "(LStoneSheets$Rubbing;)V" } : Jvm.MethodName)) ∈ lw_all := lw_g (lw_at lw_m4 37 rfl) rfl
theorem q961 : (Jvm.Cond.selects "StoneSheets$BoldRubbing" ({ cls := "StoneSheets$Rubbing", name := "covers", desc := "(I)Z" } : Jvm.MethodName) ({ cls := "StoneSheets$Rubbing", name := "covers", desc := "(I)Z" } : Jvm.MethodName)) ∈ lw_all := lw_g (lw_at lw_m4 161 rfl) rfl
theorem q1007 : (Jvm.Cond.selects "StoneSheets$BoldRubbing" ({ cls := "StoneSheets$Rubbing", name := "another", desc := "()LStoneSheets$Rubbing;" } : Jvm.MethodName) ({ cls := "StoneSheets$BoldRubbing", name := "another", desc := "()LStoneSheets$Rubbing;" } : Jvm.MethodName)) ∈ lw_all := lw_g (lw_at lw_m4 207 rfl) rfl
theorem q1008 : (Jvm.Cond.instanceMethod ({ cls := "StoneSheets$BoldRubbing", name := "another", desc := "()LStoneSheets$Rubbing;" } : Jvm.MethodName)) ∈ lw_all := lw_g (lw_at lw_m4 208 rfl) rfl
theorem q1009 : (Jvm.Cond.code ({ cls := "StoneSheets$BoldRubbing", name := "another", desc := "()LStoneSheets$Rubbing;" } : Jvm.MethodName) prog_2_method_8_code (1 : Nat) (Option.some (Jvm.ClassFile.FieldType.object "StoneSheets$Rubbing"))) ∈ lw_all := lw_g (lw_at lw_m4 209 rfl) rfl
theorem q1010 : (Jvm.Cond.classLink "StoneSheets$BoldRubbing" (19 : Nat) "StoneSheets$BoldRubbing") ∈ lw_all := lw_g (lw_at lw_m4 210 rfl) rfl
theorem q1011 : (Jvm.Cond.methodLink "StoneSheets$BoldRubbing" (34 : Nat) ({ cls := "StoneSheets$BoldRubbing", name := "<init>", desc := "()V" } : Jvm.MethodName)) ∈ lw_all := lw_g (lw_at lw_m4 211 rfl) rfl
theorem q1176 : (Jvm.Cond.selects "StoneSheets$BoldRubbing" ({ cls := "StoneSheets$Rubbing", name := "copy", desc := "()LStoneSheets$Rubbing;" } : Jvm.MethodName) ({ cls := "StoneSheets$Rubbing", name := "copy", desc := "()LStoneSheets$Rubbing;" } : Jvm.MethodName)) ∈ lw_all := lw_g (lw_at lw_m5 136 rfl) rfl
theorem q1207 : (Jvm.Cond.castable "StoneSheets$BoldRubbing" "StoneSheets$Trusted") ∈ lw_tbl := lw_at lw_m5 167 rfl
theorem q1208 : (Jvm.Cond.selects "StoneSheets$BoldRubbing" ({ cls := "StoneSheets$Trusted", name := "worth", desc := "()I" } : Jvm.MethodName) ({ cls := "StoneSheets$BoldRubbing", name := "worth", desc := "()I" } : Jvm.MethodName)) ∈ lw_all := lw_g (lw_at lw_m5 168 rfl) rfl
theorem q1209 : (Jvm.Cond.unhidden "StoneSheets$BoldRubbing" "worth" "()I") ∈ lw_tbl := lw_at lw_m5 169 rfl
theorem q1210 : (Jvm.Cond.publicMethod ({ cls := "StoneSheets$BoldRubbing", name := "worth", desc := "()I" } : Jvm.MethodName)) ∈ lw_tbl := lw_at lw_m5 170 rfl
theorem q1790 : (Jvm.Cond.sameMethod "StoneSheets$BoldRubbing" "StoneSheets$BoldRubbing" "kind" "()I") ∈ lw_all := lw_g (lw_at lw_m8 30 rfl) rfl
theorem q1792 : (Jvm.Cond.sameMethod "StoneSheets$BoldRubbing" "StoneSheets$BoldRubbing" "loses" "()I") ∈ lw_all := lw_g (lw_at lw_m8 32 rfl) rfl
theorem q1794 : (Jvm.Cond.sameMethod "StoneSheets$BoldRubbing" "StoneSheets$BoldRubbing" "worth" "()I") ∈ lw_all := lw_g (lw_at lw_m8 34 rfl) rfl
theorem q1796 : (Jvm.Cond.sameMethod "StoneSheets$BoldRubbing" "StoneSheets$BoldRubbing" "says" "(II)I") ∈ lw_all := lw_g (lw_at lw_m8 36 rfl) rfl
theorem q1799 : (Jvm.Cond.castable "StoneSheets$BoldRubbing" "StoneSheets$Rubbing") ∈ lw_tbl := lw_at lw_m8 39 rfl
theorem in_X7 : ∀ w ∈ wsX70, w ∈ lw_all := lw_in wsX70 [557, 559, 561, 563, 565] (by decide +kernel) (by decide +kernel)

/-! StoneSheets$FaintRubbing -/
set_option maxRecDepth 100000
def RX8 : String := "StoneSheets$FaintRubbing"
def TX8 : u_T := fun k => match k with
  | 0 => ("StoneSheets$Rubbing", "raw", "I", false)
  | 1 => ("StoneSheets$Rubbing", "size", "I", false)
  | 2 => ("StoneSheets$Rubbing", "isTurned", "Z", false)
  | 3 => ("StoneSheets$Rubbing", "laid", "I", false)
  | _ => ("StoneSheets$Rubbing", "trust", "I", false)
def tyX8 : Nat → FieldType := fun k => match k with
  | 0 => .int
  | 1 => .int
  | 2 => .boolean
  | 3 => .int
  | _ => .int
abbrev wsX80 : List Cond := u_ws RX8 TX8 5
theorem nmX8 : ∀ a, a < 5 → ∀ b, b < 5 → a ≠ b → (TX8 a).2.1 ≠ (TX8 b).2.1 := by decide +kernel
theorem tyX8_ok : ∀ k, k < 5 → parseFieldDescriptor (TX8 k).2.2.1 = some (tyX8 k) := by decide +kernel
abbrev cX8_init : ByteArray := prog_4_method_1_code
def yX8_init : MethodName := ⟨RX8, "<init>", "()V"⟩
theorem dX8_init_0 : decode cX8_init 0 = .ok (.aload_n 0, 1) := by decide +kernel
theorem dX8_init_1 : decode cX8_init 1 = .ok (.invokespecial 3, 3) := by decide +kernel
theorem dX8_init_4 : decode cX8_init 4 = .ok (.return_, 1) := by decide +kernel
abbrev cX8_kind : ByteArray := prog_4_method_2_code
def yX8_kind : MethodName := ⟨RX8, "kind", "()I"⟩
theorem dX8_kind_0 : decode cX8_kind 0 = .ok (.iconst 2, 1) := by decide +kernel
theorem dX8_kind_1 : decode cX8_kind 1 = .ok (.ireturn, 1) := by decide +kernel
abbrev cX8_gains : ByteArray := prog_4_method_4_code
def yX8_gains : MethodName := ⟨RX8, "gains", "(I)I"⟩
def dkwX8_gains_0 : List UInt8 := [42, 27, 183, 0, 18, 5, 108, 172]
abbrev dktX8_gains_0 : List UInt8 := dkwX8_gains_0 ++ []
theorem dksX8_gains_0 : cX8_gains.data.toList.drop 0 = dktX8_gains_0 := by decide +kernel
theorem dX8_gains_0 : decode cX8_gains 0 = .ok (.aload_n 0, 1) := dk_42 (dk_at dksX8_gains_0 0 rfl rfl)
theorem dX8_gains_1 : decode cX8_gains 1 = .ok (.iload_n 1, 1) := dk_27 (dk_at dksX8_gains_0 1 rfl rfl)
theorem dX8_gains_2 : decode cX8_gains 2 = .ok (.invokespecial 18, 3) := dk_183 0 18 (dk_at dksX8_gains_0 2 rfl rfl)
theorem dX8_gains_5 : decode cX8_gains 5 = .ok (.iconst 2, 1) := dk_5 (dk_at dksX8_gains_0 5 rfl rfl)
theorem dX8_gains_6 : decode cX8_gains 6 = .ok (.idiv, 1) := dk_108 (dk_at dksX8_gains_0 6 rfl rfl)
theorem dX8_gains_7 : decode cX8_gains 7 = .ok (.ireturn, 1) := dk_172 (dk_at dksX8_gains_0 7 rfl rfl)
abbrev cX8_loses : ByteArray := prog_4_method_5_code
def yX8_loses : MethodName := ⟨RX8, "loses", "()I"⟩
def dkwX8_loses_0 : List UInt8 := [42, 183, 0, 22, 5, 100, 172]
abbrev dktX8_loses_0 : List UInt8 := dkwX8_loses_0 ++ []
theorem dksX8_loses_0 : cX8_loses.data.toList.drop 0 = dktX8_loses_0 := by decide +kernel
theorem dX8_loses_0 : decode cX8_loses 0 = .ok (.aload_n 0, 1) := dk_42 (dk_at dksX8_loses_0 0 rfl rfl)
theorem dX8_loses_1 : decode cX8_loses 1 = .ok (.invokespecial 22, 3) := dk_183 0 22 (dk_at dksX8_loses_0 1 rfl rfl)
theorem dX8_loses_4 : decode cX8_loses 4 = .ok (.iconst 2, 1) := dk_5 (dk_at dksX8_loses_0 4 rfl rfl)
theorem dX8_loses_5 : decode cX8_loses 5 = .ok (.isub, 1) := dk_100 (dk_at dksX8_loses_0 5 rfl rfl)
theorem dX8_loses_6 : decode cX8_loses 6 = .ok (.ireturn, 1) := dk_172 (dk_at dksX8_loses_0 6 rfl rfl)
abbrev cX8_worth : ByteArray := prog_4_method_6_code
def yX8_worth : MethodName := ⟨RX8, "worth", "()I"⟩
def dkwX8_worth_0 : List UInt8 := [16, 99, 42, 183, 0, 26, 100, 172]
abbrev dktX8_worth_0 : List UInt8 := dkwX8_worth_0 ++ []
theorem dksX8_worth_0 : cX8_worth.data.toList.drop 0 = dktX8_worth_0 := by decide +kernel
theorem dX8_worth_0 : decode cX8_worth 0 = .ok (.bipush 99, 2) := dk_16 99 (dk_at dksX8_worth_0 0 rfl rfl)
theorem dX8_worth_2 : decode cX8_worth 2 = .ok (.aload_n 0, 1) := dk_42 (dk_at dksX8_worth_0 2 rfl rfl)
theorem dX8_worth_3 : decode cX8_worth 3 = .ok (.invokespecial 26, 3) := dk_183 0 26 (dk_at dksX8_worth_0 3 rfl rfl)
theorem dX8_worth_6 : decode cX8_worth 6 = .ok (.isub, 1) := dk_100 (dk_at dksX8_worth_0 6 rfl rfl)
theorem dX8_worth_7 : decode cX8_worth 7 = .ok (.ireturn, 1) := dk_172 (dk_at dksX8_worth_0 7 rfl rfl)
abbrev cX8_says : ByteArray := prog_4_method_3_code
def yX8_says : MethodName := ⟨RX8, "says", "(II)I"⟩
def dkwX8_says_0 : List UInt8 := [3, 42, 27, 28, 183, 0, 9, 4, 100, 184, 0, 13, 172]
abbrev dktX8_says_0 : List UInt8 := dkwX8_says_0 ++ []
theorem dksX8_says_0 : cX8_says.data.toList.drop 0 = dktX8_says_0 := by decide +kernel
theorem dX8_says_0 : decode cX8_says 0 = .ok (.iconst 0, 1) := dk_3 (dk_at dksX8_says_0 0 rfl rfl)
theorem dX8_says_1 : decode cX8_says 1 = .ok (.aload_n 0, 1) := dk_42 (dk_at dksX8_says_0 1 rfl rfl)
theorem dX8_says_2 : decode cX8_says 2 = .ok (.iload_n 1, 1) := dk_27 (dk_at dksX8_says_0 2 rfl rfl)
theorem dX8_says_3 : decode cX8_says 3 = .ok (.iload_n 2, 1) := dk_28 (dk_at dksX8_says_0 3 rfl rfl)
theorem dX8_says_4 : decode cX8_says 4 = .ok (.invokespecial 9, 3) := dk_183 0 9 (dk_at dksX8_says_0 4 rfl rfl)
theorem dX8_says_7 : decode cX8_says 7 = .ok (.iconst 1, 1) := dk_4 (dk_at dksX8_says_0 7 rfl rfl)
theorem dX8_says_8 : decode cX8_says 8 = .ok (.isub, 1) := dk_100 (dk_at dksX8_says_0 8 rfl rfl)
theorem dX8_says_9 : decode cX8_says 9 = .ok (.invokestatic 13, 3) := dk_184 0 13 (dk_at dksX8_says_0 9 rfl rfl)
theorem dX8_says_12 : decode cX8_says 12 = .ok (.ireturn, 1) := dk_172 (dk_at dksX8_says_0 12 rfl rfl)
abbrev cX8_another : ByteArray := prog_4_method_7_code
def yX8_another : MethodName := ⟨RX8, "another", "()LStoneSheets$Rubbing;"⟩
def dkwX8_another_0 : List UInt8 := [187, 0, 29, 89, 183, 0, 31, 176]
abbrev dktX8_another_0 : List UInt8 := dkwX8_another_0 ++ []
theorem dksX8_another_0 : cX8_another.data.toList.drop 0 = dktX8_another_0 := by decide +kernel
theorem dX8_another_0 : decode cX8_another 0 = .ok (.new 29, 3) := dk_187 0 29 (dk_at dksX8_another_0 0 rfl rfl)
theorem dX8_another_3 : decode cX8_another 3 = .ok (.dup, 1) := dk_89 (dk_at dksX8_another_0 3 rfl rfl)
theorem dX8_another_4 : decode cX8_another 4 = .ok (.invokespecial 31, 3) := dk_183 0 31 (dk_at dksX8_another_0 4 rfl rfl)
theorem dX8_another_7 : decode cX8_another 7 = .ok (.areturn, 1) := dk_176 (dk_at dksX8_another_0 7 rfl rfl)
theorem q92 : (Jvm.Cond.initialized "StoneSheets$FaintRubbing") ∈ lw_all := lw_g (lw_at lw_m1 12 rfl) rfl
theorem q569 : (Jvm.Cond.instantiable "StoneSheets$FaintRubbing" (5 : Nat)) ∈ lw_all := lw_g (lw_at lw_m3 9 rfl) rfl
theorem q571 : (Jvm.Cond.instanceMethod ({ cls := "StoneSheets$FaintRubbing", name := "<init>", desc := "()V" } : Jvm.MethodName)) ∈ lw_all := lw_g (lw_at lw_m3 11 rfl) rfl
theorem q572 : (Jvm.Cond.code ({ cls := "StoneSheets$FaintRubbing", name := "<init>", desc := "()V" } : Jvm.MethodName) prog_4_method_1_code (1 : Nat) (Option.none : Option Jvm.ClassFile.FieldType)) ∈ lw_all := lw_g (lw_at lw_m3 12 rfl) rfl
theorem q573 : (Jvm.Cond.methodLinkNest "StoneSheets$FaintRubbing" (3 : Nat) ({ cls := "StoneSheets$Rubbing", name := "<init>", desc := "()V" } : Jvm.MethodName) "StoneSheets") ∈ lw_tbl := lw_at lw_m3 13 rfl
theorem q574 : (Jvm.Cond.lays "StoneSheets$FaintRubbing" "StoneSheets$Rubbing" "raw" "I") ∈ lw_all := lw_g (lw_at lw_m3 14 rfl) rfl
theorem q575 : (Jvm.Cond.lays "StoneSheets$FaintRubbing" "StoneSheets$Rubbing" "size" "I") ∈ lw_all := lw_g (lw_at lw_m3 15 rfl) rfl
theorem q576 : (Jvm.Cond.lays "StoneSheets$FaintRubbing" "StoneSheets$Rubbing" "isTurned" "Z") ∈ lw_all := lw_g (lw_at lw_m3 16 rfl) rfl
theorem q577 : (Jvm.Cond.lays "StoneSheets$FaintRubbing" "StoneSheets$Rubbing" "laid" "I") ∈ lw_all := lw_g (lw_at lw_m3 17 rfl) rfl
theorem q578 : (Jvm.Cond.lays "StoneSheets$FaintRubbing" "StoneSheets$Rubbing" "trust" "I") ∈ lw_all := lw_g (lw_at lw_m3 18 rfl) rfl
theorem q579 : (Jvm.Cond.superclass "StoneSheets$FaintRubbing" "StoneSheets$Rubbing") ∈ lw_all := lw_g (lw_at lw_m3 19 rfl) rfl
theorem q644 : (Jvm.Cond.instanceMethod ({ cls := "StoneSheets$FaintRubbing", name := "kind", desc := "()I" } : Jvm.MethodName)) ∈ lw_all := lw_g (lw_at lw_m3 84 rfl) rfl
theorem q645 : (Jvm.Cond.code ({ cls := "StoneSheets$FaintRubbing", name := "kind", desc := "()I" } : Jvm.MethodName) prog_4_method_2_code (1 : Nat) (Option.some Jvm.ClassFile.FieldType.int)) ∈ lw_all := lw_g (lw_at lw_m3 85 rfl) rfl
theorem q646 : (Jvm.Cond.selects "StoneSheets$FaintRubbing" ({ cls := "StoneSheets$Rubbing", name := "kind", desc := "()I" } : Jvm.MethodName) ({ cls := "StoneSheets$FaintRubbing", name := "kind", desc := "()I" } : Jvm.MethodName)) ∈ lw_all := lw_g (lw_at lw_m3 86 rfl) rfl
theorem q661 : (Jvm.Cond.selects "StoneSheets$FaintRubbing" ({ cls := "StoneSheets$Rubbing", name := "covered", desc := "()I" } : Jvm.MethodName) ({ cls := "StoneSheets$Rubbing", name := "covered", desc := "()I" } : Jvm.MethodName)) ∈ lw_all := lw_g (lw_at lw_m3 101 rfl) rfl
theorem q680 : (Jvm.Cond.instanceMethod ({ cls := "StoneSheets$FaintRubbing", name := "gains", desc := "(I)I" } : Jvm.MethodName)) ∈ lw_all := lw_g (lw_at lw_m3 120 rfl) rfl
theorem q681 : (Jvm.Cond.code ({ cls := "StoneSheets$FaintRubbing", name := "gains", desc := "(I)I" } : Jvm.MethodName) prog_4_method_4_code (2 : Nat) (Option.some Jvm.ClassFile.FieldType.int)) ∈ lw_all := lw_g (lw_at lw_m3 121 rfl) rfl
theorem q682 : (Jvm.Cond.selects "StoneSheets$FaintRubbing" ({ cls := "StoneSheets$Trusted", name := "gains", desc := "(I)I" } : Jvm.MethodName) ({ cls := "StoneSheets$FaintRubbing", name := "gains", desc := "(I)I" } : Jvm.MethodName)) ∈ lw_all := lw_g (lw_at lw_m3 122 rfl) rfl
theorem q714 : (Jvm.Cond.instanceMethod ({ cls := "StoneSheets$FaintRubbing", name := "loses", desc := "()I" } : Jvm.MethodName)) ∈ lw_all := lw_g (lw_at lw_m3 154 rfl) rfl
theorem q715 : (Jvm.Cond.code ({ cls := "StoneSheets$FaintRubbing", name := "loses", desc := "()I" } : Jvm.MethodName) prog_4_method_5_code (1 : Nat) (Option.some Jvm.ClassFile.FieldType.int)) ∈ lw_all := lw_g (lw_at lw_m3 155 rfl) rfl
theorem q716 : (Jvm.Cond.methodLink "StoneSheets$FaintRubbing" (22 : Nat) ({ cls := "StoneSheets$Rubbing", name := "loses", desc := "()I" } : Jvm.MethodName)) ∈ lw_all := lw_g (lw_at lw_m3 156 rfl) rfl
theorem q717 : (Jvm.Cond.selects "StoneSheets$FaintRubbing" ({ cls := "StoneSheets$Rubbing", name := "loses", desc := "()I" } : Jvm.MethodName) ({ cls := "StoneSheets$FaintRubbing", name := "loses", desc := "()I" } : Jvm.MethodName)) ∈ lw_all := lw_g (lw_at lw_m3 157 rfl) rfl
theorem q739 : (Jvm.Cond.instanceMethod ({ cls := "StoneSheets$FaintRubbing", name := "worth", desc := "()I" } : Jvm.MethodName)) ∈ lw_all := lw_g (lw_at lw_m3 179 rfl) rfl
theorem q740 : (Jvm.Cond.code ({ cls := "StoneSheets$FaintRubbing", name := "worth", desc := "()I" } : Jvm.MethodName) prog_4_method_6_code (1 : Nat) (Option.some Jvm.ClassFile.FieldType.int)) ∈ lw_all := lw_g (lw_at lw_m3 180 rfl) rfl
theorem q741 : (Jvm.Cond.methodLink "StoneSheets$FaintRubbing" (26 : Nat) ({ cls := "StoneSheets$Rubbing", name := "worth", desc := "()I" } : Jvm.MethodName)) ∈ lw_all := lw_g (lw_at lw_m3 181 rfl) rfl
theorem q742 : (Jvm.Cond.selects "StoneSheets$FaintRubbing" ({ cls := "StoneSheets$Rubbing", name := "worth", desc := "()I" } : Jvm.MethodName) ({ cls := "StoneSheets$FaintRubbing", name := "worth", desc := "()I" } : Jvm.MethodName)) ∈ lw_all := lw_g (lw_at lw_m3 182 rfl) rfl
theorem q761 : (Jvm.Cond.selects "StoneSheets$FaintRubbing" ({ cls := "StoneSheets$Rubbing", name := "saysAt", desc := "(I)I" } : Jvm.MethodName) ({ cls := "StoneSheets$Rubbing", name := "saysAt", desc := "(I)I" } : Jvm.MethodName)) ∈ lw_all := lw_g (lw_at lw_m3 201 rfl) rfl
theorem q779 : (Jvm.Cond.instanceMethod ({ cls := "StoneSheets$FaintRubbing", name := "says", desc := "(II)I" } : Jvm.MethodName)) ∈ lw_all := lw_g (lw_at lw_m3 219 rfl) rfl
theorem q780 : (Jvm.Cond.code ({ cls := "StoneSheets$FaintRubbing", name := "says", desc := "(II)I" } : Jvm.MethodName) prog_4_method_3_code (3 : Nat) (Option.some Jvm.ClassFile.FieldType.int)) ∈ lw_all := lw_g (lw_at lw_m3 220 rfl) rfl
theorem q781 : (Jvm.Cond.methodLink "StoneSheets$FaintRubbing" (13 : Nat) ({ cls := "java/lang/Math", name := "max", desc := "(II)I" } : Jvm.MethodName)) ∈ lw_all := lw_g (lw_at lw_m3 221 rfl) rfl
theorem q782 : (Jvm.Cond.selects "StoneSheets$FaintRubbing" ({ cls := "StoneSheets$Says", name := "says", desc := "(II)I" } : Jvm.MethodName) ({ cls := "StoneSheets$FaintRubbing", name := "says", desc := "(II)I" } : Jvm.MethodName)) ∈ lw_all := lw_g (lw_at lw_m3 222 rfl) rfl
theorem q839 : (Jvm.Cond.selects "StoneSheets$FaintRubbing" ({ cls := "StoneSheets$Rubbing", name := "takes", desc := "(LStoneSheets$Rubbing;)V" } : Jvm.MethodName) ({ cls := "StoneSheets$Rubbing", name := "takes", desc := "(LStoneSheets$Rubbing;)V" } : Jvm.MethodName)) ∈ lw_all := lw_g (lw_at lw_m4 39 rfl) rfl
theorem q963 : (Jvm.Cond.selects "StoneSheets$FaintRubbing" ({ cls := "StoneSheets$Rubbing", name := "covers", desc := "(I)Z" } : Jvm.MethodName) ({ cls := "StoneSheets$Rubbing", name := "covers", desc := "(I)Z" } : Jvm.MethodName)) ∈ lw_all := lw_g (lw_at lw_m4 163 rfl) rfl
theorem q1017 : (Jvm.Cond.selects "StoneSheets$FaintRubbing" ({ cls := "StoneSheets$Rubbing", name := "another", desc := "()LStoneSheets$Rubbing;" } : Jvm.MethodName) ({ cls := "StoneSheets$FaintRubbing", name := "another", desc := "()LStoneSheets$Rubbing;" } : Jvm.MethodName)) ∈ lw_all := lw_g (lw_at lw_m4 217 rfl) rfl
theorem q1018 : (Jvm.Cond.instanceMethod ({ cls := "StoneSheets$FaintRubbing", name := "another", desc := "()LStoneSheets$Rubbing;" } : Jvm.MethodName)) ∈ lw_all := lw_g (lw_at lw_m4 218 rfl) rfl
theorem q1019 : (Jvm.Cond.code ({ cls := "StoneSheets$FaintRubbing", name := "another", desc := "()LStoneSheets$Rubbing;" } : Jvm.MethodName) prog_4_method_7_code (1 : Nat) (Option.some (Jvm.ClassFile.FieldType.object "StoneSheets$Rubbing"))) ∈ lw_all := lw_g (lw_at lw_m4 219 rfl) rfl
theorem q1020 : (Jvm.Cond.classLink "StoneSheets$FaintRubbing" (29 : Nat) "StoneSheets$FaintRubbing") ∈ lw_all := lw_g (lw_at lw_m4 220 rfl) rfl
theorem q1021 : (Jvm.Cond.methodLink "StoneSheets$FaintRubbing" (31 : Nat) ({ cls := "StoneSheets$FaintRubbing", name := "<init>", desc := "()V" } : Jvm.MethodName)) ∈ lw_all := lw_g (lw_at lw_m4 221 rfl) rfl
theorem q1178 : (Jvm.Cond.selects "StoneSheets$FaintRubbing" ({ cls := "StoneSheets$Rubbing", name := "copy", desc := "()LStoneSheets$Rubbing;" } : Jvm.MethodName) ({ cls := "StoneSheets$Rubbing", name := "copy", desc := "()LStoneSheets$Rubbing;" } : Jvm.MethodName)) ∈ lw_all := lw_g (lw_at lw_m5 138 rfl) rfl
theorem q1215 : (Jvm.Cond.castable "StoneSheets$FaintRubbing" "StoneSheets$Trusted") ∈ lw_tbl := lw_at lw_m5 175 rfl
theorem q1216 : (Jvm.Cond.selects "StoneSheets$FaintRubbing" ({ cls := "StoneSheets$Trusted", name := "worth", desc := "()I" } : Jvm.MethodName) ({ cls := "StoneSheets$FaintRubbing", name := "worth", desc := "()I" } : Jvm.MethodName)) ∈ lw_all := lw_g (lw_at lw_m5 176 rfl) rfl
theorem q1217 : (Jvm.Cond.unhidden "StoneSheets$FaintRubbing" "worth" "()I") ∈ lw_tbl := lw_at lw_m5 177 rfl
theorem q1218 : (Jvm.Cond.publicMethod ({ cls := "StoneSheets$FaintRubbing", name := "worth", desc := "()I" } : Jvm.MethodName)) ∈ lw_tbl := lw_at lw_m5 178 rfl
theorem q1789 : (Jvm.Cond.sameMethod "StoneSheets$FaintRubbing" "StoneSheets$FaintRubbing" "kind" "()I") ∈ lw_all := lw_g (lw_at lw_m8 29 rfl) rfl
theorem q1791 : (Jvm.Cond.sameMethod "StoneSheets$FaintRubbing" "StoneSheets$FaintRubbing" "gains" "(I)I") ∈ lw_all := lw_g (lw_at lw_m8 31 rfl) rfl
theorem q1793 : (Jvm.Cond.sameMethod "StoneSheets$FaintRubbing" "StoneSheets$FaintRubbing" "worth" "()I") ∈ lw_all := lw_g (lw_at lw_m8 33 rfl) rfl
theorem q1795 : (Jvm.Cond.sameMethod "StoneSheets$FaintRubbing" "StoneSheets$FaintRubbing" "says" "(II)I") ∈ lw_all := lw_g (lw_at lw_m8 35 rfl) rfl
theorem q1801 : (Jvm.Cond.castable "StoneSheets$FaintRubbing" "StoneSheets$Rubbing") ∈ lw_tbl := lw_at lw_m8 41 rfl
theorem in_X8 : ∀ w ∈ wsX80, w ∈ lw_all := lw_in wsX80 [574, 575, 576, 577, 578] (by decide +kernel) (by decide +kernel)

/-! StoneSheets$TwiceRubbing -/
set_option maxRecDepth 100000
def RX9 : String := "StoneSheets$TwiceRubbing"
def TX9 : u_T := fun k => match k with
  | 0 => ("StoneSheets$Rubbing", "raw", "I", false)
  | 1 => ("StoneSheets$Rubbing", "size", "I", false)
  | 2 => ("StoneSheets$Rubbing", "isTurned", "Z", false)
  | 3 => ("StoneSheets$Rubbing", "laid", "I", false)
  | _ => ("StoneSheets$Rubbing", "trust", "I", false)
def tyX9 : Nat → FieldType := fun k => match k with
  | 0 => .int
  | 1 => .int
  | 2 => .boolean
  | 3 => .int
  | _ => .int
abbrev wsX90 : List Cond := u_ws RX9 TX9 5
theorem nmX9 : ∀ a, a < 5 → ∀ b, b < 5 → a ≠ b → (TX9 a).2.1 ≠ (TX9 b).2.1 := by decide +kernel
theorem tyX9_ok : ∀ k, k < 5 → parseFieldDescriptor (TX9 k).2.2.1 = some (tyX9 k) := by decide +kernel
abbrev cX9_init : ByteArray := prog_15_method_1_code
def yX9_init : MethodName := ⟨RX9, "<init>", "()V"⟩
theorem dX9_init_0 : decode cX9_init 0 = .ok (.aload_n 0, 1) := by decide +kernel
theorem dX9_init_1 : decode cX9_init 1 = .ok (.invokespecial 1, 3) := by decide +kernel
theorem dX9_init_4 : decode cX9_init 4 = .ok (.return_, 1) := by decide +kernel
abbrev cX9_kind : ByteArray := prog_15_method_2_code
def yX9_kind : MethodName := ⟨RX9, "kind", "()I"⟩
def dkwX9_kind_0 : List UInt8 := [42, 183, 0, 7, 5, 96, 172]
abbrev dktX9_kind_0 : List UInt8 := dkwX9_kind_0 ++ []
theorem dksX9_kind_0 : cX9_kind.data.toList.drop 0 = dktX9_kind_0 := by decide +kernel
theorem dX9_kind_0 : decode cX9_kind 0 = .ok (.aload_n 0, 1) := dk_42 (dk_at dksX9_kind_0 0 rfl rfl)
theorem dX9_kind_1 : decode cX9_kind 1 = .ok (.invokespecial 7, 3) := dk_183 0 7 (dk_at dksX9_kind_0 1 rfl rfl)
theorem dX9_kind_4 : decode cX9_kind 4 = .ok (.iconst 2, 1) := dk_5 (dk_at dksX9_kind_0 4 rfl rfl)
theorem dX9_kind_5 : decode cX9_kind 5 = .ok (.iadd, 1) := dk_96 (dk_at dksX9_kind_0 5 rfl rfl)
theorem dX9_kind_6 : decode cX9_kind 6 = .ok (.ireturn, 1) := dk_172 (dk_at dksX9_kind_0 6 rfl rfl)
abbrev cX9_loses : ByteArray := prog_15_method_4_code
def yX9_loses : MethodName := ⟨RX9, "loses", "()I"⟩
def dkwX9_loses_0 : List UInt8 := [5, 42, 183, 0, 21, 104, 172]
abbrev dktX9_loses_0 : List UInt8 := dkwX9_loses_0 ++ []
theorem dksX9_loses_0 : cX9_loses.data.toList.drop 0 = dktX9_loses_0 := by decide +kernel
theorem dX9_loses_0 : decode cX9_loses 0 = .ok (.iconst 2, 1) := dk_5 (dk_at dksX9_loses_0 0 rfl rfl)
theorem dX9_loses_1 : decode cX9_loses 1 = .ok (.aload_n 0, 1) := dk_42 (dk_at dksX9_loses_0 1 rfl rfl)
theorem dX9_loses_2 : decode cX9_loses 2 = .ok (.invokespecial 21, 3) := dk_183 0 21 (dk_at dksX9_loses_0 2 rfl rfl)
theorem dX9_loses_5 : decode cX9_loses 5 = .ok (.imul, 1) := dk_104 (dk_at dksX9_loses_0 5 rfl rfl)
theorem dX9_loses_6 : decode cX9_loses 6 = .ok (.ireturn, 1) := dk_172 (dk_at dksX9_loses_0 6 rfl rfl)
abbrev cX9_worth : ByteArray := prog_15_method_5_code
def yX9_worth : MethodName := ⟨RX9, "worth", "()I"⟩
def dkwX9_worth_0 : List UInt8 := [5, 42, 183, 0, 24, 104, 172]
abbrev dktX9_worth_0 : List UInt8 := dkwX9_worth_0 ++ []
theorem dksX9_worth_0 : cX9_worth.data.toList.drop 0 = dktX9_worth_0 := by decide +kernel
theorem dX9_worth_0 : decode cX9_worth 0 = .ok (.iconst 2, 1) := dk_5 (dk_at dksX9_worth_0 0 rfl rfl)
theorem dX9_worth_1 : decode cX9_worth 1 = .ok (.aload_n 0, 1) := dk_42 (dk_at dksX9_worth_0 1 rfl rfl)
theorem dX9_worth_2 : decode cX9_worth 2 = .ok (.invokespecial 24, 3) := dk_183 0 24 (dk_at dksX9_worth_0 2 rfl rfl)
theorem dX9_worth_5 : decode cX9_worth 5 = .ok (.imul, 1) := dk_104 (dk_at dksX9_worth_0 5 rfl rfl)
theorem dX9_worth_6 : decode cX9_worth 6 = .ok (.ireturn, 1) := dk_172 (dk_at dksX9_worth_0 6 rfl rfl)
abbrev cX9_says : ByteArray := prog_15_method_3_code
def yX9_says : MethodName := ⟨RX9, "says", "(II)I"⟩
def dkwX9_says_0 : List UInt8 := [42, 27, 28, 183, 0, 11, 184, 0, 15, 172]
abbrev dktX9_says_0 : List UInt8 := dkwX9_says_0 ++ []
theorem dksX9_says_0 : cX9_says.data.toList.drop 0 = dktX9_says_0 := by decide +kernel
theorem dX9_says_0 : decode cX9_says 0 = .ok (.aload_n 0, 1) := dk_42 (dk_at dksX9_says_0 0 rfl rfl)
theorem dX9_says_1 : decode cX9_says 1 = .ok (.iload_n 1, 1) := dk_27 (dk_at dksX9_says_0 1 rfl rfl)
theorem dX9_says_2 : decode cX9_says 2 = .ok (.iload_n 2, 1) := dk_28 (dk_at dksX9_says_0 2 rfl rfl)
theorem dX9_says_3 : decode cX9_says 3 = .ok (.invokespecial 11, 3) := dk_183 0 11 (dk_at dksX9_says_0 3 rfl rfl)
theorem dX9_says_6 : decode cX9_says 6 = .ok (.invokestatic 15, 3) := dk_184 0 15 (dk_at dksX9_says_0 6 rfl rfl)
theorem dX9_says_9 : decode cX9_says 9 = .ok (.ireturn, 1) := dk_172 (dk_at dksX9_says_0 9 rfl rfl)
abbrev cX9_another : ByteArray := prog_15_method_6_code
def yX9_another : MethodName := ⟨RX9, "another", "()LStoneSheets$Rubbing;"⟩
def dkwX9_another_0 : List UInt8 := [187, 0, 16, 89, 183, 0, 27, 176]
abbrev dktX9_another_0 : List UInt8 := dkwX9_another_0 ++ []
theorem dksX9_another_0 : cX9_another.data.toList.drop 0 = dktX9_another_0 := by decide +kernel
theorem dX9_another_0 : decode cX9_another 0 = .ok (.new 16, 3) := dk_187 0 16 (dk_at dksX9_another_0 0 rfl rfl)
theorem dX9_another_3 : decode cX9_another 3 = .ok (.dup, 1) := dk_89 (dk_at dksX9_another_0 3 rfl rfl)
theorem dX9_another_4 : decode cX9_another 4 = .ok (.invokespecial 27, 3) := dk_183 0 27 (dk_at dksX9_another_0 4 rfl rfl)
theorem dX9_another_7 : decode cX9_another 7 = .ok (.areturn, 1) := dk_176 (dk_at dksX9_another_0 7 rfl rfl)
theorem q93 : (Jvm.Cond.initialized "StoneSheets$TwiceRubbing") ∈ lw_all := lw_g (lw_at lw_m1 13 rfl) rfl
theorem q581 : (Jvm.Cond.instantiable "StoneSheets$TwiceRubbing" (5 : Nat)) ∈ lw_all := lw_g (lw_at lw_m3 21 rfl) rfl
theorem q583 : (Jvm.Cond.instanceMethod ({ cls := "StoneSheets$TwiceRubbing", name := "<init>", desc := "()V" } : Jvm.MethodName)) ∈ lw_all := lw_g (lw_at lw_m3 23 rfl) rfl
theorem q584 : (Jvm.Cond.code ({ cls := "StoneSheets$TwiceRubbing", name := "<init>", desc := "()V" } : Jvm.MethodName) prog_15_method_1_code (1 : Nat) (Option.none : Option Jvm.ClassFile.FieldType)) ∈ lw_all := lw_g (lw_at lw_m3 24 rfl) rfl
theorem q585 : (Jvm.Cond.methodLinkNest "StoneSheets$TwiceRubbing" (1 : Nat) ({ cls := "StoneSheets$BoldRubbing", name := "<init>", desc := "()V" } : Jvm.MethodName) "StoneSheets") ∈ lw_tbl := lw_at lw_m3 25 rfl
theorem q586 : (Jvm.Cond.lays "StoneSheets$TwiceRubbing" "StoneSheets$Rubbing" "raw" "I") ∈ lw_all := lw_g (lw_at lw_m3 26 rfl) rfl
theorem q587 : (Jvm.Cond.lays "StoneSheets$TwiceRubbing" "StoneSheets$Rubbing" "size" "I") ∈ lw_all := lw_g (lw_at lw_m3 27 rfl) rfl
theorem q588 : (Jvm.Cond.lays "StoneSheets$TwiceRubbing" "StoneSheets$Rubbing" "isTurned" "Z") ∈ lw_all := lw_g (lw_at lw_m3 28 rfl) rfl
theorem q589 : (Jvm.Cond.lays "StoneSheets$TwiceRubbing" "StoneSheets$Rubbing" "laid" "I") ∈ lw_all := lw_g (lw_at lw_m3 29 rfl) rfl
theorem q590 : (Jvm.Cond.lays "StoneSheets$TwiceRubbing" "StoneSheets$Rubbing" "trust" "I") ∈ lw_all := lw_g (lw_at lw_m3 30 rfl) rfl
theorem q591 : (Jvm.Cond.superclass "StoneSheets$TwiceRubbing" "StoneSheets$BoldRubbing") ∈ lw_all := lw_g (lw_at lw_m3 31 rfl) rfl
theorem q650 : (Jvm.Cond.selects "StoneSheets$TwiceRubbing" ({ cls := "StoneSheets$Rubbing", name := "kind", desc := "()I" } : Jvm.MethodName) ({ cls := "StoneSheets$TwiceRubbing", name := "kind", desc := "()I" } : Jvm.MethodName)) ∈ lw_all := lw_g (lw_at lw_m3 90 rfl) rfl
theorem q651 : (Jvm.Cond.instanceMethod ({ cls := "StoneSheets$TwiceRubbing", name := "kind", desc := "()I" } : Jvm.MethodName)) ∈ lw_all := lw_g (lw_at lw_m3 91 rfl) rfl
theorem q652 : (Jvm.Cond.code ({ cls := "StoneSheets$TwiceRubbing", name := "kind", desc := "()I" } : Jvm.MethodName) prog_15_method_2_code (1 : Nat) (Option.some Jvm.ClassFile.FieldType.int)) ∈ lw_all := lw_g (lw_at lw_m3 92 rfl) rfl
theorem q653 : (Jvm.Cond.methodLink "StoneSheets$TwiceRubbing" (7 : Nat) ({ cls := "StoneSheets$BoldRubbing", name := "kind", desc := "()I" } : Jvm.MethodName)) ∈ lw_all := lw_g (lw_at lw_m3 93 rfl) rfl
theorem q663 : (Jvm.Cond.selects "StoneSheets$TwiceRubbing" ({ cls := "StoneSheets$Rubbing", name := "covered", desc := "()I" } : Jvm.MethodName) ({ cls := "StoneSheets$Rubbing", name := "covered", desc := "()I" } : Jvm.MethodName)) ∈ lw_all := lw_g (lw_at lw_m3 103 rfl) rfl
theorem q687 : (Jvm.Cond.selects "StoneSheets$TwiceRubbing" ({ cls := "StoneSheets$Trusted", name := "gains", desc := "(I)I" } : Jvm.MethodName) ({ cls := "StoneSheets$BoldRubbing", name := "gains", desc := "(I)I" } : Jvm.MethodName)) ∈ lw_all := lw_g (lw_at lw_m3 127 rfl) rfl
theorem q722 : (Jvm.Cond.selects "StoneSheets$TwiceRubbing" ({ cls := "StoneSheets$Rubbing", name := "loses", desc := "()I" } : Jvm.MethodName) ({ cls := "StoneSheets$TwiceRubbing", name := "loses", desc := "()I" } : Jvm.MethodName)) ∈ lw_all := lw_g (lw_at lw_m3 162 rfl) rfl
theorem q723 : (Jvm.Cond.instanceMethod ({ cls := "StoneSheets$TwiceRubbing", name := "loses", desc := "()I" } : Jvm.MethodName)) ∈ lw_all := lw_g (lw_at lw_m3 163 rfl) rfl
theorem q724 : (Jvm.Cond.code ({ cls := "StoneSheets$TwiceRubbing", name := "loses", desc := "()I" } : Jvm.MethodName) prog_15_method_4_code (1 : Nat) (Option.some Jvm.ClassFile.FieldType.int)) ∈ lw_all := lw_g (lw_at lw_m3 164 rfl) rfl
theorem q725 : (Jvm.Cond.methodLink "StoneSheets$TwiceRubbing" (21 : Nat) ({ cls := "StoneSheets$BoldRubbing", name := "loses", desc := "()I" } : Jvm.MethodName)) ∈ lw_all := lw_g (lw_at lw_m3 165 rfl) rfl
theorem q746 : (Jvm.Cond.selects "StoneSheets$TwiceRubbing" ({ cls := "StoneSheets$Rubbing", name := "worth", desc := "()I" } : Jvm.MethodName) ({ cls := "StoneSheets$TwiceRubbing", name := "worth", desc := "()I" } : Jvm.MethodName)) ∈ lw_all := lw_g (lw_at lw_m3 186 rfl) rfl
theorem q747 : (Jvm.Cond.instanceMethod ({ cls := "StoneSheets$TwiceRubbing", name := "worth", desc := "()I" } : Jvm.MethodName)) ∈ lw_all := lw_g (lw_at lw_m3 187 rfl) rfl
theorem q748 : (Jvm.Cond.code ({ cls := "StoneSheets$TwiceRubbing", name := "worth", desc := "()I" } : Jvm.MethodName) prog_15_method_5_code (1 : Nat) (Option.some Jvm.ClassFile.FieldType.int)) ∈ lw_all := lw_g (lw_at lw_m3 188 rfl) rfl
theorem q749 : (Jvm.Cond.methodLink "StoneSheets$TwiceRubbing" (24 : Nat) ({ cls := "StoneSheets$BoldRubbing", name := "worth", desc := "()I" } : Jvm.MethodName)) ∈ lw_all := lw_g (lw_at lw_m3 189 rfl) rfl
theorem q763 : (Jvm.Cond.selects "StoneSheets$TwiceRubbing" ({ cls := "StoneSheets$Rubbing", name := "saysAt", desc := "(I)I" } : Jvm.MethodName) ({ cls := "StoneSheets$Rubbing", name := "saysAt", desc := "(I)I" } : Jvm.MethodName)) ∈ lw_all := lw_g (lw_at lw_m3 203 rfl) rfl
theorem q787 : (Jvm.Cond.selects "StoneSheets$TwiceRubbing" ({ cls := "StoneSheets$Says", name := "says", desc := "(II)I" } : Jvm.MethodName) ({ cls := "StoneSheets$TwiceRubbing", name := "says", desc := "(II)I" } : Jvm.MethodName)) ∈ lw_all := lw_g (lw_at lw_m3 227 rfl) rfl
theorem q788 : (Jvm.Cond.instanceMethod ({ cls := "StoneSheets$TwiceRubbing", name := "says", desc := "(II)I" } : Jvm.MethodName)) ∈ lw_all := lw_g (lw_at lw_m3 228 rfl) rfl
theorem q789 : (Jvm.Cond.code ({ cls := "StoneSheets$TwiceRubbing", name := "says", desc := "(II)I" } : Jvm.MethodName) prog_15_method_3_code (3 : Nat) (Option.some Jvm.ClassFile.FieldType.int)) ∈ lw_all := lw_g (lw_at lw_m3 229 rfl) rfl
theorem q790 : (Jvm.Cond.methodLink "StoneSheets$TwiceRubbing" (11 : Nat) ({ cls := "StoneSheets$BoldRubbing", name := "says", desc := "(II)I" } : Jvm.MethodName)) ∈ lw_all := lw_g (lw_at lw_m3 230 rfl) rfl
theorem q791 : (Jvm.Cond.methodLink "StoneSheets$TwiceRubbing" (15 : Nat) ({ cls := "StoneSheets$TwiceRubbing", name := "bolder", desc := "(I)I" } : Jvm.MethodName)) ∈ lw_all := lw_g (lw_at lw_m3 231 rfl) rfl
theorem q792 : (Jvm.Cond.sameMethod "StoneSheets$TwiceRubbing" "StoneSheets$BoldRubbing" "bolder" "(I)I") ∈ lw_all := lw_g (lw_at lw_m3 232 rfl) rfl
theorem q841 : (Jvm.Cond.selects "StoneSheets$TwiceRubbing" ({ cls := "StoneSheets$Rubbing", name := "takes", desc := "(LStoneSheets$Rubbing;)V" } : Jvm.MethodName) ({ cls := "StoneSheets$Rubbing", name := "takes", desc := "(LStoneSheets$Rubbing;)V" } : Jvm.MethodName)) ∈ lw_all := lw_g (lw_at lw_m4 41 rfl) rfl
theorem q965 : (Jvm.Cond.selects "StoneSheets$TwiceRubbing" ({ cls := "StoneSheets$Rubbing", name := "covers", desc := "(I)Z" } : Jvm.MethodName) ({ cls := "StoneSheets$Rubbing", name := "covers", desc := "(I)Z" } : Jvm.MethodName)) ∈ lw_all := lw_g (lw_at lw_m4 165 rfl) rfl
theorem q1027 : (Jvm.Cond.selects "StoneSheets$TwiceRubbing" ({ cls := "StoneSheets$Rubbing", name := "another", desc := "()LStoneSheets$Rubbing;" } : Jvm.MethodName) ({ cls := "StoneSheets$TwiceRubbing", name := "another", desc := "()LStoneSheets$Rubbing;" } : Jvm.MethodName)) ∈ lw_all := lw_g (lw_at lw_m4 227 rfl) rfl
theorem q1028 : (Jvm.Cond.instanceMethod ({ cls := "StoneSheets$TwiceRubbing", name := "another", desc := "()LStoneSheets$Rubbing;" } : Jvm.MethodName)) ∈ lw_all := lw_g (lw_at lw_m4 228 rfl) rfl
theorem q1029 : (Jvm.Cond.code ({ cls := "StoneSheets$TwiceRubbing", name := "another", desc := "()LStoneSheets$Rubbing;" } : Jvm.MethodName) prog_15_method_6_code (1 : Nat) (Option.some (Jvm.ClassFile.FieldType.object "StoneSheets$Rubbing"))) ∈ lw_all := lw_g (lw_at lw_m4 229 rfl) rfl
theorem q1030 : (Jvm.Cond.classLink "StoneSheets$TwiceRubbing" (16 : Nat) "StoneSheets$TwiceRubbing") ∈ lw_all := lw_g (lw_at lw_m4 230 rfl) rfl
theorem q1031 : (Jvm.Cond.methodLink "StoneSheets$TwiceRubbing" (27 : Nat) ({ cls := "StoneSheets$TwiceRubbing", name := "<init>", desc := "()V" } : Jvm.MethodName)) ∈ lw_all := lw_g (lw_at lw_m4 231 rfl) rfl
theorem q1180 : (Jvm.Cond.selects "StoneSheets$TwiceRubbing" ({ cls := "StoneSheets$Rubbing", name := "copy", desc := "()LStoneSheets$Rubbing;" } : Jvm.MethodName) ({ cls := "StoneSheets$Rubbing", name := "copy", desc := "()LStoneSheets$Rubbing;" } : Jvm.MethodName)) ∈ lw_all := lw_g (lw_at lw_m5 140 rfl) rfl
theorem q1227 : (Jvm.Cond.castable "StoneSheets$TwiceRubbing" "StoneSheets$Trusted") ∈ lw_tbl := lw_at lw_m5 187 rfl
theorem q1228 : (Jvm.Cond.selects "StoneSheets$TwiceRubbing" ({ cls := "StoneSheets$Trusted", name := "worth", desc := "()I" } : Jvm.MethodName) ({ cls := "StoneSheets$TwiceRubbing", name := "worth", desc := "()I" } : Jvm.MethodName)) ∈ lw_all := lw_g (lw_at lw_m5 188 rfl) rfl
theorem q1229 : (Jvm.Cond.unhidden "StoneSheets$TwiceRubbing" "worth" "()I") ∈ lw_tbl := lw_at lw_m5 189 rfl
theorem q1230 : (Jvm.Cond.publicMethod ({ cls := "StoneSheets$TwiceRubbing", name := "worth", desc := "()I" } : Jvm.MethodName)) ∈ lw_tbl := lw_at lw_m5 190 rfl
theorem q1797 : (Jvm.Cond.castable "StoneSheets$TwiceRubbing" "StoneSheets$BoldRubbing") ∈ lw_tbl := lw_at lw_m8 37 rfl
theorem q1803 : (Jvm.Cond.castable "StoneSheets$TwiceRubbing" "StoneSheets$Rubbing") ∈ lw_tbl := lw_at lw_m8 43 rfl
theorem in_X9 : ∀ w ∈ wsX90, w ∈ lw_all := lw_in wsX90 [586, 587, 588, 589, 590] (by decide +kernel) (by decide +kernel)

/-! StoneSheets$CrackedRubbing -/
set_option maxRecDepth 100000
def RX10 : String := "StoneSheets$CrackedRubbing"
def TX10 : u_T := fun k => match k with
  | 0 => ("StoneSheets$Rubbing", "raw", "I", false)
  | 1 => ("StoneSheets$Rubbing", "size", "I", false)
  | 2 => ("StoneSheets$Rubbing", "isTurned", "Z", false)
  | 3 => ("StoneSheets$Rubbing", "laid", "I", false)
  | _ => ("StoneSheets$Rubbing", "trust", "I", false)
def tyX10 : Nat → FieldType := fun k => match k with
  | 0 => .int
  | 1 => .int
  | 2 => .boolean
  | 3 => .int
  | _ => .int
abbrev wsX100 : List Cond := u_ws RX10 TX10 5
theorem nmX10 : ∀ a, a < 5 → ∀ b, b < 5 → a ≠ b → (TX10 a).2.1 ≠ (TX10 b).2.1 := by decide +kernel
theorem tyX10_ok : ∀ k, k < 5 → parseFieldDescriptor (TX10 k).2.2.1 = some (tyX10 k) := by decide +kernel
abbrev cX10_init : ByteArray := prog_3_method_1_code
def yX10_init : MethodName := ⟨RX10, "<init>", "()V"⟩
theorem dX10_init_0 : decode cX10_init 0 = .ok (.aload_n 0, 1) := by decide +kernel
theorem dX10_init_1 : decode cX10_init 1 = .ok (.invokespecial 3, 3) := by decide +kernel
theorem dX10_init_4 : decode cX10_init 4 = .ok (.return_, 1) := by decide +kernel
abbrev cX10_kind : ByteArray := prog_3_method_2_code
def yX10_kind : MethodName := ⟨RX10, "kind", "()I"⟩
def dkwX10_kind_0 : List UInt8 := [42, 183, 0, 9, 5, 96, 172]
abbrev dktX10_kind_0 : List UInt8 := dkwX10_kind_0 ++ []
theorem dksX10_kind_0 : cX10_kind.data.toList.drop 0 = dktX10_kind_0 := by decide +kernel
theorem dX10_kind_0 : decode cX10_kind 0 = .ok (.aload_n 0, 1) := dk_42 (dk_at dksX10_kind_0 0 rfl rfl)
theorem dX10_kind_1 : decode cX10_kind 1 = .ok (.invokespecial 9, 3) := dk_183 0 9 (dk_at dksX10_kind_0 1 rfl rfl)
theorem dX10_kind_4 : decode cX10_kind 4 = .ok (.iconst 2, 1) := dk_5 (dk_at dksX10_kind_0 4 rfl rfl)
theorem dX10_kind_5 : decode cX10_kind 5 = .ok (.iadd, 1) := dk_96 (dk_at dksX10_kind_0 5 rfl rfl)
theorem dX10_kind_6 : decode cX10_kind 6 = .ok (.ireturn, 1) := dk_172 (dk_at dksX10_kind_0 6 rfl rfl)
abbrev cX10_gains : ByteArray := prog_3_method_4_code
def yX10_gains : MethodName := ⟨RX10, "gains", "(I)I"⟩
def dkwX10_gains_0 : List UInt8 := [42, 27, 183, 0, 23, 5, 96, 172]
abbrev dktX10_gains_0 : List UInt8 := dkwX10_gains_0 ++ []
theorem dksX10_gains_0 : cX10_gains.data.toList.drop 0 = dktX10_gains_0 := by decide +kernel
theorem dX10_gains_0 : decode cX10_gains 0 = .ok (.aload_n 0, 1) := dk_42 (dk_at dksX10_gains_0 0 rfl rfl)
theorem dX10_gains_1 : decode cX10_gains 1 = .ok (.iload_n 1, 1) := dk_27 (dk_at dksX10_gains_0 1 rfl rfl)
theorem dX10_gains_2 : decode cX10_gains 2 = .ok (.invokespecial 23, 3) := dk_183 0 23 (dk_at dksX10_gains_0 2 rfl rfl)
theorem dX10_gains_5 : decode cX10_gains 5 = .ok (.iconst 2, 1) := dk_5 (dk_at dksX10_gains_0 5 rfl rfl)
theorem dX10_gains_6 : decode cX10_gains 6 = .ok (.iadd, 1) := dk_96 (dk_at dksX10_gains_0 6 rfl rfl)
theorem dX10_gains_7 : decode cX10_gains 7 = .ok (.ireturn, 1) := dk_172 (dk_at dksX10_gains_0 7 rfl rfl)
abbrev cX10_worth : ByteArray := prog_3_method_5_code
def yX10_worth : MethodName := ⟨RX10, "worth", "()I"⟩
def dkwX10_worth_0 : List UInt8 := [42, 183, 0, 27, 16, 6, 100, 172]
abbrev dktX10_worth_0 : List UInt8 := dkwX10_worth_0 ++ []
theorem dksX10_worth_0 : cX10_worth.data.toList.drop 0 = dktX10_worth_0 := by decide +kernel
theorem dX10_worth_0 : decode cX10_worth 0 = .ok (.aload_n 0, 1) := dk_42 (dk_at dksX10_worth_0 0 rfl rfl)
theorem dX10_worth_1 : decode cX10_worth 1 = .ok (.invokespecial 27, 3) := dk_183 0 27 (dk_at dksX10_worth_0 1 rfl rfl)
theorem dX10_worth_4 : decode cX10_worth 4 = .ok (.bipush 6, 2) := dk_16 6 (dk_at dksX10_worth_0 4 rfl rfl)
theorem dX10_worth_6 : decode cX10_worth 6 = .ok (.isub, 1) := dk_100 (dk_at dksX10_worth_0 6 rfl rfl)
theorem dX10_worth_7 : decode cX10_worth 7 = .ok (.ireturn, 1) := dk_172 (dk_at dksX10_worth_0 7 rfl rfl)
abbrev cX10_says : ByteArray := prog_3_method_3_code
def yX10_says : MethodName := ⟨RX10, "says", "(II)I"⟩
def dkwX10_says_0 : List UInt8 := [28, 42, 180, 0, 13, 5, 108, 160, 0, 7, 6, 167, 0, 9, 42, 27, 28, 183, 0, 19, 172]
abbrev dktX10_says_0 : List UInt8 := dkwX10_says_0 ++ []
theorem dksX10_says_0 : cX10_says.data.toList.drop 0 = dktX10_says_0 := by decide +kernel
theorem dX10_says_0 : decode cX10_says 0 = .ok (.iload_n 2, 1) := dk_28 (dk_at dksX10_says_0 0 rfl rfl)
theorem dX10_says_1 : decode cX10_says 1 = .ok (.aload_n 0, 1) := dk_42 (dk_at dksX10_says_0 1 rfl rfl)
theorem dX10_says_2 : decode cX10_says 2 = .ok (.getfield 13, 3) := dk_180 0 13 (dk_at dksX10_says_0 2 rfl rfl)
theorem dX10_says_5 : decode cX10_says 5 = .ok (.iconst 2, 1) := dk_5 (dk_at dksX10_says_0 5 rfl rfl)
theorem dX10_says_6 : decode cX10_says 6 = .ok (.idiv, 1) := dk_108 (dk_at dksX10_says_0 6 rfl rfl)
theorem dX10_says_7 : decode cX10_says 7 = .ok (.if_icmp .ne 7, 3) := dk_160 0 7 (dk_at dksX10_says_0 7 rfl rfl)
theorem dX10_says_10 : decode cX10_says 10 = .ok (.iconst 3, 1) := dk_6 (dk_at dksX10_says_0 10 rfl rfl)
theorem dX10_says_11 : decode cX10_says 11 = .ok (.goto 9, 3) := dk_167 0 9 (dk_at dksX10_says_0 11 rfl rfl)
theorem dX10_says_14 : decode cX10_says 14 = .ok (.aload_n 0, 1) := dk_42 (dk_at dksX10_says_0 14 rfl rfl)
theorem dX10_says_15 : decode cX10_says 15 = .ok (.iload_n 1, 1) := dk_27 (dk_at dksX10_says_0 15 rfl rfl)
theorem dX10_says_16 : decode cX10_says 16 = .ok (.iload_n 2, 1) := dk_28 (dk_at dksX10_says_0 16 rfl rfl)
theorem dX10_says_17 : decode cX10_says 17 = .ok (.invokespecial 19, 3) := dk_183 0 19 (dk_at dksX10_says_0 17 rfl rfl)
theorem dX10_says_20 : decode cX10_says 20 = .ok (.ireturn, 1) := dk_172 (dk_at dksX10_says_0 20 rfl rfl)
abbrev cX10_another : ByteArray := prog_3_method_6_code
def yX10_another : MethodName := ⟨RX10, "another", "()LStoneSheets$Rubbing;"⟩
def dkwX10_another_0 : List UInt8 := [187, 0, 14, 89, 183, 0, 30, 176]
abbrev dktX10_another_0 : List UInt8 := dkwX10_another_0 ++ []
theorem dksX10_another_0 : cX10_another.data.toList.drop 0 = dktX10_another_0 := by decide +kernel
theorem dX10_another_0 : decode cX10_another 0 = .ok (.new 14, 3) := dk_187 0 14 (dk_at dksX10_another_0 0 rfl rfl)
theorem dX10_another_3 : decode cX10_another 3 = .ok (.dup, 1) := dk_89 (dk_at dksX10_another_0 3 rfl rfl)
theorem dX10_another_4 : decode cX10_another 4 = .ok (.invokespecial 30, 3) := dk_183 0 30 (dk_at dksX10_another_0 4 rfl rfl)
theorem dX10_another_7 : decode cX10_another 7 = .ok (.areturn, 1) := dk_176 (dk_at dksX10_another_0 7 rfl rfl)
theorem q94 : (Jvm.Cond.initialized "StoneSheets$CrackedRubbing") ∈ lw_all := lw_g (lw_at lw_m1 14 rfl) rfl
theorem q545 : (Jvm.Cond.fieldLink "StoneSheets$CrackedRubbing" (13 : Nat) "StoneSheets$CrackedRubbing" "size" "I") ∈ lw_all := lw_g (lw_at lw_m2 225 rfl) rfl
theorem q546 : (Jvm.Cond.sameField "StoneSheets$CrackedRubbing" "StoneSheets$Rubbing" "size" "I") ∈ lw_all := lw_g (lw_at lw_m2 226 rfl) rfl
theorem q593 : (Jvm.Cond.instantiable "StoneSheets$CrackedRubbing" (5 : Nat)) ∈ lw_all := lw_g (lw_at lw_m3 33 rfl) rfl
theorem q595 : (Jvm.Cond.instanceMethod ({ cls := "StoneSheets$CrackedRubbing", name := "<init>", desc := "()V" } : Jvm.MethodName)) ∈ lw_all := lw_g (lw_at lw_m3 35 rfl) rfl
theorem q596 : (Jvm.Cond.code ({ cls := "StoneSheets$CrackedRubbing", name := "<init>", desc := "()V" } : Jvm.MethodName) prog_3_method_1_code (1 : Nat) (Option.none : Option Jvm.ClassFile.FieldType)) ∈ lw_all := lw_g (lw_at lw_m3 36 rfl) rfl
theorem q597 : (Jvm.Cond.methodLinkNest "StoneSheets$CrackedRubbing" (3 : Nat) ({ cls := "StoneSheets$FaintRubbing", name := "<init>", desc := "()V" } : Jvm.MethodName) "StoneSheets") ∈ lw_tbl := lw_at lw_m3 37 rfl
theorem q598 : (Jvm.Cond.lays "StoneSheets$CrackedRubbing" "StoneSheets$Rubbing" "raw" "I") ∈ lw_all := lw_g (lw_at lw_m3 38 rfl) rfl
theorem q599 : (Jvm.Cond.lays "StoneSheets$CrackedRubbing" "StoneSheets$Rubbing" "size" "I") ∈ lw_all := lw_g (lw_at lw_m3 39 rfl) rfl
theorem q600 : (Jvm.Cond.lays "StoneSheets$CrackedRubbing" "StoneSheets$Rubbing" "isTurned" "Z") ∈ lw_all := lw_g (lw_at lw_m3 40 rfl) rfl
theorem q601 : (Jvm.Cond.lays "StoneSheets$CrackedRubbing" "StoneSheets$Rubbing" "laid" "I") ∈ lw_all := lw_g (lw_at lw_m3 41 rfl) rfl
theorem q602 : (Jvm.Cond.lays "StoneSheets$CrackedRubbing" "StoneSheets$Rubbing" "trust" "I") ∈ lw_all := lw_g (lw_at lw_m3 42 rfl) rfl
theorem q603 : (Jvm.Cond.superclass "StoneSheets$CrackedRubbing" "StoneSheets$FaintRubbing") ∈ lw_all := lw_g (lw_at lw_m3 43 rfl) rfl
theorem q640 : (Jvm.Cond.selects "StoneSheets$CrackedRubbing" ({ cls := "StoneSheets$Rubbing", name := "kind", desc := "()I" } : Jvm.MethodName) ({ cls := "StoneSheets$CrackedRubbing", name := "kind", desc := "()I" } : Jvm.MethodName)) ∈ lw_all := lw_g (lw_at lw_m3 80 rfl) rfl
theorem q641 : (Jvm.Cond.instanceMethod ({ cls := "StoneSheets$CrackedRubbing", name := "kind", desc := "()I" } : Jvm.MethodName)) ∈ lw_all := lw_g (lw_at lw_m3 81 rfl) rfl
theorem q642 : (Jvm.Cond.code ({ cls := "StoneSheets$CrackedRubbing", name := "kind", desc := "()I" } : Jvm.MethodName) prog_3_method_2_code (1 : Nat) (Option.some Jvm.ClassFile.FieldType.int)) ∈ lw_all := lw_g (lw_at lw_m3 82 rfl) rfl
theorem q643 : (Jvm.Cond.methodLink "StoneSheets$CrackedRubbing" (9 : Nat) ({ cls := "StoneSheets$FaintRubbing", name := "kind", desc := "()I" } : Jvm.MethodName)) ∈ lw_all := lw_g (lw_at lw_m3 83 rfl) rfl
theorem q660 : (Jvm.Cond.selects "StoneSheets$CrackedRubbing" ({ cls := "StoneSheets$Rubbing", name := "covered", desc := "()I" } : Jvm.MethodName) ({ cls := "StoneSheets$Rubbing", name := "covered", desc := "()I" } : Jvm.MethodName)) ∈ lw_all := lw_g (lw_at lw_m3 100 rfl) rfl
theorem q676 : (Jvm.Cond.selects "StoneSheets$CrackedRubbing" ({ cls := "StoneSheets$Trusted", name := "gains", desc := "(I)I" } : Jvm.MethodName) ({ cls := "StoneSheets$CrackedRubbing", name := "gains", desc := "(I)I" } : Jvm.MethodName)) ∈ lw_all := lw_g (lw_at lw_m3 116 rfl) rfl
theorem q677 : (Jvm.Cond.instanceMethod ({ cls := "StoneSheets$CrackedRubbing", name := "gains", desc := "(I)I" } : Jvm.MethodName)) ∈ lw_all := lw_g (lw_at lw_m3 117 rfl) rfl
theorem q678 : (Jvm.Cond.code ({ cls := "StoneSheets$CrackedRubbing", name := "gains", desc := "(I)I" } : Jvm.MethodName) prog_3_method_4_code (2 : Nat) (Option.some Jvm.ClassFile.FieldType.int)) ∈ lw_all := lw_g (lw_at lw_m3 118 rfl) rfl
theorem q679 : (Jvm.Cond.methodLink "StoneSheets$CrackedRubbing" (23 : Nat) ({ cls := "StoneSheets$FaintRubbing", name := "gains", desc := "(I)I" } : Jvm.MethodName)) ∈ lw_all := lw_g (lw_at lw_m3 119 rfl) rfl
theorem q713 : (Jvm.Cond.selects "StoneSheets$CrackedRubbing" ({ cls := "StoneSheets$Rubbing", name := "loses", desc := "()I" } : Jvm.MethodName) ({ cls := "StoneSheets$FaintRubbing", name := "loses", desc := "()I" } : Jvm.MethodName)) ∈ lw_all := lw_g (lw_at lw_m3 153 rfl) rfl
theorem q735 : (Jvm.Cond.selects "StoneSheets$CrackedRubbing" ({ cls := "StoneSheets$Rubbing", name := "worth", desc := "()I" } : Jvm.MethodName) ({ cls := "StoneSheets$CrackedRubbing", name := "worth", desc := "()I" } : Jvm.MethodName)) ∈ lw_all := lw_g (lw_at lw_m3 175 rfl) rfl
theorem q736 : (Jvm.Cond.instanceMethod ({ cls := "StoneSheets$CrackedRubbing", name := "worth", desc := "()I" } : Jvm.MethodName)) ∈ lw_all := lw_g (lw_at lw_m3 176 rfl) rfl
theorem q737 : (Jvm.Cond.code ({ cls := "StoneSheets$CrackedRubbing", name := "worth", desc := "()I" } : Jvm.MethodName) prog_3_method_5_code (1 : Nat) (Option.some Jvm.ClassFile.FieldType.int)) ∈ lw_all := lw_g (lw_at lw_m3 177 rfl) rfl
theorem q738 : (Jvm.Cond.methodLink "StoneSheets$CrackedRubbing" (27 : Nat) ({ cls := "StoneSheets$FaintRubbing", name := "worth", desc := "()I" } : Jvm.MethodName)) ∈ lw_all := lw_g (lw_at lw_m3 178 rfl) rfl
theorem q760 : (Jvm.Cond.selects "StoneSheets$CrackedRubbing" ({ cls := "StoneSheets$Rubbing", name := "saysAt", desc := "(I)I" } : Jvm.MethodName) ({ cls := "StoneSheets$Rubbing", name := "saysAt", desc := "(I)I" } : Jvm.MethodName)) ∈ lw_all := lw_g (lw_at lw_m3 200 rfl) rfl
theorem q775 : (Jvm.Cond.selects "StoneSheets$CrackedRubbing" ({ cls := "StoneSheets$Says", name := "says", desc := "(II)I" } : Jvm.MethodName) ({ cls := "StoneSheets$CrackedRubbing", name := "says", desc := "(II)I" } : Jvm.MethodName)) ∈ lw_all := lw_g (lw_at lw_m3 215 rfl) rfl
theorem q776 : (Jvm.Cond.instanceMethod ({ cls := "StoneSheets$CrackedRubbing", name := "says", desc := "(II)I" } : Jvm.MethodName)) ∈ lw_all := lw_g (lw_at lw_m3 216 rfl) rfl
theorem q777 : (Jvm.Cond.code ({ cls := "StoneSheets$CrackedRubbing", name := "says", desc := "(II)I" } : Jvm.MethodName) prog_3_method_3_code (3 : Nat) (Option.some Jvm.ClassFile.FieldType.int)) ∈ lw_all := lw_g (lw_at lw_m3 217 rfl) rfl
theorem q778 : (Jvm.Cond.methodLink "StoneSheets$CrackedRubbing" (19 : Nat) ({ cls := "StoneSheets$FaintRubbing", name := "says", desc := "(II)I" } : Jvm.MethodName)) ∈ lw_all := lw_g (lw_at lw_m3 218 rfl) rfl
theorem q838 : (Jvm.Cond.selects "StoneSheets$CrackedRubbing" ({ cls := "StoneSheets$Rubbing", name := "takes", desc := "(LStoneSheets$Rubbing;)V" } : Jvm.MethodName) ({ cls := "StoneSheets$Rubbing", name := "takes", desc := "(LStoneSheets$Rubbing;)V" } : Jvm.MethodName)) ∈ lw_all := lw_g (lw_at lw_m4 38 rfl) rfl
theorem q962 : (Jvm.Cond.selects "StoneSheets$CrackedRubbing" ({ cls := "StoneSheets$Rubbing", name := "covers", desc := "(I)Z" } : Jvm.MethodName) ({ cls := "StoneSheets$Rubbing", name := "covers", desc := "(I)Z" } : Jvm.MethodName)) ∈ lw_all := lw_g (lw_at lw_m4 162 rfl) rfl
theorem q1012 : (Jvm.Cond.selects "StoneSheets$CrackedRubbing" ({ cls := "StoneSheets$Rubbing", name := "another", desc := "()LStoneSheets$Rubbing;" } : Jvm.MethodName) ({ cls := "StoneSheets$CrackedRubbing", name := "another", desc := "()LStoneSheets$Rubbing;" } : Jvm.MethodName)) ∈ lw_all := lw_g (lw_at lw_m4 212 rfl) rfl
theorem q1013 : (Jvm.Cond.instanceMethod ({ cls := "StoneSheets$CrackedRubbing", name := "another", desc := "()LStoneSheets$Rubbing;" } : Jvm.MethodName)) ∈ lw_all := lw_g (lw_at lw_m4 213 rfl) rfl
theorem q1014 : (Jvm.Cond.code ({ cls := "StoneSheets$CrackedRubbing", name := "another", desc := "()LStoneSheets$Rubbing;" } : Jvm.MethodName) prog_3_method_6_code (1 : Nat) (Option.some (Jvm.ClassFile.FieldType.object "StoneSheets$Rubbing"))) ∈ lw_all := lw_g (lw_at lw_m4 214 rfl) rfl
theorem q1015 : (Jvm.Cond.classLink "StoneSheets$CrackedRubbing" (14 : Nat) "StoneSheets$CrackedRubbing") ∈ lw_all := lw_g (lw_at lw_m4 215 rfl) rfl
theorem q1016 : (Jvm.Cond.methodLink "StoneSheets$CrackedRubbing" (30 : Nat) ({ cls := "StoneSheets$CrackedRubbing", name := "<init>", desc := "()V" } : Jvm.MethodName)) ∈ lw_all := lw_g (lw_at lw_m4 216 rfl) rfl
theorem q1177 : (Jvm.Cond.selects "StoneSheets$CrackedRubbing" ({ cls := "StoneSheets$Rubbing", name := "copy", desc := "()LStoneSheets$Rubbing;" } : Jvm.MethodName) ({ cls := "StoneSheets$Rubbing", name := "copy", desc := "()LStoneSheets$Rubbing;" } : Jvm.MethodName)) ∈ lw_all := lw_g (lw_at lw_m5 137 rfl) rfl
theorem q1211 : (Jvm.Cond.castable "StoneSheets$CrackedRubbing" "StoneSheets$Trusted") ∈ lw_tbl := lw_at lw_m5 171 rfl
theorem q1212 : (Jvm.Cond.selects "StoneSheets$CrackedRubbing" ({ cls := "StoneSheets$Trusted", name := "worth", desc := "()I" } : Jvm.MethodName) ({ cls := "StoneSheets$CrackedRubbing", name := "worth", desc := "()I" } : Jvm.MethodName)) ∈ lw_all := lw_g (lw_at lw_m5 172 rfl) rfl
theorem q1213 : (Jvm.Cond.unhidden "StoneSheets$CrackedRubbing" "worth" "()I") ∈ lw_tbl := lw_at lw_m5 173 rfl
theorem q1214 : (Jvm.Cond.publicMethod ({ cls := "StoneSheets$CrackedRubbing", name := "worth", desc := "()I" } : Jvm.MethodName)) ∈ lw_tbl := lw_at lw_m5 174 rfl
theorem q1798 : (Jvm.Cond.castable "StoneSheets$CrackedRubbing" "StoneSheets$FaintRubbing") ∈ lw_tbl := lw_at lw_m8 38 rfl
theorem q1800 : (Jvm.Cond.castable "StoneSheets$CrackedRubbing" "StoneSheets$Rubbing") ∈ lw_tbl := lw_at lw_m8 40 rfl
theorem in_X10 : ∀ w ∈ wsX100, w ∈ lw_all := lw_in wsX100 [598, 599, 600, 601, 602] (by decide +kernel) (by decide +kernel)

/-! StoneSheets$MadeRubbing -/
set_option maxRecDepth 100000
def RX11 : String := "StoneSheets$MadeRubbing"
def TX11 : u_T := fun k => match k with
  | 0 => ("StoneSheets$Rubbing", "raw", "I", false)
  | 1 => ("StoneSheets$Rubbing", "size", "I", false)
  | 2 => ("StoneSheets$Rubbing", "isTurned", "Z", false)
  | 3 => ("StoneSheets$Rubbing", "laid", "I", false)
  | _ => ("StoneSheets$Rubbing", "trust", "I", false)
def tyX11 : Nat → FieldType := fun k => match k with
  | 0 => .int
  | 1 => .int
  | 2 => .boolean
  | 3 => .int
  | _ => .int
abbrev wsX110 : List Cond := u_ws RX11 TX11 5
theorem nmX11 : ∀ a, a < 5 → ∀ b, b < 5 → a ≠ b → (TX11 a).2.1 ≠ (TX11 b).2.1 := by decide +kernel
theorem tyX11_ok : ∀ k, k < 5 → parseFieldDescriptor (TX11 k).2.2.1 = some (tyX11 k) := by decide +kernel
abbrev cX11_init : ByteArray := prog_7_method_1_code
def yX11_init : MethodName := ⟨RX11, "<init>", "()V"⟩
theorem dX11_init_0 : decode cX11_init 0 = .ok (.aload_n 0, 1) := by decide +kernel
theorem dX11_init_1 : decode cX11_init 1 = .ok (.invokespecial 3, 3) := by decide +kernel
theorem dX11_init_4 : decode cX11_init 4 = .ok (.return_, 1) := by decide +kernel
abbrev cX11_kind : ByteArray := prog_7_method_2_code
def yX11_kind : MethodName := ⟨RX11, "kind", "()I"⟩
theorem dX11_kind_0 : decode cX11_kind 0 = .ok (.iconst 5, 1) := by decide +kernel
theorem dX11_kind_1 : decode cX11_kind 1 = .ok (.ireturn, 1) := by decide +kernel
abbrev cX11_gains : ByteArray := prog_7_method_4_code
def yX11_gains : MethodName := ⟨RX11, "gains", "(I)I"⟩
theorem dX11_gains_0 : decode cX11_gains 0 = .ok (.iconst 0, 1) := by decide +kernel
theorem dX11_gains_1 : decode cX11_gains 1 = .ok (.ireturn, 1) := by decide +kernel
abbrev cX11_loses : ByteArray := prog_7_method_5_code
def yX11_loses : MethodName := ⟨RX11, "loses", "()I"⟩
def dkwX11_loses_0 : List UInt8 := [7, 42, 183, 0, 9, 104, 172]
abbrev dktX11_loses_0 : List UInt8 := dkwX11_loses_0 ++ []
theorem dksX11_loses_0 : cX11_loses.data.toList.drop 0 = dktX11_loses_0 := by decide +kernel
theorem dX11_loses_0 : decode cX11_loses 0 = .ok (.iconst 4, 1) := dk_7 (dk_at dksX11_loses_0 0 rfl rfl)
theorem dX11_loses_1 : decode cX11_loses 1 = .ok (.aload_n 0, 1) := dk_42 (dk_at dksX11_loses_0 1 rfl rfl)
theorem dX11_loses_2 : decode cX11_loses 2 = .ok (.invokespecial 9, 3) := dk_183 0 9 (dk_at dksX11_loses_0 2 rfl rfl)
theorem dX11_loses_5 : decode cX11_loses 5 = .ok (.imul, 1) := dk_104 (dk_at dksX11_loses_0 5 rfl rfl)
theorem dX11_loses_6 : decode cX11_loses 6 = .ok (.ireturn, 1) := dk_172 (dk_at dksX11_loses_0 6 rfl rfl)
abbrev cX11_worth : ByteArray := prog_7_method_6_code
def yX11_worth : MethodName := ⟨RX11, "worth", "()I"⟩
theorem dX11_worth_0 : decode cX11_worth 0 = .ok (.iconst 1, 1) := by decide +kernel
theorem dX11_worth_1 : decode cX11_worth 1 = .ok (.ireturn, 1) := by decide +kernel
abbrev cX11_says : ByteArray := prog_7_method_3_code
def yX11_says : MethodName := ⟨RX11, "says", "(II)I"⟩
theorem dX11_says_0 : decode cX11_says 0 = .ok (.iconst 2, 1) := by decide +kernel
theorem dX11_says_1 : decode cX11_says 1 = .ok (.ireturn, 1) := by decide +kernel
abbrev cX11_another : ByteArray := prog_7_method_7_code
def yX11_another : MethodName := ⟨RX11, "another", "()LStoneSheets$Rubbing;"⟩
def dkwX11_another_0 : List UInt8 := [187, 0, 13, 89, 183, 0, 15, 176]
abbrev dktX11_another_0 : List UInt8 := dkwX11_another_0 ++ []
theorem dksX11_another_0 : cX11_another.data.toList.drop 0 = dktX11_another_0 := by decide +kernel
theorem dX11_another_0 : decode cX11_another 0 = .ok (.new 13, 3) := dk_187 0 13 (dk_at dksX11_another_0 0 rfl rfl)
theorem dX11_another_3 : decode cX11_another 3 = .ok (.dup, 1) := dk_89 (dk_at dksX11_another_0 3 rfl rfl)
theorem dX11_another_4 : decode cX11_another 4 = .ok (.invokespecial 15, 3) := dk_183 0 15 (dk_at dksX11_another_0 4 rfl rfl)
theorem dX11_another_7 : decode cX11_another 7 = .ok (.areturn, 1) := dk_176 (dk_at dksX11_another_0 7 rfl rfl)
theorem q95 : (Jvm.Cond.initialized "StoneSheets$MadeRubbing") ∈ lw_all := lw_g (lw_at lw_m1 15 rfl) rfl
theorem q605 : (Jvm.Cond.instantiable "StoneSheets$MadeRubbing" (5 : Nat)) ∈ lw_all := lw_g (lw_at lw_m3 45 rfl) rfl
theorem q607 : (Jvm.Cond.instanceMethod ({ cls := "StoneSheets$MadeRubbing", name := "<init>", desc := "()V" } : Jvm.MethodName)) ∈ lw_all := lw_g (lw_at lw_m3 47 rfl) rfl
theorem q608 : (Jvm.Cond.code ({ cls := "StoneSheets$MadeRubbing", name := "<init>", desc := "()V" } : Jvm.MethodName) prog_7_method_1_code (1 : Nat) (Option.none : Option Jvm.ClassFile.FieldType)) ∈ lw_all := lw_g (lw_at lw_m3 48 rfl) rfl
theorem q609 : (Jvm.Cond.methodLinkNest "StoneSheets$MadeRubbing" (3 : Nat) ({ cls := "StoneSheets$Rubbing", name := "<init>", desc := "()V" } : Jvm.MethodName) "StoneSheets") ∈ lw_tbl := lw_at lw_m3 49 rfl
theorem q610 : (Jvm.Cond.lays "StoneSheets$MadeRubbing" "StoneSheets$Rubbing" "raw" "I") ∈ lw_all := lw_g (lw_at lw_m3 50 rfl) rfl
theorem q611 : (Jvm.Cond.lays "StoneSheets$MadeRubbing" "StoneSheets$Rubbing" "size" "I") ∈ lw_all := lw_g (lw_at lw_m3 51 rfl) rfl
theorem q612 : (Jvm.Cond.lays "StoneSheets$MadeRubbing" "StoneSheets$Rubbing" "isTurned" "Z") ∈ lw_all := lw_g (lw_at lw_m3 52 rfl) rfl
theorem q613 : (Jvm.Cond.lays "StoneSheets$MadeRubbing" "StoneSheets$Rubbing" "laid" "I") ∈ lw_all := lw_g (lw_at lw_m3 53 rfl) rfl
theorem q614 : (Jvm.Cond.lays "StoneSheets$MadeRubbing" "StoneSheets$Rubbing" "trust" "I") ∈ lw_all := lw_g (lw_at lw_m3 54 rfl) rfl
theorem q615 : (Jvm.Cond.superclass "StoneSheets$MadeRubbing" "StoneSheets$Rubbing") ∈ lw_all := lw_g (lw_at lw_m3 55 rfl) rfl
theorem q647 : (Jvm.Cond.selects "StoneSheets$MadeRubbing" ({ cls := "StoneSheets$Rubbing", name := "kind", desc := "()I" } : Jvm.MethodName) ({ cls := "StoneSheets$MadeRubbing", name := "kind", desc := "()I" } : Jvm.MethodName)) ∈ lw_all := lw_g (lw_at lw_m3 87 rfl) rfl
theorem q648 : (Jvm.Cond.instanceMethod ({ cls := "StoneSheets$MadeRubbing", name := "kind", desc := "()I" } : Jvm.MethodName)) ∈ lw_all := lw_g (lw_at lw_m3 88 rfl) rfl
theorem q649 : (Jvm.Cond.code ({ cls := "StoneSheets$MadeRubbing", name := "kind", desc := "()I" } : Jvm.MethodName) prog_7_method_2_code (1 : Nat) (Option.some Jvm.ClassFile.FieldType.int)) ∈ lw_all := lw_g (lw_at lw_m3 89 rfl) rfl
theorem q662 : (Jvm.Cond.selects "StoneSheets$MadeRubbing" ({ cls := "StoneSheets$Rubbing", name := "covered", desc := "()I" } : Jvm.MethodName) ({ cls := "StoneSheets$Rubbing", name := "covered", desc := "()I" } : Jvm.MethodName)) ∈ lw_all := lw_g (lw_at lw_m3 102 rfl) rfl
theorem q683 : (Jvm.Cond.selects "StoneSheets$MadeRubbing" ({ cls := "StoneSheets$Trusted", name := "gains", desc := "(I)I" } : Jvm.MethodName) ({ cls := "StoneSheets$MadeRubbing", name := "gains", desc := "(I)I" } : Jvm.MethodName)) ∈ lw_all := lw_g (lw_at lw_m3 123 rfl) rfl
theorem q684 : (Jvm.Cond.instanceMethod ({ cls := "StoneSheets$MadeRubbing", name := "gains", desc := "(I)I" } : Jvm.MethodName)) ∈ lw_all := lw_g (lw_at lw_m3 124 rfl) rfl
theorem q685 : (Jvm.Cond.code ({ cls := "StoneSheets$MadeRubbing", name := "gains", desc := "(I)I" } : Jvm.MethodName) prog_7_method_4_code (2 : Nat) (Option.some Jvm.ClassFile.FieldType.int)) ∈ lw_all := lw_g (lw_at lw_m3 125 rfl) rfl
theorem q718 : (Jvm.Cond.selects "StoneSheets$MadeRubbing" ({ cls := "StoneSheets$Rubbing", name := "loses", desc := "()I" } : Jvm.MethodName) ({ cls := "StoneSheets$MadeRubbing", name := "loses", desc := "()I" } : Jvm.MethodName)) ∈ lw_all := lw_g (lw_at lw_m3 158 rfl) rfl
theorem q719 : (Jvm.Cond.instanceMethod ({ cls := "StoneSheets$MadeRubbing", name := "loses", desc := "()I" } : Jvm.MethodName)) ∈ lw_all := lw_g (lw_at lw_m3 159 rfl) rfl
theorem q720 : (Jvm.Cond.code ({ cls := "StoneSheets$MadeRubbing", name := "loses", desc := "()I" } : Jvm.MethodName) prog_7_method_5_code (1 : Nat) (Option.some Jvm.ClassFile.FieldType.int)) ∈ lw_all := lw_g (lw_at lw_m3 160 rfl) rfl
theorem q721 : (Jvm.Cond.methodLink "StoneSheets$MadeRubbing" (9 : Nat) ({ cls := "StoneSheets$Rubbing", name := "loses", desc := "()I" } : Jvm.MethodName)) ∈ lw_all := lw_g (lw_at lw_m3 161 rfl) rfl
theorem q743 : (Jvm.Cond.selects "StoneSheets$MadeRubbing" ({ cls := "StoneSheets$Rubbing", name := "worth", desc := "()I" } : Jvm.MethodName) ({ cls := "StoneSheets$MadeRubbing", name := "worth", desc := "()I" } : Jvm.MethodName)) ∈ lw_all := lw_g (lw_at lw_m3 183 rfl) rfl
theorem q744 : (Jvm.Cond.instanceMethod ({ cls := "StoneSheets$MadeRubbing", name := "worth", desc := "()I" } : Jvm.MethodName)) ∈ lw_all := lw_g (lw_at lw_m3 184 rfl) rfl
theorem q745 : (Jvm.Cond.code ({ cls := "StoneSheets$MadeRubbing", name := "worth", desc := "()I" } : Jvm.MethodName) prog_7_method_6_code (1 : Nat) (Option.some Jvm.ClassFile.FieldType.int)) ∈ lw_all := lw_g (lw_at lw_m3 185 rfl) rfl
theorem q762 : (Jvm.Cond.selects "StoneSheets$MadeRubbing" ({ cls := "StoneSheets$Rubbing", name := "saysAt", desc := "(I)I" } : Jvm.MethodName) ({ cls := "StoneSheets$Rubbing", name := "saysAt", desc := "(I)I" } : Jvm.MethodName)) ∈ lw_all := lw_g (lw_at lw_m3 202 rfl) rfl
theorem q783 : (Jvm.Cond.selects "StoneSheets$MadeRubbing" ({ cls := "StoneSheets$Says", name := "says", desc := "(II)I" } : Jvm.MethodName) ({ cls := "StoneSheets$MadeRubbing", name := "says", desc := "(II)I" } : Jvm.MethodName)) ∈ lw_all := lw_g (lw_at lw_m3 223 rfl) rfl
theorem q784 : (Jvm.Cond.instanceMethod ({ cls := "StoneSheets$MadeRubbing", name := "says", desc := "(II)I" } : Jvm.MethodName)) ∈ lw_all := lw_g (lw_at lw_m3 224 rfl) rfl
theorem q785 : (Jvm.Cond.code ({ cls := "StoneSheets$MadeRubbing", name := "says", desc := "(II)I" } : Jvm.MethodName) prog_7_method_3_code (3 : Nat) (Option.some Jvm.ClassFile.FieldType.int)) ∈ lw_all := lw_g (lw_at lw_m3 225 rfl) rfl
theorem q840 : (Jvm.Cond.selects "StoneSheets$MadeRubbing" ({ cls := "StoneSheets$Rubbing", name := "takes", desc := "(LStoneSheets$Rubbing;)V" } : Jvm.MethodName) ({ cls := "StoneSheets$Rubbing", name := "takes", desc := "(LStoneSheets$Rubbing;)V" } : Jvm.MethodName)) ∈ lw_all := lw_g (lw_at lw_m4 40 rfl) rfl
theorem q964 : (Jvm.Cond.selects "StoneSheets$MadeRubbing" ({ cls := "StoneSheets$Rubbing", name := "covers", desc := "(I)Z" } : Jvm.MethodName) ({ cls := "StoneSheets$Rubbing", name := "covers", desc := "(I)Z" } : Jvm.MethodName)) ∈ lw_all := lw_g (lw_at lw_m4 164 rfl) rfl
theorem q1022 : (Jvm.Cond.selects "StoneSheets$MadeRubbing" ({ cls := "StoneSheets$Rubbing", name := "another", desc := "()LStoneSheets$Rubbing;" } : Jvm.MethodName) ({ cls := "StoneSheets$MadeRubbing", name := "another", desc := "()LStoneSheets$Rubbing;" } : Jvm.MethodName)) ∈ lw_all := lw_g (lw_at lw_m4 222 rfl) rfl
theorem q1023 : (Jvm.Cond.instanceMethod ({ cls := "StoneSheets$MadeRubbing", name := "another", desc := "()LStoneSheets$Rubbing;" } : Jvm.MethodName)) ∈ lw_all := lw_g (lw_at lw_m4 223 rfl) rfl
theorem q1024 : (Jvm.Cond.code ({ cls := "StoneSheets$MadeRubbing", name := "another", desc := "()LStoneSheets$Rubbing;" } : Jvm.MethodName) prog_7_method_7_code (1 : Nat) (Option.some (Jvm.ClassFile.FieldType.object "StoneSheets$Rubbing"))) ∈ lw_all := lw_g (lw_at lw_m4 224 rfl) rfl
theorem q1025 : (Jvm.Cond.classLink "StoneSheets$MadeRubbing" (13 : Nat) "StoneSheets$MadeRubbing") ∈ lw_all := lw_g (lw_at lw_m4 225 rfl) rfl
theorem q1026 : (Jvm.Cond.methodLink "StoneSheets$MadeRubbing" (15 : Nat) ({ cls := "StoneSheets$MadeRubbing", name := "<init>", desc := "()V" } : Jvm.MethodName)) ∈ lw_all := lw_g (lw_at lw_m4 226 rfl) rfl
theorem q1179 : (Jvm.Cond.selects "StoneSheets$MadeRubbing" ({ cls := "StoneSheets$Rubbing", name := "copy", desc := "()LStoneSheets$Rubbing;" } : Jvm.MethodName) ({ cls := "StoneSheets$Rubbing", name := "copy", desc := "()LStoneSheets$Rubbing;" } : Jvm.MethodName)) ∈ lw_all := lw_g (lw_at lw_m5 139 rfl) rfl
theorem q1219 : (Jvm.Cond.castable "StoneSheets$MadeRubbing" "StoneSheets$Trusted") ∈ lw_tbl := lw_at lw_m5 179 rfl
theorem q1220 : (Jvm.Cond.selects "StoneSheets$MadeRubbing" ({ cls := "StoneSheets$Trusted", name := "worth", desc := "()I" } : Jvm.MethodName) ({ cls := "StoneSheets$MadeRubbing", name := "worth", desc := "()I" } : Jvm.MethodName)) ∈ lw_all := lw_g (lw_at lw_m5 180 rfl) rfl
theorem q1221 : (Jvm.Cond.unhidden "StoneSheets$MadeRubbing" "worth" "()I") ∈ lw_tbl := lw_at lw_m5 181 rfl
theorem q1222 : (Jvm.Cond.publicMethod ({ cls := "StoneSheets$MadeRubbing", name := "worth", desc := "()I" } : Jvm.MethodName)) ∈ lw_tbl := lw_at lw_m5 182 rfl
theorem q1802 : (Jvm.Cond.castable "StoneSheets$MadeRubbing" "StoneSheets$Rubbing") ∈ lw_tbl := lw_at lw_m8 42 rfl
theorem in_X11 : ∀ w ∈ wsX110, w ∈ lw_all := lw_in wsX110 [610, 611, 612, 613, 614] (by decide +kernel) (by decide +kernel)

/-! StoneSheets$Words -/
set_option maxRecDepth 100000
def RX12 : String := "StoneSheets$Words"
def TX12 : u_T := fun k => match k with
  | 0 => ("StoneSheets$Words", "word", "[I", true)
  | 1 => ("StoneSheets$Words", "value", "[I", true)
  | _ => ("StoneSheets$Words", "many", "I", false)
def tyX12 : Nat → FieldType := fun k => match k with
  | 0 => .array .int
  | 1 => .array .int
  | _ => .int
abbrev wsX120 : List Cond := u_ws RX12 TX12 3
theorem nmX12 : ∀ a, a < 3 → ∀ b, b < 3 → a ≠ b → (TX12 a).2.1 ≠ (TX12 b).2.1 := by decide +kernel
theorem tyX12_ok : ∀ k, k < 3 → parseFieldDescriptor (TX12 k).2.2.1 = some (tyX12 k) := by decide +kernel
abbrev cX12_init : ByteArray := prog_16_method_1_code
def yX12_init : MethodName := ⟨RX12, "<init>", "()V"⟩
def dkwX12_init_0 : List UInt8 := [42, 183, 0, 3, 42, 16, 96, 188, 10, 181, 0, 9, 42, 16, 96, 188, 10, 181, 0, 15, 177]
abbrev dktX12_init_0 : List UInt8 := dkwX12_init_0 ++ []
theorem dksX12_init_0 : cX12_init.data.toList.drop 0 = dktX12_init_0 := by decide +kernel
theorem dX12_init_0 : decode cX12_init 0 = .ok (.aload_n 0, 1) := dk_42 (dk_at dksX12_init_0 0 rfl rfl)
theorem dX12_init_1 : decode cX12_init 1 = .ok (.invokespecial 3, 3) := dk_183 0 3 (dk_at dksX12_init_0 1 rfl rfl)
theorem dX12_init_4 : decode cX12_init 4 = .ok (.aload_n 0, 1) := dk_42 (dk_at dksX12_init_0 4 rfl rfl)
theorem dX12_init_5 : decode cX12_init 5 = .ok (.bipush 96, 2) := dk_16 96 (dk_at dksX12_init_0 5 rfl rfl)
theorem dX12_init_7 : decode cX12_init 7 = .ok (.newarray .int, 2) := dk_188_10 (dk_at dksX12_init_0 7 rfl rfl)
theorem dX12_init_9 : decode cX12_init 9 = .ok (.putfield 9, 3) := dk_181 0 9 (dk_at dksX12_init_0 9 rfl rfl)
theorem dX12_init_12 : decode cX12_init 12 = .ok (.aload_n 0, 1) := dk_42 (dk_at dksX12_init_0 12 rfl rfl)
theorem dX12_init_13 : decode cX12_init 13 = .ok (.bipush 96, 2) := dk_16 96 (dk_at dksX12_init_0 13 rfl rfl)
theorem dX12_init_15 : decode cX12_init 15 = .ok (.newarray .int, 2) := dk_188_10 (dk_at dksX12_init_0 15 rfl rfl)
theorem dX12_init_17 : decode cX12_init 17 = .ok (.putfield 15, 3) := dk_181 0 15 (dk_at dksX12_init_0 17 rfl rfl)
theorem dX12_init_20 : decode cX12_init 20 = .ok (.return_, 1) := dk_177 (dk_at dksX12_init_0 20 rfl rfl)
abbrev cX12_add : ByteArray := prog_16_method_2_code
def yX12_add : MethodName := ⟨RX12, "add", "(II)V"⟩
def dkwX12_add_1 : List UInt8 := [180, 0, 18, 4, 96, 181, 0, 18, 177]
abbrev dktX12_add_1 : List UInt8 := dkwX12_add_1 ++ []
def dkwX12_add_0 : List UInt8 := [42, 180, 0, 9, 42, 180, 0, 18, 27, 79, 42, 180, 0, 15, 42, 180, 0, 18, 28, 79, 42, 89]
abbrev dktX12_add_0 : List UInt8 := dkwX12_add_0 ++ dktX12_add_1
theorem dksX12_add_0 : cX12_add.data.toList.drop 0 = dktX12_add_0 := by decide +kernel
theorem dksX12_add_1 : cX12_add.data.toList.drop 22 = dktX12_add_1 := dk_seg dksX12_add_0 22 rfl rfl
theorem dX12_add_0 : decode cX12_add 0 = .ok (.aload_n 0, 1) := dk_42 (dk_at dksX12_add_0 0 rfl rfl)
theorem dX12_add_1 : decode cX12_add 1 = .ok (.getfield 9, 3) := dk_180 0 9 (dk_at dksX12_add_0 1 rfl rfl)
theorem dX12_add_4 : decode cX12_add 4 = .ok (.aload_n 0, 1) := dk_42 (dk_at dksX12_add_0 4 rfl rfl)
theorem dX12_add_5 : decode cX12_add 5 = .ok (.getfield 18, 3) := dk_180 0 18 (dk_at dksX12_add_0 5 rfl rfl)
theorem dX12_add_8 : decode cX12_add 8 = .ok (.iload_n 1, 1) := dk_27 (dk_at dksX12_add_0 8 rfl rfl)
theorem dX12_add_9 : decode cX12_add 9 = .ok (.iastore, 1) := dk_79 (dk_at dksX12_add_0 9 rfl rfl)
theorem dX12_add_10 : decode cX12_add 10 = .ok (.aload_n 0, 1) := dk_42 (dk_at dksX12_add_0 10 rfl rfl)
theorem dX12_add_11 : decode cX12_add 11 = .ok (.getfield 15, 3) := dk_180 0 15 (dk_at dksX12_add_0 11 rfl rfl)
theorem dX12_add_14 : decode cX12_add 14 = .ok (.aload_n 0, 1) := dk_42 (dk_at dksX12_add_0 14 rfl rfl)
theorem dX12_add_15 : decode cX12_add 15 = .ok (.getfield 18, 3) := dk_180 0 18 (dk_at dksX12_add_0 15 rfl rfl)
theorem dX12_add_18 : decode cX12_add 18 = .ok (.iload_n 2, 1) := dk_28 (dk_at dksX12_add_0 18 rfl rfl)
theorem dX12_add_19 : decode cX12_add 19 = .ok (.iastore, 1) := dk_79 (dk_at dksX12_add_0 19 rfl rfl)
theorem dX12_add_20 : decode cX12_add 20 = .ok (.aload_n 0, 1) := dk_42 (dk_at dksX12_add_0 20 rfl rfl)
theorem dX12_add_21 : decode cX12_add 21 = .ok (.dup, 1) := dk_89 (dk_at dksX12_add_0 21 rfl rfl)
theorem dX12_add_22 : decode cX12_add 22 = .ok (.getfield 18, 3) := dk_180 0 18 (dk_at dksX12_add_1 0 rfl rfl)
theorem dX12_add_25 : decode cX12_add 25 = .ok (.iconst 1, 1) := dk_4 (dk_at dksX12_add_1 3 rfl rfl)
theorem dX12_add_26 : decode cX12_add 26 = .ok (.iadd, 1) := dk_96 (dk_at dksX12_add_1 4 rfl rfl)
theorem dX12_add_27 : decode cX12_add 27 = .ok (.putfield 18, 3) := dk_181 0 18 (dk_at dksX12_add_1 5 rfl rfl)
theorem dX12_add_30 : decode cX12_add 30 = .ok (.return_, 1) := dk_177 (dk_at dksX12_add_1 8 rfl rfl)
theorem q104 : (Jvm.Cond.initialized "StoneSheets$Words") ∈ lw_all := lw_g (lw_at lw_m1 24 rfl) rfl
theorem q429 : (Jvm.Cond.instantiable "StoneSheets$Words" (3 : Nat)) ∈ lw_all := lw_g (lw_at lw_m2 109 rfl) rfl
theorem q431 : (Jvm.Cond.instanceMethod ({ cls := "StoneSheets$Words", name := "<init>", desc := "()V" } : Jvm.MethodName)) ∈ lw_all := lw_g (lw_at lw_m2 111 rfl) rfl
theorem q432 : (Jvm.Cond.code ({ cls := "StoneSheets$Words", name := "<init>", desc := "()V" } : Jvm.MethodName) prog_16_method_1_code (1 : Nat) (Option.none : Option Jvm.ClassFile.FieldType)) ∈ lw_all := lw_g (lw_at lw_m2 112 rfl) rfl
theorem q433 : (Jvm.Cond.methodLink "StoneSheets$Words" (3 : Nat) ({ cls := "java/lang/Object", name := "<init>", desc := "()V" } : Jvm.MethodName)) ∈ lw_all := lw_g (lw_at lw_m2 113 rfl) rfl
theorem q434 : (Jvm.Cond.fieldLink "StoneSheets$Words" (9 : Nat) "StoneSheets$Words" "word" "[I") ∈ lw_all := lw_g (lw_at lw_m2 114 rfl) rfl
theorem q436 : (Jvm.Cond.fieldLink "StoneSheets$Words" (15 : Nat) "StoneSheets$Words" "value" "[I") ∈ lw_all := lw_g (lw_at lw_m2 116 rfl) rfl
theorem q438 : (Jvm.Cond.fieldLink "StoneSheets$Words" (18 : Nat) "StoneSheets$Words" "many" "I") ∈ lw_all := lw_g (lw_at lw_m2 118 rfl) rfl
theorem q440 : (Jvm.Cond.laysFinal "StoneSheets$Words" "StoneSheets$Words" "word" "[I") ∈ lw_all := lw_g (lw_at lw_m2 120 rfl) rfl
theorem q441 : (Jvm.Cond.soleField "StoneSheets$Words" "word") ∈ lw_all := lw_g (lw_at lw_m2 121 rfl) rfl
theorem q442 : (Jvm.Cond.laysFinal "StoneSheets$Words" "StoneSheets$Words" "value" "[I") ∈ lw_all := lw_g (lw_at lw_m2 122 rfl) rfl
theorem q443 : (Jvm.Cond.soleField "StoneSheets$Words" "value") ∈ lw_all := lw_g (lw_at lw_m2 123 rfl) rfl
theorem q444 : (Jvm.Cond.lays "StoneSheets$Words" "StoneSheets$Words" "many" "I") ∈ lw_all := lw_g (lw_at lw_m2 124 rfl) rfl
theorem q445 : (Jvm.Cond.soleField "StoneSheets$Words" "many") ∈ lw_all := lw_g (lw_at lw_m2 125 rfl) rfl
theorem q446 : (Jvm.Cond.superclass "StoneSheets$Words" "java/lang/Object") ∈ lw_all := lw_g (lw_at lw_m2 126 rfl) rfl
theorem q476 : (Jvm.Cond.instanceMethod ({ cls := "StoneSheets$Words", name := "add", desc := "(II)V" } : Jvm.MethodName)) ∈ lw_all := lw_g (lw_at lw_m2 156 rfl) rfl
theorem q477 : (Jvm.Cond.selects "StoneSheets$Words" ({ cls := "StoneSheets$Words", name := "add", desc := "(II)V" } : Jvm.MethodName) ({ cls := "StoneSheets$Words", name := "add", desc := "(II)V" } : Jvm.MethodName)) ∈ lw_all := lw_g (lw_at lw_m2 157 rfl) rfl
theorem q478 : (Jvm.Cond.code ({ cls := "StoneSheets$Words", name := "add", desc := "(II)V" } : Jvm.MethodName) prog_16_method_2_code (3 : Nat) (Option.none : Option Jvm.ClassFile.FieldType)) ∈ lw_all := lw_g (lw_at lw_m2 158 rfl) rfl
theorem in_X12 : ∀ w ∈ wsX120, w ∈ lw_all := lw_in wsX120 [440, 442, 444] (by decide +kernel) (by decide +kernel)

/-! StoneSheets$Text -/
set_option maxRecDepth 100000
def RX13 : String := "StoneSheets$Text"
def TX13 : u_T := fun k => match k with
  | 0 => ("StoneSheets$Text", "key", "I", true)
  | 1 => ("StoneSheets$Text", "words", "LStoneSheets$Words;", true)
  | _ => ("StoneSheets$Text", "many", "I", true)
def tyX13 : Nat → FieldType := fun k => match k with
  | 0 => .int
  | 1 => .object "StoneSheets$Words"
  | _ => .int
abbrev wsX130 : List Cond := u_ws RX13 TX13 3
theorem nmX13 : ∀ a, a < 3 → ∀ b, b < 3 → a ≠ b → (TX13 a).2.1 ≠ (TX13 b).2.1 := by decide +kernel
theorem tyX13_ok : ∀ k, k < 3 → parseFieldDescriptor (TX13 k).2.2.1 = some (tyX13 k) := by decide +kernel
abbrev cX13_init : ByteArray := prog_13_method_1_code
def yX13_init : MethodName := ⟨RX13, "<init>", "(ILStoneSheets$Words;I)V"⟩
def dkwX13_init_0 : List UInt8 := [42, 183, 0, 1, 42, 27, 181, 0, 7, 42, 44, 181, 0, 13, 42, 29, 181, 0, 17, 177]
abbrev dktX13_init_0 : List UInt8 := dkwX13_init_0 ++ []
theorem dksX13_init_0 : cX13_init.data.toList.drop 0 = dktX13_init_0 := by decide +kernel
theorem dX13_init_0 : decode cX13_init 0 = .ok (.aload_n 0, 1) := dk_42 (dk_at dksX13_init_0 0 rfl rfl)
theorem dX13_init_1 : decode cX13_init 1 = .ok (.invokespecial 1, 3) := dk_183 0 1 (dk_at dksX13_init_0 1 rfl rfl)
theorem dX13_init_4 : decode cX13_init 4 = .ok (.aload_n 0, 1) := dk_42 (dk_at dksX13_init_0 4 rfl rfl)
theorem dX13_init_5 : decode cX13_init 5 = .ok (.iload_n 1, 1) := dk_27 (dk_at dksX13_init_0 5 rfl rfl)
theorem dX13_init_6 : decode cX13_init 6 = .ok (.putfield 7, 3) := dk_181 0 7 (dk_at dksX13_init_0 6 rfl rfl)
theorem dX13_init_9 : decode cX13_init 9 = .ok (.aload_n 0, 1) := dk_42 (dk_at dksX13_init_0 9 rfl rfl)
theorem dX13_init_10 : decode cX13_init 10 = .ok (.aload_n 2, 1) := dk_44 (dk_at dksX13_init_0 10 rfl rfl)
theorem dX13_init_11 : decode cX13_init 11 = .ok (.putfield 13, 3) := dk_181 0 13 (dk_at dksX13_init_0 11 rfl rfl)
theorem dX13_init_14 : decode cX13_init 14 = .ok (.aload_n 0, 1) := dk_42 (dk_at dksX13_init_0 14 rfl rfl)
theorem dX13_init_15 : decode cX13_init 15 = .ok (.iload_n 3, 1) := dk_29 (dk_at dksX13_init_0 15 rfl rfl)
theorem dX13_init_16 : decode cX13_init 16 = .ok (.putfield 17, 3) := dk_181 0 17 (dk_at dksX13_init_0 16 rfl rfl)
theorem dX13_init_19 : decode cX13_init 19 = .ok (.return_, 1) := dk_177 (dk_at dksX13_init_0 19 rfl rfl)
theorem q105 : (Jvm.Cond.initialized "StoneSheets$Text") ∈ lw_all := lw_g (lw_at lw_m1 25 rfl) rfl
theorem q488 : (Jvm.Cond.instantiable "StoneSheets$Text" (3 : Nat)) ∈ lw_all := lw_g (lw_at lw_m2 168 rfl) rfl
theorem q490 : (Jvm.Cond.instanceMethod ({ cls := "StoneSheets$Text", name := "<init>", desc := "(ILStoneSheets$Words;I)V" } : Jvm.MethodName)) ∈ lw_all := lw_g (lw_at lw_m2 170 rfl) rfl
theorem q491 : (Jvm.Cond.code ({ cls := "StoneSheets$Text", name := "<init>", desc := "(ILStoneSheets$Words;I)V" } : Jvm.MethodName) prog_13_method_1_code (4 : Nat) (Option.none : Option Jvm.ClassFile.FieldType)) ∈ lw_all := lw_g (lw_at lw_m2 171 rfl) rfl
theorem q492 : (Jvm.Cond.methodLink "StoneSheets$Text" (1 : Nat) ({ cls := "java/lang/Object", name := "<init>", desc := "()V" } : Jvm.MethodName)) ∈ lw_all := lw_g (lw_at lw_m2 172 rfl) rfl
theorem q493 : (Jvm.Cond.fieldLink "StoneSheets$Text" (7 : Nat) "StoneSheets$Text" "key" "I") ∈ lw_all := lw_g (lw_at lw_m2 173 rfl) rfl
theorem q495 : (Jvm.Cond.fieldLink "StoneSheets$Text" (13 : Nat) "StoneSheets$Text" "words" "LStoneSheets$Words;") ∈ lw_all := lw_g (lw_at lw_m2 175 rfl) rfl
theorem q497 : (Jvm.Cond.fieldLink "StoneSheets$Text" (17 : Nat) "StoneSheets$Text" "many" "I") ∈ lw_all := lw_g (lw_at lw_m2 177 rfl) rfl
theorem q499 : (Jvm.Cond.laysFinal "StoneSheets$Text" "StoneSheets$Text" "key" "I") ∈ lw_all := lw_g (lw_at lw_m2 179 rfl) rfl
theorem q500 : (Jvm.Cond.soleField "StoneSheets$Text" "key") ∈ lw_all := lw_g (lw_at lw_m2 180 rfl) rfl
theorem q501 : (Jvm.Cond.laysFinal "StoneSheets$Text" "StoneSheets$Text" "words" "LStoneSheets$Words;") ∈ lw_all := lw_g (lw_at lw_m2 181 rfl) rfl
theorem q502 : (Jvm.Cond.soleField "StoneSheets$Text" "words") ∈ lw_all := lw_g (lw_at lw_m2 182 rfl) rfl
theorem q503 : (Jvm.Cond.laysFinal "StoneSheets$Text" "StoneSheets$Text" "many" "I") ∈ lw_all := lw_g (lw_at lw_m2 183 rfl) rfl
theorem q504 : (Jvm.Cond.soleField "StoneSheets$Text" "many") ∈ lw_all := lw_g (lw_at lw_m2 184 rfl) rfl
theorem q505 : (Jvm.Cond.superclass "StoneSheets$Text" "java/lang/Object") ∈ lw_all := lw_g (lw_at lw_m2 185 rfl) rfl
theorem in_X13 : ∀ w ∈ wsX130, w ∈ lw_all := lw_in wsX130 [499, 501, 503] (by decide +kernel) (by decide +kernel)

/-! StoneSheets$Figure -/
set_option maxRecDepth 100000
def RX14 : String := "StoneSheets$Figure"
def TX14 : u_T := fun k => match k with
  | _ => ("StoneSheets$Figure", "v", "I", true)
def tyX14 : Nat → FieldType := fun k => match k with
  | _ => .int
abbrev wsX140 : List Cond := u_ws RX14 TX14 1
theorem nmX14 : ∀ a, a < 1 → ∀ b, b < 1 → a ≠ b → (TX14 a).2.1 ≠ (TX14 b).2.1 := by decide +kernel
theorem tyX14_ok : ∀ k, k < 1 → parseFieldDescriptor (TX14 k).2.2.1 = some (tyX14 k) := by decide +kernel
abbrev cX14_init : ByteArray := prog_6_method_1_code
def yX14_init : MethodName := ⟨RX14, "<init>", "(I)V"⟩
def dkwX14_init_0 : List UInt8 := [42, 183, 0, 1, 42, 27, 181, 0, 7, 177]
abbrev dktX14_init_0 : List UInt8 := dkwX14_init_0 ++ []
theorem dksX14_init_0 : cX14_init.data.toList.drop 0 = dktX14_init_0 := by decide +kernel
theorem dX14_init_0 : decode cX14_init 0 = .ok (.aload_n 0, 1) := dk_42 (dk_at dksX14_init_0 0 rfl rfl)
theorem dX14_init_1 : decode cX14_init 1 = .ok (.invokespecial 1, 3) := dk_183 0 1 (dk_at dksX14_init_0 1 rfl rfl)
theorem dX14_init_4 : decode cX14_init 4 = .ok (.aload_n 0, 1) := dk_42 (dk_at dksX14_init_0 4 rfl rfl)
theorem dX14_init_5 : decode cX14_init 5 = .ok (.iload_n 1, 1) := dk_27 (dk_at dksX14_init_0 5 rfl rfl)
theorem dX14_init_6 : decode cX14_init 6 = .ok (.putfield 7, 3) := dk_181 0 7 (dk_at dksX14_init_0 6 rfl rfl)
theorem dX14_init_9 : decode cX14_init 9 = .ok (.return_, 1) := dk_177 (dk_at dksX14_init_0 9 rfl rfl)
theorem q107 : (Jvm.Cond.initialized "StoneSheets$Figure") ∈ lw_all := lw_g (lw_at lw_m1 27 rfl) rfl
theorem q1189 : (Jvm.Cond.instantiable "StoneSheets$Figure" (1 : Nat)) ∈ lw_all := lw_g (lw_at lw_m5 149 rfl) rfl
theorem q1191 : (Jvm.Cond.instanceMethod ({ cls := "StoneSheets$Figure", name := "<init>", desc := "(I)V" } : Jvm.MethodName)) ∈ lw_all := lw_g (lw_at lw_m5 151 rfl) rfl
theorem q1192 : (Jvm.Cond.code ({ cls := "StoneSheets$Figure", name := "<init>", desc := "(I)V" } : Jvm.MethodName) prog_6_method_1_code (2 : Nat) (Option.none : Option Jvm.ClassFile.FieldType)) ∈ lw_all := lw_g (lw_at lw_m5 152 rfl) rfl
theorem q1193 : (Jvm.Cond.methodLink "StoneSheets$Figure" (1 : Nat) ({ cls := "java/lang/Object", name := "<init>", desc := "()V" } : Jvm.MethodName)) ∈ lw_all := lw_g (lw_at lw_m5 153 rfl) rfl
theorem q1194 : (Jvm.Cond.fieldLink "StoneSheets$Figure" (7 : Nat) "StoneSheets$Figure" "v" "I") ∈ lw_all := lw_g (lw_at lw_m5 154 rfl) rfl
theorem q1196 : (Jvm.Cond.laysFinal "StoneSheets$Figure" "StoneSheets$Figure" "v" "I") ∈ lw_all := lw_g (lw_at lw_m5 156 rfl) rfl
theorem q1197 : (Jvm.Cond.soleField "StoneSheets$Figure" "v") ∈ lw_all := lw_g (lw_at lw_m5 157 rfl) rfl
theorem q1198 : (Jvm.Cond.superclass "StoneSheets$Figure" "java/lang/Object") ∈ lw_all := lw_g (lw_at lw_m5 158 rfl) rfl
theorem in_X14 : ∀ w ∈ wsX140, w ∈ lw_all := lw_in wsX140 [1196] (by decide +kernel) (by decide +kernel)

/-! StoneSheets$Trusted -/
set_option maxRecDepth 100000
def RX15 : String := "StoneSheets$Trusted"
abbrev cX15_gains : ByteArray := prog_14_method_1_code
def yX15_gains : MethodName := ⟨RX15, "gains", "(I)I"⟩
theorem dX15_gains_0 : decode cX15_gains 0 = .ok (.iload_n 1, 1) := by decide +kernel
theorem dX15_gains_1 : decode cX15_gains 1 = .ok (.ireturn, 1) := by decide +kernel
theorem q670 : (Jvm.Cond.declares ({ cls := "StoneSheets$Trusted", name := "gains", desc := "(I)I" } : Jvm.MethodName)) ∈ lw_tbl := lw_at lw_m3 110 rfl
theorem q674 : (Jvm.Cond.instanceMethod ({ cls := "StoneSheets$Trusted", name := "gains", desc := "(I)I" } : Jvm.MethodName)) ∈ lw_all := lw_g (lw_at lw_m3 114 rfl) rfl
theorem q675 : (Jvm.Cond.code ({ cls := "StoneSheets$Trusted", name := "gains", desc := "(I)I" } : Jvm.MethodName) prog_14_method_1_code (2 : Nat) (Option.some Jvm.ClassFile.FieldType.int)) ∈ lw_all := lw_g (lw_at lw_m3 115 rfl) rfl
theorem q688 : (Jvm.Cond.publicMethod ({ cls := "StoneSheets$Trusted", name := "gains", desc := "(I)I" } : Jvm.MethodName)) ∈ lw_tbl := lw_at lw_m3 128 rfl
theorem q1205 : (Jvm.Cond.interfaceMethod "StoneSheets$Trusted" "StoneSheets$Trusted" "worth" "()I") ∈ lw_tbl := lw_at lw_m5 165 rfl
theorem q1206 : (Jvm.Cond.declares ({ cls := "StoneSheets$Trusted", name := "worth", desc := "()I" } : Jvm.MethodName)) ∈ lw_tbl := lw_at lw_m5 166 rfl

/-! StoneSheets$Says -/
set_option maxRecDepth 100000
def RX16 : String := "StoneSheets$Says"
abbrev cX16_says : ByteArray := prog_9_method_1_code
def yX16_says : MethodName := ⟨RX16, "says", "(II)I"⟩
theorem dX16_says_0 : decode cX16_says 0 = .ok (.iload_n 1, 1) := by decide +kernel
theorem dX16_says_1 : decode cX16_says 1 = .ok (.ireturn, 1) := by decide +kernel
theorem q765 : (Jvm.Cond.declares ({ cls := "StoneSheets$Says", name := "says", desc := "(II)I" } : Jvm.MethodName)) ∈ lw_tbl := lw_at lw_m3 205 rfl
theorem q769 : (Jvm.Cond.instanceMethod ({ cls := "StoneSheets$Says", name := "says", desc := "(II)I" } : Jvm.MethodName)) ∈ lw_all := lw_g (lw_at lw_m3 209 rfl) rfl
theorem q770 : (Jvm.Cond.code ({ cls := "StoneSheets$Says", name := "says", desc := "(II)I" } : Jvm.MethodName) prog_9_method_1_code (3 : Nat) (Option.some Jvm.ClassFile.FieldType.int)) ∈ lw_all := lw_g (lw_at lw_m3 210 rfl) rfl
theorem q793 : (Jvm.Cond.publicMethod ({ cls := "StoneSheets$Says", name := "says", desc := "(II)I" } : Jvm.MethodName)) ∈ lw_tbl := lw_at lw_m3 233 rfl

/-! java/lang/Throwable -/
set_option maxRecDepth 100000
def RJ0 : String := "java/lang/Throwable"
def TJ0 : u_T := fun k => match k with
  | 0 => ("java/lang/Throwable", "cause", "Ljava/lang/Throwable;", false)
  | 1 => ("java/lang/Throwable", "stackTrace", "[Ljava/lang/StackTraceElement;", false)
  | 2 => ("java/lang/Throwable", "suppressedExceptions", "Ljava/util/List;", false)
  | 3 => ("java/lang/Throwable", "detailMessage", "Ljava/lang/String;", false)
  | _ => ("java/lang/Throwable", "backtrace", "Ljava/lang/Object;", false)
def tyJ0 : Nat → FieldType := fun k => match k with
  | 0 => .object "java/lang/Throwable"
  | 1 => .array (.object "java/lang/StackTraceElement")
  | 2 => .object "java/util/List"
  | 3 => .object "java/lang/String"
  | _ => .object "java/lang/Object"
abbrev wsJ00 : List Cond := u_ws RJ0 TJ0 5
theorem nmJ0 : ∀ a, a < 5 → ∀ b, b < 5 → a ≠ b → (TJ0 a).2.1 ≠ (TJ0 b).2.1 := by decide +kernel
theorem tyJ0_ok : ∀ k, k < 5 → parseFieldDescriptor (TJ0 k).2.2.1 = some (tyJ0 k) := by decide +kernel
abbrev cJ0_init : ByteArray := prog_29_method_1_code
def yJ0_init : MethodName := ⟨RJ0, "<init>", "()V"⟩
def dkwJ0_init_1 : List UInt8 := [182, 0, 27, 87, 177]
abbrev dktJ0_init_1 : List UInt8 := dkwJ0_init_1 ++ []
def dkwJ0_init_0 : List UInt8 := [42, 183, 0, 1, 42, 42, 181, 0, 7, 42, 178, 0, 13, 181, 0, 17, 42, 178, 0, 20, 181, 0, 24, 42]
abbrev dktJ0_init_0 : List UInt8 := dkwJ0_init_0 ++ dktJ0_init_1
theorem dksJ0_init_0 : cJ0_init.data.toList.drop 0 = dktJ0_init_0 := by decide +kernel
theorem dksJ0_init_1 : cJ0_init.data.toList.drop 24 = dktJ0_init_1 := dk_seg dksJ0_init_0 24 rfl rfl
theorem dJ0_init_0 : decode cJ0_init 0 = .ok (.aload_n 0, 1) := dk_42 (dk_at dksJ0_init_0 0 rfl rfl)
theorem dJ0_init_1 : decode cJ0_init 1 = .ok (.invokespecial 1, 3) := dk_183 0 1 (dk_at dksJ0_init_0 1 rfl rfl)
theorem dJ0_init_4 : decode cJ0_init 4 = .ok (.aload_n 0, 1) := dk_42 (dk_at dksJ0_init_0 4 rfl rfl)
theorem dJ0_init_5 : decode cJ0_init 5 = .ok (.aload_n 0, 1) := dk_42 (dk_at dksJ0_init_0 5 rfl rfl)
theorem dJ0_init_6 : decode cJ0_init 6 = .ok (.putfield 7, 3) := dk_181 0 7 (dk_at dksJ0_init_0 6 rfl rfl)
theorem dJ0_init_9 : decode cJ0_init 9 = .ok (.aload_n 0, 1) := dk_42 (dk_at dksJ0_init_0 9 rfl rfl)
theorem dJ0_init_10 : decode cJ0_init 10 = .ok (.getstatic 13, 3) := dk_178 0 13 (dk_at dksJ0_init_0 10 rfl rfl)
theorem dJ0_init_13 : decode cJ0_init 13 = .ok (.putfield 17, 3) := dk_181 0 17 (dk_at dksJ0_init_0 13 rfl rfl)
theorem dJ0_init_16 : decode cJ0_init 16 = .ok (.aload_n 0, 1) := dk_42 (dk_at dksJ0_init_0 16 rfl rfl)
theorem dJ0_init_17 : decode cJ0_init 17 = .ok (.getstatic 20, 3) := dk_178 0 20 (dk_at dksJ0_init_0 17 rfl rfl)
theorem dJ0_init_20 : decode cJ0_init 20 = .ok (.putfield 24, 3) := dk_181 0 24 (dk_at dksJ0_init_0 20 rfl rfl)
theorem dJ0_init_23 : decode cJ0_init 23 = .ok (.aload_n 0, 1) := dk_42 (dk_at dksJ0_init_0 23 rfl rfl)
theorem dJ0_init_24 : decode cJ0_init 24 = .ok (.invokevirtual 27, 3) := dk_182 0 27 (dk_at dksJ0_init_1 0 rfl rfl)
theorem dJ0_init_27 : decode cJ0_init 27 = .ok (.pop, 1) := dk_87 (dk_at dksJ0_init_1 3 rfl rfl)
theorem dJ0_init_28 : decode cJ0_init 28 = .ok (.return_, 1) := dk_177 (dk_at dksJ0_init_1 4 rfl rfl)
abbrev cJ0_init_2 : ByteArray := prog_29_method_2_code
def yJ0_init_2 : MethodName := ⟨RJ0, "<init>", "(Ljava/lang/String;)V"⟩
def dkwJ0_init_2_1 : List UInt8 := [182, 0, 27, 87, 42, 43, 181, 0, 31, 177]
abbrev dktJ0_init_2_1 : List UInt8 := dkwJ0_init_2_1 ++ []
def dkwJ0_init_2_0 : List UInt8 := [42, 183, 0, 1, 42, 42, 181, 0, 7, 42, 178, 0, 13, 181, 0, 17, 42, 178, 0, 20, 181, 0, 24, 42]
abbrev dktJ0_init_2_0 : List UInt8 := dkwJ0_init_2_0 ++ dktJ0_init_2_1
theorem dksJ0_init_2_0 : cJ0_init_2.data.toList.drop 0 = dktJ0_init_2_0 := by decide +kernel
theorem dksJ0_init_2_1 : cJ0_init_2.data.toList.drop 24 = dktJ0_init_2_1 := dk_seg dksJ0_init_2_0 24 rfl rfl
theorem dJ0_init_2_0 : decode cJ0_init_2 0 = .ok (.aload_n 0, 1) := dk_42 (dk_at dksJ0_init_2_0 0 rfl rfl)
theorem dJ0_init_2_1 : decode cJ0_init_2 1 = .ok (.invokespecial 1, 3) := dk_183 0 1 (dk_at dksJ0_init_2_0 1 rfl rfl)
theorem dJ0_init_2_4 : decode cJ0_init_2 4 = .ok (.aload_n 0, 1) := dk_42 (dk_at dksJ0_init_2_0 4 rfl rfl)
theorem dJ0_init_2_5 : decode cJ0_init_2 5 = .ok (.aload_n 0, 1) := dk_42 (dk_at dksJ0_init_2_0 5 rfl rfl)
theorem dJ0_init_2_6 : decode cJ0_init_2 6 = .ok (.putfield 7, 3) := dk_181 0 7 (dk_at dksJ0_init_2_0 6 rfl rfl)
theorem dJ0_init_2_9 : decode cJ0_init_2 9 = .ok (.aload_n 0, 1) := dk_42 (dk_at dksJ0_init_2_0 9 rfl rfl)
theorem dJ0_init_2_10 : decode cJ0_init_2 10 = .ok (.getstatic 13, 3) := dk_178 0 13 (dk_at dksJ0_init_2_0 10 rfl rfl)
theorem dJ0_init_2_13 : decode cJ0_init_2 13 = .ok (.putfield 17, 3) := dk_181 0 17 (dk_at dksJ0_init_2_0 13 rfl rfl)
theorem dJ0_init_2_16 : decode cJ0_init_2 16 = .ok (.aload_n 0, 1) := dk_42 (dk_at dksJ0_init_2_0 16 rfl rfl)
theorem dJ0_init_2_17 : decode cJ0_init_2 17 = .ok (.getstatic 20, 3) := dk_178 0 20 (dk_at dksJ0_init_2_0 17 rfl rfl)
theorem dJ0_init_2_20 : decode cJ0_init_2 20 = .ok (.putfield 24, 3) := dk_181 0 24 (dk_at dksJ0_init_2_0 20 rfl rfl)
theorem dJ0_init_2_23 : decode cJ0_init_2 23 = .ok (.aload_n 0, 1) := dk_42 (dk_at dksJ0_init_2_0 23 rfl rfl)
theorem dJ0_init_2_24 : decode cJ0_init_2 24 = .ok (.invokevirtual 27, 3) := dk_182 0 27 (dk_at dksJ0_init_2_1 0 rfl rfl)
theorem dJ0_init_2_27 : decode cJ0_init_2 27 = .ok (.pop, 1) := dk_87 (dk_at dksJ0_init_2_1 3 rfl rfl)
theorem dJ0_init_2_28 : decode cJ0_init_2 28 = .ok (.aload_n 0, 1) := dk_42 (dk_at dksJ0_init_2_1 4 rfl rfl)
theorem dJ0_init_2_29 : decode cJ0_init_2 29 = .ok (.aload_n 1, 1) := dk_43 (dk_at dksJ0_init_2_1 5 rfl rfl)
theorem dJ0_init_2_30 : decode cJ0_init_2 30 = .ok (.putfield 31, 3) := dk_181 0 31 (dk_at dksJ0_init_2_1 6 rfl rfl)
theorem dJ0_init_2_33 : decode cJ0_init_2 33 = .ok (.return_, 1) := dk_177 (dk_at dksJ0_init_2_1 9 rfl rfl)
theorem q83 : (Jvm.Cond.initialized "java/lang/Throwable") ∈ lw_all := lw_g (lw_at lw_m1 3 rfl) rfl
theorem q167 : (Jvm.Cond.declares ({ cls := "java/lang/Throwable", name := "<init>", desc := "()V" } : Jvm.MethodName)) ∈ lw_tbl := lw_at lw_m1 87 rfl
theorem q168 : (Jvm.Cond.declares ({ cls := "java/lang/Throwable", name := "<init>", desc := "(Ljava/lang/String;)V" } : Jvm.MethodName)) ∈ lw_tbl := lw_at lw_m1 88 rfl
theorem q172 : (Jvm.Cond.lays "java/lang/Throwable" "java/lang/Throwable" "cause" "Ljava/lang/Throwable;") ∈ lw_all := lw_g (lw_at lw_m1 92 rfl) rfl
theorem q174 : (Jvm.Cond.lays "java/lang/Throwable" "java/lang/Throwable" "stackTrace" "[Ljava/lang/StackTraceElement;") ∈ lw_all := lw_g (lw_at lw_m1 94 rfl) rfl
theorem q176 : (Jvm.Cond.lays "java/lang/Throwable" "java/lang/Throwable" "suppressedExceptions" "Ljava/util/List;") ∈ lw_all := lw_g (lw_at lw_m1 96 rfl) rfl
theorem q178 : (Jvm.Cond.lays "java/lang/Throwable" "java/lang/Throwable" "detailMessage" "Ljava/lang/String;") ∈ lw_all := lw_g (lw_at lw_m1 98 rfl) rfl
theorem q180 : (Jvm.Cond.lays "java/lang/Throwable" "java/lang/Throwable" "backtrace" "Ljava/lang/Object;") ∈ lw_all := lw_g (lw_at lw_m1 100 rfl) rfl
theorem q181 : (Jvm.Cond.fieldLink "java/lang/Throwable" (198 : Nat) "java/lang/Throwable" "backtrace" "Ljava/lang/Object;") ∈ lw_all := lw_g (lw_at lw_m1 101 rfl) rfl
theorem q182 : (Jvm.Cond.superclass "java/lang/Throwable" "java/lang/Object") ∈ lw_all := lw_g (lw_at lw_m1 102 rfl) rfl
theorem q183 : (Jvm.Cond.instanceMethod ({ cls := "java/lang/Throwable", name := "<init>", desc := "()V" } : Jvm.MethodName)) ∈ lw_all := lw_g (lw_at lw_m1 103 rfl) rfl
theorem q184 : (Jvm.Cond.code ({ cls := "java/lang/Throwable", name := "<init>", desc := "()V" } : Jvm.MethodName) prog_29_method_1_code (1 : Nat) (Option.none : Option Jvm.ClassFile.FieldType)) ∈ lw_all := lw_g (lw_at lw_m1 104 rfl) rfl
theorem q185 : (Jvm.Cond.methodLink "java/lang/Throwable" (1 : Nat) ({ cls := "java/lang/Object", name := "<init>", desc := "()V" } : Jvm.MethodName)) ∈ lw_all := lw_g (lw_at lw_m1 105 rfl) rfl
theorem q186 : (Jvm.Cond.fieldLink "java/lang/Throwable" (13 : Nat) "java/lang/Throwable" "UNASSIGNED_STACK" "[Ljava/lang/StackTraceElement;") ∈ lw_all := lw_g (lw_at lw_m1 106 rfl) rfl
theorem q187 : (Jvm.Cond.laysStatic "java/lang/Throwable" "UNASSIGNED_STACK" "[Ljava/lang/StackTraceElement;") ∈ lw_tbl := lw_at lw_m1 107 rfl
theorem q188 : (Jvm.Cond.fieldLink "java/lang/Throwable" (20 : Nat) "java/lang/Throwable" "SUPPRESSED_SENTINEL" "Ljava/util/List;") ∈ lw_all := lw_g (lw_at lw_m1 108 rfl) rfl
theorem q189 : (Jvm.Cond.laysStatic "java/lang/Throwable" "SUPPRESSED_SENTINEL" "Ljava/util/List;") ∈ lw_tbl := lw_at lw_m1 109 rfl
theorem q190 : (Jvm.Cond.methodLink "java/lang/Throwable" (27 : Nat) ({ cls := "java/lang/Throwable", name := "fillInStackTrace", desc := "()Ljava/lang/Throwable;" } : Jvm.MethodName)) ∈ lw_all := lw_g (lw_at lw_m1 110 rfl) rfl
theorem q191 : (Jvm.Cond.instanceMethod ({ cls := "java/lang/Throwable", name := "fillInStackTrace", desc := "()Ljava/lang/Throwable;" } : Jvm.MethodName)) ∈ lw_all := lw_g (lw_at lw_m1 111 rfl) rfl
theorem q192 : (Jvm.Cond.sameMethod "java/lang/Throwable" "java/lang/Throwable" "fillInStackTrace" "()Ljava/lang/Throwable;") ∈ lw_all := lw_g (lw_at lw_m1 112 rfl) rfl
theorem q195 : (Jvm.Cond.codeSync ({ cls := "java/lang/Throwable", name := "fillInStackTrace", desc := "()Ljava/lang/Throwable;" } : Jvm.MethodName) prog_29_method_18_code (1 : Nat) (Option.some (Jvm.ClassFile.FieldType.object "java/lang/Throwable"))) ∈ lw_all := lw_g (lw_at lw_m1 115 rfl) rfl
theorem q196 : (Jvm.Cond.methodLink "java/lang/Throwable" (202 : Nat) ({ cls := "java/lang/Throwable", name := "fillInStackTrace", desc := "(I)Ljava/lang/Throwable;" } : Jvm.MethodName)) ∈ lw_all := lw_g (lw_at lw_m1 116 rfl) rfl
theorem q197 : (Jvm.Cond.privateMethod ({ cls := "java/lang/Throwable", name := "fillInStackTrace", desc := "(I)Ljava/lang/Throwable;" } : Jvm.MethodName)) ∈ lw_tbl := lw_at lw_m1 117 rfl
theorem q198 : (Jvm.Cond.instanceMethod ({ cls := "java/lang/Throwable", name := "fillInStackTrace", desc := "(I)Ljava/lang/Throwable;" } : Jvm.MethodName)) ∈ lw_all := lw_g (lw_at lw_m1 118 rfl) rfl
theorem q199 : (Jvm.Cond.instantiable "java/lang/Throwable" (6 : Nat)) ∈ lw_all := lw_g (lw_at lw_m1 119 rfl) rfl
theorem q200 : (Jvm.Cond.native ({ cls := "java/lang/Throwable", name := "fillInStackTrace", desc := "(I)Ljava/lang/Throwable;" } : Jvm.MethodName)) ∈ lw_all := lw_g (lw_at lw_m1 120 rfl) rfl
theorem q212 : (Jvm.Cond.fieldLink "java/lang/Throwable" (198 : Nat) "java/lang/Throwable" "backtrace" "Ljava/lang/Object;") ∈ lw_all := lw_g (lw_at lw_m1 132 rfl) rfl
theorem q213 : (Jvm.Cond.fieldLink "java/lang/Throwable" (31 : Nat) "java/lang/Throwable" "detailMessage" "Ljava/lang/String;") ∈ lw_all := lw_g (lw_at lw_m1 133 rfl) rfl
theorem q214 : (Jvm.Cond.fieldLink "java/lang/Throwable" (7 : Nat) "java/lang/Throwable" "cause" "Ljava/lang/Throwable;") ∈ lw_all := lw_g (lw_at lw_m1 134 rfl) rfl
theorem q215 : (Jvm.Cond.fieldLink "java/lang/Throwable" (17 : Nat) "java/lang/Throwable" "stackTrace" "[Ljava/lang/StackTraceElement;") ∈ lw_all := lw_g (lw_at lw_m1 135 rfl) rfl
theorem q216 : (Jvm.Cond.fieldLink "java/lang/Throwable" (24 : Nat) "java/lang/Throwable" "suppressedExceptions" "Ljava/util/List;") ∈ lw_all := lw_g (lw_at lw_m1 136 rfl) rfl
theorem q219 : (Jvm.Cond.soleField "java/lang/Throwable" "backtrace") ∈ lw_all := lw_g (lw_at lw_m1 139 rfl) rfl
theorem q220 : (Jvm.Cond.soleField "java/lang/Throwable" "detailMessage") ∈ lw_all := lw_g (lw_at lw_m1 140 rfl) rfl
theorem q221 : (Jvm.Cond.soleField "java/lang/Throwable" "cause") ∈ lw_all := lw_g (lw_at lw_m1 141 rfl) rfl
theorem q222 : (Jvm.Cond.soleField "java/lang/Throwable" "stackTrace") ∈ lw_all := lw_g (lw_at lw_m1 142 rfl) rfl
theorem q224 : (Jvm.Cond.soleField "java/lang/Throwable" "depth") ∈ lw_all := lw_g (lw_at lw_m1 144 rfl) rfl
theorem q225 : (Jvm.Cond.soleField "java/lang/Throwable" "suppressedExceptions") ∈ lw_all := lw_g (lw_at lw_m1 145 rfl) rfl
theorem q809 : (Jvm.Cond.instanceMethod ({ cls := "java/lang/Throwable", name := "<init>", desc := "(Ljava/lang/String;)V" } : Jvm.MethodName)) ∈ lw_all := lw_g (lw_at lw_m4 9 rfl) rfl
theorem q810 : (Jvm.Cond.code ({ cls := "java/lang/Throwable", name := "<init>", desc := "(Ljava/lang/String;)V" } : Jvm.MethodName) prog_29_method_2_code (2 : Nat) (Option.none : Option Jvm.ClassFile.FieldType)) ∈ lw_all := lw_g (lw_at lw_m4 10 rfl) rfl
theorem q1788 : (Jvm.Cond.sameMethod "java/lang/Throwable" "java/lang/Throwable" "fillInStackTrace" "(I)Ljava/lang/Throwable;") ∈ lw_all := lw_g (lw_at lw_m8 28 rfl) rfl
theorem in_J0 : ∀ w ∈ wsJ00, w ∈ lw_all := lw_in wsJ00 [172, 174, 176, 178, 180] (by decide +kernel) (by decide +kernel)

/-! java/lang/Exception -/
set_option maxRecDepth 100000
def RJ1 : String := "java/lang/Exception"
abbrev cJ1_init : ByteArray := prog_20_method_1_code
def yJ1_init : MethodName := ⟨RJ1, "<init>", "()V"⟩
theorem dJ1_init_0 : decode cJ1_init 0 = .ok (.aload_n 0, 1) := by decide +kernel
theorem dJ1_init_1 : decode cJ1_init 1 = .ok (.invokespecial 1, 3) := by decide +kernel
theorem dJ1_init_4 : decode cJ1_init 4 = .ok (.return_, 1) := by decide +kernel
abbrev cJ1_init_2 : ByteArray := prog_20_method_2_code
def yJ1_init_2 : MethodName := ⟨RJ1, "<init>", "(Ljava/lang/String;)V"⟩
def dkwJ1_init_2_0 : List UInt8 := [42, 43, 183, 0, 7, 177]
abbrev dktJ1_init_2_0 : List UInt8 := dkwJ1_init_2_0 ++ []
theorem dksJ1_init_2_0 : cJ1_init_2.data.toList.drop 0 = dktJ1_init_2_0 := by decide +kernel
theorem dJ1_init_2_0 : decode cJ1_init_2 0 = .ok (.aload_n 0, 1) := dk_42 (dk_at dksJ1_init_2_0 0 rfl rfl)
theorem dJ1_init_2_1 : decode cJ1_init_2 1 = .ok (.aload_n 1, 1) := dk_43 (dk_at dksJ1_init_2_0 1 rfl rfl)
theorem dJ1_init_2_2 : decode cJ1_init_2 2 = .ok (.invokespecial 7, 3) := dk_183 0 7 (dk_at dksJ1_init_2_0 2 rfl rfl)
theorem dJ1_init_2_5 : decode cJ1_init_2 5 = .ok (.return_, 1) := dk_177 (dk_at dksJ1_init_2_0 5 rfl rfl)
theorem q84 : (Jvm.Cond.initialized "java/lang/Exception") ∈ lw_all := lw_g (lw_at lw_m1 4 rfl) rfl
theorem q165 : (Jvm.Cond.declares ({ cls := "java/lang/Exception", name := "<init>", desc := "()V" } : Jvm.MethodName)) ∈ lw_tbl := lw_at lw_m1 85 rfl
theorem q166 : (Jvm.Cond.declares ({ cls := "java/lang/Exception", name := "<init>", desc := "(Ljava/lang/String;)V" } : Jvm.MethodName)) ∈ lw_tbl := lw_at lw_m1 86 rfl
theorem q208 : (Jvm.Cond.instanceMethod ({ cls := "java/lang/Exception", name := "<init>", desc := "()V" } : Jvm.MethodName)) ∈ lw_all := lw_g (lw_at lw_m1 128 rfl) rfl
theorem q209 : (Jvm.Cond.code ({ cls := "java/lang/Exception", name := "<init>", desc := "()V" } : Jvm.MethodName) prog_20_method_1_code (1 : Nat) (Option.none : Option Jvm.ClassFile.FieldType)) ∈ lw_all := lw_g (lw_at lw_m1 129 rfl) rfl
theorem q210 : (Jvm.Cond.methodLink "java/lang/Exception" (1 : Nat) ({ cls := "java/lang/Throwable", name := "<init>", desc := "()V" } : Jvm.MethodName)) ∈ lw_all := lw_g (lw_at lw_m1 130 rfl) rfl
theorem q806 : (Jvm.Cond.instanceMethod ({ cls := "java/lang/Exception", name := "<init>", desc := "(Ljava/lang/String;)V" } : Jvm.MethodName)) ∈ lw_all := lw_g (lw_at lw_m4 6 rfl) rfl
theorem q807 : (Jvm.Cond.code ({ cls := "java/lang/Exception", name := "<init>", desc := "(Ljava/lang/String;)V" } : Jvm.MethodName) prog_20_method_2_code (2 : Nat) (Option.none : Option Jvm.ClassFile.FieldType)) ∈ lw_all := lw_g (lw_at lw_m4 7 rfl) rfl
theorem q808 : (Jvm.Cond.methodLink "java/lang/Exception" (7 : Nat) ({ cls := "java/lang/Throwable", name := "<init>", desc := "(Ljava/lang/String;)V" } : Jvm.MethodName)) ∈ lw_all := lw_g (lw_at lw_m4 8 rfl) rfl

/-! java/lang/RuntimeException -/
set_option maxRecDepth 100000
def RJ2 : String := "java/lang/RuntimeException"
abbrev cJ2_init : ByteArray := prog_24_method_1_code
def yJ2_init : MethodName := ⟨RJ2, "<init>", "()V"⟩
theorem dJ2_init_0 : decode cJ2_init 0 = .ok (.aload_n 0, 1) := by decide +kernel
theorem dJ2_init_1 : decode cJ2_init 1 = .ok (.invokespecial 1, 3) := by decide +kernel
theorem dJ2_init_4 : decode cJ2_init 4 = .ok (.return_, 1) := by decide +kernel
abbrev cJ2_init_2 : ByteArray := prog_24_method_2_code
def yJ2_init_2 : MethodName := ⟨RJ2, "<init>", "(Ljava/lang/String;)V"⟩
def dkwJ2_init_2_0 : List UInt8 := [42, 43, 183, 0, 7, 177]
abbrev dktJ2_init_2_0 : List UInt8 := dkwJ2_init_2_0 ++ []
theorem dksJ2_init_2_0 : cJ2_init_2.data.toList.drop 0 = dktJ2_init_2_0 := by decide +kernel
theorem dJ2_init_2_0 : decode cJ2_init_2 0 = .ok (.aload_n 0, 1) := dk_42 (dk_at dksJ2_init_2_0 0 rfl rfl)
theorem dJ2_init_2_1 : decode cJ2_init_2 1 = .ok (.aload_n 1, 1) := dk_43 (dk_at dksJ2_init_2_0 1 rfl rfl)
theorem dJ2_init_2_2 : decode cJ2_init_2 2 = .ok (.invokespecial 7, 3) := dk_183 0 7 (dk_at dksJ2_init_2_0 2 rfl rfl)
theorem dJ2_init_2_5 : decode cJ2_init_2 5 = .ok (.return_, 1) := dk_177 (dk_at dksJ2_init_2_0 5 rfl rfl)
theorem q85 : (Jvm.Cond.initialized "java/lang/RuntimeException") ∈ lw_all := lw_g (lw_at lw_m1 5 rfl) rfl
theorem q163 : (Jvm.Cond.declares ({ cls := "java/lang/RuntimeException", name := "<init>", desc := "()V" } : Jvm.MethodName)) ∈ lw_tbl := lw_at lw_m1 83 rfl
theorem q164 : (Jvm.Cond.declares ({ cls := "java/lang/RuntimeException", name := "<init>", desc := "(Ljava/lang/String;)V" } : Jvm.MethodName)) ∈ lw_tbl := lw_at lw_m1 84 rfl
theorem q205 : (Jvm.Cond.instanceMethod ({ cls := "java/lang/RuntimeException", name := "<init>", desc := "()V" } : Jvm.MethodName)) ∈ lw_all := lw_g (lw_at lw_m1 125 rfl) rfl
theorem q206 : (Jvm.Cond.code ({ cls := "java/lang/RuntimeException", name := "<init>", desc := "()V" } : Jvm.MethodName) prog_24_method_1_code (1 : Nat) (Option.none : Option Jvm.ClassFile.FieldType)) ∈ lw_all := lw_g (lw_at lw_m1 126 rfl) rfl
theorem q207 : (Jvm.Cond.methodLink "java/lang/RuntimeException" (1 : Nat) ({ cls := "java/lang/Exception", name := "<init>", desc := "()V" } : Jvm.MethodName)) ∈ lw_all := lw_g (lw_at lw_m1 127 rfl) rfl
theorem q803 : (Jvm.Cond.instanceMethod ({ cls := "java/lang/RuntimeException", name := "<init>", desc := "(Ljava/lang/String;)V" } : Jvm.MethodName)) ∈ lw_all := lw_g (lw_at lw_m4 3 rfl) rfl
theorem q804 : (Jvm.Cond.code ({ cls := "java/lang/RuntimeException", name := "<init>", desc := "(Ljava/lang/String;)V" } : Jvm.MethodName) prog_24_method_2_code (2 : Nat) (Option.none : Option Jvm.ClassFile.FieldType)) ∈ lw_all := lw_g (lw_at lw_m4 4 rfl) rfl
theorem q805 : (Jvm.Cond.methodLink "java/lang/RuntimeException" (7 : Nat) ({ cls := "java/lang/Exception", name := "<init>", desc := "(Ljava/lang/String;)V" } : Jvm.MethodName)) ∈ lw_all := lw_g (lw_at lw_m4 5 rfl) rfl

/-! java/lang/Math -/
set_option maxRecDepth 100000
def RJ3 : String := "java/lang/Math"
abbrev cJ3_min : ByteArray := prog_22_method_69_code
def yJ3_min : MethodName := ⟨RJ3, "min", "(II)I"⟩
def dkwJ3_min_0 : List UInt8 := [26, 27, 163, 0, 7, 26, 167, 0, 4, 27, 172]
abbrev dktJ3_min_0 : List UInt8 := dkwJ3_min_0 ++ []
theorem dksJ3_min_0 : cJ3_min.data.toList.drop 0 = dktJ3_min_0 := by decide +kernel
theorem dJ3_min_0 : decode cJ3_min 0 = .ok (.iload_n 0, 1) := dk_26 (dk_at dksJ3_min_0 0 rfl rfl)
theorem dJ3_min_1 : decode cJ3_min 1 = .ok (.iload_n 1, 1) := dk_27 (dk_at dksJ3_min_0 1 rfl rfl)
theorem dJ3_min_2 : decode cJ3_min 2 = .ok (.if_icmp .gt 7, 3) := dk_163 0 7 (dk_at dksJ3_min_0 2 rfl rfl)
theorem dJ3_min_5 : decode cJ3_min 5 = .ok (.iload_n 0, 1) := dk_26 (dk_at dksJ3_min_0 5 rfl rfl)
theorem dJ3_min_6 : decode cJ3_min 6 = .ok (.goto 4, 3) := dk_167 0 4 (dk_at dksJ3_min_0 6 rfl rfl)
theorem dJ3_min_9 : decode cJ3_min 9 = .ok (.iload_n 1, 1) := dk_27 (dk_at dksJ3_min_0 9 rfl rfl)
theorem dJ3_min_10 : decode cJ3_min 10 = .ok (.ireturn, 1) := dk_172 (dk_at dksJ3_min_0 10 rfl rfl)
abbrev cJ3_max : ByteArray := prog_22_method_65_code
def yJ3_max : MethodName := ⟨RJ3, "max", "(II)I"⟩
def dkwJ3_max_0 : List UInt8 := [26, 27, 161, 0, 7, 26, 167, 0, 4, 27, 172]
abbrev dktJ3_max_0 : List UInt8 := dkwJ3_max_0 ++ []
theorem dksJ3_max_0 : cJ3_max.data.toList.drop 0 = dktJ3_max_0 := by decide +kernel
theorem dJ3_max_0 : decode cJ3_max 0 = .ok (.iload_n 0, 1) := dk_26 (dk_at dksJ3_max_0 0 rfl rfl)
theorem dJ3_max_1 : decode cJ3_max 1 = .ok (.iload_n 1, 1) := dk_27 (dk_at dksJ3_max_0 1 rfl rfl)
theorem dJ3_max_2 : decode cJ3_max 2 = .ok (.if_icmp .lt 7, 3) := dk_161 0 7 (dk_at dksJ3_max_0 2 rfl rfl)
theorem dJ3_max_5 : decode cJ3_max 5 = .ok (.iload_n 0, 1) := dk_26 (dk_at dksJ3_max_0 5 rfl rfl)
theorem dJ3_max_6 : decode cJ3_max 6 = .ok (.goto 4, 3) := dk_167 0 4 (dk_at dksJ3_max_0 6 rfl rfl)
theorem dJ3_max_9 : decode cJ3_max 9 = .ok (.iload_n 1, 1) := dk_27 (dk_at dksJ3_max_0 9 rfl rfl)
theorem dJ3_max_10 : decode cJ3_max 10 = .ok (.ireturn, 1) := dk_172 (dk_at dksJ3_max_0 10 rfl rfl)
abbrev cJ3_abs : ByteArray := prog_22_method_61_code
def yJ3_abs : MethodName := ⟨RJ3, "abs", "(J)J"⟩
def dkwJ3_abs_0 : List UInt8 := [30, 9, 148, 156, 0, 8, 30, 117, 167, 0, 4, 30, 173]
abbrev dktJ3_abs_0 : List UInt8 := dkwJ3_abs_0 ++ []
theorem dksJ3_abs_0 : cJ3_abs.data.toList.drop 0 = dktJ3_abs_0 := by decide +kernel
theorem dJ3_abs_0 : decode cJ3_abs 0 = .ok (.lload_n 0, 1) := dk_30 (dk_at dksJ3_abs_0 0 rfl rfl)
theorem dJ3_abs_1 : decode cJ3_abs 1 = .ok (.lconst 0, 1) := dk_9 (dk_at dksJ3_abs_0 1 rfl rfl)
theorem dJ3_abs_2 : decode cJ3_abs 2 = .ok (.lcmp, 1) := dk_148 (dk_at dksJ3_abs_0 2 rfl rfl)
theorem dJ3_abs_3 : decode cJ3_abs 3 = .ok (.ifCond .ge 8, 3) := dk_156 0 8 (dk_at dksJ3_abs_0 3 rfl rfl)
theorem dJ3_abs_6 : decode cJ3_abs 6 = .ok (.lload_n 0, 1) := dk_30 (dk_at dksJ3_abs_0 6 rfl rfl)
theorem dJ3_abs_7 : decode cJ3_abs 7 = .ok (.lneg, 1) := dk_117 (dk_at dksJ3_abs_0 7 rfl rfl)
theorem dJ3_abs_8 : decode cJ3_abs 8 = .ok (.goto 4, 3) := dk_167 0 4 (dk_at dksJ3_abs_0 8 rfl rfl)
theorem dJ3_abs_11 : decode cJ3_abs 11 = .ok (.lload_n 0, 1) := dk_30 (dk_at dksJ3_abs_0 11 rfl rfl)
theorem dJ3_abs_12 : decode cJ3_abs 12 = .ok (.lreturn, 1) := dk_173 (dk_at dksJ3_abs_0 12 rfl rfl)
theorem q96 : (Jvm.Cond.initialized "java/lang/Math") ∈ lw_all := lw_g (lw_at lw_m1 16 rfl) rfl
theorem q700 : (Jvm.Cond.static ({ cls := "java/lang/Math", name := "min", desc := "(II)I" } : Jvm.MethodName)) ∈ lw_all := lw_g (lw_at lw_m3 140 rfl) rfl
theorem q701 : (Jvm.Cond.code ({ cls := "java/lang/Math", name := "min", desc := "(II)I" } : Jvm.MethodName) prog_22_method_69_code (2 : Nat) (Option.some Jvm.ClassFile.FieldType.int)) ∈ lw_all := lw_g (lw_at lw_m3 141 rfl) rfl
theorem q703 : (Jvm.Cond.static ({ cls := "java/lang/Math", name := "max", desc := "(II)I" } : Jvm.MethodName)) ∈ lw_all := lw_g (lw_at lw_m3 143 rfl) rfl
theorem q704 : (Jvm.Cond.code ({ cls := "java/lang/Math", name := "max", desc := "(II)I" } : Jvm.MethodName) prog_22_method_65_code (2 : Nat) (Option.some Jvm.ClassFile.FieldType.int)) ∈ lw_all := lw_g (lw_at lw_m3 144 rfl) rfl
theorem q1148 : (Jvm.Cond.static ({ cls := "java/lang/Math", name := "abs", desc := "(J)J" } : Jvm.MethodName)) ∈ lw_all := lw_g (lw_at lw_m5 108 rfl) rfl
theorem q1149 : (Jvm.Cond.code ({ cls := "java/lang/Math", name := "abs", desc := "(J)J" } : Jvm.MethodName) prog_22_method_61_code (2 : Nat) (Option.some Jvm.ClassFile.FieldType.long)) ∈ lw_all := lw_g (lw_at lw_m5 109 rfl) rfl

/-! java/lang/ClassCastException -/
set_option maxRecDepth 100000
def RJ4 : String := "java/lang/ClassCastException"
def TJ4 : u_T := fun k => match k with
  | 0 => ("java/lang/Throwable", "backtrace", "Ljava/lang/Object;", false)
  | 1 => ("java/lang/Throwable", "detailMessage", "Ljava/lang/String;", false)
  | 2 => ("java/lang/Throwable", "cause", "Ljava/lang/Throwable;", false)
  | 3 => ("java/lang/Throwable", "stackTrace", "[Ljava/lang/StackTraceElement;", false)
  | 4 => ("java/lang/Throwable", "depth", "I", false)
  | _ => ("java/lang/Throwable", "suppressedExceptions", "Ljava/util/List;", false)
def tyJ4 : Nat → FieldType := fun k => match k with
  | 0 => .object "java/lang/Object"
  | 1 => .object "java/lang/String"
  | 2 => .object "java/lang/Throwable"
  | 3 => .array (.object "java/lang/StackTraceElement")
  | 4 => .int
  | _ => .object "java/util/List"
abbrev wsJ40 : List Cond := u_ws RJ4 TJ4 6
theorem nmJ4 : ∀ a, a < 6 → ∀ b, b < 6 → a ≠ b → (TJ4 a).2.1 ≠ (TJ4 b).2.1 := by decide +kernel
theorem tyJ4_ok : ∀ k, k < 6 → parseFieldDescriptor (TJ4 k).2.2.1 = some (tyJ4 k) := by decide +kernel
abbrev cJ4_init : ByteArray := prog_19_method_2_code
def yJ4_init : MethodName := ⟨RJ4, "<init>", "(Ljava/lang/String;)V"⟩
def dkwJ4_init_0 : List UInt8 := [42, 43, 183, 0, 7, 177]
abbrev dktJ4_init_0 : List UInt8 := dkwJ4_init_0 ++ []
theorem dksJ4_init_0 : cJ4_init.data.toList.drop 0 = dktJ4_init_0 := by decide +kernel
theorem dJ4_init_0 : decode cJ4_init 0 = .ok (.aload_n 0, 1) := dk_42 (dk_at dksJ4_init_0 0 rfl rfl)
theorem dJ4_init_1 : decode cJ4_init 1 = .ok (.aload_n 1, 1) := dk_43 (dk_at dksJ4_init_0 1 rfl rfl)
theorem dJ4_init_2 : decode cJ4_init 2 = .ok (.invokespecial 7, 3) := dk_183 0 7 (dk_at dksJ4_init_0 2 rfl rfl)
theorem dJ4_init_5 : decode cJ4_init 5 = .ok (.return_, 1) := dk_177 (dk_at dksJ4_init_0 5 rfl rfl)
theorem q97 : (Jvm.Cond.initialized "java/lang/ClassCastException") ∈ lw_all := lw_g (lw_at lw_m1 17 rfl) rfl
theorem q193 : (Jvm.Cond.selects "java/lang/ClassCastException" ({ cls := "java/lang/Throwable", name := "fillInStackTrace", desc := "()Ljava/lang/Throwable;" } : Jvm.MethodName) ({ cls := "java/lang/Throwable", name := "fillInStackTrace", desc := "()Ljava/lang/Throwable;" } : Jvm.MethodName)) ∈ lw_all := lw_g (lw_at lw_m1 113 rfl) rfl
theorem q799 : (Jvm.Cond.instantiable "java/lang/ClassCastException" (6 : Nat)) ∈ lw_all := lw_g (lw_at lw_m3 239 rfl) rfl
theorem q800 : (Jvm.Cond.instanceMethod ({ cls := "java/lang/ClassCastException", name := "<init>", desc := "(Ljava/lang/String;)V" } : Jvm.MethodName)) ∈ lw_all := lw_g (lw_at lw_m4 0 rfl) rfl
theorem q801 : (Jvm.Cond.code ({ cls := "java/lang/ClassCastException", name := "<init>", desc := "(Ljava/lang/String;)V" } : Jvm.MethodName) prog_19_method_2_code (2 : Nat) (Option.none : Option Jvm.ClassFile.FieldType)) ∈ lw_all := lw_g (lw_at lw_m4 1 rfl) rfl
theorem q802 : (Jvm.Cond.methodLink "java/lang/ClassCastException" (7 : Nat) ({ cls := "java/lang/RuntimeException", name := "<init>", desc := "(Ljava/lang/String;)V" } : Jvm.MethodName)) ∈ lw_all := lw_g (lw_at lw_m4 2 rfl) rfl
theorem q811 : (Jvm.Cond.lays "java/lang/ClassCastException" "java/lang/Throwable" "backtrace" "Ljava/lang/Object;") ∈ lw_all := lw_g (lw_at lw_m4 11 rfl) rfl
theorem q812 : (Jvm.Cond.lays "java/lang/ClassCastException" "java/lang/Throwable" "detailMessage" "Ljava/lang/String;") ∈ lw_all := lw_g (lw_at lw_m4 12 rfl) rfl
theorem q813 : (Jvm.Cond.lays "java/lang/ClassCastException" "java/lang/Throwable" "cause" "Ljava/lang/Throwable;") ∈ lw_all := lw_g (lw_at lw_m4 13 rfl) rfl
theorem q814 : (Jvm.Cond.lays "java/lang/ClassCastException" "java/lang/Throwable" "stackTrace" "[Ljava/lang/StackTraceElement;") ∈ lw_all := lw_g (lw_at lw_m4 14 rfl) rfl
theorem q815 : (Jvm.Cond.lays "java/lang/ClassCastException" "java/lang/Throwable" "depth" "I") ∈ lw_all := lw_g (lw_at lw_m4 15 rfl) rfl
theorem q816 : (Jvm.Cond.lays "java/lang/ClassCastException" "java/lang/Throwable" "suppressedExceptions" "Ljava/util/List;") ∈ lw_all := lw_g (lw_at lw_m4 16 rfl) rfl
theorem q817 : (Jvm.Cond.superclass "java/lang/ClassCastException" "java/lang/RuntimeException") ∈ lw_all := lw_g (lw_at lw_m4 17 rfl) rfl
theorem q818 : (Jvm.Cond.castable "java/lang/ClassCastException" "java/lang/ClassCastException") ∈ lw_tbl := lw_at lw_m4 18 rfl
theorem q819 : (Jvm.Cond.selects "java/lang/ClassCastException" ({ cls := "java/lang/Throwable", name := "fillInStackTrace", desc := "(I)Ljava/lang/Throwable;" } : Jvm.MethodName) ({ cls := "java/lang/Throwable", name := "fillInStackTrace", desc := "(I)Ljava/lang/Throwable;" } : Jvm.MethodName)) ∈ lw_all := lw_g (lw_at lw_m4 19 rfl) rfl
theorem in_J4 : ∀ w ∈ wsJ40, w ∈ lw_all := lw_in wsJ40 [811, 812, 813, 814, 815, 816] (by decide +kernel) (by decide +kernel)

/-! java/lang/String -/
set_option maxRecDepth 100000
def RJ5 : String := "java/lang/String"
def TJ5 : u_T := fun k => match k with
  | 0 => ("java/lang/String", "value", "[B", true)
  | _ => ("java/lang/String", "coder", "B", true)
def tyJ5 : Nat → FieldType := fun k => match k with
  | 0 => .array .byte
  | _ => .byte
abbrev wsJ50 : List Cond := u_ws RJ5 TJ5 2
theorem nmJ5 : ∀ a, a < 2 → ∀ b, b < 2 → a ≠ b → (TJ5 a).2.1 ≠ (TJ5 b).2.1 := by decide +kernel
theorem tyJ5_ok : ∀ k, k < 2 → parseFieldDescriptor (TJ5 k).2.2.1 = some (tyJ5 k) := by decide +kernel
abbrev cJ5_length : ByteArray := prog_25_method_54_code
def yJ5_length : MethodName := ⟨RJ5, "length", "()I"⟩
def dkwJ5_length_0 : List UInt8 := [42, 180, 0, 9, 190, 42, 182, 1, 79, 122, 172]
abbrev dktJ5_length_0 : List UInt8 := dkwJ5_length_0 ++ []
theorem dksJ5_length_0 : cJ5_length.data.toList.drop 0 = dktJ5_length_0 := by decide +kernel
theorem dJ5_length_0 : decode cJ5_length 0 = .ok (.aload_n 0, 1) := dk_42 (dk_at dksJ5_length_0 0 rfl rfl)
theorem dJ5_length_1 : decode cJ5_length 1 = .ok (.getfield 9, 3) := dk_180 0 9 (dk_at dksJ5_length_0 1 rfl rfl)
theorem dJ5_length_4 : decode cJ5_length 4 = .ok (.arraylength, 1) := dk_190 (dk_at dksJ5_length_0 4 rfl rfl)
theorem dJ5_length_5 : decode cJ5_length 5 = .ok (.aload_n 0, 1) := dk_42 (dk_at dksJ5_length_0 5 rfl rfl)
theorem dJ5_length_6 : decode cJ5_length 6 = .ok (.invokevirtual 335, 3) := dk_182 1 79 (dk_at dksJ5_length_0 6 rfl rfl)
theorem dJ5_length_9 : decode cJ5_length 9 = .ok (.ishr, 1) := dk_122 (dk_at dksJ5_length_0 9 rfl rfl)
theorem dJ5_length_10 : decode cJ5_length 10 = .ok (.ireturn, 1) := dk_172 (dk_at dksJ5_length_0 10 rfl rfl)
abbrev cJ5_coder : ByteArray := prog_25_method_152_code
def yJ5_coder : MethodName := ⟨RJ5, "coder", "()B"⟩
def dkwJ5_coder_0 : List UInt8 := [178, 0, 38, 153, 0, 10, 42, 180, 0, 15, 167, 0, 4, 4, 172]
abbrev dktJ5_coder_0 : List UInt8 := dkwJ5_coder_0 ++ []
theorem dksJ5_coder_0 : cJ5_coder.data.toList.drop 0 = dktJ5_coder_0 := by decide +kernel
theorem dJ5_coder_0 : decode cJ5_coder 0 = .ok (.getstatic 38, 3) := dk_178 0 38 (dk_at dksJ5_coder_0 0 rfl rfl)
theorem dJ5_coder_3 : decode cJ5_coder 3 = .ok (.ifCond .eq 10, 3) := dk_153 0 10 (dk_at dksJ5_coder_0 3 rfl rfl)
theorem dJ5_coder_6 : decode cJ5_coder 6 = .ok (.aload_n 0, 1) := dk_42 (dk_at dksJ5_coder_0 6 rfl rfl)
theorem dJ5_coder_7 : decode cJ5_coder 7 = .ok (.getfield 15, 3) := dk_180 0 15 (dk_at dksJ5_coder_0 7 rfl rfl)
theorem dJ5_coder_10 : decode cJ5_coder 10 = .ok (.goto 4, 3) := dk_167 0 4 (dk_at dksJ5_coder_0 10 rfl rfl)
theorem dJ5_coder_13 : decode cJ5_coder 13 = .ok (.iconst 1, 1) := dk_4 (dk_at dksJ5_coder_0 13 rfl rfl)
theorem dJ5_coder_14 : decode cJ5_coder 14 = .ok (.ireturn, 1) := dk_172 (dk_at dksJ5_coder_0 14 rfl rfl)
abbrev cJ5_charAt : ByteArray := prog_25_method_56_code
def yJ5_charAt : MethodName := ⟨RJ5, "charAt", "(I)C"⟩
def dkwJ5_charAt_1 : List UInt8 := [172]
abbrev dktJ5_charAt_1 : List UInt8 := dkwJ5_charAt_1 ++ []
def dkwJ5_charAt_0 : List UInt8 := [42, 182, 1, 236, 153, 0, 12, 42, 180, 0, 9, 27, 184, 1, 239, 172, 42, 180, 0, 9, 27, 184, 1, 242]
abbrev dktJ5_charAt_0 : List UInt8 := dkwJ5_charAt_0 ++ dktJ5_charAt_1
theorem dksJ5_charAt_0 : cJ5_charAt.data.toList.drop 0 = dktJ5_charAt_0 := by decide +kernel
theorem dksJ5_charAt_1 : cJ5_charAt.data.toList.drop 24 = dktJ5_charAt_1 := dk_seg dksJ5_charAt_0 24 rfl rfl
theorem dJ5_charAt_0 : decode cJ5_charAt 0 = .ok (.aload_n 0, 1) := dk_42 (dk_at dksJ5_charAt_0 0 rfl rfl)
theorem dJ5_charAt_1 : decode cJ5_charAt 1 = .ok (.invokevirtual 492, 3) := dk_182 1 236 (dk_at dksJ5_charAt_0 1 rfl rfl)
theorem dJ5_charAt_4 : decode cJ5_charAt 4 = .ok (.ifCond .eq 12, 3) := dk_153 0 12 (dk_at dksJ5_charAt_0 4 rfl rfl)
theorem dJ5_charAt_7 : decode cJ5_charAt 7 = .ok (.aload_n 0, 1) := dk_42 (dk_at dksJ5_charAt_0 7 rfl rfl)
theorem dJ5_charAt_8 : decode cJ5_charAt 8 = .ok (.getfield 9, 3) := dk_180 0 9 (dk_at dksJ5_charAt_0 8 rfl rfl)
theorem dJ5_charAt_11 : decode cJ5_charAt 11 = .ok (.iload_n 1, 1) := dk_27 (dk_at dksJ5_charAt_0 11 rfl rfl)
theorem dJ5_charAt_12 : decode cJ5_charAt 12 = .ok (.invokestatic 495, 3) := dk_184 1 239 (dk_at dksJ5_charAt_0 12 rfl rfl)
theorem dJ5_charAt_15 : decode cJ5_charAt 15 = .ok (.ireturn, 1) := dk_172 (dk_at dksJ5_charAt_0 15 rfl rfl)
theorem dJ5_charAt_16 : decode cJ5_charAt 16 = .ok (.aload_n 0, 1) := dk_42 (dk_at dksJ5_charAt_0 16 rfl rfl)
theorem dJ5_charAt_17 : decode cJ5_charAt 17 = .ok (.getfield 9, 3) := dk_180 0 9 (dk_at dksJ5_charAt_0 17 rfl rfl)
theorem dJ5_charAt_20 : decode cJ5_charAt 20 = .ok (.iload_n 1, 1) := dk_27 (dk_at dksJ5_charAt_0 20 rfl rfl)
theorem dJ5_charAt_21 : decode cJ5_charAt 21 = .ok (.invokestatic 498, 3) := dk_184 1 242 (dk_at dksJ5_charAt_0 21 rfl rfl)
theorem dJ5_charAt_24 : decode cJ5_charAt 24 = .ok (.ireturn, 1) := dk_172 (dk_at dksJ5_charAt_1 0 rfl rfl)
abbrev cJ5_isLatin1 : ByteArray := prog_25_method_154_code
def yJ5_isLatin1 : MethodName := ⟨RJ5, "isLatin1", "()Z"⟩
def dkwJ5_isLatin1_0 : List UInt8 := [178, 0, 38, 153, 0, 14, 42, 180, 0, 15, 154, 0, 7, 4, 167, 0, 4, 3, 172]
abbrev dktJ5_isLatin1_0 : List UInt8 := dkwJ5_isLatin1_0 ++ []
theorem dksJ5_isLatin1_0 : cJ5_isLatin1.data.toList.drop 0 = dktJ5_isLatin1_0 := by decide +kernel
theorem dJ5_isLatin1_0 : decode cJ5_isLatin1 0 = .ok (.getstatic 38, 3) := dk_178 0 38 (dk_at dksJ5_isLatin1_0 0 rfl rfl)
theorem dJ5_isLatin1_3 : decode cJ5_isLatin1 3 = .ok (.ifCond .eq 14, 3) := dk_153 0 14 (dk_at dksJ5_isLatin1_0 3 rfl rfl)
theorem dJ5_isLatin1_6 : decode cJ5_isLatin1 6 = .ok (.aload_n 0, 1) := dk_42 (dk_at dksJ5_isLatin1_0 6 rfl rfl)
theorem dJ5_isLatin1_7 : decode cJ5_isLatin1 7 = .ok (.getfield 15, 3) := dk_180 0 15 (dk_at dksJ5_isLatin1_0 7 rfl rfl)
theorem dJ5_isLatin1_10 : decode cJ5_isLatin1 10 = .ok (.ifCond .ne 7, 3) := dk_154 0 7 (dk_at dksJ5_isLatin1_0 10 rfl rfl)
theorem dJ5_isLatin1_13 : decode cJ5_isLatin1 13 = .ok (.iconst 1, 1) := dk_4 (dk_at dksJ5_isLatin1_0 13 rfl rfl)
theorem dJ5_isLatin1_14 : decode cJ5_isLatin1 14 = .ok (.goto 4, 3) := dk_167 0 4 (dk_at dksJ5_isLatin1_0 14 rfl rfl)
theorem dJ5_isLatin1_17 : decode cJ5_isLatin1 17 = .ok (.iconst 0, 1) := dk_3 (dk_at dksJ5_isLatin1_0 17 rfl rfl)
theorem dJ5_isLatin1_18 : decode cJ5_isLatin1 18 = .ok (.ireturn, 1) := dk_172 (dk_at dksJ5_isLatin1_0 18 rfl rfl)
abbrev cJ5_checkIndex : ByteArray := prog_25_method_155_code
def yJ5_checkIndex : MethodName := ⟨RJ5, "checkIndex", "(II)V"⟩
def dkwJ5_checkIndex_0 : List UInt8 := [26, 27, 178, 4, 29, 184, 4, 35, 87, 177]
abbrev dktJ5_checkIndex_0 : List UInt8 := dkwJ5_checkIndex_0 ++ []
theorem dksJ5_checkIndex_0 : cJ5_checkIndex.data.toList.drop 0 = dktJ5_checkIndex_0 := by decide +kernel
theorem dJ5_checkIndex_0 : decode cJ5_checkIndex 0 = .ok (.iload_n 0, 1) := dk_26 (dk_at dksJ5_checkIndex_0 0 rfl rfl)
theorem dJ5_checkIndex_1 : decode cJ5_checkIndex 1 = .ok (.iload_n 1, 1) := dk_27 (dk_at dksJ5_checkIndex_0 1 rfl rfl)
theorem dJ5_checkIndex_2 : decode cJ5_checkIndex 2 = .ok (.getstatic 1053, 3) := dk_178 4 29 (dk_at dksJ5_checkIndex_0 2 rfl rfl)
theorem dJ5_checkIndex_5 : decode cJ5_checkIndex 5 = .ok (.invokestatic 1059, 3) := dk_184 4 35 (dk_at dksJ5_checkIndex_0 5 rfl rfl)
theorem dJ5_checkIndex_8 : decode cJ5_checkIndex 8 = .ok (.pop, 1) := dk_87 (dk_at dksJ5_checkIndex_0 8 rfl rfl)
theorem dJ5_checkIndex_9 : decode cJ5_checkIndex 9 = .ok (.return_, 1) := dk_177 (dk_at dksJ5_checkIndex_0 9 rfl rfl)
theorem q98 : (Jvm.Cond.initialized "java/lang/String") ∈ lw_all := lw_g (lw_at lw_m1 18 rfl) rfl
theorem q375 : (Jvm.Cond.instanceMethod ({ cls := "java/lang/String", name := "length", desc := "()I" } : Jvm.MethodName)) ∈ lw_all := lw_g (lw_at lw_m2 55 rfl) rfl
theorem q376 : (Jvm.Cond.selects "java/lang/String" ({ cls := "java/lang/String", name := "length", desc := "()I" } : Jvm.MethodName) ({ cls := "java/lang/String", name := "length", desc := "()I" } : Jvm.MethodName)) ∈ lw_all := lw_g (lw_at lw_m2 56 rfl) rfl
theorem q377 : (Jvm.Cond.code ({ cls := "java/lang/String", name := "length", desc := "()I" } : Jvm.MethodName) prog_25_method_54_code (1 : Nat) (Option.some Jvm.ClassFile.FieldType.int)) ∈ lw_all := lw_g (lw_at lw_m2 57 rfl) rfl
theorem q378 : (Jvm.Cond.methodLink "java/lang/String" (335 : Nat) ({ cls := "java/lang/String", name := "coder", desc := "()B" } : Jvm.MethodName)) ∈ lw_all := lw_g (lw_at lw_m2 58 rfl) rfl
theorem q379 : (Jvm.Cond.instanceMethod ({ cls := "java/lang/String", name := "coder", desc := "()B" } : Jvm.MethodName)) ∈ lw_all := lw_g (lw_at lw_m2 59 rfl) rfl
theorem q380 : (Jvm.Cond.selects "java/lang/String" ({ cls := "java/lang/String", name := "coder", desc := "()B" } : Jvm.MethodName) ({ cls := "java/lang/String", name := "coder", desc := "()B" } : Jvm.MethodName)) ∈ lw_all := lw_g (lw_at lw_m2 60 rfl) rfl
theorem q381 : (Jvm.Cond.code ({ cls := "java/lang/String", name := "coder", desc := "()B" } : Jvm.MethodName) prog_25_method_152_code (1 : Nat) (Option.some Jvm.ClassFile.FieldType.byte)) ∈ lw_all := lw_g (lw_at lw_m2 61 rfl) rfl
theorem q382 : (Jvm.Cond.fieldLink "java/lang/String" (38 : Nat) "java/lang/String" "COMPACT_STRINGS" "Z") ∈ lw_all := lw_g (lw_at lw_m2 62 rfl) rfl
theorem q383 : (Jvm.Cond.laysStatic "java/lang/String" "COMPACT_STRINGS" "Z") ∈ lw_tbl := lw_at lw_m2 63 rfl
theorem q385 : (Jvm.Cond.instanceMethod ({ cls := "java/lang/String", name := "charAt", desc := "(I)C" } : Jvm.MethodName)) ∈ lw_all := lw_g (lw_at lw_m2 65 rfl) rfl
theorem q386 : (Jvm.Cond.selects "java/lang/String" ({ cls := "java/lang/String", name := "charAt", desc := "(I)C" } : Jvm.MethodName) ({ cls := "java/lang/String", name := "charAt", desc := "(I)C" } : Jvm.MethodName)) ∈ lw_all := lw_g (lw_at lw_m2 66 rfl) rfl
theorem q387 : (Jvm.Cond.code ({ cls := "java/lang/String", name := "charAt", desc := "(I)C" } : Jvm.MethodName) prog_25_method_56_code (2 : Nat) (Option.some Jvm.ClassFile.FieldType.char)) ∈ lw_all := lw_g (lw_at lw_m2 67 rfl) rfl
theorem q388 : (Jvm.Cond.methodLink "java/lang/String" (492 : Nat) ({ cls := "java/lang/String", name := "isLatin1", desc := "()Z" } : Jvm.MethodName)) ∈ lw_all := lw_g (lw_at lw_m2 68 rfl) rfl
theorem q389 : (Jvm.Cond.instanceMethod ({ cls := "java/lang/String", name := "isLatin1", desc := "()Z" } : Jvm.MethodName)) ∈ lw_all := lw_g (lw_at lw_m2 69 rfl) rfl
theorem q390 : (Jvm.Cond.selects "java/lang/String" ({ cls := "java/lang/String", name := "isLatin1", desc := "()Z" } : Jvm.MethodName) ({ cls := "java/lang/String", name := "isLatin1", desc := "()Z" } : Jvm.MethodName)) ∈ lw_all := lw_g (lw_at lw_m2 70 rfl) rfl
theorem q391 : (Jvm.Cond.code ({ cls := "java/lang/String", name := "isLatin1", desc := "()Z" } : Jvm.MethodName) prog_25_method_154_code (1 : Nat) (Option.some Jvm.ClassFile.FieldType.boolean)) ∈ lw_all := lw_g (lw_at lw_m2 71 rfl) rfl
theorem q392 : (Jvm.Cond.methodLink "java/lang/String" (495 : Nat) ({ cls := "java/lang/StringLatin1", name := "charAt", desc := "([BI)C" } : Jvm.MethodName)) ∈ lw_all := lw_g (lw_at lw_m2 72 rfl) rfl
theorem q396 : (Jvm.Cond.static ({ cls := "java/lang/String", name := "checkIndex", desc := "(II)V" } : Jvm.MethodName)) ∈ lw_all := lw_g (lw_at lw_m2 76 rfl) rfl
theorem q397 : (Jvm.Cond.code ({ cls := "java/lang/String", name := "checkIndex", desc := "(II)V" } : Jvm.MethodName) prog_25_method_155_code (2 : Nat) (Option.none : Option Jvm.ClassFile.FieldType)) ∈ lw_all := lw_g (lw_at lw_m2 77 rfl) rfl
theorem q398 : (Jvm.Cond.fieldLink "java/lang/String" (1053 : Nat) "jdk/internal/util/Preconditions" "SIOOBE_FORMATTER" "Ljava/util/function/BiFunction;") ∈ lw_all := lw_g (lw_at lw_m2 78 rfl) rfl
theorem q400 : (Jvm.Cond.methodLink "java/lang/String" (1059 : Nat) ({ cls := "jdk/internal/util/Preconditions", name := "checkIndex", desc := "(IILjava/util/function/BiFunction;)I" } : Jvm.MethodName)) ∈ lw_all := lw_g (lw_at lw_m2 80 rfl) rfl
theorem q403 : (Jvm.Cond.methodLink "java/lang/String" (498 : Nat) ({ cls := "java/lang/StringUTF16", name := "charAt", desc := "([BI)C" } : Jvm.MethodName)) ∈ lw_all := lw_g (lw_at lw_m2 83 rfl) rfl
theorem q820 : (Jvm.Cond.instantiable "java/lang/String" (4 : Nat)) ∈ lw_all := lw_g (lw_at lw_m4 20 rfl) rfl
theorem q821 : (Jvm.Cond.laysFinal "java/lang/String" "java/lang/String" "value" "[B") ∈ lw_all := lw_g (lw_at lw_m4 21 rfl) rfl
theorem q822 : (Jvm.Cond.soleField "java/lang/String" "value") ∈ lw_all := lw_g (lw_at lw_m4 22 rfl) rfl
theorem q823 : (Jvm.Cond.laysFinal "java/lang/String" "java/lang/String" "coder" "B") ∈ lw_all := lw_g (lw_at lw_m4 23 rfl) rfl
theorem q824 : (Jvm.Cond.soleField "java/lang/String" "coder") ∈ lw_all := lw_g (lw_at lw_m4 24 rfl) rfl
theorem q1804 : (Jvm.Cond.fieldLink "java/lang/String" (9 : Nat) "java/lang/String" "value" "[B") ∈ lw_all := lw_g (lw_at lw_m8 44 rfl) rfl
theorem q1805 : (Jvm.Cond.fieldLink "java/lang/String" (15 : Nat) "java/lang/String" "coder" "B") ∈ lw_all := lw_g (lw_at lw_m8 45 rfl) rfl
theorem in_J5 : ∀ w ∈ wsJ50, w ∈ lw_all := lw_in wsJ50 [821, 823] (by decide +kernel) (by decide +kernel)

/-! java/lang/Integer -/
set_option maxRecDepth 100000
def RJ6 : String := "java/lang/Integer"
abbrev cJ6_bitCount : ByteArray := prog_21_method_49_code
def yJ6_bitCount : MethodName := ⟨RJ6, "bitCount", "(I)I"⟩
def dkwJ6_bitCount_2 : List UInt8 := [26, 16, 63, 126, 172]
abbrev dktJ6_bitCount_2 : List UInt8 := dkwJ6_bitCount_2 ++ []
def dkwJ6_bitCount_1 : List UInt8 := [26, 26, 7, 124, 96, 19, 1, 11, 126, 59, 26, 26, 16, 8, 124, 96, 59, 26, 26, 16, 16, 124, 96, 59]
abbrev dktJ6_bitCount_1 : List UInt8 := dkwJ6_bitCount_1 ++ dktJ6_bitCount_2
def dkwJ6_bitCount_0 : List UInt8 := [26, 26, 4, 124, 19, 1, 9, 126, 100, 59, 26, 19, 1, 10, 126, 26, 5, 124, 19, 1, 10, 126, 96, 59]
abbrev dktJ6_bitCount_0 : List UInt8 := dkwJ6_bitCount_0 ++ dktJ6_bitCount_1
theorem dksJ6_bitCount_0 : cJ6_bitCount.data.toList.drop 0 = dktJ6_bitCount_0 := by decide +kernel
theorem dksJ6_bitCount_1 : cJ6_bitCount.data.toList.drop 24 = dktJ6_bitCount_1 := dk_seg dksJ6_bitCount_0 24 rfl rfl
theorem dksJ6_bitCount_2 : cJ6_bitCount.data.toList.drop 48 = dktJ6_bitCount_2 := dk_seg dksJ6_bitCount_1 24 rfl rfl
theorem dJ6_bitCount_0 : decode cJ6_bitCount 0 = .ok (.iload_n 0, 1) := dk_26 (dk_at dksJ6_bitCount_0 0 rfl rfl)
theorem dJ6_bitCount_1 : decode cJ6_bitCount 1 = .ok (.iload_n 0, 1) := dk_26 (dk_at dksJ6_bitCount_0 1 rfl rfl)
theorem dJ6_bitCount_2 : decode cJ6_bitCount 2 = .ok (.iconst 1, 1) := dk_4 (dk_at dksJ6_bitCount_0 2 rfl rfl)
theorem dJ6_bitCount_3 : decode cJ6_bitCount 3 = .ok (.iushr, 1) := dk_124 (dk_at dksJ6_bitCount_0 3 rfl rfl)
theorem dJ6_bitCount_4 : decode cJ6_bitCount 4 = .ok (.ldc_w 265, 3) := dk_19 1 9 (dk_at dksJ6_bitCount_0 4 rfl rfl)
theorem dJ6_bitCount_7 : decode cJ6_bitCount 7 = .ok (.iand, 1) := dk_126 (dk_at dksJ6_bitCount_0 7 rfl rfl)
theorem dJ6_bitCount_8 : decode cJ6_bitCount 8 = .ok (.isub, 1) := dk_100 (dk_at dksJ6_bitCount_0 8 rfl rfl)
theorem dJ6_bitCount_9 : decode cJ6_bitCount 9 = .ok (.istore_n 0, 1) := dk_59 (dk_at dksJ6_bitCount_0 9 rfl rfl)
theorem dJ6_bitCount_10 : decode cJ6_bitCount 10 = .ok (.iload_n 0, 1) := dk_26 (dk_at dksJ6_bitCount_0 10 rfl rfl)
theorem dJ6_bitCount_11 : decode cJ6_bitCount 11 = .ok (.ldc_w 266, 3) := dk_19 1 10 (dk_at dksJ6_bitCount_0 11 rfl rfl)
theorem dJ6_bitCount_14 : decode cJ6_bitCount 14 = .ok (.iand, 1) := dk_126 (dk_at dksJ6_bitCount_0 14 rfl rfl)
theorem dJ6_bitCount_15 : decode cJ6_bitCount 15 = .ok (.iload_n 0, 1) := dk_26 (dk_at dksJ6_bitCount_0 15 rfl rfl)
theorem dJ6_bitCount_16 : decode cJ6_bitCount 16 = .ok (.iconst 2, 1) := dk_5 (dk_at dksJ6_bitCount_0 16 rfl rfl)
theorem dJ6_bitCount_17 : decode cJ6_bitCount 17 = .ok (.iushr, 1) := dk_124 (dk_at dksJ6_bitCount_0 17 rfl rfl)
theorem dJ6_bitCount_18 : decode cJ6_bitCount 18 = .ok (.ldc_w 266, 3) := dk_19 1 10 (dk_at dksJ6_bitCount_0 18 rfl rfl)
theorem dJ6_bitCount_21 : decode cJ6_bitCount 21 = .ok (.iand, 1) := dk_126 (dk_at dksJ6_bitCount_0 21 rfl rfl)
theorem dJ6_bitCount_22 : decode cJ6_bitCount 22 = .ok (.iadd, 1) := dk_96 (dk_at dksJ6_bitCount_0 22 rfl rfl)
theorem dJ6_bitCount_23 : decode cJ6_bitCount 23 = .ok (.istore_n 0, 1) := dk_59 (dk_at dksJ6_bitCount_0 23 rfl rfl)
theorem dJ6_bitCount_24 : decode cJ6_bitCount 24 = .ok (.iload_n 0, 1) := dk_26 (dk_at dksJ6_bitCount_1 0 rfl rfl)
theorem dJ6_bitCount_25 : decode cJ6_bitCount 25 = .ok (.iload_n 0, 1) := dk_26 (dk_at dksJ6_bitCount_1 1 rfl rfl)
theorem dJ6_bitCount_26 : decode cJ6_bitCount 26 = .ok (.iconst 4, 1) := dk_7 (dk_at dksJ6_bitCount_1 2 rfl rfl)
theorem dJ6_bitCount_27 : decode cJ6_bitCount 27 = .ok (.iushr, 1) := dk_124 (dk_at dksJ6_bitCount_1 3 rfl rfl)
theorem dJ6_bitCount_28 : decode cJ6_bitCount 28 = .ok (.iadd, 1) := dk_96 (dk_at dksJ6_bitCount_1 4 rfl rfl)
theorem dJ6_bitCount_29 : decode cJ6_bitCount 29 = .ok (.ldc_w 267, 3) := dk_19 1 11 (dk_at dksJ6_bitCount_1 5 rfl rfl)
theorem dJ6_bitCount_32 : decode cJ6_bitCount 32 = .ok (.iand, 1) := dk_126 (dk_at dksJ6_bitCount_1 8 rfl rfl)
theorem dJ6_bitCount_33 : decode cJ6_bitCount 33 = .ok (.istore_n 0, 1) := dk_59 (dk_at dksJ6_bitCount_1 9 rfl rfl)
theorem dJ6_bitCount_34 : decode cJ6_bitCount 34 = .ok (.iload_n 0, 1) := dk_26 (dk_at dksJ6_bitCount_1 10 rfl rfl)
theorem dJ6_bitCount_35 : decode cJ6_bitCount 35 = .ok (.iload_n 0, 1) := dk_26 (dk_at dksJ6_bitCount_1 11 rfl rfl)
theorem dJ6_bitCount_36 : decode cJ6_bitCount 36 = .ok (.bipush 8, 2) := dk_16 8 (dk_at dksJ6_bitCount_1 12 rfl rfl)
theorem dJ6_bitCount_38 : decode cJ6_bitCount 38 = .ok (.iushr, 1) := dk_124 (dk_at dksJ6_bitCount_1 14 rfl rfl)
theorem dJ6_bitCount_39 : decode cJ6_bitCount 39 = .ok (.iadd, 1) := dk_96 (dk_at dksJ6_bitCount_1 15 rfl rfl)
theorem dJ6_bitCount_40 : decode cJ6_bitCount 40 = .ok (.istore_n 0, 1) := dk_59 (dk_at dksJ6_bitCount_1 16 rfl rfl)
theorem dJ6_bitCount_41 : decode cJ6_bitCount 41 = .ok (.iload_n 0, 1) := dk_26 (dk_at dksJ6_bitCount_1 17 rfl rfl)
theorem dJ6_bitCount_42 : decode cJ6_bitCount 42 = .ok (.iload_n 0, 1) := dk_26 (dk_at dksJ6_bitCount_1 18 rfl rfl)
theorem dJ6_bitCount_43 : decode cJ6_bitCount 43 = .ok (.bipush 16, 2) := dk_16 16 (dk_at dksJ6_bitCount_1 19 rfl rfl)
theorem dJ6_bitCount_45 : decode cJ6_bitCount 45 = .ok (.iushr, 1) := dk_124 (dk_at dksJ6_bitCount_1 21 rfl rfl)
theorem dJ6_bitCount_46 : decode cJ6_bitCount 46 = .ok (.iadd, 1) := dk_96 (dk_at dksJ6_bitCount_1 22 rfl rfl)
theorem dJ6_bitCount_47 : decode cJ6_bitCount 47 = .ok (.istore_n 0, 1) := dk_59 (dk_at dksJ6_bitCount_1 23 rfl rfl)
theorem dJ6_bitCount_48 : decode cJ6_bitCount 48 = .ok (.iload_n 0, 1) := dk_26 (dk_at dksJ6_bitCount_2 0 rfl rfl)
theorem dJ6_bitCount_49 : decode cJ6_bitCount 49 = .ok (.bipush 63, 2) := dk_16 63 (dk_at dksJ6_bitCount_2 1 rfl rfl)
theorem dJ6_bitCount_51 : decode cJ6_bitCount 51 = .ok (.iand, 1) := dk_126 (dk_at dksJ6_bitCount_2 3 rfl rfl)
theorem dJ6_bitCount_52 : decode cJ6_bitCount 52 = .ok (.ireturn, 1) := dk_172 (dk_at dksJ6_bitCount_2 4 rfl rfl)
theorem q99 : (Jvm.Cond.initialized "java/lang/Integer") ∈ lw_all := lw_g (lw_at lw_m1 19 rfl) rfl
theorem q927 : (Jvm.Cond.static ({ cls := "java/lang/Integer", name := "bitCount", desc := "(I)I" } : Jvm.MethodName)) ∈ lw_all := lw_g (lw_at lw_m4 127 rfl) rfl
theorem q928 : (Jvm.Cond.code ({ cls := "java/lang/Integer", name := "bitCount", desc := "(I)I" } : Jvm.MethodName) prog_21_method_49_code (1 : Nat) (Option.some Jvm.ClassFile.FieldType.int)) ∈ lw_all := lw_g (lw_at lw_m4 128 rfl) rfl
theorem q929 : (Jvm.Cond.constant "java/lang/Integer" (265 : Nat) (1431655765 : Int32)) ∈ lw_all := lw_g (lw_at lw_m4 129 rfl) rfl
theorem q930 : (Jvm.Cond.constant "java/lang/Integer" (266 : Nat) (858993459 : Int32)) ∈ lw_all := lw_g (lw_at lw_m4 130 rfl) rfl
theorem q931 : (Jvm.Cond.constant "java/lang/Integer" (267 : Nat) (252645135 : Int32)) ∈ lw_all := lw_g (lw_at lw_m4 131 rfl) rfl

/-! java/lang/StringLatin1 -/
set_option maxRecDepth 100000
def RJ7 : String := "java/lang/StringLatin1"
abbrev cJ7_charAt : ByteArray := prog_26_method_2_code
def yJ7_charAt : MethodName := ⟨RJ7, "charAt", "([BI)C"⟩
def dkwJ7_charAt_0 : List UInt8 := [27, 42, 190, 184, 0, 9, 42, 27, 51, 17, 0, 255, 126, 146, 172]
abbrev dktJ7_charAt_0 : List UInt8 := dkwJ7_charAt_0 ++ []
theorem dksJ7_charAt_0 : cJ7_charAt.data.toList.drop 0 = dktJ7_charAt_0 := by decide +kernel
theorem dJ7_charAt_0 : decode cJ7_charAt 0 = .ok (.iload_n 1, 1) := dk_27 (dk_at dksJ7_charAt_0 0 rfl rfl)
theorem dJ7_charAt_1 : decode cJ7_charAt 1 = .ok (.aload_n 0, 1) := dk_42 (dk_at dksJ7_charAt_0 1 rfl rfl)
theorem dJ7_charAt_2 : decode cJ7_charAt 2 = .ok (.arraylength, 1) := dk_190 (dk_at dksJ7_charAt_0 2 rfl rfl)
theorem dJ7_charAt_3 : decode cJ7_charAt 3 = .ok (.invokestatic 9, 3) := dk_184 0 9 (dk_at dksJ7_charAt_0 3 rfl rfl)
theorem dJ7_charAt_6 : decode cJ7_charAt 6 = .ok (.aload_n 0, 1) := dk_42 (dk_at dksJ7_charAt_0 6 rfl rfl)
theorem dJ7_charAt_7 : decode cJ7_charAt 7 = .ok (.iload_n 1, 1) := dk_27 (dk_at dksJ7_charAt_0 7 rfl rfl)
theorem dJ7_charAt_8 : decode cJ7_charAt 8 = .ok (.baload, 1) := dk_51 (dk_at dksJ7_charAt_0 8 rfl rfl)
theorem dJ7_charAt_9 : decode cJ7_charAt 9 = .ok (.sipush 255, 3) := dk_17 0 255 (dk_at dksJ7_charAt_0 9 rfl rfl)
theorem dJ7_charAt_12 : decode cJ7_charAt 12 = .ok (.iand, 1) := dk_126 (dk_at dksJ7_charAt_0 12 rfl rfl)
theorem dJ7_charAt_13 : decode cJ7_charAt 13 = .ok (.i2c, 1) := dk_146 (dk_at dksJ7_charAt_0 13 rfl rfl)
theorem dJ7_charAt_14 : decode cJ7_charAt 14 = .ok (.ireturn, 1) := dk_172 (dk_at dksJ7_charAt_0 14 rfl rfl)
theorem q101 : (Jvm.Cond.initialized "java/lang/StringLatin1") ∈ lw_all := lw_g (lw_at lw_m1 21 rfl) rfl
theorem q393 : (Jvm.Cond.static ({ cls := "java/lang/StringLatin1", name := "charAt", desc := "([BI)C" } : Jvm.MethodName)) ∈ lw_all := lw_g (lw_at lw_m2 73 rfl) rfl
theorem q394 : (Jvm.Cond.code ({ cls := "java/lang/StringLatin1", name := "charAt", desc := "([BI)C" } : Jvm.MethodName) prog_26_method_2_code (2 : Nat) (Option.some Jvm.ClassFile.FieldType.char)) ∈ lw_all := lw_g (lw_at lw_m2 74 rfl) rfl
theorem q395 : (Jvm.Cond.methodLink "java/lang/StringLatin1" (9 : Nat) ({ cls := "java/lang/String", name := "checkIndex", desc := "(II)V" } : Jvm.MethodName)) ∈ lw_all := lw_g (lw_at lw_m2 75 rfl) rfl

/-! jdk/internal/util/Preconditions -/
set_option maxRecDepth 100000
def RJ8 : String := "jdk/internal/util/Preconditions"
abbrev cJ8_checkIndex : ByteArray := prog_30_method_11_code
def yJ8_checkIndex : MethodName := ⟨RJ8, "checkIndex", "(IILjava/util/function/BiFunction;)I"⟩
def dkwJ8_checkIndex_0 : List UInt8 := [26, 155, 0, 8, 26, 27, 161, 0, 10, 44, 26, 27, 184, 0, 95, 191, 26, 172]
abbrev dktJ8_checkIndex_0 : List UInt8 := dkwJ8_checkIndex_0 ++ []
theorem dksJ8_checkIndex_0 : cJ8_checkIndex.data.toList.drop 0 = dktJ8_checkIndex_0 := by decide +kernel
theorem dJ8_checkIndex_0 : decode cJ8_checkIndex 0 = .ok (.iload_n 0, 1) := dk_26 (dk_at dksJ8_checkIndex_0 0 rfl rfl)
theorem dJ8_checkIndex_1 : decode cJ8_checkIndex 1 = .ok (.ifCond .lt 8, 3) := dk_155 0 8 (dk_at dksJ8_checkIndex_0 1 rfl rfl)
theorem dJ8_checkIndex_4 : decode cJ8_checkIndex 4 = .ok (.iload_n 0, 1) := dk_26 (dk_at dksJ8_checkIndex_0 4 rfl rfl)
theorem dJ8_checkIndex_5 : decode cJ8_checkIndex 5 = .ok (.iload_n 1, 1) := dk_27 (dk_at dksJ8_checkIndex_0 5 rfl rfl)
theorem dJ8_checkIndex_6 : decode cJ8_checkIndex 6 = .ok (.if_icmp .lt 10, 3) := dk_161 0 10 (dk_at dksJ8_checkIndex_0 6 rfl rfl)
theorem dJ8_checkIndex_9 : decode cJ8_checkIndex 9 = .ok (.aload_n 2, 1) := dk_44 (dk_at dksJ8_checkIndex_0 9 rfl rfl)
theorem dJ8_checkIndex_10 : decode cJ8_checkIndex 10 = .ok (.iload_n 0, 1) := dk_26 (dk_at dksJ8_checkIndex_0 10 rfl rfl)
theorem dJ8_checkIndex_11 : decode cJ8_checkIndex 11 = .ok (.iload_n 1, 1) := dk_27 (dk_at dksJ8_checkIndex_0 11 rfl rfl)
theorem dJ8_checkIndex_12 : decode cJ8_checkIndex 12 = .ok (.invokestatic 95, 3) := dk_184 0 95 (dk_at dksJ8_checkIndex_0 12 rfl rfl)
theorem dJ8_checkIndex_15 : decode cJ8_checkIndex 15 = .ok (.athrow, 1) := dk_191 (dk_at dksJ8_checkIndex_0 15 rfl rfl)
theorem dJ8_checkIndex_16 : decode cJ8_checkIndex 16 = .ok (.iload_n 0, 1) := dk_26 (dk_at dksJ8_checkIndex_0 16 rfl rfl)
theorem dJ8_checkIndex_17 : decode cJ8_checkIndex 17 = .ok (.ireturn, 1) := dk_172 (dk_at dksJ8_checkIndex_0 17 rfl rfl)
theorem q102 : (Jvm.Cond.initialized "jdk/internal/util/Preconditions") ∈ lw_all := lw_g (lw_at lw_m1 22 rfl) rfl
theorem q399 : (Jvm.Cond.laysStatic "jdk/internal/util/Preconditions" "SIOOBE_FORMATTER" "Ljava/util/function/BiFunction;") ∈ lw_tbl := lw_at lw_m2 79 rfl
theorem q401 : (Jvm.Cond.static ({ cls := "jdk/internal/util/Preconditions", name := "checkIndex", desc := "(IILjava/util/function/BiFunction;)I" } : Jvm.MethodName)) ∈ lw_all := lw_g (lw_at lw_m2 81 rfl) rfl
theorem q402 : (Jvm.Cond.code ({ cls := "jdk/internal/util/Preconditions", name := "checkIndex", desc := "(IILjava/util/function/BiFunction;)I" } : Jvm.MethodName) prog_30_method_11_code (3 : Nat) (Option.some Jvm.ClassFile.FieldType.int)) ∈ lw_all := lw_g (lw_at lw_m2 82 rfl) rfl

/-! java/lang/StringUTF16 -/
set_option maxRecDepth 100000
def RJ9 : String := "java/lang/StringUTF16"
abbrev cJ9_charAt : ByteArray := prog_27_method_83_code
def yJ9_charAt : MethodName := ⟨RJ9, "charAt", "([BI)C"⟩
def dkwJ9_charAt_0 : List UInt8 := [27, 42, 184, 0, 67, 42, 27, 184, 0, 71, 172]
abbrev dktJ9_charAt_0 : List UInt8 := dkwJ9_charAt_0 ++ []
theorem dksJ9_charAt_0 : cJ9_charAt.data.toList.drop 0 = dktJ9_charAt_0 := by decide +kernel
theorem dJ9_charAt_0 : decode cJ9_charAt 0 = .ok (.iload_n 1, 1) := dk_27 (dk_at dksJ9_charAt_0 0 rfl rfl)
theorem dJ9_charAt_1 : decode cJ9_charAt 1 = .ok (.aload_n 0, 1) := dk_42 (dk_at dksJ9_charAt_0 1 rfl rfl)
theorem dJ9_charAt_2 : decode cJ9_charAt 2 = .ok (.invokestatic 67, 3) := dk_184 0 67 (dk_at dksJ9_charAt_0 2 rfl rfl)
theorem dJ9_charAt_5 : decode cJ9_charAt 5 = .ok (.aload_n 0, 1) := dk_42 (dk_at dksJ9_charAt_0 5 rfl rfl)
theorem dJ9_charAt_6 : decode cJ9_charAt 6 = .ok (.iload_n 1, 1) := dk_27 (dk_at dksJ9_charAt_0 6 rfl rfl)
theorem dJ9_charAt_7 : decode cJ9_charAt 7 = .ok (.invokestatic 71, 3) := dk_184 0 71 (dk_at dksJ9_charAt_0 7 rfl rfl)
theorem dJ9_charAt_10 : decode cJ9_charAt 10 = .ok (.ireturn, 1) := dk_172 (dk_at dksJ9_charAt_0 10 rfl rfl)
abbrev cJ9_checkIndex : ByteArray := prog_27_method_91_code
def yJ9_checkIndex : MethodName := ⟨RJ9, "checkIndex", "(I[B)V"⟩
def dkwJ9_checkIndex_0 : List UInt8 := [26, 43, 184, 0, 48, 184, 1, 158, 177]
abbrev dktJ9_checkIndex_0 : List UInt8 := dkwJ9_checkIndex_0 ++ []
theorem dksJ9_checkIndex_0 : cJ9_checkIndex.data.toList.drop 0 = dktJ9_checkIndex_0 := by decide +kernel
theorem dJ9_checkIndex_0 : decode cJ9_checkIndex 0 = .ok (.iload_n 0, 1) := dk_26 (dk_at dksJ9_checkIndex_0 0 rfl rfl)
theorem dJ9_checkIndex_1 : decode cJ9_checkIndex 1 = .ok (.aload_n 1, 1) := dk_43 (dk_at dksJ9_checkIndex_0 1 rfl rfl)
theorem dJ9_checkIndex_2 : decode cJ9_checkIndex 2 = .ok (.invokestatic 48, 3) := dk_184 0 48 (dk_at dksJ9_checkIndex_0 2 rfl rfl)
theorem dJ9_checkIndex_5 : decode cJ9_checkIndex 5 = .ok (.invokestatic 414, 3) := dk_184 1 158 (dk_at dksJ9_checkIndex_0 5 rfl rfl)
theorem dJ9_checkIndex_8 : decode cJ9_checkIndex 8 = .ok (.return_, 1) := dk_177 (dk_at dksJ9_checkIndex_0 8 rfl rfl)
abbrev cJ9_length : ByteArray := prog_27_method_6_code
def yJ9_length : MethodName := ⟨RJ9, "length", "([B)I"⟩
def dkwJ9_length_0 : List UInt8 := [42, 190, 4, 122, 172]
abbrev dktJ9_length_0 : List UInt8 := dkwJ9_length_0 ++ []
theorem dksJ9_length_0 : cJ9_length.data.toList.drop 0 = dktJ9_length_0 := by decide +kernel
theorem dJ9_length_0 : decode cJ9_length 0 = .ok (.aload_n 0, 1) := dk_42 (dk_at dksJ9_length_0 0 rfl rfl)
theorem dJ9_length_1 : decode cJ9_length 1 = .ok (.arraylength, 1) := dk_190 (dk_at dksJ9_length_0 1 rfl rfl)
theorem dJ9_length_2 : decode cJ9_length 2 = .ok (.iconst 1, 1) := dk_4 (dk_at dksJ9_length_0 2 rfl rfl)
theorem dJ9_length_3 : decode cJ9_length 3 = .ok (.ishr, 1) := dk_122 (dk_at dksJ9_length_0 3 rfl rfl)
theorem dJ9_length_4 : decode cJ9_length 4 = .ok (.ireturn, 1) := dk_172 (dk_at dksJ9_length_0 4 rfl rfl)
abbrev cJ9_getChar : ByteArray := prog_27_method_5_code
def yJ9_getChar : MethodName := ⟨RJ9, "getChar", "([BI)C"⟩
def dkwJ9_getChar_2 : List UInt8 := [51, 17, 0, 255, 126, 178, 0, 63, 120, 128, 146, 172]
abbrev dktJ9_getChar_2 : List UInt8 := dkwJ9_getChar_2 ++ []
def dkwJ9_getChar_1 : List UInt8 := [183, 0, 56, 191, 27, 4, 120, 60, 42, 27, 132, 1, 1, 51, 17, 0, 255, 126, 178, 0, 59, 120, 42, 27]
abbrev dktJ9_getChar_1 : List UInt8 := dkwJ9_getChar_1 ++ dktJ9_getChar_2
def dkwJ9_getChar_0 : List UInt8 := [178, 0, 44, 154, 0, 25, 27, 155, 0, 11, 27, 42, 184, 0, 48, 161, 0, 13, 187, 0, 52, 89, 18, 54]
abbrev dktJ9_getChar_0 : List UInt8 := dkwJ9_getChar_0 ++ dktJ9_getChar_1
theorem dksJ9_getChar_0 : cJ9_getChar.data.toList.drop 0 = dktJ9_getChar_0 := by decide +kernel
theorem dksJ9_getChar_1 : cJ9_getChar.data.toList.drop 24 = dktJ9_getChar_1 := dk_seg dksJ9_getChar_0 24 rfl rfl
theorem dksJ9_getChar_2 : cJ9_getChar.data.toList.drop 48 = dktJ9_getChar_2 := dk_seg dksJ9_getChar_1 24 rfl rfl
theorem dJ9_getChar_0 : decode cJ9_getChar 0 = .ok (.getstatic 44, 3) := dk_178 0 44 (dk_at dksJ9_getChar_0 0 rfl rfl)
theorem dJ9_getChar_3 : decode cJ9_getChar 3 = .ok (.ifCond .ne 25, 3) := dk_154 0 25 (dk_at dksJ9_getChar_0 3 rfl rfl)
theorem dJ9_getChar_6 : decode cJ9_getChar 6 = .ok (.iload_n 1, 1) := dk_27 (dk_at dksJ9_getChar_0 6 rfl rfl)
theorem dJ9_getChar_7 : decode cJ9_getChar 7 = .ok (.ifCond .lt 11, 3) := dk_155 0 11 (dk_at dksJ9_getChar_0 7 rfl rfl)
theorem dJ9_getChar_10 : decode cJ9_getChar 10 = .ok (.iload_n 1, 1) := dk_27 (dk_at dksJ9_getChar_0 10 rfl rfl)
theorem dJ9_getChar_11 : decode cJ9_getChar 11 = .ok (.aload_n 0, 1) := dk_42 (dk_at dksJ9_getChar_0 11 rfl rfl)
theorem dJ9_getChar_12 : decode cJ9_getChar 12 = .ok (.invokestatic 48, 3) := dk_184 0 48 (dk_at dksJ9_getChar_0 12 rfl rfl)
theorem dJ9_getChar_15 : decode cJ9_getChar 15 = .ok (.if_icmp .lt 13, 3) := dk_161 0 13 (dk_at dksJ9_getChar_0 15 rfl rfl)
theorem dJ9_getChar_18 : decode cJ9_getChar 18 = .ok (.new 52, 3) := dk_187 0 52 (dk_at dksJ9_getChar_0 18 rfl rfl)
theorem dJ9_getChar_21 : decode cJ9_getChar 21 = .ok (.dup, 1) := dk_89 (dk_at dksJ9_getChar_0 21 rfl rfl)
theorem dJ9_getChar_22 : decode cJ9_getChar 22 = .ok (.ldc 54, 2) := dk_18 54 (dk_at dksJ9_getChar_0 22 rfl rfl)
theorem dJ9_getChar_24 : decode cJ9_getChar 24 = .ok (.invokespecial 56, 3) := dk_183 0 56 (dk_at dksJ9_getChar_1 0 rfl rfl)
theorem dJ9_getChar_27 : decode cJ9_getChar 27 = .ok (.athrow, 1) := dk_191 (dk_at dksJ9_getChar_1 3 rfl rfl)
theorem dJ9_getChar_28 : decode cJ9_getChar 28 = .ok (.iload_n 1, 1) := dk_27 (dk_at dksJ9_getChar_1 4 rfl rfl)
theorem dJ9_getChar_29 : decode cJ9_getChar 29 = .ok (.iconst 1, 1) := dk_4 (dk_at dksJ9_getChar_1 5 rfl rfl)
theorem dJ9_getChar_30 : decode cJ9_getChar 30 = .ok (.ishl, 1) := dk_120 (dk_at dksJ9_getChar_1 6 rfl rfl)
theorem dJ9_getChar_31 : decode cJ9_getChar 31 = .ok (.istore_n 1, 1) := dk_60 (dk_at dksJ9_getChar_1 7 rfl rfl)
theorem dJ9_getChar_32 : decode cJ9_getChar 32 = .ok (.aload_n 0, 1) := dk_42 (dk_at dksJ9_getChar_1 8 rfl rfl)
theorem dJ9_getChar_33 : decode cJ9_getChar 33 = .ok (.iload_n 1, 1) := dk_27 (dk_at dksJ9_getChar_1 9 rfl rfl)
theorem dJ9_getChar_34 : decode cJ9_getChar 34 = .ok (.iinc 1 1, 3) := dk_132 1 1 (dk_at dksJ9_getChar_1 10 rfl rfl)
theorem dJ9_getChar_37 : decode cJ9_getChar 37 = .ok (.baload, 1) := dk_51 (dk_at dksJ9_getChar_1 13 rfl rfl)
theorem dJ9_getChar_38 : decode cJ9_getChar 38 = .ok (.sipush 255, 3) := dk_17 0 255 (dk_at dksJ9_getChar_1 14 rfl rfl)
theorem dJ9_getChar_41 : decode cJ9_getChar 41 = .ok (.iand, 1) := dk_126 (dk_at dksJ9_getChar_1 17 rfl rfl)
theorem dJ9_getChar_42 : decode cJ9_getChar 42 = .ok (.getstatic 59, 3) := dk_178 0 59 (dk_at dksJ9_getChar_1 18 rfl rfl)
theorem dJ9_getChar_45 : decode cJ9_getChar 45 = .ok (.ishl, 1) := dk_120 (dk_at dksJ9_getChar_1 21 rfl rfl)
theorem dJ9_getChar_46 : decode cJ9_getChar 46 = .ok (.aload_n 0, 1) := dk_42 (dk_at dksJ9_getChar_1 22 rfl rfl)
theorem dJ9_getChar_47 : decode cJ9_getChar 47 = .ok (.iload_n 1, 1) := dk_27 (dk_at dksJ9_getChar_1 23 rfl rfl)
theorem dJ9_getChar_48 : decode cJ9_getChar 48 = .ok (.baload, 1) := dk_51 (dk_at dksJ9_getChar_2 0 rfl rfl)
theorem dJ9_getChar_49 : decode cJ9_getChar 49 = .ok (.sipush 255, 3) := dk_17 0 255 (dk_at dksJ9_getChar_2 1 rfl rfl)
theorem dJ9_getChar_52 : decode cJ9_getChar 52 = .ok (.iand, 1) := dk_126 (dk_at dksJ9_getChar_2 4 rfl rfl)
theorem dJ9_getChar_53 : decode cJ9_getChar 53 = .ok (.getstatic 63, 3) := dk_178 0 63 (dk_at dksJ9_getChar_2 5 rfl rfl)
theorem dJ9_getChar_56 : decode cJ9_getChar 56 = .ok (.ishl, 1) := dk_120 (dk_at dksJ9_getChar_2 8 rfl rfl)
theorem dJ9_getChar_57 : decode cJ9_getChar 57 = .ok (.ior, 1) := dk_128 (dk_at dksJ9_getChar_2 9 rfl rfl)
theorem dJ9_getChar_58 : decode cJ9_getChar 58 = .ok (.i2c, 1) := dk_146 (dk_at dksJ9_getChar_2 10 rfl rfl)
theorem dJ9_getChar_59 : decode cJ9_getChar 59 = .ok (.ireturn, 1) := dk_172 (dk_at dksJ9_getChar_2 11 rfl rfl)
theorem q103 : (Jvm.Cond.initialized "java/lang/StringUTF16") ∈ lw_all := lw_g (lw_at lw_m1 23 rfl) rfl
theorem q404 : (Jvm.Cond.static ({ cls := "java/lang/StringUTF16", name := "charAt", desc := "([BI)C" } : Jvm.MethodName)) ∈ lw_all := lw_g (lw_at lw_m2 84 rfl) rfl
theorem q405 : (Jvm.Cond.code ({ cls := "java/lang/StringUTF16", name := "charAt", desc := "([BI)C" } : Jvm.MethodName) prog_27_method_83_code (2 : Nat) (Option.some Jvm.ClassFile.FieldType.char)) ∈ lw_all := lw_g (lw_at lw_m2 85 rfl) rfl
theorem q406 : (Jvm.Cond.methodLink "java/lang/StringUTF16" (67 : Nat) ({ cls := "java/lang/StringUTF16", name := "checkIndex", desc := "(I[B)V" } : Jvm.MethodName)) ∈ lw_all := lw_g (lw_at lw_m2 86 rfl) rfl
theorem q407 : (Jvm.Cond.static ({ cls := "java/lang/StringUTF16", name := "checkIndex", desc := "(I[B)V" } : Jvm.MethodName)) ∈ lw_all := lw_g (lw_at lw_m2 87 rfl) rfl
theorem q408 : (Jvm.Cond.code ({ cls := "java/lang/StringUTF16", name := "checkIndex", desc := "(I[B)V" } : Jvm.MethodName) prog_27_method_91_code (2 : Nat) (Option.none : Option Jvm.ClassFile.FieldType)) ∈ lw_all := lw_g (lw_at lw_m2 88 rfl) rfl
theorem q409 : (Jvm.Cond.methodLink "java/lang/StringUTF16" (48 : Nat) ({ cls := "java/lang/StringUTF16", name := "length", desc := "([B)I" } : Jvm.MethodName)) ∈ lw_all := lw_g (lw_at lw_m2 89 rfl) rfl
theorem q410 : (Jvm.Cond.static ({ cls := "java/lang/StringUTF16", name := "length", desc := "([B)I" } : Jvm.MethodName)) ∈ lw_all := lw_g (lw_at lw_m2 90 rfl) rfl
theorem q411 : (Jvm.Cond.code ({ cls := "java/lang/StringUTF16", name := "length", desc := "([B)I" } : Jvm.MethodName) prog_27_method_6_code (1 : Nat) (Option.some Jvm.ClassFile.FieldType.int)) ∈ lw_all := lw_g (lw_at lw_m2 91 rfl) rfl
theorem q412 : (Jvm.Cond.methodLink "java/lang/StringUTF16" (414 : Nat) ({ cls := "java/lang/String", name := "checkIndex", desc := "(II)V" } : Jvm.MethodName)) ∈ lw_all := lw_g (lw_at lw_m2 92 rfl) rfl
theorem q413 : (Jvm.Cond.methodLink "java/lang/StringUTF16" (71 : Nat) ({ cls := "java/lang/StringUTF16", name := "getChar", desc := "([BI)C" } : Jvm.MethodName)) ∈ lw_all := lw_g (lw_at lw_m2 93 rfl) rfl
theorem q414 : (Jvm.Cond.static ({ cls := "java/lang/StringUTF16", name := "getChar", desc := "([BI)C" } : Jvm.MethodName)) ∈ lw_all := lw_g (lw_at lw_m2 94 rfl) rfl
theorem q415 : (Jvm.Cond.code ({ cls := "java/lang/StringUTF16", name := "getChar", desc := "([BI)C" } : Jvm.MethodName) prog_27_method_5_code (2 : Nat) (Option.some Jvm.ClassFile.FieldType.char)) ∈ lw_all := lw_g (lw_at lw_m2 95 rfl) rfl
theorem q416 : (Jvm.Cond.fieldLink "java/lang/StringUTF16" (44 : Nat) "java/lang/StringUTF16" "$assertionsDisabled" "Z") ∈ lw_all := lw_g (lw_at lw_m2 96 rfl) rfl
theorem q417 : (Jvm.Cond.laysStatic "java/lang/StringUTF16" "$assertionsDisabled" "Z") ∈ lw_tbl := lw_at lw_m2 97 rfl
theorem q418 : (Jvm.Cond.fieldLink "java/lang/StringUTF16" (59 : Nat) "java/lang/StringUTF16" "HI_BYTE_SHIFT" "I") ∈ lw_all := lw_g (lw_at lw_m2 98 rfl) rfl
theorem q419 : (Jvm.Cond.laysStatic "java/lang/StringUTF16" "HI_BYTE_SHIFT" "I") ∈ lw_tbl := lw_at lw_m2 99 rfl
theorem q420 : (Jvm.Cond.fieldLink "java/lang/StringUTF16" (63 : Nat) "java/lang/StringUTF16" "LO_BYTE_SHIFT" "I") ∈ lw_all := lw_g (lw_at lw_m2 100 rfl) rfl
theorem q421 : (Jvm.Cond.laysStatic "java/lang/StringUTF16" "LO_BYTE_SHIFT" "I") ∈ lw_tbl := lw_at lw_m2 101 rfl

/-! java/lang/NegativeArraySizeException -/
set_option maxRecDepth 100000
def RJ10 : String := "java/lang/NegativeArraySizeException"
def TJ10 : u_T := fun k => match k with
  | 0 => ("java/lang/Throwable", "backtrace", "Ljava/lang/Object;", false)
  | 1 => ("java/lang/Throwable", "detailMessage", "Ljava/lang/String;", false)
  | 2 => ("java/lang/Throwable", "cause", "Ljava/lang/Throwable;", false)
  | 3 => ("java/lang/Throwable", "stackTrace", "[Ljava/lang/StackTraceElement;", false)
  | 4 => ("java/lang/Throwable", "depth", "I", false)
  | _ => ("java/lang/Throwable", "suppressedExceptions", "Ljava/util/List;", false)
def tyJ10 : Nat → FieldType := fun k => match k with
  | 0 => .object "java/lang/Object"
  | 1 => .object "java/lang/String"
  | 2 => .object "java/lang/Throwable"
  | 3 => .array (.object "java/lang/StackTraceElement")
  | 4 => .int
  | _ => .object "java/util/List"
abbrev wsJ100 : List Cond := u_ws RJ10 TJ10 6
theorem nmJ10 : ∀ a, a < 6 → ∀ b, b < 6 → a ≠ b → (TJ10 a).2.1 ≠ (TJ10 b).2.1 := by decide +kernel
theorem tyJ10_ok : ∀ k, k < 6 → parseFieldDescriptor (TJ10 k).2.2.1 = some (tyJ10 k) := by decide +kernel
abbrev cJ10_init : ByteArray := prog_23_method_2_code
def yJ10_init : MethodName := ⟨RJ10, "<init>", "(Ljava/lang/String;)V"⟩
def dkwJ10_init_0 : List UInt8 := [42, 43, 183, 0, 7, 177]
abbrev dktJ10_init_0 : List UInt8 := dkwJ10_init_0 ++ []
theorem dksJ10_init_0 : cJ10_init.data.toList.drop 0 = dktJ10_init_0 := by decide +kernel
theorem dJ10_init_0 : decode cJ10_init 0 = .ok (.aload_n 0, 1) := dk_42 (dk_at dksJ10_init_0 0 rfl rfl)
theorem dJ10_init_1 : decode cJ10_init 1 = .ok (.aload_n 1, 1) := dk_43 (dk_at dksJ10_init_0 1 rfl rfl)
theorem dJ10_init_2 : decode cJ10_init 2 = .ok (.invokespecial 7, 3) := dk_183 0 7 (dk_at dksJ10_init_0 2 rfl rfl)
theorem dJ10_init_5 : decode cJ10_init 5 = .ok (.return_, 1) := dk_177 (dk_at dksJ10_init_0 5 rfl rfl)
theorem q106 : (Jvm.Cond.initialized "java/lang/NegativeArraySizeException") ∈ lw_all := lw_g (lw_at lw_m1 26 rfl) rfl
theorem q194 : (Jvm.Cond.selects "java/lang/NegativeArraySizeException" ({ cls := "java/lang/Throwable", name := "fillInStackTrace", desc := "()Ljava/lang/Throwable;" } : Jvm.MethodName) ({ cls := "java/lang/Throwable", name := "fillInStackTrace", desc := "()Ljava/lang/Throwable;" } : Jvm.MethodName)) ∈ lw_all := lw_g (lw_at lw_m1 114 rfl) rfl
theorem q1072 : (Jvm.Cond.instantiable "java/lang/NegativeArraySizeException" (6 : Nat)) ∈ lw_all := lw_g (lw_at lw_m5 32 rfl) rfl
theorem q1073 : (Jvm.Cond.instanceMethod ({ cls := "java/lang/NegativeArraySizeException", name := "<init>", desc := "(Ljava/lang/String;)V" } : Jvm.MethodName)) ∈ lw_all := lw_g (lw_at lw_m5 33 rfl) rfl
theorem q1074 : (Jvm.Cond.code ({ cls := "java/lang/NegativeArraySizeException", name := "<init>", desc := "(Ljava/lang/String;)V" } : Jvm.MethodName) prog_23_method_2_code (2 : Nat) (Option.none : Option Jvm.ClassFile.FieldType)) ∈ lw_all := lw_g (lw_at lw_m5 34 rfl) rfl
theorem q1075 : (Jvm.Cond.methodLink "java/lang/NegativeArraySizeException" (7 : Nat) ({ cls := "java/lang/RuntimeException", name := "<init>", desc := "(Ljava/lang/String;)V" } : Jvm.MethodName)) ∈ lw_all := lw_g (lw_at lw_m5 35 rfl) rfl
theorem q1076 : (Jvm.Cond.lays "java/lang/NegativeArraySizeException" "java/lang/Throwable" "backtrace" "Ljava/lang/Object;") ∈ lw_all := lw_g (lw_at lw_m5 36 rfl) rfl
theorem q1077 : (Jvm.Cond.lays "java/lang/NegativeArraySizeException" "java/lang/Throwable" "detailMessage" "Ljava/lang/String;") ∈ lw_all := lw_g (lw_at lw_m5 37 rfl) rfl
theorem q1078 : (Jvm.Cond.lays "java/lang/NegativeArraySizeException" "java/lang/Throwable" "cause" "Ljava/lang/Throwable;") ∈ lw_all := lw_g (lw_at lw_m5 38 rfl) rfl
theorem q1079 : (Jvm.Cond.lays "java/lang/NegativeArraySizeException" "java/lang/Throwable" "stackTrace" "[Ljava/lang/StackTraceElement;") ∈ lw_all := lw_g (lw_at lw_m5 39 rfl) rfl
theorem q1080 : (Jvm.Cond.lays "java/lang/NegativeArraySizeException" "java/lang/Throwable" "depth" "I") ∈ lw_all := lw_g (lw_at lw_m5 40 rfl) rfl
theorem q1081 : (Jvm.Cond.lays "java/lang/NegativeArraySizeException" "java/lang/Throwable" "suppressedExceptions" "Ljava/util/List;") ∈ lw_all := lw_g (lw_at lw_m5 41 rfl) rfl
theorem q1082 : (Jvm.Cond.superclass "java/lang/NegativeArraySizeException" "java/lang/RuntimeException") ∈ lw_all := lw_g (lw_at lw_m5 42 rfl) rfl
theorem q1083 : (Jvm.Cond.castable "java/lang/NegativeArraySizeException" "java/lang/NegativeArraySizeException") ∈ lw_tbl := lw_at lw_m5 43 rfl
theorem q1084 : (Jvm.Cond.selects "java/lang/NegativeArraySizeException" ({ cls := "java/lang/Throwable", name := "fillInStackTrace", desc := "(I)Ljava/lang/Throwable;" } : Jvm.MethodName) ({ cls := "java/lang/Throwable", name := "fillInStackTrace", desc := "(I)Ljava/lang/Throwable;" } : Jvm.MethodName)) ∈ lw_all := lw_g (lw_at lw_m5 44 rfl) rfl
theorem in_J10 : ∀ w ∈ wsJ100, w ∈ lw_all := lw_in wsJ100 [1076, 1077, 1078, 1079, 1080, 1081] (by decide +kernel) (by decide +kernel)

/-! java/lang/Object -/
set_option maxRecDepth 100000
def RJ11 : String := "java/lang/Object"
abbrev cJ11_init : ByteArray := object_method_1_code
def yJ11_init : MethodName := ⟨RJ11, "<init>", "()V"⟩
theorem dJ11_init_0 : decode cJ11_init 0 = .ok (.return_, 1) := by decide +kernel
theorem q114 : (Jvm.Cond.instanceMethod ({ cls := "java/lang/Object", name := "<init>", desc := "()V" } : Jvm.MethodName)) ∈ lw_all := lw_g (lw_at lw_m1 34 rfl) rfl
theorem q115 : (Jvm.Cond.code ({ cls := "java/lang/Object", name := "<init>", desc := "()V" } : Jvm.MethodName) object_method_1_code (1 : Nat) (Option.none : Option Jvm.ClassFile.FieldType)) ∈ lw_all := lw_g (lw_at lw_m1 35 rfl) rfl

theorem q123 : (Jvm.Cond.arrayOver (Jvm.ClassFile.FieldType.object "StoneSheets$Rubbing")) ∈ lw_tbl := lw_at lw_m1 43 rfl
set_option maxRecDepth 100000
theorem q125 : (Jvm.Cond.arrayOver (Jvm.ClassFile.FieldType.object "StoneSheets$Text")) ∈ lw_tbl := lw_at lw_m1 45 rfl
theorem q159 : (Jvm.Cond.arrayClass Jvm.ClassFile.FieldType.int) ∈ lw_all := lw_g (lw_at lw_m1 79 rfl) rfl
theorem q227 : (Jvm.Cond.arrayClass Jvm.ClassFile.FieldType.byte) ∈ lw_all := lw_g (lw_at lw_m1 147 rfl) rfl
theorem q229 : (Jvm.Cond.arrayOver (Jvm.ClassFile.FieldType.object "StoneSheets$Sheet")) ∈ lw_tbl := lw_at lw_m1 149 rfl
theorem q241 : (Jvm.Cond.arrayOver (Jvm.ClassFile.FieldType.object "StoneSheets$Slot")) ∈ lw_tbl := lw_at lw_m1 161 rfl
theorem q325 : (Jvm.Cond.arrayClass Jvm.ClassFile.FieldType.float) ∈ lw_all := lw_g (lw_at lw_m2 5 rfl) rfl
theorem q1092 : (Jvm.Cond.arrayClass Jvm.ClassFile.FieldType.short) ∈ lw_all := lw_g (lw_at lw_m5 52 rfl) rfl

theorem q100 : (Jvm.Cond.initialized "java/lang/System") ∈ lw_all := lw_g (lw_at lw_m1 20 rfl) rfl
set_option maxRecDepth 100000
theorem q1040 : (Jvm.Cond.static ({ cls := "java/lang/System", name := "arraycopy", desc := "(Ljava/lang/Object;ILjava/lang/Object;II)V" } : Jvm.MethodName)) ∈ lw_all := lw_g (lw_at lw_m5 0 rfl) rfl
theorem q1041 : (Jvm.Cond.native ({ cls := "java/lang/System", name := "arraycopy", desc := "(Ljava/lang/Object;ILjava/lang/Object;II)V" } : Jvm.MethodName)) ∈ lw_all := lw_g (lw_at lw_m5 1 rfl) rfl

theorem q80 : (Jvm.Cond.initialized "StoneSheetsLaw") ∈ lw_all := lw_g (lw_at lw_m1 0 rfl) rfl
set_option maxRecDepth 100000
theorem q108 : (Jvm.Cond.classLink "StoneSheetsLaw" (7 : Nat) "StoneSheets") ∈ lw_all := lw_g (lw_at lw_m1 28 rfl) rfl
theorem q110 : (Jvm.Cond.methodLink "StoneSheetsLaw" (9 : Nat) ({ cls := "StoneSheets", name := "<init>", desc := "()V" } : Jvm.MethodName)) ∈ lw_all := lw_g (lw_at lw_m1 30 rfl) rfl
theorem q326 : (Jvm.Cond.methodLink "StoneSheetsLaw" (121 : Nat) ({ cls := "StoneSheets", name := "feed", desc := "(III)I" } : Jvm.MethodName)) ∈ lw_all := lw_g (lw_at lw_m2 6 rfl) rfl
theorem q335 : (Jvm.Cond.methodLink "StoneSheetsLaw" (125 : Nat) ({ cls := "StoneSheets", name := "trim", desc := "(I)I" } : Jvm.MethodName)) ∈ lw_all := lw_g (lw_at lw_m2 15 rfl) rfl
theorem q343 : (Jvm.Cond.methodLink "StoneSheetsLaw" (129 : Nat) ({ cls := "StoneSheets", name := "text", desc := "()I" } : Jvm.MethodName)) ∈ lw_all := lw_g (lw_at lw_m2 23 rfl) rfl
theorem q506 : (Jvm.Cond.methodLink "StoneSheetsLaw" (133 : Nat) ({ cls := "StoneSheets", name := "textTold", desc := "(II)I" } : Jvm.MethodName)) ∈ lw_all := lw_g (lw_at lw_m2 186 rfl) rfl
theorem q510 : (Jvm.Cond.methodLink "StoneSheetsLaw" (137 : Nat) ({ cls := "StoneSheets", name := "why", desc := "(I)I" } : Jvm.MethodName)) ∈ lw_all := lw_g (lw_at lw_m2 190 rfl) rfl
theorem q522 : (Jvm.Cond.methodLink "StoneSheetsLaw" (13 : Nat) ({ cls := "StoneSheets", name := "rubbing", desc := "(III)I" } : Jvm.MethodName)) ∈ lw_all := lw_g (lw_at lw_m2 202 rfl) rfl
theorem q625 : (Jvm.Cond.methodLink "StoneSheetsLaw" (18 : Nat) ({ cls := "StoneSheets", name := "told", desc := "(II)I" } : Jvm.MethodName)) ∈ lw_all := lw_g (lw_at lw_m3 65 rfl) rfl
theorem q751 : (Jvm.Cond.methodLink "StoneSheetsLaw" (23 : Nat) ({ cls := "StoneSheets", name := "says", desc := "(II)I" } : Jvm.MethodName)) ∈ lw_all := lw_g (lw_at lw_m3 191 rfl) rfl
theorem q794 : (Jvm.Cond.methodLink "StoneSheetsLaw" (27 : Nat) ({ cls := "StoneSheets", name := "as", desc := "(II)I" } : Jvm.MethodName)) ∈ lw_all := lw_g (lw_at lw_m3 234 rfl) rfl
theorem q829 : (Jvm.Cond.methodLink "StoneSheetsLaw" (31 : Nat) ({ cls := "StoneSheets", name := "turns", desc := "(II)I" } : Jvm.MethodName)) ∈ lw_all := lw_g (lw_at lw_m4 29 rfl) rfl
theorem q843 : (Jvm.Cond.methodLink "StoneSheetsLaw" (35 : Nat) ({ cls := "StoneSheets", name := "set", desc := "(III)I" } : Jvm.MethodName)) ∈ lw_all := lw_g (lw_at lw_m4 43 rfl) rfl
theorem q853 : (Jvm.Cond.methodLink "StoneSheetsLaw" (39 : Nat) ({ cls := "StoneSheets", name := "carve", desc := "(II)I" } : Jvm.MethodName)) ∈ lw_all := lw_g (lw_at lw_m4 53 rfl) rfl
theorem q861 : (Jvm.Cond.methodLink "StoneSheetsLaw" (43 : Nat) ({ cls := "StoneSheets", name := "carved", desc := "(I)I" } : Jvm.MethodName)) ∈ lw_all := lw_g (lw_at lw_m4 61 rfl) rfl
theorem q865 : (Jvm.Cond.methodLink "StoneSheetsLaw" (48 : Nat) ({ cls := "StoneSheets", name := "deal", desc := "(I)I" } : Jvm.MethodName)) ∈ lw_all := lw_g (lw_at lw_m4 65 rfl) rfl
theorem q875 : (Jvm.Cond.methodLink "StoneSheetsLaw" (52 : Nat) ({ cls := "StoneSheets", name := "seed", desc := "(I)I" } : Jvm.MethodName)) ∈ lw_all := lw_g (lw_at lw_m4 75 rfl) rfl
theorem q879 : (Jvm.Cond.methodLink "StoneSheetsLaw" (56 : Nat) ({ cls := "StoneSheets", name := "falseAt", desc := "(II)I" } : Jvm.MethodName)) ∈ lw_all := lw_g (lw_at lw_m4 79 rfl) rfl
theorem q887 : (Jvm.Cond.methodLink "StoneSheetsLaw" (60 : Nat) ({ cls := "StoneSheets", name := "fits", desc := "(II)I" } : Jvm.MethodName)) ∈ lw_all := lw_g (lw_at lw_m4 87 rfl) rfl
theorem q892 : (Jvm.Cond.methodLink "StoneSheetsLaw" (64 : Nat) ({ cls := "StoneSheets", name := "join", desc := "(III)I" } : Jvm.MethodName)) ∈ lw_all := lw_g (lw_at lw_m4 92 rfl) rfl
theorem q903 : (Jvm.Cond.methodLink "StoneSheetsLaw" (68 : Nat) ({ cls := "StoneSheets", name := "clash", desc := "(II)I" } : Jvm.MethodName)) ∈ lw_all := lw_g (lw_at lw_m4 103 rfl) rfl
theorem q911 : (Jvm.Cond.methodLink "StoneSheetsLaw" (72 : Nat) ({ cls := "StoneSheets", name := "undone", desc := "()I" } : Jvm.MethodName)) ∈ lw_all := lw_g (lw_at lw_m4 111 rfl) rfl
theorem q936 : (Jvm.Cond.methodLink "StoneSheetsLaw" (77 : Nat) ({ cls := "StoneSheets", name := "borne", desc := "()I" } : Jvm.MethodName)) ∈ lw_all := lw_g (lw_at lw_m4 136 rfl) rfl
theorem q945 : (Jvm.Cond.methodLink "StoneSheetsLaw" (81 : Nat) ({ cls := "StoneSheets", name := "look", desc := "(I)I" } : Jvm.MethodName)) ∈ lw_all := lw_g (lw_at lw_m4 145 rfl) rfl
theorem q969 : (Jvm.Cond.methodLink "StoneSheetsLaw" (85 : Nat) ({ cls := "StoneSheets", name := "tides", desc := "(I)I" } : Jvm.MethodName)) ∈ lw_all := lw_g (lw_at lw_m4 169 rfl) rfl
theorem q982 : (Jvm.Cond.methodLink "StoneSheetsLaw" (89 : Nat) ({ cls := "StoneSheets", name := "book", desc := "(I)I" } : Jvm.MethodName)) ∈ lw_all := lw_g (lw_at lw_m4 182 rfl) rfl
theorem q990 : (Jvm.Cond.methodLink "StoneSheetsLaw" (93 : Nat) ({ cls := "StoneSheets", name := "behind", desc := "(II)I" } : Jvm.MethodName)) ∈ lw_all := lw_g (lw_at lw_m4 190 rfl) rfl
theorem q1047 : (Jvm.Cond.methodLink "StoneSheetsLaw" (97 : Nat) ({ cls := "StoneSheets", name := "lasts", desc := "()I" } : Jvm.MethodName)) ∈ lw_all := lw_g (lw_at lw_m5 7 rfl) rfl
theorem q1051 : (Jvm.Cond.methodLink "StoneSheetsLaw" (101 : Nat) ({ cls := "StoneSheets", name := "best", desc := "(III)I" } : Jvm.MethodName)) ∈ lw_all := lw_g (lw_at lw_m5 11 rfl) rfl
theorem q1055 : (Jvm.Cond.methodLink "StoneSheetsLaw" (105 : Nat) ({ cls := "StoneSheets", name := "taught", desc := "(II)I" } : Jvm.MethodName)) ∈ lw_all := lw_g (lw_at lw_m5 15 rfl) rfl
theorem q1059 : (Jvm.Cond.methodLink "StoneSheetsLaw" (113 : Nat) ({ cls := "StoneSheets", name := "fee", desc := "()I" } : Jvm.MethodName)) ∈ lw_all := lw_g (lw_at lw_m5 19 rfl) rfl
theorem q1063 : (Jvm.Cond.methodLink "StoneSheetsLaw" (117 : Nat) ({ cls := "StoneSheets", name := "fine", desc := "(I)I" } : Jvm.MethodName)) ∈ lw_all := lw_g (lw_at lw_m5 23 rfl) rfl
theorem q1067 : (Jvm.Cond.methodLink "StoneSheetsLaw" (141 : Nat) ({ cls := "StoneSheets", name := "sheet", desc := "(III)I" } : Jvm.MethodName)) ∈ lw_all := lw_g (lw_at lw_m5 27 rfl) rfl
theorem q1093 : (Jvm.Cond.methodLink "StoneSheetsLaw" (145 : Nat) ({ cls := "StoneSheets", name := "mark", desc := "(III)I" } : Jvm.MethodName)) ∈ lw_all := lw_g (lw_at lw_m5 53 rfl) rfl
theorem q1124 : (Jvm.Cond.methodLink "StoneSheetsLaw" (149 : Nat) ({ cls := "StoneSheets", name := "pour", desc := "(I)I" } : Jvm.MethodName)) ∈ lw_all := lw_g (lw_at lw_m5 84 rfl) rfl
theorem q1136 : (Jvm.Cond.methodLink "StoneSheetsLaw" (153 : Nat) ({ cls := "StoneSheets", name := "reads", desc := "(I)I" } : Jvm.MethodName)) ∈ lw_all := lw_g (lw_at lw_m5 96 rfl) rfl
theorem q1140 : (Jvm.Cond.methodLink "StoneSheetsLaw" (109 : Nat) ({ cls := "StoneSheets", name := "whose", desc := "(II)I" } : Jvm.MethodName)) ∈ lw_all := lw_g (lw_at lw_m5 100 rfl) rfl
theorem q1150 : (Jvm.Cond.methodLink "StoneSheetsLaw" (157 : Nat) ({ cls := "StoneSheets", name := "copy", desc := "(IIIII)I" } : Jvm.MethodName)) ∈ lw_all := lw_g (lw_at lw_m5 110 rfl) rfl
theorem q1159 : (Jvm.Cond.methodLink "StoneSheetsLaw" (162 : Nat) ({ cls := "StoneSheets", name := "lay", desc := "(III)I" } : Jvm.MethodName)) ∈ lw_all := lw_g (lw_at lw_m5 119 rfl) rfl
theorem q1199 : (Jvm.Cond.methodLink "StoneSheetsLaw" (166 : Nat) ({ cls := "StoneSheets", name := "ask", desc := "(II)I" } : Jvm.MethodName)) ∈ lw_all := lw_g (lw_at lw_m5 159 rfl) rfl
theorem q1231 : (Jvm.Cond.methodLink "StoneSheetsLaw" (170 : Nat) ({ cls := "StoneSheets", name := "item", desc := "(II)I" } : Jvm.MethodName)) ∈ lw_all := lw_g (lw_at lw_m5 191 rfl) rfl
theorem q1235 : (Jvm.Cond.methodLink "StoneSheetsLaw" (174 : Nat) ({ cls := "StoneSheets", name := "rest", desc := "(II)I" } : Jvm.MethodName)) ∈ lw_all := lw_g (lw_at lw_m5 195 rfl) rfl
theorem q1240 : (Jvm.Cond.methodLink "StoneSheetsLaw" (178 : Nat) ({ cls := "StoneSheets", name := "tell", desc := "(I)I" } : Jvm.MethodName)) ∈ lw_all := lw_g (lw_at lw_m5 200 rfl) rfl
theorem q1244 : (Jvm.Cond.methodLink "StoneSheetsLaw" (182 : Nat) ({ cls := "StoneSheets", name := "check", desc := "(I)I" } : Jvm.MethodName)) ∈ lw_all := lw_g (lw_at lw_m5 204 rfl) rfl
theorem q1252 : (Jvm.Cond.methodLink "StoneSheetsLaw" (186 : Nat) ({ cls := "StoneSheets", name := "keep", desc := "()I" } : Jvm.MethodName)) ∈ lw_all := lw_g (lw_at lw_m5 212 rfl) rfl
theorem q1256 : (Jvm.Cond.methodLink "StoneSheetsLaw" (190 : Nat) ({ cls := "StoneSheets", name := "back", desc := "()I" } : Jvm.MethodName)) ∈ lw_all := lw_g (lw_at lw_m5 216 rfl) rfl
theorem q1260 : (Jvm.Cond.methodLink "StoneSheetsLaw" (194 : Nat) ({ cls := "StoneSheets", name := "count", desc := "(I)I" } : Jvm.MethodName)) ∈ lw_all := lw_g (lw_at lw_m5 220 rfl) rfl
theorem q1264 : (Jvm.Cond.classLink "StoneSheetsLaw" (10 : Nat) "StoneSheetsModel") ∈ lw_all := lw_g (lw_at lw_m5 224 rfl) rfl
theorem q1266 : (Jvm.Cond.methodLink "StoneSheetsLaw" (12 : Nat) ({ cls := "StoneSheetsModel", name := "<init>", desc := "()V" } : Jvm.MethodName)) ∈ lw_all := lw_g (lw_at lw_m5 226 rfl) rfl
theorem q1367 : (Jvm.Cond.methodLink "StoneSheetsLaw" (17 : Nat) ({ cls := "StoneSheetsModel", name := "rubbing", desc := "(III)I" } : Jvm.MethodName)) ∈ lw_all := lw_g (lw_at lw_m6 87 rfl) rfl
theorem q1387 : (Jvm.Cond.methodLink "StoneSheetsLaw" (22 : Nat) ({ cls := "StoneSheetsModel", name := "told", desc := "(II)I" } : Jvm.MethodName)) ∈ lw_all := lw_g (lw_at lw_m6 107 rfl) rfl
theorem q1438 : (Jvm.Cond.methodLink "StoneSheetsLaw" (26 : Nat) ({ cls := "StoneSheetsModel", name := "says", desc := "(II)I" } : Jvm.MethodName)) ∈ lw_all := lw_g (lw_at lw_m6 158 rfl) rfl
theorem q1449 : (Jvm.Cond.methodLink "StoneSheetsLaw" (30 : Nat) ({ cls := "StoneSheetsModel", name := "as", desc := "(II)I" } : Jvm.MethodName)) ∈ lw_all := lw_g (lw_at lw_m6 169 rfl) rfl
theorem q1457 : (Jvm.Cond.methodLink "StoneSheetsLaw" (34 : Nat) ({ cls := "StoneSheetsModel", name := "turns", desc := "(II)I" } : Jvm.MethodName)) ∈ lw_all := lw_g (lw_at lw_m6 177 rfl) rfl
theorem q1465 : (Jvm.Cond.methodLink "StoneSheetsLaw" (38 : Nat) ({ cls := "StoneSheetsModel", name := "set", desc := "(III)I" } : Jvm.MethodName)) ∈ lw_all := lw_g (lw_at lw_m6 185 rfl) rfl
theorem q1472 : (Jvm.Cond.methodLink "StoneSheetsLaw" (42 : Nat) ({ cls := "StoneSheetsModel", name := "carve", desc := "(II)I" } : Jvm.MethodName)) ∈ lw_all := lw_g (lw_at lw_m6 192 rfl) rfl
theorem q1478 : (Jvm.Cond.methodLink "StoneSheetsLaw" (47 : Nat) ({ cls := "StoneSheetsModel", name := "carved", desc := "(I)I" } : Jvm.MethodName)) ∈ lw_all := lw_g (lw_at lw_m6 198 rfl) rfl
theorem q1482 : (Jvm.Cond.methodLink "StoneSheetsLaw" (51 : Nat) ({ cls := "StoneSheetsModel", name := "deal", desc := "(I)I" } : Jvm.MethodName)) ∈ lw_all := lw_g (lw_at lw_m6 202 rfl) rfl
theorem q1493 : (Jvm.Cond.methodLink "StoneSheetsLaw" (55 : Nat) ({ cls := "StoneSheetsModel", name := "seed", desc := "(I)I" } : Jvm.MethodName)) ∈ lw_all := lw_g (lw_at lw_m6 213 rfl) rfl
theorem q1497 : (Jvm.Cond.methodLink "StoneSheetsLaw" (59 : Nat) ({ cls := "StoneSheetsModel", name := "falseAt", desc := "(II)I" } : Jvm.MethodName)) ∈ lw_all := lw_g (lw_at lw_m6 217 rfl) rfl
theorem q1505 : (Jvm.Cond.methodLink "StoneSheetsLaw" (63 : Nat) ({ cls := "StoneSheetsModel", name := "fits", desc := "(II)I" } : Jvm.MethodName)) ∈ lw_all := lw_g (lw_at lw_m6 225 rfl) rfl
theorem q1509 : (Jvm.Cond.methodLink "StoneSheetsLaw" (67 : Nat) ({ cls := "StoneSheetsModel", name := "join", desc := "(III)I" } : Jvm.MethodName)) ∈ lw_all := lw_g (lw_at lw_m6 229 rfl) rfl
theorem q1517 : (Jvm.Cond.methodLink "StoneSheetsLaw" (71 : Nat) ({ cls := "StoneSheetsModel", name := "clash", desc := "(II)I" } : Jvm.MethodName)) ∈ lw_all := lw_g (lw_at lw_m6 237 rfl) rfl
theorem q1525 : (Jvm.Cond.methodLink "StoneSheetsLaw" (76 : Nat) ({ cls := "StoneSheetsModel", name := "undone", desc := "()I" } : Jvm.MethodName)) ∈ lw_all := lw_g (lw_at lw_m7 5 rfl) rfl
theorem q1544 : (Jvm.Cond.methodLink "StoneSheetsLaw" (80 : Nat) ({ cls := "StoneSheetsModel", name := "borne", desc := "()I" } : Jvm.MethodName)) ∈ lw_all := lw_g (lw_at lw_m7 24 rfl) rfl
theorem q1552 : (Jvm.Cond.methodLink "StoneSheetsLaw" (84 : Nat) ({ cls := "StoneSheetsModel", name := "look", desc := "(I)I" } : Jvm.MethodName)) ∈ lw_all := lw_g (lw_at lw_m7 32 rfl) rfl
theorem q1560 : (Jvm.Cond.methodLink "StoneSheetsLaw" (88 : Nat) ({ cls := "StoneSheetsModel", name := "tides", desc := "(I)I" } : Jvm.MethodName)) ∈ lw_all := lw_g (lw_at lw_m7 40 rfl) rfl
theorem q1569 : (Jvm.Cond.methodLink "StoneSheetsLaw" (92 : Nat) ({ cls := "StoneSheetsModel", name := "book", desc := "(I)I" } : Jvm.MethodName)) ∈ lw_all := lw_g (lw_at lw_m7 49 rfl) rfl
theorem q1577 : (Jvm.Cond.methodLink "StoneSheetsLaw" (96 : Nat) ({ cls := "StoneSheetsModel", name := "behind", desc := "(II)I" } : Jvm.MethodName)) ∈ lw_all := lw_g (lw_at lw_m7 57 rfl) rfl
theorem q1593 : (Jvm.Cond.methodLink "StoneSheetsLaw" (100 : Nat) ({ cls := "StoneSheetsModel", name := "lasts", desc := "()I" } : Jvm.MethodName)) ∈ lw_all := lw_g (lw_at lw_m7 73 rfl) rfl
theorem q1601 : (Jvm.Cond.methodLink "StoneSheetsLaw" (104 : Nat) ({ cls := "StoneSheetsModel", name := "best", desc := "(III)I" } : Jvm.MethodName)) ∈ lw_all := lw_g (lw_at lw_m7 81 rfl) rfl
theorem q1606 : (Jvm.Cond.methodLink "StoneSheetsLaw" (108 : Nat) ({ cls := "StoneSheetsModel", name := "taught", desc := "(II)I" } : Jvm.MethodName)) ∈ lw_all := lw_g (lw_at lw_m7 86 rfl) rfl
theorem q1610 : (Jvm.Cond.methodLink "StoneSheetsLaw" (116 : Nat) ({ cls := "StoneSheetsModel", name := "fee", desc := "()I" } : Jvm.MethodName)) ∈ lw_all := lw_g (lw_at lw_m7 90 rfl) rfl
theorem q1614 : (Jvm.Cond.methodLink "StoneSheetsLaw" (120 : Nat) ({ cls := "StoneSheetsModel", name := "fine", desc := "(I)I" } : Jvm.MethodName)) ∈ lw_all := lw_g (lw_at lw_m7 94 rfl) rfl
theorem q1618 : (Jvm.Cond.methodLink "StoneSheetsLaw" (124 : Nat) ({ cls := "StoneSheetsModel", name := "feed", desc := "(III)I" } : Jvm.MethodName)) ∈ lw_all := lw_g (lw_at lw_m7 98 rfl) rfl
theorem q1622 : (Jvm.Cond.methodLink "StoneSheetsLaw" (128 : Nat) ({ cls := "StoneSheetsModel", name := "trim", desc := "(I)I" } : Jvm.MethodName)) ∈ lw_all := lw_g (lw_at lw_m7 102 rfl) rfl
theorem q1626 : (Jvm.Cond.methodLink "StoneSheetsLaw" (132 : Nat) ({ cls := "StoneSheetsModel", name := "text", desc := "()I" } : Jvm.MethodName)) ∈ lw_all := lw_g (lw_at lw_m7 106 rfl) rfl
theorem q1693 : (Jvm.Cond.methodLink "StoneSheetsLaw" (136 : Nat) ({ cls := "StoneSheetsModel", name := "textTold", desc := "(II)I" } : Jvm.MethodName)) ∈ lw_all := lw_g (lw_at lw_m7 173 rfl) rfl
theorem q1701 : (Jvm.Cond.methodLink "StoneSheetsLaw" (140 : Nat) ({ cls := "StoneSheetsModel", name := "why", desc := "(I)I" } : Jvm.MethodName)) ∈ lw_all := lw_g (lw_at lw_m7 181 rfl) rfl
theorem q1706 : (Jvm.Cond.methodLink "StoneSheetsLaw" (144 : Nat) ({ cls := "StoneSheetsModel", name := "sheet", desc := "(III)I" } : Jvm.MethodName)) ∈ lw_all := lw_g (lw_at lw_m7 186 rfl) rfl
theorem q1715 : (Jvm.Cond.methodLink "StoneSheetsLaw" (148 : Nat) ({ cls := "StoneSheetsModel", name := "mark", desc := "(III)I" } : Jvm.MethodName)) ∈ lw_all := lw_g (lw_at lw_m7 195 rfl) rfl
theorem q1723 : (Jvm.Cond.methodLink "StoneSheetsLaw" (152 : Nat) ({ cls := "StoneSheetsModel", name := "pour", desc := "(I)I" } : Jvm.MethodName)) ∈ lw_all := lw_g (lw_at lw_m7 203 rfl) rfl
theorem q1727 : (Jvm.Cond.methodLink "StoneSheetsLaw" (156 : Nat) ({ cls := "StoneSheetsModel", name := "reads", desc := "(I)I" } : Jvm.MethodName)) ∈ lw_all := lw_g (lw_at lw_m7 207 rfl) rfl
theorem q1731 : (Jvm.Cond.methodLink "StoneSheetsLaw" (112 : Nat) ({ cls := "StoneSheetsModel", name := "whose", desc := "(II)I" } : Jvm.MethodName)) ∈ lw_all := lw_g (lw_at lw_m7 211 rfl) rfl
theorem q1738 : (Jvm.Cond.methodLink "StoneSheetsLaw" (161 : Nat) ({ cls := "StoneSheetsModel", name := "copy", desc := "(IIIII)I" } : Jvm.MethodName)) ∈ lw_all := lw_g (lw_at lw_m7 218 rfl) rfl
theorem q1742 : (Jvm.Cond.methodLink "StoneSheetsLaw" (165 : Nat) ({ cls := "StoneSheetsModel", name := "lay", desc := "(III)I" } : Jvm.MethodName)) ∈ lw_all := lw_g (lw_at lw_m7 222 rfl) rfl
theorem q1750 : (Jvm.Cond.methodLink "StoneSheetsLaw" (169 : Nat) ({ cls := "StoneSheetsModel", name := "ask", desc := "(II)I" } : Jvm.MethodName)) ∈ lw_all := lw_g (lw_at lw_m7 230 rfl) rfl
theorem q1754 : (Jvm.Cond.methodLink "StoneSheetsLaw" (173 : Nat) ({ cls := "StoneSheetsModel", name := "item", desc := "(II)I" } : Jvm.MethodName)) ∈ lw_all := lw_g (lw_at lw_m7 234 rfl) rfl
theorem q1758 : (Jvm.Cond.methodLink "StoneSheetsLaw" (177 : Nat) ({ cls := "StoneSheetsModel", name := "rest", desc := "(II)I" } : Jvm.MethodName)) ∈ lw_all := lw_g (lw_at lw_m7 238 rfl) rfl
theorem q1763 : (Jvm.Cond.methodLink "StoneSheetsLaw" (181 : Nat) ({ cls := "StoneSheetsModel", name := "tell", desc := "(I)I" } : Jvm.MethodName)) ∈ lw_all := lw_g (lw_at lw_m8 3 rfl) rfl
theorem q1767 : (Jvm.Cond.methodLink "StoneSheetsLaw" (185 : Nat) ({ cls := "StoneSheetsModel", name := "check", desc := "(I)I" } : Jvm.MethodName)) ∈ lw_all := lw_g (lw_at lw_m8 7 rfl) rfl
theorem q1776 : (Jvm.Cond.methodLink "StoneSheetsLaw" (189 : Nat) ({ cls := "StoneSheetsModel", name := "keep", desc := "()I" } : Jvm.MethodName)) ∈ lw_all := lw_g (lw_at lw_m8 16 rfl) rfl
theorem q1780 : (Jvm.Cond.methodLink "StoneSheetsLaw" (193 : Nat) ({ cls := "StoneSheetsModel", name := "back", desc := "()I" } : Jvm.MethodName)) ∈ lw_all := lw_g (lw_at lw_m8 20 rfl) rfl
theorem q1784 : (Jvm.Cond.methodLink "StoneSheetsLaw" (197 : Nat) ({ cls := "StoneSheetsModel", name := "count", desc := "(I)I" } : Jvm.MethodName)) ∈ lw_all := lw_g (lw_at lw_m8 24 rfl) rfl
