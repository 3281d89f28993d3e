/-! The component: fields, and the printed functions of its methods (gen/comp.py) -/
set_option maxRecDepth 100000
theorem fs_X0_0 : zFS [0] 0 ("StoneSheets", "now", "LStoneSheets$State;", true) (.object "StoneSheets$State") := zFS1 zcf0 (by decide) rfl (by decide +kernel)
theorem fs_X0_1 : zFS [0] 1 ("StoneSheets", "image", "LStoneSheets$State;", true) (.object "StoneSheets$State") := zFS1 zcf0 (by decide) rfl (by decide +kernel)
theorem fs_X0_2 : zFS [0] 2 ("StoneSheets", "aside", "LStoneSheets$State;", true) (.object "StoneSheets$State") := zFS1 zcf0 (by decide) rfl (by decide +kernel)
theorem fs_X0_3 : zFS [0] 3 ("StoneSheets", "before", "LStoneSheets$State;", true) (.object "StoneSheets$State") := zFS1 zcf0 (by decide) rfl (by decide +kernel)
theorem fs_X0_4 : zFS [0] 4 ("StoneSheets", "hasImage", "Z", false) (.boolean) := zFS1 zcf0 (by decide) rfl (by decide +kernel)
theorem fs_X0_5 : zFS [0] 5 ("StoneSheets", "pile", "[I", true) (.array (.int)) := zFS1 zcf0 (by decide) rfl (by decide +kernel)
theorem fs_X0_6 : zFS [0] 6 ("StoneSheets", "tape", "[B", true) (.array (.byte)) := zFS1 zcf0 (by decide) rfl (by decide +kernel)
theorem fs_X0_7 : zFS [0] 7 ("StoneSheets", "taped", "I", false) (.int) := zFS1 zcf0 (by decide) rfl (by decide +kernel)
theorem fs_X0_8 : zFS [0] 8 ("StoneSheets", "fault", "LStoneSheets$Fault;", true) (.object "StoneSheets$Fault") := zFS1 zcf0 (by decide) rfl (by decide +kernel)
theorem fs_X0_9 : zFS [0] 9 ("StoneSheets", "from", "I", false) (.int) := zFS1 zcf0 (by decide) rfl (by decide +kernel)
theorem fs_X0_10 : zFS [0] 10 ("StoneSheets", "to", "I", false) (.int) := zFS1 zcf0 (by decide) rfl (by decide +kernel)
theorem fs_X0_11 : zFS [0] 11 ("StoneSheets", "end", "I", false) (.int) := zFS1 zcf0 (by decide) rfl (by decide +kernel)
theorem fs_X0_12 : zFS [0] 12 ("StoneSheets", "parens", "I", false) (.int) := zFS1 zcf0 (by decide) rfl (by decide +kernel)
theorem fs_X0_13 : zFS [0] 13 ("StoneSheets", "nots", "I", false) (.int) := zFS1 zcf0 (by decide) rfl (by decide +kernel)
theorem fs_X0_14 : zFS [0] 14 ("StoneSheets", "wordMany", "I", false) (.int) := zFS1 zcf0 (by decide) rfl (by decide +kernel)
theorem fs_X0_15 : zFS [0] 15 ("StoneSheets", "keyRead", "I", false) (.int) := zFS1 zcf0 (by decide) rfl (by decide +kernel)
theorem fs_X0_16 : zFS [0] 16 ("StoneSheets", "named", "[I", true) (.array (.int)) := zFS1 zcf0 (by decide) rfl (by decide +kernel)
theorem fs_X0_17 : zFS [0] 17 ("StoneSheets", "clashes", "[I", true) (.array (.int)) := zFS1 zcf0 (by decide) rfl (by decide +kernel)
theorem fs_X0_18 : zFS [0] 18 ("StoneSheets", "sheets", "[LStoneSheets$Sheet;", true) (.array (.object "StoneSheets$Sheet")) := zFS1 zcf0 (by decide) rfl (by decide +kernel)
theorem fs_X0_19 : zFS [0] 19 ("StoneSheets", "slots", "[LStoneSheets$Slot;", true) (.array (.object "StoneSheets$Slot")) := zFS1 zcf0 (by decide) rfl (by decide +kernel)
theorem fs_X0_20 : zFS [0] 20 ("StoneSheets", "carried", "[F", true) (.array (.float)) := zFS1 zcf0 (by decide) rfl (by decide +kernel)
theorem fs_X0_21 : zFS [0] 21 ("StoneSheets", "waits", "[I", true) (.array (.int)) := zFS1 zcf0 (by decide) rfl (by decide +kernel)
theorem fs_X0_22 : zFS [0] 22 ("StoneSheets", "waitMany", "I", false) (.int) := zFS1 zcf0 (by decide) rfl (by decide +kernel)
theorem fs_X0_23 : zFS [0] 23 ("StoneSheets", "rows", "[I", true) (.array (.int)) := zFS1 zcf0 (by decide) rfl (by decide +kernel)
theorem fs_X1_0 : zFS [1] 0 ("StoneSheets$State", "z", "I", false) (.int) := zFS1 zcf1 (by decide) rfl (by decide +kernel)
theorem fs_X1_1 : zFS [1] 1 ("StoneSheets$State", "many", "I", false) (.int) := zFS1 zcf1 (by decide) rfl (by decide +kernel)
theorem fs_X1_2 : zFS [1] 2 ("StoneSheets$State", "rubbing", "[LStoneSheets$Rubbing;", true) (.array (.object "StoneSheets$Rubbing")) := zFS1 zcf1 (by decide) rfl (by decide +kernel)
theorem fs_X1_3 : zFS [1] 3 ("StoneSheets$State", "wall", "[I", true) (.array (.int)) := zFS1 zcf1 (by decide) rfl (by decide +kernel)
theorem fs_X1_4 : zFS [1] 4 ("StoneSheets$State", "found", "I", false) (.int) := zFS1 zcf1 (by decide) rfl (by decide +kernel)
theorem fs_X1_5 : zFS [1] 5 ("StoneSheets$State", "tide", "I", false) (.int) := zFS1 zcf1 (by decide) rfl (by decide +kernel)
theorem fs_X1_6 : zFS [1] 6 ("StoneSheets$State", "texts", "I", false) (.int) := zFS1 zcf1 (by decide) rfl (by decide +kernel)
theorem fs_X1_7 : zFS [1] 7 ("StoneSheets$State", "text", "[LStoneSheets$Text;", true) (.array (.object "StoneSheets$Text")) := zFS1 zcf1 (by decide) rfl (by decide +kernel)
theorem fs_X2_0 : zFS [2] 0 ("java/lang/Throwable", "cause", "Ljava/lang/Throwable;", false) (.object "java/lang/Throwable") := zFS1 zcf2 (by decide) rfl (by decide +kernel)
theorem fs_X2_1 : zFS [2] 1 ("java/lang/Throwable", "stackTrace", "[Ljava/lang/StackTraceElement;", false) (.array (.object "java/lang/StackTraceElement")) := zFS1 zcf2 (by decide) rfl (by decide +kernel)
theorem fs_X2_2 : zFS [2] 2 ("java/lang/Throwable", "suppressedExceptions", "Ljava/util/List;", false) (.object "java/util/List") := zFS1 zcf2 (by decide) rfl (by decide +kernel)
theorem fs_X2_3 : zFS [2] 3 ("java/lang/Throwable", "detailMessage", "Ljava/lang/String;", false) (.object "java/lang/String") := zFS1 zcf2 (by decide) rfl (by decide +kernel)
theorem fs_X2_4 : zFS [2] 4 ("java/lang/Throwable", "backtrace", "Ljava/lang/Object;", false) (.object "java/lang/Object") := zFS1 zcf2 (by decide) rfl (by decide +kernel)
theorem fs_X2_5 : zFS [2] 5 ("java/lang/Throwable", "depth", "I", false) (.int) := zFS1 zcf2 (by decide) rfl (by decide +kernel)
theorem fs_X2_6 : zFS [2] 6 ("StoneSheets$Fault", "place", "I", false) (.int) := zFS1 zcf2 (by decide) rfl (by decide +kernel)
theorem fs_X3_0 : zFS [3] 0 ("StoneSheets$Sheet", "row", "Ljava/lang/Object;", false) (.object "java/lang/Object") := zFS1 zcf3 (by decide) rfl (by decide +kernel)
theorem fs_X4_0 : zFS [4] 0 ("StoneSheets$Slot", "held", "Ljava/lang/Object;", false) (.object "java/lang/Object") := zFS1 zcf4 (by decide) rfl (by decide +kernel)
theorem fs_X12_0 : zFS [12] 0 ("StoneSheets$Words", "word", "[I", true) (.array (.int)) := zFS1 zcf12 (by decide) rfl (by decide +kernel)
theorem fs_X12_1 : zFS [12] 1 ("StoneSheets$Words", "value", "[I", true) (.array (.int)) := zFS1 zcf12 (by decide) rfl (by decide +kernel)
theorem fs_X12_2 : zFS [12] 2 ("StoneSheets$Words", "many", "I", false) (.int) := zFS1 zcf12 (by decide) rfl (by decide +kernel)
theorem fs_X13_0 : zFS [13] 0 ("StoneSheets$Text", "key", "I", true) (.int) := zFS1 zcf13 (by decide) rfl (by decide +kernel)
theorem fs_X13_1 : zFS [13] 1 ("StoneSheets$Text", "words", "LStoneSheets$Words;", true) (.object "StoneSheets$Words") := zFS1 zcf13 (by decide) rfl (by decide +kernel)
theorem fs_X13_2 : zFS [13] 2 ("StoneSheets$Text", "many", "I", true) (.int) := zFS1 zcf13 (by decide) rfl (by decide +kernel)
theorem fs_X14_0 : zFS [14] 0 ("StoneSheets$Figure", "v", "I", true) (.int) := zFS1 zcf14 (by decide) rfl (by decide +kernel)
theorem fs_X6_0 : zFS [6, 7, 8, 9, 10, 11] 0 ("StoneSheets$Rubbing", "raw", "I", false) (.int) := ⟨by decide +kernel, fun ci hc => by
  simp only [List.mem_cons, List.not_mem_nil, or_false] at hc
  rcases hc with rfl | rfl | rfl | rfl | rfl | rfl
  · exact ⟨_, _, _, _, zcf6, by decide, rfl⟩
  · exact ⟨_, _, _, _, zcf7, by decide, rfl⟩
  · exact ⟨_, _, _, _, zcf8, by decide, rfl⟩
  · exact ⟨_, _, _, _, zcf9, by decide, rfl⟩
  · exact ⟨_, _, _, _, zcf10, by decide, rfl⟩
  · exact ⟨_, _, _, _, zcf11, by decide, rfl⟩⟩
theorem fs_X6_1 : zFS [6, 7, 8, 9, 10, 11] 1 ("StoneSheets$Rubbing", "size", "I", false) (.int) := ⟨by decide +kernel, fun ci hc => by
  simp only [List.mem_cons, List.not_mem_nil, or_false] at hc
  rcases hc with rfl | rfl | rfl | rfl | rfl | rfl
  · exact ⟨_, _, _, _, zcf6, by decide, rfl⟩
  · exact ⟨_, _, _, _, zcf7, by decide, rfl⟩
  · exact ⟨_, _, _, _, zcf8, by decide, rfl⟩
  · exact ⟨_, _, _, _, zcf9, by decide, rfl⟩
  · exact ⟨_, _, _, _, zcf10, by decide, rfl⟩
  · exact ⟨_, _, _, _, zcf11, by decide, rfl⟩⟩
theorem fs_X6_2 : zFS [6, 7, 8, 9, 10, 11] 2 ("StoneSheets$Rubbing", "isTurned", "Z", false) (.boolean) := ⟨by decide +kernel, fun ci hc => by
  simp only [List.mem_cons, List.not_mem_nil, or_false] at hc
  rcases hc with rfl | rfl | rfl | rfl | rfl | rfl
  · exact ⟨_, _, _, _, zcf6, by decide, rfl⟩
  · exact ⟨_, _, _, _, zcf7, by decide, rfl⟩
  · exact ⟨_, _, _, _, zcf8, by decide, rfl⟩
  · exact ⟨_, _, _, _, zcf9, by decide, rfl⟩
  · exact ⟨_, _, _, _, zcf10, by decide, rfl⟩
  · exact ⟨_, _, _, _, zcf11, by decide, rfl⟩⟩
theorem fs_X6_3 : zFS [6, 7, 8, 9, 10, 11] 3 ("StoneSheets$Rubbing", "laid", "I", false) (.int) := ⟨by decide +kernel, fun ci hc => by
  simp only [List.mem_cons, List.not_mem_nil, or_false] at hc
  rcases hc with rfl | rfl | rfl | rfl | rfl | rfl
  · exact ⟨_, _, _, _, zcf6, by decide, rfl⟩
  · exact ⟨_, _, _, _, zcf7, by decide, rfl⟩
  · exact ⟨_, _, _, _, zcf8, by decide, rfl⟩
  · exact ⟨_, _, _, _, zcf9, by decide, rfl⟩
  · exact ⟨_, _, _, _, zcf10, by decide, rfl⟩
  · exact ⟨_, _, _, _, zcf11, by decide, rfl⟩⟩
theorem fs_X6_4 : zFS [6, 7, 8, 9, 10, 11] 4 ("StoneSheets$Rubbing", "trust", "I", false) (.int) := ⟨by decide +kernel, fun ci hc => by
  simp only [List.mem_cons, List.not_mem_nil, or_false] at hc
  rcases hc with rfl | rfl | rfl | rfl | rfl | rfl
  · exact ⟨_, _, _, _, zcf6, by decide, rfl⟩
  · exact ⟨_, _, _, _, zcf7, by decide, rfl⟩
  · exact ⟨_, _, _, _, zcf8, by decide, rfl⟩
  · exact ⟨_, _, _, _, zcf9, by decide, rfl⟩
  · exact ⟨_, _, _, _, zcf10, by decide, rfl⟩
  · exact ⟨_, _, _, _, zcf11, by decide, rfl⟩⟩
abbrev zfs0 : List Value := [.null, .null, .null, .null, .int 0, .null, .null, .int 0, .null, .int 0, .int 0, .int 0, .int 0, .int 0, .int 0, .int 0, .null, .null, .null, .null, .null, .null, .int 0, .null]
theorem zdf0 : zfs0.length = 24 ∧ ∀ j, j < 24 → defaultValue (tyX0 j) = vp_V zfs0 j := ⟨rfl, fun j hj => by
  rcases (show j = 0 ∨ j = 1 ∨ j = 2 ∨ j = 3 ∨ j = 4 ∨ j = 5 ∨ j = 6 ∨ j = 7 ∨ j = 8 ∨ j = 9 ∨ j = 10 ∨ j = 11 ∨ j = 12 ∨ j = 13 ∨ j = 14 ∨ j = 15 ∨ j = 16 ∨ j = 17 ∨ j = 18 ∨ j = 19 ∨ j = 20 ∨ j = 21 ∨ j = 22 ∨ j = 23 by omega) with rfl | rfl | rfl | rfl | rfl | rfl | rfl | rfl | rfl | rfl | rfl | rfl | rfl | rfl | rfl | rfl | rfl | rfl | rfl | rfl | rfl | rfl | rfl | rfl <;> rfl⟩
abbrev zfs1 : List Value := [.int 0, .int 0, .null, .null, .int 0, .int 0, .int 0, .null]
theorem zdf1 : zfs1.length = 8 ∧ ∀ j, j < 8 → defaultValue (tyX1 j) = vp_V zfs1 j := ⟨rfl, fun j hj => by
  rcases (show j = 0 ∨ j = 1 ∨ j = 2 ∨ j = 3 ∨ j = 4 ∨ j = 5 ∨ j = 6 ∨ j = 7 by omega) with rfl | rfl | rfl | rfl | rfl | rfl | rfl | rfl <;> rfl⟩
abbrev zfs2 : List Value := [.null, .null, .null, .null, .null, .int 0, .int 0]
theorem zdf2 : zfs2.length = 7 ∧ ∀ j, j < 7 → defaultValue (tyX2 j) = vp_V zfs2 j := ⟨rfl, fun j hj => by
  rcases (show j = 0 ∨ j = 1 ∨ j = 2 ∨ j = 3 ∨ j = 4 ∨ j = 5 ∨ j = 6 by omega) with rfl | rfl | rfl | rfl | rfl | rfl | rfl <;> rfl⟩
abbrev zfs3 : List Value := [.null]
theorem zdf3 : zfs3.length = 1 ∧ ∀ j, j < 1 → defaultValue (tyX3 j) = vp_V zfs3 j := ⟨rfl, fun j hj => by
  rcases (show j = 0 by omega) with rfl <;> rfl⟩
abbrev zfs4 : List Value := [.null]
theorem zdf4 : zfs4.length = 1 ∧ ∀ j, j < 1 → defaultValue (tyX4 j) = vp_V zfs4 j := ⟨rfl, fun j hj => by
  rcases (show j = 0 by omega) with rfl <;> rfl⟩
abbrev zfs6 : List Value := [.int 0, .int 0, .int 0, .int 0, .int 0]
theorem zdf6 : zfs6.length = 5 ∧ ∀ j, j < 5 → defaultValue (tyX6 j) = vp_V zfs6 j := ⟨rfl, fun j hj => by
  rcases (show j = 0 ∨ j = 1 ∨ j = 2 ∨ j = 3 ∨ j = 4 by omega) with rfl | rfl | rfl | rfl | rfl <;> rfl⟩
abbrev zfs7 : List Value := [.int 0, .int 0, .int 0, .int 0, .int 0]
theorem zdf7 : zfs7.length = 5 ∧ ∀ j, j < 5 → defaultValue (tyX7 j) = vp_V zfs7 j := ⟨rfl, fun j hj => by
  rcases (show j = 0 ∨ j = 1 ∨ j = 2 ∨ j = 3 ∨ j = 4 by omega) with rfl | rfl | rfl | rfl | rfl <;> rfl⟩
abbrev zfs8 : List Value := [.int 0, .int 0, .int 0, .int 0, .int 0]
theorem zdf8 : zfs8.length = 5 ∧ ∀ j, j < 5 → defaultValue (tyX8 j) = vp_V zfs8 j := ⟨rfl, fun j hj => by
  rcases (show j = 0 ∨ j = 1 ∨ j = 2 ∨ j = 3 ∨ j = 4 by omega) with rfl | rfl | rfl | rfl | rfl <;> rfl⟩
abbrev zfs9 : List Value := [.int 0, .int 0, .int 0, .int 0, .int 0]
theorem zdf9 : zfs9.length = 5 ∧ ∀ j, j < 5 → defaultValue (tyX9 j) = vp_V zfs9 j := ⟨rfl, fun j hj => by
  rcases (show j = 0 ∨ j = 1 ∨ j = 2 ∨ j = 3 ∨ j = 4 by omega) with rfl | rfl | rfl | rfl | rfl <;> rfl⟩
abbrev zfs10 : List Value := [.int 0, .int 0, .int 0, .int 0, .int 0]
theorem zdf10 : zfs10.length = 5 ∧ ∀ j, j < 5 → defaultValue (tyX10 j) = vp_V zfs10 j := ⟨rfl, fun j hj => by
  rcases (show j = 0 ∨ j = 1 ∨ j = 2 ∨ j = 3 ∨ j = 4 by omega) with rfl | rfl | rfl | rfl | rfl <;> rfl⟩
abbrev zfs11 : List Value := [.int 0, .int 0, .int 0, .int 0, .int 0]
theorem zdf11 : zfs11.length = 5 ∧ ∀ j, j < 5 → defaultValue (tyX11 j) = vp_V zfs11 j := ⟨rfl, fun j hj => by
  rcases (show j = 0 ∨ j = 1 ∨ j = 2 ∨ j = 3 ∨ j = 4 by omega) with rfl | rfl | rfl | rfl | rfl <;> rfl⟩
abbrev zfs12 : List Value := [.null, .null, .int 0]
theorem zdf12 : zfs12.length = 3 ∧ ∀ j, j < 3 → defaultValue (tyX12 j) = vp_V zfs12 j := ⟨rfl, fun j hj => by
  rcases (show j = 0 ∨ j = 1 ∨ j = 2 by omega) with rfl | rfl | rfl <;> rfl⟩
abbrev zfs13 : List Value := [.int 0, .null, .int 0]
theorem zdf13 : zfs13.length = 3 ∧ ∀ j, j < 3 → defaultValue (tyX13 j) = vp_V zfs13 j := ⟨rfl, fun j hj => by
  rcases (show j = 0 ∨ j = 1 ∨ j = 2 by omega) with rfl | rfl | rfl <;> rfl⟩
abbrev zfs14 : List Value := [.int 0]
theorem zdf14 : zfs14.length = 1 ∧ ∀ j, j < 1 → defaultValue (tyX14 j) = vp_V zfs14 j := ⟨rfl, fun j hj => by
  rcases (show j = 0 by omega) with rfl <;> rfl⟩
abbrev rm_J6_bitCount : Room := { frames := 1, cells := 0, slots := 0, locals := 30 }
theorem cd_J6_bitCount : zcd yJ6_bitCount 1 := by unfold zcd; decide +kernel
def f_J6_bitCount (h : zT) (i0 : Int32) : Option (Int32 × zT) :=
  (some (i0 - (((i0.toUInt32 >>> ((1 : Int32).toUInt32 &&& Int32.toUInt32 31)).toInt32) &&& (1431655765 : Int32)))).bind fun v1 =>
  (some ((v1 &&& (858993459 : Int32)) + (((v1.toUInt32 >>> ((2 : Int32).toUInt32 &&& Int32.toUInt32 31)).toInt32) &&& (858993459 : Int32)))).bind fun v2 =>
  (some ((v2 + ((v2.toUInt32 >>> ((4 : Int32).toUInt32 &&& Int32.toUInt32 31)).toInt32)) &&& (252645135 : Int32))).bind fun v3 =>
  (some (v3 + ((v3.toUInt32 >>> ((8 : Int32).toUInt32 &&& Int32.toUInt32 31)).toInt32))).bind fun v4 =>
  (some (v4 + ((v4.toUInt32 >>> ((16 : Int32).toUInt32 &&& Int32.toUInt32 31)).toInt32))).bind fun v5 =>
  some (v5 &&& (63 : Int32), h)
abbrev rm_X1_init : Room := { frames := 1, cells := 3, slots := 39, locals := 30 }
theorem cd_X1_init : zcd yX1_init 0 := by unfold zcd; decide +kernel
def f_X1_init (h : zT) (a0 : Nat) : Option (zT) :=
  (zp_V [1] h a0 0 (.int (1 : Int32))).bind fun h1 =>
  (zn_Q "StoneSheets$Rubbing" h1 (9 : Int32)).bind fun r2 =>
  (zp_V [1] r2.2 a0 2 (.ref r2.1)).bind fun h3 =>
  (zn_A .int h3 (16 : Int32)).bind fun r4 =>
  (zp_V [1] r4.2 a0 3 (.ref r4.1)).bind fun h5 =>
  (zn_Q "StoneSheets$Text" h5 (14 : Int32)).bind fun r6 =>
  (zp_V [1] r6.2 a0 7 (.ref r6.1)).bind fun h7 =>
  some h7
abbrev rm_X1_draw : Room := { frames := 1, cells := 0, slots := 0, locals := 30 }
theorem cd_X1_draw : zcd yX1_draw 0 := by unfold zcd; decide +kernel
def f_X1_draw (h : zT) (a0 : Nat) : Option (Int32 × zT) :=
  (zg_I [1] h a0 0).bind fun v1 =>
  (zp_V [1] h a0 0 (.int ((v1 * (1103515245 : Int32)) + (12345 : Int32)))).bind fun h2 =>
  (zg_I [1] h2 a0 0).bind fun v3 =>
  some ((v3.toUInt32 >>> ((8 : Int32).toUInt32 &&& Int32.toUInt32 31)).toInt32, h2)
abbrev rm_X1_laid : Room := { frames := 1, cells := 0, slots := 0, locals := 30 }
theorem cd_X1_laid : zcd yX1_laid 0 := by unfold zcd; decide +kernel
def f_X1_laid_4 : Nat → zT → Nat → Int32 → Int32 → Option (Int32 × zT)
  | 0, _, _, _, _ => none
  | n + 1, h, a0, i1, i2 =>
    (zg_I [1] h a0 1).bind fun v1 =>
    if v1 ≤ i2 then (
      some (i1, h))
    else (
      (zg_R [1] h a0 2).bind fun v2 =>
      (za_R "StoneSheets$Rubbing" h v2 i2).bind fun v3 =>
      (zg_I [6, 7, 8, 9, 10, 11] h v3 3).bind fun v4 =>
      if ¬ v4 = (16 : Int32) then (
        (some (i1 ||| ((1 : Int32) <<< (i2 &&& 31)))).bind fun v5 =>
        (some (i2 + (1 : Int32))).bind fun v6 =>
        f_X1_laid_4 n h a0 v5 v6)
      else (
        (some (i1 ||| (0 : Int32))).bind fun v7 =>
        (some (i2 + (1 : Int32))).bind fun v8 =>
        f_X1_laid_4 n h a0 v7 v8))
def f_X1_laid (h : zT) (a0 : Nat) : Option (Int32 × zT) :=
  f_X1_laid_4 4096 h a0 (0 : Int32) (0 : Int32)
abbrev rm_X6_covered : Room := { frames := 1, cells := 0, slots := 0, locals := 30 }
theorem cd_X6_covered : zcd yX6_covered 0 := by unfold zcd; decide +kernel
def f_X6_covered (h : zT) (a0 : Nat) : Option (Int32 × zT) :=
  (zg_I [6, 7, 8, 9, 10, 11] h a0 3).bind fun v1 =>
  if ¬ v1 = (16 : Int32) then (
    (zg_I [6, 7, 8, 9, 10, 11] h a0 1).bind fun v2 =>
    (zg_I [6, 7, 8, 9, 10, 11] h a0 3).bind fun v3 =>
    some (((((1 : Int32) <<< (v2 &&& 31)) - (1 : Int32)) <<< (v3 &&& 31)) &&& (65535 : Int32), h))
  else (
    some ((0 : Int32), h))
def fd_covered (h : zT) (b : Nat) : Option (Int32 × zT) := (zh_O h b).bind fun o =>
    if o.1 = 6 then f_X6_covered h b
    else if o.1 = 7 then f_X6_covered h b
    else if o.1 = 8 then f_X6_covered h b
    else if o.1 = 9 then f_X6_covered h b
    else if o.1 = 10 then f_X6_covered h b
    else if o.1 = 11 then f_X6_covered h b
    else none
abbrev rm_X1_coveredBy : Room := { frames := 8, cells := 0, slots := 0, locals := 200 }
theorem cd_X1_coveredBy : zcd yX1_coveredBy 1 := by unfold zcd; decide +kernel
def f_X1_coveredBy_4 : Nat → zT → Nat → Int32 → Int32 → Int32 → Option (Int32 × zT)
  | 0, _, _, _, _, _ => none
  | n + 1, h, a0, i1, i2, i3 =>
    (zg_I [1] h a0 1).bind fun v1 =>
    if v1 ≤ i3 then (
      some (i2, h))
    else (
      if ¬ ((i1 >>> (i3 &&& 31)) &&& (1 : Int32)) = (1 : Int32) then (
        (some (i2 ||| (0 : Int32))).bind fun v2 =>
        (some (i3 + (1 : Int32))).bind fun v3 =>
        f_X1_coveredBy_4 n h a0 i1 v2 v3)
      else (
        (zg_R [1] h a0 2).bind fun v4 =>
        (za_R "StoneSheets$Rubbing" h v4 i3).bind fun v5 =>
        (fd_covered h v5).bind fun r6 =>
        (some (i2 ||| r6.1)).bind fun v7 =>
        (some (i3 + (1 : Int32))).bind fun v8 =>
        f_X1_coveredBy_4 n r6.2 a0 i1 v7 v8))
def f_X1_coveredBy (h : zT) (a0 : Nat) (i1 : Int32) : Option (Int32 × zT) :=
  f_X1_coveredBy_4 4096 h a0 i1 (0 : Int32) (0 : Int32)
abbrev rm_X0_isIn : Room := { frames := 1, cells := 0, slots := 0, locals := 30 }
theorem cd_X0_isIn : zcd yX0_isIn 3 := by unfold zcd; decide +kernel
def f_X0_isIn (h : zT) (i0 : Int32) (i1 : Int32) (i2 : Int32) : Option (Int32 × zT) :=
  if i0 < i1 then (
    if (0 : Int32) = 0 ∨ (0 : Int32) = 1 then some ((0 : Int32), h) else none)
  else (
    if i2 < i0 then (
      if (0 : Int32) = 0 ∨ (0 : Int32) = 1 then some ((0 : Int32), h) else none)
    else (
      if (1 : Int32) = 0 ∨ (1 : Int32) = 1 then some ((1 : Int32), h) else none))
abbrev rm_X6_covers : Room := { frames := 2, cells := 0, slots := 0, locals := 52 }
theorem cd_X6_covers : zcd yX6_covers 1 := by unfold zcd; decide +kernel
def f_X6_covers (h : zT) (a0 : Nat) (i1 : Int32) : Option (Int32 × zT) :=
  (zg_I [6, 7, 8, 9, 10, 11] h a0 3).bind fun v1 =>
  if v1 = (16 : Int32) then (
    if (0 : Int32) = 0 ∨ (0 : Int32) = 1 then some ((0 : Int32), h) else none)
  else (
    (zg_I [6, 7, 8, 9, 10, 11] h a0 3).bind fun v2 =>
    (zg_I [6, 7, 8, 9, 10, 11] h a0 3).bind fun v3 =>
    (zg_I [6, 7, 8, 9, 10, 11] h a0 1).bind fun v4 =>
    (f_X0_isIn h i1 v2 ((v3 + v4) - (1 : Int32))).bind fun r5 =>
    if r5.1 = 0 then (
      if (0 : Int32) = 0 ∨ (0 : Int32) = 1 then some ((0 : Int32), r5.2) else none)
    else (
      if (1 : Int32) = 0 ∨ (1 : Int32) = 1 then some ((1 : Int32), r5.2) else none))
abbrev rm_X7_bolder : Room := { frames := 1, cells := 0, slots := 0, locals := 30 }
theorem cd_X7_bolder : zcd yX7_bolder 1 := by unfold zcd; decide +kernel
def f_X7_bolder (h : zT) (i0 : Int32) : Option (Int32 × zT) :=
  if ¬ i0 = 0 then (
    (some (if (i0 + (1 : Int32)) < (3 : Int32) then (i0 + (1 : Int32)) else (3 : Int32))).bind fun v1 =>
    some (v1, h))
  else (
    some ((0 : Int32), h))
abbrev rm_X7_says : Room := { frames := 2, cells := 0, slots := 0, locals := 60 }
theorem cd_X7_says : zcd yX7_says 2 := by unfold zcd; decide +kernel
def f_X7_says (h : zT) (a0 : Nat) (i1 : Int32) (i2 : Int32) : Option (Int32 × zT) :=
  (zk_S [6, 7, 8, 9, 10, 11] h a0).bind fun _ =>
  (some (i1, h)).bind fun r1 =>
  (f_X7_bolder r1.2 r1.1).bind fun r2 =>
  some (r2.1, r2.2)
abbrev rm_X8_says : Room := { frames := 2, cells := 0, slots := 0, locals := 60 }
theorem cd_X8_says : zcd yX8_says 2 := by unfold zcd; decide +kernel
def f_X8_says (h : zT) (a0 : Nat) (i1 : Int32) (i2 : Int32) : Option (Int32 × zT) :=
  (zk_S [6, 7, 8, 9, 10, 11] h a0).bind fun _ =>
  (some (i1, h)).bind fun r1 =>
  (some (if (0 : Int32) < (r1.1 - (1 : Int32)) then (r1.1 - (1 : Int32)) else (0 : Int32))).bind fun v2 =>
  some (v2, r1.2)
abbrev rm_X9_says : Room := { frames := 3, cells := 0, slots := 0, locals := 82 }
theorem cd_X9_says : zcd yX9_says 2 := by unfold zcd; decide +kernel
def f_X9_says (h : zT) (a0 : Nat) (i1 : Int32) (i2 : Int32) : Option (Int32 × zT) :=
  (zk_S [6, 7, 8, 9, 10, 11] h a0).bind fun _ =>
  (f_X7_says h a0 i1 i2).bind fun r1 =>
  (f_X7_bolder r1.2 r1.1).bind fun r2 =>
  some (r2.1, r2.2)
abbrev rm_X10_says : Room := { frames := 3, cells := 0, slots := 0, locals := 82 }
theorem cd_X10_says : zcd yX10_says 2 := by unfold zcd; decide +kernel
def f_X10_says (h : zT) (a0 : Nat) (i1 : Int32) (i2 : Int32) : Option (Int32 × zT) :=
  (zg_I [6, 7, 8, 9, 10, 11] h a0 1).bind fun v1 =>
  if ¬ i2 = (v1 / (2 : Int32)) then (
    (zk_S [6, 7, 8, 9, 10, 11] h a0).bind fun _ =>
    (f_X8_says h a0 i1 i2).bind fun r2 =>
    some (r2.1, r2.2))
  else (
    some ((3 : Int32), h))
abbrev rm_X11_says : Room := { frames := 1, cells := 0, slots := 0, locals := 30 }
theorem cd_X11_says : zcd yX11_says 2 := by unfold zcd; decide +kernel
def f_X11_says (h : zT) (a0 : Nat) (i1 : Int32) (i2 : Int32) : Option (Int32 × zT) :=
  some ((2 : Int32), h)
def fd_says (h : zT) (b : Nat) (i1 : Int32) (i2 : Int32) : Option (Int32 × zT) := (zh_O h b).bind fun o =>
    if o.1 = 6 then some (i1, h)
    else if o.1 = 7 then f_X7_says h b i1 i2
    else if o.1 = 8 then f_X8_says h b i1 i2
    else if o.1 = 9 then f_X9_says h b i1 i2
    else if o.1 = 10 then f_X10_says h b i1 i2
    else if o.1 = 11 then f_X11_says h b i1 i2
    else none
abbrev rm_X6_saysAt : Room := { frames := 8, cells := 0, slots := 0, locals := 200 }
theorem cd_X6_saysAt : zcd yX6_saysAt 1 := by unfold zcd; decide +kernel
def f_X6_saysAt_25 (h : zT) (i1 : Int32) (s0 : Int32) (s1 : Int32) (s2 : Int32) (s3 : Nat) : Option (Int32 × zT) :=
  (fd_says h s3 ((s2 >>> ((s1 * s0) &&& 31)) &&& (3 : Int32)) i1).bind fun r1 =>
  some (r1.1, r1.2)
def f_X6_saysAt (h : zT) (a0 : Nat) (i1 : Int32) : Option (Int32 × zT) :=
  (zg_I [6, 7, 8, 9, 10, 11] h a0 0).bind fun v1 =>
  (zg_I [6, 7, 8, 9, 10, 11] h a0 2).bind fun v2 =>
  if v2 = 0 then (
    f_X6_saysAt_25 h i1 i1 (2 : Int32) v1 a0)
  else (
    (zg_I [6, 7, 8, 9, 10, 11] h a0 1).bind fun v3 =>
    f_X6_saysAt_25 h i1 ((v3 - (1 : Int32)) - i1) (2 : Int32) v1 a0)
def fd_covers (h : zT) (b : Nat) (i1 : Int32) : Option (Int32 × zT) := (zh_O h b).bind fun o =>
    if o.1 = 6 then f_X6_covers h b i1
    else if o.1 = 7 then f_X6_covers h b i1
    else if o.1 = 8 then f_X6_covers h b i1
    else if o.1 = 9 then f_X6_covers h b i1
    else if o.1 = 10 then f_X6_covers h b i1
    else if o.1 = 11 then f_X6_covers h b i1
    else none
def fd_saysAt (h : zT) (b : Nat) (i1 : Int32) : Option (Int32 × zT) := (zh_O h b).bind fun o =>
    if o.1 = 6 then f_X6_saysAt h b i1
    else if o.1 = 7 then f_X6_saysAt h b i1
    else if o.1 = 8 then f_X6_saysAt h b i1
    else if o.1 = 9 then f_X6_saysAt h b i1
    else if o.1 = 10 then f_X6_saysAt h b i1
    else if o.1 = 11 then f_X6_saysAt h b i1
    else none
abbrev rm_X1_isFalse : Room := { frames := 10, cells := 0, slots := 0, locals := 300 }
theorem cd_X1_isFalse : zcd yX1_isFalse 2 := by unfold zcd; decide +kernel
def f_X1_isFalse (h : zT) (a0 : Nat) (i1 : Int32) (i2 : Int32) : Option (Int32 × zT) :=
  (zg_R [1] h a0 2).bind fun v1 =>
  (za_R "StoneSheets$Rubbing" h v1 i1).bind fun v2 =>
  (fd_covers h v2 i2).bind fun r3 =>
  if r3.1 = 0 then (
    if (0 : Int32) = 0 ∨ (0 : Int32) = 1 then some ((0 : Int32), r3.2) else none)
  else (
    (zg_I [6, 7, 8, 9, 10, 11] r3.2 v2 3).bind fun v4 =>
    (fd_saysAt r3.2 v2 (i2 - v4)).bind fun r5 =>
    (zg_R [1] r5.2 a0 3).bind fun v6 =>
    (za_I .int r5.2 v6 i2).bind fun v7 =>
    if r5.1 = v7 then (
      if (0 : Int32) = 0 ∨ (0 : Int32) = 1 then some ((0 : Int32), r5.2) else none)
    else (
      if (1 : Int32) = 0 ∨ (1 : Int32) = 1 then some ((1 : Int32), r5.2) else none))
abbrev rm_X1_trust : Room := { frames := 1, cells := 0, slots := 0, locals := 30 }
theorem cd_X1_trust : zcd yX1_trust 0 := by unfold zcd; decide +kernel
def f_X1_trust_4 : Nat → zT → Nat → Int32 → Int32 → Option (Int32 × zT)
  | 0, _, _, _, _ => none
  | n + 1, h, a0, i1, i2 =>
    (zg_I [1] h a0 1).bind fun v1 =>
    if v1 ≤ i2 then (
      some (i1, h))
    else (
      (zg_R [1] h a0 2).bind fun v2 =>
      (za_R "StoneSheets$Rubbing" h v2 i2).bind fun v3 =>
      (zg_I [6, 7, 8, 9, 10, 11] h v3 4).bind fun v4 =>
      (some (i1 + v4)).bind fun v5 =>
      (some (i2 + (1 : Int32))).bind fun v6 =>
      f_X1_trust_4 n h a0 v5 v6)
def f_X1_trust (h : zT) (a0 : Nat) : Option (Int32 × zT) :=
  f_X1_trust_4 4096 h a0 (0 : Int32) (0 : Int32)
abbrev rm_X6_kind : Room := { frames := 1, cells := 0, slots := 0, locals := 30 }
theorem cd_X6_kind : zcd yX6_kind 0 := by unfold zcd; decide +kernel
def f_X6_kind (h : zT) (a0 : Nat) : Option (Int32 × zT) :=
  some ((0 : Int32), h)
abbrev rm_X7_kind : Room := { frames := 1, cells := 0, slots := 0, locals := 30 }
theorem cd_X7_kind : zcd yX7_kind 0 := by unfold zcd; decide +kernel
def f_X7_kind (h : zT) (a0 : Nat) : Option (Int32 × zT) :=
  some ((1 : Int32), h)
abbrev rm_X8_kind : Room := { frames := 1, cells := 0, slots := 0, locals := 30 }
theorem cd_X8_kind : zcd yX8_kind 0 := by unfold zcd; decide +kernel
def f_X8_kind (h : zT) (a0 : Nat) : Option (Int32 × zT) :=
  some ((2 : Int32), h)
abbrev rm_X9_kind : Room := { frames := 2, cells := 0, slots := 0, locals := 50 }
theorem cd_X9_kind : zcd yX9_kind 0 := by unfold zcd; decide +kernel
def f_X9_kind (h : zT) (a0 : Nat) : Option (Int32 × zT) :=
  (zk_S [6, 7, 8, 9, 10, 11] h a0).bind fun _ =>
  (f_X7_kind h a0).bind fun r1 =>
  some (r1.1 + (2 : Int32), r1.2)
abbrev rm_X10_kind : Room := { frames := 2, cells := 0, slots := 0, locals := 50 }
theorem cd_X10_kind : zcd yX10_kind 0 := by unfold zcd; decide +kernel
def f_X10_kind (h : zT) (a0 : Nat) : Option (Int32 × zT) :=
  (zk_S [6, 7, 8, 9, 10, 11] h a0).bind fun _ =>
  (f_X8_kind h a0).bind fun r1 =>
  some (r1.1 + (2 : Int32), r1.2)
abbrev rm_X11_kind : Room := { frames := 1, cells := 0, slots := 0, locals := 30 }
theorem cd_X11_kind : zcd yX11_kind 0 := by unfold zcd; decide +kernel
def f_X11_kind (h : zT) (a0 : Nat) : Option (Int32 × zT) :=
  some ((5 : Int32), h)
abbrev rm_X6_init : Room := { frames := 1, cells := 0, slots := 0, locals := 30 }
theorem cd_X6_init : zcd yX6_init 0 := by unfold zcd; decide +kernel
def f_X6_init (h : zT) (a0 : Nat) : Option (zT) :=
  (zp_V [6, 7, 8, 9, 10, 11] h a0 3 (.int (16 : Int32))).bind fun h1 =>
  (zp_V [6, 7, 8, 9, 10, 11] h1 a0 4 (.int (50 : Int32))).bind fun h2 =>
  some h2
abbrev rm_X6_another : Room := { frames := 2, cells := 1, slots := 5, locals := 50 }
theorem cd_X6_another : zcd yX6_another 0 := by unfold zcd; decide +kernel
def f_X6_another (h : zT) (a0 : Nat) : Option (Nat × zT) :=
  (zn_O 6 zfs6 h).bind fun r1 =>
  (f_X6_init r1.2 r1.1).bind fun r2 =>
  some (r1.1, r2)
abbrev rm_X7_init : Room := { frames := 2, cells := 0, slots := 0, locals := 50 }
theorem cd_X7_init : zcd yX7_init 0 := by unfold zcd; decide +kernel
def f_X7_init (h : zT) (a0 : Nat) : Option (zT) :=
  (f_X6_init h a0).bind fun r1 =>
  some r1
abbrev rm_X7_another : Room := { frames := 3, cells := 1, slots := 5, locals := 70 }
theorem cd_X7_another : zcd yX7_another 0 := by unfold zcd; decide +kernel
def f_X7_another (h : zT) (a0 : Nat) : Option (Nat × zT) :=
  (zn_O 7 zfs7 h).bind fun r1 =>
  (f_X7_init r1.2 r1.1).bind fun r2 =>
  some (r1.1, r2)
abbrev rm_X8_init : Room := { frames := 2, cells := 0, slots := 0, locals := 50 }
theorem cd_X8_init : zcd yX8_init 0 := by unfold zcd; decide +kernel
def f_X8_init (h : zT) (a0 : Nat) : Option (zT) :=
  (f_X6_init h a0).bind fun r1 =>
  some r1
abbrev rm_X8_another : Room := { frames := 3, cells := 1, slots := 5, locals := 70 }
theorem cd_X8_another : zcd yX8_another 0 := by unfold zcd; decide +kernel
def f_X8_another (h : zT) (a0 : Nat) : Option (Nat × zT) :=
  (zn_O 8 zfs8 h).bind fun r1 =>
  (f_X8_init r1.2 r1.1).bind fun r2 =>
  some (r1.1, r2)
abbrev rm_X9_init : Room := { frames := 3, cells := 0, slots := 0, locals := 70 }
theorem cd_X9_init : zcd yX9_init 0 := by unfold zcd; decide +kernel
def f_X9_init (h : zT) (a0 : Nat) : Option (zT) :=
  (f_X7_init h a0).bind fun r1 =>
  some r1
abbrev rm_X9_another : Room := { frames := 4, cells := 1, slots := 5, locals := 90 }
theorem cd_X9_another : zcd yX9_another 0 := by unfold zcd; decide +kernel
def f_X9_another (h : zT) (a0 : Nat) : Option (Nat × zT) :=
  (zn_O 9 zfs9 h).bind fun r1 =>
  (f_X9_init r1.2 r1.1).bind fun r2 =>
  some (r1.1, r2)
abbrev rm_X10_init : Room := { frames := 3, cells := 0, slots := 0, locals := 70 }
theorem cd_X10_init : zcd yX10_init 0 := by unfold zcd; decide +kernel
def f_X10_init (h : zT) (a0 : Nat) : Option (zT) :=
  (f_X8_init h a0).bind fun r1 =>
  some r1
abbrev rm_X10_another : Room := { frames := 4, cells := 1, slots := 5, locals := 90 }
theorem cd_X10_another : zcd yX10_another 0 := by unfold zcd; decide +kernel
def f_X10_another (h : zT) (a0 : Nat) : Option (Nat × zT) :=
  (zn_O 10 zfs10 h).bind fun r1 =>
  (f_X10_init r1.2 r1.1).bind fun r2 =>
  some (r1.1, r2)
abbrev rm_X11_init : Room := { frames := 2, cells := 0, slots := 0, locals := 50 }
theorem cd_X11_init : zcd yX11_init 0 := by unfold zcd; decide +kernel
def f_X11_init (h : zT) (a0 : Nat) : Option (zT) :=
  (f_X6_init h a0).bind fun r1 =>
  some r1
abbrev rm_X11_another : Room := { frames := 3, cells := 1, slots := 5, locals := 70 }
theorem cd_X11_another : zcd yX11_another 0 := by unfold zcd; decide +kernel
def f_X11_another (h : zT) (a0 : Nat) : Option (Nat × zT) :=
  (zn_O 11 zfs11 h).bind fun r1 =>
  (f_X11_init r1.2 r1.1).bind fun r2 =>
  some (r1.1, r2)
abbrev rm_X6_takes : Room := { frames := 1, cells := 0, slots := 0, locals := 30 }
theorem cd_X6_takes : zcd yX6_takes 1 := by unfold zcd; decide +kernel
def f_X6_takes (h : zT) (a0 : Nat) (a1 : Nat) : Option (zT) :=
  (zg_I [6, 7, 8, 9, 10, 11] h a1 0).bind fun v1 =>
  (zp_V [6, 7, 8, 9, 10, 11] h a0 0 (.int v1)).bind fun h2 =>
  (zg_I [6, 7, 8, 9, 10, 11] h2 a1 1).bind fun v3 =>
  (zp_V [6, 7, 8, 9, 10, 11] h2 a0 1 (.int v3)).bind fun h4 =>
  (zg_I [6, 7, 8, 9, 10, 11] h4 a1 2).bind fun v5 =>
  (if v5 = 0 ∨ v5 = 1 then some () else none).bind fun _ =>
  (zp_V [6, 7, 8, 9, 10, 11] h4 a0 2 (.int v5)).bind fun h6 =>
  (zg_I [6, 7, 8, 9, 10, 11] h6 a1 3).bind fun v7 =>
  (zp_V [6, 7, 8, 9, 10, 11] h6 a0 3 (.int v7)).bind fun h8 =>
  (zg_I [6, 7, 8, 9, 10, 11] h8 a1 4).bind fun v9 =>
  (zp_V [6, 7, 8, 9, 10, 11] h8 a0 4 (.int v9)).bind fun h10 =>
  some h10
abbrev rm_X0_copyRow : Room := { frames := 1, cells := 0, slots := 0, locals := 40 }
theorem cd_X0_copyRow : zcd yX0_copyRow 2 := by unfold zcd; decide +kernel
def f_X0_copyRow (h : zT) (a0 : Nat) (a1 : Nat) : Option (zT) :=
  (zl_A h a1).bind fun v1 =>
  (zc_I .int h a0 (0 : Int32) a1 (0 : Int32) v1).bind fun h2 =>
  some h2
def fd_another (h : zT) (b : Nat) : Option (Nat × zT) := (zh_O h b).bind fun o =>
    if o.1 = 6 then f_X6_another h b
    else if o.1 = 7 then f_X7_another h b
    else if o.1 = 8 then f_X8_another h b
    else if o.1 = 9 then f_X9_another h b
    else if o.1 = 10 then f_X10_another h b
    else if o.1 = 11 then f_X11_another h b
    else none
def fd_kind (h : zT) (b : Nat) : Option (Int32 × zT) := (zh_O h b).bind fun o =>
    if o.1 = 6 then f_X6_kind h b
    else if o.1 = 7 then f_X7_kind h b
    else if o.1 = 8 then f_X8_kind h b
    else if o.1 = 9 then f_X9_kind h b
    else if o.1 = 10 then f_X10_kind h b
    else if o.1 = 11 then f_X11_kind h b
    else none
def fd_takes (h : zT) (b : Nat) (a1 : Nat) : Option (zT) := (zh_O h b).bind fun o =>
    if o.1 = 6 then f_X6_takes h b a1
    else if o.1 = 7 then f_X6_takes h b a1
    else if o.1 = 8 then f_X6_takes h b a1
    else if o.1 = 9 then f_X6_takes h b a1
    else if o.1 = 10 then f_X6_takes h b a1
    else if o.1 = 11 then f_X6_takes h b a1
    else none
abbrev rm_X1_copyOf : Room := { frames := 8, cells := 10, slots := 50, locals := 200 }
theorem cd_X1_copyOf : zcd yX1_copyOf 1 := by unfold zcd; decide +kernel
def f_X1_copyOf_71 (K18 : zT → Nat → Nat → Int32 → Option (zT)) (h : zT) (a0 : Nat) (a1 : Nat) (i2 : Int32) : Option (zT) :=
  (zg_R [1] h a0 2).bind fun v1 =>
  (za_R "StoneSheets$Rubbing" h v1 i2).bind fun v2 =>
  (zg_R [1] h a1 2).bind fun v3 =>
  (za_R "StoneSheets$Rubbing" h v3 i2).bind fun v4 =>
  (fd_takes h v2 v4).bind fun r5 =>
  (some (i2 + (1 : Int32))).bind fun v6 =>
  K18 r5 a0 a1 v6
def f_X1_copyOf_56 (K18 : zT → Nat → Nat → Int32 → Option (zT)) (h : zT) (a0 : Nat) (a1 : Nat) (i2 : Int32) : Option (zT) :=
  (zg_R [1] h a0 2).bind fun v1 =>
  (zg_R [1] h a1 2).bind fun v2 =>
  (za_R "StoneSheets$Rubbing" h v2 i2).bind fun v3 =>
  (fd_another h v3).bind fun r4 =>
  (zs_R "StoneSheets$Rubbing" [6, 7, 8, 9, 10, 11] r4.2 v1 i2 r4.1).bind fun h5 =>
  f_X1_copyOf_71 K18 h5 a0 a1 i2
def f_X1_copyOf_18 : Nat → zT → Nat → Nat → Int32 → Option (zT)
  | 0, _, _, _, _ => none
  | n + 1, h, a0, a1, i2 =>
    (zg_I [1] h a0 1).bind fun v1 =>
    if v1 ≤ i2 then (
      (zg_R [1] h a1 3).bind fun v2 =>
      (zg_R [1] h a0 3).bind fun v3 =>
      (f_X0_copyRow h v2 v3).bind fun r4 =>
      (zg_I [1] r4 a1 4).bind fun v5 =>
      (zp_V [1] r4 a0 4 (.int v5)).bind fun h6 =>
      (zg_I [1] h6 a1 5).bind fun v7 =>
      (zp_V [1] h6 a0 5 (.int v7)).bind fun h8 =>
      (zg_I [1] h8 a1 6).bind fun v9 =>
      (zp_V [1] h8 a0 6 (.int v9)).bind fun h10 =>
      (zg_R [1] h10 a1 7).bind fun v11 =>
      (zg_R [1] h10 a0 7).bind fun v12 =>
      (zc_Q "StoneSheets$Text" 13 h10 v11 (0 : Int32) v12 (0 : Int32) (14 : Int32)).bind fun h13 =>
      some h13)
    else (
      (zg_R [1] h a0 2).bind fun v14 =>
      (za_Q "StoneSheets$Rubbing" h v14 i2).bind fun v15 =>
      if v15 = none then (
        f_X1_copyOf_56 (f_X1_copyOf_18 n) h a0 a1 i2)
      else (
        (zg_R [1] h a0 2).bind fun v16 =>
        (za_R "StoneSheets$Rubbing" h v16 i2).bind fun v17 =>
        (fd_kind h v17).bind fun r18 =>
        (zg_R [1] r18.2 a1 2).bind fun v19 =>
        (za_R "StoneSheets$Rubbing" r18.2 v19 i2).bind fun v20 =>
        (fd_kind r18.2 v20).bind fun r21 =>
        if r18.1 = r21.1 then (
          f_X1_copyOf_71 (f_X1_copyOf_18 n) r21.2 a0 a1 i2)
        else (
          f_X1_copyOf_56 (f_X1_copyOf_18 n) r21.2 a0 a1 i2)))
def f_X1_copyOf (h : zT) (a0 : Nat) (a1 : Nat) : Option (zT) :=
  (zg_I [1] h a1 0).bind fun v1 =>
  (zp_V [1] h a0 0 (.int v1)).bind fun h2 =>
  (zg_I [1] h2 a1 1).bind fun v3 =>
  (zp_V [1] h2 a0 1 (.int v3)).bind fun h4 =>
  f_X1_copyOf_18 10 h4 a0 a1 (0 : Int32)
abbrev rm_X8_gains : Room := { frames := 2, cells := 0, slots := 0, locals := 60 }
theorem cd_X8_gains : zcd yX8_gains 1 := by unfold zcd; decide +kernel
def f_X8_gains (h : zT) (a0 : Nat) (i1 : Int32) : Option (Int32 × zT) :=
  (zk_S [6, 7, 8, 9, 10, 11] h a0).bind fun _ =>
  (some (i1, h)).bind fun r1 =>
  some (r1.1 / (2 : Int32), r1.2)
abbrev rm_X10_gains : Room := { frames := 3, cells := 0, slots := 0, locals := 81 }
theorem cd_X10_gains : zcd yX10_gains 1 := by unfold zcd; decide +kernel
def f_X10_gains (h : zT) (a0 : Nat) (i1 : Int32) : Option (Int32 × zT) :=
  (zk_S [6, 7, 8, 9, 10, 11] h a0).bind fun _ =>
  (f_X8_gains h a0 i1).bind fun r1 =>
  some (r1.1 + (2 : Int32), r1.2)
abbrev rm_X6_worth : Room := { frames := 1, cells := 0, slots := 0, locals := 30 }
theorem cd_X6_worth : zcd yX6_worth 0 := by unfold zcd; decide +kernel
def f_X6_worth (h : zT) (a0 : Nat) : Option (Int32 × zT) :=
  (zg_I [6, 7, 8, 9, 10, 11] h a0 4).bind fun v1 =>
  some (v1, h)
abbrev rm_X8_worth : Room := { frames := 2, cells := 0, slots := 0, locals := 50 }
theorem cd_X8_worth : zcd yX8_worth 0 := by unfold zcd; decide +kernel
def f_X8_worth (h : zT) (a0 : Nat) : Option (Int32 × zT) :=
  (zk_S [6, 7, 8, 9, 10, 11] h a0).bind fun _ =>
  (f_X6_worth h a0).bind fun r1 =>
  some ((99 : Int32) - r1.1, r1.2)
abbrev rm_X10_worth : Room := { frames := 3, cells := 0, slots := 0, locals := 70 }
theorem cd_X10_worth : zcd yX10_worth 0 := by unfold zcd; decide +kernel
def f_X10_worth (h : zT) (a0 : Nat) : Option (Int32 × zT) :=
  (zk_S [6, 7, 8, 9, 10, 11] h a0).bind fun _ =>
  (f_X8_worth h a0).bind fun r1 =>
  some (r1.1 - (6 : Int32), r1.2)
abbrev rm_X11_gains : Room := { frames := 1, cells := 0, slots := 0, locals := 30 }
theorem cd_X11_gains : zcd yX11_gains 1 := by unfold zcd; decide +kernel
def f_X11_gains (h : zT) (a0 : Nat) (i1 : Int32) : Option (Int32 × zT) :=
  some ((0 : Int32), h)
abbrev rm_X6_loses : Room := { frames := 1, cells := 0, slots := 0, locals := 30 }
theorem cd_X6_loses : zcd yX6_loses 0 := by unfold zcd; decide +kernel
def f_X6_loses (h : zT) (a0 : Nat) : Option (Int32 × zT) :=
  some ((5 : Int32), h)
abbrev rm_X11_loses : Room := { frames := 2, cells := 0, slots := 0, locals := 50 }
theorem cd_X11_loses : zcd yX11_loses 0 := by unfold zcd; decide +kernel
def f_X11_loses (h : zT) (a0 : Nat) : Option (Int32 × zT) :=
  (zk_S [6, 7, 8, 9, 10, 11] h a0).bind fun _ =>
  (f_X6_loses h a0).bind fun r1 =>
  some ((4 : Int32) * r1.1, r1.2)
abbrev rm_X11_worth : Room := { frames := 1, cells := 0, slots := 0, locals := 30 }
theorem cd_X11_worth : zcd yX11_worth 0 := by unfold zcd; decide +kernel
def f_X11_worth (h : zT) (a0 : Nat) : Option (Int32 × zT) :=
  some ((1 : Int32), h)
abbrev rm_X12_init : Room := { frames := 1, cells := 2, slots := 192, locals := 30 }
theorem cd_X12_init : zcd yX12_init 0 := by unfold zcd; decide +kernel
def f_X12_init (h : zT) (a0 : Nat) : Option (zT) :=
  (zn_A .int h (96 : Int32)).bind fun r1 =>
  (zp_V [12] r1.2 a0 0 (.ref r1.1)).bind fun h2 =>
  (zn_A .int h2 (96 : Int32)).bind fun r3 =>
  (zp_V [12] r3.2 a0 1 (.ref r3.1)).bind fun h4 =>
  some h4
abbrev rm_X12_add : Room := { frames := 1, cells := 0, slots := 0, locals := 30 }
theorem cd_X12_add : zcd yX12_add 2 := by unfold zcd; decide +kernel
def f_X12_add (h : zT) (a0 : Nat) (i1 : Int32) (i2 : Int32) : Option (zT) :=
  (zg_R [12] h a0 0).bind fun v1 =>
  (zg_I [12] h a0 2).bind fun v2 =>
  (zs_I .int h v1 v2 i1).bind fun h3 =>
  (zg_R [12] h3 a0 1).bind fun v4 =>
  (zg_I [12] h3 a0 2).bind fun v5 =>
  (zs_I .int h3 v4 v5 i2).bind fun h6 =>
  (zg_I [12] h6 a0 2).bind fun v7 =>
  (zp_V [12] h6 a0 2 (.int (v7 + (1 : Int32)))).bind fun h8 =>
  some h8
abbrev rm_X13_init : Room := { frames := 1, cells := 0, slots := 0, locals := 30 }
theorem cd_X13_init : zcd yX13_init 3 := by unfold zcd; decide +kernel
def f_X13_init (h : zT) (a0 : Nat) (i1 : Int32) (a2 : Nat) (i3 : Int32) : Option (zT) :=
  (zp_V [13] h a0 0 (.int i1)).bind fun h1 =>
  (zp_V [13] h1 a0 1 (.ref a2)).bind fun h2 =>
  (zp_V [13] h2 a0 2 (.int i3)).bind fun h3 =>
  some h3
abbrev rm_X14_init : Room := { frames := 1, cells := 0, slots := 0, locals := 30 }
theorem cd_X14_init : zcd yX14_init 1 := by unfold zcd; decide +kernel
def f_X14_init (h : zT) (a0 : Nat) (i1 : Int32) : Option (zT) :=
  (zp_V [14] h a0 0 (.int i1)).bind fun h1 =>
  some h1
abbrev rm_X3_init : Room := { frames := 1, cells := 0, slots := 0, locals := 30 }
theorem cd_X3_init : zcd yX3_init 0 := by unfold zcd; decide +kernel
def f_X3_init (h : zT) (a0 : Nat) : Option (zT) :=
  some h
abbrev rm_X3_isThere : Room := { frames := 1, cells := 0, slots := 0, locals := 30 }
theorem cd_X3_isThere : zcd yX3_isThere 0 := by unfold zcd; decide +kernel
def f_X3_isThere (h : zT) (a0 : Nat) : Option (Int32 × zT) :=
  (zg_Q [3] h a0 0).bind fun v1 =>
  if v1 = none then (
    if (0 : Int32) = 0 ∨ (0 : Int32) = 1 then some ((0 : Int32), h) else none)
  else (
    if (1 : Int32) = 0 ∨ (1 : Int32) = 1 then some ((1 : Int32), h) else none)
abbrev rm_X3_isFloats : Room := { frames := 1, cells := 0, slots := 0, locals := 30 }
theorem cd_X3_isFloats : zcd yX3_isFloats 0 := by unfold zcd; decide +kernel
def f_X3_isFloats (h : zT) (a0 : Nat) : Option (Int32 × zT) :=
  (zg_Q [3] h a0 0).bind fun v1 =>
  (zi_F h v1).bind fun v2 =>
  if v2 = 0 ∨ v2 = 1 then some (v2, h) else none
abbrev rm_X3_size : Room := { frames := 2, cells := 0, slots := 0, locals := 50 }
theorem cd_X3_size : zcd yX3_size 0 := by unfold zcd; decide +kernel
def f_X3_size (h : zT) (a0 : Nat) : Option (Int32 × zT) :=
  (zk_C 3 h a0).bind fun _ =>
  (f_X3_isFloats h a0).bind fun r1 =>
  if r1.1 = 0 then (
    (zg_Q [3] r1.2 a0 0).bind fun v2 =>
    v2.bind fun b3 =>
    (zc_T .short r1.2 b3).bind fun _ =>
    (zl_A r1.2 b3).bind fun v4 =>
    some (v4, r1.2))
  else (
    (zg_Q [3] r1.2 a0 0).bind fun v5 =>
    v5.bind fun b6 =>
    (zc_T .float r1.2 b6).bind fun _ =>
    (zl_A r1.2 b6).bind fun v7 =>
    some (v7, r1.2))
abbrev rm_X3_put : Room := { frames := 2, cells := 0, slots := 0, locals := 50 }
theorem cd_X3_put : zcd yX3_put 2 := by unfold zcd; decide +kernel
def f_X3_put (h : zT) (a0 : Nat) (i1 : Int32) (i2 : Int32) : Option (zT) :=
  (zk_C 3 h a0).bind fun _ =>
  (f_X3_isFloats h a0).bind fun r1 =>
  if r1.1 = 0 then (
    (zg_Q [3] r1.2 a0 0).bind fun v2 =>
    v2.bind fun b3 =>
    (zc_T .short r1.2 b3).bind fun _ =>
    (zs_I .short r1.2 b3 i1 (vp_nar .short i2.toInt16.toInt32)).bind fun h4 =>
    some h4)
  else (
    (zg_Q [3] r1.2 a0 0).bind fun v5 =>
    v5.bind fun b6 =>
    (zc_T .float r1.2 b6).bind fun _ =>
    (zs_F r1.2 b6 i1 (FP.i2f i2)).bind fun h7 =>
    some h7)
abbrev rm_X3_isNumber : Room := { frames := 2, cells := 0, slots := 0, locals := 50 }
theorem cd_X3_isNumber : zcd yX3_isNumber 1 := by unfold zcd; decide +kernel
def f_X3_isNumber (h : zT) (a0 : Nat) (i1 : Int32) : Option (Int32 × zT) :=
  (zk_C 3 h a0).bind fun _ =>
  (f_X3_isFloats h a0).bind fun r1 =>
  if r1.1 = 0 then (
    if (1 : Int32) = 0 ∨ (1 : Int32) = 1 then some ((1 : Int32), r1.2) else none)
  else (
    (zg_Q [3] r1.2 a0 0).bind fun v2 =>
    v2.bind fun b3 =>
    (zc_T .float r1.2 b3).bind fun _ =>
    (za_F r1.2 b3 i1).bind fun v4 =>
    (zg_Q [3] r1.2 a0 0).bind fun v5 =>
    v5.bind fun b6 =>
    (zc_T .float r1.2 b6).bind fun _ =>
    (za_F r1.2 b6 i1).bind fun v7 =>
    if ¬ (Op.cmpValue (FP.fcmp v4 v7) .l) = 0 then (
      if (0 : Int32) = 0 ∨ (0 : Int32) = 1 then some ((0 : Int32), r1.2) else none)
    else (
      if (1 : Int32) = 0 ∨ (1 : Int32) = 1 then some ((1 : Int32), r1.2) else none))
abbrev rm_X3_at : Room := { frames := 2, cells := 0, slots := 0, locals := 50 }
theorem cd_X3_at : zcd yX3_at 1 := by unfold zcd; decide +kernel
def f_X3_at (h : zT) (a0 : Nat) (i1 : Int32) : Option (Int32 × zT) :=
  (zk_C 3 h a0).bind fun _ =>
  (f_X3_isFloats h a0).bind fun r1 =>
  if r1.1 = 0 then (
    (zg_Q [3] r1.2 a0 0).bind fun v2 =>
    v2.bind fun b3 =>
    (zc_T .short r1.2 b3).bind fun _ =>
    (za_I .short r1.2 b3 i1).bind fun v4 =>
    some (v4, r1.2))
  else (
    (zg_Q [3] r1.2 a0 0).bind fun v5 =>
    v5.bind fun b6 =>
    (zc_T .float r1.2 b6).bind fun _ =>
    (za_F r1.2 b6 i1).bind fun v7 =>
    some (FP.f2i v7, r1.2))
abbrev rm_X4_init : Room := { frames := 1, cells := 0, slots := 0, locals := 30 }
theorem cd_X4_init : zcd yX4_init 0 := by unfold zcd; decide +kernel
def f_X4_init (h : zT) (a0 : Nat) : Option (zT) :=
  some h
abbrev rm_X4_thing : Room := { frames := 1, cells := 0, slots := 0, locals := 30 }
theorem cd_X4_thing : zcd yX4_thing 0 := by unfold zcd; decide +kernel
def f_X4_thing (h : zT) (a0 : Nat) : Option (Int32 × zT) :=
  (zg_Q [4] h a0 0).bind fun v1 =>
  if ¬ v1 = none then (
    (zg_Q [4] h a0 0).bind fun v2 =>
    (zi_O 6 h v2).bind fun v3 =>
    if v3 = 0 then (
      (zg_Q [4] h a0 0).bind fun v4 =>
      (zi_O 3 h v4).bind fun v5 =>
      if v5 = 0 then (
        some ((3 : Int32), h))
      else (
        some ((2 : Int32), h)))
    else (
      some ((1 : Int32), h)))
  else (
    some ((0 : Int32), h))
abbrev rm_X6_copy : Room := { frames := 8, cells := 1, slots := 5, locals := 200 }
theorem cd_X6_copy : zcd yX6_copy 0 := by unfold zcd; decide +kernel
def f_X6_copy (h : zT) (a0 : Nat) : Option (Nat × zT) :=
  (fd_another h a0).bind fun r1 =>
  (fd_takes r1.2 r1.1 a0).bind fun r2 =>
  some (r1.1, r2)
abbrev rm_X7_gains : Room := { frames := 2, cells := 0, slots := 0, locals := 60 }
theorem cd_X7_gains : zcd yX7_gains 1 := by unfold zcd; decide +kernel
def f_X7_gains (h : zT) (a0 : Nat) (i1 : Int32) : Option (Int32 × zT) :=
  (zk_S [6, 7, 8, 9, 10, 11] h a0).bind fun _ =>
  (some (i1, h)).bind fun r1 =>
  some (r1.1 + (1 : Int32), r1.2)
abbrev rm_X7_loses : Room := { frames := 2, cells := 0, slots := 0, locals := 50 }
theorem cd_X7_loses : zcd yX7_loses 0 := by unfold zcd; decide +kernel
def f_X7_loses (h : zT) (a0 : Nat) : Option (Int32 × zT) :=
  (zk_S [6, 7, 8, 9, 10, 11] h a0).bind fun _ =>
  (f_X6_loses h a0).bind fun r1 =>
  some (r1.1 + (2 : Int32), r1.2)
abbrev rm_X7_worth : Room := { frames := 2, cells := 0, slots := 0, locals := 50 }
theorem cd_X7_worth : zcd yX7_worth 0 := by unfold zcd; decide +kernel
def f_X7_worth (h : zT) (a0 : Nat) : Option (Int32 × zT) :=
  (zk_S [6, 7, 8, 9, 10, 11] h a0).bind fun _ =>
  (f_X6_worth h a0).bind fun r1 =>
  some (r1.1 + (5 : Int32), r1.2)
abbrev rm_X8_loses : Room := { frames := 2, cells := 0, slots := 0, locals := 50 }
theorem cd_X8_loses : zcd yX8_loses 0 := by unfold zcd; decide +kernel
def f_X8_loses (h : zT) (a0 : Nat) : Option (Int32 × zT) :=
  (zk_S [6, 7, 8, 9, 10, 11] h a0).bind fun _ =>
  (f_X6_loses h a0).bind fun r1 =>
  some (r1.1 - (2 : Int32), r1.2)
abbrev rm_X9_loses : Room := { frames := 3, cells := 0, slots := 0, locals := 70 }
theorem cd_X9_loses : zcd yX9_loses 0 := by unfold zcd; decide +kernel
def f_X9_loses (h : zT) (a0 : Nat) : Option (Int32 × zT) :=
  (zk_S [6, 7, 8, 9, 10, 11] h a0).bind fun _ =>
  (f_X7_loses h a0).bind fun r1 =>
  some ((2 : Int32) * r1.1, r1.2)
abbrev rm_X9_worth : Room := { frames := 3, cells := 0, slots := 0, locals := 70 }
theorem cd_X9_worth : zcd yX9_worth 0 := by unfold zcd; decide +kernel
def f_X9_worth (h : zT) (a0 : Nat) : Option (Int32 × zT) :=
  (zk_S [6, 7, 8, 9, 10, 11] h a0).bind fun _ =>
  (f_X7_worth h a0).bind fun r1 =>
  some ((2 : Int32) * r1.1, r1.2)
abbrev rm_X0_four : Room := { frames := 1, cells := 0, slots := 0, locals := 30 }
theorem cd_X0_four : zcd yX0_four 1 := by unfold zcd; decide +kernel
def f_X0_four_3 : Nat → zT → Nat → Int32 → Int32 → Option (zT)
  | 0, _, _, _, _ => none
  | n + 1, h, a0, i1, i2 =>
    if i2 < 0 then (
      some h)
    else (
      (zg_R [0] h a0 6).bind fun v1 =>
      (zg_I [0] h a0 7).bind fun v2 =>
      (zs_I .byte h v1 v2 (vp_nar .byte ((i1 >>> (i2 &&& 31)).toInt8.toInt32))).bind fun h3 =>
      (zg_I [0] h3 a0 7).bind fun v4 =>
      (zp_V [0] h3 a0 7 (.int (v4 + (1 : Int32)))).bind fun h5 =>
      (some (i2 + (-8 : Int32))).bind fun v6 =>
      f_X0_four_3 n h5 a0 i1 v6)
def f_X0_four (h : zT) (a0 : Nat) (i1 : Int32) : Option (zT) :=
  f_X0_four_3 4096 h a0 i1 (24 : Int32)
abbrev rm_X0_feed : Room := { frames := 2, cells := 0, slots := 0, locals := 52 }
theorem cd_X0_feed : zcd yX0_feed 3 := by unfold zcd; decide +kernel
def f_X0_feed (h : zT) (a0 : Nat) (i1 : Int32) (i2 : Int32) (i3 : Int32) : Option (Int32 × zT) :=
  (zg_I [0] h a0 7).bind fun v1 =>
  if (v1 + (12 : Int32)) ≤ (96 : Int32) then (
    (zk_C 0 h a0).bind fun _ =>
    (f_X0_four h a0 i1).bind fun r2 =>
    (zk_C 0 r2 a0).bind fun _ =>
    (f_X0_four r2 a0 i2).bind fun r3 =>
    (zk_C 0 r3 a0).bind fun _ =>
    (f_X0_four r3 a0 i3).bind fun r4 =>
    (zg_I [0] r4 a0 7).bind fun v5 =>
    some (v5, r4))
  else (
    some ((-1000000003 : Int32), h))
abbrev rm_X0_trim : Room := { frames := 2, cells := 0, slots := 0, locals := 52 }
theorem cd_X0_trim : zcd yX0_trim 1 := by unfold zcd; decide +kernel
def f_X0_trim (h : zT) (a0 : Nat) (i1 : Int32) : Option (Int32 × zT) :=
  (zg_I [0] h a0 7).bind fun v1 =>
  (f_X0_isIn h i1 (0 : Int32) v1).bind fun r2 =>
  if ¬ r2.1 = 0 then (
    (zp_V [0] r2.2 a0 7 (.int i1)).bind fun h3 =>
    some (i1, h3))
  else (
    some ((-1000000001 : Int32), r2.2))
abbrev rm_X0_isLetter : Room := { frames := 2, cells := 0, slots := 0, locals := 52 }
theorem cd_X0_isLetter : zcd yX0_isLetter 1 := by unfold zcd; decide +kernel
def f_X0_isLetter (h : zT) (i0 : Int32) : Option (Int32 × zT) :=
  (f_X0_isIn h i0 (97 : Int32) (122 : Int32)).bind fun r1 =>
  if r1.1 = 0 ∨ r1.1 = 1 then some (r1.1, r1.2) else none
abbrev rm_X0_isDigit : Room := { frames := 2, cells := 0, slots := 0, locals := 52 }
theorem cd_X0_isDigit : zcd yX0_isDigit 1 := by unfold zcd; decide +kernel
def f_X0_isDigit (h : zT) (i0 : Int32) : Option (Int32 × zT) :=
  (f_X0_isIn h i0 (48 : Int32) (57 : Int32)).bind fun r1 =>
  if r1.1 = 0 ∨ r1.1 = 1 then some (r1.1, r1.2) else none
abbrev rm_X0_isSign : Room := { frames := 1, cells := 0, slots := 0, locals := 30 }
theorem cd_X0_isSign : zcd yX0_isSign 1 := by unfold zcd; decide +kernel
def f_X0_isSign (h : zT) (a0 : Nat) (i1 : Int32) : Option (Int32 × zT) :=
  (zg_I [0] h a0 9).bind fun v1 =>
  (zg_I [0] h a0 11).bind fun v2 =>
  if v2 ≤ v1 then (
    if (0 : Int32) = 0 ∨ (0 : Int32) = 1 then some ((0 : Int32), h) else none)
  else (
    (zg_I [0] h a0 10).bind fun v3 =>
    (zg_I [0] h a0 9).bind fun v4 =>
    if ¬ (v3 - v4) = (1 : Int32) then (
      if (0 : Int32) = 0 ∨ (0 : Int32) = 1 then some ((0 : Int32), h) else none)
    else (
      (zg_R [0] h a0 6).bind fun v5 =>
      (zg_I [0] h a0 9).bind fun v6 =>
      (za_I .byte h v5 v6).bind fun v7 =>
      if ¬ v7 = i1 then (
        if (0 : Int32) = 0 ∨ (0 : Int32) = 1 then some ((0 : Int32), h) else none)
      else (
        if (1 : Int32) = 0 ∨ (1 : Int32) = 1 then some ((1 : Int32), h) else none)))
abbrev rm_X0_isName : Room := { frames := 1, cells := 0, slots := 0, locals := 30 }
theorem cd_X0_isName : zcd yX0_isName 1 := by unfold zcd; decide +kernel
def f_X0_isName (h : zT) (a0 : Nat) (i1 : Int32) : Option (Int32 × zT) :=
  if i1 = (102 : Int32) then (
    (zg_I [0] h a0 15).bind fun v1 =>
    if ¬ v1 = (1 : Int32) then (
      if (0 : Int32) = 0 ∨ (0 : Int32) = 1 then some ((0 : Int32), h) else none)
    else (
      if (1 : Int32) = 0 ∨ (1 : Int32) = 1 then some ((1 : Int32), h) else none))
  else (
    if i1 = (103 : Int32) then (
      if (0 : Int32) = 0 ∨ (0 : Int32) = 1 then some ((0 : Int32), h) else none)
    else (
      if i1 = (104 : Int32) then (
        if (0 : Int32) = 0 ∨ (0 : Int32) = 1 then some ((0 : Int32), h) else none)
      else (
        if i1 = (105 : Int32) then (
          if (0 : Int32) = 0 ∨ (0 : Int32) = 1 then some ((0 : Int32), h) else none)
        else (
          if i1 = (106 : Int32) then (
            if (0 : Int32) = 0 ∨ (0 : Int32) = 1 then some ((0 : Int32), h) else none)
          else (
            if i1 = (107 : Int32) then (
              if (0 : Int32) = 0 ∨ (0 : Int32) = 1 then some ((0 : Int32), h) else none)
            else (
              if i1 = (108 : Int32) then (
                (zg_I [0] h a0 15).bind fun v2 =>
                if ¬ v2 = 0 then (
                  if (0 : Int32) = 0 ∨ (0 : Int32) = 1 then some ((0 : Int32), h) else none)
                else (
                  if (1 : Int32) = 0 ∨ (1 : Int32) = 1 then some ((1 : Int32), h) else none))
              else (
                if i1 = (109 : Int32) then (
                  if (0 : Int32) = 0 ∨ (0 : Int32) = 1 then some ((0 : Int32), h) else none)
                else (
                  if i1 = (110 : Int32) then (
                    (zg_I [0] h a0 15).bind fun v3 =>
                    if ¬ v3 = (1 : Int32) then (
                      if (0 : Int32) = 0 ∨ (0 : Int32) = 1 then some ((0 : Int32), h) else none)
                    else (
                      if (1 : Int32) = 0 ∨ (1 : Int32) = 1 then some ((1 : Int32), h) else none))
                  else (
                    if i1 = (111 : Int32) then (
                      if (0 : Int32) = 0 ∨ (0 : Int32) = 1 then some ((0 : Int32), h) else none)
                    else (
                      if i1 = (112 : Int32) then (
                        if (0 : Int32) = 0 ∨ (0 : Int32) = 1 then some ((0 : Int32), h) else none)
                      else (
                        if i1 = (113 : Int32) then (
                          if (0 : Int32) = 0 ∨ (0 : Int32) = 1 then some ((0 : Int32), h) else none)
                        else (
                          if i1 = (114 : Int32) then (
                            if (0 : Int32) = 0 ∨ (0 : Int32) = 1 then some ((0 : Int32), h) else none)
                          else (
                            if i1 = (115 : Int32) then (
                              (zg_I [0] h a0 15).bind fun v4 =>
                              if v4 = (1 : Int32) then (
                                if (0 : Int32) = 0 ∨ (0 : Int32) = 1 then some ((0 : Int32), h) else none)
                              else (
                                if (1 : Int32) = 0 ∨ (1 : Int32) = 1 then some ((1 : Int32), h) else none))
                            else (
                              if i1 = (116 : Int32) then (
                                (zg_I [0] h a0 15).bind fun v5 =>
                                if v5 = (1 : Int32) then (
                                  if (0 : Int32) = 0 ∨ (0 : Int32) = 1 then some ((0 : Int32), h) else none)
                                else (
                                  if (1 : Int32) = 0 ∨ (1 : Int32) = 1 then some ((1 : Int32), h) else none))
                              else (
                                if (0 : Int32) = 0 ∨ (0 : Int32) = 1 then some ((0 : Int32), h) else none)))))))))))))))
abbrev rm_X0_textTold : Room := { frames := 2, cells := 0, slots := 0, locals := 52 }
theorem cd_X0_textTold : zcd yX0_textTold 2 := by unfold zcd; decide +kernel
def f_X0_textTold (h : zT) (a0 : Nat) (i1 : Int32) (i2 : Int32) : Option (Int32 × zT) :=
  (zg_R [0] h a0 0).bind fun v1 =>
  (zg_I [1] h v1 6).bind fun v2 =>
  (f_X0_isIn h i1 (0 : Int32) (v2 - (1 : Int32))).bind fun r3 =>
  if r3.1 = 0 then (
    some ((-1000000001 : Int32), r3.2))
  else (
    (f_X0_isIn r3.2 i2 (0 : Int32) (1 : Int32)).bind fun r4 =>
    if ¬ r4.1 = 0 then (
      if ¬ i2 = 0 then (
        (zg_R [0] r4.2 a0 0).bind fun v5 =>
        (zg_R [1] r4.2 v5 7).bind fun v6 =>
        (za_R "StoneSheets$Text" r4.2 v6 i1).bind fun v7 =>
        (zg_I [13] r4.2 v7 2).bind fun v8 =>
        some (v8, r4.2))
      else (
        (zg_R [0] r4.2 a0 0).bind fun v9 =>
        (zg_R [1] r4.2 v9 7).bind fun v10 =>
        (za_R "StoneSheets$Text" r4.2 v10 i1).bind fun v11 =>
        (zg_I [13] r4.2 v11 0).bind fun v12 =>
        some (v12, r4.2)))
    else (
      some ((-1000000001 : Int32), r4.2)))
abbrev rm_X0_counts : Room := { frames := 1, cells := 0, slots := 0, locals := 30 }
theorem cd_X0_counts : zcd yX0_counts 1 := by unfold zcd; decide +kernel
def f_X0_counts_4 : Nat → zT → Nat → Int32 → Int32 → Int32 → Option (Int32 × zT)
  | 0, _, _, _, _, _ => none
  | n + 1, h, a0, i1, i2, i3 =>
    (zg_R [0] h a0 0).bind fun v1 =>
    (zg_I [1] h v1 6).bind fun v2 =>
    if v2 ≤ i3 then (
      some (i2, h))
    else (
      (zg_R [0] h a0 0).bind fun v3 =>
      (zg_R [1] h v3 7).bind fun v4 =>
      (za_R "StoneSheets$Text" h v4 i3).bind fun v5 =>
      (zg_I [13] h v5 0).bind fun v6 =>
      if ¬ v6 = i1 then (
        (some (i3 + (1 : Int32))).bind fun v7 =>
        f_X0_counts_4 n h a0 i1 i2 v7)
      else (
        (some (i3 + (1 : Int32))).bind fun v8 =>
        f_X0_counts_4 n h a0 i1 i3 v8))
def f_X0_counts (h : zT) (a0 : Nat) (i1 : Int32) : Option (Int32 × zT) :=
  f_X0_counts_4 4096 h a0 i1 (-1 : Int32) (0 : Int32)
abbrev rm_X0_orNone : Room := { frames := 1, cells := 0, slots := 0, locals := 30 }
theorem cd_X0_orNone : zcd yX0_orNone 1 := by unfold zcd; decide +kernel
def f_X0_orNone (h : zT) (i0 : Int32) : Option (Int32 × zT) :=
  if ¬ i0 = (-1 : Int32) then (
    some (i0, h))
  else (
    some ((-1000000005 : Int32), h))
abbrev rm_X0_why : Room := { frames := 2, cells := 0, slots := 0, locals := 53 }
theorem cd_X0_why : zcd yX0_why 1 := by unfold zcd; decide +kernel
def f_X0_why (h : zT) (a0 : Nat) (i1 : Int32) : Option (Int32 × zT) :=
  (f_X0_isIn h i1 (0 : Int32) (2 : Int32)).bind fun r1 =>
  if r1.1 = 0 then (
    some ((-1000000001 : Int32), r1.2))
  else (
    (zk_C 0 r1.2 a0).bind fun _ =>
    (f_X0_counts r1.2 a0 i1).bind fun r2 =>
    (f_X0_orNone r2.2 r2.1).bind fun r3 =>
    some (r3.1, r3.2))
abbrev rm_X0_rubbingOf : Room := { frames := 4, cells := 1, slots := 5, locals := 90 }
theorem cd_X0_rubbingOf : zcd yX0_rubbingOf 1 := by unfold zcd; decide +kernel
def f_X0_rubbingOf (h : zT) (i0 : Int32) : Option (Nat × zT) :=
  if i0 = (1 : Int32) then (
    (zn_O 7 zfs7 h).bind fun r1 =>
    (f_X7_init r1.2 r1.1).bind fun r2 =>
    some (r1.1, r2))
  else (
    if i0 = (2 : Int32) then (
      (zn_O 8 zfs8 h).bind fun r3 =>
      (f_X8_init r3.2 r3.1).bind fun r4 =>
      some (r3.1, r4))
    else (
      if i0 = (3 : Int32) then (
        (zn_O 9 zfs9 h).bind fun r5 =>
        (f_X9_init r5.2 r5.1).bind fun r6 =>
        some (r5.1, r6))
      else (
        if i0 = (4 : Int32) then (
          (zn_O 10 zfs10 h).bind fun r7 =>
          (f_X10_init r7.2 r7.1).bind fun r8 =>
          some (r7.1, r8))
        else (
          if i0 = (5 : Int32) then (
            (zn_O 11 zfs11 h).bind fun r9 =>
            (f_X11_init r9.2 r9.1).bind fun r10 =>
            some (r9.1, r10))
          else (
            (zn_O 6 zfs6 h).bind fun r11 =>
            (f_X6_init r11.2 r11.1).bind fun r12 =>
            some (r11.1, r12))))))
abbrev rm_X0_comes : Room := { frames := 5, cells := 1, slots := 5, locals := 110 }
theorem cd_X0_comes : zcd yX0_comes 3 := by unfold zcd; decide +kernel
def f_X0_comes (h : zT) (a0 : Nat) (i1 : Int32) (i2 : Int32) (i3 : Int32) : Option (Int32 × zT) :=
  (zg_R [0] h a0 0).bind fun v1 =>
  (zg_I [1] h v1 1).bind fun v2 =>
  (zg_R [0] h a0 0).bind fun v3 =>
  (zg_R [1] h v3 2).bind fun v4 =>
  (f_X0_rubbingOf h i1).bind fun r5 =>
  (zs_R "StoneSheets$Rubbing" [6, 7, 8, 9, 10, 11] r5.2 v4 v2 r5.1).bind fun h6 =>
  (zg_R [0] h6 a0 0).bind fun v7 =>
  (zg_R [1] h6 v7 2).bind fun v8 =>
  (za_R "StoneSheets$Rubbing" h6 v8 v2).bind fun v9 =>
  (zp_V [6, 7, 8, 9, 10, 11] h6 v9 0 (.int i2)).bind fun h10 =>
  (zg_R [0] h10 a0 0).bind fun v11 =>
  (zg_R [1] h10 v11 2).bind fun v12 =>
  (za_R "StoneSheets$Rubbing" h10 v12 v2).bind fun v13 =>
  (zp_V [6, 7, 8, 9, 10, 11] h10 v13 1 (.int i3)).bind fun h14 =>
  (zg_R [0] h14 a0 0).bind fun v15 =>
  (zg_I [1] h14 v15 1).bind fun v16 =>
  (zp_V [1] h14 v15 1 (.int (v16 + (1 : Int32)))).bind fun h17 =>
  some (v2, h17)
abbrev rm_X0_rubbing : Room := { frames := 6, cells := 1, slots := 5, locals := 134 }
theorem cd_X0_rubbing : zcd yX0_rubbing 3 := by unfold zcd; decide +kernel
def f_X0_rubbing (h : zT) (a0 : Nat) (i1 : Int32) (i2 : Int32) (i3 : Int32) : Option (Int32 × zT) :=
  (f_X0_isIn h i1 (0 : Int32) (5 : Int32)).bind fun r1 =>
  if r1.1 = 0 then (
    some ((-1000000001 : Int32), r1.2))
  else (
    (f_X0_isIn r1.2 i2 (0 : Int32) (65535 : Int32)).bind fun r2 =>
    if r2.1 = 0 then (
      some ((-1000000001 : Int32), r2.2))
    else (
      (f_X0_isIn r2.2 i3 (1 : Int32) (8 : Int32)).bind fun r3 =>
      if ¬ r3.1 = 0 then (
        (zg_R [0] r3.2 a0 0).bind fun v4 =>
        (zg_I [1] r3.2 v4 1).bind fun v5 =>
        if ¬ v5 = (9 : Int32) then (
          (zk_C 0 r3.2 a0).bind fun _ =>
          (f_X0_comes r3.2 a0 i1 i2 i3).bind fun r6 =>
          some (r6.1, r6.2))
        else (
          some ((-1000000003 : Int32), r3.2)))
      else (
        some ((-1000000001 : Int32), r3.2))))
abbrev rm_X0_isRubbing : Room := { frames := 2, cells := 0, slots := 0, locals := 52 }
theorem cd_X0_isRubbing : zcd yX0_isRubbing 1 := by unfold zcd; decide +kernel
def f_X0_isRubbing (h : zT) (a0 : Nat) (i1 : Int32) : Option (Int32 × zT) :=
  (zg_R [0] h a0 0).bind fun v1 =>
  (zg_I [1] h v1 1).bind fun v2 =>
  (f_X0_isIn h i1 (0 : Int32) (v2 - (1 : Int32))).bind fun r3 =>
  if r3.1 = 0 ∨ r3.1 = 1 then some (r3.1, r3.2) else none
abbrev rm_X0_both : Room := { frames := 1, cells := 0, slots := 0, locals := 30 }
theorem cd_X0_both : zcd yX0_both 3 := by unfold zcd; decide +kernel
def f_X0_both (h : zT) (i0 : Int32) (i1 : Int32) (i2 : Int32) : Option (Int32 × zT) :=
  if i0 = (4 : Int32) then (
    some (i1 * i2, h))
  else (
    if i0 = (5 : Int32) then (
      some (i1 + i2, h))
    else (
      if i0 = (6 : Int32) then (
        some (i1 - i2, h))
      else (
        if i0 = (7 : Int32) then (
          if i2 ≤ i1 then (
            some ((0 : Int32), h))
          else (
            some ((1 : Int32), h)))
        else (
          if i0 = (8 : Int32) then (
            if ¬ i1 = i2 then (
              some ((0 : Int32), h))
            else (
              some ((1 : Int32), h)))
          else (
            if i0 = (9 : Int32) then (
              if i1 ≤ i2 then (
                some ((0 : Int32), h))
              else (
                some ((1 : Int32), h)))
            else (
              if i0 = (10 : Int32) then (
                if i1 = 0 then (
                  some ((0 : Int32), h))
                else (
                  if i2 = 0 then (
                    some ((0 : Int32), h))
                  else (
                    some ((1 : Int32), h))))
              else (
                if i0 = (11 : Int32) then (
                  if ¬ i1 = 0 then (
                    some ((1 : Int32), h))
                  else (
                    if i2 = 0 then (
                      some ((0 : Int32), h))
                    else (
                      some ((1 : Int32), h))))
                else (
                  if i0 = (12 : Int32) then (
                    if ¬ i2 = 0 then (
                      (if i2 = 0 then none else some ()).bind fun _ =>
                      some (i1 / i2, h))
                    else (
                      some ((0 : Int32), h)))
                  else (
                    if ¬ i1 = 0 then (
                      some ((1 : Int32), h))
                    else (
                      if i2 = 0 then (
                        some ((0 : Int32), h))
                      else (
                        some ((1 : Int32), h))))))))))))
abbrev rm_X0_reckon : Room := { frames := 2, cells := 0, slots := 0, locals := 52 }
theorem cd_X0_reckon : zcd yX0_reckon 1 := by unfold zcd; decide +kernel
def f_X0_reckon_32 (K4 : zT → Nat → Nat → Int32 → Int32 → Option (Int32 × zT)) (h : zT) (a0 : Nat) (a1 : Nat) (i2 : Int32) (i3 : Int32) (i4 : Int32) : Option (Int32 × zT) :=
  (zg_R [0] h a0 5).bind fun v1 =>
  if ¬ i4 = (1 : Int32) then (
    (zg_R [0] h a0 16).bind fun v2 =>
    (zg_R [12] h a1 1).bind fun v3 =>
    (za_I .int h v3 i3).bind fun v4 =>
    (za_I .int h v2 v4).bind fun v5 =>
    (zs_I .int h v1 i2 v5).bind fun h6 =>
    (some (i2 + (1 : Int32))).bind fun v7 =>
    (some (i3 + (1 : Int32))).bind fun v8 =>
    K4 h6 a0 a1 v7 v8)
  else (
    (zg_R [12] h a1 1).bind fun v9 =>
    (za_I .int h v9 i3).bind fun v10 =>
    (zs_I .int h v1 i2 v10).bind fun h11 =>
    (some (i2 + (1 : Int32))).bind fun v12 =>
    (some (i3 + (1 : Int32))).bind fun v13 =>
    K4 h11 a0 a1 v12 v13)
def f_X0_reckon_4 : Nat → zT → Nat → Nat → Int32 → Int32 → Option (Int32 × zT)
  | 0, _, _, _, _, _ => none
  | n + 1, h, a0, a1, i2, i3 =>
    (zg_I [12] h a1 2).bind fun v1 =>
    if v1 ≤ i3 then (
      (zg_R [0] h a0 5).bind fun v2 =>
      (za_I .int h v2 (0 : Int32)).bind fun v3 =>
      some (v3, h))
    else (
      (zg_R [12] h a1 0).bind fun v4 =>
      (za_I .int h v4 i3).bind fun v5 =>
      if v5 = (1 : Int32) then (
        f_X0_reckon_32 (f_X0_reckon_4 n) h a0 a1 i2 i3 v5)
      else (
        if ¬ v5 = (2 : Int32) then (
          if ¬ v5 = (3 : Int32) then (
            (some (i2 + (-1 : Int32))).bind fun v6 =>
            (zg_R [0] h a0 5).bind fun v7 =>
            (zg_R [0] h a0 5).bind fun v8 =>
            (za_I .int h v8 (v6 - (1 : Int32))).bind fun v9 =>
            (zg_R [0] h a0 5).bind fun v10 =>
            (za_I .int h v10 v6).bind fun v11 =>
            (f_X0_both h v5 v9 v11).bind fun r12 =>
            (zs_I .int r12.2 v7 (v6 - (1 : Int32)) r12.1).bind fun h13 =>
            (some (i3 + (1 : Int32))).bind fun v14 =>
            f_X0_reckon_4 n h13 a0 a1 v6 v14)
          else (
            (zg_R [0] h a0 5).bind fun v15 =>
            (zg_R [0] h a0 5).bind fun v16 =>
            (za_I .int h v16 (i2 - (1 : Int32))).bind fun v17 =>
            if ¬ v17 = 0 then (
              (zs_I .int h v15 (i2 - (1 : Int32)) (0 : Int32)).bind fun h18 =>
              (some (i3 + (1 : Int32))).bind fun v19 =>
              f_X0_reckon_4 n h18 a0 a1 i2 v19)
            else (
              (zs_I .int h v15 (i2 - (1 : Int32)) (1 : Int32)).bind fun h20 =>
              (some (i3 + (1 : Int32))).bind fun v21 =>
              f_X0_reckon_4 n h20 a0 a1 i2 v21)))
        else (
          f_X0_reckon_32 (f_X0_reckon_4 n) h a0 a1 i2 i3 v5)))
def f_X0_reckon (h : zT) (a0 : Nat) (a1 : Nat) : Option (Int32 × zT) :=
  f_X0_reckon_4 4096 h a0 a1 (0 : Int32) (0 : Int32)
abbrev rm_X0_within : Room := { frames := 1, cells := 0, slots := 0, locals := 30 }
theorem cd_X0_within : zcd yX0_within 3 := by unfold zcd; decide +kernel
def f_X0_within (h : zT) (i0 : Int32) (i1 : Int32) (i2 : Int32) : Option (Int32 × zT) :=
  (some (if i0 < i2 then i0 else i2)).bind fun v1 =>
  (some (if i1 < v1 then v1 else i1)).bind fun v2 =>
  some (v2, h)
def fd_gains (h : zT) (b : Nat) (i1 : Int32) : Option (Int32 × zT) := (zh_O h b).bind fun o =>
    if o.1 = 6 then some (i1, h)
    else if o.1 = 7 then f_X7_gains h b i1
    else if o.1 = 8 then f_X8_gains h b i1
    else if o.1 = 9 then f_X7_gains h b i1
    else if o.1 = 10 then f_X10_gains h b i1
    else if o.1 = 11 then f_X11_gains h b i1
    else none
abbrev rm_X0_gainOf : Room := { frames := 8, cells := 0, slots := 0, locals := 200 }
theorem cd_X0_gainOf : zcd yX0_gainOf 1 := by unfold zcd; decide +kernel
def f_X0_gainOf (h : zT) (a0 : Nat) (a1 : Nat) : Option (Int32 × zT) :=
  (zk_C 0 h a0).bind fun _ =>
  (f_X0_counts h a0 (0 : Int32)).bind fun r1 =>
  if ¬ r1.1 = (-1 : Int32) then (
    (zg_R [0] r1.2 a0 16).bind fun v2 =>
    (zg_I [6, 7, 8, 9, 10, 11] r1.2 a1 4).bind fun v3 =>
    (zs_I .int r1.2 v2 (116 : Int32) v3).bind fun h4 =>
    (zg_R [0] h4 a0 16).bind fun v5 =>
    (zg_I [6, 7, 8, 9, 10, 11] h4 a1 1).bind fun v6 =>
    (zs_I .int h4 v5 (115 : Int32) v6).bind fun h7 =>
    (zg_R [0] h7 a0 16).bind fun v8 =>
    (zg_I [6, 7, 8, 9, 10, 11] h7 a1 3).bind fun v9 =>
    (zs_I .int h7 v8 (108 : Int32) v9).bind fun h10 =>
    (zg_R [0] h10 a0 0).bind fun v11 =>
    (zg_R [1] h10 v11 7).bind fun v12 =>
    (za_R "StoneSheets$Text" h10 v12 r1.1).bind fun v13 =>
    (zg_R [13] h10 v13 1).bind fun v14 =>
    (zk_C 0 h10 a0).bind fun _ =>
    (f_X0_reckon h10 a0 v14).bind fun r15 =>
    (f_X0_within r15.2 r15.1 (0 : Int32) (99 : Int32)).bind fun r16 =>
    (fd_gains r16.2 a1 r16.1).bind fun r17 =>
    some (r17.1, r17.2))
  else (
    (fd_gains r1.2 a1 (3 : Int32)).bind fun r18 =>
    some (r18.1, r18.2))
def fd_loses (h : zT) (b : Nat) : Option (Int32 × zT) := (zh_O h b).bind fun o =>
    if o.1 = 6 then f_X6_loses h b
    else if o.1 = 7 then f_X7_loses h b
    else if o.1 = 8 then f_X8_loses h b
    else if o.1 = 9 then f_X9_loses h b
    else if o.1 = 10 then f_X8_loses h b
    else if o.1 = 11 then f_X11_loses h b
    else none
def fd_worth (h : zT) (b : Nat) : Option (Int32 × zT) := (zh_O h b).bind fun o =>
    if o.1 = 6 then f_X6_worth h b
    else if o.1 = 7 then f_X7_worth h b
    else if o.1 = 8 then f_X8_worth h b
    else if o.1 = 9 then f_X9_worth h b
    else if o.1 = 10 then f_X10_worth h b
    else if o.1 = 11 then f_X11_worth h b
    else none
abbrev rm_X0_told : Room := { frames := 9, cells := 0, slots := 0, locals := 222 }
theorem cd_X0_told : zcd yX0_told 2 := by unfold zcd; decide +kernel
def f_X0_told (h : zT) (a0 : Nat) (i1 : Int32) (i2 : Int32) : Option (Int32 × zT) :=
  (zk_C 0 h a0).bind fun _ =>
  (f_X0_isRubbing h a0 i1).bind fun r1 =>
  if ¬ r1.1 = 0 then (
    (zg_R [0] r1.2 a0 0).bind fun v2 =>
    (zg_R [1] r1.2 v2 2).bind fun v3 =>
    (za_R "StoneSheets$Rubbing" r1.2 v3 i1).bind fun v4 =>
    if i2 = (0 : Int32) then (
      (fd_kind r1.2 v4).bind fun r5 =>
      some (r5.1, r5.2))
    else (
      if i2 = (1 : Int32) then (
        (zg_I [6, 7, 8, 9, 10, 11] r1.2 v4 0).bind fun v6 =>
        some (v6, r1.2))
      else (
        if i2 = (2 : Int32) then (
          (zg_I [6, 7, 8, 9, 10, 11] r1.2 v4 1).bind fun v7 =>
          some (v7, r1.2))
        else (
          if i2 = (3 : Int32) then (
            (zg_I [6, 7, 8, 9, 10, 11] r1.2 v4 2).bind fun v8 =>
            if v8 = 0 then (
              some ((0 : Int32), r1.2))
            else (
              some ((1 : Int32), r1.2)))
          else (
            if i2 = (4 : Int32) then (
              (zg_I [6, 7, 8, 9, 10, 11] r1.2 v4 3).bind fun v9 =>
              some (v9, r1.2))
            else (
              if i2 = (5 : Int32) then (
                (zg_I [6, 7, 8, 9, 10, 11] r1.2 v4 4).bind fun v10 =>
                some (v10, r1.2))
              else (
                if i2 = (6 : Int32) then (
                  (fd_covered r1.2 v4).bind fun r11 =>
                  some (r11.1, r11.2))
                else (
                  if i2 = (7 : Int32) then (
                    (zk_C 0 r1.2 a0).bind fun _ =>
                    (f_X0_gainOf r1.2 a0 v4).bind fun r12 =>
                    some (r12.1, r12.2))
                  else (
                    if i2 = (8 : Int32) then (
                      (fd_loses r1.2 v4).bind fun r13 =>
                      some (r13.1, r13.2))
                    else (
                      if i2 = (9 : Int32) then (
                        (fd_worth r1.2 v4).bind fun r14 =>
                        some (r14.1, r14.2))
                      else (
                        some ((-1000000001 : Int32), r1.2))))))))))))
  else (
    some ((-1000000001 : Int32), r1.2))
abbrev rm_X0_says : Room := { frames := 10, cells := 0, slots := 0, locals := 300 }
theorem cd_X0_says : zcd yX0_says 2 := by unfold zcd; decide +kernel
def f_X0_says (h : zT) (a0 : Nat) (i1 : Int32) (i2 : Int32) : Option (Int32 × zT) :=
  (zk_C 0 h a0).bind fun _ =>
  (f_X0_isRubbing h a0 i1).bind fun r1 =>
  if r1.1 = 0 then (
    some ((-1000000001 : Int32), r1.2))
  else (
    (zg_R [0] r1.2 a0 0).bind fun v2 =>
    (zg_R [1] r1.2 v2 2).bind fun v3 =>
    (za_R "StoneSheets$Rubbing" r1.2 v3 i1).bind fun v4 =>
    (zg_I [6, 7, 8, 9, 10, 11] r1.2 v4 1).bind fun v5 =>
    (f_X0_isIn r1.2 i2 (0 : Int32) (v5 - (1 : Int32))).bind fun r6 =>
    if r6.1 = 0 then (
      some ((-1000000001 : Int32), r6.2))
    else (
      (zg_R [0] r6.2 a0 0).bind fun v7 =>
      (zg_R [1] r6.2 v7 2).bind fun v8 =>
      (za_R "StoneSheets$Rubbing" r6.2 v8 i1).bind fun v9 =>
      (fd_saysAt r6.2 v9 i2).bind fun r10 =>
      some (r10.1, r10.2)))
abbrev rm_X0_turns : Room := { frames := 8, cells := 1, slots := 5, locals := 200 }
theorem cd_X0_turns : zcd yX0_turns 2 := by unfold zcd; decide +kernel
def f_X0_turns (h : zT) (a0 : Nat) (i1 : Int32) (i2 : Int32) : Option (Int32 × zT) :=
  (zk_C 0 h a0).bind fun _ =>
  (f_X0_isRubbing h a0 i1).bind fun r1 =>
  if r1.1 = 0 then (
    some ((-1000000001 : Int32), r1.2))
  else (
    (f_X0_isIn r1.2 i2 (0 : Int32) (5 : Int32)).bind fun r2 =>
    if ¬ r2.1 = 0 then (
      (zg_R [0] r2.2 a0 0).bind fun v3 =>
      (zg_R [1] r2.2 v3 2).bind fun v4 =>
      (za_R "StoneSheets$Rubbing" r2.2 v4 i1).bind fun v5 =>
      (zg_R [0] r2.2 a0 0).bind fun v6 =>
      (zg_R [1] r2.2 v6 2).bind fun v7 =>
      (f_X0_rubbingOf r2.2 i2).bind fun r8 =>
      (zs_R "StoneSheets$Rubbing" [6, 7, 8, 9, 10, 11] r8.2 v7 i1 r8.1).bind fun h9 =>
      (zg_R [0] h9 a0 0).bind fun v10 =>
      (zg_R [1] h9 v10 2).bind fun v11 =>
      (za_R "StoneSheets$Rubbing" h9 v11 i1).bind fun v12 =>
      (fd_takes h9 v12 v5).bind fun r13 =>
      (fd_kind r13 v5).bind fun r14 =>
      some (r14.1, r14.2))
    else (
      some ((-1000000001 : Int32), r2.2)))
abbrev rm_X0_isOf : Room := { frames := 2, cells := 0, slots := 0, locals := 52 }
theorem cd_X0_isOf : zcd yX0_isOf 2 := by unfold zcd; decide +kernel
def f_X0_isOf_11 (h : zT) (i0 : Int32) (s0 : Int32) (s1 : Int32) : Option (Int32 × zT) :=
  if ¬ i0 = (1 : Int32) then (
    if ¬ i0 = (2 : Int32) then (
      if ¬ i0 = (3 : Int32) then (
        if ¬ i0 = (4 : Int32) then (
          (f_X0_isIn h s1 s0 (99 : Int32)).bind fun r1 =>
          if r1.1 = 0 ∨ r1.1 = 1 then some (r1.1, r1.2) else none)
        else (
          (f_X0_isIn h s1 s0 (16 : Int32)).bind fun r2 =>
          if r2.1 = 0 ∨ r2.1 = 1 then some (r2.1, r2.2) else none))
      else (
        (f_X0_isIn h s1 s0 (1 : Int32)).bind fun r3 =>
        if r3.1 = 0 ∨ r3.1 = 1 then some (r3.1, r3.2) else none))
    else (
      (f_X0_isIn h s1 s0 (8 : Int32)).bind fun r4 =>
      if r4.1 = 0 ∨ r4.1 = 1 then some (r4.1, r4.2) else none))
  else (
    (f_X0_isIn h s1 s0 (65535 : Int32)).bind fun r5 =>
    if r5.1 = 0 ∨ r5.1 = 1 then some (r5.1, r5.2) else none)
def f_X0_isOf (h : zT) (i0 : Int32) (i1 : Int32) : Option (Int32 × zT) :=
  if ¬ i0 = (2 : Int32) then (
    f_X0_isOf_11 h i0 (0 : Int32) i1)
  else (
    f_X0_isOf_11 h i0 (1 : Int32) i1)
abbrev rm_X0_becomes : Room := { frames := 1, cells := 0, slots := 0, locals := 30 }
theorem cd_X0_becomes : zcd yX0_becomes 3 := by unfold zcd; decide +kernel
def f_X0_becomes_68 (h : zT) (a0 : Nat) (i2 : Int32) (s0 : Int32) : Option (Int32 × zT) :=
  if ¬ i2 = (1 : Int32) then (
    (zp_V [6, 7, 8, 9, 10, 11] h a0 2 (.int (0 : Int32))).bind fun h1 =>
    some (s0, h1))
  else (
    (zp_V [6, 7, 8, 9, 10, 11] h a0 2 (.int (1 : Int32))).bind fun h2 =>
    some (s0, h2))
def f_X0_becomes (h : zT) (a0 : Nat) (i1 : Int32) (i2 : Int32) : Option (Int32 × zT) :=
  if i1 = (1 : Int32) then (
    (zg_I [6, 7, 8, 9, 10, 11] h a0 0).bind fun v1 =>
    (zp_V [6, 7, 8, 9, 10, 11] h a0 0 (.int i2)).bind fun h2 =>
    some (v1, h2))
  else (
    if i1 = (2 : Int32) then (
      (zg_I [6, 7, 8, 9, 10, 11] h a0 1).bind fun v3 =>
      (zp_V [6, 7, 8, 9, 10, 11] h a0 1 (.int i2)).bind fun h4 =>
      some (v3, h4))
    else (
      if i1 = (3 : Int32) then (
        (zg_I [6, 7, 8, 9, 10, 11] h a0 2).bind fun v5 =>
        if v5 = 0 then (
          f_X0_becomes_68 h a0 i2 (0 : Int32))
        else (
          f_X0_becomes_68 h a0 i2 (1 : Int32)))
      else (
        if i1 = (4 : Int32) then (
          (zg_I [6, 7, 8, 9, 10, 11] h a0 3).bind fun v6 =>
          (zp_V [6, 7, 8, 9, 10, 11] h a0 3 (.int i2)).bind fun h7 =>
          some (v6, h7))
        else (
          (zg_I [6, 7, 8, 9, 10, 11] h a0 4).bind fun v8 =>
          (zp_V [6, 7, 8, 9, 10, 11] h a0 4 (.int i2)).bind fun h9 =>
          some (v8, h9)))))
abbrev rm_X0_set : Room := { frames := 3, cells := 0, slots := 0, locals := 73 }
theorem cd_X0_set : zcd yX0_set 3 := by unfold zcd; decide +kernel
def f_X0_set (h : zT) (a0 : Nat) (i1 : Int32) (i2 : Int32) (i3 : Int32) : Option (Int32 × zT) :=
  (zk_C 0 h a0).bind fun _ =>
  (f_X0_isRubbing h a0 i1).bind fun r1 =>
  if r1.1 = 0 then (
    some ((-1000000001 : Int32), r1.2))
  else (
    (f_X0_isIn r1.2 i2 (1 : Int32) (5 : Int32)).bind fun r2 =>
    if r2.1 = 0 then (
      some ((-1000000001 : Int32), r2.2))
    else (
      (f_X0_isOf r2.2 i2 i3).bind fun r3 =>
      if r3.1 = 0 then (
        some ((-1000000001 : Int32), r3.2))
      else (
        (zg_R [0] r3.2 a0 0).bind fun v4 =>
        (zg_R [1] r3.2 v4 2).bind fun v5 =>
        (za_R "StoneSheets$Rubbing" r3.2 v5 i1).bind fun v6 =>
        (f_X0_becomes r3.2 v6 i2 i3).bind fun r7 =>
        some (r7.1, r7.2))))
abbrev rm_X0_cuts : Room := { frames := 1, cells := 0, slots := 0, locals := 30 }
theorem cd_X0_cuts : zcd yX0_cuts 2 := by unfold zcd; decide +kernel
def f_X0_cuts (h : zT) (a0 : Nat) (i1 : Int32) (i2 : Int32) : Option (Int32 × zT) :=
  (zg_R [0] h a0 0).bind fun v1 =>
  (zg_R [1] h v1 3).bind fun v2 =>
  (za_I .int h v2 i1).bind fun v3 =>
  (zg_R [0] h a0 0).bind fun v4 =>
  (zg_R [1] h v4 3).bind fun v5 =>
  (zs_I .int h v5 i1 i2).bind fun h6 =>
  some (v3, h6)
abbrev rm_X0_carve : Room := { frames := 2, cells := 0, slots := 0, locals := 53 }
theorem cd_X0_carve : zcd yX0_carve 2 := by unfold zcd; decide +kernel
def f_X0_carve (h : zT) (a0 : Nat) (i1 : Int32) (i2 : Int32) : Option (Int32 × zT) :=
  (f_X0_isIn h i1 (0 : Int32) (15 : Int32)).bind fun r1 =>
  if r1.1 = 0 then (
    some ((-1000000001 : Int32), r1.2))
  else (
    (f_X0_isIn r1.2 i2 (0 : Int32) (3 : Int32)).bind fun r2 =>
    if r2.1 = 0 then (
      some ((-1000000001 : Int32), r2.2))
    else (
      (zk_C 0 r2.2 a0).bind fun _ =>
      (f_X0_cuts r2.2 a0 i1 i2).bind fun r3 =>
      some (r3.1, r3.2)))
abbrev rm_X0_carved : Room := { frames := 2, cells := 0, slots := 0, locals := 52 }
theorem cd_X0_carved : zcd yX0_carved 1 := by unfold zcd; decide +kernel
def f_X0_carved (h : zT) (a0 : Nat) (i1 : Int32) : Option (Int32 × zT) :=
  (f_X0_isIn h i1 (0 : Int32) (15 : Int32)).bind fun r1 =>
  if r1.1 = 0 then (
    some ((-1000000001 : Int32), r1.2))
  else (
    (zg_R [0] r1.2 a0 0).bind fun v2 =>
    (zg_R [1] r1.2 v2 3).bind fun v3 =>
    (za_I .int r1.2 v3 i1).bind fun v4 =>
    some (v4, r1.2))
abbrev rm_X0_deal : Room := { frames := 6, cells := 10, slots := 50, locals := 134 }
theorem cd_X0_deal : zcd yX0_deal 1 := by unfold zcd; decide +kernel
def f_X0_deal_15 : Nat → zT → Nat → Int32 → Int32 → Option (Int32 × zT)
  | 0, _, _, _, _ => none
  | n + 1, h, a0, i1, i2 =>
    if i1 ≤ i2 then (
      some (i2, h))
    else (
      (zg_R [0] h a0 0).bind fun v1 =>
      (zg_I [1] h v1 1).bind fun v2 =>
      if (9 : Int32) ≤ v2 then (
        some (i2, h))
      else (
        (zg_R [0] h a0 0).bind fun v3 =>
        (zk_C 1 h v3).bind fun _ =>
        (f_X1_draw h v3).bind fun r4 =>
        (some (r4.1 - r4.1 / (6 : Int32) * (6 : Int32))).bind fun v5 =>
        (zg_R [0] r4.2 a0 0).bind fun v6 =>
        (zk_C 1 r4.2 v6).bind fun _ =>
        (f_X1_draw r4.2 v6).bind fun r7 =>
        (some (r7.1 - r7.1 / (65536 : Int32) * (65536 : Int32))).bind fun v8 =>
        (zg_R [0] r7.2 a0 0).bind fun v9 =>
        (zk_C 1 r7.2 v9).bind fun _ =>
        (f_X1_draw r7.2 v9).bind fun r10 =>
        (zk_C 0 r10.2 a0).bind fun _ =>
        (f_X0_comes r10.2 a0 v5 v8 ((1 : Int32) + (r10.1 - r10.1 / (8 : Int32) * (8 : Int32)))).bind fun r11 =>
        (some (i2 + (1 : Int32))).bind fun v12 =>
        f_X0_deal_15 n r11.2 a0 i1 v12))
def f_X0_deal (h : zT) (a0 : Nat) (i1 : Int32) : Option (Int32 × zT) :=
  (f_X0_isIn h i1 (1 : Int32) (9 : Int32)).bind fun r1 =>
  if ¬ r1.1 = 0 then (
    f_X0_deal_15 10 r1.2 a0 i1 (0 : Int32))
  else (
    some ((-1000000001 : Int32), r1.2))
abbrev rm_X0_seed : Room := { frames := 1, cells := 0, slots := 0, locals := 30 }
theorem cd_X0_seed : zcd yX0_seed 1 := by unfold zcd; decide +kernel
def f_X0_seed (h : zT) (a0 : Nat) (i1 : Int32) : Option (Int32 × zT) :=
  (zg_R [0] h a0 0).bind fun v1 =>
  (zg_I [1] h v1 0).bind fun v2 =>
  (zg_R [0] h a0 0).bind fun v3 =>
  (zp_V [1] h v3 0 (.int i1)).bind fun h4 =>
  some (v2, h4)
abbrev rm_X0_wrongAt : Room := { frames := 10, cells := 0, slots := 0, locals := 300 }
theorem cd_X0_wrongAt : zcd yX0_wrongAt 2 := by unfold zcd; decide +kernel
def f_X0_wrongAt_5 : Nat → zT → Nat → Nat → Int32 → Int32 → Int32 → Option (Int32 × zT)
  | 0, _, _, _, _, _, _ => none
  | n + 1, h, a0, a1, i2, i3, i4 =>
    (zg_I [6, 7, 8, 9, 10, 11] h a1 1).bind fun v1 =>
    if v1 ≤ i4 then (
      some (i3, h))
    else (
      if (16 : Int32) ≤ (i2 + i4) then (
        some (i3, h))
      else (
        (fd_saysAt h a1 i4).bind fun r2 =>
        (zg_R [0] r2.2 a0 0).bind fun v3 =>
        (zg_R [1] r2.2 v3 3).bind fun v4 =>
        (za_I .int r2.2 v4 (i2 + i4)).bind fun v5 =>
        if ¬ r2.1 = v5 then (
          (some (i3 + (1 : Int32))).bind fun v6 =>
          (some (i4 + (1 : Int32))).bind fun v7 =>
          f_X0_wrongAt_5 n r2.2 a0 a1 i2 v6 v7)
        else (
          (some (i3 + (0 : Int32))).bind fun v8 =>
          (some (i4 + (1 : Int32))).bind fun v9 =>
          f_X0_wrongAt_5 n r2.2 a0 a1 i2 v8 v9)))
def f_X0_wrongAt (h : zT) (a0 : Nat) (a1 : Nat) (i2 : Int32) : Option (Int32 × zT) :=
  f_X0_wrongAt_5 4096 h a0 a1 i2 (0 : Int32) (0 : Int32)
abbrev rm_X0_falseAt : Room := { frames := 11, cells := 0, slots := 0, locals := 324 }
theorem cd_X0_falseAt : zcd yX0_falseAt 2 := by unfold zcd; decide +kernel
def f_X0_falseAt (h : zT) (a0 : Nat) (i1 : Int32) (i2 : Int32) : Option (Int32 × zT) :=
  (zk_C 0 h a0).bind fun _ =>
  (f_X0_isRubbing h a0 i1).bind fun r1 =>
  if r1.1 = 0 then (
    some ((-1000000001 : Int32), r1.2))
  else (
    (f_X0_isIn r1.2 i2 (0 : Int32) (15 : Int32)).bind fun r2 =>
    if r2.1 = 0 then (
      some ((-1000000001 : Int32), r2.2))
    else (
      (zg_R [0] r2.2 a0 0).bind fun v3 =>
      (zg_R [1] r2.2 v3 2).bind fun v4 =>
      (za_R "StoneSheets$Rubbing" r2.2 v4 i1).bind fun v5 =>
      (zk_C 0 r2.2 a0).bind fun _ =>
      (f_X0_wrongAt r2.2 a0 v5 i2).bind fun r6 =>
      some (r6.1, r6.2)))
abbrev rm_X0_fits : Room := { frames := 11, cells := 0, slots := 0, locals := 324 }
theorem cd_X0_fits : zcd yX0_fits 2 := by unfold zcd; decide +kernel
def f_X0_fits_76 (K41 : zT → Nat → Int32 → Nat → Int32 → Int32 → Int32 → Option (Int32 × zT)) (h : zT) (a0 : Nat) (i2 : Int32) (a3 : Nat) (i5 : Int32) (i6 : Int32) (i7 : Int32) (s0 : Int32) : Option (Int32 × zT) :=
  (some (if i7 < i5 then i7 else i5)).bind fun v1 =>
  (some (i6 + (1 : Int32))).bind fun v2 =>
  K41 h a0 i2 a3 s0 v1 v2
def f_X0_fits_41 : Nat → zT → Nat → Int32 → Nat → Int32 → Int32 → Int32 → Option (Int32 × zT)
  | 0, _, _, _, _, _, _, _ => none
  | n + 1, h, a0, i2, a3, i4, i5, i6 =>
    (zg_I [6, 7, 8, 9, 10, 11] h a3 1).bind fun v1 =>
    if ((16 : Int32) - v1) < i6 then (
      if ¬ i2 = 0 then (
        some (i5, h))
      else (
        some (i4, h)))
    else (
      (zk_C 0 h a0).bind fun _ =>
      (f_X0_wrongAt h a0 a3 i6).bind fun r2 =>
      if i5 ≤ r2.1 then (
        f_X0_fits_76 (f_X0_fits_41 n) r2.2 a0 i2 a3 i5 i6 r2.1 i4)
      else (
        f_X0_fits_76 (f_X0_fits_41 n) r2.2 a0 i2 a3 i5 i6 r2.1 i6))
def f_X0_fits (h : zT) (a0 : Nat) (i1 : Int32) (i2 : Int32) : Option (Int32 × zT) :=
  (zk_C 0 h a0).bind fun _ =>
  (f_X0_isRubbing h a0 i1).bind fun r1 =>
  if r1.1 = 0 then (
    some ((-1000000001 : Int32), r1.2))
  else (
    (f_X0_isIn r1.2 i2 (0 : Int32) (1 : Int32)).bind fun r2 =>
    if ¬ r2.1 = 0 then (
      (zg_R [0] r2.2 a0 0).bind fun v3 =>
      (zg_R [1] r2.2 v3 2).bind fun v4 =>
      (za_R "StoneSheets$Rubbing" r2.2 v4 i1).bind fun v5 =>
      f_X0_fits_41 4096 r2.2 a0 i2 v5 (0 : Int32) (99999 : Int32) (0 : Int32))
    else (
      some ((-1000000001 : Int32), r2.2)))
abbrev rm_X0_areTwo : Room := { frames := 3, cells := 0, slots := 0, locals := 73 }
theorem cd_X0_areTwo : zcd yX0_areTwo 2 := by unfold zcd; decide +kernel
def f_X0_areTwo (h : zT) (a0 : Nat) (i1 : Int32) (i2 : Int32) : Option (Int32 × zT) :=
  (zk_C 0 h a0).bind fun _ =>
  (f_X0_isRubbing h a0 i1).bind fun r1 =>
  if r1.1 = 0 then (
    if (0 : Int32) = 0 ∨ (0 : Int32) = 1 then some ((0 : Int32), r1.2) else none)
  else (
    (zk_C 0 r1.2 a0).bind fun _ =>
    (f_X0_isRubbing r1.2 a0 i2).bind fun r2 =>
    if r2.1 = 0 then (
      if (0 : Int32) = 0 ∨ (0 : Int32) = 1 then some ((0 : Int32), r2.2) else none)
    else (
      if i1 = i2 then (
        if (0 : Int32) = 0 ∨ (0 : Int32) = 1 then some ((0 : Int32), r2.2) else none)
      else (
        if (1 : Int32) = 0 ∨ (1 : Int32) = 1 then some ((1 : Int32), r2.2) else none)))
abbrev rm_X0_alikeBy : Room := { frames := 10, cells := 0, slots := 0, locals := 300 }
theorem cd_X0_alikeBy : zcd yX0_alikeBy 3 := by unfold zcd; decide +kernel
def f_X0_alikeBy_5 : Nat → zT → Nat → Nat → Int32 → Int32 → Int32 → Option (Int32 × zT)
  | 0, _, _, _, _, _, _ => none
  | n + 1, h, a0, a1, i2, i3, i4 =>
    (zg_I [6, 7, 8, 9, 10, 11] h a0 1).bind fun v1 =>
    if v1 ≤ i4 then (
      some (i3, h))
    else (
      (zg_I [6, 7, 8, 9, 10, 11] h a1 1).bind fun v2 =>
      if v2 ≤ (i4 - i2) then (
        some (i3, h))
      else (
        (fd_saysAt h a0 i4).bind fun r3 =>
        (fd_saysAt r3.2 a1 (i4 - i2)).bind fun r4 =>
        if ¬ r3.1 = r4.1 then (
          (some (i3 + (-2 : Int32))).bind fun v5 =>
          (some (i4 + (1 : Int32))).bind fun v6 =>
          f_X0_alikeBy_5 n r4.2 a0 a1 i2 v5 v6)
        else (
          (some (i3 + (1 : Int32))).bind fun v7 =>
          (some (i4 + (1 : Int32))).bind fun v8 =>
          f_X0_alikeBy_5 n r4.2 a0 a1 i2 v7 v8)))
def f_X0_alikeBy (h : zT) (a0 : Nat) (a1 : Nat) (i2 : Int32) : Option (Int32 × zT) :=
  f_X0_alikeBy_5 4096 h a0 a1 i2 (0 : Int32) i2
abbrev rm_X0_join : Room := { frames := 11, cells := 0, slots := 0, locals := 324 }
theorem cd_X0_join : zcd yX0_join 3 := by unfold zcd; decide +kernel
def f_X0_join_97 (K55 : zT → Nat → Int32 → Int32 → Nat → Int32 → Int32 → Int32 → Option (Int32 × zT)) (h : zT) (a0 : Nat) (i2 : Int32) (i3 : Int32) (a4 : Nat) (i6 : Int32) (i7 : Int32) (i8 : Int32) (s0 : Int32) : Option (Int32 × zT) :=
  (some (if i6 < i8 then i8 else i6)).bind fun v1 =>
  (some (i7 + (1 : Int32))).bind fun v2 =>
  K55 h a0 i2 i3 a4 s0 v1 v2
def f_X0_join_55 : Nat → zT → Nat → Int32 → Int32 → Nat → Int32 → Int32 → Int32 → Option (Int32 × zT)
  | 0, _, _, _, _, _, _, _, _ => none
  | n + 1, h, a0, i2, i3, a4, i5, i6, i7 =>
    (zg_I [6, 7, 8, 9, 10, 11] h a4 1).bind fun v1 =>
    if v1 ≤ i7 then (
      if ¬ i3 = 0 then (
        some (i6, h))
      else (
        some (i5, h)))
    else (
      (zg_R [0] h a0 0).bind fun v2 =>
      (zg_R [1] h v2 2).bind fun v3 =>
      (za_R "StoneSheets$Rubbing" h v3 i2).bind fun v4 =>
      (f_X0_alikeBy h a4 v4 i7).bind fun r5 =>
      if r5.1 ≤ i6 then (
        f_X0_join_97 (f_X0_join_55 n) r5.2 a0 i2 i3 a4 i6 i7 r5.1 i5)
      else (
        f_X0_join_97 (f_X0_join_55 n) r5.2 a0 i2 i3 a4 i6 i7 r5.1 i7))
def f_X0_join (h : zT) (a0 : Nat) (i1 : Int32) (i2 : Int32) (i3 : Int32) : Option (Int32 × zT) :=
  (zk_C 0 h a0).bind fun _ =>
  (f_X0_areTwo h a0 i1 i2).bind fun r1 =>
  if r1.1 = 0 then (
    some ((-1000000001 : Int32), r1.2))
  else (
    (f_X0_isIn r1.2 i3 (0 : Int32) (1 : Int32)).bind fun r2 =>
    if ¬ r2.1 = 0 then (
      (zg_R [0] r2.2 a0 0).bind fun v3 =>
      (zg_R [1] r2.2 v3 2).bind fun v4 =>
      (za_R "StoneSheets$Rubbing" r2.2 v4 i1).bind fun v5 =>
      (zg_R [0] r2.2 a0 0).bind fun v6 =>
      (zg_R [1] r2.2 v6 2).bind fun v7 =>
      (za_R "StoneSheets$Rubbing" r2.2 v7 i2).bind fun v8 =>
      (f_X0_alikeBy r2.2 v5 v8 (0 : Int32)).bind fun r9 =>
      f_X0_join_55 4096 r9.2 a0 i2 i3 v5 (0 : Int32) r9.1 (1 : Int32))
    else (
      some ((-1000000001 : Int32), r2.2)))
abbrev rm_X0_isClash : Room := { frames := 10, cells := 0, slots := 0, locals := 300 }
theorem cd_X0_isClash : zcd yX0_isClash 2 := by unfold zcd; decide +kernel
def f_X0_isClash_36 : Nat → zT → Nat → Nat → Int32 → Int32 → Option (Int32 × zT)
  | 0, _, _, _, _, _ => none
  | n + 1, h, a3, a4, i5, i6 =>
    if (16 : Int32) ≤ i6 then (
      if (0 : Int32) = 0 ∨ (0 : Int32) = 1 then some ((0 : Int32), h) else none)
    else (
      if ¬ ((i5 >>> (i6 &&& 31)) &&& (1 : Int32)) = (1 : Int32) then (
        (some (i6 + (1 : Int32))).bind fun v1 =>
        f_X0_isClash_36 n h a3 a4 i5 v1)
      else (
        (zg_I [6, 7, 8, 9, 10, 11] h a3 3).bind fun v2 =>
        (fd_saysAt h a3 (i6 - v2)).bind fun r3 =>
        (zg_I [6, 7, 8, 9, 10, 11] r3.2 a4 3).bind fun v4 =>
        (fd_saysAt r3.2 a4 (i6 - v4)).bind fun r5 =>
        if r3.1 = r5.1 then (
          (some (i6 + (1 : Int32))).bind fun v6 =>
          f_X0_isClash_36 n r5.2 a3 a4 i5 v6)
        else (
          if (1 : Int32) = 0 ∨ (1 : Int32) = 1 then some ((1 : Int32), r5.2) else none)))
def f_X0_isClash (h : zT) (a0 : Nat) (i1 : Int32) (i2 : Int32) : Option (Int32 × zT) :=
  (zg_R [0] h a0 0).bind fun v1 =>
  (zg_R [1] h v1 2).bind fun v2 =>
  (za_R "StoneSheets$Rubbing" h v2 i1).bind fun v3 =>
  (zg_R [0] h a0 0).bind fun v4 =>
  (zg_R [1] h v4 2).bind fun v5 =>
  (za_R "StoneSheets$Rubbing" h v5 i2).bind fun v6 =>
  (fd_covered h v3).bind fun r7 =>
  (fd_covered r7.2 v6).bind fun r8 =>
  (some (r7.1 &&& r8.1)).bind fun v9 =>
  f_X0_isClash_36 4096 r8.2 v3 v6 v9 (0 : Int32)
abbrev rm_X0_clash : Room := { frames := 11, cells := 0, slots := 0, locals := 326 }
theorem cd_X0_clash : zcd yX0_clash 2 := by unfold zcd; decide +kernel
def f_X0_clash (h : zT) (a0 : Nat) (i1 : Int32) (i2 : Int32) : Option (Int32 × zT) :=
  (zk_C 0 h a0).bind fun _ =>
  (f_X0_areTwo h a0 i1 i2).bind fun r1 =>
  if r1.1 = 0 then (
    some ((-1000000001 : Int32), r1.2))
  else (
    (zk_C 0 r1.2 a0).bind fun _ =>
    (f_X0_isClash r1.2 a0 i1 i2).bind fun r2 =>
    if r2.1 = 0 then (
      some ((0 : Int32), r2.2))
    else (
      some ((1 : Int32), r2.2)))
abbrev rm_X0_findClashes : Room := { frames := 11, cells := 0, slots := 0, locals := 326 }
theorem cd_X0_findClashes : zcd yX0_findClashes 0 := by unfold zcd; decide +kernel
def f_X0_findClashes_22 (K2 : zT → Nat → Int32 → Option (zT)) : Nat → zT → Nat → Int32 → Int32 → Option (zT)
  | 0, _, _, _, _ => none
  | n + 1, h, a0, i1, i2 =>
    if i1 ≤ i2 then (
      (some (i1 + (1 : Int32))).bind fun v1 =>
      K2 h a0 v1)
    else (
      (zk_C 0 h a0).bind fun _ =>
      (f_X0_isClash h a0 i1 i2).bind fun r2 =>
      if r2.1 = 0 then (
        (some (i2 + (1 : Int32))).bind fun v3 =>
        f_X0_findClashes_22 K2 n r2.2 a0 i1 v3)
      else (
        (zg_R [0] r2.2 a0 17).bind fun v4 =>
        (za_I .int r2.2 v4 i1).bind fun v5 =>
        (zs_I .int r2.2 v4 i1 (v5 ||| ((1 : Int32) <<< (i2 &&& 31)))).bind fun h6 =>
        (zg_R [0] h6 a0 17).bind fun v7 =>
        (za_I .int h6 v7 i2).bind fun v8 =>
        (zs_I .int h6 v7 i2 (v8 ||| ((1 : Int32) <<< (i1 &&& 31)))).bind fun h9 =>
        (some (i2 + (1 : Int32))).bind fun v10 =>
        f_X0_findClashes_22 K2 n h9 a0 i1 v10))
def f_X0_findClashes_2 : Nat → zT → Nat → Int32 → Option (zT)
  | 0, _, _, _ => none
  | n + 1, h, a0, i1 =>
    (zg_R [0] h a0 0).bind fun v1 =>
    (zg_I [1] h v1 1).bind fun v2 =>
    if v2 ≤ i1 then (
      some h)
    else (
      (zg_R [0] h a0 17).bind fun v3 =>
      (zs_I .int h v3 i1 (0 : Int32)).bind fun h4 =>
      f_X0_findClashes_22 (f_X0_findClashes_2 n) 4096 h4 a0 i1 (0 : Int32))
def f_X0_findClashes (h : zT) (a0 : Nat) : Option (zT) :=
  f_X0_findClashes_2 4096 h a0 (0 : Int32)
abbrev rm_X0_bits : Room := { frames := 2, cells := 0, slots := 0, locals := 50 }
theorem cd_X0_bits : zcd yX0_bits 1 := by unfold zcd; decide +kernel
def f_X0_bits (h : zT) (i0 : Int32) : Option (Int32 × zT) :=
  (f_J6_bitCount h i0).bind fun r1 =>
  some (r1.1, r1.2)
abbrev rm_X0_isPeace : Room := { frames := 1, cells := 0, slots := 0, locals := 30 }
theorem cd_X0_isPeace : zcd yX0_isPeace 1 := by unfold zcd; decide +kernel
def f_X0_isPeace_4 : Nat → zT → Nat → Int32 → Int32 → Int32 → Option (Int32 × zT)
  | 0, _, _, _, _, _ => none
  | n + 1, h, a0, i1, i2, i3 =>
    (zg_R [0] h a0 0).bind fun v1 =>
    (zg_I [1] h v1 1).bind fun v2 =>
    if v2 ≤ i3 then (
      if i2 = 0 ∨ i2 = 1 then some (i2, h) else none)
    else (
      if i2 = 0 then (
        (some (i3 + (1 : Int32))).bind fun v3 =>
        f_X0_isPeace_4 n h a0 i1 (0 : Int32) v3)
      else (
        if ((i1 >>> (i3 &&& 31)) &&& (1 : Int32)) = 0 then (
          (some (i3 + (1 : Int32))).bind fun v4 =>
          f_X0_isPeace_4 n h a0 i1 (1 : Int32) v4)
        else (
          (zg_R [0] h a0 17).bind fun v5 =>
          (za_I .int h v5 i3).bind fun v6 =>
          if ¬ (v6 &&& i1) = 0 then (
            (some (i3 + (1 : Int32))).bind fun v7 =>
            f_X0_isPeace_4 n h a0 i1 (0 : Int32) v7)
          else (
            (some (i3 + (1 : Int32))).bind fun v8 =>
            f_X0_isPeace_4 n h a0 i1 (1 : Int32) v8))))
def f_X0_isPeace (h : zT) (a0 : Nat) (i1 : Int32) : Option (Int32 × zT) :=
  f_X0_isPeace_4 4096 h a0 i1 (1 : Int32) (0 : Int32)
abbrev rm_X0_undone : Room := { frames := 12, cells := 0, slots := 0, locals := 348 }
theorem cd_X0_undone : zcd yX0_undone 0 := by unfold zcd; decide +kernel
def f_X0_undone_16 : Nat → zT → Nat → Int32 → Int32 → Int32 → Option (Int32 × zT)
  | 0, _, _, _, _, _ => none
  | n + 1, h, a0, i1, i2, i3 =>
    if i1 < i3 then (
      some (i2, h))
    else (
      if ¬ (i3 &&& (i1 ^^^ (-1 : Int32))) = 0 then (
        (some (i3 + (1 : Int32))).bind fun v1 =>
        f_X0_undone_16 n h a0 i1 i2 v1)
      else (
        (f_X0_bits h i3).bind fun r2 =>
        (f_X0_bits r2.2 i2).bind fun r3 =>
        if r2.1 < r3.1 then (
          (zk_C 0 r3.2 a0).bind fun _ =>
          (f_X0_isPeace r3.2 a0 (i1 &&& (i3 ^^^ (-1 : Int32)))).bind fun r4 =>
          if r4.1 = 0 then (
            (some (i3 + (1 : Int32))).bind fun v5 =>
            f_X0_undone_16 n r4.2 a0 i1 i2 v5)
          else (
            (some (i3 + (1 : Int32))).bind fun v6 =>
            f_X0_undone_16 n r4.2 a0 i1 i3 v6))
        else (
          (some (i3 + (1 : Int32))).bind fun v7 =>
          f_X0_undone_16 n r3.2 a0 i1 i2 v7)))
def f_X0_undone (h : zT) (a0 : Nat) : Option (Int32 × zT) :=
  (zk_C 0 h a0).bind fun _ =>
  (f_X0_findClashes h a0).bind fun r1 =>
  (zg_R [0] r1 a0 0).bind fun v2 =>
  (zk_C 1 r1 v2).bind fun _ =>
  (f_X1_laid r1 v2).bind fun r3 =>
  f_X0_undone_16 4096 r3.2 a0 r3.1 r3.1 (0 : Int32)
abbrev rm_X0_borne : Room := { frames := 9, cells := 0, slots := 0, locals := 223 }
theorem cd_X0_borne : zcd yX0_borne 0 := by unfold zcd; decide +kernel
def f_X0_borne_22 : Nat → zT → Nat → Int32 → Int32 → Int32 → Int32 → Option (Int32 × zT)
  | 0, _, _, _, _, _, _ => none
  | n + 1, h, a0, i1, i2, i3, i4 =>
    if i1 < i4 then (
      some (i3, h))
    else (
      if ¬ (i4 &&& (i1 ^^^ (-1 : Int32))) = 0 then (
        (some (i4 + (1 : Int32))).bind fun v1 =>
        f_X0_borne_22 n h a0 i1 i2 i3 v1)
      else (
        (f_X0_bits h i4).bind fun r2 =>
        (f_X0_bits r2.2 i3).bind fun r3 =>
        if r2.1 < r3.1 then (
          (zg_R [0] r3.2 a0 0).bind fun v4 =>
          (zk_C 1 r3.2 v4).bind fun _ =>
          (f_X1_coveredBy r3.2 v4 i4).bind fun r5 =>
          if ¬ r5.1 = i2 then (
            (some (i4 + (1 : Int32))).bind fun v6 =>
            f_X0_borne_22 n r5.2 a0 i1 i2 i3 v6)
          else (
            (some (i4 + (1 : Int32))).bind fun v7 =>
            f_X0_borne_22 n r5.2 a0 i1 i2 i4 v7))
        else (
          (some (i4 + (1 : Int32))).bind fun v8 =>
          f_X0_borne_22 n r3.2 a0 i1 i2 i3 v8)))
def f_X0_borne (h : zT) (a0 : Nat) : Option (Int32 × zT) :=
  (zg_R [0] h a0 0).bind fun v1 =>
  (zk_C 1 h v1).bind fun _ =>
  (f_X1_laid h v1).bind fun r2 =>
  (zg_R [0] r2.2 a0 0).bind fun v3 =>
  (zk_C 1 r2.2 v3).bind fun _ =>
  (f_X1_coveredBy r2.2 v3 r2.1).bind fun r4 =>
  f_X0_borne_22 4096 r4.2 a0 r2.1 r4.1 r2.1 (0 : Int32)
abbrev rm_X0_falseOnes : Room := { frames := 11, cells := 0, slots := 0, locals := 323 }
theorem cd_X0_falseOnes : zcd yX0_falseOnes 1 := by unfold zcd; decide +kernel
def f_X0_falseOnes_4 : Nat → zT → Nat → Int32 → Int32 → Int32 → Option (Int32 × zT)
  | 0, _, _, _, _, _ => none
  | n + 1, h, a0, i1, i2, i3 =>
    (zg_R [0] h a0 0).bind fun v1 =>
    (zg_I [1] h v1 1).bind fun v2 =>
    if v2 ≤ i3 then (
      some (i2, h))
    else (
      (zg_R [0] h a0 0).bind fun v3 =>
      (zk_C 1 h v3).bind fun _ =>
      (f_X1_isFalse h v3 i3 i1).bind fun r4 =>
      if r4.1 = 0 then (
        (some (i2 + (0 : Int32))).bind fun v5 =>
        (some (i3 + (1 : Int32))).bind fun v6 =>
        f_X0_falseOnes_4 n r4.2 a0 i1 v5 v6)
      else (
        (some (i2 + (1 : Int32))).bind fun v7 =>
        (some (i3 + (1 : Int32))).bind fun v8 =>
        f_X0_falseOnes_4 n r4.2 a0 i1 v7 v8))
def f_X0_falseOnes (h : zT) (a0 : Nat) (i1 : Int32) : Option (Int32 × zT) :=
  f_X0_falseOnes_4 4096 h a0 i1 (0 : Int32) (0 : Int32)
abbrev rm_X0_look : Room := { frames := 12, cells := 0, slots := 0, locals := 346 }
theorem cd_X0_look : zcd yX0_look 1 := by unfold zcd; decide +kernel
def f_X0_look_50 (K23 : zT → Nat → Int32 → Int32 → Int32 → Int32 → Option (Int32 × zT)) (h : zT) (a0 : Nat) (i1 : Int32) (i3 : Int32) (i4 : Int32) (i5 : Int32) (s0 : Int32) : Option (Int32 × zT) :=
  (some (if i3 < i5 then i5 else i3)).bind fun v1 =>
  (some (i4 + (1 : Int32))).bind fun v2 =>
  K23 h a0 i1 s0 v1 v2
def f_X0_look_23 : Nat → zT → Nat → Int32 → Int32 → Int32 → Int32 → Option (Int32 × zT)
  | 0, _, _, _, _, _, _ => none
  | n + 1, h, a0, i1, i2, i3, i4 =>
    if (16 : Int32) ≤ i4 then (
      if ¬ i1 = 0 then (
        some (i3, h))
      else (
        some (i2, h)))
    else (
      (zk_C 0 h a0).bind fun _ =>
      (f_X0_falseOnes h a0 i4).bind fun r1 =>
      if r1.1 ≤ i3 then (
        f_X0_look_50 (f_X0_look_23 n) r1.2 a0 i1 i3 i4 r1.1 i2)
      else (
        f_X0_look_50 (f_X0_look_23 n) r1.2 a0 i1 i3 i4 r1.1 i4))
def f_X0_look (h : zT) (a0 : Nat) (i1 : Int32) : Option (Int32 × zT) :=
  (f_X0_isIn h i1 (0 : Int32) (1 : Int32)).bind fun r1 =>
  if ¬ r1.1 = 0 then (
    (zk_C 0 r1.2 a0).bind fun _ =>
    (f_X0_falseOnes r1.2 a0 (0 : Int32)).bind fun r2 =>
    f_X0_look_23 4096 r2.2 a0 i1 (0 : Int32) r2.1 (1 : Int32))
  else (
    some ((-1000000001 : Int32), r1.2))
abbrev rm_X0_aTide : Room := { frames := 11, cells := 0, slots := 0, locals := 323 }
theorem cd_X0_aTide : zcd yX0_aTide 0 := by unfold zcd; decide +kernel
def f_X0_aTide_13 : Nat → zT → Nat → Int32 → Int32 → Option (zT)
  | 0, _, _, _, _ => none
  | n + 1, h, a0, i1, i2 =>
    (zg_R [0] h a0 0).bind fun v1 =>
    (zg_I [1] h v1 1).bind fun v2 =>
    if v2 ≤ i2 then (
      (zg_R [0] h a0 0).bind fun v3 =>
      (zg_I [1] h v3 5).bind fun v4 =>
      (zp_V [1] h v3 5 (.int (v4 + (1 : Int32)))).bind fun h5 =>
      some h5)
    else (
      (zg_R [0] h a0 0).bind fun v6 =>
      (zg_R [1] h v6 2).bind fun v7 =>
      (za_R "StoneSheets$Rubbing" h v7 i2).bind fun v8 =>
      (fd_covers h v8 i1).bind fun r9 =>
      if ¬ r9.1 = 0 then (
        (zg_R [0] r9.2 a0 0).bind fun v10 =>
        (zk_C 1 r9.2 v10).bind fun _ =>
        (f_X1_isFalse r9.2 v10 i2 i1).bind fun r11 =>
        if ¬ r11.1 = 0 then (
          (zg_I [6, 7, 8, 9, 10, 11] r11.2 v8 4).bind fun v12 =>
          (fd_loses r11.2 v8).bind fun r13 =>
          (some (if (0 : Int32) < (v12 - r13.1) then (v12 - r13.1) else (0 : Int32))).bind fun v14 =>
          (zp_V [6, 7, 8, 9, 10, 11] r13.2 v8 4 (.int v14)).bind fun h15 =>
          (zg_I [6, 7, 8, 9, 10, 11] h15 v8 4).bind fun v16 =>
          if ¬ v16 = 0 then (
            (some (i2 + (1 : Int32))).bind fun v17 =>
            f_X0_aTide_13 n h15 a0 i1 v17)
          else (
            (zp_V [6, 7, 8, 9, 10, 11] h15 v8 3 (.int (16 : Int32))).bind fun h18 =>
            (zg_R [0] h18 a0 0).bind fun v19 =>
            (zg_I [1] h18 v19 4).bind fun v20 =>
            (zp_V [1] h18 v19 4 (.int (v20 + (1 : Int32)))).bind fun h21 =>
            (some (i2 + (1 : Int32))).bind fun v22 =>
            f_X0_aTide_13 n h21 a0 i1 v22))
        else (
          (zg_I [6, 7, 8, 9, 10, 11] r11.2 v8 4).bind fun v23 =>
          (zk_C 0 r11.2 a0).bind fun _ =>
          (f_X0_gainOf r11.2 a0 v8).bind fun r24 =>
          (some (if (v23 + r24.1) < (99 : Int32) then (v23 + r24.1) else (99 : Int32))).bind fun v25 =>
          (zp_V [6, 7, 8, 9, 10, 11] r24.2 v8 4 (.int v25)).bind fun h26 =>
          (some (i2 + (1 : Int32))).bind fun v27 =>
          f_X0_aTide_13 n h26 a0 i1 v27))
      else (
        (some (i2 + (1 : Int32))).bind fun v28 =>
        f_X0_aTide_13 n r9.2 a0 i1 v28))
def f_X0_aTide (h : zT) (a0 : Nat) : Option (zT) :=
  (zg_R [0] h a0 0).bind fun v1 =>
  (zk_C 1 h v1).bind fun _ =>
  (f_X1_draw h v1).bind fun r2 =>
  (some (r2.1 - r2.1 / (16 : Int32) * (16 : Int32))).bind fun v3 =>
  f_X0_aTide_13 4096 r2.2 a0 v3 (0 : Int32)
abbrev rm_X0_goesOn : Room := { frames := 12, cells := 0, slots := 0, locals := 346 }
theorem cd_X0_goesOn : zcd yX0_goesOn 1 := by unfold zcd; decide +kernel
def f_X0_goesOn_2 : Nat → zT → Nat → Int32 → Int32 → Option (zT)
  | 0, _, _, _, _ => none
  | n + 1, h, a0, i1, i2 =>
    if i1 ≤ i2 then (
      some h)
    else (
      (zk_C 0 h a0).bind fun _ =>
      (f_X0_aTide h a0).bind fun r1 =>
      (some (i2 + (1 : Int32))).bind fun v2 =>
      f_X0_goesOn_2 n r1 a0 i1 v2)
def f_X0_goesOn (h : zT) (a0 : Nat) (i1 : Int32) : Option (zT) :=
  f_X0_goesOn_2 4096 h a0 i1 (0 : Int32)
abbrev rm_X0_tides : Room := { frames := 13, cells := 0, slots := 0, locals := 368 }
theorem cd_X0_tides : zcd yX0_tides 1 := by unfold zcd; decide +kernel
def f_X0_tides (h : zT) (a0 : Nat) (i1 : Int32) : Option (Int32 × zT) :=
  (f_X0_isIn h i1 (1 : Int32) (100 : Int32)).bind fun r1 =>
  if ¬ r1.1 = 0 then (
    (zg_R [0] r1.2 a0 0).bind fun v2 =>
    (zg_I [1] r1.2 v2 4).bind fun v3 =>
    (zg_R [0] r1.2 a0 0).bind fun v4 =>
    (zg_I [1] r1.2 v4 5).bind fun v5 =>
    (some (if ((9999 : Int32) - v5) < i1 then ((9999 : Int32) - v5) else i1)).bind fun v6 =>
    (zk_C 0 r1.2 a0).bind fun _ =>
    (f_X0_goesOn r1.2 a0 v6).bind fun r7 =>
    (zg_R [0] r7 a0 0).bind fun v8 =>
    (zg_I [1] r7 v8 4).bind fun v9 =>
    some (v9 - v3, r7))
  else (
    some ((-1000000001 : Int32), r1.2))
abbrev rm_X0_book : Room := { frames := 9, cells := 0, slots := 0, locals := 223 }
theorem cd_X0_book : zcd yX0_book 1 := by unfold zcd; decide +kernel
def f_X0_book (h : zT) (a0 : Nat) (i1 : Int32) : Option (Int32 × zT) :=
  if i1 = (0 : Int32) then (
    (zg_R [0] h a0 0).bind fun v1 =>
    (zg_I [1] h v1 4).bind fun v2 =>
    some (v2, h))
  else (
    if i1 = (1 : Int32) then (
      (zg_R [0] h a0 0).bind fun v3 =>
      (zk_C 1 h v3).bind fun _ =>
      (f_X1_trust h v3).bind fun r4 =>
      some (r4.1, r4.2))
    else (
      if i1 = (2 : Int32) then (
        (zg_R [0] h a0 0).bind fun v5 =>
        (zk_C 1 h v5).bind fun _ =>
        (f_X1_laid h v5).bind fun r6 =>
        some (r6.1, r6.2))
      else (
        if i1 = (3 : Int32) then (
          (zg_R [0] h a0 0).bind fun v7 =>
          (zg_R [0] h a0 0).bind fun v8 =>
          (zk_C 1 h v8).bind fun _ =>
          (f_X1_laid h v8).bind fun r9 =>
          (zk_C 1 r9.2 v7).bind fun _ =>
          (f_X1_coveredBy r9.2 v7 r9.1).bind fun r10 =>
          some ((65535 : Int32) &&& (r10.1 ^^^ (-1 : Int32)), r10.2))
        else (
          some ((-1000000001 : Int32), h)))))
abbrev rm_X0_thinks : Room := { frames := 9, cells := 10, slots := 50, locals := 222 }
theorem cd_X0_thinks : zcd yX0_thinks 0 := by unfold zcd; decide +kernel
def f_X0_thinks (h : zT) (a0 : Nat) : Option (zT) :=
  (zg_R [0] h a0 3).bind fun v1 =>
  (zg_R [0] h a0 0).bind fun v2 =>
  (zk_C 1 h v1).bind fun _ =>
  (f_X1_copyOf h v1 v2).bind fun r3 =>
  some r3
abbrev rm_X0_putsBack : Room := { frames := 9, cells := 10, slots := 50, locals := 222 }
theorem cd_X0_putsBack : zcd yX0_putsBack 0 := by unfold zcd; decide +kernel
def f_X0_putsBack (h : zT) (a0 : Nat) : Option (zT) :=
  (zg_R [0] h a0 0).bind fun v1 =>
  (zg_R [0] h a0 3).bind fun v2 =>
  (zk_C 1 h v1).bind fun _ =>
  (f_X1_copyOf h v1 v2).bind fun r3 =>
  some r3
abbrev rm_X0_behind : Room := { frames := 13, cells := 20, slots := 100, locals := 368 }
theorem cd_X0_behind : zcd yX0_behind 2 := by unfold zcd; decide +kernel
def f_X0_behind_32 (h : zT) (a0 : Nat) (i1 : Int32) (i2 : Int32) : Option (Int32 × zT) :=
  (zk_C 0 h a0).bind fun _ =>
  (f_X0_thinks h a0).bind fun r1 =>
  (zk_C 0 r1 a0).bind fun _ =>
  (f_X0_goesOn r1 a0 i1).bind fun r2 =>
  if ¬ i2 = 0 then (
    if ¬ i2 = (1 : Int32) then (
      if ¬ i2 = (2 : Int32) then (
        (zg_R [0] r2 a0 0).bind fun v3 =>
        (zg_R [1] r2 v3 2).bind fun v4 =>
        (za_R "StoneSheets$Rubbing" r2 v4 (i2 - (3 : Int32))).bind fun v5 =>
        (zg_I [6, 7, 8, 9, 10, 11] r2 v5 4).bind fun v6 =>
        (zk_C 0 r2 a0).bind fun _ =>
        (f_X0_putsBack r2 a0).bind fun r7 =>
        some (v6, r7))
      else (
        (zg_R [0] r2 a0 0).bind fun v8 =>
        (zg_I [1] r2 v8 4).bind fun v9 =>
        (zk_C 0 r2 a0).bind fun _ =>
        (f_X0_putsBack r2 a0).bind fun r10 =>
        some (v9, r10)))
    else (
      (zg_R [0] r2 a0 0).bind fun v11 =>
      (zk_C 1 r2 v11).bind fun _ =>
      (f_X1_laid r2 v11).bind fun r12 =>
      (zk_C 0 r12.2 a0).bind fun _ =>
      (f_X0_putsBack r12.2 a0).bind fun r13 =>
      some (r12.1, r13)))
  else (
    (zg_R [0] r2 a0 0).bind fun v14 =>
    (zk_C 1 r2 v14).bind fun _ =>
    (f_X1_trust r2 v14).bind fun r15 =>
    (zk_C 0 r15.2 a0).bind fun _ =>
    (f_X0_putsBack r15.2 a0).bind fun r16 =>
    some (r15.1, r16))
def f_X0_behind (h : zT) (a0 : Nat) (i1 : Int32) (i2 : Int32) : Option (Int32 × zT) :=
  (f_X0_isIn h i1 (0 : Int32) (100 : Int32)).bind fun r1 =>
  if r1.1 = 0 then (
    some ((-1000000001 : Int32), r1.2))
  else (
    if i2 < 0 then (
      some ((-1000000001 : Int32), r1.2))
    else (
      if i2 ≤ (2 : Int32) then (
        f_X0_behind_32 r1.2 a0 i1 i2)
      else (
        (zk_C 0 r1.2 a0).bind fun _ =>
        (f_X0_isRubbing r1.2 a0 (i2 - (3 : Int32))).bind fun r2 =>
        if ¬ r2.1 = 0 then (
          f_X0_behind_32 r2.2 a0 i1 i2)
        else (
          some ((-1000000001 : Int32), r2.2)))))
abbrev rm_X0_lasts : Room := { frames := 12, cells := 20, slots := 100, locals := 346 }
theorem cd_X0_lasts : zcd yX0_lasts 0 := by unfold zcd; decide +kernel
def f_X0_lasts_33 (h : zT) (a0 : Nat) (i1 : Int32) : Option (Int32 × zT) :=
  (zk_C 0 h a0).bind fun _ =>
  (f_X0_putsBack h a0).bind fun r1 =>
  if (300 : Int32) < i1 then (
    some ((-1000000005 : Int32), r1))
  else (
    some (i1, r1))
def f_X0_lasts_6 : Nat → zT → Nat → Int32 → Option (Int32 × zT)
  | 0, _, _, _ => none
  | n + 1, h, a0, i1 =>
    if (300 : Int32) < i1 then (
      f_X0_lasts_33 h a0 i1)
    else (
      (zg_R [0] h a0 0).bind fun v1 =>
      (zk_C 1 h v1).bind fun _ =>
      (f_X1_laid h v1).bind fun r2 =>
      if r2.1 = 0 then (
        f_X0_lasts_33 r2.2 a0 i1)
      else (
        (zk_C 0 r2.2 a0).bind fun _ =>
        (f_X0_aTide r2.2 a0).bind fun r3 =>
        (some (i1 + (1 : Int32))).bind fun v4 =>
        f_X0_lasts_6 n r3 a0 v4))
def f_X0_lasts (h : zT) (a0 : Nat) : Option (Int32 × zT) :=
  (zk_C 0 h a0).bind fun _ =>
  (f_X0_thinks h a0).bind fun r1 =>
  f_X0_lasts_6 4096 r1 a0 (0 : Int32)
abbrev rm_X0_best : Room := { frames := 13, cells := 180, slots := 900, locals := 368 }
theorem cd_X0_best : zcd yX0_best 3 := by unfold zcd; decide +kernel
def f_X0_best_101 (K43 : zT → Nat → Int32 → Int32 → Int32 → Int32 → Int32 → Int32 → Option (Int32 × zT)) (h : zT) (a0 : Nat) (i1 : Int32) (i2 : Int32) (i3 : Int32) (i5 : Int32) (i6 : Int32) (i7 : Int32) (s0 : Int32) : Option (Int32 × zT) :=
  (some (if i5 < i7 then i7 else i5)).bind fun v1 =>
  (some (i6 + (1 : Int32))).bind fun v2 =>
  K43 h a0 i1 i2 i3 s0 v1 v2
def f_X0_best_43 : Nat → zT → Nat → Int32 → Int32 → Int32 → Int32 → Int32 → Int32 → Option (Int32 × zT)
  | 0, _, _, _, _, _, _, _, _ => none
  | n + 1, h, a0, i1, i2, i3, i4, i5, i6 =>
    if (16 : Int32) ≤ i6 then (
      if ¬ i3 = 0 then (
        some (i5, h))
      else (
        some (i4, h)))
    else (
      (zg_R [0] h a0 0).bind fun v1 =>
      (zg_R [1] h v1 2).bind fun v2 =>
      (za_R "StoneSheets$Rubbing" h v2 i1).bind fun v3 =>
      (zp_V [6, 7, 8, 9, 10, 11] h v3 3 (.int i6)).bind fun h4 =>
      (zk_C 0 h4 a0).bind fun _ =>
      (f_X0_goesOn h4 a0 i2).bind fun r5 =>
      (zg_R [0] r5 a0 0).bind fun v6 =>
      (zg_R [1] r5 v6 2).bind fun v7 =>
      (za_R "StoneSheets$Rubbing" r5 v7 i1).bind fun v8 =>
      (zg_I [6, 7, 8, 9, 10, 11] r5 v8 4).bind fun v9 =>
      (zk_C 0 r5 a0).bind fun _ =>
      (f_X0_putsBack r5 a0).bind fun r10 =>
      if v9 ≤ i5 then (
        f_X0_best_101 (f_X0_best_43 n) r10 a0 i1 i2 i3 i5 i6 v9 i4)
      else (
        f_X0_best_101 (f_X0_best_43 n) r10 a0 i1 i2 i3 i5 i6 v9 i6))
def f_X0_best (h : zT) (a0 : Nat) (i1 : Int32) (i2 : Int32) (i3 : Int32) : Option (Int32 × zT) :=
  (zk_C 0 h a0).bind fun _ =>
  (f_X0_isRubbing h a0 i1).bind fun r1 =>
  if r1.1 = 0 then (
    some ((-1000000001 : Int32), r1.2))
  else (
    (f_X0_isIn r1.2 i2 (1 : Int32) (60 : Int32)).bind fun r2 =>
    if r2.1 = 0 then (
      some ((-1000000001 : Int32), r2.2))
    else (
      (f_X0_isIn r2.2 i3 (0 : Int32) (1 : Int32)).bind fun r3 =>
      if ¬ r3.1 = 0 then (
        (zk_C 0 r3.2 a0).bind fun _ =>
        (f_X0_thinks r3.2 a0).bind fun r4 =>
        f_X0_best_43 17 r4 a0 i1 i2 i3 (-1 : Int32) (-1 : Int32) (0 : Int32))
      else (
        some ((-1000000001 : Int32), r3.2))))
abbrev rm_X0_taught : Room := { frames := 13, cells := 180, slots := 900, locals := 368 }
theorem cd_X0_taught : zcd yX0_taught 2 := by unfold zcd; decide +kernel
def f_X0_taught_112 (K34 : zT → Nat → Int32 → Int32 → Int32 → Int32 → Int32 → Option (Int32 × zT)) (h : zT) (a0 : Nat) (i1 : Int32) (i2 : Int32) (i4 : Int32) (i5 : Int32) (i6 : Int32) (s0 : Int32) : Option (Int32 × zT) :=
  (some (if i4 < i6 then i6 else i4)).bind fun v1 =>
  (some (i5 + (1 : Int32))).bind fun v2 =>
  K34 h a0 i1 i2 s0 v1 v2
def f_X0_taught_80 (K34 : zT → Nat → Int32 → Int32 → Int32 → Int32 → Int32 → Option (Int32 × zT)) (h : zT) (a0 : Nat) (i1 : Int32) (i2 : Int32) (i3 : Int32) (i4 : Int32) (i5 : Int32) (s0 : Int32) (s1 : Int32) (s2 : Nat) : Option (Int32 × zT) :=
  (zs_I .int h s2 s1 s0).bind fun h1 =>
  (zk_C 0 h1 a0).bind fun _ =>
  (f_X0_goesOn h1 a0 i1).bind fun r2 =>
  (zg_R [0] r2 a0 0).bind fun v3 =>
  (zk_C 1 r2 v3).bind fun _ =>
  (f_X1_trust r2 v3).bind fun r4 =>
  (zk_C 0 r4.2 a0).bind fun _ =>
  (f_X0_putsBack r4.2 a0).bind fun r5 =>
  if r4.1 ≤ i4 then (
    f_X0_taught_112 K34 r5 a0 i1 i2 i4 i5 r4.1 i3)
  else (
    f_X0_taught_112 K34 r5 a0 i1 i2 i4 i5 r4.1 i5)
def f_X0_taught_34 : Nat → zT → Nat → Int32 → Int32 → Int32 → Int32 → Int32 → Option (Int32 × zT)
  | 0, _, _, _, _, _, _, _ => none
  | n + 1, h, a0, i1, i2, i3, i4, i5 =>
    if (16 : Int32) ≤ i5 then (
      if ¬ i2 = 0 then (
        some (i4, h))
      else (
        some (i3, h)))
    else (
      (zg_R [0] h a0 0).bind fun v1 =>
      (zg_R [1] h v1 3).bind fun v2 =>
      (zg_R [0] h a0 0).bind fun v3 =>
      (zg_R [1] h v3 3).bind fun v4 =>
      (za_I .int h v4 i5).bind fun v5 =>
      if ¬ v5 = (3 : Int32) then (
        (zg_R [0] h a0 0).bind fun v6 =>
        (zg_R [1] h v6 3).bind fun v7 =>
        (za_I .int h v7 i5).bind fun v8 =>
        f_X0_taught_80 (f_X0_taught_34 n) h a0 i1 i2 i3 i4 i5 (v8 + (1 : Int32)) i5 v2)
      else (
        f_X0_taught_80 (f_X0_taught_34 n) h a0 i1 i2 i3 i4 i5 (0 : Int32) i5 v2))
def f_X0_taught (h : zT) (a0 : Nat) (i1 : Int32) (i2 : Int32) : Option (Int32 × zT) :=
  (f_X0_isIn h i1 (1 : Int32) (60 : Int32)).bind fun r1 =>
  if r1.1 = 0 then (
    some ((-1000000001 : Int32), r1.2))
  else (
    (f_X0_isIn r1.2 i2 (0 : Int32) (1 : Int32)).bind fun r2 =>
    if ¬ r2.1 = 0 then (
      (zk_C 0 r2.2 a0).bind fun _ =>
      (f_X0_thinks r2.2 a0).bind fun r3 =>
      f_X0_taught_34 17 r3 a0 i1 i2 (-1 : Int32) (-1 : Int32) (0 : Int32))
    else (
      some ((-1000000001 : Int32), r2.2)))
abbrev rm_X0_fee : Room := { frames := 3, cells := 0, slots := 0, locals := 76 }
theorem cd_X0_fee : zcd yX0_fee 0 := by unfold zcd; decide +kernel
def f_X0_fee (h : zT) (a0 : Nat) : Option (Int32 × zT) :=
  (zk_C 0 h a0).bind fun _ =>
  (f_X0_counts h a0 (1 : Int32)).bind fun r1 =>
  if ¬ r1.1 = (-1 : Int32) then (
    (zg_R [0] r1.2 a0 16).bind fun v2 =>
    (zg_R [0] r1.2 a0 0).bind fun v3 =>
    (zg_I [1] r1.2 v3 5).bind fun v4 =>
    (zs_I .int r1.2 v2 (110 : Int32) v4).bind fun h5 =>
    (zg_R [0] h5 a0 16).bind fun v6 =>
    (zg_R [0] h5 a0 0).bind fun v7 =>
    (zg_I [1] h5 v7 4).bind fun v8 =>
    (zs_I .int h5 v6 (102 : Int32) v8).bind fun h9 =>
    (zg_R [0] h9 a0 0).bind fun v10 =>
    (zg_R [1] h9 v10 7).bind fun v11 =>
    (za_R "StoneSheets$Text" h9 v11 r1.1).bind fun v12 =>
    (zg_R [13] h9 v12 1).bind fun v13 =>
    (zk_C 0 h9 a0).bind fun _ =>
    (f_X0_reckon h9 a0 v13).bind fun r14 =>
    some (r14.1, r14.2))
  else (
    (zg_R [0] r1.2 a0 0).bind fun v15 =>
    (zg_I [1] r1.2 v15 4).bind fun v16 =>
    some (v16, r1.2))
abbrev rm_X0_fine : Room := { frames := 3, cells := 0, slots := 0, locals := 76 }
theorem cd_X0_fine : zcd yX0_fine 1 := by unfold zcd; decide +kernel
def f_X0_fine (h : zT) (a0 : Nat) (i1 : Int32) : Option (Int32 × zT) :=
  (zk_C 0 h a0).bind fun _ =>
  (f_X0_isRubbing h a0 i1).bind fun r1 =>
  if ¬ r1.1 = 0 then (
    (zg_R [0] r1.2 a0 0).bind fun v2 =>
    (zg_R [1] r1.2 v2 2).bind fun v3 =>
    (za_R "StoneSheets$Rubbing" r1.2 v3 i1).bind fun v4 =>
    (zk_C 0 r1.2 a0).bind fun _ =>
    (f_X0_counts r1.2 a0 (2 : Int32)).bind fun r5 =>
    if ¬ r5.1 = (-1 : Int32) then (
      (zg_R [0] r5.2 a0 16).bind fun v6 =>
      (zg_I [6, 7, 8, 9, 10, 11] r5.2 v4 4).bind fun v7 =>
      (zs_I .int r5.2 v6 (116 : Int32) v7).bind fun h8 =>
      (zg_R [0] h8 a0 16).bind fun v9 =>
      (zg_I [6, 7, 8, 9, 10, 11] h8 v4 1).bind fun v10 =>
      (zs_I .int h8 v9 (115 : Int32) v10).bind fun h11 =>
      (zg_R [0] h11 a0 0).bind fun v12 =>
      (zg_R [1] h11 v12 7).bind fun v13 =>
      (za_R "StoneSheets$Text" h11 v13 r5.1).bind fun v14 =>
      (zg_R [13] h11 v14 1).bind fun v15 =>
      (zk_C 0 h11 a0).bind fun _ =>
      (f_X0_reckon h11 a0 v15).bind fun r16 =>
      some (r16.1, r16.2))
    else (
      (zg_I [6, 7, 8, 9, 10, 11] r5.2 v4 4).bind fun v17 =>
      some (v17, r5.2)))
  else (
    some ((-1000000001 : Int32), r1.2))
abbrev rm_X0_isSheet : Room := { frames := 2, cells := 0, slots := 0, locals := 52 }
theorem cd_X0_isSheet : zcd yX0_isSheet 1 := by unfold zcd; decide +kernel
def f_X0_isSheet (h : zT) (i0 : Int32) : Option (Int32 × zT) :=
  (f_X0_isIn h i0 (0 : Int32) (3 : Int32)).bind fun r1 =>
  if r1.1 = 0 ∨ r1.1 = 1 then some (r1.1, r1.2) else none
abbrev rm_X0_rowOf : Room := { frames := 1, cells := 1, slots := 24, locals := 30 }
theorem cd_X0_rowOf : zcd yX0_rowOf 2 := by unfold zcd; decide +kernel
def f_X0_rowOf (h : zT) (i0 : Int32) (i1 : Int32) : Option (Nat × zT) :=
  if i0 = 0 then (
    (zb_len i1 24).bind fun _ =>
    (zn_A .short h i1).bind fun r1 =>
    some (r1.1, r1.2))
  else (
    (zb_len i1 24).bind fun _ =>
    (zn_F h i1).bind fun r2 =>
    some (r2.1, r2.2))
abbrev rm_X0_markIn : Room := { frames := 3, cells := 0, slots := 0, locals := 72 }
theorem cd_X0_markIn : zcd yX0_markIn 3 := by unfold zcd; decide +kernel
def f_X0_markIn (h : zT) (a0 : Nat) (i1 : Int32) (i2 : Int32) : Option (Int32 × zT) :=
  if ¬ i2 = (-1000000005 : Int32) then (
    (zk_C 3 h a0).bind fun _ =>
    (f_X3_isFloats h a0).bind fun r1 =>
    if r1.1 = 0 then (
      (zk_C 3 r1.2 a0).bind fun _ =>
      (f_X3_put r1.2 a0 i1 i2).bind fun r2 =>
      some ((1 : Int32), r2))
    else (
      (f_X0_isIn r1.2 i2 (-99999 : Int32) (99999 : Int32)).bind fun r3 =>
      if ¬ r3.1 = 0 then (
        (zk_C 3 r3.2 a0).bind fun _ =>
        (f_X3_put r3.2 a0 i1 i2).bind fun r4 =>
        some ((1 : Int32), r4))
      else (
        some ((-1000000001 : Int32), r3.2))))
  else (
    (zk_C 3 h a0).bind fun _ =>
    (f_X3_isFloats h a0).bind fun r5 =>
    if ¬ r5.1 = 0 then (
      (zg_Q [3] r5.2 a0 0).bind fun v6 =>
      v6.bind fun b7 =>
      (zc_T .float r5.2 b7).bind fun _ =>
      (zs_F r5.2 b7 i1 (2143289344 : UInt32)).bind fun h8 =>
      some ((1 : Int32), h8))
    else (
      some ((-1000000012 : Int32), r5.2)))
abbrev rm_X0_mark : Room := { frames := 4, cells := 0, slots := 0, locals := 94 }
theorem cd_X0_mark : zcd yX0_mark 3 := by unfold zcd; decide +kernel
def f_X0_mark (h : zT) (a0 : Nat) (i1 : Int32) (i2 : Int32) (i3 : Int32) : Option (Int32 × zT) :=
  (f_X0_isSheet h i1).bind fun r1 =>
  if ¬ r1.1 = 0 then (
    (zg_R [0] r1.2 a0 18).bind fun v2 =>
    (za_R "StoneSheets$Sheet" r1.2 v2 i1).bind fun v3 =>
    (zk_C 3 r1.2 v3).bind fun _ =>
    (f_X3_isThere r1.2 v3).bind fun r4 =>
    if ¬ r4.1 = 0 then (
      (zk_C 3 r4.2 v3).bind fun _ =>
      (f_X3_size r4.2 v3).bind fun r5 =>
      (f_X0_isIn r5.2 i2 (0 : Int32) (r5.1 - (1 : Int32))).bind fun r6 =>
      if r6.1 = 0 then (
        some ((-1000000013 : Int32), r6.2))
      else (
        (f_X0_markIn r6.2 v3 i2 i3).bind fun r7 =>
        some (r7.1, r7.2)))
    else (
      some ((-1000000011 : Int32), r4.2)))
  else (
    some ((-1000000001 : Int32), r1.2))
abbrev rm_X0_pour : Room := { frames := 3, cells := 0, slots := 0, locals := 72 }
theorem cd_X0_pour : zcd yX0_pour 1 := by unfold zcd; decide +kernel
def f_X0_pour_82 (K33 : zT → Nat → Nat → Int32 → Int32 → Option (Int32 × zT)) (h : zT) (a0 : Nat) (a2 : Nat) (i3 : Int32) (i4 : Int32) (s0 : Int32) : Option (Int32 × zT) :=
  (zk_C 0 h a0).bind fun _ =>
  (f_X0_cuts h a0 i4 s0).bind fun r1 =>
  if ¬ r1.1 = s0 then (
    (some (i3 + (1 : Int32))).bind fun v2 =>
    (some (i4 + (1 : Int32))).bind fun v3 =>
    K33 r1.2 a0 a2 v2 v3)
  else (
    (some (i3 + (0 : Int32))).bind fun v4 =>
    (some (i4 + (1 : Int32))).bind fun v5 =>
    K33 r1.2 a0 a2 v4 v5)
def f_X0_pour_33 : Nat → zT → Nat → Nat → Int32 → Int32 → Option (Int32 × zT)
  | 0, _, _, _, _, _ => none
  | n + 1, h, a0, a2, i3, i4 =>
    if (16 : Int32) ≤ i4 then (
      some (i3, h))
    else (
      (zk_C 3 h a2).bind fun _ =>
      (f_X3_size h a2).bind fun r1 =>
      if r1.1 ≤ i4 then (
        some (i3, r1.2))
      else (
        (zk_C 3 r1.2 a2).bind fun _ =>
        (f_X3_isNumber r1.2 a2 i4).bind fun r2 =>
        if r2.1 = 0 then (
          (zg_R [0] r2.2 a0 0).bind fun v3 =>
          (zg_R [1] r2.2 v3 3).bind fun v4 =>
          (za_I .int r2.2 v4 i4).bind fun v5 =>
          f_X0_pour_82 (f_X0_pour_33 n) r2.2 a0 a2 i3 i4 v5)
        else (
          (zk_C 3 r2.2 a2).bind fun _ =>
          (f_X3_at r2.2 a2 i4).bind fun r6 =>
          (f_X0_within r6.2 r6.1 (0 : Int32) (3 : Int32)).bind fun r7 =>
          f_X0_pour_82 (f_X0_pour_33 n) r7.2 a0 a2 i3 i4 r7.1)))
def f_X0_pour (h : zT) (a0 : Nat) (i1 : Int32) : Option (Int32 × zT) :=
  (f_X0_isSheet h i1).bind fun r1 =>
  if ¬ r1.1 = 0 then (
    (zg_R [0] r1.2 a0 18).bind fun v2 =>
    (za_R "StoneSheets$Sheet" r1.2 v2 i1).bind fun v3 =>
    (zk_C 3 r1.2 v3).bind fun _ =>
    (f_X3_isThere r1.2 v3).bind fun r4 =>
    if ¬ r4.1 = 0 then (
      f_X0_pour_33 4096 r4.2 a0 v3 (0 : Int32) (0 : Int32))
    else (
      some ((-1000000011 : Int32), r4.2)))
  else (
    some ((-1000000001 : Int32), r1.2))
abbrev rm_X0_reads : Room := { frames := 3, cells := 0, slots := 0, locals := 73 }
theorem cd_X0_reads : zcd yX0_reads 1 := by unfold zcd; decide +kernel
def f_X0_reads_30 : Nat → zT → Nat → Nat → Int32 → Option (Int32 × zT)
  | 0, _, _, _, _ => none
  | n + 1, h, a0, a2, i3 =>
    (zk_C 3 h a2).bind fun _ =>
    (f_X3_size h a2).bind fun r1 =>
    if r1.1 ≤ i3 then (
      some ((-1000000005 : Int32), r1.2))
    else (
      (zk_C 3 r1.2 a2).bind fun _ =>
      (f_X3_isNumber r1.2 a2 i3).bind fun r2 =>
      if r2.1 = 0 then (
        (some (i3 + (1 : Int32))).bind fun v3 =>
        f_X0_reads_30 n r2.2 a0 a2 v3)
      else (
        (zk_C 0 r2.2 a0).bind fun _ =>
        (f_X0_isRubbing r2.2 a0 i3).bind fun r4 =>
        if r4.1 = 0 then (
          some (i3, r4.2))
        else (
          (zk_C 3 r4.2 a2).bind fun _ =>
          (f_X3_at r4.2 a2 i3).bind fun r5 =>
          (zg_R [0] r5.2 a0 0).bind fun v6 =>
          (zg_R [1] r5.2 v6 2).bind fun v7 =>
          (za_R "StoneSheets$Rubbing" r5.2 v7 i3).bind fun v8 =>
          (zg_I [6, 7, 8, 9, 10, 11] r5.2 v8 4).bind fun v9 =>
          if r5.1 = v9 then (
            (some (i3 + (1 : Int32))).bind fun v10 =>
            f_X0_reads_30 n r5.2 a0 a2 v10)
          else (
            some (i3, r5.2)))))
def f_X0_reads (h : zT) (a0 : Nat) (i1 : Int32) : Option (Int32 × zT) :=
  (f_X0_isSheet h i1).bind fun r1 =>
  if ¬ r1.1 = 0 then (
    (zg_R [0] r1.2 a0 18).bind fun v2 =>
    (za_R "StoneSheets$Sheet" r1.2 v2 i1).bind fun v3 =>
    (zk_C 3 r1.2 v3).bind fun _ =>
    (f_X3_isThere r1.2 v3).bind fun r4 =>
    if ¬ r4.1 = 0 then (
      f_X0_reads_30 4096 r4.2 a0 v3 (0 : Int32))
    else (
      some ((-1000000011 : Int32), r4.2)))
  else (
    some ((-1000000001 : Int32), r1.2))
abbrev rm_X0_offBy : Room := { frames := 10, cells := 0, slots := 0, locals := 300 }
theorem cd_X0_offBy : zcd yX0_offBy 2 := by unfold zcd; decide +kernel
def f_X0_offBy_33 (K5 : zT → Nat → Nat → Int64 → Int32 → Option (Int64 × zT)) (h : zT) (a0 : Nat) (a1 : Nat) (l2 : Int64) (i4 : Int32) (s0 : Int32) : Option (Int64 × zT) :=
  (zk_C 3 h a0).bind fun _ =>
  (f_X3_isNumber h a0 i4).bind fun r1 =>
  if r1.1 = 0 then (
    (some (l2 + (0 : Int64))).bind fun v2 =>
    (some (i4 + (1 : Int32))).bind fun v3 =>
    K5 r1.2 a0 a1 v2 v3)
  else (
    (zk_C 3 r1.2 a0).bind fun _ =>
    (f_X3_at r1.2 a0 i4).bind fun r4 =>
    (some (if 0 < (r4.1.toInt64 - s0.toInt64) then (r4.1.toInt64 - s0.toInt64) else -(r4.1.toInt64 - s0.toInt64))).bind fun v5 =>
    (some (l2 + v5)).bind fun v6 =>
    (some (i4 + (1 : Int32))).bind fun v7 =>
    K5 r4.2 a0 a1 v6 v7)
def f_X0_offBy_5 : Nat → zT → Nat → Nat → Int64 → Int32 → Option (Int64 × zT)
  | 0, _, _, _, _, _ => none
  | n + 1, h, a0, a1, l2, i4 =>
    (zk_C 3 h a0).bind fun _ =>
    (f_X3_size h a0).bind fun r1 =>
    if r1.1 ≤ i4 then (
      some (l2, r1.2))
    else (
      (zg_I [6, 7, 8, 9, 10, 11] r1.2 a1 1).bind fun v2 =>
      if v2 ≤ i4 then (
        f_X0_offBy_33 (f_X0_offBy_5 n) r1.2 a0 a1 l2 i4 (0 : Int32))
      else (
        (fd_saysAt r1.2 a1 i4).bind fun r3 =>
        f_X0_offBy_33 (f_X0_offBy_5 n) r3.2 a0 a1 l2 i4 r3.1))
def f_X0_offBy (h : zT) (a0 : Nat) (a1 : Nat) : Option (Int64 × zT) :=
  f_X0_offBy_5 4096 h a0 a1 (0 : Int64) (0 : Int32)
abbrev rm_X0_whose : Room := { frames := 11, cells := 0, slots := 0, locals := 325 }
theorem cd_X0_whose : zcd yX0_whose 2 := by unfold zcd; decide +kernel
def f_X0_whose_46 : Nat → zT → Nat → Int32 → Nat → Int32 → Int64 → Int32 → Option (Int32 × zT)
  | 0, _, _, _, _, _, _, _ => none
  | n + 1, h, a0, i2, a3, i4, l5, i7 =>
    (zg_R [0] h a0 0).bind fun v1 =>
    (zg_I [1] h v1 1).bind fun v2 =>
    if v2 ≤ i7 then (
      if ¬ i4 = (-1 : Int32) then (
        if ¬ i2 = 0 then (
          some (l5.toInt32, h))
        else (
          some (i4, h)))
      else (
        some ((-1000000005 : Int32), h)))
    else (
      (zg_R [0] h a0 0).bind fun v3 =>
      (zg_R [1] h v3 2).bind fun v4 =>
      (za_R "StoneSheets$Rubbing" h v4 i7).bind fun v5 =>
      (f_X0_offBy h a3 v5).bind fun r6 =>
      if i4 = (-1 : Int32) then (
        (some (i7 + (1 : Int32))).bind fun v7 =>
        f_X0_whose_46 n r6.2 a0 i2 a3 i7 r6.1 v7)
      else (
        if 0 ≤ (lg_cmp r6.1 l5) then (
          (some (i7 + (1 : Int32))).bind fun v8 =>
          f_X0_whose_46 n r6.2 a0 i2 a3 i4 l5 v8)
        else (
          (some (i7 + (1 : Int32))).bind fun v9 =>
          f_X0_whose_46 n r6.2 a0 i2 a3 i7 r6.1 v9)))
def f_X0_whose (h : zT) (a0 : Nat) (i1 : Int32) (i2 : Int32) : Option (Int32 × zT) :=
  (f_X0_isSheet h i1).bind fun r1 =>
  if r1.1 = 0 then (
    some ((-1000000001 : Int32), r1.2))
  else (
    (f_X0_isIn r1.2 i2 (0 : Int32) (1 : Int32)).bind fun r2 =>
    if ¬ r2.1 = 0 then (
      (zg_R [0] r2.2 a0 18).bind fun v3 =>
      (za_R "StoneSheets$Sheet" r2.2 v3 i1).bind fun v4 =>
      (zk_C 3 r2.2 v4).bind fun _ =>
      (f_X3_isThere r2.2 v4).bind fun r5 =>
      if ¬ r5.1 = 0 then (
        f_X0_whose_46 4096 r5.2 a0 i2 v4 (-1 : Int32) (0 : Int64) (0 : Int32))
      else (
        some ((-1000000011 : Int32), r5.2)))
    else (
      some ((-1000000001 : Int32), r2.2)))
abbrev rm_X0_carries : Room := { frames := 2, cells := 0, slots := 0, locals := 50 }
theorem cd_X0_carries : zcd yX0_carries 5 := by unfold zcd; decide +kernel
def f_X0_carries_81 : Nat → zT → Nat → Int32 → Int32 → Nat → Int32 → Option (zT)
  | 0, _, _, _, _, _, _ => none
  | n + 1, h, a0, i4, i5, a7, i8 =>
    if i5 ≤ i8 then (
      some h)
    else (
      (zg_R [0] h a0 20).bind fun v1 =>
      (za_F h v1 i8).bind fun v2 =>
      (zs_F h a7 (i4 + i8) v2).bind fun h3 =>
      (some (i8 + (1 : Int32))).bind fun v4 =>
      f_X0_carries_81 n h3 a0 i4 i5 a7 v4)
def f_X0_carries_51 : Nat → zT → Nat → Int32 → Int32 → Int32 → Nat → Nat → Int32 → Option (zT)
  | 0, _, _, _, _, _, _, _, _ => none
  | n + 1, h, a0, i2, i4, i5, a6, a7, i8 =>
    if i5 ≤ i8 then (
      f_X0_carries_81 4096 h a0 i4 i5 a7 (0 : Int32))
    else (
      (zg_R [0] h a0 20).bind fun v1 =>
      (za_F h a6 (i2 + i8)).bind fun v2 =>
      (zs_F h v1 i8 v2).bind fun h3 =>
      (some (i8 + (1 : Int32))).bind fun v4 =>
      f_X0_carries_51 n h3 a0 i2 i4 i5 a6 a7 v4)
def f_X0_carries (h : zT) (a0 : Nat) (a1 : Nat) (i2 : Int32) (a3 : Nat) (i4 : Int32) (i5 : Int32) : Option (zT) :=
  (zk_C 3 h a1).bind fun _ =>
  (f_X3_isFloats h a1).bind fun r1 =>
  if ¬ r1.1 = 0 then (
    (zg_Q [3] r1.2 a1 0).bind fun v2 =>
    v2.bind fun b3 =>
    (zc_T .float r1.2 b3).bind fun _ =>
    (zg_Q [3] r1.2 a3 0).bind fun v4 =>
    v4.bind fun b5 =>
    (zc_T .float r1.2 b5).bind fun _ =>
    f_X0_carries_51 4096 r1.2 a0 i2 i4 i5 b3 b5 (0 : Int32))
  else (
    (zg_Q [3] r1.2 a1 0).bind fun v6 =>
    v6.bind fun b7 =>
    (zc_T .short r1.2 b7).bind fun _ =>
    (zg_Q [3] r1.2 a3 0).bind fun v8 =>
    v8.bind fun b9 =>
    (zc_T .short r1.2 b9).bind fun _ =>
    (zc_I .short r1.2 b7 i2 b9 i4 i5).bind fun h10 =>
    some h10)
abbrev rm_X0_copy : Room := { frames := 3, cells := 0, slots := 0, locals := 78 }
theorem cd_X0_copy : zcd yX0_copy 5 := by unfold zcd; decide +kernel
def f_X0_copy (h : zT) (a0 : Nat) (i1 : Int32) (i2 : Int32) (i3 : Int32) (i4 : Int32) (i5 : Int32) : Option (Int32 × zT) :=
  (f_X0_isSheet h i1).bind fun r1 =>
  if r1.1 = 0 then (
    some ((-1000000001 : Int32), r1.2))
  else (
    (f_X0_isSheet r1.2 i3).bind fun r2 =>
    if ¬ r2.1 = 0 then (
      (zg_R [0] r2.2 a0 18).bind fun v3 =>
      (za_R "StoneSheets$Sheet" r2.2 v3 i1).bind fun v4 =>
      (zg_R [0] r2.2 a0 18).bind fun v5 =>
      (za_R "StoneSheets$Sheet" r2.2 v5 i3).bind fun v6 =>
      (zk_C 3 r2.2 v4).bind fun _ =>
      (f_X3_isThere r2.2 v4).bind fun r7 =>
      if r7.1 = 0 then (
        some ((-1000000011 : Int32), r7.2))
      else (
        (zk_C 3 r7.2 v6).bind fun _ =>
        (f_X3_isThere r7.2 v6).bind fun r8 =>
        if ¬ r8.1 = 0 then (
          (zk_C 3 r8.2 v4).bind fun _ =>
          (f_X3_isFloats r8.2 v4).bind fun r9 =>
          (zk_C 3 r9.2 v6).bind fun _ =>
          (f_X3_isFloats r9.2 v6).bind fun r10 =>
          if r9.1 = r10.1 then (
            if i2 < 0 then (
              some ((-1000000013 : Int32), r10.2))
            else (
              if i4 < 0 then (
                some ((-1000000013 : Int32), r10.2))
              else (
                if i5 < 0 then (
                  some ((-1000000013 : Int32), r10.2))
                else (
                  (zk_C 3 r10.2 v4).bind fun _ =>
                  (f_X3_size r10.2 v4).bind fun r11 =>
                  if (r11.1 - i5) < i2 then (
                    some ((-1000000013 : Int32), r11.2))
                  else (
                    (zk_C 3 r11.2 v6).bind fun _ =>
                    (f_X3_size r11.2 v6).bind fun r12 =>
                    if i4 ≤ (r12.1 - i5) then (
                      (zk_C 0 r12.2 a0).bind fun _ =>
                      (f_X0_carries r12.2 a0 v4 i2 v6 i4 i5).bind fun r13 =>
                      some (i5, r13))
                    else (
                      some ((-1000000013 : Int32), r12.2)))))))
          else (
            some ((-1000000012 : Int32), r10.2)))
        else (
          some ((-1000000011 : Int32), r8.2))))
    else (
      some ((-1000000001 : Int32), r2.2)))
abbrev rm_X0_isSlot : Room := { frames := 2, cells := 0, slots := 0, locals := 52 }
theorem cd_X0_isSlot : zcd yX0_isSlot 1 := by unfold zcd; decide +kernel
def f_X0_isSlot (h : zT) (i0 : Int32) : Option (Int32 × zT) :=
  (f_X0_isIn h i0 (0 : Int32) (4 : Int32)).bind fun r1 =>
  if r1.1 = 0 ∨ r1.1 = 1 then some (r1.1, r1.2) else none
abbrev rm_X0_own : Room := { frames := 3, cells := 2, slots := 25, locals := 78 }
theorem cd_X0_own : zcd yX0_own 1 := by unfold zcd; decide +kernel
def f_X0_own (h : zT) (a0 : Nat) (a1 : Nat) : Option (Nat × zT) :=
  (zn_O 3 zfs3 h).bind fun r1 =>
  (f_X3_init r1.2 r1.1).bind fun r2 =>
  (zk_C 3 r2 a1).bind fun _ =>
  (f_X3_isFloats r2 a1).bind fun r3 =>
  (zk_C 3 r3.2 a1).bind fun _ =>
  (f_X3_size r3.2 a1).bind fun r4 =>
  (f_X0_rowOf r4.2 r3.1 r4.1).bind fun r5 =>
  (zp_V [3] r5.2 r1.1 0 (.ref r5.1)).bind fun h6 =>
  (zk_C 3 h6 a1).bind fun _ =>
  (f_X3_size h6 a1).bind fun r7 =>
  (zk_C 0 r7.2 a0).bind fun _ =>
  (f_X0_carries r7.2 a0 a1 (0 : Int32) r1.1 (0 : Int32) r7.1).bind fun r8 =>
  some (r1.1, r8)
def fd_copy (h : zT) (b : Nat) : Option (Nat × zT) := (zh_O h b).bind fun o =>
    if o.1 = 6 then f_X6_copy h b
    else if o.1 = 7 then f_X6_copy h b
    else if o.1 = 8 then f_X6_copy h b
    else if o.1 = 9 then f_X6_copy h b
    else if o.1 = 10 then f_X6_copy h b
    else if o.1 = 11 then f_X6_copy h b
    else none
abbrev rm_X0_lay : Room := { frames := 10, cells := 2, slots := 25, locals := 300 }
theorem cd_X0_lay : zcd yX0_lay 3 := by unfold zcd; decide +kernel
def f_X0_lay_65 (h : zT) (a0 : Nat) (i1 : Int32) (i2 : Int32) (i3 : Int32) : Option (Int32 × zT) :=
  (zg_R [0] h a0 19).bind fun v1 =>
  (za_R "StoneSheets$Slot" h v1 i1).bind fun v2 =>
  (zk_C 4 h v2).bind fun _ =>
  (f_X4_thing h v2).bind fun r3 =>
  (zg_R [0] r3.2 a0 19).bind fun v4 =>
  (za_R "StoneSheets$Slot" r3.2 v4 i1).bind fun v5 =>
  if ¬ i2 = 0 then (
    if ¬ i2 = (1 : Int32) then (
      if ¬ i2 = (2 : Int32) then (
        (zn_O 14 zfs14 r3.2).bind fun r6 =>
        (f_X14_init r6.2 r6.1 i3).bind fun r7 =>
        (zp_V [4] r7 v5 0 (.ref r6.1)).bind fun h8 =>
        some (r3.1, h8))
      else (
        (zg_R [0] r3.2 a0 18).bind fun v9 =>
        (za_R "StoneSheets$Sheet" r3.2 v9 i3).bind fun v10 =>
        (zk_C 0 r3.2 a0).bind fun _ =>
        (f_X0_own r3.2 a0 v10).bind fun r11 =>
        (zp_V [4] r11.2 v5 0 (.ref r11.1)).bind fun h12 =>
        some (r3.1, h12)))
    else (
      (zg_R [0] r3.2 a0 0).bind fun v13 =>
      (zg_R [1] r3.2 v13 2).bind fun v14 =>
      (za_R "StoneSheets$Rubbing" r3.2 v14 i3).bind fun v15 =>
      (fd_copy r3.2 v15).bind fun r16 =>
      (zp_V [4] r16.2 v5 0 (.ref r16.1)).bind fun h17 =>
      some (r3.1, h17)))
  else (
    (zp_V [4] r3.2 v5 0 (va_rf none)).bind fun h18 =>
    some (r3.1, h18))
def f_X0_lay_44 (h : zT) (a0 : Nat) (i1 : Int32) (i2 : Int32) (i3 : Int32) : Option (Int32 × zT) :=
  if ¬ i2 = (2 : Int32) then (
    f_X0_lay_65 h a0 i1 i2 i3)
  else (
    (zg_R [0] h a0 18).bind fun v1 =>
    (za_R "StoneSheets$Sheet" h v1 i3).bind fun v2 =>
    (zk_C 3 h v2).bind fun _ =>
    (f_X3_isThere h v2).bind fun r3 =>
    if ¬ r3.1 = 0 then (
      f_X0_lay_65 r3.2 a0 i1 i2 i3)
    else (
      some ((-1000000011 : Int32), r3.2)))
def f_X0_lay_29 (h : zT) (a0 : Nat) (i1 : Int32) (i2 : Int32) (i3 : Int32) : Option (Int32 × zT) :=
  if ¬ i2 = (2 : Int32) then (
    f_X0_lay_44 h a0 i1 i2 i3)
  else (
    (f_X0_isSheet h i3).bind fun r1 =>
    if ¬ r1.1 = 0 then (
      f_X0_lay_44 r1.2 a0 i1 i2 i3)
    else (
      some ((-1000000001 : Int32), r1.2)))
def f_X0_lay (h : zT) (a0 : Nat) (i1 : Int32) (i2 : Int32) (i3 : Int32) : Option (Int32 × zT) :=
  (f_X0_isSlot h i1).bind fun r1 =>
  if r1.1 = 0 then (
    some ((-1000000001 : Int32), r1.2))
  else (
    (f_X0_isIn r1.2 i2 (0 : Int32) (3 : Int32)).bind fun r2 =>
    if r2.1 = 0 then (
      some ((-1000000001 : Int32), r2.2))
    else (
      if ¬ i2 = (1 : Int32) then (
        f_X0_lay_29 r2.2 a0 i1 i2 i3)
      else (
        (zk_C 0 r2.2 a0).bind fun _ =>
        (f_X0_isRubbing r2.2 a0 i3).bind fun r3 =>
        if r3.1 = 0 then (
          some ((-1000000001 : Int32), r3.2))
        else (
          f_X0_lay_29 r3.2 a0 i1 i2 i3))))
abbrev rm_X0_rest : Room := { frames := 3, cells := 0, slots := 0, locals := 72 }
theorem cd_X0_rest : zcd yX0_rest 2 := by unfold zcd; decide +kernel
def f_X0_rest (h : zT) (a0 : Nat) (i1 : Int32) (i2 : Int32) : Option (Int32 × zT) :=
  (f_X0_isSlot h i1).bind fun r1 =>
  if ¬ r1.1 = 0 then (
    (zg_R [0] r1.2 a0 19).bind fun v2 =>
    (za_R "StoneSheets$Slot" r1.2 v2 i1).bind fun v3 =>
    (zg_Q [4] r1.2 v3 0).bind fun v4 =>
    if ¬ v4 = none then (
      (zi_O 14 r1.2 v4).bind fun v5 =>
      if ¬ v5 = 0 then (
        v4.bind fun b6 =>
        (zk_C 14 r1.2 b6).bind fun _ =>
        (zg_I [14] r1.2 b6 0).bind fun v7 =>
        if ¬ i2 = 0 then (
          (if i2 = 0 then none else some ()).bind fun _ =>
          some (v7 - v7 / i2 * i2, r1.2))
        else (
          some ((-1000000002 : Int32), r1.2)))
      else (
        some ((-1000000012 : Int32), r1.2)))
    else (
      some ((-1000000011 : Int32), r1.2)))
  else (
    some ((-1000000001 : Int32), r1.2))
abbrev rm_X0_tell : Room := { frames := 1, cells := 0, slots := 0, locals := 30 }
theorem cd_X0_tell : zcd yX0_tell 1 := by unfold zcd; decide +kernel
def f_X0_tell (h : zT) (a0 : Nat) (i1 : Int32) : Option (Int32 × zT) :=
  (zg_I [0] h a0 22).bind fun v1 =>
  if ¬ v1 = (60 : Int32) then (
    (zg_R [0] h a0 21).bind fun v2 =>
    (zg_I [0] h a0 22).bind fun v3 =>
    (zs_I .int h v2 v3 i1).bind fun h4 =>
    (zg_I [0] h4 a0 22).bind fun v5 =>
    (zp_V [0] h4 a0 22 (.int (v5 + (1 : Int32)))).bind fun h6 =>
    (zg_I [0] h6 a0 22).bind fun v7 =>
    some (v7, h6))
  else (
    some ((-1000000003 : Int32), h))
abbrev rm_X0_rowsOfTides : Room := { frames := 12, cells := 30, slots := 150, locals := 346 }
theorem cd_X0_rowsOfTides : zcd yX0_rowsOfTides 1 := by unfold zcd; decide +kernel
def f_X0_rowsOfTides_87 (h : zT) (a0 : Nat) (i2 : Int32) : Option (Int32 × zT) :=
  (zg_R [0] h a0 0).bind fun v1 =>
  (zg_R [0] h a0 2).bind fun v2 =>
  (zk_C 1 h v1).bind fun _ =>
  (f_X1_copyOf h v1 v2).bind fun r3 =>
  some ((2 : Int32) * i2, r3)
def f_X0_rowsOfTides_24 : Nat → zT → Nat → Int32 → Int32 → Option (Int32 × zT)
  | 0, _, _, _, _ => none
  | n + 1, h, a0, i1, i2 =>
    if i1 ≤ i2 then (
      f_X0_rowsOfTides_87 h a0 i2)
    else (
      (zg_R [0] h a0 0).bind fun v1 =>
      (zg_I [1] h v1 5).bind fun v2 =>
      if (9999 : Int32) ≤ v2 then (
        f_X0_rowsOfTides_87 h a0 i2)
      else (
        (zk_C 0 h a0).bind fun _ =>
        (f_X0_aTide h a0).bind fun r3 =>
        (zg_R [0] r3 a0 23).bind fun v4 =>
        (zg_R [0] r3 a0 0).bind fun v5 =>
        (zk_C 1 r3 v5).bind fun _ =>
        (f_X1_trust r3 v5).bind fun r6 =>
        (zs_I .int r6.2 v4 ((2 : Int32) * i2) r6.1).bind fun h7 =>
        (zg_R [0] h7 a0 23).bind fun v8 =>
        (zg_R [0] h7 a0 0).bind fun v9 =>
        (zk_C 1 h7 v9).bind fun _ =>
        (f_X1_laid h7 v9).bind fun r10 =>
        (f_X0_bits r10.2 r10.1).bind fun r11 =>
        (zs_I .int r11.2 v8 (((2 : Int32) * i2) + (1 : Int32)) r11.1).bind fun h12 =>
        (some (i2 + (1 : Int32))).bind fun v13 =>
        f_X0_rowsOfTides_24 n h12 a0 i1 v13))
def f_X0_rowsOfTides (h : zT) (a0 : Nat) (i1 : Int32) : Option (Int32 × zT) :=
  (zg_R [0] h a0 2).bind fun v1 =>
  (zg_R [0] h a0 0).bind fun v2 =>
  (zk_C 1 h v1).bind fun _ =>
  (f_X1_copyOf h v1 v2).bind fun r3 =>
  (zg_R [0] r3 a0 0).bind fun v4 =>
  (zg_R [0] r3 a0 1).bind fun v5 =>
  (zk_C 1 r3 v4).bind fun _ =>
  (f_X1_copyOf r3 v4 v5).bind fun r6 =>
  f_X0_rowsOfTides_24 4096 r6 a0 i1 (0 : Int32)
abbrev rm_X0_check : Room := { frames := 13, cells := 30, slots := 150, locals := 368 }
theorem cd_X0_check : zcd yX0_check 1 := by unfold zcd; decide +kernel
def f_X0_check_43 : Nat → zT → Nat → Int32 → Int32 → Int32 → Option (Int32 × zT)
  | 0, _, _, _, _, _ => none
  | n + 1, h, a0, i2, i3, i4 =>
    if i2 ≤ i4 then (
      if i3 ≤ i2 then (
        some ((0 : Int32), h))
      else (
        some ((1 : Int32) + i2, h)))
    else (
      if i3 ≤ i4 then (
        some ((1 : Int32) + i4, h))
      else (
        (zg_R [0] h a0 21).bind fun v1 =>
        (za_I .int h v1 i4).bind fun v2 =>
        (zg_R [0] h a0 23).bind fun v3 =>
        (za_I .int h v3 i4).bind fun v4 =>
        if ¬ v2 = v4 then (
          some ((1 : Int32) + i4, h))
        else (
          (some (i4 + (1 : Int32))).bind fun v5 =>
          f_X0_check_43 n h a0 i2 i3 v5)))
def f_X0_check (h : zT) (a0 : Nat) (i1 : Int32) : Option (Int32 × zT) :=
  (zg_I [0] h a0 22).bind fun v1 =>
  (zp_V [0] h a0 22 (.int (0 : Int32))).bind fun h2 =>
  (f_X0_isIn h2 i1 (1 : Int32) (30 : Int32)).bind fun r3 =>
  if ¬ r3.1 = 0 then (
    (zg_I [0] r3.2 a0 4).bind fun v4 =>
    if ¬ v4 = 0 then (
      (zk_C 0 r3.2 a0).bind fun _ =>
      (f_X0_rowsOfTides r3.2 a0 i1).bind fun r5 =>
      f_X0_check_43 4096 r5.2 a0 v1 r5.1 (0 : Int32))
    else (
      some ((-1000000002 : Int32), r3.2)))
  else (
    some ((-1000000001 : Int32), r3.2))
abbrev rm_X0_keep : Room := { frames := 9, cells := 10, slots := 50, locals := 222 }
theorem cd_X0_keep : zcd yX0_keep 0 := by unfold zcd; decide +kernel
def f_X0_keep (h : zT) (a0 : Nat) : Option (Int32 × zT) :=
  (zg_R [0] h a0 1).bind fun v1 =>
  (zg_R [0] h a0 0).bind fun v2 =>
  (zk_C 1 h v1).bind fun _ =>
  (f_X1_copyOf h v1 v2).bind fun r3 =>
  (zp_V [0] r3 a0 4 (.int (1 : Int32))).bind fun h4 =>
  (zg_R [0] h4 a0 0).bind fun v5 =>
  (zg_I [1] h4 v5 1).bind fun v6 =>
  some (v6, h4)
abbrev rm_X0_back : Room := { frames := 9, cells := 10, slots := 50, locals := 222 }
theorem cd_X0_back : zcd yX0_back 0 := by unfold zcd; decide +kernel
def f_X0_back (h : zT) (a0 : Nat) : Option (Int32 × zT) :=
  (zg_I [0] h a0 4).bind fun v1 =>
  if ¬ v1 = 0 then (
    (zg_R [0] h a0 0).bind fun v2 =>
    (zg_R [0] h a0 1).bind fun v3 =>
    (zk_C 1 h v2).bind fun _ =>
    (f_X1_copyOf h v2 v3).bind fun r4 =>
    (zg_R [0] r4 a0 0).bind fun v5 =>
    (zg_I [1] r4 v5 1).bind fun v6 =>
    some (v6, r4))
  else (
    some ((-1000000002 : Int32), h))
abbrev rm_X0_count : Room := { frames := 3, cells := 0, slots := 0, locals := 70 }
theorem cd_X0_count : zcd yX0_count 1 := by unfold zcd; decide +kernel
def f_X0_count (h : zT) (a0 : Nat) (i1 : Int32) : Option (Int32 × zT) :=
  if i1 = (0 : Int32) then (
    (zg_R [0] h a0 0).bind fun v1 =>
    (zg_I [1] h v1 1).bind fun v2 =>
    some (v2, h))
  else (
    if i1 = (1 : Int32) then (
      (zg_R [0] h a0 0).bind fun v3 =>
      (zg_I [1] h v3 5).bind fun v4 =>
      some (v4, h))
    else (
      if i1 = (2 : Int32) then (
        (zg_R [0] h a0 0).bind fun v5 =>
        (zk_C 1 h v5).bind fun _ =>
        (f_X1_laid h v5).bind fun r6 =>
        (f_X0_bits r6.2 r6.1).bind fun r7 =>
        some (r7.1, r7.2))
      else (
        if i1 = (3 : Int32) then (
          (zg_R [0] h a0 0).bind fun v8 =>
          (zg_I [1] h v8 6).bind fun v9 =>
          some (v9, h))
        else (
          if i1 = (4 : Int32) then (
            (zg_I [0] h a0 22).bind fun v10 =>
            some (v10, h))
          else (
            if i1 = (5 : Int32) then (
              (zg_I [0] h a0 7).bind fun v11 =>
              some (v11, h))
            else (
              if i1 = (6 : Int32) then (
                (zg_R [0] h a0 0).bind fun v12 =>
                (zg_I [1] h v12 0).bind fun v13 =>
                some (v13, h))
              else (
                some ((-1000000001 : Int32), h))))))))
