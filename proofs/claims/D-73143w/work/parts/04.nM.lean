/-! SharedWindowModel -/
set_option maxRecDepth 100000
def RX6 : String := "SharedWindowModel"
def TX6 : u_T := fun k => match k with
  | 0 => ("SharedWindowModel", "now", "[I", true)
  | 1 => ("SharedWindowModel", "aside", "[I", true)
  | 2 => ("SharedWindowModel", "kept", "[I", true)
  | 3 => ("SharedWindowModel", "rotaOf", "[I", true)
  | 4 => ("SharedWindowModel", "facingOf", "[I", true)
  | 5 => ("SharedWindowModel", "sideOf", "[I", true)
  | 6 => ("SharedWindowModel", "fromOf", "[I", true)
  | 7 => ("SharedWindowModel", "untilOf", "[I", true)
  | 8 => ("SharedWindowModel", "houses", "I", false)
  | 9 => ("SharedWindowModel", "things", "I", false)
  | 10 => ("SharedWindowModel", "tape", "[B", true)
  | 11 => ("SharedWindowModel", "taped", "I", false)
  | 12 => ("SharedWindowModel", "place0", "I", false)
  | 13 => ("SharedWindowModel", "length0", "I", false)
  | 14 => ("SharedWindowModel", "fault", "I", false)
  | 15 => ("SharedWindowModel", "number0", "I", false)
  | 16 => ("SharedWindowModel", "open", "I", false)
  | 17 => ("SharedWindowModel", "codeMany", "I", false)
  | 18 => ("SharedWindowModel", "waiting", "I", false)
  | 19 => ("SharedWindowModel", "saidMany", "I", false)
  | 20 => ("SharedWindowModel", "clauses", "I", false)
  | 21 => ("SharedWindowModel", "said", "[I", true)
  | 22 => ("SharedWindowModel", "waitsAt", "[I", true)
  | 23 => ("SharedWindowModel", "saidLetter", "[I", true)
  | 24 => ("SharedWindowModel", "saidFrom", "[I", true)
  | 25 => ("SharedWindowModel", "saidHalf", "[I", true)
  | 26 => ("SharedWindowModel", "saidTo", "[I", true)
  | 27 => ("SharedWindowModel", "codes", "[I", true)
  | 28 => ("SharedWindowModel", "clauseOf", "[I", true)
  | 29 => ("SharedWindowModel", "codeFrom", "[I", true)
  | 30 => ("SharedWindowModel", "codeHalf", "[I", true)
  | 31 => ("SharedWindowModel", "codeTo", "[I", true)
  | 32 => ("SharedWindowModel", "stack", "[I", true)
  | 33 => ("SharedWindowModel", "facts", "[I", true)
  | 34 => ("SharedWindowModel", "newFacing", "[I", true)
  | 35 => ("SharedWindowModel", "newSide", "[I", true)
  | 36 => ("SharedWindowModel", "newFrom", "[I", true)
  | 37 => ("SharedWindowModel", "newUntil", "[I", true)
  | 38 => ("SharedWindowModel", "newHouses", "I", false)
  | 39 => ("SharedWindowModel", "newThings", "I", false)
  | 40 => ("SharedWindowModel", "lines", "I", false)
  | 41 => ("SharedWindowModel", "turnOf", "[I", true)
  | 42 => ("SharedWindowModel", "turnPlace", "[I", true)
  | 43 => ("SharedWindowModel", "roundFrom", "[I", true)
  | 44 => ("SharedWindowModel", "roundAt", "[I", true)
  | 45 => ("SharedWindowModel", "roundTimes", "[I", true)
  | 46 => ("SharedWindowModel", "turnMany", "I", false)
  | 47 => ("SharedWindowModel", "rounds", "I", false)
  | 48 => ("SharedWindowModel", "itFrom", "I", false)
  | 49 => ("SharedWindowModel", "itTimes", "I", false)
  | 50 => ("SharedWindowModel", "cracksNow", "I", false)
  | 51 => ("SharedWindowModel", "leastTo", "[I", true)
  | 52 => ("SharedWindowModel", "leastThen", "[I", true)
  | 53 => ("SharedWindowModel", "everOf", "[I", true)
  | 54 => ("SharedWindowModel", "seenBySet", "[I", true)
  | 55 => ("SharedWindowModel", "mostFrom", "[I", true)
  | 56 => ("SharedWindowModel", "bestOf", "[I", true)
  | 57 => ("SharedWindowModel", "waysBy", "[J", true)
  | 58 => ("SharedWindowModel", "waysThen", "[J", true)
  | 59 => ("SharedWindowModel", "isKept", "Z", false)
  | _ => ("SharedWindowModel", "keptHouses", "I", false)
def tyX6 : Nat → FieldType := fun k => match k with
  | 0 => .array .int
  | 1 => .array .int
  | 2 => .array .int
  | 3 => .array .int
  | 4 => .array .int
  | 5 => .array .int
  | 6 => .array .int
  | 7 => .array .int
  | 8 => .int
  | 9 => .int
  | 10 => .array .byte
  | 11 => .int
  | 12 => .int
  | 13 => .int
  | 14 => .int
  | 15 => .int
  | 16 => .int
  | 17 => .int
  | 18 => .int
  | 19 => .int
  | 20 => .int
  | 21 => .array .int
  | 22 => .array .int
  | 23 => .array .int
  | 24 => .array .int
  | 25 => .array .int
  | 26 => .array .int
  | 27 => .array .int
  | 28 => .array .int
  | 29 => .array .int
  | 30 => .array .int
  | 31 => .array .int
  | 32 => .array .int
  | 33 => .array .int
  | 34 => .array .int
  | 35 => .array .int
  | 36 => .array .int
  | 37 => .array .int
  | 38 => .int
  | 39 => .int
  | 40 => .int
  | 41 => .array .int
  | 42 => .array .int
  | 43 => .array .int
  | 44 => .array .int
  | 45 => .array .int
  | 46 => .int
  | 47 => .int
  | 48 => .int
  | 49 => .int
  | 50 => .int
  | 51 => .array .int
  | 52 => .array .int
  | 53 => .array .int
  | 54 => .array .int
  | 55 => .array .int
  | 56 => .array .int
  | 57 => .array .long
  | 58 => .array .long
  | 59 => .boolean
  | _ => .int
abbrev wsX60 : List Cond := u_ws RX6 TX6 61
set_option maxRecDepth 100000 in
theorem nmX6 : ∀ a, a < 61 → ∀ b, b < 61 → a ≠ b → (TX6 a).2.1 ≠ (TX6 b).2.1 := by decide +kernel
set_option maxRecDepth 100000 in
theorem tyX6_ok : ∀ k, k < 61 → parseFieldDescriptor (TX6 k).2.2.1 = some (tyX6 k) := by decide +kernel
abbrev cX6_init : ByteArray := prog_20_method_1_code
def yX6_init : MethodName := ⟨RX6, "<init>", "()V"⟩
def dkwX6_init_15 : List UInt8 := [27, 2, 79, 132, 1, 1, 167, 255, 240, 177]
abbrev dktX6_init_15 : List UInt8 := dkwX6_init_15 ++ []
def dkwX6_init_14 : List UInt8 := [16, 20, 4, 79, 42, 180, 0, 7, 16, 16, 2, 79, 3, 60, 27, 16, 12, 162, 0, 16, 42, 180, 0, 19]
abbrev dktX6_init_14 : List UInt8 := dkwX6_init_14 ++ dktX6_init_15
def dkwX6_init_13 : List UInt8 := [181, 0, 120, 42, 16, 13, 188, 11, 181, 0, 123, 42, 16, 13, 188, 11, 181, 0, 127, 42, 180, 0, 7]
abbrev dktX6_init_13 : List UInt8 := dkwX6_init_13 ++ dktX6_init_14
def dkwX6_init_12 : List UInt8 := [18, 113, 188, 10, 181, 0, 114, 42, 17, 0, 144, 188, 10, 181, 0, 117, 42, 17, 1, 0, 188, 10]
abbrev dktX6_init_12 : List UInt8 := dkwX6_init_12 ++ dktX6_init_13
def dkwX6_init_11 : List UInt8 := [188, 10, 181, 0, 104, 42, 17, 4, 64, 188, 10, 181, 0, 107, 42, 16, 16, 188, 10, 181, 0, 110, 42]
abbrev dktX6_init_11 : List UInt8 := dkwX6_init_11 ++ dktX6_init_12
def dkwX6_init_10 : List UInt8 := [5, 188, 10, 181, 0, 95, 42, 5, 188, 10, 181, 0, 98, 42, 5, 188, 10, 181, 0, 101, 42, 17, 4, 64]
abbrev dktX6_init_10 : List UInt8 := dkwX6_init_10 ++ dktX6_init_11
def dkwX6_init_9 : List UInt8 := [16, 16, 188, 10, 181, 0, 86, 42, 16, 12, 188, 10, 181, 0, 89, 42, 16, 12, 188, 10, 181, 0, 92, 42]
abbrev dktX6_init_9 : List UInt8 := dkwX6_init_9 ++ dktX6_init_10
def dkwX6_init_8 : List UInt8 := [16, 16, 188, 10, 181, 0, 77, 42, 16, 16, 188, 10, 181, 0, 80, 42, 16, 16, 188, 10, 181, 0, 83, 42]
abbrev dktX6_init_8 : List UInt8 := dkwX6_init_8 ++ dktX6_init_9
def dkwX6_init_7 : List UInt8 := [188, 10, 181, 0, 68, 42, 17, 1, 4, 188, 10, 181, 0, 71, 42, 16, 9, 188, 10, 181, 0, 74, 42]
abbrev dktX6_init_7 : List UInt8 := dkwX6_init_7 ++ dktX6_init_8
def dkwX6_init_6 : List UInt8 := [188, 10, 181, 0, 59, 42, 16, 16, 188, 10, 181, 0, 62, 42, 16, 16, 188, 10, 181, 0, 65, 42, 16, 16]
abbrev dktX6_init_6 : List UInt8 := dkwX6_init_6 ++ dktX6_init_7
def dkwX6_init_5 : List UInt8 := [181, 0, 50, 42, 16, 16, 188, 10, 181, 0, 53, 42, 17, 1, 4, 188, 10, 181, 0, 56, 42, 16, 16]
abbrev dktX6_init_5 : List UInt8 := dkwX6_init_5 ++ dktX6_init_6
def dkwX6_init_4 : List UInt8 := [181, 0, 41, 42, 16, 16, 188, 10, 181, 0, 44, 42, 16, 16, 188, 10, 181, 0, 47, 42, 16, 16, 188, 10]
abbrev dktX6_init_4 : List UInt8 := dkwX6_init_4 ++ dktX6_init_5
def dkwX6_init_3 : List UInt8 := [17, 1, 4, 188, 8, 181, 0, 34, 42, 17, 1, 4, 188, 10, 181, 0, 38, 42, 17, 1, 4, 188, 10]
abbrev dktX6_init_3 : List UInt8 := dkwX6_init_3 ++ dktX6_init_4
def dkwX6_init_2 : List UInt8 := [188, 10, 181, 0, 25, 42, 16, 16, 188, 10, 181, 0, 28, 42, 16, 16, 188, 10, 181, 0, 31, 42]
abbrev dktX6_init_2 : List UInt8 := dkwX6_init_2 ++ dktX6_init_3
def dkwX6_init_1 : List UInt8 := [188, 10, 181, 0, 16, 42, 16, 12, 188, 10, 181, 0, 19, 42, 16, 16, 188, 10, 181, 0, 22, 42, 16, 16]
abbrev dktX6_init_1 : List UInt8 := dkwX6_init_1 ++ dktX6_init_2
def dkwX6_init_0 : List UInt8 := [42, 183, 0, 1, 42, 16, 21, 188, 10, 181, 0, 7, 42, 16, 21, 188, 10, 181, 0, 13, 42, 16, 21]
abbrev dktX6_init_0 : List UInt8 := dkwX6_init_0 ++ dktX6_init_1
theorem dksX6_init_0 : cX6_init.data.toList.drop 0 = dktX6_init_0 := by decide +kernel
theorem dksX6_init_1 : cX6_init.data.toList.drop 23 = dktX6_init_1 := dk_seg dksX6_init_0 23 rfl rfl
theorem dksX6_init_2 : cX6_init.data.toList.drop 47 = dktX6_init_2 := dk_seg dksX6_init_1 24 rfl rfl
theorem dksX6_init_3 : cX6_init.data.toList.drop 69 = dktX6_init_3 := dk_seg dksX6_init_2 22 rfl rfl
theorem dksX6_init_4 : cX6_init.data.toList.drop 92 = dktX6_init_4 := dk_seg dksX6_init_3 23 rfl rfl
theorem dksX6_init_5 : cX6_init.data.toList.drop 116 = dktX6_init_5 := dk_seg dksX6_init_4 24 rfl rfl
theorem dksX6_init_6 : cX6_init.data.toList.drop 139 = dktX6_init_6 := dk_seg dksX6_init_5 23 rfl rfl
theorem dksX6_init_7 : cX6_init.data.toList.drop 163 = dktX6_init_7 := dk_seg dksX6_init_6 24 rfl rfl
theorem dksX6_init_8 : cX6_init.data.toList.drop 186 = dktX6_init_8 := dk_seg dksX6_init_7 23 rfl rfl
theorem dksX6_init_9 : cX6_init.data.toList.drop 210 = dktX6_init_9 := dk_seg dksX6_init_8 24 rfl rfl
theorem dksX6_init_10 : cX6_init.data.toList.drop 234 = dktX6_init_10 := dk_seg dksX6_init_9 24 rfl rfl
theorem dksX6_init_11 : cX6_init.data.toList.drop 258 = dktX6_init_11 := dk_seg dksX6_init_10 24 rfl rfl
theorem dksX6_init_12 : cX6_init.data.toList.drop 281 = dktX6_init_12 := dk_seg dksX6_init_11 23 rfl rfl
theorem dksX6_init_13 : cX6_init.data.toList.drop 303 = dktX6_init_13 := dk_seg dksX6_init_12 22 rfl rfl
theorem dksX6_init_14 : cX6_init.data.toList.drop 326 = dktX6_init_14 := dk_seg dksX6_init_13 23 rfl rfl
theorem dksX6_init_15 : cX6_init.data.toList.drop 350 = dktX6_init_15 := dk_seg dksX6_init_14 24 rfl rfl
theorem dX6_init_0 : decode cX6_init 0 = .ok (.aload_n 0, 1) := dk_42 (dk_at dksX6_init_0 0 rfl rfl)
theorem dX6_init_1 : decode cX6_init 1 = .ok (.invokespecial 1, 3) := dk_183 0 1 (dk_at dksX6_init_0 1 rfl rfl)
theorem dX6_init_4 : decode cX6_init 4 = .ok (.aload_n 0, 1) := dk_42 (dk_at dksX6_init_0 4 rfl rfl)
theorem dX6_init_5 : decode cX6_init 5 = .ok (.bipush 21, 2) := dk_16 21 (dk_at dksX6_init_0 5 rfl rfl)
theorem dX6_init_7 : decode cX6_init 7 = .ok (.newarray .int, 2) := dk_188_10 (dk_at dksX6_init_0 7 rfl rfl)
theorem dX6_init_9 : decode cX6_init 9 = .ok (.putfield 7, 3) := dk_181 0 7 (dk_at dksX6_init_0 9 rfl rfl)
theorem dX6_init_12 : decode cX6_init 12 = .ok (.aload_n 0, 1) := dk_42 (dk_at dksX6_init_0 12 rfl rfl)
theorem dX6_init_13 : decode cX6_init 13 = .ok (.bipush 21, 2) := dk_16 21 (dk_at dksX6_init_0 13 rfl rfl)
theorem dX6_init_15 : decode cX6_init 15 = .ok (.newarray .int, 2) := dk_188_10 (dk_at dksX6_init_0 15 rfl rfl)
theorem dX6_init_17 : decode cX6_init 17 = .ok (.putfield 13, 3) := dk_181 0 13 (dk_at dksX6_init_0 17 rfl rfl)
theorem dX6_init_20 : decode cX6_init 20 = .ok (.aload_n 0, 1) := dk_42 (dk_at dksX6_init_0 20 rfl rfl)
theorem dX6_init_21 : decode cX6_init 21 = .ok (.bipush 21, 2) := dk_16 21 (dk_at dksX6_init_0 21 rfl rfl)
theorem dX6_init_23 : decode cX6_init 23 = .ok (.newarray .int, 2) := dk_188_10 (dk_at dksX6_init_1 0 rfl rfl)
theorem dX6_init_25 : decode cX6_init 25 = .ok (.putfield 16, 3) := dk_181 0 16 (dk_at dksX6_init_1 2 rfl rfl)
theorem dX6_init_28 : decode cX6_init 28 = .ok (.aload_n 0, 1) := dk_42 (dk_at dksX6_init_1 5 rfl rfl)
theorem dX6_init_29 : decode cX6_init 29 = .ok (.bipush 12, 2) := dk_16 12 (dk_at dksX6_init_1 6 rfl rfl)
theorem dX6_init_31 : decode cX6_init 31 = .ok (.newarray .int, 2) := dk_188_10 (dk_at dksX6_init_1 8 rfl rfl)
theorem dX6_init_33 : decode cX6_init 33 = .ok (.putfield 19, 3) := dk_181 0 19 (dk_at dksX6_init_1 10 rfl rfl)
theorem dX6_init_36 : decode cX6_init 36 = .ok (.aload_n 0, 1) := dk_42 (dk_at dksX6_init_1 13 rfl rfl)
theorem dX6_init_37 : decode cX6_init 37 = .ok (.bipush 16, 2) := dk_16 16 (dk_at dksX6_init_1 14 rfl rfl)
theorem dX6_init_39 : decode cX6_init 39 = .ok (.newarray .int, 2) := dk_188_10 (dk_at dksX6_init_1 16 rfl rfl)
theorem dX6_init_41 : decode cX6_init 41 = .ok (.putfield 22, 3) := dk_181 0 22 (dk_at dksX6_init_1 18 rfl rfl)
theorem dX6_init_44 : decode cX6_init 44 = .ok (.aload_n 0, 1) := dk_42 (dk_at dksX6_init_1 21 rfl rfl)
theorem dX6_init_45 : decode cX6_init 45 = .ok (.bipush 16, 2) := dk_16 16 (dk_at dksX6_init_1 22 rfl rfl)
theorem dX6_init_47 : decode cX6_init 47 = .ok (.newarray .int, 2) := dk_188_10 (dk_at dksX6_init_2 0 rfl rfl)
theorem dX6_init_49 : decode cX6_init 49 = .ok (.putfield 25, 3) := dk_181 0 25 (dk_at dksX6_init_2 2 rfl rfl)
theorem dX6_init_52 : decode cX6_init 52 = .ok (.aload_n 0, 1) := dk_42 (dk_at dksX6_init_2 5 rfl rfl)
theorem dX6_init_53 : decode cX6_init 53 = .ok (.bipush 16, 2) := dk_16 16 (dk_at dksX6_init_2 6 rfl rfl)
theorem dX6_init_55 : decode cX6_init 55 = .ok (.newarray .int, 2) := dk_188_10 (dk_at dksX6_init_2 8 rfl rfl)
theorem dX6_init_57 : decode cX6_init 57 = .ok (.putfield 28, 3) := dk_181 0 28 (dk_at dksX6_init_2 10 rfl rfl)
theorem dX6_init_60 : decode cX6_init 60 = .ok (.aload_n 0, 1) := dk_42 (dk_at dksX6_init_2 13 rfl rfl)
theorem dX6_init_61 : decode cX6_init 61 = .ok (.bipush 16, 2) := dk_16 16 (dk_at dksX6_init_2 14 rfl rfl)
theorem dX6_init_63 : decode cX6_init 63 = .ok (.newarray .int, 2) := dk_188_10 (dk_at dksX6_init_2 16 rfl rfl)
theorem dX6_init_65 : decode cX6_init 65 = .ok (.putfield 31, 3) := dk_181 0 31 (dk_at dksX6_init_2 18 rfl rfl)
theorem dX6_init_68 : decode cX6_init 68 = .ok (.aload_n 0, 1) := dk_42 (dk_at dksX6_init_2 21 rfl rfl)
theorem dX6_init_69 : decode cX6_init 69 = .ok (.sipush 260, 3) := dk_17 1 4 (dk_at dksX6_init_3 0 rfl rfl)
theorem dX6_init_72 : decode cX6_init 72 = .ok (.newarray .byte, 2) := dk_188_8 (dk_at dksX6_init_3 3 rfl rfl)
theorem dX6_init_74 : decode cX6_init 74 = .ok (.putfield 34, 3) := dk_181 0 34 (dk_at dksX6_init_3 5 rfl rfl)
theorem dX6_init_77 : decode cX6_init 77 = .ok (.aload_n 0, 1) := dk_42 (dk_at dksX6_init_3 8 rfl rfl)
theorem dX6_init_78 : decode cX6_init 78 = .ok (.sipush 260, 3) := dk_17 1 4 (dk_at dksX6_init_3 9 rfl rfl)
theorem dX6_init_81 : decode cX6_init 81 = .ok (.newarray .int, 2) := dk_188_10 (dk_at dksX6_init_3 12 rfl rfl)
theorem dX6_init_83 : decode cX6_init 83 = .ok (.putfield 38, 3) := dk_181 0 38 (dk_at dksX6_init_3 14 rfl rfl)
theorem dX6_init_86 : decode cX6_init 86 = .ok (.aload_n 0, 1) := dk_42 (dk_at dksX6_init_3 17 rfl rfl)
theorem dX6_init_87 : decode cX6_init 87 = .ok (.sipush 260, 3) := dk_17 1 4 (dk_at dksX6_init_3 18 rfl rfl)
theorem dX6_init_90 : decode cX6_init 90 = .ok (.newarray .int, 2) := dk_188_10 (dk_at dksX6_init_3 21 rfl rfl)
theorem dX6_init_92 : decode cX6_init 92 = .ok (.putfield 41, 3) := dk_181 0 41 (dk_at dksX6_init_4 0 rfl rfl)
theorem dX6_init_95 : decode cX6_init 95 = .ok (.aload_n 0, 1) := dk_42 (dk_at dksX6_init_4 3 rfl rfl)
theorem dX6_init_96 : decode cX6_init 96 = .ok (.bipush 16, 2) := dk_16 16 (dk_at dksX6_init_4 4 rfl rfl)
theorem dX6_init_98 : decode cX6_init 98 = .ok (.newarray .int, 2) := dk_188_10 (dk_at dksX6_init_4 6 rfl rfl)
theorem dX6_init_100 : decode cX6_init 100 = .ok (.putfield 44, 3) := dk_181 0 44 (dk_at dksX6_init_4 8 rfl rfl)
theorem dX6_init_103 : decode cX6_init 103 = .ok (.aload_n 0, 1) := dk_42 (dk_at dksX6_init_4 11 rfl rfl)
theorem dX6_init_104 : decode cX6_init 104 = .ok (.bipush 16, 2) := dk_16 16 (dk_at dksX6_init_4 12 rfl rfl)
theorem dX6_init_106 : decode cX6_init 106 = .ok (.newarray .int, 2) := dk_188_10 (dk_at dksX6_init_4 14 rfl rfl)
theorem dX6_init_108 : decode cX6_init 108 = .ok (.putfield 47, 3) := dk_181 0 47 (dk_at dksX6_init_4 16 rfl rfl)
theorem dX6_init_111 : decode cX6_init 111 = .ok (.aload_n 0, 1) := dk_42 (dk_at dksX6_init_4 19 rfl rfl)
theorem dX6_init_112 : decode cX6_init 112 = .ok (.bipush 16, 2) := dk_16 16 (dk_at dksX6_init_4 20 rfl rfl)
theorem dX6_init_114 : decode cX6_init 114 = .ok (.newarray .int, 2) := dk_188_10 (dk_at dksX6_init_4 22 rfl rfl)
theorem dX6_init_116 : decode cX6_init 116 = .ok (.putfield 50, 3) := dk_181 0 50 (dk_at dksX6_init_5 0 rfl rfl)
theorem dX6_init_119 : decode cX6_init 119 = .ok (.aload_n 0, 1) := dk_42 (dk_at dksX6_init_5 3 rfl rfl)
theorem dX6_init_120 : decode cX6_init 120 = .ok (.bipush 16, 2) := dk_16 16 (dk_at dksX6_init_5 4 rfl rfl)
theorem dX6_init_122 : decode cX6_init 122 = .ok (.newarray .int, 2) := dk_188_10 (dk_at dksX6_init_5 6 rfl rfl)
theorem dX6_init_124 : decode cX6_init 124 = .ok (.putfield 53, 3) := dk_181 0 53 (dk_at dksX6_init_5 8 rfl rfl)
theorem dX6_init_127 : decode cX6_init 127 = .ok (.aload_n 0, 1) := dk_42 (dk_at dksX6_init_5 11 rfl rfl)
theorem dX6_init_128 : decode cX6_init 128 = .ok (.sipush 260, 3) := dk_17 1 4 (dk_at dksX6_init_5 12 rfl rfl)
theorem dX6_init_131 : decode cX6_init 131 = .ok (.newarray .int, 2) := dk_188_10 (dk_at dksX6_init_5 15 rfl rfl)
theorem dX6_init_133 : decode cX6_init 133 = .ok (.putfield 56, 3) := dk_181 0 56 (dk_at dksX6_init_5 17 rfl rfl)
theorem dX6_init_136 : decode cX6_init 136 = .ok (.aload_n 0, 1) := dk_42 (dk_at dksX6_init_5 20 rfl rfl)
theorem dX6_init_137 : decode cX6_init 137 = .ok (.bipush 16, 2) := dk_16 16 (dk_at dksX6_init_5 21 rfl rfl)
theorem dX6_init_139 : decode cX6_init 139 = .ok (.newarray .int, 2) := dk_188_10 (dk_at dksX6_init_6 0 rfl rfl)
theorem dX6_init_141 : decode cX6_init 141 = .ok (.putfield 59, 3) := dk_181 0 59 (dk_at dksX6_init_6 2 rfl rfl)
theorem dX6_init_144 : decode cX6_init 144 = .ok (.aload_n 0, 1) := dk_42 (dk_at dksX6_init_6 5 rfl rfl)
theorem dX6_init_145 : decode cX6_init 145 = .ok (.bipush 16, 2) := dk_16 16 (dk_at dksX6_init_6 6 rfl rfl)
theorem dX6_init_147 : decode cX6_init 147 = .ok (.newarray .int, 2) := dk_188_10 (dk_at dksX6_init_6 8 rfl rfl)
theorem dX6_init_149 : decode cX6_init 149 = .ok (.putfield 62, 3) := dk_181 0 62 (dk_at dksX6_init_6 10 rfl rfl)
theorem dX6_init_152 : decode cX6_init 152 = .ok (.aload_n 0, 1) := dk_42 (dk_at dksX6_init_6 13 rfl rfl)
theorem dX6_init_153 : decode cX6_init 153 = .ok (.bipush 16, 2) := dk_16 16 (dk_at dksX6_init_6 14 rfl rfl)
theorem dX6_init_155 : decode cX6_init 155 = .ok (.newarray .int, 2) := dk_188_10 (dk_at dksX6_init_6 16 rfl rfl)
theorem dX6_init_157 : decode cX6_init 157 = .ok (.putfield 65, 3) := dk_181 0 65 (dk_at dksX6_init_6 18 rfl rfl)
theorem dX6_init_160 : decode cX6_init 160 = .ok (.aload_n 0, 1) := dk_42 (dk_at dksX6_init_6 21 rfl rfl)
theorem dX6_init_161 : decode cX6_init 161 = .ok (.bipush 16, 2) := dk_16 16 (dk_at dksX6_init_6 22 rfl rfl)
theorem dX6_init_163 : decode cX6_init 163 = .ok (.newarray .int, 2) := dk_188_10 (dk_at dksX6_init_7 0 rfl rfl)
theorem dX6_init_165 : decode cX6_init 165 = .ok (.putfield 68, 3) := dk_181 0 68 (dk_at dksX6_init_7 2 rfl rfl)
theorem dX6_init_168 : decode cX6_init 168 = .ok (.aload_n 0, 1) := dk_42 (dk_at dksX6_init_7 5 rfl rfl)
theorem dX6_init_169 : decode cX6_init 169 = .ok (.sipush 260, 3) := dk_17 1 4 (dk_at dksX6_init_7 6 rfl rfl)
theorem dX6_init_172 : decode cX6_init 172 = .ok (.newarray .int, 2) := dk_188_10 (dk_at dksX6_init_7 9 rfl rfl)
theorem dX6_init_174 : decode cX6_init 174 = .ok (.putfield 71, 3) := dk_181 0 71 (dk_at dksX6_init_7 11 rfl rfl)
theorem dX6_init_177 : decode cX6_init 177 = .ok (.aload_n 0, 1) := dk_42 (dk_at dksX6_init_7 14 rfl rfl)
theorem dX6_init_178 : decode cX6_init 178 = .ok (.bipush 9, 2) := dk_16 9 (dk_at dksX6_init_7 15 rfl rfl)
theorem dX6_init_180 : decode cX6_init 180 = .ok (.newarray .int, 2) := dk_188_10 (dk_at dksX6_init_7 17 rfl rfl)
theorem dX6_init_182 : decode cX6_init 182 = .ok (.putfield 74, 3) := dk_181 0 74 (dk_at dksX6_init_7 19 rfl rfl)
theorem dX6_init_185 : decode cX6_init 185 = .ok (.aload_n 0, 1) := dk_42 (dk_at dksX6_init_7 22 rfl rfl)
theorem dX6_init_186 : decode cX6_init 186 = .ok (.bipush 16, 2) := dk_16 16 (dk_at dksX6_init_8 0 rfl rfl)
theorem dX6_init_188 : decode cX6_init 188 = .ok (.newarray .int, 2) := dk_188_10 (dk_at dksX6_init_8 2 rfl rfl)
theorem dX6_init_190 : decode cX6_init 190 = .ok (.putfield 77, 3) := dk_181 0 77 (dk_at dksX6_init_8 4 rfl rfl)
theorem dX6_init_193 : decode cX6_init 193 = .ok (.aload_n 0, 1) := dk_42 (dk_at dksX6_init_8 7 rfl rfl)
theorem dX6_init_194 : decode cX6_init 194 = .ok (.bipush 16, 2) := dk_16 16 (dk_at dksX6_init_8 8 rfl rfl)
theorem dX6_init_196 : decode cX6_init 196 = .ok (.newarray .int, 2) := dk_188_10 (dk_at dksX6_init_8 10 rfl rfl)
theorem dX6_init_198 : decode cX6_init 198 = .ok (.putfield 80, 3) := dk_181 0 80 (dk_at dksX6_init_8 12 rfl rfl)
theorem dX6_init_201 : decode cX6_init 201 = .ok (.aload_n 0, 1) := dk_42 (dk_at dksX6_init_8 15 rfl rfl)
theorem dX6_init_202 : decode cX6_init 202 = .ok (.bipush 16, 2) := dk_16 16 (dk_at dksX6_init_8 16 rfl rfl)
theorem dX6_init_204 : decode cX6_init 204 = .ok (.newarray .int, 2) := dk_188_10 (dk_at dksX6_init_8 18 rfl rfl)
theorem dX6_init_206 : decode cX6_init 206 = .ok (.putfield 83, 3) := dk_181 0 83 (dk_at dksX6_init_8 20 rfl rfl)
theorem dX6_init_209 : decode cX6_init 209 = .ok (.aload_n 0, 1) := dk_42 (dk_at dksX6_init_8 23 rfl rfl)
theorem dX6_init_210 : decode cX6_init 210 = .ok (.bipush 16, 2) := dk_16 16 (dk_at dksX6_init_9 0 rfl rfl)
theorem dX6_init_212 : decode cX6_init 212 = .ok (.newarray .int, 2) := dk_188_10 (dk_at dksX6_init_9 2 rfl rfl)
theorem dX6_init_214 : decode cX6_init 214 = .ok (.putfield 86, 3) := dk_181 0 86 (dk_at dksX6_init_9 4 rfl rfl)
theorem dX6_init_217 : decode cX6_init 217 = .ok (.aload_n 0, 1) := dk_42 (dk_at dksX6_init_9 7 rfl rfl)
theorem dX6_init_218 : decode cX6_init 218 = .ok (.bipush 12, 2) := dk_16 12 (dk_at dksX6_init_9 8 rfl rfl)
theorem dX6_init_220 : decode cX6_init 220 = .ok (.newarray .int, 2) := dk_188_10 (dk_at dksX6_init_9 10 rfl rfl)
theorem dX6_init_222 : decode cX6_init 222 = .ok (.putfield 89, 3) := dk_181 0 89 (dk_at dksX6_init_9 12 rfl rfl)
theorem dX6_init_225 : decode cX6_init 225 = .ok (.aload_n 0, 1) := dk_42 (dk_at dksX6_init_9 15 rfl rfl)
theorem dX6_init_226 : decode cX6_init 226 = .ok (.bipush 12, 2) := dk_16 12 (dk_at dksX6_init_9 16 rfl rfl)
theorem dX6_init_228 : decode cX6_init 228 = .ok (.newarray .int, 2) := dk_188_10 (dk_at dksX6_init_9 18 rfl rfl)
theorem dX6_init_230 : decode cX6_init 230 = .ok (.putfield 92, 3) := dk_181 0 92 (dk_at dksX6_init_9 20 rfl rfl)
theorem dX6_init_233 : decode cX6_init 233 = .ok (.aload_n 0, 1) := dk_42 (dk_at dksX6_init_9 23 rfl rfl)
theorem dX6_init_234 : decode cX6_init 234 = .ok (.iconst 2, 1) := dk_5 (dk_at dksX6_init_10 0 rfl rfl)
theorem dX6_init_235 : decode cX6_init 235 = .ok (.newarray .int, 2) := dk_188_10 (dk_at dksX6_init_10 1 rfl rfl)
theorem dX6_init_237 : decode cX6_init 237 = .ok (.putfield 95, 3) := dk_181 0 95 (dk_at dksX6_init_10 3 rfl rfl)
theorem dX6_init_240 : decode cX6_init 240 = .ok (.aload_n 0, 1) := dk_42 (dk_at dksX6_init_10 6 rfl rfl)
theorem dX6_init_241 : decode cX6_init 241 = .ok (.iconst 2, 1) := dk_5 (dk_at dksX6_init_10 7 rfl rfl)
theorem dX6_init_242 : decode cX6_init 242 = .ok (.newarray .int, 2) := dk_188_10 (dk_at dksX6_init_10 8 rfl rfl)
theorem dX6_init_244 : decode cX6_init 244 = .ok (.putfield 98, 3) := dk_181 0 98 (dk_at dksX6_init_10 10 rfl rfl)
theorem dX6_init_247 : decode cX6_init 247 = .ok (.aload_n 0, 1) := dk_42 (dk_at dksX6_init_10 13 rfl rfl)
theorem dX6_init_248 : decode cX6_init 248 = .ok (.iconst 2, 1) := dk_5 (dk_at dksX6_init_10 14 rfl rfl)
theorem dX6_init_249 : decode cX6_init 249 = .ok (.newarray .int, 2) := dk_188_10 (dk_at dksX6_init_10 15 rfl rfl)
theorem dX6_init_251 : decode cX6_init 251 = .ok (.putfield 101, 3) := dk_181 0 101 (dk_at dksX6_init_10 17 rfl rfl)
theorem dX6_init_254 : decode cX6_init 254 = .ok (.aload_n 0, 1) := dk_42 (dk_at dksX6_init_10 20 rfl rfl)
theorem dX6_init_255 : decode cX6_init 255 = .ok (.sipush 1088, 3) := dk_17 4 64 (dk_at dksX6_init_10 21 rfl rfl)
theorem dX6_init_258 : decode cX6_init 258 = .ok (.newarray .int, 2) := dk_188_10 (dk_at dksX6_init_11 0 rfl rfl)
theorem dX6_init_260 : decode cX6_init 260 = .ok (.putfield 104, 3) := dk_181 0 104 (dk_at dksX6_init_11 2 rfl rfl)
theorem dX6_init_263 : decode cX6_init 263 = .ok (.aload_n 0, 1) := dk_42 (dk_at dksX6_init_11 5 rfl rfl)
theorem dX6_init_264 : decode cX6_init 264 = .ok (.sipush 1088, 3) := dk_17 4 64 (dk_at dksX6_init_11 6 rfl rfl)
theorem dX6_init_267 : decode cX6_init 267 = .ok (.newarray .int, 2) := dk_188_10 (dk_at dksX6_init_11 9 rfl rfl)
theorem dX6_init_269 : decode cX6_init 269 = .ok (.putfield 107, 3) := dk_181 0 107 (dk_at dksX6_init_11 11 rfl rfl)
theorem dX6_init_272 : decode cX6_init 272 = .ok (.aload_n 0, 1) := dk_42 (dk_at dksX6_init_11 14 rfl rfl)
theorem dX6_init_273 : decode cX6_init 273 = .ok (.bipush 16, 2) := dk_16 16 (dk_at dksX6_init_11 15 rfl rfl)
theorem dX6_init_275 : decode cX6_init 275 = .ok (.newarray .int, 2) := dk_188_10 (dk_at dksX6_init_11 17 rfl rfl)
theorem dX6_init_277 : decode cX6_init 277 = .ok (.putfield 110, 3) := dk_181 0 110 (dk_at dksX6_init_11 19 rfl rfl)
theorem dX6_init_280 : decode cX6_init 280 = .ok (.aload_n 0, 1) := dk_42 (dk_at dksX6_init_11 22 rfl rfl)
theorem dX6_init_281 : decode cX6_init 281 = .ok (.ldc 113, 2) := dk_18 113 (dk_at dksX6_init_12 0 rfl rfl)
theorem dX6_init_283 : decode cX6_init 283 = .ok (.newarray .int, 2) := dk_188_10 (dk_at dksX6_init_12 2 rfl rfl)
theorem dX6_init_285 : decode cX6_init 285 = .ok (.putfield 114, 3) := dk_181 0 114 (dk_at dksX6_init_12 4 rfl rfl)
theorem dX6_init_288 : decode cX6_init 288 = .ok (.aload_n 0, 1) := dk_42 (dk_at dksX6_init_12 7 rfl rfl)
theorem dX6_init_289 : decode cX6_init 289 = .ok (.sipush 144, 3) := dk_17 0 144 (dk_at dksX6_init_12 8 rfl rfl)
theorem dX6_init_292 : decode cX6_init 292 = .ok (.newarray .int, 2) := dk_188_10 (dk_at dksX6_init_12 11 rfl rfl)
theorem dX6_init_294 : decode cX6_init 294 = .ok (.putfield 117, 3) := dk_181 0 117 (dk_at dksX6_init_12 13 rfl rfl)
theorem dX6_init_297 : decode cX6_init 297 = .ok (.aload_n 0, 1) := dk_42 (dk_at dksX6_init_12 16 rfl rfl)
theorem dX6_init_298 : decode cX6_init 298 = .ok (.sipush 256, 3) := dk_17 1 0 (dk_at dksX6_init_12 17 rfl rfl)
theorem dX6_init_301 : decode cX6_init 301 = .ok (.newarray .int, 2) := dk_188_10 (dk_at dksX6_init_12 20 rfl rfl)
theorem dX6_init_303 : decode cX6_init 303 = .ok (.putfield 120, 3) := dk_181 0 120 (dk_at dksX6_init_13 0 rfl rfl)
theorem dX6_init_306 : decode cX6_init 306 = .ok (.aload_n 0, 1) := dk_42 (dk_at dksX6_init_13 3 rfl rfl)
theorem dX6_init_307 : decode cX6_init 307 = .ok (.bipush 13, 2) := dk_16 13 (dk_at dksX6_init_13 4 rfl rfl)
theorem dX6_init_309 : decode cX6_init 309 = .ok (.newarray .long, 2) := dk_188_11 (dk_at dksX6_init_13 6 rfl rfl)
theorem dX6_init_311 : decode cX6_init 311 = .ok (.putfield 123, 3) := dk_181 0 123 (dk_at dksX6_init_13 8 rfl rfl)
theorem dX6_init_314 : decode cX6_init 314 = .ok (.aload_n 0, 1) := dk_42 (dk_at dksX6_init_13 11 rfl rfl)
theorem dX6_init_315 : decode cX6_init 315 = .ok (.bipush 13, 2) := dk_16 13 (dk_at dksX6_init_13 12 rfl rfl)
theorem dX6_init_317 : decode cX6_init 317 = .ok (.newarray .long, 2) := dk_188_11 (dk_at dksX6_init_13 14 rfl rfl)
theorem dX6_init_319 : decode cX6_init 319 = .ok (.putfield 127, 3) := dk_181 0 127 (dk_at dksX6_init_13 16 rfl rfl)
theorem dX6_init_322 : decode cX6_init 322 = .ok (.aload_n 0, 1) := dk_42 (dk_at dksX6_init_13 19 rfl rfl)
theorem dX6_init_323 : decode cX6_init 323 = .ok (.getfield 7, 3) := dk_180 0 7 (dk_at dksX6_init_13 20 rfl rfl)
theorem dX6_init_326 : decode cX6_init 326 = .ok (.bipush 20, 2) := dk_16 20 (dk_at dksX6_init_14 0 rfl rfl)
theorem dX6_init_328 : decode cX6_init 328 = .ok (.iconst 1, 1) := dk_4 (dk_at dksX6_init_14 2 rfl rfl)
theorem dX6_init_329 : decode cX6_init 329 = .ok (.iastore, 1) := dk_79 (dk_at dksX6_init_14 3 rfl rfl)
theorem dX6_init_330 : decode cX6_init 330 = .ok (.aload_n 0, 1) := dk_42 (dk_at dksX6_init_14 4 rfl rfl)
theorem dX6_init_331 : decode cX6_init 331 = .ok (.getfield 7, 3) := dk_180 0 7 (dk_at dksX6_init_14 5 rfl rfl)
theorem dX6_init_334 : decode cX6_init 334 = .ok (.bipush 16, 2) := dk_16 16 (dk_at dksX6_init_14 8 rfl rfl)
theorem dX6_init_336 : decode cX6_init 336 = .ok (.iconst (-1), 1) := dk_2 (dk_at dksX6_init_14 10 rfl rfl)
theorem dX6_init_337 : decode cX6_init 337 = .ok (.iastore, 1) := dk_79 (dk_at dksX6_init_14 11 rfl rfl)
theorem dX6_init_338 : decode cX6_init 338 = .ok (.iconst 0, 1) := dk_3 (dk_at dksX6_init_14 12 rfl rfl)
theorem dX6_init_339 : decode cX6_init 339 = .ok (.istore_n 1, 1) := dk_60 (dk_at dksX6_init_14 13 rfl rfl)
theorem dX6_init_340 : decode cX6_init 340 = .ok (.iload_n 1, 1) := dk_27 (dk_at dksX6_init_14 14 rfl rfl)
theorem dX6_init_341 : decode cX6_init 341 = .ok (.bipush 12, 2) := dk_16 12 (dk_at dksX6_init_14 15 rfl rfl)
theorem dX6_init_343 : decode cX6_init 343 = .ok (.if_icmp .ge 16, 3) := dk_162 0 16 (dk_at dksX6_init_14 17 rfl rfl)
theorem dX6_init_346 : decode cX6_init 346 = .ok (.aload_n 0, 1) := dk_42 (dk_at dksX6_init_14 20 rfl rfl)
theorem dX6_init_347 : decode cX6_init 347 = .ok (.getfield 19, 3) := dk_180 0 19 (dk_at dksX6_init_14 21 rfl rfl)
theorem dX6_init_350 : decode cX6_init 350 = .ok (.iload_n 1, 1) := dk_27 (dk_at dksX6_init_15 0 rfl rfl)
theorem dX6_init_351 : decode cX6_init 351 = .ok (.iconst (-1), 1) := dk_2 (dk_at dksX6_init_15 1 rfl rfl)
theorem dX6_init_352 : decode cX6_init 352 = .ok (.iastore, 1) := dk_79 (dk_at dksX6_init_15 2 rfl rfl)
theorem dX6_init_353 : decode cX6_init 353 = .ok (.iinc 1 1, 3) := dk_132 1 1 (dk_at dksX6_init_15 3 rfl rfl)
theorem dX6_init_356 : decode cX6_init 356 = .ok (.goto (-16), 3) := dk_167 255 240 (dk_at dksX6_init_15 6 rfl rfl)
theorem dX6_init_359 : decode cX6_init 359 = .ok (.return_, 1) := dk_177 (dk_at dksX6_init_15 9 rfl rfl)
abbrev cX6_turn : ByteArray := prog_20_method_16_code
def yX6_turn : MethodName := ⟨RX6, "turn", "(II)Z"⟩
def dkwX6_turn_1 : List UInt8 := [180, 0, 19, 27, 28, 79, 4, 172]
abbrev dktX6_turn_1 : List UInt8 := dkwX6_turn_1 ++ []
def dkwX6_turn_0 : List UInt8 := [27, 184, 0, 156, 153, 0, 16, 28, 2, 159, 0, 13, 42, 28, 182, 0, 159, 154, 0, 5, 3, 172, 42]
abbrev dktX6_turn_0 : List UInt8 := dkwX6_turn_0 ++ dktX6_turn_1
theorem dksX6_turn_0 : cX6_turn.data.toList.drop 0 = dktX6_turn_0 := by decide +kernel
theorem dksX6_turn_1 : cX6_turn.data.toList.drop 23 = dktX6_turn_1 := dk_seg dksX6_turn_0 23 rfl rfl
theorem dX6_turn_0 : decode cX6_turn 0 = .ok (.iload_n 1, 1) := dk_27 (dk_at dksX6_turn_0 0 rfl rfl)
theorem dX6_turn_1 : decode cX6_turn 1 = .ok (.invokestatic 156, 3) := dk_184 0 156 (dk_at dksX6_turn_0 1 rfl rfl)
theorem dX6_turn_4 : decode cX6_turn 4 = .ok (.ifCond .eq 16, 3) := dk_153 0 16 (dk_at dksX6_turn_0 4 rfl rfl)
theorem dX6_turn_7 : decode cX6_turn 7 = .ok (.iload_n 2, 1) := dk_28 (dk_at dksX6_turn_0 7 rfl rfl)
theorem dX6_turn_8 : decode cX6_turn 8 = .ok (.iconst (-1), 1) := dk_2 (dk_at dksX6_turn_0 8 rfl rfl)
theorem dX6_turn_9 : decode cX6_turn 9 = .ok (.if_icmp .eq 13, 3) := dk_159 0 13 (dk_at dksX6_turn_0 9 rfl rfl)
theorem dX6_turn_12 : decode cX6_turn 12 = .ok (.aload_n 0, 1) := dk_42 (dk_at dksX6_turn_0 12 rfl rfl)
theorem dX6_turn_13 : decode cX6_turn 13 = .ok (.iload_n 2, 1) := dk_28 (dk_at dksX6_turn_0 13 rfl rfl)
theorem dX6_turn_14 : decode cX6_turn 14 = .ok (.invokevirtual 159, 3) := dk_182 0 159 (dk_at dksX6_turn_0 14 rfl rfl)
theorem dX6_turn_17 : decode cX6_turn 17 = .ok (.ifCond .ne 5, 3) := dk_154 0 5 (dk_at dksX6_turn_0 17 rfl rfl)
theorem dX6_turn_20 : decode cX6_turn 20 = .ok (.iconst 0, 1) := dk_3 (dk_at dksX6_turn_0 20 rfl rfl)
theorem dX6_turn_21 : decode cX6_turn 21 = .ok (.ireturn, 1) := dk_172 (dk_at dksX6_turn_0 21 rfl rfl)
theorem dX6_turn_22 : decode cX6_turn 22 = .ok (.aload_n 0, 1) := dk_42 (dk_at dksX6_turn_0 22 rfl rfl)
theorem dX6_turn_23 : decode cX6_turn 23 = .ok (.getfield 19, 3) := dk_180 0 19 (dk_at dksX6_turn_1 0 rfl rfl)
theorem dX6_turn_26 : decode cX6_turn 26 = .ok (.iload_n 1, 1) := dk_27 (dk_at dksX6_turn_1 3 rfl rfl)
theorem dX6_turn_27 : decode cX6_turn 27 = .ok (.iload_n 2, 1) := dk_28 (dk_at dksX6_turn_1 4 rfl rfl)
theorem dX6_turn_28 : decode cX6_turn 28 = .ok (.iastore, 1) := dk_79 (dk_at dksX6_turn_1 5 rfl rfl)
theorem dX6_turn_29 : decode cX6_turn 29 = .ok (.iconst 1, 1) := dk_4 (dk_at dksX6_turn_1 6 rfl rfl)
theorem dX6_turn_30 : decode cX6_turn 30 = .ok (.ireturn, 1) := dk_172 (dk_at dksX6_turn_1 7 rfl rfl)
abbrev cX6_isTurn : ByteArray := prog_20_method_12_code
def yX6_isTurn : MethodName := ⟨RX6, "isTurn", "(I)Z"⟩
def dkwX6_isTurn_0 : List UInt8 := [26, 3, 16, 11, 184, 0, 134, 172]
abbrev dktX6_isTurn_0 : List UInt8 := dkwX6_isTurn_0 ++ []
theorem dksX6_isTurn_0 : cX6_isTurn.data.toList.drop 0 = dktX6_isTurn_0 := by decide +kernel
theorem dX6_isTurn_0 : decode cX6_isTurn 0 = .ok (.iload_n 0, 1) := dk_26 (dk_at dksX6_isTurn_0 0 rfl rfl)
theorem dX6_isTurn_1 : decode cX6_isTurn 1 = .ok (.iconst 0, 1) := dk_3 (dk_at dksX6_isTurn_0 1 rfl rfl)
theorem dX6_isTurn_2 : decode cX6_isTurn 2 = .ok (.bipush 11, 2) := dk_16 11 (dk_at dksX6_isTurn_0 2 rfl rfl)
theorem dX6_isTurn_4 : decode cX6_isTurn 4 = .ok (.invokestatic 134, 3) := dk_184 0 134 (dk_at dksX6_isTurn_0 4 rfl rfl)
theorem dX6_isTurn_7 : decode cX6_isTurn 7 = .ok (.ireturn, 1) := dk_172 (dk_at dksX6_isTurn_0 7 rfl rfl)
abbrev cX6_in : ByteArray := prog_20_method_2_code
def yX6_in : MethodName := ⟨RX6, "in", "(III)Z"⟩
def dkwX6_in_0 : List UInt8 := [26, 27, 161, 0, 12, 26, 28, 163, 0, 7, 4, 167, 0, 4, 3, 172]
abbrev dktX6_in_0 : List UInt8 := dkwX6_in_0 ++ []
theorem dksX6_in_0 : cX6_in.data.toList.drop 0 = dktX6_in_0 := by decide +kernel
theorem dX6_in_0 : decode cX6_in 0 = .ok (.iload_n 0, 1) := dk_26 (dk_at dksX6_in_0 0 rfl rfl)
theorem dX6_in_1 : decode cX6_in 1 = .ok (.iload_n 1, 1) := dk_27 (dk_at dksX6_in_0 1 rfl rfl)
theorem dX6_in_2 : decode cX6_in 2 = .ok (.if_icmp .lt 12, 3) := dk_161 0 12 (dk_at dksX6_in_0 2 rfl rfl)
theorem dX6_in_5 : decode cX6_in 5 = .ok (.iload_n 0, 1) := dk_26 (dk_at dksX6_in_0 5 rfl rfl)
theorem dX6_in_6 : decode cX6_in 6 = .ok (.iload_n 2, 1) := dk_28 (dk_at dksX6_in_0 6 rfl rfl)
theorem dX6_in_7 : decode cX6_in 7 = .ok (.if_icmp .gt 7, 3) := dk_163 0 7 (dk_at dksX6_in_0 7 rfl rfl)
theorem dX6_in_10 : decode cX6_in 10 = .ok (.iconst 1, 1) := dk_4 (dk_at dksX6_in_0 10 rfl rfl)
theorem dX6_in_11 : decode cX6_in 11 = .ok (.goto 4, 3) := dk_167 0 4 (dk_at dksX6_in_0 11 rfl rfl)
theorem dX6_in_14 : decode cX6_in 14 = .ok (.iconst 0, 1) := dk_3 (dk_at dksX6_in_0 14 rfl rfl)
theorem dX6_in_15 : decode cX6_in 15 = .ok (.ireturn, 1) := dk_172 (dk_at dksX6_in_0 15 rfl rfl)
abbrev cX6_isHouse : ByteArray := prog_20_method_10_code
def yX6_isHouse : MethodName := ⟨RX6, "isHouse", "(I)Z"⟩
def dkwX6_isHouse_1 : List UInt8 := [167, 0, 4, 3, 172]
abbrev dktX6_isHouse_1 : List UInt8 := dkwX6_isHouse_1 ++ []
def dkwX6_isHouse_0 : List UInt8 := [27, 3, 16, 15, 184, 0, 134, 153, 0, 18, 42, 180, 0, 138, 27, 184, 0, 130, 153, 0, 7, 4]
abbrev dktX6_isHouse_0 : List UInt8 := dkwX6_isHouse_0 ++ dktX6_isHouse_1
theorem dksX6_isHouse_0 : cX6_isHouse.data.toList.drop 0 = dktX6_isHouse_0 := by decide +kernel
theorem dksX6_isHouse_1 : cX6_isHouse.data.toList.drop 22 = dktX6_isHouse_1 := dk_seg dksX6_isHouse_0 22 rfl rfl
theorem dX6_isHouse_0 : decode cX6_isHouse 0 = .ok (.iload_n 1, 1) := dk_27 (dk_at dksX6_isHouse_0 0 rfl rfl)
theorem dX6_isHouse_1 : decode cX6_isHouse 1 = .ok (.iconst 0, 1) := dk_3 (dk_at dksX6_isHouse_0 1 rfl rfl)
theorem dX6_isHouse_2 : decode cX6_isHouse 2 = .ok (.bipush 15, 2) := dk_16 15 (dk_at dksX6_isHouse_0 2 rfl rfl)
theorem dX6_isHouse_4 : decode cX6_isHouse 4 = .ok (.invokestatic 134, 3) := dk_184 0 134 (dk_at dksX6_isHouse_0 4 rfl rfl)
theorem dX6_isHouse_7 : decode cX6_isHouse 7 = .ok (.ifCond .eq 18, 3) := dk_153 0 18 (dk_at dksX6_isHouse_0 7 rfl rfl)
theorem dX6_isHouse_10 : decode cX6_isHouse 10 = .ok (.aload_n 0, 1) := dk_42 (dk_at dksX6_isHouse_0 10 rfl rfl)
theorem dX6_isHouse_11 : decode cX6_isHouse 11 = .ok (.getfield 138, 3) := dk_180 0 138 (dk_at dksX6_isHouse_0 11 rfl rfl)
theorem dX6_isHouse_14 : decode cX6_isHouse 14 = .ok (.iload_n 1, 1) := dk_27 (dk_at dksX6_isHouse_0 14 rfl rfl)
theorem dX6_isHouse_15 : decode cX6_isHouse 15 = .ok (.invokestatic 130, 3) := dk_184 0 130 (dk_at dksX6_isHouse_0 15 rfl rfl)
theorem dX6_isHouse_18 : decode cX6_isHouse 18 = .ok (.ifCond .eq 7, 3) := dk_153 0 7 (dk_at dksX6_isHouse_0 18 rfl rfl)
theorem dX6_isHouse_21 : decode cX6_isHouse 21 = .ok (.iconst 1, 1) := dk_4 (dk_at dksX6_isHouse_0 21 rfl rfl)
theorem dX6_isHouse_22 : decode cX6_isHouse 22 = .ok (.goto 4, 3) := dk_167 0 4 (dk_at dksX6_isHouse_1 0 rfl rfl)
theorem dX6_isHouse_25 : decode cX6_isHouse 25 = .ok (.iconst 0, 1) := dk_3 (dk_at dksX6_isHouse_1 3 rfl rfl)
theorem dX6_isHouse_26 : decode cX6_isHouse 26 = .ok (.ireturn, 1) := dk_172 (dk_at dksX6_isHouse_1 4 rfl rfl)
abbrev cX6_has : ByteArray := prog_20_method_6_code
def yX6_has : MethodName := ⟨RX6, "has", "(II)Z"⟩
def dkwX6_has_0 : List UInt8 := [26, 27, 122, 4, 126, 4, 160, 0, 7, 4, 167, 0, 4, 3, 172]
abbrev dktX6_has_0 : List UInt8 := dkwX6_has_0 ++ []
theorem dksX6_has_0 : cX6_has.data.toList.drop 0 = dktX6_has_0 := by decide +kernel
theorem dX6_has_0 : decode cX6_has 0 = .ok (.iload_n 0, 1) := dk_26 (dk_at dksX6_has_0 0 rfl rfl)
theorem dX6_has_1 : decode cX6_has 1 = .ok (.iload_n 1, 1) := dk_27 (dk_at dksX6_has_0 1 rfl rfl)
theorem dX6_has_2 : decode cX6_has 2 = .ok (.ishr, 1) := dk_122 (dk_at dksX6_has_0 2 rfl rfl)
theorem dX6_has_3 : decode cX6_has 3 = .ok (.iconst 1, 1) := dk_4 (dk_at dksX6_has_0 3 rfl rfl)
theorem dX6_has_4 : decode cX6_has 4 = .ok (.iand, 1) := dk_126 (dk_at dksX6_has_0 4 rfl rfl)
theorem dX6_has_5 : decode cX6_has 5 = .ok (.iconst 1, 1) := dk_4 (dk_at dksX6_has_0 5 rfl rfl)
theorem dX6_has_6 : decode cX6_has 6 = .ok (.if_icmp .ne 7, 3) := dk_160 0 7 (dk_at dksX6_has_0 6 rfl rfl)
theorem dX6_has_9 : decode cX6_has 9 = .ok (.iconst 1, 1) := dk_4 (dk_at dksX6_has_0 9 rfl rfl)
theorem dX6_has_10 : decode cX6_has 10 = .ok (.goto 4, 3) := dk_167 0 4 (dk_at dksX6_has_0 10 rfl rfl)
theorem dX6_has_13 : decode cX6_has 13 = .ok (.iconst 0, 1) := dk_3 (dk_at dksX6_has_0 13 rfl rfl)
theorem dX6_has_14 : decode cX6_has 14 = .ok (.ireturn, 1) := dk_172 (dk_at dksX6_has_0 14 rfl rfl)
abbrev cX6_sees : ByteArray := prog_20_method_17_code
def yX6_sees : MethodName := ⟨RX6, "sees", "(II)I"⟩
def dkwX6_sees_1 : List UInt8 := [2, 172]
abbrev dktX6_sees_1 : List UInt8 := dkwX6_sees_1 ++ []
def dkwX6_sees_0 : List UInt8 := [42, 27, 182, 0, 159, 153, 0, 19, 28, 184, 0, 156, 153, 0, 12, 42, 27, 28, 182, 0, 152, 167, 0, 4]
abbrev dktX6_sees_0 : List UInt8 := dkwX6_sees_0 ++ dktX6_sees_1
theorem dksX6_sees_0 : cX6_sees.data.toList.drop 0 = dktX6_sees_0 := by decide +kernel
theorem dksX6_sees_1 : cX6_sees.data.toList.drop 24 = dktX6_sees_1 := dk_seg dksX6_sees_0 24 rfl rfl
theorem dX6_sees_0 : decode cX6_sees 0 = .ok (.aload_n 0, 1) := dk_42 (dk_at dksX6_sees_0 0 rfl rfl)
theorem dX6_sees_1 : decode cX6_sees 1 = .ok (.iload_n 1, 1) := dk_27 (dk_at dksX6_sees_0 1 rfl rfl)
theorem dX6_sees_2 : decode cX6_sees 2 = .ok (.invokevirtual 159, 3) := dk_182 0 159 (dk_at dksX6_sees_0 2 rfl rfl)
theorem dX6_sees_5 : decode cX6_sees 5 = .ok (.ifCond .eq 19, 3) := dk_153 0 19 (dk_at dksX6_sees_0 5 rfl rfl)
theorem dX6_sees_8 : decode cX6_sees 8 = .ok (.iload_n 2, 1) := dk_28 (dk_at dksX6_sees_0 8 rfl rfl)
theorem dX6_sees_9 : decode cX6_sees 9 = .ok (.invokestatic 156, 3) := dk_184 0 156 (dk_at dksX6_sees_0 9 rfl rfl)
theorem dX6_sees_12 : decode cX6_sees 12 = .ok (.ifCond .eq 12, 3) := dk_153 0 12 (dk_at dksX6_sees_0 12 rfl rfl)
theorem dX6_sees_15 : decode cX6_sees 15 = .ok (.aload_n 0, 1) := dk_42 (dk_at dksX6_sees_0 15 rfl rfl)
theorem dX6_sees_16 : decode cX6_sees 16 = .ok (.iload_n 1, 1) := dk_27 (dk_at dksX6_sees_0 16 rfl rfl)
theorem dX6_sees_17 : decode cX6_sees 17 = .ok (.iload_n 2, 1) := dk_28 (dk_at dksX6_sees_0 17 rfl rfl)
theorem dX6_sees_18 : decode cX6_sees 18 = .ok (.invokevirtual 152, 3) := dk_182 0 152 (dk_at dksX6_sees_0 18 rfl rfl)
theorem dX6_sees_21 : decode cX6_sees 21 = .ok (.goto 4, 3) := dk_167 0 4 (dk_at dksX6_sees_0 21 rfl rfl)
theorem dX6_sees_24 : decode cX6_sees 24 = .ok (.iconst (-1), 1) := dk_2 (dk_at dksX6_sees_1 0 rfl rfl)
theorem dX6_sees_25 : decode cX6_sees 25 = .ok (.ireturn, 1) := dk_172 (dk_at dksX6_sees_1 1 rfl rfl)
abbrev cX6_seenBy : ByteArray := prog_20_method_14_code
def yX6_seenBy : MethodName := ⟨RX6, "seenBy", "(II)I"⟩
def dkwX6_seenBy_1 : List UInt8 := [21, 4, 28, 182, 0, 149, 153, 0, 10, 29, 4, 21, 4, 120, 128, 62, 132, 4, 1, 167, 255, 219, 29, 172]
abbrev dktX6_seenBy_1 : List UInt8 := dkwX6_seenBy_1 ++ []
def dkwX6_seenBy_0 : List UInt8 := [3, 62, 3, 54, 4, 21, 4, 16, 16, 162, 0, 36, 42, 21, 4, 182, 0, 145, 153, 0, 21, 42, 27]
abbrev dktX6_seenBy_0 : List UInt8 := dkwX6_seenBy_0 ++ dktX6_seenBy_1
theorem dksX6_seenBy_0 : cX6_seenBy.data.toList.drop 0 = dktX6_seenBy_0 := by decide +kernel
theorem dksX6_seenBy_1 : cX6_seenBy.data.toList.drop 23 = dktX6_seenBy_1 := dk_seg dksX6_seenBy_0 23 rfl rfl
theorem dX6_seenBy_0 : decode cX6_seenBy 0 = .ok (.iconst 0, 1) := dk_3 (dk_at dksX6_seenBy_0 0 rfl rfl)
theorem dX6_seenBy_1 : decode cX6_seenBy 1 = .ok (.istore_n 3, 1) := dk_62 (dk_at dksX6_seenBy_0 1 rfl rfl)
theorem dX6_seenBy_2 : decode cX6_seenBy 2 = .ok (.iconst 0, 1) := dk_3 (dk_at dksX6_seenBy_0 2 rfl rfl)
theorem dX6_seenBy_3 : decode cX6_seenBy 3 = .ok (.istore 4, 2) := dk_54 4 (dk_at dksX6_seenBy_0 3 rfl rfl)
theorem dX6_seenBy_5 : decode cX6_seenBy 5 = .ok (.iload 4, 2) := dk_21 4 (dk_at dksX6_seenBy_0 5 rfl rfl)
theorem dX6_seenBy_7 : decode cX6_seenBy 7 = .ok (.bipush 16, 2) := dk_16 16 (dk_at dksX6_seenBy_0 7 rfl rfl)
theorem dX6_seenBy_9 : decode cX6_seenBy 9 = .ok (.if_icmp .ge 36, 3) := dk_162 0 36 (dk_at dksX6_seenBy_0 9 rfl rfl)
theorem dX6_seenBy_12 : decode cX6_seenBy 12 = .ok (.aload_n 0, 1) := dk_42 (dk_at dksX6_seenBy_0 12 rfl rfl)
theorem dX6_seenBy_13 : decode cX6_seenBy 13 = .ok (.iload 4, 2) := dk_21 4 (dk_at dksX6_seenBy_0 13 rfl rfl)
theorem dX6_seenBy_15 : decode cX6_seenBy 15 = .ok (.invokevirtual 145, 3) := dk_182 0 145 (dk_at dksX6_seenBy_0 15 rfl rfl)
theorem dX6_seenBy_18 : decode cX6_seenBy 18 = .ok (.ifCond .eq 21, 3) := dk_153 0 21 (dk_at dksX6_seenBy_0 18 rfl rfl)
theorem dX6_seenBy_21 : decode cX6_seenBy 21 = .ok (.aload_n 0, 1) := dk_42 (dk_at dksX6_seenBy_0 21 rfl rfl)
theorem dX6_seenBy_22 : decode cX6_seenBy 22 = .ok (.iload_n 1, 1) := dk_27 (dk_at dksX6_seenBy_0 22 rfl rfl)
theorem dX6_seenBy_23 : decode cX6_seenBy 23 = .ok (.iload 4, 2) := dk_21 4 (dk_at dksX6_seenBy_1 0 rfl rfl)
theorem dX6_seenBy_25 : decode cX6_seenBy 25 = .ok (.iload_n 2, 1) := dk_28 (dk_at dksX6_seenBy_1 2 rfl rfl)
theorem dX6_seenBy_26 : decode cX6_seenBy 26 = .ok (.invokevirtual 149, 3) := dk_182 0 149 (dk_at dksX6_seenBy_1 3 rfl rfl)
theorem dX6_seenBy_29 : decode cX6_seenBy 29 = .ok (.ifCond .eq 10, 3) := dk_153 0 10 (dk_at dksX6_seenBy_1 6 rfl rfl)
theorem dX6_seenBy_32 : decode cX6_seenBy 32 = .ok (.iload_n 3, 1) := dk_29 (dk_at dksX6_seenBy_1 9 rfl rfl)
theorem dX6_seenBy_33 : decode cX6_seenBy 33 = .ok (.iconst 1, 1) := dk_4 (dk_at dksX6_seenBy_1 10 rfl rfl)
theorem dX6_seenBy_34 : decode cX6_seenBy 34 = .ok (.iload 4, 2) := dk_21 4 (dk_at dksX6_seenBy_1 11 rfl rfl)
theorem dX6_seenBy_36 : decode cX6_seenBy 36 = .ok (.ishl, 1) := dk_120 (dk_at dksX6_seenBy_1 13 rfl rfl)
theorem dX6_seenBy_37 : decode cX6_seenBy 37 = .ok (.ior, 1) := dk_128 (dk_at dksX6_seenBy_1 14 rfl rfl)
theorem dX6_seenBy_38 : decode cX6_seenBy 38 = .ok (.istore_n 3, 1) := dk_62 (dk_at dksX6_seenBy_1 15 rfl rfl)
theorem dX6_seenBy_39 : decode cX6_seenBy 39 = .ok (.iinc 4 1, 3) := dk_132 4 1 (dk_at dksX6_seenBy_1 16 rfl rfl)
theorem dX6_seenBy_42 : decode cX6_seenBy 42 = .ok (.goto (-37), 3) := dk_167 255 219 (dk_at dksX6_seenBy_1 19 rfl rfl)
theorem dX6_seenBy_45 : decode cX6_seenBy 45 = .ok (.iload_n 3, 1) := dk_29 (dk_at dksX6_seenBy_1 22 rfl rfl)
theorem dX6_seenBy_46 : decode cX6_seenBy 46 = .ok (.ireturn, 1) := dk_172 (dk_at dksX6_seenBy_1 23 rfl rfl)
abbrev cX6_isThing : ByteArray := prog_20_method_11_code
def yX6_isThing : MethodName := ⟨RX6, "isThing", "(I)Z"⟩
def dkwX6_isThing_1 : List UInt8 := [167, 0, 4, 3, 172]
abbrev dktX6_isThing_1 : List UInt8 := dkwX6_isThing_1 ++ []
def dkwX6_isThing_0 : List UInt8 := [27, 3, 16, 15, 184, 0, 134, 153, 0, 18, 42, 180, 0, 142, 27, 184, 0, 130, 153, 0, 7, 4]
abbrev dktX6_isThing_0 : List UInt8 := dkwX6_isThing_0 ++ dktX6_isThing_1
theorem dksX6_isThing_0 : cX6_isThing.data.toList.drop 0 = dktX6_isThing_0 := by decide +kernel
theorem dksX6_isThing_1 : cX6_isThing.data.toList.drop 22 = dktX6_isThing_1 := dk_seg dksX6_isThing_0 22 rfl rfl
theorem dX6_isThing_0 : decode cX6_isThing 0 = .ok (.iload_n 1, 1) := dk_27 (dk_at dksX6_isThing_0 0 rfl rfl)
theorem dX6_isThing_1 : decode cX6_isThing 1 = .ok (.iconst 0, 1) := dk_3 (dk_at dksX6_isThing_0 1 rfl rfl)
theorem dX6_isThing_2 : decode cX6_isThing 2 = .ok (.bipush 15, 2) := dk_16 15 (dk_at dksX6_isThing_0 2 rfl rfl)
theorem dX6_isThing_4 : decode cX6_isThing 4 = .ok (.invokestatic 134, 3) := dk_184 0 134 (dk_at dksX6_isThing_0 4 rfl rfl)
theorem dX6_isThing_7 : decode cX6_isThing 7 = .ok (.ifCond .eq 18, 3) := dk_153 0 18 (dk_at dksX6_isThing_0 7 rfl rfl)
theorem dX6_isThing_10 : decode cX6_isThing 10 = .ok (.aload_n 0, 1) := dk_42 (dk_at dksX6_isThing_0 10 rfl rfl)
theorem dX6_isThing_11 : decode cX6_isThing 11 = .ok (.getfield 142, 3) := dk_180 0 142 (dk_at dksX6_isThing_0 11 rfl rfl)
theorem dX6_isThing_14 : decode cX6_isThing 14 = .ok (.iload_n 1, 1) := dk_27 (dk_at dksX6_isThing_0 14 rfl rfl)
theorem dX6_isThing_15 : decode cX6_isThing 15 = .ok (.invokestatic 130, 3) := dk_184 0 130 (dk_at dksX6_isThing_0 15 rfl rfl)
theorem dX6_isThing_18 : decode cX6_isThing 18 = .ok (.ifCond .eq 7, 3) := dk_153 0 7 (dk_at dksX6_isThing_0 18 rfl rfl)
theorem dX6_isThing_21 : decode cX6_isThing 21 = .ok (.iconst 1, 1) := dk_4 (dk_at dksX6_isThing_0 21 rfl rfl)
theorem dX6_isThing_22 : decode cX6_isThing 22 = .ok (.goto 4, 3) := dk_167 0 4 (dk_at dksX6_isThing_1 0 rfl rfl)
theorem dX6_isThing_25 : decode cX6_isThing 25 = .ok (.iconst 0, 1) := dk_3 (dk_at dksX6_isThing_1 3 rfl rfl)
theorem dX6_isThing_26 : decode cX6_isThing 26 = .ok (.ireturn, 1) := dk_172 (dk_at dksX6_isThing_1 4 rfl rfl)
abbrev cX6_isSeen : ByteArray := prog_20_method_13_code
def yX6_isSeen : MethodName := ⟨RX6, "isSeen", "(III)Z"⟩
def dkwX6_isSeen_4 : List UInt8 := [167, 0, 4, 3, 54, 6, 21, 5, 153, 0, 12, 21, 6, 153, 0, 7, 4, 167, 0, 4, 3, 172]
abbrev dktX6_isSeen_4 : List UInt8 := dkwX6_isSeen_4 ++ []
def dkwX6_isSeen_3 : List UInt8 := [167, 0, 28, 29, 42, 180, 0, 28, 28, 46, 162, 0, 13, 29, 42, 180, 0, 31, 28, 46, 163, 0, 7, 4]
abbrev dktX6_isSeen_3 : List UInt8 := dkwX6_isSeen_3 ++ dktX6_isSeen_4
def dkwX6_isSeen_2 : List UInt8 := [180, 0, 31, 28, 46, 163, 0, 22, 29, 42, 180, 0, 28, 28, 46, 42, 180, 0, 31, 28, 46, 184, 0, 134]
abbrev dktX6_isSeen_2 : List UInt8 := dkwX6_isSeen_2 ++ dktX6_isSeen_3
def dkwX6_isSeen_1 : List UInt8 := [161, 0, 10, 21, 4, 16, 11, 160, 0, 7, 4, 167, 0, 4, 3, 54, 5, 42, 180, 0, 28, 28, 46, 42]
abbrev dktX6_isSeen_1 : List UInt8 := dkwX6_isSeen_1 ++ dktX6_isSeen_2
def dkwX6_isSeen_0 : List UInt8 := [42, 180, 0, 25, 28, 46, 42, 180, 0, 22, 27, 46, 100, 16, 12, 96, 16, 12, 112, 54, 4, 21, 4, 5]
abbrev dktX6_isSeen_0 : List UInt8 := dkwX6_isSeen_0 ++ dktX6_isSeen_1
theorem dksX6_isSeen_0 : cX6_isSeen.data.toList.drop 0 = dktX6_isSeen_0 := by decide +kernel
theorem dksX6_isSeen_1 : cX6_isSeen.data.toList.drop 24 = dktX6_isSeen_1 := dk_seg dksX6_isSeen_0 24 rfl rfl
theorem dksX6_isSeen_2 : cX6_isSeen.data.toList.drop 48 = dktX6_isSeen_2 := dk_seg dksX6_isSeen_1 24 rfl rfl
theorem dksX6_isSeen_3 : cX6_isSeen.data.toList.drop 72 = dktX6_isSeen_3 := dk_seg dksX6_isSeen_2 24 rfl rfl
theorem dksX6_isSeen_4 : cX6_isSeen.data.toList.drop 96 = dktX6_isSeen_4 := dk_seg dksX6_isSeen_3 24 rfl rfl
theorem dX6_isSeen_0 : decode cX6_isSeen 0 = .ok (.aload_n 0, 1) := dk_42 (dk_at dksX6_isSeen_0 0 rfl rfl)
theorem dX6_isSeen_1 : decode cX6_isSeen 1 = .ok (.getfield 25, 3) := dk_180 0 25 (dk_at dksX6_isSeen_0 1 rfl rfl)
theorem dX6_isSeen_4 : decode cX6_isSeen 4 = .ok (.iload_n 2, 1) := dk_28 (dk_at dksX6_isSeen_0 4 rfl rfl)
theorem dX6_isSeen_5 : decode cX6_isSeen 5 = .ok (.iaload, 1) := dk_46 (dk_at dksX6_isSeen_0 5 rfl rfl)
theorem dX6_isSeen_6 : decode cX6_isSeen 6 = .ok (.aload_n 0, 1) := dk_42 (dk_at dksX6_isSeen_0 6 rfl rfl)
theorem dX6_isSeen_7 : decode cX6_isSeen 7 = .ok (.getfield 22, 3) := dk_180 0 22 (dk_at dksX6_isSeen_0 7 rfl rfl)
theorem dX6_isSeen_10 : decode cX6_isSeen 10 = .ok (.iload_n 1, 1) := dk_27 (dk_at dksX6_isSeen_0 10 rfl rfl)
theorem dX6_isSeen_11 : decode cX6_isSeen 11 = .ok (.iaload, 1) := dk_46 (dk_at dksX6_isSeen_0 11 rfl rfl)
theorem dX6_isSeen_12 : decode cX6_isSeen 12 = .ok (.isub, 1) := dk_100 (dk_at dksX6_isSeen_0 12 rfl rfl)
theorem dX6_isSeen_13 : decode cX6_isSeen 13 = .ok (.bipush 12, 2) := dk_16 12 (dk_at dksX6_isSeen_0 13 rfl rfl)
theorem dX6_isSeen_15 : decode cX6_isSeen 15 = .ok (.iadd, 1) := dk_96 (dk_at dksX6_isSeen_0 15 rfl rfl)
theorem dX6_isSeen_16 : decode cX6_isSeen 16 = .ok (.bipush 12, 2) := dk_16 12 (dk_at dksX6_isSeen_0 16 rfl rfl)
theorem dX6_isSeen_18 : decode cX6_isSeen 18 = .ok (.irem, 1) := dk_112 (dk_at dksX6_isSeen_0 18 rfl rfl)
theorem dX6_isSeen_19 : decode cX6_isSeen 19 = .ok (.istore 4, 2) := dk_54 4 (dk_at dksX6_isSeen_0 19 rfl rfl)
theorem dX6_isSeen_21 : decode cX6_isSeen 21 = .ok (.iload 4, 2) := dk_21 4 (dk_at dksX6_isSeen_0 21 rfl rfl)
theorem dX6_isSeen_23 : decode cX6_isSeen 23 = .ok (.iconst 2, 1) := dk_5 (dk_at dksX6_isSeen_0 23 rfl rfl)
theorem dX6_isSeen_24 : decode cX6_isSeen 24 = .ok (.if_icmp .lt 10, 3) := dk_161 0 10 (dk_at dksX6_isSeen_1 0 rfl rfl)
theorem dX6_isSeen_27 : decode cX6_isSeen 27 = .ok (.iload 4, 2) := dk_21 4 (dk_at dksX6_isSeen_1 3 rfl rfl)
theorem dX6_isSeen_29 : decode cX6_isSeen 29 = .ok (.bipush 11, 2) := dk_16 11 (dk_at dksX6_isSeen_1 5 rfl rfl)
theorem dX6_isSeen_31 : decode cX6_isSeen 31 = .ok (.if_icmp .ne 7, 3) := dk_160 0 7 (dk_at dksX6_isSeen_1 7 rfl rfl)
theorem dX6_isSeen_34 : decode cX6_isSeen 34 = .ok (.iconst 1, 1) := dk_4 (dk_at dksX6_isSeen_1 10 rfl rfl)
theorem dX6_isSeen_35 : decode cX6_isSeen 35 = .ok (.goto 4, 3) := dk_167 0 4 (dk_at dksX6_isSeen_1 11 rfl rfl)
theorem dX6_isSeen_38 : decode cX6_isSeen 38 = .ok (.iconst 0, 1) := dk_3 (dk_at dksX6_isSeen_1 14 rfl rfl)
theorem dX6_isSeen_39 : decode cX6_isSeen 39 = .ok (.istore 5, 2) := dk_54 5 (dk_at dksX6_isSeen_1 15 rfl rfl)
theorem dX6_isSeen_41 : decode cX6_isSeen 41 = .ok (.aload_n 0, 1) := dk_42 (dk_at dksX6_isSeen_1 17 rfl rfl)
theorem dX6_isSeen_42 : decode cX6_isSeen 42 = .ok (.getfield 28, 3) := dk_180 0 28 (dk_at dksX6_isSeen_1 18 rfl rfl)
theorem dX6_isSeen_45 : decode cX6_isSeen 45 = .ok (.iload_n 2, 1) := dk_28 (dk_at dksX6_isSeen_1 21 rfl rfl)
theorem dX6_isSeen_46 : decode cX6_isSeen 46 = .ok (.iaload, 1) := dk_46 (dk_at dksX6_isSeen_1 22 rfl rfl)
theorem dX6_isSeen_47 : decode cX6_isSeen 47 = .ok (.aload_n 0, 1) := dk_42 (dk_at dksX6_isSeen_1 23 rfl rfl)
theorem dX6_isSeen_48 : decode cX6_isSeen 48 = .ok (.getfield 31, 3) := dk_180 0 31 (dk_at dksX6_isSeen_2 0 rfl rfl)
theorem dX6_isSeen_51 : decode cX6_isSeen 51 = .ok (.iload_n 2, 1) := dk_28 (dk_at dksX6_isSeen_2 3 rfl rfl)
theorem dX6_isSeen_52 : decode cX6_isSeen 52 = .ok (.iaload, 1) := dk_46 (dk_at dksX6_isSeen_2 4 rfl rfl)
theorem dX6_isSeen_53 : decode cX6_isSeen 53 = .ok (.if_icmp .gt 22, 3) := dk_163 0 22 (dk_at dksX6_isSeen_2 5 rfl rfl)
theorem dX6_isSeen_56 : decode cX6_isSeen 56 = .ok (.iload_n 3, 1) := dk_29 (dk_at dksX6_isSeen_2 8 rfl rfl)
theorem dX6_isSeen_57 : decode cX6_isSeen 57 = .ok (.aload_n 0, 1) := dk_42 (dk_at dksX6_isSeen_2 9 rfl rfl)
theorem dX6_isSeen_58 : decode cX6_isSeen 58 = .ok (.getfield 28, 3) := dk_180 0 28 (dk_at dksX6_isSeen_2 10 rfl rfl)
theorem dX6_isSeen_61 : decode cX6_isSeen 61 = .ok (.iload_n 2, 1) := dk_28 (dk_at dksX6_isSeen_2 13 rfl rfl)
theorem dX6_isSeen_62 : decode cX6_isSeen 62 = .ok (.iaload, 1) := dk_46 (dk_at dksX6_isSeen_2 14 rfl rfl)
theorem dX6_isSeen_63 : decode cX6_isSeen 63 = .ok (.aload_n 0, 1) := dk_42 (dk_at dksX6_isSeen_2 15 rfl rfl)
theorem dX6_isSeen_64 : decode cX6_isSeen 64 = .ok (.getfield 31, 3) := dk_180 0 31 (dk_at dksX6_isSeen_2 16 rfl rfl)
theorem dX6_isSeen_67 : decode cX6_isSeen 67 = .ok (.iload_n 2, 1) := dk_28 (dk_at dksX6_isSeen_2 19 rfl rfl)
theorem dX6_isSeen_68 : decode cX6_isSeen 68 = .ok (.iaload, 1) := dk_46 (dk_at dksX6_isSeen_2 20 rfl rfl)
theorem dX6_isSeen_69 : decode cX6_isSeen 69 = .ok (.invokestatic 134, 3) := dk_184 0 134 (dk_at dksX6_isSeen_2 21 rfl rfl)
theorem dX6_isSeen_72 : decode cX6_isSeen 72 = .ok (.goto 28, 3) := dk_167 0 28 (dk_at dksX6_isSeen_3 0 rfl rfl)
theorem dX6_isSeen_75 : decode cX6_isSeen 75 = .ok (.iload_n 3, 1) := dk_29 (dk_at dksX6_isSeen_3 3 rfl rfl)
theorem dX6_isSeen_76 : decode cX6_isSeen 76 = .ok (.aload_n 0, 1) := dk_42 (dk_at dksX6_isSeen_3 4 rfl rfl)
theorem dX6_isSeen_77 : decode cX6_isSeen 77 = .ok (.getfield 28, 3) := dk_180 0 28 (dk_at dksX6_isSeen_3 5 rfl rfl)
theorem dX6_isSeen_80 : decode cX6_isSeen 80 = .ok (.iload_n 2, 1) := dk_28 (dk_at dksX6_isSeen_3 8 rfl rfl)
theorem dX6_isSeen_81 : decode cX6_isSeen 81 = .ok (.iaload, 1) := dk_46 (dk_at dksX6_isSeen_3 9 rfl rfl)
theorem dX6_isSeen_82 : decode cX6_isSeen 82 = .ok (.if_icmp .ge 13, 3) := dk_162 0 13 (dk_at dksX6_isSeen_3 10 rfl rfl)
theorem dX6_isSeen_85 : decode cX6_isSeen 85 = .ok (.iload_n 3, 1) := dk_29 (dk_at dksX6_isSeen_3 13 rfl rfl)
theorem dX6_isSeen_86 : decode cX6_isSeen 86 = .ok (.aload_n 0, 1) := dk_42 (dk_at dksX6_isSeen_3 14 rfl rfl)
theorem dX6_isSeen_87 : decode cX6_isSeen 87 = .ok (.getfield 31, 3) := dk_180 0 31 (dk_at dksX6_isSeen_3 15 rfl rfl)
theorem dX6_isSeen_90 : decode cX6_isSeen 90 = .ok (.iload_n 2, 1) := dk_28 (dk_at dksX6_isSeen_3 18 rfl rfl)
theorem dX6_isSeen_91 : decode cX6_isSeen 91 = .ok (.iaload, 1) := dk_46 (dk_at dksX6_isSeen_3 19 rfl rfl)
theorem dX6_isSeen_92 : decode cX6_isSeen 92 = .ok (.if_icmp .gt 7, 3) := dk_163 0 7 (dk_at dksX6_isSeen_3 20 rfl rfl)
theorem dX6_isSeen_95 : decode cX6_isSeen 95 = .ok (.iconst 1, 1) := dk_4 (dk_at dksX6_isSeen_3 23 rfl rfl)
theorem dX6_isSeen_96 : decode cX6_isSeen 96 = .ok (.goto 4, 3) := dk_167 0 4 (dk_at dksX6_isSeen_4 0 rfl rfl)
theorem dX6_isSeen_99 : decode cX6_isSeen 99 = .ok (.iconst 0, 1) := dk_3 (dk_at dksX6_isSeen_4 3 rfl rfl)
theorem dX6_isSeen_100 : decode cX6_isSeen 100 = .ok (.istore 6, 2) := dk_54 6 (dk_at dksX6_isSeen_4 4 rfl rfl)
theorem dX6_isSeen_102 : decode cX6_isSeen 102 = .ok (.iload 5, 2) := dk_21 5 (dk_at dksX6_isSeen_4 6 rfl rfl)
theorem dX6_isSeen_104 : decode cX6_isSeen 104 = .ok (.ifCond .eq 12, 3) := dk_153 0 12 (dk_at dksX6_isSeen_4 8 rfl rfl)
theorem dX6_isSeen_107 : decode cX6_isSeen 107 = .ok (.iload 6, 2) := dk_21 6 (dk_at dksX6_isSeen_4 11 rfl rfl)
theorem dX6_isSeen_109 : decode cX6_isSeen 109 = .ok (.ifCond .eq 7, 3) := dk_153 0 7 (dk_at dksX6_isSeen_4 13 rfl rfl)
theorem dX6_isSeen_112 : decode cX6_isSeen 112 = .ok (.iconst 1, 1) := dk_4 (dk_at dksX6_isSeen_4 16 rfl rfl)
theorem dX6_isSeen_113 : decode cX6_isSeen 113 = .ok (.goto 4, 3) := dk_167 0 4 (dk_at dksX6_isSeen_4 17 rfl rfl)
theorem dX6_isSeen_116 : decode cX6_isSeen 116 = .ok (.iconst 0, 1) := dk_3 (dk_at dksX6_isSeen_4 20 rfl rfl)
theorem dX6_isSeen_117 : decode cX6_isSeen 117 = .ok (.ireturn, 1) := dk_172 (dk_at dksX6_isSeen_4 21 rfl rfl)
abbrev cX6_feed : ByteArray := prog_20_method_19_code
def yX6_feed : MethodName := ⟨RX6, "feed", "(IIIII)I"⟩
def dkwX6_feed_2 : List UInt8 := [172]
abbrev dktX6_feed_2 : List UInt8 := dkwX6_feed_2 ++ []
def dkwX6_feed_1 : List UInt8 := [182, 0, 165, 42, 29, 182, 0, 165, 42, 21, 4, 182, 0, 165, 42, 21, 5, 182, 0, 165, 42, 180, 0, 162]
abbrev dktX6_feed_1 : List UInt8 := dkwX6_feed_1 ++ dktX6_feed_2
def dkwX6_feed_0 : List UInt8 := [42, 180, 0, 162, 16, 20, 96, 17, 1, 4, 164, 0, 5, 2, 172, 42, 27, 182, 0, 165, 42, 28]
abbrev dktX6_feed_0 : List UInt8 := dkwX6_feed_0 ++ dktX6_feed_1
theorem dksX6_feed_0 : cX6_feed.data.toList.drop 0 = dktX6_feed_0 := by decide +kernel
theorem dksX6_feed_1 : cX6_feed.data.toList.drop 22 = dktX6_feed_1 := dk_seg dksX6_feed_0 22 rfl rfl
theorem dksX6_feed_2 : cX6_feed.data.toList.drop 46 = dktX6_feed_2 := dk_seg dksX6_feed_1 24 rfl rfl
theorem dX6_feed_0 : decode cX6_feed 0 = .ok (.aload_n 0, 1) := dk_42 (dk_at dksX6_feed_0 0 rfl rfl)
theorem dX6_feed_1 : decode cX6_feed 1 = .ok (.getfield 162, 3) := dk_180 0 162 (dk_at dksX6_feed_0 1 rfl rfl)
theorem dX6_feed_4 : decode cX6_feed 4 = .ok (.bipush 20, 2) := dk_16 20 (dk_at dksX6_feed_0 4 rfl rfl)
theorem dX6_feed_6 : decode cX6_feed 6 = .ok (.iadd, 1) := dk_96 (dk_at dksX6_feed_0 6 rfl rfl)
theorem dX6_feed_7 : decode cX6_feed 7 = .ok (.sipush 260, 3) := dk_17 1 4 (dk_at dksX6_feed_0 7 rfl rfl)
theorem dX6_feed_10 : decode cX6_feed 10 = .ok (.if_icmp .le 5, 3) := dk_164 0 5 (dk_at dksX6_feed_0 10 rfl rfl)
theorem dX6_feed_13 : decode cX6_feed 13 = .ok (.iconst (-1), 1) := dk_2 (dk_at dksX6_feed_0 13 rfl rfl)
theorem dX6_feed_14 : decode cX6_feed 14 = .ok (.ireturn, 1) := dk_172 (dk_at dksX6_feed_0 14 rfl rfl)
theorem dX6_feed_15 : decode cX6_feed 15 = .ok (.aload_n 0, 1) := dk_42 (dk_at dksX6_feed_0 15 rfl rfl)
theorem dX6_feed_16 : decode cX6_feed 16 = .ok (.iload_n 1, 1) := dk_27 (dk_at dksX6_feed_0 16 rfl rfl)
theorem dX6_feed_17 : decode cX6_feed 17 = .ok (.invokevirtual 165, 3) := dk_182 0 165 (dk_at dksX6_feed_0 17 rfl rfl)
theorem dX6_feed_20 : decode cX6_feed 20 = .ok (.aload_n 0, 1) := dk_42 (dk_at dksX6_feed_0 20 rfl rfl)
theorem dX6_feed_21 : decode cX6_feed 21 = .ok (.iload_n 2, 1) := dk_28 (dk_at dksX6_feed_0 21 rfl rfl)
theorem dX6_feed_22 : decode cX6_feed 22 = .ok (.invokevirtual 165, 3) := dk_182 0 165 (dk_at dksX6_feed_1 0 rfl rfl)
theorem dX6_feed_25 : decode cX6_feed 25 = .ok (.aload_n 0, 1) := dk_42 (dk_at dksX6_feed_1 3 rfl rfl)
theorem dX6_feed_26 : decode cX6_feed 26 = .ok (.iload_n 3, 1) := dk_29 (dk_at dksX6_feed_1 4 rfl rfl)
theorem dX6_feed_27 : decode cX6_feed 27 = .ok (.invokevirtual 165, 3) := dk_182 0 165 (dk_at dksX6_feed_1 5 rfl rfl)
theorem dX6_feed_30 : decode cX6_feed 30 = .ok (.aload_n 0, 1) := dk_42 (dk_at dksX6_feed_1 8 rfl rfl)
theorem dX6_feed_31 : decode cX6_feed 31 = .ok (.iload 4, 2) := dk_21 4 (dk_at dksX6_feed_1 9 rfl rfl)
theorem dX6_feed_33 : decode cX6_feed 33 = .ok (.invokevirtual 165, 3) := dk_182 0 165 (dk_at dksX6_feed_1 11 rfl rfl)
theorem dX6_feed_36 : decode cX6_feed 36 = .ok (.aload_n 0, 1) := dk_42 (dk_at dksX6_feed_1 14 rfl rfl)
theorem dX6_feed_37 : decode cX6_feed 37 = .ok (.iload 5, 2) := dk_21 5 (dk_at dksX6_feed_1 15 rfl rfl)
theorem dX6_feed_39 : decode cX6_feed 39 = .ok (.invokevirtual 165, 3) := dk_182 0 165 (dk_at dksX6_feed_1 17 rfl rfl)
theorem dX6_feed_42 : decode cX6_feed 42 = .ok (.aload_n 0, 1) := dk_42 (dk_at dksX6_feed_1 20 rfl rfl)
theorem dX6_feed_43 : decode cX6_feed 43 = .ok (.getfield 162, 3) := dk_180 0 162 (dk_at dksX6_feed_1 21 rfl rfl)
theorem dX6_feed_46 : decode cX6_feed 46 = .ok (.ireturn, 1) := dk_172 (dk_at dksX6_feed_2 0 rfl rfl)
abbrev cX6_types : ByteArray := prog_20_method_18_code
def yX6_types : MethodName := ⟨RX6, "types", "(I)V"⟩
def dkwX6_types_1 : List UInt8 := [180, 0, 162, 4, 96, 181, 0, 162, 132, 2, 255, 167, 255, 223, 177]
abbrev dktX6_types_1 : List UInt8 := dkwX6_types_1 ++ []
def dkwX6_types_0 : List UInt8 := [6, 61, 28, 155, 0, 35, 42, 180, 0, 34, 42, 180, 0, 162, 27, 16, 8, 28, 104, 122, 145, 84, 42, 42]
abbrev dktX6_types_0 : List UInt8 := dkwX6_types_0 ++ dktX6_types_1
theorem dksX6_types_0 : cX6_types.data.toList.drop 0 = dktX6_types_0 := by decide +kernel
theorem dksX6_types_1 : cX6_types.data.toList.drop 24 = dktX6_types_1 := dk_seg dksX6_types_0 24 rfl rfl
theorem dX6_types_0 : decode cX6_types 0 = .ok (.iconst 3, 1) := dk_6 (dk_at dksX6_types_0 0 rfl rfl)
theorem dX6_types_1 : decode cX6_types 1 = .ok (.istore_n 2, 1) := dk_61 (dk_at dksX6_types_0 1 rfl rfl)
theorem dX6_types_2 : decode cX6_types 2 = .ok (.iload_n 2, 1) := dk_28 (dk_at dksX6_types_0 2 rfl rfl)
theorem dX6_types_3 : decode cX6_types 3 = .ok (.ifCond .lt 35, 3) := dk_155 0 35 (dk_at dksX6_types_0 3 rfl rfl)
theorem dX6_types_6 : decode cX6_types 6 = .ok (.aload_n 0, 1) := dk_42 (dk_at dksX6_types_0 6 rfl rfl)
theorem dX6_types_7 : decode cX6_types 7 = .ok (.getfield 34, 3) := dk_180 0 34 (dk_at dksX6_types_0 7 rfl rfl)
theorem dX6_types_10 : decode cX6_types 10 = .ok (.aload_n 0, 1) := dk_42 (dk_at dksX6_types_0 10 rfl rfl)
theorem dX6_types_11 : decode cX6_types 11 = .ok (.getfield 162, 3) := dk_180 0 162 (dk_at dksX6_types_0 11 rfl rfl)
theorem dX6_types_14 : decode cX6_types 14 = .ok (.iload_n 1, 1) := dk_27 (dk_at dksX6_types_0 14 rfl rfl)
theorem dX6_types_15 : decode cX6_types 15 = .ok (.bipush 8, 2) := dk_16 8 (dk_at dksX6_types_0 15 rfl rfl)
theorem dX6_types_17 : decode cX6_types 17 = .ok (.iload_n 2, 1) := dk_28 (dk_at dksX6_types_0 17 rfl rfl)
theorem dX6_types_18 : decode cX6_types 18 = .ok (.imul, 1) := dk_104 (dk_at dksX6_types_0 18 rfl rfl)
theorem dX6_types_19 : decode cX6_types 19 = .ok (.ishr, 1) := dk_122 (dk_at dksX6_types_0 19 rfl rfl)
theorem dX6_types_20 : decode cX6_types 20 = .ok (.i2b, 1) := dk_145 (dk_at dksX6_types_0 20 rfl rfl)
theorem dX6_types_21 : decode cX6_types 21 = .ok (.bastore, 1) := dk_84 (dk_at dksX6_types_0 21 rfl rfl)
theorem dX6_types_22 : decode cX6_types 22 = .ok (.aload_n 0, 1) := dk_42 (dk_at dksX6_types_0 22 rfl rfl)
theorem dX6_types_23 : decode cX6_types 23 = .ok (.aload_n 0, 1) := dk_42 (dk_at dksX6_types_0 23 rfl rfl)
theorem dX6_types_24 : decode cX6_types 24 = .ok (.getfield 162, 3) := dk_180 0 162 (dk_at dksX6_types_1 0 rfl rfl)
theorem dX6_types_27 : decode cX6_types 27 = .ok (.iconst 1, 1) := dk_4 (dk_at dksX6_types_1 3 rfl rfl)
theorem dX6_types_28 : decode cX6_types 28 = .ok (.iadd, 1) := dk_96 (dk_at dksX6_types_1 4 rfl rfl)
theorem dX6_types_29 : decode cX6_types 29 = .ok (.putfield 162, 3) := dk_181 0 162 (dk_at dksX6_types_1 5 rfl rfl)
theorem dX6_types_32 : decode cX6_types 32 = .ok (.iinc 2 (-1), 3) := dk_132 2 255 (dk_at dksX6_types_1 8 rfl rfl)
theorem dX6_types_35 : decode cX6_types 35 = .ok (.goto (-33), 3) := dk_167 255 223 (dk_at dksX6_types_1 11 rfl rfl)
theorem dX6_types_38 : decode cX6_types 38 = .ok (.return_, 1) := dk_177 (dk_at dksX6_types_1 14 rfl rfl)
abbrev cX6_law : ByteArray := prog_20_method_42_code
def yX6_law : MethodName := ⟨RX6, "law", "(I)I"⟩
def dkwX6_law_7 : List UInt8 := [79, 42, 180, 0, 68, 29, 42, 180, 0, 53, 29, 46, 79, 132, 3, 1, 167, 255, 197, 42, 180, 0, 247, 172]
abbrev dktX6_law_7 : List UInt8 := dkwX6_law_7 ++ []
def dkwX6_law_6 : List UInt8 := [79, 42, 180, 0, 62, 29, 42, 180, 0, 47, 29, 46, 79, 42, 180, 0, 65, 29, 42, 180, 0, 50, 29, 46]
abbrev dktX6_law_6 : List UInt8 := dkwX6_law_6 ++ dktX6_law_7
def dkwX6_law_5 : List UInt8 := [167, 255, 233, 3, 62, 29, 42, 180, 0, 247, 162, 0, 57, 42, 180, 0, 59, 29, 42, 180, 0, 44, 29, 46]
abbrev dktX6_law_5 : List UInt8 := dkwX6_law_5 ++ dktX6_law_6
def dkwX6_law_4 : List UInt8 := [29, 42, 180, 0, 192, 162, 0, 21, 42, 180, 0, 56, 29, 42, 180, 0, 38, 29, 46, 79, 132, 3, 1]
abbrev dktX6_law_4 : List UInt8 := dkwX6_law_4 ++ dktX6_law_5
def dkwX6_law_3 : List UInt8 := [42, 3, 181, 0, 162, 28, 154, 0, 8, 42, 180, 0, 179, 172, 42, 42, 180, 0, 247, 181, 1, 6, 3, 62]
abbrev dktX6_law_3 : List UInt8 := dkwX6_law_3 ++ dktX6_law_4
def dkwX6_law_2 : List UInt8 := [16, 59, 182, 1, 3, 153, 0, 14, 42, 182, 1, 0, 153, 0, 7, 4, 167, 0, 4, 3, 61, 167, 255, 219]
abbrev dktX6_law_2 : List UInt8 := dkwX6_law_2 ++ dktX6_law_3
def dkwX6_law_1 : List UInt8 := [182, 0, 253, 42, 182, 1, 0, 61, 28, 153, 0, 39, 42, 180, 0, 169, 42, 180, 0, 172, 162, 0, 28, 42]
abbrev dktX6_law_1 : List UInt8 := dkwX6_law_1 ++ dktX6_law_2
def dkwX6_law_0 : List UInt8 := [27, 4, 17, 0, 240, 184, 0, 134, 153, 0, 11, 27, 42, 180, 0, 162, 164, 0, 5, 2, 172, 42, 27]
abbrev dktX6_law_0 : List UInt8 := dkwX6_law_0 ++ dktX6_law_1
theorem dksX6_law_0 : cX6_law.data.toList.drop 0 = dktX6_law_0 := by decide +kernel
theorem dksX6_law_1 : cX6_law.data.toList.drop 23 = dktX6_law_1 := dk_seg dksX6_law_0 23 rfl rfl
theorem dksX6_law_2 : cX6_law.data.toList.drop 47 = dktX6_law_2 := dk_seg dksX6_law_1 24 rfl rfl
theorem dksX6_law_3 : cX6_law.data.toList.drop 71 = dktX6_law_3 := dk_seg dksX6_law_2 24 rfl rfl
theorem dksX6_law_4 : cX6_law.data.toList.drop 95 = dktX6_law_4 := dk_seg dksX6_law_3 24 rfl rfl
theorem dksX6_law_5 : cX6_law.data.toList.drop 118 = dktX6_law_5 := dk_seg dksX6_law_4 23 rfl rfl
theorem dksX6_law_6 : cX6_law.data.toList.drop 142 = dktX6_law_6 := dk_seg dksX6_law_5 24 rfl rfl
theorem dksX6_law_7 : cX6_law.data.toList.drop 166 = dktX6_law_7 := dk_seg dksX6_law_6 24 rfl rfl
theorem dX6_law_0 : decode cX6_law 0 = .ok (.iload_n 1, 1) := dk_27 (dk_at dksX6_law_0 0 rfl rfl)
theorem dX6_law_1 : decode cX6_law 1 = .ok (.iconst 1, 1) := dk_4 (dk_at dksX6_law_0 1 rfl rfl)
theorem dX6_law_2 : decode cX6_law 2 = .ok (.sipush 240, 3) := dk_17 0 240 (dk_at dksX6_law_0 2 rfl rfl)
theorem dX6_law_5 : decode cX6_law 5 = .ok (.invokestatic 134, 3) := dk_184 0 134 (dk_at dksX6_law_0 5 rfl rfl)
theorem dX6_law_8 : decode cX6_law 8 = .ok (.ifCond .eq 11, 3) := dk_153 0 11 (dk_at dksX6_law_0 8 rfl rfl)
theorem dX6_law_11 : decode cX6_law 11 = .ok (.iload_n 1, 1) := dk_27 (dk_at dksX6_law_0 11 rfl rfl)
theorem dX6_law_12 : decode cX6_law 12 = .ok (.aload_n 0, 1) := dk_42 (dk_at dksX6_law_0 12 rfl rfl)
theorem dX6_law_13 : decode cX6_law 13 = .ok (.getfield 162, 3) := dk_180 0 162 (dk_at dksX6_law_0 13 rfl rfl)
theorem dX6_law_16 : decode cX6_law 16 = .ok (.if_icmp .le 5, 3) := dk_164 0 5 (dk_at dksX6_law_0 16 rfl rfl)
theorem dX6_law_19 : decode cX6_law 19 = .ok (.iconst (-1), 1) := dk_2 (dk_at dksX6_law_0 19 rfl rfl)
theorem dX6_law_20 : decode cX6_law 20 = .ok (.ireturn, 1) := dk_172 (dk_at dksX6_law_0 20 rfl rfl)
theorem dX6_law_21 : decode cX6_law 21 = .ok (.aload_n 0, 1) := dk_42 (dk_at dksX6_law_0 21 rfl rfl)
theorem dX6_law_22 : decode cX6_law 22 = .ok (.iload_n 1, 1) := dk_27 (dk_at dksX6_law_0 22 rfl rfl)
theorem dX6_law_23 : decode cX6_law 23 = .ok (.invokevirtual 253, 3) := dk_182 0 253 (dk_at dksX6_law_1 0 rfl rfl)
theorem dX6_law_26 : decode cX6_law 26 = .ok (.aload_n 0, 1) := dk_42 (dk_at dksX6_law_1 3 rfl rfl)
theorem dX6_law_27 : decode cX6_law 27 = .ok (.invokevirtual 256, 3) := dk_182 1 0 (dk_at dksX6_law_1 4 rfl rfl)
theorem dX6_law_30 : decode cX6_law 30 = .ok (.istore_n 2, 1) := dk_61 (dk_at dksX6_law_1 7 rfl rfl)
theorem dX6_law_31 : decode cX6_law 31 = .ok (.iload_n 2, 1) := dk_28 (dk_at dksX6_law_1 8 rfl rfl)
theorem dX6_law_32 : decode cX6_law 32 = .ok (.ifCond .eq 39, 3) := dk_153 0 39 (dk_at dksX6_law_1 9 rfl rfl)
theorem dX6_law_35 : decode cX6_law 35 = .ok (.aload_n 0, 1) := dk_42 (dk_at dksX6_law_1 12 rfl rfl)
theorem dX6_law_36 : decode cX6_law 36 = .ok (.getfield 169, 3) := dk_180 0 169 (dk_at dksX6_law_1 13 rfl rfl)
theorem dX6_law_39 : decode cX6_law 39 = .ok (.aload_n 0, 1) := dk_42 (dk_at dksX6_law_1 16 rfl rfl)
theorem dX6_law_40 : decode cX6_law 40 = .ok (.getfield 172, 3) := dk_180 0 172 (dk_at dksX6_law_1 17 rfl rfl)
theorem dX6_law_43 : decode cX6_law 43 = .ok (.if_icmp .ge 28, 3) := dk_162 0 28 (dk_at dksX6_law_1 20 rfl rfl)
theorem dX6_law_46 : decode cX6_law 46 = .ok (.aload_n 0, 1) := dk_42 (dk_at dksX6_law_1 23 rfl rfl)
theorem dX6_law_47 : decode cX6_law 47 = .ok (.bipush 59, 2) := dk_16 59 (dk_at dksX6_law_2 0 rfl rfl)
theorem dX6_law_49 : decode cX6_law 49 = .ok (.invokevirtual 259, 3) := dk_182 1 3 (dk_at dksX6_law_2 2 rfl rfl)
theorem dX6_law_52 : decode cX6_law 52 = .ok (.ifCond .eq 14, 3) := dk_153 0 14 (dk_at dksX6_law_2 5 rfl rfl)
theorem dX6_law_55 : decode cX6_law 55 = .ok (.aload_n 0, 1) := dk_42 (dk_at dksX6_law_2 8 rfl rfl)
theorem dX6_law_56 : decode cX6_law 56 = .ok (.invokevirtual 256, 3) := dk_182 1 0 (dk_at dksX6_law_2 9 rfl rfl)
theorem dX6_law_59 : decode cX6_law 59 = .ok (.ifCond .eq 7, 3) := dk_153 0 7 (dk_at dksX6_law_2 12 rfl rfl)
theorem dX6_law_62 : decode cX6_law 62 = .ok (.iconst 1, 1) := dk_4 (dk_at dksX6_law_2 15 rfl rfl)
theorem dX6_law_63 : decode cX6_law 63 = .ok (.goto 4, 3) := dk_167 0 4 (dk_at dksX6_law_2 16 rfl rfl)
theorem dX6_law_66 : decode cX6_law 66 = .ok (.iconst 0, 1) := dk_3 (dk_at dksX6_law_2 19 rfl rfl)
theorem dX6_law_67 : decode cX6_law 67 = .ok (.istore_n 2, 1) := dk_61 (dk_at dksX6_law_2 20 rfl rfl)
theorem dX6_law_68 : decode cX6_law 68 = .ok (.goto (-37), 3) := dk_167 255 219 (dk_at dksX6_law_2 21 rfl rfl)
theorem dX6_law_71 : decode cX6_law 71 = .ok (.aload_n 0, 1) := dk_42 (dk_at dksX6_law_3 0 rfl rfl)
theorem dX6_law_72 : decode cX6_law 72 = .ok (.iconst 0, 1) := dk_3 (dk_at dksX6_law_3 1 rfl rfl)
theorem dX6_law_73 : decode cX6_law 73 = .ok (.putfield 162, 3) := dk_181 0 162 (dk_at dksX6_law_3 2 rfl rfl)
theorem dX6_law_76 : decode cX6_law 76 = .ok (.iload_n 2, 1) := dk_28 (dk_at dksX6_law_3 5 rfl rfl)
theorem dX6_law_77 : decode cX6_law 77 = .ok (.ifCond .ne 8, 3) := dk_154 0 8 (dk_at dksX6_law_3 6 rfl rfl)
theorem dX6_law_80 : decode cX6_law 80 = .ok (.aload_n 0, 1) := dk_42 (dk_at dksX6_law_3 9 rfl rfl)
theorem dX6_law_81 : decode cX6_law 81 = .ok (.getfield 179, 3) := dk_180 0 179 (dk_at dksX6_law_3 10 rfl rfl)
theorem dX6_law_84 : decode cX6_law 84 = .ok (.ireturn, 1) := dk_172 (dk_at dksX6_law_3 13 rfl rfl)
theorem dX6_law_85 : decode cX6_law 85 = .ok (.aload_n 0, 1) := dk_42 (dk_at dksX6_law_3 14 rfl rfl)
theorem dX6_law_86 : decode cX6_law 86 = .ok (.aload_n 0, 1) := dk_42 (dk_at dksX6_law_3 15 rfl rfl)
theorem dX6_law_87 : decode cX6_law 87 = .ok (.getfield 247, 3) := dk_180 0 247 (dk_at dksX6_law_3 16 rfl rfl)
theorem dX6_law_90 : decode cX6_law 90 = .ok (.putfield 262, 3) := dk_181 1 6 (dk_at dksX6_law_3 19 rfl rfl)
theorem dX6_law_93 : decode cX6_law 93 = .ok (.iconst 0, 1) := dk_3 (dk_at dksX6_law_3 22 rfl rfl)
theorem dX6_law_94 : decode cX6_law 94 = .ok (.istore_n 3, 1) := dk_62 (dk_at dksX6_law_3 23 rfl rfl)
theorem dX6_law_95 : decode cX6_law 95 = .ok (.iload_n 3, 1) := dk_29 (dk_at dksX6_law_4 0 rfl rfl)
theorem dX6_law_96 : decode cX6_law 96 = .ok (.aload_n 0, 1) := dk_42 (dk_at dksX6_law_4 1 rfl rfl)
theorem dX6_law_97 : decode cX6_law 97 = .ok (.getfield 192, 3) := dk_180 0 192 (dk_at dksX6_law_4 2 rfl rfl)
theorem dX6_law_100 : decode cX6_law 100 = .ok (.if_icmp .ge 21, 3) := dk_162 0 21 (dk_at dksX6_law_4 5 rfl rfl)
theorem dX6_law_103 : decode cX6_law 103 = .ok (.aload_n 0, 1) := dk_42 (dk_at dksX6_law_4 8 rfl rfl)
theorem dX6_law_104 : decode cX6_law 104 = .ok (.getfield 56, 3) := dk_180 0 56 (dk_at dksX6_law_4 9 rfl rfl)
theorem dX6_law_107 : decode cX6_law 107 = .ok (.iload_n 3, 1) := dk_29 (dk_at dksX6_law_4 12 rfl rfl)
theorem dX6_law_108 : decode cX6_law 108 = .ok (.aload_n 0, 1) := dk_42 (dk_at dksX6_law_4 13 rfl rfl)
theorem dX6_law_109 : decode cX6_law 109 = .ok (.getfield 38, 3) := dk_180 0 38 (dk_at dksX6_law_4 14 rfl rfl)
theorem dX6_law_112 : decode cX6_law 112 = .ok (.iload_n 3, 1) := dk_29 (dk_at dksX6_law_4 17 rfl rfl)
theorem dX6_law_113 : decode cX6_law 113 = .ok (.iaload, 1) := dk_46 (dk_at dksX6_law_4 18 rfl rfl)
theorem dX6_law_114 : decode cX6_law 114 = .ok (.iastore, 1) := dk_79 (dk_at dksX6_law_4 19 rfl rfl)
theorem dX6_law_115 : decode cX6_law 115 = .ok (.iinc 3 1, 3) := dk_132 3 1 (dk_at dksX6_law_4 20 rfl rfl)
theorem dX6_law_118 : decode cX6_law 118 = .ok (.goto (-23), 3) := dk_167 255 233 (dk_at dksX6_law_5 0 rfl rfl)
theorem dX6_law_121 : decode cX6_law 121 = .ok (.iconst 0, 1) := dk_3 (dk_at dksX6_law_5 3 rfl rfl)
theorem dX6_law_122 : decode cX6_law 122 = .ok (.istore_n 3, 1) := dk_62 (dk_at dksX6_law_5 4 rfl rfl)
theorem dX6_law_123 : decode cX6_law 123 = .ok (.iload_n 3, 1) := dk_29 (dk_at dksX6_law_5 5 rfl rfl)
theorem dX6_law_124 : decode cX6_law 124 = .ok (.aload_n 0, 1) := dk_42 (dk_at dksX6_law_5 6 rfl rfl)
theorem dX6_law_125 : decode cX6_law 125 = .ok (.getfield 247, 3) := dk_180 0 247 (dk_at dksX6_law_5 7 rfl rfl)
theorem dX6_law_128 : decode cX6_law 128 = .ok (.if_icmp .ge 57, 3) := dk_162 0 57 (dk_at dksX6_law_5 10 rfl rfl)
theorem dX6_law_131 : decode cX6_law 131 = .ok (.aload_n 0, 1) := dk_42 (dk_at dksX6_law_5 13 rfl rfl)
theorem dX6_law_132 : decode cX6_law 132 = .ok (.getfield 59, 3) := dk_180 0 59 (dk_at dksX6_law_5 14 rfl rfl)
theorem dX6_law_135 : decode cX6_law 135 = .ok (.iload_n 3, 1) := dk_29 (dk_at dksX6_law_5 17 rfl rfl)
theorem dX6_law_136 : decode cX6_law 136 = .ok (.aload_n 0, 1) := dk_42 (dk_at dksX6_law_5 18 rfl rfl)
theorem dX6_law_137 : decode cX6_law 137 = .ok (.getfield 44, 3) := dk_180 0 44 (dk_at dksX6_law_5 19 rfl rfl)
theorem dX6_law_140 : decode cX6_law 140 = .ok (.iload_n 3, 1) := dk_29 (dk_at dksX6_law_5 22 rfl rfl)
theorem dX6_law_141 : decode cX6_law 141 = .ok (.iaload, 1) := dk_46 (dk_at dksX6_law_5 23 rfl rfl)
theorem dX6_law_142 : decode cX6_law 142 = .ok (.iastore, 1) := dk_79 (dk_at dksX6_law_6 0 rfl rfl)
theorem dX6_law_143 : decode cX6_law 143 = .ok (.aload_n 0, 1) := dk_42 (dk_at dksX6_law_6 1 rfl rfl)
theorem dX6_law_144 : decode cX6_law 144 = .ok (.getfield 62, 3) := dk_180 0 62 (dk_at dksX6_law_6 2 rfl rfl)
theorem dX6_law_147 : decode cX6_law 147 = .ok (.iload_n 3, 1) := dk_29 (dk_at dksX6_law_6 5 rfl rfl)
theorem dX6_law_148 : decode cX6_law 148 = .ok (.aload_n 0, 1) := dk_42 (dk_at dksX6_law_6 6 rfl rfl)
theorem dX6_law_149 : decode cX6_law 149 = .ok (.getfield 47, 3) := dk_180 0 47 (dk_at dksX6_law_6 7 rfl rfl)
theorem dX6_law_152 : decode cX6_law 152 = .ok (.iload_n 3, 1) := dk_29 (dk_at dksX6_law_6 10 rfl rfl)
theorem dX6_law_153 : decode cX6_law 153 = .ok (.iaload, 1) := dk_46 (dk_at dksX6_law_6 11 rfl rfl)
theorem dX6_law_154 : decode cX6_law 154 = .ok (.iastore, 1) := dk_79 (dk_at dksX6_law_6 12 rfl rfl)
theorem dX6_law_155 : decode cX6_law 155 = .ok (.aload_n 0, 1) := dk_42 (dk_at dksX6_law_6 13 rfl rfl)
theorem dX6_law_156 : decode cX6_law 156 = .ok (.getfield 65, 3) := dk_180 0 65 (dk_at dksX6_law_6 14 rfl rfl)
theorem dX6_law_159 : decode cX6_law 159 = .ok (.iload_n 3, 1) := dk_29 (dk_at dksX6_law_6 17 rfl rfl)
theorem dX6_law_160 : decode cX6_law 160 = .ok (.aload_n 0, 1) := dk_42 (dk_at dksX6_law_6 18 rfl rfl)
theorem dX6_law_161 : decode cX6_law 161 = .ok (.getfield 50, 3) := dk_180 0 50 (dk_at dksX6_law_6 19 rfl rfl)
theorem dX6_law_164 : decode cX6_law 164 = .ok (.iload_n 3, 1) := dk_29 (dk_at dksX6_law_6 22 rfl rfl)
theorem dX6_law_165 : decode cX6_law 165 = .ok (.iaload, 1) := dk_46 (dk_at dksX6_law_6 23 rfl rfl)
theorem dX6_law_166 : decode cX6_law 166 = .ok (.iastore, 1) := dk_79 (dk_at dksX6_law_7 0 rfl rfl)
theorem dX6_law_167 : decode cX6_law 167 = .ok (.aload_n 0, 1) := dk_42 (dk_at dksX6_law_7 1 rfl rfl)
theorem dX6_law_168 : decode cX6_law 168 = .ok (.getfield 68, 3) := dk_180 0 68 (dk_at dksX6_law_7 2 rfl rfl)
theorem dX6_law_171 : decode cX6_law 171 = .ok (.iload_n 3, 1) := dk_29 (dk_at dksX6_law_7 5 rfl rfl)
theorem dX6_law_172 : decode cX6_law 172 = .ok (.aload_n 0, 1) := dk_42 (dk_at dksX6_law_7 6 rfl rfl)
theorem dX6_law_173 : decode cX6_law 173 = .ok (.getfield 53, 3) := dk_180 0 53 (dk_at dksX6_law_7 7 rfl rfl)
theorem dX6_law_176 : decode cX6_law 176 = .ok (.iload_n 3, 1) := dk_29 (dk_at dksX6_law_7 10 rfl rfl)
theorem dX6_law_177 : decode cX6_law 177 = .ok (.iaload, 1) := dk_46 (dk_at dksX6_law_7 11 rfl rfl)
theorem dX6_law_178 : decode cX6_law 178 = .ok (.iastore, 1) := dk_79 (dk_at dksX6_law_7 12 rfl rfl)
theorem dX6_law_179 : decode cX6_law 179 = .ok (.iinc 3 1, 3) := dk_132 3 1 (dk_at dksX6_law_7 13 rfl rfl)
theorem dX6_law_182 : decode cX6_law 182 = .ok (.goto (-59), 3) := dk_167 255 197 (dk_at dksX6_law_7 16 rfl rfl)
theorem dX6_law_185 : decode cX6_law 185 = .ok (.aload_n 0, 1) := dk_42 (dk_at dksX6_law_7 19 rfl rfl)
theorem dX6_law_186 : decode cX6_law 186 = .ok (.getfield 247, 3) := dk_180 0 247 (dk_at dksX6_law_7 20 rfl rfl)
theorem dX6_law_189 : decode cX6_law 189 = .ok (.ireturn, 1) := dk_172 (dk_at dksX6_law_7 23 rfl rfl)
abbrev cX6_beginsText : ByteArray := prog_20_method_41_code
def yX6_beginsText : MethodName := ⟨RX6, "beginsText", "(I)V"⟩
def dkwX6_beginsText_0 : List UInt8 := [42, 3, 181, 0, 169, 42, 27, 181, 0, 172, 42, 3, 181, 0, 192, 42, 3, 181, 0, 247, 177]
abbrev dktX6_beginsText_0 : List UInt8 := dkwX6_beginsText_0 ++ []
theorem dksX6_beginsText_0 : cX6_beginsText.data.toList.drop 0 = dktX6_beginsText_0 := by decide +kernel
theorem dX6_beginsText_0 : decode cX6_beginsText 0 = .ok (.aload_n 0, 1) := dk_42 (dk_at dksX6_beginsText_0 0 rfl rfl)
theorem dX6_beginsText_1 : decode cX6_beginsText 1 = .ok (.iconst 0, 1) := dk_3 (dk_at dksX6_beginsText_0 1 rfl rfl)
theorem dX6_beginsText_2 : decode cX6_beginsText 2 = .ok (.putfield 169, 3) := dk_181 0 169 (dk_at dksX6_beginsText_0 2 rfl rfl)
theorem dX6_beginsText_5 : decode cX6_beginsText 5 = .ok (.aload_n 0, 1) := dk_42 (dk_at dksX6_beginsText_0 5 rfl rfl)
theorem dX6_beginsText_6 : decode cX6_beginsText 6 = .ok (.iload_n 1, 1) := dk_27 (dk_at dksX6_beginsText_0 6 rfl rfl)
theorem dX6_beginsText_7 : decode cX6_beginsText 7 = .ok (.putfield 172, 3) := dk_181 0 172 (dk_at dksX6_beginsText_0 7 rfl rfl)
theorem dX6_beginsText_10 : decode cX6_beginsText 10 = .ok (.aload_n 0, 1) := dk_42 (dk_at dksX6_beginsText_0 10 rfl rfl)
theorem dX6_beginsText_11 : decode cX6_beginsText 11 = .ok (.iconst 0, 1) := dk_3 (dk_at dksX6_beginsText_0 11 rfl rfl)
theorem dX6_beginsText_12 : decode cX6_beginsText 12 = .ok (.putfield 192, 3) := dk_181 0 192 (dk_at dksX6_beginsText_0 12 rfl rfl)
theorem dX6_beginsText_15 : decode cX6_beginsText 15 = .ok (.aload_n 0, 1) := dk_42 (dk_at dksX6_beginsText_0 15 rfl rfl)
theorem dX6_beginsText_16 : decode cX6_beginsText 16 = .ok (.iconst 0, 1) := dk_3 (dk_at dksX6_beginsText_0 16 rfl rfl)
theorem dX6_beginsText_17 : decode cX6_beginsText 17 = .ok (.putfield 247, 3) := dk_181 0 247 (dk_at dksX6_beginsText_0 17 rfl rfl)
theorem dX6_beginsText_20 : decode cX6_beginsText 20 = .ok (.return_, 1) := dk_177 (dk_at dksX6_beginsText_0 20 rfl rfl)
abbrev cX6_readsRule : ByteArray := prog_20_method_40_code
def yX6_readsRule : MethodName := ⟨RX6, "readsRule", "()Z"⟩
def dkwX6_readsRule_6 : List UInt8 := [180, 0, 192, 79, 42, 42, 180, 0, 247, 4, 96, 181, 0, 247, 4, 172]
abbrev dktX6_readsRule_6 : List UInt8 := dkwX6_readsRule_6 ++ []
def dkwX6_readsRule_5 : List UInt8 := [180, 0, 192, 79, 42, 182, 0, 250, 154, 0, 5, 3, 172, 42, 180, 0, 53, 42, 180, 0, 247, 42]
abbrev dktX6_readsRule_5 : List UInt8 := dkwX6_readsRule_5 ++ dktX6_readsRule_6
def dkwX6_readsRule_4 : List UInt8 := [16, 120, 159, 0, 12, 42, 182, 0, 232, 154, 0, 5, 3, 172, 42, 180, 0, 50, 42, 180, 0, 247, 42]
abbrev dktX6_readsRule_4 : List UInt8 := dkwX6_readsRule_4 ++ dktX6_readsRule_5
def dkwX6_readsRule_3 : List UInt8 := [42, 180, 0, 47, 42, 180, 0, 247, 42, 180, 0, 192, 79, 42, 3, 181, 0, 196, 42, 3, 181, 0, 199, 27]
abbrev dktX6_readsRule_3 : List UInt8 := dkwX6_readsRule_3 ++ dktX6_readsRule_4
def dkwX6_readsRule_2 : List UInt8 := [182, 0, 182, 172, 42, 180, 0, 44, 42, 180, 0, 247, 27, 79, 42, 42, 180, 0, 169, 4, 96, 181, 0, 169]
abbrev dktX6_readsRule_2 : List UInt8 := dkwX6_readsRule_2 ++ dktX6_readsRule_3
def dkwX6_readsRule_1 : List UInt8 := [4, 42, 180, 0, 169, 182, 0, 182, 172, 42, 180, 0, 247, 16, 16, 160, 0, 13, 42, 7, 42, 180, 0, 169]
abbrev dktX6_readsRule_1 : List UInt8 := dkwX6_readsRule_1 ++ dktX6_readsRule_2
def dkwX6_readsRule_0 : List UInt8 := [42, 182, 0, 175, 60, 27, 16, 99, 159, 0, 25, 27, 16, 106, 159, 0, 19, 27, 16, 120, 159, 0, 13, 42]
abbrev dktX6_readsRule_0 : List UInt8 := dkwX6_readsRule_0 ++ dktX6_readsRule_1
theorem dksX6_readsRule_0 : cX6_readsRule.data.toList.drop 0 = dktX6_readsRule_0 := by decide +kernel
theorem dksX6_readsRule_1 : cX6_readsRule.data.toList.drop 24 = dktX6_readsRule_1 := dk_seg dksX6_readsRule_0 24 rfl rfl
theorem dksX6_readsRule_2 : cX6_readsRule.data.toList.drop 48 = dktX6_readsRule_2 := dk_seg dksX6_readsRule_1 24 rfl rfl
theorem dksX6_readsRule_3 : cX6_readsRule.data.toList.drop 72 = dktX6_readsRule_3 := dk_seg dksX6_readsRule_2 24 rfl rfl
theorem dksX6_readsRule_4 : cX6_readsRule.data.toList.drop 96 = dktX6_readsRule_4 := dk_seg dksX6_readsRule_3 24 rfl rfl
theorem dksX6_readsRule_5 : cX6_readsRule.data.toList.drop 119 = dktX6_readsRule_5 := dk_seg dksX6_readsRule_4 23 rfl rfl
theorem dksX6_readsRule_6 : cX6_readsRule.data.toList.drop 141 = dktX6_readsRule_6 := dk_seg dksX6_readsRule_5 22 rfl rfl
theorem dX6_readsRule_0 : decode cX6_readsRule 0 = .ok (.aload_n 0, 1) := dk_42 (dk_at dksX6_readsRule_0 0 rfl rfl)
theorem dX6_readsRule_1 : decode cX6_readsRule 1 = .ok (.invokevirtual 175, 3) := dk_182 0 175 (dk_at dksX6_readsRule_0 1 rfl rfl)
theorem dX6_readsRule_4 : decode cX6_readsRule 4 = .ok (.istore_n 1, 1) := dk_60 (dk_at dksX6_readsRule_0 4 rfl rfl)
theorem dX6_readsRule_5 : decode cX6_readsRule 5 = .ok (.iload_n 1, 1) := dk_27 (dk_at dksX6_readsRule_0 5 rfl rfl)
theorem dX6_readsRule_6 : decode cX6_readsRule 6 = .ok (.bipush 99, 2) := dk_16 99 (dk_at dksX6_readsRule_0 6 rfl rfl)
theorem dX6_readsRule_8 : decode cX6_readsRule 8 = .ok (.if_icmp .eq 25, 3) := dk_159 0 25 (dk_at dksX6_readsRule_0 8 rfl rfl)
theorem dX6_readsRule_11 : decode cX6_readsRule 11 = .ok (.iload_n 1, 1) := dk_27 (dk_at dksX6_readsRule_0 11 rfl rfl)
theorem dX6_readsRule_12 : decode cX6_readsRule 12 = .ok (.bipush 106, 2) := dk_16 106 (dk_at dksX6_readsRule_0 12 rfl rfl)
theorem dX6_readsRule_14 : decode cX6_readsRule 14 = .ok (.if_icmp .eq 19, 3) := dk_159 0 19 (dk_at dksX6_readsRule_0 14 rfl rfl)
theorem dX6_readsRule_17 : decode cX6_readsRule 17 = .ok (.iload_n 1, 1) := dk_27 (dk_at dksX6_readsRule_0 17 rfl rfl)
theorem dX6_readsRule_18 : decode cX6_readsRule 18 = .ok (.bipush 120, 2) := dk_16 120 (dk_at dksX6_readsRule_0 18 rfl rfl)
theorem dX6_readsRule_20 : decode cX6_readsRule 20 = .ok (.if_icmp .eq 13, 3) := dk_159 0 13 (dk_at dksX6_readsRule_0 20 rfl rfl)
theorem dX6_readsRule_23 : decode cX6_readsRule 23 = .ok (.aload_n 0, 1) := dk_42 (dk_at dksX6_readsRule_0 23 rfl rfl)
theorem dX6_readsRule_24 : decode cX6_readsRule 24 = .ok (.iconst 1, 1) := dk_4 (dk_at dksX6_readsRule_1 0 rfl rfl)
theorem dX6_readsRule_25 : decode cX6_readsRule 25 = .ok (.aload_n 0, 1) := dk_42 (dk_at dksX6_readsRule_1 1 rfl rfl)
theorem dX6_readsRule_26 : decode cX6_readsRule 26 = .ok (.getfield 169, 3) := dk_180 0 169 (dk_at dksX6_readsRule_1 2 rfl rfl)
theorem dX6_readsRule_29 : decode cX6_readsRule 29 = .ok (.invokevirtual 182, 3) := dk_182 0 182 (dk_at dksX6_readsRule_1 5 rfl rfl)
theorem dX6_readsRule_32 : decode cX6_readsRule 32 = .ok (.ireturn, 1) := dk_172 (dk_at dksX6_readsRule_1 8 rfl rfl)
theorem dX6_readsRule_33 : decode cX6_readsRule 33 = .ok (.aload_n 0, 1) := dk_42 (dk_at dksX6_readsRule_1 9 rfl rfl)
theorem dX6_readsRule_34 : decode cX6_readsRule 34 = .ok (.getfield 247, 3) := dk_180 0 247 (dk_at dksX6_readsRule_1 10 rfl rfl)
theorem dX6_readsRule_37 : decode cX6_readsRule 37 = .ok (.bipush 16, 2) := dk_16 16 (dk_at dksX6_readsRule_1 13 rfl rfl)
theorem dX6_readsRule_39 : decode cX6_readsRule 39 = .ok (.if_icmp .ne 13, 3) := dk_160 0 13 (dk_at dksX6_readsRule_1 15 rfl rfl)
theorem dX6_readsRule_42 : decode cX6_readsRule 42 = .ok (.aload_n 0, 1) := dk_42 (dk_at dksX6_readsRule_1 18 rfl rfl)
theorem dX6_readsRule_43 : decode cX6_readsRule 43 = .ok (.iconst 4, 1) := dk_7 (dk_at dksX6_readsRule_1 19 rfl rfl)
theorem dX6_readsRule_44 : decode cX6_readsRule 44 = .ok (.aload_n 0, 1) := dk_42 (dk_at dksX6_readsRule_1 20 rfl rfl)
theorem dX6_readsRule_45 : decode cX6_readsRule 45 = .ok (.getfield 169, 3) := dk_180 0 169 (dk_at dksX6_readsRule_1 21 rfl rfl)
theorem dX6_readsRule_48 : decode cX6_readsRule 48 = .ok (.invokevirtual 182, 3) := dk_182 0 182 (dk_at dksX6_readsRule_2 0 rfl rfl)
theorem dX6_readsRule_51 : decode cX6_readsRule 51 = .ok (.ireturn, 1) := dk_172 (dk_at dksX6_readsRule_2 3 rfl rfl)
theorem dX6_readsRule_52 : decode cX6_readsRule 52 = .ok (.aload_n 0, 1) := dk_42 (dk_at dksX6_readsRule_2 4 rfl rfl)
theorem dX6_readsRule_53 : decode cX6_readsRule 53 = .ok (.getfield 44, 3) := dk_180 0 44 (dk_at dksX6_readsRule_2 5 rfl rfl)
theorem dX6_readsRule_56 : decode cX6_readsRule 56 = .ok (.aload_n 0, 1) := dk_42 (dk_at dksX6_readsRule_2 8 rfl rfl)
theorem dX6_readsRule_57 : decode cX6_readsRule 57 = .ok (.getfield 247, 3) := dk_180 0 247 (dk_at dksX6_readsRule_2 9 rfl rfl)
theorem dX6_readsRule_60 : decode cX6_readsRule 60 = .ok (.iload_n 1, 1) := dk_27 (dk_at dksX6_readsRule_2 12 rfl rfl)
theorem dX6_readsRule_61 : decode cX6_readsRule 61 = .ok (.iastore, 1) := dk_79 (dk_at dksX6_readsRule_2 13 rfl rfl)
theorem dX6_readsRule_62 : decode cX6_readsRule 62 = .ok (.aload_n 0, 1) := dk_42 (dk_at dksX6_readsRule_2 14 rfl rfl)
theorem dX6_readsRule_63 : decode cX6_readsRule 63 = .ok (.aload_n 0, 1) := dk_42 (dk_at dksX6_readsRule_2 15 rfl rfl)
theorem dX6_readsRule_64 : decode cX6_readsRule 64 = .ok (.getfield 169, 3) := dk_180 0 169 (dk_at dksX6_readsRule_2 16 rfl rfl)
theorem dX6_readsRule_67 : decode cX6_readsRule 67 = .ok (.iconst 1, 1) := dk_4 (dk_at dksX6_readsRule_2 19 rfl rfl)
theorem dX6_readsRule_68 : decode cX6_readsRule 68 = .ok (.iadd, 1) := dk_96 (dk_at dksX6_readsRule_2 20 rfl rfl)
theorem dX6_readsRule_69 : decode cX6_readsRule 69 = .ok (.putfield 169, 3) := dk_181 0 169 (dk_at dksX6_readsRule_2 21 rfl rfl)
theorem dX6_readsRule_72 : decode cX6_readsRule 72 = .ok (.aload_n 0, 1) := dk_42 (dk_at dksX6_readsRule_3 0 rfl rfl)
theorem dX6_readsRule_73 : decode cX6_readsRule 73 = .ok (.getfield 47, 3) := dk_180 0 47 (dk_at dksX6_readsRule_3 1 rfl rfl)
theorem dX6_readsRule_76 : decode cX6_readsRule 76 = .ok (.aload_n 0, 1) := dk_42 (dk_at dksX6_readsRule_3 4 rfl rfl)
theorem dX6_readsRule_77 : decode cX6_readsRule 77 = .ok (.getfield 247, 3) := dk_180 0 247 (dk_at dksX6_readsRule_3 5 rfl rfl)
theorem dX6_readsRule_80 : decode cX6_readsRule 80 = .ok (.aload_n 0, 1) := dk_42 (dk_at dksX6_readsRule_3 8 rfl rfl)
theorem dX6_readsRule_81 : decode cX6_readsRule 81 = .ok (.getfield 192, 3) := dk_180 0 192 (dk_at dksX6_readsRule_3 9 rfl rfl)
theorem dX6_readsRule_84 : decode cX6_readsRule 84 = .ok (.iastore, 1) := dk_79 (dk_at dksX6_readsRule_3 12 rfl rfl)
theorem dX6_readsRule_85 : decode cX6_readsRule 85 = .ok (.aload_n 0, 1) := dk_42 (dk_at dksX6_readsRule_3 13 rfl rfl)
theorem dX6_readsRule_86 : decode cX6_readsRule 86 = .ok (.iconst 0, 1) := dk_3 (dk_at dksX6_readsRule_3 14 rfl rfl)
theorem dX6_readsRule_87 : decode cX6_readsRule 87 = .ok (.putfield 196, 3) := dk_181 0 196 (dk_at dksX6_readsRule_3 15 rfl rfl)
theorem dX6_readsRule_90 : decode cX6_readsRule 90 = .ok (.aload_n 0, 1) := dk_42 (dk_at dksX6_readsRule_3 18 rfl rfl)
theorem dX6_readsRule_91 : decode cX6_readsRule 91 = .ok (.iconst 0, 1) := dk_3 (dk_at dksX6_readsRule_3 19 rfl rfl)
theorem dX6_readsRule_92 : decode cX6_readsRule 92 = .ok (.putfield 199, 3) := dk_181 0 199 (dk_at dksX6_readsRule_3 20 rfl rfl)
theorem dX6_readsRule_95 : decode cX6_readsRule 95 = .ok (.iload_n 1, 1) := dk_27 (dk_at dksX6_readsRule_3 23 rfl rfl)
theorem dX6_readsRule_96 : decode cX6_readsRule 96 = .ok (.bipush 120, 2) := dk_16 120 (dk_at dksX6_readsRule_4 0 rfl rfl)
theorem dX6_readsRule_98 : decode cX6_readsRule 98 = .ok (.if_icmp .eq 12, 3) := dk_159 0 12 (dk_at dksX6_readsRule_4 2 rfl rfl)
theorem dX6_readsRule_101 : decode cX6_readsRule 101 = .ok (.aload_n 0, 1) := dk_42 (dk_at dksX6_readsRule_4 5 rfl rfl)
theorem dX6_readsRule_102 : decode cX6_readsRule 102 = .ok (.invokevirtual 232, 3) := dk_182 0 232 (dk_at dksX6_readsRule_4 6 rfl rfl)
theorem dX6_readsRule_105 : decode cX6_readsRule 105 = .ok (.ifCond .ne 5, 3) := dk_154 0 5 (dk_at dksX6_readsRule_4 9 rfl rfl)
theorem dX6_readsRule_108 : decode cX6_readsRule 108 = .ok (.iconst 0, 1) := dk_3 (dk_at dksX6_readsRule_4 12 rfl rfl)
theorem dX6_readsRule_109 : decode cX6_readsRule 109 = .ok (.ireturn, 1) := dk_172 (dk_at dksX6_readsRule_4 13 rfl rfl)
theorem dX6_readsRule_110 : decode cX6_readsRule 110 = .ok (.aload_n 0, 1) := dk_42 (dk_at dksX6_readsRule_4 14 rfl rfl)
theorem dX6_readsRule_111 : decode cX6_readsRule 111 = .ok (.getfield 50, 3) := dk_180 0 50 (dk_at dksX6_readsRule_4 15 rfl rfl)
theorem dX6_readsRule_114 : decode cX6_readsRule 114 = .ok (.aload_n 0, 1) := dk_42 (dk_at dksX6_readsRule_4 18 rfl rfl)
theorem dX6_readsRule_115 : decode cX6_readsRule 115 = .ok (.getfield 247, 3) := dk_180 0 247 (dk_at dksX6_readsRule_4 19 rfl rfl)
theorem dX6_readsRule_118 : decode cX6_readsRule 118 = .ok (.aload_n 0, 1) := dk_42 (dk_at dksX6_readsRule_4 22 rfl rfl)
theorem dX6_readsRule_119 : decode cX6_readsRule 119 = .ok (.getfield 192, 3) := dk_180 0 192 (dk_at dksX6_readsRule_5 0 rfl rfl)
theorem dX6_readsRule_122 : decode cX6_readsRule 122 = .ok (.iastore, 1) := dk_79 (dk_at dksX6_readsRule_5 3 rfl rfl)
theorem dX6_readsRule_123 : decode cX6_readsRule 123 = .ok (.aload_n 0, 1) := dk_42 (dk_at dksX6_readsRule_5 4 rfl rfl)
theorem dX6_readsRule_124 : decode cX6_readsRule 124 = .ok (.invokevirtual 250, 3) := dk_182 0 250 (dk_at dksX6_readsRule_5 5 rfl rfl)
theorem dX6_readsRule_127 : decode cX6_readsRule 127 = .ok (.ifCond .ne 5, 3) := dk_154 0 5 (dk_at dksX6_readsRule_5 8 rfl rfl)
theorem dX6_readsRule_130 : decode cX6_readsRule 130 = .ok (.iconst 0, 1) := dk_3 (dk_at dksX6_readsRule_5 11 rfl rfl)
theorem dX6_readsRule_131 : decode cX6_readsRule 131 = .ok (.ireturn, 1) := dk_172 (dk_at dksX6_readsRule_5 12 rfl rfl)
theorem dX6_readsRule_132 : decode cX6_readsRule 132 = .ok (.aload_n 0, 1) := dk_42 (dk_at dksX6_readsRule_5 13 rfl rfl)
theorem dX6_readsRule_133 : decode cX6_readsRule 133 = .ok (.getfield 53, 3) := dk_180 0 53 (dk_at dksX6_readsRule_5 14 rfl rfl)
theorem dX6_readsRule_136 : decode cX6_readsRule 136 = .ok (.aload_n 0, 1) := dk_42 (dk_at dksX6_readsRule_5 17 rfl rfl)
theorem dX6_readsRule_137 : decode cX6_readsRule 137 = .ok (.getfield 247, 3) := dk_180 0 247 (dk_at dksX6_readsRule_5 18 rfl rfl)
theorem dX6_readsRule_140 : decode cX6_readsRule 140 = .ok (.aload_n 0, 1) := dk_42 (dk_at dksX6_readsRule_5 21 rfl rfl)
theorem dX6_readsRule_141 : decode cX6_readsRule 141 = .ok (.getfield 192, 3) := dk_180 0 192 (dk_at dksX6_readsRule_6 0 rfl rfl)
theorem dX6_readsRule_144 : decode cX6_readsRule 144 = .ok (.iastore, 1) := dk_79 (dk_at dksX6_readsRule_6 3 rfl rfl)
theorem dX6_readsRule_145 : decode cX6_readsRule 145 = .ok (.aload_n 0, 1) := dk_42 (dk_at dksX6_readsRule_6 4 rfl rfl)
theorem dX6_readsRule_146 : decode cX6_readsRule 146 = .ok (.aload_n 0, 1) := dk_42 (dk_at dksX6_readsRule_6 5 rfl rfl)
theorem dX6_readsRule_147 : decode cX6_readsRule 147 = .ok (.getfield 247, 3) := dk_180 0 247 (dk_at dksX6_readsRule_6 6 rfl rfl)
theorem dX6_readsRule_150 : decode cX6_readsRule 150 = .ok (.iconst 1, 1) := dk_4 (dk_at dksX6_readsRule_6 9 rfl rfl)
theorem dX6_readsRule_151 : decode cX6_readsRule 151 = .ok (.iadd, 1) := dk_96 (dk_at dksX6_readsRule_6 10 rfl rfl)
theorem dX6_readsRule_152 : decode cX6_readsRule 152 = .ok (.putfield 247, 3) := dk_181 0 247 (dk_at dksX6_readsRule_6 11 rfl rfl)
theorem dX6_readsRule_155 : decode cX6_readsRule 155 = .ok (.iconst 1, 1) := dk_4 (dk_at dksX6_readsRule_6 14 rfl rfl)
theorem dX6_readsRule_156 : decode cX6_readsRule 156 = .ok (.ireturn, 1) := dk_172 (dk_at dksX6_readsRule_6 15 rfl rfl)
abbrev cX6_here : ByteArray := prog_20_method_21_code
def yX6_here : MethodName := ⟨RX6, "here", "()I"⟩
def dkwX6_here_1 : List UInt8 := [167, 0, 4, 2, 172]
abbrev dktX6_here_1 : List UInt8 := dkwX6_here_1 ++ []
def dkwX6_here_0 : List UInt8 := [42, 180, 0, 169, 42, 180, 0, 172, 162, 0, 19, 42, 180, 0, 34, 42, 180, 0, 169, 51, 17, 0, 255, 126]
abbrev dktX6_here_0 : List UInt8 := dkwX6_here_0 ++ dktX6_here_1
theorem dksX6_here_0 : cX6_here.data.toList.drop 0 = dktX6_here_0 := by decide +kernel
theorem dksX6_here_1 : cX6_here.data.toList.drop 24 = dktX6_here_1 := dk_seg dksX6_here_0 24 rfl rfl
theorem dX6_here_0 : decode cX6_here 0 = .ok (.aload_n 0, 1) := dk_42 (dk_at dksX6_here_0 0 rfl rfl)
theorem dX6_here_1 : decode cX6_here 1 = .ok (.getfield 169, 3) := dk_180 0 169 (dk_at dksX6_here_0 1 rfl rfl)
theorem dX6_here_4 : decode cX6_here 4 = .ok (.aload_n 0, 1) := dk_42 (dk_at dksX6_here_0 4 rfl rfl)
theorem dX6_here_5 : decode cX6_here 5 = .ok (.getfield 172, 3) := dk_180 0 172 (dk_at dksX6_here_0 5 rfl rfl)
theorem dX6_here_8 : decode cX6_here 8 = .ok (.if_icmp .ge 19, 3) := dk_162 0 19 (dk_at dksX6_here_0 8 rfl rfl)
theorem dX6_here_11 : decode cX6_here 11 = .ok (.aload_n 0, 1) := dk_42 (dk_at dksX6_here_0 11 rfl rfl)
theorem dX6_here_12 : decode cX6_here 12 = .ok (.getfield 34, 3) := dk_180 0 34 (dk_at dksX6_here_0 12 rfl rfl)
theorem dX6_here_15 : decode cX6_here 15 = .ok (.aload_n 0, 1) := dk_42 (dk_at dksX6_here_0 15 rfl rfl)
theorem dX6_here_16 : decode cX6_here 16 = .ok (.getfield 169, 3) := dk_180 0 169 (dk_at dksX6_here_0 16 rfl rfl)
theorem dX6_here_19 : decode cX6_here 19 = .ok (.baload, 1) := dk_51 (dk_at dksX6_here_0 19 rfl rfl)
theorem dX6_here_20 : decode cX6_here 20 = .ok (.sipush 255, 3) := dk_17 0 255 (dk_at dksX6_here_0 20 rfl rfl)
theorem dX6_here_23 : decode cX6_here 23 = .ok (.iand, 1) := dk_126 (dk_at dksX6_here_0 23 rfl rfl)
theorem dX6_here_24 : decode cX6_here 24 = .ok (.goto 4, 3) := dk_167 0 4 (dk_at dksX6_here_1 0 rfl rfl)
theorem dX6_here_27 : decode cX6_here 27 = .ok (.iconst (-1), 1) := dk_2 (dk_at dksX6_here_1 3 rfl rfl)
theorem dX6_here_28 : decode cX6_here 28 = .ok (.ireturn, 1) := dk_172 (dk_at dksX6_here_1 4 rfl rfl)
abbrev cX6_wrongAt : ByteArray := prog_20_method_23_code
def yX6_wrongAt : MethodName := ⟨RX6, "wrongAt", "(II)Z"⟩
def dkwX6_wrongAt_0 : List UInt8 := [42, 17, 252, 24, 27, 104, 28, 100, 181, 0, 179, 3, 172]
abbrev dktX6_wrongAt_0 : List UInt8 := dkwX6_wrongAt_0 ++ []
theorem dksX6_wrongAt_0 : cX6_wrongAt.data.toList.drop 0 = dktX6_wrongAt_0 := by decide +kernel
theorem dX6_wrongAt_0 : decode cX6_wrongAt 0 = .ok (.aload_n 0, 1) := dk_42 (dk_at dksX6_wrongAt_0 0 rfl rfl)
theorem dX6_wrongAt_1 : decode cX6_wrongAt 1 = .ok (.sipush (-1000), 3) := dk_17 252 24 (dk_at dksX6_wrongAt_0 1 rfl rfl)
theorem dX6_wrongAt_4 : decode cX6_wrongAt 4 = .ok (.iload_n 1, 1) := dk_27 (dk_at dksX6_wrongAt_0 4 rfl rfl)
theorem dX6_wrongAt_5 : decode cX6_wrongAt 5 = .ok (.imul, 1) := dk_104 (dk_at dksX6_wrongAt_0 5 rfl rfl)
theorem dX6_wrongAt_6 : decode cX6_wrongAt 6 = .ok (.iload_n 2, 1) := dk_28 (dk_at dksX6_wrongAt_0 6 rfl rfl)
theorem dX6_wrongAt_7 : decode cX6_wrongAt 7 = .ok (.isub, 1) := dk_100 (dk_at dksX6_wrongAt_0 7 rfl rfl)
theorem dX6_wrongAt_8 : decode cX6_wrongAt 8 = .ok (.putfield 179, 3) := dk_181 0 179 (dk_at dksX6_wrongAt_0 8 rfl rfl)
theorem dX6_wrongAt_11 : decode cX6_wrongAt 11 = .ok (.iconst 0, 1) := dk_3 (dk_at dksX6_wrongAt_0 11 rfl rfl)
theorem dX6_wrongAt_12 : decode cX6_wrongAt 12 = .ok (.ireturn, 1) := dk_172 (dk_at dksX6_wrongAt_0 12 rfl rfl)
abbrev cX6_readsSum : ByteArray := prog_20_method_34_code
def yX6_readsSum : MethodName := ⟨RX6, "readsSum", "()Z"⟩
def dkwX6_readsSum_7 : List UInt8 := [167, 255, 107]
abbrev dktX6_readsSum_7 : List UInt8 := dkwX6_readsSum_7 ++ []
def dkwX6_readsSum_6 : List UInt8 := [182, 0, 229, 153, 0, 13, 42, 4, 42, 180, 0, 169, 182, 0, 182, 172, 42, 4, 182, 0, 225, 4, 172]
abbrev dktX6_readsSum_6 : List UInt8 := dkwX6_readsSum_6 ++ dktX6_readsSum_7
def dkwX6_readsSum_5 : List UInt8 := [180, 0, 196, 4, 100, 181, 0, 196, 42, 42, 180, 0, 169, 4, 96, 181, 0, 169, 167, 0, 28, 42, 27]
abbrev dktX6_readsSum_5 : List UInt8 := dkwX6_readsSum_5 ++ dktX6_readsSum_6
def dkwX6_readsSum_4 : List UInt8 := [182, 0, 229, 153, 0, 41, 42, 4, 182, 0, 225, 42, 42, 180, 0, 199, 4, 100, 181, 0, 199, 42, 42]
abbrev dktX6_readsSum_4 : List UInt8 := dkwX6_readsSum_4 ++ dktX6_readsSum_5
def dkwX6_readsSum_3 : List UInt8 := [96, 181, 0, 169, 42, 182, 0, 219, 154, 0, 85, 3, 172, 42, 182, 0, 175, 16, 93, 160, 0, 49, 42, 27]
abbrev dktX6_readsSum_3 : List UInt8 := dkwX6_readsSum_3 ++ dktX6_readsSum_4
def dkwX6_readsSum_2 : List UInt8 := [180, 0, 199, 18, 195, 28, 104, 79, 42, 42, 180, 0, 199, 4, 96, 181, 0, 199, 42, 42, 180, 0, 169, 4]
abbrev dktX6_readsSum_2 : List UInt8 := dkwX6_readsSum_2 ++ dktX6_readsSum_3
def dkwX6_readsSum_1 : List UInt8 := [159, 0, 59, 42, 28, 7, 162, 0, 7, 4, 167, 0, 4, 3, 182, 0, 225, 42, 180, 0, 41, 42]
abbrev dktX6_readsSum_1 : List UInt8 := dkwX6_readsSum_1 ++ dktX6_readsSum_2
def dkwX6_readsSum_0 : List UInt8 := [42, 180, 0, 199, 60, 42, 182, 0, 219, 154, 0, 5, 3, 172, 42, 182, 0, 175, 184, 0, 222, 61, 28, 2]
abbrev dktX6_readsSum_0 : List UInt8 := dkwX6_readsSum_0 ++ dktX6_readsSum_1
theorem dksX6_readsSum_0 : cX6_readsSum.data.toList.drop 0 = dktX6_readsSum_0 := by decide +kernel
theorem dksX6_readsSum_1 : cX6_readsSum.data.toList.drop 24 = dktX6_readsSum_1 := dk_seg dksX6_readsSum_0 24 rfl rfl
theorem dksX6_readsSum_2 : cX6_readsSum.data.toList.drop 46 = dktX6_readsSum_2 := dk_seg dksX6_readsSum_1 22 rfl rfl
theorem dksX6_readsSum_3 : cX6_readsSum.data.toList.drop 70 = dktX6_readsSum_3 := dk_seg dksX6_readsSum_2 24 rfl rfl
theorem dksX6_readsSum_4 : cX6_readsSum.data.toList.drop 94 = dktX6_readsSum_4 := dk_seg dksX6_readsSum_3 24 rfl rfl
theorem dksX6_readsSum_5 : cX6_readsSum.data.toList.drop 117 = dktX6_readsSum_5 := dk_seg dksX6_readsSum_4 23 rfl rfl
theorem dksX6_readsSum_6 : cX6_readsSum.data.toList.drop 140 = dktX6_readsSum_6 := dk_seg dksX6_readsSum_5 23 rfl rfl
theorem dksX6_readsSum_7 : cX6_readsSum.data.toList.drop 163 = dktX6_readsSum_7 := dk_seg dksX6_readsSum_6 23 rfl rfl
theorem dX6_readsSum_0 : decode cX6_readsSum 0 = .ok (.aload_n 0, 1) := dk_42 (dk_at dksX6_readsSum_0 0 rfl rfl)
theorem dX6_readsSum_1 : decode cX6_readsSum 1 = .ok (.getfield 199, 3) := dk_180 0 199 (dk_at dksX6_readsSum_0 1 rfl rfl)
theorem dX6_readsSum_4 : decode cX6_readsSum 4 = .ok (.istore_n 1, 1) := dk_60 (dk_at dksX6_readsSum_0 4 rfl rfl)
theorem dX6_readsSum_5 : decode cX6_readsSum 5 = .ok (.aload_n 0, 1) := dk_42 (dk_at dksX6_readsSum_0 5 rfl rfl)
theorem dX6_readsSum_6 : decode cX6_readsSum 6 = .ok (.invokevirtual 219, 3) := dk_182 0 219 (dk_at dksX6_readsSum_0 6 rfl rfl)
theorem dX6_readsSum_9 : decode cX6_readsSum 9 = .ok (.ifCond .ne 5, 3) := dk_154 0 5 (dk_at dksX6_readsSum_0 9 rfl rfl)
theorem dX6_readsSum_12 : decode cX6_readsSum 12 = .ok (.iconst 0, 1) := dk_3 (dk_at dksX6_readsSum_0 12 rfl rfl)
theorem dX6_readsSum_13 : decode cX6_readsSum 13 = .ok (.ireturn, 1) := dk_172 (dk_at dksX6_readsSum_0 13 rfl rfl)
theorem dX6_readsSum_14 : decode cX6_readsSum 14 = .ok (.aload_n 0, 1) := dk_42 (dk_at dksX6_readsSum_0 14 rfl rfl)
theorem dX6_readsSum_15 : decode cX6_readsSum 15 = .ok (.invokevirtual 175, 3) := dk_182 0 175 (dk_at dksX6_readsSum_0 15 rfl rfl)
theorem dX6_readsSum_18 : decode cX6_readsSum 18 = .ok (.invokestatic 222, 3) := dk_184 0 222 (dk_at dksX6_readsSum_0 18 rfl rfl)
theorem dX6_readsSum_21 : decode cX6_readsSum 21 = .ok (.istore_n 2, 1) := dk_61 (dk_at dksX6_readsSum_0 21 rfl rfl)
theorem dX6_readsSum_22 : decode cX6_readsSum 22 = .ok (.iload_n 2, 1) := dk_28 (dk_at dksX6_readsSum_0 22 rfl rfl)
theorem dX6_readsSum_23 : decode cX6_readsSum 23 = .ok (.iconst (-1), 1) := dk_2 (dk_at dksX6_readsSum_0 23 rfl rfl)
theorem dX6_readsSum_24 : decode cX6_readsSum 24 = .ok (.if_icmp .eq 59, 3) := dk_159 0 59 (dk_at dksX6_readsSum_1 0 rfl rfl)
theorem dX6_readsSum_27 : decode cX6_readsSum 27 = .ok (.aload_n 0, 1) := dk_42 (dk_at dksX6_readsSum_1 3 rfl rfl)
theorem dX6_readsSum_28 : decode cX6_readsSum 28 = .ok (.iload_n 2, 1) := dk_28 (dk_at dksX6_readsSum_1 4 rfl rfl)
theorem dX6_readsSum_29 : decode cX6_readsSum 29 = .ok (.iconst 4, 1) := dk_7 (dk_at dksX6_readsSum_1 5 rfl rfl)
theorem dX6_readsSum_30 : decode cX6_readsSum 30 = .ok (.if_icmp .ge 7, 3) := dk_162 0 7 (dk_at dksX6_readsSum_1 6 rfl rfl)
theorem dX6_readsSum_33 : decode cX6_readsSum 33 = .ok (.iconst 1, 1) := dk_4 (dk_at dksX6_readsSum_1 9 rfl rfl)
theorem dX6_readsSum_34 : decode cX6_readsSum 34 = .ok (.goto 4, 3) := dk_167 0 4 (dk_at dksX6_readsSum_1 10 rfl rfl)
theorem dX6_readsSum_37 : decode cX6_readsSum 37 = .ok (.iconst 0, 1) := dk_3 (dk_at dksX6_readsSum_1 13 rfl rfl)
theorem dX6_readsSum_38 : decode cX6_readsSum 38 = .ok (.invokevirtual 225, 3) := dk_182 0 225 (dk_at dksX6_readsSum_1 14 rfl rfl)
theorem dX6_readsSum_41 : decode cX6_readsSum 41 = .ok (.aload_n 0, 1) := dk_42 (dk_at dksX6_readsSum_1 17 rfl rfl)
theorem dX6_readsSum_42 : decode cX6_readsSum 42 = .ok (.getfield 41, 3) := dk_180 0 41 (dk_at dksX6_readsSum_1 18 rfl rfl)
theorem dX6_readsSum_45 : decode cX6_readsSum 45 = .ok (.aload_n 0, 1) := dk_42 (dk_at dksX6_readsSum_1 21 rfl rfl)
theorem dX6_readsSum_46 : decode cX6_readsSum 46 = .ok (.getfield 199, 3) := dk_180 0 199 (dk_at dksX6_readsSum_2 0 rfl rfl)
theorem dX6_readsSum_49 : decode cX6_readsSum 49 = .ok (.ldc 195, 2) := dk_18 195 (dk_at dksX6_readsSum_2 3 rfl rfl)
theorem dX6_readsSum_51 : decode cX6_readsSum 51 = .ok (.iload_n 2, 1) := dk_28 (dk_at dksX6_readsSum_2 5 rfl rfl)
theorem dX6_readsSum_52 : decode cX6_readsSum 52 = .ok (.imul, 1) := dk_104 (dk_at dksX6_readsSum_2 6 rfl rfl)
theorem dX6_readsSum_53 : decode cX6_readsSum 53 = .ok (.iastore, 1) := dk_79 (dk_at dksX6_readsSum_2 7 rfl rfl)
theorem dX6_readsSum_54 : decode cX6_readsSum 54 = .ok (.aload_n 0, 1) := dk_42 (dk_at dksX6_readsSum_2 8 rfl rfl)
theorem dX6_readsSum_55 : decode cX6_readsSum 55 = .ok (.aload_n 0, 1) := dk_42 (dk_at dksX6_readsSum_2 9 rfl rfl)
theorem dX6_readsSum_56 : decode cX6_readsSum 56 = .ok (.getfield 199, 3) := dk_180 0 199 (dk_at dksX6_readsSum_2 10 rfl rfl)
theorem dX6_readsSum_59 : decode cX6_readsSum 59 = .ok (.iconst 1, 1) := dk_4 (dk_at dksX6_readsSum_2 13 rfl rfl)
theorem dX6_readsSum_60 : decode cX6_readsSum 60 = .ok (.iadd, 1) := dk_96 (dk_at dksX6_readsSum_2 14 rfl rfl)
theorem dX6_readsSum_61 : decode cX6_readsSum 61 = .ok (.putfield 199, 3) := dk_181 0 199 (dk_at dksX6_readsSum_2 15 rfl rfl)
theorem dX6_readsSum_64 : decode cX6_readsSum 64 = .ok (.aload_n 0, 1) := dk_42 (dk_at dksX6_readsSum_2 18 rfl rfl)
theorem dX6_readsSum_65 : decode cX6_readsSum 65 = .ok (.aload_n 0, 1) := dk_42 (dk_at dksX6_readsSum_2 19 rfl rfl)
theorem dX6_readsSum_66 : decode cX6_readsSum 66 = .ok (.getfield 169, 3) := dk_180 0 169 (dk_at dksX6_readsSum_2 20 rfl rfl)
theorem dX6_readsSum_69 : decode cX6_readsSum 69 = .ok (.iconst 1, 1) := dk_4 (dk_at dksX6_readsSum_2 23 rfl rfl)
theorem dX6_readsSum_70 : decode cX6_readsSum 70 = .ok (.iadd, 1) := dk_96 (dk_at dksX6_readsSum_3 0 rfl rfl)
theorem dX6_readsSum_71 : decode cX6_readsSum 71 = .ok (.putfield 169, 3) := dk_181 0 169 (dk_at dksX6_readsSum_3 1 rfl rfl)
theorem dX6_readsSum_74 : decode cX6_readsSum 74 = .ok (.aload_n 0, 1) := dk_42 (dk_at dksX6_readsSum_3 4 rfl rfl)
theorem dX6_readsSum_75 : decode cX6_readsSum 75 = .ok (.invokevirtual 219, 3) := dk_182 0 219 (dk_at dksX6_readsSum_3 5 rfl rfl)
theorem dX6_readsSum_78 : decode cX6_readsSum 78 = .ok (.ifCond .ne 85, 3) := dk_154 0 85 (dk_at dksX6_readsSum_3 8 rfl rfl)
theorem dX6_readsSum_81 : decode cX6_readsSum 81 = .ok (.iconst 0, 1) := dk_3 (dk_at dksX6_readsSum_3 11 rfl rfl)
theorem dX6_readsSum_82 : decode cX6_readsSum 82 = .ok (.ireturn, 1) := dk_172 (dk_at dksX6_readsSum_3 12 rfl rfl)
theorem dX6_readsSum_83 : decode cX6_readsSum 83 = .ok (.aload_n 0, 1) := dk_42 (dk_at dksX6_readsSum_3 13 rfl rfl)
theorem dX6_readsSum_84 : decode cX6_readsSum 84 = .ok (.invokevirtual 175, 3) := dk_182 0 175 (dk_at dksX6_readsSum_3 14 rfl rfl)
theorem dX6_readsSum_87 : decode cX6_readsSum 87 = .ok (.bipush 93, 2) := dk_16 93 (dk_at dksX6_readsSum_3 17 rfl rfl)
theorem dX6_readsSum_89 : decode cX6_readsSum 89 = .ok (.if_icmp .ne 49, 3) := dk_160 0 49 (dk_at dksX6_readsSum_3 19 rfl rfl)
theorem dX6_readsSum_92 : decode cX6_readsSum 92 = .ok (.aload_n 0, 1) := dk_42 (dk_at dksX6_readsSum_3 22 rfl rfl)
theorem dX6_readsSum_93 : decode cX6_readsSum 93 = .ok (.iload_n 1, 1) := dk_27 (dk_at dksX6_readsSum_3 23 rfl rfl)
theorem dX6_readsSum_94 : decode cX6_readsSum 94 = .ok (.invokevirtual 229, 3) := dk_182 0 229 (dk_at dksX6_readsSum_4 0 rfl rfl)
theorem dX6_readsSum_97 : decode cX6_readsSum 97 = .ok (.ifCond .eq 41, 3) := dk_153 0 41 (dk_at dksX6_readsSum_4 3 rfl rfl)
theorem dX6_readsSum_100 : decode cX6_readsSum 100 = .ok (.aload_n 0, 1) := dk_42 (dk_at dksX6_readsSum_4 6 rfl rfl)
theorem dX6_readsSum_101 : decode cX6_readsSum 101 = .ok (.iconst 1, 1) := dk_4 (dk_at dksX6_readsSum_4 7 rfl rfl)
theorem dX6_readsSum_102 : decode cX6_readsSum 102 = .ok (.invokevirtual 225, 3) := dk_182 0 225 (dk_at dksX6_readsSum_4 8 rfl rfl)
theorem dX6_readsSum_105 : decode cX6_readsSum 105 = .ok (.aload_n 0, 1) := dk_42 (dk_at dksX6_readsSum_4 11 rfl rfl)
theorem dX6_readsSum_106 : decode cX6_readsSum 106 = .ok (.aload_n 0, 1) := dk_42 (dk_at dksX6_readsSum_4 12 rfl rfl)
theorem dX6_readsSum_107 : decode cX6_readsSum 107 = .ok (.getfield 199, 3) := dk_180 0 199 (dk_at dksX6_readsSum_4 13 rfl rfl)
theorem dX6_readsSum_110 : decode cX6_readsSum 110 = .ok (.iconst 1, 1) := dk_4 (dk_at dksX6_readsSum_4 16 rfl rfl)
theorem dX6_readsSum_111 : decode cX6_readsSum 111 = .ok (.isub, 1) := dk_100 (dk_at dksX6_readsSum_4 17 rfl rfl)
theorem dX6_readsSum_112 : decode cX6_readsSum 112 = .ok (.putfield 199, 3) := dk_181 0 199 (dk_at dksX6_readsSum_4 18 rfl rfl)
theorem dX6_readsSum_115 : decode cX6_readsSum 115 = .ok (.aload_n 0, 1) := dk_42 (dk_at dksX6_readsSum_4 21 rfl rfl)
theorem dX6_readsSum_116 : decode cX6_readsSum 116 = .ok (.aload_n 0, 1) := dk_42 (dk_at dksX6_readsSum_4 22 rfl rfl)
theorem dX6_readsSum_117 : decode cX6_readsSum 117 = .ok (.getfield 196, 3) := dk_180 0 196 (dk_at dksX6_readsSum_5 0 rfl rfl)
theorem dX6_readsSum_120 : decode cX6_readsSum 120 = .ok (.iconst 1, 1) := dk_4 (dk_at dksX6_readsSum_5 3 rfl rfl)
theorem dX6_readsSum_121 : decode cX6_readsSum 121 = .ok (.isub, 1) := dk_100 (dk_at dksX6_readsSum_5 4 rfl rfl)
theorem dX6_readsSum_122 : decode cX6_readsSum 122 = .ok (.putfield 196, 3) := dk_181 0 196 (dk_at dksX6_readsSum_5 5 rfl rfl)
theorem dX6_readsSum_125 : decode cX6_readsSum 125 = .ok (.aload_n 0, 1) := dk_42 (dk_at dksX6_readsSum_5 8 rfl rfl)
theorem dX6_readsSum_126 : decode cX6_readsSum 126 = .ok (.aload_n 0, 1) := dk_42 (dk_at dksX6_readsSum_5 9 rfl rfl)
theorem dX6_readsSum_127 : decode cX6_readsSum 127 = .ok (.getfield 169, 3) := dk_180 0 169 (dk_at dksX6_readsSum_5 10 rfl rfl)
theorem dX6_readsSum_130 : decode cX6_readsSum 130 = .ok (.iconst 1, 1) := dk_4 (dk_at dksX6_readsSum_5 13 rfl rfl)
theorem dX6_readsSum_131 : decode cX6_readsSum 131 = .ok (.iadd, 1) := dk_96 (dk_at dksX6_readsSum_5 14 rfl rfl)
theorem dX6_readsSum_132 : decode cX6_readsSum 132 = .ok (.putfield 169, 3) := dk_181 0 169 (dk_at dksX6_readsSum_5 15 rfl rfl)
theorem dX6_readsSum_135 : decode cX6_readsSum 135 = .ok (.goto 28, 3) := dk_167 0 28 (dk_at dksX6_readsSum_5 18 rfl rfl)
theorem dX6_readsSum_138 : decode cX6_readsSum 138 = .ok (.aload_n 0, 1) := dk_42 (dk_at dksX6_readsSum_5 21 rfl rfl)
theorem dX6_readsSum_139 : decode cX6_readsSum 139 = .ok (.iload_n 1, 1) := dk_27 (dk_at dksX6_readsSum_5 22 rfl rfl)
theorem dX6_readsSum_140 : decode cX6_readsSum 140 = .ok (.invokevirtual 229, 3) := dk_182 0 229 (dk_at dksX6_readsSum_6 0 rfl rfl)
theorem dX6_readsSum_143 : decode cX6_readsSum 143 = .ok (.ifCond .eq 13, 3) := dk_153 0 13 (dk_at dksX6_readsSum_6 3 rfl rfl)
theorem dX6_readsSum_146 : decode cX6_readsSum 146 = .ok (.aload_n 0, 1) := dk_42 (dk_at dksX6_readsSum_6 6 rfl rfl)
theorem dX6_readsSum_147 : decode cX6_readsSum 147 = .ok (.iconst 1, 1) := dk_4 (dk_at dksX6_readsSum_6 7 rfl rfl)
theorem dX6_readsSum_148 : decode cX6_readsSum 148 = .ok (.aload_n 0, 1) := dk_42 (dk_at dksX6_readsSum_6 8 rfl rfl)
theorem dX6_readsSum_149 : decode cX6_readsSum 149 = .ok (.getfield 169, 3) := dk_180 0 169 (dk_at dksX6_readsSum_6 9 rfl rfl)
theorem dX6_readsSum_152 : decode cX6_readsSum 152 = .ok (.invokevirtual 182, 3) := dk_182 0 182 (dk_at dksX6_readsSum_6 12 rfl rfl)
theorem dX6_readsSum_155 : decode cX6_readsSum 155 = .ok (.ireturn, 1) := dk_172 (dk_at dksX6_readsSum_6 15 rfl rfl)
theorem dX6_readsSum_156 : decode cX6_readsSum 156 = .ok (.aload_n 0, 1) := dk_42 (dk_at dksX6_readsSum_6 16 rfl rfl)
theorem dX6_readsSum_157 : decode cX6_readsSum 157 = .ok (.iconst 1, 1) := dk_4 (dk_at dksX6_readsSum_6 17 rfl rfl)
theorem dX6_readsSum_158 : decode cX6_readsSum 158 = .ok (.invokevirtual 225, 3) := dk_182 0 225 (dk_at dksX6_readsSum_6 18 rfl rfl)
theorem dX6_readsSum_161 : decode cX6_readsSum 161 = .ok (.iconst 1, 1) := dk_4 (dk_at dksX6_readsSum_6 21 rfl rfl)
theorem dX6_readsSum_162 : decode cX6_readsSum 162 = .ok (.ireturn, 1) := dk_172 (dk_at dksX6_readsSum_6 22 rfl rfl)
theorem dX6_readsSum_163 : decode cX6_readsSum 163 = .ok (.goto (-149), 3) := dk_167 255 107 (dk_at dksX6_readsSum_7 0 rfl rfl)
abbrev cX6_readsFactor : ByteArray := prog_20_method_32_code
def yX6_readsFactor : MethodName := ⟨RX6, "readsFactor", "()Z"⟩
def dkwX6_readsFactor_3 : List UInt8 := [27, 182, 0, 205, 42, 42, 180, 0, 169, 4, 96, 181, 0, 169, 4, 172]
abbrev dktX6_readsFactor_3 : List UInt8 := dkwX6_readsFactor_3 ++ []
def dkwX6_readsFactor_2 : List UInt8 := [182, 0, 175, 184, 0, 215, 60, 27, 2, 160, 0, 13, 42, 4, 42, 180, 0, 169, 182, 0, 182, 172, 42, 4]
abbrev dktX6_readsFactor_2 : List UInt8 := dkwX6_readsFactor_2 ++ dktX6_readsFactor_3
def dkwX6_readsFactor_1 : List UInt8 := [153, 0, 23, 42, 182, 0, 212, 154, 0, 5, 3, 172, 42, 3, 42, 180, 0, 185, 182, 0, 205, 4, 172, 42]
abbrev dktX6_readsFactor_1 : List UInt8 := dkwX6_readsFactor_1 ++ dktX6_readsFactor_2
def dkwX6_readsFactor_0 : List UInt8 := [42, 182, 0, 175, 16, 91, 160, 0, 14, 42, 16, 14, 182, 0, 209, 154, 255, 241, 3, 172, 42, 182, 0, 188]
abbrev dktX6_readsFactor_0 : List UInt8 := dkwX6_readsFactor_0 ++ dktX6_readsFactor_1
theorem dksX6_readsFactor_0 : cX6_readsFactor.data.toList.drop 0 = dktX6_readsFactor_0 := by decide +kernel
theorem dksX6_readsFactor_1 : cX6_readsFactor.data.toList.drop 24 = dktX6_readsFactor_1 := dk_seg dksX6_readsFactor_0 24 rfl rfl
theorem dksX6_readsFactor_2 : cX6_readsFactor.data.toList.drop 48 = dktX6_readsFactor_2 := dk_seg dksX6_readsFactor_1 24 rfl rfl
theorem dksX6_readsFactor_3 : cX6_readsFactor.data.toList.drop 72 = dktX6_readsFactor_3 := dk_seg dksX6_readsFactor_2 24 rfl rfl
theorem dX6_readsFactor_0 : decode cX6_readsFactor 0 = .ok (.aload_n 0, 1) := dk_42 (dk_at dksX6_readsFactor_0 0 rfl rfl)
theorem dX6_readsFactor_1 : decode cX6_readsFactor 1 = .ok (.invokevirtual 175, 3) := dk_182 0 175 (dk_at dksX6_readsFactor_0 1 rfl rfl)
theorem dX6_readsFactor_4 : decode cX6_readsFactor 4 = .ok (.bipush 91, 2) := dk_16 91 (dk_at dksX6_readsFactor_0 4 rfl rfl)
theorem dX6_readsFactor_6 : decode cX6_readsFactor 6 = .ok (.if_icmp .ne 14, 3) := dk_160 0 14 (dk_at dksX6_readsFactor_0 6 rfl rfl)
theorem dX6_readsFactor_9 : decode cX6_readsFactor 9 = .ok (.aload_n 0, 1) := dk_42 (dk_at dksX6_readsFactor_0 9 rfl rfl)
theorem dX6_readsFactor_10 : decode cX6_readsFactor 10 = .ok (.bipush 14, 2) := dk_16 14 (dk_at dksX6_readsFactor_0 10 rfl rfl)
theorem dX6_readsFactor_12 : decode cX6_readsFactor 12 = .ok (.invokevirtual 209, 3) := dk_182 0 209 (dk_at dksX6_readsFactor_0 12 rfl rfl)
theorem dX6_readsFactor_15 : decode cX6_readsFactor 15 = .ok (.ifCond .ne (-15), 3) := dk_154 255 241 (dk_at dksX6_readsFactor_0 15 rfl rfl)
theorem dX6_readsFactor_18 : decode cX6_readsFactor 18 = .ok (.iconst 0, 1) := dk_3 (dk_at dksX6_readsFactor_0 18 rfl rfl)
theorem dX6_readsFactor_19 : decode cX6_readsFactor 19 = .ok (.ireturn, 1) := dk_172 (dk_at dksX6_readsFactor_0 19 rfl rfl)
theorem dX6_readsFactor_20 : decode cX6_readsFactor 20 = .ok (.aload_n 0, 1) := dk_42 (dk_at dksX6_readsFactor_0 20 rfl rfl)
theorem dX6_readsFactor_21 : decode cX6_readsFactor 21 = .ok (.invokevirtual 188, 3) := dk_182 0 188 (dk_at dksX6_readsFactor_0 21 rfl rfl)
theorem dX6_readsFactor_24 : decode cX6_readsFactor 24 = .ok (.ifCond .eq 23, 3) := dk_153 0 23 (dk_at dksX6_readsFactor_1 0 rfl rfl)
theorem dX6_readsFactor_27 : decode cX6_readsFactor 27 = .ok (.aload_n 0, 1) := dk_42 (dk_at dksX6_readsFactor_1 3 rfl rfl)
theorem dX6_readsFactor_28 : decode cX6_readsFactor 28 = .ok (.invokevirtual 212, 3) := dk_182 0 212 (dk_at dksX6_readsFactor_1 4 rfl rfl)
theorem dX6_readsFactor_31 : decode cX6_readsFactor 31 = .ok (.ifCond .ne 5, 3) := dk_154 0 5 (dk_at dksX6_readsFactor_1 7 rfl rfl)
theorem dX6_readsFactor_34 : decode cX6_readsFactor 34 = .ok (.iconst 0, 1) := dk_3 (dk_at dksX6_readsFactor_1 10 rfl rfl)
theorem dX6_readsFactor_35 : decode cX6_readsFactor 35 = .ok (.ireturn, 1) := dk_172 (dk_at dksX6_readsFactor_1 11 rfl rfl)
theorem dX6_readsFactor_36 : decode cX6_readsFactor 36 = .ok (.aload_n 0, 1) := dk_42 (dk_at dksX6_readsFactor_1 12 rfl rfl)
theorem dX6_readsFactor_37 : decode cX6_readsFactor 37 = .ok (.iconst 0, 1) := dk_3 (dk_at dksX6_readsFactor_1 13 rfl rfl)
theorem dX6_readsFactor_38 : decode cX6_readsFactor 38 = .ok (.aload_n 0, 1) := dk_42 (dk_at dksX6_readsFactor_1 14 rfl rfl)
theorem dX6_readsFactor_39 : decode cX6_readsFactor 39 = .ok (.getfield 185, 3) := dk_180 0 185 (dk_at dksX6_readsFactor_1 15 rfl rfl)
theorem dX6_readsFactor_42 : decode cX6_readsFactor 42 = .ok (.invokevirtual 205, 3) := dk_182 0 205 (dk_at dksX6_readsFactor_1 18 rfl rfl)
theorem dX6_readsFactor_45 : decode cX6_readsFactor 45 = .ok (.iconst 1, 1) := dk_4 (dk_at dksX6_readsFactor_1 21 rfl rfl)
theorem dX6_readsFactor_46 : decode cX6_readsFactor 46 = .ok (.ireturn, 1) := dk_172 (dk_at dksX6_readsFactor_1 22 rfl rfl)
theorem dX6_readsFactor_47 : decode cX6_readsFactor 47 = .ok (.aload_n 0, 1) := dk_42 (dk_at dksX6_readsFactor_1 23 rfl rfl)
theorem dX6_readsFactor_48 : decode cX6_readsFactor 48 = .ok (.invokevirtual 175, 3) := dk_182 0 175 (dk_at dksX6_readsFactor_2 0 rfl rfl)
theorem dX6_readsFactor_51 : decode cX6_readsFactor 51 = .ok (.invokestatic 215, 3) := dk_184 0 215 (dk_at dksX6_readsFactor_2 3 rfl rfl)
theorem dX6_readsFactor_54 : decode cX6_readsFactor 54 = .ok (.istore_n 1, 1) := dk_60 (dk_at dksX6_readsFactor_2 6 rfl rfl)
theorem dX6_readsFactor_55 : decode cX6_readsFactor 55 = .ok (.iload_n 1, 1) := dk_27 (dk_at dksX6_readsFactor_2 7 rfl rfl)
theorem dX6_readsFactor_56 : decode cX6_readsFactor 56 = .ok (.iconst (-1), 1) := dk_2 (dk_at dksX6_readsFactor_2 8 rfl rfl)
theorem dX6_readsFactor_57 : decode cX6_readsFactor 57 = .ok (.if_icmp .ne 13, 3) := dk_160 0 13 (dk_at dksX6_readsFactor_2 9 rfl rfl)
theorem dX6_readsFactor_60 : decode cX6_readsFactor 60 = .ok (.aload_n 0, 1) := dk_42 (dk_at dksX6_readsFactor_2 12 rfl rfl)
theorem dX6_readsFactor_61 : decode cX6_readsFactor 61 = .ok (.iconst 1, 1) := dk_4 (dk_at dksX6_readsFactor_2 13 rfl rfl)
theorem dX6_readsFactor_62 : decode cX6_readsFactor 62 = .ok (.aload_n 0, 1) := dk_42 (dk_at dksX6_readsFactor_2 14 rfl rfl)
theorem dX6_readsFactor_63 : decode cX6_readsFactor 63 = .ok (.getfield 169, 3) := dk_180 0 169 (dk_at dksX6_readsFactor_2 15 rfl rfl)
theorem dX6_readsFactor_66 : decode cX6_readsFactor 66 = .ok (.invokevirtual 182, 3) := dk_182 0 182 (dk_at dksX6_readsFactor_2 18 rfl rfl)
theorem dX6_readsFactor_69 : decode cX6_readsFactor 69 = .ok (.ireturn, 1) := dk_172 (dk_at dksX6_readsFactor_2 21 rfl rfl)
theorem dX6_readsFactor_70 : decode cX6_readsFactor 70 = .ok (.aload_n 0, 1) := dk_42 (dk_at dksX6_readsFactor_2 22 rfl rfl)
theorem dX6_readsFactor_71 : decode cX6_readsFactor 71 = .ok (.iconst 1, 1) := dk_4 (dk_at dksX6_readsFactor_2 23 rfl rfl)
theorem dX6_readsFactor_72 : decode cX6_readsFactor 72 = .ok (.iload_n 1, 1) := dk_27 (dk_at dksX6_readsFactor_3 0 rfl rfl)
theorem dX6_readsFactor_73 : decode cX6_readsFactor 73 = .ok (.invokevirtual 205, 3) := dk_182 0 205 (dk_at dksX6_readsFactor_3 1 rfl rfl)
theorem dX6_readsFactor_76 : decode cX6_readsFactor 76 = .ok (.aload_n 0, 1) := dk_42 (dk_at dksX6_readsFactor_3 4 rfl rfl)
theorem dX6_readsFactor_77 : decode cX6_readsFactor 77 = .ok (.aload_n 0, 1) := dk_42 (dk_at dksX6_readsFactor_3 5 rfl rfl)
theorem dX6_readsFactor_78 : decode cX6_readsFactor 78 = .ok (.getfield 169, 3) := dk_180 0 169 (dk_at dksX6_readsFactor_3 6 rfl rfl)
theorem dX6_readsFactor_81 : decode cX6_readsFactor 81 = .ok (.iconst 1, 1) := dk_4 (dk_at dksX6_readsFactor_3 9 rfl rfl)
theorem dX6_readsFactor_82 : decode cX6_readsFactor 82 = .ok (.iadd, 1) := dk_96 (dk_at dksX6_readsFactor_3 10 rfl rfl)
theorem dX6_readsFactor_83 : decode cX6_readsFactor 83 = .ok (.putfield 169, 3) := dk_181 0 169 (dk_at dksX6_readsFactor_3 11 rfl rfl)
theorem dX6_readsFactor_86 : decode cX6_readsFactor 86 = .ok (.iconst 1, 1) := dk_4 (dk_at dksX6_readsFactor_3 14 rfl rfl)
theorem dX6_readsFactor_87 : decode cX6_readsFactor 87 = .ok (.ireturn, 1) := dk_172 (dk_at dksX6_readsFactor_3 15 rfl rfl)
abbrev cX6_opens : ByteArray := prog_20_method_27_code
def yX6_opens : MethodName := ⟨RX6, "opens", "(I)Z"⟩
def dkwX6_opens_2 : List UInt8 := [96, 181, 0, 199, 42, 42, 180, 0, 169, 4, 96, 181, 0, 169, 4, 172]
abbrev dktX6_opens_2 : List UInt8 := dkwX6_opens_2 ++ []
def dkwX6_opens_1 : List UInt8 := [4, 96, 181, 0, 196, 42, 180, 0, 41, 42, 180, 0, 199, 18, 195, 27, 104, 79, 42, 42, 180, 0, 199, 4]
abbrev dktX6_opens_1 : List UInt8 := dkwX6_opens_1 ++ dktX6_opens_2
def dkwX6_opens_0 : List UInt8 := [42, 180, 0, 196, 16, 6, 160, 0, 13, 42, 8, 42, 180, 0, 169, 182, 0, 182, 172, 42, 42, 180, 0, 196]
abbrev dktX6_opens_0 : List UInt8 := dkwX6_opens_0 ++ dktX6_opens_1
theorem dksX6_opens_0 : cX6_opens.data.toList.drop 0 = dktX6_opens_0 := by decide +kernel
theorem dksX6_opens_1 : cX6_opens.data.toList.drop 24 = dktX6_opens_1 := dk_seg dksX6_opens_0 24 rfl rfl
theorem dksX6_opens_2 : cX6_opens.data.toList.drop 48 = dktX6_opens_2 := dk_seg dksX6_opens_1 24 rfl rfl
theorem dX6_opens_0 : decode cX6_opens 0 = .ok (.aload_n 0, 1) := dk_42 (dk_at dksX6_opens_0 0 rfl rfl)
theorem dX6_opens_1 : decode cX6_opens 1 = .ok (.getfield 196, 3) := dk_180 0 196 (dk_at dksX6_opens_0 1 rfl rfl)
theorem dX6_opens_4 : decode cX6_opens 4 = .ok (.bipush 6, 2) := dk_16 6 (dk_at dksX6_opens_0 4 rfl rfl)
theorem dX6_opens_6 : decode cX6_opens 6 = .ok (.if_icmp .ne 13, 3) := dk_160 0 13 (dk_at dksX6_opens_0 6 rfl rfl)
theorem dX6_opens_9 : decode cX6_opens 9 = .ok (.aload_n 0, 1) := dk_42 (dk_at dksX6_opens_0 9 rfl rfl)
theorem dX6_opens_10 : decode cX6_opens 10 = .ok (.iconst 5, 1) := dk_8 (dk_at dksX6_opens_0 10 rfl rfl)
theorem dX6_opens_11 : decode cX6_opens 11 = .ok (.aload_n 0, 1) := dk_42 (dk_at dksX6_opens_0 11 rfl rfl)
theorem dX6_opens_12 : decode cX6_opens 12 = .ok (.getfield 169, 3) := dk_180 0 169 (dk_at dksX6_opens_0 12 rfl rfl)
theorem dX6_opens_15 : decode cX6_opens 15 = .ok (.invokevirtual 182, 3) := dk_182 0 182 (dk_at dksX6_opens_0 15 rfl rfl)
theorem dX6_opens_18 : decode cX6_opens 18 = .ok (.ireturn, 1) := dk_172 (dk_at dksX6_opens_0 18 rfl rfl)
theorem dX6_opens_19 : decode cX6_opens 19 = .ok (.aload_n 0, 1) := dk_42 (dk_at dksX6_opens_0 19 rfl rfl)
theorem dX6_opens_20 : decode cX6_opens 20 = .ok (.aload_n 0, 1) := dk_42 (dk_at dksX6_opens_0 20 rfl rfl)
theorem dX6_opens_21 : decode cX6_opens 21 = .ok (.getfield 196, 3) := dk_180 0 196 (dk_at dksX6_opens_0 21 rfl rfl)
theorem dX6_opens_24 : decode cX6_opens 24 = .ok (.iconst 1, 1) := dk_4 (dk_at dksX6_opens_1 0 rfl rfl)
theorem dX6_opens_25 : decode cX6_opens 25 = .ok (.iadd, 1) := dk_96 (dk_at dksX6_opens_1 1 rfl rfl)
theorem dX6_opens_26 : decode cX6_opens 26 = .ok (.putfield 196, 3) := dk_181 0 196 (dk_at dksX6_opens_1 2 rfl rfl)
theorem dX6_opens_29 : decode cX6_opens 29 = .ok (.aload_n 0, 1) := dk_42 (dk_at dksX6_opens_1 5 rfl rfl)
theorem dX6_opens_30 : decode cX6_opens 30 = .ok (.getfield 41, 3) := dk_180 0 41 (dk_at dksX6_opens_1 6 rfl rfl)
theorem dX6_opens_33 : decode cX6_opens 33 = .ok (.aload_n 0, 1) := dk_42 (dk_at dksX6_opens_1 9 rfl rfl)
theorem dX6_opens_34 : decode cX6_opens 34 = .ok (.getfield 199, 3) := dk_180 0 199 (dk_at dksX6_opens_1 10 rfl rfl)
theorem dX6_opens_37 : decode cX6_opens 37 = .ok (.ldc 195, 2) := dk_18 195 (dk_at dksX6_opens_1 13 rfl rfl)
theorem dX6_opens_39 : decode cX6_opens 39 = .ok (.iload_n 1, 1) := dk_27 (dk_at dksX6_opens_1 15 rfl rfl)
theorem dX6_opens_40 : decode cX6_opens 40 = .ok (.imul, 1) := dk_104 (dk_at dksX6_opens_1 16 rfl rfl)
theorem dX6_opens_41 : decode cX6_opens 41 = .ok (.iastore, 1) := dk_79 (dk_at dksX6_opens_1 17 rfl rfl)
theorem dX6_opens_42 : decode cX6_opens 42 = .ok (.aload_n 0, 1) := dk_42 (dk_at dksX6_opens_1 18 rfl rfl)
theorem dX6_opens_43 : decode cX6_opens 43 = .ok (.aload_n 0, 1) := dk_42 (dk_at dksX6_opens_1 19 rfl rfl)
theorem dX6_opens_44 : decode cX6_opens 44 = .ok (.getfield 199, 3) := dk_180 0 199 (dk_at dksX6_opens_1 20 rfl rfl)
theorem dX6_opens_47 : decode cX6_opens 47 = .ok (.iconst 1, 1) := dk_4 (dk_at dksX6_opens_1 23 rfl rfl)
theorem dX6_opens_48 : decode cX6_opens 48 = .ok (.iadd, 1) := dk_96 (dk_at dksX6_opens_2 0 rfl rfl)
theorem dX6_opens_49 : decode cX6_opens 49 = .ok (.putfield 199, 3) := dk_181 0 199 (dk_at dksX6_opens_2 1 rfl rfl)
theorem dX6_opens_52 : decode cX6_opens 52 = .ok (.aload_n 0, 1) := dk_42 (dk_at dksX6_opens_2 4 rfl rfl)
theorem dX6_opens_53 : decode cX6_opens 53 = .ok (.aload_n 0, 1) := dk_42 (dk_at dksX6_opens_2 5 rfl rfl)
theorem dX6_opens_54 : decode cX6_opens 54 = .ok (.getfield 169, 3) := dk_180 0 169 (dk_at dksX6_opens_2 6 rfl rfl)
theorem dX6_opens_57 : decode cX6_opens 57 = .ok (.iconst 1, 1) := dk_4 (dk_at dksX6_opens_2 9 rfl rfl)
theorem dX6_opens_58 : decode cX6_opens 58 = .ok (.iadd, 1) := dk_96 (dk_at dksX6_opens_2 10 rfl rfl)
theorem dX6_opens_59 : decode cX6_opens 59 = .ok (.putfield 169, 3) := dk_181 0 169 (dk_at dksX6_opens_2 11 rfl rfl)
theorem dX6_opens_62 : decode cX6_opens 62 = .ok (.iconst 1, 1) := dk_4 (dk_at dksX6_opens_2 14 rfl rfl)
theorem dX6_opens_63 : decode cX6_opens 63 = .ok (.ireturn, 1) := dk_172 (dk_at dksX6_opens_2 15 rfl rfl)
abbrev cX6_isDigit : ByteArray := prog_20_method_22_code
def yX6_isDigit : MethodName := ⟨RX6, "isDigit", "()Z"⟩
def dkwX6_isDigit_0 : List UInt8 := [42, 182, 0, 175, 16, 48, 161, 0, 16, 42, 182, 0, 175, 16, 57, 163, 0, 7, 4, 167, 0, 4, 3, 172]
abbrev dktX6_isDigit_0 : List UInt8 := dkwX6_isDigit_0 ++ []
theorem dksX6_isDigit_0 : cX6_isDigit.data.toList.drop 0 = dktX6_isDigit_0 := by decide +kernel
theorem dX6_isDigit_0 : decode cX6_isDigit 0 = .ok (.aload_n 0, 1) := dk_42 (dk_at dksX6_isDigit_0 0 rfl rfl)
theorem dX6_isDigit_1 : decode cX6_isDigit 1 = .ok (.invokevirtual 175, 3) := dk_182 0 175 (dk_at dksX6_isDigit_0 1 rfl rfl)
theorem dX6_isDigit_4 : decode cX6_isDigit 4 = .ok (.bipush 48, 2) := dk_16 48 (dk_at dksX6_isDigit_0 4 rfl rfl)
theorem dX6_isDigit_6 : decode cX6_isDigit 6 = .ok (.if_icmp .lt 16, 3) := dk_161 0 16 (dk_at dksX6_isDigit_0 6 rfl rfl)
theorem dX6_isDigit_9 : decode cX6_isDigit 9 = .ok (.aload_n 0, 1) := dk_42 (dk_at dksX6_isDigit_0 9 rfl rfl)
theorem dX6_isDigit_10 : decode cX6_isDigit 10 = .ok (.invokevirtual 175, 3) := dk_182 0 175 (dk_at dksX6_isDigit_0 10 rfl rfl)
theorem dX6_isDigit_13 : decode cX6_isDigit 13 = .ok (.bipush 57, 2) := dk_16 57 (dk_at dksX6_isDigit_0 13 rfl rfl)
theorem dX6_isDigit_15 : decode cX6_isDigit 15 = .ok (.if_icmp .gt 7, 3) := dk_163 0 7 (dk_at dksX6_isDigit_0 15 rfl rfl)
theorem dX6_isDigit_18 : decode cX6_isDigit 18 = .ok (.iconst 1, 1) := dk_4 (dk_at dksX6_isDigit_0 18 rfl rfl)
theorem dX6_isDigit_19 : decode cX6_isDigit 19 = .ok (.goto 4, 3) := dk_167 0 4 (dk_at dksX6_isDigit_0 19 rfl rfl)
theorem dX6_isDigit_22 : decode cX6_isDigit 22 = .ok (.iconst 0, 1) := dk_3 (dk_at dksX6_isDigit_0 22 rfl rfl)
theorem dX6_isDigit_23 : decode cX6_isDigit 23 = .ok (.ireturn, 1) := dk_172 (dk_at dksX6_isDigit_0 23 rfl rfl)
abbrev cX6_readsNumber : ByteArray := prog_20_method_25_code
def yX6_readsNumber : MethodName := ⟨RX6, "readsNumber", "()Z"⟩
def dkwX6_readsNumber_3 : List UInt8 := [172]
abbrev dktX6_readsNumber_3 : List UInt8 := dkwX6_readsNumber_3 ++ []
def dkwX6_readsNumber_2 : List UInt8 := [182, 0, 175, 96, 16, 48, 100, 181, 0, 185, 42, 42, 180, 0, 169, 4, 96, 181, 0, 169, 167, 255, 200, 4]
abbrev dktX6_readsNumber_2 : List UInt8 := dkwX6_readsNumber_2 ++ dktX6_readsNumber_3
def dkwX6_readsNumber_1 : List UInt8 := [160, 0, 13, 42, 5, 42, 180, 0, 169, 182, 0, 182, 172, 42, 16, 10, 42, 180, 0, 185, 104, 42]
abbrev dktX6_readsNumber_1 : List UInt8 := dkwX6_readsNumber_1 ++ dktX6_readsNumber_2
def dkwX6_readsNumber_0 : List UInt8 := [42, 180, 0, 169, 60, 42, 3, 181, 0, 185, 42, 182, 0, 188, 153, 0, 55, 42, 180, 0, 169, 27, 8, 96]
abbrev dktX6_readsNumber_0 : List UInt8 := dkwX6_readsNumber_0 ++ dktX6_readsNumber_1
theorem dksX6_readsNumber_0 : cX6_readsNumber.data.toList.drop 0 = dktX6_readsNumber_0 := by decide +kernel
theorem dksX6_readsNumber_1 : cX6_readsNumber.data.toList.drop 24 = dktX6_readsNumber_1 := dk_seg dksX6_readsNumber_0 24 rfl rfl
theorem dksX6_readsNumber_2 : cX6_readsNumber.data.toList.drop 46 = dktX6_readsNumber_2 := dk_seg dksX6_readsNumber_1 22 rfl rfl
theorem dksX6_readsNumber_3 : cX6_readsNumber.data.toList.drop 70 = dktX6_readsNumber_3 := dk_seg dksX6_readsNumber_2 24 rfl rfl
theorem dX6_readsNumber_0 : decode cX6_readsNumber 0 = .ok (.aload_n 0, 1) := dk_42 (dk_at dksX6_readsNumber_0 0 rfl rfl)
theorem dX6_readsNumber_1 : decode cX6_readsNumber 1 = .ok (.getfield 169, 3) := dk_180 0 169 (dk_at dksX6_readsNumber_0 1 rfl rfl)
theorem dX6_readsNumber_4 : decode cX6_readsNumber 4 = .ok (.istore_n 1, 1) := dk_60 (dk_at dksX6_readsNumber_0 4 rfl rfl)
theorem dX6_readsNumber_5 : decode cX6_readsNumber 5 = .ok (.aload_n 0, 1) := dk_42 (dk_at dksX6_readsNumber_0 5 rfl rfl)
theorem dX6_readsNumber_6 : decode cX6_readsNumber 6 = .ok (.iconst 0, 1) := dk_3 (dk_at dksX6_readsNumber_0 6 rfl rfl)
theorem dX6_readsNumber_7 : decode cX6_readsNumber 7 = .ok (.putfield 185, 3) := dk_181 0 185 (dk_at dksX6_readsNumber_0 7 rfl rfl)
theorem dX6_readsNumber_10 : decode cX6_readsNumber 10 = .ok (.aload_n 0, 1) := dk_42 (dk_at dksX6_readsNumber_0 10 rfl rfl)
theorem dX6_readsNumber_11 : decode cX6_readsNumber 11 = .ok (.invokevirtual 188, 3) := dk_182 0 188 (dk_at dksX6_readsNumber_0 11 rfl rfl)
theorem dX6_readsNumber_14 : decode cX6_readsNumber 14 = .ok (.ifCond .eq 55, 3) := dk_153 0 55 (dk_at dksX6_readsNumber_0 14 rfl rfl)
theorem dX6_readsNumber_17 : decode cX6_readsNumber 17 = .ok (.aload_n 0, 1) := dk_42 (dk_at dksX6_readsNumber_0 17 rfl rfl)
theorem dX6_readsNumber_18 : decode cX6_readsNumber 18 = .ok (.getfield 169, 3) := dk_180 0 169 (dk_at dksX6_readsNumber_0 18 rfl rfl)
theorem dX6_readsNumber_21 : decode cX6_readsNumber 21 = .ok (.iload_n 1, 1) := dk_27 (dk_at dksX6_readsNumber_0 21 rfl rfl)
theorem dX6_readsNumber_22 : decode cX6_readsNumber 22 = .ok (.iconst 5, 1) := dk_8 (dk_at dksX6_readsNumber_0 22 rfl rfl)
theorem dX6_readsNumber_23 : decode cX6_readsNumber 23 = .ok (.iadd, 1) := dk_96 (dk_at dksX6_readsNumber_0 23 rfl rfl)
theorem dX6_readsNumber_24 : decode cX6_readsNumber 24 = .ok (.if_icmp .ne 13, 3) := dk_160 0 13 (dk_at dksX6_readsNumber_1 0 rfl rfl)
theorem dX6_readsNumber_27 : decode cX6_readsNumber 27 = .ok (.aload_n 0, 1) := dk_42 (dk_at dksX6_readsNumber_1 3 rfl rfl)
theorem dX6_readsNumber_28 : decode cX6_readsNumber 28 = .ok (.iconst 2, 1) := dk_5 (dk_at dksX6_readsNumber_1 4 rfl rfl)
theorem dX6_readsNumber_29 : decode cX6_readsNumber 29 = .ok (.aload_n 0, 1) := dk_42 (dk_at dksX6_readsNumber_1 5 rfl rfl)
theorem dX6_readsNumber_30 : decode cX6_readsNumber 30 = .ok (.getfield 169, 3) := dk_180 0 169 (dk_at dksX6_readsNumber_1 6 rfl rfl)
theorem dX6_readsNumber_33 : decode cX6_readsNumber 33 = .ok (.invokevirtual 182, 3) := dk_182 0 182 (dk_at dksX6_readsNumber_1 9 rfl rfl)
theorem dX6_readsNumber_36 : decode cX6_readsNumber 36 = .ok (.ireturn, 1) := dk_172 (dk_at dksX6_readsNumber_1 12 rfl rfl)
theorem dX6_readsNumber_37 : decode cX6_readsNumber 37 = .ok (.aload_n 0, 1) := dk_42 (dk_at dksX6_readsNumber_1 13 rfl rfl)
theorem dX6_readsNumber_38 : decode cX6_readsNumber 38 = .ok (.bipush 10, 2) := dk_16 10 (dk_at dksX6_readsNumber_1 14 rfl rfl)
theorem dX6_readsNumber_40 : decode cX6_readsNumber 40 = .ok (.aload_n 0, 1) := dk_42 (dk_at dksX6_readsNumber_1 16 rfl rfl)
theorem dX6_readsNumber_41 : decode cX6_readsNumber 41 = .ok (.getfield 185, 3) := dk_180 0 185 (dk_at dksX6_readsNumber_1 17 rfl rfl)
theorem dX6_readsNumber_44 : decode cX6_readsNumber 44 = .ok (.imul, 1) := dk_104 (dk_at dksX6_readsNumber_1 20 rfl rfl)
theorem dX6_readsNumber_45 : decode cX6_readsNumber 45 = .ok (.aload_n 0, 1) := dk_42 (dk_at dksX6_readsNumber_1 21 rfl rfl)
theorem dX6_readsNumber_46 : decode cX6_readsNumber 46 = .ok (.invokevirtual 175, 3) := dk_182 0 175 (dk_at dksX6_readsNumber_2 0 rfl rfl)
theorem dX6_readsNumber_49 : decode cX6_readsNumber 49 = .ok (.iadd, 1) := dk_96 (dk_at dksX6_readsNumber_2 3 rfl rfl)
theorem dX6_readsNumber_50 : decode cX6_readsNumber 50 = .ok (.bipush 48, 2) := dk_16 48 (dk_at dksX6_readsNumber_2 4 rfl rfl)
theorem dX6_readsNumber_52 : decode cX6_readsNumber 52 = .ok (.isub, 1) := dk_100 (dk_at dksX6_readsNumber_2 6 rfl rfl)
theorem dX6_readsNumber_53 : decode cX6_readsNumber 53 = .ok (.putfield 185, 3) := dk_181 0 185 (dk_at dksX6_readsNumber_2 7 rfl rfl)
theorem dX6_readsNumber_56 : decode cX6_readsNumber 56 = .ok (.aload_n 0, 1) := dk_42 (dk_at dksX6_readsNumber_2 10 rfl rfl)
theorem dX6_readsNumber_57 : decode cX6_readsNumber 57 = .ok (.aload_n 0, 1) := dk_42 (dk_at dksX6_readsNumber_2 11 rfl rfl)
theorem dX6_readsNumber_58 : decode cX6_readsNumber 58 = .ok (.getfield 169, 3) := dk_180 0 169 (dk_at dksX6_readsNumber_2 12 rfl rfl)
theorem dX6_readsNumber_61 : decode cX6_readsNumber 61 = .ok (.iconst 1, 1) := dk_4 (dk_at dksX6_readsNumber_2 15 rfl rfl)
theorem dX6_readsNumber_62 : decode cX6_readsNumber 62 = .ok (.iadd, 1) := dk_96 (dk_at dksX6_readsNumber_2 16 rfl rfl)
theorem dX6_readsNumber_63 : decode cX6_readsNumber 63 = .ok (.putfield 169, 3) := dk_181 0 169 (dk_at dksX6_readsNumber_2 17 rfl rfl)
theorem dX6_readsNumber_66 : decode cX6_readsNumber 66 = .ok (.goto (-56), 3) := dk_167 255 200 (dk_at dksX6_readsNumber_2 20 rfl rfl)
theorem dX6_readsNumber_69 : decode cX6_readsNumber 69 = .ok (.iconst 1, 1) := dk_4 (dk_at dksX6_readsNumber_2 23 rfl rfl)
theorem dX6_readsNumber_70 : decode cX6_readsNumber 70 = .ok (.ireturn, 1) := dk_172 (dk_at dksX6_readsNumber_3 0 rfl rfl)
abbrev cX6_notes : ByteArray := prog_20_method_26_code
def yX6_notes : MethodName := ⟨RX6, "notes", "(II)V"⟩
def dkwX6_notes_1 : List UInt8 := [181, 0, 192, 177]
abbrev dktX6_notes_1 : List UInt8 := dkwX6_notes_1 ++ []
def dkwX6_notes_0 : List UInt8 := [42, 180, 0, 38, 42, 180, 0, 192, 18, 195, 27, 104, 28, 96, 79, 42, 42, 180, 0, 192, 4, 96]
abbrev dktX6_notes_0 : List UInt8 := dkwX6_notes_0 ++ dktX6_notes_1
theorem dksX6_notes_0 : cX6_notes.data.toList.drop 0 = dktX6_notes_0 := by decide +kernel
theorem dksX6_notes_1 : cX6_notes.data.toList.drop 22 = dktX6_notes_1 := dk_seg dksX6_notes_0 22 rfl rfl
theorem dX6_notes_0 : decode cX6_notes 0 = .ok (.aload_n 0, 1) := dk_42 (dk_at dksX6_notes_0 0 rfl rfl)
theorem dX6_notes_1 : decode cX6_notes 1 = .ok (.getfield 38, 3) := dk_180 0 38 (dk_at dksX6_notes_0 1 rfl rfl)
theorem dX6_notes_4 : decode cX6_notes 4 = .ok (.aload_n 0, 1) := dk_42 (dk_at dksX6_notes_0 4 rfl rfl)
theorem dX6_notes_5 : decode cX6_notes 5 = .ok (.getfield 192, 3) := dk_180 0 192 (dk_at dksX6_notes_0 5 rfl rfl)
theorem dX6_notes_8 : decode cX6_notes 8 = .ok (.ldc 195, 2) := dk_18 195 (dk_at dksX6_notes_0 8 rfl rfl)
theorem dX6_notes_10 : decode cX6_notes 10 = .ok (.iload_n 1, 1) := dk_27 (dk_at dksX6_notes_0 10 rfl rfl)
theorem dX6_notes_11 : decode cX6_notes 11 = .ok (.imul, 1) := dk_104 (dk_at dksX6_notes_0 11 rfl rfl)
theorem dX6_notes_12 : decode cX6_notes 12 = .ok (.iload_n 2, 1) := dk_28 (dk_at dksX6_notes_0 12 rfl rfl)
theorem dX6_notes_13 : decode cX6_notes 13 = .ok (.iadd, 1) := dk_96 (dk_at dksX6_notes_0 13 rfl rfl)
theorem dX6_notes_14 : decode cX6_notes 14 = .ok (.iastore, 1) := dk_79 (dk_at dksX6_notes_0 14 rfl rfl)
theorem dX6_notes_15 : decode cX6_notes 15 = .ok (.aload_n 0, 1) := dk_42 (dk_at dksX6_notes_0 15 rfl rfl)
theorem dX6_notes_16 : decode cX6_notes 16 = .ok (.aload_n 0, 1) := dk_42 (dk_at dksX6_notes_0 16 rfl rfl)
theorem dX6_notes_17 : decode cX6_notes 17 = .ok (.getfield 192, 3) := dk_180 0 192 (dk_at dksX6_notes_0 17 rfl rfl)
theorem dX6_notes_20 : decode cX6_notes 20 = .ok (.iconst 1, 1) := dk_4 (dk_at dksX6_notes_0 20 rfl rfl)
theorem dX6_notes_21 : decode cX6_notes 21 = .ok (.iadd, 1) := dk_96 (dk_at dksX6_notes_0 21 rfl rfl)
theorem dX6_notes_22 : decode cX6_notes 22 = .ok (.putfield 192, 3) := dk_181 0 192 (dk_at dksX6_notes_1 0 rfl rfl)
theorem dX6_notes_25 : decode cX6_notes 25 = .ok (.return_, 1) := dk_177 (dk_at dksX6_notes_1 3 rfl rfl)
abbrev cX6_factOf : ByteArray := prog_20_method_29_code
def yX6_factOf : MethodName := ⟨RX6, "factOf", "(I)I"⟩
def dkwX6_factOf_2 : List UInt8 := [3, 172, 4, 172, 5, 172, 6, 172, 7, 172, 8, 172, 16, 6, 172, 16, 7, 172, 16, 8, 172, 2, 172]
abbrev dktX6_factOf_2 : List UInt8 := dkwX6_factOf_2 ++ []
def dkwX6_factOf_1 : List UInt8 := [170, 0, 0, 0, 0, 0, 124, 0, 0, 0, 98, 0, 0, 0, 119, 0, 0, 0, 113, 0, 0, 0, 124, 0, 0, 0, 109, 0, 0, 0, 124, 0, 0, 0, 124, 0, 0, 0, 105, 0, 0, 0, 103, 0, 0, 0, 124, 0, 0, 0, 124, 0, 0, 0, 115, 0, 0, 0, 124, 0, 0, 0, 124, 0, 0, 0, 111, 0, 0, 0, 124, 0, 0, 0, 124, 0, 0, 0, 124, 0, 0, 0, 124, 0, 0, 0, 107, 0, 0, 0, 118, 0, 0, 0, 124, 0, 0, 0, 124, 0, 0, 0, 121]
abbrev dktX6_factOf_1 : List UInt8 := dkwX6_factOf_1 ++ dktX6_factOf_2
def dkwX6_factOf_0 : List UInt8 := [26]
abbrev dktX6_factOf_0 : List UInt8 := dkwX6_factOf_0 ++ dktX6_factOf_1
theorem dksX6_factOf_0 : cX6_factOf.data.toList.drop 0 = dktX6_factOf_0 := by decide +kernel
theorem dksX6_factOf_1 : cX6_factOf.data.toList.drop 1 = dktX6_factOf_1 := dk_seg dksX6_factOf_0 1 rfl rfl
theorem dksX6_factOf_2 : cX6_factOf.data.toList.drop 104 = dktX6_factOf_2 := dk_seg dksX6_factOf_1 103 rfl rfl
theorem dX6_factOf_0 : decode cX6_factOf 0 = .ok (.iload_n 0, 1) := dk_26 (dk_at dksX6_factOf_0 0 rfl rfl)
theorem dX6_factOf_1 : decode cX6_factOf 1 = .ok (.tableswitch 124 98 119 #[113, 124, 109, 124, 124, 105, 103, 124, 124, 115, 124, 124, 111, 124, 124, 124, 124, 107, 118, 124, 124, 121], 103) := by decide +kernel
theorem dX6_factOf_104 : decode cX6_factOf 104 = .ok (.iconst 0, 1) := dk_3 (dk_at dksX6_factOf_2 0 rfl rfl)
theorem dX6_factOf_105 : decode cX6_factOf 105 = .ok (.ireturn, 1) := dk_172 (dk_at dksX6_factOf_2 1 rfl rfl)
theorem dX6_factOf_106 : decode cX6_factOf 106 = .ok (.iconst 1, 1) := dk_4 (dk_at dksX6_factOf_2 2 rfl rfl)
theorem dX6_factOf_107 : decode cX6_factOf 107 = .ok (.ireturn, 1) := dk_172 (dk_at dksX6_factOf_2 3 rfl rfl)
theorem dX6_factOf_108 : decode cX6_factOf 108 = .ok (.iconst 2, 1) := dk_5 (dk_at dksX6_factOf_2 4 rfl rfl)
theorem dX6_factOf_109 : decode cX6_factOf 109 = .ok (.ireturn, 1) := dk_172 (dk_at dksX6_factOf_2 5 rfl rfl)
theorem dX6_factOf_110 : decode cX6_factOf 110 = .ok (.iconst 3, 1) := dk_6 (dk_at dksX6_factOf_2 6 rfl rfl)
theorem dX6_factOf_111 : decode cX6_factOf 111 = .ok (.ireturn, 1) := dk_172 (dk_at dksX6_factOf_2 7 rfl rfl)
theorem dX6_factOf_112 : decode cX6_factOf 112 = .ok (.iconst 4, 1) := dk_7 (dk_at dksX6_factOf_2 8 rfl rfl)
theorem dX6_factOf_113 : decode cX6_factOf 113 = .ok (.ireturn, 1) := dk_172 (dk_at dksX6_factOf_2 9 rfl rfl)
theorem dX6_factOf_114 : decode cX6_factOf 114 = .ok (.iconst 5, 1) := dk_8 (dk_at dksX6_factOf_2 10 rfl rfl)
theorem dX6_factOf_115 : decode cX6_factOf 115 = .ok (.ireturn, 1) := dk_172 (dk_at dksX6_factOf_2 11 rfl rfl)
theorem dX6_factOf_116 : decode cX6_factOf 116 = .ok (.bipush 6, 2) := dk_16 6 (dk_at dksX6_factOf_2 12 rfl rfl)
theorem dX6_factOf_118 : decode cX6_factOf 118 = .ok (.ireturn, 1) := dk_172 (dk_at dksX6_factOf_2 14 rfl rfl)
theorem dX6_factOf_119 : decode cX6_factOf 119 = .ok (.bipush 7, 2) := dk_16 7 (dk_at dksX6_factOf_2 15 rfl rfl)
theorem dX6_factOf_121 : decode cX6_factOf 121 = .ok (.ireturn, 1) := dk_172 (dk_at dksX6_factOf_2 17 rfl rfl)
theorem dX6_factOf_122 : decode cX6_factOf 122 = .ok (.bipush 8, 2) := dk_16 8 (dk_at dksX6_factOf_2 18 rfl rfl)
theorem dX6_factOf_124 : decode cX6_factOf 124 = .ok (.ireturn, 1) := dk_172 (dk_at dksX6_factOf_2 20 rfl rfl)
theorem dX6_factOf_125 : decode cX6_factOf 125 = .ok (.iconst (-1), 1) := dk_2 (dk_at dksX6_factOf_2 21 rfl rfl)
theorem dX6_factOf_126 : decode cX6_factOf 126 = .ok (.ireturn, 1) := dk_172 (dk_at dksX6_factOf_2 22 rfl rfl)
abbrev cX6_sumSign : ByteArray := prog_20_method_30_code
def yX6_sumSign : MethodName := ⟨RX6, "sumSign", "(I)I"⟩
def dkwX6_sumSign_2 : List UInt8 := [16, 6, 167, 0, 4, 2, 172]
abbrev dktX6_sumSign_2 : List UInt8 := dkwX6_sumSign_2 ++ []
def dkwX6_sumSign_1 : List UInt8 := [160, 0, 7, 7, 167, 0, 25, 26, 16, 47, 160, 0, 7, 8, 167, 0, 15, 26, 16, 37, 160, 0, 8]
abbrev dktX6_sumSign_1 : List UInt8 := dkwX6_sumSign_1 ++ dktX6_sumSign_2
def dkwX6_sumSign_0 : List UInt8 := [26, 16, 43, 160, 0, 7, 5, 167, 0, 45, 26, 16, 45, 160, 0, 7, 6, 167, 0, 35, 26, 16, 42]
abbrev dktX6_sumSign_0 : List UInt8 := dkwX6_sumSign_0 ++ dktX6_sumSign_1
theorem dksX6_sumSign_0 : cX6_sumSign.data.toList.drop 0 = dktX6_sumSign_0 := by decide +kernel
theorem dksX6_sumSign_1 : cX6_sumSign.data.toList.drop 23 = dktX6_sumSign_1 := dk_seg dksX6_sumSign_0 23 rfl rfl
theorem dksX6_sumSign_2 : cX6_sumSign.data.toList.drop 46 = dktX6_sumSign_2 := dk_seg dksX6_sumSign_1 23 rfl rfl
theorem dX6_sumSign_0 : decode cX6_sumSign 0 = .ok (.iload_n 0, 1) := dk_26 (dk_at dksX6_sumSign_0 0 rfl rfl)
theorem dX6_sumSign_1 : decode cX6_sumSign 1 = .ok (.bipush 43, 2) := dk_16 43 (dk_at dksX6_sumSign_0 1 rfl rfl)
theorem dX6_sumSign_3 : decode cX6_sumSign 3 = .ok (.if_icmp .ne 7, 3) := dk_160 0 7 (dk_at dksX6_sumSign_0 3 rfl rfl)
theorem dX6_sumSign_6 : decode cX6_sumSign 6 = .ok (.iconst 2, 1) := dk_5 (dk_at dksX6_sumSign_0 6 rfl rfl)
theorem dX6_sumSign_7 : decode cX6_sumSign 7 = .ok (.goto 45, 3) := dk_167 0 45 (dk_at dksX6_sumSign_0 7 rfl rfl)
theorem dX6_sumSign_10 : decode cX6_sumSign 10 = .ok (.iload_n 0, 1) := dk_26 (dk_at dksX6_sumSign_0 10 rfl rfl)
theorem dX6_sumSign_11 : decode cX6_sumSign 11 = .ok (.bipush 45, 2) := dk_16 45 (dk_at dksX6_sumSign_0 11 rfl rfl)
theorem dX6_sumSign_13 : decode cX6_sumSign 13 = .ok (.if_icmp .ne 7, 3) := dk_160 0 7 (dk_at dksX6_sumSign_0 13 rfl rfl)
theorem dX6_sumSign_16 : decode cX6_sumSign 16 = .ok (.iconst 3, 1) := dk_6 (dk_at dksX6_sumSign_0 16 rfl rfl)
theorem dX6_sumSign_17 : decode cX6_sumSign 17 = .ok (.goto 35, 3) := dk_167 0 35 (dk_at dksX6_sumSign_0 17 rfl rfl)
theorem dX6_sumSign_20 : decode cX6_sumSign 20 = .ok (.iload_n 0, 1) := dk_26 (dk_at dksX6_sumSign_0 20 rfl rfl)
theorem dX6_sumSign_21 : decode cX6_sumSign 21 = .ok (.bipush 42, 2) := dk_16 42 (dk_at dksX6_sumSign_0 21 rfl rfl)
theorem dX6_sumSign_23 : decode cX6_sumSign 23 = .ok (.if_icmp .ne 7, 3) := dk_160 0 7 (dk_at dksX6_sumSign_1 0 rfl rfl)
theorem dX6_sumSign_26 : decode cX6_sumSign 26 = .ok (.iconst 4, 1) := dk_7 (dk_at dksX6_sumSign_1 3 rfl rfl)
theorem dX6_sumSign_27 : decode cX6_sumSign 27 = .ok (.goto 25, 3) := dk_167 0 25 (dk_at dksX6_sumSign_1 4 rfl rfl)
theorem dX6_sumSign_30 : decode cX6_sumSign 30 = .ok (.iload_n 0, 1) := dk_26 (dk_at dksX6_sumSign_1 7 rfl rfl)
theorem dX6_sumSign_31 : decode cX6_sumSign 31 = .ok (.bipush 47, 2) := dk_16 47 (dk_at dksX6_sumSign_1 8 rfl rfl)
theorem dX6_sumSign_33 : decode cX6_sumSign 33 = .ok (.if_icmp .ne 7, 3) := dk_160 0 7 (dk_at dksX6_sumSign_1 10 rfl rfl)
theorem dX6_sumSign_36 : decode cX6_sumSign 36 = .ok (.iconst 5, 1) := dk_8 (dk_at dksX6_sumSign_1 13 rfl rfl)
theorem dX6_sumSign_37 : decode cX6_sumSign 37 = .ok (.goto 15, 3) := dk_167 0 15 (dk_at dksX6_sumSign_1 14 rfl rfl)
theorem dX6_sumSign_40 : decode cX6_sumSign 40 = .ok (.iload_n 0, 1) := dk_26 (dk_at dksX6_sumSign_1 17 rfl rfl)
theorem dX6_sumSign_41 : decode cX6_sumSign 41 = .ok (.bipush 37, 2) := dk_16 37 (dk_at dksX6_sumSign_1 18 rfl rfl)
theorem dX6_sumSign_43 : decode cX6_sumSign 43 = .ok (.if_icmp .ne 8, 3) := dk_160 0 8 (dk_at dksX6_sumSign_1 20 rfl rfl)
theorem dX6_sumSign_46 : decode cX6_sumSign 46 = .ok (.bipush 6, 2) := dk_16 6 (dk_at dksX6_sumSign_2 0 rfl rfl)
theorem dX6_sumSign_48 : decode cX6_sumSign 48 = .ok (.goto 4, 3) := dk_167 0 4 (dk_at dksX6_sumSign_2 2 rfl rfl)
theorem dX6_sumSign_51 : decode cX6_sumSign 51 = .ok (.iconst (-1), 1) := dk_2 (dk_at dksX6_sumSign_2 5 rfl rfl)
theorem dX6_sumSign_52 : decode cX6_sumSign 52 = .ok (.ireturn, 1) := dk_172 (dk_at dksX6_sumSign_2 6 rfl rfl)
abbrev cX6_closesSums : ByteArray := prog_20_method_31_code
def yX6_closesSums : MethodName := ⟨RX6, "closesSums", "(Z)V"⟩
def dkwX6_closesSums_2 : List UInt8 := [42, 42, 180, 0, 199, 4, 100, 181, 0, 199, 167, 255, 200, 177]
abbrev dktX6_closesSums_2 : List UInt8 := dkwX6_closesSums_2 ++ []
def dkwX6_closesSums_1 : List UInt8 := [182, 0, 202, 5, 159, 0, 11, 42, 182, 0, 202, 6, 160, 0, 25, 42, 42, 182, 0, 202, 3, 182, 0, 205]
abbrev dktX6_closesSums_1 : List UInt8 := dkwX6_closesSums_1 ++ dktX6_closesSums_2
def dkwX6_closesSums_0 : List UInt8 := [42, 182, 0, 202, 7, 161, 0, 12, 42, 182, 0, 202, 16, 6, 164, 0, 23, 27, 153, 0, 41, 42]
abbrev dktX6_closesSums_0 : List UInt8 := dkwX6_closesSums_0 ++ dktX6_closesSums_1
theorem dksX6_closesSums_0 : cX6_closesSums.data.toList.drop 0 = dktX6_closesSums_0 := by decide +kernel
theorem dksX6_closesSums_1 : cX6_closesSums.data.toList.drop 22 = dktX6_closesSums_1 := dk_seg dksX6_closesSums_0 22 rfl rfl
theorem dksX6_closesSums_2 : cX6_closesSums.data.toList.drop 46 = dktX6_closesSums_2 := dk_seg dksX6_closesSums_1 24 rfl rfl
theorem dX6_closesSums_0 : decode cX6_closesSums 0 = .ok (.aload_n 0, 1) := dk_42 (dk_at dksX6_closesSums_0 0 rfl rfl)
theorem dX6_closesSums_1 : decode cX6_closesSums 1 = .ok (.invokevirtual 202, 3) := dk_182 0 202 (dk_at dksX6_closesSums_0 1 rfl rfl)
theorem dX6_closesSums_4 : decode cX6_closesSums 4 = .ok (.iconst 4, 1) := dk_7 (dk_at dksX6_closesSums_0 4 rfl rfl)
theorem dX6_closesSums_5 : decode cX6_closesSums 5 = .ok (.if_icmp .lt 12, 3) := dk_161 0 12 (dk_at dksX6_closesSums_0 5 rfl rfl)
theorem dX6_closesSums_8 : decode cX6_closesSums 8 = .ok (.aload_n 0, 1) := dk_42 (dk_at dksX6_closesSums_0 8 rfl rfl)
theorem dX6_closesSums_9 : decode cX6_closesSums 9 = .ok (.invokevirtual 202, 3) := dk_182 0 202 (dk_at dksX6_closesSums_0 9 rfl rfl)
theorem dX6_closesSums_12 : decode cX6_closesSums 12 = .ok (.bipush 6, 2) := dk_16 6 (dk_at dksX6_closesSums_0 12 rfl rfl)
theorem dX6_closesSums_14 : decode cX6_closesSums 14 = .ok (.if_icmp .le 23, 3) := dk_164 0 23 (dk_at dksX6_closesSums_0 14 rfl rfl)
theorem dX6_closesSums_17 : decode cX6_closesSums 17 = .ok (.iload_n 1, 1) := dk_27 (dk_at dksX6_closesSums_0 17 rfl rfl)
theorem dX6_closesSums_18 : decode cX6_closesSums 18 = .ok (.ifCond .eq 41, 3) := dk_153 0 41 (dk_at dksX6_closesSums_0 18 rfl rfl)
theorem dX6_closesSums_21 : decode cX6_closesSums 21 = .ok (.aload_n 0, 1) := dk_42 (dk_at dksX6_closesSums_0 21 rfl rfl)
theorem dX6_closesSums_22 : decode cX6_closesSums 22 = .ok (.invokevirtual 202, 3) := dk_182 0 202 (dk_at dksX6_closesSums_1 0 rfl rfl)
theorem dX6_closesSums_25 : decode cX6_closesSums 25 = .ok (.iconst 2, 1) := dk_5 (dk_at dksX6_closesSums_1 3 rfl rfl)
theorem dX6_closesSums_26 : decode cX6_closesSums 26 = .ok (.if_icmp .eq 11, 3) := dk_159 0 11 (dk_at dksX6_closesSums_1 4 rfl rfl)
theorem dX6_closesSums_29 : decode cX6_closesSums 29 = .ok (.aload_n 0, 1) := dk_42 (dk_at dksX6_closesSums_1 7 rfl rfl)
theorem dX6_closesSums_30 : decode cX6_closesSums 30 = .ok (.invokevirtual 202, 3) := dk_182 0 202 (dk_at dksX6_closesSums_1 8 rfl rfl)
theorem dX6_closesSums_33 : decode cX6_closesSums 33 = .ok (.iconst 3, 1) := dk_6 (dk_at dksX6_closesSums_1 11 rfl rfl)
theorem dX6_closesSums_34 : decode cX6_closesSums 34 = .ok (.if_icmp .ne 25, 3) := dk_160 0 25 (dk_at dksX6_closesSums_1 12 rfl rfl)
theorem dX6_closesSums_37 : decode cX6_closesSums 37 = .ok (.aload_n 0, 1) := dk_42 (dk_at dksX6_closesSums_1 15 rfl rfl)
theorem dX6_closesSums_38 : decode cX6_closesSums 38 = .ok (.aload_n 0, 1) := dk_42 (dk_at dksX6_closesSums_1 16 rfl rfl)
theorem dX6_closesSums_39 : decode cX6_closesSums 39 = .ok (.invokevirtual 202, 3) := dk_182 0 202 (dk_at dksX6_closesSums_1 17 rfl rfl)
theorem dX6_closesSums_42 : decode cX6_closesSums 42 = .ok (.iconst 0, 1) := dk_3 (dk_at dksX6_closesSums_1 20 rfl rfl)
theorem dX6_closesSums_43 : decode cX6_closesSums 43 = .ok (.invokevirtual 205, 3) := dk_182 0 205 (dk_at dksX6_closesSums_1 21 rfl rfl)
theorem dX6_closesSums_46 : decode cX6_closesSums 46 = .ok (.aload_n 0, 1) := dk_42 (dk_at dksX6_closesSums_2 0 rfl rfl)
theorem dX6_closesSums_47 : decode cX6_closesSums 47 = .ok (.aload_n 0, 1) := dk_42 (dk_at dksX6_closesSums_2 1 rfl rfl)
theorem dX6_closesSums_48 : decode cX6_closesSums 48 = .ok (.getfield 199, 3) := dk_180 0 199 (dk_at dksX6_closesSums_2 2 rfl rfl)
theorem dX6_closesSums_51 : decode cX6_closesSums 51 = .ok (.iconst 1, 1) := dk_4 (dk_at dksX6_closesSums_2 5 rfl rfl)
theorem dX6_closesSums_52 : decode cX6_closesSums 52 = .ok (.isub, 1) := dk_100 (dk_at dksX6_closesSums_2 6 rfl rfl)
theorem dX6_closesSums_53 : decode cX6_closesSums 53 = .ok (.putfield 199, 3) := dk_181 0 199 (dk_at dksX6_closesSums_2 7 rfl rfl)
theorem dX6_closesSums_56 : decode cX6_closesSums 56 = .ok (.goto (-56), 3) := dk_167 255 200 (dk_at dksX6_closesSums_2 10 rfl rfl)
theorem dX6_closesSums_59 : decode cX6_closesSums 59 = .ok (.return_, 1) := dk_177 (dk_at dksX6_closesSums_2 13 rfl rfl)
abbrev cX6_waitTop : ByteArray := prog_20_method_28_code
def yX6_waitTop : MethodName := ⟨RX6, "waitTop", "()I"⟩
def dkwX6_waitTop_1 : List UInt8 := [108, 172]
abbrev dktX6_waitTop_1 : List UInt8 := dkwX6_waitTop_1 ++ []
def dkwX6_waitTop_0 : List UInt8 := [42, 180, 0, 199, 154, 0, 7, 2, 167, 0, 17, 42, 180, 0, 41, 42, 180, 0, 199, 4, 100, 46, 18, 195]
abbrev dktX6_waitTop_0 : List UInt8 := dkwX6_waitTop_0 ++ dktX6_waitTop_1
theorem dksX6_waitTop_0 : cX6_waitTop.data.toList.drop 0 = dktX6_waitTop_0 := by decide +kernel
theorem dksX6_waitTop_1 : cX6_waitTop.data.toList.drop 24 = dktX6_waitTop_1 := dk_seg dksX6_waitTop_0 24 rfl rfl
theorem dX6_waitTop_0 : decode cX6_waitTop 0 = .ok (.aload_n 0, 1) := dk_42 (dk_at dksX6_waitTop_0 0 rfl rfl)
theorem dX6_waitTop_1 : decode cX6_waitTop 1 = .ok (.getfield 199, 3) := dk_180 0 199 (dk_at dksX6_waitTop_0 1 rfl rfl)
theorem dX6_waitTop_4 : decode cX6_waitTop 4 = .ok (.ifCond .ne 7, 3) := dk_154 0 7 (dk_at dksX6_waitTop_0 4 rfl rfl)
theorem dX6_waitTop_7 : decode cX6_waitTop 7 = .ok (.iconst (-1), 1) := dk_2 (dk_at dksX6_waitTop_0 7 rfl rfl)
theorem dX6_waitTop_8 : decode cX6_waitTop 8 = .ok (.goto 17, 3) := dk_167 0 17 (dk_at dksX6_waitTop_0 8 rfl rfl)
theorem dX6_waitTop_11 : decode cX6_waitTop 11 = .ok (.aload_n 0, 1) := dk_42 (dk_at dksX6_waitTop_0 11 rfl rfl)
theorem dX6_waitTop_12 : decode cX6_waitTop 12 = .ok (.getfield 41, 3) := dk_180 0 41 (dk_at dksX6_waitTop_0 12 rfl rfl)
theorem dX6_waitTop_15 : decode cX6_waitTop 15 = .ok (.aload_n 0, 1) := dk_42 (dk_at dksX6_waitTop_0 15 rfl rfl)
theorem dX6_waitTop_16 : decode cX6_waitTop 16 = .ok (.getfield 199, 3) := dk_180 0 199 (dk_at dksX6_waitTop_0 16 rfl rfl)
theorem dX6_waitTop_19 : decode cX6_waitTop 19 = .ok (.iconst 1, 1) := dk_4 (dk_at dksX6_waitTop_0 19 rfl rfl)
theorem dX6_waitTop_20 : decode cX6_waitTop 20 = .ok (.isub, 1) := dk_100 (dk_at dksX6_waitTop_0 20 rfl rfl)
theorem dX6_waitTop_21 : decode cX6_waitTop 21 = .ok (.iaload, 1) := dk_46 (dk_at dksX6_waitTop_0 21 rfl rfl)
theorem dX6_waitTop_22 : decode cX6_waitTop 22 = .ok (.ldc 195, 2) := dk_18 195 (dk_at dksX6_waitTop_0 22 rfl rfl)
theorem dX6_waitTop_24 : decode cX6_waitTop 24 = .ok (.idiv, 1) := dk_108 (dk_at dksX6_waitTop_1 0 rfl rfl)
theorem dX6_waitTop_25 : decode cX6_waitTop 25 = .ok (.ireturn, 1) := dk_172 (dk_at dksX6_waitTop_1 1 rfl rfl)
abbrev cX6_hasOpenSum : ByteArray := prog_20_method_33_code
def yX6_hasOpenSum : MethodName := ⟨RX6, "hasOpenSum", "(I)Z"⟩
def dkwX6_hasOpenSum_1 : List UInt8 := [4, 172, 132, 2, 1, 167, 255, 229, 3, 172]
abbrev dktX6_hasOpenSum_1 : List UInt8 := dkwX6_hasOpenSum_1 ++ []
def dkwX6_hasOpenSum_0 : List UInt8 := [27, 61, 28, 42, 180, 0, 199, 162, 0, 25, 42, 180, 0, 41, 28, 46, 18, 195, 108, 16, 14, 160, 0, 5]
abbrev dktX6_hasOpenSum_0 : List UInt8 := dkwX6_hasOpenSum_0 ++ dktX6_hasOpenSum_1
theorem dksX6_hasOpenSum_0 : cX6_hasOpenSum.data.toList.drop 0 = dktX6_hasOpenSum_0 := by decide +kernel
theorem dksX6_hasOpenSum_1 : cX6_hasOpenSum.data.toList.drop 24 = dktX6_hasOpenSum_1 := dk_seg dksX6_hasOpenSum_0 24 rfl rfl
theorem dX6_hasOpenSum_0 : decode cX6_hasOpenSum 0 = .ok (.iload_n 1, 1) := dk_27 (dk_at dksX6_hasOpenSum_0 0 rfl rfl)
theorem dX6_hasOpenSum_1 : decode cX6_hasOpenSum 1 = .ok (.istore_n 2, 1) := dk_61 (dk_at dksX6_hasOpenSum_0 1 rfl rfl)
theorem dX6_hasOpenSum_2 : decode cX6_hasOpenSum 2 = .ok (.iload_n 2, 1) := dk_28 (dk_at dksX6_hasOpenSum_0 2 rfl rfl)
theorem dX6_hasOpenSum_3 : decode cX6_hasOpenSum 3 = .ok (.aload_n 0, 1) := dk_42 (dk_at dksX6_hasOpenSum_0 3 rfl rfl)
theorem dX6_hasOpenSum_4 : decode cX6_hasOpenSum 4 = .ok (.getfield 199, 3) := dk_180 0 199 (dk_at dksX6_hasOpenSum_0 4 rfl rfl)
theorem dX6_hasOpenSum_7 : decode cX6_hasOpenSum 7 = .ok (.if_icmp .ge 25, 3) := dk_162 0 25 (dk_at dksX6_hasOpenSum_0 7 rfl rfl)
theorem dX6_hasOpenSum_10 : decode cX6_hasOpenSum 10 = .ok (.aload_n 0, 1) := dk_42 (dk_at dksX6_hasOpenSum_0 10 rfl rfl)
theorem dX6_hasOpenSum_11 : decode cX6_hasOpenSum 11 = .ok (.getfield 41, 3) := dk_180 0 41 (dk_at dksX6_hasOpenSum_0 11 rfl rfl)
theorem dX6_hasOpenSum_14 : decode cX6_hasOpenSum 14 = .ok (.iload_n 2, 1) := dk_28 (dk_at dksX6_hasOpenSum_0 14 rfl rfl)
theorem dX6_hasOpenSum_15 : decode cX6_hasOpenSum 15 = .ok (.iaload, 1) := dk_46 (dk_at dksX6_hasOpenSum_0 15 rfl rfl)
theorem dX6_hasOpenSum_16 : decode cX6_hasOpenSum 16 = .ok (.ldc 195, 2) := dk_18 195 (dk_at dksX6_hasOpenSum_0 16 rfl rfl)
theorem dX6_hasOpenSum_18 : decode cX6_hasOpenSum 18 = .ok (.idiv, 1) := dk_108 (dk_at dksX6_hasOpenSum_0 18 rfl rfl)
theorem dX6_hasOpenSum_19 : decode cX6_hasOpenSum 19 = .ok (.bipush 14, 2) := dk_16 14 (dk_at dksX6_hasOpenSum_0 19 rfl rfl)
theorem dX6_hasOpenSum_21 : decode cX6_hasOpenSum 21 = .ok (.if_icmp .ne 5, 3) := dk_160 0 5 (dk_at dksX6_hasOpenSum_0 21 rfl rfl)
theorem dX6_hasOpenSum_24 : decode cX6_hasOpenSum 24 = .ok (.iconst 1, 1) := dk_4 (dk_at dksX6_hasOpenSum_1 0 rfl rfl)
theorem dX6_hasOpenSum_25 : decode cX6_hasOpenSum 25 = .ok (.ireturn, 1) := dk_172 (dk_at dksX6_hasOpenSum_1 1 rfl rfl)
theorem dX6_hasOpenSum_26 : decode cX6_hasOpenSum 26 = .ok (.iinc 2 1, 3) := dk_132 2 1 (dk_at dksX6_hasOpenSum_1 2 rfl rfl)
theorem dX6_hasOpenSum_29 : decode cX6_hasOpenSum 29 = .ok (.goto (-27), 3) := dk_167 255 229 (dk_at dksX6_hasOpenSum_1 5 rfl rfl)
theorem dX6_hasOpenSum_32 : decode cX6_hasOpenSum 32 = .ok (.iconst 0, 1) := dk_3 (dk_at dksX6_hasOpenSum_1 8 rfl rfl)
theorem dX6_hasOpenSum_33 : decode cX6_hasOpenSum 33 = .ok (.ireturn, 1) := dk_172 (dk_at dksX6_hasOpenSum_1 9 rfl rfl)
abbrev cX6_readsCondition : ByteArray := prog_20_method_39_code
def yX6_readsCondition : MethodName := ⟨RX6, "readsCondition", "()Z"⟩
def dkwX6_readsCondition_9 : List UInt8 := [16, 11, 167, 0, 5, 16, 12, 182, 0, 244, 167, 255, 78]
abbrev dktX6_readsCondition_9 : List UInt8 := dkwX6_readsCondition_9 ++ []
def dkwX6_readsCondition_8 : List UInt8 := [16, 124, 160, 0, 7, 4, 167, 0, 4, 3, 182, 0, 241, 42, 42, 182, 0, 175, 16, 38, 160, 0, 8]
abbrev dktX6_readsCondition_8 : List UInt8 := dkwX6_readsCondition_8 ++ dktX6_readsCondition_9
def dkwX6_readsCondition_7 : List UInt8 := [182, 0, 175, 16, 124, 159, 0, 13, 42, 4, 42, 180, 0, 169, 182, 0, 182, 172, 42, 42, 182, 0, 175]
abbrev dktX6_readsCondition_7 : List UInt8 := dkwX6_readsCondition_7 ++ dktX6_readsCondition_8
def dkwX6_readsCondition_6 : List UInt8 := [154, 0, 5, 4, 172, 42, 182, 0, 235, 167, 255, 199, 42, 182, 0, 175, 16, 38, 159, 0, 22, 42]
abbrev dktX6_readsCondition_6 : List UInt8 := dkwX6_readsCondition_6 ++ dktX6_readsCondition_7
def dkwX6_readsCondition_5 : List UInt8 := [42, 180, 0, 196, 4, 100, 181, 0, 196, 42, 42, 180, 0, 169, 4, 96, 181, 0, 169, 42, 180, 0, 199]
abbrev dktX6_readsCondition_5 : List UInt8 := dkwX6_readsCondition_5 ++ dktX6_readsCondition_6
def dkwX6_readsCondition_4 : List UInt8 := [182, 0, 175, 16, 41, 160, 0, 54, 42, 4, 182, 0, 241, 42, 42, 180, 0, 199, 4, 100, 181, 0, 199, 42]
abbrev dktX6_readsCondition_4 : List UInt8 := dkwX6_readsCondition_4 ++ dktX6_readsCondition_5
def dkwX6_readsCondition_3 : List UInt8 := [167, 0, 5, 16, 13, 182, 0, 209, 154, 255, 218, 3, 172, 42, 182, 0, 238, 154, 0, 5, 3, 172, 42]
abbrev dktX6_readsCondition_3 : List UInt8 := dkwX6_readsCondition_3 ++ dktX6_readsCondition_4
def dkwX6_readsCondition_2 : List UInt8 := [159, 0, 12, 42, 182, 0, 175, 16, 40, 160, 0, 28, 42, 42, 182, 0, 175, 16, 33, 160, 0, 8, 16, 10]
abbrev dktX6_readsCondition_2 : List UInt8 := dkwX6_readsCondition_2 ++ dktX6_readsCondition_3
def dkwX6_readsCondition_1 : List UInt8 := [42, 3, 181, 0, 199, 42, 16, 13, 182, 0, 209, 154, 0, 5, 3, 172, 42, 182, 0, 175, 16, 33]
abbrev dktX6_readsCondition_1 : List UInt8 := dkwX6_readsCondition_1 ++ dktX6_readsCondition_2
def dkwX6_readsCondition_0 : List UInt8 := [42, 182, 0, 175, 16, 40, 159, 0, 13, 42, 4, 42, 180, 0, 169, 182, 0, 182, 172, 42, 3, 181, 0, 196]
abbrev dktX6_readsCondition_0 : List UInt8 := dkwX6_readsCondition_0 ++ dktX6_readsCondition_1
theorem dksX6_readsCondition_0 : cX6_readsCondition.data.toList.drop 0 = dktX6_readsCondition_0 := by decide +kernel
theorem dksX6_readsCondition_1 : cX6_readsCondition.data.toList.drop 24 = dktX6_readsCondition_1 := dk_seg dksX6_readsCondition_0 24 rfl rfl
theorem dksX6_readsCondition_2 : cX6_readsCondition.data.toList.drop 46 = dktX6_readsCondition_2 := dk_seg dksX6_readsCondition_1 22 rfl rfl
theorem dksX6_readsCondition_3 : cX6_readsCondition.data.toList.drop 70 = dktX6_readsCondition_3 := dk_seg dksX6_readsCondition_2 24 rfl rfl
theorem dksX6_readsCondition_4 : cX6_readsCondition.data.toList.drop 93 = dktX6_readsCondition_4 := dk_seg dksX6_readsCondition_3 23 rfl rfl
theorem dksX6_readsCondition_5 : cX6_readsCondition.data.toList.drop 117 = dktX6_readsCondition_5 := dk_seg dksX6_readsCondition_4 24 rfl rfl
theorem dksX6_readsCondition_6 : cX6_readsCondition.data.toList.drop 140 = dktX6_readsCondition_6 := dk_seg dksX6_readsCondition_5 23 rfl rfl
theorem dksX6_readsCondition_7 : cX6_readsCondition.data.toList.drop 162 = dktX6_readsCondition_7 := dk_seg dksX6_readsCondition_6 22 rfl rfl
theorem dksX6_readsCondition_8 : cX6_readsCondition.data.toList.drop 185 = dktX6_readsCondition_8 := dk_seg dksX6_readsCondition_7 23 rfl rfl
theorem dksX6_readsCondition_9 : cX6_readsCondition.data.toList.drop 208 = dktX6_readsCondition_9 := dk_seg dksX6_readsCondition_8 23 rfl rfl
theorem dX6_readsCondition_0 : decode cX6_readsCondition 0 = .ok (.aload_n 0, 1) := dk_42 (dk_at dksX6_readsCondition_0 0 rfl rfl)
theorem dX6_readsCondition_1 : decode cX6_readsCondition 1 = .ok (.invokevirtual 175, 3) := dk_182 0 175 (dk_at dksX6_readsCondition_0 1 rfl rfl)
theorem dX6_readsCondition_4 : decode cX6_readsCondition 4 = .ok (.bipush 40, 2) := dk_16 40 (dk_at dksX6_readsCondition_0 4 rfl rfl)
theorem dX6_readsCondition_6 : decode cX6_readsCondition 6 = .ok (.if_icmp .eq 13, 3) := dk_159 0 13 (dk_at dksX6_readsCondition_0 6 rfl rfl)
theorem dX6_readsCondition_9 : decode cX6_readsCondition 9 = .ok (.aload_n 0, 1) := dk_42 (dk_at dksX6_readsCondition_0 9 rfl rfl)
theorem dX6_readsCondition_10 : decode cX6_readsCondition 10 = .ok (.iconst 1, 1) := dk_4 (dk_at dksX6_readsCondition_0 10 rfl rfl)
theorem dX6_readsCondition_11 : decode cX6_readsCondition 11 = .ok (.aload_n 0, 1) := dk_42 (dk_at dksX6_readsCondition_0 11 rfl rfl)
theorem dX6_readsCondition_12 : decode cX6_readsCondition 12 = .ok (.getfield 169, 3) := dk_180 0 169 (dk_at dksX6_readsCondition_0 12 rfl rfl)
theorem dX6_readsCondition_15 : decode cX6_readsCondition 15 = .ok (.invokevirtual 182, 3) := dk_182 0 182 (dk_at dksX6_readsCondition_0 15 rfl rfl)
theorem dX6_readsCondition_18 : decode cX6_readsCondition 18 = .ok (.ireturn, 1) := dk_172 (dk_at dksX6_readsCondition_0 18 rfl rfl)
theorem dX6_readsCondition_19 : decode cX6_readsCondition 19 = .ok (.aload_n 0, 1) := dk_42 (dk_at dksX6_readsCondition_0 19 rfl rfl)
theorem dX6_readsCondition_20 : decode cX6_readsCondition 20 = .ok (.iconst 0, 1) := dk_3 (dk_at dksX6_readsCondition_0 20 rfl rfl)
theorem dX6_readsCondition_21 : decode cX6_readsCondition 21 = .ok (.putfield 196, 3) := dk_181 0 196 (dk_at dksX6_readsCondition_0 21 rfl rfl)
theorem dX6_readsCondition_24 : decode cX6_readsCondition 24 = .ok (.aload_n 0, 1) := dk_42 (dk_at dksX6_readsCondition_1 0 rfl rfl)
theorem dX6_readsCondition_25 : decode cX6_readsCondition 25 = .ok (.iconst 0, 1) := dk_3 (dk_at dksX6_readsCondition_1 1 rfl rfl)
theorem dX6_readsCondition_26 : decode cX6_readsCondition 26 = .ok (.putfield 199, 3) := dk_181 0 199 (dk_at dksX6_readsCondition_1 2 rfl rfl)
theorem dX6_readsCondition_29 : decode cX6_readsCondition 29 = .ok (.aload_n 0, 1) := dk_42 (dk_at dksX6_readsCondition_1 5 rfl rfl)
theorem dX6_readsCondition_30 : decode cX6_readsCondition 30 = .ok (.bipush 13, 2) := dk_16 13 (dk_at dksX6_readsCondition_1 6 rfl rfl)
theorem dX6_readsCondition_32 : decode cX6_readsCondition 32 = .ok (.invokevirtual 209, 3) := dk_182 0 209 (dk_at dksX6_readsCondition_1 8 rfl rfl)
theorem dX6_readsCondition_35 : decode cX6_readsCondition 35 = .ok (.ifCond .ne 5, 3) := dk_154 0 5 (dk_at dksX6_readsCondition_1 11 rfl rfl)
theorem dX6_readsCondition_38 : decode cX6_readsCondition 38 = .ok (.iconst 0, 1) := dk_3 (dk_at dksX6_readsCondition_1 14 rfl rfl)
theorem dX6_readsCondition_39 : decode cX6_readsCondition 39 = .ok (.ireturn, 1) := dk_172 (dk_at dksX6_readsCondition_1 15 rfl rfl)
theorem dX6_readsCondition_40 : decode cX6_readsCondition 40 = .ok (.aload_n 0, 1) := dk_42 (dk_at dksX6_readsCondition_1 16 rfl rfl)
theorem dX6_readsCondition_41 : decode cX6_readsCondition 41 = .ok (.invokevirtual 175, 3) := dk_182 0 175 (dk_at dksX6_readsCondition_1 17 rfl rfl)
theorem dX6_readsCondition_44 : decode cX6_readsCondition 44 = .ok (.bipush 33, 2) := dk_16 33 (dk_at dksX6_readsCondition_1 20 rfl rfl)
theorem dX6_readsCondition_46 : decode cX6_readsCondition 46 = .ok (.if_icmp .eq 12, 3) := dk_159 0 12 (dk_at dksX6_readsCondition_2 0 rfl rfl)
theorem dX6_readsCondition_49 : decode cX6_readsCondition 49 = .ok (.aload_n 0, 1) := dk_42 (dk_at dksX6_readsCondition_2 3 rfl rfl)
theorem dX6_readsCondition_50 : decode cX6_readsCondition 50 = .ok (.invokevirtual 175, 3) := dk_182 0 175 (dk_at dksX6_readsCondition_2 4 rfl rfl)
theorem dX6_readsCondition_53 : decode cX6_readsCondition 53 = .ok (.bipush 40, 2) := dk_16 40 (dk_at dksX6_readsCondition_2 7 rfl rfl)
theorem dX6_readsCondition_55 : decode cX6_readsCondition 55 = .ok (.if_icmp .ne 28, 3) := dk_160 0 28 (dk_at dksX6_readsCondition_2 9 rfl rfl)
theorem dX6_readsCondition_58 : decode cX6_readsCondition 58 = .ok (.aload_n 0, 1) := dk_42 (dk_at dksX6_readsCondition_2 12 rfl rfl)
theorem dX6_readsCondition_59 : decode cX6_readsCondition 59 = .ok (.aload_n 0, 1) := dk_42 (dk_at dksX6_readsCondition_2 13 rfl rfl)
theorem dX6_readsCondition_60 : decode cX6_readsCondition 60 = .ok (.invokevirtual 175, 3) := dk_182 0 175 (dk_at dksX6_readsCondition_2 14 rfl rfl)
theorem dX6_readsCondition_63 : decode cX6_readsCondition 63 = .ok (.bipush 33, 2) := dk_16 33 (dk_at dksX6_readsCondition_2 17 rfl rfl)
theorem dX6_readsCondition_65 : decode cX6_readsCondition 65 = .ok (.if_icmp .ne 8, 3) := dk_160 0 8 (dk_at dksX6_readsCondition_2 19 rfl rfl)
theorem dX6_readsCondition_68 : decode cX6_readsCondition 68 = .ok (.bipush 10, 2) := dk_16 10 (dk_at dksX6_readsCondition_2 22 rfl rfl)
theorem dX6_readsCondition_70 : decode cX6_readsCondition 70 = .ok (.goto 5, 3) := dk_167 0 5 (dk_at dksX6_readsCondition_3 0 rfl rfl)
theorem dX6_readsCondition_73 : decode cX6_readsCondition 73 = .ok (.bipush 13, 2) := dk_16 13 (dk_at dksX6_readsCondition_3 3 rfl rfl)
theorem dX6_readsCondition_75 : decode cX6_readsCondition 75 = .ok (.invokevirtual 209, 3) := dk_182 0 209 (dk_at dksX6_readsCondition_3 5 rfl rfl)
theorem dX6_readsCondition_78 : decode cX6_readsCondition 78 = .ok (.ifCond .ne (-38), 3) := dk_154 255 218 (dk_at dksX6_readsCondition_3 8 rfl rfl)
theorem dX6_readsCondition_81 : decode cX6_readsCondition 81 = .ok (.iconst 0, 1) := dk_3 (dk_at dksX6_readsCondition_3 11 rfl rfl)
theorem dX6_readsCondition_82 : decode cX6_readsCondition 82 = .ok (.ireturn, 1) := dk_172 (dk_at dksX6_readsCondition_3 12 rfl rfl)
theorem dX6_readsCondition_83 : decode cX6_readsCondition 83 = .ok (.aload_n 0, 1) := dk_42 (dk_at dksX6_readsCondition_3 13 rfl rfl)
theorem dX6_readsCondition_84 : decode cX6_readsCondition 84 = .ok (.invokevirtual 238, 3) := dk_182 0 238 (dk_at dksX6_readsCondition_3 14 rfl rfl)
theorem dX6_readsCondition_87 : decode cX6_readsCondition 87 = .ok (.ifCond .ne 5, 3) := dk_154 0 5 (dk_at dksX6_readsCondition_3 17 rfl rfl)
theorem dX6_readsCondition_90 : decode cX6_readsCondition 90 = .ok (.iconst 0, 1) := dk_3 (dk_at dksX6_readsCondition_3 20 rfl rfl)
theorem dX6_readsCondition_91 : decode cX6_readsCondition 91 = .ok (.ireturn, 1) := dk_172 (dk_at dksX6_readsCondition_3 21 rfl rfl)
theorem dX6_readsCondition_92 : decode cX6_readsCondition 92 = .ok (.aload_n 0, 1) := dk_42 (dk_at dksX6_readsCondition_3 22 rfl rfl)
theorem dX6_readsCondition_93 : decode cX6_readsCondition 93 = .ok (.invokevirtual 175, 3) := dk_182 0 175 (dk_at dksX6_readsCondition_4 0 rfl rfl)
theorem dX6_readsCondition_96 : decode cX6_readsCondition 96 = .ok (.bipush 41, 2) := dk_16 41 (dk_at dksX6_readsCondition_4 3 rfl rfl)
theorem dX6_readsCondition_98 : decode cX6_readsCondition 98 = .ok (.if_icmp .ne 54, 3) := dk_160 0 54 (dk_at dksX6_readsCondition_4 5 rfl rfl)
theorem dX6_readsCondition_101 : decode cX6_readsCondition 101 = .ok (.aload_n 0, 1) := dk_42 (dk_at dksX6_readsCondition_4 8 rfl rfl)
theorem dX6_readsCondition_102 : decode cX6_readsCondition 102 = .ok (.iconst 1, 1) := dk_4 (dk_at dksX6_readsCondition_4 9 rfl rfl)
theorem dX6_readsCondition_103 : decode cX6_readsCondition 103 = .ok (.invokevirtual 241, 3) := dk_182 0 241 (dk_at dksX6_readsCondition_4 10 rfl rfl)
theorem dX6_readsCondition_106 : decode cX6_readsCondition 106 = .ok (.aload_n 0, 1) := dk_42 (dk_at dksX6_readsCondition_4 13 rfl rfl)
theorem dX6_readsCondition_107 : decode cX6_readsCondition 107 = .ok (.aload_n 0, 1) := dk_42 (dk_at dksX6_readsCondition_4 14 rfl rfl)
theorem dX6_readsCondition_108 : decode cX6_readsCondition 108 = .ok (.getfield 199, 3) := dk_180 0 199 (dk_at dksX6_readsCondition_4 15 rfl rfl)
theorem dX6_readsCondition_111 : decode cX6_readsCondition 111 = .ok (.iconst 1, 1) := dk_4 (dk_at dksX6_readsCondition_4 18 rfl rfl)
theorem dX6_readsCondition_112 : decode cX6_readsCondition 112 = .ok (.isub, 1) := dk_100 (dk_at dksX6_readsCondition_4 19 rfl rfl)
theorem dX6_readsCondition_113 : decode cX6_readsCondition 113 = .ok (.putfield 199, 3) := dk_181 0 199 (dk_at dksX6_readsCondition_4 20 rfl rfl)
theorem dX6_readsCondition_116 : decode cX6_readsCondition 116 = .ok (.aload_n 0, 1) := dk_42 (dk_at dksX6_readsCondition_4 23 rfl rfl)
theorem dX6_readsCondition_117 : decode cX6_readsCondition 117 = .ok (.aload_n 0, 1) := dk_42 (dk_at dksX6_readsCondition_5 0 rfl rfl)
theorem dX6_readsCondition_118 : decode cX6_readsCondition 118 = .ok (.getfield 196, 3) := dk_180 0 196 (dk_at dksX6_readsCondition_5 1 rfl rfl)
theorem dX6_readsCondition_121 : decode cX6_readsCondition 121 = .ok (.iconst 1, 1) := dk_4 (dk_at dksX6_readsCondition_5 4 rfl rfl)
theorem dX6_readsCondition_122 : decode cX6_readsCondition 122 = .ok (.isub, 1) := dk_100 (dk_at dksX6_readsCondition_5 5 rfl rfl)
theorem dX6_readsCondition_123 : decode cX6_readsCondition 123 = .ok (.putfield 196, 3) := dk_181 0 196 (dk_at dksX6_readsCondition_5 6 rfl rfl)
theorem dX6_readsCondition_126 : decode cX6_readsCondition 126 = .ok (.aload_n 0, 1) := dk_42 (dk_at dksX6_readsCondition_5 9 rfl rfl)
theorem dX6_readsCondition_127 : decode cX6_readsCondition 127 = .ok (.aload_n 0, 1) := dk_42 (dk_at dksX6_readsCondition_5 10 rfl rfl)
theorem dX6_readsCondition_128 : decode cX6_readsCondition 128 = .ok (.getfield 169, 3) := dk_180 0 169 (dk_at dksX6_readsCondition_5 11 rfl rfl)
theorem dX6_readsCondition_131 : decode cX6_readsCondition 131 = .ok (.iconst 1, 1) := dk_4 (dk_at dksX6_readsCondition_5 14 rfl rfl)
theorem dX6_readsCondition_132 : decode cX6_readsCondition 132 = .ok (.iadd, 1) := dk_96 (dk_at dksX6_readsCondition_5 15 rfl rfl)
theorem dX6_readsCondition_133 : decode cX6_readsCondition 133 = .ok (.putfield 169, 3) := dk_181 0 169 (dk_at dksX6_readsCondition_5 16 rfl rfl)
theorem dX6_readsCondition_136 : decode cX6_readsCondition 136 = .ok (.aload_n 0, 1) := dk_42 (dk_at dksX6_readsCondition_5 19 rfl rfl)
theorem dX6_readsCondition_137 : decode cX6_readsCondition 137 = .ok (.getfield 199, 3) := dk_180 0 199 (dk_at dksX6_readsCondition_5 20 rfl rfl)
theorem dX6_readsCondition_140 : decode cX6_readsCondition 140 = .ok (.ifCond .ne 5, 3) := dk_154 0 5 (dk_at dksX6_readsCondition_6 0 rfl rfl)
theorem dX6_readsCondition_143 : decode cX6_readsCondition 143 = .ok (.iconst 1, 1) := dk_4 (dk_at dksX6_readsCondition_6 3 rfl rfl)
theorem dX6_readsCondition_144 : decode cX6_readsCondition 144 = .ok (.ireturn, 1) := dk_172 (dk_at dksX6_readsCondition_6 4 rfl rfl)
theorem dX6_readsCondition_145 : decode cX6_readsCondition 145 = .ok (.aload_n 0, 1) := dk_42 (dk_at dksX6_readsCondition_6 5 rfl rfl)
theorem dX6_readsCondition_146 : decode cX6_readsCondition 146 = .ok (.invokevirtual 235, 3) := dk_182 0 235 (dk_at dksX6_readsCondition_6 6 rfl rfl)
theorem dX6_readsCondition_149 : decode cX6_readsCondition 149 = .ok (.goto (-57), 3) := dk_167 255 199 (dk_at dksX6_readsCondition_6 9 rfl rfl)
theorem dX6_readsCondition_152 : decode cX6_readsCondition 152 = .ok (.aload_n 0, 1) := dk_42 (dk_at dksX6_readsCondition_6 12 rfl rfl)
theorem dX6_readsCondition_153 : decode cX6_readsCondition 153 = .ok (.invokevirtual 175, 3) := dk_182 0 175 (dk_at dksX6_readsCondition_6 13 rfl rfl)
theorem dX6_readsCondition_156 : decode cX6_readsCondition 156 = .ok (.bipush 38, 2) := dk_16 38 (dk_at dksX6_readsCondition_6 16 rfl rfl)
theorem dX6_readsCondition_158 : decode cX6_readsCondition 158 = .ok (.if_icmp .eq 22, 3) := dk_159 0 22 (dk_at dksX6_readsCondition_6 18 rfl rfl)
theorem dX6_readsCondition_161 : decode cX6_readsCondition 161 = .ok (.aload_n 0, 1) := dk_42 (dk_at dksX6_readsCondition_6 21 rfl rfl)
theorem dX6_readsCondition_162 : decode cX6_readsCondition 162 = .ok (.invokevirtual 175, 3) := dk_182 0 175 (dk_at dksX6_readsCondition_7 0 rfl rfl)
theorem dX6_readsCondition_165 : decode cX6_readsCondition 165 = .ok (.bipush 124, 2) := dk_16 124 (dk_at dksX6_readsCondition_7 3 rfl rfl)
theorem dX6_readsCondition_167 : decode cX6_readsCondition 167 = .ok (.if_icmp .eq 13, 3) := dk_159 0 13 (dk_at dksX6_readsCondition_7 5 rfl rfl)
theorem dX6_readsCondition_170 : decode cX6_readsCondition 170 = .ok (.aload_n 0, 1) := dk_42 (dk_at dksX6_readsCondition_7 8 rfl rfl)
theorem dX6_readsCondition_171 : decode cX6_readsCondition 171 = .ok (.iconst 1, 1) := dk_4 (dk_at dksX6_readsCondition_7 9 rfl rfl)
theorem dX6_readsCondition_172 : decode cX6_readsCondition 172 = .ok (.aload_n 0, 1) := dk_42 (dk_at dksX6_readsCondition_7 10 rfl rfl)
theorem dX6_readsCondition_173 : decode cX6_readsCondition 173 = .ok (.getfield 169, 3) := dk_180 0 169 (dk_at dksX6_readsCondition_7 11 rfl rfl)
theorem dX6_readsCondition_176 : decode cX6_readsCondition 176 = .ok (.invokevirtual 182, 3) := dk_182 0 182 (dk_at dksX6_readsCondition_7 14 rfl rfl)
theorem dX6_readsCondition_179 : decode cX6_readsCondition 179 = .ok (.ireturn, 1) := dk_172 (dk_at dksX6_readsCondition_7 17 rfl rfl)
theorem dX6_readsCondition_180 : decode cX6_readsCondition 180 = .ok (.aload_n 0, 1) := dk_42 (dk_at dksX6_readsCondition_7 18 rfl rfl)
theorem dX6_readsCondition_181 : decode cX6_readsCondition 181 = .ok (.aload_n 0, 1) := dk_42 (dk_at dksX6_readsCondition_7 19 rfl rfl)
theorem dX6_readsCondition_182 : decode cX6_readsCondition 182 = .ok (.invokevirtual 175, 3) := dk_182 0 175 (dk_at dksX6_readsCondition_7 20 rfl rfl)
theorem dX6_readsCondition_185 : decode cX6_readsCondition 185 = .ok (.bipush 124, 2) := dk_16 124 (dk_at dksX6_readsCondition_8 0 rfl rfl)
theorem dX6_readsCondition_187 : decode cX6_readsCondition 187 = .ok (.if_icmp .ne 7, 3) := dk_160 0 7 (dk_at dksX6_readsCondition_8 2 rfl rfl)
theorem dX6_readsCondition_190 : decode cX6_readsCondition 190 = .ok (.iconst 1, 1) := dk_4 (dk_at dksX6_readsCondition_8 5 rfl rfl)
theorem dX6_readsCondition_191 : decode cX6_readsCondition 191 = .ok (.goto 4, 3) := dk_167 0 4 (dk_at dksX6_readsCondition_8 6 rfl rfl)
theorem dX6_readsCondition_194 : decode cX6_readsCondition 194 = .ok (.iconst 0, 1) := dk_3 (dk_at dksX6_readsCondition_8 9 rfl rfl)
theorem dX6_readsCondition_195 : decode cX6_readsCondition 195 = .ok (.invokevirtual 241, 3) := dk_182 0 241 (dk_at dksX6_readsCondition_8 10 rfl rfl)
theorem dX6_readsCondition_198 : decode cX6_readsCondition 198 = .ok (.aload_n 0, 1) := dk_42 (dk_at dksX6_readsCondition_8 13 rfl rfl)
theorem dX6_readsCondition_199 : decode cX6_readsCondition 199 = .ok (.aload_n 0, 1) := dk_42 (dk_at dksX6_readsCondition_8 14 rfl rfl)
theorem dX6_readsCondition_200 : decode cX6_readsCondition 200 = .ok (.invokevirtual 175, 3) := dk_182 0 175 (dk_at dksX6_readsCondition_8 15 rfl rfl)
theorem dX6_readsCondition_203 : decode cX6_readsCondition 203 = .ok (.bipush 38, 2) := dk_16 38 (dk_at dksX6_readsCondition_8 18 rfl rfl)
theorem dX6_readsCondition_205 : decode cX6_readsCondition 205 = .ok (.if_icmp .ne 8, 3) := dk_160 0 8 (dk_at dksX6_readsCondition_8 20 rfl rfl)
theorem dX6_readsCondition_208 : decode cX6_readsCondition 208 = .ok (.bipush 11, 2) := dk_16 11 (dk_at dksX6_readsCondition_9 0 rfl rfl)
theorem dX6_readsCondition_210 : decode cX6_readsCondition 210 = .ok (.goto 5, 3) := dk_167 0 5 (dk_at dksX6_readsCondition_9 2 rfl rfl)
theorem dX6_readsCondition_213 : decode cX6_readsCondition 213 = .ok (.bipush 12, 2) := dk_16 12 (dk_at dksX6_readsCondition_9 5 rfl rfl)
theorem dX6_readsCondition_215 : decode cX6_readsCondition 215 = .ok (.invokevirtual 244, 3) := dk_182 0 244 (dk_at dksX6_readsCondition_9 7 rfl rfl)
theorem dX6_readsCondition_218 : decode cX6_readsCondition 218 = .ok (.goto (-178), 3) := dk_167 255 78 (dk_at dksX6_readsCondition_9 10 rfl rfl)
abbrev cX6_readsCompared : ByteArray := prog_20_method_38_code
def yX6_readsCompared : MethodName := ⟨RX6, "readsCompared", "()Z"⟩
def dkwX6_readsCompared_4 : List UInt8 := [182, 0, 235, 4, 172]
abbrev dktX6_readsCompared_4 : List UInt8 := dkwX6_readsCompared_4 ++ []
def dkwX6_readsCompared_3 : List UInt8 := [180, 0, 169, 4, 96, 181, 0, 169, 42, 182, 0, 232, 154, 0, 5, 3, 172, 42, 27, 3, 182, 0, 205, 42]
abbrev dktX6_readsCompared_3 : List UInt8 := dkwX6_readsCompared_3 ++ dktX6_readsCompared_4
def dkwX6_readsCompared_2 : List UInt8 := [167, 0, 4, 2, 60, 27, 2, 160, 0, 13, 42, 4, 42, 180, 0, 169, 182, 0, 182, 172, 42, 42]
abbrev dktX6_readsCompared_2 : List UInt8 := dkwX6_readsCompared_2 ++ dktX6_readsCompared_3
def dkwX6_readsCompared_1 : List UInt8 := [182, 0, 175, 16, 62, 160, 0, 8, 16, 8, 167, 0, 18, 42, 182, 0, 175, 16, 61, 160, 0, 8, 16, 9]
abbrev dktX6_readsCompared_1 : List UInt8 := dkwX6_readsCompared_1 ++ dktX6_readsCompared_2
def dkwX6_readsCompared_0 : List UInt8 := [42, 182, 0, 232, 154, 0, 5, 3, 172, 42, 182, 0, 175, 16, 60, 160, 0, 8, 16, 7, 167, 0, 32, 42]
abbrev dktX6_readsCompared_0 : List UInt8 := dkwX6_readsCompared_0 ++ dktX6_readsCompared_1
theorem dksX6_readsCompared_0 : cX6_readsCompared.data.toList.drop 0 = dktX6_readsCompared_0 := by decide +kernel
theorem dksX6_readsCompared_1 : cX6_readsCompared.data.toList.drop 24 = dktX6_readsCompared_1 := dk_seg dksX6_readsCompared_0 24 rfl rfl
theorem dksX6_readsCompared_2 : cX6_readsCompared.data.toList.drop 48 = dktX6_readsCompared_2 := dk_seg dksX6_readsCompared_1 24 rfl rfl
theorem dksX6_readsCompared_3 : cX6_readsCompared.data.toList.drop 70 = dktX6_readsCompared_3 := dk_seg dksX6_readsCompared_2 22 rfl rfl
theorem dksX6_readsCompared_4 : cX6_readsCompared.data.toList.drop 94 = dktX6_readsCompared_4 := dk_seg dksX6_readsCompared_3 24 rfl rfl
theorem dX6_readsCompared_0 : decode cX6_readsCompared 0 = .ok (.aload_n 0, 1) := dk_42 (dk_at dksX6_readsCompared_0 0 rfl rfl)
theorem dX6_readsCompared_1 : decode cX6_readsCompared 1 = .ok (.invokevirtual 232, 3) := dk_182 0 232 (dk_at dksX6_readsCompared_0 1 rfl rfl)
theorem dX6_readsCompared_4 : decode cX6_readsCompared 4 = .ok (.ifCond .ne 5, 3) := dk_154 0 5 (dk_at dksX6_readsCompared_0 4 rfl rfl)
theorem dX6_readsCompared_7 : decode cX6_readsCompared 7 = .ok (.iconst 0, 1) := dk_3 (dk_at dksX6_readsCompared_0 7 rfl rfl)
theorem dX6_readsCompared_8 : decode cX6_readsCompared 8 = .ok (.ireturn, 1) := dk_172 (dk_at dksX6_readsCompared_0 8 rfl rfl)
theorem dX6_readsCompared_9 : decode cX6_readsCompared 9 = .ok (.aload_n 0, 1) := dk_42 (dk_at dksX6_readsCompared_0 9 rfl rfl)
theorem dX6_readsCompared_10 : decode cX6_readsCompared 10 = .ok (.invokevirtual 175, 3) := dk_182 0 175 (dk_at dksX6_readsCompared_0 10 rfl rfl)
theorem dX6_readsCompared_13 : decode cX6_readsCompared 13 = .ok (.bipush 60, 2) := dk_16 60 (dk_at dksX6_readsCompared_0 13 rfl rfl)
theorem dX6_readsCompared_15 : decode cX6_readsCompared 15 = .ok (.if_icmp .ne 8, 3) := dk_160 0 8 (dk_at dksX6_readsCompared_0 15 rfl rfl)
theorem dX6_readsCompared_18 : decode cX6_readsCompared 18 = .ok (.bipush 7, 2) := dk_16 7 (dk_at dksX6_readsCompared_0 18 rfl rfl)
theorem dX6_readsCompared_20 : decode cX6_readsCompared 20 = .ok (.goto 32, 3) := dk_167 0 32 (dk_at dksX6_readsCompared_0 20 rfl rfl)
theorem dX6_readsCompared_23 : decode cX6_readsCompared 23 = .ok (.aload_n 0, 1) := dk_42 (dk_at dksX6_readsCompared_0 23 rfl rfl)
theorem dX6_readsCompared_24 : decode cX6_readsCompared 24 = .ok (.invokevirtual 175, 3) := dk_182 0 175 (dk_at dksX6_readsCompared_1 0 rfl rfl)
theorem dX6_readsCompared_27 : decode cX6_readsCompared 27 = .ok (.bipush 62, 2) := dk_16 62 (dk_at dksX6_readsCompared_1 3 rfl rfl)
theorem dX6_readsCompared_29 : decode cX6_readsCompared 29 = .ok (.if_icmp .ne 8, 3) := dk_160 0 8 (dk_at dksX6_readsCompared_1 5 rfl rfl)
theorem dX6_readsCompared_32 : decode cX6_readsCompared 32 = .ok (.bipush 8, 2) := dk_16 8 (dk_at dksX6_readsCompared_1 8 rfl rfl)
theorem dX6_readsCompared_34 : decode cX6_readsCompared 34 = .ok (.goto 18, 3) := dk_167 0 18 (dk_at dksX6_readsCompared_1 10 rfl rfl)
theorem dX6_readsCompared_37 : decode cX6_readsCompared 37 = .ok (.aload_n 0, 1) := dk_42 (dk_at dksX6_readsCompared_1 13 rfl rfl)
theorem dX6_readsCompared_38 : decode cX6_readsCompared 38 = .ok (.invokevirtual 175, 3) := dk_182 0 175 (dk_at dksX6_readsCompared_1 14 rfl rfl)
theorem dX6_readsCompared_41 : decode cX6_readsCompared 41 = .ok (.bipush 61, 2) := dk_16 61 (dk_at dksX6_readsCompared_1 17 rfl rfl)
theorem dX6_readsCompared_43 : decode cX6_readsCompared 43 = .ok (.if_icmp .ne 8, 3) := dk_160 0 8 (dk_at dksX6_readsCompared_1 19 rfl rfl)
theorem dX6_readsCompared_46 : decode cX6_readsCompared 46 = .ok (.bipush 9, 2) := dk_16 9 (dk_at dksX6_readsCompared_1 22 rfl rfl)
theorem dX6_readsCompared_48 : decode cX6_readsCompared 48 = .ok (.goto 4, 3) := dk_167 0 4 (dk_at dksX6_readsCompared_2 0 rfl rfl)
theorem dX6_readsCompared_51 : decode cX6_readsCompared 51 = .ok (.iconst (-1), 1) := dk_2 (dk_at dksX6_readsCompared_2 3 rfl rfl)
theorem dX6_readsCompared_52 : decode cX6_readsCompared 52 = .ok (.istore_n 1, 1) := dk_60 (dk_at dksX6_readsCompared_2 4 rfl rfl)
theorem dX6_readsCompared_53 : decode cX6_readsCompared 53 = .ok (.iload_n 1, 1) := dk_27 (dk_at dksX6_readsCompared_2 5 rfl rfl)
theorem dX6_readsCompared_54 : decode cX6_readsCompared 54 = .ok (.iconst (-1), 1) := dk_2 (dk_at dksX6_readsCompared_2 6 rfl rfl)
theorem dX6_readsCompared_55 : decode cX6_readsCompared 55 = .ok (.if_icmp .ne 13, 3) := dk_160 0 13 (dk_at dksX6_readsCompared_2 7 rfl rfl)
theorem dX6_readsCompared_58 : decode cX6_readsCompared 58 = .ok (.aload_n 0, 1) := dk_42 (dk_at dksX6_readsCompared_2 10 rfl rfl)
theorem dX6_readsCompared_59 : decode cX6_readsCompared 59 = .ok (.iconst 1, 1) := dk_4 (dk_at dksX6_readsCompared_2 11 rfl rfl)
theorem dX6_readsCompared_60 : decode cX6_readsCompared 60 = .ok (.aload_n 0, 1) := dk_42 (dk_at dksX6_readsCompared_2 12 rfl rfl)
theorem dX6_readsCompared_61 : decode cX6_readsCompared 61 = .ok (.getfield 169, 3) := dk_180 0 169 (dk_at dksX6_readsCompared_2 13 rfl rfl)
theorem dX6_readsCompared_64 : decode cX6_readsCompared 64 = .ok (.invokevirtual 182, 3) := dk_182 0 182 (dk_at dksX6_readsCompared_2 16 rfl rfl)
theorem dX6_readsCompared_67 : decode cX6_readsCompared 67 = .ok (.ireturn, 1) := dk_172 (dk_at dksX6_readsCompared_2 19 rfl rfl)
theorem dX6_readsCompared_68 : decode cX6_readsCompared 68 = .ok (.aload_n 0, 1) := dk_42 (dk_at dksX6_readsCompared_2 20 rfl rfl)
theorem dX6_readsCompared_69 : decode cX6_readsCompared 69 = .ok (.aload_n 0, 1) := dk_42 (dk_at dksX6_readsCompared_2 21 rfl rfl)
theorem dX6_readsCompared_70 : decode cX6_readsCompared 70 = .ok (.getfield 169, 3) := dk_180 0 169 (dk_at dksX6_readsCompared_3 0 rfl rfl)
theorem dX6_readsCompared_73 : decode cX6_readsCompared 73 = .ok (.iconst 1, 1) := dk_4 (dk_at dksX6_readsCompared_3 3 rfl rfl)
theorem dX6_readsCompared_74 : decode cX6_readsCompared 74 = .ok (.iadd, 1) := dk_96 (dk_at dksX6_readsCompared_3 4 rfl rfl)
theorem dX6_readsCompared_75 : decode cX6_readsCompared 75 = .ok (.putfield 169, 3) := dk_181 0 169 (dk_at dksX6_readsCompared_3 5 rfl rfl)
theorem dX6_readsCompared_78 : decode cX6_readsCompared 78 = .ok (.aload_n 0, 1) := dk_42 (dk_at dksX6_readsCompared_3 8 rfl rfl)
theorem dX6_readsCompared_79 : decode cX6_readsCompared 79 = .ok (.invokevirtual 232, 3) := dk_182 0 232 (dk_at dksX6_readsCompared_3 9 rfl rfl)
theorem dX6_readsCompared_82 : decode cX6_readsCompared 82 = .ok (.ifCond .ne 5, 3) := dk_154 0 5 (dk_at dksX6_readsCompared_3 12 rfl rfl)
theorem dX6_readsCompared_85 : decode cX6_readsCompared 85 = .ok (.iconst 0, 1) := dk_3 (dk_at dksX6_readsCompared_3 15 rfl rfl)
theorem dX6_readsCompared_86 : decode cX6_readsCompared 86 = .ok (.ireturn, 1) := dk_172 (dk_at dksX6_readsCompared_3 16 rfl rfl)
theorem dX6_readsCompared_87 : decode cX6_readsCompared 87 = .ok (.aload_n 0, 1) := dk_42 (dk_at dksX6_readsCompared_3 17 rfl rfl)
theorem dX6_readsCompared_88 : decode cX6_readsCompared 88 = .ok (.iload_n 1, 1) := dk_27 (dk_at dksX6_readsCompared_3 18 rfl rfl)
theorem dX6_readsCompared_89 : decode cX6_readsCompared 89 = .ok (.iconst 0, 1) := dk_3 (dk_at dksX6_readsCompared_3 19 rfl rfl)
theorem dX6_readsCompared_90 : decode cX6_readsCompared 90 = .ok (.invokevirtual 205, 3) := dk_182 0 205 (dk_at dksX6_readsCompared_3 20 rfl rfl)
theorem dX6_readsCompared_93 : decode cX6_readsCompared 93 = .ok (.aload_n 0, 1) := dk_42 (dk_at dksX6_readsCompared_3 23 rfl rfl)
theorem dX6_readsCompared_94 : decode cX6_readsCompared 94 = .ok (.invokevirtual 235, 3) := dk_182 0 235 (dk_at dksX6_readsCompared_4 0 rfl rfl)
theorem dX6_readsCompared_97 : decode cX6_readsCompared 97 = .ok (.iconst 1, 1) := dk_4 (dk_at dksX6_readsCompared_4 3 rfl rfl)
theorem dX6_readsCompared_98 : decode cX6_readsCompared 98 = .ok (.ireturn, 1) := dk_172 (dk_at dksX6_readsCompared_4 4 rfl rfl)
abbrev cX6_endsPiece : ByteArray := prog_20_method_35_code
def yX6_endsPiece : MethodName := ⟨RX6, "endsPiece", "()V"⟩
def dkwX6_endsPiece_1 : List UInt8 := [181, 0, 199, 42, 42, 180, 0, 196, 4, 100, 181, 0, 196, 167, 255, 220, 177]
abbrev dktX6_endsPiece_1 : List UInt8 := dkwX6_endsPiece_1 ++ []
def dkwX6_endsPiece_0 : List UInt8 := [42, 182, 0, 202, 16, 10, 160, 0, 33, 42, 16, 10, 3, 182, 0, 205, 42, 42, 180, 0, 199, 4, 100]
abbrev dktX6_endsPiece_0 : List UInt8 := dkwX6_endsPiece_0 ++ dktX6_endsPiece_1
theorem dksX6_endsPiece_0 : cX6_endsPiece.data.toList.drop 0 = dktX6_endsPiece_0 := by decide +kernel
theorem dksX6_endsPiece_1 : cX6_endsPiece.data.toList.drop 23 = dktX6_endsPiece_1 := dk_seg dksX6_endsPiece_0 23 rfl rfl
theorem dX6_endsPiece_0 : decode cX6_endsPiece 0 = .ok (.aload_n 0, 1) := dk_42 (dk_at dksX6_endsPiece_0 0 rfl rfl)
theorem dX6_endsPiece_1 : decode cX6_endsPiece 1 = .ok (.invokevirtual 202, 3) := dk_182 0 202 (dk_at dksX6_endsPiece_0 1 rfl rfl)
theorem dX6_endsPiece_4 : decode cX6_endsPiece 4 = .ok (.bipush 10, 2) := dk_16 10 (dk_at dksX6_endsPiece_0 4 rfl rfl)
theorem dX6_endsPiece_6 : decode cX6_endsPiece 6 = .ok (.if_icmp .ne 33, 3) := dk_160 0 33 (dk_at dksX6_endsPiece_0 6 rfl rfl)
theorem dX6_endsPiece_9 : decode cX6_endsPiece 9 = .ok (.aload_n 0, 1) := dk_42 (dk_at dksX6_endsPiece_0 9 rfl rfl)
theorem dX6_endsPiece_10 : decode cX6_endsPiece 10 = .ok (.bipush 10, 2) := dk_16 10 (dk_at dksX6_endsPiece_0 10 rfl rfl)
theorem dX6_endsPiece_12 : decode cX6_endsPiece 12 = .ok (.iconst 0, 1) := dk_3 (dk_at dksX6_endsPiece_0 12 rfl rfl)
theorem dX6_endsPiece_13 : decode cX6_endsPiece 13 = .ok (.invokevirtual 205, 3) := dk_182 0 205 (dk_at dksX6_endsPiece_0 13 rfl rfl)
theorem dX6_endsPiece_16 : decode cX6_endsPiece 16 = .ok (.aload_n 0, 1) := dk_42 (dk_at dksX6_endsPiece_0 16 rfl rfl)
theorem dX6_endsPiece_17 : decode cX6_endsPiece 17 = .ok (.aload_n 0, 1) := dk_42 (dk_at dksX6_endsPiece_0 17 rfl rfl)
theorem dX6_endsPiece_18 : decode cX6_endsPiece 18 = .ok (.getfield 199, 3) := dk_180 0 199 (dk_at dksX6_endsPiece_0 18 rfl rfl)
theorem dX6_endsPiece_21 : decode cX6_endsPiece 21 = .ok (.iconst 1, 1) := dk_4 (dk_at dksX6_endsPiece_0 21 rfl rfl)
theorem dX6_endsPiece_22 : decode cX6_endsPiece 22 = .ok (.isub, 1) := dk_100 (dk_at dksX6_endsPiece_0 22 rfl rfl)
theorem dX6_endsPiece_23 : decode cX6_endsPiece 23 = .ok (.putfield 199, 3) := dk_181 0 199 (dk_at dksX6_endsPiece_1 0 rfl rfl)
theorem dX6_endsPiece_26 : decode cX6_endsPiece 26 = .ok (.aload_n 0, 1) := dk_42 (dk_at dksX6_endsPiece_1 3 rfl rfl)
theorem dX6_endsPiece_27 : decode cX6_endsPiece 27 = .ok (.aload_n 0, 1) := dk_42 (dk_at dksX6_endsPiece_1 4 rfl rfl)
theorem dX6_endsPiece_28 : decode cX6_endsPiece 28 = .ok (.getfield 196, 3) := dk_180 0 196 (dk_at dksX6_endsPiece_1 5 rfl rfl)
theorem dX6_endsPiece_31 : decode cX6_endsPiece 31 = .ok (.iconst 1, 1) := dk_4 (dk_at dksX6_endsPiece_1 8 rfl rfl)
theorem dX6_endsPiece_32 : decode cX6_endsPiece 32 = .ok (.isub, 1) := dk_100 (dk_at dksX6_endsPiece_1 9 rfl rfl)
theorem dX6_endsPiece_33 : decode cX6_endsPiece 33 = .ok (.putfield 196, 3) := dk_181 0 196 (dk_at dksX6_endsPiece_1 10 rfl rfl)
theorem dX6_endsPiece_36 : decode cX6_endsPiece 36 = .ok (.goto (-36), 3) := dk_167 255 220 (dk_at dksX6_endsPiece_1 13 rfl rfl)
theorem dX6_endsPiece_39 : decode cX6_endsPiece 39 = .ok (.return_, 1) := dk_177 (dk_at dksX6_endsPiece_1 16 rfl rfl)
abbrev cX6_lands : ByteArray := prog_20_method_36_code
def yX6_lands : MethodName := ⟨RX6, "lands", "(Z)V"⟩
def dkwX6_lands_3 : List UInt8 := [181, 0, 199, 167, 255, 186, 177]
abbrev dktX6_lands_3 : List UInt8 := dkwX6_lands_3 ++ []
def dkwX6_lands_2 : List UInt8 := [180, 0, 38, 28, 46, 18, 195, 108, 104, 42, 180, 0, 192, 96, 79, 42, 42, 180, 0, 199, 4, 100]
abbrev dktX6_lands_2 : List UInt8 := dkwX6_lands_2 ++ dktX6_lands_3
def dkwX6_lands_1 : List UInt8 := [180, 0, 41, 42, 180, 0, 199, 4, 100, 46, 18, 195, 112, 61, 42, 180, 0, 38, 28, 18, 195, 42]
abbrev dktX6_lands_1 : List UInt8 := dkwX6_lands_1 ++ dktX6_lands_2
def dkwX6_lands_0 : List UInt8 := [42, 182, 0, 202, 16, 11, 159, 0, 16, 27, 153, 0, 63, 42, 182, 0, 202, 16, 12, 160, 0, 54, 42]
abbrev dktX6_lands_0 : List UInt8 := dkwX6_lands_0 ++ dktX6_lands_1
theorem dksX6_lands_0 : cX6_lands.data.toList.drop 0 = dktX6_lands_0 := by decide +kernel
theorem dksX6_lands_1 : cX6_lands.data.toList.drop 23 = dktX6_lands_1 := dk_seg dksX6_lands_0 23 rfl rfl
theorem dksX6_lands_2 : cX6_lands.data.toList.drop 45 = dktX6_lands_2 := dk_seg dksX6_lands_1 22 rfl rfl
theorem dksX6_lands_3 : cX6_lands.data.toList.drop 67 = dktX6_lands_3 := dk_seg dksX6_lands_2 22 rfl rfl
theorem dX6_lands_0 : decode cX6_lands 0 = .ok (.aload_n 0, 1) := dk_42 (dk_at dksX6_lands_0 0 rfl rfl)
theorem dX6_lands_1 : decode cX6_lands 1 = .ok (.invokevirtual 202, 3) := dk_182 0 202 (dk_at dksX6_lands_0 1 rfl rfl)
theorem dX6_lands_4 : decode cX6_lands 4 = .ok (.bipush 11, 2) := dk_16 11 (dk_at dksX6_lands_0 4 rfl rfl)
theorem dX6_lands_6 : decode cX6_lands 6 = .ok (.if_icmp .eq 16, 3) := dk_159 0 16 (dk_at dksX6_lands_0 6 rfl rfl)
theorem dX6_lands_9 : decode cX6_lands 9 = .ok (.iload_n 1, 1) := dk_27 (dk_at dksX6_lands_0 9 rfl rfl)
theorem dX6_lands_10 : decode cX6_lands 10 = .ok (.ifCond .eq 63, 3) := dk_153 0 63 (dk_at dksX6_lands_0 10 rfl rfl)
theorem dX6_lands_13 : decode cX6_lands 13 = .ok (.aload_n 0, 1) := dk_42 (dk_at dksX6_lands_0 13 rfl rfl)
theorem dX6_lands_14 : decode cX6_lands 14 = .ok (.invokevirtual 202, 3) := dk_182 0 202 (dk_at dksX6_lands_0 14 rfl rfl)
theorem dX6_lands_17 : decode cX6_lands 17 = .ok (.bipush 12, 2) := dk_16 12 (dk_at dksX6_lands_0 17 rfl rfl)
theorem dX6_lands_19 : decode cX6_lands 19 = .ok (.if_icmp .ne 54, 3) := dk_160 0 54 (dk_at dksX6_lands_0 19 rfl rfl)
theorem dX6_lands_22 : decode cX6_lands 22 = .ok (.aload_n 0, 1) := dk_42 (dk_at dksX6_lands_0 22 rfl rfl)
theorem dX6_lands_23 : decode cX6_lands 23 = .ok (.getfield 41, 3) := dk_180 0 41 (dk_at dksX6_lands_1 0 rfl rfl)
theorem dX6_lands_26 : decode cX6_lands 26 = .ok (.aload_n 0, 1) := dk_42 (dk_at dksX6_lands_1 3 rfl rfl)
theorem dX6_lands_27 : decode cX6_lands 27 = .ok (.getfield 199, 3) := dk_180 0 199 (dk_at dksX6_lands_1 4 rfl rfl)
theorem dX6_lands_30 : decode cX6_lands 30 = .ok (.iconst 1, 1) := dk_4 (dk_at dksX6_lands_1 7 rfl rfl)
theorem dX6_lands_31 : decode cX6_lands 31 = .ok (.isub, 1) := dk_100 (dk_at dksX6_lands_1 8 rfl rfl)
theorem dX6_lands_32 : decode cX6_lands 32 = .ok (.iaload, 1) := dk_46 (dk_at dksX6_lands_1 9 rfl rfl)
theorem dX6_lands_33 : decode cX6_lands 33 = .ok (.ldc 195, 2) := dk_18 195 (dk_at dksX6_lands_1 10 rfl rfl)
theorem dX6_lands_35 : decode cX6_lands 35 = .ok (.irem, 1) := dk_112 (dk_at dksX6_lands_1 12 rfl rfl)
theorem dX6_lands_36 : decode cX6_lands 36 = .ok (.istore_n 2, 1) := dk_61 (dk_at dksX6_lands_1 13 rfl rfl)
theorem dX6_lands_37 : decode cX6_lands 37 = .ok (.aload_n 0, 1) := dk_42 (dk_at dksX6_lands_1 14 rfl rfl)
theorem dX6_lands_38 : decode cX6_lands 38 = .ok (.getfield 38, 3) := dk_180 0 38 (dk_at dksX6_lands_1 15 rfl rfl)
theorem dX6_lands_41 : decode cX6_lands 41 = .ok (.iload_n 2, 1) := dk_28 (dk_at dksX6_lands_1 18 rfl rfl)
theorem dX6_lands_42 : decode cX6_lands 42 = .ok (.ldc 195, 2) := dk_18 195 (dk_at dksX6_lands_1 19 rfl rfl)
theorem dX6_lands_44 : decode cX6_lands 44 = .ok (.aload_n 0, 1) := dk_42 (dk_at dksX6_lands_1 21 rfl rfl)
theorem dX6_lands_45 : decode cX6_lands 45 = .ok (.getfield 38, 3) := dk_180 0 38 (dk_at dksX6_lands_2 0 rfl rfl)
theorem dX6_lands_48 : decode cX6_lands 48 = .ok (.iload_n 2, 1) := dk_28 (dk_at dksX6_lands_2 3 rfl rfl)
theorem dX6_lands_49 : decode cX6_lands 49 = .ok (.iaload, 1) := dk_46 (dk_at dksX6_lands_2 4 rfl rfl)
theorem dX6_lands_50 : decode cX6_lands 50 = .ok (.ldc 195, 2) := dk_18 195 (dk_at dksX6_lands_2 5 rfl rfl)
theorem dX6_lands_52 : decode cX6_lands 52 = .ok (.idiv, 1) := dk_108 (dk_at dksX6_lands_2 7 rfl rfl)
theorem dX6_lands_53 : decode cX6_lands 53 = .ok (.imul, 1) := dk_104 (dk_at dksX6_lands_2 8 rfl rfl)
theorem dX6_lands_54 : decode cX6_lands 54 = .ok (.aload_n 0, 1) := dk_42 (dk_at dksX6_lands_2 9 rfl rfl)
theorem dX6_lands_55 : decode cX6_lands 55 = .ok (.getfield 192, 3) := dk_180 0 192 (dk_at dksX6_lands_2 10 rfl rfl)
theorem dX6_lands_58 : decode cX6_lands 58 = .ok (.iadd, 1) := dk_96 (dk_at dksX6_lands_2 13 rfl rfl)
theorem dX6_lands_59 : decode cX6_lands 59 = .ok (.iastore, 1) := dk_79 (dk_at dksX6_lands_2 14 rfl rfl)
theorem dX6_lands_60 : decode cX6_lands 60 = .ok (.aload_n 0, 1) := dk_42 (dk_at dksX6_lands_2 15 rfl rfl)
theorem dX6_lands_61 : decode cX6_lands 61 = .ok (.aload_n 0, 1) := dk_42 (dk_at dksX6_lands_2 16 rfl rfl)
theorem dX6_lands_62 : decode cX6_lands 62 = .ok (.getfield 199, 3) := dk_180 0 199 (dk_at dksX6_lands_2 17 rfl rfl)
theorem dX6_lands_65 : decode cX6_lands 65 = .ok (.iconst 1, 1) := dk_4 (dk_at dksX6_lands_2 20 rfl rfl)
theorem dX6_lands_66 : decode cX6_lands 66 = .ok (.isub, 1) := dk_100 (dk_at dksX6_lands_2 21 rfl rfl)
theorem dX6_lands_67 : decode cX6_lands 67 = .ok (.putfield 199, 3) := dk_181 0 199 (dk_at dksX6_lands_3 0 rfl rfl)
theorem dX6_lands_70 : decode cX6_lands 70 = .ok (.goto (-70), 3) := dk_167 255 186 (dk_at dksX6_lands_3 3 rfl rfl)
theorem dX6_lands_73 : decode cX6_lands 73 = .ok (.return_, 1) := dk_177 (dk_at dksX6_lands_3 6 rfl rfl)
abbrev cX6_jumps : ByteArray := prog_20_method_37_code
def yX6_jumps : MethodName := ⟨RX6, "jumps", "(I)V"⟩
def dkwX6_jumps_1 : List UInt8 := [96, 181, 0, 199, 42, 27, 3, 182, 0, 205, 42, 42, 180, 0, 169, 4, 96, 181, 0, 169, 177]
abbrev dktX6_jumps_1 : List UInt8 := dkwX6_jumps_1 ++ []
def dkwX6_jumps_0 : List UInt8 := [42, 180, 0, 41, 42, 180, 0, 199, 18, 195, 27, 104, 42, 180, 0, 192, 96, 79, 42, 42, 180, 0, 199, 4]
abbrev dktX6_jumps_0 : List UInt8 := dkwX6_jumps_0 ++ dktX6_jumps_1
theorem dksX6_jumps_0 : cX6_jumps.data.toList.drop 0 = dktX6_jumps_0 := by decide +kernel
theorem dksX6_jumps_1 : cX6_jumps.data.toList.drop 24 = dktX6_jumps_1 := dk_seg dksX6_jumps_0 24 rfl rfl
theorem dX6_jumps_0 : decode cX6_jumps 0 = .ok (.aload_n 0, 1) := dk_42 (dk_at dksX6_jumps_0 0 rfl rfl)
theorem dX6_jumps_1 : decode cX6_jumps 1 = .ok (.getfield 41, 3) := dk_180 0 41 (dk_at dksX6_jumps_0 1 rfl rfl)
theorem dX6_jumps_4 : decode cX6_jumps 4 = .ok (.aload_n 0, 1) := dk_42 (dk_at dksX6_jumps_0 4 rfl rfl)
theorem dX6_jumps_5 : decode cX6_jumps 5 = .ok (.getfield 199, 3) := dk_180 0 199 (dk_at dksX6_jumps_0 5 rfl rfl)
theorem dX6_jumps_8 : decode cX6_jumps 8 = .ok (.ldc 195, 2) := dk_18 195 (dk_at dksX6_jumps_0 8 rfl rfl)
theorem dX6_jumps_10 : decode cX6_jumps 10 = .ok (.iload_n 1, 1) := dk_27 (dk_at dksX6_jumps_0 10 rfl rfl)
theorem dX6_jumps_11 : decode cX6_jumps 11 = .ok (.imul, 1) := dk_104 (dk_at dksX6_jumps_0 11 rfl rfl)
theorem dX6_jumps_12 : decode cX6_jumps 12 = .ok (.aload_n 0, 1) := dk_42 (dk_at dksX6_jumps_0 12 rfl rfl)
theorem dX6_jumps_13 : decode cX6_jumps 13 = .ok (.getfield 192, 3) := dk_180 0 192 (dk_at dksX6_jumps_0 13 rfl rfl)
theorem dX6_jumps_16 : decode cX6_jumps 16 = .ok (.iadd, 1) := dk_96 (dk_at dksX6_jumps_0 16 rfl rfl)
theorem dX6_jumps_17 : decode cX6_jumps 17 = .ok (.iastore, 1) := dk_79 (dk_at dksX6_jumps_0 17 rfl rfl)
theorem dX6_jumps_18 : decode cX6_jumps 18 = .ok (.aload_n 0, 1) := dk_42 (dk_at dksX6_jumps_0 18 rfl rfl)
theorem dX6_jumps_19 : decode cX6_jumps 19 = .ok (.aload_n 0, 1) := dk_42 (dk_at dksX6_jumps_0 19 rfl rfl)
theorem dX6_jumps_20 : decode cX6_jumps 20 = .ok (.getfield 199, 3) := dk_180 0 199 (dk_at dksX6_jumps_0 20 rfl rfl)
theorem dX6_jumps_23 : decode cX6_jumps 23 = .ok (.iconst 1, 1) := dk_4 (dk_at dksX6_jumps_0 23 rfl rfl)
theorem dX6_jumps_24 : decode cX6_jumps 24 = .ok (.iadd, 1) := dk_96 (dk_at dksX6_jumps_1 0 rfl rfl)
theorem dX6_jumps_25 : decode cX6_jumps 25 = .ok (.putfield 199, 3) := dk_181 0 199 (dk_at dksX6_jumps_1 1 rfl rfl)
theorem dX6_jumps_28 : decode cX6_jumps 28 = .ok (.aload_n 0, 1) := dk_42 (dk_at dksX6_jumps_1 4 rfl rfl)
theorem dX6_jumps_29 : decode cX6_jumps 29 = .ok (.iload_n 1, 1) := dk_27 (dk_at dksX6_jumps_1 5 rfl rfl)
theorem dX6_jumps_30 : decode cX6_jumps 30 = .ok (.iconst 0, 1) := dk_3 (dk_at dksX6_jumps_1 6 rfl rfl)
theorem dX6_jumps_31 : decode cX6_jumps 31 = .ok (.invokevirtual 205, 3) := dk_182 0 205 (dk_at dksX6_jumps_1 7 rfl rfl)
theorem dX6_jumps_34 : decode cX6_jumps 34 = .ok (.aload_n 0, 1) := dk_42 (dk_at dksX6_jumps_1 10 rfl rfl)
theorem dX6_jumps_35 : decode cX6_jumps 35 = .ok (.aload_n 0, 1) := dk_42 (dk_at dksX6_jumps_1 11 rfl rfl)
theorem dX6_jumps_36 : decode cX6_jumps 36 = .ok (.getfield 169, 3) := dk_180 0 169 (dk_at dksX6_jumps_1 12 rfl rfl)
theorem dX6_jumps_39 : decode cX6_jumps 39 = .ok (.iconst 1, 1) := dk_4 (dk_at dksX6_jumps_1 15 rfl rfl)
theorem dX6_jumps_40 : decode cX6_jumps 40 = .ok (.iadd, 1) := dk_96 (dk_at dksX6_jumps_1 16 rfl rfl)
theorem dX6_jumps_41 : decode cX6_jumps 41 = .ok (.putfield 169, 3) := dk_181 0 169 (dk_at dksX6_jumps_1 17 rfl rfl)
theorem dX6_jumps_44 : decode cX6_jumps 44 = .ok (.return_, 1) := dk_177 (dk_at dksX6_jumps_1 20 rfl rfl)
abbrev cX6_takes : ByteArray := prog_20_method_24_code
def yX6_takes : MethodName := ⟨RX6, "takes", "(I)Z"⟩
def dkwX6_takes_1 : List UInt8 := [96, 181, 0, 169, 4, 172]
abbrev dktX6_takes_1 : List UInt8 := dkwX6_takes_1 ++ []
def dkwX6_takes_0 : List UInt8 := [42, 182, 0, 175, 27, 159, 0, 13, 42, 4, 42, 180, 0, 169, 182, 0, 182, 172, 42, 42, 180, 0, 169, 4]
abbrev dktX6_takes_0 : List UInt8 := dkwX6_takes_0 ++ dktX6_takes_1
theorem dksX6_takes_0 : cX6_takes.data.toList.drop 0 = dktX6_takes_0 := by decide +kernel
theorem dksX6_takes_1 : cX6_takes.data.toList.drop 24 = dktX6_takes_1 := dk_seg dksX6_takes_0 24 rfl rfl
theorem dX6_takes_0 : decode cX6_takes 0 = .ok (.aload_n 0, 1) := dk_42 (dk_at dksX6_takes_0 0 rfl rfl)
theorem dX6_takes_1 : decode cX6_takes 1 = .ok (.invokevirtual 175, 3) := dk_182 0 175 (dk_at dksX6_takes_0 1 rfl rfl)
theorem dX6_takes_4 : decode cX6_takes 4 = .ok (.iload_n 1, 1) := dk_27 (dk_at dksX6_takes_0 4 rfl rfl)
theorem dX6_takes_5 : decode cX6_takes 5 = .ok (.if_icmp .eq 13, 3) := dk_159 0 13 (dk_at dksX6_takes_0 5 rfl rfl)
theorem dX6_takes_8 : decode cX6_takes 8 = .ok (.aload_n 0, 1) := dk_42 (dk_at dksX6_takes_0 8 rfl rfl)
theorem dX6_takes_9 : decode cX6_takes 9 = .ok (.iconst 1, 1) := dk_4 (dk_at dksX6_takes_0 9 rfl rfl)
theorem dX6_takes_10 : decode cX6_takes 10 = .ok (.aload_n 0, 1) := dk_42 (dk_at dksX6_takes_0 10 rfl rfl)
theorem dX6_takes_11 : decode cX6_takes 11 = .ok (.getfield 169, 3) := dk_180 0 169 (dk_at dksX6_takes_0 11 rfl rfl)
theorem dX6_takes_14 : decode cX6_takes 14 = .ok (.invokevirtual 182, 3) := dk_182 0 182 (dk_at dksX6_takes_0 14 rfl rfl)
theorem dX6_takes_17 : decode cX6_takes 17 = .ok (.ireturn, 1) := dk_172 (dk_at dksX6_takes_0 17 rfl rfl)
theorem dX6_takes_18 : decode cX6_takes 18 = .ok (.aload_n 0, 1) := dk_42 (dk_at dksX6_takes_0 18 rfl rfl)
theorem dX6_takes_19 : decode cX6_takes 19 = .ok (.aload_n 0, 1) := dk_42 (dk_at dksX6_takes_0 19 rfl rfl)
theorem dX6_takes_20 : decode cX6_takes 20 = .ok (.getfield 169, 3) := dk_180 0 169 (dk_at dksX6_takes_0 20 rfl rfl)
theorem dX6_takes_23 : decode cX6_takes 23 = .ok (.iconst 1, 1) := dk_4 (dk_at dksX6_takes_0 23 rfl rfl)
theorem dX6_takes_24 : decode cX6_takes 24 = .ok (.iadd, 1) := dk_96 (dk_at dksX6_takes_1 0 rfl rfl)
theorem dX6_takes_25 : decode cX6_takes 25 = .ok (.putfield 169, 3) := dk_181 0 169 (dk_at dksX6_takes_1 1 rfl rfl)
theorem dX6_takes_28 : decode cX6_takes 28 = .ok (.iconst 1, 1) := dk_4 (dk_at dksX6_takes_1 4 rfl rfl)
theorem dX6_takes_29 : decode cX6_takes 29 = .ok (.ireturn, 1) := dk_172 (dk_at dksX6_takes_1 5 rfl rfl)
abbrev cX6_terrace : ByteArray := prog_20_method_51_code
def yX6_terrace : MethodName := ⟨RX6, "terrace", "(I)I"⟩
def dkwX6_terrace_10 : List UInt8 := [29, 2, 79, 132, 3, 1, 167, 255, 227, 42, 180, 1, 25, 172]
abbrev dktX6_terrace_10 : List UInt8 := dkwX6_terrace_10 ++ []
def dkwX6_terrace_9 : List UInt8 := [62, 29, 16, 12, 162, 0, 29, 42, 42, 180, 0, 19, 29, 46, 182, 0, 159, 154, 0, 10, 42, 180, 0, 19]
abbrev dktX6_terrace_9 : List UInt8 := dkwX6_terrace_9 ++ dktX6_terrace_10
def dkwX6_terrace_8 : List UInt8 := [180, 0, 7, 16, 16, 2, 79, 42, 180, 0, 7, 16, 17, 3, 79, 42, 180, 0, 7, 16, 18, 3, 79, 3]
abbrev dktX6_terrace_8 : List UInt8 := dkwX6_terrace_8 ++ dktX6_terrace_9
def dkwX6_terrace_7 : List UInt8 := [180, 0, 86, 29, 46, 79, 42, 180, 0, 7, 3, 29, 96, 3, 79, 132, 3, 1, 167, 255, 190, 42]
abbrev dktX6_terrace_7 : List UInt8 := dkwX6_terrace_7 ++ dktX6_terrace_8
def dkwX6_terrace_6 : List UInt8 := [180, 0, 80, 29, 46, 79, 42, 180, 0, 28, 29, 42, 180, 0, 83, 29, 46, 79, 42, 180, 0, 31, 29, 42]
abbrev dktX6_terrace_6 : List UInt8 := dkwX6_terrace_6 ++ dktX6_terrace_7
def dkwX6_terrace_5 : List UInt8 := [16, 16, 162, 0, 66, 42, 180, 0, 22, 29, 42, 180, 0, 77, 29, 46, 79, 42, 180, 0, 25, 29, 42]
abbrev dktX6_terrace_5 : List UInt8 := dkwX6_terrace_5 ++ dktX6_terrace_6
def dkwX6_terrace_4 : List UInt8 := [42, 180, 0, 179, 172, 42, 42, 180, 1, 16, 181, 0, 138, 42, 42, 180, 1, 22, 181, 0, 142, 3, 62, 29]
abbrev dktX6_terrace_4 : List UInt8 := dkwX6_terrace_4 ++ dktX6_terrace_5
def dkwX6_terrace_3 : List UInt8 := [182, 1, 34, 153, 0, 7, 4, 167, 0, 4, 3, 61, 167, 255, 219, 42, 3, 181, 0, 162, 28, 154, 0, 8]
abbrev dktX6_terrace_3 : List UInt8 := dkwX6_terrace_3 ++ dktX6_terrace_4
def dkwX6_terrace_2 : List UInt8 := [153, 0, 39, 42, 180, 0, 169, 42, 180, 0, 172, 162, 0, 28, 42, 16, 59, 182, 1, 3, 153, 0, 14, 42]
abbrev dktX6_terrace_2 : List UInt8 := dkwX6_terrace_2 ++ dktX6_terrace_3
def dkwX6_terrace_1 : List UInt8 := [182, 0, 253, 42, 3, 181, 1, 16, 42, 3, 181, 1, 22, 42, 3, 181, 1, 25, 42, 182, 1, 34, 61, 28]
abbrev dktX6_terrace_1 : List UInt8 := dkwX6_terrace_1 ++ dktX6_terrace_2
def dkwX6_terrace_0 : List UInt8 := [27, 4, 17, 0, 200, 184, 0, 134, 153, 0, 11, 27, 42, 180, 0, 162, 164, 0, 5, 2, 172, 42, 27]
abbrev dktX6_terrace_0 : List UInt8 := dkwX6_terrace_0 ++ dktX6_terrace_1
theorem dksX6_terrace_0 : cX6_terrace.data.toList.drop 0 = dktX6_terrace_0 := by decide +kernel
theorem dksX6_terrace_1 : cX6_terrace.data.toList.drop 23 = dktX6_terrace_1 := dk_seg dksX6_terrace_0 23 rfl rfl
theorem dksX6_terrace_2 : cX6_terrace.data.toList.drop 47 = dktX6_terrace_2 := dk_seg dksX6_terrace_1 24 rfl rfl
theorem dksX6_terrace_3 : cX6_terrace.data.toList.drop 71 = dktX6_terrace_3 := dk_seg dksX6_terrace_2 24 rfl rfl
theorem dksX6_terrace_4 : cX6_terrace.data.toList.drop 95 = dktX6_terrace_4 := dk_seg dksX6_terrace_3 24 rfl rfl
theorem dksX6_terrace_5 : cX6_terrace.data.toList.drop 119 = dktX6_terrace_5 := dk_seg dksX6_terrace_4 24 rfl rfl
theorem dksX6_terrace_6 : cX6_terrace.data.toList.drop 142 = dktX6_terrace_6 := dk_seg dksX6_terrace_5 23 rfl rfl
theorem dksX6_terrace_7 : cX6_terrace.data.toList.drop 166 = dktX6_terrace_7 := dk_seg dksX6_terrace_6 24 rfl rfl
theorem dksX6_terrace_8 : cX6_terrace.data.toList.drop 188 = dktX6_terrace_8 := dk_seg dksX6_terrace_7 22 rfl rfl
theorem dksX6_terrace_9 : cX6_terrace.data.toList.drop 212 = dktX6_terrace_9 := dk_seg dksX6_terrace_8 24 rfl rfl
theorem dksX6_terrace_10 : cX6_terrace.data.toList.drop 236 = dktX6_terrace_10 := dk_seg dksX6_terrace_9 24 rfl rfl
theorem dX6_terrace_0 : decode cX6_terrace 0 = .ok (.iload_n 1, 1) := dk_27 (dk_at dksX6_terrace_0 0 rfl rfl)
theorem dX6_terrace_1 : decode cX6_terrace 1 = .ok (.iconst 1, 1) := dk_4 (dk_at dksX6_terrace_0 1 rfl rfl)
theorem dX6_terrace_2 : decode cX6_terrace 2 = .ok (.sipush 200, 3) := dk_17 0 200 (dk_at dksX6_terrace_0 2 rfl rfl)
theorem dX6_terrace_5 : decode cX6_terrace 5 = .ok (.invokestatic 134, 3) := dk_184 0 134 (dk_at dksX6_terrace_0 5 rfl rfl)
theorem dX6_terrace_8 : decode cX6_terrace 8 = .ok (.ifCond .eq 11, 3) := dk_153 0 11 (dk_at dksX6_terrace_0 8 rfl rfl)
theorem dX6_terrace_11 : decode cX6_terrace 11 = .ok (.iload_n 1, 1) := dk_27 (dk_at dksX6_terrace_0 11 rfl rfl)
theorem dX6_terrace_12 : decode cX6_terrace 12 = .ok (.aload_n 0, 1) := dk_42 (dk_at dksX6_terrace_0 12 rfl rfl)
theorem dX6_terrace_13 : decode cX6_terrace 13 = .ok (.getfield 162, 3) := dk_180 0 162 (dk_at dksX6_terrace_0 13 rfl rfl)
theorem dX6_terrace_16 : decode cX6_terrace 16 = .ok (.if_icmp .le 5, 3) := dk_164 0 5 (dk_at dksX6_terrace_0 16 rfl rfl)
theorem dX6_terrace_19 : decode cX6_terrace 19 = .ok (.iconst (-1), 1) := dk_2 (dk_at dksX6_terrace_0 19 rfl rfl)
theorem dX6_terrace_20 : decode cX6_terrace 20 = .ok (.ireturn, 1) := dk_172 (dk_at dksX6_terrace_0 20 rfl rfl)
theorem dX6_terrace_21 : decode cX6_terrace 21 = .ok (.aload_n 0, 1) := dk_42 (dk_at dksX6_terrace_0 21 rfl rfl)
theorem dX6_terrace_22 : decode cX6_terrace 22 = .ok (.iload_n 1, 1) := dk_27 (dk_at dksX6_terrace_0 22 rfl rfl)
theorem dX6_terrace_23 : decode cX6_terrace 23 = .ok (.invokevirtual 253, 3) := dk_182 0 253 (dk_at dksX6_terrace_1 0 rfl rfl)
theorem dX6_terrace_26 : decode cX6_terrace 26 = .ok (.aload_n 0, 1) := dk_42 (dk_at dksX6_terrace_1 3 rfl rfl)
theorem dX6_terrace_27 : decode cX6_terrace 27 = .ok (.iconst 0, 1) := dk_3 (dk_at dksX6_terrace_1 4 rfl rfl)
theorem dX6_terrace_28 : decode cX6_terrace 28 = .ok (.putfield 272, 3) := dk_181 1 16 (dk_at dksX6_terrace_1 5 rfl rfl)
theorem dX6_terrace_31 : decode cX6_terrace 31 = .ok (.aload_n 0, 1) := dk_42 (dk_at dksX6_terrace_1 8 rfl rfl)
theorem dX6_terrace_32 : decode cX6_terrace 32 = .ok (.iconst 0, 1) := dk_3 (dk_at dksX6_terrace_1 9 rfl rfl)
theorem dX6_terrace_33 : decode cX6_terrace 33 = .ok (.putfield 278, 3) := dk_181 1 22 (dk_at dksX6_terrace_1 10 rfl rfl)
theorem dX6_terrace_36 : decode cX6_terrace 36 = .ok (.aload_n 0, 1) := dk_42 (dk_at dksX6_terrace_1 13 rfl rfl)
theorem dX6_terrace_37 : decode cX6_terrace 37 = .ok (.iconst 0, 1) := dk_3 (dk_at dksX6_terrace_1 14 rfl rfl)
theorem dX6_terrace_38 : decode cX6_terrace 38 = .ok (.putfield 281, 3) := dk_181 1 25 (dk_at dksX6_terrace_1 15 rfl rfl)
theorem dX6_terrace_41 : decode cX6_terrace 41 = .ok (.aload_n 0, 1) := dk_42 (dk_at dksX6_terrace_1 18 rfl rfl)
theorem dX6_terrace_42 : decode cX6_terrace 42 = .ok (.invokevirtual 290, 3) := dk_182 1 34 (dk_at dksX6_terrace_1 19 rfl rfl)
theorem dX6_terrace_45 : decode cX6_terrace 45 = .ok (.istore_n 2, 1) := dk_61 (dk_at dksX6_terrace_1 22 rfl rfl)
theorem dX6_terrace_46 : decode cX6_terrace 46 = .ok (.iload_n 2, 1) := dk_28 (dk_at dksX6_terrace_1 23 rfl rfl)
theorem dX6_terrace_47 : decode cX6_terrace 47 = .ok (.ifCond .eq 39, 3) := dk_153 0 39 (dk_at dksX6_terrace_2 0 rfl rfl)
theorem dX6_terrace_50 : decode cX6_terrace 50 = .ok (.aload_n 0, 1) := dk_42 (dk_at dksX6_terrace_2 3 rfl rfl)
theorem dX6_terrace_51 : decode cX6_terrace 51 = .ok (.getfield 169, 3) := dk_180 0 169 (dk_at dksX6_terrace_2 4 rfl rfl)
theorem dX6_terrace_54 : decode cX6_terrace 54 = .ok (.aload_n 0, 1) := dk_42 (dk_at dksX6_terrace_2 7 rfl rfl)
theorem dX6_terrace_55 : decode cX6_terrace 55 = .ok (.getfield 172, 3) := dk_180 0 172 (dk_at dksX6_terrace_2 8 rfl rfl)
theorem dX6_terrace_58 : decode cX6_terrace 58 = .ok (.if_icmp .ge 28, 3) := dk_162 0 28 (dk_at dksX6_terrace_2 11 rfl rfl)
theorem dX6_terrace_61 : decode cX6_terrace 61 = .ok (.aload_n 0, 1) := dk_42 (dk_at dksX6_terrace_2 14 rfl rfl)
theorem dX6_terrace_62 : decode cX6_terrace 62 = .ok (.bipush 59, 2) := dk_16 59 (dk_at dksX6_terrace_2 15 rfl rfl)
theorem dX6_terrace_64 : decode cX6_terrace 64 = .ok (.invokevirtual 259, 3) := dk_182 1 3 (dk_at dksX6_terrace_2 17 rfl rfl)
theorem dX6_terrace_67 : decode cX6_terrace 67 = .ok (.ifCond .eq 14, 3) := dk_153 0 14 (dk_at dksX6_terrace_2 20 rfl rfl)
theorem dX6_terrace_70 : decode cX6_terrace 70 = .ok (.aload_n 0, 1) := dk_42 (dk_at dksX6_terrace_2 23 rfl rfl)
theorem dX6_terrace_71 : decode cX6_terrace 71 = .ok (.invokevirtual 290, 3) := dk_182 1 34 (dk_at dksX6_terrace_3 0 rfl rfl)
theorem dX6_terrace_74 : decode cX6_terrace 74 = .ok (.ifCond .eq 7, 3) := dk_153 0 7 (dk_at dksX6_terrace_3 3 rfl rfl)
theorem dX6_terrace_77 : decode cX6_terrace 77 = .ok (.iconst 1, 1) := dk_4 (dk_at dksX6_terrace_3 6 rfl rfl)
theorem dX6_terrace_78 : decode cX6_terrace 78 = .ok (.goto 4, 3) := dk_167 0 4 (dk_at dksX6_terrace_3 7 rfl rfl)
theorem dX6_terrace_81 : decode cX6_terrace 81 = .ok (.iconst 0, 1) := dk_3 (dk_at dksX6_terrace_3 10 rfl rfl)
theorem dX6_terrace_82 : decode cX6_terrace 82 = .ok (.istore_n 2, 1) := dk_61 (dk_at dksX6_terrace_3 11 rfl rfl)
theorem dX6_terrace_83 : decode cX6_terrace 83 = .ok (.goto (-37), 3) := dk_167 255 219 (dk_at dksX6_terrace_3 12 rfl rfl)
theorem dX6_terrace_86 : decode cX6_terrace 86 = .ok (.aload_n 0, 1) := dk_42 (dk_at dksX6_terrace_3 15 rfl rfl)
theorem dX6_terrace_87 : decode cX6_terrace 87 = .ok (.iconst 0, 1) := dk_3 (dk_at dksX6_terrace_3 16 rfl rfl)
theorem dX6_terrace_88 : decode cX6_terrace 88 = .ok (.putfield 162, 3) := dk_181 0 162 (dk_at dksX6_terrace_3 17 rfl rfl)
theorem dX6_terrace_91 : decode cX6_terrace 91 = .ok (.iload_n 2, 1) := dk_28 (dk_at dksX6_terrace_3 20 rfl rfl)
theorem dX6_terrace_92 : decode cX6_terrace 92 = .ok (.ifCond .ne 8, 3) := dk_154 0 8 (dk_at dksX6_terrace_3 21 rfl rfl)
theorem dX6_terrace_95 : decode cX6_terrace 95 = .ok (.aload_n 0, 1) := dk_42 (dk_at dksX6_terrace_4 0 rfl rfl)
theorem dX6_terrace_96 : decode cX6_terrace 96 = .ok (.getfield 179, 3) := dk_180 0 179 (dk_at dksX6_terrace_4 1 rfl rfl)
theorem dX6_terrace_99 : decode cX6_terrace 99 = .ok (.ireturn, 1) := dk_172 (dk_at dksX6_terrace_4 4 rfl rfl)
theorem dX6_terrace_100 : decode cX6_terrace 100 = .ok (.aload_n 0, 1) := dk_42 (dk_at dksX6_terrace_4 5 rfl rfl)
theorem dX6_terrace_101 : decode cX6_terrace 101 = .ok (.aload_n 0, 1) := dk_42 (dk_at dksX6_terrace_4 6 rfl rfl)
theorem dX6_terrace_102 : decode cX6_terrace 102 = .ok (.getfield 272, 3) := dk_180 1 16 (dk_at dksX6_terrace_4 7 rfl rfl)
theorem dX6_terrace_105 : decode cX6_terrace 105 = .ok (.putfield 138, 3) := dk_181 0 138 (dk_at dksX6_terrace_4 10 rfl rfl)
theorem dX6_terrace_108 : decode cX6_terrace 108 = .ok (.aload_n 0, 1) := dk_42 (dk_at dksX6_terrace_4 13 rfl rfl)
theorem dX6_terrace_109 : decode cX6_terrace 109 = .ok (.aload_n 0, 1) := dk_42 (dk_at dksX6_terrace_4 14 rfl rfl)
theorem dX6_terrace_110 : decode cX6_terrace 110 = .ok (.getfield 278, 3) := dk_180 1 22 (dk_at dksX6_terrace_4 15 rfl rfl)
theorem dX6_terrace_113 : decode cX6_terrace 113 = .ok (.putfield 142, 3) := dk_181 0 142 (dk_at dksX6_terrace_4 18 rfl rfl)
theorem dX6_terrace_116 : decode cX6_terrace 116 = .ok (.iconst 0, 1) := dk_3 (dk_at dksX6_terrace_4 21 rfl rfl)
theorem dX6_terrace_117 : decode cX6_terrace 117 = .ok (.istore_n 3, 1) := dk_62 (dk_at dksX6_terrace_4 22 rfl rfl)
theorem dX6_terrace_118 : decode cX6_terrace 118 = .ok (.iload_n 3, 1) := dk_29 (dk_at dksX6_terrace_4 23 rfl rfl)
theorem dX6_terrace_119 : decode cX6_terrace 119 = .ok (.bipush 16, 2) := dk_16 16 (dk_at dksX6_terrace_5 0 rfl rfl)
theorem dX6_terrace_121 : decode cX6_terrace 121 = .ok (.if_icmp .ge 66, 3) := dk_162 0 66 (dk_at dksX6_terrace_5 2 rfl rfl)
theorem dX6_terrace_124 : decode cX6_terrace 124 = .ok (.aload_n 0, 1) := dk_42 (dk_at dksX6_terrace_5 5 rfl rfl)
theorem dX6_terrace_125 : decode cX6_terrace 125 = .ok (.getfield 22, 3) := dk_180 0 22 (dk_at dksX6_terrace_5 6 rfl rfl)
theorem dX6_terrace_128 : decode cX6_terrace 128 = .ok (.iload_n 3, 1) := dk_29 (dk_at dksX6_terrace_5 9 rfl rfl)
theorem dX6_terrace_129 : decode cX6_terrace 129 = .ok (.aload_n 0, 1) := dk_42 (dk_at dksX6_terrace_5 10 rfl rfl)
theorem dX6_terrace_130 : decode cX6_terrace 130 = .ok (.getfield 77, 3) := dk_180 0 77 (dk_at dksX6_terrace_5 11 rfl rfl)
theorem dX6_terrace_133 : decode cX6_terrace 133 = .ok (.iload_n 3, 1) := dk_29 (dk_at dksX6_terrace_5 14 rfl rfl)
theorem dX6_terrace_134 : decode cX6_terrace 134 = .ok (.iaload, 1) := dk_46 (dk_at dksX6_terrace_5 15 rfl rfl)
theorem dX6_terrace_135 : decode cX6_terrace 135 = .ok (.iastore, 1) := dk_79 (dk_at dksX6_terrace_5 16 rfl rfl)
theorem dX6_terrace_136 : decode cX6_terrace 136 = .ok (.aload_n 0, 1) := dk_42 (dk_at dksX6_terrace_5 17 rfl rfl)
theorem dX6_terrace_137 : decode cX6_terrace 137 = .ok (.getfield 25, 3) := dk_180 0 25 (dk_at dksX6_terrace_5 18 rfl rfl)
theorem dX6_terrace_140 : decode cX6_terrace 140 = .ok (.iload_n 3, 1) := dk_29 (dk_at dksX6_terrace_5 21 rfl rfl)
theorem dX6_terrace_141 : decode cX6_terrace 141 = .ok (.aload_n 0, 1) := dk_42 (dk_at dksX6_terrace_5 22 rfl rfl)
theorem dX6_terrace_142 : decode cX6_terrace 142 = .ok (.getfield 80, 3) := dk_180 0 80 (dk_at dksX6_terrace_6 0 rfl rfl)
theorem dX6_terrace_145 : decode cX6_terrace 145 = .ok (.iload_n 3, 1) := dk_29 (dk_at dksX6_terrace_6 3 rfl rfl)
theorem dX6_terrace_146 : decode cX6_terrace 146 = .ok (.iaload, 1) := dk_46 (dk_at dksX6_terrace_6 4 rfl rfl)
theorem dX6_terrace_147 : decode cX6_terrace 147 = .ok (.iastore, 1) := dk_79 (dk_at dksX6_terrace_6 5 rfl rfl)
theorem dX6_terrace_148 : decode cX6_terrace 148 = .ok (.aload_n 0, 1) := dk_42 (dk_at dksX6_terrace_6 6 rfl rfl)
theorem dX6_terrace_149 : decode cX6_terrace 149 = .ok (.getfield 28, 3) := dk_180 0 28 (dk_at dksX6_terrace_6 7 rfl rfl)
theorem dX6_terrace_152 : decode cX6_terrace 152 = .ok (.iload_n 3, 1) := dk_29 (dk_at dksX6_terrace_6 10 rfl rfl)
theorem dX6_terrace_153 : decode cX6_terrace 153 = .ok (.aload_n 0, 1) := dk_42 (dk_at dksX6_terrace_6 11 rfl rfl)
theorem dX6_terrace_154 : decode cX6_terrace 154 = .ok (.getfield 83, 3) := dk_180 0 83 (dk_at dksX6_terrace_6 12 rfl rfl)
theorem dX6_terrace_157 : decode cX6_terrace 157 = .ok (.iload_n 3, 1) := dk_29 (dk_at dksX6_terrace_6 15 rfl rfl)
theorem dX6_terrace_158 : decode cX6_terrace 158 = .ok (.iaload, 1) := dk_46 (dk_at dksX6_terrace_6 16 rfl rfl)
theorem dX6_terrace_159 : decode cX6_terrace 159 = .ok (.iastore, 1) := dk_79 (dk_at dksX6_terrace_6 17 rfl rfl)
theorem dX6_terrace_160 : decode cX6_terrace 160 = .ok (.aload_n 0, 1) := dk_42 (dk_at dksX6_terrace_6 18 rfl rfl)
theorem dX6_terrace_161 : decode cX6_terrace 161 = .ok (.getfield 31, 3) := dk_180 0 31 (dk_at dksX6_terrace_6 19 rfl rfl)
theorem dX6_terrace_164 : decode cX6_terrace 164 = .ok (.iload_n 3, 1) := dk_29 (dk_at dksX6_terrace_6 22 rfl rfl)
theorem dX6_terrace_165 : decode cX6_terrace 165 = .ok (.aload_n 0, 1) := dk_42 (dk_at dksX6_terrace_6 23 rfl rfl)
theorem dX6_terrace_166 : decode cX6_terrace 166 = .ok (.getfield 86, 3) := dk_180 0 86 (dk_at dksX6_terrace_7 0 rfl rfl)
theorem dX6_terrace_169 : decode cX6_terrace 169 = .ok (.iload_n 3, 1) := dk_29 (dk_at dksX6_terrace_7 3 rfl rfl)
theorem dX6_terrace_170 : decode cX6_terrace 170 = .ok (.iaload, 1) := dk_46 (dk_at dksX6_terrace_7 4 rfl rfl)
theorem dX6_terrace_171 : decode cX6_terrace 171 = .ok (.iastore, 1) := dk_79 (dk_at dksX6_terrace_7 5 rfl rfl)
theorem dX6_terrace_172 : decode cX6_terrace 172 = .ok (.aload_n 0, 1) := dk_42 (dk_at dksX6_terrace_7 6 rfl rfl)
theorem dX6_terrace_173 : decode cX6_terrace 173 = .ok (.getfield 7, 3) := dk_180 0 7 (dk_at dksX6_terrace_7 7 rfl rfl)
theorem dX6_terrace_176 : decode cX6_terrace 176 = .ok (.iconst 0, 1) := dk_3 (dk_at dksX6_terrace_7 10 rfl rfl)
theorem dX6_terrace_177 : decode cX6_terrace 177 = .ok (.iload_n 3, 1) := dk_29 (dk_at dksX6_terrace_7 11 rfl rfl)
theorem dX6_terrace_178 : decode cX6_terrace 178 = .ok (.iadd, 1) := dk_96 (dk_at dksX6_terrace_7 12 rfl rfl)
theorem dX6_terrace_179 : decode cX6_terrace 179 = .ok (.iconst 0, 1) := dk_3 (dk_at dksX6_terrace_7 13 rfl rfl)
theorem dX6_terrace_180 : decode cX6_terrace 180 = .ok (.iastore, 1) := dk_79 (dk_at dksX6_terrace_7 14 rfl rfl)
theorem dX6_terrace_181 : decode cX6_terrace 181 = .ok (.iinc 3 1, 3) := dk_132 3 1 (dk_at dksX6_terrace_7 15 rfl rfl)
theorem dX6_terrace_184 : decode cX6_terrace 184 = .ok (.goto (-66), 3) := dk_167 255 190 (dk_at dksX6_terrace_7 18 rfl rfl)
theorem dX6_terrace_187 : decode cX6_terrace 187 = .ok (.aload_n 0, 1) := dk_42 (dk_at dksX6_terrace_7 21 rfl rfl)
theorem dX6_terrace_188 : decode cX6_terrace 188 = .ok (.getfield 7, 3) := dk_180 0 7 (dk_at dksX6_terrace_8 0 rfl rfl)
theorem dX6_terrace_191 : decode cX6_terrace 191 = .ok (.bipush 16, 2) := dk_16 16 (dk_at dksX6_terrace_8 3 rfl rfl)
theorem dX6_terrace_193 : decode cX6_terrace 193 = .ok (.iconst (-1), 1) := dk_2 (dk_at dksX6_terrace_8 5 rfl rfl)
theorem dX6_terrace_194 : decode cX6_terrace 194 = .ok (.iastore, 1) := dk_79 (dk_at dksX6_terrace_8 6 rfl rfl)
theorem dX6_terrace_195 : decode cX6_terrace 195 = .ok (.aload_n 0, 1) := dk_42 (dk_at dksX6_terrace_8 7 rfl rfl)
theorem dX6_terrace_196 : decode cX6_terrace 196 = .ok (.getfield 7, 3) := dk_180 0 7 (dk_at dksX6_terrace_8 8 rfl rfl)
theorem dX6_terrace_199 : decode cX6_terrace 199 = .ok (.bipush 17, 2) := dk_16 17 (dk_at dksX6_terrace_8 11 rfl rfl)
theorem dX6_terrace_201 : decode cX6_terrace 201 = .ok (.iconst 0, 1) := dk_3 (dk_at dksX6_terrace_8 13 rfl rfl)
theorem dX6_terrace_202 : decode cX6_terrace 202 = .ok (.iastore, 1) := dk_79 (dk_at dksX6_terrace_8 14 rfl rfl)
theorem dX6_terrace_203 : decode cX6_terrace 203 = .ok (.aload_n 0, 1) := dk_42 (dk_at dksX6_terrace_8 15 rfl rfl)
theorem dX6_terrace_204 : decode cX6_terrace 204 = .ok (.getfield 7, 3) := dk_180 0 7 (dk_at dksX6_terrace_8 16 rfl rfl)
theorem dX6_terrace_207 : decode cX6_terrace 207 = .ok (.bipush 18, 2) := dk_16 18 (dk_at dksX6_terrace_8 19 rfl rfl)
theorem dX6_terrace_209 : decode cX6_terrace 209 = .ok (.iconst 0, 1) := dk_3 (dk_at dksX6_terrace_8 21 rfl rfl)
theorem dX6_terrace_210 : decode cX6_terrace 210 = .ok (.iastore, 1) := dk_79 (dk_at dksX6_terrace_8 22 rfl rfl)
theorem dX6_terrace_211 : decode cX6_terrace 211 = .ok (.iconst 0, 1) := dk_3 (dk_at dksX6_terrace_8 23 rfl rfl)
theorem dX6_terrace_212 : decode cX6_terrace 212 = .ok (.istore_n 3, 1) := dk_62 (dk_at dksX6_terrace_9 0 rfl rfl)
theorem dX6_terrace_213 : decode cX6_terrace 213 = .ok (.iload_n 3, 1) := dk_29 (dk_at dksX6_terrace_9 1 rfl rfl)
theorem dX6_terrace_214 : decode cX6_terrace 214 = .ok (.bipush 12, 2) := dk_16 12 (dk_at dksX6_terrace_9 2 rfl rfl)
theorem dX6_terrace_216 : decode cX6_terrace 216 = .ok (.if_icmp .ge 29, 3) := dk_162 0 29 (dk_at dksX6_terrace_9 4 rfl rfl)
theorem dX6_terrace_219 : decode cX6_terrace 219 = .ok (.aload_n 0, 1) := dk_42 (dk_at dksX6_terrace_9 7 rfl rfl)
theorem dX6_terrace_220 : decode cX6_terrace 220 = .ok (.aload_n 0, 1) := dk_42 (dk_at dksX6_terrace_9 8 rfl rfl)
theorem dX6_terrace_221 : decode cX6_terrace 221 = .ok (.getfield 19, 3) := dk_180 0 19 (dk_at dksX6_terrace_9 9 rfl rfl)
theorem dX6_terrace_224 : decode cX6_terrace 224 = .ok (.iload_n 3, 1) := dk_29 (dk_at dksX6_terrace_9 12 rfl rfl)
theorem dX6_terrace_225 : decode cX6_terrace 225 = .ok (.iaload, 1) := dk_46 (dk_at dksX6_terrace_9 13 rfl rfl)
theorem dX6_terrace_226 : decode cX6_terrace 226 = .ok (.invokevirtual 159, 3) := dk_182 0 159 (dk_at dksX6_terrace_9 14 rfl rfl)
theorem dX6_terrace_229 : decode cX6_terrace 229 = .ok (.ifCond .ne 10, 3) := dk_154 0 10 (dk_at dksX6_terrace_9 17 rfl rfl)
theorem dX6_terrace_232 : decode cX6_terrace 232 = .ok (.aload_n 0, 1) := dk_42 (dk_at dksX6_terrace_9 20 rfl rfl)
theorem dX6_terrace_233 : decode cX6_terrace 233 = .ok (.getfield 19, 3) := dk_180 0 19 (dk_at dksX6_terrace_9 21 rfl rfl)
theorem dX6_terrace_236 : decode cX6_terrace 236 = .ok (.iload_n 3, 1) := dk_29 (dk_at dksX6_terrace_10 0 rfl rfl)
theorem dX6_terrace_237 : decode cX6_terrace 237 = .ok (.iconst (-1), 1) := dk_2 (dk_at dksX6_terrace_10 1 rfl rfl)
theorem dX6_terrace_238 : decode cX6_terrace 238 = .ok (.iastore, 1) := dk_79 (dk_at dksX6_terrace_10 2 rfl rfl)
theorem dX6_terrace_239 : decode cX6_terrace 239 = .ok (.iinc 3 1, 3) := dk_132 3 1 (dk_at dksX6_terrace_10 3 rfl rfl)
theorem dX6_terrace_242 : decode cX6_terrace 242 = .ok (.goto (-29), 3) := dk_167 255 227 (dk_at dksX6_terrace_10 6 rfl rfl)
theorem dX6_terrace_245 : decode cX6_terrace 245 = .ok (.aload_n 0, 1) := dk_42 (dk_at dksX6_terrace_10 9 rfl rfl)
theorem dX6_terrace_246 : decode cX6_terrace 246 = .ok (.getfield 281, 3) := dk_180 1 25 (dk_at dksX6_terrace_10 10 rfl rfl)
theorem dX6_terrace_249 : decode cX6_terrace 249 = .ok (.ireturn, 1) := dk_172 (dk_at dksX6_terrace_10 13 rfl rfl)
abbrev cX6_readsLine : ByteArray := prog_20_method_50_code
def yX6_readsLine : MethodName := ⟨RX6, "readsLine", "()Z"⟩
def dkwX6_readsLine_3 : List UInt8 := [4, 96, 181, 1, 25, 29, 153, 0, 11, 42, 27, 182, 1, 28, 167, 0, 8, 42, 28, 182, 1, 31, 172]
abbrev dktX6_readsLine_3 : List UInt8 := dkwX6_readsLine_3 ++ []
def dkwX6_readsLine_2 : List UInt8 := [42, 180, 1, 25, 16, 32, 160, 0, 13, 42, 7, 42, 180, 0, 169, 182, 0, 182, 172, 42, 42, 180, 1, 25]
abbrev dktX6_readsLine_2 : List UInt8 := dkwX6_readsLine_2 ++ dktX6_readsLine_3
def dkwX6_readsLine_1 : List UInt8 := [29, 154, 0, 23, 28, 3, 16, 15, 184, 0, 134, 154, 0, 13, 42, 4, 42, 180, 0, 169, 182, 0, 182, 172]
abbrev dktX6_readsLine_1 : List UInt8 := dkwX6_readsLine_1 ++ dktX6_readsLine_2
def dkwX6_readsLine_0 : List UInt8 := [42, 182, 0, 175, 16, 97, 100, 60, 42, 182, 0, 175, 16, 65, 100, 61, 27, 3, 16, 15, 184, 0, 134, 62]
abbrev dktX6_readsLine_0 : List UInt8 := dkwX6_readsLine_0 ++ dktX6_readsLine_1
theorem dksX6_readsLine_0 : cX6_readsLine.data.toList.drop 0 = dktX6_readsLine_0 := by decide +kernel
theorem dksX6_readsLine_1 : cX6_readsLine.data.toList.drop 24 = dktX6_readsLine_1 := dk_seg dksX6_readsLine_0 24 rfl rfl
theorem dksX6_readsLine_2 : cX6_readsLine.data.toList.drop 48 = dktX6_readsLine_2 := dk_seg dksX6_readsLine_1 24 rfl rfl
theorem dksX6_readsLine_3 : cX6_readsLine.data.toList.drop 72 = dktX6_readsLine_3 := dk_seg dksX6_readsLine_2 24 rfl rfl
theorem dX6_readsLine_0 : decode cX6_readsLine 0 = .ok (.aload_n 0, 1) := dk_42 (dk_at dksX6_readsLine_0 0 rfl rfl)
theorem dX6_readsLine_1 : decode cX6_readsLine 1 = .ok (.invokevirtual 175, 3) := dk_182 0 175 (dk_at dksX6_readsLine_0 1 rfl rfl)
theorem dX6_readsLine_4 : decode cX6_readsLine 4 = .ok (.bipush 97, 2) := dk_16 97 (dk_at dksX6_readsLine_0 4 rfl rfl)
theorem dX6_readsLine_6 : decode cX6_readsLine 6 = .ok (.isub, 1) := dk_100 (dk_at dksX6_readsLine_0 6 rfl rfl)
theorem dX6_readsLine_7 : decode cX6_readsLine 7 = .ok (.istore_n 1, 1) := dk_60 (dk_at dksX6_readsLine_0 7 rfl rfl)
theorem dX6_readsLine_8 : decode cX6_readsLine 8 = .ok (.aload_n 0, 1) := dk_42 (dk_at dksX6_readsLine_0 8 rfl rfl)
theorem dX6_readsLine_9 : decode cX6_readsLine 9 = .ok (.invokevirtual 175, 3) := dk_182 0 175 (dk_at dksX6_readsLine_0 9 rfl rfl)
theorem dX6_readsLine_12 : decode cX6_readsLine 12 = .ok (.bipush 65, 2) := dk_16 65 (dk_at dksX6_readsLine_0 12 rfl rfl)
theorem dX6_readsLine_14 : decode cX6_readsLine 14 = .ok (.isub, 1) := dk_100 (dk_at dksX6_readsLine_0 14 rfl rfl)
theorem dX6_readsLine_15 : decode cX6_readsLine 15 = .ok (.istore_n 2, 1) := dk_61 (dk_at dksX6_readsLine_0 15 rfl rfl)
theorem dX6_readsLine_16 : decode cX6_readsLine 16 = .ok (.iload_n 1, 1) := dk_27 (dk_at dksX6_readsLine_0 16 rfl rfl)
theorem dX6_readsLine_17 : decode cX6_readsLine 17 = .ok (.iconst 0, 1) := dk_3 (dk_at dksX6_readsLine_0 17 rfl rfl)
theorem dX6_readsLine_18 : decode cX6_readsLine 18 = .ok (.bipush 15, 2) := dk_16 15 (dk_at dksX6_readsLine_0 18 rfl rfl)
theorem dX6_readsLine_20 : decode cX6_readsLine 20 = .ok (.invokestatic 134, 3) := dk_184 0 134 (dk_at dksX6_readsLine_0 20 rfl rfl)
theorem dX6_readsLine_23 : decode cX6_readsLine 23 = .ok (.istore_n 3, 1) := dk_62 (dk_at dksX6_readsLine_0 23 rfl rfl)
theorem dX6_readsLine_24 : decode cX6_readsLine 24 = .ok (.iload_n 3, 1) := dk_29 (dk_at dksX6_readsLine_1 0 rfl rfl)
theorem dX6_readsLine_25 : decode cX6_readsLine 25 = .ok (.ifCond .ne 23, 3) := dk_154 0 23 (dk_at dksX6_readsLine_1 1 rfl rfl)
theorem dX6_readsLine_28 : decode cX6_readsLine 28 = .ok (.iload_n 2, 1) := dk_28 (dk_at dksX6_readsLine_1 4 rfl rfl)
theorem dX6_readsLine_29 : decode cX6_readsLine 29 = .ok (.iconst 0, 1) := dk_3 (dk_at dksX6_readsLine_1 5 rfl rfl)
theorem dX6_readsLine_30 : decode cX6_readsLine 30 = .ok (.bipush 15, 2) := dk_16 15 (dk_at dksX6_readsLine_1 6 rfl rfl)
theorem dX6_readsLine_32 : decode cX6_readsLine 32 = .ok (.invokestatic 134, 3) := dk_184 0 134 (dk_at dksX6_readsLine_1 8 rfl rfl)
theorem dX6_readsLine_35 : decode cX6_readsLine 35 = .ok (.ifCond .ne 13, 3) := dk_154 0 13 (dk_at dksX6_readsLine_1 11 rfl rfl)
theorem dX6_readsLine_38 : decode cX6_readsLine 38 = .ok (.aload_n 0, 1) := dk_42 (dk_at dksX6_readsLine_1 14 rfl rfl)
theorem dX6_readsLine_39 : decode cX6_readsLine 39 = .ok (.iconst 1, 1) := dk_4 (dk_at dksX6_readsLine_1 15 rfl rfl)
theorem dX6_readsLine_40 : decode cX6_readsLine 40 = .ok (.aload_n 0, 1) := dk_42 (dk_at dksX6_readsLine_1 16 rfl rfl)
theorem dX6_readsLine_41 : decode cX6_readsLine 41 = .ok (.getfield 169, 3) := dk_180 0 169 (dk_at dksX6_readsLine_1 17 rfl rfl)
theorem dX6_readsLine_44 : decode cX6_readsLine 44 = .ok (.invokevirtual 182, 3) := dk_182 0 182 (dk_at dksX6_readsLine_1 20 rfl rfl)
theorem dX6_readsLine_47 : decode cX6_readsLine 47 = .ok (.ireturn, 1) := dk_172 (dk_at dksX6_readsLine_1 23 rfl rfl)
theorem dX6_readsLine_48 : decode cX6_readsLine 48 = .ok (.aload_n 0, 1) := dk_42 (dk_at dksX6_readsLine_2 0 rfl rfl)
theorem dX6_readsLine_49 : decode cX6_readsLine 49 = .ok (.getfield 281, 3) := dk_180 1 25 (dk_at dksX6_readsLine_2 1 rfl rfl)
theorem dX6_readsLine_52 : decode cX6_readsLine 52 = .ok (.bipush 32, 2) := dk_16 32 (dk_at dksX6_readsLine_2 4 rfl rfl)
theorem dX6_readsLine_54 : decode cX6_readsLine 54 = .ok (.if_icmp .ne 13, 3) := dk_160 0 13 (dk_at dksX6_readsLine_2 6 rfl rfl)
theorem dX6_readsLine_57 : decode cX6_readsLine 57 = .ok (.aload_n 0, 1) := dk_42 (dk_at dksX6_readsLine_2 9 rfl rfl)
theorem dX6_readsLine_58 : decode cX6_readsLine 58 = .ok (.iconst 4, 1) := dk_7 (dk_at dksX6_readsLine_2 10 rfl rfl)
theorem dX6_readsLine_59 : decode cX6_readsLine 59 = .ok (.aload_n 0, 1) := dk_42 (dk_at dksX6_readsLine_2 11 rfl rfl)
theorem dX6_readsLine_60 : decode cX6_readsLine 60 = .ok (.getfield 169, 3) := dk_180 0 169 (dk_at dksX6_readsLine_2 12 rfl rfl)
theorem dX6_readsLine_63 : decode cX6_readsLine 63 = .ok (.invokevirtual 182, 3) := dk_182 0 182 (dk_at dksX6_readsLine_2 15 rfl rfl)
theorem dX6_readsLine_66 : decode cX6_readsLine 66 = .ok (.ireturn, 1) := dk_172 (dk_at dksX6_readsLine_2 18 rfl rfl)
theorem dX6_readsLine_67 : decode cX6_readsLine 67 = .ok (.aload_n 0, 1) := dk_42 (dk_at dksX6_readsLine_2 19 rfl rfl)
theorem dX6_readsLine_68 : decode cX6_readsLine 68 = .ok (.aload_n 0, 1) := dk_42 (dk_at dksX6_readsLine_2 20 rfl rfl)
theorem dX6_readsLine_69 : decode cX6_readsLine 69 = .ok (.getfield 281, 3) := dk_180 1 25 (dk_at dksX6_readsLine_2 21 rfl rfl)
theorem dX6_readsLine_72 : decode cX6_readsLine 72 = .ok (.iconst 1, 1) := dk_4 (dk_at dksX6_readsLine_3 0 rfl rfl)
theorem dX6_readsLine_73 : decode cX6_readsLine 73 = .ok (.iadd, 1) := dk_96 (dk_at dksX6_readsLine_3 1 rfl rfl)
theorem dX6_readsLine_74 : decode cX6_readsLine 74 = .ok (.putfield 281, 3) := dk_181 1 25 (dk_at dksX6_readsLine_3 2 rfl rfl)
theorem dX6_readsLine_77 : decode cX6_readsLine 77 = .ok (.iload_n 3, 1) := dk_29 (dk_at dksX6_readsLine_3 5 rfl rfl)
theorem dX6_readsLine_78 : decode cX6_readsLine 78 = .ok (.ifCond .eq 11, 3) := dk_153 0 11 (dk_at dksX6_readsLine_3 6 rfl rfl)
theorem dX6_readsLine_81 : decode cX6_readsLine 81 = .ok (.aload_n 0, 1) := dk_42 (dk_at dksX6_readsLine_3 9 rfl rfl)
theorem dX6_readsLine_82 : decode cX6_readsLine 82 = .ok (.iload_n 1, 1) := dk_27 (dk_at dksX6_readsLine_3 10 rfl rfl)
theorem dX6_readsLine_83 : decode cX6_readsLine 83 = .ok (.invokevirtual 284, 3) := dk_182 1 28 (dk_at dksX6_readsLine_3 11 rfl rfl)
theorem dX6_readsLine_86 : decode cX6_readsLine 86 = .ok (.goto 8, 3) := dk_167 0 8 (dk_at dksX6_readsLine_3 14 rfl rfl)
theorem dX6_readsLine_89 : decode cX6_readsLine 89 = .ok (.aload_n 0, 1) := dk_42 (dk_at dksX6_readsLine_3 17 rfl rfl)
theorem dX6_readsLine_90 : decode cX6_readsLine 90 = .ok (.iload_n 2, 1) := dk_28 (dk_at dksX6_readsLine_3 18 rfl rfl)
theorem dX6_readsLine_91 : decode cX6_readsLine 91 = .ok (.invokevirtual 287, 3) := dk_182 1 31 (dk_at dksX6_readsLine_3 19 rfl rfl)
theorem dX6_readsLine_94 : decode cX6_readsLine 94 = .ok (.ireturn, 1) := dk_172 (dk_at dksX6_readsLine_3 22 rfl rfl)
abbrev cX6_readsHouse : ByteArray := prog_20_method_48_code
def yX6_readsHouse : MethodName := ⟨RX6, "readsHouse", "(I)Z"⟩
def dkwX6_readsHouse_2 : List UInt8 := [180, 0, 185, 79, 42, 42, 180, 1, 16, 4, 27, 120, 128, 181, 1, 16, 4, 172]
abbrev dktX6_readsHouse_2 : List UInt8 := dkwX6_readsHouse_2 ++ []
def dkwX6_readsHouse_1 : List UInt8 := [180, 0, 169, 4, 96, 181, 0, 169, 42, 182, 1, 19, 154, 0, 5, 3, 172, 42, 180, 0, 77, 27, 42]
abbrev dktX6_readsHouse_1 : List UInt8 := dkwX6_readsHouse_1 ++ dktX6_readsHouse_2
def dkwX6_readsHouse_0 : List UInt8 := [42, 180, 1, 16, 27, 184, 0, 130, 153, 0, 14, 42, 16, 6, 42, 180, 0, 169, 182, 0, 182, 172, 42, 42]
abbrev dktX6_readsHouse_0 : List UInt8 := dkwX6_readsHouse_0 ++ dktX6_readsHouse_1
theorem dksX6_readsHouse_0 : cX6_readsHouse.data.toList.drop 0 = dktX6_readsHouse_0 := by decide +kernel
theorem dksX6_readsHouse_1 : cX6_readsHouse.data.toList.drop 24 = dktX6_readsHouse_1 := dk_seg dksX6_readsHouse_0 24 rfl rfl
theorem dksX6_readsHouse_2 : cX6_readsHouse.data.toList.drop 47 = dktX6_readsHouse_2 := dk_seg dksX6_readsHouse_1 23 rfl rfl
theorem dX6_readsHouse_0 : decode cX6_readsHouse 0 = .ok (.aload_n 0, 1) := dk_42 (dk_at dksX6_readsHouse_0 0 rfl rfl)
theorem dX6_readsHouse_1 : decode cX6_readsHouse 1 = .ok (.getfield 272, 3) := dk_180 1 16 (dk_at dksX6_readsHouse_0 1 rfl rfl)
theorem dX6_readsHouse_4 : decode cX6_readsHouse 4 = .ok (.iload_n 1, 1) := dk_27 (dk_at dksX6_readsHouse_0 4 rfl rfl)
theorem dX6_readsHouse_5 : decode cX6_readsHouse 5 = .ok (.invokestatic 130, 3) := dk_184 0 130 (dk_at dksX6_readsHouse_0 5 rfl rfl)
theorem dX6_readsHouse_8 : decode cX6_readsHouse 8 = .ok (.ifCond .eq 14, 3) := dk_153 0 14 (dk_at dksX6_readsHouse_0 8 rfl rfl)
theorem dX6_readsHouse_11 : decode cX6_readsHouse 11 = .ok (.aload_n 0, 1) := dk_42 (dk_at dksX6_readsHouse_0 11 rfl rfl)
theorem dX6_readsHouse_12 : decode cX6_readsHouse 12 = .ok (.bipush 6, 2) := dk_16 6 (dk_at dksX6_readsHouse_0 12 rfl rfl)
theorem dX6_readsHouse_14 : decode cX6_readsHouse 14 = .ok (.aload_n 0, 1) := dk_42 (dk_at dksX6_readsHouse_0 14 rfl rfl)
theorem dX6_readsHouse_15 : decode cX6_readsHouse 15 = .ok (.getfield 169, 3) := dk_180 0 169 (dk_at dksX6_readsHouse_0 15 rfl rfl)
theorem dX6_readsHouse_18 : decode cX6_readsHouse 18 = .ok (.invokevirtual 182, 3) := dk_182 0 182 (dk_at dksX6_readsHouse_0 18 rfl rfl)
theorem dX6_readsHouse_21 : decode cX6_readsHouse 21 = .ok (.ireturn, 1) := dk_172 (dk_at dksX6_readsHouse_0 21 rfl rfl)
theorem dX6_readsHouse_22 : decode cX6_readsHouse 22 = .ok (.aload_n 0, 1) := dk_42 (dk_at dksX6_readsHouse_0 22 rfl rfl)
theorem dX6_readsHouse_23 : decode cX6_readsHouse 23 = .ok (.aload_n 0, 1) := dk_42 (dk_at dksX6_readsHouse_0 23 rfl rfl)
theorem dX6_readsHouse_24 : decode cX6_readsHouse 24 = .ok (.getfield 169, 3) := dk_180 0 169 (dk_at dksX6_readsHouse_1 0 rfl rfl)
theorem dX6_readsHouse_27 : decode cX6_readsHouse 27 = .ok (.iconst 1, 1) := dk_4 (dk_at dksX6_readsHouse_1 3 rfl rfl)
theorem dX6_readsHouse_28 : decode cX6_readsHouse 28 = .ok (.iadd, 1) := dk_96 (dk_at dksX6_readsHouse_1 4 rfl rfl)
theorem dX6_readsHouse_29 : decode cX6_readsHouse 29 = .ok (.putfield 169, 3) := dk_181 0 169 (dk_at dksX6_readsHouse_1 5 rfl rfl)
theorem dX6_readsHouse_32 : decode cX6_readsHouse 32 = .ok (.aload_n 0, 1) := dk_42 (dk_at dksX6_readsHouse_1 8 rfl rfl)
theorem dX6_readsHouse_33 : decode cX6_readsHouse 33 = .ok (.invokevirtual 275, 3) := dk_182 1 19 (dk_at dksX6_readsHouse_1 9 rfl rfl)
theorem dX6_readsHouse_36 : decode cX6_readsHouse 36 = .ok (.ifCond .ne 5, 3) := dk_154 0 5 (dk_at dksX6_readsHouse_1 12 rfl rfl)
theorem dX6_readsHouse_39 : decode cX6_readsHouse 39 = .ok (.iconst 0, 1) := dk_3 (dk_at dksX6_readsHouse_1 15 rfl rfl)
theorem dX6_readsHouse_40 : decode cX6_readsHouse 40 = .ok (.ireturn, 1) := dk_172 (dk_at dksX6_readsHouse_1 16 rfl rfl)
theorem dX6_readsHouse_41 : decode cX6_readsHouse 41 = .ok (.aload_n 0, 1) := dk_42 (dk_at dksX6_readsHouse_1 17 rfl rfl)
theorem dX6_readsHouse_42 : decode cX6_readsHouse 42 = .ok (.getfield 77, 3) := dk_180 0 77 (dk_at dksX6_readsHouse_1 18 rfl rfl)
theorem dX6_readsHouse_45 : decode cX6_readsHouse 45 = .ok (.iload_n 1, 1) := dk_27 (dk_at dksX6_readsHouse_1 21 rfl rfl)
theorem dX6_readsHouse_46 : decode cX6_readsHouse 46 = .ok (.aload_n 0, 1) := dk_42 (dk_at dksX6_readsHouse_1 22 rfl rfl)
theorem dX6_readsHouse_47 : decode cX6_readsHouse 47 = .ok (.getfield 185, 3) := dk_180 0 185 (dk_at dksX6_readsHouse_2 0 rfl rfl)
theorem dX6_readsHouse_50 : decode cX6_readsHouse 50 = .ok (.iastore, 1) := dk_79 (dk_at dksX6_readsHouse_2 3 rfl rfl)
theorem dX6_readsHouse_51 : decode cX6_readsHouse 51 = .ok (.aload_n 0, 1) := dk_42 (dk_at dksX6_readsHouse_2 4 rfl rfl)
theorem dX6_readsHouse_52 : decode cX6_readsHouse 52 = .ok (.aload_n 0, 1) := dk_42 (dk_at dksX6_readsHouse_2 5 rfl rfl)
theorem dX6_readsHouse_53 : decode cX6_readsHouse 53 = .ok (.getfield 272, 3) := dk_180 1 16 (dk_at dksX6_readsHouse_2 6 rfl rfl)
theorem dX6_readsHouse_56 : decode cX6_readsHouse 56 = .ok (.iconst 1, 1) := dk_4 (dk_at dksX6_readsHouse_2 9 rfl rfl)
theorem dX6_readsHouse_57 : decode cX6_readsHouse 57 = .ok (.iload_n 1, 1) := dk_27 (dk_at dksX6_readsHouse_2 10 rfl rfl)
theorem dX6_readsHouse_58 : decode cX6_readsHouse 58 = .ok (.ishl, 1) := dk_120 (dk_at dksX6_readsHouse_2 11 rfl rfl)
theorem dX6_readsHouse_59 : decode cX6_readsHouse 59 = .ok (.ior, 1) := dk_128 (dk_at dksX6_readsHouse_2 12 rfl rfl)
theorem dX6_readsHouse_60 : decode cX6_readsHouse 60 = .ok (.putfield 272, 3) := dk_181 1 16 (dk_at dksX6_readsHouse_2 13 rfl rfl)
theorem dX6_readsHouse_63 : decode cX6_readsHouse 63 = .ok (.iconst 1, 1) := dk_4 (dk_at dksX6_readsHouse_2 16 rfl rfl)
theorem dX6_readsHouse_64 : decode cX6_readsHouse 64 = .ok (.ireturn, 1) := dk_172 (dk_at dksX6_readsHouse_2 17 rfl rfl)
abbrev cX6_readsWithin : ByteArray := prog_20_method_47_code
def yX6_readsWithin : MethodName := ⟨RX6, "readsWithin", "()Z"⟩
def dkwX6_readsWithin_4 : List UInt8 := [161, 0, 12, 42, 6, 27, 182, 0, 182, 153, 0, 7, 4, 167, 0, 4, 3, 172]
abbrev dktX6_readsWithin_4 : List UInt8 := dkwX6_readsWithin_4 ++ []
def dkwX6_readsWithin_3 : List UInt8 := [181, 0, 185, 42, 42, 180, 0, 169, 4, 96, 181, 0, 169, 167, 255, 200, 42, 180, 0, 185, 16, 12]
abbrev dktX6_readsWithin_3 : List UInt8 := dkwX6_readsWithin_3 ++ dktX6_readsWithin_4
def dkwX6_readsWithin_2 : List UInt8 := [180, 0, 169, 182, 0, 182, 172, 42, 16, 10, 42, 180, 0, 185, 104, 42, 182, 0, 175, 96, 16, 48, 100]
abbrev dktX6_readsWithin_2 : List UInt8 := dkwX6_readsWithin_2 ++ dktX6_readsWithin_3
def dkwX6_readsWithin_1 : List UInt8 := [181, 0, 185, 42, 182, 0, 188, 153, 0, 55, 42, 180, 0, 169, 27, 5, 96, 160, 0, 13, 42, 5, 42]
abbrev dktX6_readsWithin_1 : List UInt8 := dkwX6_readsWithin_1 ++ dktX6_readsWithin_2
def dkwX6_readsWithin_0 : List UInt8 := [42, 180, 0, 169, 60, 42, 182, 0, 188, 154, 0, 13, 42, 4, 42, 180, 0, 169, 182, 0, 182, 172, 42, 3]
abbrev dktX6_readsWithin_0 : List UInt8 := dkwX6_readsWithin_0 ++ dktX6_readsWithin_1
theorem dksX6_readsWithin_0 : cX6_readsWithin.data.toList.drop 0 = dktX6_readsWithin_0 := by decide +kernel
theorem dksX6_readsWithin_1 : cX6_readsWithin.data.toList.drop 24 = dktX6_readsWithin_1 := dk_seg dksX6_readsWithin_0 24 rfl rfl
theorem dksX6_readsWithin_2 : cX6_readsWithin.data.toList.drop 47 = dktX6_readsWithin_2 := dk_seg dksX6_readsWithin_1 23 rfl rfl
theorem dksX6_readsWithin_3 : cX6_readsWithin.data.toList.drop 70 = dktX6_readsWithin_3 := dk_seg dksX6_readsWithin_2 23 rfl rfl
theorem dksX6_readsWithin_4 : cX6_readsWithin.data.toList.drop 92 = dktX6_readsWithin_4 := dk_seg dksX6_readsWithin_3 22 rfl rfl
theorem dX6_readsWithin_0 : decode cX6_readsWithin 0 = .ok (.aload_n 0, 1) := dk_42 (dk_at dksX6_readsWithin_0 0 rfl rfl)
theorem dX6_readsWithin_1 : decode cX6_readsWithin 1 = .ok (.getfield 169, 3) := dk_180 0 169 (dk_at dksX6_readsWithin_0 1 rfl rfl)
theorem dX6_readsWithin_4 : decode cX6_readsWithin 4 = .ok (.istore_n 1, 1) := dk_60 (dk_at dksX6_readsWithin_0 4 rfl rfl)
theorem dX6_readsWithin_5 : decode cX6_readsWithin 5 = .ok (.aload_n 0, 1) := dk_42 (dk_at dksX6_readsWithin_0 5 rfl rfl)
theorem dX6_readsWithin_6 : decode cX6_readsWithin 6 = .ok (.invokevirtual 188, 3) := dk_182 0 188 (dk_at dksX6_readsWithin_0 6 rfl rfl)
theorem dX6_readsWithin_9 : decode cX6_readsWithin 9 = .ok (.ifCond .ne 13, 3) := dk_154 0 13 (dk_at dksX6_readsWithin_0 9 rfl rfl)
theorem dX6_readsWithin_12 : decode cX6_readsWithin 12 = .ok (.aload_n 0, 1) := dk_42 (dk_at dksX6_readsWithin_0 12 rfl rfl)
theorem dX6_readsWithin_13 : decode cX6_readsWithin 13 = .ok (.iconst 1, 1) := dk_4 (dk_at dksX6_readsWithin_0 13 rfl rfl)
theorem dX6_readsWithin_14 : decode cX6_readsWithin 14 = .ok (.aload_n 0, 1) := dk_42 (dk_at dksX6_readsWithin_0 14 rfl rfl)
theorem dX6_readsWithin_15 : decode cX6_readsWithin 15 = .ok (.getfield 169, 3) := dk_180 0 169 (dk_at dksX6_readsWithin_0 15 rfl rfl)
theorem dX6_readsWithin_18 : decode cX6_readsWithin 18 = .ok (.invokevirtual 182, 3) := dk_182 0 182 (dk_at dksX6_readsWithin_0 18 rfl rfl)
theorem dX6_readsWithin_21 : decode cX6_readsWithin 21 = .ok (.ireturn, 1) := dk_172 (dk_at dksX6_readsWithin_0 21 rfl rfl)
theorem dX6_readsWithin_22 : decode cX6_readsWithin 22 = .ok (.aload_n 0, 1) := dk_42 (dk_at dksX6_readsWithin_0 22 rfl rfl)
theorem dX6_readsWithin_23 : decode cX6_readsWithin 23 = .ok (.iconst 0, 1) := dk_3 (dk_at dksX6_readsWithin_0 23 rfl rfl)
theorem dX6_readsWithin_24 : decode cX6_readsWithin 24 = .ok (.putfield 185, 3) := dk_181 0 185 (dk_at dksX6_readsWithin_1 0 rfl rfl)
theorem dX6_readsWithin_27 : decode cX6_readsWithin 27 = .ok (.aload_n 0, 1) := dk_42 (dk_at dksX6_readsWithin_1 3 rfl rfl)
theorem dX6_readsWithin_28 : decode cX6_readsWithin 28 = .ok (.invokevirtual 188, 3) := dk_182 0 188 (dk_at dksX6_readsWithin_1 4 rfl rfl)
theorem dX6_readsWithin_31 : decode cX6_readsWithin 31 = .ok (.ifCond .eq 55, 3) := dk_153 0 55 (dk_at dksX6_readsWithin_1 7 rfl rfl)
theorem dX6_readsWithin_34 : decode cX6_readsWithin 34 = .ok (.aload_n 0, 1) := dk_42 (dk_at dksX6_readsWithin_1 10 rfl rfl)
theorem dX6_readsWithin_35 : decode cX6_readsWithin 35 = .ok (.getfield 169, 3) := dk_180 0 169 (dk_at dksX6_readsWithin_1 11 rfl rfl)
theorem dX6_readsWithin_38 : decode cX6_readsWithin 38 = .ok (.iload_n 1, 1) := dk_27 (dk_at dksX6_readsWithin_1 14 rfl rfl)
theorem dX6_readsWithin_39 : decode cX6_readsWithin 39 = .ok (.iconst 2, 1) := dk_5 (dk_at dksX6_readsWithin_1 15 rfl rfl)
theorem dX6_readsWithin_40 : decode cX6_readsWithin 40 = .ok (.iadd, 1) := dk_96 (dk_at dksX6_readsWithin_1 16 rfl rfl)
theorem dX6_readsWithin_41 : decode cX6_readsWithin 41 = .ok (.if_icmp .ne 13, 3) := dk_160 0 13 (dk_at dksX6_readsWithin_1 17 rfl rfl)
theorem dX6_readsWithin_44 : decode cX6_readsWithin 44 = .ok (.aload_n 0, 1) := dk_42 (dk_at dksX6_readsWithin_1 20 rfl rfl)
theorem dX6_readsWithin_45 : decode cX6_readsWithin 45 = .ok (.iconst 2, 1) := dk_5 (dk_at dksX6_readsWithin_1 21 rfl rfl)
theorem dX6_readsWithin_46 : decode cX6_readsWithin 46 = .ok (.aload_n 0, 1) := dk_42 (dk_at dksX6_readsWithin_1 22 rfl rfl)
theorem dX6_readsWithin_47 : decode cX6_readsWithin 47 = .ok (.getfield 169, 3) := dk_180 0 169 (dk_at dksX6_readsWithin_2 0 rfl rfl)
theorem dX6_readsWithin_50 : decode cX6_readsWithin 50 = .ok (.invokevirtual 182, 3) := dk_182 0 182 (dk_at dksX6_readsWithin_2 3 rfl rfl)
theorem dX6_readsWithin_53 : decode cX6_readsWithin 53 = .ok (.ireturn, 1) := dk_172 (dk_at dksX6_readsWithin_2 6 rfl rfl)
theorem dX6_readsWithin_54 : decode cX6_readsWithin 54 = .ok (.aload_n 0, 1) := dk_42 (dk_at dksX6_readsWithin_2 7 rfl rfl)
theorem dX6_readsWithin_55 : decode cX6_readsWithin 55 = .ok (.bipush 10, 2) := dk_16 10 (dk_at dksX6_readsWithin_2 8 rfl rfl)
theorem dX6_readsWithin_57 : decode cX6_readsWithin 57 = .ok (.aload_n 0, 1) := dk_42 (dk_at dksX6_readsWithin_2 10 rfl rfl)
theorem dX6_readsWithin_58 : decode cX6_readsWithin 58 = .ok (.getfield 185, 3) := dk_180 0 185 (dk_at dksX6_readsWithin_2 11 rfl rfl)
theorem dX6_readsWithin_61 : decode cX6_readsWithin 61 = .ok (.imul, 1) := dk_104 (dk_at dksX6_readsWithin_2 14 rfl rfl)
theorem dX6_readsWithin_62 : decode cX6_readsWithin 62 = .ok (.aload_n 0, 1) := dk_42 (dk_at dksX6_readsWithin_2 15 rfl rfl)
theorem dX6_readsWithin_63 : decode cX6_readsWithin 63 = .ok (.invokevirtual 175, 3) := dk_182 0 175 (dk_at dksX6_readsWithin_2 16 rfl rfl)
theorem dX6_readsWithin_66 : decode cX6_readsWithin 66 = .ok (.iadd, 1) := dk_96 (dk_at dksX6_readsWithin_2 19 rfl rfl)
theorem dX6_readsWithin_67 : decode cX6_readsWithin 67 = .ok (.bipush 48, 2) := dk_16 48 (dk_at dksX6_readsWithin_2 20 rfl rfl)
theorem dX6_readsWithin_69 : decode cX6_readsWithin 69 = .ok (.isub, 1) := dk_100 (dk_at dksX6_readsWithin_2 22 rfl rfl)
theorem dX6_readsWithin_70 : decode cX6_readsWithin 70 = .ok (.putfield 185, 3) := dk_181 0 185 (dk_at dksX6_readsWithin_3 0 rfl rfl)
theorem dX6_readsWithin_73 : decode cX6_readsWithin 73 = .ok (.aload_n 0, 1) := dk_42 (dk_at dksX6_readsWithin_3 3 rfl rfl)
theorem dX6_readsWithin_74 : decode cX6_readsWithin 74 = .ok (.aload_n 0, 1) := dk_42 (dk_at dksX6_readsWithin_3 4 rfl rfl)
theorem dX6_readsWithin_75 : decode cX6_readsWithin 75 = .ok (.getfield 169, 3) := dk_180 0 169 (dk_at dksX6_readsWithin_3 5 rfl rfl)
theorem dX6_readsWithin_78 : decode cX6_readsWithin 78 = .ok (.iconst 1, 1) := dk_4 (dk_at dksX6_readsWithin_3 8 rfl rfl)
theorem dX6_readsWithin_79 : decode cX6_readsWithin 79 = .ok (.iadd, 1) := dk_96 (dk_at dksX6_readsWithin_3 9 rfl rfl)
theorem dX6_readsWithin_80 : decode cX6_readsWithin 80 = .ok (.putfield 169, 3) := dk_181 0 169 (dk_at dksX6_readsWithin_3 10 rfl rfl)
theorem dX6_readsWithin_83 : decode cX6_readsWithin 83 = .ok (.goto (-56), 3) := dk_167 255 200 (dk_at dksX6_readsWithin_3 13 rfl rfl)
theorem dX6_readsWithin_86 : decode cX6_readsWithin 86 = .ok (.aload_n 0, 1) := dk_42 (dk_at dksX6_readsWithin_3 16 rfl rfl)
theorem dX6_readsWithin_87 : decode cX6_readsWithin 87 = .ok (.getfield 185, 3) := dk_180 0 185 (dk_at dksX6_readsWithin_3 17 rfl rfl)
theorem dX6_readsWithin_90 : decode cX6_readsWithin 90 = .ok (.bipush 12, 2) := dk_16 12 (dk_at dksX6_readsWithin_3 20 rfl rfl)
theorem dX6_readsWithin_92 : decode cX6_readsWithin 92 = .ok (.if_icmp .lt 12, 3) := dk_161 0 12 (dk_at dksX6_readsWithin_4 0 rfl rfl)
theorem dX6_readsWithin_95 : decode cX6_readsWithin 95 = .ok (.aload_n 0, 1) := dk_42 (dk_at dksX6_readsWithin_4 3 rfl rfl)
theorem dX6_readsWithin_96 : decode cX6_readsWithin 96 = .ok (.iconst 3, 1) := dk_6 (dk_at dksX6_readsWithin_4 4 rfl rfl)
theorem dX6_readsWithin_97 : decode cX6_readsWithin 97 = .ok (.iload_n 1, 1) := dk_27 (dk_at dksX6_readsWithin_4 5 rfl rfl)
theorem dX6_readsWithin_98 : decode cX6_readsWithin 98 = .ok (.invokevirtual 182, 3) := dk_182 0 182 (dk_at dksX6_readsWithin_4 6 rfl rfl)
theorem dX6_readsWithin_101 : decode cX6_readsWithin 101 = .ok (.ifCond .eq 7, 3) := dk_153 0 7 (dk_at dksX6_readsWithin_4 9 rfl rfl)
theorem dX6_readsWithin_104 : decode cX6_readsWithin 104 = .ok (.iconst 1, 1) := dk_4 (dk_at dksX6_readsWithin_4 12 rfl rfl)
theorem dX6_readsWithin_105 : decode cX6_readsWithin 105 = .ok (.goto 4, 3) := dk_167 0 4 (dk_at dksX6_readsWithin_4 13 rfl rfl)
theorem dX6_readsWithin_108 : decode cX6_readsWithin 108 = .ok (.iconst 0, 1) := dk_3 (dk_at dksX6_readsWithin_4 16 rfl rfl)
theorem dX6_readsWithin_109 : decode cX6_readsWithin 109 = .ok (.ireturn, 1) := dk_172 (dk_at dksX6_readsWithin_4 17 rfl rfl)
abbrev cX6_readsThing : ByteArray := prog_20_method_49_code
def yX6_readsThing : MethodName := ⟨RX6, "readsThing", "(I)Z"⟩
def dkwX6_readsThing_5 : List UInt8 := [181, 1, 22, 4, 172]
abbrev dktX6_readsThing_5 : List UInt8 := dkwX6_readsThing_5 ++ []
def dkwX6_readsThing_4 : List UInt8 := [154, 0, 5, 3, 172, 42, 180, 0, 86, 27, 42, 180, 0, 185, 79, 42, 42, 180, 1, 22, 4, 27, 120, 128]
abbrev dktX6_readsThing_4 : List UInt8 := dkwX6_readsThing_4 ++ dktX6_readsThing_5
def dkwX6_readsThing_3 : List UInt8 := [180, 0, 83, 27, 42, 180, 0, 185, 79, 42, 16, 45, 182, 1, 3, 153, 0, 10, 42, 182, 1, 19]
abbrev dktX6_readsThing_3 : List UInt8 := dkwX6_readsThing_3 ++ dktX6_readsThing_4
def dkwX6_readsThing_2 : List UInt8 := [180, 0, 185, 79, 42, 16, 64, 182, 1, 3, 153, 0, 10, 42, 182, 1, 19, 154, 0, 5, 3, 172, 42]
abbrev dktX6_readsThing_2 : List UInt8 := dkwX6_readsThing_2 ++ dktX6_readsThing_3
def dkwX6_readsThing_1 : List UInt8 := [180, 0, 169, 4, 96, 181, 0, 169, 42, 182, 1, 19, 154, 0, 5, 3, 172, 42, 180, 0, 80, 27, 42]
abbrev dktX6_readsThing_1 : List UInt8 := dkwX6_readsThing_1 ++ dktX6_readsThing_2
def dkwX6_readsThing_0 : List UInt8 := [42, 180, 1, 22, 27, 184, 0, 130, 153, 0, 14, 42, 16, 6, 42, 180, 0, 169, 182, 0, 182, 172, 42, 42]
abbrev dktX6_readsThing_0 : List UInt8 := dkwX6_readsThing_0 ++ dktX6_readsThing_1
theorem dksX6_readsThing_0 : cX6_readsThing.data.toList.drop 0 = dktX6_readsThing_0 := by decide +kernel
theorem dksX6_readsThing_1 : cX6_readsThing.data.toList.drop 24 = dktX6_readsThing_1 := dk_seg dksX6_readsThing_0 24 rfl rfl
theorem dksX6_readsThing_2 : cX6_readsThing.data.toList.drop 47 = dktX6_readsThing_2 := dk_seg dksX6_readsThing_1 23 rfl rfl
theorem dksX6_readsThing_3 : cX6_readsThing.data.toList.drop 70 = dktX6_readsThing_3 := dk_seg dksX6_readsThing_2 23 rfl rfl
theorem dksX6_readsThing_4 : cX6_readsThing.data.toList.drop 92 = dktX6_readsThing_4 := dk_seg dksX6_readsThing_3 22 rfl rfl
theorem dksX6_readsThing_5 : cX6_readsThing.data.toList.drop 116 = dktX6_readsThing_5 := dk_seg dksX6_readsThing_4 24 rfl rfl
theorem dX6_readsThing_0 : decode cX6_readsThing 0 = .ok (.aload_n 0, 1) := dk_42 (dk_at dksX6_readsThing_0 0 rfl rfl)
theorem dX6_readsThing_1 : decode cX6_readsThing 1 = .ok (.getfield 278, 3) := dk_180 1 22 (dk_at dksX6_readsThing_0 1 rfl rfl)
theorem dX6_readsThing_4 : decode cX6_readsThing 4 = .ok (.iload_n 1, 1) := dk_27 (dk_at dksX6_readsThing_0 4 rfl rfl)
theorem dX6_readsThing_5 : decode cX6_readsThing 5 = .ok (.invokestatic 130, 3) := dk_184 0 130 (dk_at dksX6_readsThing_0 5 rfl rfl)
theorem dX6_readsThing_8 : decode cX6_readsThing 8 = .ok (.ifCond .eq 14, 3) := dk_153 0 14 (dk_at dksX6_readsThing_0 8 rfl rfl)
theorem dX6_readsThing_11 : decode cX6_readsThing 11 = .ok (.aload_n 0, 1) := dk_42 (dk_at dksX6_readsThing_0 11 rfl rfl)
theorem dX6_readsThing_12 : decode cX6_readsThing 12 = .ok (.bipush 6, 2) := dk_16 6 (dk_at dksX6_readsThing_0 12 rfl rfl)
theorem dX6_readsThing_14 : decode cX6_readsThing 14 = .ok (.aload_n 0, 1) := dk_42 (dk_at dksX6_readsThing_0 14 rfl rfl)
theorem dX6_readsThing_15 : decode cX6_readsThing 15 = .ok (.getfield 169, 3) := dk_180 0 169 (dk_at dksX6_readsThing_0 15 rfl rfl)
theorem dX6_readsThing_18 : decode cX6_readsThing 18 = .ok (.invokevirtual 182, 3) := dk_182 0 182 (dk_at dksX6_readsThing_0 18 rfl rfl)
theorem dX6_readsThing_21 : decode cX6_readsThing 21 = .ok (.ireturn, 1) := dk_172 (dk_at dksX6_readsThing_0 21 rfl rfl)
theorem dX6_readsThing_22 : decode cX6_readsThing 22 = .ok (.aload_n 0, 1) := dk_42 (dk_at dksX6_readsThing_0 22 rfl rfl)
theorem dX6_readsThing_23 : decode cX6_readsThing 23 = .ok (.aload_n 0, 1) := dk_42 (dk_at dksX6_readsThing_0 23 rfl rfl)
theorem dX6_readsThing_24 : decode cX6_readsThing 24 = .ok (.getfield 169, 3) := dk_180 0 169 (dk_at dksX6_readsThing_1 0 rfl rfl)
theorem dX6_readsThing_27 : decode cX6_readsThing 27 = .ok (.iconst 1, 1) := dk_4 (dk_at dksX6_readsThing_1 3 rfl rfl)
theorem dX6_readsThing_28 : decode cX6_readsThing 28 = .ok (.iadd, 1) := dk_96 (dk_at dksX6_readsThing_1 4 rfl rfl)
theorem dX6_readsThing_29 : decode cX6_readsThing 29 = .ok (.putfield 169, 3) := dk_181 0 169 (dk_at dksX6_readsThing_1 5 rfl rfl)
theorem dX6_readsThing_32 : decode cX6_readsThing 32 = .ok (.aload_n 0, 1) := dk_42 (dk_at dksX6_readsThing_1 8 rfl rfl)
theorem dX6_readsThing_33 : decode cX6_readsThing 33 = .ok (.invokevirtual 275, 3) := dk_182 1 19 (dk_at dksX6_readsThing_1 9 rfl rfl)
theorem dX6_readsThing_36 : decode cX6_readsThing 36 = .ok (.ifCond .ne 5, 3) := dk_154 0 5 (dk_at dksX6_readsThing_1 12 rfl rfl)
theorem dX6_readsThing_39 : decode cX6_readsThing 39 = .ok (.iconst 0, 1) := dk_3 (dk_at dksX6_readsThing_1 15 rfl rfl)
theorem dX6_readsThing_40 : decode cX6_readsThing 40 = .ok (.ireturn, 1) := dk_172 (dk_at dksX6_readsThing_1 16 rfl rfl)
theorem dX6_readsThing_41 : decode cX6_readsThing 41 = .ok (.aload_n 0, 1) := dk_42 (dk_at dksX6_readsThing_1 17 rfl rfl)
theorem dX6_readsThing_42 : decode cX6_readsThing 42 = .ok (.getfield 80, 3) := dk_180 0 80 (dk_at dksX6_readsThing_1 18 rfl rfl)
theorem dX6_readsThing_45 : decode cX6_readsThing 45 = .ok (.iload_n 1, 1) := dk_27 (dk_at dksX6_readsThing_1 21 rfl rfl)
theorem dX6_readsThing_46 : decode cX6_readsThing 46 = .ok (.aload_n 0, 1) := dk_42 (dk_at dksX6_readsThing_1 22 rfl rfl)
theorem dX6_readsThing_47 : decode cX6_readsThing 47 = .ok (.getfield 185, 3) := dk_180 0 185 (dk_at dksX6_readsThing_2 0 rfl rfl)
theorem dX6_readsThing_50 : decode cX6_readsThing 50 = .ok (.iastore, 1) := dk_79 (dk_at dksX6_readsThing_2 3 rfl rfl)
theorem dX6_readsThing_51 : decode cX6_readsThing 51 = .ok (.aload_n 0, 1) := dk_42 (dk_at dksX6_readsThing_2 4 rfl rfl)
theorem dX6_readsThing_52 : decode cX6_readsThing 52 = .ok (.bipush 64, 2) := dk_16 64 (dk_at dksX6_readsThing_2 5 rfl rfl)
theorem dX6_readsThing_54 : decode cX6_readsThing 54 = .ok (.invokevirtual 259, 3) := dk_182 1 3 (dk_at dksX6_readsThing_2 7 rfl rfl)
theorem dX6_readsThing_57 : decode cX6_readsThing 57 = .ok (.ifCond .eq 10, 3) := dk_153 0 10 (dk_at dksX6_readsThing_2 10 rfl rfl)
theorem dX6_readsThing_60 : decode cX6_readsThing 60 = .ok (.aload_n 0, 1) := dk_42 (dk_at dksX6_readsThing_2 13 rfl rfl)
theorem dX6_readsThing_61 : decode cX6_readsThing 61 = .ok (.invokevirtual 275, 3) := dk_182 1 19 (dk_at dksX6_readsThing_2 14 rfl rfl)
theorem dX6_readsThing_64 : decode cX6_readsThing 64 = .ok (.ifCond .ne 5, 3) := dk_154 0 5 (dk_at dksX6_readsThing_2 17 rfl rfl)
theorem dX6_readsThing_67 : decode cX6_readsThing 67 = .ok (.iconst 0, 1) := dk_3 (dk_at dksX6_readsThing_2 20 rfl rfl)
theorem dX6_readsThing_68 : decode cX6_readsThing 68 = .ok (.ireturn, 1) := dk_172 (dk_at dksX6_readsThing_2 21 rfl rfl)
theorem dX6_readsThing_69 : decode cX6_readsThing 69 = .ok (.aload_n 0, 1) := dk_42 (dk_at dksX6_readsThing_2 22 rfl rfl)
theorem dX6_readsThing_70 : decode cX6_readsThing 70 = .ok (.getfield 83, 3) := dk_180 0 83 (dk_at dksX6_readsThing_3 0 rfl rfl)
theorem dX6_readsThing_73 : decode cX6_readsThing 73 = .ok (.iload_n 1, 1) := dk_27 (dk_at dksX6_readsThing_3 3 rfl rfl)
theorem dX6_readsThing_74 : decode cX6_readsThing 74 = .ok (.aload_n 0, 1) := dk_42 (dk_at dksX6_readsThing_3 4 rfl rfl)
theorem dX6_readsThing_75 : decode cX6_readsThing 75 = .ok (.getfield 185, 3) := dk_180 0 185 (dk_at dksX6_readsThing_3 5 rfl rfl)
theorem dX6_readsThing_78 : decode cX6_readsThing 78 = .ok (.iastore, 1) := dk_79 (dk_at dksX6_readsThing_3 8 rfl rfl)
theorem dX6_readsThing_79 : decode cX6_readsThing 79 = .ok (.aload_n 0, 1) := dk_42 (dk_at dksX6_readsThing_3 9 rfl rfl)
theorem dX6_readsThing_80 : decode cX6_readsThing 80 = .ok (.bipush 45, 2) := dk_16 45 (dk_at dksX6_readsThing_3 10 rfl rfl)
theorem dX6_readsThing_82 : decode cX6_readsThing 82 = .ok (.invokevirtual 259, 3) := dk_182 1 3 (dk_at dksX6_readsThing_3 12 rfl rfl)
theorem dX6_readsThing_85 : decode cX6_readsThing 85 = .ok (.ifCond .eq 10, 3) := dk_153 0 10 (dk_at dksX6_readsThing_3 15 rfl rfl)
theorem dX6_readsThing_88 : decode cX6_readsThing 88 = .ok (.aload_n 0, 1) := dk_42 (dk_at dksX6_readsThing_3 18 rfl rfl)
theorem dX6_readsThing_89 : decode cX6_readsThing 89 = .ok (.invokevirtual 275, 3) := dk_182 1 19 (dk_at dksX6_readsThing_3 19 rfl rfl)
theorem dX6_readsThing_92 : decode cX6_readsThing 92 = .ok (.ifCond .ne 5, 3) := dk_154 0 5 (dk_at dksX6_readsThing_4 0 rfl rfl)
theorem dX6_readsThing_95 : decode cX6_readsThing 95 = .ok (.iconst 0, 1) := dk_3 (dk_at dksX6_readsThing_4 3 rfl rfl)
theorem dX6_readsThing_96 : decode cX6_readsThing 96 = .ok (.ireturn, 1) := dk_172 (dk_at dksX6_readsThing_4 4 rfl rfl)
theorem dX6_readsThing_97 : decode cX6_readsThing 97 = .ok (.aload_n 0, 1) := dk_42 (dk_at dksX6_readsThing_4 5 rfl rfl)
theorem dX6_readsThing_98 : decode cX6_readsThing 98 = .ok (.getfield 86, 3) := dk_180 0 86 (dk_at dksX6_readsThing_4 6 rfl rfl)
theorem dX6_readsThing_101 : decode cX6_readsThing 101 = .ok (.iload_n 1, 1) := dk_27 (dk_at dksX6_readsThing_4 9 rfl rfl)
theorem dX6_readsThing_102 : decode cX6_readsThing 102 = .ok (.aload_n 0, 1) := dk_42 (dk_at dksX6_readsThing_4 10 rfl rfl)
theorem dX6_readsThing_103 : decode cX6_readsThing 103 = .ok (.getfield 185, 3) := dk_180 0 185 (dk_at dksX6_readsThing_4 11 rfl rfl)
theorem dX6_readsThing_106 : decode cX6_readsThing 106 = .ok (.iastore, 1) := dk_79 (dk_at dksX6_readsThing_4 14 rfl rfl)
theorem dX6_readsThing_107 : decode cX6_readsThing 107 = .ok (.aload_n 0, 1) := dk_42 (dk_at dksX6_readsThing_4 15 rfl rfl)
theorem dX6_readsThing_108 : decode cX6_readsThing 108 = .ok (.aload_n 0, 1) := dk_42 (dk_at dksX6_readsThing_4 16 rfl rfl)
theorem dX6_readsThing_109 : decode cX6_readsThing 109 = .ok (.getfield 278, 3) := dk_180 1 22 (dk_at dksX6_readsThing_4 17 rfl rfl)
theorem dX6_readsThing_112 : decode cX6_readsThing 112 = .ok (.iconst 1, 1) := dk_4 (dk_at dksX6_readsThing_4 20 rfl rfl)
theorem dX6_readsThing_113 : decode cX6_readsThing 113 = .ok (.iload_n 1, 1) := dk_27 (dk_at dksX6_readsThing_4 21 rfl rfl)
theorem dX6_readsThing_114 : decode cX6_readsThing 114 = .ok (.ishl, 1) := dk_120 (dk_at dksX6_readsThing_4 22 rfl rfl)
theorem dX6_readsThing_115 : decode cX6_readsThing 115 = .ok (.ior, 1) := dk_128 (dk_at dksX6_readsThing_4 23 rfl rfl)
theorem dX6_readsThing_116 : decode cX6_readsThing 116 = .ok (.putfield 278, 3) := dk_181 1 22 (dk_at dksX6_readsThing_5 0 rfl rfl)
theorem dX6_readsThing_119 : decode cX6_readsThing 119 = .ok (.iconst 1, 1) := dk_4 (dk_at dksX6_readsThing_5 3 rfl rfl)
theorem dX6_readsThing_120 : decode cX6_readsThing 120 = .ok (.ireturn, 1) := dk_172 (dk_at dksX6_readsThing_5 4 rfl rfl)
abbrev cX6_rota : ByteArray := prog_20_method_56_code
def yX6_rota : MethodName := ⟨RX6, "rota", "(I)I"⟩
def dkwX6_rota_6 : List UInt8 := [167, 255, 223, 42, 180, 1, 43, 172]
abbrev dktX6_rota_6 : List UInt8 := dkwX6_rota_6 ++ []
def dkwX6_rota_5 : List UInt8 := [29, 29, 42, 180, 1, 43, 162, 0, 12, 42, 180, 0, 89, 29, 46, 167, 0, 4, 2, 79, 132, 3, 1]
abbrev dktX6_rota_5 : List UInt8 := dkwX6_rota_5 ++ dktX6_rota_6
def dkwX6_rota_4 : List UInt8 := [181, 0, 162, 28, 154, 0, 8, 42, 180, 0, 179, 172, 3, 62, 29, 16, 12, 162, 0, 33, 42, 180, 0, 19]
abbrev dktX6_rota_4 : List UInt8 := dkwX6_rota_4 ++ dktX6_rota_5
def dkwX6_rota_3 : List UInt8 := [167, 255, 229, 28, 153, 0, 14, 42, 182, 1, 58, 153, 0, 7, 4, 167, 0, 4, 3, 61, 42, 3]
abbrev dktX6_rota_3 : List UInt8 := dkwX6_rota_3 ++ dktX6_rota_4
def dkwX6_rota_2 : List UInt8 := [180, 0, 169, 42, 180, 0, 172, 161, 0, 10, 42, 180, 1, 49, 158, 0, 11, 42, 182, 1, 55, 61]
abbrev dktX6_rota_2 : List UInt8 := dkwX6_rota_2 ++ dktX6_rota_3
def dkwX6_rota_1 : List UInt8 := [182, 0, 253, 42, 3, 181, 1, 43, 42, 3, 181, 1, 49, 42, 182, 1, 55, 61, 28, 153, 0, 29, 42]
abbrev dktX6_rota_1 : List UInt8 := dkwX6_rota_1 ++ dktX6_rota_2
def dkwX6_rota_0 : List UInt8 := [27, 4, 16, 60, 184, 0, 134, 153, 0, 11, 27, 42, 180, 0, 162, 164, 0, 5, 2, 172, 42, 27]
abbrev dktX6_rota_0 : List UInt8 := dkwX6_rota_0 ++ dktX6_rota_1
theorem dksX6_rota_0 : cX6_rota.data.toList.drop 0 = dktX6_rota_0 := by decide +kernel
theorem dksX6_rota_1 : cX6_rota.data.toList.drop 22 = dktX6_rota_1 := dk_seg dksX6_rota_0 22 rfl rfl
theorem dksX6_rota_2 : cX6_rota.data.toList.drop 45 = dktX6_rota_2 := dk_seg dksX6_rota_1 23 rfl rfl
theorem dksX6_rota_3 : cX6_rota.data.toList.drop 67 = dktX6_rota_3 := dk_seg dksX6_rota_2 22 rfl rfl
theorem dksX6_rota_4 : cX6_rota.data.toList.drop 89 = dktX6_rota_4 := dk_seg dksX6_rota_3 22 rfl rfl
theorem dksX6_rota_5 : cX6_rota.data.toList.drop 113 = dktX6_rota_5 := dk_seg dksX6_rota_4 24 rfl rfl
theorem dksX6_rota_6 : cX6_rota.data.toList.drop 136 = dktX6_rota_6 := dk_seg dksX6_rota_5 23 rfl rfl
theorem dX6_rota_0 : decode cX6_rota 0 = .ok (.iload_n 1, 1) := dk_27 (dk_at dksX6_rota_0 0 rfl rfl)
theorem dX6_rota_1 : decode cX6_rota 1 = .ok (.iconst 1, 1) := dk_4 (dk_at dksX6_rota_0 1 rfl rfl)
theorem dX6_rota_2 : decode cX6_rota 2 = .ok (.bipush 60, 2) := dk_16 60 (dk_at dksX6_rota_0 2 rfl rfl)
theorem dX6_rota_4 : decode cX6_rota 4 = .ok (.invokestatic 134, 3) := dk_184 0 134 (dk_at dksX6_rota_0 4 rfl rfl)
theorem dX6_rota_7 : decode cX6_rota 7 = .ok (.ifCond .eq 11, 3) := dk_153 0 11 (dk_at dksX6_rota_0 7 rfl rfl)
theorem dX6_rota_10 : decode cX6_rota 10 = .ok (.iload_n 1, 1) := dk_27 (dk_at dksX6_rota_0 10 rfl rfl)
theorem dX6_rota_11 : decode cX6_rota 11 = .ok (.aload_n 0, 1) := dk_42 (dk_at dksX6_rota_0 11 rfl rfl)
theorem dX6_rota_12 : decode cX6_rota 12 = .ok (.getfield 162, 3) := dk_180 0 162 (dk_at dksX6_rota_0 12 rfl rfl)
theorem dX6_rota_15 : decode cX6_rota 15 = .ok (.if_icmp .le 5, 3) := dk_164 0 5 (dk_at dksX6_rota_0 15 rfl rfl)
theorem dX6_rota_18 : decode cX6_rota 18 = .ok (.iconst (-1), 1) := dk_2 (dk_at dksX6_rota_0 18 rfl rfl)
theorem dX6_rota_19 : decode cX6_rota 19 = .ok (.ireturn, 1) := dk_172 (dk_at dksX6_rota_0 19 rfl rfl)
theorem dX6_rota_20 : decode cX6_rota 20 = .ok (.aload_n 0, 1) := dk_42 (dk_at dksX6_rota_0 20 rfl rfl)
theorem dX6_rota_21 : decode cX6_rota 21 = .ok (.iload_n 1, 1) := dk_27 (dk_at dksX6_rota_0 21 rfl rfl)
theorem dX6_rota_22 : decode cX6_rota 22 = .ok (.invokevirtual 253, 3) := dk_182 0 253 (dk_at dksX6_rota_1 0 rfl rfl)
theorem dX6_rota_25 : decode cX6_rota 25 = .ok (.aload_n 0, 1) := dk_42 (dk_at dksX6_rota_1 3 rfl rfl)
theorem dX6_rota_26 : decode cX6_rota 26 = .ok (.iconst 0, 1) := dk_3 (dk_at dksX6_rota_1 4 rfl rfl)
theorem dX6_rota_27 : decode cX6_rota 27 = .ok (.putfield 299, 3) := dk_181 1 43 (dk_at dksX6_rota_1 5 rfl rfl)
theorem dX6_rota_30 : decode cX6_rota 30 = .ok (.aload_n 0, 1) := dk_42 (dk_at dksX6_rota_1 8 rfl rfl)
theorem dX6_rota_31 : decode cX6_rota 31 = .ok (.iconst 0, 1) := dk_3 (dk_at dksX6_rota_1 9 rfl rfl)
theorem dX6_rota_32 : decode cX6_rota 32 = .ok (.putfield 305, 3) := dk_181 1 49 (dk_at dksX6_rota_1 10 rfl rfl)
theorem dX6_rota_35 : decode cX6_rota 35 = .ok (.aload_n 0, 1) := dk_42 (dk_at dksX6_rota_1 13 rfl rfl)
theorem dX6_rota_36 : decode cX6_rota 36 = .ok (.invokevirtual 311, 3) := dk_182 1 55 (dk_at dksX6_rota_1 14 rfl rfl)
theorem dX6_rota_39 : decode cX6_rota 39 = .ok (.istore_n 2, 1) := dk_61 (dk_at dksX6_rota_1 17 rfl rfl)
theorem dX6_rota_40 : decode cX6_rota 40 = .ok (.iload_n 2, 1) := dk_28 (dk_at dksX6_rota_1 18 rfl rfl)
theorem dX6_rota_41 : decode cX6_rota 41 = .ok (.ifCond .eq 29, 3) := dk_153 0 29 (dk_at dksX6_rota_1 19 rfl rfl)
theorem dX6_rota_44 : decode cX6_rota 44 = .ok (.aload_n 0, 1) := dk_42 (dk_at dksX6_rota_1 22 rfl rfl)
theorem dX6_rota_45 : decode cX6_rota 45 = .ok (.getfield 169, 3) := dk_180 0 169 (dk_at dksX6_rota_2 0 rfl rfl)
theorem dX6_rota_48 : decode cX6_rota 48 = .ok (.aload_n 0, 1) := dk_42 (dk_at dksX6_rota_2 3 rfl rfl)
theorem dX6_rota_49 : decode cX6_rota 49 = .ok (.getfield 172, 3) := dk_180 0 172 (dk_at dksX6_rota_2 4 rfl rfl)
theorem dX6_rota_52 : decode cX6_rota 52 = .ok (.if_icmp .lt 10, 3) := dk_161 0 10 (dk_at dksX6_rota_2 7 rfl rfl)
theorem dX6_rota_55 : decode cX6_rota 55 = .ok (.aload_n 0, 1) := dk_42 (dk_at dksX6_rota_2 10 rfl rfl)
theorem dX6_rota_56 : decode cX6_rota 56 = .ok (.getfield 305, 3) := dk_180 1 49 (dk_at dksX6_rota_2 11 rfl rfl)
theorem dX6_rota_59 : decode cX6_rota 59 = .ok (.ifCond .le 11, 3) := dk_158 0 11 (dk_at dksX6_rota_2 14 rfl rfl)
theorem dX6_rota_62 : decode cX6_rota 62 = .ok (.aload_n 0, 1) := dk_42 (dk_at dksX6_rota_2 17 rfl rfl)
theorem dX6_rota_63 : decode cX6_rota 63 = .ok (.invokevirtual 311, 3) := dk_182 1 55 (dk_at dksX6_rota_2 18 rfl rfl)
theorem dX6_rota_66 : decode cX6_rota 66 = .ok (.istore_n 2, 1) := dk_61 (dk_at dksX6_rota_2 21 rfl rfl)
theorem dX6_rota_67 : decode cX6_rota 67 = .ok (.goto (-27), 3) := dk_167 255 229 (dk_at dksX6_rota_3 0 rfl rfl)
theorem dX6_rota_70 : decode cX6_rota 70 = .ok (.iload_n 2, 1) := dk_28 (dk_at dksX6_rota_3 3 rfl rfl)
theorem dX6_rota_71 : decode cX6_rota 71 = .ok (.ifCond .eq 14, 3) := dk_153 0 14 (dk_at dksX6_rota_3 4 rfl rfl)
theorem dX6_rota_74 : decode cX6_rota 74 = .ok (.aload_n 0, 1) := dk_42 (dk_at dksX6_rota_3 7 rfl rfl)
theorem dX6_rota_75 : decode cX6_rota 75 = .ok (.invokevirtual 314, 3) := dk_182 1 58 (dk_at dksX6_rota_3 8 rfl rfl)
theorem dX6_rota_78 : decode cX6_rota 78 = .ok (.ifCond .eq 7, 3) := dk_153 0 7 (dk_at dksX6_rota_3 11 rfl rfl)
theorem dX6_rota_81 : decode cX6_rota 81 = .ok (.iconst 1, 1) := dk_4 (dk_at dksX6_rota_3 14 rfl rfl)
theorem dX6_rota_82 : decode cX6_rota 82 = .ok (.goto 4, 3) := dk_167 0 4 (dk_at dksX6_rota_3 15 rfl rfl)
theorem dX6_rota_85 : decode cX6_rota 85 = .ok (.iconst 0, 1) := dk_3 (dk_at dksX6_rota_3 18 rfl rfl)
theorem dX6_rota_86 : decode cX6_rota 86 = .ok (.istore_n 2, 1) := dk_61 (dk_at dksX6_rota_3 19 rfl rfl)
theorem dX6_rota_87 : decode cX6_rota 87 = .ok (.aload_n 0, 1) := dk_42 (dk_at dksX6_rota_3 20 rfl rfl)
theorem dX6_rota_88 : decode cX6_rota 88 = .ok (.iconst 0, 1) := dk_3 (dk_at dksX6_rota_3 21 rfl rfl)
theorem dX6_rota_89 : decode cX6_rota 89 = .ok (.putfield 162, 3) := dk_181 0 162 (dk_at dksX6_rota_4 0 rfl rfl)
theorem dX6_rota_92 : decode cX6_rota 92 = .ok (.iload_n 2, 1) := dk_28 (dk_at dksX6_rota_4 3 rfl rfl)
theorem dX6_rota_93 : decode cX6_rota 93 = .ok (.ifCond .ne 8, 3) := dk_154 0 8 (dk_at dksX6_rota_4 4 rfl rfl)
theorem dX6_rota_96 : decode cX6_rota 96 = .ok (.aload_n 0, 1) := dk_42 (dk_at dksX6_rota_4 7 rfl rfl)
theorem dX6_rota_97 : decode cX6_rota 97 = .ok (.getfield 179, 3) := dk_180 0 179 (dk_at dksX6_rota_4 8 rfl rfl)
theorem dX6_rota_100 : decode cX6_rota 100 = .ok (.ireturn, 1) := dk_172 (dk_at dksX6_rota_4 11 rfl rfl)
theorem dX6_rota_101 : decode cX6_rota 101 = .ok (.iconst 0, 1) := dk_3 (dk_at dksX6_rota_4 12 rfl rfl)
theorem dX6_rota_102 : decode cX6_rota 102 = .ok (.istore_n 3, 1) := dk_62 (dk_at dksX6_rota_4 13 rfl rfl)
theorem dX6_rota_103 : decode cX6_rota 103 = .ok (.iload_n 3, 1) := dk_29 (dk_at dksX6_rota_4 14 rfl rfl)
theorem dX6_rota_104 : decode cX6_rota 104 = .ok (.bipush 12, 2) := dk_16 12 (dk_at dksX6_rota_4 15 rfl rfl)
theorem dX6_rota_106 : decode cX6_rota 106 = .ok (.if_icmp .ge 33, 3) := dk_162 0 33 (dk_at dksX6_rota_4 17 rfl rfl)
theorem dX6_rota_109 : decode cX6_rota 109 = .ok (.aload_n 0, 1) := dk_42 (dk_at dksX6_rota_4 20 rfl rfl)
theorem dX6_rota_110 : decode cX6_rota 110 = .ok (.getfield 19, 3) := dk_180 0 19 (dk_at dksX6_rota_4 21 rfl rfl)
theorem dX6_rota_113 : decode cX6_rota 113 = .ok (.iload_n 3, 1) := dk_29 (dk_at dksX6_rota_5 0 rfl rfl)
theorem dX6_rota_114 : decode cX6_rota 114 = .ok (.iload_n 3, 1) := dk_29 (dk_at dksX6_rota_5 1 rfl rfl)
theorem dX6_rota_115 : decode cX6_rota 115 = .ok (.aload_n 0, 1) := dk_42 (dk_at dksX6_rota_5 2 rfl rfl)
theorem dX6_rota_116 : decode cX6_rota 116 = .ok (.getfield 299, 3) := dk_180 1 43 (dk_at dksX6_rota_5 3 rfl rfl)
theorem dX6_rota_119 : decode cX6_rota 119 = .ok (.if_icmp .ge 12, 3) := dk_162 0 12 (dk_at dksX6_rota_5 6 rfl rfl)
theorem dX6_rota_122 : decode cX6_rota 122 = .ok (.aload_n 0, 1) := dk_42 (dk_at dksX6_rota_5 9 rfl rfl)
theorem dX6_rota_123 : decode cX6_rota 123 = .ok (.getfield 89, 3) := dk_180 0 89 (dk_at dksX6_rota_5 10 rfl rfl)
theorem dX6_rota_126 : decode cX6_rota 126 = .ok (.iload_n 3, 1) := dk_29 (dk_at dksX6_rota_5 13 rfl rfl)
theorem dX6_rota_127 : decode cX6_rota 127 = .ok (.iaload, 1) := dk_46 (dk_at dksX6_rota_5 14 rfl rfl)
theorem dX6_rota_128 : decode cX6_rota 128 = .ok (.goto 4, 3) := dk_167 0 4 (dk_at dksX6_rota_5 15 rfl rfl)
theorem dX6_rota_131 : decode cX6_rota 131 = .ok (.iconst (-1), 1) := dk_2 (dk_at dksX6_rota_5 18 rfl rfl)
theorem dX6_rota_132 : decode cX6_rota 132 = .ok (.iastore, 1) := dk_79 (dk_at dksX6_rota_5 19 rfl rfl)
theorem dX6_rota_133 : decode cX6_rota 133 = .ok (.iinc 3 1, 3) := dk_132 3 1 (dk_at dksX6_rota_5 20 rfl rfl)
theorem dX6_rota_136 : decode cX6_rota 136 = .ok (.goto (-33), 3) := dk_167 255 223 (dk_at dksX6_rota_6 0 rfl rfl)
theorem dX6_rota_139 : decode cX6_rota 139 = .ok (.aload_n 0, 1) := dk_42 (dk_at dksX6_rota_6 3 rfl rfl)
theorem dX6_rota_140 : decode cX6_rota 140 = .ok (.getfield 299, 3) := dk_180 1 43 (dk_at dksX6_rota_6 4 rfl rfl)
theorem dX6_rota_143 : decode cX6_rota 143 = .ok (.ireturn, 1) := dk_172 (dk_at dksX6_rota_6 7 rfl rfl)
abbrev cX6_readsTurn : ByteArray := prog_20_method_54_code
def yX6_readsTurn : MethodName := ⟨RX6, "readsTurn", "()Z"⟩
def dkwX6_readsTurn_13 : List UInt8 := [180, 1, 49, 46, 182, 1, 52, 154, 255, 189, 3, 172, 4, 172]
abbrev dktX6_readsTurn_13 : List UInt8 := dkwX6_readsTurn_13 ++ []
def dkwX6_readsTurn_12 : List UInt8 := [180, 0, 98, 42, 180, 1, 49, 46, 42, 180, 0, 101, 42, 180, 1, 49, 46, 42, 180, 0, 95, 42]
abbrev dktX6_readsTurn_12 : List UInt8 := dkwX6_readsTurn_12 ++ dktX6_readsTurn_13
def dkwX6_readsTurn_11 : List UInt8 := [42, 42, 180, 0, 169, 4, 96, 181, 0, 169, 42, 42, 180, 1, 49, 4, 100, 181, 1, 49, 42, 42]
abbrev dktX6_readsTurn_11 : List UInt8 := dkwX6_readsTurn_11 ++ dktX6_readsTurn_12
def dkwX6_readsTurn_10 : List UInt8 := [182, 1, 52, 154, 0, 5, 3, 172, 42, 182, 0, 175, 16, 41, 160, 0, 66, 42, 180, 1, 49, 158, 0, 59]
abbrev dktX6_readsTurn_10 : List UInt8 := dkwX6_readsTurn_10 ++ dktX6_readsTurn_11
def dkwX6_readsTurn_9 : List UInt8 := [96, 181, 0, 169, 42, 42, 180, 1, 43, 4, 96, 181, 1, 43, 42, 42, 180, 1, 43, 4, 100, 28, 27]
abbrev dktX6_readsTurn_9 : List UInt8 := dkwX6_readsTurn_9 ++ dktX6_readsTurn_10
def dkwX6_readsTurn_8 : List UInt8 := [180, 1, 43, 29, 79, 42, 180, 0, 92, 42, 180, 1, 43, 42, 180, 0, 169, 79, 42, 42, 180, 0, 169, 4]
abbrev dktX6_readsTurn_8 : List UInt8 := dkwX6_readsTurn_8 ++ dktX6_readsTurn_9
def dkwX6_readsTurn_7 : List UInt8 := [180, 1, 43, 28, 96, 16, 12, 164, 0, 11, 42, 16, 6, 27, 182, 0, 182, 172, 42, 180, 0, 89, 42]
abbrev dktX6_readsTurn_7 : List UInt8 := dkwX6_readsTurn_7 ++ dktX6_readsTurn_8
def dkwX6_readsTurn_6 : List UInt8 := [160, 0, 22, 42, 182, 0, 175, 16, 45, 159, 0, 13, 42, 4, 42, 180, 0, 169, 182, 0, 182, 172, 42]
abbrev dktX6_readsTurn_6 : List UInt8 := dkwX6_readsTurn_6 ++ dktX6_readsTurn_7
def dkwX6_readsTurn_5 : List UInt8 := [167, 0, 10, 42, 182, 0, 175, 16, 97, 100, 62, 29, 2, 16, 15, 184, 0, 134, 153, 0, 17, 29, 2]
abbrev dktX6_readsTurn_5 : List UInt8 := dkwX6_readsTurn_5 ++ dktX6_readsTurn_6
def dkwX6_readsTurn_4 : List UInt8 := [167, 255, 166, 42, 180, 1, 37, 60, 42, 180, 1, 40, 61, 42, 182, 0, 175, 16, 45, 160, 0, 7, 2]
abbrev dktX6_readsTurn_4 : List UInt8 := dkwX6_readsTurn_4 ++ dktX6_readsTurn_5
def dkwX6_readsTurn_3 : List UInt8 := [180, 1, 49, 4, 96, 181, 1, 49, 42, 42, 180, 0, 169, 4, 96, 181, 0, 169, 42, 182, 1, 46]
abbrev dktX6_readsTurn_3 : List UInt8 := dkwX6_readsTurn_3 ++ dktX6_readsTurn_4
def dkwX6_readsTurn_2 : List UInt8 := [42, 180, 1, 49, 42, 180, 1, 43, 79, 42, 180, 0, 101, 42, 180, 1, 49, 42, 180, 1, 40, 79, 42, 42]
abbrev dktX6_readsTurn_2 : List UInt8 := dkwX6_readsTurn_2 ++ dktX6_readsTurn_3
def dkwX6_readsTurn_1 : List UInt8 := [180, 0, 169, 182, 0, 182, 172, 42, 180, 0, 95, 42, 180, 1, 49, 42, 180, 1, 37, 79, 42, 180, 0, 98]
abbrev dktX6_readsTurn_1 : List UInt8 := dkwX6_readsTurn_1 ++ dktX6_readsTurn_2
def dkwX6_readsTurn_0 : List UInt8 := [42, 182, 1, 46, 42, 182, 0, 175, 16, 40, 160, 0, 87, 42, 180, 1, 49, 5, 160, 0, 13, 42, 8, 42]
abbrev dktX6_readsTurn_0 : List UInt8 := dkwX6_readsTurn_0 ++ dktX6_readsTurn_1
theorem dksX6_readsTurn_0 : cX6_readsTurn.data.toList.drop 0 = dktX6_readsTurn_0 := by decide +kernel
theorem dksX6_readsTurn_1 : cX6_readsTurn.data.toList.drop 24 = dktX6_readsTurn_1 := dk_seg dksX6_readsTurn_0 24 rfl rfl
theorem dksX6_readsTurn_2 : cX6_readsTurn.data.toList.drop 48 = dktX6_readsTurn_2 := dk_seg dksX6_readsTurn_1 24 rfl rfl
theorem dksX6_readsTurn_3 : cX6_readsTurn.data.toList.drop 72 = dktX6_readsTurn_3 := dk_seg dksX6_readsTurn_2 24 rfl rfl
theorem dksX6_readsTurn_4 : cX6_readsTurn.data.toList.drop 94 = dktX6_readsTurn_4 := dk_seg dksX6_readsTurn_3 22 rfl rfl
theorem dksX6_readsTurn_5 : cX6_readsTurn.data.toList.drop 117 = dktX6_readsTurn_5 := dk_seg dksX6_readsTurn_4 23 rfl rfl
theorem dksX6_readsTurn_6 : cX6_readsTurn.data.toList.drop 140 = dktX6_readsTurn_6 := dk_seg dksX6_readsTurn_5 23 rfl rfl
theorem dksX6_readsTurn_7 : cX6_readsTurn.data.toList.drop 163 = dktX6_readsTurn_7 := dk_seg dksX6_readsTurn_6 23 rfl rfl
theorem dksX6_readsTurn_8 : cX6_readsTurn.data.toList.drop 186 = dktX6_readsTurn_8 := dk_seg dksX6_readsTurn_7 23 rfl rfl
theorem dksX6_readsTurn_9 : cX6_readsTurn.data.toList.drop 210 = dktX6_readsTurn_9 := dk_seg dksX6_readsTurn_8 24 rfl rfl
theorem dksX6_readsTurn_10 : cX6_readsTurn.data.toList.drop 233 = dktX6_readsTurn_10 := dk_seg dksX6_readsTurn_9 23 rfl rfl
theorem dksX6_readsTurn_11 : cX6_readsTurn.data.toList.drop 257 = dktX6_readsTurn_11 := dk_seg dksX6_readsTurn_10 24 rfl rfl
theorem dksX6_readsTurn_12 : cX6_readsTurn.data.toList.drop 279 = dktX6_readsTurn_12 := dk_seg dksX6_readsTurn_11 22 rfl rfl
theorem dksX6_readsTurn_13 : cX6_readsTurn.data.toList.drop 301 = dktX6_readsTurn_13 := dk_seg dksX6_readsTurn_12 22 rfl rfl
theorem dX6_readsTurn_0 : decode cX6_readsTurn 0 = .ok (.aload_n 0, 1) := dk_42 (dk_at dksX6_readsTurn_0 0 rfl rfl)
theorem dX6_readsTurn_1 : decode cX6_readsTurn 1 = .ok (.invokevirtual 302, 3) := dk_182 1 46 (dk_at dksX6_readsTurn_0 1 rfl rfl)
theorem dX6_readsTurn_4 : decode cX6_readsTurn 4 = .ok (.aload_n 0, 1) := dk_42 (dk_at dksX6_readsTurn_0 4 rfl rfl)
theorem dX6_readsTurn_5 : decode cX6_readsTurn 5 = .ok (.invokevirtual 175, 3) := dk_182 0 175 (dk_at dksX6_readsTurn_0 5 rfl rfl)
theorem dX6_readsTurn_8 : decode cX6_readsTurn 8 = .ok (.bipush 40, 2) := dk_16 40 (dk_at dksX6_readsTurn_0 8 rfl rfl)
theorem dX6_readsTurn_10 : decode cX6_readsTurn 10 = .ok (.if_icmp .ne 87, 3) := dk_160 0 87 (dk_at dksX6_readsTurn_0 10 rfl rfl)
theorem dX6_readsTurn_13 : decode cX6_readsTurn 13 = .ok (.aload_n 0, 1) := dk_42 (dk_at dksX6_readsTurn_0 13 rfl rfl)
theorem dX6_readsTurn_14 : decode cX6_readsTurn 14 = .ok (.getfield 305, 3) := dk_180 1 49 (dk_at dksX6_readsTurn_0 14 rfl rfl)
theorem dX6_readsTurn_17 : decode cX6_readsTurn 17 = .ok (.iconst 2, 1) := dk_5 (dk_at dksX6_readsTurn_0 17 rfl rfl)
theorem dX6_readsTurn_18 : decode cX6_readsTurn 18 = .ok (.if_icmp .ne 13, 3) := dk_160 0 13 (dk_at dksX6_readsTurn_0 18 rfl rfl)
theorem dX6_readsTurn_21 : decode cX6_readsTurn 21 = .ok (.aload_n 0, 1) := dk_42 (dk_at dksX6_readsTurn_0 21 rfl rfl)
theorem dX6_readsTurn_22 : decode cX6_readsTurn 22 = .ok (.iconst 5, 1) := dk_8 (dk_at dksX6_readsTurn_0 22 rfl rfl)
theorem dX6_readsTurn_23 : decode cX6_readsTurn 23 = .ok (.aload_n 0, 1) := dk_42 (dk_at dksX6_readsTurn_0 23 rfl rfl)
theorem dX6_readsTurn_24 : decode cX6_readsTurn 24 = .ok (.getfield 169, 3) := dk_180 0 169 (dk_at dksX6_readsTurn_1 0 rfl rfl)
theorem dX6_readsTurn_27 : decode cX6_readsTurn 27 = .ok (.invokevirtual 182, 3) := dk_182 0 182 (dk_at dksX6_readsTurn_1 3 rfl rfl)
theorem dX6_readsTurn_30 : decode cX6_readsTurn 30 = .ok (.ireturn, 1) := dk_172 (dk_at dksX6_readsTurn_1 6 rfl rfl)
theorem dX6_readsTurn_31 : decode cX6_readsTurn 31 = .ok (.aload_n 0, 1) := dk_42 (dk_at dksX6_readsTurn_1 7 rfl rfl)
theorem dX6_readsTurn_32 : decode cX6_readsTurn 32 = .ok (.getfield 95, 3) := dk_180 0 95 (dk_at dksX6_readsTurn_1 8 rfl rfl)
theorem dX6_readsTurn_35 : decode cX6_readsTurn 35 = .ok (.aload_n 0, 1) := dk_42 (dk_at dksX6_readsTurn_1 11 rfl rfl)
theorem dX6_readsTurn_36 : decode cX6_readsTurn 36 = .ok (.getfield 305, 3) := dk_180 1 49 (dk_at dksX6_readsTurn_1 12 rfl rfl)
theorem dX6_readsTurn_39 : decode cX6_readsTurn 39 = .ok (.aload_n 0, 1) := dk_42 (dk_at dksX6_readsTurn_1 15 rfl rfl)
theorem dX6_readsTurn_40 : decode cX6_readsTurn 40 = .ok (.getfield 293, 3) := dk_180 1 37 (dk_at dksX6_readsTurn_1 16 rfl rfl)
theorem dX6_readsTurn_43 : decode cX6_readsTurn 43 = .ok (.iastore, 1) := dk_79 (dk_at dksX6_readsTurn_1 19 rfl rfl)
theorem dX6_readsTurn_44 : decode cX6_readsTurn 44 = .ok (.aload_n 0, 1) := dk_42 (dk_at dksX6_readsTurn_1 20 rfl rfl)
theorem dX6_readsTurn_45 : decode cX6_readsTurn 45 = .ok (.getfield 98, 3) := dk_180 0 98 (dk_at dksX6_readsTurn_1 21 rfl rfl)
theorem dX6_readsTurn_48 : decode cX6_readsTurn 48 = .ok (.aload_n 0, 1) := dk_42 (dk_at dksX6_readsTurn_2 0 rfl rfl)
theorem dX6_readsTurn_49 : decode cX6_readsTurn 49 = .ok (.getfield 305, 3) := dk_180 1 49 (dk_at dksX6_readsTurn_2 1 rfl rfl)
theorem dX6_readsTurn_52 : decode cX6_readsTurn 52 = .ok (.aload_n 0, 1) := dk_42 (dk_at dksX6_readsTurn_2 4 rfl rfl)
theorem dX6_readsTurn_53 : decode cX6_readsTurn 53 = .ok (.getfield 299, 3) := dk_180 1 43 (dk_at dksX6_readsTurn_2 5 rfl rfl)
theorem dX6_readsTurn_56 : decode cX6_readsTurn 56 = .ok (.iastore, 1) := dk_79 (dk_at dksX6_readsTurn_2 8 rfl rfl)
theorem dX6_readsTurn_57 : decode cX6_readsTurn 57 = .ok (.aload_n 0, 1) := dk_42 (dk_at dksX6_readsTurn_2 9 rfl rfl)
theorem dX6_readsTurn_58 : decode cX6_readsTurn 58 = .ok (.getfield 101, 3) := dk_180 0 101 (dk_at dksX6_readsTurn_2 10 rfl rfl)
theorem dX6_readsTurn_61 : decode cX6_readsTurn 61 = .ok (.aload_n 0, 1) := dk_42 (dk_at dksX6_readsTurn_2 13 rfl rfl)
theorem dX6_readsTurn_62 : decode cX6_readsTurn 62 = .ok (.getfield 305, 3) := dk_180 1 49 (dk_at dksX6_readsTurn_2 14 rfl rfl)
theorem dX6_readsTurn_65 : decode cX6_readsTurn 65 = .ok (.aload_n 0, 1) := dk_42 (dk_at dksX6_readsTurn_2 17 rfl rfl)
theorem dX6_readsTurn_66 : decode cX6_readsTurn 66 = .ok (.getfield 296, 3) := dk_180 1 40 (dk_at dksX6_readsTurn_2 18 rfl rfl)
theorem dX6_readsTurn_69 : decode cX6_readsTurn 69 = .ok (.iastore, 1) := dk_79 (dk_at dksX6_readsTurn_2 21 rfl rfl)
theorem dX6_readsTurn_70 : decode cX6_readsTurn 70 = .ok (.aload_n 0, 1) := dk_42 (dk_at dksX6_readsTurn_2 22 rfl rfl)
theorem dX6_readsTurn_71 : decode cX6_readsTurn 71 = .ok (.aload_n 0, 1) := dk_42 (dk_at dksX6_readsTurn_2 23 rfl rfl)
theorem dX6_readsTurn_72 : decode cX6_readsTurn 72 = .ok (.getfield 305, 3) := dk_180 1 49 (dk_at dksX6_readsTurn_3 0 rfl rfl)
theorem dX6_readsTurn_75 : decode cX6_readsTurn 75 = .ok (.iconst 1, 1) := dk_4 (dk_at dksX6_readsTurn_3 3 rfl rfl)
theorem dX6_readsTurn_76 : decode cX6_readsTurn 76 = .ok (.iadd, 1) := dk_96 (dk_at dksX6_readsTurn_3 4 rfl rfl)
theorem dX6_readsTurn_77 : decode cX6_readsTurn 77 = .ok (.putfield 305, 3) := dk_181 1 49 (dk_at dksX6_readsTurn_3 5 rfl rfl)
theorem dX6_readsTurn_80 : decode cX6_readsTurn 80 = .ok (.aload_n 0, 1) := dk_42 (dk_at dksX6_readsTurn_3 8 rfl rfl)
theorem dX6_readsTurn_81 : decode cX6_readsTurn 81 = .ok (.aload_n 0, 1) := dk_42 (dk_at dksX6_readsTurn_3 9 rfl rfl)
theorem dX6_readsTurn_82 : decode cX6_readsTurn 82 = .ok (.getfield 169, 3) := dk_180 0 169 (dk_at dksX6_readsTurn_3 10 rfl rfl)
theorem dX6_readsTurn_85 : decode cX6_readsTurn 85 = .ok (.iconst 1, 1) := dk_4 (dk_at dksX6_readsTurn_3 13 rfl rfl)
theorem dX6_readsTurn_86 : decode cX6_readsTurn 86 = .ok (.iadd, 1) := dk_96 (dk_at dksX6_readsTurn_3 14 rfl rfl)
theorem dX6_readsTurn_87 : decode cX6_readsTurn 87 = .ok (.putfield 169, 3) := dk_181 0 169 (dk_at dksX6_readsTurn_3 15 rfl rfl)
theorem dX6_readsTurn_90 : decode cX6_readsTurn 90 = .ok (.aload_n 0, 1) := dk_42 (dk_at dksX6_readsTurn_3 18 rfl rfl)
theorem dX6_readsTurn_91 : decode cX6_readsTurn 91 = .ok (.invokevirtual 302, 3) := dk_182 1 46 (dk_at dksX6_readsTurn_3 19 rfl rfl)
theorem dX6_readsTurn_94 : decode cX6_readsTurn 94 = .ok (.goto (-90), 3) := dk_167 255 166 (dk_at dksX6_readsTurn_4 0 rfl rfl)
theorem dX6_readsTurn_97 : decode cX6_readsTurn 97 = .ok (.aload_n 0, 1) := dk_42 (dk_at dksX6_readsTurn_4 3 rfl rfl)
theorem dX6_readsTurn_98 : decode cX6_readsTurn 98 = .ok (.getfield 293, 3) := dk_180 1 37 (dk_at dksX6_readsTurn_4 4 rfl rfl)
theorem dX6_readsTurn_101 : decode cX6_readsTurn 101 = .ok (.istore_n 1, 1) := dk_60 (dk_at dksX6_readsTurn_4 7 rfl rfl)
theorem dX6_readsTurn_102 : decode cX6_readsTurn 102 = .ok (.aload_n 0, 1) := dk_42 (dk_at dksX6_readsTurn_4 8 rfl rfl)
theorem dX6_readsTurn_103 : decode cX6_readsTurn 103 = .ok (.getfield 296, 3) := dk_180 1 40 (dk_at dksX6_readsTurn_4 9 rfl rfl)
theorem dX6_readsTurn_106 : decode cX6_readsTurn 106 = .ok (.istore_n 2, 1) := dk_61 (dk_at dksX6_readsTurn_4 12 rfl rfl)
theorem dX6_readsTurn_107 : decode cX6_readsTurn 107 = .ok (.aload_n 0, 1) := dk_42 (dk_at dksX6_readsTurn_4 13 rfl rfl)
theorem dX6_readsTurn_108 : decode cX6_readsTurn 108 = .ok (.invokevirtual 175, 3) := dk_182 0 175 (dk_at dksX6_readsTurn_4 14 rfl rfl)
theorem dX6_readsTurn_111 : decode cX6_readsTurn 111 = .ok (.bipush 45, 2) := dk_16 45 (dk_at dksX6_readsTurn_4 17 rfl rfl)
theorem dX6_readsTurn_113 : decode cX6_readsTurn 113 = .ok (.if_icmp .ne 7, 3) := dk_160 0 7 (dk_at dksX6_readsTurn_4 19 rfl rfl)
theorem dX6_readsTurn_116 : decode cX6_readsTurn 116 = .ok (.iconst (-1), 1) := dk_2 (dk_at dksX6_readsTurn_4 22 rfl rfl)
theorem dX6_readsTurn_117 : decode cX6_readsTurn 117 = .ok (.goto 10, 3) := dk_167 0 10 (dk_at dksX6_readsTurn_5 0 rfl rfl)
theorem dX6_readsTurn_120 : decode cX6_readsTurn 120 = .ok (.aload_n 0, 1) := dk_42 (dk_at dksX6_readsTurn_5 3 rfl rfl)
theorem dX6_readsTurn_121 : decode cX6_readsTurn 121 = .ok (.invokevirtual 175, 3) := dk_182 0 175 (dk_at dksX6_readsTurn_5 4 rfl rfl)
theorem dX6_readsTurn_124 : decode cX6_readsTurn 124 = .ok (.bipush 97, 2) := dk_16 97 (dk_at dksX6_readsTurn_5 7 rfl rfl)
theorem dX6_readsTurn_126 : decode cX6_readsTurn 126 = .ok (.isub, 1) := dk_100 (dk_at dksX6_readsTurn_5 9 rfl rfl)
theorem dX6_readsTurn_127 : decode cX6_readsTurn 127 = .ok (.istore_n 3, 1) := dk_62 (dk_at dksX6_readsTurn_5 10 rfl rfl)
theorem dX6_readsTurn_128 : decode cX6_readsTurn 128 = .ok (.iload_n 3, 1) := dk_29 (dk_at dksX6_readsTurn_5 11 rfl rfl)
theorem dX6_readsTurn_129 : decode cX6_readsTurn 129 = .ok (.iconst (-1), 1) := dk_2 (dk_at dksX6_readsTurn_5 12 rfl rfl)
theorem dX6_readsTurn_130 : decode cX6_readsTurn 130 = .ok (.bipush 15, 2) := dk_16 15 (dk_at dksX6_readsTurn_5 13 rfl rfl)
theorem dX6_readsTurn_132 : decode cX6_readsTurn 132 = .ok (.invokestatic 134, 3) := dk_184 0 134 (dk_at dksX6_readsTurn_5 15 rfl rfl)
theorem dX6_readsTurn_135 : decode cX6_readsTurn 135 = .ok (.ifCond .eq 17, 3) := dk_153 0 17 (dk_at dksX6_readsTurn_5 18 rfl rfl)
theorem dX6_readsTurn_138 : decode cX6_readsTurn 138 = .ok (.iload_n 3, 1) := dk_29 (dk_at dksX6_readsTurn_5 21 rfl rfl)
theorem dX6_readsTurn_139 : decode cX6_readsTurn 139 = .ok (.iconst (-1), 1) := dk_2 (dk_at dksX6_readsTurn_5 22 rfl rfl)
theorem dX6_readsTurn_140 : decode cX6_readsTurn 140 = .ok (.if_icmp .ne 22, 3) := dk_160 0 22 (dk_at dksX6_readsTurn_6 0 rfl rfl)
theorem dX6_readsTurn_143 : decode cX6_readsTurn 143 = .ok (.aload_n 0, 1) := dk_42 (dk_at dksX6_readsTurn_6 3 rfl rfl)
theorem dX6_readsTurn_144 : decode cX6_readsTurn 144 = .ok (.invokevirtual 175, 3) := dk_182 0 175 (dk_at dksX6_readsTurn_6 4 rfl rfl)
theorem dX6_readsTurn_147 : decode cX6_readsTurn 147 = .ok (.bipush 45, 2) := dk_16 45 (dk_at dksX6_readsTurn_6 7 rfl rfl)
theorem dX6_readsTurn_149 : decode cX6_readsTurn 149 = .ok (.if_icmp .eq 13, 3) := dk_159 0 13 (dk_at dksX6_readsTurn_6 9 rfl rfl)
theorem dX6_readsTurn_152 : decode cX6_readsTurn 152 = .ok (.aload_n 0, 1) := dk_42 (dk_at dksX6_readsTurn_6 12 rfl rfl)
theorem dX6_readsTurn_153 : decode cX6_readsTurn 153 = .ok (.iconst 1, 1) := dk_4 (dk_at dksX6_readsTurn_6 13 rfl rfl)
theorem dX6_readsTurn_154 : decode cX6_readsTurn 154 = .ok (.aload_n 0, 1) := dk_42 (dk_at dksX6_readsTurn_6 14 rfl rfl)
theorem dX6_readsTurn_155 : decode cX6_readsTurn 155 = .ok (.getfield 169, 3) := dk_180 0 169 (dk_at dksX6_readsTurn_6 15 rfl rfl)
theorem dX6_readsTurn_158 : decode cX6_readsTurn 158 = .ok (.invokevirtual 182, 3) := dk_182 0 182 (dk_at dksX6_readsTurn_6 18 rfl rfl)
theorem dX6_readsTurn_161 : decode cX6_readsTurn 161 = .ok (.ireturn, 1) := dk_172 (dk_at dksX6_readsTurn_6 21 rfl rfl)
theorem dX6_readsTurn_162 : decode cX6_readsTurn 162 = .ok (.aload_n 0, 1) := dk_42 (dk_at dksX6_readsTurn_6 22 rfl rfl)
theorem dX6_readsTurn_163 : decode cX6_readsTurn 163 = .ok (.getfield 299, 3) := dk_180 1 43 (dk_at dksX6_readsTurn_7 0 rfl rfl)
theorem dX6_readsTurn_166 : decode cX6_readsTurn 166 = .ok (.iload_n 2, 1) := dk_28 (dk_at dksX6_readsTurn_7 3 rfl rfl)
theorem dX6_readsTurn_167 : decode cX6_readsTurn 167 = .ok (.iadd, 1) := dk_96 (dk_at dksX6_readsTurn_7 4 rfl rfl)
theorem dX6_readsTurn_168 : decode cX6_readsTurn 168 = .ok (.bipush 12, 2) := dk_16 12 (dk_at dksX6_readsTurn_7 5 rfl rfl)
theorem dX6_readsTurn_170 : decode cX6_readsTurn 170 = .ok (.if_icmp .le 11, 3) := dk_164 0 11 (dk_at dksX6_readsTurn_7 7 rfl rfl)
theorem dX6_readsTurn_173 : decode cX6_readsTurn 173 = .ok (.aload_n 0, 1) := dk_42 (dk_at dksX6_readsTurn_7 10 rfl rfl)
theorem dX6_readsTurn_174 : decode cX6_readsTurn 174 = .ok (.bipush 6, 2) := dk_16 6 (dk_at dksX6_readsTurn_7 11 rfl rfl)
theorem dX6_readsTurn_176 : decode cX6_readsTurn 176 = .ok (.iload_n 1, 1) := dk_27 (dk_at dksX6_readsTurn_7 13 rfl rfl)
theorem dX6_readsTurn_177 : decode cX6_readsTurn 177 = .ok (.invokevirtual 182, 3) := dk_182 0 182 (dk_at dksX6_readsTurn_7 14 rfl rfl)
theorem dX6_readsTurn_180 : decode cX6_readsTurn 180 = .ok (.ireturn, 1) := dk_172 (dk_at dksX6_readsTurn_7 17 rfl rfl)
theorem dX6_readsTurn_181 : decode cX6_readsTurn 181 = .ok (.aload_n 0, 1) := dk_42 (dk_at dksX6_readsTurn_7 18 rfl rfl)
theorem dX6_readsTurn_182 : decode cX6_readsTurn 182 = .ok (.getfield 89, 3) := dk_180 0 89 (dk_at dksX6_readsTurn_7 19 rfl rfl)
theorem dX6_readsTurn_185 : decode cX6_readsTurn 185 = .ok (.aload_n 0, 1) := dk_42 (dk_at dksX6_readsTurn_7 22 rfl rfl)
theorem dX6_readsTurn_186 : decode cX6_readsTurn 186 = .ok (.getfield 299, 3) := dk_180 1 43 (dk_at dksX6_readsTurn_8 0 rfl rfl)
theorem dX6_readsTurn_189 : decode cX6_readsTurn 189 = .ok (.iload_n 3, 1) := dk_29 (dk_at dksX6_readsTurn_8 3 rfl rfl)
theorem dX6_readsTurn_190 : decode cX6_readsTurn 190 = .ok (.iastore, 1) := dk_79 (dk_at dksX6_readsTurn_8 4 rfl rfl)
theorem dX6_readsTurn_191 : decode cX6_readsTurn 191 = .ok (.aload_n 0, 1) := dk_42 (dk_at dksX6_readsTurn_8 5 rfl rfl)
theorem dX6_readsTurn_192 : decode cX6_readsTurn 192 = .ok (.getfield 92, 3) := dk_180 0 92 (dk_at dksX6_readsTurn_8 6 rfl rfl)
theorem dX6_readsTurn_195 : decode cX6_readsTurn 195 = .ok (.aload_n 0, 1) := dk_42 (dk_at dksX6_readsTurn_8 9 rfl rfl)
theorem dX6_readsTurn_196 : decode cX6_readsTurn 196 = .ok (.getfield 299, 3) := dk_180 1 43 (dk_at dksX6_readsTurn_8 10 rfl rfl)
theorem dX6_readsTurn_199 : decode cX6_readsTurn 199 = .ok (.aload_n 0, 1) := dk_42 (dk_at dksX6_readsTurn_8 13 rfl rfl)
theorem dX6_readsTurn_200 : decode cX6_readsTurn 200 = .ok (.getfield 169, 3) := dk_180 0 169 (dk_at dksX6_readsTurn_8 14 rfl rfl)
theorem dX6_readsTurn_203 : decode cX6_readsTurn 203 = .ok (.iastore, 1) := dk_79 (dk_at dksX6_readsTurn_8 17 rfl rfl)
theorem dX6_readsTurn_204 : decode cX6_readsTurn 204 = .ok (.aload_n 0, 1) := dk_42 (dk_at dksX6_readsTurn_8 18 rfl rfl)
theorem dX6_readsTurn_205 : decode cX6_readsTurn 205 = .ok (.aload_n 0, 1) := dk_42 (dk_at dksX6_readsTurn_8 19 rfl rfl)
theorem dX6_readsTurn_206 : decode cX6_readsTurn 206 = .ok (.getfield 169, 3) := dk_180 0 169 (dk_at dksX6_readsTurn_8 20 rfl rfl)
theorem dX6_readsTurn_209 : decode cX6_readsTurn 209 = .ok (.iconst 1, 1) := dk_4 (dk_at dksX6_readsTurn_8 23 rfl rfl)
theorem dX6_readsTurn_210 : decode cX6_readsTurn 210 = .ok (.iadd, 1) := dk_96 (dk_at dksX6_readsTurn_9 0 rfl rfl)
theorem dX6_readsTurn_211 : decode cX6_readsTurn 211 = .ok (.putfield 169, 3) := dk_181 0 169 (dk_at dksX6_readsTurn_9 1 rfl rfl)
theorem dX6_readsTurn_214 : decode cX6_readsTurn 214 = .ok (.aload_n 0, 1) := dk_42 (dk_at dksX6_readsTurn_9 4 rfl rfl)
theorem dX6_readsTurn_215 : decode cX6_readsTurn 215 = .ok (.aload_n 0, 1) := dk_42 (dk_at dksX6_readsTurn_9 5 rfl rfl)
theorem dX6_readsTurn_216 : decode cX6_readsTurn 216 = .ok (.getfield 299, 3) := dk_180 1 43 (dk_at dksX6_readsTurn_9 6 rfl rfl)
theorem dX6_readsTurn_219 : decode cX6_readsTurn 219 = .ok (.iconst 1, 1) := dk_4 (dk_at dksX6_readsTurn_9 9 rfl rfl)
theorem dX6_readsTurn_220 : decode cX6_readsTurn 220 = .ok (.iadd, 1) := dk_96 (dk_at dksX6_readsTurn_9 10 rfl rfl)
theorem dX6_readsTurn_221 : decode cX6_readsTurn 221 = .ok (.putfield 299, 3) := dk_181 1 43 (dk_at dksX6_readsTurn_9 11 rfl rfl)
theorem dX6_readsTurn_224 : decode cX6_readsTurn 224 = .ok (.aload_n 0, 1) := dk_42 (dk_at dksX6_readsTurn_9 14 rfl rfl)
theorem dX6_readsTurn_225 : decode cX6_readsTurn 225 = .ok (.aload_n 0, 1) := dk_42 (dk_at dksX6_readsTurn_9 15 rfl rfl)
theorem dX6_readsTurn_226 : decode cX6_readsTurn 226 = .ok (.getfield 299, 3) := dk_180 1 43 (dk_at dksX6_readsTurn_9 16 rfl rfl)
theorem dX6_readsTurn_229 : decode cX6_readsTurn 229 = .ok (.iconst 1, 1) := dk_4 (dk_at dksX6_readsTurn_9 19 rfl rfl)
theorem dX6_readsTurn_230 : decode cX6_readsTurn 230 = .ok (.isub, 1) := dk_100 (dk_at dksX6_readsTurn_9 20 rfl rfl)
theorem dX6_readsTurn_231 : decode cX6_readsTurn 231 = .ok (.iload_n 2, 1) := dk_28 (dk_at dksX6_readsTurn_9 21 rfl rfl)
theorem dX6_readsTurn_232 : decode cX6_readsTurn 232 = .ok (.iload_n 1, 1) := dk_27 (dk_at dksX6_readsTurn_9 22 rfl rfl)
theorem dX6_readsTurn_233 : decode cX6_readsTurn 233 = .ok (.invokevirtual 308, 3) := dk_182 1 52 (dk_at dksX6_readsTurn_10 0 rfl rfl)
theorem dX6_readsTurn_236 : decode cX6_readsTurn 236 = .ok (.ifCond .ne 5, 3) := dk_154 0 5 (dk_at dksX6_readsTurn_10 3 rfl rfl)
theorem dX6_readsTurn_239 : decode cX6_readsTurn 239 = .ok (.iconst 0, 1) := dk_3 (dk_at dksX6_readsTurn_10 6 rfl rfl)
theorem dX6_readsTurn_240 : decode cX6_readsTurn 240 = .ok (.ireturn, 1) := dk_172 (dk_at dksX6_readsTurn_10 7 rfl rfl)
theorem dX6_readsTurn_241 : decode cX6_readsTurn 241 = .ok (.aload_n 0, 1) := dk_42 (dk_at dksX6_readsTurn_10 8 rfl rfl)
theorem dX6_readsTurn_242 : decode cX6_readsTurn 242 = .ok (.invokevirtual 175, 3) := dk_182 0 175 (dk_at dksX6_readsTurn_10 9 rfl rfl)
theorem dX6_readsTurn_245 : decode cX6_readsTurn 245 = .ok (.bipush 41, 2) := dk_16 41 (dk_at dksX6_readsTurn_10 12 rfl rfl)
theorem dX6_readsTurn_247 : decode cX6_readsTurn 247 = .ok (.if_icmp .ne 66, 3) := dk_160 0 66 (dk_at dksX6_readsTurn_10 14 rfl rfl)
theorem dX6_readsTurn_250 : decode cX6_readsTurn 250 = .ok (.aload_n 0, 1) := dk_42 (dk_at dksX6_readsTurn_10 17 rfl rfl)
theorem dX6_readsTurn_251 : decode cX6_readsTurn 251 = .ok (.getfield 305, 3) := dk_180 1 49 (dk_at dksX6_readsTurn_10 18 rfl rfl)
theorem dX6_readsTurn_254 : decode cX6_readsTurn 254 = .ok (.ifCond .le 59, 3) := dk_158 0 59 (dk_at dksX6_readsTurn_10 21 rfl rfl)
theorem dX6_readsTurn_257 : decode cX6_readsTurn 257 = .ok (.aload_n 0, 1) := dk_42 (dk_at dksX6_readsTurn_11 0 rfl rfl)
theorem dX6_readsTurn_258 : decode cX6_readsTurn 258 = .ok (.aload_n 0, 1) := dk_42 (dk_at dksX6_readsTurn_11 1 rfl rfl)
theorem dX6_readsTurn_259 : decode cX6_readsTurn 259 = .ok (.getfield 169, 3) := dk_180 0 169 (dk_at dksX6_readsTurn_11 2 rfl rfl)
theorem dX6_readsTurn_262 : decode cX6_readsTurn 262 = .ok (.iconst 1, 1) := dk_4 (dk_at dksX6_readsTurn_11 5 rfl rfl)
theorem dX6_readsTurn_263 : decode cX6_readsTurn 263 = .ok (.iadd, 1) := dk_96 (dk_at dksX6_readsTurn_11 6 rfl rfl)
theorem dX6_readsTurn_264 : decode cX6_readsTurn 264 = .ok (.putfield 169, 3) := dk_181 0 169 (dk_at dksX6_readsTurn_11 7 rfl rfl)
theorem dX6_readsTurn_267 : decode cX6_readsTurn 267 = .ok (.aload_n 0, 1) := dk_42 (dk_at dksX6_readsTurn_11 10 rfl rfl)
theorem dX6_readsTurn_268 : decode cX6_readsTurn 268 = .ok (.aload_n 0, 1) := dk_42 (dk_at dksX6_readsTurn_11 11 rfl rfl)
theorem dX6_readsTurn_269 : decode cX6_readsTurn 269 = .ok (.getfield 305, 3) := dk_180 1 49 (dk_at dksX6_readsTurn_11 12 rfl rfl)
theorem dX6_readsTurn_272 : decode cX6_readsTurn 272 = .ok (.iconst 1, 1) := dk_4 (dk_at dksX6_readsTurn_11 15 rfl rfl)
theorem dX6_readsTurn_273 : decode cX6_readsTurn 273 = .ok (.isub, 1) := dk_100 (dk_at dksX6_readsTurn_11 16 rfl rfl)
theorem dX6_readsTurn_274 : decode cX6_readsTurn 274 = .ok (.putfield 305, 3) := dk_181 1 49 (dk_at dksX6_readsTurn_11 17 rfl rfl)
theorem dX6_readsTurn_277 : decode cX6_readsTurn 277 = .ok (.aload_n 0, 1) := dk_42 (dk_at dksX6_readsTurn_11 20 rfl rfl)
theorem dX6_readsTurn_278 : decode cX6_readsTurn 278 = .ok (.aload_n 0, 1) := dk_42 (dk_at dksX6_readsTurn_11 21 rfl rfl)
theorem dX6_readsTurn_279 : decode cX6_readsTurn 279 = .ok (.getfield 98, 3) := dk_180 0 98 (dk_at dksX6_readsTurn_12 0 rfl rfl)
theorem dX6_readsTurn_282 : decode cX6_readsTurn 282 = .ok (.aload_n 0, 1) := dk_42 (dk_at dksX6_readsTurn_12 3 rfl rfl)
theorem dX6_readsTurn_283 : decode cX6_readsTurn 283 = .ok (.getfield 305, 3) := dk_180 1 49 (dk_at dksX6_readsTurn_12 4 rfl rfl)
theorem dX6_readsTurn_286 : decode cX6_readsTurn 286 = .ok (.iaload, 1) := dk_46 (dk_at dksX6_readsTurn_12 7 rfl rfl)
theorem dX6_readsTurn_287 : decode cX6_readsTurn 287 = .ok (.aload_n 0, 1) := dk_42 (dk_at dksX6_readsTurn_12 8 rfl rfl)
theorem dX6_readsTurn_288 : decode cX6_readsTurn 288 = .ok (.getfield 101, 3) := dk_180 0 101 (dk_at dksX6_readsTurn_12 9 rfl rfl)
theorem dX6_readsTurn_291 : decode cX6_readsTurn 291 = .ok (.aload_n 0, 1) := dk_42 (dk_at dksX6_readsTurn_12 12 rfl rfl)
theorem dX6_readsTurn_292 : decode cX6_readsTurn 292 = .ok (.getfield 305, 3) := dk_180 1 49 (dk_at dksX6_readsTurn_12 13 rfl rfl)
theorem dX6_readsTurn_295 : decode cX6_readsTurn 295 = .ok (.iaload, 1) := dk_46 (dk_at dksX6_readsTurn_12 16 rfl rfl)
theorem dX6_readsTurn_296 : decode cX6_readsTurn 296 = .ok (.aload_n 0, 1) := dk_42 (dk_at dksX6_readsTurn_12 17 rfl rfl)
theorem dX6_readsTurn_297 : decode cX6_readsTurn 297 = .ok (.getfield 95, 3) := dk_180 0 95 (dk_at dksX6_readsTurn_12 18 rfl rfl)
theorem dX6_readsTurn_300 : decode cX6_readsTurn 300 = .ok (.aload_n 0, 1) := dk_42 (dk_at dksX6_readsTurn_12 21 rfl rfl)
theorem dX6_readsTurn_301 : decode cX6_readsTurn 301 = .ok (.getfield 305, 3) := dk_180 1 49 (dk_at dksX6_readsTurn_13 0 rfl rfl)
theorem dX6_readsTurn_304 : decode cX6_readsTurn 304 = .ok (.iaload, 1) := dk_46 (dk_at dksX6_readsTurn_13 3 rfl rfl)
theorem dX6_readsTurn_305 : decode cX6_readsTurn 305 = .ok (.invokevirtual 308, 3) := dk_182 1 52 (dk_at dksX6_readsTurn_13 4 rfl rfl)
theorem dX6_readsTurn_308 : decode cX6_readsTurn 308 = .ok (.ifCond .ne (-67), 3) := dk_154 255 189 (dk_at dksX6_readsTurn_13 7 rfl rfl)
theorem dX6_readsTurn_311 : decode cX6_readsTurn 311 = .ok (.iconst 0, 1) := dk_3 (dk_at dksX6_readsTurn_13 10 rfl rfl)
theorem dX6_readsTurn_312 : decode cX6_readsTurn 312 = .ok (.ireturn, 1) := dk_172 (dk_at dksX6_readsTurn_13 11 rfl rfl)
theorem dX6_readsTurn_313 : decode cX6_readsTurn 313 = .ok (.iconst 1, 1) := dk_4 (dk_at dksX6_readsTurn_13 12 rfl rfl)
theorem dX6_readsTurn_314 : decode cX6_readsTurn 314 = .ok (.ireturn, 1) := dk_172 (dk_at dksX6_readsTurn_13 13 rfl rfl)
abbrev cX6_readsTimes : ByteArray := prog_20_method_52_code
def yX6_readsTimes : MethodName := ⟨RX6, "readsTimes", "()V"⟩
def dkwX6_readsTimes_2 : List UInt8 := [181, 0, 169, 177]
abbrev dktX6_readsTimes_2 : List UInt8 := dkwX6_readsTimes_2 ++ []
def dkwX6_readsTimes_1 : List UInt8 := [154, 0, 4, 177, 42, 42, 182, 0, 175, 16, 48, 100, 181, 1, 40, 42, 42, 180, 0, 169, 4, 96]
abbrev dktX6_readsTimes_1 : List UInt8 := dkwX6_readsTimes_1 ++ dktX6_readsTimes_2
def dkwX6_readsTimes_0 : List UInt8 := [42, 42, 180, 0, 169, 181, 1, 37, 42, 4, 181, 1, 40, 42, 182, 0, 175, 16, 50, 16, 57, 184, 0, 134]
abbrev dktX6_readsTimes_0 : List UInt8 := dkwX6_readsTimes_0 ++ dktX6_readsTimes_1
theorem dksX6_readsTimes_0 : cX6_readsTimes.data.toList.drop 0 = dktX6_readsTimes_0 := by decide +kernel
theorem dksX6_readsTimes_1 : cX6_readsTimes.data.toList.drop 24 = dktX6_readsTimes_1 := dk_seg dksX6_readsTimes_0 24 rfl rfl
theorem dksX6_readsTimes_2 : cX6_readsTimes.data.toList.drop 46 = dktX6_readsTimes_2 := dk_seg dksX6_readsTimes_1 22 rfl rfl
theorem dX6_readsTimes_0 : decode cX6_readsTimes 0 = .ok (.aload_n 0, 1) := dk_42 (dk_at dksX6_readsTimes_0 0 rfl rfl)
theorem dX6_readsTimes_1 : decode cX6_readsTimes 1 = .ok (.aload_n 0, 1) := dk_42 (dk_at dksX6_readsTimes_0 1 rfl rfl)
theorem dX6_readsTimes_2 : decode cX6_readsTimes 2 = .ok (.getfield 169, 3) := dk_180 0 169 (dk_at dksX6_readsTimes_0 2 rfl rfl)
theorem dX6_readsTimes_5 : decode cX6_readsTimes 5 = .ok (.putfield 293, 3) := dk_181 1 37 (dk_at dksX6_readsTimes_0 5 rfl rfl)
theorem dX6_readsTimes_8 : decode cX6_readsTimes 8 = .ok (.aload_n 0, 1) := dk_42 (dk_at dksX6_readsTimes_0 8 rfl rfl)
theorem dX6_readsTimes_9 : decode cX6_readsTimes 9 = .ok (.iconst 1, 1) := dk_4 (dk_at dksX6_readsTimes_0 9 rfl rfl)
theorem dX6_readsTimes_10 : decode cX6_readsTimes 10 = .ok (.putfield 296, 3) := dk_181 1 40 (dk_at dksX6_readsTimes_0 10 rfl rfl)
theorem dX6_readsTimes_13 : decode cX6_readsTimes 13 = .ok (.aload_n 0, 1) := dk_42 (dk_at dksX6_readsTimes_0 13 rfl rfl)
theorem dX6_readsTimes_14 : decode cX6_readsTimes 14 = .ok (.invokevirtual 175, 3) := dk_182 0 175 (dk_at dksX6_readsTimes_0 14 rfl rfl)
theorem dX6_readsTimes_17 : decode cX6_readsTimes 17 = .ok (.bipush 50, 2) := dk_16 50 (dk_at dksX6_readsTimes_0 17 rfl rfl)
theorem dX6_readsTimes_19 : decode cX6_readsTimes 19 = .ok (.bipush 57, 2) := dk_16 57 (dk_at dksX6_readsTimes_0 19 rfl rfl)
theorem dX6_readsTimes_21 : decode cX6_readsTimes 21 = .ok (.invokestatic 134, 3) := dk_184 0 134 (dk_at dksX6_readsTimes_0 21 rfl rfl)
theorem dX6_readsTimes_24 : decode cX6_readsTimes 24 = .ok (.ifCond .ne 4, 3) := dk_154 0 4 (dk_at dksX6_readsTimes_1 0 rfl rfl)
theorem dX6_readsTimes_27 : decode cX6_readsTimes 27 = .ok (.return_, 1) := dk_177 (dk_at dksX6_readsTimes_1 3 rfl rfl)
theorem dX6_readsTimes_28 : decode cX6_readsTimes 28 = .ok (.aload_n 0, 1) := dk_42 (dk_at dksX6_readsTimes_1 4 rfl rfl)
theorem dX6_readsTimes_29 : decode cX6_readsTimes 29 = .ok (.aload_n 0, 1) := dk_42 (dk_at dksX6_readsTimes_1 5 rfl rfl)
theorem dX6_readsTimes_30 : decode cX6_readsTimes 30 = .ok (.invokevirtual 175, 3) := dk_182 0 175 (dk_at dksX6_readsTimes_1 6 rfl rfl)
theorem dX6_readsTimes_33 : decode cX6_readsTimes 33 = .ok (.bipush 48, 2) := dk_16 48 (dk_at dksX6_readsTimes_1 9 rfl rfl)
theorem dX6_readsTimes_35 : decode cX6_readsTimes 35 = .ok (.isub, 1) := dk_100 (dk_at dksX6_readsTimes_1 11 rfl rfl)
theorem dX6_readsTimes_36 : decode cX6_readsTimes 36 = .ok (.putfield 296, 3) := dk_181 1 40 (dk_at dksX6_readsTimes_1 12 rfl rfl)
theorem dX6_readsTimes_39 : decode cX6_readsTimes 39 = .ok (.aload_n 0, 1) := dk_42 (dk_at dksX6_readsTimes_1 15 rfl rfl)
theorem dX6_readsTimes_40 : decode cX6_readsTimes 40 = .ok (.aload_n 0, 1) := dk_42 (dk_at dksX6_readsTimes_1 16 rfl rfl)
theorem dX6_readsTimes_41 : decode cX6_readsTimes 41 = .ok (.getfield 169, 3) := dk_180 0 169 (dk_at dksX6_readsTimes_1 17 rfl rfl)
theorem dX6_readsTimes_44 : decode cX6_readsTimes 44 = .ok (.iconst 1, 1) := dk_4 (dk_at dksX6_readsTimes_1 20 rfl rfl)
theorem dX6_readsTimes_45 : decode cX6_readsTimes 45 = .ok (.iadd, 1) := dk_96 (dk_at dksX6_readsTimes_1 21 rfl rfl)
theorem dX6_readsTimes_46 : decode cX6_readsTimes 46 = .ok (.putfield 169, 3) := dk_181 0 169 (dk_at dksX6_readsTimes_2 0 rfl rfl)
theorem dX6_readsTimes_49 : decode cX6_readsTimes 49 = .ok (.return_, 1) := dk_177 (dk_at dksX6_readsTimes_2 3 rfl rfl)
abbrev cX6_repeats : ByteArray := prog_20_method_53_code
def yX6_repeats : MethodName := ⟨RX6, "repeats", "(III)Z"⟩
def dkwX6_repeats_4 : List UInt8 := [181, 1, 43, 4, 172]
abbrev dktX6_repeats_4 : List UInt8 := dkwX6_repeats_4 ++ []
def dkwX6_repeats_3 : List UInt8 := [180, 0, 92, 21, 5, 21, 4, 100, 46, 79, 132, 5, 1, 167, 255, 208, 42, 27, 21, 4, 28, 104, 96]
abbrev dktX6_repeats_3 : List UInt8 := dkwX6_repeats_3 ++ dktX6_repeats_4
def dkwX6_repeats_2 : List UInt8 := [180, 0, 89, 21, 5, 42, 180, 0, 89, 21, 5, 21, 4, 100, 46, 79, 42, 180, 0, 92, 21, 5, 42]
abbrev dktX6_repeats_2 : List UInt8 := dkwX6_repeats_2 ++ dktX6_repeats_3
def dkwX6_repeats_1 : List UInt8 := [182, 0, 182, 172, 27, 21, 4, 96, 54, 5, 21, 5, 27, 21, 4, 28, 104, 96, 162, 0, 43, 42]
abbrev dktX6_repeats_1 : List UInt8 := dkwX6_repeats_1 ++ dktX6_repeats_2
def dkwX6_repeats_0 : List UInt8 := [42, 180, 1, 43, 27, 100, 54, 4, 27, 21, 4, 28, 104, 96, 16, 12, 164, 0, 11, 42, 16, 6, 29]
abbrev dktX6_repeats_0 : List UInt8 := dkwX6_repeats_0 ++ dktX6_repeats_1
theorem dksX6_repeats_0 : cX6_repeats.data.toList.drop 0 = dktX6_repeats_0 := by decide +kernel
theorem dksX6_repeats_1 : cX6_repeats.data.toList.drop 23 = dktX6_repeats_1 := dk_seg dksX6_repeats_0 23 rfl rfl
theorem dksX6_repeats_2 : cX6_repeats.data.toList.drop 45 = dktX6_repeats_2 := dk_seg dksX6_repeats_1 22 rfl rfl
theorem dksX6_repeats_3 : cX6_repeats.data.toList.drop 68 = dktX6_repeats_3 := dk_seg dksX6_repeats_2 23 rfl rfl
theorem dksX6_repeats_4 : cX6_repeats.data.toList.drop 91 = dktX6_repeats_4 := dk_seg dksX6_repeats_3 23 rfl rfl
theorem dX6_repeats_0 : decode cX6_repeats 0 = .ok (.aload_n 0, 1) := dk_42 (dk_at dksX6_repeats_0 0 rfl rfl)
theorem dX6_repeats_1 : decode cX6_repeats 1 = .ok (.getfield 299, 3) := dk_180 1 43 (dk_at dksX6_repeats_0 1 rfl rfl)
theorem dX6_repeats_4 : decode cX6_repeats 4 = .ok (.iload_n 1, 1) := dk_27 (dk_at dksX6_repeats_0 4 rfl rfl)
theorem dX6_repeats_5 : decode cX6_repeats 5 = .ok (.isub, 1) := dk_100 (dk_at dksX6_repeats_0 5 rfl rfl)
theorem dX6_repeats_6 : decode cX6_repeats 6 = .ok (.istore 4, 2) := dk_54 4 (dk_at dksX6_repeats_0 6 rfl rfl)
theorem dX6_repeats_8 : decode cX6_repeats 8 = .ok (.iload_n 1, 1) := dk_27 (dk_at dksX6_repeats_0 8 rfl rfl)
theorem dX6_repeats_9 : decode cX6_repeats 9 = .ok (.iload 4, 2) := dk_21 4 (dk_at dksX6_repeats_0 9 rfl rfl)
theorem dX6_repeats_11 : decode cX6_repeats 11 = .ok (.iload_n 2, 1) := dk_28 (dk_at dksX6_repeats_0 11 rfl rfl)
theorem dX6_repeats_12 : decode cX6_repeats 12 = .ok (.imul, 1) := dk_104 (dk_at dksX6_repeats_0 12 rfl rfl)
theorem dX6_repeats_13 : decode cX6_repeats 13 = .ok (.iadd, 1) := dk_96 (dk_at dksX6_repeats_0 13 rfl rfl)
theorem dX6_repeats_14 : decode cX6_repeats 14 = .ok (.bipush 12, 2) := dk_16 12 (dk_at dksX6_repeats_0 14 rfl rfl)
theorem dX6_repeats_16 : decode cX6_repeats 16 = .ok (.if_icmp .le 11, 3) := dk_164 0 11 (dk_at dksX6_repeats_0 16 rfl rfl)
theorem dX6_repeats_19 : decode cX6_repeats 19 = .ok (.aload_n 0, 1) := dk_42 (dk_at dksX6_repeats_0 19 rfl rfl)
theorem dX6_repeats_20 : decode cX6_repeats 20 = .ok (.bipush 6, 2) := dk_16 6 (dk_at dksX6_repeats_0 20 rfl rfl)
theorem dX6_repeats_22 : decode cX6_repeats 22 = .ok (.iload_n 3, 1) := dk_29 (dk_at dksX6_repeats_0 22 rfl rfl)
theorem dX6_repeats_23 : decode cX6_repeats 23 = .ok (.invokevirtual 182, 3) := dk_182 0 182 (dk_at dksX6_repeats_1 0 rfl rfl)
theorem dX6_repeats_26 : decode cX6_repeats 26 = .ok (.ireturn, 1) := dk_172 (dk_at dksX6_repeats_1 3 rfl rfl)
theorem dX6_repeats_27 : decode cX6_repeats 27 = .ok (.iload_n 1, 1) := dk_27 (dk_at dksX6_repeats_1 4 rfl rfl)
theorem dX6_repeats_28 : decode cX6_repeats 28 = .ok (.iload 4, 2) := dk_21 4 (dk_at dksX6_repeats_1 5 rfl rfl)
theorem dX6_repeats_30 : decode cX6_repeats 30 = .ok (.iadd, 1) := dk_96 (dk_at dksX6_repeats_1 7 rfl rfl)
theorem dX6_repeats_31 : decode cX6_repeats 31 = .ok (.istore 5, 2) := dk_54 5 (dk_at dksX6_repeats_1 8 rfl rfl)
theorem dX6_repeats_33 : decode cX6_repeats 33 = .ok (.iload 5, 2) := dk_21 5 (dk_at dksX6_repeats_1 10 rfl rfl)
theorem dX6_repeats_35 : decode cX6_repeats 35 = .ok (.iload_n 1, 1) := dk_27 (dk_at dksX6_repeats_1 12 rfl rfl)
theorem dX6_repeats_36 : decode cX6_repeats 36 = .ok (.iload 4, 2) := dk_21 4 (dk_at dksX6_repeats_1 13 rfl rfl)
theorem dX6_repeats_38 : decode cX6_repeats 38 = .ok (.iload_n 2, 1) := dk_28 (dk_at dksX6_repeats_1 15 rfl rfl)
theorem dX6_repeats_39 : decode cX6_repeats 39 = .ok (.imul, 1) := dk_104 (dk_at dksX6_repeats_1 16 rfl rfl)
theorem dX6_repeats_40 : decode cX6_repeats 40 = .ok (.iadd, 1) := dk_96 (dk_at dksX6_repeats_1 17 rfl rfl)
theorem dX6_repeats_41 : decode cX6_repeats 41 = .ok (.if_icmp .ge 43, 3) := dk_162 0 43 (dk_at dksX6_repeats_1 18 rfl rfl)
theorem dX6_repeats_44 : decode cX6_repeats 44 = .ok (.aload_n 0, 1) := dk_42 (dk_at dksX6_repeats_1 21 rfl rfl)
theorem dX6_repeats_45 : decode cX6_repeats 45 = .ok (.getfield 89, 3) := dk_180 0 89 (dk_at dksX6_repeats_2 0 rfl rfl)
theorem dX6_repeats_48 : decode cX6_repeats 48 = .ok (.iload 5, 2) := dk_21 5 (dk_at dksX6_repeats_2 3 rfl rfl)
theorem dX6_repeats_50 : decode cX6_repeats 50 = .ok (.aload_n 0, 1) := dk_42 (dk_at dksX6_repeats_2 5 rfl rfl)
theorem dX6_repeats_51 : decode cX6_repeats 51 = .ok (.getfield 89, 3) := dk_180 0 89 (dk_at dksX6_repeats_2 6 rfl rfl)
theorem dX6_repeats_54 : decode cX6_repeats 54 = .ok (.iload 5, 2) := dk_21 5 (dk_at dksX6_repeats_2 9 rfl rfl)
theorem dX6_repeats_56 : decode cX6_repeats 56 = .ok (.iload 4, 2) := dk_21 4 (dk_at dksX6_repeats_2 11 rfl rfl)
theorem dX6_repeats_58 : decode cX6_repeats 58 = .ok (.isub, 1) := dk_100 (dk_at dksX6_repeats_2 13 rfl rfl)
theorem dX6_repeats_59 : decode cX6_repeats 59 = .ok (.iaload, 1) := dk_46 (dk_at dksX6_repeats_2 14 rfl rfl)
theorem dX6_repeats_60 : decode cX6_repeats 60 = .ok (.iastore, 1) := dk_79 (dk_at dksX6_repeats_2 15 rfl rfl)
theorem dX6_repeats_61 : decode cX6_repeats 61 = .ok (.aload_n 0, 1) := dk_42 (dk_at dksX6_repeats_2 16 rfl rfl)
theorem dX6_repeats_62 : decode cX6_repeats 62 = .ok (.getfield 92, 3) := dk_180 0 92 (dk_at dksX6_repeats_2 17 rfl rfl)
theorem dX6_repeats_65 : decode cX6_repeats 65 = .ok (.iload 5, 2) := dk_21 5 (dk_at dksX6_repeats_2 20 rfl rfl)
theorem dX6_repeats_67 : decode cX6_repeats 67 = .ok (.aload_n 0, 1) := dk_42 (dk_at dksX6_repeats_2 22 rfl rfl)
theorem dX6_repeats_68 : decode cX6_repeats 68 = .ok (.getfield 92, 3) := dk_180 0 92 (dk_at dksX6_repeats_3 0 rfl rfl)
theorem dX6_repeats_71 : decode cX6_repeats 71 = .ok (.iload 5, 2) := dk_21 5 (dk_at dksX6_repeats_3 3 rfl rfl)
theorem dX6_repeats_73 : decode cX6_repeats 73 = .ok (.iload 4, 2) := dk_21 4 (dk_at dksX6_repeats_3 5 rfl rfl)
theorem dX6_repeats_75 : decode cX6_repeats 75 = .ok (.isub, 1) := dk_100 (dk_at dksX6_repeats_3 7 rfl rfl)
theorem dX6_repeats_76 : decode cX6_repeats 76 = .ok (.iaload, 1) := dk_46 (dk_at dksX6_repeats_3 8 rfl rfl)
theorem dX6_repeats_77 : decode cX6_repeats 77 = .ok (.iastore, 1) := dk_79 (dk_at dksX6_repeats_3 9 rfl rfl)
theorem dX6_repeats_78 : decode cX6_repeats 78 = .ok (.iinc 5 1, 3) := dk_132 5 1 (dk_at dksX6_repeats_3 10 rfl rfl)
theorem dX6_repeats_81 : decode cX6_repeats 81 = .ok (.goto (-48), 3) := dk_167 255 208 (dk_at dksX6_repeats_3 13 rfl rfl)
theorem dX6_repeats_84 : decode cX6_repeats 84 = .ok (.aload_n 0, 1) := dk_42 (dk_at dksX6_repeats_3 16 rfl rfl)
theorem dX6_repeats_85 : decode cX6_repeats 85 = .ok (.iload_n 1, 1) := dk_27 (dk_at dksX6_repeats_3 17 rfl rfl)
theorem dX6_repeats_86 : decode cX6_repeats 86 = .ok (.iload 4, 2) := dk_21 4 (dk_at dksX6_repeats_3 18 rfl rfl)
theorem dX6_repeats_88 : decode cX6_repeats 88 = .ok (.iload_n 2, 1) := dk_28 (dk_at dksX6_repeats_3 20 rfl rfl)
theorem dX6_repeats_89 : decode cX6_repeats 89 = .ok (.imul, 1) := dk_104 (dk_at dksX6_repeats_3 21 rfl rfl)
theorem dX6_repeats_90 : decode cX6_repeats 90 = .ok (.iadd, 1) := dk_96 (dk_at dksX6_repeats_3 22 rfl rfl)
theorem dX6_repeats_91 : decode cX6_repeats 91 = .ok (.putfield 299, 3) := dk_181 1 43 (dk_at dksX6_repeats_4 0 rfl rfl)
theorem dX6_repeats_94 : decode cX6_repeats 94 = .ok (.iconst 1, 1) := dk_4 (dk_at dksX6_repeats_4 3 rfl rfl)
theorem dX6_repeats_95 : decode cX6_repeats 95 = .ok (.ireturn, 1) := dk_172 (dk_at dksX6_repeats_4 4 rfl rfl)
abbrev cX6_areTold : ByteArray := prog_20_method_55_code
def yX6_areTold : MethodName := ⟨RX6, "areTold", "()Z"⟩
def dkwX6_areTold_2 : List UInt8 := [132, 1, 1, 167, 255, 209, 4, 172]
abbrev dktX6_areTold_2 : List UInt8 := dkwX6_areTold_2 ++ []
def dkwX6_areTold_1 : List UInt8 := [180, 0, 89, 27, 46, 182, 0, 159, 154, 0, 16, 42, 16, 7, 42, 180, 0, 92, 27, 46, 182, 0, 182, 172]
abbrev dktX6_areTold_1 : List UInt8 := dkwX6_areTold_1 ++ dktX6_areTold_2
def dkwX6_areTold_0 : List UInt8 := [3, 60, 27, 42, 180, 1, 43, 162, 0, 45, 42, 180, 0, 89, 27, 46, 2, 159, 0, 29, 42, 42]
abbrev dktX6_areTold_0 : List UInt8 := dkwX6_areTold_0 ++ dktX6_areTold_1
theorem dksX6_areTold_0 : cX6_areTold.data.toList.drop 0 = dktX6_areTold_0 := by decide +kernel
theorem dksX6_areTold_1 : cX6_areTold.data.toList.drop 22 = dktX6_areTold_1 := dk_seg dksX6_areTold_0 22 rfl rfl
theorem dksX6_areTold_2 : cX6_areTold.data.toList.drop 46 = dktX6_areTold_2 := dk_seg dksX6_areTold_1 24 rfl rfl
theorem dX6_areTold_0 : decode cX6_areTold 0 = .ok (.iconst 0, 1) := dk_3 (dk_at dksX6_areTold_0 0 rfl rfl)
theorem dX6_areTold_1 : decode cX6_areTold 1 = .ok (.istore_n 1, 1) := dk_60 (dk_at dksX6_areTold_0 1 rfl rfl)
theorem dX6_areTold_2 : decode cX6_areTold 2 = .ok (.iload_n 1, 1) := dk_27 (dk_at dksX6_areTold_0 2 rfl rfl)
theorem dX6_areTold_3 : decode cX6_areTold 3 = .ok (.aload_n 0, 1) := dk_42 (dk_at dksX6_areTold_0 3 rfl rfl)
theorem dX6_areTold_4 : decode cX6_areTold 4 = .ok (.getfield 299, 3) := dk_180 1 43 (dk_at dksX6_areTold_0 4 rfl rfl)
theorem dX6_areTold_7 : decode cX6_areTold 7 = .ok (.if_icmp .ge 45, 3) := dk_162 0 45 (dk_at dksX6_areTold_0 7 rfl rfl)
theorem dX6_areTold_10 : decode cX6_areTold 10 = .ok (.aload_n 0, 1) := dk_42 (dk_at dksX6_areTold_0 10 rfl rfl)
theorem dX6_areTold_11 : decode cX6_areTold 11 = .ok (.getfield 89, 3) := dk_180 0 89 (dk_at dksX6_areTold_0 11 rfl rfl)
theorem dX6_areTold_14 : decode cX6_areTold 14 = .ok (.iload_n 1, 1) := dk_27 (dk_at dksX6_areTold_0 14 rfl rfl)
theorem dX6_areTold_15 : decode cX6_areTold 15 = .ok (.iaload, 1) := dk_46 (dk_at dksX6_areTold_0 15 rfl rfl)
theorem dX6_areTold_16 : decode cX6_areTold 16 = .ok (.iconst (-1), 1) := dk_2 (dk_at dksX6_areTold_0 16 rfl rfl)
theorem dX6_areTold_17 : decode cX6_areTold 17 = .ok (.if_icmp .eq 29, 3) := dk_159 0 29 (dk_at dksX6_areTold_0 17 rfl rfl)
theorem dX6_areTold_20 : decode cX6_areTold 20 = .ok (.aload_n 0, 1) := dk_42 (dk_at dksX6_areTold_0 20 rfl rfl)
theorem dX6_areTold_21 : decode cX6_areTold 21 = .ok (.aload_n 0, 1) := dk_42 (dk_at dksX6_areTold_0 21 rfl rfl)
theorem dX6_areTold_22 : decode cX6_areTold 22 = .ok (.getfield 89, 3) := dk_180 0 89 (dk_at dksX6_areTold_1 0 rfl rfl)
theorem dX6_areTold_25 : decode cX6_areTold 25 = .ok (.iload_n 1, 1) := dk_27 (dk_at dksX6_areTold_1 3 rfl rfl)
theorem dX6_areTold_26 : decode cX6_areTold 26 = .ok (.iaload, 1) := dk_46 (dk_at dksX6_areTold_1 4 rfl rfl)
theorem dX6_areTold_27 : decode cX6_areTold 27 = .ok (.invokevirtual 159, 3) := dk_182 0 159 (dk_at dksX6_areTold_1 5 rfl rfl)
theorem dX6_areTold_30 : decode cX6_areTold 30 = .ok (.ifCond .ne 16, 3) := dk_154 0 16 (dk_at dksX6_areTold_1 8 rfl rfl)
theorem dX6_areTold_33 : decode cX6_areTold 33 = .ok (.aload_n 0, 1) := dk_42 (dk_at dksX6_areTold_1 11 rfl rfl)
theorem dX6_areTold_34 : decode cX6_areTold 34 = .ok (.bipush 7, 2) := dk_16 7 (dk_at dksX6_areTold_1 12 rfl rfl)
theorem dX6_areTold_36 : decode cX6_areTold 36 = .ok (.aload_n 0, 1) := dk_42 (dk_at dksX6_areTold_1 14 rfl rfl)
theorem dX6_areTold_37 : decode cX6_areTold 37 = .ok (.getfield 92, 3) := dk_180 0 92 (dk_at dksX6_areTold_1 15 rfl rfl)
theorem dX6_areTold_40 : decode cX6_areTold 40 = .ok (.iload_n 1, 1) := dk_27 (dk_at dksX6_areTold_1 18 rfl rfl)
theorem dX6_areTold_41 : decode cX6_areTold 41 = .ok (.iaload, 1) := dk_46 (dk_at dksX6_areTold_1 19 rfl rfl)
theorem dX6_areTold_42 : decode cX6_areTold 42 = .ok (.invokevirtual 182, 3) := dk_182 0 182 (dk_at dksX6_areTold_1 20 rfl rfl)
theorem dX6_areTold_45 : decode cX6_areTold 45 = .ok (.ireturn, 1) := dk_172 (dk_at dksX6_areTold_1 23 rfl rfl)
theorem dX6_areTold_46 : decode cX6_areTold 46 = .ok (.iinc 1 1, 3) := dk_132 1 1 (dk_at dksX6_areTold_2 0 rfl rfl)
theorem dX6_areTold_49 : decode cX6_areTold 49 = .ok (.goto (-47), 3) := dk_167 255 209 (dk_at dksX6_areTold_2 3 rfl rfl)
theorem dX6_areTold_52 : decode cX6_areTold 52 = .ok (.iconst 1, 1) := dk_4 (dk_at dksX6_areTold_2 6 rfl rfl)
theorem dX6_areTold_53 : decode cX6_areTold 53 = .ok (.ireturn, 1) := dk_172 (dk_at dksX6_areTold_2 7 rfl rfl)
abbrev cX6_days : ByteArray := prog_20_method_62_code
def yX6_days : MethodName := ⟨RX6, "days", "(I)I"⟩
def dkwX6_days_0 : List UInt8 := [27, 4, 16, 100, 184, 0, 134, 154, 0, 5, 2, 172, 42, 27, 182, 1, 93, 42, 180, 1, 80, 172]
abbrev dktX6_days_0 : List UInt8 := dkwX6_days_0 ++ []
theorem dksX6_days_0 : cX6_days.data.toList.drop 0 = dktX6_days_0 := by decide +kernel
theorem dX6_days_0 : decode cX6_days 0 = .ok (.iload_n 1, 1) := dk_27 (dk_at dksX6_days_0 0 rfl rfl)
theorem dX6_days_1 : decode cX6_days 1 = .ok (.iconst 1, 1) := dk_4 (dk_at dksX6_days_0 1 rfl rfl)
theorem dX6_days_2 : decode cX6_days 2 = .ok (.bipush 100, 2) := dk_16 100 (dk_at dksX6_days_0 2 rfl rfl)
theorem dX6_days_4 : decode cX6_days 4 = .ok (.invokestatic 134, 3) := dk_184 0 134 (dk_at dksX6_days_0 4 rfl rfl)
theorem dX6_days_7 : decode cX6_days 7 = .ok (.ifCond .ne 5, 3) := dk_154 0 5 (dk_at dksX6_days_0 7 rfl rfl)
theorem dX6_days_10 : decode cX6_days 10 = .ok (.iconst (-1), 1) := dk_2 (dk_at dksX6_days_0 10 rfl rfl)
theorem dX6_days_11 : decode cX6_days 11 = .ok (.ireturn, 1) := dk_172 (dk_at dksX6_days_0 11 rfl rfl)
theorem dX6_days_12 : decode cX6_days 12 = .ok (.aload_n 0, 1) := dk_42 (dk_at dksX6_days_0 12 rfl rfl)
theorem dX6_days_13 : decode cX6_days 13 = .ok (.iload_n 1, 1) := dk_27 (dk_at dksX6_days_0 13 rfl rfl)
theorem dX6_days_14 : decode cX6_days 14 = .ok (.invokevirtual 349, 3) := dk_182 1 93 (dk_at dksX6_days_0 14 rfl rfl)
theorem dX6_days_17 : decode cX6_days 17 = .ok (.aload_n 0, 1) := dk_42 (dk_at dksX6_days_0 17 rfl rfl)
theorem dX6_days_18 : decode cX6_days 18 = .ok (.getfield 336, 3) := dk_180 1 80 (dk_at dksX6_days_0 18 rfl rfl)
theorem dX6_days_21 : decode cX6_days 21 = .ok (.ireturn, 1) := dk_172 (dk_at dksX6_days_0 21 rfl rfl)
abbrev cX6_daysGo : ByteArray := prog_20_method_61_code
def yX6_daysGo : MethodName := ⟨RX6, "daysGo", "(I)V"⟩
def dkwX6_daysGo_1 : List UInt8 := [162, 0, 13, 42, 182, 1, 90, 132, 2, 1, 167, 255, 231, 177]
abbrev dktX6_daysGo_1 : List UInt8 := dkwX6_daysGo_1 ++ []
def dkwX6_daysGo_0 : List UInt8 := [42, 3, 181, 1, 80, 3, 61, 28, 27, 162, 0, 26, 42, 180, 0, 7, 16, 19, 46, 17, 39, 15]
abbrev dktX6_daysGo_0 : List UInt8 := dkwX6_daysGo_0 ++ dktX6_daysGo_1
theorem dksX6_daysGo_0 : cX6_daysGo.data.toList.drop 0 = dktX6_daysGo_0 := by decide +kernel
theorem dksX6_daysGo_1 : cX6_daysGo.data.toList.drop 22 = dktX6_daysGo_1 := dk_seg dksX6_daysGo_0 22 rfl rfl
theorem dX6_daysGo_0 : decode cX6_daysGo 0 = .ok (.aload_n 0, 1) := dk_42 (dk_at dksX6_daysGo_0 0 rfl rfl)
theorem dX6_daysGo_1 : decode cX6_daysGo 1 = .ok (.iconst 0, 1) := dk_3 (dk_at dksX6_daysGo_0 1 rfl rfl)
theorem dX6_daysGo_2 : decode cX6_daysGo 2 = .ok (.putfield 336, 3) := dk_181 1 80 (dk_at dksX6_daysGo_0 2 rfl rfl)
theorem dX6_daysGo_5 : decode cX6_daysGo 5 = .ok (.iconst 0, 1) := dk_3 (dk_at dksX6_daysGo_0 5 rfl rfl)
theorem dX6_daysGo_6 : decode cX6_daysGo 6 = .ok (.istore_n 2, 1) := dk_61 (dk_at dksX6_daysGo_0 6 rfl rfl)
theorem dX6_daysGo_7 : decode cX6_daysGo 7 = .ok (.iload_n 2, 1) := dk_28 (dk_at dksX6_daysGo_0 7 rfl rfl)
theorem dX6_daysGo_8 : decode cX6_daysGo 8 = .ok (.iload_n 1, 1) := dk_27 (dk_at dksX6_daysGo_0 8 rfl rfl)
theorem dX6_daysGo_9 : decode cX6_daysGo 9 = .ok (.if_icmp .ge 26, 3) := dk_162 0 26 (dk_at dksX6_daysGo_0 9 rfl rfl)
theorem dX6_daysGo_12 : decode cX6_daysGo 12 = .ok (.aload_n 0, 1) := dk_42 (dk_at dksX6_daysGo_0 12 rfl rfl)
theorem dX6_daysGo_13 : decode cX6_daysGo 13 = .ok (.getfield 7, 3) := dk_180 0 7 (dk_at dksX6_daysGo_0 13 rfl rfl)
theorem dX6_daysGo_16 : decode cX6_daysGo 16 = .ok (.bipush 19, 2) := dk_16 19 (dk_at dksX6_daysGo_0 16 rfl rfl)
theorem dX6_daysGo_18 : decode cX6_daysGo 18 = .ok (.iaload, 1) := dk_46 (dk_at dksX6_daysGo_0 18 rfl rfl)
theorem dX6_daysGo_19 : decode cX6_daysGo 19 = .ok (.sipush 9999, 3) := dk_17 39 15 (dk_at dksX6_daysGo_0 19 rfl rfl)
theorem dX6_daysGo_22 : decode cX6_daysGo 22 = .ok (.if_icmp .ge 13, 3) := dk_162 0 13 (dk_at dksX6_daysGo_1 0 rfl rfl)
theorem dX6_daysGo_25 : decode cX6_daysGo 25 = .ok (.aload_n 0, 1) := dk_42 (dk_at dksX6_daysGo_1 3 rfl rfl)
theorem dX6_daysGo_26 : decode cX6_daysGo 26 = .ok (.invokevirtual 346, 3) := dk_182 1 90 (dk_at dksX6_daysGo_1 4 rfl rfl)
theorem dX6_daysGo_29 : decode cX6_daysGo 29 = .ok (.iinc 2 1, 3) := dk_132 2 1 (dk_at dksX6_daysGo_1 7 rfl rfl)
theorem dX6_daysGo_32 : decode cX6_daysGo 32 = .ok (.goto (-25), 3) := dk_167 255 231 (dk_at dksX6_daysGo_1 10 rfl rfl)
theorem dX6_daysGo_35 : decode cX6_daysGo 35 = .ok (.return_, 1) := dk_177 (dk_at dksX6_daysGo_1 13 rfl rfl)
abbrev cX6_dayGoes : ByteArray := prog_20_method_60_code
def yX6_dayGoes : MethodName := ⟨RX6, "dayGoes", "()V"⟩
def dkwX6_dayGoes_1 : List UInt8 := [132, 1, 1, 167, 255, 232, 42, 180, 0, 7, 16, 19, 42, 180, 0, 7, 16, 19, 46, 4, 96, 79, 177]
abbrev dktX6_dayGoes_1 : List UInt8 := dkwX6_dayGoes_1 ++ []
def dkwX6_dayGoes_0 : List UInt8 := [3, 60, 27, 16, 12, 162, 0, 24, 42, 180, 0, 19, 27, 46, 2, 159, 0, 8, 42, 27, 182, 1, 87]
abbrev dktX6_dayGoes_0 : List UInt8 := dkwX6_dayGoes_0 ++ dktX6_dayGoes_1
theorem dksX6_dayGoes_0 : cX6_dayGoes.data.toList.drop 0 = dktX6_dayGoes_0 := by decide +kernel
theorem dksX6_dayGoes_1 : cX6_dayGoes.data.toList.drop 23 = dktX6_dayGoes_1 := dk_seg dksX6_dayGoes_0 23 rfl rfl
theorem dX6_dayGoes_0 : decode cX6_dayGoes 0 = .ok (.iconst 0, 1) := dk_3 (dk_at dksX6_dayGoes_0 0 rfl rfl)
theorem dX6_dayGoes_1 : decode cX6_dayGoes 1 = .ok (.istore_n 1, 1) := dk_60 (dk_at dksX6_dayGoes_0 1 rfl rfl)
theorem dX6_dayGoes_2 : decode cX6_dayGoes 2 = .ok (.iload_n 1, 1) := dk_27 (dk_at dksX6_dayGoes_0 2 rfl rfl)
theorem dX6_dayGoes_3 : decode cX6_dayGoes 3 = .ok (.bipush 12, 2) := dk_16 12 (dk_at dksX6_dayGoes_0 3 rfl rfl)
theorem dX6_dayGoes_5 : decode cX6_dayGoes 5 = .ok (.if_icmp .ge 24, 3) := dk_162 0 24 (dk_at dksX6_dayGoes_0 5 rfl rfl)
theorem dX6_dayGoes_8 : decode cX6_dayGoes 8 = .ok (.aload_n 0, 1) := dk_42 (dk_at dksX6_dayGoes_0 8 rfl rfl)
theorem dX6_dayGoes_9 : decode cX6_dayGoes 9 = .ok (.getfield 19, 3) := dk_180 0 19 (dk_at dksX6_dayGoes_0 9 rfl rfl)
theorem dX6_dayGoes_12 : decode cX6_dayGoes 12 = .ok (.iload_n 1, 1) := dk_27 (dk_at dksX6_dayGoes_0 12 rfl rfl)
theorem dX6_dayGoes_13 : decode cX6_dayGoes 13 = .ok (.iaload, 1) := dk_46 (dk_at dksX6_dayGoes_0 13 rfl rfl)
theorem dX6_dayGoes_14 : decode cX6_dayGoes 14 = .ok (.iconst (-1), 1) := dk_2 (dk_at dksX6_dayGoes_0 14 rfl rfl)
theorem dX6_dayGoes_15 : decode cX6_dayGoes 15 = .ok (.if_icmp .eq 8, 3) := dk_159 0 8 (dk_at dksX6_dayGoes_0 15 rfl rfl)
theorem dX6_dayGoes_18 : decode cX6_dayGoes 18 = .ok (.aload_n 0, 1) := dk_42 (dk_at dksX6_dayGoes_0 18 rfl rfl)
theorem dX6_dayGoes_19 : decode cX6_dayGoes 19 = .ok (.iload_n 1, 1) := dk_27 (dk_at dksX6_dayGoes_0 19 rfl rfl)
theorem dX6_dayGoes_20 : decode cX6_dayGoes 20 = .ok (.invokevirtual 343, 3) := dk_182 1 87 (dk_at dksX6_dayGoes_0 20 rfl rfl)
theorem dX6_dayGoes_23 : decode cX6_dayGoes 23 = .ok (.iinc 1 1, 3) := dk_132 1 1 (dk_at dksX6_dayGoes_1 0 rfl rfl)
theorem dX6_dayGoes_26 : decode cX6_dayGoes 26 = .ok (.goto (-24), 3) := dk_167 255 232 (dk_at dksX6_dayGoes_1 3 rfl rfl)
theorem dX6_dayGoes_29 : decode cX6_dayGoes 29 = .ok (.aload_n 0, 1) := dk_42 (dk_at dksX6_dayGoes_1 6 rfl rfl)
theorem dX6_dayGoes_30 : decode cX6_dayGoes 30 = .ok (.getfield 7, 3) := dk_180 0 7 (dk_at dksX6_dayGoes_1 7 rfl rfl)
theorem dX6_dayGoes_33 : decode cX6_dayGoes 33 = .ok (.bipush 19, 2) := dk_16 19 (dk_at dksX6_dayGoes_1 10 rfl rfl)
theorem dX6_dayGoes_35 : decode cX6_dayGoes 35 = .ok (.aload_n 0, 1) := dk_42 (dk_at dksX6_dayGoes_1 12 rfl rfl)
theorem dX6_dayGoes_36 : decode cX6_dayGoes 36 = .ok (.getfield 7, 3) := dk_180 0 7 (dk_at dksX6_dayGoes_1 13 rfl rfl)
theorem dX6_dayGoes_39 : decode cX6_dayGoes 39 = .ok (.bipush 19, 2) := dk_16 19 (dk_at dksX6_dayGoes_1 16 rfl rfl)
theorem dX6_dayGoes_41 : decode cX6_dayGoes 41 = .ok (.iaload, 1) := dk_46 (dk_at dksX6_dayGoes_1 18 rfl rfl)
theorem dX6_dayGoes_42 : decode cX6_dayGoes 42 = .ok (.iconst 1, 1) := dk_4 (dk_at dksX6_dayGoes_1 19 rfl rfl)
theorem dX6_dayGoes_43 : decode cX6_dayGoes 43 = .ok (.iadd, 1) := dk_96 (dk_at dksX6_dayGoes_1 20 rfl rfl)
theorem dX6_dayGoes_44 : decode cX6_dayGoes 44 = .ok (.iastore, 1) := dk_79 (dk_at dksX6_dayGoes_1 21 rfl rfl)
theorem dX6_dayGoes_45 : decode cX6_dayGoes 45 = .ok (.return_, 1) := dk_177 (dk_at dksX6_dayGoes_1 22 rfl rfl)
abbrev cX6_turnGoes : ByteArray := prog_20_method_59_code
def yX6_turnGoes : MethodName := ⟨RX6, "turnGoes", "(I)V"⟩
def dkwX6_turnGoes_5 : List UInt8 := [184, 1, 77, 79, 21, 4, 153, 0, 12, 42, 180, 0, 7, 16, 17, 21, 4, 79, 177]
abbrev dktX6_turnGoes_5 : List UInt8 := dkwX6_turnGoes_5 ++ []
def dkwX6_turnGoes_4 : List UInt8 := [16, 106, 16, 99, 21, 4, 184, 1, 64, 42, 180, 0, 7, 16, 17, 46, 184, 1, 64, 96, 182, 1, 74, 96]
abbrev dktX6_turnGoes_4 : List UInt8 := dkwX6_turnGoes_4 ++ dktX6_turnGoes_5
def dkwX6_turnGoes_3 : List UInt8 := [182, 0, 152, 54, 4, 42, 180, 0, 7, 3, 29, 96, 19, 1, 86, 42, 180, 0, 7, 3, 29, 96, 46, 42]
abbrev dktX6_turnGoes_3 : List UInt8 := dkwX6_turnGoes_3 ++ dktX6_turnGoes_4
def dkwX6_turnGoes_2 : List UInt8 := [42, 180, 0, 7, 16, 16, 46, 62, 29, 2, 160, 0, 4, 177, 42, 29, 27, 28, 182, 1, 67, 42, 29, 27]
abbrev dktX6_turnGoes_2 : List UInt8 := dkwX6_turnGoes_2 ++ dktX6_turnGoes_3
def dkwX6_turnGoes_1 : List UInt8 := [79, 42, 180, 0, 7, 16, 20, 46, 16, 10, 112, 61, 42, 42, 180, 0, 19, 27, 46, 27, 28, 182, 1, 83]
abbrev dktX6_turnGoes_1 : List UInt8 := dkwX6_turnGoes_1 ++ dktX6_turnGoes_2
def dkwX6_turnGoes_0 : List UInt8 := [42, 180, 0, 7, 16, 20, 17, 98, 85, 42, 180, 0, 7, 16, 20, 46, 104, 17, 54, 25, 96, 18, 113, 112]
abbrev dktX6_turnGoes_0 : List UInt8 := dkwX6_turnGoes_0 ++ dktX6_turnGoes_1
theorem dksX6_turnGoes_0 : cX6_turnGoes.data.toList.drop 0 = dktX6_turnGoes_0 := by decide +kernel
theorem dksX6_turnGoes_1 : cX6_turnGoes.data.toList.drop 24 = dktX6_turnGoes_1 := dk_seg dksX6_turnGoes_0 24 rfl rfl
theorem dksX6_turnGoes_2 : cX6_turnGoes.data.toList.drop 48 = dktX6_turnGoes_2 := dk_seg dksX6_turnGoes_1 24 rfl rfl
theorem dksX6_turnGoes_3 : cX6_turnGoes.data.toList.drop 72 = dktX6_turnGoes_3 := dk_seg dksX6_turnGoes_2 24 rfl rfl
theorem dksX6_turnGoes_4 : cX6_turnGoes.data.toList.drop 96 = dktX6_turnGoes_4 := dk_seg dksX6_turnGoes_3 24 rfl rfl
theorem dksX6_turnGoes_5 : cX6_turnGoes.data.toList.drop 120 = dktX6_turnGoes_5 := dk_seg dksX6_turnGoes_4 24 rfl rfl
theorem dX6_turnGoes_0 : decode cX6_turnGoes 0 = .ok (.aload_n 0, 1) := dk_42 (dk_at dksX6_turnGoes_0 0 rfl rfl)
theorem dX6_turnGoes_1 : decode cX6_turnGoes 1 = .ok (.getfield 7, 3) := dk_180 0 7 (dk_at dksX6_turnGoes_0 1 rfl rfl)
theorem dX6_turnGoes_4 : decode cX6_turnGoes 4 = .ok (.bipush 20, 2) := dk_16 20 (dk_at dksX6_turnGoes_0 4 rfl rfl)
theorem dX6_turnGoes_6 : decode cX6_turnGoes 6 = .ok (.sipush 25173, 3) := dk_17 98 85 (dk_at dksX6_turnGoes_0 6 rfl rfl)
theorem dX6_turnGoes_9 : decode cX6_turnGoes 9 = .ok (.aload_n 0, 1) := dk_42 (dk_at dksX6_turnGoes_0 9 rfl rfl)
theorem dX6_turnGoes_10 : decode cX6_turnGoes 10 = .ok (.getfield 7, 3) := dk_180 0 7 (dk_at dksX6_turnGoes_0 10 rfl rfl)
theorem dX6_turnGoes_13 : decode cX6_turnGoes 13 = .ok (.bipush 20, 2) := dk_16 20 (dk_at dksX6_turnGoes_0 13 rfl rfl)
theorem dX6_turnGoes_15 : decode cX6_turnGoes 15 = .ok (.iaload, 1) := dk_46 (dk_at dksX6_turnGoes_0 15 rfl rfl)
theorem dX6_turnGoes_16 : decode cX6_turnGoes 16 = .ok (.imul, 1) := dk_104 (dk_at dksX6_turnGoes_0 16 rfl rfl)
theorem dX6_turnGoes_17 : decode cX6_turnGoes 17 = .ok (.sipush 13849, 3) := dk_17 54 25 (dk_at dksX6_turnGoes_0 17 rfl rfl)
theorem dX6_turnGoes_20 : decode cX6_turnGoes 20 = .ok (.iadd, 1) := dk_96 (dk_at dksX6_turnGoes_0 20 rfl rfl)
theorem dX6_turnGoes_21 : decode cX6_turnGoes 21 = .ok (.ldc 113, 2) := dk_18 113 (dk_at dksX6_turnGoes_0 21 rfl rfl)
theorem dX6_turnGoes_23 : decode cX6_turnGoes 23 = .ok (.irem, 1) := dk_112 (dk_at dksX6_turnGoes_0 23 rfl rfl)
theorem dX6_turnGoes_24 : decode cX6_turnGoes 24 = .ok (.iastore, 1) := dk_79 (dk_at dksX6_turnGoes_1 0 rfl rfl)
theorem dX6_turnGoes_25 : decode cX6_turnGoes 25 = .ok (.aload_n 0, 1) := dk_42 (dk_at dksX6_turnGoes_1 1 rfl rfl)
theorem dX6_turnGoes_26 : decode cX6_turnGoes 26 = .ok (.getfield 7, 3) := dk_180 0 7 (dk_at dksX6_turnGoes_1 2 rfl rfl)
theorem dX6_turnGoes_29 : decode cX6_turnGoes 29 = .ok (.bipush 20, 2) := dk_16 20 (dk_at dksX6_turnGoes_1 5 rfl rfl)
theorem dX6_turnGoes_31 : decode cX6_turnGoes 31 = .ok (.iaload, 1) := dk_46 (dk_at dksX6_turnGoes_1 7 rfl rfl)
theorem dX6_turnGoes_32 : decode cX6_turnGoes 32 = .ok (.bipush 10, 2) := dk_16 10 (dk_at dksX6_turnGoes_1 8 rfl rfl)
theorem dX6_turnGoes_34 : decode cX6_turnGoes 34 = .ok (.irem, 1) := dk_112 (dk_at dksX6_turnGoes_1 10 rfl rfl)
theorem dX6_turnGoes_35 : decode cX6_turnGoes 35 = .ok (.istore_n 2, 1) := dk_61 (dk_at dksX6_turnGoes_1 11 rfl rfl)
theorem dX6_turnGoes_36 : decode cX6_turnGoes 36 = .ok (.aload_n 0, 1) := dk_42 (dk_at dksX6_turnGoes_1 12 rfl rfl)
theorem dX6_turnGoes_37 : decode cX6_turnGoes 37 = .ok (.aload_n 0, 1) := dk_42 (dk_at dksX6_turnGoes_1 13 rfl rfl)
theorem dX6_turnGoes_38 : decode cX6_turnGoes 38 = .ok (.getfield 19, 3) := dk_180 0 19 (dk_at dksX6_turnGoes_1 14 rfl rfl)
theorem dX6_turnGoes_41 : decode cX6_turnGoes 41 = .ok (.iload_n 1, 1) := dk_27 (dk_at dksX6_turnGoes_1 17 rfl rfl)
theorem dX6_turnGoes_42 : decode cX6_turnGoes 42 = .ok (.iaload, 1) := dk_46 (dk_at dksX6_turnGoes_1 18 rfl rfl)
theorem dX6_turnGoes_43 : decode cX6_turnGoes 43 = .ok (.iload_n 1, 1) := dk_27 (dk_at dksX6_turnGoes_1 19 rfl rfl)
theorem dX6_turnGoes_44 : decode cX6_turnGoes 44 = .ok (.iload_n 2, 1) := dk_28 (dk_at dksX6_turnGoes_1 20 rfl rfl)
theorem dX6_turnGoes_45 : decode cX6_turnGoes 45 = .ok (.invokevirtual 339, 3) := dk_182 1 83 (dk_at dksX6_turnGoes_1 21 rfl rfl)
theorem dX6_turnGoes_48 : decode cX6_turnGoes 48 = .ok (.aload_n 0, 1) := dk_42 (dk_at dksX6_turnGoes_2 0 rfl rfl)
theorem dX6_turnGoes_49 : decode cX6_turnGoes 49 = .ok (.getfield 7, 3) := dk_180 0 7 (dk_at dksX6_turnGoes_2 1 rfl rfl)
theorem dX6_turnGoes_52 : decode cX6_turnGoes 52 = .ok (.bipush 16, 2) := dk_16 16 (dk_at dksX6_turnGoes_2 4 rfl rfl)
theorem dX6_turnGoes_54 : decode cX6_turnGoes 54 = .ok (.iaload, 1) := dk_46 (dk_at dksX6_turnGoes_2 6 rfl rfl)
theorem dX6_turnGoes_55 : decode cX6_turnGoes 55 = .ok (.istore_n 3, 1) := dk_62 (dk_at dksX6_turnGoes_2 7 rfl rfl)
theorem dX6_turnGoes_56 : decode cX6_turnGoes 56 = .ok (.iload_n 3, 1) := dk_29 (dk_at dksX6_turnGoes_2 8 rfl rfl)
theorem dX6_turnGoes_57 : decode cX6_turnGoes 57 = .ok (.iconst (-1), 1) := dk_2 (dk_at dksX6_turnGoes_2 9 rfl rfl)
theorem dX6_turnGoes_58 : decode cX6_turnGoes 58 = .ok (.if_icmp .ne 4, 3) := dk_160 0 4 (dk_at dksX6_turnGoes_2 10 rfl rfl)
theorem dX6_turnGoes_61 : decode cX6_turnGoes 61 = .ok (.return_, 1) := dk_177 (dk_at dksX6_turnGoes_2 13 rfl rfl)
theorem dX6_turnGoes_62 : decode cX6_turnGoes 62 = .ok (.aload_n 0, 1) := dk_42 (dk_at dksX6_turnGoes_2 14 rfl rfl)
theorem dX6_turnGoes_63 : decode cX6_turnGoes 63 = .ok (.iload_n 3, 1) := dk_29 (dk_at dksX6_turnGoes_2 15 rfl rfl)
theorem dX6_turnGoes_64 : decode cX6_turnGoes 64 = .ok (.iload_n 1, 1) := dk_27 (dk_at dksX6_turnGoes_2 16 rfl rfl)
theorem dX6_turnGoes_65 : decode cX6_turnGoes 65 = .ok (.iload_n 2, 1) := dk_28 (dk_at dksX6_turnGoes_2 17 rfl rfl)
theorem dX6_turnGoes_66 : decode cX6_turnGoes 66 = .ok (.invokevirtual 323, 3) := dk_182 1 67 (dk_at dksX6_turnGoes_2 18 rfl rfl)
theorem dX6_turnGoes_69 : decode cX6_turnGoes 69 = .ok (.aload_n 0, 1) := dk_42 (dk_at dksX6_turnGoes_2 21 rfl rfl)
theorem dX6_turnGoes_70 : decode cX6_turnGoes 70 = .ok (.iload_n 3, 1) := dk_29 (dk_at dksX6_turnGoes_2 22 rfl rfl)
theorem dX6_turnGoes_71 : decode cX6_turnGoes 71 = .ok (.iload_n 1, 1) := dk_27 (dk_at dksX6_turnGoes_2 23 rfl rfl)
theorem dX6_turnGoes_72 : decode cX6_turnGoes 72 = .ok (.invokevirtual 152, 3) := dk_182 0 152 (dk_at dksX6_turnGoes_3 0 rfl rfl)
theorem dX6_turnGoes_75 : decode cX6_turnGoes 75 = .ok (.istore 4, 2) := dk_54 4 (dk_at dksX6_turnGoes_3 3 rfl rfl)
theorem dX6_turnGoes_77 : decode cX6_turnGoes 77 = .ok (.aload_n 0, 1) := dk_42 (dk_at dksX6_turnGoes_3 5 rfl rfl)
theorem dX6_turnGoes_78 : decode cX6_turnGoes 78 = .ok (.getfield 7, 3) := dk_180 0 7 (dk_at dksX6_turnGoes_3 6 rfl rfl)
theorem dX6_turnGoes_81 : decode cX6_turnGoes 81 = .ok (.iconst 0, 1) := dk_3 (dk_at dksX6_turnGoes_3 9 rfl rfl)
theorem dX6_turnGoes_82 : decode cX6_turnGoes 82 = .ok (.iload_n 3, 1) := dk_29 (dk_at dksX6_turnGoes_3 10 rfl rfl)
theorem dX6_turnGoes_83 : decode cX6_turnGoes 83 = .ok (.iadd, 1) := dk_96 (dk_at dksX6_turnGoes_3 11 rfl rfl)
theorem dX6_turnGoes_84 : decode cX6_turnGoes 84 = .ok (.ldc_w 342, 3) := dk_19 1 86 (dk_at dksX6_turnGoes_3 12 rfl rfl)
theorem dX6_turnGoes_87 : decode cX6_turnGoes 87 = .ok (.aload_n 0, 1) := dk_42 (dk_at dksX6_turnGoes_3 15 rfl rfl)
theorem dX6_turnGoes_88 : decode cX6_turnGoes 88 = .ok (.getfield 7, 3) := dk_180 0 7 (dk_at dksX6_turnGoes_3 16 rfl rfl)
theorem dX6_turnGoes_91 : decode cX6_turnGoes 91 = .ok (.iconst 0, 1) := dk_3 (dk_at dksX6_turnGoes_3 19 rfl rfl)
theorem dX6_turnGoes_92 : decode cX6_turnGoes 92 = .ok (.iload_n 3, 1) := dk_29 (dk_at dksX6_turnGoes_3 20 rfl rfl)
theorem dX6_turnGoes_93 : decode cX6_turnGoes 93 = .ok (.iadd, 1) := dk_96 (dk_at dksX6_turnGoes_3 21 rfl rfl)
theorem dX6_turnGoes_94 : decode cX6_turnGoes 94 = .ok (.iaload, 1) := dk_46 (dk_at dksX6_turnGoes_3 22 rfl rfl)
theorem dX6_turnGoes_95 : decode cX6_turnGoes 95 = .ok (.aload_n 0, 1) := dk_42 (dk_at dksX6_turnGoes_3 23 rfl rfl)
theorem dX6_turnGoes_96 : decode cX6_turnGoes 96 = .ok (.bipush 106, 2) := dk_16 106 (dk_at dksX6_turnGoes_4 0 rfl rfl)
theorem dX6_turnGoes_98 : decode cX6_turnGoes 98 = .ok (.bipush 99, 2) := dk_16 99 (dk_at dksX6_turnGoes_4 2 rfl rfl)
theorem dX6_turnGoes_100 : decode cX6_turnGoes 100 = .ok (.iload 4, 2) := dk_21 4 (dk_at dksX6_turnGoes_4 4 rfl rfl)
theorem dX6_turnGoes_102 : decode cX6_turnGoes 102 = .ok (.invokestatic 320, 3) := dk_184 1 64 (dk_at dksX6_turnGoes_4 6 rfl rfl)
theorem dX6_turnGoes_105 : decode cX6_turnGoes 105 = .ok (.aload_n 0, 1) := dk_42 (dk_at dksX6_turnGoes_4 9 rfl rfl)
theorem dX6_turnGoes_106 : decode cX6_turnGoes 106 = .ok (.getfield 7, 3) := dk_180 0 7 (dk_at dksX6_turnGoes_4 10 rfl rfl)
theorem dX6_turnGoes_109 : decode cX6_turnGoes 109 = .ok (.bipush 17, 2) := dk_16 17 (dk_at dksX6_turnGoes_4 13 rfl rfl)
theorem dX6_turnGoes_111 : decode cX6_turnGoes 111 = .ok (.iaload, 1) := dk_46 (dk_at dksX6_turnGoes_4 15 rfl rfl)
theorem dX6_turnGoes_112 : decode cX6_turnGoes 112 = .ok (.invokestatic 320, 3) := dk_184 1 64 (dk_at dksX6_turnGoes_4 16 rfl rfl)
theorem dX6_turnGoes_115 : decode cX6_turnGoes 115 = .ok (.iadd, 1) := dk_96 (dk_at dksX6_turnGoes_4 19 rfl rfl)
theorem dX6_turnGoes_116 : decode cX6_turnGoes 116 = .ok (.invokevirtual 330, 3) := dk_182 1 74 (dk_at dksX6_turnGoes_4 20 rfl rfl)
theorem dX6_turnGoes_119 : decode cX6_turnGoes 119 = .ok (.iadd, 1) := dk_96 (dk_at dksX6_turnGoes_4 23 rfl rfl)
theorem dX6_turnGoes_120 : decode cX6_turnGoes 120 = .ok (.invokestatic 333, 3) := dk_184 1 77 (dk_at dksX6_turnGoes_5 0 rfl rfl)
theorem dX6_turnGoes_123 : decode cX6_turnGoes 123 = .ok (.iastore, 1) := dk_79 (dk_at dksX6_turnGoes_5 3 rfl rfl)
theorem dX6_turnGoes_124 : decode cX6_turnGoes 124 = .ok (.iload 4, 2) := dk_21 4 (dk_at dksX6_turnGoes_5 4 rfl rfl)
theorem dX6_turnGoes_126 : decode cX6_turnGoes 126 = .ok (.ifCond .eq 12, 3) := dk_153 0 12 (dk_at dksX6_turnGoes_5 6 rfl rfl)
theorem dX6_turnGoes_129 : decode cX6_turnGoes 129 = .ok (.aload_n 0, 1) := dk_42 (dk_at dksX6_turnGoes_5 9 rfl rfl)
theorem dX6_turnGoes_130 : decode cX6_turnGoes 130 = .ok (.getfield 7, 3) := dk_180 0 7 (dk_at dksX6_turnGoes_5 10 rfl rfl)
theorem dX6_turnGoes_133 : decode cX6_turnGoes 133 = .ok (.bipush 17, 2) := dk_16 17 (dk_at dksX6_turnGoes_5 13 rfl rfl)
theorem dX6_turnGoes_135 : decode cX6_turnGoes 135 = .ok (.iload 4, 2) := dk_21 4 (dk_at dksX6_turnGoes_5 15 rfl rfl)
theorem dX6_turnGoes_137 : decode cX6_turnGoes 137 = .ok (.iastore, 1) := dk_79 (dk_at dksX6_turnGoes_5 17 rfl rfl)
theorem dX6_turnGoes_138 : decode cX6_turnGoes 138 = .ok (.return_, 1) := dk_177 (dk_at dksX6_turnGoes_5 18 rfl rfl)
abbrev cX6_isCarried : ByteArray := prog_20_method_58_code
def yX6_isCarried : MethodName := ⟨RX6, "isCarried", "(III)V"⟩
def dkwX6_isCarried_3 : List UInt8 := [180, 1, 80, 21, 4, 96, 181, 1, 80, 42, 180, 0, 7, 16, 16, 27, 79, 177]
abbrev dktX6_isCarried_3 : List UInt8 := dkwX6_isCarried_3 ++ []
def dkwX6_isCarried_2 : List UInt8 := [184, 1, 77, 54, 4, 42, 180, 0, 7, 16, 18, 42, 180, 0, 7, 16, 18, 46, 21, 4, 96, 79, 42, 42]
abbrev dktX6_isCarried_2 : List UInt8 := dkwX6_isCarried_2 ++ dktX6_isCarried_3
def dkwX6_isCarried_1 : List UInt8 := [160, 0, 4, 177, 42, 16, 99, 16, 9, 3, 182, 1, 74, 17, 39, 15, 42, 180, 0, 7, 16, 18, 46, 100]
abbrev dktX6_isCarried_1 : List UInt8 := dkwX6_isCarried_1 ++ dktX6_isCarried_2
def dkwX6_isCarried_0 : List UInt8 := [42, 27, 28, 29, 182, 1, 67, 42, 16, 120, 182, 1, 71, 154, 0, 14, 42, 180, 0, 7, 16, 16, 46, 27]
abbrev dktX6_isCarried_0 : List UInt8 := dkwX6_isCarried_0 ++ dktX6_isCarried_1
theorem dksX6_isCarried_0 : cX6_isCarried.data.toList.drop 0 = dktX6_isCarried_0 := by decide +kernel
theorem dksX6_isCarried_1 : cX6_isCarried.data.toList.drop 24 = dktX6_isCarried_1 := dk_seg dksX6_isCarried_0 24 rfl rfl
theorem dksX6_isCarried_2 : cX6_isCarried.data.toList.drop 48 = dktX6_isCarried_2 := dk_seg dksX6_isCarried_1 24 rfl rfl
theorem dksX6_isCarried_3 : cX6_isCarried.data.toList.drop 72 = dktX6_isCarried_3 := dk_seg dksX6_isCarried_2 24 rfl rfl
theorem dX6_isCarried_0 : decode cX6_isCarried 0 = .ok (.aload_n 0, 1) := dk_42 (dk_at dksX6_isCarried_0 0 rfl rfl)
theorem dX6_isCarried_1 : decode cX6_isCarried 1 = .ok (.iload_n 1, 1) := dk_27 (dk_at dksX6_isCarried_0 1 rfl rfl)
theorem dX6_isCarried_2 : decode cX6_isCarried 2 = .ok (.iload_n 2, 1) := dk_28 (dk_at dksX6_isCarried_0 2 rfl rfl)
theorem dX6_isCarried_3 : decode cX6_isCarried 3 = .ok (.iload_n 3, 1) := dk_29 (dk_at dksX6_isCarried_0 3 rfl rfl)
theorem dX6_isCarried_4 : decode cX6_isCarried 4 = .ok (.invokevirtual 323, 3) := dk_182 1 67 (dk_at dksX6_isCarried_0 4 rfl rfl)
theorem dX6_isCarried_7 : decode cX6_isCarried 7 = .ok (.aload_n 0, 1) := dk_42 (dk_at dksX6_isCarried_0 7 rfl rfl)
theorem dX6_isCarried_8 : decode cX6_isCarried 8 = .ok (.bipush 120, 2) := dk_16 120 (dk_at dksX6_isCarried_0 8 rfl rfl)
theorem dX6_isCarried_10 : decode cX6_isCarried 10 = .ok (.invokevirtual 327, 3) := dk_182 1 71 (dk_at dksX6_isCarried_0 10 rfl rfl)
theorem dX6_isCarried_13 : decode cX6_isCarried 13 = .ok (.ifCond .ne 14, 3) := dk_154 0 14 (dk_at dksX6_isCarried_0 13 rfl rfl)
theorem dX6_isCarried_16 : decode cX6_isCarried 16 = .ok (.aload_n 0, 1) := dk_42 (dk_at dksX6_isCarried_0 16 rfl rfl)
theorem dX6_isCarried_17 : decode cX6_isCarried 17 = .ok (.getfield 7, 3) := dk_180 0 7 (dk_at dksX6_isCarried_0 17 rfl rfl)
theorem dX6_isCarried_20 : decode cX6_isCarried 20 = .ok (.bipush 16, 2) := dk_16 16 (dk_at dksX6_isCarried_0 20 rfl rfl)
theorem dX6_isCarried_22 : decode cX6_isCarried 22 = .ok (.iaload, 1) := dk_46 (dk_at dksX6_isCarried_0 22 rfl rfl)
theorem dX6_isCarried_23 : decode cX6_isCarried 23 = .ok (.iload_n 1, 1) := dk_27 (dk_at dksX6_isCarried_0 23 rfl rfl)
theorem dX6_isCarried_24 : decode cX6_isCarried 24 = .ok (.if_icmp .ne 4, 3) := dk_160 0 4 (dk_at dksX6_isCarried_1 0 rfl rfl)
theorem dX6_isCarried_27 : decode cX6_isCarried 27 = .ok (.return_, 1) := dk_177 (dk_at dksX6_isCarried_1 3 rfl rfl)
theorem dX6_isCarried_28 : decode cX6_isCarried 28 = .ok (.aload_n 0, 1) := dk_42 (dk_at dksX6_isCarried_1 4 rfl rfl)
theorem dX6_isCarried_29 : decode cX6_isCarried 29 = .ok (.bipush 99, 2) := dk_16 99 (dk_at dksX6_isCarried_1 5 rfl rfl)
theorem dX6_isCarried_31 : decode cX6_isCarried 31 = .ok (.bipush 9, 2) := dk_16 9 (dk_at dksX6_isCarried_1 7 rfl rfl)
theorem dX6_isCarried_33 : decode cX6_isCarried 33 = .ok (.iconst 0, 1) := dk_3 (dk_at dksX6_isCarried_1 9 rfl rfl)
theorem dX6_isCarried_34 : decode cX6_isCarried 34 = .ok (.invokevirtual 330, 3) := dk_182 1 74 (dk_at dksX6_isCarried_1 10 rfl rfl)
theorem dX6_isCarried_37 : decode cX6_isCarried 37 = .ok (.sipush 9999, 3) := dk_17 39 15 (dk_at dksX6_isCarried_1 13 rfl rfl)
theorem dX6_isCarried_40 : decode cX6_isCarried 40 = .ok (.aload_n 0, 1) := dk_42 (dk_at dksX6_isCarried_1 16 rfl rfl)
theorem dX6_isCarried_41 : decode cX6_isCarried 41 = .ok (.getfield 7, 3) := dk_180 0 7 (dk_at dksX6_isCarried_1 17 rfl rfl)
theorem dX6_isCarried_44 : decode cX6_isCarried 44 = .ok (.bipush 18, 2) := dk_16 18 (dk_at dksX6_isCarried_1 20 rfl rfl)
theorem dX6_isCarried_46 : decode cX6_isCarried 46 = .ok (.iaload, 1) := dk_46 (dk_at dksX6_isCarried_1 22 rfl rfl)
theorem dX6_isCarried_47 : decode cX6_isCarried 47 = .ok (.isub, 1) := dk_100 (dk_at dksX6_isCarried_1 23 rfl rfl)
theorem dX6_isCarried_48 : decode cX6_isCarried 48 = .ok (.invokestatic 333, 3) := dk_184 1 77 (dk_at dksX6_isCarried_2 0 rfl rfl)
theorem dX6_isCarried_51 : decode cX6_isCarried 51 = .ok (.istore 4, 2) := dk_54 4 (dk_at dksX6_isCarried_2 3 rfl rfl)
theorem dX6_isCarried_53 : decode cX6_isCarried 53 = .ok (.aload_n 0, 1) := dk_42 (dk_at dksX6_isCarried_2 5 rfl rfl)
theorem dX6_isCarried_54 : decode cX6_isCarried 54 = .ok (.getfield 7, 3) := dk_180 0 7 (dk_at dksX6_isCarried_2 6 rfl rfl)
theorem dX6_isCarried_57 : decode cX6_isCarried 57 = .ok (.bipush 18, 2) := dk_16 18 (dk_at dksX6_isCarried_2 9 rfl rfl)
theorem dX6_isCarried_59 : decode cX6_isCarried 59 = .ok (.aload_n 0, 1) := dk_42 (dk_at dksX6_isCarried_2 11 rfl rfl)
theorem dX6_isCarried_60 : decode cX6_isCarried 60 = .ok (.getfield 7, 3) := dk_180 0 7 (dk_at dksX6_isCarried_2 12 rfl rfl)
theorem dX6_isCarried_63 : decode cX6_isCarried 63 = .ok (.bipush 18, 2) := dk_16 18 (dk_at dksX6_isCarried_2 15 rfl rfl)
theorem dX6_isCarried_65 : decode cX6_isCarried 65 = .ok (.iaload, 1) := dk_46 (dk_at dksX6_isCarried_2 17 rfl rfl)
theorem dX6_isCarried_66 : decode cX6_isCarried 66 = .ok (.iload 4, 2) := dk_21 4 (dk_at dksX6_isCarried_2 18 rfl rfl)
theorem dX6_isCarried_68 : decode cX6_isCarried 68 = .ok (.iadd, 1) := dk_96 (dk_at dksX6_isCarried_2 20 rfl rfl)
theorem dX6_isCarried_69 : decode cX6_isCarried 69 = .ok (.iastore, 1) := dk_79 (dk_at dksX6_isCarried_2 21 rfl rfl)
theorem dX6_isCarried_70 : decode cX6_isCarried 70 = .ok (.aload_n 0, 1) := dk_42 (dk_at dksX6_isCarried_2 22 rfl rfl)
theorem dX6_isCarried_71 : decode cX6_isCarried 71 = .ok (.aload_n 0, 1) := dk_42 (dk_at dksX6_isCarried_2 23 rfl rfl)
theorem dX6_isCarried_72 : decode cX6_isCarried 72 = .ok (.getfield 336, 3) := dk_180 1 80 (dk_at dksX6_isCarried_3 0 rfl rfl)
theorem dX6_isCarried_75 : decode cX6_isCarried 75 = .ok (.iload 4, 2) := dk_21 4 (dk_at dksX6_isCarried_3 3 rfl rfl)
theorem dX6_isCarried_77 : decode cX6_isCarried 77 = .ok (.iadd, 1) := dk_96 (dk_at dksX6_isCarried_3 5 rfl rfl)
theorem dX6_isCarried_78 : decode cX6_isCarried 78 = .ok (.putfield 336, 3) := dk_181 1 80 (dk_at dksX6_isCarried_3 6 rfl rfl)
theorem dX6_isCarried_81 : decode cX6_isCarried 81 = .ok (.aload_n 0, 1) := dk_42 (dk_at dksX6_isCarried_3 9 rfl rfl)
theorem dX6_isCarried_82 : decode cX6_isCarried 82 = .ok (.getfield 7, 3) := dk_180 0 7 (dk_at dksX6_isCarried_3 10 rfl rfl)
theorem dX6_isCarried_85 : decode cX6_isCarried 85 = .ok (.bipush 16, 2) := dk_16 16 (dk_at dksX6_isCarried_3 13 rfl rfl)
theorem dX6_isCarried_87 : decode cX6_isCarried 87 = .ok (.iload_n 1, 1) := dk_27 (dk_at dksX6_isCarried_3 15 rfl rfl)
theorem dX6_isCarried_88 : decode cX6_isCarried 88 = .ok (.iastore, 1) := dk_79 (dk_at dksX6_isCarried_3 16 rfl rfl)
theorem dX6_isCarried_89 : decode cX6_isCarried 89 = .ok (.return_, 1) := dk_177 (dk_at dksX6_isCarried_3 17 rfl rfl)
abbrev cX6_feels : ByteArray := prog_20_method_57_code
def yX6_feels : MethodName := ⟨RX6, "feels", "(III)V"⟩
def dkwX6_feels_6 : List UInt8 := [180, 0, 74, 16, 8, 29, 79, 177]
abbrev dktX6_feels_6 : List UInt8 := dkwX6_feels_6 ++ []
def dkwX6_feels_5 : List UInt8 := [46, 16, 100, 112, 79, 42, 180, 0, 74, 16, 7, 42, 180, 0, 7, 16, 19, 46, 16, 100, 112, 79, 42]
abbrev dktX6_feels_5 : List UInt8 := dkwX6_feels_5 ++ dktX6_feels_6
def dkwX6_feels_4 : List UInt8 := [8, 42, 180, 0, 7, 16, 17, 46, 184, 1, 64, 79, 42, 180, 0, 74, 16, 6, 42, 180, 0, 7, 16, 18]
abbrev dktX6_feels_4 : List UInt8 := dkwX6_feels_4 ++ dktX6_feels_5
def dkwX6_feels_3 : List UInt8 := [100, 184, 1, 61, 79, 42, 180, 0, 74, 7, 42, 27, 28, 182, 0, 152, 184, 1, 64, 79, 42, 180, 0, 74]
abbrev dktX6_feels_3 : List UInt8 := dkwX6_feels_3 ++ dktX6_feels_4
def dkwX6_feels_2 : List UInt8 := [6, 42, 180, 0, 7, 16, 16, 46, 2, 160, 0, 7, 3, 167, 0, 15, 27, 42, 180, 0, 7, 16, 16, 46]
abbrev dktX6_feels_2 : List UInt8 := dkwX6_feels_2 ++ dktX6_feels_3
def dkwX6_feels_1 : List UInt8 := [16, 16, 167, 0, 10, 42, 180, 0, 7, 16, 16, 46, 79, 42, 180, 0, 74, 5, 28, 79, 42, 180, 0, 74]
abbrev dktX6_feels_1 : List UInt8 := dkwX6_feels_1 ++ dktX6_feels_2
def dkwX6_feels_0 : List UInt8 := [42, 180, 0, 74, 3, 27, 79, 42, 180, 0, 74, 4, 42, 180, 0, 7, 16, 16, 46, 2, 160, 0, 8]
abbrev dktX6_feels_0 : List UInt8 := dkwX6_feels_0 ++ dktX6_feels_1
theorem dksX6_feels_0 : cX6_feels.data.toList.drop 0 = dktX6_feels_0 := by decide +kernel
theorem dksX6_feels_1 : cX6_feels.data.toList.drop 23 = dktX6_feels_1 := dk_seg dksX6_feels_0 23 rfl rfl
theorem dksX6_feels_2 : cX6_feels.data.toList.drop 47 = dktX6_feels_2 := dk_seg dksX6_feels_1 24 rfl rfl
theorem dksX6_feels_3 : cX6_feels.data.toList.drop 71 = dktX6_feels_3 := dk_seg dksX6_feels_2 24 rfl rfl
theorem dksX6_feels_4 : cX6_feels.data.toList.drop 95 = dktX6_feels_4 := dk_seg dksX6_feels_3 24 rfl rfl
theorem dksX6_feels_5 : cX6_feels.data.toList.drop 119 = dktX6_feels_5 := dk_seg dksX6_feels_4 24 rfl rfl
theorem dksX6_feels_6 : cX6_feels.data.toList.drop 142 = dktX6_feels_6 := dk_seg dksX6_feels_5 23 rfl rfl
theorem dX6_feels_0 : decode cX6_feels 0 = .ok (.aload_n 0, 1) := dk_42 (dk_at dksX6_feels_0 0 rfl rfl)
theorem dX6_feels_1 : decode cX6_feels 1 = .ok (.getfield 74, 3) := dk_180 0 74 (dk_at dksX6_feels_0 1 rfl rfl)
theorem dX6_feels_4 : decode cX6_feels 4 = .ok (.iconst 0, 1) := dk_3 (dk_at dksX6_feels_0 4 rfl rfl)
theorem dX6_feels_5 : decode cX6_feels 5 = .ok (.iload_n 1, 1) := dk_27 (dk_at dksX6_feels_0 5 rfl rfl)
theorem dX6_feels_6 : decode cX6_feels 6 = .ok (.iastore, 1) := dk_79 (dk_at dksX6_feels_0 6 rfl rfl)
theorem dX6_feels_7 : decode cX6_feels 7 = .ok (.aload_n 0, 1) := dk_42 (dk_at dksX6_feels_0 7 rfl rfl)
theorem dX6_feels_8 : decode cX6_feels 8 = .ok (.getfield 74, 3) := dk_180 0 74 (dk_at dksX6_feels_0 8 rfl rfl)
theorem dX6_feels_11 : decode cX6_feels 11 = .ok (.iconst 1, 1) := dk_4 (dk_at dksX6_feels_0 11 rfl rfl)
theorem dX6_feels_12 : decode cX6_feels 12 = .ok (.aload_n 0, 1) := dk_42 (dk_at dksX6_feels_0 12 rfl rfl)
theorem dX6_feels_13 : decode cX6_feels 13 = .ok (.getfield 7, 3) := dk_180 0 7 (dk_at dksX6_feels_0 13 rfl rfl)
theorem dX6_feels_16 : decode cX6_feels 16 = .ok (.bipush 16, 2) := dk_16 16 (dk_at dksX6_feels_0 16 rfl rfl)
theorem dX6_feels_18 : decode cX6_feels 18 = .ok (.iaload, 1) := dk_46 (dk_at dksX6_feels_0 18 rfl rfl)
theorem dX6_feels_19 : decode cX6_feels 19 = .ok (.iconst (-1), 1) := dk_2 (dk_at dksX6_feels_0 19 rfl rfl)
theorem dX6_feels_20 : decode cX6_feels 20 = .ok (.if_icmp .ne 8, 3) := dk_160 0 8 (dk_at dksX6_feels_0 20 rfl rfl)
theorem dX6_feels_23 : decode cX6_feels 23 = .ok (.bipush 16, 2) := dk_16 16 (dk_at dksX6_feels_1 0 rfl rfl)
theorem dX6_feels_25 : decode cX6_feels 25 = .ok (.goto 10, 3) := dk_167 0 10 (dk_at dksX6_feels_1 2 rfl rfl)
theorem dX6_feels_28 : decode cX6_feels 28 = .ok (.aload_n 0, 1) := dk_42 (dk_at dksX6_feels_1 5 rfl rfl)
theorem dX6_feels_29 : decode cX6_feels 29 = .ok (.getfield 7, 3) := dk_180 0 7 (dk_at dksX6_feels_1 6 rfl rfl)
theorem dX6_feels_32 : decode cX6_feels 32 = .ok (.bipush 16, 2) := dk_16 16 (dk_at dksX6_feels_1 9 rfl rfl)
theorem dX6_feels_34 : decode cX6_feels 34 = .ok (.iaload, 1) := dk_46 (dk_at dksX6_feels_1 11 rfl rfl)
theorem dX6_feels_35 : decode cX6_feels 35 = .ok (.iastore, 1) := dk_79 (dk_at dksX6_feels_1 12 rfl rfl)
theorem dX6_feels_36 : decode cX6_feels 36 = .ok (.aload_n 0, 1) := dk_42 (dk_at dksX6_feels_1 13 rfl rfl)
theorem dX6_feels_37 : decode cX6_feels 37 = .ok (.getfield 74, 3) := dk_180 0 74 (dk_at dksX6_feels_1 14 rfl rfl)
theorem dX6_feels_40 : decode cX6_feels 40 = .ok (.iconst 2, 1) := dk_5 (dk_at dksX6_feels_1 17 rfl rfl)
theorem dX6_feels_41 : decode cX6_feels 41 = .ok (.iload_n 2, 1) := dk_28 (dk_at dksX6_feels_1 18 rfl rfl)
theorem dX6_feels_42 : decode cX6_feels 42 = .ok (.iastore, 1) := dk_79 (dk_at dksX6_feels_1 19 rfl rfl)
theorem dX6_feels_43 : decode cX6_feels 43 = .ok (.aload_n 0, 1) := dk_42 (dk_at dksX6_feels_1 20 rfl rfl)
theorem dX6_feels_44 : decode cX6_feels 44 = .ok (.getfield 74, 3) := dk_180 0 74 (dk_at dksX6_feels_1 21 rfl rfl)
theorem dX6_feels_47 : decode cX6_feels 47 = .ok (.iconst 3, 1) := dk_6 (dk_at dksX6_feels_2 0 rfl rfl)
theorem dX6_feels_48 : decode cX6_feels 48 = .ok (.aload_n 0, 1) := dk_42 (dk_at dksX6_feels_2 1 rfl rfl)
theorem dX6_feels_49 : decode cX6_feels 49 = .ok (.getfield 7, 3) := dk_180 0 7 (dk_at dksX6_feels_2 2 rfl rfl)
theorem dX6_feels_52 : decode cX6_feels 52 = .ok (.bipush 16, 2) := dk_16 16 (dk_at dksX6_feels_2 5 rfl rfl)
theorem dX6_feels_54 : decode cX6_feels 54 = .ok (.iaload, 1) := dk_46 (dk_at dksX6_feels_2 7 rfl rfl)
theorem dX6_feels_55 : decode cX6_feels 55 = .ok (.iconst (-1), 1) := dk_2 (dk_at dksX6_feels_2 8 rfl rfl)
theorem dX6_feels_56 : decode cX6_feels 56 = .ok (.if_icmp .ne 7, 3) := dk_160 0 7 (dk_at dksX6_feels_2 9 rfl rfl)
theorem dX6_feels_59 : decode cX6_feels 59 = .ok (.iconst 0, 1) := dk_3 (dk_at dksX6_feels_2 12 rfl rfl)
theorem dX6_feels_60 : decode cX6_feels 60 = .ok (.goto 15, 3) := dk_167 0 15 (dk_at dksX6_feels_2 13 rfl rfl)
theorem dX6_feels_63 : decode cX6_feels 63 = .ok (.iload_n 1, 1) := dk_27 (dk_at dksX6_feels_2 16 rfl rfl)
theorem dX6_feels_64 : decode cX6_feels 64 = .ok (.aload_n 0, 1) := dk_42 (dk_at dksX6_feels_2 17 rfl rfl)
theorem dX6_feels_65 : decode cX6_feels 65 = .ok (.getfield 7, 3) := dk_180 0 7 (dk_at dksX6_feels_2 18 rfl rfl)
theorem dX6_feels_68 : decode cX6_feels 68 = .ok (.bipush 16, 2) := dk_16 16 (dk_at dksX6_feels_2 21 rfl rfl)
theorem dX6_feels_70 : decode cX6_feels 70 = .ok (.iaload, 1) := dk_46 (dk_at dksX6_feels_2 23 rfl rfl)
theorem dX6_feels_71 : decode cX6_feels 71 = .ok (.isub, 1) := dk_100 (dk_at dksX6_feels_3 0 rfl rfl)
theorem dX6_feels_72 : decode cX6_feels 72 = .ok (.invokestatic 317, 3) := dk_184 1 61 (dk_at dksX6_feels_3 1 rfl rfl)
theorem dX6_feels_75 : decode cX6_feels 75 = .ok (.iastore, 1) := dk_79 (dk_at dksX6_feels_3 4 rfl rfl)
theorem dX6_feels_76 : decode cX6_feels 76 = .ok (.aload_n 0, 1) := dk_42 (dk_at dksX6_feels_3 5 rfl rfl)
theorem dX6_feels_77 : decode cX6_feels 77 = .ok (.getfield 74, 3) := dk_180 0 74 (dk_at dksX6_feels_3 6 rfl rfl)
theorem dX6_feels_80 : decode cX6_feels 80 = .ok (.iconst 4, 1) := dk_7 (dk_at dksX6_feels_3 9 rfl rfl)
theorem dX6_feels_81 : decode cX6_feels 81 = .ok (.aload_n 0, 1) := dk_42 (dk_at dksX6_feels_3 10 rfl rfl)
theorem dX6_feels_82 : decode cX6_feels 82 = .ok (.iload_n 1, 1) := dk_27 (dk_at dksX6_feels_3 11 rfl rfl)
theorem dX6_feels_83 : decode cX6_feels 83 = .ok (.iload_n 2, 1) := dk_28 (dk_at dksX6_feels_3 12 rfl rfl)
theorem dX6_feels_84 : decode cX6_feels 84 = .ok (.invokevirtual 152, 3) := dk_182 0 152 (dk_at dksX6_feels_3 13 rfl rfl)
theorem dX6_feels_87 : decode cX6_feels 87 = .ok (.invokestatic 320, 3) := dk_184 1 64 (dk_at dksX6_feels_3 16 rfl rfl)
theorem dX6_feels_90 : decode cX6_feels 90 = .ok (.iastore, 1) := dk_79 (dk_at dksX6_feels_3 19 rfl rfl)
theorem dX6_feels_91 : decode cX6_feels 91 = .ok (.aload_n 0, 1) := dk_42 (dk_at dksX6_feels_3 20 rfl rfl)
theorem dX6_feels_92 : decode cX6_feels 92 = .ok (.getfield 74, 3) := dk_180 0 74 (dk_at dksX6_feels_3 21 rfl rfl)
theorem dX6_feels_95 : decode cX6_feels 95 = .ok (.iconst 5, 1) := dk_8 (dk_at dksX6_feels_4 0 rfl rfl)
theorem dX6_feels_96 : decode cX6_feels 96 = .ok (.aload_n 0, 1) := dk_42 (dk_at dksX6_feels_4 1 rfl rfl)
theorem dX6_feels_97 : decode cX6_feels 97 = .ok (.getfield 7, 3) := dk_180 0 7 (dk_at dksX6_feels_4 2 rfl rfl)
theorem dX6_feels_100 : decode cX6_feels 100 = .ok (.bipush 17, 2) := dk_16 17 (dk_at dksX6_feels_4 5 rfl rfl)
theorem dX6_feels_102 : decode cX6_feels 102 = .ok (.iaload, 1) := dk_46 (dk_at dksX6_feels_4 7 rfl rfl)
theorem dX6_feels_103 : decode cX6_feels 103 = .ok (.invokestatic 320, 3) := dk_184 1 64 (dk_at dksX6_feels_4 8 rfl rfl)
theorem dX6_feels_106 : decode cX6_feels 106 = .ok (.iastore, 1) := dk_79 (dk_at dksX6_feels_4 11 rfl rfl)
theorem dX6_feels_107 : decode cX6_feels 107 = .ok (.aload_n 0, 1) := dk_42 (dk_at dksX6_feels_4 12 rfl rfl)
theorem dX6_feels_108 : decode cX6_feels 108 = .ok (.getfield 74, 3) := dk_180 0 74 (dk_at dksX6_feels_4 13 rfl rfl)
theorem dX6_feels_111 : decode cX6_feels 111 = .ok (.bipush 6, 2) := dk_16 6 (dk_at dksX6_feels_4 16 rfl rfl)
theorem dX6_feels_113 : decode cX6_feels 113 = .ok (.aload_n 0, 1) := dk_42 (dk_at dksX6_feels_4 18 rfl rfl)
theorem dX6_feels_114 : decode cX6_feels 114 = .ok (.getfield 7, 3) := dk_180 0 7 (dk_at dksX6_feels_4 19 rfl rfl)
theorem dX6_feels_117 : decode cX6_feels 117 = .ok (.bipush 18, 2) := dk_16 18 (dk_at dksX6_feels_4 22 rfl rfl)
theorem dX6_feels_119 : decode cX6_feels 119 = .ok (.iaload, 1) := dk_46 (dk_at dksX6_feels_5 0 rfl rfl)
theorem dX6_feels_120 : decode cX6_feels 120 = .ok (.bipush 100, 2) := dk_16 100 (dk_at dksX6_feels_5 1 rfl rfl)
theorem dX6_feels_122 : decode cX6_feels 122 = .ok (.irem, 1) := dk_112 (dk_at dksX6_feels_5 3 rfl rfl)
theorem dX6_feels_123 : decode cX6_feels 123 = .ok (.iastore, 1) := dk_79 (dk_at dksX6_feels_5 4 rfl rfl)
theorem dX6_feels_124 : decode cX6_feels 124 = .ok (.aload_n 0, 1) := dk_42 (dk_at dksX6_feels_5 5 rfl rfl)
theorem dX6_feels_125 : decode cX6_feels 125 = .ok (.getfield 74, 3) := dk_180 0 74 (dk_at dksX6_feels_5 6 rfl rfl)
theorem dX6_feels_128 : decode cX6_feels 128 = .ok (.bipush 7, 2) := dk_16 7 (dk_at dksX6_feels_5 9 rfl rfl)
theorem dX6_feels_130 : decode cX6_feels 130 = .ok (.aload_n 0, 1) := dk_42 (dk_at dksX6_feels_5 11 rfl rfl)
theorem dX6_feels_131 : decode cX6_feels 131 = .ok (.getfield 7, 3) := dk_180 0 7 (dk_at dksX6_feels_5 12 rfl rfl)
theorem dX6_feels_134 : decode cX6_feels 134 = .ok (.bipush 19, 2) := dk_16 19 (dk_at dksX6_feels_5 15 rfl rfl)
theorem dX6_feels_136 : decode cX6_feels 136 = .ok (.iaload, 1) := dk_46 (dk_at dksX6_feels_5 17 rfl rfl)
theorem dX6_feels_137 : decode cX6_feels 137 = .ok (.bipush 100, 2) := dk_16 100 (dk_at dksX6_feels_5 18 rfl rfl)
theorem dX6_feels_139 : decode cX6_feels 139 = .ok (.irem, 1) := dk_112 (dk_at dksX6_feels_5 20 rfl rfl)
theorem dX6_feels_140 : decode cX6_feels 140 = .ok (.iastore, 1) := dk_79 (dk_at dksX6_feels_5 21 rfl rfl)
theorem dX6_feels_141 : decode cX6_feels 141 = .ok (.aload_n 0, 1) := dk_42 (dk_at dksX6_feels_5 22 rfl rfl)
theorem dX6_feels_142 : decode cX6_feels 142 = .ok (.getfield 74, 3) := dk_180 0 74 (dk_at dksX6_feels_6 0 rfl rfl)
theorem dX6_feels_145 : decode cX6_feels 145 = .ok (.bipush 8, 2) := dk_16 8 (dk_at dksX6_feels_6 3 rfl rfl)
theorem dX6_feels_147 : decode cX6_feels 147 = .ok (.iload_n 3, 1) := dk_29 (dk_at dksX6_feels_6 5 rfl rfl)
theorem dX6_feels_148 : decode cX6_feels 148 = .ok (.iastore, 1) := dk_79 (dk_at dksX6_feels_6 6 rfl rfl)
theorem dX6_feels_149 : decode cX6_feels 149 = .ok (.return_, 1) := dk_177 (dk_at dksX6_feels_6 7 rfl rfl)
abbrev cX6_size : ByteArray := prog_20_method_5_code
def yX6_size : MethodName := ⟨RX6, "size", "(I)I"⟩
def dkwX6_size_0 : List UInt8 := [26, 156, 0, 8, 26, 116, 167, 0, 4, 26, 172]
abbrev dktX6_size_0 : List UInt8 := dkwX6_size_0 ++ []
theorem dksX6_size_0 : cX6_size.data.toList.drop 0 = dktX6_size_0 := by decide +kernel
theorem dX6_size_0 : decode cX6_size 0 = .ok (.iload_n 0, 1) := dk_26 (dk_at dksX6_size_0 0 rfl rfl)
theorem dX6_size_1 : decode cX6_size 1 = .ok (.ifCond .ge 8, 3) := dk_156 0 8 (dk_at dksX6_size_0 1 rfl rfl)
theorem dX6_size_4 : decode cX6_size 4 = .ok (.iload_n 0, 1) := dk_26 (dk_at dksX6_size_0 4 rfl rfl)
theorem dX6_size_5 : decode cX6_size 5 = .ok (.ineg, 1) := dk_116 (dk_at dksX6_size_0 5 rfl rfl)
theorem dX6_size_6 : decode cX6_size 6 = .ok (.goto 4, 3) := dk_167 0 4 (dk_at dksX6_size_0 6 rfl rfl)
theorem dX6_size_9 : decode cX6_size 9 = .ok (.iload_n 0, 1) := dk_26 (dk_at dksX6_size_0 9 rfl rfl)
theorem dX6_size_10 : decode cX6_size 10 = .ok (.ireturn, 1) := dk_172 (dk_at dksX6_size_0 10 rfl rfl)
abbrev cX6_bits : ByteArray := prog_20_method_7_code
def yX6_bits : MethodName := ⟨RX6, "bits", "(I)I"⟩
def dkwX6_bits_1 : List UInt8 := [27, 172]
abbrev dktX6_bits_1 : List UInt8 := dkwX6_bits_1 ++ []
def dkwX6_bits_0 : List UInt8 := [3, 60, 3, 61, 28, 16, 16, 162, 0, 17, 27, 26, 28, 122, 4, 126, 96, 60, 132, 2, 1, 167, 255, 239]
abbrev dktX6_bits_0 : List UInt8 := dkwX6_bits_0 ++ dktX6_bits_1
theorem dksX6_bits_0 : cX6_bits.data.toList.drop 0 = dktX6_bits_0 := by decide +kernel
theorem dksX6_bits_1 : cX6_bits.data.toList.drop 24 = dktX6_bits_1 := dk_seg dksX6_bits_0 24 rfl rfl
theorem dX6_bits_0 : decode cX6_bits 0 = .ok (.iconst 0, 1) := dk_3 (dk_at dksX6_bits_0 0 rfl rfl)
theorem dX6_bits_1 : decode cX6_bits 1 = .ok (.istore_n 1, 1) := dk_60 (dk_at dksX6_bits_0 1 rfl rfl)
theorem dX6_bits_2 : decode cX6_bits 2 = .ok (.iconst 0, 1) := dk_3 (dk_at dksX6_bits_0 2 rfl rfl)
theorem dX6_bits_3 : decode cX6_bits 3 = .ok (.istore_n 2, 1) := dk_61 (dk_at dksX6_bits_0 3 rfl rfl)
theorem dX6_bits_4 : decode cX6_bits 4 = .ok (.iload_n 2, 1) := dk_28 (dk_at dksX6_bits_0 4 rfl rfl)
theorem dX6_bits_5 : decode cX6_bits 5 = .ok (.bipush 16, 2) := dk_16 16 (dk_at dksX6_bits_0 5 rfl rfl)
theorem dX6_bits_7 : decode cX6_bits 7 = .ok (.if_icmp .ge 17, 3) := dk_162 0 17 (dk_at dksX6_bits_0 7 rfl rfl)
theorem dX6_bits_10 : decode cX6_bits 10 = .ok (.iload_n 1, 1) := dk_27 (dk_at dksX6_bits_0 10 rfl rfl)
theorem dX6_bits_11 : decode cX6_bits 11 = .ok (.iload_n 0, 1) := dk_26 (dk_at dksX6_bits_0 11 rfl rfl)
theorem dX6_bits_12 : decode cX6_bits 12 = .ok (.iload_n 2, 1) := dk_28 (dk_at dksX6_bits_0 12 rfl rfl)
theorem dX6_bits_13 : decode cX6_bits 13 = .ok (.ishr, 1) := dk_122 (dk_at dksX6_bits_0 13 rfl rfl)
theorem dX6_bits_14 : decode cX6_bits 14 = .ok (.iconst 1, 1) := dk_4 (dk_at dksX6_bits_0 14 rfl rfl)
theorem dX6_bits_15 : decode cX6_bits 15 = .ok (.iand, 1) := dk_126 (dk_at dksX6_bits_0 15 rfl rfl)
theorem dX6_bits_16 : decode cX6_bits 16 = .ok (.iadd, 1) := dk_96 (dk_at dksX6_bits_0 16 rfl rfl)
theorem dX6_bits_17 : decode cX6_bits 17 = .ok (.istore_n 1, 1) := dk_60 (dk_at dksX6_bits_0 17 rfl rfl)
theorem dX6_bits_18 : decode cX6_bits 18 = .ok (.iinc 2 1, 3) := dk_132 2 1 (dk_at dksX6_bits_0 18 rfl rfl)
theorem dX6_bits_21 : decode cX6_bits 21 = .ok (.goto (-17), 3) := dk_167 255 239 (dk_at dksX6_bits_0 21 rfl rfl)
theorem dX6_bits_24 : decode cX6_bits 24 = .ok (.iload_n 1, 1) := dk_27 (dk_at dksX6_bits_1 0 rfl rfl)
theorem dX6_bits_25 : decode cX6_bits 25 = .ok (.ireturn, 1) := dk_172 (dk_at dksX6_bits_1 1 rfl rfl)
abbrev cX6_holdsAny : ByteArray := prog_20_method_46_code
def yX6_holdsAny : MethodName := ⟨RX6, "holdsAny", "(I)Z"⟩
def dkwX6_holdsAny_2 : List UInt8 := [167, 255, 213, 3, 172]
abbrev dktX6_holdsAny_2 : List UInt8 := dkwX6_holdsAny_2 ++ []
def dkwX6_holdsAny_1 : List UInt8 := [180, 0, 65, 28, 46, 42, 180, 0, 68, 28, 46, 182, 1, 13, 4, 160, 0, 5, 4, 172, 132, 2, 1]
abbrev dktX6_holdsAny_1 : List UInt8 := dkwX6_holdsAny_1 ++ dktX6_holdsAny_2
def dkwX6_holdsAny_0 : List UInt8 := [3, 61, 28, 42, 180, 1, 6, 162, 0, 41, 42, 180, 0, 59, 28, 46, 27, 160, 0, 25, 42, 42]
abbrev dktX6_holdsAny_0 : List UInt8 := dkwX6_holdsAny_0 ++ dktX6_holdsAny_1
theorem dksX6_holdsAny_0 : cX6_holdsAny.data.toList.drop 0 = dktX6_holdsAny_0 := by decide +kernel
theorem dksX6_holdsAny_1 : cX6_holdsAny.data.toList.drop 22 = dktX6_holdsAny_1 := dk_seg dksX6_holdsAny_0 22 rfl rfl
theorem dksX6_holdsAny_2 : cX6_holdsAny.data.toList.drop 45 = dktX6_holdsAny_2 := dk_seg dksX6_holdsAny_1 23 rfl rfl
theorem dX6_holdsAny_0 : decode cX6_holdsAny 0 = .ok (.iconst 0, 1) := dk_3 (dk_at dksX6_holdsAny_0 0 rfl rfl)
theorem dX6_holdsAny_1 : decode cX6_holdsAny 1 = .ok (.istore_n 2, 1) := dk_61 (dk_at dksX6_holdsAny_0 1 rfl rfl)
theorem dX6_holdsAny_2 : decode cX6_holdsAny 2 = .ok (.iload_n 2, 1) := dk_28 (dk_at dksX6_holdsAny_0 2 rfl rfl)
theorem dX6_holdsAny_3 : decode cX6_holdsAny 3 = .ok (.aload_n 0, 1) := dk_42 (dk_at dksX6_holdsAny_0 3 rfl rfl)
theorem dX6_holdsAny_4 : decode cX6_holdsAny 4 = .ok (.getfield 262, 3) := dk_180 1 6 (dk_at dksX6_holdsAny_0 4 rfl rfl)
theorem dX6_holdsAny_7 : decode cX6_holdsAny 7 = .ok (.if_icmp .ge 41, 3) := dk_162 0 41 (dk_at dksX6_holdsAny_0 7 rfl rfl)
theorem dX6_holdsAny_10 : decode cX6_holdsAny 10 = .ok (.aload_n 0, 1) := dk_42 (dk_at dksX6_holdsAny_0 10 rfl rfl)
theorem dX6_holdsAny_11 : decode cX6_holdsAny 11 = .ok (.getfield 59, 3) := dk_180 0 59 (dk_at dksX6_holdsAny_0 11 rfl rfl)
theorem dX6_holdsAny_14 : decode cX6_holdsAny 14 = .ok (.iload_n 2, 1) := dk_28 (dk_at dksX6_holdsAny_0 14 rfl rfl)
theorem dX6_holdsAny_15 : decode cX6_holdsAny 15 = .ok (.iaload, 1) := dk_46 (dk_at dksX6_holdsAny_0 15 rfl rfl)
theorem dX6_holdsAny_16 : decode cX6_holdsAny 16 = .ok (.iload_n 1, 1) := dk_27 (dk_at dksX6_holdsAny_0 16 rfl rfl)
theorem dX6_holdsAny_17 : decode cX6_holdsAny 17 = .ok (.if_icmp .ne 25, 3) := dk_160 0 25 (dk_at dksX6_holdsAny_0 17 rfl rfl)
theorem dX6_holdsAny_20 : decode cX6_holdsAny 20 = .ok (.aload_n 0, 1) := dk_42 (dk_at dksX6_holdsAny_0 20 rfl rfl)
theorem dX6_holdsAny_21 : decode cX6_holdsAny 21 = .ok (.aload_n 0, 1) := dk_42 (dk_at dksX6_holdsAny_0 21 rfl rfl)
theorem dX6_holdsAny_22 : decode cX6_holdsAny 22 = .ok (.getfield 65, 3) := dk_180 0 65 (dk_at dksX6_holdsAny_1 0 rfl rfl)
theorem dX6_holdsAny_25 : decode cX6_holdsAny 25 = .ok (.iload_n 2, 1) := dk_28 (dk_at dksX6_holdsAny_1 3 rfl rfl)
theorem dX6_holdsAny_26 : decode cX6_holdsAny 26 = .ok (.iaload, 1) := dk_46 (dk_at dksX6_holdsAny_1 4 rfl rfl)
theorem dX6_holdsAny_27 : decode cX6_holdsAny 27 = .ok (.aload_n 0, 1) := dk_42 (dk_at dksX6_holdsAny_1 5 rfl rfl)
theorem dX6_holdsAny_28 : decode cX6_holdsAny 28 = .ok (.getfield 68, 3) := dk_180 0 68 (dk_at dksX6_holdsAny_1 6 rfl rfl)
theorem dX6_holdsAny_31 : decode cX6_holdsAny 31 = .ok (.iload_n 2, 1) := dk_28 (dk_at dksX6_holdsAny_1 9 rfl rfl)
theorem dX6_holdsAny_32 : decode cX6_holdsAny 32 = .ok (.iaload, 1) := dk_46 (dk_at dksX6_holdsAny_1 10 rfl rfl)
theorem dX6_holdsAny_33 : decode cX6_holdsAny 33 = .ok (.invokevirtual 269, 3) := dk_182 1 13 (dk_at dksX6_holdsAny_1 11 rfl rfl)
theorem dX6_holdsAny_36 : decode cX6_holdsAny 36 = .ok (.iconst 1, 1) := dk_4 (dk_at dksX6_holdsAny_1 14 rfl rfl)
theorem dX6_holdsAny_37 : decode cX6_holdsAny 37 = .ok (.if_icmp .ne 5, 3) := dk_160 0 5 (dk_at dksX6_holdsAny_1 15 rfl rfl)
theorem dX6_holdsAny_40 : decode cX6_holdsAny 40 = .ok (.iconst 1, 1) := dk_4 (dk_at dksX6_holdsAny_1 18 rfl rfl)
theorem dX6_holdsAny_41 : decode cX6_holdsAny 41 = .ok (.ireturn, 1) := dk_172 (dk_at dksX6_holdsAny_1 19 rfl rfl)
theorem dX6_holdsAny_42 : decode cX6_holdsAny 42 = .ok (.iinc 2 1, 3) := dk_132 2 1 (dk_at dksX6_holdsAny_1 20 rfl rfl)
theorem dX6_holdsAny_45 : decode cX6_holdsAny 45 = .ok (.goto (-43), 3) := dk_167 255 213 (dk_at dksX6_holdsAny_2 0 rfl rfl)
theorem dX6_holdsAny_48 : decode cX6_holdsAny 48 = .ok (.iconst 0, 1) := dk_3 (dk_at dksX6_holdsAny_2 3 rfl rfl)
theorem dX6_holdsAny_49 : decode cX6_holdsAny 49 = .ok (.ireturn, 1) := dk_172 (dk_at dksX6_holdsAny_2 4 rfl rfl)
abbrev cX6_reckonsTo : ByteArray := prog_20_method_44_code
def yX6_reckonsTo : MethodName := ⟨RX6, "reckonsTo", "(II)I"⟩
def dkwX6_reckonsTo_10 : List UInt8 := [3, 46, 172]
abbrev dktX6_reckonsTo_10 : List UInt8 := dkwX6_reckonsTo_10 ++ []
def dkwX6_reckonsTo_9 : List UInt8 := [180, 0, 71, 29, 4, 100, 46, 42, 180, 0, 71, 29, 46, 184, 1, 9, 79, 167, 255, 42, 42, 180, 0, 71]
abbrev dktX6_reckonsTo_9 : List UInt8 := dkwX6_reckonsTo_9 ++ dktX6_reckonsTo_10
def dkwX6_reckonsTo_8 : List UInt8 := [160, 0, 14, 42, 180, 0, 71, 29, 46, 154, 0, 5, 3, 172, 42, 180, 0, 71, 29, 4, 100, 21, 6, 42]
abbrev dktX6_reckonsTo_8 : List UInt8 := dkwX6_reckonsTo_8 ++ dktX6_reckonsTo_9
def dkwX6_reckonsTo_7 : List UInt8 := [167, 0, 65, 29, 4, 100, 62, 167, 0, 58, 29, 4, 100, 62, 21, 6, 8, 159, 0, 10, 21, 6, 16, 6]
abbrev dktX6_reckonsTo_7 : List UInt8 := dkwX6_reckonsTo_7 ++ dktX6_reckonsTo_8
def dkwX6_reckonsTo_6 : List UInt8 := [100, 46, 21, 6, 16, 12, 160, 0, 7, 4, 167, 0, 4, 3, 160, 0, 13, 21, 4, 21, 7, 96, 54, 5]
abbrev dktX6_reckonsTo_6 : List UInt8 := dkwX6_reckonsTo_6 ++ dktX6_reckonsTo_7
def dkwX6_reckonsTo_5 : List UInt8 := [79, 167, 0, 112, 21, 6, 16, 11, 159, 0, 10, 21, 6, 16, 12, 160, 0, 43, 42, 180, 0, 71, 29, 4]
abbrev dktX6_reckonsTo_5 : List UInt8 := dkwX6_reckonsTo_5 ++ dktX6_reckonsTo_6
def dkwX6_reckonsTo_4 : List UInt8 := [21, 6, 16, 10, 160, 0, 24, 42, 180, 0, 71, 29, 4, 100, 4, 42, 180, 0, 71, 29, 4, 100, 46, 100]
abbrev dktX6_reckonsTo_4 : List UInt8 := dkwX6_reckonsTo_4 ++ dktX6_reckonsTo_5
def dkwX6_reckonsTo_3 : List UInt8 := [154, 0, 8, 21, 7, 167, 0, 10, 42, 180, 0, 74, 21, 7, 46, 79, 29, 4, 96, 62, 167, 0, 140]
abbrev dktX6_reckonsTo_3 : List UInt8 := dkwX6_reckonsTo_3 ++ dktX6_reckonsTo_4
def dkwX6_reckonsTo_2 : List UInt8 := [21, 5, 4, 96, 54, 5, 21, 6, 153, 0, 9, 21, 6, 4, 160, 0, 33, 42, 180, 0, 71, 29, 21, 6]
abbrev dktX6_reckonsTo_2 : List UInt8 := dkwX6_reckonsTo_2 ++ dktX6_reckonsTo_3
def dkwX6_reckonsTo_1 : List UInt8 := [180, 0, 56, 21, 5, 46, 18, 195, 108, 54, 6, 42, 180, 0, 56, 21, 5, 46, 18, 195, 112, 54, 7]
abbrev dktX6_reckonsTo_1 : List UInt8 := dkwX6_reckonsTo_1 ++ dktX6_reckonsTo_2
def dkwX6_reckonsTo_0 : List UInt8 := [3, 62, 17, 1, 4, 27, 17, 1, 4, 108, 104, 54, 4, 27, 54, 5, 21, 5, 28, 162, 0, 214, 42]
abbrev dktX6_reckonsTo_0 : List UInt8 := dkwX6_reckonsTo_0 ++ dktX6_reckonsTo_1
theorem dksX6_reckonsTo_0 : cX6_reckonsTo.data.toList.drop 0 = dktX6_reckonsTo_0 := by decide +kernel
theorem dksX6_reckonsTo_1 : cX6_reckonsTo.data.toList.drop 23 = dktX6_reckonsTo_1 := dk_seg dksX6_reckonsTo_0 23 rfl rfl
theorem dksX6_reckonsTo_2 : cX6_reckonsTo.data.toList.drop 46 = dktX6_reckonsTo_2 := dk_seg dksX6_reckonsTo_1 23 rfl rfl
theorem dksX6_reckonsTo_3 : cX6_reckonsTo.data.toList.drop 70 = dktX6_reckonsTo_3 := dk_seg dksX6_reckonsTo_2 24 rfl rfl
theorem dksX6_reckonsTo_4 : cX6_reckonsTo.data.toList.drop 93 = dktX6_reckonsTo_4 := dk_seg dksX6_reckonsTo_3 23 rfl rfl
theorem dksX6_reckonsTo_5 : cX6_reckonsTo.data.toList.drop 117 = dktX6_reckonsTo_5 := dk_seg dksX6_reckonsTo_4 24 rfl rfl
theorem dksX6_reckonsTo_6 : cX6_reckonsTo.data.toList.drop 141 = dktX6_reckonsTo_6 := dk_seg dksX6_reckonsTo_5 24 rfl rfl
theorem dksX6_reckonsTo_7 : cX6_reckonsTo.data.toList.drop 165 = dktX6_reckonsTo_7 := dk_seg dksX6_reckonsTo_6 24 rfl rfl
theorem dksX6_reckonsTo_8 : cX6_reckonsTo.data.toList.drop 189 = dktX6_reckonsTo_8 := dk_seg dksX6_reckonsTo_7 24 rfl rfl
theorem dksX6_reckonsTo_9 : cX6_reckonsTo.data.toList.drop 213 = dktX6_reckonsTo_9 := dk_seg dksX6_reckonsTo_8 24 rfl rfl
theorem dksX6_reckonsTo_10 : cX6_reckonsTo.data.toList.drop 237 = dktX6_reckonsTo_10 := dk_seg dksX6_reckonsTo_9 24 rfl rfl
theorem dX6_reckonsTo_0 : decode cX6_reckonsTo 0 = .ok (.iconst 0, 1) := dk_3 (dk_at dksX6_reckonsTo_0 0 rfl rfl)
theorem dX6_reckonsTo_1 : decode cX6_reckonsTo 1 = .ok (.istore_n 3, 1) := dk_62 (dk_at dksX6_reckonsTo_0 1 rfl rfl)
theorem dX6_reckonsTo_2 : decode cX6_reckonsTo 2 = .ok (.sipush 260, 3) := dk_17 1 4 (dk_at dksX6_reckonsTo_0 2 rfl rfl)
theorem dX6_reckonsTo_5 : decode cX6_reckonsTo 5 = .ok (.iload_n 1, 1) := dk_27 (dk_at dksX6_reckonsTo_0 5 rfl rfl)
theorem dX6_reckonsTo_6 : decode cX6_reckonsTo 6 = .ok (.sipush 260, 3) := dk_17 1 4 (dk_at dksX6_reckonsTo_0 6 rfl rfl)
theorem dX6_reckonsTo_9 : decode cX6_reckonsTo 9 = .ok (.idiv, 1) := dk_108 (dk_at dksX6_reckonsTo_0 9 rfl rfl)
theorem dX6_reckonsTo_10 : decode cX6_reckonsTo 10 = .ok (.imul, 1) := dk_104 (dk_at dksX6_reckonsTo_0 10 rfl rfl)
theorem dX6_reckonsTo_11 : decode cX6_reckonsTo 11 = .ok (.istore 4, 2) := dk_54 4 (dk_at dksX6_reckonsTo_0 11 rfl rfl)
theorem dX6_reckonsTo_13 : decode cX6_reckonsTo 13 = .ok (.iload_n 1, 1) := dk_27 (dk_at dksX6_reckonsTo_0 13 rfl rfl)
theorem dX6_reckonsTo_14 : decode cX6_reckonsTo 14 = .ok (.istore 5, 2) := dk_54 5 (dk_at dksX6_reckonsTo_0 14 rfl rfl)
theorem dX6_reckonsTo_16 : decode cX6_reckonsTo 16 = .ok (.iload 5, 2) := dk_21 5 (dk_at dksX6_reckonsTo_0 16 rfl rfl)
theorem dX6_reckonsTo_18 : decode cX6_reckonsTo 18 = .ok (.iload_n 2, 1) := dk_28 (dk_at dksX6_reckonsTo_0 18 rfl rfl)
theorem dX6_reckonsTo_19 : decode cX6_reckonsTo 19 = .ok (.if_icmp .ge 214, 3) := dk_162 0 214 (dk_at dksX6_reckonsTo_0 19 rfl rfl)
theorem dX6_reckonsTo_22 : decode cX6_reckonsTo 22 = .ok (.aload_n 0, 1) := dk_42 (dk_at dksX6_reckonsTo_0 22 rfl rfl)
theorem dX6_reckonsTo_23 : decode cX6_reckonsTo 23 = .ok (.getfield 56, 3) := dk_180 0 56 (dk_at dksX6_reckonsTo_1 0 rfl rfl)
theorem dX6_reckonsTo_26 : decode cX6_reckonsTo 26 = .ok (.iload 5, 2) := dk_21 5 (dk_at dksX6_reckonsTo_1 3 rfl rfl)
theorem dX6_reckonsTo_28 : decode cX6_reckonsTo 28 = .ok (.iaload, 1) := dk_46 (dk_at dksX6_reckonsTo_1 5 rfl rfl)
theorem dX6_reckonsTo_29 : decode cX6_reckonsTo 29 = .ok (.ldc 195, 2) := dk_18 195 (dk_at dksX6_reckonsTo_1 6 rfl rfl)
theorem dX6_reckonsTo_31 : decode cX6_reckonsTo 31 = .ok (.idiv, 1) := dk_108 (dk_at dksX6_reckonsTo_1 8 rfl rfl)
theorem dX6_reckonsTo_32 : decode cX6_reckonsTo 32 = .ok (.istore 6, 2) := dk_54 6 (dk_at dksX6_reckonsTo_1 9 rfl rfl)
theorem dX6_reckonsTo_34 : decode cX6_reckonsTo 34 = .ok (.aload_n 0, 1) := dk_42 (dk_at dksX6_reckonsTo_1 11 rfl rfl)
theorem dX6_reckonsTo_35 : decode cX6_reckonsTo 35 = .ok (.getfield 56, 3) := dk_180 0 56 (dk_at dksX6_reckonsTo_1 12 rfl rfl)
theorem dX6_reckonsTo_38 : decode cX6_reckonsTo 38 = .ok (.iload 5, 2) := dk_21 5 (dk_at dksX6_reckonsTo_1 15 rfl rfl)
theorem dX6_reckonsTo_40 : decode cX6_reckonsTo 40 = .ok (.iaload, 1) := dk_46 (dk_at dksX6_reckonsTo_1 17 rfl rfl)
theorem dX6_reckonsTo_41 : decode cX6_reckonsTo 41 = .ok (.ldc 195, 2) := dk_18 195 (dk_at dksX6_reckonsTo_1 18 rfl rfl)
theorem dX6_reckonsTo_43 : decode cX6_reckonsTo 43 = .ok (.irem, 1) := dk_112 (dk_at dksX6_reckonsTo_1 20 rfl rfl)
theorem dX6_reckonsTo_44 : decode cX6_reckonsTo 44 = .ok (.istore 7, 2) := dk_54 7 (dk_at dksX6_reckonsTo_1 21 rfl rfl)
theorem dX6_reckonsTo_46 : decode cX6_reckonsTo 46 = .ok (.iload 5, 2) := dk_21 5 (dk_at dksX6_reckonsTo_2 0 rfl rfl)
theorem dX6_reckonsTo_48 : decode cX6_reckonsTo 48 = .ok (.iconst 1, 1) := dk_4 (dk_at dksX6_reckonsTo_2 2 rfl rfl)
theorem dX6_reckonsTo_49 : decode cX6_reckonsTo 49 = .ok (.iadd, 1) := dk_96 (dk_at dksX6_reckonsTo_2 3 rfl rfl)
theorem dX6_reckonsTo_50 : decode cX6_reckonsTo 50 = .ok (.istore 5, 2) := dk_54 5 (dk_at dksX6_reckonsTo_2 4 rfl rfl)
theorem dX6_reckonsTo_52 : decode cX6_reckonsTo 52 = .ok (.iload 6, 2) := dk_21 6 (dk_at dksX6_reckonsTo_2 6 rfl rfl)
theorem dX6_reckonsTo_54 : decode cX6_reckonsTo 54 = .ok (.ifCond .eq 9, 3) := dk_153 0 9 (dk_at dksX6_reckonsTo_2 8 rfl rfl)
theorem dX6_reckonsTo_57 : decode cX6_reckonsTo 57 = .ok (.iload 6, 2) := dk_21 6 (dk_at dksX6_reckonsTo_2 11 rfl rfl)
theorem dX6_reckonsTo_59 : decode cX6_reckonsTo 59 = .ok (.iconst 1, 1) := dk_4 (dk_at dksX6_reckonsTo_2 13 rfl rfl)
theorem dX6_reckonsTo_60 : decode cX6_reckonsTo 60 = .ok (.if_icmp .ne 33, 3) := dk_160 0 33 (dk_at dksX6_reckonsTo_2 14 rfl rfl)
theorem dX6_reckonsTo_63 : decode cX6_reckonsTo 63 = .ok (.aload_n 0, 1) := dk_42 (dk_at dksX6_reckonsTo_2 17 rfl rfl)
theorem dX6_reckonsTo_64 : decode cX6_reckonsTo 64 = .ok (.getfield 71, 3) := dk_180 0 71 (dk_at dksX6_reckonsTo_2 18 rfl rfl)
theorem dX6_reckonsTo_67 : decode cX6_reckonsTo 67 = .ok (.iload_n 3, 1) := dk_29 (dk_at dksX6_reckonsTo_2 21 rfl rfl)
theorem dX6_reckonsTo_68 : decode cX6_reckonsTo 68 = .ok (.iload 6, 2) := dk_21 6 (dk_at dksX6_reckonsTo_2 22 rfl rfl)
theorem dX6_reckonsTo_70 : decode cX6_reckonsTo 70 = .ok (.ifCond .ne 8, 3) := dk_154 0 8 (dk_at dksX6_reckonsTo_3 0 rfl rfl)
theorem dX6_reckonsTo_73 : decode cX6_reckonsTo 73 = .ok (.iload 7, 2) := dk_21 7 (dk_at dksX6_reckonsTo_3 3 rfl rfl)
theorem dX6_reckonsTo_75 : decode cX6_reckonsTo 75 = .ok (.goto 10, 3) := dk_167 0 10 (dk_at dksX6_reckonsTo_3 5 rfl rfl)
theorem dX6_reckonsTo_78 : decode cX6_reckonsTo 78 = .ok (.aload_n 0, 1) := dk_42 (dk_at dksX6_reckonsTo_3 8 rfl rfl)
theorem dX6_reckonsTo_79 : decode cX6_reckonsTo 79 = .ok (.getfield 74, 3) := dk_180 0 74 (dk_at dksX6_reckonsTo_3 9 rfl rfl)
theorem dX6_reckonsTo_82 : decode cX6_reckonsTo 82 = .ok (.iload 7, 2) := dk_21 7 (dk_at dksX6_reckonsTo_3 12 rfl rfl)
theorem dX6_reckonsTo_84 : decode cX6_reckonsTo 84 = .ok (.iaload, 1) := dk_46 (dk_at dksX6_reckonsTo_3 14 rfl rfl)
theorem dX6_reckonsTo_85 : decode cX6_reckonsTo 85 = .ok (.iastore, 1) := dk_79 (dk_at dksX6_reckonsTo_3 15 rfl rfl)
theorem dX6_reckonsTo_86 : decode cX6_reckonsTo 86 = .ok (.iload_n 3, 1) := dk_29 (dk_at dksX6_reckonsTo_3 16 rfl rfl)
theorem dX6_reckonsTo_87 : decode cX6_reckonsTo 87 = .ok (.iconst 1, 1) := dk_4 (dk_at dksX6_reckonsTo_3 17 rfl rfl)
theorem dX6_reckonsTo_88 : decode cX6_reckonsTo 88 = .ok (.iadd, 1) := dk_96 (dk_at dksX6_reckonsTo_3 18 rfl rfl)
theorem dX6_reckonsTo_89 : decode cX6_reckonsTo 89 = .ok (.istore_n 3, 1) := dk_62 (dk_at dksX6_reckonsTo_3 19 rfl rfl)
theorem dX6_reckonsTo_90 : decode cX6_reckonsTo 90 = .ok (.goto 140, 3) := dk_167 0 140 (dk_at dksX6_reckonsTo_3 20 rfl rfl)
theorem dX6_reckonsTo_93 : decode cX6_reckonsTo 93 = .ok (.iload 6, 2) := dk_21 6 (dk_at dksX6_reckonsTo_4 0 rfl rfl)
theorem dX6_reckonsTo_95 : decode cX6_reckonsTo 95 = .ok (.bipush 10, 2) := dk_16 10 (dk_at dksX6_reckonsTo_4 2 rfl rfl)
theorem dX6_reckonsTo_97 : decode cX6_reckonsTo 97 = .ok (.if_icmp .ne 24, 3) := dk_160 0 24 (dk_at dksX6_reckonsTo_4 4 rfl rfl)
theorem dX6_reckonsTo_100 : decode cX6_reckonsTo 100 = .ok (.aload_n 0, 1) := dk_42 (dk_at dksX6_reckonsTo_4 7 rfl rfl)
theorem dX6_reckonsTo_101 : decode cX6_reckonsTo 101 = .ok (.getfield 71, 3) := dk_180 0 71 (dk_at dksX6_reckonsTo_4 8 rfl rfl)
theorem dX6_reckonsTo_104 : decode cX6_reckonsTo 104 = .ok (.iload_n 3, 1) := dk_29 (dk_at dksX6_reckonsTo_4 11 rfl rfl)
theorem dX6_reckonsTo_105 : decode cX6_reckonsTo 105 = .ok (.iconst 1, 1) := dk_4 (dk_at dksX6_reckonsTo_4 12 rfl rfl)
theorem dX6_reckonsTo_106 : decode cX6_reckonsTo 106 = .ok (.isub, 1) := dk_100 (dk_at dksX6_reckonsTo_4 13 rfl rfl)
theorem dX6_reckonsTo_107 : decode cX6_reckonsTo 107 = .ok (.iconst 1, 1) := dk_4 (dk_at dksX6_reckonsTo_4 14 rfl rfl)
theorem dX6_reckonsTo_108 : decode cX6_reckonsTo 108 = .ok (.aload_n 0, 1) := dk_42 (dk_at dksX6_reckonsTo_4 15 rfl rfl)
theorem dX6_reckonsTo_109 : decode cX6_reckonsTo 109 = .ok (.getfield 71, 3) := dk_180 0 71 (dk_at dksX6_reckonsTo_4 16 rfl rfl)
theorem dX6_reckonsTo_112 : decode cX6_reckonsTo 112 = .ok (.iload_n 3, 1) := dk_29 (dk_at dksX6_reckonsTo_4 19 rfl rfl)
theorem dX6_reckonsTo_113 : decode cX6_reckonsTo 113 = .ok (.iconst 1, 1) := dk_4 (dk_at dksX6_reckonsTo_4 20 rfl rfl)
theorem dX6_reckonsTo_114 : decode cX6_reckonsTo 114 = .ok (.isub, 1) := dk_100 (dk_at dksX6_reckonsTo_4 21 rfl rfl)
theorem dX6_reckonsTo_115 : decode cX6_reckonsTo 115 = .ok (.iaload, 1) := dk_46 (dk_at dksX6_reckonsTo_4 22 rfl rfl)
theorem dX6_reckonsTo_116 : decode cX6_reckonsTo 116 = .ok (.isub, 1) := dk_100 (dk_at dksX6_reckonsTo_4 23 rfl rfl)
theorem dX6_reckonsTo_117 : decode cX6_reckonsTo 117 = .ok (.iastore, 1) := dk_79 (dk_at dksX6_reckonsTo_5 0 rfl rfl)
theorem dX6_reckonsTo_118 : decode cX6_reckonsTo 118 = .ok (.goto 112, 3) := dk_167 0 112 (dk_at dksX6_reckonsTo_5 1 rfl rfl)
theorem dX6_reckonsTo_121 : decode cX6_reckonsTo 121 = .ok (.iload 6, 2) := dk_21 6 (dk_at dksX6_reckonsTo_5 4 rfl rfl)
theorem dX6_reckonsTo_123 : decode cX6_reckonsTo 123 = .ok (.bipush 11, 2) := dk_16 11 (dk_at dksX6_reckonsTo_5 6 rfl rfl)
theorem dX6_reckonsTo_125 : decode cX6_reckonsTo 125 = .ok (.if_icmp .eq 10, 3) := dk_159 0 10 (dk_at dksX6_reckonsTo_5 8 rfl rfl)
theorem dX6_reckonsTo_128 : decode cX6_reckonsTo 128 = .ok (.iload 6, 2) := dk_21 6 (dk_at dksX6_reckonsTo_5 11 rfl rfl)
theorem dX6_reckonsTo_130 : decode cX6_reckonsTo 130 = .ok (.bipush 12, 2) := dk_16 12 (dk_at dksX6_reckonsTo_5 13 rfl rfl)
theorem dX6_reckonsTo_132 : decode cX6_reckonsTo 132 = .ok (.if_icmp .ne 43, 3) := dk_160 0 43 (dk_at dksX6_reckonsTo_5 15 rfl rfl)
theorem dX6_reckonsTo_135 : decode cX6_reckonsTo 135 = .ok (.aload_n 0, 1) := dk_42 (dk_at dksX6_reckonsTo_5 18 rfl rfl)
theorem dX6_reckonsTo_136 : decode cX6_reckonsTo 136 = .ok (.getfield 71, 3) := dk_180 0 71 (dk_at dksX6_reckonsTo_5 19 rfl rfl)
theorem dX6_reckonsTo_139 : decode cX6_reckonsTo 139 = .ok (.iload_n 3, 1) := dk_29 (dk_at dksX6_reckonsTo_5 22 rfl rfl)
theorem dX6_reckonsTo_140 : decode cX6_reckonsTo 140 = .ok (.iconst 1, 1) := dk_4 (dk_at dksX6_reckonsTo_5 23 rfl rfl)
theorem dX6_reckonsTo_141 : decode cX6_reckonsTo 141 = .ok (.isub, 1) := dk_100 (dk_at dksX6_reckonsTo_6 0 rfl rfl)
theorem dX6_reckonsTo_142 : decode cX6_reckonsTo 142 = .ok (.iaload, 1) := dk_46 (dk_at dksX6_reckonsTo_6 1 rfl rfl)
theorem dX6_reckonsTo_143 : decode cX6_reckonsTo 143 = .ok (.iload 6, 2) := dk_21 6 (dk_at dksX6_reckonsTo_6 2 rfl rfl)
theorem dX6_reckonsTo_145 : decode cX6_reckonsTo 145 = .ok (.bipush 12, 2) := dk_16 12 (dk_at dksX6_reckonsTo_6 4 rfl rfl)
theorem dX6_reckonsTo_147 : decode cX6_reckonsTo 147 = .ok (.if_icmp .ne 7, 3) := dk_160 0 7 (dk_at dksX6_reckonsTo_6 6 rfl rfl)
theorem dX6_reckonsTo_150 : decode cX6_reckonsTo 150 = .ok (.iconst 1, 1) := dk_4 (dk_at dksX6_reckonsTo_6 9 rfl rfl)
theorem dX6_reckonsTo_151 : decode cX6_reckonsTo 151 = .ok (.goto 4, 3) := dk_167 0 4 (dk_at dksX6_reckonsTo_6 10 rfl rfl)
theorem dX6_reckonsTo_154 : decode cX6_reckonsTo 154 = .ok (.iconst 0, 1) := dk_3 (dk_at dksX6_reckonsTo_6 13 rfl rfl)
theorem dX6_reckonsTo_155 : decode cX6_reckonsTo 155 = .ok (.if_icmp .ne 13, 3) := dk_160 0 13 (dk_at dksX6_reckonsTo_6 14 rfl rfl)
theorem dX6_reckonsTo_158 : decode cX6_reckonsTo 158 = .ok (.iload 4, 2) := dk_21 4 (dk_at dksX6_reckonsTo_6 17 rfl rfl)
theorem dX6_reckonsTo_160 : decode cX6_reckonsTo 160 = .ok (.iload 7, 2) := dk_21 7 (dk_at dksX6_reckonsTo_6 19 rfl rfl)
theorem dX6_reckonsTo_162 : decode cX6_reckonsTo 162 = .ok (.iadd, 1) := dk_96 (dk_at dksX6_reckonsTo_6 21 rfl rfl)
theorem dX6_reckonsTo_163 : decode cX6_reckonsTo 163 = .ok (.istore 5, 2) := dk_54 5 (dk_at dksX6_reckonsTo_6 22 rfl rfl)
theorem dX6_reckonsTo_165 : decode cX6_reckonsTo 165 = .ok (.goto 65, 3) := dk_167 0 65 (dk_at dksX6_reckonsTo_7 0 rfl rfl)
theorem dX6_reckonsTo_168 : decode cX6_reckonsTo 168 = .ok (.iload_n 3, 1) := dk_29 (dk_at dksX6_reckonsTo_7 3 rfl rfl)
theorem dX6_reckonsTo_169 : decode cX6_reckonsTo 169 = .ok (.iconst 1, 1) := dk_4 (dk_at dksX6_reckonsTo_7 4 rfl rfl)
theorem dX6_reckonsTo_170 : decode cX6_reckonsTo 170 = .ok (.isub, 1) := dk_100 (dk_at dksX6_reckonsTo_7 5 rfl rfl)
theorem dX6_reckonsTo_171 : decode cX6_reckonsTo 171 = .ok (.istore_n 3, 1) := dk_62 (dk_at dksX6_reckonsTo_7 6 rfl rfl)
theorem dX6_reckonsTo_172 : decode cX6_reckonsTo 172 = .ok (.goto 58, 3) := dk_167 0 58 (dk_at dksX6_reckonsTo_7 7 rfl rfl)
theorem dX6_reckonsTo_175 : decode cX6_reckonsTo 175 = .ok (.iload_n 3, 1) := dk_29 (dk_at dksX6_reckonsTo_7 10 rfl rfl)
theorem dX6_reckonsTo_176 : decode cX6_reckonsTo 176 = .ok (.iconst 1, 1) := dk_4 (dk_at dksX6_reckonsTo_7 11 rfl rfl)
theorem dX6_reckonsTo_177 : decode cX6_reckonsTo 177 = .ok (.isub, 1) := dk_100 (dk_at dksX6_reckonsTo_7 12 rfl rfl)
theorem dX6_reckonsTo_178 : decode cX6_reckonsTo 178 = .ok (.istore_n 3, 1) := dk_62 (dk_at dksX6_reckonsTo_7 13 rfl rfl)
theorem dX6_reckonsTo_179 : decode cX6_reckonsTo 179 = .ok (.iload 6, 2) := dk_21 6 (dk_at dksX6_reckonsTo_7 14 rfl rfl)
theorem dX6_reckonsTo_181 : decode cX6_reckonsTo 181 = .ok (.iconst 5, 1) := dk_8 (dk_at dksX6_reckonsTo_7 16 rfl rfl)
theorem dX6_reckonsTo_182 : decode cX6_reckonsTo 182 = .ok (.if_icmp .eq 10, 3) := dk_159 0 10 (dk_at dksX6_reckonsTo_7 17 rfl rfl)
theorem dX6_reckonsTo_185 : decode cX6_reckonsTo 185 = .ok (.iload 6, 2) := dk_21 6 (dk_at dksX6_reckonsTo_7 20 rfl rfl)
theorem dX6_reckonsTo_187 : decode cX6_reckonsTo 187 = .ok (.bipush 6, 2) := dk_16 6 (dk_at dksX6_reckonsTo_7 22 rfl rfl)
theorem dX6_reckonsTo_189 : decode cX6_reckonsTo 189 = .ok (.if_icmp .ne 14, 3) := dk_160 0 14 (dk_at dksX6_reckonsTo_8 0 rfl rfl)
theorem dX6_reckonsTo_192 : decode cX6_reckonsTo 192 = .ok (.aload_n 0, 1) := dk_42 (dk_at dksX6_reckonsTo_8 3 rfl rfl)
theorem dX6_reckonsTo_193 : decode cX6_reckonsTo 193 = .ok (.getfield 71, 3) := dk_180 0 71 (dk_at dksX6_reckonsTo_8 4 rfl rfl)
theorem dX6_reckonsTo_196 : decode cX6_reckonsTo 196 = .ok (.iload_n 3, 1) := dk_29 (dk_at dksX6_reckonsTo_8 7 rfl rfl)
theorem dX6_reckonsTo_197 : decode cX6_reckonsTo 197 = .ok (.iaload, 1) := dk_46 (dk_at dksX6_reckonsTo_8 8 rfl rfl)
theorem dX6_reckonsTo_198 : decode cX6_reckonsTo 198 = .ok (.ifCond .ne 5, 3) := dk_154 0 5 (dk_at dksX6_reckonsTo_8 9 rfl rfl)
theorem dX6_reckonsTo_201 : decode cX6_reckonsTo 201 = .ok (.iconst 0, 1) := dk_3 (dk_at dksX6_reckonsTo_8 12 rfl rfl)
theorem dX6_reckonsTo_202 : decode cX6_reckonsTo 202 = .ok (.ireturn, 1) := dk_172 (dk_at dksX6_reckonsTo_8 13 rfl rfl)
theorem dX6_reckonsTo_203 : decode cX6_reckonsTo 203 = .ok (.aload_n 0, 1) := dk_42 (dk_at dksX6_reckonsTo_8 14 rfl rfl)
theorem dX6_reckonsTo_204 : decode cX6_reckonsTo 204 = .ok (.getfield 71, 3) := dk_180 0 71 (dk_at dksX6_reckonsTo_8 15 rfl rfl)
theorem dX6_reckonsTo_207 : decode cX6_reckonsTo 207 = .ok (.iload_n 3, 1) := dk_29 (dk_at dksX6_reckonsTo_8 18 rfl rfl)
theorem dX6_reckonsTo_208 : decode cX6_reckonsTo 208 = .ok (.iconst 1, 1) := dk_4 (dk_at dksX6_reckonsTo_8 19 rfl rfl)
theorem dX6_reckonsTo_209 : decode cX6_reckonsTo 209 = .ok (.isub, 1) := dk_100 (dk_at dksX6_reckonsTo_8 20 rfl rfl)
theorem dX6_reckonsTo_210 : decode cX6_reckonsTo 210 = .ok (.iload 6, 2) := dk_21 6 (dk_at dksX6_reckonsTo_8 21 rfl rfl)
theorem dX6_reckonsTo_212 : decode cX6_reckonsTo 212 = .ok (.aload_n 0, 1) := dk_42 (dk_at dksX6_reckonsTo_8 23 rfl rfl)
theorem dX6_reckonsTo_213 : decode cX6_reckonsTo 213 = .ok (.getfield 71, 3) := dk_180 0 71 (dk_at dksX6_reckonsTo_9 0 rfl rfl)
theorem dX6_reckonsTo_216 : decode cX6_reckonsTo 216 = .ok (.iload_n 3, 1) := dk_29 (dk_at dksX6_reckonsTo_9 3 rfl rfl)
theorem dX6_reckonsTo_217 : decode cX6_reckonsTo 217 = .ok (.iconst 1, 1) := dk_4 (dk_at dksX6_reckonsTo_9 4 rfl rfl)
theorem dX6_reckonsTo_218 : decode cX6_reckonsTo 218 = .ok (.isub, 1) := dk_100 (dk_at dksX6_reckonsTo_9 5 rfl rfl)
theorem dX6_reckonsTo_219 : decode cX6_reckonsTo 219 = .ok (.iaload, 1) := dk_46 (dk_at dksX6_reckonsTo_9 6 rfl rfl)
theorem dX6_reckonsTo_220 : decode cX6_reckonsTo 220 = .ok (.aload_n 0, 1) := dk_42 (dk_at dksX6_reckonsTo_9 7 rfl rfl)
theorem dX6_reckonsTo_221 : decode cX6_reckonsTo 221 = .ok (.getfield 71, 3) := dk_180 0 71 (dk_at dksX6_reckonsTo_9 8 rfl rfl)
theorem dX6_reckonsTo_224 : decode cX6_reckonsTo 224 = .ok (.iload_n 3, 1) := dk_29 (dk_at dksX6_reckonsTo_9 11 rfl rfl)
theorem dX6_reckonsTo_225 : decode cX6_reckonsTo 225 = .ok (.iaload, 1) := dk_46 (dk_at dksX6_reckonsTo_9 12 rfl rfl)
theorem dX6_reckonsTo_226 : decode cX6_reckonsTo 226 = .ok (.invokestatic 265, 3) := dk_184 1 9 (dk_at dksX6_reckonsTo_9 13 rfl rfl)
theorem dX6_reckonsTo_229 : decode cX6_reckonsTo 229 = .ok (.iastore, 1) := dk_79 (dk_at dksX6_reckonsTo_9 16 rfl rfl)
theorem dX6_reckonsTo_230 : decode cX6_reckonsTo 230 = .ok (.goto (-214), 3) := dk_167 255 42 (dk_at dksX6_reckonsTo_9 17 rfl rfl)
theorem dX6_reckonsTo_233 : decode cX6_reckonsTo 233 = .ok (.aload_n 0, 1) := dk_42 (dk_at dksX6_reckonsTo_9 20 rfl rfl)
theorem dX6_reckonsTo_234 : decode cX6_reckonsTo 234 = .ok (.getfield 71, 3) := dk_180 0 71 (dk_at dksX6_reckonsTo_9 21 rfl rfl)
theorem dX6_reckonsTo_237 : decode cX6_reckonsTo 237 = .ok (.iconst 0, 1) := dk_3 (dk_at dksX6_reckonsTo_10 0 rfl rfl)
theorem dX6_reckonsTo_238 : decode cX6_reckonsTo 238 = .ok (.iaload, 1) := dk_46 (dk_at dksX6_reckonsTo_10 1 rfl rfl)
theorem dX6_reckonsTo_239 : decode cX6_reckonsTo 239 = .ok (.ireturn, 1) := dk_172 (dk_at dksX6_reckonsTo_10 2 rfl rfl)
abbrev cX6_reckon : ByteArray := prog_20_method_43_code
def yX6_reckon : MethodName := ⟨RX6, "reckon", "(III)I"⟩
def dkwX6_reckon_4 : List UInt8 := [160, 0, 7, 4, 167, 0, 4, 3, 172]
abbrev dktX6_reckon_4 : List UInt8 := dkwX6_reckon_4 ++ []
def dkwX6_reckon_3 : List UInt8 := [162, 0, 7, 4, 167, 0, 4, 3, 172, 27, 28, 164, 0, 7, 4, 167, 0, 4, 3, 172, 27, 28]
abbrev dktX6_reckon_3 : List UInt8 := dkwX6_reckon_3 ++ dktX6_reckon_4
def dkwX6_reckon_2 : List UInt8 := [27, 28, 96, 172, 27, 28, 100, 172, 27, 28, 104, 172, 27, 28, 108, 172, 27, 28, 112, 172, 27, 28]
abbrev dktX6_reckon_2 : List UInt8 := dkwX6_reckon_2 ++ dktX6_reckon_3
def dkwX6_reckon_1 : List UInt8 := [170, 0, 0, 0, 0, 0, 85, 0, 0, 0, 2, 0, 0, 0, 8, 0, 0, 0, 43, 0, 0, 0, 47, 0, 0, 0, 51, 0, 0, 0, 55, 0, 0, 0, 59, 0, 0, 0, 63, 0, 0, 0, 74]
abbrev dktX6_reckon_1 : List UInt8 := dkwX6_reckon_1 ++ dktX6_reckon_2
def dkwX6_reckon_0 : List UInt8 := [26]
abbrev dktX6_reckon_0 : List UInt8 := dkwX6_reckon_0 ++ dktX6_reckon_1
theorem dksX6_reckon_0 : cX6_reckon.data.toList.drop 0 = dktX6_reckon_0 := by decide +kernel
theorem dksX6_reckon_1 : cX6_reckon.data.toList.drop 1 = dktX6_reckon_1 := dk_seg dksX6_reckon_0 1 rfl rfl
theorem dksX6_reckon_2 : cX6_reckon.data.toList.drop 44 = dktX6_reckon_2 := dk_seg dksX6_reckon_1 43 rfl rfl
theorem dksX6_reckon_3 : cX6_reckon.data.toList.drop 66 = dktX6_reckon_3 := dk_seg dksX6_reckon_2 22 rfl rfl
theorem dksX6_reckon_4 : cX6_reckon.data.toList.drop 88 = dktX6_reckon_4 := dk_seg dksX6_reckon_3 22 rfl rfl
theorem dX6_reckon_0 : decode cX6_reckon 0 = .ok (.iload_n 0, 1) := dk_26 (dk_at dksX6_reckon_0 0 rfl rfl)
theorem dX6_reckon_1 : decode cX6_reckon 1 = .ok (.tableswitch 85 2 8 #[43, 47, 51, 55, 59, 63, 74], 43) := by decide +kernel
theorem dX6_reckon_44 : decode cX6_reckon 44 = .ok (.iload_n 1, 1) := dk_27 (dk_at dksX6_reckon_2 0 rfl rfl)
theorem dX6_reckon_45 : decode cX6_reckon 45 = .ok (.iload_n 2, 1) := dk_28 (dk_at dksX6_reckon_2 1 rfl rfl)
theorem dX6_reckon_46 : decode cX6_reckon 46 = .ok (.iadd, 1) := dk_96 (dk_at dksX6_reckon_2 2 rfl rfl)
theorem dX6_reckon_47 : decode cX6_reckon 47 = .ok (.ireturn, 1) := dk_172 (dk_at dksX6_reckon_2 3 rfl rfl)
theorem dX6_reckon_48 : decode cX6_reckon 48 = .ok (.iload_n 1, 1) := dk_27 (dk_at dksX6_reckon_2 4 rfl rfl)
theorem dX6_reckon_49 : decode cX6_reckon 49 = .ok (.iload_n 2, 1) := dk_28 (dk_at dksX6_reckon_2 5 rfl rfl)
theorem dX6_reckon_50 : decode cX6_reckon 50 = .ok (.isub, 1) := dk_100 (dk_at dksX6_reckon_2 6 rfl rfl)
theorem dX6_reckon_51 : decode cX6_reckon 51 = .ok (.ireturn, 1) := dk_172 (dk_at dksX6_reckon_2 7 rfl rfl)
theorem dX6_reckon_52 : decode cX6_reckon 52 = .ok (.iload_n 1, 1) := dk_27 (dk_at dksX6_reckon_2 8 rfl rfl)
theorem dX6_reckon_53 : decode cX6_reckon 53 = .ok (.iload_n 2, 1) := dk_28 (dk_at dksX6_reckon_2 9 rfl rfl)
theorem dX6_reckon_54 : decode cX6_reckon 54 = .ok (.imul, 1) := dk_104 (dk_at dksX6_reckon_2 10 rfl rfl)
theorem dX6_reckon_55 : decode cX6_reckon 55 = .ok (.ireturn, 1) := dk_172 (dk_at dksX6_reckon_2 11 rfl rfl)
theorem dX6_reckon_56 : decode cX6_reckon 56 = .ok (.iload_n 1, 1) := dk_27 (dk_at dksX6_reckon_2 12 rfl rfl)
theorem dX6_reckon_57 : decode cX6_reckon 57 = .ok (.iload_n 2, 1) := dk_28 (dk_at dksX6_reckon_2 13 rfl rfl)
theorem dX6_reckon_58 : decode cX6_reckon 58 = .ok (.idiv, 1) := dk_108 (dk_at dksX6_reckon_2 14 rfl rfl)
theorem dX6_reckon_59 : decode cX6_reckon 59 = .ok (.ireturn, 1) := dk_172 (dk_at dksX6_reckon_2 15 rfl rfl)
theorem dX6_reckon_60 : decode cX6_reckon 60 = .ok (.iload_n 1, 1) := dk_27 (dk_at dksX6_reckon_2 16 rfl rfl)
theorem dX6_reckon_61 : decode cX6_reckon 61 = .ok (.iload_n 2, 1) := dk_28 (dk_at dksX6_reckon_2 17 rfl rfl)
theorem dX6_reckon_62 : decode cX6_reckon 62 = .ok (.irem, 1) := dk_112 (dk_at dksX6_reckon_2 18 rfl rfl)
theorem dX6_reckon_63 : decode cX6_reckon 63 = .ok (.ireturn, 1) := dk_172 (dk_at dksX6_reckon_2 19 rfl rfl)
theorem dX6_reckon_64 : decode cX6_reckon 64 = .ok (.iload_n 1, 1) := dk_27 (dk_at dksX6_reckon_2 20 rfl rfl)
theorem dX6_reckon_65 : decode cX6_reckon 65 = .ok (.iload_n 2, 1) := dk_28 (dk_at dksX6_reckon_2 21 rfl rfl)
theorem dX6_reckon_66 : decode cX6_reckon 66 = .ok (.if_icmp .ge 7, 3) := dk_162 0 7 (dk_at dksX6_reckon_3 0 rfl rfl)
theorem dX6_reckon_69 : decode cX6_reckon 69 = .ok (.iconst 1, 1) := dk_4 (dk_at dksX6_reckon_3 3 rfl rfl)
theorem dX6_reckon_70 : decode cX6_reckon 70 = .ok (.goto 4, 3) := dk_167 0 4 (dk_at dksX6_reckon_3 4 rfl rfl)
theorem dX6_reckon_73 : decode cX6_reckon 73 = .ok (.iconst 0, 1) := dk_3 (dk_at dksX6_reckon_3 7 rfl rfl)
theorem dX6_reckon_74 : decode cX6_reckon 74 = .ok (.ireturn, 1) := dk_172 (dk_at dksX6_reckon_3 8 rfl rfl)
theorem dX6_reckon_75 : decode cX6_reckon 75 = .ok (.iload_n 1, 1) := dk_27 (dk_at dksX6_reckon_3 9 rfl rfl)
theorem dX6_reckon_76 : decode cX6_reckon 76 = .ok (.iload_n 2, 1) := dk_28 (dk_at dksX6_reckon_3 10 rfl rfl)
theorem dX6_reckon_77 : decode cX6_reckon 77 = .ok (.if_icmp .le 7, 3) := dk_164 0 7 (dk_at dksX6_reckon_3 11 rfl rfl)
theorem dX6_reckon_80 : decode cX6_reckon 80 = .ok (.iconst 1, 1) := dk_4 (dk_at dksX6_reckon_3 14 rfl rfl)
theorem dX6_reckon_81 : decode cX6_reckon 81 = .ok (.goto 4, 3) := dk_167 0 4 (dk_at dksX6_reckon_3 15 rfl rfl)
theorem dX6_reckon_84 : decode cX6_reckon 84 = .ok (.iconst 0, 1) := dk_3 (dk_at dksX6_reckon_3 18 rfl rfl)
theorem dX6_reckon_85 : decode cX6_reckon 85 = .ok (.ireturn, 1) := dk_172 (dk_at dksX6_reckon_3 19 rfl rfl)
theorem dX6_reckon_86 : decode cX6_reckon 86 = .ok (.iload_n 1, 1) := dk_27 (dk_at dksX6_reckon_3 20 rfl rfl)
theorem dX6_reckon_87 : decode cX6_reckon 87 = .ok (.iload_n 2, 1) := dk_28 (dk_at dksX6_reckon_3 21 rfl rfl)
theorem dX6_reckon_88 : decode cX6_reckon 88 = .ok (.if_icmp .ne 7, 3) := dk_160 0 7 (dk_at dksX6_reckon_4 0 rfl rfl)
theorem dX6_reckon_91 : decode cX6_reckon 91 = .ok (.iconst 1, 1) := dk_4 (dk_at dksX6_reckon_4 3 rfl rfl)
theorem dX6_reckon_92 : decode cX6_reckon 92 = .ok (.goto 4, 3) := dk_167 0 4 (dk_at dksX6_reckon_4 4 rfl rfl)
theorem dX6_reckon_95 : decode cX6_reckon 95 = .ok (.iconst 0, 1) := dk_3 (dk_at dksX6_reckon_4 7 rfl rfl)
theorem dX6_reckon_96 : decode cX6_reckon 96 = .ok (.ireturn, 1) := dk_172 (dk_at dksX6_reckon_4 8 rfl rfl)
abbrev cX6_byLaw : ByteArray := prog_20_method_45_code
def yX6_byLaw : MethodName := ⟨RX6, "byLaw", "(III)I"⟩
def dkwX6_byLaw_4 : List UInt8 := [167, 255, 166, 29, 172]
abbrev dktX6_byLaw_4 : List UInt8 := dkwX6_byLaw_4 ++ []
def dkwX6_byLaw_3 : List UInt8 := [156, 0, 7, 3, 167, 0, 15, 21, 5, 28, 164, 0, 7, 28, 167, 0, 5, 21, 5, 172, 132, 4, 1]
abbrev dktX6_byLaw_3 : List UInt8 := dkwX6_byLaw_3 ++ dktX6_byLaw_4
def dkwX6_byLaw_2 : List UInt8 := [42, 42, 180, 0, 62, 21, 4, 46, 42, 180, 0, 65, 21, 4, 46, 182, 1, 13, 54, 5, 21, 5]
abbrev dktX6_byLaw_2 : List UInt8 := dkwX6_byLaw_2 ++ dktX6_byLaw_3
def dkwX6_byLaw_1 : List UInt8 := [42, 180, 0, 65, 21, 4, 46, 42, 180, 0, 68, 21, 4, 46, 182, 1, 13, 4, 159, 0, 6, 167, 0, 45]
abbrev dktX6_byLaw_1 : List UInt8 := dkwX6_byLaw_1 ++ dktX6_byLaw_2
def dkwX6_byLaw_0 : List UInt8 := [3, 54, 4, 21, 4, 42, 180, 1, 6, 162, 0, 87, 42, 180, 0, 59, 21, 4, 46, 27, 160, 0, 70, 42]
abbrev dktX6_byLaw_0 : List UInt8 := dkwX6_byLaw_0 ++ dktX6_byLaw_1
theorem dksX6_byLaw_0 : cX6_byLaw.data.toList.drop 0 = dktX6_byLaw_0 := by decide +kernel
theorem dksX6_byLaw_1 : cX6_byLaw.data.toList.drop 24 = dktX6_byLaw_1 := dk_seg dksX6_byLaw_0 24 rfl rfl
theorem dksX6_byLaw_2 : cX6_byLaw.data.toList.drop 48 = dktX6_byLaw_2 := dk_seg dksX6_byLaw_1 24 rfl rfl
theorem dksX6_byLaw_3 : cX6_byLaw.data.toList.drop 70 = dktX6_byLaw_3 := dk_seg dksX6_byLaw_2 22 rfl rfl
theorem dksX6_byLaw_4 : cX6_byLaw.data.toList.drop 93 = dktX6_byLaw_4 := dk_seg dksX6_byLaw_3 23 rfl rfl
theorem dX6_byLaw_0 : decode cX6_byLaw 0 = .ok (.iconst 0, 1) := dk_3 (dk_at dksX6_byLaw_0 0 rfl rfl)
theorem dX6_byLaw_1 : decode cX6_byLaw 1 = .ok (.istore 4, 2) := dk_54 4 (dk_at dksX6_byLaw_0 1 rfl rfl)
theorem dX6_byLaw_3 : decode cX6_byLaw 3 = .ok (.iload 4, 2) := dk_21 4 (dk_at dksX6_byLaw_0 3 rfl rfl)
theorem dX6_byLaw_5 : decode cX6_byLaw 5 = .ok (.aload_n 0, 1) := dk_42 (dk_at dksX6_byLaw_0 5 rfl rfl)
theorem dX6_byLaw_6 : decode cX6_byLaw 6 = .ok (.getfield 262, 3) := dk_180 1 6 (dk_at dksX6_byLaw_0 6 rfl rfl)
theorem dX6_byLaw_9 : decode cX6_byLaw 9 = .ok (.if_icmp .ge 87, 3) := dk_162 0 87 (dk_at dksX6_byLaw_0 9 rfl rfl)
theorem dX6_byLaw_12 : decode cX6_byLaw 12 = .ok (.aload_n 0, 1) := dk_42 (dk_at dksX6_byLaw_0 12 rfl rfl)
theorem dX6_byLaw_13 : decode cX6_byLaw 13 = .ok (.getfield 59, 3) := dk_180 0 59 (dk_at dksX6_byLaw_0 13 rfl rfl)
theorem dX6_byLaw_16 : decode cX6_byLaw 16 = .ok (.iload 4, 2) := dk_21 4 (dk_at dksX6_byLaw_0 16 rfl rfl)
theorem dX6_byLaw_18 : decode cX6_byLaw 18 = .ok (.iaload, 1) := dk_46 (dk_at dksX6_byLaw_0 18 rfl rfl)
theorem dX6_byLaw_19 : decode cX6_byLaw 19 = .ok (.iload_n 1, 1) := dk_27 (dk_at dksX6_byLaw_0 19 rfl rfl)
theorem dX6_byLaw_20 : decode cX6_byLaw 20 = .ok (.if_icmp .ne 70, 3) := dk_160 0 70 (dk_at dksX6_byLaw_0 20 rfl rfl)
theorem dX6_byLaw_23 : decode cX6_byLaw 23 = .ok (.aload_n 0, 1) := dk_42 (dk_at dksX6_byLaw_0 23 rfl rfl)
theorem dX6_byLaw_24 : decode cX6_byLaw 24 = .ok (.aload_n 0, 1) := dk_42 (dk_at dksX6_byLaw_1 0 rfl rfl)
theorem dX6_byLaw_25 : decode cX6_byLaw 25 = .ok (.getfield 65, 3) := dk_180 0 65 (dk_at dksX6_byLaw_1 1 rfl rfl)
theorem dX6_byLaw_28 : decode cX6_byLaw 28 = .ok (.iload 4, 2) := dk_21 4 (dk_at dksX6_byLaw_1 4 rfl rfl)
theorem dX6_byLaw_30 : decode cX6_byLaw 30 = .ok (.iaload, 1) := dk_46 (dk_at dksX6_byLaw_1 6 rfl rfl)
theorem dX6_byLaw_31 : decode cX6_byLaw 31 = .ok (.aload_n 0, 1) := dk_42 (dk_at dksX6_byLaw_1 7 rfl rfl)
theorem dX6_byLaw_32 : decode cX6_byLaw 32 = .ok (.getfield 68, 3) := dk_180 0 68 (dk_at dksX6_byLaw_1 8 rfl rfl)
theorem dX6_byLaw_35 : decode cX6_byLaw 35 = .ok (.iload 4, 2) := dk_21 4 (dk_at dksX6_byLaw_1 11 rfl rfl)
theorem dX6_byLaw_37 : decode cX6_byLaw 37 = .ok (.iaload, 1) := dk_46 (dk_at dksX6_byLaw_1 13 rfl rfl)
theorem dX6_byLaw_38 : decode cX6_byLaw 38 = .ok (.invokevirtual 269, 3) := dk_182 1 13 (dk_at dksX6_byLaw_1 14 rfl rfl)
theorem dX6_byLaw_41 : decode cX6_byLaw 41 = .ok (.iconst 1, 1) := dk_4 (dk_at dksX6_byLaw_1 17 rfl rfl)
theorem dX6_byLaw_42 : decode cX6_byLaw 42 = .ok (.if_icmp .eq 6, 3) := dk_159 0 6 (dk_at dksX6_byLaw_1 18 rfl rfl)
theorem dX6_byLaw_45 : decode cX6_byLaw 45 = .ok (.goto 45, 3) := dk_167 0 45 (dk_at dksX6_byLaw_1 21 rfl rfl)
theorem dX6_byLaw_48 : decode cX6_byLaw 48 = .ok (.aload_n 0, 1) := dk_42 (dk_at dksX6_byLaw_2 0 rfl rfl)
theorem dX6_byLaw_49 : decode cX6_byLaw 49 = .ok (.aload_n 0, 1) := dk_42 (dk_at dksX6_byLaw_2 1 rfl rfl)
theorem dX6_byLaw_50 : decode cX6_byLaw 50 = .ok (.getfield 62, 3) := dk_180 0 62 (dk_at dksX6_byLaw_2 2 rfl rfl)
theorem dX6_byLaw_53 : decode cX6_byLaw 53 = .ok (.iload 4, 2) := dk_21 4 (dk_at dksX6_byLaw_2 5 rfl rfl)
theorem dX6_byLaw_55 : decode cX6_byLaw 55 = .ok (.iaload, 1) := dk_46 (dk_at dksX6_byLaw_2 7 rfl rfl)
theorem dX6_byLaw_56 : decode cX6_byLaw 56 = .ok (.aload_n 0, 1) := dk_42 (dk_at dksX6_byLaw_2 8 rfl rfl)
theorem dX6_byLaw_57 : decode cX6_byLaw 57 = .ok (.getfield 65, 3) := dk_180 0 65 (dk_at dksX6_byLaw_2 9 rfl rfl)
theorem dX6_byLaw_60 : decode cX6_byLaw 60 = .ok (.iload 4, 2) := dk_21 4 (dk_at dksX6_byLaw_2 12 rfl rfl)
theorem dX6_byLaw_62 : decode cX6_byLaw 62 = .ok (.iaload, 1) := dk_46 (dk_at dksX6_byLaw_2 14 rfl rfl)
theorem dX6_byLaw_63 : decode cX6_byLaw 63 = .ok (.invokevirtual 269, 3) := dk_182 1 13 (dk_at dksX6_byLaw_2 15 rfl rfl)
theorem dX6_byLaw_66 : decode cX6_byLaw 66 = .ok (.istore 5, 2) := dk_54 5 (dk_at dksX6_byLaw_2 18 rfl rfl)
theorem dX6_byLaw_68 : decode cX6_byLaw 68 = .ok (.iload 5, 2) := dk_21 5 (dk_at dksX6_byLaw_2 20 rfl rfl)
theorem dX6_byLaw_70 : decode cX6_byLaw 70 = .ok (.ifCond .ge 7, 3) := dk_156 0 7 (dk_at dksX6_byLaw_3 0 rfl rfl)
theorem dX6_byLaw_73 : decode cX6_byLaw 73 = .ok (.iconst 0, 1) := dk_3 (dk_at dksX6_byLaw_3 3 rfl rfl)
theorem dX6_byLaw_74 : decode cX6_byLaw 74 = .ok (.goto 15, 3) := dk_167 0 15 (dk_at dksX6_byLaw_3 4 rfl rfl)
theorem dX6_byLaw_77 : decode cX6_byLaw 77 = .ok (.iload 5, 2) := dk_21 5 (dk_at dksX6_byLaw_3 7 rfl rfl)
theorem dX6_byLaw_79 : decode cX6_byLaw 79 = .ok (.iload_n 2, 1) := dk_28 (dk_at dksX6_byLaw_3 9 rfl rfl)
theorem dX6_byLaw_80 : decode cX6_byLaw 80 = .ok (.if_icmp .le 7, 3) := dk_164 0 7 (dk_at dksX6_byLaw_3 10 rfl rfl)
theorem dX6_byLaw_83 : decode cX6_byLaw 83 = .ok (.iload_n 2, 1) := dk_28 (dk_at dksX6_byLaw_3 13 rfl rfl)
theorem dX6_byLaw_84 : decode cX6_byLaw 84 = .ok (.goto 5, 3) := dk_167 0 5 (dk_at dksX6_byLaw_3 14 rfl rfl)
theorem dX6_byLaw_87 : decode cX6_byLaw 87 = .ok (.iload 5, 2) := dk_21 5 (dk_at dksX6_byLaw_3 17 rfl rfl)
theorem dX6_byLaw_89 : decode cX6_byLaw 89 = .ok (.ireturn, 1) := dk_172 (dk_at dksX6_byLaw_3 19 rfl rfl)
theorem dX6_byLaw_90 : decode cX6_byLaw 90 = .ok (.iinc 4 1, 3) := dk_132 4 1 (dk_at dksX6_byLaw_3 20 rfl rfl)
theorem dX6_byLaw_93 : decode cX6_byLaw 93 = .ok (.goto (-90), 3) := dk_167 255 166 (dk_at dksX6_byLaw_4 0 rfl rfl)
theorem dX6_byLaw_96 : decode cX6_byLaw 96 = .ok (.iload_n 3, 1) := dk_29 (dk_at dksX6_byLaw_4 3 rfl rfl)
theorem dX6_byLaw_97 : decode cX6_byLaw 97 = .ok (.ireturn, 1) := dk_172 (dk_at dksX6_byLaw_4 4 rfl rfl)
abbrev cX6_min : ByteArray := prog_20_method_3_code
def yX6_min : MethodName := ⟨RX6, "min", "(II)I"⟩
def dkwX6_min_0 : List UInt8 := [26, 27, 162, 0, 7, 26, 167, 0, 4, 27, 172]
abbrev dktX6_min_0 : List UInt8 := dkwX6_min_0 ++ []
theorem dksX6_min_0 : cX6_min.data.toList.drop 0 = dktX6_min_0 := by decide +kernel
theorem dX6_min_0 : decode cX6_min 0 = .ok (.iload_n 0, 1) := dk_26 (dk_at dksX6_min_0 0 rfl rfl)
theorem dX6_min_1 : decode cX6_min 1 = .ok (.iload_n 1, 1) := dk_27 (dk_at dksX6_min_0 1 rfl rfl)
theorem dX6_min_2 : decode cX6_min 2 = .ok (.if_icmp .ge 7, 3) := dk_162 0 7 (dk_at dksX6_min_0 2 rfl rfl)
theorem dX6_min_5 : decode cX6_min 5 = .ok (.iload_n 0, 1) := dk_26 (dk_at dksX6_min_0 5 rfl rfl)
theorem dX6_min_6 : decode cX6_min 6 = .ok (.goto 4, 3) := dk_167 0 4 (dk_at dksX6_min_0 6 rfl rfl)
theorem dX6_min_9 : decode cX6_min 9 = .ok (.iload_n 1, 1) := dk_27 (dk_at dksX6_min_0 9 rfl rfl)
theorem dX6_min_10 : decode cX6_min 10 = .ok (.ireturn, 1) := dk_172 (dk_at dksX6_min_0 10 rfl rfl)
abbrev cX6_tried : ByteArray := prog_20_method_65_code
def yX6_tried : MethodName := ⟨RX6, "tried", "(II)I"⟩
def dkwX6_tried_6 : List UInt8 := [96, 16, 10, 100, 46, 62, 42, 180, 0, 13, 42, 180, 0, 7, 184, 1, 96, 29, 172]
abbrev dktX6_tried_6 : List UInt8 := dkwX6_tried_6 ++ []
def dkwX6_tried_5 : List UInt8 := [180, 0, 7, 16, 17, 46, 62, 167, 0, 23, 42, 182, 1, 103, 62, 167, 0, 15, 42, 180, 0, 7, 3, 28]
abbrev dktX6_tried_5 : List UInt8 := dkwX6_tried_5 ++ dktX6_tried_6
def dkwX6_tried_4 : List UInt8 := [42, 180, 1, 80, 62, 167, 0, 48, 42, 180, 0, 7, 16, 16, 46, 184, 1, 100, 62, 167, 0, 34, 42]
abbrev dktX6_tried_4 : List UInt8 := dkwX6_tried_4 ++ dktX6_tried_5
def dkwX6_tried_3 : List UInt8 := [170, 0, 0, 0, 0, 0, 72, 0, 0, 0, 0, 0, 0, 0, 3, 0, 0, 0, 31, 0, 0, 0, 39, 0, 0, 0, 53, 0, 0, 0, 64]
abbrev dktX6_tried_3 : List UInt8 := dkwX6_tried_3 ++ dktX6_tried_4
def dkwX6_tried_2 : List UInt8 := [28]
abbrev dktX6_tried_2 : List UInt8 := dkwX6_tried_2 ++ dktX6_tried_3
def dkwX6_tried_1 : List UInt8 := [182, 0, 159, 154, 0, 5, 2, 172, 42, 180, 0, 7, 42, 180, 0, 13, 184, 1, 96, 42, 27, 182, 1, 93]
abbrev dktX6_tried_1 : List UInt8 := dkwX6_tried_1 ++ dktX6_tried_2
def dkwX6_tried_0 : List UInt8 := [27, 4, 16, 100, 184, 0, 134, 153, 0, 23, 28, 3, 6, 184, 0, 134, 154, 0, 16, 42, 28, 16, 10, 100]
abbrev dktX6_tried_0 : List UInt8 := dkwX6_tried_0 ++ dktX6_tried_1
theorem dksX6_tried_0 : cX6_tried.data.toList.drop 0 = dktX6_tried_0 := by decide +kernel
theorem dksX6_tried_1 : cX6_tried.data.toList.drop 24 = dktX6_tried_1 := dk_seg dksX6_tried_0 24 rfl rfl
theorem dksX6_tried_2 : cX6_tried.data.toList.drop 48 = dktX6_tried_2 := dk_seg dksX6_tried_1 24 rfl rfl
theorem dksX6_tried_3 : cX6_tried.data.toList.drop 49 = dktX6_tried_3 := dk_seg dksX6_tried_2 1 rfl rfl
theorem dksX6_tried_4 : cX6_tried.data.toList.drop 80 = dktX6_tried_4 := dk_seg dksX6_tried_3 31 rfl rfl
theorem dksX6_tried_5 : cX6_tried.data.toList.drop 103 = dktX6_tried_5 := dk_seg dksX6_tried_4 23 rfl rfl
theorem dksX6_tried_6 : cX6_tried.data.toList.drop 127 = dktX6_tried_6 := dk_seg dksX6_tried_5 24 rfl rfl
theorem dX6_tried_0 : decode cX6_tried 0 = .ok (.iload_n 1, 1) := dk_27 (dk_at dksX6_tried_0 0 rfl rfl)
theorem dX6_tried_1 : decode cX6_tried 1 = .ok (.iconst 1, 1) := dk_4 (dk_at dksX6_tried_0 1 rfl rfl)
theorem dX6_tried_2 : decode cX6_tried 2 = .ok (.bipush 100, 2) := dk_16 100 (dk_at dksX6_tried_0 2 rfl rfl)
theorem dX6_tried_4 : decode cX6_tried 4 = .ok (.invokestatic 134, 3) := dk_184 0 134 (dk_at dksX6_tried_0 4 rfl rfl)
theorem dX6_tried_7 : decode cX6_tried 7 = .ok (.ifCond .eq 23, 3) := dk_153 0 23 (dk_at dksX6_tried_0 7 rfl rfl)
theorem dX6_tried_10 : decode cX6_tried 10 = .ok (.iload_n 2, 1) := dk_28 (dk_at dksX6_tried_0 10 rfl rfl)
theorem dX6_tried_11 : decode cX6_tried 11 = .ok (.iconst 0, 1) := dk_3 (dk_at dksX6_tried_0 11 rfl rfl)
theorem dX6_tried_12 : decode cX6_tried 12 = .ok (.iconst 3, 1) := dk_6 (dk_at dksX6_tried_0 12 rfl rfl)
theorem dX6_tried_13 : decode cX6_tried 13 = .ok (.invokestatic 134, 3) := dk_184 0 134 (dk_at dksX6_tried_0 13 rfl rfl)
theorem dX6_tried_16 : decode cX6_tried 16 = .ok (.ifCond .ne 16, 3) := dk_154 0 16 (dk_at dksX6_tried_0 16 rfl rfl)
theorem dX6_tried_19 : decode cX6_tried 19 = .ok (.aload_n 0, 1) := dk_42 (dk_at dksX6_tried_0 19 rfl rfl)
theorem dX6_tried_20 : decode cX6_tried 20 = .ok (.iload_n 2, 1) := dk_28 (dk_at dksX6_tried_0 20 rfl rfl)
theorem dX6_tried_21 : decode cX6_tried 21 = .ok (.bipush 10, 2) := dk_16 10 (dk_at dksX6_tried_0 21 rfl rfl)
theorem dX6_tried_23 : decode cX6_tried 23 = .ok (.isub, 1) := dk_100 (dk_at dksX6_tried_0 23 rfl rfl)
theorem dX6_tried_24 : decode cX6_tried 24 = .ok (.invokevirtual 159, 3) := dk_182 0 159 (dk_at dksX6_tried_1 0 rfl rfl)
theorem dX6_tried_27 : decode cX6_tried 27 = .ok (.ifCond .ne 5, 3) := dk_154 0 5 (dk_at dksX6_tried_1 3 rfl rfl)
theorem dX6_tried_30 : decode cX6_tried 30 = .ok (.iconst (-1), 1) := dk_2 (dk_at dksX6_tried_1 6 rfl rfl)
theorem dX6_tried_31 : decode cX6_tried 31 = .ok (.ireturn, 1) := dk_172 (dk_at dksX6_tried_1 7 rfl rfl)
theorem dX6_tried_32 : decode cX6_tried 32 = .ok (.aload_n 0, 1) := dk_42 (dk_at dksX6_tried_1 8 rfl rfl)
theorem dX6_tried_33 : decode cX6_tried 33 = .ok (.getfield 7, 3) := dk_180 0 7 (dk_at dksX6_tried_1 9 rfl rfl)
theorem dX6_tried_36 : decode cX6_tried 36 = .ok (.aload_n 0, 1) := dk_42 (dk_at dksX6_tried_1 12 rfl rfl)
theorem dX6_tried_37 : decode cX6_tried 37 = .ok (.getfield 13, 3) := dk_180 0 13 (dk_at dksX6_tried_1 13 rfl rfl)
theorem dX6_tried_40 : decode cX6_tried 40 = .ok (.invokestatic 352, 3) := dk_184 1 96 (dk_at dksX6_tried_1 16 rfl rfl)
theorem dX6_tried_43 : decode cX6_tried 43 = .ok (.aload_n 0, 1) := dk_42 (dk_at dksX6_tried_1 19 rfl rfl)
theorem dX6_tried_44 : decode cX6_tried 44 = .ok (.iload_n 1, 1) := dk_27 (dk_at dksX6_tried_1 20 rfl rfl)
theorem dX6_tried_45 : decode cX6_tried 45 = .ok (.invokevirtual 349, 3) := dk_182 1 93 (dk_at dksX6_tried_1 21 rfl rfl)
theorem dX6_tried_48 : decode cX6_tried 48 = .ok (.iload_n 2, 1) := dk_28 (dk_at dksX6_tried_2 0 rfl rfl)
theorem dX6_tried_49 : decode cX6_tried 49 = .ok (.tableswitch 72 0 3 #[31, 39, 53, 64], 31) := by decide +kernel
theorem dX6_tried_80 : decode cX6_tried 80 = .ok (.aload_n 0, 1) := dk_42 (dk_at dksX6_tried_4 0 rfl rfl)
theorem dX6_tried_81 : decode cX6_tried 81 = .ok (.getfield 336, 3) := dk_180 1 80 (dk_at dksX6_tried_4 1 rfl rfl)
theorem dX6_tried_84 : decode cX6_tried 84 = .ok (.istore_n 3, 1) := dk_62 (dk_at dksX6_tried_4 4 rfl rfl)
theorem dX6_tried_85 : decode cX6_tried 85 = .ok (.goto 48, 3) := dk_167 0 48 (dk_at dksX6_tried_4 5 rfl rfl)
theorem dX6_tried_88 : decode cX6_tried 88 = .ok (.aload_n 0, 1) := dk_42 (dk_at dksX6_tried_4 8 rfl rfl)
theorem dX6_tried_89 : decode cX6_tried 89 = .ok (.getfield 7, 3) := dk_180 0 7 (dk_at dksX6_tried_4 9 rfl rfl)
theorem dX6_tried_92 : decode cX6_tried 92 = .ok (.bipush 16, 2) := dk_16 16 (dk_at dksX6_tried_4 12 rfl rfl)
theorem dX6_tried_94 : decode cX6_tried 94 = .ok (.iaload, 1) := dk_46 (dk_at dksX6_tried_4 14 rfl rfl)
theorem dX6_tried_95 : decode cX6_tried 95 = .ok (.invokestatic 356, 3) := dk_184 1 100 (dk_at dksX6_tried_4 15 rfl rfl)
theorem dX6_tried_98 : decode cX6_tried 98 = .ok (.istore_n 3, 1) := dk_62 (dk_at dksX6_tried_4 18 rfl rfl)
theorem dX6_tried_99 : decode cX6_tried 99 = .ok (.goto 34, 3) := dk_167 0 34 (dk_at dksX6_tried_4 19 rfl rfl)
theorem dX6_tried_102 : decode cX6_tried 102 = .ok (.aload_n 0, 1) := dk_42 (dk_at dksX6_tried_4 22 rfl rfl)
theorem dX6_tried_103 : decode cX6_tried 103 = .ok (.getfield 7, 3) := dk_180 0 7 (dk_at dksX6_tried_5 0 rfl rfl)
theorem dX6_tried_106 : decode cX6_tried 106 = .ok (.bipush 17, 2) := dk_16 17 (dk_at dksX6_tried_5 3 rfl rfl)
theorem dX6_tried_108 : decode cX6_tried 108 = .ok (.iaload, 1) := dk_46 (dk_at dksX6_tried_5 5 rfl rfl)
theorem dX6_tried_109 : decode cX6_tried 109 = .ok (.istore_n 3, 1) := dk_62 (dk_at dksX6_tried_5 6 rfl rfl)
theorem dX6_tried_110 : decode cX6_tried 110 = .ok (.goto 23, 3) := dk_167 0 23 (dk_at dksX6_tried_5 7 rfl rfl)
theorem dX6_tried_113 : decode cX6_tried 113 = .ok (.aload_n 0, 1) := dk_42 (dk_at dksX6_tried_5 10 rfl rfl)
theorem dX6_tried_114 : decode cX6_tried 114 = .ok (.invokevirtual 359, 3) := dk_182 1 103 (dk_at dksX6_tried_5 11 rfl rfl)
theorem dX6_tried_117 : decode cX6_tried 117 = .ok (.istore_n 3, 1) := dk_62 (dk_at dksX6_tried_5 14 rfl rfl)
theorem dX6_tried_118 : decode cX6_tried 118 = .ok (.goto 15, 3) := dk_167 0 15 (dk_at dksX6_tried_5 15 rfl rfl)
theorem dX6_tried_121 : decode cX6_tried 121 = .ok (.aload_n 0, 1) := dk_42 (dk_at dksX6_tried_5 18 rfl rfl)
theorem dX6_tried_122 : decode cX6_tried 122 = .ok (.getfield 7, 3) := dk_180 0 7 (dk_at dksX6_tried_5 19 rfl rfl)
theorem dX6_tried_125 : decode cX6_tried 125 = .ok (.iconst 0, 1) := dk_3 (dk_at dksX6_tried_5 22 rfl rfl)
theorem dX6_tried_126 : decode cX6_tried 126 = .ok (.iload_n 2, 1) := dk_28 (dk_at dksX6_tried_5 23 rfl rfl)
theorem dX6_tried_127 : decode cX6_tried 127 = .ok (.iadd, 1) := dk_96 (dk_at dksX6_tried_6 0 rfl rfl)
theorem dX6_tried_128 : decode cX6_tried 128 = .ok (.bipush 10, 2) := dk_16 10 (dk_at dksX6_tried_6 1 rfl rfl)
theorem dX6_tried_130 : decode cX6_tried 130 = .ok (.isub, 1) := dk_100 (dk_at dksX6_tried_6 3 rfl rfl)
theorem dX6_tried_131 : decode cX6_tried 131 = .ok (.iaload, 1) := dk_46 (dk_at dksX6_tried_6 4 rfl rfl)
theorem dX6_tried_132 : decode cX6_tried 132 = .ok (.istore_n 3, 1) := dk_62 (dk_at dksX6_tried_6 5 rfl rfl)
theorem dX6_tried_133 : decode cX6_tried 133 = .ok (.aload_n 0, 1) := dk_42 (dk_at dksX6_tried_6 6 rfl rfl)
theorem dX6_tried_134 : decode cX6_tried 134 = .ok (.getfield 13, 3) := dk_180 0 13 (dk_at dksX6_tried_6 7 rfl rfl)
theorem dX6_tried_137 : decode cX6_tried 137 = .ok (.aload_n 0, 1) := dk_42 (dk_at dksX6_tried_6 10 rfl rfl)
theorem dX6_tried_138 : decode cX6_tried 138 = .ok (.getfield 7, 3) := dk_180 0 7 (dk_at dksX6_tried_6 11 rfl rfl)
theorem dX6_tried_141 : decode cX6_tried 141 = .ok (.invokestatic 352, 3) := dk_184 1 96 (dk_at dksX6_tried_6 14 rfl rfl)
theorem dX6_tried_144 : decode cX6_tried 144 = .ok (.iload_n 3, 1) := dk_29 (dk_at dksX6_tried_6 17 rfl rfl)
theorem dX6_tried_145 : decode cX6_tried 145 = .ok (.ireturn, 1) := dk_172 (dk_at dksX6_tried_6 18 rfl rfl)
abbrev cX6_copies : ByteArray := prog_20_method_9_code
def yX6_copies : MethodName := ⟨RX6, "copies", "([I[I)V"⟩
def dkwX6_copies_0 : List UInt8 := [3, 61, 28, 16, 21, 162, 0, 15, 43, 28, 42, 28, 46, 79, 132, 2, 1, 167, 255, 241, 177]
abbrev dktX6_copies_0 : List UInt8 := dkwX6_copies_0 ++ []
theorem dksX6_copies_0 : cX6_copies.data.toList.drop 0 = dktX6_copies_0 := by decide +kernel
theorem dX6_copies_0 : decode cX6_copies 0 = .ok (.iconst 0, 1) := dk_3 (dk_at dksX6_copies_0 0 rfl rfl)
theorem dX6_copies_1 : decode cX6_copies 1 = .ok (.istore_n 2, 1) := dk_61 (dk_at dksX6_copies_0 1 rfl rfl)
theorem dX6_copies_2 : decode cX6_copies 2 = .ok (.iload_n 2, 1) := dk_28 (dk_at dksX6_copies_0 2 rfl rfl)
theorem dX6_copies_3 : decode cX6_copies 3 = .ok (.bipush 21, 2) := dk_16 21 (dk_at dksX6_copies_0 3 rfl rfl)
theorem dX6_copies_5 : decode cX6_copies 5 = .ok (.if_icmp .ge 15, 3) := dk_162 0 15 (dk_at dksX6_copies_0 5 rfl rfl)
theorem dX6_copies_8 : decode cX6_copies 8 = .ok (.aload_n 1, 1) := dk_43 (dk_at dksX6_copies_0 8 rfl rfl)
theorem dX6_copies_9 : decode cX6_copies 9 = .ok (.iload_n 2, 1) := dk_28 (dk_at dksX6_copies_0 9 rfl rfl)
theorem dX6_copies_10 : decode cX6_copies 10 = .ok (.aload_n 0, 1) := dk_42 (dk_at dksX6_copies_0 10 rfl rfl)
theorem dX6_copies_11 : decode cX6_copies 11 = .ok (.iload_n 2, 1) := dk_28 (dk_at dksX6_copies_0 11 rfl rfl)
theorem dX6_copies_12 : decode cX6_copies 12 = .ok (.iaload, 1) := dk_46 (dk_at dksX6_copies_0 12 rfl rfl)
theorem dX6_copies_13 : decode cX6_copies 13 = .ok (.iastore, 1) := dk_79 (dk_at dksX6_copies_0 13 rfl rfl)
theorem dX6_copies_14 : decode cX6_copies 14 = .ok (.iinc 2 1, 3) := dk_132 2 1 (dk_at dksX6_copies_0 14 rfl rfl)
theorem dX6_copies_17 : decode cX6_copies 17 = .ok (.goto (-15), 3) := dk_167 255 241 (dk_at dksX6_copies_0 17 rfl rfl)
theorem dX6_copies_20 : decode cX6_copies 20 = .ok (.return_, 1) := dk_177 (dk_at dksX6_copies_0 20 rfl rfl)
abbrev cX6_orNone : ByteArray := prog_20_method_64_code
def yX6_orNone : MethodName := ⟨RX6, "orNone", "(I)I"⟩
def dkwX6_orNone_0 : List UInt8 := [26, 2, 160, 0, 8, 16, 254, 167, 0, 4, 26, 172]
abbrev dktX6_orNone_0 : List UInt8 := dkwX6_orNone_0 ++ []
theorem dksX6_orNone_0 : cX6_orNone.data.toList.drop 0 = dktX6_orNone_0 := by decide +kernel
theorem dX6_orNone_0 : decode cX6_orNone 0 = .ok (.iload_n 0, 1) := dk_26 (dk_at dksX6_orNone_0 0 rfl rfl)
theorem dX6_orNone_1 : decode cX6_orNone 1 = .ok (.iconst (-1), 1) := dk_2 (dk_at dksX6_orNone_0 1 rfl rfl)
theorem dX6_orNone_2 : decode cX6_orNone 2 = .ok (.if_icmp .ne 8, 3) := dk_160 0 8 (dk_at dksX6_orNone_0 2 rfl rfl)
theorem dX6_orNone_5 : decode cX6_orNone 5 = .ok (.bipush (-2), 2) := dk_16 254 (dk_at dksX6_orNone_0 5 rfl rfl)
theorem dX6_orNone_7 : decode cX6_orNone 7 = .ok (.goto 4, 3) := dk_167 0 4 (dk_at dksX6_orNone_0 7 rfl rfl)
theorem dX6_orNone_10 : decode cX6_orNone 10 = .ok (.iload_n 0, 1) := dk_26 (dk_at dksX6_orNone_0 10 rfl rfl)
theorem dX6_orNone_11 : decode cX6_orNone 11 = .ok (.ireturn, 1) := dk_172 (dk_at dksX6_orNone_0 11 rfl rfl)
abbrev cX6_joyOfAll : ByteArray := prog_20_method_63_code
def yX6_joyOfAll : MethodName := ⟨RX6, "joyOfAll", "()I"⟩
def dkwX6_joyOfAll_1 : List UInt8 := [28, 96, 46, 96, 60, 132, 2, 1, 167, 255, 228, 27, 172]
abbrev dktX6_joyOfAll_1 : List UInt8 := dkwX6_joyOfAll_1 ++ []
def dkwX6_joyOfAll_0 : List UInt8 := [3, 60, 3, 61, 28, 16, 16, 162, 0, 28, 42, 28, 182, 0, 159, 153, 0, 14, 27, 42, 180, 0, 7, 3]
abbrev dktX6_joyOfAll_0 : List UInt8 := dkwX6_joyOfAll_0 ++ dktX6_joyOfAll_1
theorem dksX6_joyOfAll_0 : cX6_joyOfAll.data.toList.drop 0 = dktX6_joyOfAll_0 := by decide +kernel
theorem dksX6_joyOfAll_1 : cX6_joyOfAll.data.toList.drop 24 = dktX6_joyOfAll_1 := dk_seg dksX6_joyOfAll_0 24 rfl rfl
theorem dX6_joyOfAll_0 : decode cX6_joyOfAll 0 = .ok (.iconst 0, 1) := dk_3 (dk_at dksX6_joyOfAll_0 0 rfl rfl)
theorem dX6_joyOfAll_1 : decode cX6_joyOfAll 1 = .ok (.istore_n 1, 1) := dk_60 (dk_at dksX6_joyOfAll_0 1 rfl rfl)
theorem dX6_joyOfAll_2 : decode cX6_joyOfAll 2 = .ok (.iconst 0, 1) := dk_3 (dk_at dksX6_joyOfAll_0 2 rfl rfl)
theorem dX6_joyOfAll_3 : decode cX6_joyOfAll 3 = .ok (.istore_n 2, 1) := dk_61 (dk_at dksX6_joyOfAll_0 3 rfl rfl)
theorem dX6_joyOfAll_4 : decode cX6_joyOfAll 4 = .ok (.iload_n 2, 1) := dk_28 (dk_at dksX6_joyOfAll_0 4 rfl rfl)
theorem dX6_joyOfAll_5 : decode cX6_joyOfAll 5 = .ok (.bipush 16, 2) := dk_16 16 (dk_at dksX6_joyOfAll_0 5 rfl rfl)
theorem dX6_joyOfAll_7 : decode cX6_joyOfAll 7 = .ok (.if_icmp .ge 28, 3) := dk_162 0 28 (dk_at dksX6_joyOfAll_0 7 rfl rfl)
theorem dX6_joyOfAll_10 : decode cX6_joyOfAll 10 = .ok (.aload_n 0, 1) := dk_42 (dk_at dksX6_joyOfAll_0 10 rfl rfl)
theorem dX6_joyOfAll_11 : decode cX6_joyOfAll 11 = .ok (.iload_n 2, 1) := dk_28 (dk_at dksX6_joyOfAll_0 11 rfl rfl)
theorem dX6_joyOfAll_12 : decode cX6_joyOfAll 12 = .ok (.invokevirtual 159, 3) := dk_182 0 159 (dk_at dksX6_joyOfAll_0 12 rfl rfl)
theorem dX6_joyOfAll_15 : decode cX6_joyOfAll 15 = .ok (.ifCond .eq 14, 3) := dk_153 0 14 (dk_at dksX6_joyOfAll_0 15 rfl rfl)
theorem dX6_joyOfAll_18 : decode cX6_joyOfAll 18 = .ok (.iload_n 1, 1) := dk_27 (dk_at dksX6_joyOfAll_0 18 rfl rfl)
theorem dX6_joyOfAll_19 : decode cX6_joyOfAll 19 = .ok (.aload_n 0, 1) := dk_42 (dk_at dksX6_joyOfAll_0 19 rfl rfl)
theorem dX6_joyOfAll_20 : decode cX6_joyOfAll 20 = .ok (.getfield 7, 3) := dk_180 0 7 (dk_at dksX6_joyOfAll_0 20 rfl rfl)
theorem dX6_joyOfAll_23 : decode cX6_joyOfAll 23 = .ok (.iconst 0, 1) := dk_3 (dk_at dksX6_joyOfAll_0 23 rfl rfl)
theorem dX6_joyOfAll_24 : decode cX6_joyOfAll 24 = .ok (.iload_n 2, 1) := dk_28 (dk_at dksX6_joyOfAll_1 0 rfl rfl)
theorem dX6_joyOfAll_25 : decode cX6_joyOfAll 25 = .ok (.iadd, 1) := dk_96 (dk_at dksX6_joyOfAll_1 1 rfl rfl)
theorem dX6_joyOfAll_26 : decode cX6_joyOfAll 26 = .ok (.iaload, 1) := dk_46 (dk_at dksX6_joyOfAll_1 2 rfl rfl)
theorem dX6_joyOfAll_27 : decode cX6_joyOfAll 27 = .ok (.iadd, 1) := dk_96 (dk_at dksX6_joyOfAll_1 3 rfl rfl)
theorem dX6_joyOfAll_28 : decode cX6_joyOfAll 28 = .ok (.istore_n 1, 1) := dk_60 (dk_at dksX6_joyOfAll_1 4 rfl rfl)
theorem dX6_joyOfAll_29 : decode cX6_joyOfAll 29 = .ok (.iinc 2 1, 3) := dk_132 2 1 (dk_at dksX6_joyOfAll_1 5 rfl rfl)
theorem dX6_joyOfAll_32 : decode cX6_joyOfAll 32 = .ok (.goto (-28), 3) := dk_167 255 228 (dk_at dksX6_joyOfAll_1 8 rfl rfl)
theorem dX6_joyOfAll_35 : decode cX6_joyOfAll 35 = .ok (.iload_n 1, 1) := dk_27 (dk_at dksX6_joyOfAll_1 11 rfl rfl)
theorem dX6_joyOfAll_36 : decode cX6_joyOfAll 36 = .ok (.ireturn, 1) := dk_172 (dk_at dksX6_joyOfAll_1 12 rfl rfl)
abbrev cX6_houseIs : ByteArray := prog_20_method_71_code
def yX6_houseIs : MethodName := ⟨RX6, "houseIs", "(II)I"⟩
def dkwX6_houseIs_3 : List UInt8 := [182, 1, 115, 172, 42, 27, 182, 1, 118, 172, 2, 172]
abbrev dktX6_houseIs_3 : List UInt8 := dkwX6_houseIs_3 ++ []
def dkwX6_houseIs_2 : List UInt8 := [42, 180, 0, 22, 27, 46, 172, 42, 180, 0, 7, 3, 27, 96, 46, 172, 42, 27, 182, 1, 112, 172, 42, 27]
abbrev dktX6_houseIs_2 : List UInt8 := dkwX6_houseIs_2 ++ dktX6_houseIs_3
def dkwX6_houseIs_1 : List UInt8 := [170, 0, 0, 0, 67, 0, 0, 0, 0, 0, 0, 0, 4, 0, 0, 0, 33, 0, 0, 0, 40, 0, 0, 0, 49, 0, 0, 0, 55, 0, 0, 0, 61]
abbrev dktX6_houseIs_1 : List UInt8 := dkwX6_houseIs_1 ++ dktX6_houseIs_2
def dkwX6_houseIs_0 : List UInt8 := [42, 27, 182, 0, 159, 154, 0, 5, 2, 172, 28]
abbrev dktX6_houseIs_0 : List UInt8 := dkwX6_houseIs_0 ++ dktX6_houseIs_1
theorem dksX6_houseIs_0 : cX6_houseIs.data.toList.drop 0 = dktX6_houseIs_0 := by decide +kernel
theorem dksX6_houseIs_1 : cX6_houseIs.data.toList.drop 11 = dktX6_houseIs_1 := dk_seg dksX6_houseIs_0 11 rfl rfl
theorem dksX6_houseIs_2 : cX6_houseIs.data.toList.drop 44 = dktX6_houseIs_2 := dk_seg dksX6_houseIs_1 33 rfl rfl
theorem dksX6_houseIs_3 : cX6_houseIs.data.toList.drop 68 = dktX6_houseIs_3 := dk_seg dksX6_houseIs_2 24 rfl rfl
theorem dX6_houseIs_0 : decode cX6_houseIs 0 = .ok (.aload_n 0, 1) := dk_42 (dk_at dksX6_houseIs_0 0 rfl rfl)
theorem dX6_houseIs_1 : decode cX6_houseIs 1 = .ok (.iload_n 1, 1) := dk_27 (dk_at dksX6_houseIs_0 1 rfl rfl)
theorem dX6_houseIs_2 : decode cX6_houseIs 2 = .ok (.invokevirtual 159, 3) := dk_182 0 159 (dk_at dksX6_houseIs_0 2 rfl rfl)
theorem dX6_houseIs_5 : decode cX6_houseIs 5 = .ok (.ifCond .ne 5, 3) := dk_154 0 5 (dk_at dksX6_houseIs_0 5 rfl rfl)
theorem dX6_houseIs_8 : decode cX6_houseIs 8 = .ok (.iconst (-1), 1) := dk_2 (dk_at dksX6_houseIs_0 8 rfl rfl)
theorem dX6_houseIs_9 : decode cX6_houseIs 9 = .ok (.ireturn, 1) := dk_172 (dk_at dksX6_houseIs_0 9 rfl rfl)
theorem dX6_houseIs_10 : decode cX6_houseIs 10 = .ok (.iload_n 2, 1) := dk_28 (dk_at dksX6_houseIs_0 10 rfl rfl)
theorem dX6_houseIs_11 : decode cX6_houseIs 11 = .ok (.tableswitch 67 0 4 #[33, 40, 49, 55, 61], 33) := by decide +kernel
theorem dX6_houseIs_44 : decode cX6_houseIs 44 = .ok (.aload_n 0, 1) := dk_42 (dk_at dksX6_houseIs_2 0 rfl rfl)
theorem dX6_houseIs_45 : decode cX6_houseIs 45 = .ok (.getfield 22, 3) := dk_180 0 22 (dk_at dksX6_houseIs_2 1 rfl rfl)
theorem dX6_houseIs_48 : decode cX6_houseIs 48 = .ok (.iload_n 1, 1) := dk_27 (dk_at dksX6_houseIs_2 4 rfl rfl)
theorem dX6_houseIs_49 : decode cX6_houseIs 49 = .ok (.iaload, 1) := dk_46 (dk_at dksX6_houseIs_2 5 rfl rfl)
theorem dX6_houseIs_50 : decode cX6_houseIs 50 = .ok (.ireturn, 1) := dk_172 (dk_at dksX6_houseIs_2 6 rfl rfl)
theorem dX6_houseIs_51 : decode cX6_houseIs 51 = .ok (.aload_n 0, 1) := dk_42 (dk_at dksX6_houseIs_2 7 rfl rfl)
theorem dX6_houseIs_52 : decode cX6_houseIs 52 = .ok (.getfield 7, 3) := dk_180 0 7 (dk_at dksX6_houseIs_2 8 rfl rfl)
theorem dX6_houseIs_55 : decode cX6_houseIs 55 = .ok (.iconst 0, 1) := dk_3 (dk_at dksX6_houseIs_2 11 rfl rfl)
theorem dX6_houseIs_56 : decode cX6_houseIs 56 = .ok (.iload_n 1, 1) := dk_27 (dk_at dksX6_houseIs_2 12 rfl rfl)
theorem dX6_houseIs_57 : decode cX6_houseIs 57 = .ok (.iadd, 1) := dk_96 (dk_at dksX6_houseIs_2 13 rfl rfl)
theorem dX6_houseIs_58 : decode cX6_houseIs 58 = .ok (.iaload, 1) := dk_46 (dk_at dksX6_houseIs_2 14 rfl rfl)
theorem dX6_houseIs_59 : decode cX6_houseIs 59 = .ok (.ireturn, 1) := dk_172 (dk_at dksX6_houseIs_2 15 rfl rfl)
theorem dX6_houseIs_60 : decode cX6_houseIs 60 = .ok (.aload_n 0, 1) := dk_42 (dk_at dksX6_houseIs_2 16 rfl rfl)
theorem dX6_houseIs_61 : decode cX6_houseIs 61 = .ok (.iload_n 1, 1) := dk_27 (dk_at dksX6_houseIs_2 17 rfl rfl)
theorem dX6_houseIs_62 : decode cX6_houseIs 62 = .ok (.invokevirtual 368, 3) := dk_182 1 112 (dk_at dksX6_houseIs_2 18 rfl rfl)
theorem dX6_houseIs_65 : decode cX6_houseIs 65 = .ok (.ireturn, 1) := dk_172 (dk_at dksX6_houseIs_2 21 rfl rfl)
theorem dX6_houseIs_66 : decode cX6_houseIs 66 = .ok (.aload_n 0, 1) := dk_42 (dk_at dksX6_houseIs_2 22 rfl rfl)
theorem dX6_houseIs_67 : decode cX6_houseIs 67 = .ok (.iload_n 1, 1) := dk_27 (dk_at dksX6_houseIs_2 23 rfl rfl)
theorem dX6_houseIs_68 : decode cX6_houseIs 68 = .ok (.invokevirtual 371, 3) := dk_182 1 115 (dk_at dksX6_houseIs_3 0 rfl rfl)
theorem dX6_houseIs_71 : decode cX6_houseIs 71 = .ok (.ireturn, 1) := dk_172 (dk_at dksX6_houseIs_3 3 rfl rfl)
theorem dX6_houseIs_72 : decode cX6_houseIs 72 = .ok (.aload_n 0, 1) := dk_42 (dk_at dksX6_houseIs_3 4 rfl rfl)
theorem dX6_houseIs_73 : decode cX6_houseIs 73 = .ok (.iload_n 1, 1) := dk_27 (dk_at dksX6_houseIs_3 5 rfl rfl)
theorem dX6_houseIs_74 : decode cX6_houseIs 74 = .ok (.invokevirtual 374, 3) := dk_182 1 118 (dk_at dksX6_houseIs_3 6 rfl rfl)
theorem dX6_houseIs_77 : decode cX6_houseIs 77 = .ok (.ireturn, 1) := dk_172 (dk_at dksX6_houseIs_3 9 rfl rfl)
theorem dX6_houseIs_78 : decode cX6_houseIs 78 = .ok (.iconst (-1), 1) := dk_2 (dk_at dksX6_houseIs_3 10 rfl rfl)
theorem dX6_houseIs_79 : decode cX6_houseIs 79 = .ok (.ireturn, 1) := dk_172 (dk_at dksX6_houseIs_3 11 rfl rfl)
abbrev cX6_turnsOf : ByteArray := prog_20_method_67_code
def yX6_turnsOf : MethodName := ⟨RX6, "turnsOf", "(I)I"⟩
def dkwX6_turnsOf_1 : List UInt8 := [132, 3, 1, 167, 255, 233, 28, 172]
abbrev dktX6_turnsOf_1 : List UInt8 := dkwX6_turnsOf_1 ++ []
def dkwX6_turnsOf_0 : List UInt8 := [3, 61, 3, 62, 29, 16, 12, 162, 0, 23, 42, 180, 0, 19, 29, 46, 27, 160, 0, 7, 28, 4, 96, 61]
abbrev dktX6_turnsOf_0 : List UInt8 := dkwX6_turnsOf_0 ++ dktX6_turnsOf_1
theorem dksX6_turnsOf_0 : cX6_turnsOf.data.toList.drop 0 = dktX6_turnsOf_0 := by decide +kernel
theorem dksX6_turnsOf_1 : cX6_turnsOf.data.toList.drop 24 = dktX6_turnsOf_1 := dk_seg dksX6_turnsOf_0 24 rfl rfl
theorem dX6_turnsOf_0 : decode cX6_turnsOf 0 = .ok (.iconst 0, 1) := dk_3 (dk_at dksX6_turnsOf_0 0 rfl rfl)
theorem dX6_turnsOf_1 : decode cX6_turnsOf 1 = .ok (.istore_n 2, 1) := dk_61 (dk_at dksX6_turnsOf_0 1 rfl rfl)
theorem dX6_turnsOf_2 : decode cX6_turnsOf 2 = .ok (.iconst 0, 1) := dk_3 (dk_at dksX6_turnsOf_0 2 rfl rfl)
theorem dX6_turnsOf_3 : decode cX6_turnsOf 3 = .ok (.istore_n 3, 1) := dk_62 (dk_at dksX6_turnsOf_0 3 rfl rfl)
theorem dX6_turnsOf_4 : decode cX6_turnsOf 4 = .ok (.iload_n 3, 1) := dk_29 (dk_at dksX6_turnsOf_0 4 rfl rfl)
theorem dX6_turnsOf_5 : decode cX6_turnsOf 5 = .ok (.bipush 12, 2) := dk_16 12 (dk_at dksX6_turnsOf_0 5 rfl rfl)
theorem dX6_turnsOf_7 : decode cX6_turnsOf 7 = .ok (.if_icmp .ge 23, 3) := dk_162 0 23 (dk_at dksX6_turnsOf_0 7 rfl rfl)
theorem dX6_turnsOf_10 : decode cX6_turnsOf 10 = .ok (.aload_n 0, 1) := dk_42 (dk_at dksX6_turnsOf_0 10 rfl rfl)
theorem dX6_turnsOf_11 : decode cX6_turnsOf 11 = .ok (.getfield 19, 3) := dk_180 0 19 (dk_at dksX6_turnsOf_0 11 rfl rfl)
theorem dX6_turnsOf_14 : decode cX6_turnsOf 14 = .ok (.iload_n 3, 1) := dk_29 (dk_at dksX6_turnsOf_0 14 rfl rfl)
theorem dX6_turnsOf_15 : decode cX6_turnsOf 15 = .ok (.iaload, 1) := dk_46 (dk_at dksX6_turnsOf_0 15 rfl rfl)
theorem dX6_turnsOf_16 : decode cX6_turnsOf 16 = .ok (.iload_n 1, 1) := dk_27 (dk_at dksX6_turnsOf_0 16 rfl rfl)
theorem dX6_turnsOf_17 : decode cX6_turnsOf 17 = .ok (.if_icmp .ne 7, 3) := dk_160 0 7 (dk_at dksX6_turnsOf_0 17 rfl rfl)
theorem dX6_turnsOf_20 : decode cX6_turnsOf 20 = .ok (.iload_n 2, 1) := dk_28 (dk_at dksX6_turnsOf_0 20 rfl rfl)
theorem dX6_turnsOf_21 : decode cX6_turnsOf 21 = .ok (.iconst 1, 1) := dk_4 (dk_at dksX6_turnsOf_0 21 rfl rfl)
theorem dX6_turnsOf_22 : decode cX6_turnsOf 22 = .ok (.iadd, 1) := dk_96 (dk_at dksX6_turnsOf_0 22 rfl rfl)
theorem dX6_turnsOf_23 : decode cX6_turnsOf 23 = .ok (.istore_n 2, 1) := dk_61 (dk_at dksX6_turnsOf_0 23 rfl rfl)
theorem dX6_turnsOf_24 : decode cX6_turnsOf 24 = .ok (.iinc 3 1, 3) := dk_132 3 1 (dk_at dksX6_turnsOf_1 0 rfl rfl)
theorem dX6_turnsOf_27 : decode cX6_turnsOf 27 = .ok (.goto (-23), 3) := dk_167 255 233 (dk_at dksX6_turnsOf_1 3 rfl rfl)
theorem dX6_turnsOf_30 : decode cX6_turnsOf 30 = .ok (.iload_n 2, 1) := dk_28 (dk_at dksX6_turnsOf_1 6 rfl rfl)
theorem dX6_turnsOf_31 : decode cX6_turnsOf 31 = .ok (.ireturn, 1) := dk_172 (dk_at dksX6_turnsOf_1 7 rfl rfl)
abbrev cX6_darkOf : ByteArray := prog_20_method_69_code
def yX6_darkOf : MethodName := ⟨RX6, "darkOf", "(I)I"⟩
def dkwX6_darkOf_1 : List UInt8 := [128, 61, 132, 3, 1, 167, 255, 231, 28, 184, 1, 109, 172]
abbrev dktX6_darkOf_1 : List UInt8 := dkwX6_darkOf_1 ++ []
def dkwX6_darkOf_0 : List UInt8 := [3, 61, 3, 62, 29, 16, 12, 162, 0, 25, 42, 180, 0, 19, 29, 46, 27, 159, 0, 9, 28, 4, 29, 120]
abbrev dktX6_darkOf_0 : List UInt8 := dkwX6_darkOf_0 ++ dktX6_darkOf_1
theorem dksX6_darkOf_0 : cX6_darkOf.data.toList.drop 0 = dktX6_darkOf_0 := by decide +kernel
theorem dksX6_darkOf_1 : cX6_darkOf.data.toList.drop 24 = dktX6_darkOf_1 := dk_seg dksX6_darkOf_0 24 rfl rfl
theorem dX6_darkOf_0 : decode cX6_darkOf 0 = .ok (.iconst 0, 1) := dk_3 (dk_at dksX6_darkOf_0 0 rfl rfl)
theorem dX6_darkOf_1 : decode cX6_darkOf 1 = .ok (.istore_n 2, 1) := dk_61 (dk_at dksX6_darkOf_0 1 rfl rfl)
theorem dX6_darkOf_2 : decode cX6_darkOf 2 = .ok (.iconst 0, 1) := dk_3 (dk_at dksX6_darkOf_0 2 rfl rfl)
theorem dX6_darkOf_3 : decode cX6_darkOf 3 = .ok (.istore_n 3, 1) := dk_62 (dk_at dksX6_darkOf_0 3 rfl rfl)
theorem dX6_darkOf_4 : decode cX6_darkOf 4 = .ok (.iload_n 3, 1) := dk_29 (dk_at dksX6_darkOf_0 4 rfl rfl)
theorem dX6_darkOf_5 : decode cX6_darkOf 5 = .ok (.bipush 12, 2) := dk_16 12 (dk_at dksX6_darkOf_0 5 rfl rfl)
theorem dX6_darkOf_7 : decode cX6_darkOf 7 = .ok (.if_icmp .ge 25, 3) := dk_162 0 25 (dk_at dksX6_darkOf_0 7 rfl rfl)
theorem dX6_darkOf_10 : decode cX6_darkOf 10 = .ok (.aload_n 0, 1) := dk_42 (dk_at dksX6_darkOf_0 10 rfl rfl)
theorem dX6_darkOf_11 : decode cX6_darkOf 11 = .ok (.getfield 19, 3) := dk_180 0 19 (dk_at dksX6_darkOf_0 11 rfl rfl)
theorem dX6_darkOf_14 : decode cX6_darkOf 14 = .ok (.iload_n 3, 1) := dk_29 (dk_at dksX6_darkOf_0 14 rfl rfl)
theorem dX6_darkOf_15 : decode cX6_darkOf 15 = .ok (.iaload, 1) := dk_46 (dk_at dksX6_darkOf_0 15 rfl rfl)
theorem dX6_darkOf_16 : decode cX6_darkOf 16 = .ok (.iload_n 1, 1) := dk_27 (dk_at dksX6_darkOf_0 16 rfl rfl)
theorem dX6_darkOf_17 : decode cX6_darkOf 17 = .ok (.if_icmp .eq 9, 3) := dk_159 0 9 (dk_at dksX6_darkOf_0 17 rfl rfl)
theorem dX6_darkOf_20 : decode cX6_darkOf 20 = .ok (.iload_n 2, 1) := dk_28 (dk_at dksX6_darkOf_0 20 rfl rfl)
theorem dX6_darkOf_21 : decode cX6_darkOf 21 = .ok (.iconst 1, 1) := dk_4 (dk_at dksX6_darkOf_0 21 rfl rfl)
theorem dX6_darkOf_22 : decode cX6_darkOf 22 = .ok (.iload_n 3, 1) := dk_29 (dk_at dksX6_darkOf_0 22 rfl rfl)
theorem dX6_darkOf_23 : decode cX6_darkOf 23 = .ok (.ishl, 1) := dk_120 (dk_at dksX6_darkOf_0 23 rfl rfl)
theorem dX6_darkOf_24 : decode cX6_darkOf 24 = .ok (.ior, 1) := dk_128 (dk_at dksX6_darkOf_1 0 rfl rfl)
theorem dX6_darkOf_25 : decode cX6_darkOf 25 = .ok (.istore_n 2, 1) := dk_61 (dk_at dksX6_darkOf_1 1 rfl rfl)
theorem dX6_darkOf_26 : decode cX6_darkOf 26 = .ok (.iinc 3 1, 3) := dk_132 3 1 (dk_at dksX6_darkOf_1 2 rfl rfl)
theorem dX6_darkOf_29 : decode cX6_darkOf 29 = .ok (.goto (-25), 3) := dk_167 255 231 (dk_at dksX6_darkOf_1 5 rfl rfl)
theorem dX6_darkOf_32 : decode cX6_darkOf 32 = .ok (.iload_n 2, 1) := dk_28 (dk_at dksX6_darkOf_1 8 rfl rfl)
theorem dX6_darkOf_33 : decode cX6_darkOf 33 = .ok (.invokestatic 365, 3) := dk_184 1 109 (dk_at dksX6_darkOf_1 9 rfl rfl)
theorem dX6_darkOf_36 : decode cX6_darkOf 36 = .ok (.ireturn, 1) := dk_172 (dk_at dksX6_darkOf_1 12 rfl rfl)
abbrev cX6_longestRow : ByteArray := prog_20_method_68_code
def yX6_longestRow : MethodName := ⟨RX6, "longestRow", "(I)I"⟩
def dkwX6_longestRow_2 : List UInt8 := [167, 255, 217, 27, 172]
abbrev dktX6_longestRow_2 : List UInt8 := dkwX6_longestRow_2 ++ []
def dkwX6_longestRow_1 : List UInt8 := [16, 12, 28, 4, 96, 184, 1, 77, 167, 0, 4, 3, 61, 27, 28, 184, 1, 106, 60, 132, 3, 1]
abbrev dktX6_longestRow_1 : List UInt8 := dkwX6_longestRow_1 ++ dktX6_longestRow_2
def dkwX6_longestRow_0 : List UInt8 := [3, 60, 3, 61, 3, 62, 29, 16, 24, 162, 0, 39, 26, 29, 16, 12, 112, 184, 0, 130, 153, 0, 14]
abbrev dktX6_longestRow_0 : List UInt8 := dkwX6_longestRow_0 ++ dktX6_longestRow_1
theorem dksX6_longestRow_0 : cX6_longestRow.data.toList.drop 0 = dktX6_longestRow_0 := by decide +kernel
theorem dksX6_longestRow_1 : cX6_longestRow.data.toList.drop 23 = dktX6_longestRow_1 := dk_seg dksX6_longestRow_0 23 rfl rfl
theorem dksX6_longestRow_2 : cX6_longestRow.data.toList.drop 45 = dktX6_longestRow_2 := dk_seg dksX6_longestRow_1 22 rfl rfl
theorem dX6_longestRow_0 : decode cX6_longestRow 0 = .ok (.iconst 0, 1) := dk_3 (dk_at dksX6_longestRow_0 0 rfl rfl)
theorem dX6_longestRow_1 : decode cX6_longestRow 1 = .ok (.istore_n 1, 1) := dk_60 (dk_at dksX6_longestRow_0 1 rfl rfl)
theorem dX6_longestRow_2 : decode cX6_longestRow 2 = .ok (.iconst 0, 1) := dk_3 (dk_at dksX6_longestRow_0 2 rfl rfl)
theorem dX6_longestRow_3 : decode cX6_longestRow 3 = .ok (.istore_n 2, 1) := dk_61 (dk_at dksX6_longestRow_0 3 rfl rfl)
theorem dX6_longestRow_4 : decode cX6_longestRow 4 = .ok (.iconst 0, 1) := dk_3 (dk_at dksX6_longestRow_0 4 rfl rfl)
theorem dX6_longestRow_5 : decode cX6_longestRow 5 = .ok (.istore_n 3, 1) := dk_62 (dk_at dksX6_longestRow_0 5 rfl rfl)
theorem dX6_longestRow_6 : decode cX6_longestRow 6 = .ok (.iload_n 3, 1) := dk_29 (dk_at dksX6_longestRow_0 6 rfl rfl)
theorem dX6_longestRow_7 : decode cX6_longestRow 7 = .ok (.bipush 24, 2) := dk_16 24 (dk_at dksX6_longestRow_0 7 rfl rfl)
theorem dX6_longestRow_9 : decode cX6_longestRow 9 = .ok (.if_icmp .ge 39, 3) := dk_162 0 39 (dk_at dksX6_longestRow_0 9 rfl rfl)
theorem dX6_longestRow_12 : decode cX6_longestRow 12 = .ok (.iload_n 0, 1) := dk_26 (dk_at dksX6_longestRow_0 12 rfl rfl)
theorem dX6_longestRow_13 : decode cX6_longestRow 13 = .ok (.iload_n 3, 1) := dk_29 (dk_at dksX6_longestRow_0 13 rfl rfl)
theorem dX6_longestRow_14 : decode cX6_longestRow 14 = .ok (.bipush 12, 2) := dk_16 12 (dk_at dksX6_longestRow_0 14 rfl rfl)
theorem dX6_longestRow_16 : decode cX6_longestRow 16 = .ok (.irem, 1) := dk_112 (dk_at dksX6_longestRow_0 16 rfl rfl)
theorem dX6_longestRow_17 : decode cX6_longestRow 17 = .ok (.invokestatic 130, 3) := dk_184 0 130 (dk_at dksX6_longestRow_0 17 rfl rfl)
theorem dX6_longestRow_20 : decode cX6_longestRow 20 = .ok (.ifCond .eq 14, 3) := dk_153 0 14 (dk_at dksX6_longestRow_0 20 rfl rfl)
theorem dX6_longestRow_23 : decode cX6_longestRow 23 = .ok (.bipush 12, 2) := dk_16 12 (dk_at dksX6_longestRow_1 0 rfl rfl)
theorem dX6_longestRow_25 : decode cX6_longestRow 25 = .ok (.iload_n 2, 1) := dk_28 (dk_at dksX6_longestRow_1 2 rfl rfl)
theorem dX6_longestRow_26 : decode cX6_longestRow 26 = .ok (.iconst 1, 1) := dk_4 (dk_at dksX6_longestRow_1 3 rfl rfl)
theorem dX6_longestRow_27 : decode cX6_longestRow 27 = .ok (.iadd, 1) := dk_96 (dk_at dksX6_longestRow_1 4 rfl rfl)
theorem dX6_longestRow_28 : decode cX6_longestRow 28 = .ok (.invokestatic 333, 3) := dk_184 1 77 (dk_at dksX6_longestRow_1 5 rfl rfl)
theorem dX6_longestRow_31 : decode cX6_longestRow 31 = .ok (.goto 4, 3) := dk_167 0 4 (dk_at dksX6_longestRow_1 8 rfl rfl)
theorem dX6_longestRow_34 : decode cX6_longestRow 34 = .ok (.iconst 0, 1) := dk_3 (dk_at dksX6_longestRow_1 11 rfl rfl)
theorem dX6_longestRow_35 : decode cX6_longestRow 35 = .ok (.istore_n 2, 1) := dk_61 (dk_at dksX6_longestRow_1 12 rfl rfl)
theorem dX6_longestRow_36 : decode cX6_longestRow 36 = .ok (.iload_n 1, 1) := dk_27 (dk_at dksX6_longestRow_1 13 rfl rfl)
theorem dX6_longestRow_37 : decode cX6_longestRow 37 = .ok (.iload_n 2, 1) := dk_28 (dk_at dksX6_longestRow_1 14 rfl rfl)
theorem dX6_longestRow_38 : decode cX6_longestRow 38 = .ok (.invokestatic 362, 3) := dk_184 1 106 (dk_at dksX6_longestRow_1 15 rfl rfl)
theorem dX6_longestRow_41 : decode cX6_longestRow 41 = .ok (.istore_n 1, 1) := dk_60 (dk_at dksX6_longestRow_1 18 rfl rfl)
theorem dX6_longestRow_42 : decode cX6_longestRow 42 = .ok (.iinc 3 1, 3) := dk_132 3 1 (dk_at dksX6_longestRow_1 19 rfl rfl)
theorem dX6_longestRow_45 : decode cX6_longestRow 45 = .ok (.goto (-39), 3) := dk_167 255 217 (dk_at dksX6_longestRow_2 0 rfl rfl)
theorem dX6_longestRow_48 : decode cX6_longestRow 48 = .ok (.iload_n 1, 1) := dk_27 (dk_at dksX6_longestRow_2 3 rfl rfl)
theorem dX6_longestRow_49 : decode cX6_longestRow 49 = .ok (.ireturn, 1) := dk_172 (dk_at dksX6_longestRow_2 4 rfl rfl)
abbrev cX6_max : ByteArray := prog_20_method_4_code
def yX6_max : MethodName := ⟨RX6, "max", "(II)I"⟩
def dkwX6_max_0 : List UInt8 := [26, 27, 164, 0, 7, 26, 167, 0, 4, 27, 172]
abbrev dktX6_max_0 : List UInt8 := dkwX6_max_0 ++ []
theorem dksX6_max_0 : cX6_max.data.toList.drop 0 = dktX6_max_0 := by decide +kernel
theorem dX6_max_0 : decode cX6_max 0 = .ok (.iload_n 0, 1) := dk_26 (dk_at dksX6_max_0 0 rfl rfl)
theorem dX6_max_1 : decode cX6_max 1 = .ok (.iload_n 1, 1) := dk_27 (dk_at dksX6_max_0 1 rfl rfl)
theorem dX6_max_2 : decode cX6_max 2 = .ok (.if_icmp .le 7, 3) := dk_164 0 7 (dk_at dksX6_max_0 2 rfl rfl)
theorem dX6_max_5 : decode cX6_max 5 = .ok (.iload_n 0, 1) := dk_26 (dk_at dksX6_max_0 5 rfl rfl)
theorem dX6_max_6 : decode cX6_max 6 = .ok (.goto 4, 3) := dk_167 0 4 (dk_at dksX6_max_0 6 rfl rfl)
theorem dX6_max_9 : decode cX6_max 9 = .ok (.iload_n 1, 1) := dk_27 (dk_at dksX6_max_0 9 rfl rfl)
theorem dX6_max_10 : decode cX6_max 10 = .ok (.ireturn, 1) := dk_172 (dk_at dksX6_max_0 10 rfl rfl)
abbrev cX6_everSeenBy : ByteArray := prog_20_method_15_code
def yX6_everSeenBy : MethodName := ⟨RX6, "everSeenBy", "(I)I"⟩
def dkwX6_everSeenBy_1 : List UInt8 := [167, 255, 238, 28, 172]
abbrev dktX6_everSeenBy_1 : List UInt8 := dkwX6_everSeenBy_1 ++ []
def dkwX6_everSeenBy_0 : List UInt8 := [3, 61, 3, 62, 29, 16, 12, 162, 0, 18, 28, 42, 27, 29, 182, 0, 152, 128, 61, 132, 3, 1]
abbrev dktX6_everSeenBy_0 : List UInt8 := dkwX6_everSeenBy_0 ++ dktX6_everSeenBy_1
theorem dksX6_everSeenBy_0 : cX6_everSeenBy.data.toList.drop 0 = dktX6_everSeenBy_0 := by decide +kernel
theorem dksX6_everSeenBy_1 : cX6_everSeenBy.data.toList.drop 22 = dktX6_everSeenBy_1 := dk_seg dksX6_everSeenBy_0 22 rfl rfl
theorem dX6_everSeenBy_0 : decode cX6_everSeenBy 0 = .ok (.iconst 0, 1) := dk_3 (dk_at dksX6_everSeenBy_0 0 rfl rfl)
theorem dX6_everSeenBy_1 : decode cX6_everSeenBy 1 = .ok (.istore_n 2, 1) := dk_61 (dk_at dksX6_everSeenBy_0 1 rfl rfl)
theorem dX6_everSeenBy_2 : decode cX6_everSeenBy 2 = .ok (.iconst 0, 1) := dk_3 (dk_at dksX6_everSeenBy_0 2 rfl rfl)
theorem dX6_everSeenBy_3 : decode cX6_everSeenBy 3 = .ok (.istore_n 3, 1) := dk_62 (dk_at dksX6_everSeenBy_0 3 rfl rfl)
theorem dX6_everSeenBy_4 : decode cX6_everSeenBy 4 = .ok (.iload_n 3, 1) := dk_29 (dk_at dksX6_everSeenBy_0 4 rfl rfl)
theorem dX6_everSeenBy_5 : decode cX6_everSeenBy 5 = .ok (.bipush 12, 2) := dk_16 12 (dk_at dksX6_everSeenBy_0 5 rfl rfl)
theorem dX6_everSeenBy_7 : decode cX6_everSeenBy 7 = .ok (.if_icmp .ge 18, 3) := dk_162 0 18 (dk_at dksX6_everSeenBy_0 7 rfl rfl)
theorem dX6_everSeenBy_10 : decode cX6_everSeenBy 10 = .ok (.iload_n 2, 1) := dk_28 (dk_at dksX6_everSeenBy_0 10 rfl rfl)
theorem dX6_everSeenBy_11 : decode cX6_everSeenBy 11 = .ok (.aload_n 0, 1) := dk_42 (dk_at dksX6_everSeenBy_0 11 rfl rfl)
theorem dX6_everSeenBy_12 : decode cX6_everSeenBy 12 = .ok (.iload_n 1, 1) := dk_27 (dk_at dksX6_everSeenBy_0 12 rfl rfl)
theorem dX6_everSeenBy_13 : decode cX6_everSeenBy 13 = .ok (.iload_n 3, 1) := dk_29 (dk_at dksX6_everSeenBy_0 13 rfl rfl)
theorem dX6_everSeenBy_14 : decode cX6_everSeenBy 14 = .ok (.invokevirtual 152, 3) := dk_182 0 152 (dk_at dksX6_everSeenBy_0 14 rfl rfl)
theorem dX6_everSeenBy_17 : decode cX6_everSeenBy 17 = .ok (.ior, 1) := dk_128 (dk_at dksX6_everSeenBy_0 17 rfl rfl)
theorem dX6_everSeenBy_18 : decode cX6_everSeenBy 18 = .ok (.istore_n 2, 1) := dk_61 (dk_at dksX6_everSeenBy_0 18 rfl rfl)
theorem dX6_everSeenBy_19 : decode cX6_everSeenBy 19 = .ok (.iinc 3 1, 3) := dk_132 3 1 (dk_at dksX6_everSeenBy_0 19 rfl rfl)
theorem dX6_everSeenBy_22 : decode cX6_everSeenBy 22 = .ok (.goto (-18), 3) := dk_167 255 238 (dk_at dksX6_everSeenBy_1 0 rfl rfl)
theorem dX6_everSeenBy_25 : decode cX6_everSeenBy 25 = .ok (.iload_n 2, 1) := dk_28 (dk_at dksX6_everSeenBy_1 3 rfl rfl)
theorem dX6_everSeenBy_26 : decode cX6_everSeenBy 26 = .ok (.ireturn, 1) := dk_172 (dk_at dksX6_everSeenBy_1 4 rfl rfl)
abbrev cX6_rotaIs : ByteArray := prog_20_method_73_code
def yX6_rotaIs : MethodName := ⟨RX6, "rotaIs", "(I)I"⟩
def dkwX6_rotaIs_2 : List UInt8 := [42, 3, 182, 1, 121, 172, 42, 4, 182, 1, 121, 172, 42, 182, 1, 125, 172, 2, 172]
abbrev dktX6_rotaIs_2 : List UInt8 := dkwX6_rotaIs_2 ++ []
def dkwX6_rotaIs_1 : List UInt8 := [170, 0, 0, 0, 0, 43, 0, 0, 0, 100, 0, 0, 0, 102, 0, 0, 0, 26, 0, 0, 0, 32, 0, 0, 0, 38]
abbrev dktX6_rotaIs_1 : List UInt8 := dkwX6_rotaIs_1 ++ dktX6_rotaIs_2
def dkwX6_rotaIs_0 : List UInt8 := [27, 184, 0, 156, 153, 0, 13, 42, 180, 0, 19, 27, 46, 184, 1, 100, 172, 27]
abbrev dktX6_rotaIs_0 : List UInt8 := dkwX6_rotaIs_0 ++ dktX6_rotaIs_1
theorem dksX6_rotaIs_0 : cX6_rotaIs.data.toList.drop 0 = dktX6_rotaIs_0 := by decide +kernel
theorem dksX6_rotaIs_1 : cX6_rotaIs.data.toList.drop 18 = dktX6_rotaIs_1 := dk_seg dksX6_rotaIs_0 18 rfl rfl
theorem dksX6_rotaIs_2 : cX6_rotaIs.data.toList.drop 44 = dktX6_rotaIs_2 := dk_seg dksX6_rotaIs_1 26 rfl rfl
theorem dX6_rotaIs_0 : decode cX6_rotaIs 0 = .ok (.iload_n 1, 1) := dk_27 (dk_at dksX6_rotaIs_0 0 rfl rfl)
theorem dX6_rotaIs_1 : decode cX6_rotaIs 1 = .ok (.invokestatic 156, 3) := dk_184 0 156 (dk_at dksX6_rotaIs_0 1 rfl rfl)
theorem dX6_rotaIs_4 : decode cX6_rotaIs 4 = .ok (.ifCond .eq 13, 3) := dk_153 0 13 (dk_at dksX6_rotaIs_0 4 rfl rfl)
theorem dX6_rotaIs_7 : decode cX6_rotaIs 7 = .ok (.aload_n 0, 1) := dk_42 (dk_at dksX6_rotaIs_0 7 rfl rfl)
theorem dX6_rotaIs_8 : decode cX6_rotaIs 8 = .ok (.getfield 19, 3) := dk_180 0 19 (dk_at dksX6_rotaIs_0 8 rfl rfl)
theorem dX6_rotaIs_11 : decode cX6_rotaIs 11 = .ok (.iload_n 1, 1) := dk_27 (dk_at dksX6_rotaIs_0 11 rfl rfl)
theorem dX6_rotaIs_12 : decode cX6_rotaIs 12 = .ok (.iaload, 1) := dk_46 (dk_at dksX6_rotaIs_0 12 rfl rfl)
theorem dX6_rotaIs_13 : decode cX6_rotaIs 13 = .ok (.invokestatic 356, 3) := dk_184 1 100 (dk_at dksX6_rotaIs_0 13 rfl rfl)
theorem dX6_rotaIs_16 : decode cX6_rotaIs 16 = .ok (.ireturn, 1) := dk_172 (dk_at dksX6_rotaIs_0 16 rfl rfl)
theorem dX6_rotaIs_17 : decode cX6_rotaIs 17 = .ok (.iload_n 1, 1) := dk_27 (dk_at dksX6_rotaIs_0 17 rfl rfl)
theorem dX6_rotaIs_18 : decode cX6_rotaIs 18 = .ok (.tableswitch 43 100 102 #[26, 32, 38], 26) := by decide +kernel
theorem dX6_rotaIs_44 : decode cX6_rotaIs 44 = .ok (.aload_n 0, 1) := dk_42 (dk_at dksX6_rotaIs_2 0 rfl rfl)
theorem dX6_rotaIs_45 : decode cX6_rotaIs 45 = .ok (.iconst 0, 1) := dk_3 (dk_at dksX6_rotaIs_2 1 rfl rfl)
theorem dX6_rotaIs_46 : decode cX6_rotaIs 46 = .ok (.invokevirtual 377, 3) := dk_182 1 121 (dk_at dksX6_rotaIs_2 2 rfl rfl)
theorem dX6_rotaIs_49 : decode cX6_rotaIs 49 = .ok (.ireturn, 1) := dk_172 (dk_at dksX6_rotaIs_2 5 rfl rfl)
theorem dX6_rotaIs_50 : decode cX6_rotaIs 50 = .ok (.aload_n 0, 1) := dk_42 (dk_at dksX6_rotaIs_2 6 rfl rfl)
theorem dX6_rotaIs_51 : decode cX6_rotaIs 51 = .ok (.iconst 1, 1) := dk_4 (dk_at dksX6_rotaIs_2 7 rfl rfl)
theorem dX6_rotaIs_52 : decode cX6_rotaIs 52 = .ok (.invokevirtual 377, 3) := dk_182 1 121 (dk_at dksX6_rotaIs_2 8 rfl rfl)
theorem dX6_rotaIs_55 : decode cX6_rotaIs 55 = .ok (.ireturn, 1) := dk_172 (dk_at dksX6_rotaIs_2 11 rfl rfl)
theorem dX6_rotaIs_56 : decode cX6_rotaIs 56 = .ok (.aload_n 0, 1) := dk_42 (dk_at dksX6_rotaIs_2 12 rfl rfl)
theorem dX6_rotaIs_57 : decode cX6_rotaIs 57 = .ok (.invokevirtual 381, 3) := dk_182 1 125 (dk_at dksX6_rotaIs_2 13 rfl rfl)
theorem dX6_rotaIs_60 : decode cX6_rotaIs 60 = .ok (.ireturn, 1) := dk_172 (dk_at dksX6_rotaIs_2 16 rfl rfl)
theorem dX6_rotaIs_61 : decode cX6_rotaIs 61 = .ok (.iconst (-1), 1) := dk_2 (dk_at dksX6_rotaIs_2 17 rfl rfl)
theorem dX6_rotaIs_62 : decode cX6_rotaIs 62 = .ok (.ireturn, 1) := dk_172 (dk_at dksX6_rotaIs_2 18 rfl rfl)
abbrev cX6_wayOf : ByteArray := prog_20_method_66_code
def yX6_wayOf : MethodName := ⟨RX6, "wayOf", "(Z)I"⟩
def dkwX6_wayOf_4 : List UInt8 := [100, 184, 1, 61, 96, 167, 0, 4, 28, 172]
abbrev dktX6_wayOf_4 : List UInt8 := dkwX6_wayOf_4 ++ []
def dkwX6_wayOf_3 : List UInt8 := [21, 5, 46, 62, 132, 5, 1, 167, 255, 189, 27, 153, 0, 21, 21, 4, 2, 159, 0, 15, 28, 29, 21, 4]
abbrev dktX6_wayOf_3 : List UInt8 := dkwX6_wayOf_3 ++ dktX6_wayOf_4
def dkwX6_wayOf_2 : List UInt8 := [184, 1, 61, 96, 61, 21, 4, 2, 160, 0, 12, 42, 180, 0, 19, 21, 5, 46, 54, 4, 42, 180, 0, 19]
abbrev dktX6_wayOf_2 : List UInt8 := dkwX6_wayOf_2 ++ dktX6_wayOf_3
def dkwX6_wayOf_1 : List UInt8 := [2, 160, 0, 6, 167, 0, 46, 29, 2, 159, 0, 18, 28, 42, 180, 0, 19, 21, 5, 46, 29, 100]
abbrev dktX6_wayOf_1 : List UInt8 := dkwX6_wayOf_1 ++ dktX6_wayOf_2
def dkwX6_wayOf_0 : List UInt8 := [3, 61, 2, 62, 2, 54, 4, 3, 54, 5, 21, 5, 16, 12, 162, 0, 66, 42, 180, 0, 19, 21, 5, 46]
abbrev dktX6_wayOf_0 : List UInt8 := dkwX6_wayOf_0 ++ dktX6_wayOf_1
theorem dksX6_wayOf_0 : cX6_wayOf.data.toList.drop 0 = dktX6_wayOf_0 := by decide +kernel
theorem dksX6_wayOf_1 : cX6_wayOf.data.toList.drop 24 = dktX6_wayOf_1 := dk_seg dksX6_wayOf_0 24 rfl rfl
theorem dksX6_wayOf_2 : cX6_wayOf.data.toList.drop 46 = dktX6_wayOf_2 := dk_seg dksX6_wayOf_1 22 rfl rfl
theorem dksX6_wayOf_3 : cX6_wayOf.data.toList.drop 70 = dktX6_wayOf_3 := dk_seg dksX6_wayOf_2 24 rfl rfl
theorem dksX6_wayOf_4 : cX6_wayOf.data.toList.drop 94 = dktX6_wayOf_4 := dk_seg dksX6_wayOf_3 24 rfl rfl
theorem dX6_wayOf_0 : decode cX6_wayOf 0 = .ok (.iconst 0, 1) := dk_3 (dk_at dksX6_wayOf_0 0 rfl rfl)
theorem dX6_wayOf_1 : decode cX6_wayOf 1 = .ok (.istore_n 2, 1) := dk_61 (dk_at dksX6_wayOf_0 1 rfl rfl)
theorem dX6_wayOf_2 : decode cX6_wayOf 2 = .ok (.iconst (-1), 1) := dk_2 (dk_at dksX6_wayOf_0 2 rfl rfl)
theorem dX6_wayOf_3 : decode cX6_wayOf 3 = .ok (.istore_n 3, 1) := dk_62 (dk_at dksX6_wayOf_0 3 rfl rfl)
theorem dX6_wayOf_4 : decode cX6_wayOf 4 = .ok (.iconst (-1), 1) := dk_2 (dk_at dksX6_wayOf_0 4 rfl rfl)
theorem dX6_wayOf_5 : decode cX6_wayOf 5 = .ok (.istore 4, 2) := dk_54 4 (dk_at dksX6_wayOf_0 5 rfl rfl)
theorem dX6_wayOf_7 : decode cX6_wayOf 7 = .ok (.iconst 0, 1) := dk_3 (dk_at dksX6_wayOf_0 7 rfl rfl)
theorem dX6_wayOf_8 : decode cX6_wayOf 8 = .ok (.istore 5, 2) := dk_54 5 (dk_at dksX6_wayOf_0 8 rfl rfl)
theorem dX6_wayOf_10 : decode cX6_wayOf 10 = .ok (.iload 5, 2) := dk_21 5 (dk_at dksX6_wayOf_0 10 rfl rfl)
theorem dX6_wayOf_12 : decode cX6_wayOf 12 = .ok (.bipush 12, 2) := dk_16 12 (dk_at dksX6_wayOf_0 12 rfl rfl)
theorem dX6_wayOf_14 : decode cX6_wayOf 14 = .ok (.if_icmp .ge 66, 3) := dk_162 0 66 (dk_at dksX6_wayOf_0 14 rfl rfl)
theorem dX6_wayOf_17 : decode cX6_wayOf 17 = .ok (.aload_n 0, 1) := dk_42 (dk_at dksX6_wayOf_0 17 rfl rfl)
theorem dX6_wayOf_18 : decode cX6_wayOf 18 = .ok (.getfield 19, 3) := dk_180 0 19 (dk_at dksX6_wayOf_0 18 rfl rfl)
theorem dX6_wayOf_21 : decode cX6_wayOf 21 = .ok (.iload 5, 2) := dk_21 5 (dk_at dksX6_wayOf_0 21 rfl rfl)
theorem dX6_wayOf_23 : decode cX6_wayOf 23 = .ok (.iaload, 1) := dk_46 (dk_at dksX6_wayOf_0 23 rfl rfl)
theorem dX6_wayOf_24 : decode cX6_wayOf 24 = .ok (.iconst (-1), 1) := dk_2 (dk_at dksX6_wayOf_1 0 rfl rfl)
theorem dX6_wayOf_25 : decode cX6_wayOf 25 = .ok (.if_icmp .ne 6, 3) := dk_160 0 6 (dk_at dksX6_wayOf_1 1 rfl rfl)
theorem dX6_wayOf_28 : decode cX6_wayOf 28 = .ok (.goto 46, 3) := dk_167 0 46 (dk_at dksX6_wayOf_1 4 rfl rfl)
theorem dX6_wayOf_31 : decode cX6_wayOf 31 = .ok (.iload_n 3, 1) := dk_29 (dk_at dksX6_wayOf_1 7 rfl rfl)
theorem dX6_wayOf_32 : decode cX6_wayOf 32 = .ok (.iconst (-1), 1) := dk_2 (dk_at dksX6_wayOf_1 8 rfl rfl)
theorem dX6_wayOf_33 : decode cX6_wayOf 33 = .ok (.if_icmp .eq 18, 3) := dk_159 0 18 (dk_at dksX6_wayOf_1 9 rfl rfl)
theorem dX6_wayOf_36 : decode cX6_wayOf 36 = .ok (.iload_n 2, 1) := dk_28 (dk_at dksX6_wayOf_1 12 rfl rfl)
theorem dX6_wayOf_37 : decode cX6_wayOf 37 = .ok (.aload_n 0, 1) := dk_42 (dk_at dksX6_wayOf_1 13 rfl rfl)
theorem dX6_wayOf_38 : decode cX6_wayOf 38 = .ok (.getfield 19, 3) := dk_180 0 19 (dk_at dksX6_wayOf_1 14 rfl rfl)
theorem dX6_wayOf_41 : decode cX6_wayOf 41 = .ok (.iload 5, 2) := dk_21 5 (dk_at dksX6_wayOf_1 17 rfl rfl)
theorem dX6_wayOf_43 : decode cX6_wayOf 43 = .ok (.iaload, 1) := dk_46 (dk_at dksX6_wayOf_1 19 rfl rfl)
theorem dX6_wayOf_44 : decode cX6_wayOf 44 = .ok (.iload_n 3, 1) := dk_29 (dk_at dksX6_wayOf_1 20 rfl rfl)
theorem dX6_wayOf_45 : decode cX6_wayOf 45 = .ok (.isub, 1) := dk_100 (dk_at dksX6_wayOf_1 21 rfl rfl)
theorem dX6_wayOf_46 : decode cX6_wayOf 46 = .ok (.invokestatic 317, 3) := dk_184 1 61 (dk_at dksX6_wayOf_2 0 rfl rfl)
theorem dX6_wayOf_49 : decode cX6_wayOf 49 = .ok (.iadd, 1) := dk_96 (dk_at dksX6_wayOf_2 3 rfl rfl)
theorem dX6_wayOf_50 : decode cX6_wayOf 50 = .ok (.istore_n 2, 1) := dk_61 (dk_at dksX6_wayOf_2 4 rfl rfl)
theorem dX6_wayOf_51 : decode cX6_wayOf 51 = .ok (.iload 4, 2) := dk_21 4 (dk_at dksX6_wayOf_2 5 rfl rfl)
theorem dX6_wayOf_53 : decode cX6_wayOf 53 = .ok (.iconst (-1), 1) := dk_2 (dk_at dksX6_wayOf_2 7 rfl rfl)
theorem dX6_wayOf_54 : decode cX6_wayOf 54 = .ok (.if_icmp .ne 12, 3) := dk_160 0 12 (dk_at dksX6_wayOf_2 8 rfl rfl)
theorem dX6_wayOf_57 : decode cX6_wayOf 57 = .ok (.aload_n 0, 1) := dk_42 (dk_at dksX6_wayOf_2 11 rfl rfl)
theorem dX6_wayOf_58 : decode cX6_wayOf 58 = .ok (.getfield 19, 3) := dk_180 0 19 (dk_at dksX6_wayOf_2 12 rfl rfl)
theorem dX6_wayOf_61 : decode cX6_wayOf 61 = .ok (.iload 5, 2) := dk_21 5 (dk_at dksX6_wayOf_2 15 rfl rfl)
theorem dX6_wayOf_63 : decode cX6_wayOf 63 = .ok (.iaload, 1) := dk_46 (dk_at dksX6_wayOf_2 17 rfl rfl)
theorem dX6_wayOf_64 : decode cX6_wayOf 64 = .ok (.istore 4, 2) := dk_54 4 (dk_at dksX6_wayOf_2 18 rfl rfl)
theorem dX6_wayOf_66 : decode cX6_wayOf 66 = .ok (.aload_n 0, 1) := dk_42 (dk_at dksX6_wayOf_2 20 rfl rfl)
theorem dX6_wayOf_67 : decode cX6_wayOf 67 = .ok (.getfield 19, 3) := dk_180 0 19 (dk_at dksX6_wayOf_2 21 rfl rfl)
theorem dX6_wayOf_70 : decode cX6_wayOf 70 = .ok (.iload 5, 2) := dk_21 5 (dk_at dksX6_wayOf_3 0 rfl rfl)
theorem dX6_wayOf_72 : decode cX6_wayOf 72 = .ok (.iaload, 1) := dk_46 (dk_at dksX6_wayOf_3 2 rfl rfl)
theorem dX6_wayOf_73 : decode cX6_wayOf 73 = .ok (.istore_n 3, 1) := dk_62 (dk_at dksX6_wayOf_3 3 rfl rfl)
theorem dX6_wayOf_74 : decode cX6_wayOf 74 = .ok (.iinc 5 1, 3) := dk_132 5 1 (dk_at dksX6_wayOf_3 4 rfl rfl)
theorem dX6_wayOf_77 : decode cX6_wayOf 77 = .ok (.goto (-67), 3) := dk_167 255 189 (dk_at dksX6_wayOf_3 7 rfl rfl)
theorem dX6_wayOf_80 : decode cX6_wayOf 80 = .ok (.iload_n 1, 1) := dk_27 (dk_at dksX6_wayOf_3 10 rfl rfl)
theorem dX6_wayOf_81 : decode cX6_wayOf 81 = .ok (.ifCond .eq 21, 3) := dk_153 0 21 (dk_at dksX6_wayOf_3 11 rfl rfl)
theorem dX6_wayOf_84 : decode cX6_wayOf 84 = .ok (.iload 4, 2) := dk_21 4 (dk_at dksX6_wayOf_3 14 rfl rfl)
theorem dX6_wayOf_86 : decode cX6_wayOf 86 = .ok (.iconst (-1), 1) := dk_2 (dk_at dksX6_wayOf_3 16 rfl rfl)
theorem dX6_wayOf_87 : decode cX6_wayOf 87 = .ok (.if_icmp .eq 15, 3) := dk_159 0 15 (dk_at dksX6_wayOf_3 17 rfl rfl)
theorem dX6_wayOf_90 : decode cX6_wayOf 90 = .ok (.iload_n 2, 1) := dk_28 (dk_at dksX6_wayOf_3 20 rfl rfl)
theorem dX6_wayOf_91 : decode cX6_wayOf 91 = .ok (.iload_n 3, 1) := dk_29 (dk_at dksX6_wayOf_3 21 rfl rfl)
theorem dX6_wayOf_92 : decode cX6_wayOf 92 = .ok (.iload 4, 2) := dk_21 4 (dk_at dksX6_wayOf_3 22 rfl rfl)
theorem dX6_wayOf_94 : decode cX6_wayOf 94 = .ok (.isub, 1) := dk_100 (dk_at dksX6_wayOf_4 0 rfl rfl)
theorem dX6_wayOf_95 : decode cX6_wayOf 95 = .ok (.invokestatic 317, 3) := dk_184 1 61 (dk_at dksX6_wayOf_4 1 rfl rfl)
theorem dX6_wayOf_98 : decode cX6_wayOf 98 = .ok (.iadd, 1) := dk_96 (dk_at dksX6_wayOf_4 4 rfl rfl)
theorem dX6_wayOf_99 : decode cX6_wayOf 99 = .ok (.goto 4, 3) := dk_167 0 4 (dk_at dksX6_wayOf_4 5 rfl rfl)
theorem dX6_wayOf_102 : decode cX6_wayOf 102 = .ok (.iload_n 2, 1) := dk_28 (dk_at dksX6_wayOf_4 8 rfl rfl)
theorem dX6_wayOf_103 : decode cX6_wayOf 103 = .ok (.ireturn, 1) := dk_172 (dk_at dksX6_wayOf_4 9 rfl rfl)
abbrev cX6_seenByRota : ByteArray := prog_20_method_72_code
def yX6_seenByRota : MethodName := ⟨RX6, "seenByRota", "()I"⟩
def dkwX6_seenByRota_1 : List UInt8 := [180, 0, 19, 28, 46, 28, 182, 0, 152, 128, 60, 132, 2, 1, 167, 255, 223, 27, 172]
abbrev dktX6_seenByRota_1 : List UInt8 := dkwX6_seenByRota_1 ++ []
def dkwX6_seenByRota_0 : List UInt8 := [3, 60, 3, 61, 28, 16, 12, 162, 0, 33, 42, 180, 0, 19, 28, 46, 2, 159, 0, 17, 27, 42, 42]
abbrev dktX6_seenByRota_0 : List UInt8 := dkwX6_seenByRota_0 ++ dktX6_seenByRota_1
theorem dksX6_seenByRota_0 : cX6_seenByRota.data.toList.drop 0 = dktX6_seenByRota_0 := by decide +kernel
theorem dksX6_seenByRota_1 : cX6_seenByRota.data.toList.drop 23 = dktX6_seenByRota_1 := dk_seg dksX6_seenByRota_0 23 rfl rfl
theorem dX6_seenByRota_0 : decode cX6_seenByRota 0 = .ok (.iconst 0, 1) := dk_3 (dk_at dksX6_seenByRota_0 0 rfl rfl)
theorem dX6_seenByRota_1 : decode cX6_seenByRota 1 = .ok (.istore_n 1, 1) := dk_60 (dk_at dksX6_seenByRota_0 1 rfl rfl)
theorem dX6_seenByRota_2 : decode cX6_seenByRota 2 = .ok (.iconst 0, 1) := dk_3 (dk_at dksX6_seenByRota_0 2 rfl rfl)
theorem dX6_seenByRota_3 : decode cX6_seenByRota 3 = .ok (.istore_n 2, 1) := dk_61 (dk_at dksX6_seenByRota_0 3 rfl rfl)
theorem dX6_seenByRota_4 : decode cX6_seenByRota 4 = .ok (.iload_n 2, 1) := dk_28 (dk_at dksX6_seenByRota_0 4 rfl rfl)
theorem dX6_seenByRota_5 : decode cX6_seenByRota 5 = .ok (.bipush 12, 2) := dk_16 12 (dk_at dksX6_seenByRota_0 5 rfl rfl)
theorem dX6_seenByRota_7 : decode cX6_seenByRota 7 = .ok (.if_icmp .ge 33, 3) := dk_162 0 33 (dk_at dksX6_seenByRota_0 7 rfl rfl)
theorem dX6_seenByRota_10 : decode cX6_seenByRota 10 = .ok (.aload_n 0, 1) := dk_42 (dk_at dksX6_seenByRota_0 10 rfl rfl)
theorem dX6_seenByRota_11 : decode cX6_seenByRota 11 = .ok (.getfield 19, 3) := dk_180 0 19 (dk_at dksX6_seenByRota_0 11 rfl rfl)
theorem dX6_seenByRota_14 : decode cX6_seenByRota 14 = .ok (.iload_n 2, 1) := dk_28 (dk_at dksX6_seenByRota_0 14 rfl rfl)
theorem dX6_seenByRota_15 : decode cX6_seenByRota 15 = .ok (.iaload, 1) := dk_46 (dk_at dksX6_seenByRota_0 15 rfl rfl)
theorem dX6_seenByRota_16 : decode cX6_seenByRota 16 = .ok (.iconst (-1), 1) := dk_2 (dk_at dksX6_seenByRota_0 16 rfl rfl)
theorem dX6_seenByRota_17 : decode cX6_seenByRota 17 = .ok (.if_icmp .eq 17, 3) := dk_159 0 17 (dk_at dksX6_seenByRota_0 17 rfl rfl)
theorem dX6_seenByRota_20 : decode cX6_seenByRota 20 = .ok (.iload_n 1, 1) := dk_27 (dk_at dksX6_seenByRota_0 20 rfl rfl)
theorem dX6_seenByRota_21 : decode cX6_seenByRota 21 = .ok (.aload_n 0, 1) := dk_42 (dk_at dksX6_seenByRota_0 21 rfl rfl)
theorem dX6_seenByRota_22 : decode cX6_seenByRota 22 = .ok (.aload_n 0, 1) := dk_42 (dk_at dksX6_seenByRota_0 22 rfl rfl)
theorem dX6_seenByRota_23 : decode cX6_seenByRota 23 = .ok (.getfield 19, 3) := dk_180 0 19 (dk_at dksX6_seenByRota_1 0 rfl rfl)
theorem dX6_seenByRota_26 : decode cX6_seenByRota 26 = .ok (.iload_n 2, 1) := dk_28 (dk_at dksX6_seenByRota_1 3 rfl rfl)
theorem dX6_seenByRota_27 : decode cX6_seenByRota 27 = .ok (.iaload, 1) := dk_46 (dk_at dksX6_seenByRota_1 4 rfl rfl)
theorem dX6_seenByRota_28 : decode cX6_seenByRota 28 = .ok (.iload_n 2, 1) := dk_28 (dk_at dksX6_seenByRota_1 5 rfl rfl)
theorem dX6_seenByRota_29 : decode cX6_seenByRota 29 = .ok (.invokevirtual 152, 3) := dk_182 0 152 (dk_at dksX6_seenByRota_1 6 rfl rfl)
theorem dX6_seenByRota_32 : decode cX6_seenByRota 32 = .ok (.ior, 1) := dk_128 (dk_at dksX6_seenByRota_1 9 rfl rfl)
theorem dX6_seenByRota_33 : decode cX6_seenByRota 33 = .ok (.istore_n 1, 1) := dk_60 (dk_at dksX6_seenByRota_1 10 rfl rfl)
theorem dX6_seenByRota_34 : decode cX6_seenByRota 34 = .ok (.iinc 2 1, 3) := dk_132 2 1 (dk_at dksX6_seenByRota_1 11 rfl rfl)
theorem dX6_seenByRota_37 : decode cX6_seenByRota 37 = .ok (.goto (-33), 3) := dk_167 255 223 (dk_at dksX6_seenByRota_1 14 rfl rfl)
theorem dX6_seenByRota_40 : decode cX6_seenByRota 40 = .ok (.iload_n 1, 1) := dk_27 (dk_at dksX6_seenByRota_1 17 rfl rfl)
theorem dX6_seenByRota_41 : decode cX6_seenByRota 41 = .ok (.ireturn, 1) := dk_172 (dk_at dksX6_seenByRota_1 18 rfl rfl)
abbrev cX6_next : ByteArray := prog_20_method_74_code
def yX6_next : MethodName := ⟨RX6, "next", "(III)I"⟩
def dkwX6_next_3 : List UInt8 := [167, 255, 212, 16, 254, 172]
abbrev dktX6_next_3 : List UInt8 := dkwX6_next_3 ++ []
def dkwX6_next_2 : List UInt8 := [21, 5, 46, 27, 160, 0, 17, 42, 27, 28, 21, 5, 182, 0, 149, 153, 0, 6, 21, 4, 172, 132, 4, 1]
abbrev dktX6_next_2 : List UInt8 := dkwX6_next_2 ++ dktX6_next_3
def dkwX6_next_1 : List UInt8 := [172, 3, 54, 4, 21, 4, 16, 12, 162, 0, 43, 29, 21, 4, 96, 16, 12, 112, 54, 5, 42, 180, 0, 19]
abbrev dktX6_next_1 : List UInt8 := dkwX6_next_1 ++ dktX6_next_2
def dkwX6_next_0 : List UInt8 := [42, 27, 182, 0, 159, 153, 0, 18, 42, 28, 182, 0, 145, 153, 0, 10, 29, 184, 0, 156, 154, 0, 5, 2]
abbrev dktX6_next_0 : List UInt8 := dkwX6_next_0 ++ dktX6_next_1
theorem dksX6_next_0 : cX6_next.data.toList.drop 0 = dktX6_next_0 := by decide +kernel
theorem dksX6_next_1 : cX6_next.data.toList.drop 24 = dktX6_next_1 := dk_seg dksX6_next_0 24 rfl rfl
theorem dksX6_next_2 : cX6_next.data.toList.drop 48 = dktX6_next_2 := dk_seg dksX6_next_1 24 rfl rfl
theorem dksX6_next_3 : cX6_next.data.toList.drop 72 = dktX6_next_3 := dk_seg dksX6_next_2 24 rfl rfl
theorem dX6_next_0 : decode cX6_next 0 = .ok (.aload_n 0, 1) := dk_42 (dk_at dksX6_next_0 0 rfl rfl)
theorem dX6_next_1 : decode cX6_next 1 = .ok (.iload_n 1, 1) := dk_27 (dk_at dksX6_next_0 1 rfl rfl)
theorem dX6_next_2 : decode cX6_next 2 = .ok (.invokevirtual 159, 3) := dk_182 0 159 (dk_at dksX6_next_0 2 rfl rfl)
theorem dX6_next_5 : decode cX6_next 5 = .ok (.ifCond .eq 18, 3) := dk_153 0 18 (dk_at dksX6_next_0 5 rfl rfl)
theorem dX6_next_8 : decode cX6_next 8 = .ok (.aload_n 0, 1) := dk_42 (dk_at dksX6_next_0 8 rfl rfl)
theorem dX6_next_9 : decode cX6_next 9 = .ok (.iload_n 2, 1) := dk_28 (dk_at dksX6_next_0 9 rfl rfl)
theorem dX6_next_10 : decode cX6_next 10 = .ok (.invokevirtual 145, 3) := dk_182 0 145 (dk_at dksX6_next_0 10 rfl rfl)
theorem dX6_next_13 : decode cX6_next 13 = .ok (.ifCond .eq 10, 3) := dk_153 0 10 (dk_at dksX6_next_0 13 rfl rfl)
theorem dX6_next_16 : decode cX6_next 16 = .ok (.iload_n 3, 1) := dk_29 (dk_at dksX6_next_0 16 rfl rfl)
theorem dX6_next_17 : decode cX6_next 17 = .ok (.invokestatic 156, 3) := dk_184 0 156 (dk_at dksX6_next_0 17 rfl rfl)
theorem dX6_next_20 : decode cX6_next 20 = .ok (.ifCond .ne 5, 3) := dk_154 0 5 (dk_at dksX6_next_0 20 rfl rfl)
theorem dX6_next_23 : decode cX6_next 23 = .ok (.iconst (-1), 1) := dk_2 (dk_at dksX6_next_0 23 rfl rfl)
theorem dX6_next_24 : decode cX6_next 24 = .ok (.ireturn, 1) := dk_172 (dk_at dksX6_next_1 0 rfl rfl)
theorem dX6_next_25 : decode cX6_next 25 = .ok (.iconst 0, 1) := dk_3 (dk_at dksX6_next_1 1 rfl rfl)
theorem dX6_next_26 : decode cX6_next 26 = .ok (.istore 4, 2) := dk_54 4 (dk_at dksX6_next_1 2 rfl rfl)
theorem dX6_next_28 : decode cX6_next 28 = .ok (.iload 4, 2) := dk_21 4 (dk_at dksX6_next_1 4 rfl rfl)
theorem dX6_next_30 : decode cX6_next 30 = .ok (.bipush 12, 2) := dk_16 12 (dk_at dksX6_next_1 6 rfl rfl)
theorem dX6_next_32 : decode cX6_next 32 = .ok (.if_icmp .ge 43, 3) := dk_162 0 43 (dk_at dksX6_next_1 8 rfl rfl)
theorem dX6_next_35 : decode cX6_next 35 = .ok (.iload_n 3, 1) := dk_29 (dk_at dksX6_next_1 11 rfl rfl)
theorem dX6_next_36 : decode cX6_next 36 = .ok (.iload 4, 2) := dk_21 4 (dk_at dksX6_next_1 12 rfl rfl)
theorem dX6_next_38 : decode cX6_next 38 = .ok (.iadd, 1) := dk_96 (dk_at dksX6_next_1 14 rfl rfl)
theorem dX6_next_39 : decode cX6_next 39 = .ok (.bipush 12, 2) := dk_16 12 (dk_at dksX6_next_1 15 rfl rfl)
theorem dX6_next_41 : decode cX6_next 41 = .ok (.irem, 1) := dk_112 (dk_at dksX6_next_1 17 rfl rfl)
theorem dX6_next_42 : decode cX6_next 42 = .ok (.istore 5, 2) := dk_54 5 (dk_at dksX6_next_1 18 rfl rfl)
theorem dX6_next_44 : decode cX6_next 44 = .ok (.aload_n 0, 1) := dk_42 (dk_at dksX6_next_1 20 rfl rfl)
theorem dX6_next_45 : decode cX6_next 45 = .ok (.getfield 19, 3) := dk_180 0 19 (dk_at dksX6_next_1 21 rfl rfl)
theorem dX6_next_48 : decode cX6_next 48 = .ok (.iload 5, 2) := dk_21 5 (dk_at dksX6_next_2 0 rfl rfl)
theorem dX6_next_50 : decode cX6_next 50 = .ok (.iaload, 1) := dk_46 (dk_at dksX6_next_2 2 rfl rfl)
theorem dX6_next_51 : decode cX6_next 51 = .ok (.iload_n 1, 1) := dk_27 (dk_at dksX6_next_2 3 rfl rfl)
theorem dX6_next_52 : decode cX6_next 52 = .ok (.if_icmp .ne 17, 3) := dk_160 0 17 (dk_at dksX6_next_2 4 rfl rfl)
theorem dX6_next_55 : decode cX6_next 55 = .ok (.aload_n 0, 1) := dk_42 (dk_at dksX6_next_2 7 rfl rfl)
theorem dX6_next_56 : decode cX6_next 56 = .ok (.iload_n 1, 1) := dk_27 (dk_at dksX6_next_2 8 rfl rfl)
theorem dX6_next_57 : decode cX6_next 57 = .ok (.iload_n 2, 1) := dk_28 (dk_at dksX6_next_2 9 rfl rfl)
theorem dX6_next_58 : decode cX6_next 58 = .ok (.iload 5, 2) := dk_21 5 (dk_at dksX6_next_2 10 rfl rfl)
theorem dX6_next_60 : decode cX6_next 60 = .ok (.invokevirtual 149, 3) := dk_182 0 149 (dk_at dksX6_next_2 12 rfl rfl)
theorem dX6_next_63 : decode cX6_next 63 = .ok (.ifCond .eq 6, 3) := dk_153 0 6 (dk_at dksX6_next_2 15 rfl rfl)
theorem dX6_next_66 : decode cX6_next 66 = .ok (.iload 4, 2) := dk_21 4 (dk_at dksX6_next_2 18 rfl rfl)
theorem dX6_next_68 : decode cX6_next 68 = .ok (.ireturn, 1) := dk_172 (dk_at dksX6_next_2 20 rfl rfl)
theorem dX6_next_69 : decode cX6_next 69 = .ok (.iinc 4 1, 3) := dk_132 4 1 (dk_at dksX6_next_2 21 rfl rfl)
theorem dX6_next_72 : decode cX6_next 72 = .ok (.goto (-44), 3) := dk_167 255 212 (dk_at dksX6_next_3 0 rfl rfl)
theorem dX6_next_75 : decode cX6_next 75 = .ok (.bipush (-2), 2) := dk_16 254 (dk_at dksX6_next_3 3 rfl rfl)
theorem dX6_next_77 : decode cX6_next 77 = .ok (.ireturn, 1) := dk_172 (dk_at dksX6_next_3 5 rfl rfl)
abbrev cX6_light : ByteArray := prog_20_method_75_code
def yX6_light : MethodName := ⟨RX6, "light", "(II)I"⟩
def dkwX6_light_1 : List UInt8 := [27, 182, 1, 128, 184, 1, 64, 167, 0, 11, 42, 27, 182, 1, 128, 184, 1, 109, 172]
abbrev dktX6_light_1 : List UInt8 := dkwX6_light_1 ++ []
def dkwX6_light_0 : List UInt8 := [42, 27, 182, 0, 159, 153, 0, 12, 28, 3, 4, 184, 0, 134, 154, 0, 5, 2, 172, 28, 154, 0, 14, 42]
abbrev dktX6_light_0 : List UInt8 := dkwX6_light_0 ++ dktX6_light_1
theorem dksX6_light_0 : cX6_light.data.toList.drop 0 = dktX6_light_0 := by decide +kernel
theorem dksX6_light_1 : cX6_light.data.toList.drop 24 = dktX6_light_1 := dk_seg dksX6_light_0 24 rfl rfl
theorem dX6_light_0 : decode cX6_light 0 = .ok (.aload_n 0, 1) := dk_42 (dk_at dksX6_light_0 0 rfl rfl)
theorem dX6_light_1 : decode cX6_light 1 = .ok (.iload_n 1, 1) := dk_27 (dk_at dksX6_light_0 1 rfl rfl)
theorem dX6_light_2 : decode cX6_light 2 = .ok (.invokevirtual 159, 3) := dk_182 0 159 (dk_at dksX6_light_0 2 rfl rfl)
theorem dX6_light_5 : decode cX6_light 5 = .ok (.ifCond .eq 12, 3) := dk_153 0 12 (dk_at dksX6_light_0 5 rfl rfl)
theorem dX6_light_8 : decode cX6_light 8 = .ok (.iload_n 2, 1) := dk_28 (dk_at dksX6_light_0 8 rfl rfl)
theorem dX6_light_9 : decode cX6_light 9 = .ok (.iconst 0, 1) := dk_3 (dk_at dksX6_light_0 9 rfl rfl)
theorem dX6_light_10 : decode cX6_light 10 = .ok (.iconst 1, 1) := dk_4 (dk_at dksX6_light_0 10 rfl rfl)
theorem dX6_light_11 : decode cX6_light 11 = .ok (.invokestatic 134, 3) := dk_184 0 134 (dk_at dksX6_light_0 11 rfl rfl)
theorem dX6_light_14 : decode cX6_light 14 = .ok (.ifCond .ne 5, 3) := dk_154 0 5 (dk_at dksX6_light_0 14 rfl rfl)
theorem dX6_light_17 : decode cX6_light 17 = .ok (.iconst (-1), 1) := dk_2 (dk_at dksX6_light_0 17 rfl rfl)
theorem dX6_light_18 : decode cX6_light 18 = .ok (.ireturn, 1) := dk_172 (dk_at dksX6_light_0 18 rfl rfl)
theorem dX6_light_19 : decode cX6_light 19 = .ok (.iload_n 2, 1) := dk_28 (dk_at dksX6_light_0 19 rfl rfl)
theorem dX6_light_20 : decode cX6_light 20 = .ok (.ifCond .ne 14, 3) := dk_154 0 14 (dk_at dksX6_light_0 20 rfl rfl)
theorem dX6_light_23 : decode cX6_light 23 = .ok (.aload_n 0, 1) := dk_42 (dk_at dksX6_light_0 23 rfl rfl)
theorem dX6_light_24 : decode cX6_light 24 = .ok (.iload_n 1, 1) := dk_27 (dk_at dksX6_light_1 0 rfl rfl)
theorem dX6_light_25 : decode cX6_light 25 = .ok (.invokevirtual 384, 3) := dk_182 1 128 (dk_at dksX6_light_1 1 rfl rfl)
theorem dX6_light_28 : decode cX6_light 28 = .ok (.invokestatic 320, 3) := dk_184 1 64 (dk_at dksX6_light_1 4 rfl rfl)
theorem dX6_light_31 : decode cX6_light 31 = .ok (.goto 11, 3) := dk_167 0 11 (dk_at dksX6_light_1 7 rfl rfl)
theorem dX6_light_34 : decode cX6_light 34 = .ok (.aload_n 0, 1) := dk_42 (dk_at dksX6_light_1 10 rfl rfl)
theorem dX6_light_35 : decode cX6_light 35 = .ok (.iload_n 1, 1) := dk_27 (dk_at dksX6_light_1 11 rfl rfl)
theorem dX6_light_36 : decode cX6_light 36 = .ok (.invokevirtual 384, 3) := dk_182 1 128 (dk_at dksX6_light_1 12 rfl rfl)
theorem dX6_light_39 : decode cX6_light 39 = .ok (.invokestatic 365, 3) := dk_184 1 109 (dk_at dksX6_light_1 15 rfl rfl)
theorem dX6_light_42 : decode cX6_light 42 = .ok (.ireturn, 1) := dk_172 (dk_at dksX6_light_1 18 rfl rfl)
abbrev cX6_lightOf : ByteArray := prog_20_method_70_code
def yX6_lightOf : MethodName := ⟨RX6, "lightOf", "(I)I"⟩
def dkwX6_lightOf_1 : List UInt8 := [61, 132, 3, 1, 167, 255, 232, 28, 172]
abbrev dktX6_lightOf_1 : List UInt8 := dkwX6_lightOf_1 ++ []
def dkwX6_lightOf_0 : List UInt8 := [3, 61, 3, 62, 29, 16, 12, 162, 0, 24, 42, 27, 29, 182, 0, 152, 153, 0, 9, 28, 4, 29, 120, 128]
abbrev dktX6_lightOf_0 : List UInt8 := dkwX6_lightOf_0 ++ dktX6_lightOf_1
theorem dksX6_lightOf_0 : cX6_lightOf.data.toList.drop 0 = dktX6_lightOf_0 := by decide +kernel
theorem dksX6_lightOf_1 : cX6_lightOf.data.toList.drop 24 = dktX6_lightOf_1 := dk_seg dksX6_lightOf_0 24 rfl rfl
theorem dX6_lightOf_0 : decode cX6_lightOf 0 = .ok (.iconst 0, 1) := dk_3 (dk_at dksX6_lightOf_0 0 rfl rfl)
theorem dX6_lightOf_1 : decode cX6_lightOf 1 = .ok (.istore_n 2, 1) := dk_61 (dk_at dksX6_lightOf_0 1 rfl rfl)
theorem dX6_lightOf_2 : decode cX6_lightOf 2 = .ok (.iconst 0, 1) := dk_3 (dk_at dksX6_lightOf_0 2 rfl rfl)
theorem dX6_lightOf_3 : decode cX6_lightOf 3 = .ok (.istore_n 3, 1) := dk_62 (dk_at dksX6_lightOf_0 3 rfl rfl)
theorem dX6_lightOf_4 : decode cX6_lightOf 4 = .ok (.iload_n 3, 1) := dk_29 (dk_at dksX6_lightOf_0 4 rfl rfl)
theorem dX6_lightOf_5 : decode cX6_lightOf 5 = .ok (.bipush 12, 2) := dk_16 12 (dk_at dksX6_lightOf_0 5 rfl rfl)
theorem dX6_lightOf_7 : decode cX6_lightOf 7 = .ok (.if_icmp .ge 24, 3) := dk_162 0 24 (dk_at dksX6_lightOf_0 7 rfl rfl)
theorem dX6_lightOf_10 : decode cX6_lightOf 10 = .ok (.aload_n 0, 1) := dk_42 (dk_at dksX6_lightOf_0 10 rfl rfl)
theorem dX6_lightOf_11 : decode cX6_lightOf 11 = .ok (.iload_n 1, 1) := dk_27 (dk_at dksX6_lightOf_0 11 rfl rfl)
theorem dX6_lightOf_12 : decode cX6_lightOf 12 = .ok (.iload_n 3, 1) := dk_29 (dk_at dksX6_lightOf_0 12 rfl rfl)
theorem dX6_lightOf_13 : decode cX6_lightOf 13 = .ok (.invokevirtual 152, 3) := dk_182 0 152 (dk_at dksX6_lightOf_0 13 rfl rfl)
theorem dX6_lightOf_16 : decode cX6_lightOf 16 = .ok (.ifCond .eq 9, 3) := dk_153 0 9 (dk_at dksX6_lightOf_0 16 rfl rfl)
theorem dX6_lightOf_19 : decode cX6_lightOf 19 = .ok (.iload_n 2, 1) := dk_28 (dk_at dksX6_lightOf_0 19 rfl rfl)
theorem dX6_lightOf_20 : decode cX6_lightOf 20 = .ok (.iconst 1, 1) := dk_4 (dk_at dksX6_lightOf_0 20 rfl rfl)
theorem dX6_lightOf_21 : decode cX6_lightOf 21 = .ok (.iload_n 3, 1) := dk_29 (dk_at dksX6_lightOf_0 21 rfl rfl)
theorem dX6_lightOf_22 : decode cX6_lightOf 22 = .ok (.ishl, 1) := dk_120 (dk_at dksX6_lightOf_0 22 rfl rfl)
theorem dX6_lightOf_23 : decode cX6_lightOf 23 = .ok (.ior, 1) := dk_128 (dk_at dksX6_lightOf_0 23 rfl rfl)
theorem dX6_lightOf_24 : decode cX6_lightOf 24 = .ok (.istore_n 2, 1) := dk_61 (dk_at dksX6_lightOf_1 0 rfl rfl)
theorem dX6_lightOf_25 : decode cX6_lightOf 25 = .ok (.iinc 3 1, 3) := dk_132 3 1 (dk_at dksX6_lightOf_1 1 rfl rfl)
theorem dX6_lightOf_28 : decode cX6_lightOf 28 = .ok (.goto (-24), 3) := dk_167 255 232 (dk_at dksX6_lightOf_1 4 rfl rfl)
theorem dX6_lightOf_31 : decode cX6_lightOf 31 = .ok (.iload_n 2, 1) := dk_28 (dk_at dksX6_lightOf_1 7 rfl rfl)
theorem dX6_lightOf_32 : decode cX6_lightOf 32 = .ok (.ireturn, 1) := dk_172 (dk_at dksX6_lightOf_1 8 rfl rfl)
abbrev cX6_seers : ByteArray := prog_20_method_76_code
def yX6_seers : MethodName := ⟨RX6, "seers", "(I)I"⟩
def dkwX6_seers_2 : List UInt8 := [132, 3, 1, 167, 255, 221, 28, 172]
abbrev dktX6_seers_2 : List UInt8 := dkwX6_seers_2 ++ []
def dkwX6_seers_1 : List UInt8 := [182, 0, 159, 153, 0, 21, 42, 29, 182, 1, 118, 27, 184, 0, 130, 153, 0, 9, 28, 4, 29, 120, 128, 61]
abbrev dktX6_seers_1 : List UInt8 := dkwX6_seers_1 ++ dktX6_seers_2
def dkwX6_seers_0 : List UInt8 := [42, 27, 182, 0, 145, 154, 0, 5, 2, 172, 3, 61, 3, 62, 29, 16, 16, 162, 0, 35, 42, 29]
abbrev dktX6_seers_0 : List UInt8 := dkwX6_seers_0 ++ dktX6_seers_1
theorem dksX6_seers_0 : cX6_seers.data.toList.drop 0 = dktX6_seers_0 := by decide +kernel
theorem dksX6_seers_1 : cX6_seers.data.toList.drop 22 = dktX6_seers_1 := dk_seg dksX6_seers_0 22 rfl rfl
theorem dksX6_seers_2 : cX6_seers.data.toList.drop 46 = dktX6_seers_2 := dk_seg dksX6_seers_1 24 rfl rfl
theorem dX6_seers_0 : decode cX6_seers 0 = .ok (.aload_n 0, 1) := dk_42 (dk_at dksX6_seers_0 0 rfl rfl)
theorem dX6_seers_1 : decode cX6_seers 1 = .ok (.iload_n 1, 1) := dk_27 (dk_at dksX6_seers_0 1 rfl rfl)
theorem dX6_seers_2 : decode cX6_seers 2 = .ok (.invokevirtual 145, 3) := dk_182 0 145 (dk_at dksX6_seers_0 2 rfl rfl)
theorem dX6_seers_5 : decode cX6_seers 5 = .ok (.ifCond .ne 5, 3) := dk_154 0 5 (dk_at dksX6_seers_0 5 rfl rfl)
theorem dX6_seers_8 : decode cX6_seers 8 = .ok (.iconst (-1), 1) := dk_2 (dk_at dksX6_seers_0 8 rfl rfl)
theorem dX6_seers_9 : decode cX6_seers 9 = .ok (.ireturn, 1) := dk_172 (dk_at dksX6_seers_0 9 rfl rfl)
theorem dX6_seers_10 : decode cX6_seers 10 = .ok (.iconst 0, 1) := dk_3 (dk_at dksX6_seers_0 10 rfl rfl)
theorem dX6_seers_11 : decode cX6_seers 11 = .ok (.istore_n 2, 1) := dk_61 (dk_at dksX6_seers_0 11 rfl rfl)
theorem dX6_seers_12 : decode cX6_seers 12 = .ok (.iconst 0, 1) := dk_3 (dk_at dksX6_seers_0 12 rfl rfl)
theorem dX6_seers_13 : decode cX6_seers 13 = .ok (.istore_n 3, 1) := dk_62 (dk_at dksX6_seers_0 13 rfl rfl)
theorem dX6_seers_14 : decode cX6_seers 14 = .ok (.iload_n 3, 1) := dk_29 (dk_at dksX6_seers_0 14 rfl rfl)
theorem dX6_seers_15 : decode cX6_seers 15 = .ok (.bipush 16, 2) := dk_16 16 (dk_at dksX6_seers_0 15 rfl rfl)
theorem dX6_seers_17 : decode cX6_seers 17 = .ok (.if_icmp .ge 35, 3) := dk_162 0 35 (dk_at dksX6_seers_0 17 rfl rfl)
theorem dX6_seers_20 : decode cX6_seers 20 = .ok (.aload_n 0, 1) := dk_42 (dk_at dksX6_seers_0 20 rfl rfl)
theorem dX6_seers_21 : decode cX6_seers 21 = .ok (.iload_n 3, 1) := dk_29 (dk_at dksX6_seers_0 21 rfl rfl)
theorem dX6_seers_22 : decode cX6_seers 22 = .ok (.invokevirtual 159, 3) := dk_182 0 159 (dk_at dksX6_seers_1 0 rfl rfl)
theorem dX6_seers_25 : decode cX6_seers 25 = .ok (.ifCond .eq 21, 3) := dk_153 0 21 (dk_at dksX6_seers_1 3 rfl rfl)
theorem dX6_seers_28 : decode cX6_seers 28 = .ok (.aload_n 0, 1) := dk_42 (dk_at dksX6_seers_1 6 rfl rfl)
theorem dX6_seers_29 : decode cX6_seers 29 = .ok (.iload_n 3, 1) := dk_29 (dk_at dksX6_seers_1 7 rfl rfl)
theorem dX6_seers_30 : decode cX6_seers 30 = .ok (.invokevirtual 374, 3) := dk_182 1 118 (dk_at dksX6_seers_1 8 rfl rfl)
theorem dX6_seers_33 : decode cX6_seers 33 = .ok (.iload_n 1, 1) := dk_27 (dk_at dksX6_seers_1 11 rfl rfl)
theorem dX6_seers_34 : decode cX6_seers 34 = .ok (.invokestatic 130, 3) := dk_184 0 130 (dk_at dksX6_seers_1 12 rfl rfl)
theorem dX6_seers_37 : decode cX6_seers 37 = .ok (.ifCond .eq 9, 3) := dk_153 0 9 (dk_at dksX6_seers_1 15 rfl rfl)
theorem dX6_seers_40 : decode cX6_seers 40 = .ok (.iload_n 2, 1) := dk_28 (dk_at dksX6_seers_1 18 rfl rfl)
theorem dX6_seers_41 : decode cX6_seers 41 = .ok (.iconst 1, 1) := dk_4 (dk_at dksX6_seers_1 19 rfl rfl)
theorem dX6_seers_42 : decode cX6_seers 42 = .ok (.iload_n 3, 1) := dk_29 (dk_at dksX6_seers_1 20 rfl rfl)
theorem dX6_seers_43 : decode cX6_seers 43 = .ok (.ishl, 1) := dk_120 (dk_at dksX6_seers_1 21 rfl rfl)
theorem dX6_seers_44 : decode cX6_seers 44 = .ok (.ior, 1) := dk_128 (dk_at dksX6_seers_1 22 rfl rfl)
theorem dX6_seers_45 : decode cX6_seers 45 = .ok (.istore_n 2, 1) := dk_61 (dk_at dksX6_seers_1 23 rfl rfl)
theorem dX6_seers_46 : decode cX6_seers 46 = .ok (.iinc 3 1, 3) := dk_132 3 1 (dk_at dksX6_seers_2 0 rfl rfl)
theorem dX6_seers_49 : decode cX6_seers 49 = .ok (.goto (-35), 3) := dk_167 255 221 (dk_at dksX6_seers_2 3 rfl rfl)
theorem dX6_seers_52 : decode cX6_seers 52 = .ok (.iload_n 2, 1) := dk_28 (dk_at dksX6_seers_2 6 rfl rfl)
theorem dX6_seers_53 : decode cX6_seers 53 = .ok (.ireturn, 1) := dk_172 (dk_at dksX6_seers_2 7 rfl rfl)
abbrev cX6_ifSwapped : ByteArray := prog_20_method_78_code
def yX6_ifSwapped : MethodName := ⟨RX6, "ifSwapped", "(II)I"⟩
def dkwX6_ifSwapped_1 : List UInt8 := [182, 1, 121, 62, 42, 27, 28, 182, 1, 131, 29, 172]
abbrev dktX6_ifSwapped_1 : List UInt8 := dkwX6_ifSwapped_1 ++ []
def dkwX6_ifSwapped_0 : List UInt8 := [27, 184, 0, 156, 153, 0, 10, 28, 184, 0, 156, 154, 0, 5, 2, 172, 42, 27, 28, 182, 1, 131, 42, 3]
abbrev dktX6_ifSwapped_0 : List UInt8 := dkwX6_ifSwapped_0 ++ dktX6_ifSwapped_1
theorem dksX6_ifSwapped_0 : cX6_ifSwapped.data.toList.drop 0 = dktX6_ifSwapped_0 := by decide +kernel
theorem dksX6_ifSwapped_1 : cX6_ifSwapped.data.toList.drop 24 = dktX6_ifSwapped_1 := dk_seg dksX6_ifSwapped_0 24 rfl rfl
theorem dX6_ifSwapped_0 : decode cX6_ifSwapped 0 = .ok (.iload_n 1, 1) := dk_27 (dk_at dksX6_ifSwapped_0 0 rfl rfl)
theorem dX6_ifSwapped_1 : decode cX6_ifSwapped 1 = .ok (.invokestatic 156, 3) := dk_184 0 156 (dk_at dksX6_ifSwapped_0 1 rfl rfl)
theorem dX6_ifSwapped_4 : decode cX6_ifSwapped 4 = .ok (.ifCond .eq 10, 3) := dk_153 0 10 (dk_at dksX6_ifSwapped_0 4 rfl rfl)
theorem dX6_ifSwapped_7 : decode cX6_ifSwapped 7 = .ok (.iload_n 2, 1) := dk_28 (dk_at dksX6_ifSwapped_0 7 rfl rfl)
theorem dX6_ifSwapped_8 : decode cX6_ifSwapped 8 = .ok (.invokestatic 156, 3) := dk_184 0 156 (dk_at dksX6_ifSwapped_0 8 rfl rfl)
theorem dX6_ifSwapped_11 : decode cX6_ifSwapped 11 = .ok (.ifCond .ne 5, 3) := dk_154 0 5 (dk_at dksX6_ifSwapped_0 11 rfl rfl)
theorem dX6_ifSwapped_14 : decode cX6_ifSwapped 14 = .ok (.iconst (-1), 1) := dk_2 (dk_at dksX6_ifSwapped_0 14 rfl rfl)
theorem dX6_ifSwapped_15 : decode cX6_ifSwapped 15 = .ok (.ireturn, 1) := dk_172 (dk_at dksX6_ifSwapped_0 15 rfl rfl)
theorem dX6_ifSwapped_16 : decode cX6_ifSwapped 16 = .ok (.aload_n 0, 1) := dk_42 (dk_at dksX6_ifSwapped_0 16 rfl rfl)
theorem dX6_ifSwapped_17 : decode cX6_ifSwapped 17 = .ok (.iload_n 1, 1) := dk_27 (dk_at dksX6_ifSwapped_0 17 rfl rfl)
theorem dX6_ifSwapped_18 : decode cX6_ifSwapped 18 = .ok (.iload_n 2, 1) := dk_28 (dk_at dksX6_ifSwapped_0 18 rfl rfl)
theorem dX6_ifSwapped_19 : decode cX6_ifSwapped 19 = .ok (.invokevirtual 387, 3) := dk_182 1 131 (dk_at dksX6_ifSwapped_0 19 rfl rfl)
theorem dX6_ifSwapped_22 : decode cX6_ifSwapped 22 = .ok (.aload_n 0, 1) := dk_42 (dk_at dksX6_ifSwapped_0 22 rfl rfl)
theorem dX6_ifSwapped_23 : decode cX6_ifSwapped 23 = .ok (.iconst 0, 1) := dk_3 (dk_at dksX6_ifSwapped_0 23 rfl rfl)
theorem dX6_ifSwapped_24 : decode cX6_ifSwapped 24 = .ok (.invokevirtual 377, 3) := dk_182 1 121 (dk_at dksX6_ifSwapped_1 0 rfl rfl)
theorem dX6_ifSwapped_27 : decode cX6_ifSwapped 27 = .ok (.istore_n 3, 1) := dk_62 (dk_at dksX6_ifSwapped_1 3 rfl rfl)
theorem dX6_ifSwapped_28 : decode cX6_ifSwapped 28 = .ok (.aload_n 0, 1) := dk_42 (dk_at dksX6_ifSwapped_1 4 rfl rfl)
theorem dX6_ifSwapped_29 : decode cX6_ifSwapped 29 = .ok (.iload_n 1, 1) := dk_27 (dk_at dksX6_ifSwapped_1 5 rfl rfl)
theorem dX6_ifSwapped_30 : decode cX6_ifSwapped 30 = .ok (.iload_n 2, 1) := dk_28 (dk_at dksX6_ifSwapped_1 6 rfl rfl)
theorem dX6_ifSwapped_31 : decode cX6_ifSwapped 31 = .ok (.invokevirtual 387, 3) := dk_182 1 131 (dk_at dksX6_ifSwapped_1 7 rfl rfl)
theorem dX6_ifSwapped_34 : decode cX6_ifSwapped 34 = .ok (.iload_n 3, 1) := dk_29 (dk_at dksX6_ifSwapped_1 10 rfl rfl)
theorem dX6_ifSwapped_35 : decode cX6_ifSwapped 35 = .ok (.ireturn, 1) := dk_172 (dk_at dksX6_ifSwapped_1 11 rfl rfl)
abbrev cX6_changesTurns : ByteArray := prog_20_method_77_code
def yX6_changesTurns : MethodName := ⟨RX6, "changesTurns", "(II)V"⟩
def dkwX6_changesTurns_1 : List UInt8 := [29, 79, 177]
abbrev dktX6_changesTurns_1 : List UInt8 := dkwX6_changesTurns_1 ++ []
def dkwX6_changesTurns_0 : List UInt8 := [42, 180, 0, 19, 27, 46, 62, 42, 180, 0, 19, 27, 42, 180, 0, 19, 28, 46, 79, 42, 180, 0, 19, 28]
abbrev dktX6_changesTurns_0 : List UInt8 := dkwX6_changesTurns_0 ++ dktX6_changesTurns_1
theorem dksX6_changesTurns_0 : cX6_changesTurns.data.toList.drop 0 = dktX6_changesTurns_0 := by decide +kernel
theorem dksX6_changesTurns_1 : cX6_changesTurns.data.toList.drop 24 = dktX6_changesTurns_1 := dk_seg dksX6_changesTurns_0 24 rfl rfl
theorem dX6_changesTurns_0 : decode cX6_changesTurns 0 = .ok (.aload_n 0, 1) := dk_42 (dk_at dksX6_changesTurns_0 0 rfl rfl)
theorem dX6_changesTurns_1 : decode cX6_changesTurns 1 = .ok (.getfield 19, 3) := dk_180 0 19 (dk_at dksX6_changesTurns_0 1 rfl rfl)
theorem dX6_changesTurns_4 : decode cX6_changesTurns 4 = .ok (.iload_n 1, 1) := dk_27 (dk_at dksX6_changesTurns_0 4 rfl rfl)
theorem dX6_changesTurns_5 : decode cX6_changesTurns 5 = .ok (.iaload, 1) := dk_46 (dk_at dksX6_changesTurns_0 5 rfl rfl)
theorem dX6_changesTurns_6 : decode cX6_changesTurns 6 = .ok (.istore_n 3, 1) := dk_62 (dk_at dksX6_changesTurns_0 6 rfl rfl)
theorem dX6_changesTurns_7 : decode cX6_changesTurns 7 = .ok (.aload_n 0, 1) := dk_42 (dk_at dksX6_changesTurns_0 7 rfl rfl)
theorem dX6_changesTurns_8 : decode cX6_changesTurns 8 = .ok (.getfield 19, 3) := dk_180 0 19 (dk_at dksX6_changesTurns_0 8 rfl rfl)
theorem dX6_changesTurns_11 : decode cX6_changesTurns 11 = .ok (.iload_n 1, 1) := dk_27 (dk_at dksX6_changesTurns_0 11 rfl rfl)
theorem dX6_changesTurns_12 : decode cX6_changesTurns 12 = .ok (.aload_n 0, 1) := dk_42 (dk_at dksX6_changesTurns_0 12 rfl rfl)
theorem dX6_changesTurns_13 : decode cX6_changesTurns 13 = .ok (.getfield 19, 3) := dk_180 0 19 (dk_at dksX6_changesTurns_0 13 rfl rfl)
theorem dX6_changesTurns_16 : decode cX6_changesTurns 16 = .ok (.iload_n 2, 1) := dk_28 (dk_at dksX6_changesTurns_0 16 rfl rfl)
theorem dX6_changesTurns_17 : decode cX6_changesTurns 17 = .ok (.iaload, 1) := dk_46 (dk_at dksX6_changesTurns_0 17 rfl rfl)
theorem dX6_changesTurns_18 : decode cX6_changesTurns 18 = .ok (.iastore, 1) := dk_79 (dk_at dksX6_changesTurns_0 18 rfl rfl)
theorem dX6_changesTurns_19 : decode cX6_changesTurns 19 = .ok (.aload_n 0, 1) := dk_42 (dk_at dksX6_changesTurns_0 19 rfl rfl)
theorem dX6_changesTurns_20 : decode cX6_changesTurns 20 = .ok (.getfield 19, 3) := dk_180 0 19 (dk_at dksX6_changesTurns_0 20 rfl rfl)
theorem dX6_changesTurns_23 : decode cX6_changesTurns 23 = .ok (.iload_n 2, 1) := dk_28 (dk_at dksX6_changesTurns_0 23 rfl rfl)
theorem dX6_changesTurns_24 : decode cX6_changesTurns 24 = .ok (.iload_n 3, 1) := dk_29 (dk_at dksX6_changesTurns_1 0 rfl rfl)
theorem dX6_changesTurns_25 : decode cX6_changesTurns 25 = .ok (.iastore, 1) := dk_79 (dk_at dksX6_changesTurns_1 1 rfl rfl)
theorem dX6_changesTurns_26 : decode cX6_changesTurns 26 = .ok (.return_, 1) := dk_177 (dk_at dksX6_changesTurns_1 2 rfl rfl)
abbrev cX6_spread : ByteArray := prog_20_method_79_code
def yX6_spread : MethodName := ⟨RX6, "spread", "()I"⟩
def dkwX6_spread_2 : List UInt8 := [167, 255, 216, 42, 180, 0, 138, 154, 0, 7, 3, 167, 0, 6, 27, 28, 100, 172]
abbrev dktX6_spread_2 : List UInt8 := dkwX6_spread_2 ++ []
def dkwX6_spread_1 : List UInt8 := [27, 42, 29, 182, 1, 112, 184, 1, 106, 60, 28, 42, 29, 182, 1, 112, 184, 1, 77, 61, 132, 3, 1]
abbrev dktX6_spread_1 : List UInt8 := dkwX6_spread_1 ++ dktX6_spread_2
def dkwX6_spread_0 : List UInt8 := [3, 60, 16, 12, 61, 3, 62, 29, 16, 16, 162, 0, 40, 42, 29, 182, 0, 159, 154, 0, 6, 167, 0, 23]
abbrev dktX6_spread_0 : List UInt8 := dkwX6_spread_0 ++ dktX6_spread_1
theorem dksX6_spread_0 : cX6_spread.data.toList.drop 0 = dktX6_spread_0 := by decide +kernel
theorem dksX6_spread_1 : cX6_spread.data.toList.drop 24 = dktX6_spread_1 := dk_seg dksX6_spread_0 24 rfl rfl
theorem dksX6_spread_2 : cX6_spread.data.toList.drop 47 = dktX6_spread_2 := dk_seg dksX6_spread_1 23 rfl rfl
theorem dX6_spread_0 : decode cX6_spread 0 = .ok (.iconst 0, 1) := dk_3 (dk_at dksX6_spread_0 0 rfl rfl)
theorem dX6_spread_1 : decode cX6_spread 1 = .ok (.istore_n 1, 1) := dk_60 (dk_at dksX6_spread_0 1 rfl rfl)
theorem dX6_spread_2 : decode cX6_spread 2 = .ok (.bipush 12, 2) := dk_16 12 (dk_at dksX6_spread_0 2 rfl rfl)
theorem dX6_spread_4 : decode cX6_spread 4 = .ok (.istore_n 2, 1) := dk_61 (dk_at dksX6_spread_0 4 rfl rfl)
theorem dX6_spread_5 : decode cX6_spread 5 = .ok (.iconst 0, 1) := dk_3 (dk_at dksX6_spread_0 5 rfl rfl)
theorem dX6_spread_6 : decode cX6_spread 6 = .ok (.istore_n 3, 1) := dk_62 (dk_at dksX6_spread_0 6 rfl rfl)
theorem dX6_spread_7 : decode cX6_spread 7 = .ok (.iload_n 3, 1) := dk_29 (dk_at dksX6_spread_0 7 rfl rfl)
theorem dX6_spread_8 : decode cX6_spread 8 = .ok (.bipush 16, 2) := dk_16 16 (dk_at dksX6_spread_0 8 rfl rfl)
theorem dX6_spread_10 : decode cX6_spread 10 = .ok (.if_icmp .ge 40, 3) := dk_162 0 40 (dk_at dksX6_spread_0 10 rfl rfl)
theorem dX6_spread_13 : decode cX6_spread 13 = .ok (.aload_n 0, 1) := dk_42 (dk_at dksX6_spread_0 13 rfl rfl)
theorem dX6_spread_14 : decode cX6_spread 14 = .ok (.iload_n 3, 1) := dk_29 (dk_at dksX6_spread_0 14 rfl rfl)
theorem dX6_spread_15 : decode cX6_spread 15 = .ok (.invokevirtual 159, 3) := dk_182 0 159 (dk_at dksX6_spread_0 15 rfl rfl)
theorem dX6_spread_18 : decode cX6_spread 18 = .ok (.ifCond .ne 6, 3) := dk_154 0 6 (dk_at dksX6_spread_0 18 rfl rfl)
theorem dX6_spread_21 : decode cX6_spread 21 = .ok (.goto 23, 3) := dk_167 0 23 (dk_at dksX6_spread_0 21 rfl rfl)
theorem dX6_spread_24 : decode cX6_spread 24 = .ok (.iload_n 1, 1) := dk_27 (dk_at dksX6_spread_1 0 rfl rfl)
theorem dX6_spread_25 : decode cX6_spread 25 = .ok (.aload_n 0, 1) := dk_42 (dk_at dksX6_spread_1 1 rfl rfl)
theorem dX6_spread_26 : decode cX6_spread 26 = .ok (.iload_n 3, 1) := dk_29 (dk_at dksX6_spread_1 2 rfl rfl)
theorem dX6_spread_27 : decode cX6_spread 27 = .ok (.invokevirtual 368, 3) := dk_182 1 112 (dk_at dksX6_spread_1 3 rfl rfl)
theorem dX6_spread_30 : decode cX6_spread 30 = .ok (.invokestatic 362, 3) := dk_184 1 106 (dk_at dksX6_spread_1 6 rfl rfl)
theorem dX6_spread_33 : decode cX6_spread 33 = .ok (.istore_n 1, 1) := dk_60 (dk_at dksX6_spread_1 9 rfl rfl)
theorem dX6_spread_34 : decode cX6_spread 34 = .ok (.iload_n 2, 1) := dk_28 (dk_at dksX6_spread_1 10 rfl rfl)
theorem dX6_spread_35 : decode cX6_spread 35 = .ok (.aload_n 0, 1) := dk_42 (dk_at dksX6_spread_1 11 rfl rfl)
theorem dX6_spread_36 : decode cX6_spread 36 = .ok (.iload_n 3, 1) := dk_29 (dk_at dksX6_spread_1 12 rfl rfl)
theorem dX6_spread_37 : decode cX6_spread 37 = .ok (.invokevirtual 368, 3) := dk_182 1 112 (dk_at dksX6_spread_1 13 rfl rfl)
theorem dX6_spread_40 : decode cX6_spread 40 = .ok (.invokestatic 333, 3) := dk_184 1 77 (dk_at dksX6_spread_1 16 rfl rfl)
theorem dX6_spread_43 : decode cX6_spread 43 = .ok (.istore_n 2, 1) := dk_61 (dk_at dksX6_spread_1 19 rfl rfl)
theorem dX6_spread_44 : decode cX6_spread 44 = .ok (.iinc 3 1, 3) := dk_132 3 1 (dk_at dksX6_spread_1 20 rfl rfl)
theorem dX6_spread_47 : decode cX6_spread 47 = .ok (.goto (-40), 3) := dk_167 255 216 (dk_at dksX6_spread_2 0 rfl rfl)
theorem dX6_spread_50 : decode cX6_spread 50 = .ok (.aload_n 0, 1) := dk_42 (dk_at dksX6_spread_2 3 rfl rfl)
theorem dX6_spread_51 : decode cX6_spread 51 = .ok (.getfield 138, 3) := dk_180 0 138 (dk_at dksX6_spread_2 4 rfl rfl)
theorem dX6_spread_54 : decode cX6_spread 54 = .ok (.ifCond .ne 7, 3) := dk_154 0 7 (dk_at dksX6_spread_2 7 rfl rfl)
theorem dX6_spread_57 : decode cX6_spread 57 = .ok (.iconst 0, 1) := dk_3 (dk_at dksX6_spread_2 10 rfl rfl)
theorem dX6_spread_58 : decode cX6_spread 58 = .ok (.goto 6, 3) := dk_167 0 6 (dk_at dksX6_spread_2 11 rfl rfl)
theorem dX6_spread_61 : decode cX6_spread 61 = .ok (.iload_n 1, 1) := dk_27 (dk_at dksX6_spread_2 14 rfl rfl)
theorem dX6_spread_62 : decode cX6_spread 62 = .ok (.iload_n 2, 1) := dk_28 (dk_at dksX6_spread_2 15 rfl rfl)
theorem dX6_spread_63 : decode cX6_spread 63 = .ok (.isub, 1) := dk_100 (dk_at dksX6_spread_2 16 rfl rfl)
theorem dX6_spread_64 : decode cX6_spread 64 = .ok (.ireturn, 1) := dk_172 (dk_at dksX6_spread_2 17 rfl rfl)
abbrev cX6_readers : ByteArray := prog_20_method_81_code
def yX6_readers : MethodName := ⟨RX6, "readers", "(II)I"⟩
def dkwX6_readers_1 : List UInt8 := [167, 0, 4, 2, 172]
abbrev dktX6_readers_1 : List UInt8 := dkwX6_readers_1 ++ []
def dkwX6_readers_0 : List UInt8 := [27, 184, 0, 156, 153, 0, 22, 28, 3, 16, 12, 184, 0, 134, 153, 0, 12, 42, 27, 28, 182, 1, 134]
abbrev dktX6_readers_0 : List UInt8 := dkwX6_readers_0 ++ dktX6_readers_1
theorem dksX6_readers_0 : cX6_readers.data.toList.drop 0 = dktX6_readers_0 := by decide +kernel
theorem dksX6_readers_1 : cX6_readers.data.toList.drop 23 = dktX6_readers_1 := dk_seg dksX6_readers_0 23 rfl rfl
theorem dX6_readers_0 : decode cX6_readers 0 = .ok (.iload_n 1, 1) := dk_27 (dk_at dksX6_readers_0 0 rfl rfl)
theorem dX6_readers_1 : decode cX6_readers 1 = .ok (.invokestatic 156, 3) := dk_184 0 156 (dk_at dksX6_readers_0 1 rfl rfl)
theorem dX6_readers_4 : decode cX6_readers 4 = .ok (.ifCond .eq 22, 3) := dk_153 0 22 (dk_at dksX6_readers_0 4 rfl rfl)
theorem dX6_readers_7 : decode cX6_readers 7 = .ok (.iload_n 2, 1) := dk_28 (dk_at dksX6_readers_0 7 rfl rfl)
theorem dX6_readers_8 : decode cX6_readers 8 = .ok (.iconst 0, 1) := dk_3 (dk_at dksX6_readers_0 8 rfl rfl)
theorem dX6_readers_9 : decode cX6_readers 9 = .ok (.bipush 12, 2) := dk_16 12 (dk_at dksX6_readers_0 9 rfl rfl)
theorem dX6_readers_11 : decode cX6_readers 11 = .ok (.invokestatic 134, 3) := dk_184 0 134 (dk_at dksX6_readers_0 11 rfl rfl)
theorem dX6_readers_14 : decode cX6_readers 14 = .ok (.ifCond .eq 12, 3) := dk_153 0 12 (dk_at dksX6_readers_0 14 rfl rfl)
theorem dX6_readers_17 : decode cX6_readers 17 = .ok (.aload_n 0, 1) := dk_42 (dk_at dksX6_readers_0 17 rfl rfl)
theorem dX6_readers_18 : decode cX6_readers 18 = .ok (.iload_n 1, 1) := dk_27 (dk_at dksX6_readers_0 18 rfl rfl)
theorem dX6_readers_19 : decode cX6_readers 19 = .ok (.iload_n 2, 1) := dk_28 (dk_at dksX6_readers_0 19 rfl rfl)
theorem dX6_readers_20 : decode cX6_readers 20 = .ok (.invokevirtual 390, 3) := dk_182 1 134 (dk_at dksX6_readers_0 20 rfl rfl)
theorem dX6_readers_23 : decode cX6_readers 23 = .ok (.goto 4, 3) := dk_167 0 4 (dk_at dksX6_readers_1 0 rfl rfl)
theorem dX6_readers_26 : decode cX6_readers 26 = .ok (.iconst (-1), 1) := dk_2 (dk_at dksX6_readers_1 3 rfl rfl)
theorem dX6_readers_27 : decode cX6_readers 27 = .ok (.ireturn, 1) := dk_172 (dk_at dksX6_readers_1 4 rfl rfl)
abbrev cX6_readersOf : ByteArray := prog_20_method_80_code
def yX6_readersOf : MethodName := ⟨RX6, "readersOf", "(II)I"⟩
def dkwX6_readersOf_2 : List UInt8 := [180, 0, 19, 21, 5, 46, 21, 5, 182, 0, 152, 154, 0, 5, 29, 172, 132, 4, 1, 167, 255, 194, 29, 172]
abbrev dktX6_readersOf_2 : List UInt8 := dkwX6_readersOf_2 ++ []
def dkwX6_readersOf_1 : List UInt8 := [21, 5, 46, 2, 160, 0, 6, 167, 0, 33, 29, 4, 42, 180, 0, 19, 21, 5, 46, 120, 128, 62, 42, 42]
abbrev dktX6_readersOf_1 : List UInt8 := dkwX6_readersOf_1 ++ dktX6_readersOf_2
def dkwX6_readersOf_0 : List UInt8 := [3, 62, 4, 54, 4, 21, 4, 28, 163, 0, 62, 27, 21, 4, 96, 16, 12, 112, 54, 5, 42, 180, 0, 19]
abbrev dktX6_readersOf_0 : List UInt8 := dkwX6_readersOf_0 ++ dktX6_readersOf_1
theorem dksX6_readersOf_0 : cX6_readersOf.data.toList.drop 0 = dktX6_readersOf_0 := by decide +kernel
theorem dksX6_readersOf_1 : cX6_readersOf.data.toList.drop 24 = dktX6_readersOf_1 := dk_seg dksX6_readersOf_0 24 rfl rfl
theorem dksX6_readersOf_2 : cX6_readersOf.data.toList.drop 48 = dktX6_readersOf_2 := dk_seg dksX6_readersOf_1 24 rfl rfl
theorem dX6_readersOf_0 : decode cX6_readersOf 0 = .ok (.iconst 0, 1) := dk_3 (dk_at dksX6_readersOf_0 0 rfl rfl)
theorem dX6_readersOf_1 : decode cX6_readersOf 1 = .ok (.istore_n 3, 1) := dk_62 (dk_at dksX6_readersOf_0 1 rfl rfl)
theorem dX6_readersOf_2 : decode cX6_readersOf 2 = .ok (.iconst 1, 1) := dk_4 (dk_at dksX6_readersOf_0 2 rfl rfl)
theorem dX6_readersOf_3 : decode cX6_readersOf 3 = .ok (.istore 4, 2) := dk_54 4 (dk_at dksX6_readersOf_0 3 rfl rfl)
theorem dX6_readersOf_5 : decode cX6_readersOf 5 = .ok (.iload 4, 2) := dk_21 4 (dk_at dksX6_readersOf_0 5 rfl rfl)
theorem dX6_readersOf_7 : decode cX6_readersOf 7 = .ok (.iload_n 2, 1) := dk_28 (dk_at dksX6_readersOf_0 7 rfl rfl)
theorem dX6_readersOf_8 : decode cX6_readersOf 8 = .ok (.if_icmp .gt 62, 3) := dk_163 0 62 (dk_at dksX6_readersOf_0 8 rfl rfl)
theorem dX6_readersOf_11 : decode cX6_readersOf 11 = .ok (.iload_n 1, 1) := dk_27 (dk_at dksX6_readersOf_0 11 rfl rfl)
theorem dX6_readersOf_12 : decode cX6_readersOf 12 = .ok (.iload 4, 2) := dk_21 4 (dk_at dksX6_readersOf_0 12 rfl rfl)
theorem dX6_readersOf_14 : decode cX6_readersOf 14 = .ok (.iadd, 1) := dk_96 (dk_at dksX6_readersOf_0 14 rfl rfl)
theorem dX6_readersOf_15 : decode cX6_readersOf 15 = .ok (.bipush 12, 2) := dk_16 12 (dk_at dksX6_readersOf_0 15 rfl rfl)
theorem dX6_readersOf_17 : decode cX6_readersOf 17 = .ok (.irem, 1) := dk_112 (dk_at dksX6_readersOf_0 17 rfl rfl)
theorem dX6_readersOf_18 : decode cX6_readersOf 18 = .ok (.istore 5, 2) := dk_54 5 (dk_at dksX6_readersOf_0 18 rfl rfl)
theorem dX6_readersOf_20 : decode cX6_readersOf 20 = .ok (.aload_n 0, 1) := dk_42 (dk_at dksX6_readersOf_0 20 rfl rfl)
theorem dX6_readersOf_21 : decode cX6_readersOf 21 = .ok (.getfield 19, 3) := dk_180 0 19 (dk_at dksX6_readersOf_0 21 rfl rfl)
theorem dX6_readersOf_24 : decode cX6_readersOf 24 = .ok (.iload 5, 2) := dk_21 5 (dk_at dksX6_readersOf_1 0 rfl rfl)
theorem dX6_readersOf_26 : decode cX6_readersOf 26 = .ok (.iaload, 1) := dk_46 (dk_at dksX6_readersOf_1 2 rfl rfl)
theorem dX6_readersOf_27 : decode cX6_readersOf 27 = .ok (.iconst (-1), 1) := dk_2 (dk_at dksX6_readersOf_1 3 rfl rfl)
theorem dX6_readersOf_28 : decode cX6_readersOf 28 = .ok (.if_icmp .ne 6, 3) := dk_160 0 6 (dk_at dksX6_readersOf_1 4 rfl rfl)
theorem dX6_readersOf_31 : decode cX6_readersOf 31 = .ok (.goto 33, 3) := dk_167 0 33 (dk_at dksX6_readersOf_1 7 rfl rfl)
theorem dX6_readersOf_34 : decode cX6_readersOf 34 = .ok (.iload_n 3, 1) := dk_29 (dk_at dksX6_readersOf_1 10 rfl rfl)
theorem dX6_readersOf_35 : decode cX6_readersOf 35 = .ok (.iconst 1, 1) := dk_4 (dk_at dksX6_readersOf_1 11 rfl rfl)
theorem dX6_readersOf_36 : decode cX6_readersOf 36 = .ok (.aload_n 0, 1) := dk_42 (dk_at dksX6_readersOf_1 12 rfl rfl)
theorem dX6_readersOf_37 : decode cX6_readersOf 37 = .ok (.getfield 19, 3) := dk_180 0 19 (dk_at dksX6_readersOf_1 13 rfl rfl)
theorem dX6_readersOf_40 : decode cX6_readersOf 40 = .ok (.iload 5, 2) := dk_21 5 (dk_at dksX6_readersOf_1 16 rfl rfl)
theorem dX6_readersOf_42 : decode cX6_readersOf 42 = .ok (.iaload, 1) := dk_46 (dk_at dksX6_readersOf_1 18 rfl rfl)
theorem dX6_readersOf_43 : decode cX6_readersOf 43 = .ok (.ishl, 1) := dk_120 (dk_at dksX6_readersOf_1 19 rfl rfl)
theorem dX6_readersOf_44 : decode cX6_readersOf 44 = .ok (.ior, 1) := dk_128 (dk_at dksX6_readersOf_1 20 rfl rfl)
theorem dX6_readersOf_45 : decode cX6_readersOf 45 = .ok (.istore_n 3, 1) := dk_62 (dk_at dksX6_readersOf_1 21 rfl rfl)
theorem dX6_readersOf_46 : decode cX6_readersOf 46 = .ok (.aload_n 0, 1) := dk_42 (dk_at dksX6_readersOf_1 22 rfl rfl)
theorem dX6_readersOf_47 : decode cX6_readersOf 47 = .ok (.aload_n 0, 1) := dk_42 (dk_at dksX6_readersOf_1 23 rfl rfl)
theorem dX6_readersOf_48 : decode cX6_readersOf 48 = .ok (.getfield 19, 3) := dk_180 0 19 (dk_at dksX6_readersOf_2 0 rfl rfl)
theorem dX6_readersOf_51 : decode cX6_readersOf 51 = .ok (.iload 5, 2) := dk_21 5 (dk_at dksX6_readersOf_2 3 rfl rfl)
theorem dX6_readersOf_53 : decode cX6_readersOf 53 = .ok (.iaload, 1) := dk_46 (dk_at dksX6_readersOf_2 5 rfl rfl)
theorem dX6_readersOf_54 : decode cX6_readersOf 54 = .ok (.iload 5, 2) := dk_21 5 (dk_at dksX6_readersOf_2 6 rfl rfl)
theorem dX6_readersOf_56 : decode cX6_readersOf 56 = .ok (.invokevirtual 152, 3) := dk_182 0 152 (dk_at dksX6_readersOf_2 8 rfl rfl)
theorem dX6_readersOf_59 : decode cX6_readersOf 59 = .ok (.ifCond .ne 5, 3) := dk_154 0 5 (dk_at dksX6_readersOf_2 11 rfl rfl)
theorem dX6_readersOf_62 : decode cX6_readersOf 62 = .ok (.iload_n 3, 1) := dk_29 (dk_at dksX6_readersOf_2 14 rfl rfl)
theorem dX6_readersOf_63 : decode cX6_readersOf 63 = .ok (.ireturn, 1) := dk_172 (dk_at dksX6_readersOf_2 15 rfl rfl)
theorem dX6_readersOf_64 : decode cX6_readersOf 64 = .ok (.iinc 4 1, 3) := dk_132 4 1 (dk_at dksX6_readersOf_2 16 rfl rfl)
theorem dX6_readersOf_67 : decode cX6_readersOf 67 = .ok (.goto (-62), 3) := dk_167 255 194 (dk_at dksX6_readersOf_2 19 rfl rfl)
theorem dX6_readersOf_70 : decode cX6_readersOf 70 = .ok (.iload_n 3, 1) := dk_29 (dk_at dksX6_readersOf_2 22 rfl rfl)
theorem dX6_readersOf_71 : decode cX6_readersOf 71 = .ok (.ireturn, 1) := dk_172 (dk_at dksX6_readersOf_2 23 rfl rfl)
abbrev cX6_bestBreath : ByteArray := prog_20_method_83_code
def yX6_bestBreath : MethodName := ⟨RX6, "bestBreath", "(II)I"⟩
def dkwX6_bestBreath_4 : List UInt8 := [42, 27, 29, 182, 1, 137, 172]
abbrev dktX6_bestBreath_4 : List UInt8 := dkwX6_bestBreath_4 ++ []
def dkwX6_bestBreath_3 : List UInt8 := [132, 4, 1, 167, 255, 210, 28, 154, 0, 7, 29, 167, 0, 19, 29, 16, 254, 160, 0, 7, 3, 167, 0, 9]
abbrev dktX6_bestBreath_3 : List UInt8 := dkwX6_bestBreath_3 ++ dktX6_bestBreath_4
def dkwX6_bestBreath_2 : List UInt8 := [159, 0, 19, 42, 27, 21, 4, 182, 1, 137, 42, 27, 29, 182, 1, 137, 164, 0, 6, 21, 4, 62]
abbrev dktX6_bestBreath_2 : List UInt8 := dkwX6_bestBreath_2 ++ dktX6_bestBreath_3
def dkwX6_bestBreath_1 : List UInt8 := [54, 4, 21, 4, 16, 12, 162, 0, 45, 42, 180, 0, 19, 21, 4, 46, 27, 160, 0, 28, 29, 16, 254]
abbrev dktX6_bestBreath_1 : List UInt8 := dkwX6_bestBreath_1 ++ dktX6_bestBreath_2
def dkwX6_bestBreath_0 : List UInt8 := [42, 27, 182, 0, 159, 153, 0, 12, 28, 3, 4, 184, 0, 134, 154, 0, 5, 2, 172, 16, 254, 62, 3]
abbrev dktX6_bestBreath_0 : List UInt8 := dkwX6_bestBreath_0 ++ dktX6_bestBreath_1
theorem dksX6_bestBreath_0 : cX6_bestBreath.data.toList.drop 0 = dktX6_bestBreath_0 := by decide +kernel
theorem dksX6_bestBreath_1 : cX6_bestBreath.data.toList.drop 23 = dktX6_bestBreath_1 := dk_seg dksX6_bestBreath_0 23 rfl rfl
theorem dksX6_bestBreath_2 : cX6_bestBreath.data.toList.drop 46 = dktX6_bestBreath_2 := dk_seg dksX6_bestBreath_1 23 rfl rfl
theorem dksX6_bestBreath_3 : cX6_bestBreath.data.toList.drop 68 = dktX6_bestBreath_3 := dk_seg dksX6_bestBreath_2 22 rfl rfl
theorem dksX6_bestBreath_4 : cX6_bestBreath.data.toList.drop 92 = dktX6_bestBreath_4 := dk_seg dksX6_bestBreath_3 24 rfl rfl
theorem dX6_bestBreath_0 : decode cX6_bestBreath 0 = .ok (.aload_n 0, 1) := dk_42 (dk_at dksX6_bestBreath_0 0 rfl rfl)
theorem dX6_bestBreath_1 : decode cX6_bestBreath 1 = .ok (.iload_n 1, 1) := dk_27 (dk_at dksX6_bestBreath_0 1 rfl rfl)
theorem dX6_bestBreath_2 : decode cX6_bestBreath 2 = .ok (.invokevirtual 159, 3) := dk_182 0 159 (dk_at dksX6_bestBreath_0 2 rfl rfl)
theorem dX6_bestBreath_5 : decode cX6_bestBreath 5 = .ok (.ifCond .eq 12, 3) := dk_153 0 12 (dk_at dksX6_bestBreath_0 5 rfl rfl)
theorem dX6_bestBreath_8 : decode cX6_bestBreath 8 = .ok (.iload_n 2, 1) := dk_28 (dk_at dksX6_bestBreath_0 8 rfl rfl)
theorem dX6_bestBreath_9 : decode cX6_bestBreath 9 = .ok (.iconst 0, 1) := dk_3 (dk_at dksX6_bestBreath_0 9 rfl rfl)
theorem dX6_bestBreath_10 : decode cX6_bestBreath 10 = .ok (.iconst 1, 1) := dk_4 (dk_at dksX6_bestBreath_0 10 rfl rfl)
theorem dX6_bestBreath_11 : decode cX6_bestBreath 11 = .ok (.invokestatic 134, 3) := dk_184 0 134 (dk_at dksX6_bestBreath_0 11 rfl rfl)
theorem dX6_bestBreath_14 : decode cX6_bestBreath 14 = .ok (.ifCond .ne 5, 3) := dk_154 0 5 (dk_at dksX6_bestBreath_0 14 rfl rfl)
theorem dX6_bestBreath_17 : decode cX6_bestBreath 17 = .ok (.iconst (-1), 1) := dk_2 (dk_at dksX6_bestBreath_0 17 rfl rfl)
theorem dX6_bestBreath_18 : decode cX6_bestBreath 18 = .ok (.ireturn, 1) := dk_172 (dk_at dksX6_bestBreath_0 18 rfl rfl)
theorem dX6_bestBreath_19 : decode cX6_bestBreath 19 = .ok (.bipush (-2), 2) := dk_16 254 (dk_at dksX6_bestBreath_0 19 rfl rfl)
theorem dX6_bestBreath_21 : decode cX6_bestBreath 21 = .ok (.istore_n 3, 1) := dk_62 (dk_at dksX6_bestBreath_0 21 rfl rfl)
theorem dX6_bestBreath_22 : decode cX6_bestBreath 22 = .ok (.iconst 0, 1) := dk_3 (dk_at dksX6_bestBreath_0 22 rfl rfl)
theorem dX6_bestBreath_23 : decode cX6_bestBreath 23 = .ok (.istore 4, 2) := dk_54 4 (dk_at dksX6_bestBreath_1 0 rfl rfl)
theorem dX6_bestBreath_25 : decode cX6_bestBreath 25 = .ok (.iload 4, 2) := dk_21 4 (dk_at dksX6_bestBreath_1 2 rfl rfl)
theorem dX6_bestBreath_27 : decode cX6_bestBreath 27 = .ok (.bipush 12, 2) := dk_16 12 (dk_at dksX6_bestBreath_1 4 rfl rfl)
theorem dX6_bestBreath_29 : decode cX6_bestBreath 29 = .ok (.if_icmp .ge 45, 3) := dk_162 0 45 (dk_at dksX6_bestBreath_1 6 rfl rfl)
theorem dX6_bestBreath_32 : decode cX6_bestBreath 32 = .ok (.aload_n 0, 1) := dk_42 (dk_at dksX6_bestBreath_1 9 rfl rfl)
theorem dX6_bestBreath_33 : decode cX6_bestBreath 33 = .ok (.getfield 19, 3) := dk_180 0 19 (dk_at dksX6_bestBreath_1 10 rfl rfl)
theorem dX6_bestBreath_36 : decode cX6_bestBreath 36 = .ok (.iload 4, 2) := dk_21 4 (dk_at dksX6_bestBreath_1 13 rfl rfl)
theorem dX6_bestBreath_38 : decode cX6_bestBreath 38 = .ok (.iaload, 1) := dk_46 (dk_at dksX6_bestBreath_1 15 rfl rfl)
theorem dX6_bestBreath_39 : decode cX6_bestBreath 39 = .ok (.iload_n 1, 1) := dk_27 (dk_at dksX6_bestBreath_1 16 rfl rfl)
theorem dX6_bestBreath_40 : decode cX6_bestBreath 40 = .ok (.if_icmp .ne 28, 3) := dk_160 0 28 (dk_at dksX6_bestBreath_1 17 rfl rfl)
theorem dX6_bestBreath_43 : decode cX6_bestBreath 43 = .ok (.iload_n 3, 1) := dk_29 (dk_at dksX6_bestBreath_1 20 rfl rfl)
theorem dX6_bestBreath_44 : decode cX6_bestBreath 44 = .ok (.bipush (-2), 2) := dk_16 254 (dk_at dksX6_bestBreath_1 21 rfl rfl)
theorem dX6_bestBreath_46 : decode cX6_bestBreath 46 = .ok (.if_icmp .eq 19, 3) := dk_159 0 19 (dk_at dksX6_bestBreath_2 0 rfl rfl)
theorem dX6_bestBreath_49 : decode cX6_bestBreath 49 = .ok (.aload_n 0, 1) := dk_42 (dk_at dksX6_bestBreath_2 3 rfl rfl)
theorem dX6_bestBreath_50 : decode cX6_bestBreath 50 = .ok (.iload_n 1, 1) := dk_27 (dk_at dksX6_bestBreath_2 4 rfl rfl)
theorem dX6_bestBreath_51 : decode cX6_bestBreath 51 = .ok (.iload 4, 2) := dk_21 4 (dk_at dksX6_bestBreath_2 5 rfl rfl)
theorem dX6_bestBreath_53 : decode cX6_bestBreath 53 = .ok (.invokevirtual 393, 3) := dk_182 1 137 (dk_at dksX6_bestBreath_2 7 rfl rfl)
theorem dX6_bestBreath_56 : decode cX6_bestBreath 56 = .ok (.aload_n 0, 1) := dk_42 (dk_at dksX6_bestBreath_2 10 rfl rfl)
theorem dX6_bestBreath_57 : decode cX6_bestBreath 57 = .ok (.iload_n 1, 1) := dk_27 (dk_at dksX6_bestBreath_2 11 rfl rfl)
theorem dX6_bestBreath_58 : decode cX6_bestBreath 58 = .ok (.iload_n 3, 1) := dk_29 (dk_at dksX6_bestBreath_2 12 rfl rfl)
theorem dX6_bestBreath_59 : decode cX6_bestBreath 59 = .ok (.invokevirtual 393, 3) := dk_182 1 137 (dk_at dksX6_bestBreath_2 13 rfl rfl)
theorem dX6_bestBreath_62 : decode cX6_bestBreath 62 = .ok (.if_icmp .le 6, 3) := dk_164 0 6 (dk_at dksX6_bestBreath_2 16 rfl rfl)
theorem dX6_bestBreath_65 : decode cX6_bestBreath 65 = .ok (.iload 4, 2) := dk_21 4 (dk_at dksX6_bestBreath_2 19 rfl rfl)
theorem dX6_bestBreath_67 : decode cX6_bestBreath 67 = .ok (.istore_n 3, 1) := dk_62 (dk_at dksX6_bestBreath_2 21 rfl rfl)
theorem dX6_bestBreath_68 : decode cX6_bestBreath 68 = .ok (.iinc 4 1, 3) := dk_132 4 1 (dk_at dksX6_bestBreath_3 0 rfl rfl)
theorem dX6_bestBreath_71 : decode cX6_bestBreath 71 = .ok (.goto (-46), 3) := dk_167 255 210 (dk_at dksX6_bestBreath_3 3 rfl rfl)
theorem dX6_bestBreath_74 : decode cX6_bestBreath 74 = .ok (.iload_n 2, 1) := dk_28 (dk_at dksX6_bestBreath_3 6 rfl rfl)
theorem dX6_bestBreath_75 : decode cX6_bestBreath 75 = .ok (.ifCond .ne 7, 3) := dk_154 0 7 (dk_at dksX6_bestBreath_3 7 rfl rfl)
theorem dX6_bestBreath_78 : decode cX6_bestBreath 78 = .ok (.iload_n 3, 1) := dk_29 (dk_at dksX6_bestBreath_3 10 rfl rfl)
theorem dX6_bestBreath_79 : decode cX6_bestBreath 79 = .ok (.goto 19, 3) := dk_167 0 19 (dk_at dksX6_bestBreath_3 11 rfl rfl)
theorem dX6_bestBreath_82 : decode cX6_bestBreath 82 = .ok (.iload_n 3, 1) := dk_29 (dk_at dksX6_bestBreath_3 14 rfl rfl)
theorem dX6_bestBreath_83 : decode cX6_bestBreath 83 = .ok (.bipush (-2), 2) := dk_16 254 (dk_at dksX6_bestBreath_3 15 rfl rfl)
theorem dX6_bestBreath_85 : decode cX6_bestBreath 85 = .ok (.if_icmp .ne 7, 3) := dk_160 0 7 (dk_at dksX6_bestBreath_3 17 rfl rfl)
theorem dX6_bestBreath_88 : decode cX6_bestBreath 88 = .ok (.iconst 0, 1) := dk_3 (dk_at dksX6_bestBreath_3 20 rfl rfl)
theorem dX6_bestBreath_89 : decode cX6_bestBreath 89 = .ok (.goto 9, 3) := dk_167 0 9 (dk_at dksX6_bestBreath_3 21 rfl rfl)
theorem dX6_bestBreath_92 : decode cX6_bestBreath 92 = .ok (.aload_n 0, 1) := dk_42 (dk_at dksX6_bestBreath_4 0 rfl rfl)
theorem dX6_bestBreath_93 : decode cX6_bestBreath 93 = .ok (.iload_n 1, 1) := dk_27 (dk_at dksX6_bestBreath_4 1 rfl rfl)
theorem dX6_bestBreath_94 : decode cX6_bestBreath 94 = .ok (.iload_n 3, 1) := dk_29 (dk_at dksX6_bestBreath_4 2 rfl rfl)
theorem dX6_bestBreath_95 : decode cX6_bestBreath 95 = .ok (.invokevirtual 393, 3) := dk_182 1 137 (dk_at dksX6_bestBreath_4 3 rfl rfl)
theorem dX6_bestBreath_98 : decode cX6_bestBreath 98 = .ok (.ireturn, 1) := dk_172 (dk_at dksX6_bestBreath_4 6 rfl rfl)
abbrev cX6_othersWhoRead : ByteArray := prog_20_method_82_code
def yX6_othersWhoRead : MethodName := ⟨RX6, "othersWhoRead", "(II)I"⟩
def dkwX6_othersWhoRead_0 : List UInt8 := [42, 28, 16, 12, 182, 1, 134, 4, 27, 120, 2, 130, 126, 184, 1, 64, 172]
abbrev dktX6_othersWhoRead_0 : List UInt8 := dkwX6_othersWhoRead_0 ++ []
theorem dksX6_othersWhoRead_0 : cX6_othersWhoRead.data.toList.drop 0 = dktX6_othersWhoRead_0 := by decide +kernel
theorem dX6_othersWhoRead_0 : decode cX6_othersWhoRead 0 = .ok (.aload_n 0, 1) := dk_42 (dk_at dksX6_othersWhoRead_0 0 rfl rfl)
theorem dX6_othersWhoRead_1 : decode cX6_othersWhoRead 1 = .ok (.iload_n 2, 1) := dk_28 (dk_at dksX6_othersWhoRead_0 1 rfl rfl)
theorem dX6_othersWhoRead_2 : decode cX6_othersWhoRead 2 = .ok (.bipush 12, 2) := dk_16 12 (dk_at dksX6_othersWhoRead_0 2 rfl rfl)
theorem dX6_othersWhoRead_4 : decode cX6_othersWhoRead 4 = .ok (.invokevirtual 390, 3) := dk_182 1 134 (dk_at dksX6_othersWhoRead_0 4 rfl rfl)
theorem dX6_othersWhoRead_7 : decode cX6_othersWhoRead 7 = .ok (.iconst 1, 1) := dk_4 (dk_at dksX6_othersWhoRead_0 7 rfl rfl)
theorem dX6_othersWhoRead_8 : decode cX6_othersWhoRead 8 = .ok (.iload_n 1, 1) := dk_27 (dk_at dksX6_othersWhoRead_0 8 rfl rfl)
theorem dX6_othersWhoRead_9 : decode cX6_othersWhoRead 9 = .ok (.ishl, 1) := dk_120 (dk_at dksX6_othersWhoRead_0 9 rfl rfl)
theorem dX6_othersWhoRead_10 : decode cX6_othersWhoRead 10 = .ok (.iconst (-1), 1) := dk_2 (dk_at dksX6_othersWhoRead_0 10 rfl rfl)
theorem dX6_othersWhoRead_11 : decode cX6_othersWhoRead 11 = .ok (.ixor, 1) := dk_130 (dk_at dksX6_othersWhoRead_0 11 rfl rfl)
theorem dX6_othersWhoRead_12 : decode cX6_othersWhoRead 12 = .ok (.iand, 1) := dk_126 (dk_at dksX6_othersWhoRead_0 12 rfl rfl)
theorem dX6_othersWhoRead_13 : decode cX6_othersWhoRead 13 = .ok (.invokestatic 320, 3) := dk_184 1 64 (dk_at dksX6_othersWhoRead_0 13 rfl rfl)
theorem dX6_othersWhoRead_16 : decode cX6_othersWhoRead 16 = .ok (.ireturn, 1) := dk_172 (dk_at dksX6_othersWhoRead_0 16 rfl rfl)
abbrev cX6_clearest : ByteArray := prog_20_method_85_code
def yX6_clearest : MethodName := ⟨RX6, "clearest", "(I)I"⟩
def dkwX6_clearest_2 : List UInt8 := [167, 0, 8, 42, 28, 182, 1, 140, 172]
abbrev dktX6_clearest_2 : List UInt8 := dkwX6_clearest_2 ++ []
def dkwX6_clearest_1 : List UInt8 := [182, 1, 140, 42, 28, 182, 1, 140, 164, 0, 5, 29, 61, 132, 3, 1, 167, 255, 232, 27, 154, 0, 7, 28]
abbrev dktX6_clearest_1 : List UInt8 := dkwX6_clearest_1 ++ dktX6_clearest_2
def dkwX6_clearest_0 : List UInt8 := [27, 3, 4, 184, 0, 134, 154, 0, 5, 2, 172, 3, 61, 4, 62, 29, 16, 12, 162, 0, 24, 42, 29]
abbrev dktX6_clearest_0 : List UInt8 := dkwX6_clearest_0 ++ dktX6_clearest_1
theorem dksX6_clearest_0 : cX6_clearest.data.toList.drop 0 = dktX6_clearest_0 := by decide +kernel
theorem dksX6_clearest_1 : cX6_clearest.data.toList.drop 23 = dktX6_clearest_1 := dk_seg dksX6_clearest_0 23 rfl rfl
theorem dksX6_clearest_2 : cX6_clearest.data.toList.drop 47 = dktX6_clearest_2 := dk_seg dksX6_clearest_1 24 rfl rfl
theorem dX6_clearest_0 : decode cX6_clearest 0 = .ok (.iload_n 1, 1) := dk_27 (dk_at dksX6_clearest_0 0 rfl rfl)
theorem dX6_clearest_1 : decode cX6_clearest 1 = .ok (.iconst 0, 1) := dk_3 (dk_at dksX6_clearest_0 1 rfl rfl)
theorem dX6_clearest_2 : decode cX6_clearest 2 = .ok (.iconst 1, 1) := dk_4 (dk_at dksX6_clearest_0 2 rfl rfl)
theorem dX6_clearest_3 : decode cX6_clearest 3 = .ok (.invokestatic 134, 3) := dk_184 0 134 (dk_at dksX6_clearest_0 3 rfl rfl)
theorem dX6_clearest_6 : decode cX6_clearest 6 = .ok (.ifCond .ne 5, 3) := dk_154 0 5 (dk_at dksX6_clearest_0 6 rfl rfl)
theorem dX6_clearest_9 : decode cX6_clearest 9 = .ok (.iconst (-1), 1) := dk_2 (dk_at dksX6_clearest_0 9 rfl rfl)
theorem dX6_clearest_10 : decode cX6_clearest 10 = .ok (.ireturn, 1) := dk_172 (dk_at dksX6_clearest_0 10 rfl rfl)
theorem dX6_clearest_11 : decode cX6_clearest 11 = .ok (.iconst 0, 1) := dk_3 (dk_at dksX6_clearest_0 11 rfl rfl)
theorem dX6_clearest_12 : decode cX6_clearest 12 = .ok (.istore_n 2, 1) := dk_61 (dk_at dksX6_clearest_0 12 rfl rfl)
theorem dX6_clearest_13 : decode cX6_clearest 13 = .ok (.iconst 1, 1) := dk_4 (dk_at dksX6_clearest_0 13 rfl rfl)
theorem dX6_clearest_14 : decode cX6_clearest 14 = .ok (.istore_n 3, 1) := dk_62 (dk_at dksX6_clearest_0 14 rfl rfl)
theorem dX6_clearest_15 : decode cX6_clearest 15 = .ok (.iload_n 3, 1) := dk_29 (dk_at dksX6_clearest_0 15 rfl rfl)
theorem dX6_clearest_16 : decode cX6_clearest 16 = .ok (.bipush 12, 2) := dk_16 12 (dk_at dksX6_clearest_0 16 rfl rfl)
theorem dX6_clearest_18 : decode cX6_clearest 18 = .ok (.if_icmp .ge 24, 3) := dk_162 0 24 (dk_at dksX6_clearest_0 18 rfl rfl)
theorem dX6_clearest_21 : decode cX6_clearest 21 = .ok (.aload_n 0, 1) := dk_42 (dk_at dksX6_clearest_0 21 rfl rfl)
theorem dX6_clearest_22 : decode cX6_clearest 22 = .ok (.iload_n 3, 1) := dk_29 (dk_at dksX6_clearest_0 22 rfl rfl)
theorem dX6_clearest_23 : decode cX6_clearest 23 = .ok (.invokevirtual 396, 3) := dk_182 1 140 (dk_at dksX6_clearest_1 0 rfl rfl)
theorem dX6_clearest_26 : decode cX6_clearest 26 = .ok (.aload_n 0, 1) := dk_42 (dk_at dksX6_clearest_1 3 rfl rfl)
theorem dX6_clearest_27 : decode cX6_clearest 27 = .ok (.iload_n 2, 1) := dk_28 (dk_at dksX6_clearest_1 4 rfl rfl)
theorem dX6_clearest_28 : decode cX6_clearest 28 = .ok (.invokevirtual 396, 3) := dk_182 1 140 (dk_at dksX6_clearest_1 5 rfl rfl)
theorem dX6_clearest_31 : decode cX6_clearest 31 = .ok (.if_icmp .le 5, 3) := dk_164 0 5 (dk_at dksX6_clearest_1 8 rfl rfl)
theorem dX6_clearest_34 : decode cX6_clearest 34 = .ok (.iload_n 3, 1) := dk_29 (dk_at dksX6_clearest_1 11 rfl rfl)
theorem dX6_clearest_35 : decode cX6_clearest 35 = .ok (.istore_n 2, 1) := dk_61 (dk_at dksX6_clearest_1 12 rfl rfl)
theorem dX6_clearest_36 : decode cX6_clearest 36 = .ok (.iinc 3 1, 3) := dk_132 3 1 (dk_at dksX6_clearest_1 13 rfl rfl)
theorem dX6_clearest_39 : decode cX6_clearest 39 = .ok (.goto (-24), 3) := dk_167 255 232 (dk_at dksX6_clearest_1 16 rfl rfl)
theorem dX6_clearest_42 : decode cX6_clearest 42 = .ok (.iload_n 1, 1) := dk_27 (dk_at dksX6_clearest_1 19 rfl rfl)
theorem dX6_clearest_43 : decode cX6_clearest 43 = .ok (.ifCond .ne 7, 3) := dk_154 0 7 (dk_at dksX6_clearest_1 20 rfl rfl)
theorem dX6_clearest_46 : decode cX6_clearest 46 = .ok (.iload_n 2, 1) := dk_28 (dk_at dksX6_clearest_1 23 rfl rfl)
theorem dX6_clearest_47 : decode cX6_clearest 47 = .ok (.goto 8, 3) := dk_167 0 8 (dk_at dksX6_clearest_2 0 rfl rfl)
theorem dX6_clearest_50 : decode cX6_clearest 50 = .ok (.aload_n 0, 1) := dk_42 (dk_at dksX6_clearest_2 3 rfl rfl)
theorem dX6_clearest_51 : decode cX6_clearest 51 = .ok (.iload_n 2, 1) := dk_28 (dk_at dksX6_clearest_2 4 rfl rfl)
theorem dX6_clearest_52 : decode cX6_clearest 52 = .ok (.invokevirtual 396, 3) := dk_182 1 140 (dk_at dksX6_clearest_2 5 rfl rfl)
theorem dX6_clearest_55 : decode cX6_clearest 55 = .ok (.ireturn, 1) := dk_172 (dk_at dksX6_clearest_2 8 rfl rfl)
abbrev cX6_twosAt : ByteArray := prog_20_method_84_code
def yX6_twosAt : MethodName := ⟨RX6, "twosAt", "(I)I"⟩
def dkwX6_twosAt_1 : List UInt8 := [182, 0, 152, 184, 1, 64, 96, 61, 132, 3, 1, 167, 255, 227, 28, 172]
abbrev dktX6_twosAt_1 : List UInt8 := dkwX6_twosAt_1 ++ []
def dkwX6_twosAt_0 : List UInt8 := [3, 61, 3, 62, 29, 16, 16, 162, 0, 29, 42, 29, 182, 0, 159, 153, 0, 15, 28, 42, 29, 27]
abbrev dktX6_twosAt_0 : List UInt8 := dkwX6_twosAt_0 ++ dktX6_twosAt_1
theorem dksX6_twosAt_0 : cX6_twosAt.data.toList.drop 0 = dktX6_twosAt_0 := by decide +kernel
theorem dksX6_twosAt_1 : cX6_twosAt.data.toList.drop 22 = dktX6_twosAt_1 := dk_seg dksX6_twosAt_0 22 rfl rfl
theorem dX6_twosAt_0 : decode cX6_twosAt 0 = .ok (.iconst 0, 1) := dk_3 (dk_at dksX6_twosAt_0 0 rfl rfl)
theorem dX6_twosAt_1 : decode cX6_twosAt 1 = .ok (.istore_n 2, 1) := dk_61 (dk_at dksX6_twosAt_0 1 rfl rfl)
theorem dX6_twosAt_2 : decode cX6_twosAt 2 = .ok (.iconst 0, 1) := dk_3 (dk_at dksX6_twosAt_0 2 rfl rfl)
theorem dX6_twosAt_3 : decode cX6_twosAt 3 = .ok (.istore_n 3, 1) := dk_62 (dk_at dksX6_twosAt_0 3 rfl rfl)
theorem dX6_twosAt_4 : decode cX6_twosAt 4 = .ok (.iload_n 3, 1) := dk_29 (dk_at dksX6_twosAt_0 4 rfl rfl)
theorem dX6_twosAt_5 : decode cX6_twosAt 5 = .ok (.bipush 16, 2) := dk_16 16 (dk_at dksX6_twosAt_0 5 rfl rfl)
theorem dX6_twosAt_7 : decode cX6_twosAt 7 = .ok (.if_icmp .ge 29, 3) := dk_162 0 29 (dk_at dksX6_twosAt_0 7 rfl rfl)
theorem dX6_twosAt_10 : decode cX6_twosAt 10 = .ok (.aload_n 0, 1) := dk_42 (dk_at dksX6_twosAt_0 10 rfl rfl)
theorem dX6_twosAt_11 : decode cX6_twosAt 11 = .ok (.iload_n 3, 1) := dk_29 (dk_at dksX6_twosAt_0 11 rfl rfl)
theorem dX6_twosAt_12 : decode cX6_twosAt 12 = .ok (.invokevirtual 159, 3) := dk_182 0 159 (dk_at dksX6_twosAt_0 12 rfl rfl)
theorem dX6_twosAt_15 : decode cX6_twosAt 15 = .ok (.ifCond .eq 15, 3) := dk_153 0 15 (dk_at dksX6_twosAt_0 15 rfl rfl)
theorem dX6_twosAt_18 : decode cX6_twosAt 18 = .ok (.iload_n 2, 1) := dk_28 (dk_at dksX6_twosAt_0 18 rfl rfl)
theorem dX6_twosAt_19 : decode cX6_twosAt 19 = .ok (.aload_n 0, 1) := dk_42 (dk_at dksX6_twosAt_0 19 rfl rfl)
theorem dX6_twosAt_20 : decode cX6_twosAt 20 = .ok (.iload_n 3, 1) := dk_29 (dk_at dksX6_twosAt_0 20 rfl rfl)
theorem dX6_twosAt_21 : decode cX6_twosAt 21 = .ok (.iload_n 1, 1) := dk_27 (dk_at dksX6_twosAt_0 21 rfl rfl)
theorem dX6_twosAt_22 : decode cX6_twosAt 22 = .ok (.invokevirtual 152, 3) := dk_182 0 152 (dk_at dksX6_twosAt_1 0 rfl rfl)
theorem dX6_twosAt_25 : decode cX6_twosAt 25 = .ok (.invokestatic 320, 3) := dk_184 1 64 (dk_at dksX6_twosAt_1 3 rfl rfl)
theorem dX6_twosAt_28 : decode cX6_twosAt 28 = .ok (.iadd, 1) := dk_96 (dk_at dksX6_twosAt_1 6 rfl rfl)
theorem dX6_twosAt_29 : decode cX6_twosAt 29 = .ok (.istore_n 2, 1) := dk_61 (dk_at dksX6_twosAt_1 7 rfl rfl)
theorem dX6_twosAt_30 : decode cX6_twosAt 30 = .ok (.iinc 3 1, 3) := dk_132 3 1 (dk_at dksX6_twosAt_1 8 rfl rfl)
theorem dX6_twosAt_33 : decode cX6_twosAt 33 = .ok (.goto (-29), 3) := dk_167 255 227 (dk_at dksX6_twosAt_1 11 rfl rfl)
theorem dX6_twosAt_36 : decode cX6_twosAt 36 = .ok (.iload_n 2, 1) := dk_28 (dk_at dksX6_twosAt_1 14 rfl rfl)
theorem dX6_twosAt_37 : decode cX6_twosAt 37 = .ok (.ireturn, 1) := dk_172 (dk_at dksX6_twosAt_1 15 rfl rfl)
abbrev cX6_whoHad : ByteArray := prog_20_method_86_code
def yX6_whoHad : MethodName := ⟨RX6, "whoHad", "(II)I"⟩
def dkwX6_whoHad_2 : List UInt8 := [182, 0, 152, 28, 160, 0, 10, 29, 4, 21, 4, 120, 128, 62, 132, 4, 1, 167, 255, 219, 29, 172]
abbrev dktX6_whoHad_2 : List UInt8 := dkwX6_whoHad_2 ++ []
def dkwX6_whoHad_1 : List UInt8 := [54, 4, 21, 4, 16, 16, 162, 0, 36, 42, 21, 4, 182, 0, 159, 153, 0, 21, 42, 21, 4, 27]
abbrev dktX6_whoHad_1 : List UInt8 := dkwX6_whoHad_1 ++ dktX6_whoHad_2
def dkwX6_whoHad_0 : List UInt8 := [27, 184, 0, 156, 153, 0, 14, 28, 3, 19, 1, 143, 184, 0, 134, 154, 0, 5, 2, 172, 3, 62, 3]
abbrev dktX6_whoHad_0 : List UInt8 := dkwX6_whoHad_0 ++ dktX6_whoHad_1
theorem dksX6_whoHad_0 : cX6_whoHad.data.toList.drop 0 = dktX6_whoHad_0 := by decide +kernel
theorem dksX6_whoHad_1 : cX6_whoHad.data.toList.drop 23 = dktX6_whoHad_1 := dk_seg dksX6_whoHad_0 23 rfl rfl
theorem dksX6_whoHad_2 : cX6_whoHad.data.toList.drop 45 = dktX6_whoHad_2 := dk_seg dksX6_whoHad_1 22 rfl rfl
theorem dX6_whoHad_0 : decode cX6_whoHad 0 = .ok (.iload_n 1, 1) := dk_27 (dk_at dksX6_whoHad_0 0 rfl rfl)
theorem dX6_whoHad_1 : decode cX6_whoHad 1 = .ok (.invokestatic 156, 3) := dk_184 0 156 (dk_at dksX6_whoHad_0 1 rfl rfl)
theorem dX6_whoHad_4 : decode cX6_whoHad 4 = .ok (.ifCond .eq 14, 3) := dk_153 0 14 (dk_at dksX6_whoHad_0 4 rfl rfl)
theorem dX6_whoHad_7 : decode cX6_whoHad 7 = .ok (.iload_n 2, 1) := dk_28 (dk_at dksX6_whoHad_0 7 rfl rfl)
theorem dX6_whoHad_8 : decode cX6_whoHad 8 = .ok (.iconst 0, 1) := dk_3 (dk_at dksX6_whoHad_0 8 rfl rfl)
theorem dX6_whoHad_9 : decode cX6_whoHad 9 = .ok (.ldc_w 399, 3) := dk_19 1 143 (dk_at dksX6_whoHad_0 9 rfl rfl)
theorem dX6_whoHad_12 : decode cX6_whoHad 12 = .ok (.invokestatic 134, 3) := dk_184 0 134 (dk_at dksX6_whoHad_0 12 rfl rfl)
theorem dX6_whoHad_15 : decode cX6_whoHad 15 = .ok (.ifCond .ne 5, 3) := dk_154 0 5 (dk_at dksX6_whoHad_0 15 rfl rfl)
theorem dX6_whoHad_18 : decode cX6_whoHad 18 = .ok (.iconst (-1), 1) := dk_2 (dk_at dksX6_whoHad_0 18 rfl rfl)
theorem dX6_whoHad_19 : decode cX6_whoHad 19 = .ok (.ireturn, 1) := dk_172 (dk_at dksX6_whoHad_0 19 rfl rfl)
theorem dX6_whoHad_20 : decode cX6_whoHad 20 = .ok (.iconst 0, 1) := dk_3 (dk_at dksX6_whoHad_0 20 rfl rfl)
theorem dX6_whoHad_21 : decode cX6_whoHad 21 = .ok (.istore_n 3, 1) := dk_62 (dk_at dksX6_whoHad_0 21 rfl rfl)
theorem dX6_whoHad_22 : decode cX6_whoHad 22 = .ok (.iconst 0, 1) := dk_3 (dk_at dksX6_whoHad_0 22 rfl rfl)
theorem dX6_whoHad_23 : decode cX6_whoHad 23 = .ok (.istore 4, 2) := dk_54 4 (dk_at dksX6_whoHad_1 0 rfl rfl)
theorem dX6_whoHad_25 : decode cX6_whoHad 25 = .ok (.iload 4, 2) := dk_21 4 (dk_at dksX6_whoHad_1 2 rfl rfl)
theorem dX6_whoHad_27 : decode cX6_whoHad 27 = .ok (.bipush 16, 2) := dk_16 16 (dk_at dksX6_whoHad_1 4 rfl rfl)
theorem dX6_whoHad_29 : decode cX6_whoHad 29 = .ok (.if_icmp .ge 36, 3) := dk_162 0 36 (dk_at dksX6_whoHad_1 6 rfl rfl)
theorem dX6_whoHad_32 : decode cX6_whoHad 32 = .ok (.aload_n 0, 1) := dk_42 (dk_at dksX6_whoHad_1 9 rfl rfl)
theorem dX6_whoHad_33 : decode cX6_whoHad 33 = .ok (.iload 4, 2) := dk_21 4 (dk_at dksX6_whoHad_1 10 rfl rfl)
theorem dX6_whoHad_35 : decode cX6_whoHad 35 = .ok (.invokevirtual 159, 3) := dk_182 0 159 (dk_at dksX6_whoHad_1 12 rfl rfl)
theorem dX6_whoHad_38 : decode cX6_whoHad 38 = .ok (.ifCond .eq 21, 3) := dk_153 0 21 (dk_at dksX6_whoHad_1 15 rfl rfl)
theorem dX6_whoHad_41 : decode cX6_whoHad 41 = .ok (.aload_n 0, 1) := dk_42 (dk_at dksX6_whoHad_1 18 rfl rfl)
theorem dX6_whoHad_42 : decode cX6_whoHad 42 = .ok (.iload 4, 2) := dk_21 4 (dk_at dksX6_whoHad_1 19 rfl rfl)
theorem dX6_whoHad_44 : decode cX6_whoHad 44 = .ok (.iload_n 1, 1) := dk_27 (dk_at dksX6_whoHad_1 21 rfl rfl)
theorem dX6_whoHad_45 : decode cX6_whoHad 45 = .ok (.invokevirtual 152, 3) := dk_182 0 152 (dk_at dksX6_whoHad_2 0 rfl rfl)
theorem dX6_whoHad_48 : decode cX6_whoHad 48 = .ok (.iload_n 2, 1) := dk_28 (dk_at dksX6_whoHad_2 3 rfl rfl)
theorem dX6_whoHad_49 : decode cX6_whoHad 49 = .ok (.if_icmp .ne 10, 3) := dk_160 0 10 (dk_at dksX6_whoHad_2 4 rfl rfl)
theorem dX6_whoHad_52 : decode cX6_whoHad 52 = .ok (.iload_n 3, 1) := dk_29 (dk_at dksX6_whoHad_2 7 rfl rfl)
theorem dX6_whoHad_53 : decode cX6_whoHad 53 = .ok (.iconst 1, 1) := dk_4 (dk_at dksX6_whoHad_2 8 rfl rfl)
theorem dX6_whoHad_54 : decode cX6_whoHad 54 = .ok (.iload 4, 2) := dk_21 4 (dk_at dksX6_whoHad_2 9 rfl rfl)
theorem dX6_whoHad_56 : decode cX6_whoHad 56 = .ok (.ishl, 1) := dk_120 (dk_at dksX6_whoHad_2 11 rfl rfl)
theorem dX6_whoHad_57 : decode cX6_whoHad 57 = .ok (.ior, 1) := dk_128 (dk_at dksX6_whoHad_2 12 rfl rfl)
theorem dX6_whoHad_58 : decode cX6_whoHad 58 = .ok (.istore_n 3, 1) := dk_62 (dk_at dksX6_whoHad_2 13 rfl rfl)
theorem dX6_whoHad_59 : decode cX6_whoHad 59 = .ok (.iinc 4 1, 3) := dk_132 4 1 (dk_at dksX6_whoHad_2 14 rfl rfl)
theorem dX6_whoHad_62 : decode cX6_whoHad 62 = .ok (.goto (-37), 3) := dk_167 255 219 (dk_at dksX6_whoHad_2 17 rfl rfl)
theorem dX6_whoHad_65 : decode cX6_whoHad 65 = .ok (.iload_n 3, 1) := dk_29 (dk_at dksX6_whoHad_2 20 rfl rfl)
theorem dX6_whoHad_66 : decode cX6_whoHad 66 = .ok (.ireturn, 1) := dk_172 (dk_at dksX6_whoHad_2 21 rfl rfl)
abbrev cX6_shortest : ByteArray := prog_20_method_91_code
def yX6_shortest : MethodName := ⟨RX6, "shortest", "(II)I"⟩
def dkwX6_shortest_4 : List UInt8 := [161, 0, 8, 16, 254, 167, 0, 18, 28, 154, 0, 10, 29, 16, 32, 108, 167, 0, 7, 29, 16, 32, 112, 172]
abbrev dktX6_shortest_4 : List UInt8 := dkwX6_shortest_4 ++ []
def dkwX6_shortest_3 : List UInt8 := [154, 0, 6, 16, 253, 172, 132, 3, 1, 167, 255, 215, 42, 27, 182, 1, 157, 62, 29, 19, 1, 153]
abbrev dktX6_shortest_3 : List UInt8 := dkwX6_shortest_3 ++ dktX6_shortest_4
def dkwX6_shortest_2 : List UInt8 := [104, 182, 1, 144, 182, 0, 159, 153, 0, 19, 42, 42, 5, 29, 104, 4, 96, 182, 1, 144, 182, 0, 145]
abbrev dktX6_shortest_2 : List UInt8 := dkwX6_shortest_2 ++ dktX6_shortest_3
def dkwX6_shortest_1 : List UInt8 := [180, 0, 162, 164, 0, 5, 2, 172, 42, 3, 181, 0, 162, 3, 62, 29, 27, 162, 0, 42, 42, 42, 5, 29]
abbrev dktX6_shortest_1 : List UInt8 := dkwX6_shortest_1 ++ dktX6_shortest_2
def dkwX6_shortest_0 : List UInt8 := [27, 4, 16, 6, 184, 0, 134, 153, 0, 22, 28, 3, 4, 184, 0, 134, 153, 0, 13, 5, 27, 104, 42]
abbrev dktX6_shortest_0 : List UInt8 := dkwX6_shortest_0 ++ dktX6_shortest_1
theorem dksX6_shortest_0 : cX6_shortest.data.toList.drop 0 = dktX6_shortest_0 := by decide +kernel
theorem dksX6_shortest_1 : cX6_shortest.data.toList.drop 23 = dktX6_shortest_1 := dk_seg dksX6_shortest_0 23 rfl rfl
theorem dksX6_shortest_2 : cX6_shortest.data.toList.drop 47 = dktX6_shortest_2 := dk_seg dksX6_shortest_1 24 rfl rfl
theorem dksX6_shortest_3 : cX6_shortest.data.toList.drop 70 = dktX6_shortest_3 := dk_seg dksX6_shortest_2 23 rfl rfl
theorem dksX6_shortest_4 : cX6_shortest.data.toList.drop 92 = dktX6_shortest_4 := dk_seg dksX6_shortest_3 22 rfl rfl
theorem dX6_shortest_0 : decode cX6_shortest 0 = .ok (.iload_n 1, 1) := dk_27 (dk_at dksX6_shortest_0 0 rfl rfl)
theorem dX6_shortest_1 : decode cX6_shortest 1 = .ok (.iconst 1, 1) := dk_4 (dk_at dksX6_shortest_0 1 rfl rfl)
theorem dX6_shortest_2 : decode cX6_shortest 2 = .ok (.bipush 6, 2) := dk_16 6 (dk_at dksX6_shortest_0 2 rfl rfl)
theorem dX6_shortest_4 : decode cX6_shortest 4 = .ok (.invokestatic 134, 3) := dk_184 0 134 (dk_at dksX6_shortest_0 4 rfl rfl)
theorem dX6_shortest_7 : decode cX6_shortest 7 = .ok (.ifCond .eq 22, 3) := dk_153 0 22 (dk_at dksX6_shortest_0 7 rfl rfl)
theorem dX6_shortest_10 : decode cX6_shortest 10 = .ok (.iload_n 2, 1) := dk_28 (dk_at dksX6_shortest_0 10 rfl rfl)
theorem dX6_shortest_11 : decode cX6_shortest 11 = .ok (.iconst 0, 1) := dk_3 (dk_at dksX6_shortest_0 11 rfl rfl)
theorem dX6_shortest_12 : decode cX6_shortest 12 = .ok (.iconst 1, 1) := dk_4 (dk_at dksX6_shortest_0 12 rfl rfl)
theorem dX6_shortest_13 : decode cX6_shortest 13 = .ok (.invokestatic 134, 3) := dk_184 0 134 (dk_at dksX6_shortest_0 13 rfl rfl)
theorem dX6_shortest_16 : decode cX6_shortest 16 = .ok (.ifCond .eq 13, 3) := dk_153 0 13 (dk_at dksX6_shortest_0 16 rfl rfl)
theorem dX6_shortest_19 : decode cX6_shortest 19 = .ok (.iconst 2, 1) := dk_5 (dk_at dksX6_shortest_0 19 rfl rfl)
theorem dX6_shortest_20 : decode cX6_shortest 20 = .ok (.iload_n 1, 1) := dk_27 (dk_at dksX6_shortest_0 20 rfl rfl)
theorem dX6_shortest_21 : decode cX6_shortest 21 = .ok (.imul, 1) := dk_104 (dk_at dksX6_shortest_0 21 rfl rfl)
theorem dX6_shortest_22 : decode cX6_shortest 22 = .ok (.aload_n 0, 1) := dk_42 (dk_at dksX6_shortest_0 22 rfl rfl)
theorem dX6_shortest_23 : decode cX6_shortest 23 = .ok (.getfield 162, 3) := dk_180 0 162 (dk_at dksX6_shortest_1 0 rfl rfl)
theorem dX6_shortest_26 : decode cX6_shortest 26 = .ok (.if_icmp .le 5, 3) := dk_164 0 5 (dk_at dksX6_shortest_1 3 rfl rfl)
theorem dX6_shortest_29 : decode cX6_shortest 29 = .ok (.iconst (-1), 1) := dk_2 (dk_at dksX6_shortest_1 6 rfl rfl)
theorem dX6_shortest_30 : decode cX6_shortest 30 = .ok (.ireturn, 1) := dk_172 (dk_at dksX6_shortest_1 7 rfl rfl)
theorem dX6_shortest_31 : decode cX6_shortest 31 = .ok (.aload_n 0, 1) := dk_42 (dk_at dksX6_shortest_1 8 rfl rfl)
theorem dX6_shortest_32 : decode cX6_shortest 32 = .ok (.iconst 0, 1) := dk_3 (dk_at dksX6_shortest_1 9 rfl rfl)
theorem dX6_shortest_33 : decode cX6_shortest 33 = .ok (.putfield 162, 3) := dk_181 0 162 (dk_at dksX6_shortest_1 10 rfl rfl)
theorem dX6_shortest_36 : decode cX6_shortest 36 = .ok (.iconst 0, 1) := dk_3 (dk_at dksX6_shortest_1 13 rfl rfl)
theorem dX6_shortest_37 : decode cX6_shortest 37 = .ok (.istore_n 3, 1) := dk_62 (dk_at dksX6_shortest_1 14 rfl rfl)
theorem dX6_shortest_38 : decode cX6_shortest 38 = .ok (.iload_n 3, 1) := dk_29 (dk_at dksX6_shortest_1 15 rfl rfl)
theorem dX6_shortest_39 : decode cX6_shortest 39 = .ok (.iload_n 1, 1) := dk_27 (dk_at dksX6_shortest_1 16 rfl rfl)
theorem dX6_shortest_40 : decode cX6_shortest 40 = .ok (.if_icmp .ge 42, 3) := dk_162 0 42 (dk_at dksX6_shortest_1 17 rfl rfl)
theorem dX6_shortest_43 : decode cX6_shortest 43 = .ok (.aload_n 0, 1) := dk_42 (dk_at dksX6_shortest_1 20 rfl rfl)
theorem dX6_shortest_44 : decode cX6_shortest 44 = .ok (.aload_n 0, 1) := dk_42 (dk_at dksX6_shortest_1 21 rfl rfl)
theorem dX6_shortest_45 : decode cX6_shortest 45 = .ok (.iconst 2, 1) := dk_5 (dk_at dksX6_shortest_1 22 rfl rfl)
theorem dX6_shortest_46 : decode cX6_shortest 46 = .ok (.iload_n 3, 1) := dk_29 (dk_at dksX6_shortest_1 23 rfl rfl)
theorem dX6_shortest_47 : decode cX6_shortest 47 = .ok (.imul, 1) := dk_104 (dk_at dksX6_shortest_2 0 rfl rfl)
theorem dX6_shortest_48 : decode cX6_shortest 48 = .ok (.invokevirtual 400, 3) := dk_182 1 144 (dk_at dksX6_shortest_2 1 rfl rfl)
theorem dX6_shortest_51 : decode cX6_shortest 51 = .ok (.invokevirtual 159, 3) := dk_182 0 159 (dk_at dksX6_shortest_2 4 rfl rfl)
theorem dX6_shortest_54 : decode cX6_shortest 54 = .ok (.ifCond .eq 19, 3) := dk_153 0 19 (dk_at dksX6_shortest_2 7 rfl rfl)
theorem dX6_shortest_57 : decode cX6_shortest 57 = .ok (.aload_n 0, 1) := dk_42 (dk_at dksX6_shortest_2 10 rfl rfl)
theorem dX6_shortest_58 : decode cX6_shortest 58 = .ok (.aload_n 0, 1) := dk_42 (dk_at dksX6_shortest_2 11 rfl rfl)
theorem dX6_shortest_59 : decode cX6_shortest 59 = .ok (.iconst 2, 1) := dk_5 (dk_at dksX6_shortest_2 12 rfl rfl)
theorem dX6_shortest_60 : decode cX6_shortest 60 = .ok (.iload_n 3, 1) := dk_29 (dk_at dksX6_shortest_2 13 rfl rfl)
theorem dX6_shortest_61 : decode cX6_shortest 61 = .ok (.imul, 1) := dk_104 (dk_at dksX6_shortest_2 14 rfl rfl)
theorem dX6_shortest_62 : decode cX6_shortest 62 = .ok (.iconst 1, 1) := dk_4 (dk_at dksX6_shortest_2 15 rfl rfl)
theorem dX6_shortest_63 : decode cX6_shortest 63 = .ok (.iadd, 1) := dk_96 (dk_at dksX6_shortest_2 16 rfl rfl)
theorem dX6_shortest_64 : decode cX6_shortest 64 = .ok (.invokevirtual 400, 3) := dk_182 1 144 (dk_at dksX6_shortest_2 17 rfl rfl)
theorem dX6_shortest_67 : decode cX6_shortest 67 = .ok (.invokevirtual 145, 3) := dk_182 0 145 (dk_at dksX6_shortest_2 20 rfl rfl)
theorem dX6_shortest_70 : decode cX6_shortest 70 = .ok (.ifCond .ne 6, 3) := dk_154 0 6 (dk_at dksX6_shortest_3 0 rfl rfl)
theorem dX6_shortest_73 : decode cX6_shortest 73 = .ok (.bipush (-3), 2) := dk_16 253 (dk_at dksX6_shortest_3 3 rfl rfl)
theorem dX6_shortest_75 : decode cX6_shortest 75 = .ok (.ireturn, 1) := dk_172 (dk_at dksX6_shortest_3 5 rfl rfl)
theorem dX6_shortest_76 : decode cX6_shortest 76 = .ok (.iinc 3 1, 3) := dk_132 3 1 (dk_at dksX6_shortest_3 6 rfl rfl)
theorem dX6_shortest_79 : decode cX6_shortest 79 = .ok (.goto (-41), 3) := dk_167 255 215 (dk_at dksX6_shortest_3 9 rfl rfl)
theorem dX6_shortest_82 : decode cX6_shortest 82 = .ok (.aload_n 0, 1) := dk_42 (dk_at dksX6_shortest_3 12 rfl rfl)
theorem dX6_shortest_83 : decode cX6_shortest 83 = .ok (.iload_n 1, 1) := dk_27 (dk_at dksX6_shortest_3 13 rfl rfl)
theorem dX6_shortest_84 : decode cX6_shortest 84 = .ok (.invokevirtual 413, 3) := dk_182 1 157 (dk_at dksX6_shortest_3 14 rfl rfl)
theorem dX6_shortest_87 : decode cX6_shortest 87 = .ok (.istore_n 3, 1) := dk_62 (dk_at dksX6_shortest_3 17 rfl rfl)
theorem dX6_shortest_88 : decode cX6_shortest 88 = .ok (.iload_n 3, 1) := dk_29 (dk_at dksX6_shortest_3 18 rfl rfl)
theorem dX6_shortest_89 : decode cX6_shortest 89 = .ok (.ldc_w 409, 3) := dk_19 1 153 (dk_at dksX6_shortest_3 19 rfl rfl)
theorem dX6_shortest_92 : decode cX6_shortest 92 = .ok (.if_icmp .lt 8, 3) := dk_161 0 8 (dk_at dksX6_shortest_4 0 rfl rfl)
theorem dX6_shortest_95 : decode cX6_shortest 95 = .ok (.bipush (-2), 2) := dk_16 254 (dk_at dksX6_shortest_4 3 rfl rfl)
theorem dX6_shortest_97 : decode cX6_shortest 97 = .ok (.goto 18, 3) := dk_167 0 18 (dk_at dksX6_shortest_4 5 rfl rfl)
theorem dX6_shortest_100 : decode cX6_shortest 100 = .ok (.iload_n 2, 1) := dk_28 (dk_at dksX6_shortest_4 8 rfl rfl)
theorem dX6_shortest_101 : decode cX6_shortest 101 = .ok (.ifCond .ne 10, 3) := dk_154 0 10 (dk_at dksX6_shortest_4 9 rfl rfl)
theorem dX6_shortest_104 : decode cX6_shortest 104 = .ok (.iload_n 3, 1) := dk_29 (dk_at dksX6_shortest_4 12 rfl rfl)
theorem dX6_shortest_105 : decode cX6_shortest 105 = .ok (.bipush 32, 2) := dk_16 32 (dk_at dksX6_shortest_4 13 rfl rfl)
theorem dX6_shortest_107 : decode cX6_shortest 107 = .ok (.idiv, 1) := dk_108 (dk_at dksX6_shortest_4 15 rfl rfl)
theorem dX6_shortest_108 : decode cX6_shortest 108 = .ok (.goto 7, 3) := dk_167 0 7 (dk_at dksX6_shortest_4 16 rfl rfl)
theorem dX6_shortest_111 : decode cX6_shortest 111 = .ok (.iload_n 3, 1) := dk_29 (dk_at dksX6_shortest_4 19 rfl rfl)
theorem dX6_shortest_112 : decode cX6_shortest 112 = .ok (.bipush 32, 2) := dk_16 32 (dk_at dksX6_shortest_4 20 rfl rfl)
theorem dX6_shortest_114 : decode cX6_shortest 114 = .ok (.irem, 1) := dk_112 (dk_at dksX6_shortest_4 22 rfl rfl)
theorem dX6_shortest_115 : decode cX6_shortest 115 = .ok (.ireturn, 1) := dk_172 (dk_at dksX6_shortest_4 23 rfl rfl)
abbrev cX6_octet : ByteArray := prog_20_method_20_code
def yX6_octet : MethodName := ⟨RX6, "octet", "(I)I"⟩
def dkwX6_octet_0 : List UInt8 := [42, 180, 0, 34, 27, 51, 17, 0, 255, 126, 172]
abbrev dktX6_octet_0 : List UInt8 := dkwX6_octet_0 ++ []
theorem dksX6_octet_0 : cX6_octet.data.toList.drop 0 = dktX6_octet_0 := by decide +kernel
theorem dX6_octet_0 : decode cX6_octet 0 = .ok (.aload_n 0, 1) := dk_42 (dk_at dksX6_octet_0 0 rfl rfl)
theorem dX6_octet_1 : decode cX6_octet 1 = .ok (.getfield 34, 3) := dk_180 0 34 (dk_at dksX6_octet_0 1 rfl rfl)
theorem dX6_octet_4 : decode cX6_octet 4 = .ok (.iload_n 1, 1) := dk_27 (dk_at dksX6_octet_0 4 rfl rfl)
theorem dX6_octet_5 : decode cX6_octet 5 = .ok (.baload, 1) := dk_51 (dk_at dksX6_octet_0 5 rfl rfl)
theorem dX6_octet_6 : decode cX6_octet 6 = .ok (.sipush 255, 3) := dk_17 0 255 (dk_at dksX6_octet_0 6 rfl rfl)
theorem dX6_octet_9 : decode cX6_octet 9 = .ok (.iand, 1) := dk_126 (dk_at dksX6_octet_0 9 rfl rfl)
theorem dX6_octet_10 : decode cX6_octet 10 = .ok (.ireturn, 1) := dk_172 (dk_at dksX6_octet_0 10 rfl rfl)
abbrev cX6_leastOfAll : ByteArray := prog_20_method_90_code
def yX6_leastOfAll : MethodName := ⟨RX6, "leastOfAll", "(I)I"⟩
def dkwX6_leastOfAll_7 : List UInt8 := [132, 3, 1, 167, 255, 228, 28, 172]
abbrev dktX6_leastOfAll_7 : List UInt8 := dkwX6_leastOfAll_7 ++ []
def dkwX6_leastOfAll_6 : List UInt8 := [162, 0, 28, 28, 42, 180, 0, 104, 4, 27, 120, 4, 100, 29, 184, 1, 150, 46, 184, 1, 77, 61]
abbrev dktX6_leastOfAll_6 : List UInt8 := dkwX6_leastOfAll_6 ++ dktX6_leastOfAll_7
def dkwX6_leastOfAll_5 : List UInt8 := [29, 46, 79, 132, 3, 1, 167, 255, 234, 132, 2, 1, 167, 255, 164, 19, 1, 153, 61, 3, 62, 29, 16, 16]
abbrev dktX6_leastOfAll_5 : List UInt8 := dkwX6_leastOfAll_5 ++ dktX6_leastOfAll_6
def dkwX6_leastOfAll_4 : List UInt8 := [132, 3, 1, 167, 255, 232, 3, 62, 29, 17, 4, 64, 162, 0, 21, 42, 180, 0, 104, 29, 42, 180, 0, 107]
abbrev dktX6_leastOfAll_4 : List UInt8 := dkwX6_leastOfAll_4 ++ dktX6_leastOfAll_5
def dkwX6_leastOfAll_3 : List UInt8 := [3, 62, 29, 16, 16, 162, 0, 24, 42, 29, 182, 0, 159, 153, 0, 10, 42, 29, 28, 27, 182, 1, 154]
abbrev dktX6_leastOfAll_3 : List UInt8 := dkwX6_leastOfAll_3 ++ dktX6_leastOfAll_4
def dkwX6_leastOfAll_2 : List UInt8 := [17, 4, 64, 162, 0, 21, 42, 180, 0, 107, 29, 42, 180, 0, 104, 29, 46, 79, 132, 3, 1, 167, 255, 234]
abbrev dktX6_leastOfAll_2 : List UInt8 := dkwX6_leastOfAll_2 ++ dktX6_leastOfAll_3
def dkwX6_leastOfAll_1 : List UInt8 := [42, 180, 0, 104, 3, 16, 16, 184, 1, 150, 3, 79, 3, 61, 28, 16, 12, 162, 0, 92, 3, 62, 29]
abbrev dktX6_leastOfAll_1 : List UInt8 := dkwX6_leastOfAll_1 ++ dktX6_leastOfAll_2
def dkwX6_leastOfAll_0 : List UInt8 := [3, 61, 28, 17, 4, 64, 162, 0, 18, 42, 180, 0, 104, 28, 19, 1, 153, 79, 132, 2, 1, 167, 255, 237]
abbrev dktX6_leastOfAll_0 : List UInt8 := dkwX6_leastOfAll_0 ++ dktX6_leastOfAll_1
theorem dksX6_leastOfAll_0 : cX6_leastOfAll.data.toList.drop 0 = dktX6_leastOfAll_0 := by decide +kernel
theorem dksX6_leastOfAll_1 : cX6_leastOfAll.data.toList.drop 24 = dktX6_leastOfAll_1 := dk_seg dksX6_leastOfAll_0 24 rfl rfl
theorem dksX6_leastOfAll_2 : cX6_leastOfAll.data.toList.drop 47 = dktX6_leastOfAll_2 := dk_seg dksX6_leastOfAll_1 23 rfl rfl
theorem dksX6_leastOfAll_3 : cX6_leastOfAll.data.toList.drop 71 = dktX6_leastOfAll_3 := dk_seg dksX6_leastOfAll_2 24 rfl rfl
theorem dksX6_leastOfAll_4 : cX6_leastOfAll.data.toList.drop 94 = dktX6_leastOfAll_4 := dk_seg dksX6_leastOfAll_3 23 rfl rfl
theorem dksX6_leastOfAll_5 : cX6_leastOfAll.data.toList.drop 118 = dktX6_leastOfAll_5 := dk_seg dksX6_leastOfAll_4 24 rfl rfl
theorem dksX6_leastOfAll_6 : cX6_leastOfAll.data.toList.drop 142 = dktX6_leastOfAll_6 := dk_seg dksX6_leastOfAll_5 24 rfl rfl
theorem dksX6_leastOfAll_7 : cX6_leastOfAll.data.toList.drop 164 = dktX6_leastOfAll_7 := dk_seg dksX6_leastOfAll_6 22 rfl rfl
theorem dX6_leastOfAll_0 : decode cX6_leastOfAll 0 = .ok (.iconst 0, 1) := dk_3 (dk_at dksX6_leastOfAll_0 0 rfl rfl)
theorem dX6_leastOfAll_1 : decode cX6_leastOfAll 1 = .ok (.istore_n 2, 1) := dk_61 (dk_at dksX6_leastOfAll_0 1 rfl rfl)
theorem dX6_leastOfAll_2 : decode cX6_leastOfAll 2 = .ok (.iload_n 2, 1) := dk_28 (dk_at dksX6_leastOfAll_0 2 rfl rfl)
theorem dX6_leastOfAll_3 : decode cX6_leastOfAll 3 = .ok (.sipush 1088, 3) := dk_17 4 64 (dk_at dksX6_leastOfAll_0 3 rfl rfl)
theorem dX6_leastOfAll_6 : decode cX6_leastOfAll 6 = .ok (.if_icmp .ge 18, 3) := dk_162 0 18 (dk_at dksX6_leastOfAll_0 6 rfl rfl)
theorem dX6_leastOfAll_9 : decode cX6_leastOfAll 9 = .ok (.aload_n 0, 1) := dk_42 (dk_at dksX6_leastOfAll_0 9 rfl rfl)
theorem dX6_leastOfAll_10 : decode cX6_leastOfAll 10 = .ok (.getfield 104, 3) := dk_180 0 104 (dk_at dksX6_leastOfAll_0 10 rfl rfl)
theorem dX6_leastOfAll_13 : decode cX6_leastOfAll 13 = .ok (.iload_n 2, 1) := dk_28 (dk_at dksX6_leastOfAll_0 13 rfl rfl)
theorem dX6_leastOfAll_14 : decode cX6_leastOfAll 14 = .ok (.ldc_w 409, 3) := dk_19 1 153 (dk_at dksX6_leastOfAll_0 14 rfl rfl)
theorem dX6_leastOfAll_17 : decode cX6_leastOfAll 17 = .ok (.iastore, 1) := dk_79 (dk_at dksX6_leastOfAll_0 17 rfl rfl)
theorem dX6_leastOfAll_18 : decode cX6_leastOfAll 18 = .ok (.iinc 2 1, 3) := dk_132 2 1 (dk_at dksX6_leastOfAll_0 18 rfl rfl)
theorem dX6_leastOfAll_21 : decode cX6_leastOfAll 21 = .ok (.goto (-19), 3) := dk_167 255 237 (dk_at dksX6_leastOfAll_0 21 rfl rfl)
theorem dX6_leastOfAll_24 : decode cX6_leastOfAll 24 = .ok (.aload_n 0, 1) := dk_42 (dk_at dksX6_leastOfAll_1 0 rfl rfl)
theorem dX6_leastOfAll_25 : decode cX6_leastOfAll 25 = .ok (.getfield 104, 3) := dk_180 0 104 (dk_at dksX6_leastOfAll_1 1 rfl rfl)
theorem dX6_leastOfAll_28 : decode cX6_leastOfAll 28 = .ok (.iconst 0, 1) := dk_3 (dk_at dksX6_leastOfAll_1 4 rfl rfl)
theorem dX6_leastOfAll_29 : decode cX6_leastOfAll 29 = .ok (.bipush 16, 2) := dk_16 16 (dk_at dksX6_leastOfAll_1 5 rfl rfl)
theorem dX6_leastOfAll_31 : decode cX6_leastOfAll 31 = .ok (.invokestatic 406, 3) := dk_184 1 150 (dk_at dksX6_leastOfAll_1 7 rfl rfl)
theorem dX6_leastOfAll_34 : decode cX6_leastOfAll 34 = .ok (.iconst 0, 1) := dk_3 (dk_at dksX6_leastOfAll_1 10 rfl rfl)
theorem dX6_leastOfAll_35 : decode cX6_leastOfAll 35 = .ok (.iastore, 1) := dk_79 (dk_at dksX6_leastOfAll_1 11 rfl rfl)
theorem dX6_leastOfAll_36 : decode cX6_leastOfAll 36 = .ok (.iconst 0, 1) := dk_3 (dk_at dksX6_leastOfAll_1 12 rfl rfl)
theorem dX6_leastOfAll_37 : decode cX6_leastOfAll 37 = .ok (.istore_n 2, 1) := dk_61 (dk_at dksX6_leastOfAll_1 13 rfl rfl)
theorem dX6_leastOfAll_38 : decode cX6_leastOfAll 38 = .ok (.iload_n 2, 1) := dk_28 (dk_at dksX6_leastOfAll_1 14 rfl rfl)
theorem dX6_leastOfAll_39 : decode cX6_leastOfAll 39 = .ok (.bipush 12, 2) := dk_16 12 (dk_at dksX6_leastOfAll_1 15 rfl rfl)
theorem dX6_leastOfAll_41 : decode cX6_leastOfAll 41 = .ok (.if_icmp .ge 92, 3) := dk_162 0 92 (dk_at dksX6_leastOfAll_1 17 rfl rfl)
theorem dX6_leastOfAll_44 : decode cX6_leastOfAll 44 = .ok (.iconst 0, 1) := dk_3 (dk_at dksX6_leastOfAll_1 20 rfl rfl)
theorem dX6_leastOfAll_45 : decode cX6_leastOfAll 45 = .ok (.istore_n 3, 1) := dk_62 (dk_at dksX6_leastOfAll_1 21 rfl rfl)
theorem dX6_leastOfAll_46 : decode cX6_leastOfAll 46 = .ok (.iload_n 3, 1) := dk_29 (dk_at dksX6_leastOfAll_1 22 rfl rfl)
theorem dX6_leastOfAll_47 : decode cX6_leastOfAll 47 = .ok (.sipush 1088, 3) := dk_17 4 64 (dk_at dksX6_leastOfAll_2 0 rfl rfl)
theorem dX6_leastOfAll_50 : decode cX6_leastOfAll 50 = .ok (.if_icmp .ge 21, 3) := dk_162 0 21 (dk_at dksX6_leastOfAll_2 3 rfl rfl)
theorem dX6_leastOfAll_53 : decode cX6_leastOfAll 53 = .ok (.aload_n 0, 1) := dk_42 (dk_at dksX6_leastOfAll_2 6 rfl rfl)
theorem dX6_leastOfAll_54 : decode cX6_leastOfAll 54 = .ok (.getfield 107, 3) := dk_180 0 107 (dk_at dksX6_leastOfAll_2 7 rfl rfl)
theorem dX6_leastOfAll_57 : decode cX6_leastOfAll 57 = .ok (.iload_n 3, 1) := dk_29 (dk_at dksX6_leastOfAll_2 10 rfl rfl)
theorem dX6_leastOfAll_58 : decode cX6_leastOfAll 58 = .ok (.aload_n 0, 1) := dk_42 (dk_at dksX6_leastOfAll_2 11 rfl rfl)
theorem dX6_leastOfAll_59 : decode cX6_leastOfAll 59 = .ok (.getfield 104, 3) := dk_180 0 104 (dk_at dksX6_leastOfAll_2 12 rfl rfl)
theorem dX6_leastOfAll_62 : decode cX6_leastOfAll 62 = .ok (.iload_n 3, 1) := dk_29 (dk_at dksX6_leastOfAll_2 15 rfl rfl)
theorem dX6_leastOfAll_63 : decode cX6_leastOfAll 63 = .ok (.iaload, 1) := dk_46 (dk_at dksX6_leastOfAll_2 16 rfl rfl)
theorem dX6_leastOfAll_64 : decode cX6_leastOfAll 64 = .ok (.iastore, 1) := dk_79 (dk_at dksX6_leastOfAll_2 17 rfl rfl)
theorem dX6_leastOfAll_65 : decode cX6_leastOfAll 65 = .ok (.iinc 3 1, 3) := dk_132 3 1 (dk_at dksX6_leastOfAll_2 18 rfl rfl)
theorem dX6_leastOfAll_68 : decode cX6_leastOfAll 68 = .ok (.goto (-22), 3) := dk_167 255 234 (dk_at dksX6_leastOfAll_2 21 rfl rfl)
theorem dX6_leastOfAll_71 : decode cX6_leastOfAll 71 = .ok (.iconst 0, 1) := dk_3 (dk_at dksX6_leastOfAll_3 0 rfl rfl)
theorem dX6_leastOfAll_72 : decode cX6_leastOfAll 72 = .ok (.istore_n 3, 1) := dk_62 (dk_at dksX6_leastOfAll_3 1 rfl rfl)
theorem dX6_leastOfAll_73 : decode cX6_leastOfAll 73 = .ok (.iload_n 3, 1) := dk_29 (dk_at dksX6_leastOfAll_3 2 rfl rfl)
theorem dX6_leastOfAll_74 : decode cX6_leastOfAll 74 = .ok (.bipush 16, 2) := dk_16 16 (dk_at dksX6_leastOfAll_3 3 rfl rfl)
theorem dX6_leastOfAll_76 : decode cX6_leastOfAll 76 = .ok (.if_icmp .ge 24, 3) := dk_162 0 24 (dk_at dksX6_leastOfAll_3 5 rfl rfl)
theorem dX6_leastOfAll_79 : decode cX6_leastOfAll 79 = .ok (.aload_n 0, 1) := dk_42 (dk_at dksX6_leastOfAll_3 8 rfl rfl)
theorem dX6_leastOfAll_80 : decode cX6_leastOfAll 80 = .ok (.iload_n 3, 1) := dk_29 (dk_at dksX6_leastOfAll_3 9 rfl rfl)
theorem dX6_leastOfAll_81 : decode cX6_leastOfAll 81 = .ok (.invokevirtual 159, 3) := dk_182 0 159 (dk_at dksX6_leastOfAll_3 10 rfl rfl)
theorem dX6_leastOfAll_84 : decode cX6_leastOfAll 84 = .ok (.ifCond .eq 10, 3) := dk_153 0 10 (dk_at dksX6_leastOfAll_3 13 rfl rfl)
theorem dX6_leastOfAll_87 : decode cX6_leastOfAll 87 = .ok (.aload_n 0, 1) := dk_42 (dk_at dksX6_leastOfAll_3 16 rfl rfl)
theorem dX6_leastOfAll_88 : decode cX6_leastOfAll 88 = .ok (.iload_n 3, 1) := dk_29 (dk_at dksX6_leastOfAll_3 17 rfl rfl)
theorem dX6_leastOfAll_89 : decode cX6_leastOfAll 89 = .ok (.iload_n 2, 1) := dk_28 (dk_at dksX6_leastOfAll_3 18 rfl rfl)
theorem dX6_leastOfAll_90 : decode cX6_leastOfAll 90 = .ok (.iload_n 1, 1) := dk_27 (dk_at dksX6_leastOfAll_3 19 rfl rfl)
theorem dX6_leastOfAll_91 : decode cX6_leastOfAll 91 = .ok (.invokevirtual 410, 3) := dk_182 1 154 (dk_at dksX6_leastOfAll_3 20 rfl rfl)
theorem dX6_leastOfAll_94 : decode cX6_leastOfAll 94 = .ok (.iinc 3 1, 3) := dk_132 3 1 (dk_at dksX6_leastOfAll_4 0 rfl rfl)
theorem dX6_leastOfAll_97 : decode cX6_leastOfAll 97 = .ok (.goto (-24), 3) := dk_167 255 232 (dk_at dksX6_leastOfAll_4 3 rfl rfl)
theorem dX6_leastOfAll_100 : decode cX6_leastOfAll 100 = .ok (.iconst 0, 1) := dk_3 (dk_at dksX6_leastOfAll_4 6 rfl rfl)
theorem dX6_leastOfAll_101 : decode cX6_leastOfAll 101 = .ok (.istore_n 3, 1) := dk_62 (dk_at dksX6_leastOfAll_4 7 rfl rfl)
theorem dX6_leastOfAll_102 : decode cX6_leastOfAll 102 = .ok (.iload_n 3, 1) := dk_29 (dk_at dksX6_leastOfAll_4 8 rfl rfl)
theorem dX6_leastOfAll_103 : decode cX6_leastOfAll 103 = .ok (.sipush 1088, 3) := dk_17 4 64 (dk_at dksX6_leastOfAll_4 9 rfl rfl)
theorem dX6_leastOfAll_106 : decode cX6_leastOfAll 106 = .ok (.if_icmp .ge 21, 3) := dk_162 0 21 (dk_at dksX6_leastOfAll_4 12 rfl rfl)
theorem dX6_leastOfAll_109 : decode cX6_leastOfAll 109 = .ok (.aload_n 0, 1) := dk_42 (dk_at dksX6_leastOfAll_4 15 rfl rfl)
theorem dX6_leastOfAll_110 : decode cX6_leastOfAll 110 = .ok (.getfield 104, 3) := dk_180 0 104 (dk_at dksX6_leastOfAll_4 16 rfl rfl)
theorem dX6_leastOfAll_113 : decode cX6_leastOfAll 113 = .ok (.iload_n 3, 1) := dk_29 (dk_at dksX6_leastOfAll_4 19 rfl rfl)
theorem dX6_leastOfAll_114 : decode cX6_leastOfAll 114 = .ok (.aload_n 0, 1) := dk_42 (dk_at dksX6_leastOfAll_4 20 rfl rfl)
theorem dX6_leastOfAll_115 : decode cX6_leastOfAll 115 = .ok (.getfield 107, 3) := dk_180 0 107 (dk_at dksX6_leastOfAll_4 21 rfl rfl)
theorem dX6_leastOfAll_118 : decode cX6_leastOfAll 118 = .ok (.iload_n 3, 1) := dk_29 (dk_at dksX6_leastOfAll_5 0 rfl rfl)
theorem dX6_leastOfAll_119 : decode cX6_leastOfAll 119 = .ok (.iaload, 1) := dk_46 (dk_at dksX6_leastOfAll_5 1 rfl rfl)
theorem dX6_leastOfAll_120 : decode cX6_leastOfAll 120 = .ok (.iastore, 1) := dk_79 (dk_at dksX6_leastOfAll_5 2 rfl rfl)
theorem dX6_leastOfAll_121 : decode cX6_leastOfAll 121 = .ok (.iinc 3 1, 3) := dk_132 3 1 (dk_at dksX6_leastOfAll_5 3 rfl rfl)
theorem dX6_leastOfAll_124 : decode cX6_leastOfAll 124 = .ok (.goto (-22), 3) := dk_167 255 234 (dk_at dksX6_leastOfAll_5 6 rfl rfl)
theorem dX6_leastOfAll_127 : decode cX6_leastOfAll 127 = .ok (.iinc 2 1, 3) := dk_132 2 1 (dk_at dksX6_leastOfAll_5 9 rfl rfl)
theorem dX6_leastOfAll_130 : decode cX6_leastOfAll 130 = .ok (.goto (-92), 3) := dk_167 255 164 (dk_at dksX6_leastOfAll_5 12 rfl rfl)
theorem dX6_leastOfAll_133 : decode cX6_leastOfAll 133 = .ok (.ldc_w 409, 3) := dk_19 1 153 (dk_at dksX6_leastOfAll_5 15 rfl rfl)
theorem dX6_leastOfAll_136 : decode cX6_leastOfAll 136 = .ok (.istore_n 2, 1) := dk_61 (dk_at dksX6_leastOfAll_5 18 rfl rfl)
theorem dX6_leastOfAll_137 : decode cX6_leastOfAll 137 = .ok (.iconst 0, 1) := dk_3 (dk_at dksX6_leastOfAll_5 19 rfl rfl)
theorem dX6_leastOfAll_138 : decode cX6_leastOfAll 138 = .ok (.istore_n 3, 1) := dk_62 (dk_at dksX6_leastOfAll_5 20 rfl rfl)
theorem dX6_leastOfAll_139 : decode cX6_leastOfAll 139 = .ok (.iload_n 3, 1) := dk_29 (dk_at dksX6_leastOfAll_5 21 rfl rfl)
theorem dX6_leastOfAll_140 : decode cX6_leastOfAll 140 = .ok (.bipush 16, 2) := dk_16 16 (dk_at dksX6_leastOfAll_5 22 rfl rfl)
theorem dX6_leastOfAll_142 : decode cX6_leastOfAll 142 = .ok (.if_icmp .ge 28, 3) := dk_162 0 28 (dk_at dksX6_leastOfAll_6 0 rfl rfl)
theorem dX6_leastOfAll_145 : decode cX6_leastOfAll 145 = .ok (.iload_n 2, 1) := dk_28 (dk_at dksX6_leastOfAll_6 3 rfl rfl)
theorem dX6_leastOfAll_146 : decode cX6_leastOfAll 146 = .ok (.aload_n 0, 1) := dk_42 (dk_at dksX6_leastOfAll_6 4 rfl rfl)
theorem dX6_leastOfAll_147 : decode cX6_leastOfAll 147 = .ok (.getfield 104, 3) := dk_180 0 104 (dk_at dksX6_leastOfAll_6 5 rfl rfl)
theorem dX6_leastOfAll_150 : decode cX6_leastOfAll 150 = .ok (.iconst 1, 1) := dk_4 (dk_at dksX6_leastOfAll_6 8 rfl rfl)
theorem dX6_leastOfAll_151 : decode cX6_leastOfAll 151 = .ok (.iload_n 1, 1) := dk_27 (dk_at dksX6_leastOfAll_6 9 rfl rfl)
theorem dX6_leastOfAll_152 : decode cX6_leastOfAll 152 = .ok (.ishl, 1) := dk_120 (dk_at dksX6_leastOfAll_6 10 rfl rfl)
theorem dX6_leastOfAll_153 : decode cX6_leastOfAll 153 = .ok (.iconst 1, 1) := dk_4 (dk_at dksX6_leastOfAll_6 11 rfl rfl)
theorem dX6_leastOfAll_154 : decode cX6_leastOfAll 154 = .ok (.isub, 1) := dk_100 (dk_at dksX6_leastOfAll_6 12 rfl rfl)
theorem dX6_leastOfAll_155 : decode cX6_leastOfAll 155 = .ok (.iload_n 3, 1) := dk_29 (dk_at dksX6_leastOfAll_6 13 rfl rfl)
theorem dX6_leastOfAll_156 : decode cX6_leastOfAll 156 = .ok (.invokestatic 406, 3) := dk_184 1 150 (dk_at dksX6_leastOfAll_6 14 rfl rfl)
theorem dX6_leastOfAll_159 : decode cX6_leastOfAll 159 = .ok (.iaload, 1) := dk_46 (dk_at dksX6_leastOfAll_6 17 rfl rfl)
theorem dX6_leastOfAll_160 : decode cX6_leastOfAll 160 = .ok (.invokestatic 333, 3) := dk_184 1 77 (dk_at dksX6_leastOfAll_6 18 rfl rfl)
theorem dX6_leastOfAll_163 : decode cX6_leastOfAll 163 = .ok (.istore_n 2, 1) := dk_61 (dk_at dksX6_leastOfAll_6 21 rfl rfl)
theorem dX6_leastOfAll_164 : decode cX6_leastOfAll 164 = .ok (.iinc 3 1, 3) := dk_132 3 1 (dk_at dksX6_leastOfAll_7 0 rfl rfl)
theorem dX6_leastOfAll_167 : decode cX6_leastOfAll 167 = .ok (.goto (-28), 3) := dk_167 255 228 (dk_at dksX6_leastOfAll_7 3 rfl rfl)
theorem dX6_leastOfAll_170 : decode cX6_leastOfAll 170 = .ok (.iload_n 2, 1) := dk_28 (dk_at dksX6_leastOfAll_7 6 rfl rfl)
theorem dX6_leastOfAll_171 : decode cX6_leastOfAll 171 = .ok (.ireturn, 1) := dk_172 (dk_at dksX6_leastOfAll_7 7 rfl rfl)
abbrev cX6_stateOf : ByteArray := prog_20_method_87_code
def yX6_stateOf : MethodName := ⟨RX6, "stateOf", "(II)I"⟩
def dkwX6_stateOf_0 : List UInt8 := [16, 17, 26, 104, 27, 96, 172]
abbrev dktX6_stateOf_0 : List UInt8 := dkwX6_stateOf_0 ++ []
theorem dksX6_stateOf_0 : cX6_stateOf.data.toList.drop 0 = dktX6_stateOf_0 := by decide +kernel
theorem dX6_stateOf_0 : decode cX6_stateOf 0 = .ok (.bipush 17, 2) := dk_16 17 (dk_at dksX6_stateOf_0 0 rfl rfl)
theorem dX6_stateOf_2 : decode cX6_stateOf 2 = .ok (.iload_n 0, 1) := dk_26 (dk_at dksX6_stateOf_0 2 rfl rfl)
theorem dX6_stateOf_3 : decode cX6_stateOf 3 = .ok (.imul, 1) := dk_104 (dk_at dksX6_stateOf_0 3 rfl rfl)
theorem dX6_stateOf_4 : decode cX6_stateOf 4 = .ok (.iload_n 1, 1) := dk_27 (dk_at dksX6_stateOf_0 4 rfl rfl)
theorem dX6_stateOf_5 : decode cX6_stateOf 5 = .ok (.iadd, 1) := dk_96 (dk_at dksX6_stateOf_0 5 rfl rfl)
theorem dX6_stateOf_6 : decode cX6_stateOf 6 = .ok (.ireturn, 1) := dk_172 (dk_at dksX6_stateOf_0 6 rfl rfl)
abbrev cX6_choosesHouse : ByteArray := prog_20_method_89_code
def yX6_choosesHouse : MethodName := ⟨RX6, "choosesHouse", "(III)V"⟩
def dkwX6_choosesHouse_5 : List UInt8 := [132, 6, 1, 167, 255, 165, 132, 5, 1, 167, 255, 148, 177]
abbrev dktX6_choosesHouse_5 : List UInt8 := dkwX6_choosesHouse_5 ++ []
def dkwX6_choosesHouse_4 : List UInt8 := [184, 1, 150, 54, 9, 42, 180, 0, 107, 21, 9, 42, 180, 0, 107, 21, 9, 46, 21, 8, 184, 1, 77, 79]
abbrev dktX6_choosesHouse_4 : List UInt8 := dkwX6_choosesHouse_4 ++ dktX6_choosesHouse_5
def dkwX6_choosesHouse_3 : List UInt8 := [167, 0, 16, 21, 7, 16, 32, 27, 21, 6, 100, 184, 1, 61, 104, 96, 54, 8, 21, 5, 21, 4, 128, 27]
abbrev dktX6_choosesHouse_3 : List UInt8 := dkwX6_choosesHouse_3 ++ dktX6_choosesHouse_4
def dkwX6_choosesHouse_2 : List UInt8 := [46, 54, 7, 21, 7, 19, 1, 153, 161, 0, 6, 167, 0, 59, 21, 6, 16, 16, 160, 0, 7, 27]
abbrev dktX6_choosesHouse_2 : List UInt8 := dkwX6_choosesHouse_2 ++ dktX6_choosesHouse_3
def dkwX6_choosesHouse_1 : List UInt8 := [162, 0, 106, 3, 54, 6, 21, 6, 16, 16, 163, 0, 90, 42, 180, 0, 104, 21, 5, 21, 6, 184, 1, 150]
abbrev dktX6_choosesHouse_1 : List UInt8 := dkwX6_choosesHouse_1 ++ dktX6_choosesHouse_2
def dkwX6_choosesHouse_0 : List UInt8 := [42, 27, 28, 29, 182, 1, 147, 54, 4, 21, 4, 154, 0, 4, 177, 3, 54, 5, 21, 5, 4, 29, 120]
abbrev dktX6_choosesHouse_0 : List UInt8 := dkwX6_choosesHouse_0 ++ dktX6_choosesHouse_1
theorem dksX6_choosesHouse_0 : cX6_choosesHouse.data.toList.drop 0 = dktX6_choosesHouse_0 := by decide +kernel
theorem dksX6_choosesHouse_1 : cX6_choosesHouse.data.toList.drop 23 = dktX6_choosesHouse_1 := dk_seg dksX6_choosesHouse_0 23 rfl rfl
theorem dksX6_choosesHouse_2 : cX6_choosesHouse.data.toList.drop 47 = dktX6_choosesHouse_2 := dk_seg dksX6_choosesHouse_1 24 rfl rfl
theorem dksX6_choosesHouse_3 : cX6_choosesHouse.data.toList.drop 69 = dktX6_choosesHouse_3 := dk_seg dksX6_choosesHouse_2 22 rfl rfl
theorem dksX6_choosesHouse_4 : cX6_choosesHouse.data.toList.drop 93 = dktX6_choosesHouse_4 := dk_seg dksX6_choosesHouse_3 24 rfl rfl
theorem dksX6_choosesHouse_5 : cX6_choosesHouse.data.toList.drop 117 = dktX6_choosesHouse_5 := dk_seg dksX6_choosesHouse_4 24 rfl rfl
theorem dX6_choosesHouse_0 : decode cX6_choosesHouse 0 = .ok (.aload_n 0, 1) := dk_42 (dk_at dksX6_choosesHouse_0 0 rfl rfl)
theorem dX6_choosesHouse_1 : decode cX6_choosesHouse 1 = .ok (.iload_n 1, 1) := dk_27 (dk_at dksX6_choosesHouse_0 1 rfl rfl)
theorem dX6_choosesHouse_2 : decode cX6_choosesHouse 2 = .ok (.iload_n 2, 1) := dk_28 (dk_at dksX6_choosesHouse_0 2 rfl rfl)
theorem dX6_choosesHouse_3 : decode cX6_choosesHouse 3 = .ok (.iload_n 3, 1) := dk_29 (dk_at dksX6_choosesHouse_0 3 rfl rfl)
theorem dX6_choosesHouse_4 : decode cX6_choosesHouse 4 = .ok (.invokevirtual 403, 3) := dk_182 1 147 (dk_at dksX6_choosesHouse_0 4 rfl rfl)
theorem dX6_choosesHouse_7 : decode cX6_choosesHouse 7 = .ok (.istore 4, 2) := dk_54 4 (dk_at dksX6_choosesHouse_0 7 rfl rfl)
theorem dX6_choosesHouse_9 : decode cX6_choosesHouse 9 = .ok (.iload 4, 2) := dk_21 4 (dk_at dksX6_choosesHouse_0 9 rfl rfl)
theorem dX6_choosesHouse_11 : decode cX6_choosesHouse 11 = .ok (.ifCond .ne 4, 3) := dk_154 0 4 (dk_at dksX6_choosesHouse_0 11 rfl rfl)
theorem dX6_choosesHouse_14 : decode cX6_choosesHouse 14 = .ok (.return_, 1) := dk_177 (dk_at dksX6_choosesHouse_0 14 rfl rfl)
theorem dX6_choosesHouse_15 : decode cX6_choosesHouse 15 = .ok (.iconst 0, 1) := dk_3 (dk_at dksX6_choosesHouse_0 15 rfl rfl)
theorem dX6_choosesHouse_16 : decode cX6_choosesHouse 16 = .ok (.istore 5, 2) := dk_54 5 (dk_at dksX6_choosesHouse_0 16 rfl rfl)
theorem dX6_choosesHouse_18 : decode cX6_choosesHouse 18 = .ok (.iload 5, 2) := dk_21 5 (dk_at dksX6_choosesHouse_0 18 rfl rfl)
theorem dX6_choosesHouse_20 : decode cX6_choosesHouse 20 = .ok (.iconst 1, 1) := dk_4 (dk_at dksX6_choosesHouse_0 20 rfl rfl)
theorem dX6_choosesHouse_21 : decode cX6_choosesHouse 21 = .ok (.iload_n 3, 1) := dk_29 (dk_at dksX6_choosesHouse_0 21 rfl rfl)
theorem dX6_choosesHouse_22 : decode cX6_choosesHouse 22 = .ok (.ishl, 1) := dk_120 (dk_at dksX6_choosesHouse_0 22 rfl rfl)
theorem dX6_choosesHouse_23 : decode cX6_choosesHouse 23 = .ok (.if_icmp .ge 106, 3) := dk_162 0 106 (dk_at dksX6_choosesHouse_1 0 rfl rfl)
theorem dX6_choosesHouse_26 : decode cX6_choosesHouse 26 = .ok (.iconst 0, 1) := dk_3 (dk_at dksX6_choosesHouse_1 3 rfl rfl)
theorem dX6_choosesHouse_27 : decode cX6_choosesHouse 27 = .ok (.istore 6, 2) := dk_54 6 (dk_at dksX6_choosesHouse_1 4 rfl rfl)
theorem dX6_choosesHouse_29 : decode cX6_choosesHouse 29 = .ok (.iload 6, 2) := dk_21 6 (dk_at dksX6_choosesHouse_1 6 rfl rfl)
theorem dX6_choosesHouse_31 : decode cX6_choosesHouse 31 = .ok (.bipush 16, 2) := dk_16 16 (dk_at dksX6_choosesHouse_1 8 rfl rfl)
theorem dX6_choosesHouse_33 : decode cX6_choosesHouse 33 = .ok (.if_icmp .gt 90, 3) := dk_163 0 90 (dk_at dksX6_choosesHouse_1 10 rfl rfl)
theorem dX6_choosesHouse_36 : decode cX6_choosesHouse 36 = .ok (.aload_n 0, 1) := dk_42 (dk_at dksX6_choosesHouse_1 13 rfl rfl)
theorem dX6_choosesHouse_37 : decode cX6_choosesHouse 37 = .ok (.getfield 104, 3) := dk_180 0 104 (dk_at dksX6_choosesHouse_1 14 rfl rfl)
theorem dX6_choosesHouse_40 : decode cX6_choosesHouse 40 = .ok (.iload 5, 2) := dk_21 5 (dk_at dksX6_choosesHouse_1 17 rfl rfl)
theorem dX6_choosesHouse_42 : decode cX6_choosesHouse 42 = .ok (.iload 6, 2) := dk_21 6 (dk_at dksX6_choosesHouse_1 19 rfl rfl)
theorem dX6_choosesHouse_44 : decode cX6_choosesHouse 44 = .ok (.invokestatic 406, 3) := dk_184 1 150 (dk_at dksX6_choosesHouse_1 21 rfl rfl)
theorem dX6_choosesHouse_47 : decode cX6_choosesHouse 47 = .ok (.iaload, 1) := dk_46 (dk_at dksX6_choosesHouse_2 0 rfl rfl)
theorem dX6_choosesHouse_48 : decode cX6_choosesHouse 48 = .ok (.istore 7, 2) := dk_54 7 (dk_at dksX6_choosesHouse_2 1 rfl rfl)
theorem dX6_choosesHouse_50 : decode cX6_choosesHouse 50 = .ok (.iload 7, 2) := dk_21 7 (dk_at dksX6_choosesHouse_2 3 rfl rfl)
theorem dX6_choosesHouse_52 : decode cX6_choosesHouse 52 = .ok (.ldc_w 409, 3) := dk_19 1 153 (dk_at dksX6_choosesHouse_2 5 rfl rfl)
theorem dX6_choosesHouse_55 : decode cX6_choosesHouse 55 = .ok (.if_icmp .lt 6, 3) := dk_161 0 6 (dk_at dksX6_choosesHouse_2 8 rfl rfl)
theorem dX6_choosesHouse_58 : decode cX6_choosesHouse 58 = .ok (.goto 59, 3) := dk_167 0 59 (dk_at dksX6_choosesHouse_2 11 rfl rfl)
theorem dX6_choosesHouse_61 : decode cX6_choosesHouse 61 = .ok (.iload 6, 2) := dk_21 6 (dk_at dksX6_choosesHouse_2 14 rfl rfl)
theorem dX6_choosesHouse_63 : decode cX6_choosesHouse 63 = .ok (.bipush 16, 2) := dk_16 16 (dk_at dksX6_choosesHouse_2 16 rfl rfl)
theorem dX6_choosesHouse_65 : decode cX6_choosesHouse 65 = .ok (.if_icmp .ne 7, 3) := dk_160 0 7 (dk_at dksX6_choosesHouse_2 18 rfl rfl)
theorem dX6_choosesHouse_68 : decode cX6_choosesHouse 68 = .ok (.iload_n 1, 1) := dk_27 (dk_at dksX6_choosesHouse_2 21 rfl rfl)
theorem dX6_choosesHouse_69 : decode cX6_choosesHouse 69 = .ok (.goto 16, 3) := dk_167 0 16 (dk_at dksX6_choosesHouse_3 0 rfl rfl)
theorem dX6_choosesHouse_72 : decode cX6_choosesHouse 72 = .ok (.iload 7, 2) := dk_21 7 (dk_at dksX6_choosesHouse_3 3 rfl rfl)
theorem dX6_choosesHouse_74 : decode cX6_choosesHouse 74 = .ok (.bipush 32, 2) := dk_16 32 (dk_at dksX6_choosesHouse_3 5 rfl rfl)
theorem dX6_choosesHouse_76 : decode cX6_choosesHouse 76 = .ok (.iload_n 1, 1) := dk_27 (dk_at dksX6_choosesHouse_3 7 rfl rfl)
theorem dX6_choosesHouse_77 : decode cX6_choosesHouse 77 = .ok (.iload 6, 2) := dk_21 6 (dk_at dksX6_choosesHouse_3 8 rfl rfl)
theorem dX6_choosesHouse_79 : decode cX6_choosesHouse 79 = .ok (.isub, 1) := dk_100 (dk_at dksX6_choosesHouse_3 10 rfl rfl)
theorem dX6_choosesHouse_80 : decode cX6_choosesHouse 80 = .ok (.invokestatic 317, 3) := dk_184 1 61 (dk_at dksX6_choosesHouse_3 11 rfl rfl)
theorem dX6_choosesHouse_83 : decode cX6_choosesHouse 83 = .ok (.imul, 1) := dk_104 (dk_at dksX6_choosesHouse_3 14 rfl rfl)
theorem dX6_choosesHouse_84 : decode cX6_choosesHouse 84 = .ok (.iadd, 1) := dk_96 (dk_at dksX6_choosesHouse_3 15 rfl rfl)
theorem dX6_choosesHouse_85 : decode cX6_choosesHouse 85 = .ok (.istore 8, 2) := dk_54 8 (dk_at dksX6_choosesHouse_3 16 rfl rfl)
theorem dX6_choosesHouse_87 : decode cX6_choosesHouse 87 = .ok (.iload 5, 2) := dk_21 5 (dk_at dksX6_choosesHouse_3 18 rfl rfl)
theorem dX6_choosesHouse_89 : decode cX6_choosesHouse 89 = .ok (.iload 4, 2) := dk_21 4 (dk_at dksX6_choosesHouse_3 20 rfl rfl)
theorem dX6_choosesHouse_91 : decode cX6_choosesHouse 91 = .ok (.ior, 1) := dk_128 (dk_at dksX6_choosesHouse_3 22 rfl rfl)
theorem dX6_choosesHouse_92 : decode cX6_choosesHouse 92 = .ok (.iload_n 1, 1) := dk_27 (dk_at dksX6_choosesHouse_3 23 rfl rfl)
theorem dX6_choosesHouse_93 : decode cX6_choosesHouse 93 = .ok (.invokestatic 406, 3) := dk_184 1 150 (dk_at dksX6_choosesHouse_4 0 rfl rfl)
theorem dX6_choosesHouse_96 : decode cX6_choosesHouse 96 = .ok (.istore 9, 2) := dk_54 9 (dk_at dksX6_choosesHouse_4 3 rfl rfl)
theorem dX6_choosesHouse_98 : decode cX6_choosesHouse 98 = .ok (.aload_n 0, 1) := dk_42 (dk_at dksX6_choosesHouse_4 5 rfl rfl)
theorem dX6_choosesHouse_99 : decode cX6_choosesHouse 99 = .ok (.getfield 107, 3) := dk_180 0 107 (dk_at dksX6_choosesHouse_4 6 rfl rfl)
theorem dX6_choosesHouse_102 : decode cX6_choosesHouse 102 = .ok (.iload 9, 2) := dk_21 9 (dk_at dksX6_choosesHouse_4 9 rfl rfl)
theorem dX6_choosesHouse_104 : decode cX6_choosesHouse 104 = .ok (.aload_n 0, 1) := dk_42 (dk_at dksX6_choosesHouse_4 11 rfl rfl)
theorem dX6_choosesHouse_105 : decode cX6_choosesHouse 105 = .ok (.getfield 107, 3) := dk_180 0 107 (dk_at dksX6_choosesHouse_4 12 rfl rfl)
theorem dX6_choosesHouse_108 : decode cX6_choosesHouse 108 = .ok (.iload 9, 2) := dk_21 9 (dk_at dksX6_choosesHouse_4 15 rfl rfl)
theorem dX6_choosesHouse_110 : decode cX6_choosesHouse 110 = .ok (.iaload, 1) := dk_46 (dk_at dksX6_choosesHouse_4 17 rfl rfl)
theorem dX6_choosesHouse_111 : decode cX6_choosesHouse 111 = .ok (.iload 8, 2) := dk_21 8 (dk_at dksX6_choosesHouse_4 18 rfl rfl)
theorem dX6_choosesHouse_113 : decode cX6_choosesHouse 113 = .ok (.invokestatic 333, 3) := dk_184 1 77 (dk_at dksX6_choosesHouse_4 20 rfl rfl)
theorem dX6_choosesHouse_116 : decode cX6_choosesHouse 116 = .ok (.iastore, 1) := dk_79 (dk_at dksX6_choosesHouse_4 23 rfl rfl)
theorem dX6_choosesHouse_117 : decode cX6_choosesHouse 117 = .ok (.iinc 6 1, 3) := dk_132 6 1 (dk_at dksX6_choosesHouse_5 0 rfl rfl)
theorem dX6_choosesHouse_120 : decode cX6_choosesHouse 120 = .ok (.goto (-91), 3) := dk_167 255 165 (dk_at dksX6_choosesHouse_5 3 rfl rfl)
theorem dX6_choosesHouse_123 : decode cX6_choosesHouse 123 = .ok (.iinc 5 1, 3) := dk_132 5 1 (dk_at dksX6_choosesHouse_5 6 rfl rfl)
theorem dX6_choosesHouse_126 : decode cX6_choosesHouse 126 = .ok (.goto (-108), 3) := dk_167 255 148 (dk_at dksX6_choosesHouse_5 9 rfl rfl)
theorem dX6_choosesHouse_129 : decode cX6_choosesHouse 129 = .ok (.return_, 1) := dk_177 (dk_at dksX6_choosesHouse_5 12 rfl rfl)
abbrev cX6_metBy : ByteArray := prog_20_method_88_code
def yX6_metBy : MethodName := ⟨RX6, "metBy", "(III)I"⟩
def dkwX6_metBy_2 : List UInt8 := [120, 128, 54, 4, 132, 5, 1, 167, 255, 207, 21, 4, 172]
abbrev dktX6_metBy_2 : List UInt8 := dkwX6_metBy_2 ++ []
def dkwX6_metBy_1 : List UInt8 := [42, 27, 42, 5, 21, 5, 104, 4, 96, 182, 1, 144, 28, 182, 0, 149, 153, 0, 12, 21, 4, 4, 21, 5]
abbrev dktX6_metBy_1 : List UInt8 := dkwX6_metBy_1 ++ dktX6_metBy_2
def dkwX6_metBy_0 : List UInt8 := [3, 54, 4, 3, 54, 5, 21, 5, 29, 162, 0, 49, 42, 5, 21, 5, 104, 182, 1, 144, 27, 160, 0, 31]
abbrev dktX6_metBy_0 : List UInt8 := dkwX6_metBy_0 ++ dktX6_metBy_1
theorem dksX6_metBy_0 : cX6_metBy.data.toList.drop 0 = dktX6_metBy_0 := by decide +kernel
theorem dksX6_metBy_1 : cX6_metBy.data.toList.drop 24 = dktX6_metBy_1 := dk_seg dksX6_metBy_0 24 rfl rfl
theorem dksX6_metBy_2 : cX6_metBy.data.toList.drop 48 = dktX6_metBy_2 := dk_seg dksX6_metBy_1 24 rfl rfl
theorem dX6_metBy_0 : decode cX6_metBy 0 = .ok (.iconst 0, 1) := dk_3 (dk_at dksX6_metBy_0 0 rfl rfl)
theorem dX6_metBy_1 : decode cX6_metBy 1 = .ok (.istore 4, 2) := dk_54 4 (dk_at dksX6_metBy_0 1 rfl rfl)
theorem dX6_metBy_3 : decode cX6_metBy 3 = .ok (.iconst 0, 1) := dk_3 (dk_at dksX6_metBy_0 3 rfl rfl)
theorem dX6_metBy_4 : decode cX6_metBy 4 = .ok (.istore 5, 2) := dk_54 5 (dk_at dksX6_metBy_0 4 rfl rfl)
theorem dX6_metBy_6 : decode cX6_metBy 6 = .ok (.iload 5, 2) := dk_21 5 (dk_at dksX6_metBy_0 6 rfl rfl)
theorem dX6_metBy_8 : decode cX6_metBy 8 = .ok (.iload_n 3, 1) := dk_29 (dk_at dksX6_metBy_0 8 rfl rfl)
theorem dX6_metBy_9 : decode cX6_metBy 9 = .ok (.if_icmp .ge 49, 3) := dk_162 0 49 (dk_at dksX6_metBy_0 9 rfl rfl)
theorem dX6_metBy_12 : decode cX6_metBy 12 = .ok (.aload_n 0, 1) := dk_42 (dk_at dksX6_metBy_0 12 rfl rfl)
theorem dX6_metBy_13 : decode cX6_metBy 13 = .ok (.iconst 2, 1) := dk_5 (dk_at dksX6_metBy_0 13 rfl rfl)
theorem dX6_metBy_14 : decode cX6_metBy 14 = .ok (.iload 5, 2) := dk_21 5 (dk_at dksX6_metBy_0 14 rfl rfl)
theorem dX6_metBy_16 : decode cX6_metBy 16 = .ok (.imul, 1) := dk_104 (dk_at dksX6_metBy_0 16 rfl rfl)
theorem dX6_metBy_17 : decode cX6_metBy 17 = .ok (.invokevirtual 400, 3) := dk_182 1 144 (dk_at dksX6_metBy_0 17 rfl rfl)
theorem dX6_metBy_20 : decode cX6_metBy 20 = .ok (.iload_n 1, 1) := dk_27 (dk_at dksX6_metBy_0 20 rfl rfl)
theorem dX6_metBy_21 : decode cX6_metBy 21 = .ok (.if_icmp .ne 31, 3) := dk_160 0 31 (dk_at dksX6_metBy_0 21 rfl rfl)
theorem dX6_metBy_24 : decode cX6_metBy 24 = .ok (.aload_n 0, 1) := dk_42 (dk_at dksX6_metBy_1 0 rfl rfl)
theorem dX6_metBy_25 : decode cX6_metBy 25 = .ok (.iload_n 1, 1) := dk_27 (dk_at dksX6_metBy_1 1 rfl rfl)
theorem dX6_metBy_26 : decode cX6_metBy 26 = .ok (.aload_n 0, 1) := dk_42 (dk_at dksX6_metBy_1 2 rfl rfl)
theorem dX6_metBy_27 : decode cX6_metBy 27 = .ok (.iconst 2, 1) := dk_5 (dk_at dksX6_metBy_1 3 rfl rfl)
theorem dX6_metBy_28 : decode cX6_metBy 28 = .ok (.iload 5, 2) := dk_21 5 (dk_at dksX6_metBy_1 4 rfl rfl)
theorem dX6_metBy_30 : decode cX6_metBy 30 = .ok (.imul, 1) := dk_104 (dk_at dksX6_metBy_1 6 rfl rfl)
theorem dX6_metBy_31 : decode cX6_metBy 31 = .ok (.iconst 1, 1) := dk_4 (dk_at dksX6_metBy_1 7 rfl rfl)
theorem dX6_metBy_32 : decode cX6_metBy 32 = .ok (.iadd, 1) := dk_96 (dk_at dksX6_metBy_1 8 rfl rfl)
theorem dX6_metBy_33 : decode cX6_metBy 33 = .ok (.invokevirtual 400, 3) := dk_182 1 144 (dk_at dksX6_metBy_1 9 rfl rfl)
theorem dX6_metBy_36 : decode cX6_metBy 36 = .ok (.iload_n 2, 1) := dk_28 (dk_at dksX6_metBy_1 12 rfl rfl)
theorem dX6_metBy_37 : decode cX6_metBy 37 = .ok (.invokevirtual 149, 3) := dk_182 0 149 (dk_at dksX6_metBy_1 13 rfl rfl)
theorem dX6_metBy_40 : decode cX6_metBy 40 = .ok (.ifCond .eq 12, 3) := dk_153 0 12 (dk_at dksX6_metBy_1 16 rfl rfl)
theorem dX6_metBy_43 : decode cX6_metBy 43 = .ok (.iload 4, 2) := dk_21 4 (dk_at dksX6_metBy_1 19 rfl rfl)
theorem dX6_metBy_45 : decode cX6_metBy 45 = .ok (.iconst 1, 1) := dk_4 (dk_at dksX6_metBy_1 21 rfl rfl)
theorem dX6_metBy_46 : decode cX6_metBy 46 = .ok (.iload 5, 2) := dk_21 5 (dk_at dksX6_metBy_1 22 rfl rfl)
theorem dX6_metBy_48 : decode cX6_metBy 48 = .ok (.ishl, 1) := dk_120 (dk_at dksX6_metBy_2 0 rfl rfl)
theorem dX6_metBy_49 : decode cX6_metBy 49 = .ok (.ior, 1) := dk_128 (dk_at dksX6_metBy_2 1 rfl rfl)
theorem dX6_metBy_50 : decode cX6_metBy 50 = .ok (.istore 4, 2) := dk_54 4 (dk_at dksX6_metBy_2 2 rfl rfl)
theorem dX6_metBy_52 : decode cX6_metBy 52 = .ok (.iinc 5 1, 3) := dk_132 5 1 (dk_at dksX6_metBy_2 4 rfl rfl)
theorem dX6_metBy_55 : decode cX6_metBy 55 = .ok (.goto (-49), 3) := dk_167 255 207 (dk_at dksX6_metBy_2 7 rfl rfl)
theorem dX6_metBy_58 : decode cX6_metBy 58 = .ok (.iload 4, 2) := dk_21 4 (dk_at dksX6_metBy_2 10 rfl rfl)
theorem dX6_metBy_60 : decode cX6_metBy 60 = .ok (.ireturn, 1) := dk_172 (dk_at dksX6_metBy_2 12 rfl rfl)
abbrev cX6_second : ByteArray := prog_20_method_93_code
def yX6_second : MethodName := ⟨RX6, "second", "(I)I"⟩
def dkwX6_second_1 : List UInt8 := [167, 0, 4, 28, 172]
abbrev dktX6_second_1 : List UInt8 := dkwX6_second_1 ++ []
def dkwX6_second_0 : List UInt8 := [27, 3, 4, 184, 0, 134, 154, 0, 5, 2, 172, 42, 182, 1, 163, 61, 27, 154, 0, 10, 28, 184, 1, 64]
abbrev dktX6_second_0 : List UInt8 := dkwX6_second_0 ++ dktX6_second_1
theorem dksX6_second_0 : cX6_second.data.toList.drop 0 = dktX6_second_0 := by decide +kernel
theorem dksX6_second_1 : cX6_second.data.toList.drop 24 = dktX6_second_1 := dk_seg dksX6_second_0 24 rfl rfl
theorem dX6_second_0 : decode cX6_second 0 = .ok (.iload_n 1, 1) := dk_27 (dk_at dksX6_second_0 0 rfl rfl)
theorem dX6_second_1 : decode cX6_second 1 = .ok (.iconst 0, 1) := dk_3 (dk_at dksX6_second_0 1 rfl rfl)
theorem dX6_second_2 : decode cX6_second 2 = .ok (.iconst 1, 1) := dk_4 (dk_at dksX6_second_0 2 rfl rfl)
theorem dX6_second_3 : decode cX6_second 3 = .ok (.invokestatic 134, 3) := dk_184 0 134 (dk_at dksX6_second_0 3 rfl rfl)
theorem dX6_second_6 : decode cX6_second 6 = .ok (.ifCond .ne 5, 3) := dk_154 0 5 (dk_at dksX6_second_0 6 rfl rfl)
theorem dX6_second_9 : decode cX6_second 9 = .ok (.iconst (-1), 1) := dk_2 (dk_at dksX6_second_0 9 rfl rfl)
theorem dX6_second_10 : decode cX6_second 10 = .ok (.ireturn, 1) := dk_172 (dk_at dksX6_second_0 10 rfl rfl)
theorem dX6_second_11 : decode cX6_second 11 = .ok (.aload_n 0, 1) := dk_42 (dk_at dksX6_second_0 11 rfl rfl)
theorem dX6_second_12 : decode cX6_second 12 = .ok (.invokevirtual 419, 3) := dk_182 1 163 (dk_at dksX6_second_0 12 rfl rfl)
theorem dX6_second_15 : decode cX6_second 15 = .ok (.istore_n 2, 1) := dk_61 (dk_at dksX6_second_0 15 rfl rfl)
theorem dX6_second_16 : decode cX6_second 16 = .ok (.iload_n 1, 1) := dk_27 (dk_at dksX6_second_0 16 rfl rfl)
theorem dX6_second_17 : decode cX6_second 17 = .ok (.ifCond .ne 10, 3) := dk_154 0 10 (dk_at dksX6_second_0 17 rfl rfl)
theorem dX6_second_20 : decode cX6_second 20 = .ok (.iload_n 2, 1) := dk_28 (dk_at dksX6_second_0 20 rfl rfl)
theorem dX6_second_21 : decode cX6_second 21 = .ok (.invokestatic 320, 3) := dk_184 1 64 (dk_at dksX6_second_0 21 rfl rfl)
theorem dX6_second_24 : decode cX6_second 24 = .ok (.goto 4, 3) := dk_167 0 4 (dk_at dksX6_second_1 0 rfl rfl)
theorem dX6_second_27 : decode cX6_second 27 = .ok (.iload_n 2, 1) := dk_28 (dk_at dksX6_second_1 3 rfl rfl)
theorem dX6_second_28 : decode cX6_second 28 = .ok (.ireturn, 1) := dk_172 (dk_at dksX6_second_1 4 rfl rfl)
abbrev cX6_bestSet : ByteArray := prog_20_method_92_code
def yX6_bestSet : MethodName := ⟨RX6, "bestSet", "()I"⟩
def dkwX6_bestSet_6 : List UInt8 := [29, 61, 132, 3, 255, 167, 255, 215, 28, 172]
abbrev dktX6_bestSet_6 : List UInt8 := dkwX6_bestSet_6 ++ []
def dkwX6_bestSet_5 : List UInt8 := [154, 0, 26, 42, 180, 0, 114, 29, 46, 27, 160, 0, 16, 29, 184, 1, 64, 28, 184, 1, 64, 163, 0, 5]
abbrev dktX6_bestSet_5 : List UInt8 := dkwX6_bestSet_5 ++ dktX6_bestSet_6
def dkwX6_bestSet_4 : List UInt8 := [132, 3, 1, 167, 255, 221, 19, 1, 143, 62, 29, 155, 0, 43, 29, 42, 180, 0, 138, 2, 130, 126]
abbrev dktX6_bestSet_4 : List UInt8 := dkwX6_bestSet_4 ++ dktX6_bestSet_5
def dkwX6_bestSet_3 : List UInt8 := [29, 42, 180, 0, 114, 29, 29, 4, 100, 126, 46, 42, 180, 0, 110, 29, 184, 1, 160, 46, 128, 79]
abbrev dktX6_bestSet_3 : List UInt8 := dkwX6_bestSet_3 ++ dktX6_bestSet_4
def dkwX6_bestSet_2 : List UInt8 := [42, 180, 0, 138, 61, 42, 180, 0, 114, 3, 3, 79, 4, 62, 29, 18, 113, 162, 0, 35, 42, 180, 0, 114]
abbrev dktX6_bestSet_2 : List UInt8 := dkwX6_bestSet_2 ++ dktX6_bestSet_3
def dkwX6_bestSet_1 : List UInt8 := [28, 182, 1, 118, 167, 0, 4, 3, 79, 27, 42, 180, 0, 110, 28, 46, 128, 60, 132, 2, 1, 167, 255, 215]
abbrev dktX6_bestSet_1 : List UInt8 := dkwX6_bestSet_1 ++ dktX6_bestSet_2
def dkwX6_bestSet_0 : List UInt8 := [3, 60, 3, 61, 28, 16, 16, 162, 0, 41, 42, 180, 0, 110, 28, 42, 28, 182, 0, 159, 153, 0, 11, 42]
abbrev dktX6_bestSet_0 : List UInt8 := dkwX6_bestSet_0 ++ dktX6_bestSet_1
theorem dksX6_bestSet_0 : cX6_bestSet.data.toList.drop 0 = dktX6_bestSet_0 := by decide +kernel
theorem dksX6_bestSet_1 : cX6_bestSet.data.toList.drop 24 = dktX6_bestSet_1 := dk_seg dksX6_bestSet_0 24 rfl rfl
theorem dksX6_bestSet_2 : cX6_bestSet.data.toList.drop 48 = dktX6_bestSet_2 := dk_seg dksX6_bestSet_1 24 rfl rfl
theorem dksX6_bestSet_3 : cX6_bestSet.data.toList.drop 72 = dktX6_bestSet_3 := dk_seg dksX6_bestSet_2 24 rfl rfl
theorem dksX6_bestSet_4 : cX6_bestSet.data.toList.drop 94 = dktX6_bestSet_4 := dk_seg dksX6_bestSet_3 22 rfl rfl
theorem dksX6_bestSet_5 : cX6_bestSet.data.toList.drop 116 = dktX6_bestSet_5 := dk_seg dksX6_bestSet_4 22 rfl rfl
theorem dksX6_bestSet_6 : cX6_bestSet.data.toList.drop 140 = dktX6_bestSet_6 := dk_seg dksX6_bestSet_5 24 rfl rfl
theorem dX6_bestSet_0 : decode cX6_bestSet 0 = .ok (.iconst 0, 1) := dk_3 (dk_at dksX6_bestSet_0 0 rfl rfl)
theorem dX6_bestSet_1 : decode cX6_bestSet 1 = .ok (.istore_n 1, 1) := dk_60 (dk_at dksX6_bestSet_0 1 rfl rfl)
theorem dX6_bestSet_2 : decode cX6_bestSet 2 = .ok (.iconst 0, 1) := dk_3 (dk_at dksX6_bestSet_0 2 rfl rfl)
theorem dX6_bestSet_3 : decode cX6_bestSet 3 = .ok (.istore_n 2, 1) := dk_61 (dk_at dksX6_bestSet_0 3 rfl rfl)
theorem dX6_bestSet_4 : decode cX6_bestSet 4 = .ok (.iload_n 2, 1) := dk_28 (dk_at dksX6_bestSet_0 4 rfl rfl)
theorem dX6_bestSet_5 : decode cX6_bestSet 5 = .ok (.bipush 16, 2) := dk_16 16 (dk_at dksX6_bestSet_0 5 rfl rfl)
theorem dX6_bestSet_7 : decode cX6_bestSet 7 = .ok (.if_icmp .ge 41, 3) := dk_162 0 41 (dk_at dksX6_bestSet_0 7 rfl rfl)
theorem dX6_bestSet_10 : decode cX6_bestSet 10 = .ok (.aload_n 0, 1) := dk_42 (dk_at dksX6_bestSet_0 10 rfl rfl)
theorem dX6_bestSet_11 : decode cX6_bestSet 11 = .ok (.getfield 110, 3) := dk_180 0 110 (dk_at dksX6_bestSet_0 11 rfl rfl)
theorem dX6_bestSet_14 : decode cX6_bestSet 14 = .ok (.iload_n 2, 1) := dk_28 (dk_at dksX6_bestSet_0 14 rfl rfl)
theorem dX6_bestSet_15 : decode cX6_bestSet 15 = .ok (.aload_n 0, 1) := dk_42 (dk_at dksX6_bestSet_0 15 rfl rfl)
theorem dX6_bestSet_16 : decode cX6_bestSet 16 = .ok (.iload_n 2, 1) := dk_28 (dk_at dksX6_bestSet_0 16 rfl rfl)
theorem dX6_bestSet_17 : decode cX6_bestSet 17 = .ok (.invokevirtual 159, 3) := dk_182 0 159 (dk_at dksX6_bestSet_0 17 rfl rfl)
theorem dX6_bestSet_20 : decode cX6_bestSet 20 = .ok (.ifCond .eq 11, 3) := dk_153 0 11 (dk_at dksX6_bestSet_0 20 rfl rfl)
theorem dX6_bestSet_23 : decode cX6_bestSet 23 = .ok (.aload_n 0, 1) := dk_42 (dk_at dksX6_bestSet_0 23 rfl rfl)
theorem dX6_bestSet_24 : decode cX6_bestSet 24 = .ok (.iload_n 2, 1) := dk_28 (dk_at dksX6_bestSet_1 0 rfl rfl)
theorem dX6_bestSet_25 : decode cX6_bestSet 25 = .ok (.invokevirtual 374, 3) := dk_182 1 118 (dk_at dksX6_bestSet_1 1 rfl rfl)
theorem dX6_bestSet_28 : decode cX6_bestSet 28 = .ok (.goto 4, 3) := dk_167 0 4 (dk_at dksX6_bestSet_1 4 rfl rfl)
theorem dX6_bestSet_31 : decode cX6_bestSet 31 = .ok (.iconst 0, 1) := dk_3 (dk_at dksX6_bestSet_1 7 rfl rfl)
theorem dX6_bestSet_32 : decode cX6_bestSet 32 = .ok (.iastore, 1) := dk_79 (dk_at dksX6_bestSet_1 8 rfl rfl)
theorem dX6_bestSet_33 : decode cX6_bestSet 33 = .ok (.iload_n 1, 1) := dk_27 (dk_at dksX6_bestSet_1 9 rfl rfl)
theorem dX6_bestSet_34 : decode cX6_bestSet 34 = .ok (.aload_n 0, 1) := dk_42 (dk_at dksX6_bestSet_1 10 rfl rfl)
theorem dX6_bestSet_35 : decode cX6_bestSet 35 = .ok (.getfield 110, 3) := dk_180 0 110 (dk_at dksX6_bestSet_1 11 rfl rfl)
theorem dX6_bestSet_38 : decode cX6_bestSet 38 = .ok (.iload_n 2, 1) := dk_28 (dk_at dksX6_bestSet_1 14 rfl rfl)
theorem dX6_bestSet_39 : decode cX6_bestSet 39 = .ok (.iaload, 1) := dk_46 (dk_at dksX6_bestSet_1 15 rfl rfl)
theorem dX6_bestSet_40 : decode cX6_bestSet 40 = .ok (.ior, 1) := dk_128 (dk_at dksX6_bestSet_1 16 rfl rfl)
theorem dX6_bestSet_41 : decode cX6_bestSet 41 = .ok (.istore_n 1, 1) := dk_60 (dk_at dksX6_bestSet_1 17 rfl rfl)
theorem dX6_bestSet_42 : decode cX6_bestSet 42 = .ok (.iinc 2 1, 3) := dk_132 2 1 (dk_at dksX6_bestSet_1 18 rfl rfl)
theorem dX6_bestSet_45 : decode cX6_bestSet 45 = .ok (.goto (-41), 3) := dk_167 255 215 (dk_at dksX6_bestSet_1 21 rfl rfl)
theorem dX6_bestSet_48 : decode cX6_bestSet 48 = .ok (.aload_n 0, 1) := dk_42 (dk_at dksX6_bestSet_2 0 rfl rfl)
theorem dX6_bestSet_49 : decode cX6_bestSet 49 = .ok (.getfield 138, 3) := dk_180 0 138 (dk_at dksX6_bestSet_2 1 rfl rfl)
theorem dX6_bestSet_52 : decode cX6_bestSet 52 = .ok (.istore_n 2, 1) := dk_61 (dk_at dksX6_bestSet_2 4 rfl rfl)
theorem dX6_bestSet_53 : decode cX6_bestSet 53 = .ok (.aload_n 0, 1) := dk_42 (dk_at dksX6_bestSet_2 5 rfl rfl)
theorem dX6_bestSet_54 : decode cX6_bestSet 54 = .ok (.getfield 114, 3) := dk_180 0 114 (dk_at dksX6_bestSet_2 6 rfl rfl)
theorem dX6_bestSet_57 : decode cX6_bestSet 57 = .ok (.iconst 0, 1) := dk_3 (dk_at dksX6_bestSet_2 9 rfl rfl)
theorem dX6_bestSet_58 : decode cX6_bestSet 58 = .ok (.iconst 0, 1) := dk_3 (dk_at dksX6_bestSet_2 10 rfl rfl)
theorem dX6_bestSet_59 : decode cX6_bestSet 59 = .ok (.iastore, 1) := dk_79 (dk_at dksX6_bestSet_2 11 rfl rfl)
theorem dX6_bestSet_60 : decode cX6_bestSet 60 = .ok (.iconst 1, 1) := dk_4 (dk_at dksX6_bestSet_2 12 rfl rfl)
theorem dX6_bestSet_61 : decode cX6_bestSet 61 = .ok (.istore_n 3, 1) := dk_62 (dk_at dksX6_bestSet_2 13 rfl rfl)
theorem dX6_bestSet_62 : decode cX6_bestSet 62 = .ok (.iload_n 3, 1) := dk_29 (dk_at dksX6_bestSet_2 14 rfl rfl)
theorem dX6_bestSet_63 : decode cX6_bestSet 63 = .ok (.ldc 113, 2) := dk_18 113 (dk_at dksX6_bestSet_2 15 rfl rfl)
theorem dX6_bestSet_65 : decode cX6_bestSet 65 = .ok (.if_icmp .ge 35, 3) := dk_162 0 35 (dk_at dksX6_bestSet_2 17 rfl rfl)
theorem dX6_bestSet_68 : decode cX6_bestSet 68 = .ok (.aload_n 0, 1) := dk_42 (dk_at dksX6_bestSet_2 20 rfl rfl)
theorem dX6_bestSet_69 : decode cX6_bestSet 69 = .ok (.getfield 114, 3) := dk_180 0 114 (dk_at dksX6_bestSet_2 21 rfl rfl)
theorem dX6_bestSet_72 : decode cX6_bestSet 72 = .ok (.iload_n 3, 1) := dk_29 (dk_at dksX6_bestSet_3 0 rfl rfl)
theorem dX6_bestSet_73 : decode cX6_bestSet 73 = .ok (.aload_n 0, 1) := dk_42 (dk_at dksX6_bestSet_3 1 rfl rfl)
theorem dX6_bestSet_74 : decode cX6_bestSet 74 = .ok (.getfield 114, 3) := dk_180 0 114 (dk_at dksX6_bestSet_3 2 rfl rfl)
theorem dX6_bestSet_77 : decode cX6_bestSet 77 = .ok (.iload_n 3, 1) := dk_29 (dk_at dksX6_bestSet_3 5 rfl rfl)
theorem dX6_bestSet_78 : decode cX6_bestSet 78 = .ok (.iload_n 3, 1) := dk_29 (dk_at dksX6_bestSet_3 6 rfl rfl)
theorem dX6_bestSet_79 : decode cX6_bestSet 79 = .ok (.iconst 1, 1) := dk_4 (dk_at dksX6_bestSet_3 7 rfl rfl)
theorem dX6_bestSet_80 : decode cX6_bestSet 80 = .ok (.isub, 1) := dk_100 (dk_at dksX6_bestSet_3 8 rfl rfl)
theorem dX6_bestSet_81 : decode cX6_bestSet 81 = .ok (.iand, 1) := dk_126 (dk_at dksX6_bestSet_3 9 rfl rfl)
theorem dX6_bestSet_82 : decode cX6_bestSet 82 = .ok (.iaload, 1) := dk_46 (dk_at dksX6_bestSet_3 10 rfl rfl)
theorem dX6_bestSet_83 : decode cX6_bestSet 83 = .ok (.aload_n 0, 1) := dk_42 (dk_at dksX6_bestSet_3 11 rfl rfl)
theorem dX6_bestSet_84 : decode cX6_bestSet 84 = .ok (.getfield 110, 3) := dk_180 0 110 (dk_at dksX6_bestSet_3 12 rfl rfl)
theorem dX6_bestSet_87 : decode cX6_bestSet 87 = .ok (.iload_n 3, 1) := dk_29 (dk_at dksX6_bestSet_3 15 rfl rfl)
theorem dX6_bestSet_88 : decode cX6_bestSet 88 = .ok (.invokestatic 416, 3) := dk_184 1 160 (dk_at dksX6_bestSet_3 16 rfl rfl)
theorem dX6_bestSet_91 : decode cX6_bestSet 91 = .ok (.iaload, 1) := dk_46 (dk_at dksX6_bestSet_3 19 rfl rfl)
theorem dX6_bestSet_92 : decode cX6_bestSet 92 = .ok (.ior, 1) := dk_128 (dk_at dksX6_bestSet_3 20 rfl rfl)
theorem dX6_bestSet_93 : decode cX6_bestSet 93 = .ok (.iastore, 1) := dk_79 (dk_at dksX6_bestSet_3 21 rfl rfl)
theorem dX6_bestSet_94 : decode cX6_bestSet 94 = .ok (.iinc 3 1, 3) := dk_132 3 1 (dk_at dksX6_bestSet_4 0 rfl rfl)
theorem dX6_bestSet_97 : decode cX6_bestSet 97 = .ok (.goto (-35), 3) := dk_167 255 221 (dk_at dksX6_bestSet_4 3 rfl rfl)
theorem dX6_bestSet_100 : decode cX6_bestSet 100 = .ok (.ldc_w 399, 3) := dk_19 1 143 (dk_at dksX6_bestSet_4 6 rfl rfl)
theorem dX6_bestSet_103 : decode cX6_bestSet 103 = .ok (.istore_n 3, 1) := dk_62 (dk_at dksX6_bestSet_4 9 rfl rfl)
theorem dX6_bestSet_104 : decode cX6_bestSet 104 = .ok (.iload_n 3, 1) := dk_29 (dk_at dksX6_bestSet_4 10 rfl rfl)
theorem dX6_bestSet_105 : decode cX6_bestSet 105 = .ok (.ifCond .lt 43, 3) := dk_155 0 43 (dk_at dksX6_bestSet_4 11 rfl rfl)
theorem dX6_bestSet_108 : decode cX6_bestSet 108 = .ok (.iload_n 3, 1) := dk_29 (dk_at dksX6_bestSet_4 14 rfl rfl)
theorem dX6_bestSet_109 : decode cX6_bestSet 109 = .ok (.aload_n 0, 1) := dk_42 (dk_at dksX6_bestSet_4 15 rfl rfl)
theorem dX6_bestSet_110 : decode cX6_bestSet 110 = .ok (.getfield 138, 3) := dk_180 0 138 (dk_at dksX6_bestSet_4 16 rfl rfl)
theorem dX6_bestSet_113 : decode cX6_bestSet 113 = .ok (.iconst (-1), 1) := dk_2 (dk_at dksX6_bestSet_4 19 rfl rfl)
theorem dX6_bestSet_114 : decode cX6_bestSet 114 = .ok (.ixor, 1) := dk_130 (dk_at dksX6_bestSet_4 20 rfl rfl)
theorem dX6_bestSet_115 : decode cX6_bestSet 115 = .ok (.iand, 1) := dk_126 (dk_at dksX6_bestSet_4 21 rfl rfl)
theorem dX6_bestSet_116 : decode cX6_bestSet 116 = .ok (.ifCond .ne 26, 3) := dk_154 0 26 (dk_at dksX6_bestSet_5 0 rfl rfl)
theorem dX6_bestSet_119 : decode cX6_bestSet 119 = .ok (.aload_n 0, 1) := dk_42 (dk_at dksX6_bestSet_5 3 rfl rfl)
theorem dX6_bestSet_120 : decode cX6_bestSet 120 = .ok (.getfield 114, 3) := dk_180 0 114 (dk_at dksX6_bestSet_5 4 rfl rfl)
theorem dX6_bestSet_123 : decode cX6_bestSet 123 = .ok (.iload_n 3, 1) := dk_29 (dk_at dksX6_bestSet_5 7 rfl rfl)
theorem dX6_bestSet_124 : decode cX6_bestSet 124 = .ok (.iaload, 1) := dk_46 (dk_at dksX6_bestSet_5 8 rfl rfl)
theorem dX6_bestSet_125 : decode cX6_bestSet 125 = .ok (.iload_n 1, 1) := dk_27 (dk_at dksX6_bestSet_5 9 rfl rfl)
theorem dX6_bestSet_126 : decode cX6_bestSet 126 = .ok (.if_icmp .ne 16, 3) := dk_160 0 16 (dk_at dksX6_bestSet_5 10 rfl rfl)
theorem dX6_bestSet_129 : decode cX6_bestSet 129 = .ok (.iload_n 3, 1) := dk_29 (dk_at dksX6_bestSet_5 13 rfl rfl)
theorem dX6_bestSet_130 : decode cX6_bestSet 130 = .ok (.invokestatic 320, 3) := dk_184 1 64 (dk_at dksX6_bestSet_5 14 rfl rfl)
theorem dX6_bestSet_133 : decode cX6_bestSet 133 = .ok (.iload_n 2, 1) := dk_28 (dk_at dksX6_bestSet_5 17 rfl rfl)
theorem dX6_bestSet_134 : decode cX6_bestSet 134 = .ok (.invokestatic 320, 3) := dk_184 1 64 (dk_at dksX6_bestSet_5 18 rfl rfl)
theorem dX6_bestSet_137 : decode cX6_bestSet 137 = .ok (.if_icmp .gt 5, 3) := dk_163 0 5 (dk_at dksX6_bestSet_5 21 rfl rfl)
theorem dX6_bestSet_140 : decode cX6_bestSet 140 = .ok (.iload_n 3, 1) := dk_29 (dk_at dksX6_bestSet_6 0 rfl rfl)
theorem dX6_bestSet_141 : decode cX6_bestSet 141 = .ok (.istore_n 2, 1) := dk_61 (dk_at dksX6_bestSet_6 1 rfl rfl)
theorem dX6_bestSet_142 : decode cX6_bestSet 142 = .ok (.iinc 3 (-1), 3) := dk_132 3 255 (dk_at dksX6_bestSet_6 2 rfl rfl)
theorem dX6_bestSet_145 : decode cX6_bestSet 145 = .ok (.goto (-41), 3) := dk_167 255 215 (dk_at dksX6_bestSet_6 5 rfl rfl)
theorem dX6_bestSet_148 : decode cX6_bestSet 148 = .ok (.iload_n 2, 1) := dk_28 (dk_at dksX6_bestSet_6 8 rfl rfl)
theorem dX6_bestSet_149 : decode cX6_bestSet 149 = .ok (.ireturn, 1) := dk_172 (dk_at dksX6_bestSet_6 9 rfl rfl)
abbrev cX6_lowest : ByteArray := prog_20_method_8_code
def yX6_lowest : MethodName := ⟨RX6, "lowest", "(I)I"⟩
def dkwX6_lowest_0 : List UInt8 := [3, 60, 26, 27, 184, 0, 130, 154, 0, 10, 27, 4, 96, 60, 167, 255, 244, 27, 172]
abbrev dktX6_lowest_0 : List UInt8 := dkwX6_lowest_0 ++ []
theorem dksX6_lowest_0 : cX6_lowest.data.toList.drop 0 = dktX6_lowest_0 := by decide +kernel
theorem dX6_lowest_0 : decode cX6_lowest 0 = .ok (.iconst 0, 1) := dk_3 (dk_at dksX6_lowest_0 0 rfl rfl)
theorem dX6_lowest_1 : decode cX6_lowest 1 = .ok (.istore_n 1, 1) := dk_60 (dk_at dksX6_lowest_0 1 rfl rfl)
theorem dX6_lowest_2 : decode cX6_lowest 2 = .ok (.iload_n 0, 1) := dk_26 (dk_at dksX6_lowest_0 2 rfl rfl)
theorem dX6_lowest_3 : decode cX6_lowest 3 = .ok (.iload_n 1, 1) := dk_27 (dk_at dksX6_lowest_0 3 rfl rfl)
theorem dX6_lowest_4 : decode cX6_lowest 4 = .ok (.invokestatic 130, 3) := dk_184 0 130 (dk_at dksX6_lowest_0 4 rfl rfl)
theorem dX6_lowest_7 : decode cX6_lowest 7 = .ok (.ifCond .ne 10, 3) := dk_154 0 10 (dk_at dksX6_lowest_0 7 rfl rfl)
theorem dX6_lowest_10 : decode cX6_lowest 10 = .ok (.iload_n 1, 1) := dk_27 (dk_at dksX6_lowest_0 10 rfl rfl)
theorem dX6_lowest_11 : decode cX6_lowest 11 = .ok (.iconst 1, 1) := dk_4 (dk_at dksX6_lowest_0 11 rfl rfl)
theorem dX6_lowest_12 : decode cX6_lowest 12 = .ok (.iadd, 1) := dk_96 (dk_at dksX6_lowest_0 12 rfl rfl)
theorem dX6_lowest_13 : decode cX6_lowest 13 = .ok (.istore_n 1, 1) := dk_60 (dk_at dksX6_lowest_0 13 rfl rfl)
theorem dX6_lowest_14 : decode cX6_lowest 14 = .ok (.goto (-12), 3) := dk_167 255 244 (dk_at dksX6_lowest_0 14 rfl rfl)
theorem dX6_lowest_17 : decode cX6_lowest 17 = .ok (.iload_n 1, 1) := dk_27 (dk_at dksX6_lowest_0 17 rfl rfl)
theorem dX6_lowest_18 : decode cX6_lowest 18 = .ok (.ireturn, 1) := dk_172 (dk_at dksX6_lowest_0 18 rfl rfl)
abbrev cX6_crack : ByteArray := prog_20_method_95_code
def yX6_crack : MethodName := ⟨RX6, "crack", "(II)I"⟩
def dkwX6_crack_6 : List UInt8 := [120, 128, 54, 4, 132, 5, 1, 167, 255, 194, 28, 154, 0, 7, 29, 167, 0, 5, 21, 4, 172]
abbrev dktX6_crack_6 : List UInt8 := dkwX6_crack_6 ++ []
def dkwX6_crack_5 : List UInt8 := [162, 0, 28, 42, 180, 0, 19, 21, 5, 46, 2, 159, 0, 17, 21, 4, 4, 42, 180, 0, 19, 21, 5, 46]
abbrev dktX6_crack_5 : List UInt8 := dkwX6_crack_5 ++ dktX6_crack_6
def dkwX6_crack_4 : List UInt8 := [21, 5, 182, 1, 166, 154, 0, 6, 167, 0, 42, 29, 4, 21, 5, 120, 128, 62, 21, 5, 16, 12]
abbrev dktX6_crack_4 : List UInt8 := dkwX6_crack_4 ++ dktX6_crack_5
def dkwX6_crack_3 : List UInt8 := [132, 3, 1, 167, 255, 220, 3, 62, 3, 54, 4, 3, 54, 5, 21, 5, 16, 12, 163, 0, 61, 42, 27]
abbrev dktX6_crack_3 : List UInt8 := dkwX6_crack_3 ++ dktX6_crack_4
def dkwX6_crack_2 : List UInt8 := [182, 1, 144, 16, 12, 162, 0, 16, 42, 5, 29, 104, 4, 96, 182, 1, 144, 4, 164, 0, 6, 16, 253, 172]
abbrev dktX6_crack_2 : List UInt8 := dkwX6_crack_2 ++ dktX6_crack_3
def dkwX6_crack_1 : List UInt8 := [180, 0, 162, 164, 0, 5, 2, 172, 42, 3, 181, 0, 162, 3, 62, 29, 27, 162, 0, 37, 42, 5, 29, 104]
abbrev dktX6_crack_1 : List UInt8 := dkwX6_crack_1 ++ dktX6_crack_2
def dkwX6_crack_0 : List UInt8 := [27, 4, 16, 12, 184, 0, 134, 153, 0, 22, 28, 3, 4, 184, 0, 134, 153, 0, 13, 5, 27, 104, 42]
abbrev dktX6_crack_0 : List UInt8 := dkwX6_crack_0 ++ dktX6_crack_1
theorem dksX6_crack_0 : cX6_crack.data.toList.drop 0 = dktX6_crack_0 := by decide +kernel
theorem dksX6_crack_1 : cX6_crack.data.toList.drop 23 = dktX6_crack_1 := dk_seg dksX6_crack_0 23 rfl rfl
theorem dksX6_crack_2 : cX6_crack.data.toList.drop 47 = dktX6_crack_2 := dk_seg dksX6_crack_1 24 rfl rfl
theorem dksX6_crack_3 : cX6_crack.data.toList.drop 71 = dktX6_crack_3 := dk_seg dksX6_crack_2 24 rfl rfl
theorem dksX6_crack_4 : cX6_crack.data.toList.drop 94 = dktX6_crack_4 := dk_seg dksX6_crack_3 23 rfl rfl
theorem dksX6_crack_5 : cX6_crack.data.toList.drop 116 = dktX6_crack_5 := dk_seg dksX6_crack_4 22 rfl rfl
theorem dksX6_crack_6 : cX6_crack.data.toList.drop 140 = dktX6_crack_6 := dk_seg dksX6_crack_5 24 rfl rfl
theorem dX6_crack_0 : decode cX6_crack 0 = .ok (.iload_n 1, 1) := dk_27 (dk_at dksX6_crack_0 0 rfl rfl)
theorem dX6_crack_1 : decode cX6_crack 1 = .ok (.iconst 1, 1) := dk_4 (dk_at dksX6_crack_0 1 rfl rfl)
theorem dX6_crack_2 : decode cX6_crack 2 = .ok (.bipush 12, 2) := dk_16 12 (dk_at dksX6_crack_0 2 rfl rfl)
theorem dX6_crack_4 : decode cX6_crack 4 = .ok (.invokestatic 134, 3) := dk_184 0 134 (dk_at dksX6_crack_0 4 rfl rfl)
theorem dX6_crack_7 : decode cX6_crack 7 = .ok (.ifCond .eq 22, 3) := dk_153 0 22 (dk_at dksX6_crack_0 7 rfl rfl)
theorem dX6_crack_10 : decode cX6_crack 10 = .ok (.iload_n 2, 1) := dk_28 (dk_at dksX6_crack_0 10 rfl rfl)
theorem dX6_crack_11 : decode cX6_crack 11 = .ok (.iconst 0, 1) := dk_3 (dk_at dksX6_crack_0 11 rfl rfl)
theorem dX6_crack_12 : decode cX6_crack 12 = .ok (.iconst 1, 1) := dk_4 (dk_at dksX6_crack_0 12 rfl rfl)
theorem dX6_crack_13 : decode cX6_crack 13 = .ok (.invokestatic 134, 3) := dk_184 0 134 (dk_at dksX6_crack_0 13 rfl rfl)
theorem dX6_crack_16 : decode cX6_crack 16 = .ok (.ifCond .eq 13, 3) := dk_153 0 13 (dk_at dksX6_crack_0 16 rfl rfl)
theorem dX6_crack_19 : decode cX6_crack 19 = .ok (.iconst 2, 1) := dk_5 (dk_at dksX6_crack_0 19 rfl rfl)
theorem dX6_crack_20 : decode cX6_crack 20 = .ok (.iload_n 1, 1) := dk_27 (dk_at dksX6_crack_0 20 rfl rfl)
theorem dX6_crack_21 : decode cX6_crack 21 = .ok (.imul, 1) := dk_104 (dk_at dksX6_crack_0 21 rfl rfl)
theorem dX6_crack_22 : decode cX6_crack 22 = .ok (.aload_n 0, 1) := dk_42 (dk_at dksX6_crack_0 22 rfl rfl)
theorem dX6_crack_23 : decode cX6_crack 23 = .ok (.getfield 162, 3) := dk_180 0 162 (dk_at dksX6_crack_1 0 rfl rfl)
theorem dX6_crack_26 : decode cX6_crack 26 = .ok (.if_icmp .le 5, 3) := dk_164 0 5 (dk_at dksX6_crack_1 3 rfl rfl)
theorem dX6_crack_29 : decode cX6_crack 29 = .ok (.iconst (-1), 1) := dk_2 (dk_at dksX6_crack_1 6 rfl rfl)
theorem dX6_crack_30 : decode cX6_crack 30 = .ok (.ireturn, 1) := dk_172 (dk_at dksX6_crack_1 7 rfl rfl)
theorem dX6_crack_31 : decode cX6_crack 31 = .ok (.aload_n 0, 1) := dk_42 (dk_at dksX6_crack_1 8 rfl rfl)
theorem dX6_crack_32 : decode cX6_crack 32 = .ok (.iconst 0, 1) := dk_3 (dk_at dksX6_crack_1 9 rfl rfl)
theorem dX6_crack_33 : decode cX6_crack 33 = .ok (.putfield 162, 3) := dk_181 0 162 (dk_at dksX6_crack_1 10 rfl rfl)
theorem dX6_crack_36 : decode cX6_crack 36 = .ok (.iconst 0, 1) := dk_3 (dk_at dksX6_crack_1 13 rfl rfl)
theorem dX6_crack_37 : decode cX6_crack 37 = .ok (.istore_n 3, 1) := dk_62 (dk_at dksX6_crack_1 14 rfl rfl)
theorem dX6_crack_38 : decode cX6_crack 38 = .ok (.iload_n 3, 1) := dk_29 (dk_at dksX6_crack_1 15 rfl rfl)
theorem dX6_crack_39 : decode cX6_crack 39 = .ok (.iload_n 1, 1) := dk_27 (dk_at dksX6_crack_1 16 rfl rfl)
theorem dX6_crack_40 : decode cX6_crack 40 = .ok (.if_icmp .ge 37, 3) := dk_162 0 37 (dk_at dksX6_crack_1 17 rfl rfl)
theorem dX6_crack_43 : decode cX6_crack 43 = .ok (.aload_n 0, 1) := dk_42 (dk_at dksX6_crack_1 20 rfl rfl)
theorem dX6_crack_44 : decode cX6_crack 44 = .ok (.iconst 2, 1) := dk_5 (dk_at dksX6_crack_1 21 rfl rfl)
theorem dX6_crack_45 : decode cX6_crack 45 = .ok (.iload_n 3, 1) := dk_29 (dk_at dksX6_crack_1 22 rfl rfl)
theorem dX6_crack_46 : decode cX6_crack 46 = .ok (.imul, 1) := dk_104 (dk_at dksX6_crack_1 23 rfl rfl)
theorem dX6_crack_47 : decode cX6_crack 47 = .ok (.invokevirtual 400, 3) := dk_182 1 144 (dk_at dksX6_crack_2 0 rfl rfl)
theorem dX6_crack_50 : decode cX6_crack 50 = .ok (.bipush 12, 2) := dk_16 12 (dk_at dksX6_crack_2 3 rfl rfl)
theorem dX6_crack_52 : decode cX6_crack 52 = .ok (.if_icmp .ge 16, 3) := dk_162 0 16 (dk_at dksX6_crack_2 5 rfl rfl)
theorem dX6_crack_55 : decode cX6_crack 55 = .ok (.aload_n 0, 1) := dk_42 (dk_at dksX6_crack_2 8 rfl rfl)
theorem dX6_crack_56 : decode cX6_crack 56 = .ok (.iconst 2, 1) := dk_5 (dk_at dksX6_crack_2 9 rfl rfl)
theorem dX6_crack_57 : decode cX6_crack 57 = .ok (.iload_n 3, 1) := dk_29 (dk_at dksX6_crack_2 10 rfl rfl)
theorem dX6_crack_58 : decode cX6_crack 58 = .ok (.imul, 1) := dk_104 (dk_at dksX6_crack_2 11 rfl rfl)
theorem dX6_crack_59 : decode cX6_crack 59 = .ok (.iconst 1, 1) := dk_4 (dk_at dksX6_crack_2 12 rfl rfl)
theorem dX6_crack_60 : decode cX6_crack 60 = .ok (.iadd, 1) := dk_96 (dk_at dksX6_crack_2 13 rfl rfl)
theorem dX6_crack_61 : decode cX6_crack 61 = .ok (.invokevirtual 400, 3) := dk_182 1 144 (dk_at dksX6_crack_2 14 rfl rfl)
theorem dX6_crack_64 : decode cX6_crack 64 = .ok (.iconst 1, 1) := dk_4 (dk_at dksX6_crack_2 17 rfl rfl)
theorem dX6_crack_65 : decode cX6_crack 65 = .ok (.if_icmp .le 6, 3) := dk_164 0 6 (dk_at dksX6_crack_2 18 rfl rfl)
theorem dX6_crack_68 : decode cX6_crack 68 = .ok (.bipush (-3), 2) := dk_16 253 (dk_at dksX6_crack_2 21 rfl rfl)
theorem dX6_crack_70 : decode cX6_crack 70 = .ok (.ireturn, 1) := dk_172 (dk_at dksX6_crack_2 23 rfl rfl)
theorem dX6_crack_71 : decode cX6_crack 71 = .ok (.iinc 3 1, 3) := dk_132 3 1 (dk_at dksX6_crack_3 0 rfl rfl)
theorem dX6_crack_74 : decode cX6_crack 74 = .ok (.goto (-36), 3) := dk_167 255 220 (dk_at dksX6_crack_3 3 rfl rfl)
theorem dX6_crack_77 : decode cX6_crack 77 = .ok (.iconst 0, 1) := dk_3 (dk_at dksX6_crack_3 6 rfl rfl)
theorem dX6_crack_78 : decode cX6_crack 78 = .ok (.istore_n 3, 1) := dk_62 (dk_at dksX6_crack_3 7 rfl rfl)
theorem dX6_crack_79 : decode cX6_crack 79 = .ok (.iconst 0, 1) := dk_3 (dk_at dksX6_crack_3 8 rfl rfl)
theorem dX6_crack_80 : decode cX6_crack 80 = .ok (.istore 4, 2) := dk_54 4 (dk_at dksX6_crack_3 9 rfl rfl)
theorem dX6_crack_82 : decode cX6_crack 82 = .ok (.iconst 0, 1) := dk_3 (dk_at dksX6_crack_3 11 rfl rfl)
theorem dX6_crack_83 : decode cX6_crack 83 = .ok (.istore 5, 2) := dk_54 5 (dk_at dksX6_crack_3 12 rfl rfl)
theorem dX6_crack_85 : decode cX6_crack 85 = .ok (.iload 5, 2) := dk_21 5 (dk_at dksX6_crack_3 14 rfl rfl)
theorem dX6_crack_87 : decode cX6_crack 87 = .ok (.bipush 12, 2) := dk_16 12 (dk_at dksX6_crack_3 16 rfl rfl)
theorem dX6_crack_89 : decode cX6_crack 89 = .ok (.if_icmp .gt 61, 3) := dk_163 0 61 (dk_at dksX6_crack_3 18 rfl rfl)
theorem dX6_crack_92 : decode cX6_crack 92 = .ok (.aload_n 0, 1) := dk_42 (dk_at dksX6_crack_3 21 rfl rfl)
theorem dX6_crack_93 : decode cX6_crack 93 = .ok (.iload_n 1, 1) := dk_27 (dk_at dksX6_crack_3 22 rfl rfl)
theorem dX6_crack_94 : decode cX6_crack 94 = .ok (.iload 5, 2) := dk_21 5 (dk_at dksX6_crack_4 0 rfl rfl)
theorem dX6_crack_96 : decode cX6_crack 96 = .ok (.invokevirtual 422, 3) := dk_182 1 166 (dk_at dksX6_crack_4 2 rfl rfl)
theorem dX6_crack_99 : decode cX6_crack 99 = .ok (.ifCond .ne 6, 3) := dk_154 0 6 (dk_at dksX6_crack_4 5 rfl rfl)
theorem dX6_crack_102 : decode cX6_crack 102 = .ok (.goto 42, 3) := dk_167 0 42 (dk_at dksX6_crack_4 8 rfl rfl)
theorem dX6_crack_105 : decode cX6_crack 105 = .ok (.iload_n 3, 1) := dk_29 (dk_at dksX6_crack_4 11 rfl rfl)
theorem dX6_crack_106 : decode cX6_crack 106 = .ok (.iconst 1, 1) := dk_4 (dk_at dksX6_crack_4 12 rfl rfl)
theorem dX6_crack_107 : decode cX6_crack 107 = .ok (.iload 5, 2) := dk_21 5 (dk_at dksX6_crack_4 13 rfl rfl)
theorem dX6_crack_109 : decode cX6_crack 109 = .ok (.ishl, 1) := dk_120 (dk_at dksX6_crack_4 15 rfl rfl)
theorem dX6_crack_110 : decode cX6_crack 110 = .ok (.ior, 1) := dk_128 (dk_at dksX6_crack_4 16 rfl rfl)
theorem dX6_crack_111 : decode cX6_crack 111 = .ok (.istore_n 3, 1) := dk_62 (dk_at dksX6_crack_4 17 rfl rfl)
theorem dX6_crack_112 : decode cX6_crack 112 = .ok (.iload 5, 2) := dk_21 5 (dk_at dksX6_crack_4 18 rfl rfl)
theorem dX6_crack_114 : decode cX6_crack 114 = .ok (.bipush 12, 2) := dk_16 12 (dk_at dksX6_crack_4 20 rfl rfl)
theorem dX6_crack_116 : decode cX6_crack 116 = .ok (.if_icmp .ge 28, 3) := dk_162 0 28 (dk_at dksX6_crack_5 0 rfl rfl)
theorem dX6_crack_119 : decode cX6_crack 119 = .ok (.aload_n 0, 1) := dk_42 (dk_at dksX6_crack_5 3 rfl rfl)
theorem dX6_crack_120 : decode cX6_crack 120 = .ok (.getfield 19, 3) := dk_180 0 19 (dk_at dksX6_crack_5 4 rfl rfl)
theorem dX6_crack_123 : decode cX6_crack 123 = .ok (.iload 5, 2) := dk_21 5 (dk_at dksX6_crack_5 7 rfl rfl)
theorem dX6_crack_125 : decode cX6_crack 125 = .ok (.iaload, 1) := dk_46 (dk_at dksX6_crack_5 9 rfl rfl)
theorem dX6_crack_126 : decode cX6_crack 126 = .ok (.iconst (-1), 1) := dk_2 (dk_at dksX6_crack_5 10 rfl rfl)
theorem dX6_crack_127 : decode cX6_crack 127 = .ok (.if_icmp .eq 17, 3) := dk_159 0 17 (dk_at dksX6_crack_5 11 rfl rfl)
theorem dX6_crack_130 : decode cX6_crack 130 = .ok (.iload 4, 2) := dk_21 4 (dk_at dksX6_crack_5 14 rfl rfl)
theorem dX6_crack_132 : decode cX6_crack 132 = .ok (.iconst 1, 1) := dk_4 (dk_at dksX6_crack_5 16 rfl rfl)
theorem dX6_crack_133 : decode cX6_crack 133 = .ok (.aload_n 0, 1) := dk_42 (dk_at dksX6_crack_5 17 rfl rfl)
theorem dX6_crack_134 : decode cX6_crack 134 = .ok (.getfield 19, 3) := dk_180 0 19 (dk_at dksX6_crack_5 18 rfl rfl)
theorem dX6_crack_137 : decode cX6_crack 137 = .ok (.iload 5, 2) := dk_21 5 (dk_at dksX6_crack_5 21 rfl rfl)
theorem dX6_crack_139 : decode cX6_crack 139 = .ok (.iaload, 1) := dk_46 (dk_at dksX6_crack_5 23 rfl rfl)
theorem dX6_crack_140 : decode cX6_crack 140 = .ok (.ishl, 1) := dk_120 (dk_at dksX6_crack_6 0 rfl rfl)
theorem dX6_crack_141 : decode cX6_crack 141 = .ok (.ior, 1) := dk_128 (dk_at dksX6_crack_6 1 rfl rfl)
theorem dX6_crack_142 : decode cX6_crack 142 = .ok (.istore 4, 2) := dk_54 4 (dk_at dksX6_crack_6 2 rfl rfl)
theorem dX6_crack_144 : decode cX6_crack 144 = .ok (.iinc 5 1, 3) := dk_132 5 1 (dk_at dksX6_crack_6 4 rfl rfl)
theorem dX6_crack_147 : decode cX6_crack 147 = .ok (.goto (-62), 3) := dk_167 255 194 (dk_at dksX6_crack_6 7 rfl rfl)
theorem dX6_crack_150 : decode cX6_crack 150 = .ok (.iload_n 2, 1) := dk_28 (dk_at dksX6_crack_6 10 rfl rfl)
theorem dX6_crack_151 : decode cX6_crack 151 = .ok (.ifCond .ne 7, 3) := dk_154 0 7 (dk_at dksX6_crack_6 11 rfl rfl)
theorem dX6_crack_154 : decode cX6_crack 154 = .ok (.iload_n 3, 1) := dk_29 (dk_at dksX6_crack_6 14 rfl rfl)
theorem dX6_crack_155 : decode cX6_crack 155 = .ok (.goto 5, 3) := dk_167 0 5 (dk_at dksX6_crack_6 15 rfl rfl)
theorem dX6_crack_158 : decode cX6_crack 158 = .ok (.iload 4, 2) := dk_21 4 (dk_at dksX6_crack_6 18 rfl rfl)
theorem dX6_crack_160 : decode cX6_crack 160 = .ok (.ireturn, 1) := dk_172 (dk_at dksX6_crack_6 20 rfl rfl)
abbrev cX6_fits : ByteArray := prog_20_method_94_code
def yX6_fits : MethodName := ⟨RX6, "fits", "(II)Z"⟩
def dkwX6_fits_1 : List UInt8 := [5, 29, 104, 4, 96, 182, 1, 144, 159, 0, 5, 3, 172, 132, 3, 1, 167, 255, 218, 4, 172]
abbrev dktX6_fits_1 : List UInt8 := dkwX6_fits_1 ++ []
def dkwX6_fits_0 : List UInt8 := [3, 62, 29, 27, 162, 0, 39, 42, 5, 29, 104, 182, 1, 144, 28, 161, 0, 7, 4, 167, 0, 4, 3, 42]
abbrev dktX6_fits_0 : List UInt8 := dkwX6_fits_0 ++ dktX6_fits_1
theorem dksX6_fits_0 : cX6_fits.data.toList.drop 0 = dktX6_fits_0 := by decide +kernel
theorem dksX6_fits_1 : cX6_fits.data.toList.drop 24 = dktX6_fits_1 := dk_seg dksX6_fits_0 24 rfl rfl
theorem dX6_fits_0 : decode cX6_fits 0 = .ok (.iconst 0, 1) := dk_3 (dk_at dksX6_fits_0 0 rfl rfl)
theorem dX6_fits_1 : decode cX6_fits 1 = .ok (.istore_n 3, 1) := dk_62 (dk_at dksX6_fits_0 1 rfl rfl)
theorem dX6_fits_2 : decode cX6_fits 2 = .ok (.iload_n 3, 1) := dk_29 (dk_at dksX6_fits_0 2 rfl rfl)
theorem dX6_fits_3 : decode cX6_fits 3 = .ok (.iload_n 1, 1) := dk_27 (dk_at dksX6_fits_0 3 rfl rfl)
theorem dX6_fits_4 : decode cX6_fits 4 = .ok (.if_icmp .ge 39, 3) := dk_162 0 39 (dk_at dksX6_fits_0 4 rfl rfl)
theorem dX6_fits_7 : decode cX6_fits 7 = .ok (.aload_n 0, 1) := dk_42 (dk_at dksX6_fits_0 7 rfl rfl)
theorem dX6_fits_8 : decode cX6_fits 8 = .ok (.iconst 2, 1) := dk_5 (dk_at dksX6_fits_0 8 rfl rfl)
theorem dX6_fits_9 : decode cX6_fits 9 = .ok (.iload_n 3, 1) := dk_29 (dk_at dksX6_fits_0 9 rfl rfl)
theorem dX6_fits_10 : decode cX6_fits 10 = .ok (.imul, 1) := dk_104 (dk_at dksX6_fits_0 10 rfl rfl)
theorem dX6_fits_11 : decode cX6_fits 11 = .ok (.invokevirtual 400, 3) := dk_182 1 144 (dk_at dksX6_fits_0 11 rfl rfl)
theorem dX6_fits_14 : decode cX6_fits 14 = .ok (.iload_n 2, 1) := dk_28 (dk_at dksX6_fits_0 14 rfl rfl)
theorem dX6_fits_15 : decode cX6_fits 15 = .ok (.if_icmp .lt 7, 3) := dk_161 0 7 (dk_at dksX6_fits_0 15 rfl rfl)
theorem dX6_fits_18 : decode cX6_fits 18 = .ok (.iconst 1, 1) := dk_4 (dk_at dksX6_fits_0 18 rfl rfl)
theorem dX6_fits_19 : decode cX6_fits 19 = .ok (.goto 4, 3) := dk_167 0 4 (dk_at dksX6_fits_0 19 rfl rfl)
theorem dX6_fits_22 : decode cX6_fits 22 = .ok (.iconst 0, 1) := dk_3 (dk_at dksX6_fits_0 22 rfl rfl)
theorem dX6_fits_23 : decode cX6_fits 23 = .ok (.aload_n 0, 1) := dk_42 (dk_at dksX6_fits_0 23 rfl rfl)
theorem dX6_fits_24 : decode cX6_fits 24 = .ok (.iconst 2, 1) := dk_5 (dk_at dksX6_fits_1 0 rfl rfl)
theorem dX6_fits_25 : decode cX6_fits 25 = .ok (.iload_n 3, 1) := dk_29 (dk_at dksX6_fits_1 1 rfl rfl)
theorem dX6_fits_26 : decode cX6_fits 26 = .ok (.imul, 1) := dk_104 (dk_at dksX6_fits_1 2 rfl rfl)
theorem dX6_fits_27 : decode cX6_fits 27 = .ok (.iconst 1, 1) := dk_4 (dk_at dksX6_fits_1 3 rfl rfl)
theorem dX6_fits_28 : decode cX6_fits 28 = .ok (.iadd, 1) := dk_96 (dk_at dksX6_fits_1 4 rfl rfl)
theorem dX6_fits_29 : decode cX6_fits 29 = .ok (.invokevirtual 400, 3) := dk_182 1 144 (dk_at dksX6_fits_1 5 rfl rfl)
theorem dX6_fits_32 : decode cX6_fits 32 = .ok (.if_icmp .eq 5, 3) := dk_159 0 5 (dk_at dksX6_fits_1 8 rfl rfl)
theorem dX6_fits_35 : decode cX6_fits 35 = .ok (.iconst 0, 1) := dk_3 (dk_at dksX6_fits_1 11 rfl rfl)
theorem dX6_fits_36 : decode cX6_fits 36 = .ok (.ireturn, 1) := dk_172 (dk_at dksX6_fits_1 12 rfl rfl)
theorem dX6_fits_37 : decode cX6_fits 37 = .ok (.iinc 3 1, 3) := dk_132 3 1 (dk_at dksX6_fits_1 13 rfl rfl)
theorem dX6_fits_40 : decode cX6_fits 40 = .ok (.goto (-38), 3) := dk_167 255 218 (dk_at dksX6_fits_1 16 rfl rfl)
theorem dX6_fits_43 : decode cX6_fits 43 = .ok (.iconst 1, 1) := dk_4 (dk_at dksX6_fits_1 19 rfl rfl)
theorem dX6_fits_44 : decode cX6_fits 44 = .ok (.ireturn, 1) := dk_172 (dk_at dksX6_fits_1 20 rfl rfl)
abbrev cX6_halves : ByteArray := prog_20_method_97_code
def yX6_halves : MethodName := ⟨RX6, "halves", "(I)I"⟩
def dkwX6_halves_6 : List UInt8 := [132, 3, 1, 167, 255, 170, 132, 2, 255, 167, 255, 140, 42, 180, 0, 117, 27, 4, 100, 46, 172]
abbrev dktX6_halves_6 : List UInt8 := dkwX6_halves_6 ++ []
def dkwX6_halves_5 : List UInt8 := [46, 100, 54, 5, 42, 180, 0, 117, 16, 12, 28, 104, 29, 96, 21, 4, 21, 5, 184, 1, 106, 79]
abbrev dktX6_halves_5 : List UInt8 := dkwX6_halves_5 ++ dktX6_halves_6
def dkwX6_halves_4 : List UInt8 := [182, 1, 144, 42, 28, 29, 4, 100, 182, 1, 169, 96, 42, 180, 0, 117, 16, 12, 28, 104, 29, 96, 4, 100]
abbrev dktX6_halves_4 : List UInt8 := dkwX6_halves_4 ++ dktX6_halves_5
def dkwX6_halves_3 : List UInt8 := [182, 1, 169, 96, 42, 180, 0, 117, 16, 12, 28, 4, 96, 104, 29, 96, 46, 100, 54, 4, 42, 29]
abbrev dktX6_halves_3 : List UInt8 := dkwX6_halves_3 ++ dktX6_halves_4
def dkwX6_halves_2 : List UInt8 := [182, 1, 144, 79, 28, 4, 96, 62, 29, 27, 162, 0, 87, 42, 28, 182, 1, 144, 42, 28, 4, 96, 29]
abbrev dktX6_halves_2 : List UInt8 := dkwX6_halves_2 ++ dktX6_halves_3
def dkwX6_halves_1 : List UInt8 := [181, 0, 162, 27, 4, 100, 61, 28, 155, 0, 118, 42, 180, 0, 117, 16, 12, 28, 104, 28, 96, 42, 28]
abbrev dktX6_halves_1 : List UInt8 := dkwX6_halves_1 ++ dktX6_halves_2
def dkwX6_halves_0 : List UInt8 := [27, 5, 16, 12, 184, 0, 134, 153, 0, 11, 27, 42, 180, 0, 162, 164, 0, 5, 2, 172, 42, 3]
abbrev dktX6_halves_0 : List UInt8 := dkwX6_halves_0 ++ dktX6_halves_1
theorem dksX6_halves_0 : cX6_halves.data.toList.drop 0 = dktX6_halves_0 := by decide +kernel
theorem dksX6_halves_1 : cX6_halves.data.toList.drop 22 = dktX6_halves_1 := dk_seg dksX6_halves_0 22 rfl rfl
theorem dksX6_halves_2 : cX6_halves.data.toList.drop 45 = dktX6_halves_2 := dk_seg dksX6_halves_1 23 rfl rfl
theorem dksX6_halves_3 : cX6_halves.data.toList.drop 68 = dktX6_halves_3 := dk_seg dksX6_halves_2 23 rfl rfl
theorem dksX6_halves_4 : cX6_halves.data.toList.drop 90 = dktX6_halves_4 := dk_seg dksX6_halves_3 22 rfl rfl
theorem dksX6_halves_5 : cX6_halves.data.toList.drop 114 = dktX6_halves_5 := dk_seg dksX6_halves_4 24 rfl rfl
theorem dksX6_halves_6 : cX6_halves.data.toList.drop 136 = dktX6_halves_6 := dk_seg dksX6_halves_5 22 rfl rfl
theorem dX6_halves_0 : decode cX6_halves 0 = .ok (.iload_n 1, 1) := dk_27 (dk_at dksX6_halves_0 0 rfl rfl)
theorem dX6_halves_1 : decode cX6_halves 1 = .ok (.iconst 2, 1) := dk_5 (dk_at dksX6_halves_0 1 rfl rfl)
theorem dX6_halves_2 : decode cX6_halves 2 = .ok (.bipush 12, 2) := dk_16 12 (dk_at dksX6_halves_0 2 rfl rfl)
theorem dX6_halves_4 : decode cX6_halves 4 = .ok (.invokestatic 134, 3) := dk_184 0 134 (dk_at dksX6_halves_0 4 rfl rfl)
theorem dX6_halves_7 : decode cX6_halves 7 = .ok (.ifCond .eq 11, 3) := dk_153 0 11 (dk_at dksX6_halves_0 7 rfl rfl)
theorem dX6_halves_10 : decode cX6_halves 10 = .ok (.iload_n 1, 1) := dk_27 (dk_at dksX6_halves_0 10 rfl rfl)
theorem dX6_halves_11 : decode cX6_halves 11 = .ok (.aload_n 0, 1) := dk_42 (dk_at dksX6_halves_0 11 rfl rfl)
theorem dX6_halves_12 : decode cX6_halves 12 = .ok (.getfield 162, 3) := dk_180 0 162 (dk_at dksX6_halves_0 12 rfl rfl)
theorem dX6_halves_15 : decode cX6_halves 15 = .ok (.if_icmp .le 5, 3) := dk_164 0 5 (dk_at dksX6_halves_0 15 rfl rfl)
theorem dX6_halves_18 : decode cX6_halves 18 = .ok (.iconst (-1), 1) := dk_2 (dk_at dksX6_halves_0 18 rfl rfl)
theorem dX6_halves_19 : decode cX6_halves 19 = .ok (.ireturn, 1) := dk_172 (dk_at dksX6_halves_0 19 rfl rfl)
theorem dX6_halves_20 : decode cX6_halves 20 = .ok (.aload_n 0, 1) := dk_42 (dk_at dksX6_halves_0 20 rfl rfl)
theorem dX6_halves_21 : decode cX6_halves 21 = .ok (.iconst 0, 1) := dk_3 (dk_at dksX6_halves_0 21 rfl rfl)
theorem dX6_halves_22 : decode cX6_halves 22 = .ok (.putfield 162, 3) := dk_181 0 162 (dk_at dksX6_halves_1 0 rfl rfl)
theorem dX6_halves_25 : decode cX6_halves 25 = .ok (.iload_n 1, 1) := dk_27 (dk_at dksX6_halves_1 3 rfl rfl)
theorem dX6_halves_26 : decode cX6_halves 26 = .ok (.iconst 1, 1) := dk_4 (dk_at dksX6_halves_1 4 rfl rfl)
theorem dX6_halves_27 : decode cX6_halves 27 = .ok (.isub, 1) := dk_100 (dk_at dksX6_halves_1 5 rfl rfl)
theorem dX6_halves_28 : decode cX6_halves 28 = .ok (.istore_n 2, 1) := dk_61 (dk_at dksX6_halves_1 6 rfl rfl)
theorem dX6_halves_29 : decode cX6_halves 29 = .ok (.iload_n 2, 1) := dk_28 (dk_at dksX6_halves_1 7 rfl rfl)
theorem dX6_halves_30 : decode cX6_halves 30 = .ok (.ifCond .lt 118, 3) := dk_155 0 118 (dk_at dksX6_halves_1 8 rfl rfl)
theorem dX6_halves_33 : decode cX6_halves 33 = .ok (.aload_n 0, 1) := dk_42 (dk_at dksX6_halves_1 11 rfl rfl)
theorem dX6_halves_34 : decode cX6_halves 34 = .ok (.getfield 117, 3) := dk_180 0 117 (dk_at dksX6_halves_1 12 rfl rfl)
theorem dX6_halves_37 : decode cX6_halves 37 = .ok (.bipush 12, 2) := dk_16 12 (dk_at dksX6_halves_1 15 rfl rfl)
theorem dX6_halves_39 : decode cX6_halves 39 = .ok (.iload_n 2, 1) := dk_28 (dk_at dksX6_halves_1 17 rfl rfl)
theorem dX6_halves_40 : decode cX6_halves 40 = .ok (.imul, 1) := dk_104 (dk_at dksX6_halves_1 18 rfl rfl)
theorem dX6_halves_41 : decode cX6_halves 41 = .ok (.iload_n 2, 1) := dk_28 (dk_at dksX6_halves_1 19 rfl rfl)
theorem dX6_halves_42 : decode cX6_halves 42 = .ok (.iadd, 1) := dk_96 (dk_at dksX6_halves_1 20 rfl rfl)
theorem dX6_halves_43 : decode cX6_halves 43 = .ok (.aload_n 0, 1) := dk_42 (dk_at dksX6_halves_1 21 rfl rfl)
theorem dX6_halves_44 : decode cX6_halves 44 = .ok (.iload_n 2, 1) := dk_28 (dk_at dksX6_halves_1 22 rfl rfl)
theorem dX6_halves_45 : decode cX6_halves 45 = .ok (.invokevirtual 400, 3) := dk_182 1 144 (dk_at dksX6_halves_2 0 rfl rfl)
theorem dX6_halves_48 : decode cX6_halves 48 = .ok (.iastore, 1) := dk_79 (dk_at dksX6_halves_2 3 rfl rfl)
theorem dX6_halves_49 : decode cX6_halves 49 = .ok (.iload_n 2, 1) := dk_28 (dk_at dksX6_halves_2 4 rfl rfl)
theorem dX6_halves_50 : decode cX6_halves 50 = .ok (.iconst 1, 1) := dk_4 (dk_at dksX6_halves_2 5 rfl rfl)
theorem dX6_halves_51 : decode cX6_halves 51 = .ok (.iadd, 1) := dk_96 (dk_at dksX6_halves_2 6 rfl rfl)
theorem dX6_halves_52 : decode cX6_halves 52 = .ok (.istore_n 3, 1) := dk_62 (dk_at dksX6_halves_2 7 rfl rfl)
theorem dX6_halves_53 : decode cX6_halves 53 = .ok (.iload_n 3, 1) := dk_29 (dk_at dksX6_halves_2 8 rfl rfl)
theorem dX6_halves_54 : decode cX6_halves 54 = .ok (.iload_n 1, 1) := dk_27 (dk_at dksX6_halves_2 9 rfl rfl)
theorem dX6_halves_55 : decode cX6_halves 55 = .ok (.if_icmp .ge 87, 3) := dk_162 0 87 (dk_at dksX6_halves_2 10 rfl rfl)
theorem dX6_halves_58 : decode cX6_halves 58 = .ok (.aload_n 0, 1) := dk_42 (dk_at dksX6_halves_2 13 rfl rfl)
theorem dX6_halves_59 : decode cX6_halves 59 = .ok (.iload_n 2, 1) := dk_28 (dk_at dksX6_halves_2 14 rfl rfl)
theorem dX6_halves_60 : decode cX6_halves 60 = .ok (.invokevirtual 400, 3) := dk_182 1 144 (dk_at dksX6_halves_2 15 rfl rfl)
theorem dX6_halves_63 : decode cX6_halves 63 = .ok (.aload_n 0, 1) := dk_42 (dk_at dksX6_halves_2 18 rfl rfl)
theorem dX6_halves_64 : decode cX6_halves 64 = .ok (.iload_n 2, 1) := dk_28 (dk_at dksX6_halves_2 19 rfl rfl)
theorem dX6_halves_65 : decode cX6_halves 65 = .ok (.iconst 1, 1) := dk_4 (dk_at dksX6_halves_2 20 rfl rfl)
theorem dX6_halves_66 : decode cX6_halves 66 = .ok (.iadd, 1) := dk_96 (dk_at dksX6_halves_2 21 rfl rfl)
theorem dX6_halves_67 : decode cX6_halves 67 = .ok (.iload_n 3, 1) := dk_29 (dk_at dksX6_halves_2 22 rfl rfl)
theorem dX6_halves_68 : decode cX6_halves 68 = .ok (.invokevirtual 425, 3) := dk_182 1 169 (dk_at dksX6_halves_3 0 rfl rfl)
theorem dX6_halves_71 : decode cX6_halves 71 = .ok (.iadd, 1) := dk_96 (dk_at dksX6_halves_3 3 rfl rfl)
theorem dX6_halves_72 : decode cX6_halves 72 = .ok (.aload_n 0, 1) := dk_42 (dk_at dksX6_halves_3 4 rfl rfl)
theorem dX6_halves_73 : decode cX6_halves 73 = .ok (.getfield 117, 3) := dk_180 0 117 (dk_at dksX6_halves_3 5 rfl rfl)
theorem dX6_halves_76 : decode cX6_halves 76 = .ok (.bipush 12, 2) := dk_16 12 (dk_at dksX6_halves_3 8 rfl rfl)
theorem dX6_halves_78 : decode cX6_halves 78 = .ok (.iload_n 2, 1) := dk_28 (dk_at dksX6_halves_3 10 rfl rfl)
theorem dX6_halves_79 : decode cX6_halves 79 = .ok (.iconst 1, 1) := dk_4 (dk_at dksX6_halves_3 11 rfl rfl)
theorem dX6_halves_80 : decode cX6_halves 80 = .ok (.iadd, 1) := dk_96 (dk_at dksX6_halves_3 12 rfl rfl)
theorem dX6_halves_81 : decode cX6_halves 81 = .ok (.imul, 1) := dk_104 (dk_at dksX6_halves_3 13 rfl rfl)
theorem dX6_halves_82 : decode cX6_halves 82 = .ok (.iload_n 3, 1) := dk_29 (dk_at dksX6_halves_3 14 rfl rfl)
theorem dX6_halves_83 : decode cX6_halves 83 = .ok (.iadd, 1) := dk_96 (dk_at dksX6_halves_3 15 rfl rfl)
theorem dX6_halves_84 : decode cX6_halves 84 = .ok (.iaload, 1) := dk_46 (dk_at dksX6_halves_3 16 rfl rfl)
theorem dX6_halves_85 : decode cX6_halves 85 = .ok (.isub, 1) := dk_100 (dk_at dksX6_halves_3 17 rfl rfl)
theorem dX6_halves_86 : decode cX6_halves 86 = .ok (.istore 4, 2) := dk_54 4 (dk_at dksX6_halves_3 18 rfl rfl)
theorem dX6_halves_88 : decode cX6_halves 88 = .ok (.aload_n 0, 1) := dk_42 (dk_at dksX6_halves_3 20 rfl rfl)
theorem dX6_halves_89 : decode cX6_halves 89 = .ok (.iload_n 3, 1) := dk_29 (dk_at dksX6_halves_3 21 rfl rfl)
theorem dX6_halves_90 : decode cX6_halves 90 = .ok (.invokevirtual 400, 3) := dk_182 1 144 (dk_at dksX6_halves_4 0 rfl rfl)
theorem dX6_halves_93 : decode cX6_halves 93 = .ok (.aload_n 0, 1) := dk_42 (dk_at dksX6_halves_4 3 rfl rfl)
theorem dX6_halves_94 : decode cX6_halves 94 = .ok (.iload_n 2, 1) := dk_28 (dk_at dksX6_halves_4 4 rfl rfl)
theorem dX6_halves_95 : decode cX6_halves 95 = .ok (.iload_n 3, 1) := dk_29 (dk_at dksX6_halves_4 5 rfl rfl)
theorem dX6_halves_96 : decode cX6_halves 96 = .ok (.iconst 1, 1) := dk_4 (dk_at dksX6_halves_4 6 rfl rfl)
theorem dX6_halves_97 : decode cX6_halves 97 = .ok (.isub, 1) := dk_100 (dk_at dksX6_halves_4 7 rfl rfl)
theorem dX6_halves_98 : decode cX6_halves 98 = .ok (.invokevirtual 425, 3) := dk_182 1 169 (dk_at dksX6_halves_4 8 rfl rfl)
theorem dX6_halves_101 : decode cX6_halves 101 = .ok (.iadd, 1) := dk_96 (dk_at dksX6_halves_4 11 rfl rfl)
theorem dX6_halves_102 : decode cX6_halves 102 = .ok (.aload_n 0, 1) := dk_42 (dk_at dksX6_halves_4 12 rfl rfl)
theorem dX6_halves_103 : decode cX6_halves 103 = .ok (.getfield 117, 3) := dk_180 0 117 (dk_at dksX6_halves_4 13 rfl rfl)
theorem dX6_halves_106 : decode cX6_halves 106 = .ok (.bipush 12, 2) := dk_16 12 (dk_at dksX6_halves_4 16 rfl rfl)
theorem dX6_halves_108 : decode cX6_halves 108 = .ok (.iload_n 2, 1) := dk_28 (dk_at dksX6_halves_4 18 rfl rfl)
theorem dX6_halves_109 : decode cX6_halves 109 = .ok (.imul, 1) := dk_104 (dk_at dksX6_halves_4 19 rfl rfl)
theorem dX6_halves_110 : decode cX6_halves 110 = .ok (.iload_n 3, 1) := dk_29 (dk_at dksX6_halves_4 20 rfl rfl)
theorem dX6_halves_111 : decode cX6_halves 111 = .ok (.iadd, 1) := dk_96 (dk_at dksX6_halves_4 21 rfl rfl)
theorem dX6_halves_112 : decode cX6_halves 112 = .ok (.iconst 1, 1) := dk_4 (dk_at dksX6_halves_4 22 rfl rfl)
theorem dX6_halves_113 : decode cX6_halves 113 = .ok (.isub, 1) := dk_100 (dk_at dksX6_halves_4 23 rfl rfl)
theorem dX6_halves_114 : decode cX6_halves 114 = .ok (.iaload, 1) := dk_46 (dk_at dksX6_halves_5 0 rfl rfl)
theorem dX6_halves_115 : decode cX6_halves 115 = .ok (.isub, 1) := dk_100 (dk_at dksX6_halves_5 1 rfl rfl)
theorem dX6_halves_116 : decode cX6_halves 116 = .ok (.istore 5, 2) := dk_54 5 (dk_at dksX6_halves_5 2 rfl rfl)
theorem dX6_halves_118 : decode cX6_halves 118 = .ok (.aload_n 0, 1) := dk_42 (dk_at dksX6_halves_5 4 rfl rfl)
theorem dX6_halves_119 : decode cX6_halves 119 = .ok (.getfield 117, 3) := dk_180 0 117 (dk_at dksX6_halves_5 5 rfl rfl)
theorem dX6_halves_122 : decode cX6_halves 122 = .ok (.bipush 12, 2) := dk_16 12 (dk_at dksX6_halves_5 8 rfl rfl)
theorem dX6_halves_124 : decode cX6_halves 124 = .ok (.iload_n 2, 1) := dk_28 (dk_at dksX6_halves_5 10 rfl rfl)
theorem dX6_halves_125 : decode cX6_halves 125 = .ok (.imul, 1) := dk_104 (dk_at dksX6_halves_5 11 rfl rfl)
theorem dX6_halves_126 : decode cX6_halves 126 = .ok (.iload_n 3, 1) := dk_29 (dk_at dksX6_halves_5 12 rfl rfl)
theorem dX6_halves_127 : decode cX6_halves 127 = .ok (.iadd, 1) := dk_96 (dk_at dksX6_halves_5 13 rfl rfl)
theorem dX6_halves_128 : decode cX6_halves 128 = .ok (.iload 4, 2) := dk_21 4 (dk_at dksX6_halves_5 14 rfl rfl)
theorem dX6_halves_130 : decode cX6_halves 130 = .ok (.iload 5, 2) := dk_21 5 (dk_at dksX6_halves_5 16 rfl rfl)
theorem dX6_halves_132 : decode cX6_halves 132 = .ok (.invokestatic 362, 3) := dk_184 1 106 (dk_at dksX6_halves_5 18 rfl rfl)
theorem dX6_halves_135 : decode cX6_halves 135 = .ok (.iastore, 1) := dk_79 (dk_at dksX6_halves_5 21 rfl rfl)
theorem dX6_halves_136 : decode cX6_halves 136 = .ok (.iinc 3 1, 3) := dk_132 3 1 (dk_at dksX6_halves_6 0 rfl rfl)
theorem dX6_halves_139 : decode cX6_halves 139 = .ok (.goto (-86), 3) := dk_167 255 170 (dk_at dksX6_halves_6 3 rfl rfl)
theorem dX6_halves_142 : decode cX6_halves 142 = .ok (.iinc 2 (-1), 3) := dk_132 2 255 (dk_at dksX6_halves_6 6 rfl rfl)
theorem dX6_halves_145 : decode cX6_halves 145 = .ok (.goto (-116), 3) := dk_167 255 140 (dk_at dksX6_halves_6 9 rfl rfl)
theorem dX6_halves_148 : decode cX6_halves 148 = .ok (.aload_n 0, 1) := dk_42 (dk_at dksX6_halves_6 12 rfl rfl)
theorem dX6_halves_149 : decode cX6_halves 149 = .ok (.getfield 117, 3) := dk_180 0 117 (dk_at dksX6_halves_6 13 rfl rfl)
theorem dX6_halves_152 : decode cX6_halves 152 = .ok (.iload_n 1, 1) := dk_27 (dk_at dksX6_halves_6 16 rfl rfl)
theorem dX6_halves_153 : decode cX6_halves 153 = .ok (.iconst 1, 1) := dk_4 (dk_at dksX6_halves_6 17 rfl rfl)
theorem dX6_halves_154 : decode cX6_halves 154 = .ok (.isub, 1) := dk_100 (dk_at dksX6_halves_6 18 rfl rfl)
theorem dX6_halves_155 : decode cX6_halves 155 = .ok (.iaload, 1) := dk_46 (dk_at dksX6_halves_6 19 rfl rfl)
theorem dX6_halves_156 : decode cX6_halves 156 = .ok (.ireturn, 1) := dk_172 (dk_at dksX6_halves_6 20 rfl rfl)
abbrev cX6_sumFrom : ByteArray := prog_20_method_96_code
def yX6_sumFrom : MethodName := ⟨RX6, "sumFrom", "(II)I"⟩
def dkwX6_sumFrom_1 : List UInt8 := [167, 255, 238, 29, 172]
abbrev dktX6_sumFrom_1 : List UInt8 := dkwX6_sumFrom_1 ++ []
def dkwX6_sumFrom_0 : List UInt8 := [3, 62, 27, 54, 4, 21, 4, 28, 163, 0, 18, 29, 42, 21, 4, 182, 1, 144, 96, 62, 132, 4, 1]
abbrev dktX6_sumFrom_0 : List UInt8 := dkwX6_sumFrom_0 ++ dktX6_sumFrom_1
theorem dksX6_sumFrom_0 : cX6_sumFrom.data.toList.drop 0 = dktX6_sumFrom_0 := by decide +kernel
theorem dksX6_sumFrom_1 : cX6_sumFrom.data.toList.drop 23 = dktX6_sumFrom_1 := dk_seg dksX6_sumFrom_0 23 rfl rfl
theorem dX6_sumFrom_0 : decode cX6_sumFrom 0 = .ok (.iconst 0, 1) := dk_3 (dk_at dksX6_sumFrom_0 0 rfl rfl)
theorem dX6_sumFrom_1 : decode cX6_sumFrom 1 = .ok (.istore_n 3, 1) := dk_62 (dk_at dksX6_sumFrom_0 1 rfl rfl)
theorem dX6_sumFrom_2 : decode cX6_sumFrom 2 = .ok (.iload_n 1, 1) := dk_27 (dk_at dksX6_sumFrom_0 2 rfl rfl)
theorem dX6_sumFrom_3 : decode cX6_sumFrom 3 = .ok (.istore 4, 2) := dk_54 4 (dk_at dksX6_sumFrom_0 3 rfl rfl)
theorem dX6_sumFrom_5 : decode cX6_sumFrom 5 = .ok (.iload 4, 2) := dk_21 4 (dk_at dksX6_sumFrom_0 5 rfl rfl)
theorem dX6_sumFrom_7 : decode cX6_sumFrom 7 = .ok (.iload_n 2, 1) := dk_28 (dk_at dksX6_sumFrom_0 7 rfl rfl)
theorem dX6_sumFrom_8 : decode cX6_sumFrom 8 = .ok (.if_icmp .gt 18, 3) := dk_163 0 18 (dk_at dksX6_sumFrom_0 8 rfl rfl)
theorem dX6_sumFrom_11 : decode cX6_sumFrom 11 = .ok (.iload_n 3, 1) := dk_29 (dk_at dksX6_sumFrom_0 11 rfl rfl)
theorem dX6_sumFrom_12 : decode cX6_sumFrom 12 = .ok (.aload_n 0, 1) := dk_42 (dk_at dksX6_sumFrom_0 12 rfl rfl)
theorem dX6_sumFrom_13 : decode cX6_sumFrom 13 = .ok (.iload 4, 2) := dk_21 4 (dk_at dksX6_sumFrom_0 13 rfl rfl)
theorem dX6_sumFrom_15 : decode cX6_sumFrom 15 = .ok (.invokevirtual 400, 3) := dk_182 1 144 (dk_at dksX6_sumFrom_0 15 rfl rfl)
theorem dX6_sumFrom_18 : decode cX6_sumFrom 18 = .ok (.iadd, 1) := dk_96 (dk_at dksX6_sumFrom_0 18 rfl rfl)
theorem dX6_sumFrom_19 : decode cX6_sumFrom 19 = .ok (.istore_n 3, 1) := dk_62 (dk_at dksX6_sumFrom_0 19 rfl rfl)
theorem dX6_sumFrom_20 : decode cX6_sumFrom 20 = .ok (.iinc 4 1, 3) := dk_132 4 1 (dk_at dksX6_sumFrom_0 20 rfl rfl)
theorem dX6_sumFrom_23 : decode cX6_sumFrom 23 = .ok (.goto (-18), 3) := dk_167 255 238 (dk_at dksX6_sumFrom_1 0 rfl rfl)
theorem dX6_sumFrom_26 : decode cX6_sumFrom 26 = .ok (.iload_n 3, 1) := dk_29 (dk_at dksX6_sumFrom_1 3 rfl rfl)
theorem dX6_sumFrom_27 : decode cX6_sumFrom 27 = .ok (.ireturn, 1) := dk_172 (dk_at dksX6_sumFrom_1 4 rfl rfl)
abbrev cX6_swaps : ByteArray := prog_20_method_101_code
def yX6_swaps : MethodName := ⟨RX6, "swaps", "(II)I"⟩
def dkwX6_swaps_4 : List UInt8 := [167, 255, 215, 29, 172]
abbrev dktX6_swaps_4 : List UInt8 := dkwX6_swaps_4 ++ []
def dkwX6_swaps_3 : List UInt8 := [21, 4, 21, 5, 182, 1, 175, 153, 0, 7, 29, 4, 96, 62, 132, 5, 1, 167, 255, 230, 132, 4, 1]
abbrev dktX6_swaps_3 : List UInt8 := dkwX6_swaps_3 ++ dktX6_swaps_4
def dkwX6_swaps_2 : List UInt8 := [3, 62, 3, 54, 4, 21, 4, 27, 162, 0, 41, 3, 54, 5, 21, 5, 21, 4, 162, 0, 25, 42, 27]
abbrev dktX6_swaps_2 : List UInt8 := dkwX6_swaps_2 ++ dktX6_swaps_3
def dkwX6_swaps_1 : List UInt8 := [180, 0, 162, 164, 0, 5, 2, 172, 42, 3, 181, 0, 162, 28, 4, 160, 0, 9, 42, 27, 182, 1, 178, 172]
abbrev dktX6_swaps_1 : List UInt8 := dkwX6_swaps_1 ++ dktX6_swaps_2
def dkwX6_swaps_0 : List UInt8 := [27, 5, 16, 8, 184, 0, 134, 153, 0, 22, 28, 3, 4, 184, 0, 134, 153, 0, 13, 27, 27, 104, 42]
abbrev dktX6_swaps_0 : List UInt8 := dkwX6_swaps_0 ++ dktX6_swaps_1
theorem dksX6_swaps_0 : cX6_swaps.data.toList.drop 0 = dktX6_swaps_0 := by decide +kernel
theorem dksX6_swaps_1 : cX6_swaps.data.toList.drop 23 = dktX6_swaps_1 := dk_seg dksX6_swaps_0 23 rfl rfl
theorem dksX6_swaps_2 : cX6_swaps.data.toList.drop 47 = dktX6_swaps_2 := dk_seg dksX6_swaps_1 24 rfl rfl
theorem dksX6_swaps_3 : cX6_swaps.data.toList.drop 70 = dktX6_swaps_3 := dk_seg dksX6_swaps_2 23 rfl rfl
theorem dksX6_swaps_4 : cX6_swaps.data.toList.drop 93 = dktX6_swaps_4 := dk_seg dksX6_swaps_3 23 rfl rfl
theorem dX6_swaps_0 : decode cX6_swaps 0 = .ok (.iload_n 1, 1) := dk_27 (dk_at dksX6_swaps_0 0 rfl rfl)
theorem dX6_swaps_1 : decode cX6_swaps 1 = .ok (.iconst 2, 1) := dk_5 (dk_at dksX6_swaps_0 1 rfl rfl)
theorem dX6_swaps_2 : decode cX6_swaps 2 = .ok (.bipush 8, 2) := dk_16 8 (dk_at dksX6_swaps_0 2 rfl rfl)
theorem dX6_swaps_4 : decode cX6_swaps 4 = .ok (.invokestatic 134, 3) := dk_184 0 134 (dk_at dksX6_swaps_0 4 rfl rfl)
theorem dX6_swaps_7 : decode cX6_swaps 7 = .ok (.ifCond .eq 22, 3) := dk_153 0 22 (dk_at dksX6_swaps_0 7 rfl rfl)
theorem dX6_swaps_10 : decode cX6_swaps 10 = .ok (.iload_n 2, 1) := dk_28 (dk_at dksX6_swaps_0 10 rfl rfl)
theorem dX6_swaps_11 : decode cX6_swaps 11 = .ok (.iconst 0, 1) := dk_3 (dk_at dksX6_swaps_0 11 rfl rfl)
theorem dX6_swaps_12 : decode cX6_swaps 12 = .ok (.iconst 1, 1) := dk_4 (dk_at dksX6_swaps_0 12 rfl rfl)
theorem dX6_swaps_13 : decode cX6_swaps 13 = .ok (.invokestatic 134, 3) := dk_184 0 134 (dk_at dksX6_swaps_0 13 rfl rfl)
theorem dX6_swaps_16 : decode cX6_swaps 16 = .ok (.ifCond .eq 13, 3) := dk_153 0 13 (dk_at dksX6_swaps_0 16 rfl rfl)
theorem dX6_swaps_19 : decode cX6_swaps 19 = .ok (.iload_n 1, 1) := dk_27 (dk_at dksX6_swaps_0 19 rfl rfl)
theorem dX6_swaps_20 : decode cX6_swaps 20 = .ok (.iload_n 1, 1) := dk_27 (dk_at dksX6_swaps_0 20 rfl rfl)
theorem dX6_swaps_21 : decode cX6_swaps 21 = .ok (.imul, 1) := dk_104 (dk_at dksX6_swaps_0 21 rfl rfl)
theorem dX6_swaps_22 : decode cX6_swaps 22 = .ok (.aload_n 0, 1) := dk_42 (dk_at dksX6_swaps_0 22 rfl rfl)
theorem dX6_swaps_23 : decode cX6_swaps 23 = .ok (.getfield 162, 3) := dk_180 0 162 (dk_at dksX6_swaps_1 0 rfl rfl)
theorem dX6_swaps_26 : decode cX6_swaps 26 = .ok (.if_icmp .le 5, 3) := dk_164 0 5 (dk_at dksX6_swaps_1 3 rfl rfl)
theorem dX6_swaps_29 : decode cX6_swaps 29 = .ok (.iconst (-1), 1) := dk_2 (dk_at dksX6_swaps_1 6 rfl rfl)
theorem dX6_swaps_30 : decode cX6_swaps 30 = .ok (.ireturn, 1) := dk_172 (dk_at dksX6_swaps_1 7 rfl rfl)
theorem dX6_swaps_31 : decode cX6_swaps 31 = .ok (.aload_n 0, 1) := dk_42 (dk_at dksX6_swaps_1 8 rfl rfl)
theorem dX6_swaps_32 : decode cX6_swaps 32 = .ok (.iconst 0, 1) := dk_3 (dk_at dksX6_swaps_1 9 rfl rfl)
theorem dX6_swaps_33 : decode cX6_swaps 33 = .ok (.putfield 162, 3) := dk_181 0 162 (dk_at dksX6_swaps_1 10 rfl rfl)
theorem dX6_swaps_36 : decode cX6_swaps 36 = .ok (.iload_n 2, 1) := dk_28 (dk_at dksX6_swaps_1 13 rfl rfl)
theorem dX6_swaps_37 : decode cX6_swaps 37 = .ok (.iconst 1, 1) := dk_4 (dk_at dksX6_swaps_1 14 rfl rfl)
theorem dX6_swaps_38 : decode cX6_swaps 38 = .ok (.if_icmp .ne 9, 3) := dk_160 0 9 (dk_at dksX6_swaps_1 15 rfl rfl)
theorem dX6_swaps_41 : decode cX6_swaps 41 = .ok (.aload_n 0, 1) := dk_42 (dk_at dksX6_swaps_1 18 rfl rfl)
theorem dX6_swaps_42 : decode cX6_swaps 42 = .ok (.iload_n 1, 1) := dk_27 (dk_at dksX6_swaps_1 19 rfl rfl)
theorem dX6_swaps_43 : decode cX6_swaps 43 = .ok (.invokevirtual 434, 3) := dk_182 1 178 (dk_at dksX6_swaps_1 20 rfl rfl)
theorem dX6_swaps_46 : decode cX6_swaps 46 = .ok (.ireturn, 1) := dk_172 (dk_at dksX6_swaps_1 23 rfl rfl)
theorem dX6_swaps_47 : decode cX6_swaps 47 = .ok (.iconst 0, 1) := dk_3 (dk_at dksX6_swaps_2 0 rfl rfl)
theorem dX6_swaps_48 : decode cX6_swaps 48 = .ok (.istore_n 3, 1) := dk_62 (dk_at dksX6_swaps_2 1 rfl rfl)
theorem dX6_swaps_49 : decode cX6_swaps 49 = .ok (.iconst 0, 1) := dk_3 (dk_at dksX6_swaps_2 2 rfl rfl)
theorem dX6_swaps_50 : decode cX6_swaps 50 = .ok (.istore 4, 2) := dk_54 4 (dk_at dksX6_swaps_2 3 rfl rfl)
theorem dX6_swaps_52 : decode cX6_swaps 52 = .ok (.iload 4, 2) := dk_21 4 (dk_at dksX6_swaps_2 5 rfl rfl)
theorem dX6_swaps_54 : decode cX6_swaps 54 = .ok (.iload_n 1, 1) := dk_27 (dk_at dksX6_swaps_2 7 rfl rfl)
theorem dX6_swaps_55 : decode cX6_swaps 55 = .ok (.if_icmp .ge 41, 3) := dk_162 0 41 (dk_at dksX6_swaps_2 8 rfl rfl)
theorem dX6_swaps_58 : decode cX6_swaps 58 = .ok (.iconst 0, 1) := dk_3 (dk_at dksX6_swaps_2 11 rfl rfl)
theorem dX6_swaps_59 : decode cX6_swaps 59 = .ok (.istore 5, 2) := dk_54 5 (dk_at dksX6_swaps_2 12 rfl rfl)
theorem dX6_swaps_61 : decode cX6_swaps 61 = .ok (.iload 5, 2) := dk_21 5 (dk_at dksX6_swaps_2 14 rfl rfl)
theorem dX6_swaps_63 : decode cX6_swaps 63 = .ok (.iload 4, 2) := dk_21 4 (dk_at dksX6_swaps_2 16 rfl rfl)
theorem dX6_swaps_65 : decode cX6_swaps 65 = .ok (.if_icmp .ge 25, 3) := dk_162 0 25 (dk_at dksX6_swaps_2 18 rfl rfl)
theorem dX6_swaps_68 : decode cX6_swaps 68 = .ok (.aload_n 0, 1) := dk_42 (dk_at dksX6_swaps_2 21 rfl rfl)
theorem dX6_swaps_69 : decode cX6_swaps 69 = .ok (.iload_n 1, 1) := dk_27 (dk_at dksX6_swaps_2 22 rfl rfl)
theorem dX6_swaps_70 : decode cX6_swaps 70 = .ok (.iload 4, 2) := dk_21 4 (dk_at dksX6_swaps_3 0 rfl rfl)
theorem dX6_swaps_72 : decode cX6_swaps 72 = .ok (.iload 5, 2) := dk_21 5 (dk_at dksX6_swaps_3 2 rfl rfl)
theorem dX6_swaps_74 : decode cX6_swaps 74 = .ok (.invokevirtual 431, 3) := dk_182 1 175 (dk_at dksX6_swaps_3 4 rfl rfl)
theorem dX6_swaps_77 : decode cX6_swaps 77 = .ok (.ifCond .eq 7, 3) := dk_153 0 7 (dk_at dksX6_swaps_3 7 rfl rfl)
theorem dX6_swaps_80 : decode cX6_swaps 80 = .ok (.iload_n 3, 1) := dk_29 (dk_at dksX6_swaps_3 10 rfl rfl)
theorem dX6_swaps_81 : decode cX6_swaps 81 = .ok (.iconst 1, 1) := dk_4 (dk_at dksX6_swaps_3 11 rfl rfl)
theorem dX6_swaps_82 : decode cX6_swaps 82 = .ok (.iadd, 1) := dk_96 (dk_at dksX6_swaps_3 12 rfl rfl)
theorem dX6_swaps_83 : decode cX6_swaps 83 = .ok (.istore_n 3, 1) := dk_62 (dk_at dksX6_swaps_3 13 rfl rfl)
theorem dX6_swaps_84 : decode cX6_swaps 84 = .ok (.iinc 5 1, 3) := dk_132 5 1 (dk_at dksX6_swaps_3 14 rfl rfl)
theorem dX6_swaps_87 : decode cX6_swaps 87 = .ok (.goto (-26), 3) := dk_167 255 230 (dk_at dksX6_swaps_3 17 rfl rfl)
theorem dX6_swaps_90 : decode cX6_swaps 90 = .ok (.iinc 4 1, 3) := dk_132 4 1 (dk_at dksX6_swaps_3 20 rfl rfl)
theorem dX6_swaps_93 : decode cX6_swaps 93 = .ok (.goto (-41), 3) := dk_167 255 215 (dk_at dksX6_swaps_4 0 rfl rfl)
theorem dX6_swaps_96 : decode cX6_swaps 96 = .ok (.iload_n 3, 1) := dk_29 (dk_at dksX6_swaps_4 3 rfl rfl)
theorem dX6_swaps_97 : decode cX6_swaps 97 = .ok (.ireturn, 1) := dk_172 (dk_at dksX6_swaps_4 4 rfl rfl)
abbrev cX6_mostAtOnce : ByteArray := prog_20_method_100_code
def yX6_mostAtOnce : MethodName := ⟨RX6, "mostAtOnce", "(I)I"⟩
def dkwX6_mostAtOnce_5 : List UInt8 := [167, 255, 138, 42, 180, 0, 120, 4, 27, 120, 4, 100, 46, 172]
abbrev dktX6_mostAtOnce_5 : List UInt8 := dkwX6_mostAtOnce_5 ++ []
def dkwX6_mostAtOnce_4 : List UInt8 := [21, 4, 4, 21, 5, 120, 2, 130, 126, 46, 96, 184, 1, 106, 79, 132, 5, 1, 167, 255, 195, 132, 2, 1]
abbrev dktX6_mostAtOnce_4 : List UInt8 := dkwX6_mostAtOnce_4 ++ dktX6_mostAtOnce_5
def dkwX6_mostAtOnce_3 : List UInt8 := [21, 5, 182, 1, 175, 153, 0, 34, 42, 180, 0, 120, 28, 42, 180, 0, 120, 28, 46, 4, 42, 180, 0, 120]
abbrev dktX6_mostAtOnce_3 : List UInt8 := dkwX6_mostAtOnce_3 ++ dktX6_mostAtOnce_4
def dkwX6_mostAtOnce_2 : List UInt8 := [46, 79, 3, 54, 5, 21, 5, 27, 162, 0, 61, 21, 4, 21, 5, 184, 0, 130, 153, 0, 45, 42, 27, 29]
abbrev dktX6_mostAtOnce_2 : List UInt8 := dkwX6_mostAtOnce_2 ++ dktX6_mostAtOnce_3
def dkwX6_mostAtOnce_1 : List UInt8 := [184, 1, 160, 62, 28, 4, 29, 120, 2, 130, 126, 54, 4, 42, 180, 0, 120, 28, 42, 180, 0, 120, 21, 4]
abbrev dktX6_mostAtOnce_1 : List UInt8 := dkwX6_mostAtOnce_1 ++ dktX6_mostAtOnce_2
def dkwX6_mostAtOnce_0 : List UInt8 := [3, 61, 28, 4, 27, 120, 162, 0, 117, 42, 180, 0, 120, 28, 3, 79, 28, 154, 0, 6, 167, 0, 97, 28]
abbrev dktX6_mostAtOnce_0 : List UInt8 := dkwX6_mostAtOnce_0 ++ dktX6_mostAtOnce_1
theorem dksX6_mostAtOnce_0 : cX6_mostAtOnce.data.toList.drop 0 = dktX6_mostAtOnce_0 := by decide +kernel
theorem dksX6_mostAtOnce_1 : cX6_mostAtOnce.data.toList.drop 24 = dktX6_mostAtOnce_1 := dk_seg dksX6_mostAtOnce_0 24 rfl rfl
theorem dksX6_mostAtOnce_2 : cX6_mostAtOnce.data.toList.drop 48 = dktX6_mostAtOnce_2 := dk_seg dksX6_mostAtOnce_1 24 rfl rfl
theorem dksX6_mostAtOnce_3 : cX6_mostAtOnce.data.toList.drop 72 = dktX6_mostAtOnce_3 := dk_seg dksX6_mostAtOnce_2 24 rfl rfl
theorem dksX6_mostAtOnce_4 : cX6_mostAtOnce.data.toList.drop 96 = dktX6_mostAtOnce_4 := dk_seg dksX6_mostAtOnce_3 24 rfl rfl
theorem dksX6_mostAtOnce_5 : cX6_mostAtOnce.data.toList.drop 120 = dktX6_mostAtOnce_5 := dk_seg dksX6_mostAtOnce_4 24 rfl rfl
theorem dX6_mostAtOnce_0 : decode cX6_mostAtOnce 0 = .ok (.iconst 0, 1) := dk_3 (dk_at dksX6_mostAtOnce_0 0 rfl rfl)
theorem dX6_mostAtOnce_1 : decode cX6_mostAtOnce 1 = .ok (.istore_n 2, 1) := dk_61 (dk_at dksX6_mostAtOnce_0 1 rfl rfl)
theorem dX6_mostAtOnce_2 : decode cX6_mostAtOnce 2 = .ok (.iload_n 2, 1) := dk_28 (dk_at dksX6_mostAtOnce_0 2 rfl rfl)
theorem dX6_mostAtOnce_3 : decode cX6_mostAtOnce 3 = .ok (.iconst 1, 1) := dk_4 (dk_at dksX6_mostAtOnce_0 3 rfl rfl)
theorem dX6_mostAtOnce_4 : decode cX6_mostAtOnce 4 = .ok (.iload_n 1, 1) := dk_27 (dk_at dksX6_mostAtOnce_0 4 rfl rfl)
theorem dX6_mostAtOnce_5 : decode cX6_mostAtOnce 5 = .ok (.ishl, 1) := dk_120 (dk_at dksX6_mostAtOnce_0 5 rfl rfl)
theorem dX6_mostAtOnce_6 : decode cX6_mostAtOnce 6 = .ok (.if_icmp .ge 117, 3) := dk_162 0 117 (dk_at dksX6_mostAtOnce_0 6 rfl rfl)
theorem dX6_mostAtOnce_9 : decode cX6_mostAtOnce 9 = .ok (.aload_n 0, 1) := dk_42 (dk_at dksX6_mostAtOnce_0 9 rfl rfl)
theorem dX6_mostAtOnce_10 : decode cX6_mostAtOnce 10 = .ok (.getfield 120, 3) := dk_180 0 120 (dk_at dksX6_mostAtOnce_0 10 rfl rfl)
theorem dX6_mostAtOnce_13 : decode cX6_mostAtOnce 13 = .ok (.iload_n 2, 1) := dk_28 (dk_at dksX6_mostAtOnce_0 13 rfl rfl)
theorem dX6_mostAtOnce_14 : decode cX6_mostAtOnce 14 = .ok (.iconst 0, 1) := dk_3 (dk_at dksX6_mostAtOnce_0 14 rfl rfl)
theorem dX6_mostAtOnce_15 : decode cX6_mostAtOnce 15 = .ok (.iastore, 1) := dk_79 (dk_at dksX6_mostAtOnce_0 15 rfl rfl)
theorem dX6_mostAtOnce_16 : decode cX6_mostAtOnce 16 = .ok (.iload_n 2, 1) := dk_28 (dk_at dksX6_mostAtOnce_0 16 rfl rfl)
theorem dX6_mostAtOnce_17 : decode cX6_mostAtOnce 17 = .ok (.ifCond .ne 6, 3) := dk_154 0 6 (dk_at dksX6_mostAtOnce_0 17 rfl rfl)
theorem dX6_mostAtOnce_20 : decode cX6_mostAtOnce 20 = .ok (.goto 97, 3) := dk_167 0 97 (dk_at dksX6_mostAtOnce_0 20 rfl rfl)
theorem dX6_mostAtOnce_23 : decode cX6_mostAtOnce 23 = .ok (.iload_n 2, 1) := dk_28 (dk_at dksX6_mostAtOnce_0 23 rfl rfl)
theorem dX6_mostAtOnce_24 : decode cX6_mostAtOnce 24 = .ok (.invokestatic 416, 3) := dk_184 1 160 (dk_at dksX6_mostAtOnce_1 0 rfl rfl)
theorem dX6_mostAtOnce_27 : decode cX6_mostAtOnce 27 = .ok (.istore_n 3, 1) := dk_62 (dk_at dksX6_mostAtOnce_1 3 rfl rfl)
theorem dX6_mostAtOnce_28 : decode cX6_mostAtOnce 28 = .ok (.iload_n 2, 1) := dk_28 (dk_at dksX6_mostAtOnce_1 4 rfl rfl)
theorem dX6_mostAtOnce_29 : decode cX6_mostAtOnce 29 = .ok (.iconst 1, 1) := dk_4 (dk_at dksX6_mostAtOnce_1 5 rfl rfl)
theorem dX6_mostAtOnce_30 : decode cX6_mostAtOnce 30 = .ok (.iload_n 3, 1) := dk_29 (dk_at dksX6_mostAtOnce_1 6 rfl rfl)
theorem dX6_mostAtOnce_31 : decode cX6_mostAtOnce 31 = .ok (.ishl, 1) := dk_120 (dk_at dksX6_mostAtOnce_1 7 rfl rfl)
theorem dX6_mostAtOnce_32 : decode cX6_mostAtOnce 32 = .ok (.iconst (-1), 1) := dk_2 (dk_at dksX6_mostAtOnce_1 8 rfl rfl)
theorem dX6_mostAtOnce_33 : decode cX6_mostAtOnce 33 = .ok (.ixor, 1) := dk_130 (dk_at dksX6_mostAtOnce_1 9 rfl rfl)
theorem dX6_mostAtOnce_34 : decode cX6_mostAtOnce 34 = .ok (.iand, 1) := dk_126 (dk_at dksX6_mostAtOnce_1 10 rfl rfl)
theorem dX6_mostAtOnce_35 : decode cX6_mostAtOnce 35 = .ok (.istore 4, 2) := dk_54 4 (dk_at dksX6_mostAtOnce_1 11 rfl rfl)
theorem dX6_mostAtOnce_37 : decode cX6_mostAtOnce 37 = .ok (.aload_n 0, 1) := dk_42 (dk_at dksX6_mostAtOnce_1 13 rfl rfl)
theorem dX6_mostAtOnce_38 : decode cX6_mostAtOnce 38 = .ok (.getfield 120, 3) := dk_180 0 120 (dk_at dksX6_mostAtOnce_1 14 rfl rfl)
theorem dX6_mostAtOnce_41 : decode cX6_mostAtOnce 41 = .ok (.iload_n 2, 1) := dk_28 (dk_at dksX6_mostAtOnce_1 17 rfl rfl)
theorem dX6_mostAtOnce_42 : decode cX6_mostAtOnce 42 = .ok (.aload_n 0, 1) := dk_42 (dk_at dksX6_mostAtOnce_1 18 rfl rfl)
theorem dX6_mostAtOnce_43 : decode cX6_mostAtOnce 43 = .ok (.getfield 120, 3) := dk_180 0 120 (dk_at dksX6_mostAtOnce_1 19 rfl rfl)
theorem dX6_mostAtOnce_46 : decode cX6_mostAtOnce 46 = .ok (.iload 4, 2) := dk_21 4 (dk_at dksX6_mostAtOnce_1 22 rfl rfl)
theorem dX6_mostAtOnce_48 : decode cX6_mostAtOnce 48 = .ok (.iaload, 1) := dk_46 (dk_at dksX6_mostAtOnce_2 0 rfl rfl)
theorem dX6_mostAtOnce_49 : decode cX6_mostAtOnce 49 = .ok (.iastore, 1) := dk_79 (dk_at dksX6_mostAtOnce_2 1 rfl rfl)
theorem dX6_mostAtOnce_50 : decode cX6_mostAtOnce 50 = .ok (.iconst 0, 1) := dk_3 (dk_at dksX6_mostAtOnce_2 2 rfl rfl)
theorem dX6_mostAtOnce_51 : decode cX6_mostAtOnce 51 = .ok (.istore 5, 2) := dk_54 5 (dk_at dksX6_mostAtOnce_2 3 rfl rfl)
theorem dX6_mostAtOnce_53 : decode cX6_mostAtOnce 53 = .ok (.iload 5, 2) := dk_21 5 (dk_at dksX6_mostAtOnce_2 5 rfl rfl)
theorem dX6_mostAtOnce_55 : decode cX6_mostAtOnce 55 = .ok (.iload_n 1, 1) := dk_27 (dk_at dksX6_mostAtOnce_2 7 rfl rfl)
theorem dX6_mostAtOnce_56 : decode cX6_mostAtOnce 56 = .ok (.if_icmp .ge 61, 3) := dk_162 0 61 (dk_at dksX6_mostAtOnce_2 8 rfl rfl)
theorem dX6_mostAtOnce_59 : decode cX6_mostAtOnce 59 = .ok (.iload 4, 2) := dk_21 4 (dk_at dksX6_mostAtOnce_2 11 rfl rfl)
theorem dX6_mostAtOnce_61 : decode cX6_mostAtOnce 61 = .ok (.iload 5, 2) := dk_21 5 (dk_at dksX6_mostAtOnce_2 13 rfl rfl)
theorem dX6_mostAtOnce_63 : decode cX6_mostAtOnce 63 = .ok (.invokestatic 130, 3) := dk_184 0 130 (dk_at dksX6_mostAtOnce_2 15 rfl rfl)
theorem dX6_mostAtOnce_66 : decode cX6_mostAtOnce 66 = .ok (.ifCond .eq 45, 3) := dk_153 0 45 (dk_at dksX6_mostAtOnce_2 18 rfl rfl)
theorem dX6_mostAtOnce_69 : decode cX6_mostAtOnce 69 = .ok (.aload_n 0, 1) := dk_42 (dk_at dksX6_mostAtOnce_2 21 rfl rfl)
theorem dX6_mostAtOnce_70 : decode cX6_mostAtOnce 70 = .ok (.iload_n 1, 1) := dk_27 (dk_at dksX6_mostAtOnce_2 22 rfl rfl)
theorem dX6_mostAtOnce_71 : decode cX6_mostAtOnce 71 = .ok (.iload_n 3, 1) := dk_29 (dk_at dksX6_mostAtOnce_2 23 rfl rfl)
theorem dX6_mostAtOnce_72 : decode cX6_mostAtOnce 72 = .ok (.iload 5, 2) := dk_21 5 (dk_at dksX6_mostAtOnce_3 0 rfl rfl)
theorem dX6_mostAtOnce_74 : decode cX6_mostAtOnce 74 = .ok (.invokevirtual 431, 3) := dk_182 1 175 (dk_at dksX6_mostAtOnce_3 2 rfl rfl)
theorem dX6_mostAtOnce_77 : decode cX6_mostAtOnce 77 = .ok (.ifCond .eq 34, 3) := dk_153 0 34 (dk_at dksX6_mostAtOnce_3 5 rfl rfl)
theorem dX6_mostAtOnce_80 : decode cX6_mostAtOnce 80 = .ok (.aload_n 0, 1) := dk_42 (dk_at dksX6_mostAtOnce_3 8 rfl rfl)
theorem dX6_mostAtOnce_81 : decode cX6_mostAtOnce 81 = .ok (.getfield 120, 3) := dk_180 0 120 (dk_at dksX6_mostAtOnce_3 9 rfl rfl)
theorem dX6_mostAtOnce_84 : decode cX6_mostAtOnce 84 = .ok (.iload_n 2, 1) := dk_28 (dk_at dksX6_mostAtOnce_3 12 rfl rfl)
theorem dX6_mostAtOnce_85 : decode cX6_mostAtOnce 85 = .ok (.aload_n 0, 1) := dk_42 (dk_at dksX6_mostAtOnce_3 13 rfl rfl)
theorem dX6_mostAtOnce_86 : decode cX6_mostAtOnce 86 = .ok (.getfield 120, 3) := dk_180 0 120 (dk_at dksX6_mostAtOnce_3 14 rfl rfl)
theorem dX6_mostAtOnce_89 : decode cX6_mostAtOnce 89 = .ok (.iload_n 2, 1) := dk_28 (dk_at dksX6_mostAtOnce_3 17 rfl rfl)
theorem dX6_mostAtOnce_90 : decode cX6_mostAtOnce 90 = .ok (.iaload, 1) := dk_46 (dk_at dksX6_mostAtOnce_3 18 rfl rfl)
theorem dX6_mostAtOnce_91 : decode cX6_mostAtOnce 91 = .ok (.iconst 1, 1) := dk_4 (dk_at dksX6_mostAtOnce_3 19 rfl rfl)
theorem dX6_mostAtOnce_92 : decode cX6_mostAtOnce 92 = .ok (.aload_n 0, 1) := dk_42 (dk_at dksX6_mostAtOnce_3 20 rfl rfl)
theorem dX6_mostAtOnce_93 : decode cX6_mostAtOnce 93 = .ok (.getfield 120, 3) := dk_180 0 120 (dk_at dksX6_mostAtOnce_3 21 rfl rfl)
theorem dX6_mostAtOnce_96 : decode cX6_mostAtOnce 96 = .ok (.iload 4, 2) := dk_21 4 (dk_at dksX6_mostAtOnce_4 0 rfl rfl)
theorem dX6_mostAtOnce_98 : decode cX6_mostAtOnce 98 = .ok (.iconst 1, 1) := dk_4 (dk_at dksX6_mostAtOnce_4 2 rfl rfl)
theorem dX6_mostAtOnce_99 : decode cX6_mostAtOnce 99 = .ok (.iload 5, 2) := dk_21 5 (dk_at dksX6_mostAtOnce_4 3 rfl rfl)
theorem dX6_mostAtOnce_101 : decode cX6_mostAtOnce 101 = .ok (.ishl, 1) := dk_120 (dk_at dksX6_mostAtOnce_4 5 rfl rfl)
theorem dX6_mostAtOnce_102 : decode cX6_mostAtOnce 102 = .ok (.iconst (-1), 1) := dk_2 (dk_at dksX6_mostAtOnce_4 6 rfl rfl)
theorem dX6_mostAtOnce_103 : decode cX6_mostAtOnce 103 = .ok (.ixor, 1) := dk_130 (dk_at dksX6_mostAtOnce_4 7 rfl rfl)
theorem dX6_mostAtOnce_104 : decode cX6_mostAtOnce 104 = .ok (.iand, 1) := dk_126 (dk_at dksX6_mostAtOnce_4 8 rfl rfl)
theorem dX6_mostAtOnce_105 : decode cX6_mostAtOnce 105 = .ok (.iaload, 1) := dk_46 (dk_at dksX6_mostAtOnce_4 9 rfl rfl)
theorem dX6_mostAtOnce_106 : decode cX6_mostAtOnce 106 = .ok (.iadd, 1) := dk_96 (dk_at dksX6_mostAtOnce_4 10 rfl rfl)
theorem dX6_mostAtOnce_107 : decode cX6_mostAtOnce 107 = .ok (.invokestatic 362, 3) := dk_184 1 106 (dk_at dksX6_mostAtOnce_4 11 rfl rfl)
theorem dX6_mostAtOnce_110 : decode cX6_mostAtOnce 110 = .ok (.iastore, 1) := dk_79 (dk_at dksX6_mostAtOnce_4 14 rfl rfl)
theorem dX6_mostAtOnce_111 : decode cX6_mostAtOnce 111 = .ok (.iinc 5 1, 3) := dk_132 5 1 (dk_at dksX6_mostAtOnce_4 15 rfl rfl)
theorem dX6_mostAtOnce_114 : decode cX6_mostAtOnce 114 = .ok (.goto (-61), 3) := dk_167 255 195 (dk_at dksX6_mostAtOnce_4 18 rfl rfl)
theorem dX6_mostAtOnce_117 : decode cX6_mostAtOnce 117 = .ok (.iinc 2 1, 3) := dk_132 2 1 (dk_at dksX6_mostAtOnce_4 21 rfl rfl)
theorem dX6_mostAtOnce_120 : decode cX6_mostAtOnce 120 = .ok (.goto (-118), 3) := dk_167 255 138 (dk_at dksX6_mostAtOnce_5 0 rfl rfl)
theorem dX6_mostAtOnce_123 : decode cX6_mostAtOnce 123 = .ok (.aload_n 0, 1) := dk_42 (dk_at dksX6_mostAtOnce_5 3 rfl rfl)
theorem dX6_mostAtOnce_124 : decode cX6_mostAtOnce 124 = .ok (.getfield 120, 3) := dk_180 0 120 (dk_at dksX6_mostAtOnce_5 4 rfl rfl)
theorem dX6_mostAtOnce_127 : decode cX6_mostAtOnce 127 = .ok (.iconst 1, 1) := dk_4 (dk_at dksX6_mostAtOnce_5 7 rfl rfl)
theorem dX6_mostAtOnce_128 : decode cX6_mostAtOnce 128 = .ok (.iload_n 1, 1) := dk_27 (dk_at dksX6_mostAtOnce_5 8 rfl rfl)
theorem dX6_mostAtOnce_129 : decode cX6_mostAtOnce 129 = .ok (.ishl, 1) := dk_120 (dk_at dksX6_mostAtOnce_5 9 rfl rfl)
theorem dX6_mostAtOnce_130 : decode cX6_mostAtOnce 130 = .ok (.iconst 1, 1) := dk_4 (dk_at dksX6_mostAtOnce_5 10 rfl rfl)
theorem dX6_mostAtOnce_131 : decode cX6_mostAtOnce 131 = .ok (.isub, 1) := dk_100 (dk_at dksX6_mostAtOnce_5 11 rfl rfl)
theorem dX6_mostAtOnce_132 : decode cX6_mostAtOnce 132 = .ok (.iaload, 1) := dk_46 (dk_at dksX6_mostAtOnce_5 12 rfl rfl)
theorem dX6_mostAtOnce_133 : decode cX6_mostAtOnce 133 = .ok (.ireturn, 1) := dk_172 (dk_at dksX6_mostAtOnce_5 13 rfl rfl)
abbrev cX6_bothWould : ByteArray := prog_20_method_99_code
def yX6_bothWould : MethodName := ⟨RX6, "bothWould", "(III)Z"⟩
def dkwX6_bothWould_1 : List UInt8 := [42, 27, 29, 29, 182, 1, 172, 164, 0, 7, 4, 167, 0, 4, 3, 172]
abbrev dktX6_bothWould_1 : List UInt8 := dkwX6_bothWould_1 ++ []
def dkwX6_bothWould_0 : List UInt8 := [42, 27, 28, 29, 182, 1, 172, 42, 27, 28, 28, 182, 1, 172, 164, 0, 24, 42, 27, 29, 28, 182, 1, 172]
abbrev dktX6_bothWould_0 : List UInt8 := dkwX6_bothWould_0 ++ dktX6_bothWould_1
theorem dksX6_bothWould_0 : cX6_bothWould.data.toList.drop 0 = dktX6_bothWould_0 := by decide +kernel
theorem dksX6_bothWould_1 : cX6_bothWould.data.toList.drop 24 = dktX6_bothWould_1 := dk_seg dksX6_bothWould_0 24 rfl rfl
theorem dX6_bothWould_0 : decode cX6_bothWould 0 = .ok (.aload_n 0, 1) := dk_42 (dk_at dksX6_bothWould_0 0 rfl rfl)
theorem dX6_bothWould_1 : decode cX6_bothWould 1 = .ok (.iload_n 1, 1) := dk_27 (dk_at dksX6_bothWould_0 1 rfl rfl)
theorem dX6_bothWould_2 : decode cX6_bothWould 2 = .ok (.iload_n 2, 1) := dk_28 (dk_at dksX6_bothWould_0 2 rfl rfl)
theorem dX6_bothWould_3 : decode cX6_bothWould 3 = .ok (.iload_n 3, 1) := dk_29 (dk_at dksX6_bothWould_0 3 rfl rfl)
theorem dX6_bothWould_4 : decode cX6_bothWould 4 = .ok (.invokevirtual 428, 3) := dk_182 1 172 (dk_at dksX6_bothWould_0 4 rfl rfl)
theorem dX6_bothWould_7 : decode cX6_bothWould 7 = .ok (.aload_n 0, 1) := dk_42 (dk_at dksX6_bothWould_0 7 rfl rfl)
theorem dX6_bothWould_8 : decode cX6_bothWould 8 = .ok (.iload_n 1, 1) := dk_27 (dk_at dksX6_bothWould_0 8 rfl rfl)
theorem dX6_bothWould_9 : decode cX6_bothWould 9 = .ok (.iload_n 2, 1) := dk_28 (dk_at dksX6_bothWould_0 9 rfl rfl)
theorem dX6_bothWould_10 : decode cX6_bothWould 10 = .ok (.iload_n 2, 1) := dk_28 (dk_at dksX6_bothWould_0 10 rfl rfl)
theorem dX6_bothWould_11 : decode cX6_bothWould 11 = .ok (.invokevirtual 428, 3) := dk_182 1 172 (dk_at dksX6_bothWould_0 11 rfl rfl)
theorem dX6_bothWould_14 : decode cX6_bothWould 14 = .ok (.if_icmp .le 24, 3) := dk_164 0 24 (dk_at dksX6_bothWould_0 14 rfl rfl)
theorem dX6_bothWould_17 : decode cX6_bothWould 17 = .ok (.aload_n 0, 1) := dk_42 (dk_at dksX6_bothWould_0 17 rfl rfl)
theorem dX6_bothWould_18 : decode cX6_bothWould 18 = .ok (.iload_n 1, 1) := dk_27 (dk_at dksX6_bothWould_0 18 rfl rfl)
theorem dX6_bothWould_19 : decode cX6_bothWould 19 = .ok (.iload_n 3, 1) := dk_29 (dk_at dksX6_bothWould_0 19 rfl rfl)
theorem dX6_bothWould_20 : decode cX6_bothWould 20 = .ok (.iload_n 2, 1) := dk_28 (dk_at dksX6_bothWould_0 20 rfl rfl)
theorem dX6_bothWould_21 : decode cX6_bothWould 21 = .ok (.invokevirtual 428, 3) := dk_182 1 172 (dk_at dksX6_bothWould_0 21 rfl rfl)
theorem dX6_bothWould_24 : decode cX6_bothWould 24 = .ok (.aload_n 0, 1) := dk_42 (dk_at dksX6_bothWould_1 0 rfl rfl)
theorem dX6_bothWould_25 : decode cX6_bothWould 25 = .ok (.iload_n 1, 1) := dk_27 (dk_at dksX6_bothWould_1 1 rfl rfl)
theorem dX6_bothWould_26 : decode cX6_bothWould 26 = .ok (.iload_n 3, 1) := dk_29 (dk_at dksX6_bothWould_1 2 rfl rfl)
theorem dX6_bothWould_27 : decode cX6_bothWould 27 = .ok (.iload_n 3, 1) := dk_29 (dk_at dksX6_bothWould_1 3 rfl rfl)
theorem dX6_bothWould_28 : decode cX6_bothWould 28 = .ok (.invokevirtual 428, 3) := dk_182 1 172 (dk_at dksX6_bothWould_1 4 rfl rfl)
theorem dX6_bothWould_31 : decode cX6_bothWould 31 = .ok (.if_icmp .le 7, 3) := dk_164 0 7 (dk_at dksX6_bothWould_1 7 rfl rfl)
theorem dX6_bothWould_34 : decode cX6_bothWould 34 = .ok (.iconst 1, 1) := dk_4 (dk_at dksX6_bothWould_1 10 rfl rfl)
theorem dX6_bothWould_35 : decode cX6_bothWould 35 = .ok (.goto 4, 3) := dk_167 0 4 (dk_at dksX6_bothWould_1 11 rfl rfl)
theorem dX6_bothWould_38 : decode cX6_bothWould 38 = .ok (.iconst 0, 1) := dk_3 (dk_at dksX6_bothWould_1 14 rfl rfl)
theorem dX6_bothWould_39 : decode cX6_bothWould 39 = .ok (.ireturn, 1) := dk_172 (dk_at dksX6_bothWould_1 15 rfl rfl)
abbrev cX6_worth : ByteArray := prog_20_method_98_code
def yX6_worth : MethodName := ⟨RX6, "worth", "(III)I"⟩
def dkwX6_worth_0 : List UInt8 := [42, 27, 28, 104, 29, 96, 182, 1, 144, 172]
abbrev dktX6_worth_0 : List UInt8 := dkwX6_worth_0 ++ []
theorem dksX6_worth_0 : cX6_worth.data.toList.drop 0 = dktX6_worth_0 := by decide +kernel
theorem dX6_worth_0 : decode cX6_worth 0 = .ok (.aload_n 0, 1) := dk_42 (dk_at dksX6_worth_0 0 rfl rfl)
theorem dX6_worth_1 : decode cX6_worth 1 = .ok (.iload_n 1, 1) := dk_27 (dk_at dksX6_worth_0 1 rfl rfl)
theorem dX6_worth_2 : decode cX6_worth 2 = .ok (.iload_n 2, 1) := dk_28 (dk_at dksX6_worth_0 2 rfl rfl)
theorem dX6_worth_3 : decode cX6_worth 3 = .ok (.imul, 1) := dk_104 (dk_at dksX6_worth_0 3 rfl rfl)
theorem dX6_worth_4 : decode cX6_worth 4 = .ok (.iload_n 3, 1) := dk_29 (dk_at dksX6_worth_0 4 rfl rfl)
theorem dX6_worth_5 : decode cX6_worth 5 = .ok (.iadd, 1) := dk_96 (dk_at dksX6_worth_0 5 rfl rfl)
theorem dX6_worth_6 : decode cX6_worth 6 = .ok (.invokevirtual 400, 3) := dk_182 1 144 (dk_at dksX6_worth_0 6 rfl rfl)
theorem dX6_worth_9 : decode cX6_worth 9 = .ok (.ireturn, 1) := dk_172 (dk_at dksX6_worth_0 9 rfl rfl)
abbrev cX6_sale : ByteArray := prog_20_method_103_code
def yX6_sale : MethodName := ⟨RX6, "sale", "(II)I"⟩
def dkwX6_sale_6 : List UInt8 := [132, 4, 1, 167, 255, 180, 2, 172]
abbrev dktX6_sale_6 : List UInt8 := dkwX6_sale_6 ++ []
def dkwX6_sale_5 : List UInt8 := [96, 54, 5, 167, 255, 211, 21, 5, 28, 160, 0, 6, 21, 4, 172, 29, 4, 21, 5, 120, 128, 62]
abbrev dktX6_sale_5 : List UInt8 := dkwX6_sale_5 ++ dktX6_sale_6
def dkwX6_sale_4 : List UInt8 := [42, 180, 0, 120, 29, 4, 21, 5, 120, 128, 46, 96, 42, 180, 0, 120, 29, 46, 159, 0, 12, 21, 5, 4]
abbrev dktX6_sale_4 : List UInt8 := dkwX6_sale_4 ++ dktX6_sale_5
def dkwX6_sale_3 : List UInt8 := [162, 0, 76, 3, 54, 5, 29, 21, 5, 184, 0, 130, 154, 0, 33, 42, 27, 21, 4, 21, 5, 182, 1, 172]
abbrev dktX6_sale_3 : List UInt8 := dkwX6_sale_3 ++ dktX6_sale_4
def dkwX6_sale_2 : List UInt8 := [182, 1, 181, 28, 16, 100, 160, 0, 10, 42, 180, 0, 120, 3, 46, 172, 3, 62, 3, 54, 4, 21, 4, 27]
abbrev dktX6_sale_2 : List UInt8 := dkwX6_sale_2 ++ dktX6_sale_3
def dkwX6_sale_1 : List UInt8 := [160, 0, 13, 27, 27, 104, 42, 180, 0, 162, 164, 0, 5, 2, 172, 42, 3, 181, 0, 162, 42, 27]
abbrev dktX6_sale_1 : List UInt8 := dkwX6_sale_1 ++ dktX6_sale_2
def dkwX6_sale_0 : List UInt8 := [27, 5, 16, 8, 184, 0, 134, 153, 0, 30, 28, 3, 27, 4, 100, 184, 0, 134, 154, 0, 9, 28, 16, 100]
abbrev dktX6_sale_0 : List UInt8 := dkwX6_sale_0 ++ dktX6_sale_1
theorem dksX6_sale_0 : cX6_sale.data.toList.drop 0 = dktX6_sale_0 := by decide +kernel
theorem dksX6_sale_1 : cX6_sale.data.toList.drop 24 = dktX6_sale_1 := dk_seg dksX6_sale_0 24 rfl rfl
theorem dksX6_sale_2 : cX6_sale.data.toList.drop 46 = dktX6_sale_2 := dk_seg dksX6_sale_1 22 rfl rfl
theorem dksX6_sale_3 : cX6_sale.data.toList.drop 70 = dktX6_sale_3 := dk_seg dksX6_sale_2 24 rfl rfl
theorem dksX6_sale_4 : cX6_sale.data.toList.drop 94 = dktX6_sale_4 := dk_seg dksX6_sale_3 24 rfl rfl
theorem dksX6_sale_5 : cX6_sale.data.toList.drop 118 = dktX6_sale_5 := dk_seg dksX6_sale_4 24 rfl rfl
theorem dksX6_sale_6 : cX6_sale.data.toList.drop 140 = dktX6_sale_6 := dk_seg dksX6_sale_5 22 rfl rfl
theorem dX6_sale_0 : decode cX6_sale 0 = .ok (.iload_n 1, 1) := dk_27 (dk_at dksX6_sale_0 0 rfl rfl)
theorem dX6_sale_1 : decode cX6_sale 1 = .ok (.iconst 2, 1) := dk_5 (dk_at dksX6_sale_0 1 rfl rfl)
theorem dX6_sale_2 : decode cX6_sale 2 = .ok (.bipush 8, 2) := dk_16 8 (dk_at dksX6_sale_0 2 rfl rfl)
theorem dX6_sale_4 : decode cX6_sale 4 = .ok (.invokestatic 134, 3) := dk_184 0 134 (dk_at dksX6_sale_0 4 rfl rfl)
theorem dX6_sale_7 : decode cX6_sale 7 = .ok (.ifCond .eq 30, 3) := dk_153 0 30 (dk_at dksX6_sale_0 7 rfl rfl)
theorem dX6_sale_10 : decode cX6_sale 10 = .ok (.iload_n 2, 1) := dk_28 (dk_at dksX6_sale_0 10 rfl rfl)
theorem dX6_sale_11 : decode cX6_sale 11 = .ok (.iconst 0, 1) := dk_3 (dk_at dksX6_sale_0 11 rfl rfl)
theorem dX6_sale_12 : decode cX6_sale 12 = .ok (.iload_n 1, 1) := dk_27 (dk_at dksX6_sale_0 12 rfl rfl)
theorem dX6_sale_13 : decode cX6_sale 13 = .ok (.iconst 1, 1) := dk_4 (dk_at dksX6_sale_0 13 rfl rfl)
theorem dX6_sale_14 : decode cX6_sale 14 = .ok (.isub, 1) := dk_100 (dk_at dksX6_sale_0 14 rfl rfl)
theorem dX6_sale_15 : decode cX6_sale 15 = .ok (.invokestatic 134, 3) := dk_184 0 134 (dk_at dksX6_sale_0 15 rfl rfl)
theorem dX6_sale_18 : decode cX6_sale 18 = .ok (.ifCond .ne 9, 3) := dk_154 0 9 (dk_at dksX6_sale_0 18 rfl rfl)
theorem dX6_sale_21 : decode cX6_sale 21 = .ok (.iload_n 2, 1) := dk_28 (dk_at dksX6_sale_0 21 rfl rfl)
theorem dX6_sale_22 : decode cX6_sale 22 = .ok (.bipush 100, 2) := dk_16 100 (dk_at dksX6_sale_0 22 rfl rfl)
theorem dX6_sale_24 : decode cX6_sale 24 = .ok (.if_icmp .ne 13, 3) := dk_160 0 13 (dk_at dksX6_sale_1 0 rfl rfl)
theorem dX6_sale_27 : decode cX6_sale 27 = .ok (.iload_n 1, 1) := dk_27 (dk_at dksX6_sale_1 3 rfl rfl)
theorem dX6_sale_28 : decode cX6_sale 28 = .ok (.iload_n 1, 1) := dk_27 (dk_at dksX6_sale_1 4 rfl rfl)
theorem dX6_sale_29 : decode cX6_sale 29 = .ok (.imul, 1) := dk_104 (dk_at dksX6_sale_1 5 rfl rfl)
theorem dX6_sale_30 : decode cX6_sale 30 = .ok (.aload_n 0, 1) := dk_42 (dk_at dksX6_sale_1 6 rfl rfl)
theorem dX6_sale_31 : decode cX6_sale 31 = .ok (.getfield 162, 3) := dk_180 0 162 (dk_at dksX6_sale_1 7 rfl rfl)
theorem dX6_sale_34 : decode cX6_sale 34 = .ok (.if_icmp .le 5, 3) := dk_164 0 5 (dk_at dksX6_sale_1 10 rfl rfl)
theorem dX6_sale_37 : decode cX6_sale 37 = .ok (.iconst (-1), 1) := dk_2 (dk_at dksX6_sale_1 13 rfl rfl)
theorem dX6_sale_38 : decode cX6_sale 38 = .ok (.ireturn, 1) := dk_172 (dk_at dksX6_sale_1 14 rfl rfl)
theorem dX6_sale_39 : decode cX6_sale 39 = .ok (.aload_n 0, 1) := dk_42 (dk_at dksX6_sale_1 15 rfl rfl)
theorem dX6_sale_40 : decode cX6_sale 40 = .ok (.iconst 0, 1) := dk_3 (dk_at dksX6_sale_1 16 rfl rfl)
theorem dX6_sale_41 : decode cX6_sale 41 = .ok (.putfield 162, 3) := dk_181 0 162 (dk_at dksX6_sale_1 17 rfl rfl)
theorem dX6_sale_44 : decode cX6_sale 44 = .ok (.aload_n 0, 1) := dk_42 (dk_at dksX6_sale_1 20 rfl rfl)
theorem dX6_sale_45 : decode cX6_sale 45 = .ok (.iload_n 1, 1) := dk_27 (dk_at dksX6_sale_1 21 rfl rfl)
theorem dX6_sale_46 : decode cX6_sale 46 = .ok (.invokevirtual 437, 3) := dk_182 1 181 (dk_at dksX6_sale_2 0 rfl rfl)
theorem dX6_sale_49 : decode cX6_sale 49 = .ok (.iload_n 2, 1) := dk_28 (dk_at dksX6_sale_2 3 rfl rfl)
theorem dX6_sale_50 : decode cX6_sale 50 = .ok (.bipush 100, 2) := dk_16 100 (dk_at dksX6_sale_2 4 rfl rfl)
theorem dX6_sale_52 : decode cX6_sale 52 = .ok (.if_icmp .ne 10, 3) := dk_160 0 10 (dk_at dksX6_sale_2 6 rfl rfl)
theorem dX6_sale_55 : decode cX6_sale 55 = .ok (.aload_n 0, 1) := dk_42 (dk_at dksX6_sale_2 9 rfl rfl)
theorem dX6_sale_56 : decode cX6_sale 56 = .ok (.getfield 120, 3) := dk_180 0 120 (dk_at dksX6_sale_2 10 rfl rfl)
theorem dX6_sale_59 : decode cX6_sale 59 = .ok (.iconst 0, 1) := dk_3 (dk_at dksX6_sale_2 13 rfl rfl)
theorem dX6_sale_60 : decode cX6_sale 60 = .ok (.iaload, 1) := dk_46 (dk_at dksX6_sale_2 14 rfl rfl)
theorem dX6_sale_61 : decode cX6_sale 61 = .ok (.ireturn, 1) := dk_172 (dk_at dksX6_sale_2 15 rfl rfl)
theorem dX6_sale_62 : decode cX6_sale 62 = .ok (.iconst 0, 1) := dk_3 (dk_at dksX6_sale_2 16 rfl rfl)
theorem dX6_sale_63 : decode cX6_sale 63 = .ok (.istore_n 3, 1) := dk_62 (dk_at dksX6_sale_2 17 rfl rfl)
theorem dX6_sale_64 : decode cX6_sale 64 = .ok (.iconst 0, 1) := dk_3 (dk_at dksX6_sale_2 18 rfl rfl)
theorem dX6_sale_65 : decode cX6_sale 65 = .ok (.istore 4, 2) := dk_54 4 (dk_at dksX6_sale_2 19 rfl rfl)
theorem dX6_sale_67 : decode cX6_sale 67 = .ok (.iload 4, 2) := dk_21 4 (dk_at dksX6_sale_2 21 rfl rfl)
theorem dX6_sale_69 : decode cX6_sale 69 = .ok (.iload_n 1, 1) := dk_27 (dk_at dksX6_sale_2 23 rfl rfl)
theorem dX6_sale_70 : decode cX6_sale 70 = .ok (.if_icmp .ge 76, 3) := dk_162 0 76 (dk_at dksX6_sale_3 0 rfl rfl)
theorem dX6_sale_73 : decode cX6_sale 73 = .ok (.iconst 0, 1) := dk_3 (dk_at dksX6_sale_3 3 rfl rfl)
theorem dX6_sale_74 : decode cX6_sale 74 = .ok (.istore 5, 2) := dk_54 5 (dk_at dksX6_sale_3 4 rfl rfl)
theorem dX6_sale_76 : decode cX6_sale 76 = .ok (.iload_n 3, 1) := dk_29 (dk_at dksX6_sale_3 6 rfl rfl)
theorem dX6_sale_77 : decode cX6_sale 77 = .ok (.iload 5, 2) := dk_21 5 (dk_at dksX6_sale_3 7 rfl rfl)
theorem dX6_sale_79 : decode cX6_sale 79 = .ok (.invokestatic 130, 3) := dk_184 0 130 (dk_at dksX6_sale_3 9 rfl rfl)
theorem dX6_sale_82 : decode cX6_sale 82 = .ok (.ifCond .ne 33, 3) := dk_154 0 33 (dk_at dksX6_sale_3 12 rfl rfl)
theorem dX6_sale_85 : decode cX6_sale 85 = .ok (.aload_n 0, 1) := dk_42 (dk_at dksX6_sale_3 15 rfl rfl)
theorem dX6_sale_86 : decode cX6_sale 86 = .ok (.iload_n 1, 1) := dk_27 (dk_at dksX6_sale_3 16 rfl rfl)
theorem dX6_sale_87 : decode cX6_sale 87 = .ok (.iload 4, 2) := dk_21 4 (dk_at dksX6_sale_3 17 rfl rfl)
theorem dX6_sale_89 : decode cX6_sale 89 = .ok (.iload 5, 2) := dk_21 5 (dk_at dksX6_sale_3 19 rfl rfl)
theorem dX6_sale_91 : decode cX6_sale 91 = .ok (.invokevirtual 428, 3) := dk_182 1 172 (dk_at dksX6_sale_3 21 rfl rfl)
theorem dX6_sale_94 : decode cX6_sale 94 = .ok (.aload_n 0, 1) := dk_42 (dk_at dksX6_sale_4 0 rfl rfl)
theorem dX6_sale_95 : decode cX6_sale 95 = .ok (.getfield 120, 3) := dk_180 0 120 (dk_at dksX6_sale_4 1 rfl rfl)
theorem dX6_sale_98 : decode cX6_sale 98 = .ok (.iload_n 3, 1) := dk_29 (dk_at dksX6_sale_4 4 rfl rfl)
theorem dX6_sale_99 : decode cX6_sale 99 = .ok (.iconst 1, 1) := dk_4 (dk_at dksX6_sale_4 5 rfl rfl)
theorem dX6_sale_100 : decode cX6_sale 100 = .ok (.iload 5, 2) := dk_21 5 (dk_at dksX6_sale_4 6 rfl rfl)
theorem dX6_sale_102 : decode cX6_sale 102 = .ok (.ishl, 1) := dk_120 (dk_at dksX6_sale_4 8 rfl rfl)
theorem dX6_sale_103 : decode cX6_sale 103 = .ok (.ior, 1) := dk_128 (dk_at dksX6_sale_4 9 rfl rfl)
theorem dX6_sale_104 : decode cX6_sale 104 = .ok (.iaload, 1) := dk_46 (dk_at dksX6_sale_4 10 rfl rfl)
theorem dX6_sale_105 : decode cX6_sale 105 = .ok (.iadd, 1) := dk_96 (dk_at dksX6_sale_4 11 rfl rfl)
theorem dX6_sale_106 : decode cX6_sale 106 = .ok (.aload_n 0, 1) := dk_42 (dk_at dksX6_sale_4 12 rfl rfl)
theorem dX6_sale_107 : decode cX6_sale 107 = .ok (.getfield 120, 3) := dk_180 0 120 (dk_at dksX6_sale_4 13 rfl rfl)
theorem dX6_sale_110 : decode cX6_sale 110 = .ok (.iload_n 3, 1) := dk_29 (dk_at dksX6_sale_4 16 rfl rfl)
theorem dX6_sale_111 : decode cX6_sale 111 = .ok (.iaload, 1) := dk_46 (dk_at dksX6_sale_4 17 rfl rfl)
theorem dX6_sale_112 : decode cX6_sale 112 = .ok (.if_icmp .eq 12, 3) := dk_159 0 12 (dk_at dksX6_sale_4 18 rfl rfl)
theorem dX6_sale_115 : decode cX6_sale 115 = .ok (.iload 5, 2) := dk_21 5 (dk_at dksX6_sale_4 21 rfl rfl)
theorem dX6_sale_117 : decode cX6_sale 117 = .ok (.iconst 1, 1) := dk_4 (dk_at dksX6_sale_4 23 rfl rfl)
theorem dX6_sale_118 : decode cX6_sale 118 = .ok (.iadd, 1) := dk_96 (dk_at dksX6_sale_5 0 rfl rfl)
theorem dX6_sale_119 : decode cX6_sale 119 = .ok (.istore 5, 2) := dk_54 5 (dk_at dksX6_sale_5 1 rfl rfl)
theorem dX6_sale_121 : decode cX6_sale 121 = .ok (.goto (-45), 3) := dk_167 255 211 (dk_at dksX6_sale_5 3 rfl rfl)
theorem dX6_sale_124 : decode cX6_sale 124 = .ok (.iload 5, 2) := dk_21 5 (dk_at dksX6_sale_5 6 rfl rfl)
theorem dX6_sale_126 : decode cX6_sale 126 = .ok (.iload_n 2, 1) := dk_28 (dk_at dksX6_sale_5 8 rfl rfl)
theorem dX6_sale_127 : decode cX6_sale 127 = .ok (.if_icmp .ne 6, 3) := dk_160 0 6 (dk_at dksX6_sale_5 9 rfl rfl)
theorem dX6_sale_130 : decode cX6_sale 130 = .ok (.iload 4, 2) := dk_21 4 (dk_at dksX6_sale_5 12 rfl rfl)
theorem dX6_sale_132 : decode cX6_sale 132 = .ok (.ireturn, 1) := dk_172 (dk_at dksX6_sale_5 14 rfl rfl)
theorem dX6_sale_133 : decode cX6_sale 133 = .ok (.iload_n 3, 1) := dk_29 (dk_at dksX6_sale_5 15 rfl rfl)
theorem dX6_sale_134 : decode cX6_sale 134 = .ok (.iconst 1, 1) := dk_4 (dk_at dksX6_sale_5 16 rfl rfl)
theorem dX6_sale_135 : decode cX6_sale 135 = .ok (.iload 5, 2) := dk_21 5 (dk_at dksX6_sale_5 17 rfl rfl)
theorem dX6_sale_137 : decode cX6_sale 137 = .ok (.ishl, 1) := dk_120 (dk_at dksX6_sale_5 19 rfl rfl)
theorem dX6_sale_138 : decode cX6_sale 138 = .ok (.ior, 1) := dk_128 (dk_at dksX6_sale_5 20 rfl rfl)
theorem dX6_sale_139 : decode cX6_sale 139 = .ok (.istore_n 3, 1) := dk_62 (dk_at dksX6_sale_5 21 rfl rfl)
theorem dX6_sale_140 : decode cX6_sale 140 = .ok (.iinc 4 1, 3) := dk_132 4 1 (dk_at dksX6_sale_6 0 rfl rfl)
theorem dX6_sale_143 : decode cX6_sale 143 = .ok (.goto (-76), 3) := dk_167 255 180 (dk_at dksX6_sale_6 3 rfl rfl)
theorem dX6_sale_146 : decode cX6_sale 146 = .ok (.iconst (-1), 1) := dk_2 (dk_at dksX6_sale_6 6 rfl rfl)
theorem dX6_sale_147 : decode cX6_sale 147 = .ok (.ireturn, 1) := dk_172 (dk_at dksX6_sale_6 7 rfl rfl)
abbrev cX6_laysSale : ByteArray := prog_20_method_102_code
def yX6_laysSale : MethodName := ⟨RX6, "laysSale", "(I)V"⟩
def dkwX6_laysSale_3 : List UInt8 := [96, 184, 1, 106, 79, 132, 4, 1, 167, 255, 203, 132, 2, 255, 167, 255, 178, 177]
abbrev dktX6_laysSale_3 : List UInt8 := dkwX6_laysSale_3 ++ []
def dkwX6_laysSale_2 : List UInt8 := [180, 0, 120, 28, 46, 42, 27, 29, 21, 4, 182, 1, 172, 42, 180, 0, 120, 28, 4, 21, 4, 120, 128, 46]
abbrev dktX6_laysSale_2 : List UInt8 := dkwX6_laysSale_2 ++ dktX6_laysSale_3
def dkwX6_laysSale_1 : List UInt8 := [54, 4, 21, 4, 27, 162, 0, 53, 28, 21, 4, 184, 0, 130, 154, 0, 38, 42, 180, 0, 120, 28, 42]
abbrev dktX6_laysSale_1 : List UInt8 := dkwX6_laysSale_1 ++ dktX6_laysSale_2
def dkwX6_laysSale_0 : List UInt8 := [4, 27, 120, 4, 100, 61, 28, 155, 0, 80, 28, 184, 1, 64, 62, 42, 180, 0, 120, 28, 3, 79, 3]
abbrev dktX6_laysSale_0 : List UInt8 := dkwX6_laysSale_0 ++ dktX6_laysSale_1
theorem dksX6_laysSale_0 : cX6_laysSale.data.toList.drop 0 = dktX6_laysSale_0 := by decide +kernel
theorem dksX6_laysSale_1 : cX6_laysSale.data.toList.drop 23 = dktX6_laysSale_1 := dk_seg dksX6_laysSale_0 23 rfl rfl
theorem dksX6_laysSale_2 : cX6_laysSale.data.toList.drop 46 = dktX6_laysSale_2 := dk_seg dksX6_laysSale_1 23 rfl rfl
theorem dksX6_laysSale_3 : cX6_laysSale.data.toList.drop 70 = dktX6_laysSale_3 := dk_seg dksX6_laysSale_2 24 rfl rfl
theorem dX6_laysSale_0 : decode cX6_laysSale 0 = .ok (.iconst 1, 1) := dk_4 (dk_at dksX6_laysSale_0 0 rfl rfl)
theorem dX6_laysSale_1 : decode cX6_laysSale 1 = .ok (.iload_n 1, 1) := dk_27 (dk_at dksX6_laysSale_0 1 rfl rfl)
theorem dX6_laysSale_2 : decode cX6_laysSale 2 = .ok (.ishl, 1) := dk_120 (dk_at dksX6_laysSale_0 2 rfl rfl)
theorem dX6_laysSale_3 : decode cX6_laysSale 3 = .ok (.iconst 1, 1) := dk_4 (dk_at dksX6_laysSale_0 3 rfl rfl)
theorem dX6_laysSale_4 : decode cX6_laysSale 4 = .ok (.isub, 1) := dk_100 (dk_at dksX6_laysSale_0 4 rfl rfl)
theorem dX6_laysSale_5 : decode cX6_laysSale 5 = .ok (.istore_n 2, 1) := dk_61 (dk_at dksX6_laysSale_0 5 rfl rfl)
theorem dX6_laysSale_6 : decode cX6_laysSale 6 = .ok (.iload_n 2, 1) := dk_28 (dk_at dksX6_laysSale_0 6 rfl rfl)
theorem dX6_laysSale_7 : decode cX6_laysSale 7 = .ok (.ifCond .lt 80, 3) := dk_155 0 80 (dk_at dksX6_laysSale_0 7 rfl rfl)
theorem dX6_laysSale_10 : decode cX6_laysSale 10 = .ok (.iload_n 2, 1) := dk_28 (dk_at dksX6_laysSale_0 10 rfl rfl)
theorem dX6_laysSale_11 : decode cX6_laysSale 11 = .ok (.invokestatic 320, 3) := dk_184 1 64 (dk_at dksX6_laysSale_0 11 rfl rfl)
theorem dX6_laysSale_14 : decode cX6_laysSale 14 = .ok (.istore_n 3, 1) := dk_62 (dk_at dksX6_laysSale_0 14 rfl rfl)
theorem dX6_laysSale_15 : decode cX6_laysSale 15 = .ok (.aload_n 0, 1) := dk_42 (dk_at dksX6_laysSale_0 15 rfl rfl)
theorem dX6_laysSale_16 : decode cX6_laysSale 16 = .ok (.getfield 120, 3) := dk_180 0 120 (dk_at dksX6_laysSale_0 16 rfl rfl)
theorem dX6_laysSale_19 : decode cX6_laysSale 19 = .ok (.iload_n 2, 1) := dk_28 (dk_at dksX6_laysSale_0 19 rfl rfl)
theorem dX6_laysSale_20 : decode cX6_laysSale 20 = .ok (.iconst 0, 1) := dk_3 (dk_at dksX6_laysSale_0 20 rfl rfl)
theorem dX6_laysSale_21 : decode cX6_laysSale 21 = .ok (.iastore, 1) := dk_79 (dk_at dksX6_laysSale_0 21 rfl rfl)
theorem dX6_laysSale_22 : decode cX6_laysSale 22 = .ok (.iconst 0, 1) := dk_3 (dk_at dksX6_laysSale_0 22 rfl rfl)
theorem dX6_laysSale_23 : decode cX6_laysSale 23 = .ok (.istore 4, 2) := dk_54 4 (dk_at dksX6_laysSale_1 0 rfl rfl)
theorem dX6_laysSale_25 : decode cX6_laysSale 25 = .ok (.iload 4, 2) := dk_21 4 (dk_at dksX6_laysSale_1 2 rfl rfl)
theorem dX6_laysSale_27 : decode cX6_laysSale 27 = .ok (.iload_n 1, 1) := dk_27 (dk_at dksX6_laysSale_1 4 rfl rfl)
theorem dX6_laysSale_28 : decode cX6_laysSale 28 = .ok (.if_icmp .ge 53, 3) := dk_162 0 53 (dk_at dksX6_laysSale_1 5 rfl rfl)
theorem dX6_laysSale_31 : decode cX6_laysSale 31 = .ok (.iload_n 2, 1) := dk_28 (dk_at dksX6_laysSale_1 8 rfl rfl)
theorem dX6_laysSale_32 : decode cX6_laysSale 32 = .ok (.iload 4, 2) := dk_21 4 (dk_at dksX6_laysSale_1 9 rfl rfl)
theorem dX6_laysSale_34 : decode cX6_laysSale 34 = .ok (.invokestatic 130, 3) := dk_184 0 130 (dk_at dksX6_laysSale_1 11 rfl rfl)
theorem dX6_laysSale_37 : decode cX6_laysSale 37 = .ok (.ifCond .ne 38, 3) := dk_154 0 38 (dk_at dksX6_laysSale_1 14 rfl rfl)
theorem dX6_laysSale_40 : decode cX6_laysSale 40 = .ok (.aload_n 0, 1) := dk_42 (dk_at dksX6_laysSale_1 17 rfl rfl)
theorem dX6_laysSale_41 : decode cX6_laysSale 41 = .ok (.getfield 120, 3) := dk_180 0 120 (dk_at dksX6_laysSale_1 18 rfl rfl)
theorem dX6_laysSale_44 : decode cX6_laysSale 44 = .ok (.iload_n 2, 1) := dk_28 (dk_at dksX6_laysSale_1 21 rfl rfl)
theorem dX6_laysSale_45 : decode cX6_laysSale 45 = .ok (.aload_n 0, 1) := dk_42 (dk_at dksX6_laysSale_1 22 rfl rfl)
theorem dX6_laysSale_46 : decode cX6_laysSale 46 = .ok (.getfield 120, 3) := dk_180 0 120 (dk_at dksX6_laysSale_2 0 rfl rfl)
theorem dX6_laysSale_49 : decode cX6_laysSale 49 = .ok (.iload_n 2, 1) := dk_28 (dk_at dksX6_laysSale_2 3 rfl rfl)
theorem dX6_laysSale_50 : decode cX6_laysSale 50 = .ok (.iaload, 1) := dk_46 (dk_at dksX6_laysSale_2 4 rfl rfl)
theorem dX6_laysSale_51 : decode cX6_laysSale 51 = .ok (.aload_n 0, 1) := dk_42 (dk_at dksX6_laysSale_2 5 rfl rfl)
theorem dX6_laysSale_52 : decode cX6_laysSale 52 = .ok (.iload_n 1, 1) := dk_27 (dk_at dksX6_laysSale_2 6 rfl rfl)
theorem dX6_laysSale_53 : decode cX6_laysSale 53 = .ok (.iload_n 3, 1) := dk_29 (dk_at dksX6_laysSale_2 7 rfl rfl)
theorem dX6_laysSale_54 : decode cX6_laysSale 54 = .ok (.iload 4, 2) := dk_21 4 (dk_at dksX6_laysSale_2 8 rfl rfl)
theorem dX6_laysSale_56 : decode cX6_laysSale 56 = .ok (.invokevirtual 428, 3) := dk_182 1 172 (dk_at dksX6_laysSale_2 10 rfl rfl)
theorem dX6_laysSale_59 : decode cX6_laysSale 59 = .ok (.aload_n 0, 1) := dk_42 (dk_at dksX6_laysSale_2 13 rfl rfl)
theorem dX6_laysSale_60 : decode cX6_laysSale 60 = .ok (.getfield 120, 3) := dk_180 0 120 (dk_at dksX6_laysSale_2 14 rfl rfl)
theorem dX6_laysSale_63 : decode cX6_laysSale 63 = .ok (.iload_n 2, 1) := dk_28 (dk_at dksX6_laysSale_2 17 rfl rfl)
theorem dX6_laysSale_64 : decode cX6_laysSale 64 = .ok (.iconst 1, 1) := dk_4 (dk_at dksX6_laysSale_2 18 rfl rfl)
theorem dX6_laysSale_65 : decode cX6_laysSale 65 = .ok (.iload 4, 2) := dk_21 4 (dk_at dksX6_laysSale_2 19 rfl rfl)
theorem dX6_laysSale_67 : decode cX6_laysSale 67 = .ok (.ishl, 1) := dk_120 (dk_at dksX6_laysSale_2 21 rfl rfl)
theorem dX6_laysSale_68 : decode cX6_laysSale 68 = .ok (.ior, 1) := dk_128 (dk_at dksX6_laysSale_2 22 rfl rfl)
theorem dX6_laysSale_69 : decode cX6_laysSale 69 = .ok (.iaload, 1) := dk_46 (dk_at dksX6_laysSale_2 23 rfl rfl)
theorem dX6_laysSale_70 : decode cX6_laysSale 70 = .ok (.iadd, 1) := dk_96 (dk_at dksX6_laysSale_3 0 rfl rfl)
theorem dX6_laysSale_71 : decode cX6_laysSale 71 = .ok (.invokestatic 362, 3) := dk_184 1 106 (dk_at dksX6_laysSale_3 1 rfl rfl)
theorem dX6_laysSale_74 : decode cX6_laysSale 74 = .ok (.iastore, 1) := dk_79 (dk_at dksX6_laysSale_3 4 rfl rfl)
theorem dX6_laysSale_75 : decode cX6_laysSale 75 = .ok (.iinc 4 1, 3) := dk_132 4 1 (dk_at dksX6_laysSale_3 5 rfl rfl)
theorem dX6_laysSale_78 : decode cX6_laysSale 78 = .ok (.goto (-53), 3) := dk_167 255 203 (dk_at dksX6_laysSale_3 8 rfl rfl)
theorem dX6_laysSale_81 : decode cX6_laysSale 81 = .ok (.iinc 2 (-1), 3) := dk_132 2 255 (dk_at dksX6_laysSale_3 11 rfl rfl)
theorem dX6_laysSale_84 : decode cX6_laysSale 84 = .ok (.goto (-78), 3) := dk_167 255 178 (dk_at dksX6_laysSale_3 14 rfl rfl)
theorem dX6_laysSale_87 : decode cX6_laysSale 87 = .ok (.return_, 1) := dk_177 (dk_at dksX6_laysSale_3 17 rfl rfl)
abbrev cX6_rotas : ByteArray := prog_20_method_104_code
def yX6_rotas : MethodName := ⟨RX6, "rotas", "(I)J"⟩
def dkwX6_rotas_6 : List UInt8 := [27, 47, 173]
abbrev dktX6_rotas_6 : List UInt8 := dkwX6_rotas_6 ++ []
def dkwX6_rotas_5 : List UInt8 := [29, 42, 180, 0, 127, 29, 47, 80, 132, 3, 1, 167, 255, 236, 132, 2, 1, 167, 255, 168, 42, 180, 0, 123]
abbrev dktX6_rotas_5 : List UInt8 := dkwX6_rotas_5 ++ dktX6_rotas_6
def dkwX6_rotas_4 : List UInt8 := [100, 4, 96, 133, 105, 97, 80, 132, 3, 1, 167, 255, 207, 3, 62, 29, 27, 163, 0, 21, 42, 180, 0, 123]
abbrev dktX6_rotas_4 : List UInt8 := dkwX6_rotas_4 ++ dktX6_rotas_5
def dkwX6_rotas_3 : List UInt8 := [167, 0, 30, 42, 180, 0, 123, 29, 47, 29, 4, 100, 133, 105, 42, 180, 0, 123, 29, 4, 100, 47, 27, 29]
abbrev dktX6_rotas_3 : List UInt8 := dkwX6_rotas_3 ++ dktX6_rotas_4
def dkwX6_rotas_2 : List UInt8 := [28, 16, 12, 162, 0, 88, 3, 62, 29, 27, 163, 0, 50, 42, 180, 0, 127, 29, 29, 154, 0, 7, 9]
abbrev dktX6_rotas_2 : List UInt8 := dkwX6_rotas_2 ++ dktX6_rotas_3
def dkwX6_rotas_1 : List UInt8 := [180, 0, 123, 28, 28, 4, 160, 0, 8, 27, 133, 167, 0, 4, 9, 80, 132, 2, 1, 167, 255, 231, 4, 61]
abbrev dktX6_rotas_1 : List UInt8 := dkwX6_rotas_1 ++ dktX6_rotas_2
def dkwX6_rotas_0 : List UInt8 := [27, 4, 16, 12, 184, 0, 134, 154, 0, 7, 20, 1, 184, 173, 3, 61, 28, 27, 163, 0, 26, 42]
abbrev dktX6_rotas_0 : List UInt8 := dkwX6_rotas_0 ++ dktX6_rotas_1
theorem dksX6_rotas_0 : cX6_rotas.data.toList.drop 0 = dktX6_rotas_0 := by decide +kernel
theorem dksX6_rotas_1 : cX6_rotas.data.toList.drop 22 = dktX6_rotas_1 := dk_seg dksX6_rotas_0 22 rfl rfl
theorem dksX6_rotas_2 : cX6_rotas.data.toList.drop 46 = dktX6_rotas_2 := dk_seg dksX6_rotas_1 24 rfl rfl
theorem dksX6_rotas_3 : cX6_rotas.data.toList.drop 69 = dktX6_rotas_3 := dk_seg dksX6_rotas_2 23 rfl rfl
theorem dksX6_rotas_4 : cX6_rotas.data.toList.drop 93 = dktX6_rotas_4 := dk_seg dksX6_rotas_3 24 rfl rfl
theorem dksX6_rotas_5 : cX6_rotas.data.toList.drop 117 = dktX6_rotas_5 := dk_seg dksX6_rotas_4 24 rfl rfl
theorem dksX6_rotas_6 : cX6_rotas.data.toList.drop 141 = dktX6_rotas_6 := dk_seg dksX6_rotas_5 24 rfl rfl
theorem dX6_rotas_0 : decode cX6_rotas 0 = .ok (.iload_n 1, 1) := dk_27 (dk_at dksX6_rotas_0 0 rfl rfl)
theorem dX6_rotas_1 : decode cX6_rotas 1 = .ok (.iconst 1, 1) := dk_4 (dk_at dksX6_rotas_0 1 rfl rfl)
theorem dX6_rotas_2 : decode cX6_rotas 2 = .ok (.bipush 12, 2) := dk_16 12 (dk_at dksX6_rotas_0 2 rfl rfl)
theorem dX6_rotas_4 : decode cX6_rotas 4 = .ok (.invokestatic 134, 3) := dk_184 0 134 (dk_at dksX6_rotas_0 4 rfl rfl)
theorem dX6_rotas_7 : decode cX6_rotas 7 = .ok (.ifCond .ne 7, 3) := dk_154 0 7 (dk_at dksX6_rotas_0 7 rfl rfl)
theorem dX6_rotas_10 : decode cX6_rotas 10 = .ok (.ldc2_w 440, 3) := dk_20 1 184 (dk_at dksX6_rotas_0 10 rfl rfl)
theorem dX6_rotas_13 : decode cX6_rotas 13 = .ok (.lreturn, 1) := dk_173 (dk_at dksX6_rotas_0 13 rfl rfl)
theorem dX6_rotas_14 : decode cX6_rotas 14 = .ok (.iconst 0, 1) := dk_3 (dk_at dksX6_rotas_0 14 rfl rfl)
theorem dX6_rotas_15 : decode cX6_rotas 15 = .ok (.istore_n 2, 1) := dk_61 (dk_at dksX6_rotas_0 15 rfl rfl)
theorem dX6_rotas_16 : decode cX6_rotas 16 = .ok (.iload_n 2, 1) := dk_28 (dk_at dksX6_rotas_0 16 rfl rfl)
theorem dX6_rotas_17 : decode cX6_rotas 17 = .ok (.iload_n 1, 1) := dk_27 (dk_at dksX6_rotas_0 17 rfl rfl)
theorem dX6_rotas_18 : decode cX6_rotas 18 = .ok (.if_icmp .gt 26, 3) := dk_163 0 26 (dk_at dksX6_rotas_0 18 rfl rfl)
theorem dX6_rotas_21 : decode cX6_rotas 21 = .ok (.aload_n 0, 1) := dk_42 (dk_at dksX6_rotas_0 21 rfl rfl)
theorem dX6_rotas_22 : decode cX6_rotas 22 = .ok (.getfield 123, 3) := dk_180 0 123 (dk_at dksX6_rotas_1 0 rfl rfl)
theorem dX6_rotas_25 : decode cX6_rotas 25 = .ok (.iload_n 2, 1) := dk_28 (dk_at dksX6_rotas_1 3 rfl rfl)
theorem dX6_rotas_26 : decode cX6_rotas 26 = .ok (.iload_n 2, 1) := dk_28 (dk_at dksX6_rotas_1 4 rfl rfl)
theorem dX6_rotas_27 : decode cX6_rotas 27 = .ok (.iconst 1, 1) := dk_4 (dk_at dksX6_rotas_1 5 rfl rfl)
theorem dX6_rotas_28 : decode cX6_rotas 28 = .ok (.if_icmp .ne 8, 3) := dk_160 0 8 (dk_at dksX6_rotas_1 6 rfl rfl)
theorem dX6_rotas_31 : decode cX6_rotas 31 = .ok (.iload_n 1, 1) := dk_27 (dk_at dksX6_rotas_1 9 rfl rfl)
theorem dX6_rotas_32 : decode cX6_rotas 32 = .ok (.i2l, 1) := dk_133 (dk_at dksX6_rotas_1 10 rfl rfl)
theorem dX6_rotas_33 : decode cX6_rotas 33 = .ok (.goto 4, 3) := dk_167 0 4 (dk_at dksX6_rotas_1 11 rfl rfl)
theorem dX6_rotas_36 : decode cX6_rotas 36 = .ok (.lconst 0, 1) := dk_9 (dk_at dksX6_rotas_1 14 rfl rfl)
theorem dX6_rotas_37 : decode cX6_rotas 37 = .ok (.lastore, 1) := dk_80 (dk_at dksX6_rotas_1 15 rfl rfl)
theorem dX6_rotas_38 : decode cX6_rotas 38 = .ok (.iinc 2 1, 3) := dk_132 2 1 (dk_at dksX6_rotas_1 16 rfl rfl)
theorem dX6_rotas_41 : decode cX6_rotas 41 = .ok (.goto (-25), 3) := dk_167 255 231 (dk_at dksX6_rotas_1 19 rfl rfl)
theorem dX6_rotas_44 : decode cX6_rotas 44 = .ok (.iconst 1, 1) := dk_4 (dk_at dksX6_rotas_1 22 rfl rfl)
theorem dX6_rotas_45 : decode cX6_rotas 45 = .ok (.istore_n 2, 1) := dk_61 (dk_at dksX6_rotas_1 23 rfl rfl)
theorem dX6_rotas_46 : decode cX6_rotas 46 = .ok (.iload_n 2, 1) := dk_28 (dk_at dksX6_rotas_2 0 rfl rfl)
theorem dX6_rotas_47 : decode cX6_rotas 47 = .ok (.bipush 12, 2) := dk_16 12 (dk_at dksX6_rotas_2 1 rfl rfl)
theorem dX6_rotas_49 : decode cX6_rotas 49 = .ok (.if_icmp .ge 88, 3) := dk_162 0 88 (dk_at dksX6_rotas_2 3 rfl rfl)
theorem dX6_rotas_52 : decode cX6_rotas 52 = .ok (.iconst 0, 1) := dk_3 (dk_at dksX6_rotas_2 6 rfl rfl)
theorem dX6_rotas_53 : decode cX6_rotas 53 = .ok (.istore_n 3, 1) := dk_62 (dk_at dksX6_rotas_2 7 rfl rfl)
theorem dX6_rotas_54 : decode cX6_rotas 54 = .ok (.iload_n 3, 1) := dk_29 (dk_at dksX6_rotas_2 8 rfl rfl)
theorem dX6_rotas_55 : decode cX6_rotas 55 = .ok (.iload_n 1, 1) := dk_27 (dk_at dksX6_rotas_2 9 rfl rfl)
theorem dX6_rotas_56 : decode cX6_rotas 56 = .ok (.if_icmp .gt 50, 3) := dk_163 0 50 (dk_at dksX6_rotas_2 10 rfl rfl)
theorem dX6_rotas_59 : decode cX6_rotas 59 = .ok (.aload_n 0, 1) := dk_42 (dk_at dksX6_rotas_2 13 rfl rfl)
theorem dX6_rotas_60 : decode cX6_rotas 60 = .ok (.getfield 127, 3) := dk_180 0 127 (dk_at dksX6_rotas_2 14 rfl rfl)
theorem dX6_rotas_63 : decode cX6_rotas 63 = .ok (.iload_n 3, 1) := dk_29 (dk_at dksX6_rotas_2 17 rfl rfl)
theorem dX6_rotas_64 : decode cX6_rotas 64 = .ok (.iload_n 3, 1) := dk_29 (dk_at dksX6_rotas_2 18 rfl rfl)
theorem dX6_rotas_65 : decode cX6_rotas 65 = .ok (.ifCond .ne 7, 3) := dk_154 0 7 (dk_at dksX6_rotas_2 19 rfl rfl)
theorem dX6_rotas_68 : decode cX6_rotas 68 = .ok (.lconst 0, 1) := dk_9 (dk_at dksX6_rotas_2 22 rfl rfl)
theorem dX6_rotas_69 : decode cX6_rotas 69 = .ok (.goto 30, 3) := dk_167 0 30 (dk_at dksX6_rotas_3 0 rfl rfl)
theorem dX6_rotas_72 : decode cX6_rotas 72 = .ok (.aload_n 0, 1) := dk_42 (dk_at dksX6_rotas_3 3 rfl rfl)
theorem dX6_rotas_73 : decode cX6_rotas 73 = .ok (.getfield 123, 3) := dk_180 0 123 (dk_at dksX6_rotas_3 4 rfl rfl)
theorem dX6_rotas_76 : decode cX6_rotas 76 = .ok (.iload_n 3, 1) := dk_29 (dk_at dksX6_rotas_3 7 rfl rfl)
theorem dX6_rotas_77 : decode cX6_rotas 77 = .ok (.laload, 1) := dk_47 (dk_at dksX6_rotas_3 8 rfl rfl)
theorem dX6_rotas_78 : decode cX6_rotas 78 = .ok (.iload_n 3, 1) := dk_29 (dk_at dksX6_rotas_3 9 rfl rfl)
theorem dX6_rotas_79 : decode cX6_rotas 79 = .ok (.iconst 1, 1) := dk_4 (dk_at dksX6_rotas_3 10 rfl rfl)
theorem dX6_rotas_80 : decode cX6_rotas 80 = .ok (.isub, 1) := dk_100 (dk_at dksX6_rotas_3 11 rfl rfl)
theorem dX6_rotas_81 : decode cX6_rotas 81 = .ok (.i2l, 1) := dk_133 (dk_at dksX6_rotas_3 12 rfl rfl)
theorem dX6_rotas_82 : decode cX6_rotas 82 = .ok (.lmul, 1) := dk_105 (dk_at dksX6_rotas_3 13 rfl rfl)
theorem dX6_rotas_83 : decode cX6_rotas 83 = .ok (.aload_n 0, 1) := dk_42 (dk_at dksX6_rotas_3 14 rfl rfl)
theorem dX6_rotas_84 : decode cX6_rotas 84 = .ok (.getfield 123, 3) := dk_180 0 123 (dk_at dksX6_rotas_3 15 rfl rfl)
theorem dX6_rotas_87 : decode cX6_rotas 87 = .ok (.iload_n 3, 1) := dk_29 (dk_at dksX6_rotas_3 18 rfl rfl)
theorem dX6_rotas_88 : decode cX6_rotas 88 = .ok (.iconst 1, 1) := dk_4 (dk_at dksX6_rotas_3 19 rfl rfl)
theorem dX6_rotas_89 : decode cX6_rotas 89 = .ok (.isub, 1) := dk_100 (dk_at dksX6_rotas_3 20 rfl rfl)
theorem dX6_rotas_90 : decode cX6_rotas 90 = .ok (.laload, 1) := dk_47 (dk_at dksX6_rotas_3 21 rfl rfl)
theorem dX6_rotas_91 : decode cX6_rotas 91 = .ok (.iload_n 1, 1) := dk_27 (dk_at dksX6_rotas_3 22 rfl rfl)
theorem dX6_rotas_92 : decode cX6_rotas 92 = .ok (.iload_n 3, 1) := dk_29 (dk_at dksX6_rotas_3 23 rfl rfl)
theorem dX6_rotas_93 : decode cX6_rotas 93 = .ok (.isub, 1) := dk_100 (dk_at dksX6_rotas_4 0 rfl rfl)
theorem dX6_rotas_94 : decode cX6_rotas 94 = .ok (.iconst 1, 1) := dk_4 (dk_at dksX6_rotas_4 1 rfl rfl)
theorem dX6_rotas_95 : decode cX6_rotas 95 = .ok (.iadd, 1) := dk_96 (dk_at dksX6_rotas_4 2 rfl rfl)
theorem dX6_rotas_96 : decode cX6_rotas 96 = .ok (.i2l, 1) := dk_133 (dk_at dksX6_rotas_4 3 rfl rfl)
theorem dX6_rotas_97 : decode cX6_rotas 97 = .ok (.lmul, 1) := dk_105 (dk_at dksX6_rotas_4 4 rfl rfl)
theorem dX6_rotas_98 : decode cX6_rotas 98 = .ok (.ladd, 1) := dk_97 (dk_at dksX6_rotas_4 5 rfl rfl)
theorem dX6_rotas_99 : decode cX6_rotas 99 = .ok (.lastore, 1) := dk_80 (dk_at dksX6_rotas_4 6 rfl rfl)
theorem dX6_rotas_100 : decode cX6_rotas 100 = .ok (.iinc 3 1, 3) := dk_132 3 1 (dk_at dksX6_rotas_4 7 rfl rfl)
theorem dX6_rotas_103 : decode cX6_rotas 103 = .ok (.goto (-49), 3) := dk_167 255 207 (dk_at dksX6_rotas_4 10 rfl rfl)
theorem dX6_rotas_106 : decode cX6_rotas 106 = .ok (.iconst 0, 1) := dk_3 (dk_at dksX6_rotas_4 13 rfl rfl)
theorem dX6_rotas_107 : decode cX6_rotas 107 = .ok (.istore_n 3, 1) := dk_62 (dk_at dksX6_rotas_4 14 rfl rfl)
theorem dX6_rotas_108 : decode cX6_rotas 108 = .ok (.iload_n 3, 1) := dk_29 (dk_at dksX6_rotas_4 15 rfl rfl)
theorem dX6_rotas_109 : decode cX6_rotas 109 = .ok (.iload_n 1, 1) := dk_27 (dk_at dksX6_rotas_4 16 rfl rfl)
theorem dX6_rotas_110 : decode cX6_rotas 110 = .ok (.if_icmp .gt 21, 3) := dk_163 0 21 (dk_at dksX6_rotas_4 17 rfl rfl)
theorem dX6_rotas_113 : decode cX6_rotas 113 = .ok (.aload_n 0, 1) := dk_42 (dk_at dksX6_rotas_4 20 rfl rfl)
theorem dX6_rotas_114 : decode cX6_rotas 114 = .ok (.getfield 123, 3) := dk_180 0 123 (dk_at dksX6_rotas_4 21 rfl rfl)
theorem dX6_rotas_117 : decode cX6_rotas 117 = .ok (.iload_n 3, 1) := dk_29 (dk_at dksX6_rotas_5 0 rfl rfl)
theorem dX6_rotas_118 : decode cX6_rotas 118 = .ok (.aload_n 0, 1) := dk_42 (dk_at dksX6_rotas_5 1 rfl rfl)
theorem dX6_rotas_119 : decode cX6_rotas 119 = .ok (.getfield 127, 3) := dk_180 0 127 (dk_at dksX6_rotas_5 2 rfl rfl)
theorem dX6_rotas_122 : decode cX6_rotas 122 = .ok (.iload_n 3, 1) := dk_29 (dk_at dksX6_rotas_5 5 rfl rfl)
theorem dX6_rotas_123 : decode cX6_rotas 123 = .ok (.laload, 1) := dk_47 (dk_at dksX6_rotas_5 6 rfl rfl)
theorem dX6_rotas_124 : decode cX6_rotas 124 = .ok (.lastore, 1) := dk_80 (dk_at dksX6_rotas_5 7 rfl rfl)
theorem dX6_rotas_125 : decode cX6_rotas 125 = .ok (.iinc 3 1, 3) := dk_132 3 1 (dk_at dksX6_rotas_5 8 rfl rfl)
theorem dX6_rotas_128 : decode cX6_rotas 128 = .ok (.goto (-20), 3) := dk_167 255 236 (dk_at dksX6_rotas_5 11 rfl rfl)
theorem dX6_rotas_131 : decode cX6_rotas 131 = .ok (.iinc 2 1, 3) := dk_132 2 1 (dk_at dksX6_rotas_5 14 rfl rfl)
theorem dX6_rotas_134 : decode cX6_rotas 134 = .ok (.goto (-88), 3) := dk_167 255 168 (dk_at dksX6_rotas_5 17 rfl rfl)
theorem dX6_rotas_137 : decode cX6_rotas 137 = .ok (.aload_n 0, 1) := dk_42 (dk_at dksX6_rotas_5 20 rfl rfl)
theorem dX6_rotas_138 : decode cX6_rotas 138 = .ok (.getfield 123, 3) := dk_180 0 123 (dk_at dksX6_rotas_5 21 rfl rfl)
theorem dX6_rotas_141 : decode cX6_rotas 141 = .ok (.iload_n 1, 1) := dk_27 (dk_at dksX6_rotas_6 0 rfl rfl)
theorem dX6_rotas_142 : decode cX6_rotas 142 = .ok (.laload, 1) := dk_47 (dk_at dksX6_rotas_6 1 rfl rfl)
theorem dX6_rotas_143 : decode cX6_rotas 143 = .ok (.lreturn, 1) := dk_173 (dk_at dksX6_rotas_6 2 rfl rfl)
abbrev cX6_panes : ByteArray := prog_20_method_107_code
def yX6_panes : MethodName := ⟨RX6, "panes", "(II)I"⟩
def dkwX6_panes_4 : List UInt8 := [4, 96, 104, 184, 1, 106, 62, 132, 7, 1, 167, 255, 216, 132, 4, 1, 167, 255, 187, 29, 172]
abbrev dktX6_panes_4 : List UInt8 := dkwX6_panes_4 ++ []
def dkwX6_panes_3 : List UInt8 := [21, 5, 21, 6, 163, 0, 33, 29, 42, 21, 7, 27, 21, 5, 21, 6, 182, 1, 189, 21, 6, 21, 5, 100]
abbrev dktX6_panes_3 : List UInt8 := dkwX6_panes_3 ++ dktX6_panes_4
def dkwX6_panes_2 : List UInt8 := [162, 0, 67, 21, 4, 28, 108, 54, 5, 21, 4, 28, 112, 54, 6, 3, 54, 7, 21, 7, 27, 162, 0, 40]
abbrev dktX6_panes_2 : List UInt8 := dkwX6_panes_2 ++ dktX6_panes_3
def dkwX6_panes_1 : List UInt8 := [180, 0, 162, 164, 0, 5, 2, 172, 42, 3, 181, 0, 162, 3, 62, 3, 54, 4, 21, 4, 28, 28, 104]
abbrev dktX6_panes_1 : List UInt8 := dkwX6_panes_1 ++ dktX6_panes_2
def dkwX6_panes_0 : List UInt8 := [27, 4, 16, 6, 184, 0, 134, 153, 0, 21, 28, 4, 16, 6, 184, 0, 134, 153, 0, 11, 27, 42]
abbrev dktX6_panes_0 : List UInt8 := dkwX6_panes_0 ++ dktX6_panes_1
theorem dksX6_panes_0 : cX6_panes.data.toList.drop 0 = dktX6_panes_0 := by decide +kernel
theorem dksX6_panes_1 : cX6_panes.data.toList.drop 22 = dktX6_panes_1 := dk_seg dksX6_panes_0 22 rfl rfl
theorem dksX6_panes_2 : cX6_panes.data.toList.drop 45 = dktX6_panes_2 := dk_seg dksX6_panes_1 23 rfl rfl
theorem dksX6_panes_3 : cX6_panes.data.toList.drop 69 = dktX6_panes_3 := dk_seg dksX6_panes_2 24 rfl rfl
theorem dksX6_panes_4 : cX6_panes.data.toList.drop 93 = dktX6_panes_4 := dk_seg dksX6_panes_3 24 rfl rfl
theorem dX6_panes_0 : decode cX6_panes 0 = .ok (.iload_n 1, 1) := dk_27 (dk_at dksX6_panes_0 0 rfl rfl)
theorem dX6_panes_1 : decode cX6_panes 1 = .ok (.iconst 1, 1) := dk_4 (dk_at dksX6_panes_0 1 rfl rfl)
theorem dX6_panes_2 : decode cX6_panes 2 = .ok (.bipush 6, 2) := dk_16 6 (dk_at dksX6_panes_0 2 rfl rfl)
theorem dX6_panes_4 : decode cX6_panes 4 = .ok (.invokestatic 134, 3) := dk_184 0 134 (dk_at dksX6_panes_0 4 rfl rfl)
theorem dX6_panes_7 : decode cX6_panes 7 = .ok (.ifCond .eq 21, 3) := dk_153 0 21 (dk_at dksX6_panes_0 7 rfl rfl)
theorem dX6_panes_10 : decode cX6_panes 10 = .ok (.iload_n 2, 1) := dk_28 (dk_at dksX6_panes_0 10 rfl rfl)
theorem dX6_panes_11 : decode cX6_panes 11 = .ok (.iconst 1, 1) := dk_4 (dk_at dksX6_panes_0 11 rfl rfl)
theorem dX6_panes_12 : decode cX6_panes 12 = .ok (.bipush 6, 2) := dk_16 6 (dk_at dksX6_panes_0 12 rfl rfl)
theorem dX6_panes_14 : decode cX6_panes 14 = .ok (.invokestatic 134, 3) := dk_184 0 134 (dk_at dksX6_panes_0 14 rfl rfl)
theorem dX6_panes_17 : decode cX6_panes 17 = .ok (.ifCond .eq 11, 3) := dk_153 0 11 (dk_at dksX6_panes_0 17 rfl rfl)
theorem dX6_panes_20 : decode cX6_panes 20 = .ok (.iload_n 1, 1) := dk_27 (dk_at dksX6_panes_0 20 rfl rfl)
theorem dX6_panes_21 : decode cX6_panes 21 = .ok (.aload_n 0, 1) := dk_42 (dk_at dksX6_panes_0 21 rfl rfl)
theorem dX6_panes_22 : decode cX6_panes 22 = .ok (.getfield 162, 3) := dk_180 0 162 (dk_at dksX6_panes_1 0 rfl rfl)
theorem dX6_panes_25 : decode cX6_panes 25 = .ok (.if_icmp .le 5, 3) := dk_164 0 5 (dk_at dksX6_panes_1 3 rfl rfl)
theorem dX6_panes_28 : decode cX6_panes 28 = .ok (.iconst (-1), 1) := dk_2 (dk_at dksX6_panes_1 6 rfl rfl)
theorem dX6_panes_29 : decode cX6_panes 29 = .ok (.ireturn, 1) := dk_172 (dk_at dksX6_panes_1 7 rfl rfl)
theorem dX6_panes_30 : decode cX6_panes 30 = .ok (.aload_n 0, 1) := dk_42 (dk_at dksX6_panes_1 8 rfl rfl)
theorem dX6_panes_31 : decode cX6_panes 31 = .ok (.iconst 0, 1) := dk_3 (dk_at dksX6_panes_1 9 rfl rfl)
theorem dX6_panes_32 : decode cX6_panes 32 = .ok (.putfield 162, 3) := dk_181 0 162 (dk_at dksX6_panes_1 10 rfl rfl)
theorem dX6_panes_35 : decode cX6_panes 35 = .ok (.iconst 0, 1) := dk_3 (dk_at dksX6_panes_1 13 rfl rfl)
theorem dX6_panes_36 : decode cX6_panes 36 = .ok (.istore_n 3, 1) := dk_62 (dk_at dksX6_panes_1 14 rfl rfl)
theorem dX6_panes_37 : decode cX6_panes 37 = .ok (.iconst 0, 1) := dk_3 (dk_at dksX6_panes_1 15 rfl rfl)
theorem dX6_panes_38 : decode cX6_panes 38 = .ok (.istore 4, 2) := dk_54 4 (dk_at dksX6_panes_1 16 rfl rfl)
theorem dX6_panes_40 : decode cX6_panes 40 = .ok (.iload 4, 2) := dk_21 4 (dk_at dksX6_panes_1 18 rfl rfl)
theorem dX6_panes_42 : decode cX6_panes 42 = .ok (.iload_n 2, 1) := dk_28 (dk_at dksX6_panes_1 20 rfl rfl)
theorem dX6_panes_43 : decode cX6_panes 43 = .ok (.iload_n 2, 1) := dk_28 (dk_at dksX6_panes_1 21 rfl rfl)
theorem dX6_panes_44 : decode cX6_panes 44 = .ok (.imul, 1) := dk_104 (dk_at dksX6_panes_1 22 rfl rfl)
theorem dX6_panes_45 : decode cX6_panes 45 = .ok (.if_icmp .ge 67, 3) := dk_162 0 67 (dk_at dksX6_panes_2 0 rfl rfl)
theorem dX6_panes_48 : decode cX6_panes 48 = .ok (.iload 4, 2) := dk_21 4 (dk_at dksX6_panes_2 3 rfl rfl)
theorem dX6_panes_50 : decode cX6_panes 50 = .ok (.iload_n 2, 1) := dk_28 (dk_at dksX6_panes_2 5 rfl rfl)
theorem dX6_panes_51 : decode cX6_panes 51 = .ok (.idiv, 1) := dk_108 (dk_at dksX6_panes_2 6 rfl rfl)
theorem dX6_panes_52 : decode cX6_panes 52 = .ok (.istore 5, 2) := dk_54 5 (dk_at dksX6_panes_2 7 rfl rfl)
theorem dX6_panes_54 : decode cX6_panes 54 = .ok (.iload 4, 2) := dk_21 4 (dk_at dksX6_panes_2 9 rfl rfl)
theorem dX6_panes_56 : decode cX6_panes 56 = .ok (.iload_n 2, 1) := dk_28 (dk_at dksX6_panes_2 11 rfl rfl)
theorem dX6_panes_57 : decode cX6_panes 57 = .ok (.irem, 1) := dk_112 (dk_at dksX6_panes_2 12 rfl rfl)
theorem dX6_panes_58 : decode cX6_panes 58 = .ok (.istore 6, 2) := dk_54 6 (dk_at dksX6_panes_2 13 rfl rfl)
theorem dX6_panes_60 : decode cX6_panes 60 = .ok (.iconst 0, 1) := dk_3 (dk_at dksX6_panes_2 15 rfl rfl)
theorem dX6_panes_61 : decode cX6_panes 61 = .ok (.istore 7, 2) := dk_54 7 (dk_at dksX6_panes_2 16 rfl rfl)
theorem dX6_panes_63 : decode cX6_panes 63 = .ok (.iload 7, 2) := dk_21 7 (dk_at dksX6_panes_2 18 rfl rfl)
theorem dX6_panes_65 : decode cX6_panes 65 = .ok (.iload_n 1, 1) := dk_27 (dk_at dksX6_panes_2 20 rfl rfl)
theorem dX6_panes_66 : decode cX6_panes 66 = .ok (.if_icmp .ge 40, 3) := dk_162 0 40 (dk_at dksX6_panes_2 21 rfl rfl)
theorem dX6_panes_69 : decode cX6_panes 69 = .ok (.iload 5, 2) := dk_21 5 (dk_at dksX6_panes_3 0 rfl rfl)
theorem dX6_panes_71 : decode cX6_panes 71 = .ok (.iload 6, 2) := dk_21 6 (dk_at dksX6_panes_3 2 rfl rfl)
theorem dX6_panes_73 : decode cX6_panes 73 = .ok (.if_icmp .gt 33, 3) := dk_163 0 33 (dk_at dksX6_panes_3 4 rfl rfl)
theorem dX6_panes_76 : decode cX6_panes 76 = .ok (.iload_n 3, 1) := dk_29 (dk_at dksX6_panes_3 7 rfl rfl)
theorem dX6_panes_77 : decode cX6_panes 77 = .ok (.aload_n 0, 1) := dk_42 (dk_at dksX6_panes_3 8 rfl rfl)
theorem dX6_panes_78 : decode cX6_panes 78 = .ok (.iload 7, 2) := dk_21 7 (dk_at dksX6_panes_3 9 rfl rfl)
theorem dX6_panes_80 : decode cX6_panes 80 = .ok (.iload_n 1, 1) := dk_27 (dk_at dksX6_panes_3 11 rfl rfl)
theorem dX6_panes_81 : decode cX6_panes 81 = .ok (.iload 5, 2) := dk_21 5 (dk_at dksX6_panes_3 12 rfl rfl)
theorem dX6_panes_83 : decode cX6_panes 83 = .ok (.iload 6, 2) := dk_21 6 (dk_at dksX6_panes_3 14 rfl rfl)
theorem dX6_panes_85 : decode cX6_panes 85 = .ok (.invokevirtual 445, 3) := dk_182 1 189 (dk_at dksX6_panes_3 16 rfl rfl)
theorem dX6_panes_88 : decode cX6_panes 88 = .ok (.iload 6, 2) := dk_21 6 (dk_at dksX6_panes_3 19 rfl rfl)
theorem dX6_panes_90 : decode cX6_panes 90 = .ok (.iload 5, 2) := dk_21 5 (dk_at dksX6_panes_3 21 rfl rfl)
theorem dX6_panes_92 : decode cX6_panes 92 = .ok (.isub, 1) := dk_100 (dk_at dksX6_panes_3 23 rfl rfl)
theorem dX6_panes_93 : decode cX6_panes 93 = .ok (.iconst 1, 1) := dk_4 (dk_at dksX6_panes_4 0 rfl rfl)
theorem dX6_panes_94 : decode cX6_panes 94 = .ok (.iadd, 1) := dk_96 (dk_at dksX6_panes_4 1 rfl rfl)
theorem dX6_panes_95 : decode cX6_panes 95 = .ok (.imul, 1) := dk_104 (dk_at dksX6_panes_4 2 rfl rfl)
theorem dX6_panes_96 : decode cX6_panes 96 = .ok (.invokestatic 362, 3) := dk_184 1 106 (dk_at dksX6_panes_4 3 rfl rfl)
theorem dX6_panes_99 : decode cX6_panes 99 = .ok (.istore_n 3, 1) := dk_62 (dk_at dksX6_panes_4 6 rfl rfl)
theorem dX6_panes_100 : decode cX6_panes 100 = .ok (.iinc 7 1, 3) := dk_132 7 1 (dk_at dksX6_panes_4 7 rfl rfl)
theorem dX6_panes_103 : decode cX6_panes 103 = .ok (.goto (-40), 3) := dk_167 255 216 (dk_at dksX6_panes_4 10 rfl rfl)
theorem dX6_panes_106 : decode cX6_panes 106 = .ok (.iinc 4 1, 3) := dk_132 4 1 (dk_at dksX6_panes_4 13 rfl rfl)
theorem dX6_panes_109 : decode cX6_panes 109 = .ok (.goto (-69), 3) := dk_167 255 187 (dk_at dksX6_panes_4 16 rfl rfl)
theorem dX6_panes_112 : decode cX6_panes 112 = .ok (.iload_n 3, 1) := dk_29 (dk_at dksX6_panes_4 19 rfl rfl)
theorem dX6_panes_113 : decode cX6_panes 113 = .ok (.ireturn, 1) := dk_172 (dk_at dksX6_panes_4 20 rfl rfl)
abbrev cX6_tallFrom : ByteArray := prog_20_method_106_code
def yX6_tallFrom : MethodName := ⟨RX6, "tallFrom", "(IIII)I"⟩
def dkwX6_tallFrom_1 : List UInt8 := [184, 1, 186, 153, 0, 12, 21, 5, 4, 96, 54, 5, 167, 255, 225, 21, 5, 172]
abbrev dktX6_tallFrom_1 : List UInt8 := dkwX6_tallFrom_1 ++ []
def dkwX6_tallFrom_0 : List UInt8 := [3, 54, 5, 27, 21, 5, 96, 28, 162, 0, 29, 42, 27, 21, 5, 96, 182, 1, 144, 29, 21, 4]
abbrev dktX6_tallFrom_0 : List UInt8 := dkwX6_tallFrom_0 ++ dktX6_tallFrom_1
theorem dksX6_tallFrom_0 : cX6_tallFrom.data.toList.drop 0 = dktX6_tallFrom_0 := by decide +kernel
theorem dksX6_tallFrom_1 : cX6_tallFrom.data.toList.drop 22 = dktX6_tallFrom_1 := dk_seg dksX6_tallFrom_0 22 rfl rfl
theorem dX6_tallFrom_0 : decode cX6_tallFrom 0 = .ok (.iconst 0, 1) := dk_3 (dk_at dksX6_tallFrom_0 0 rfl rfl)
theorem dX6_tallFrom_1 : decode cX6_tallFrom 1 = .ok (.istore 5, 2) := dk_54 5 (dk_at dksX6_tallFrom_0 1 rfl rfl)
theorem dX6_tallFrom_3 : decode cX6_tallFrom 3 = .ok (.iload_n 1, 1) := dk_27 (dk_at dksX6_tallFrom_0 3 rfl rfl)
theorem dX6_tallFrom_4 : decode cX6_tallFrom 4 = .ok (.iload 5, 2) := dk_21 5 (dk_at dksX6_tallFrom_0 4 rfl rfl)
theorem dX6_tallFrom_6 : decode cX6_tallFrom 6 = .ok (.iadd, 1) := dk_96 (dk_at dksX6_tallFrom_0 6 rfl rfl)
theorem dX6_tallFrom_7 : decode cX6_tallFrom 7 = .ok (.iload_n 2, 1) := dk_28 (dk_at dksX6_tallFrom_0 7 rfl rfl)
theorem dX6_tallFrom_8 : decode cX6_tallFrom 8 = .ok (.if_icmp .ge 29, 3) := dk_162 0 29 (dk_at dksX6_tallFrom_0 8 rfl rfl)
theorem dX6_tallFrom_11 : decode cX6_tallFrom 11 = .ok (.aload_n 0, 1) := dk_42 (dk_at dksX6_tallFrom_0 11 rfl rfl)
theorem dX6_tallFrom_12 : decode cX6_tallFrom 12 = .ok (.iload_n 1, 1) := dk_27 (dk_at dksX6_tallFrom_0 12 rfl rfl)
theorem dX6_tallFrom_13 : decode cX6_tallFrom 13 = .ok (.iload 5, 2) := dk_21 5 (dk_at dksX6_tallFrom_0 13 rfl rfl)
theorem dX6_tallFrom_15 : decode cX6_tallFrom 15 = .ok (.iadd, 1) := dk_96 (dk_at dksX6_tallFrom_0 15 rfl rfl)
theorem dX6_tallFrom_16 : decode cX6_tallFrom 16 = .ok (.invokevirtual 400, 3) := dk_182 1 144 (dk_at dksX6_tallFrom_0 16 rfl rfl)
theorem dX6_tallFrom_19 : decode cX6_tallFrom 19 = .ok (.iload_n 3, 1) := dk_29 (dk_at dksX6_tallFrom_0 19 rfl rfl)
theorem dX6_tallFrom_20 : decode cX6_tallFrom 20 = .ok (.iload 4, 2) := dk_21 4 (dk_at dksX6_tallFrom_0 20 rfl rfl)
theorem dX6_tallFrom_22 : decode cX6_tallFrom 22 = .ok (.invokestatic 442, 3) := dk_184 1 186 (dk_at dksX6_tallFrom_1 0 rfl rfl)
theorem dX6_tallFrom_25 : decode cX6_tallFrom 25 = .ok (.ifCond .eq 12, 3) := dk_153 0 12 (dk_at dksX6_tallFrom_1 3 rfl rfl)
theorem dX6_tallFrom_28 : decode cX6_tallFrom 28 = .ok (.iload 5, 2) := dk_21 5 (dk_at dksX6_tallFrom_1 6 rfl rfl)
theorem dX6_tallFrom_30 : decode cX6_tallFrom 30 = .ok (.iconst 1, 1) := dk_4 (dk_at dksX6_tallFrom_1 8 rfl rfl)
theorem dX6_tallFrom_31 : decode cX6_tallFrom 31 = .ok (.iadd, 1) := dk_96 (dk_at dksX6_tallFrom_1 9 rfl rfl)
theorem dX6_tallFrom_32 : decode cX6_tallFrom 32 = .ok (.istore 5, 2) := dk_54 5 (dk_at dksX6_tallFrom_1 10 rfl rfl)
theorem dX6_tallFrom_34 : decode cX6_tallFrom 34 = .ok (.goto (-31), 3) := dk_167 255 225 (dk_at dksX6_tallFrom_1 12 rfl rfl)
theorem dX6_tallFrom_37 : decode cX6_tallFrom 37 = .ok (.iload 5, 2) := dk_21 5 (dk_at dksX6_tallFrom_1 15 rfl rfl)
theorem dX6_tallFrom_39 : decode cX6_tallFrom 39 = .ok (.ireturn, 1) := dk_172 (dk_at dksX6_tallFrom_1 17 rfl rfl)
abbrev cX6_areClear : ByteArray := prog_20_method_105_code
def yX6_areClear : MethodName := ⟨RX6, "areClear", "(III)Z"⟩
def dkwX6_areClear_1 : List UInt8 := [172]
abbrev dktX6_areClear_1 : List UInt8 := dkwX6_areClear_1 ++ []
def dkwX6_areClear_0 : List UInt8 := [27, 62, 29, 28, 163, 0, 19, 26, 29, 184, 0, 130, 153, 0, 5, 3, 172, 132, 3, 1, 167, 255, 238, 4]
abbrev dktX6_areClear_0 : List UInt8 := dkwX6_areClear_0 ++ dktX6_areClear_1
theorem dksX6_areClear_0 : cX6_areClear.data.toList.drop 0 = dktX6_areClear_0 := by decide +kernel
theorem dksX6_areClear_1 : cX6_areClear.data.toList.drop 24 = dktX6_areClear_1 := dk_seg dksX6_areClear_0 24 rfl rfl
theorem dX6_areClear_0 : decode cX6_areClear 0 = .ok (.iload_n 1, 1) := dk_27 (dk_at dksX6_areClear_0 0 rfl rfl)
theorem dX6_areClear_1 : decode cX6_areClear 1 = .ok (.istore_n 3, 1) := dk_62 (dk_at dksX6_areClear_0 1 rfl rfl)
theorem dX6_areClear_2 : decode cX6_areClear 2 = .ok (.iload_n 3, 1) := dk_29 (dk_at dksX6_areClear_0 2 rfl rfl)
theorem dX6_areClear_3 : decode cX6_areClear 3 = .ok (.iload_n 2, 1) := dk_28 (dk_at dksX6_areClear_0 3 rfl rfl)
theorem dX6_areClear_4 : decode cX6_areClear 4 = .ok (.if_icmp .gt 19, 3) := dk_163 0 19 (dk_at dksX6_areClear_0 4 rfl rfl)
theorem dX6_areClear_7 : decode cX6_areClear 7 = .ok (.iload_n 0, 1) := dk_26 (dk_at dksX6_areClear_0 7 rfl rfl)
theorem dX6_areClear_8 : decode cX6_areClear 8 = .ok (.iload_n 3, 1) := dk_29 (dk_at dksX6_areClear_0 8 rfl rfl)
theorem dX6_areClear_9 : decode cX6_areClear 9 = .ok (.invokestatic 130, 3) := dk_184 0 130 (dk_at dksX6_areClear_0 9 rfl rfl)
theorem dX6_areClear_12 : decode cX6_areClear 12 = .ok (.ifCond .eq 5, 3) := dk_153 0 5 (dk_at dksX6_areClear_0 12 rfl rfl)
theorem dX6_areClear_15 : decode cX6_areClear 15 = .ok (.iconst 0, 1) := dk_3 (dk_at dksX6_areClear_0 15 rfl rfl)
theorem dX6_areClear_16 : decode cX6_areClear 16 = .ok (.ireturn, 1) := dk_172 (dk_at dksX6_areClear_0 16 rfl rfl)
theorem dX6_areClear_17 : decode cX6_areClear 17 = .ok (.iinc 3 1, 3) := dk_132 3 1 (dk_at dksX6_areClear_0 17 rfl rfl)
theorem dX6_areClear_20 : decode cX6_areClear 20 = .ok (.goto (-18), 3) := dk_167 255 238 (dk_at dksX6_areClear_0 20 rfl rfl)
theorem dX6_areClear_23 : decode cX6_areClear 23 = .ok (.iconst 1, 1) := dk_4 (dk_at dksX6_areClear_0 23 rfl rfl)
theorem dX6_areClear_24 : decode cX6_areClear 24 = .ok (.ireturn, 1) := dk_172 (dk_at dksX6_areClear_1 0 rfl rfl)
abbrev cX6_keepIt : ByteArray := prog_20_method_109_code
def yX6_keepIt : MethodName := ⟨RX6, "keepIt", "(II)I"⟩
def dkwX6_keepIt_3 : List UInt8 := [182, 1, 193, 164, 0, 6, 21, 4, 62, 132, 4, 1, 167, 255, 228, 29, 172]
abbrev dktX6_keepIt_3 : List UInt8 := dkwX6_keepIt_3 ++ []
def dkwX6_keepIt_2 : List UInt8 := [172, 3, 62, 4, 54, 4, 21, 4, 27, 162, 0, 28, 42, 27, 21, 4, 182, 1, 193, 42, 27, 29]
abbrev dktX6_keepIt_2 : List UInt8 := dkwX6_keepIt_2 ++ dktX6_keepIt_3
def dkwX6_keepIt_1 : List UInt8 := [180, 0, 162, 164, 0, 5, 2, 172, 42, 3, 181, 0, 162, 28, 2, 159, 0, 10, 42, 27, 28, 182, 1, 193]
abbrev dktX6_keepIt_1 : List UInt8 := dkwX6_keepIt_1 ++ dktX6_keepIt_2
def dkwX6_keepIt_0 : List UInt8 := [27, 4, 16, 20, 184, 0, 134, 153, 0, 22, 28, 2, 27, 4, 100, 184, 0, 134, 153, 0, 11, 27, 42]
abbrev dktX6_keepIt_0 : List UInt8 := dkwX6_keepIt_0 ++ dktX6_keepIt_1
theorem dksX6_keepIt_0 : cX6_keepIt.data.toList.drop 0 = dktX6_keepIt_0 := by decide +kernel
theorem dksX6_keepIt_1 : cX6_keepIt.data.toList.drop 23 = dktX6_keepIt_1 := dk_seg dksX6_keepIt_0 23 rfl rfl
theorem dksX6_keepIt_2 : cX6_keepIt.data.toList.drop 47 = dktX6_keepIt_2 := dk_seg dksX6_keepIt_1 24 rfl rfl
theorem dksX6_keepIt_3 : cX6_keepIt.data.toList.drop 69 = dktX6_keepIt_3 := dk_seg dksX6_keepIt_2 22 rfl rfl
theorem dX6_keepIt_0 : decode cX6_keepIt 0 = .ok (.iload_n 1, 1) := dk_27 (dk_at dksX6_keepIt_0 0 rfl rfl)
theorem dX6_keepIt_1 : decode cX6_keepIt 1 = .ok (.iconst 1, 1) := dk_4 (dk_at dksX6_keepIt_0 1 rfl rfl)
theorem dX6_keepIt_2 : decode cX6_keepIt 2 = .ok (.bipush 20, 2) := dk_16 20 (dk_at dksX6_keepIt_0 2 rfl rfl)
theorem dX6_keepIt_4 : decode cX6_keepIt 4 = .ok (.invokestatic 134, 3) := dk_184 0 134 (dk_at dksX6_keepIt_0 4 rfl rfl)
theorem dX6_keepIt_7 : decode cX6_keepIt 7 = .ok (.ifCond .eq 22, 3) := dk_153 0 22 (dk_at dksX6_keepIt_0 7 rfl rfl)
theorem dX6_keepIt_10 : decode cX6_keepIt 10 = .ok (.iload_n 2, 1) := dk_28 (dk_at dksX6_keepIt_0 10 rfl rfl)
theorem dX6_keepIt_11 : decode cX6_keepIt 11 = .ok (.iconst (-1), 1) := dk_2 (dk_at dksX6_keepIt_0 11 rfl rfl)
theorem dX6_keepIt_12 : decode cX6_keepIt 12 = .ok (.iload_n 1, 1) := dk_27 (dk_at dksX6_keepIt_0 12 rfl rfl)
theorem dX6_keepIt_13 : decode cX6_keepIt 13 = .ok (.iconst 1, 1) := dk_4 (dk_at dksX6_keepIt_0 13 rfl rfl)
theorem dX6_keepIt_14 : decode cX6_keepIt 14 = .ok (.isub, 1) := dk_100 (dk_at dksX6_keepIt_0 14 rfl rfl)
theorem dX6_keepIt_15 : decode cX6_keepIt 15 = .ok (.invokestatic 134, 3) := dk_184 0 134 (dk_at dksX6_keepIt_0 15 rfl rfl)
theorem dX6_keepIt_18 : decode cX6_keepIt 18 = .ok (.ifCond .eq 11, 3) := dk_153 0 11 (dk_at dksX6_keepIt_0 18 rfl rfl)
theorem dX6_keepIt_21 : decode cX6_keepIt 21 = .ok (.iload_n 1, 1) := dk_27 (dk_at dksX6_keepIt_0 21 rfl rfl)
theorem dX6_keepIt_22 : decode cX6_keepIt 22 = .ok (.aload_n 0, 1) := dk_42 (dk_at dksX6_keepIt_0 22 rfl rfl)
theorem dX6_keepIt_23 : decode cX6_keepIt 23 = .ok (.getfield 162, 3) := dk_180 0 162 (dk_at dksX6_keepIt_1 0 rfl rfl)
theorem dX6_keepIt_26 : decode cX6_keepIt 26 = .ok (.if_icmp .le 5, 3) := dk_164 0 5 (dk_at dksX6_keepIt_1 3 rfl rfl)
theorem dX6_keepIt_29 : decode cX6_keepIt 29 = .ok (.iconst (-1), 1) := dk_2 (dk_at dksX6_keepIt_1 6 rfl rfl)
theorem dX6_keepIt_30 : decode cX6_keepIt 30 = .ok (.ireturn, 1) := dk_172 (dk_at dksX6_keepIt_1 7 rfl rfl)
theorem dX6_keepIt_31 : decode cX6_keepIt 31 = .ok (.aload_n 0, 1) := dk_42 (dk_at dksX6_keepIt_1 8 rfl rfl)
theorem dX6_keepIt_32 : decode cX6_keepIt 32 = .ok (.iconst 0, 1) := dk_3 (dk_at dksX6_keepIt_1 9 rfl rfl)
theorem dX6_keepIt_33 : decode cX6_keepIt 33 = .ok (.putfield 162, 3) := dk_181 0 162 (dk_at dksX6_keepIt_1 10 rfl rfl)
theorem dX6_keepIt_36 : decode cX6_keepIt 36 = .ok (.iload_n 2, 1) := dk_28 (dk_at dksX6_keepIt_1 13 rfl rfl)
theorem dX6_keepIt_37 : decode cX6_keepIt 37 = .ok (.iconst (-1), 1) := dk_2 (dk_at dksX6_keepIt_1 14 rfl rfl)
theorem dX6_keepIt_38 : decode cX6_keepIt 38 = .ok (.if_icmp .eq 10, 3) := dk_159 0 10 (dk_at dksX6_keepIt_1 15 rfl rfl)
theorem dX6_keepIt_41 : decode cX6_keepIt 41 = .ok (.aload_n 0, 1) := dk_42 (dk_at dksX6_keepIt_1 18 rfl rfl)
theorem dX6_keepIt_42 : decode cX6_keepIt 42 = .ok (.iload_n 1, 1) := dk_27 (dk_at dksX6_keepIt_1 19 rfl rfl)
theorem dX6_keepIt_43 : decode cX6_keepIt 43 = .ok (.iload_n 2, 1) := dk_28 (dk_at dksX6_keepIt_1 20 rfl rfl)
theorem dX6_keepIt_44 : decode cX6_keepIt 44 = .ok (.invokevirtual 449, 3) := dk_182 1 193 (dk_at dksX6_keepIt_1 21 rfl rfl)
theorem dX6_keepIt_47 : decode cX6_keepIt 47 = .ok (.ireturn, 1) := dk_172 (dk_at dksX6_keepIt_2 0 rfl rfl)
theorem dX6_keepIt_48 : decode cX6_keepIt 48 = .ok (.iconst 0, 1) := dk_3 (dk_at dksX6_keepIt_2 1 rfl rfl)
theorem dX6_keepIt_49 : decode cX6_keepIt 49 = .ok (.istore_n 3, 1) := dk_62 (dk_at dksX6_keepIt_2 2 rfl rfl)
theorem dX6_keepIt_50 : decode cX6_keepIt 50 = .ok (.iconst 1, 1) := dk_4 (dk_at dksX6_keepIt_2 3 rfl rfl)
theorem dX6_keepIt_51 : decode cX6_keepIt 51 = .ok (.istore 4, 2) := dk_54 4 (dk_at dksX6_keepIt_2 4 rfl rfl)
theorem dX6_keepIt_53 : decode cX6_keepIt 53 = .ok (.iload 4, 2) := dk_21 4 (dk_at dksX6_keepIt_2 6 rfl rfl)
theorem dX6_keepIt_55 : decode cX6_keepIt 55 = .ok (.iload_n 1, 1) := dk_27 (dk_at dksX6_keepIt_2 8 rfl rfl)
theorem dX6_keepIt_56 : decode cX6_keepIt 56 = .ok (.if_icmp .ge 28, 3) := dk_162 0 28 (dk_at dksX6_keepIt_2 9 rfl rfl)
theorem dX6_keepIt_59 : decode cX6_keepIt 59 = .ok (.aload_n 0, 1) := dk_42 (dk_at dksX6_keepIt_2 12 rfl rfl)
theorem dX6_keepIt_60 : decode cX6_keepIt 60 = .ok (.iload_n 1, 1) := dk_27 (dk_at dksX6_keepIt_2 13 rfl rfl)
theorem dX6_keepIt_61 : decode cX6_keepIt 61 = .ok (.iload 4, 2) := dk_21 4 (dk_at dksX6_keepIt_2 14 rfl rfl)
theorem dX6_keepIt_63 : decode cX6_keepIt 63 = .ok (.invokevirtual 449, 3) := dk_182 1 193 (dk_at dksX6_keepIt_2 16 rfl rfl)
theorem dX6_keepIt_66 : decode cX6_keepIt 66 = .ok (.aload_n 0, 1) := dk_42 (dk_at dksX6_keepIt_2 19 rfl rfl)
theorem dX6_keepIt_67 : decode cX6_keepIt 67 = .ok (.iload_n 1, 1) := dk_27 (dk_at dksX6_keepIt_2 20 rfl rfl)
theorem dX6_keepIt_68 : decode cX6_keepIt 68 = .ok (.iload_n 3, 1) := dk_29 (dk_at dksX6_keepIt_2 21 rfl rfl)
theorem dX6_keepIt_69 : decode cX6_keepIt 69 = .ok (.invokevirtual 449, 3) := dk_182 1 193 (dk_at dksX6_keepIt_3 0 rfl rfl)
theorem dX6_keepIt_72 : decode cX6_keepIt 72 = .ok (.if_icmp .le 6, 3) := dk_164 0 6 (dk_at dksX6_keepIt_3 3 rfl rfl)
theorem dX6_keepIt_75 : decode cX6_keepIt 75 = .ok (.iload 4, 2) := dk_21 4 (dk_at dksX6_keepIt_3 6 rfl rfl)
theorem dX6_keepIt_77 : decode cX6_keepIt 77 = .ok (.istore_n 3, 1) := dk_62 (dk_at dksX6_keepIt_3 8 rfl rfl)
theorem dX6_keepIt_78 : decode cX6_keepIt 78 = .ok (.iinc 4 1, 3) := dk_132 4 1 (dk_at dksX6_keepIt_3 9 rfl rfl)
theorem dX6_keepIt_81 : decode cX6_keepIt 81 = .ok (.goto (-28), 3) := dk_167 255 228 (dk_at dksX6_keepIt_3 12 rfl rfl)
theorem dX6_keepIt_84 : decode cX6_keepIt 84 = .ok (.iload_n 3, 1) := dk_29 (dk_at dksX6_keepIt_3 15 rfl rfl)
theorem dX6_keepIt_85 : decode cX6_keepIt 85 = .ok (.ireturn, 1) := dk_172 (dk_at dksX6_keepIt_3 16 rfl rfl)
abbrev cX6_hasBy : ByteArray := prog_20_method_108_code
def yX6_hasBy : MethodName := ⟨RX6, "hasBy", "(II)I"⟩
def dkwX6_hasBy_2 : List UInt8 := [167, 255, 213, 42, 27, 4, 100, 182, 1, 144, 172]
abbrev dktX6_hasBy_2 : List UInt8 := dkwX6_hasBy_2 ++ []
def dkwX6_hasBy_1 : List UInt8 := [164, 0, 10, 42, 21, 4, 182, 1, 144, 172, 29, 42, 21, 4, 182, 1, 144, 184, 1, 106, 62, 132, 4, 1]
abbrev dktX6_hasBy_1 : List UInt8 := dkwX6_hasBy_1 ++ dktX6_hasBy_2
def dkwX6_hasBy_0 : List UInt8 := [2, 62, 3, 54, 4, 21, 4, 27, 162, 0, 43, 21, 4, 28, 161, 0, 20, 42, 21, 4, 182, 1, 144, 29]
abbrev dktX6_hasBy_0 : List UInt8 := dkwX6_hasBy_0 ++ dktX6_hasBy_1
theorem dksX6_hasBy_0 : cX6_hasBy.data.toList.drop 0 = dktX6_hasBy_0 := by decide +kernel
theorem dksX6_hasBy_1 : cX6_hasBy.data.toList.drop 24 = dktX6_hasBy_1 := dk_seg dksX6_hasBy_0 24 rfl rfl
theorem dksX6_hasBy_2 : cX6_hasBy.data.toList.drop 48 = dktX6_hasBy_2 := dk_seg dksX6_hasBy_1 24 rfl rfl
theorem dX6_hasBy_0 : decode cX6_hasBy 0 = .ok (.iconst (-1), 1) := dk_2 (dk_at dksX6_hasBy_0 0 rfl rfl)
theorem dX6_hasBy_1 : decode cX6_hasBy 1 = .ok (.istore_n 3, 1) := dk_62 (dk_at dksX6_hasBy_0 1 rfl rfl)
theorem dX6_hasBy_2 : decode cX6_hasBy 2 = .ok (.iconst 0, 1) := dk_3 (dk_at dksX6_hasBy_0 2 rfl rfl)
theorem dX6_hasBy_3 : decode cX6_hasBy 3 = .ok (.istore 4, 2) := dk_54 4 (dk_at dksX6_hasBy_0 3 rfl rfl)
theorem dX6_hasBy_5 : decode cX6_hasBy 5 = .ok (.iload 4, 2) := dk_21 4 (dk_at dksX6_hasBy_0 5 rfl rfl)
theorem dX6_hasBy_7 : decode cX6_hasBy 7 = .ok (.iload_n 1, 1) := dk_27 (dk_at dksX6_hasBy_0 7 rfl rfl)
theorem dX6_hasBy_8 : decode cX6_hasBy 8 = .ok (.if_icmp .ge 43, 3) := dk_162 0 43 (dk_at dksX6_hasBy_0 8 rfl rfl)
theorem dX6_hasBy_11 : decode cX6_hasBy 11 = .ok (.iload 4, 2) := dk_21 4 (dk_at dksX6_hasBy_0 11 rfl rfl)
theorem dX6_hasBy_13 : decode cX6_hasBy 13 = .ok (.iload_n 2, 1) := dk_28 (dk_at dksX6_hasBy_0 13 rfl rfl)
theorem dX6_hasBy_14 : decode cX6_hasBy 14 = .ok (.if_icmp .lt 20, 3) := dk_161 0 20 (dk_at dksX6_hasBy_0 14 rfl rfl)
theorem dX6_hasBy_17 : decode cX6_hasBy 17 = .ok (.aload_n 0, 1) := dk_42 (dk_at dksX6_hasBy_0 17 rfl rfl)
theorem dX6_hasBy_18 : decode cX6_hasBy 18 = .ok (.iload 4, 2) := dk_21 4 (dk_at dksX6_hasBy_0 18 rfl rfl)
theorem dX6_hasBy_20 : decode cX6_hasBy 20 = .ok (.invokevirtual 400, 3) := dk_182 1 144 (dk_at dksX6_hasBy_0 20 rfl rfl)
theorem dX6_hasBy_23 : decode cX6_hasBy 23 = .ok (.iload_n 3, 1) := dk_29 (dk_at dksX6_hasBy_0 23 rfl rfl)
theorem dX6_hasBy_24 : decode cX6_hasBy 24 = .ok (.if_icmp .le 10, 3) := dk_164 0 10 (dk_at dksX6_hasBy_1 0 rfl rfl)
theorem dX6_hasBy_27 : decode cX6_hasBy 27 = .ok (.aload_n 0, 1) := dk_42 (dk_at dksX6_hasBy_1 3 rfl rfl)
theorem dX6_hasBy_28 : decode cX6_hasBy 28 = .ok (.iload 4, 2) := dk_21 4 (dk_at dksX6_hasBy_1 4 rfl rfl)
theorem dX6_hasBy_30 : decode cX6_hasBy 30 = .ok (.invokevirtual 400, 3) := dk_182 1 144 (dk_at dksX6_hasBy_1 6 rfl rfl)
theorem dX6_hasBy_33 : decode cX6_hasBy 33 = .ok (.ireturn, 1) := dk_172 (dk_at dksX6_hasBy_1 9 rfl rfl)
theorem dX6_hasBy_34 : decode cX6_hasBy 34 = .ok (.iload_n 3, 1) := dk_29 (dk_at dksX6_hasBy_1 10 rfl rfl)
theorem dX6_hasBy_35 : decode cX6_hasBy 35 = .ok (.aload_n 0, 1) := dk_42 (dk_at dksX6_hasBy_1 11 rfl rfl)
theorem dX6_hasBy_36 : decode cX6_hasBy 36 = .ok (.iload 4, 2) := dk_21 4 (dk_at dksX6_hasBy_1 12 rfl rfl)
theorem dX6_hasBy_38 : decode cX6_hasBy 38 = .ok (.invokevirtual 400, 3) := dk_182 1 144 (dk_at dksX6_hasBy_1 14 rfl rfl)
theorem dX6_hasBy_41 : decode cX6_hasBy 41 = .ok (.invokestatic 362, 3) := dk_184 1 106 (dk_at dksX6_hasBy_1 17 rfl rfl)
theorem dX6_hasBy_44 : decode cX6_hasBy 44 = .ok (.istore_n 3, 1) := dk_62 (dk_at dksX6_hasBy_1 20 rfl rfl)
theorem dX6_hasBy_45 : decode cX6_hasBy 45 = .ok (.iinc 4 1, 3) := dk_132 4 1 (dk_at dksX6_hasBy_1 21 rfl rfl)
theorem dX6_hasBy_48 : decode cX6_hasBy 48 = .ok (.goto (-43), 3) := dk_167 255 213 (dk_at dksX6_hasBy_2 0 rfl rfl)
theorem dX6_hasBy_51 : decode cX6_hasBy 51 = .ok (.aload_n 0, 1) := dk_42 (dk_at dksX6_hasBy_2 3 rfl rfl)
theorem dX6_hasBy_52 : decode cX6_hasBy 52 = .ok (.iload_n 1, 1) := dk_27 (dk_at dksX6_hasBy_2 4 rfl rfl)
theorem dX6_hasBy_53 : decode cX6_hasBy 53 = .ok (.iconst 1, 1) := dk_4 (dk_at dksX6_hasBy_2 5 rfl rfl)
theorem dX6_hasBy_54 : decode cX6_hasBy 54 = .ok (.isub, 1) := dk_100 (dk_at dksX6_hasBy_2 6 rfl rfl)
theorem dX6_hasBy_55 : decode cX6_hasBy 55 = .ok (.invokevirtual 400, 3) := dk_182 1 144 (dk_at dksX6_hasBy_2 7 rfl rfl)
theorem dX6_hasBy_58 : decode cX6_hasBy 58 = .ok (.ireturn, 1) := dk_172 (dk_at dksX6_hasBy_2 10 rfl rfl)
abbrev cX6_seed : ByteArray := prog_20_method_110_code
def yX6_seed : MethodName := ⟨RX6, "seed", "(I)Z"⟩
def dkwX6_seed_0 : List UInt8 := [27, 3, 19, 1, 143, 184, 0, 134, 154, 0, 5, 3, 172, 42, 180, 0, 7, 16, 20, 27, 79, 4, 172]
abbrev dktX6_seed_0 : List UInt8 := dkwX6_seed_0 ++ []
theorem dksX6_seed_0 : cX6_seed.data.toList.drop 0 = dktX6_seed_0 := by decide +kernel
theorem dX6_seed_0 : decode cX6_seed 0 = .ok (.iload_n 1, 1) := dk_27 (dk_at dksX6_seed_0 0 rfl rfl)
theorem dX6_seed_1 : decode cX6_seed 1 = .ok (.iconst 0, 1) := dk_3 (dk_at dksX6_seed_0 1 rfl rfl)
theorem dX6_seed_2 : decode cX6_seed 2 = .ok (.ldc_w 399, 3) := dk_19 1 143 (dk_at dksX6_seed_0 2 rfl rfl)
theorem dX6_seed_5 : decode cX6_seed 5 = .ok (.invokestatic 134, 3) := dk_184 0 134 (dk_at dksX6_seed_0 5 rfl rfl)
theorem dX6_seed_8 : decode cX6_seed 8 = .ok (.ifCond .ne 5, 3) := dk_154 0 5 (dk_at dksX6_seed_0 8 rfl rfl)
theorem dX6_seed_11 : decode cX6_seed 11 = .ok (.iconst 0, 1) := dk_3 (dk_at dksX6_seed_0 11 rfl rfl)
theorem dX6_seed_12 : decode cX6_seed 12 = .ok (.ireturn, 1) := dk_172 (dk_at dksX6_seed_0 12 rfl rfl)
theorem dX6_seed_13 : decode cX6_seed 13 = .ok (.aload_n 0, 1) := dk_42 (dk_at dksX6_seed_0 13 rfl rfl)
theorem dX6_seed_14 : decode cX6_seed 14 = .ok (.getfield 7, 3) := dk_180 0 7 (dk_at dksX6_seed_0 14 rfl rfl)
theorem dX6_seed_17 : decode cX6_seed 17 = .ok (.bipush 20, 2) := dk_16 20 (dk_at dksX6_seed_0 17 rfl rfl)
theorem dX6_seed_19 : decode cX6_seed 19 = .ok (.iload_n 1, 1) := dk_27 (dk_at dksX6_seed_0 19 rfl rfl)
theorem dX6_seed_20 : decode cX6_seed 20 = .ok (.iastore, 1) := dk_79 (dk_at dksX6_seed_0 20 rfl rfl)
theorem dX6_seed_21 : decode cX6_seed 21 = .ok (.iconst 1, 1) := dk_4 (dk_at dksX6_seed_0 21 rfl rfl)
theorem dX6_seed_22 : decode cX6_seed 22 = .ok (.ireturn, 1) := dk_172 (dk_at dksX6_seed_0 22 rfl rfl)
abbrev cX6_keep : ByteArray := prog_20_method_111_code
def yX6_keep : MethodName := ⟨RX6, "keep", "()I"⟩
def dkwX6_keep_1 : List UInt8 := [42, 180, 0, 7, 16, 19, 46, 172]
abbrev dktX6_keep_1 : List UInt8 := dkwX6_keep_1 ++ []
def dkwX6_keep_0 : List UInt8 := [42, 4, 181, 1, 196, 42, 42, 180, 0, 138, 181, 1, 200, 42, 180, 0, 7, 42, 180, 0, 16, 184, 1, 96]
abbrev dktX6_keep_0 : List UInt8 := dkwX6_keep_0 ++ dktX6_keep_1
theorem dksX6_keep_0 : cX6_keep.data.toList.drop 0 = dktX6_keep_0 := by decide +kernel
theorem dksX6_keep_1 : cX6_keep.data.toList.drop 24 = dktX6_keep_1 := dk_seg dksX6_keep_0 24 rfl rfl
theorem dX6_keep_0 : decode cX6_keep 0 = .ok (.aload_n 0, 1) := dk_42 (dk_at dksX6_keep_0 0 rfl rfl)
theorem dX6_keep_1 : decode cX6_keep 1 = .ok (.iconst 1, 1) := dk_4 (dk_at dksX6_keep_0 1 rfl rfl)
theorem dX6_keep_2 : decode cX6_keep 2 = .ok (.putfield 452, 3) := dk_181 1 196 (dk_at dksX6_keep_0 2 rfl rfl)
theorem dX6_keep_5 : decode cX6_keep 5 = .ok (.aload_n 0, 1) := dk_42 (dk_at dksX6_keep_0 5 rfl rfl)
theorem dX6_keep_6 : decode cX6_keep 6 = .ok (.aload_n 0, 1) := dk_42 (dk_at dksX6_keep_0 6 rfl rfl)
theorem dX6_keep_7 : decode cX6_keep 7 = .ok (.getfield 138, 3) := dk_180 0 138 (dk_at dksX6_keep_0 7 rfl rfl)
theorem dX6_keep_10 : decode cX6_keep 10 = .ok (.putfield 456, 3) := dk_181 1 200 (dk_at dksX6_keep_0 10 rfl rfl)
theorem dX6_keep_13 : decode cX6_keep 13 = .ok (.aload_n 0, 1) := dk_42 (dk_at dksX6_keep_0 13 rfl rfl)
theorem dX6_keep_14 : decode cX6_keep 14 = .ok (.getfield 7, 3) := dk_180 0 7 (dk_at dksX6_keep_0 14 rfl rfl)
theorem dX6_keep_17 : decode cX6_keep 17 = .ok (.aload_n 0, 1) := dk_42 (dk_at dksX6_keep_0 17 rfl rfl)
theorem dX6_keep_18 : decode cX6_keep 18 = .ok (.getfield 16, 3) := dk_180 0 16 (dk_at dksX6_keep_0 18 rfl rfl)
theorem dX6_keep_21 : decode cX6_keep 21 = .ok (.invokestatic 352, 3) := dk_184 1 96 (dk_at dksX6_keep_0 21 rfl rfl)
theorem dX6_keep_24 : decode cX6_keep 24 = .ok (.aload_n 0, 1) := dk_42 (dk_at dksX6_keep_1 0 rfl rfl)
theorem dX6_keep_25 : decode cX6_keep 25 = .ok (.getfield 7, 3) := dk_180 0 7 (dk_at dksX6_keep_1 1 rfl rfl)
theorem dX6_keep_28 : decode cX6_keep 28 = .ok (.bipush 19, 2) := dk_16 19 (dk_at dksX6_keep_1 4 rfl rfl)
theorem dX6_keep_30 : decode cX6_keep 30 = .ok (.iaload, 1) := dk_46 (dk_at dksX6_keep_1 6 rfl rfl)
theorem dX6_keep_31 : decode cX6_keep 31 = .ok (.ireturn, 1) := dk_172 (dk_at dksX6_keep_1 7 rfl rfl)
abbrev cX6_undo : ByteArray := prog_20_method_112_code
def yX6_undo : MethodName := ⟨RX6, "undo", "()Z"⟩
def dkwX6_undo_3 : List UInt8 := [182, 0, 159, 154, 0, 11, 42, 180, 0, 7, 16, 16, 2, 79, 4, 172]
abbrev dktX6_undo_3 : List UInt8 := dkwX6_undo_3 ++ []
def dkwX6_undo_2 : List UInt8 := [180, 0, 7, 3, 27, 96, 3, 79, 132, 1, 1, 167, 255, 222, 42, 42, 180, 0, 7, 16, 16, 46]
abbrev dktX6_undo_2 : List UInt8 := dkwX6_undo_2 ++ dktX6_undo_3
def dkwX6_undo_1 : List UInt8 := [16, 16, 162, 0, 34, 42, 180, 1, 200, 42, 180, 0, 138, 126, 27, 184, 0, 130, 154, 0, 12, 42]
abbrev dktX6_undo_1 : List UInt8 := dkwX6_undo_1 ++ dktX6_undo_2
def dkwX6_undo_0 : List UInt8 := [42, 180, 1, 196, 154, 0, 5, 3, 172, 42, 180, 0, 16, 42, 180, 0, 7, 184, 1, 96, 3, 60, 27]
abbrev dktX6_undo_0 : List UInt8 := dkwX6_undo_0 ++ dktX6_undo_1
theorem dksX6_undo_0 : cX6_undo.data.toList.drop 0 = dktX6_undo_0 := by decide +kernel
theorem dksX6_undo_1 : cX6_undo.data.toList.drop 23 = dktX6_undo_1 := dk_seg dksX6_undo_0 23 rfl rfl
theorem dksX6_undo_2 : cX6_undo.data.toList.drop 45 = dktX6_undo_2 := dk_seg dksX6_undo_1 22 rfl rfl
theorem dksX6_undo_3 : cX6_undo.data.toList.drop 67 = dktX6_undo_3 := dk_seg dksX6_undo_2 22 rfl rfl
theorem dX6_undo_0 : decode cX6_undo 0 = .ok (.aload_n 0, 1) := dk_42 (dk_at dksX6_undo_0 0 rfl rfl)
theorem dX6_undo_1 : decode cX6_undo 1 = .ok (.getfield 452, 3) := dk_180 1 196 (dk_at dksX6_undo_0 1 rfl rfl)
theorem dX6_undo_4 : decode cX6_undo 4 = .ok (.ifCond .ne 5, 3) := dk_154 0 5 (dk_at dksX6_undo_0 4 rfl rfl)
theorem dX6_undo_7 : decode cX6_undo 7 = .ok (.iconst 0, 1) := dk_3 (dk_at dksX6_undo_0 7 rfl rfl)
theorem dX6_undo_8 : decode cX6_undo 8 = .ok (.ireturn, 1) := dk_172 (dk_at dksX6_undo_0 8 rfl rfl)
theorem dX6_undo_9 : decode cX6_undo 9 = .ok (.aload_n 0, 1) := dk_42 (dk_at dksX6_undo_0 9 rfl rfl)
theorem dX6_undo_10 : decode cX6_undo 10 = .ok (.getfield 16, 3) := dk_180 0 16 (dk_at dksX6_undo_0 10 rfl rfl)
theorem dX6_undo_13 : decode cX6_undo 13 = .ok (.aload_n 0, 1) := dk_42 (dk_at dksX6_undo_0 13 rfl rfl)
theorem dX6_undo_14 : decode cX6_undo 14 = .ok (.getfield 7, 3) := dk_180 0 7 (dk_at dksX6_undo_0 14 rfl rfl)
theorem dX6_undo_17 : decode cX6_undo 17 = .ok (.invokestatic 352, 3) := dk_184 1 96 (dk_at dksX6_undo_0 17 rfl rfl)
theorem dX6_undo_20 : decode cX6_undo 20 = .ok (.iconst 0, 1) := dk_3 (dk_at dksX6_undo_0 20 rfl rfl)
theorem dX6_undo_21 : decode cX6_undo 21 = .ok (.istore_n 1, 1) := dk_60 (dk_at dksX6_undo_0 21 rfl rfl)
theorem dX6_undo_22 : decode cX6_undo 22 = .ok (.iload_n 1, 1) := dk_27 (dk_at dksX6_undo_0 22 rfl rfl)
theorem dX6_undo_23 : decode cX6_undo 23 = .ok (.bipush 16, 2) := dk_16 16 (dk_at dksX6_undo_1 0 rfl rfl)
theorem dX6_undo_25 : decode cX6_undo 25 = .ok (.if_icmp .ge 34, 3) := dk_162 0 34 (dk_at dksX6_undo_1 2 rfl rfl)
theorem dX6_undo_28 : decode cX6_undo 28 = .ok (.aload_n 0, 1) := dk_42 (dk_at dksX6_undo_1 5 rfl rfl)
theorem dX6_undo_29 : decode cX6_undo 29 = .ok (.getfield 456, 3) := dk_180 1 200 (dk_at dksX6_undo_1 6 rfl rfl)
theorem dX6_undo_32 : decode cX6_undo 32 = .ok (.aload_n 0, 1) := dk_42 (dk_at dksX6_undo_1 9 rfl rfl)
theorem dX6_undo_33 : decode cX6_undo 33 = .ok (.getfield 138, 3) := dk_180 0 138 (dk_at dksX6_undo_1 10 rfl rfl)
theorem dX6_undo_36 : decode cX6_undo 36 = .ok (.iand, 1) := dk_126 (dk_at dksX6_undo_1 13 rfl rfl)
theorem dX6_undo_37 : decode cX6_undo 37 = .ok (.iload_n 1, 1) := dk_27 (dk_at dksX6_undo_1 14 rfl rfl)
theorem dX6_undo_38 : decode cX6_undo 38 = .ok (.invokestatic 130, 3) := dk_184 0 130 (dk_at dksX6_undo_1 15 rfl rfl)
theorem dX6_undo_41 : decode cX6_undo 41 = .ok (.ifCond .ne 12, 3) := dk_154 0 12 (dk_at dksX6_undo_1 18 rfl rfl)
theorem dX6_undo_44 : decode cX6_undo 44 = .ok (.aload_n 0, 1) := dk_42 (dk_at dksX6_undo_1 21 rfl rfl)
theorem dX6_undo_45 : decode cX6_undo 45 = .ok (.getfield 7, 3) := dk_180 0 7 (dk_at dksX6_undo_2 0 rfl rfl)
theorem dX6_undo_48 : decode cX6_undo 48 = .ok (.iconst 0, 1) := dk_3 (dk_at dksX6_undo_2 3 rfl rfl)
theorem dX6_undo_49 : decode cX6_undo 49 = .ok (.iload_n 1, 1) := dk_27 (dk_at dksX6_undo_2 4 rfl rfl)
theorem dX6_undo_50 : decode cX6_undo 50 = .ok (.iadd, 1) := dk_96 (dk_at dksX6_undo_2 5 rfl rfl)
theorem dX6_undo_51 : decode cX6_undo 51 = .ok (.iconst 0, 1) := dk_3 (dk_at dksX6_undo_2 6 rfl rfl)
theorem dX6_undo_52 : decode cX6_undo 52 = .ok (.iastore, 1) := dk_79 (dk_at dksX6_undo_2 7 rfl rfl)
theorem dX6_undo_53 : decode cX6_undo 53 = .ok (.iinc 1 1, 3) := dk_132 1 1 (dk_at dksX6_undo_2 8 rfl rfl)
theorem dX6_undo_56 : decode cX6_undo 56 = .ok (.goto (-34), 3) := dk_167 255 222 (dk_at dksX6_undo_2 11 rfl rfl)
theorem dX6_undo_59 : decode cX6_undo 59 = .ok (.aload_n 0, 1) := dk_42 (dk_at dksX6_undo_2 14 rfl rfl)
theorem dX6_undo_60 : decode cX6_undo 60 = .ok (.aload_n 0, 1) := dk_42 (dk_at dksX6_undo_2 15 rfl rfl)
theorem dX6_undo_61 : decode cX6_undo 61 = .ok (.getfield 7, 3) := dk_180 0 7 (dk_at dksX6_undo_2 16 rfl rfl)
theorem dX6_undo_64 : decode cX6_undo 64 = .ok (.bipush 16, 2) := dk_16 16 (dk_at dksX6_undo_2 19 rfl rfl)
theorem dX6_undo_66 : decode cX6_undo 66 = .ok (.iaload, 1) := dk_46 (dk_at dksX6_undo_2 21 rfl rfl)
theorem dX6_undo_67 : decode cX6_undo 67 = .ok (.invokevirtual 159, 3) := dk_182 0 159 (dk_at dksX6_undo_3 0 rfl rfl)
theorem dX6_undo_70 : decode cX6_undo 70 = .ok (.ifCond .ne 11, 3) := dk_154 0 11 (dk_at dksX6_undo_3 3 rfl rfl)
theorem dX6_undo_73 : decode cX6_undo 73 = .ok (.aload_n 0, 1) := dk_42 (dk_at dksX6_undo_3 6 rfl rfl)
theorem dX6_undo_74 : decode cX6_undo 74 = .ok (.getfield 7, 3) := dk_180 0 7 (dk_at dksX6_undo_3 7 rfl rfl)
theorem dX6_undo_77 : decode cX6_undo 77 = .ok (.bipush 16, 2) := dk_16 16 (dk_at dksX6_undo_3 10 rfl rfl)
theorem dX6_undo_79 : decode cX6_undo 79 = .ok (.iconst (-1), 1) := dk_2 (dk_at dksX6_undo_3 12 rfl rfl)
theorem dX6_undo_80 : decode cX6_undo 80 = .ok (.iastore, 1) := dk_79 (dk_at dksX6_undo_3 13 rfl rfl)
theorem dX6_undo_81 : decode cX6_undo 81 = .ok (.iconst 1, 1) := dk_4 (dk_at dksX6_undo_3 14 rfl rfl)
theorem dX6_undo_82 : decode cX6_undo 82 = .ok (.ireturn, 1) := dk_172 (dk_at dksX6_undo_3 15 rfl rfl)
abbrev cX6_check : ByteArray := prog_20_method_113_code
def yX6_check : MethodName := ⟨RX6, "check", "(I)I"⟩
def dkwX6_check_3 : List UInt8 := [132, 2, 1, 167, 255, 212, 2, 172]
abbrev dktX6_check_3 : List UInt8 := dkwX6_check_3 ++ []
def dkwX6_check_2 : List UInt8 := [180, 0, 7, 3, 28, 96, 46, 17, 1, 0, 112, 167, 0, 6, 17, 0, 255, 159, 0, 5, 28, 172]
abbrev dktX6_check_2 : List UInt8 := dkwX6_check_2 ++ dktX6_check_3
def dkwX6_check_1 : List UInt8 := [181, 0, 162, 3, 61, 28, 27, 162, 0, 45, 42, 28, 182, 1, 144, 42, 28, 182, 0, 159, 153, 0, 18, 42]
abbrev dktX6_check_1 : List UInt8 := dkwX6_check_1 ++ dktX6_check_2
def dkwX6_check_0 : List UInt8 := [27, 3, 16, 16, 184, 0, 134, 153, 0, 11, 27, 42, 180, 0, 162, 164, 0, 6, 16, 254, 172, 42, 3]
abbrev dktX6_check_0 : List UInt8 := dkwX6_check_0 ++ dktX6_check_1
theorem dksX6_check_0 : cX6_check.data.toList.drop 0 = dktX6_check_0 := by decide +kernel
theorem dksX6_check_1 : cX6_check.data.toList.drop 23 = dktX6_check_1 := dk_seg dksX6_check_0 23 rfl rfl
theorem dksX6_check_2 : cX6_check.data.toList.drop 47 = dktX6_check_2 := dk_seg dksX6_check_1 24 rfl rfl
theorem dksX6_check_3 : cX6_check.data.toList.drop 69 = dktX6_check_3 := dk_seg dksX6_check_2 22 rfl rfl
theorem dX6_check_0 : decode cX6_check 0 = .ok (.iload_n 1, 1) := dk_27 (dk_at dksX6_check_0 0 rfl rfl)
theorem dX6_check_1 : decode cX6_check 1 = .ok (.iconst 0, 1) := dk_3 (dk_at dksX6_check_0 1 rfl rfl)
theorem dX6_check_2 : decode cX6_check 2 = .ok (.bipush 16, 2) := dk_16 16 (dk_at dksX6_check_0 2 rfl rfl)
theorem dX6_check_4 : decode cX6_check 4 = .ok (.invokestatic 134, 3) := dk_184 0 134 (dk_at dksX6_check_0 4 rfl rfl)
theorem dX6_check_7 : decode cX6_check 7 = .ok (.ifCond .eq 11, 3) := dk_153 0 11 (dk_at dksX6_check_0 7 rfl rfl)
theorem dX6_check_10 : decode cX6_check 10 = .ok (.iload_n 1, 1) := dk_27 (dk_at dksX6_check_0 10 rfl rfl)
theorem dX6_check_11 : decode cX6_check 11 = .ok (.aload_n 0, 1) := dk_42 (dk_at dksX6_check_0 11 rfl rfl)
theorem dX6_check_12 : decode cX6_check 12 = .ok (.getfield 162, 3) := dk_180 0 162 (dk_at dksX6_check_0 12 rfl rfl)
theorem dX6_check_15 : decode cX6_check 15 = .ok (.if_icmp .le 6, 3) := dk_164 0 6 (dk_at dksX6_check_0 15 rfl rfl)
theorem dX6_check_18 : decode cX6_check 18 = .ok (.bipush (-2), 2) := dk_16 254 (dk_at dksX6_check_0 18 rfl rfl)
theorem dX6_check_20 : decode cX6_check 20 = .ok (.ireturn, 1) := dk_172 (dk_at dksX6_check_0 20 rfl rfl)
theorem dX6_check_21 : decode cX6_check 21 = .ok (.aload_n 0, 1) := dk_42 (dk_at dksX6_check_0 21 rfl rfl)
theorem dX6_check_22 : decode cX6_check 22 = .ok (.iconst 0, 1) := dk_3 (dk_at dksX6_check_0 22 rfl rfl)
theorem dX6_check_23 : decode cX6_check 23 = .ok (.putfield 162, 3) := dk_181 0 162 (dk_at dksX6_check_1 0 rfl rfl)
theorem dX6_check_26 : decode cX6_check 26 = .ok (.iconst 0, 1) := dk_3 (dk_at dksX6_check_1 3 rfl rfl)
theorem dX6_check_27 : decode cX6_check 27 = .ok (.istore_n 2, 1) := dk_61 (dk_at dksX6_check_1 4 rfl rfl)
theorem dX6_check_28 : decode cX6_check 28 = .ok (.iload_n 2, 1) := dk_28 (dk_at dksX6_check_1 5 rfl rfl)
theorem dX6_check_29 : decode cX6_check 29 = .ok (.iload_n 1, 1) := dk_27 (dk_at dksX6_check_1 6 rfl rfl)
theorem dX6_check_30 : decode cX6_check 30 = .ok (.if_icmp .ge 45, 3) := dk_162 0 45 (dk_at dksX6_check_1 7 rfl rfl)
theorem dX6_check_33 : decode cX6_check 33 = .ok (.aload_n 0, 1) := dk_42 (dk_at dksX6_check_1 10 rfl rfl)
theorem dX6_check_34 : decode cX6_check 34 = .ok (.iload_n 2, 1) := dk_28 (dk_at dksX6_check_1 11 rfl rfl)
theorem dX6_check_35 : decode cX6_check 35 = .ok (.invokevirtual 400, 3) := dk_182 1 144 (dk_at dksX6_check_1 12 rfl rfl)
theorem dX6_check_38 : decode cX6_check 38 = .ok (.aload_n 0, 1) := dk_42 (dk_at dksX6_check_1 15 rfl rfl)
theorem dX6_check_39 : decode cX6_check 39 = .ok (.iload_n 2, 1) := dk_28 (dk_at dksX6_check_1 16 rfl rfl)
theorem dX6_check_40 : decode cX6_check 40 = .ok (.invokevirtual 159, 3) := dk_182 0 159 (dk_at dksX6_check_1 17 rfl rfl)
theorem dX6_check_43 : decode cX6_check 43 = .ok (.ifCond .eq 18, 3) := dk_153 0 18 (dk_at dksX6_check_1 20 rfl rfl)
theorem dX6_check_46 : decode cX6_check 46 = .ok (.aload_n 0, 1) := dk_42 (dk_at dksX6_check_1 23 rfl rfl)
theorem dX6_check_47 : decode cX6_check 47 = .ok (.getfield 7, 3) := dk_180 0 7 (dk_at dksX6_check_2 0 rfl rfl)
theorem dX6_check_50 : decode cX6_check 50 = .ok (.iconst 0, 1) := dk_3 (dk_at dksX6_check_2 3 rfl rfl)
theorem dX6_check_51 : decode cX6_check 51 = .ok (.iload_n 2, 1) := dk_28 (dk_at dksX6_check_2 4 rfl rfl)
theorem dX6_check_52 : decode cX6_check 52 = .ok (.iadd, 1) := dk_96 (dk_at dksX6_check_2 5 rfl rfl)
theorem dX6_check_53 : decode cX6_check 53 = .ok (.iaload, 1) := dk_46 (dk_at dksX6_check_2 6 rfl rfl)
theorem dX6_check_54 : decode cX6_check 54 = .ok (.sipush 256, 3) := dk_17 1 0 (dk_at dksX6_check_2 7 rfl rfl)
theorem dX6_check_57 : decode cX6_check 57 = .ok (.irem, 1) := dk_112 (dk_at dksX6_check_2 10 rfl rfl)
theorem dX6_check_58 : decode cX6_check 58 = .ok (.goto 6, 3) := dk_167 0 6 (dk_at dksX6_check_2 11 rfl rfl)
theorem dX6_check_61 : decode cX6_check 61 = .ok (.sipush 255, 3) := dk_17 0 255 (dk_at dksX6_check_2 14 rfl rfl)
theorem dX6_check_64 : decode cX6_check 64 = .ok (.if_icmp .eq 5, 3) := dk_159 0 5 (dk_at dksX6_check_2 17 rfl rfl)
theorem dX6_check_67 : decode cX6_check 67 = .ok (.iload_n 2, 1) := dk_28 (dk_at dksX6_check_2 20 rfl rfl)
theorem dX6_check_68 : decode cX6_check 68 = .ok (.ireturn, 1) := dk_172 (dk_at dksX6_check_2 21 rfl rfl)
theorem dX6_check_69 : decode cX6_check 69 = .ok (.iinc 2 1, 3) := dk_132 2 1 (dk_at dksX6_check_3 0 rfl rfl)
theorem dX6_check_72 : decode cX6_check 72 = .ok (.goto (-44), 3) := dk_167 255 212 (dk_at dksX6_check_3 3 rfl rfl)
theorem dX6_check_75 : decode cX6_check 75 = .ok (.iconst (-1), 1) := dk_2 (dk_at dksX6_check_3 6 rfl rfl)
theorem dX6_check_76 : decode cX6_check 76 = .ok (.ireturn, 1) := dk_172 (dk_at dksX6_check_3 7 rfl rfl)
abbrev cX6_count : ByteArray := prog_20_method_114_code
def yX6_count : MethodName := ⟨RX6, "count", "(I)I"⟩
def dkwX6_count_5 : List UInt8 := [180, 0, 7, 16, 17, 46, 184, 1, 64, 172, 16, 12, 42, 2, 182, 1, 112, 100, 172, 2, 172]
abbrev dktX6_count_5 : List UInt8 := dkwX6_count_5 ++ []
def dkwX6_count_4 : List UInt8 := [180, 1, 6, 172, 42, 180, 0, 162, 172, 42, 180, 0, 7, 16, 20, 46, 172, 42, 182, 1, 103, 172, 42]
abbrev dktX6_count_4 : List UInt8 := dkwX6_count_4 ++ dktX6_count_5
def dkwX6_count_3 : List UInt8 := [46, 184, 1, 100, 172, 42, 180, 0, 7, 16, 17, 46, 172, 42, 180, 0, 7, 16, 18, 46, 172, 42]
abbrev dktX6_count_3 : List UInt8 := dkwX6_count_3 ++ dktX6_count_4
def dkwX6_count_2 : List UInt8 := [42, 180, 0, 7, 16, 19, 46, 172, 42, 180, 0, 138, 172, 42, 180, 0, 142, 172, 42, 180, 0, 7, 16, 16]
abbrev dktX6_count_2 : List UInt8 := dkwX6_count_2 ++ dktX6_count_3
def dkwX6_count_1 : List UInt8 := [170, 0, 0, 0, 0, 0, 151, 0, 0, 0, 0, 0, 0, 0, 11, 0, 0, 0, 63, 0, 0, 0, 71, 0, 0, 0, 76, 0, 0, 0, 81, 0, 0, 0, 92, 0, 0, 0, 100, 0, 0, 0, 108, 0, 0, 0, 113, 0, 0, 0, 118, 0, 0, 0, 126, 0, 0, 0, 131, 0, 0, 0, 142]
abbrev dktX6_count_1 : List UInt8 := dkwX6_count_1 ++ dktX6_count_2
def dkwX6_count_0 : List UInt8 := [27]
abbrev dktX6_count_0 : List UInt8 := dkwX6_count_0 ++ dktX6_count_1
theorem dksX6_count_0 : cX6_count.data.toList.drop 0 = dktX6_count_0 := by decide +kernel
theorem dksX6_count_1 : cX6_count.data.toList.drop 1 = dktX6_count_1 := dk_seg dksX6_count_0 1 rfl rfl
theorem dksX6_count_2 : cX6_count.data.toList.drop 64 = dktX6_count_2 := dk_seg dksX6_count_1 63 rfl rfl
theorem dksX6_count_3 : cX6_count.data.toList.drop 88 = dktX6_count_3 := dk_seg dksX6_count_2 24 rfl rfl
theorem dksX6_count_4 : cX6_count.data.toList.drop 110 = dktX6_count_4 := dk_seg dksX6_count_3 22 rfl rfl
theorem dksX6_count_5 : cX6_count.data.toList.drop 133 = dktX6_count_5 := dk_seg dksX6_count_4 23 rfl rfl
theorem dX6_count_0 : decode cX6_count 0 = .ok (.iload_n 1, 1) := dk_27 (dk_at dksX6_count_0 0 rfl rfl)
theorem dX6_count_1 : decode cX6_count 1 = .ok (.tableswitch 151 0 11 #[63, 71, 76, 81, 92, 100, 108, 113, 118, 126, 131, 142], 63) := by decide +kernel
theorem dX6_count_64 : decode cX6_count 64 = .ok (.aload_n 0, 1) := dk_42 (dk_at dksX6_count_2 0 rfl rfl)
theorem dX6_count_65 : decode cX6_count 65 = .ok (.getfield 7, 3) := dk_180 0 7 (dk_at dksX6_count_2 1 rfl rfl)
theorem dX6_count_68 : decode cX6_count 68 = .ok (.bipush 19, 2) := dk_16 19 (dk_at dksX6_count_2 4 rfl rfl)
theorem dX6_count_70 : decode cX6_count 70 = .ok (.iaload, 1) := dk_46 (dk_at dksX6_count_2 6 rfl rfl)
theorem dX6_count_71 : decode cX6_count 71 = .ok (.ireturn, 1) := dk_172 (dk_at dksX6_count_2 7 rfl rfl)
theorem dX6_count_72 : decode cX6_count 72 = .ok (.aload_n 0, 1) := dk_42 (dk_at dksX6_count_2 8 rfl rfl)
theorem dX6_count_73 : decode cX6_count 73 = .ok (.getfield 138, 3) := dk_180 0 138 (dk_at dksX6_count_2 9 rfl rfl)
theorem dX6_count_76 : decode cX6_count 76 = .ok (.ireturn, 1) := dk_172 (dk_at dksX6_count_2 12 rfl rfl)
theorem dX6_count_77 : decode cX6_count 77 = .ok (.aload_n 0, 1) := dk_42 (dk_at dksX6_count_2 13 rfl rfl)
theorem dX6_count_78 : decode cX6_count 78 = .ok (.getfield 142, 3) := dk_180 0 142 (dk_at dksX6_count_2 14 rfl rfl)
theorem dX6_count_81 : decode cX6_count 81 = .ok (.ireturn, 1) := dk_172 (dk_at dksX6_count_2 17 rfl rfl)
theorem dX6_count_82 : decode cX6_count 82 = .ok (.aload_n 0, 1) := dk_42 (dk_at dksX6_count_2 18 rfl rfl)
theorem dX6_count_83 : decode cX6_count 83 = .ok (.getfield 7, 3) := dk_180 0 7 (dk_at dksX6_count_2 19 rfl rfl)
theorem dX6_count_86 : decode cX6_count 86 = .ok (.bipush 16, 2) := dk_16 16 (dk_at dksX6_count_2 22 rfl rfl)
theorem dX6_count_88 : decode cX6_count 88 = .ok (.iaload, 1) := dk_46 (dk_at dksX6_count_3 0 rfl rfl)
theorem dX6_count_89 : decode cX6_count 89 = .ok (.invokestatic 356, 3) := dk_184 1 100 (dk_at dksX6_count_3 1 rfl rfl)
theorem dX6_count_92 : decode cX6_count 92 = .ok (.ireturn, 1) := dk_172 (dk_at dksX6_count_3 4 rfl rfl)
theorem dX6_count_93 : decode cX6_count 93 = .ok (.aload_n 0, 1) := dk_42 (dk_at dksX6_count_3 5 rfl rfl)
theorem dX6_count_94 : decode cX6_count 94 = .ok (.getfield 7, 3) := dk_180 0 7 (dk_at dksX6_count_3 6 rfl rfl)
theorem dX6_count_97 : decode cX6_count 97 = .ok (.bipush 17, 2) := dk_16 17 (dk_at dksX6_count_3 9 rfl rfl)
theorem dX6_count_99 : decode cX6_count 99 = .ok (.iaload, 1) := dk_46 (dk_at dksX6_count_3 11 rfl rfl)
theorem dX6_count_100 : decode cX6_count 100 = .ok (.ireturn, 1) := dk_172 (dk_at dksX6_count_3 12 rfl rfl)
theorem dX6_count_101 : decode cX6_count 101 = .ok (.aload_n 0, 1) := dk_42 (dk_at dksX6_count_3 13 rfl rfl)
theorem dX6_count_102 : decode cX6_count 102 = .ok (.getfield 7, 3) := dk_180 0 7 (dk_at dksX6_count_3 14 rfl rfl)
theorem dX6_count_105 : decode cX6_count 105 = .ok (.bipush 18, 2) := dk_16 18 (dk_at dksX6_count_3 17 rfl rfl)
theorem dX6_count_107 : decode cX6_count 107 = .ok (.iaload, 1) := dk_46 (dk_at dksX6_count_3 19 rfl rfl)
theorem dX6_count_108 : decode cX6_count 108 = .ok (.ireturn, 1) := dk_172 (dk_at dksX6_count_3 20 rfl rfl)
theorem dX6_count_109 : decode cX6_count 109 = .ok (.aload_n 0, 1) := dk_42 (dk_at dksX6_count_3 21 rfl rfl)
theorem dX6_count_110 : decode cX6_count 110 = .ok (.getfield 262, 3) := dk_180 1 6 (dk_at dksX6_count_4 0 rfl rfl)
theorem dX6_count_113 : decode cX6_count 113 = .ok (.ireturn, 1) := dk_172 (dk_at dksX6_count_4 3 rfl rfl)
theorem dX6_count_114 : decode cX6_count 114 = .ok (.aload_n 0, 1) := dk_42 (dk_at dksX6_count_4 4 rfl rfl)
theorem dX6_count_115 : decode cX6_count 115 = .ok (.getfield 162, 3) := dk_180 0 162 (dk_at dksX6_count_4 5 rfl rfl)
theorem dX6_count_118 : decode cX6_count 118 = .ok (.ireturn, 1) := dk_172 (dk_at dksX6_count_4 8 rfl rfl)
theorem dX6_count_119 : decode cX6_count 119 = .ok (.aload_n 0, 1) := dk_42 (dk_at dksX6_count_4 9 rfl rfl)
theorem dX6_count_120 : decode cX6_count 120 = .ok (.getfield 7, 3) := dk_180 0 7 (dk_at dksX6_count_4 10 rfl rfl)
theorem dX6_count_123 : decode cX6_count 123 = .ok (.bipush 20, 2) := dk_16 20 (dk_at dksX6_count_4 13 rfl rfl)
theorem dX6_count_125 : decode cX6_count 125 = .ok (.iaload, 1) := dk_46 (dk_at dksX6_count_4 15 rfl rfl)
theorem dX6_count_126 : decode cX6_count 126 = .ok (.ireturn, 1) := dk_172 (dk_at dksX6_count_4 16 rfl rfl)
theorem dX6_count_127 : decode cX6_count 127 = .ok (.aload_n 0, 1) := dk_42 (dk_at dksX6_count_4 17 rfl rfl)
theorem dX6_count_128 : decode cX6_count 128 = .ok (.invokevirtual 359, 3) := dk_182 1 103 (dk_at dksX6_count_4 18 rfl rfl)
theorem dX6_count_131 : decode cX6_count 131 = .ok (.ireturn, 1) := dk_172 (dk_at dksX6_count_4 21 rfl rfl)
theorem dX6_count_132 : decode cX6_count 132 = .ok (.aload_n 0, 1) := dk_42 (dk_at dksX6_count_4 22 rfl rfl)
theorem dX6_count_133 : decode cX6_count 133 = .ok (.getfield 7, 3) := dk_180 0 7 (dk_at dksX6_count_5 0 rfl rfl)
theorem dX6_count_136 : decode cX6_count 136 = .ok (.bipush 17, 2) := dk_16 17 (dk_at dksX6_count_5 3 rfl rfl)
theorem dX6_count_138 : decode cX6_count 138 = .ok (.iaload, 1) := dk_46 (dk_at dksX6_count_5 5 rfl rfl)
theorem dX6_count_139 : decode cX6_count 139 = .ok (.invokestatic 320, 3) := dk_184 1 64 (dk_at dksX6_count_5 6 rfl rfl)
theorem dX6_count_142 : decode cX6_count 142 = .ok (.ireturn, 1) := dk_172 (dk_at dksX6_count_5 9 rfl rfl)
theorem dX6_count_143 : decode cX6_count 143 = .ok (.bipush 12, 2) := dk_16 12 (dk_at dksX6_count_5 10 rfl rfl)
theorem dX6_count_145 : decode cX6_count 145 = .ok (.aload_n 0, 1) := dk_42 (dk_at dksX6_count_5 12 rfl rfl)
theorem dX6_count_146 : decode cX6_count 146 = .ok (.iconst (-1), 1) := dk_2 (dk_at dksX6_count_5 13 rfl rfl)
theorem dX6_count_147 : decode cX6_count 147 = .ok (.invokevirtual 368, 3) := dk_182 1 112 (dk_at dksX6_count_5 14 rfl rfl)
theorem dX6_count_150 : decode cX6_count 150 = .ok (.isub, 1) := dk_100 (dk_at dksX6_count_5 17 rfl rfl)
theorem dX6_count_151 : decode cX6_count 151 = .ok (.ireturn, 1) := dk_172 (dk_at dksX6_count_5 18 rfl rfl)
theorem dX6_count_152 : decode cX6_count 152 = .ok (.iconst (-1), 1) := dk_2 (dk_at dksX6_count_5 19 rfl rfl)
theorem dX6_count_153 : decode cX6_count 153 = .ok (.ireturn, 1) := dk_172 (dk_at dksX6_count_5 20 rfl rfl)
theorem q116 : (Jvm.Cond.initialized "SharedWindowModel") ∈ lw_all := lw_g (lw_at lw_m1 7 rfl) rfl
theorem q1195 : (Jvm.Cond.instantiable "SharedWindowModel" (61 : Nat)) ∈ lw_all := lw_g (lw_at lw_m5 126 rfl) rfl
theorem q1197 : (Jvm.Cond.instanceMethod ({ cls := "SharedWindowModel", name := "<init>", desc := "()V" } : Jvm.MethodName)) ∈ lw_all := lw_g (lw_at lw_m5 128 rfl) rfl
theorem q1198 : (Jvm.Cond.code ({ cls := "SharedWindowModel", name := "<init>", desc := "()V" } : Jvm.MethodName) prog_20_method_1_code (2 : Nat) (Option.none : Option Jvm.ClassFile.FieldType)) ∈ lw_all := lw_g (lw_at lw_m5 129 rfl) rfl
theorem q1199 : (Jvm.Cond.methodLink "SharedWindowModel" (1 : Nat) ({ cls := "java/lang/Object", name := "<init>", desc := "()V" } : Jvm.MethodName)) ∈ lw_all := lw_g (lw_at lw_m5 130 rfl) rfl
theorem q1200 : (Jvm.Cond.constant "SharedWindowModel" (113 : Nat) (65536 : Int32)) ∈ lw_all := lw_g (lw_at lw_m5 131 rfl) rfl
theorem q1201 : (Jvm.Cond.fieldLink "SharedWindowModel" (7 : Nat) "SharedWindowModel" "now" "[I") ∈ lw_all := lw_g (lw_at lw_m5 132 rfl) rfl
theorem q1202 : (Jvm.Cond.fieldLink "SharedWindowModel" (13 : Nat) "SharedWindowModel" "aside" "[I") ∈ lw_all := lw_g (lw_at lw_m5 133 rfl) rfl
theorem q1203 : (Jvm.Cond.fieldLink "SharedWindowModel" (16 : Nat) "SharedWindowModel" "kept" "[I") ∈ lw_all := lw_g (lw_at lw_m5 134 rfl) rfl
theorem q1204 : (Jvm.Cond.fieldLink "SharedWindowModel" (19 : Nat) "SharedWindowModel" "rotaOf" "[I") ∈ lw_all := lw_g (lw_at lw_m5 135 rfl) rfl
theorem q1205 : (Jvm.Cond.fieldLink "SharedWindowModel" (22 : Nat) "SharedWindowModel" "facingOf" "[I") ∈ lw_all := lw_g (lw_at lw_m5 136 rfl) rfl
theorem q1206 : (Jvm.Cond.fieldLink "SharedWindowModel" (25 : Nat) "SharedWindowModel" "sideOf" "[I") ∈ lw_all := lw_g (lw_at lw_m5 137 rfl) rfl
theorem q1207 : (Jvm.Cond.fieldLink "SharedWindowModel" (28 : Nat) "SharedWindowModel" "fromOf" "[I") ∈ lw_all := lw_g (lw_at lw_m5 138 rfl) rfl
theorem q1208 : (Jvm.Cond.fieldLink "SharedWindowModel" (31 : Nat) "SharedWindowModel" "untilOf" "[I") ∈ lw_all := lw_g (lw_at lw_m5 139 rfl) rfl
theorem q1209 : (Jvm.Cond.fieldLink "SharedWindowModel" (138 : Nat) "SharedWindowModel" "houses" "I") ∈ lw_all := lw_g (lw_at lw_m5 140 rfl) rfl
theorem q1210 : (Jvm.Cond.fieldLink "SharedWindowModel" (142 : Nat) "SharedWindowModel" "things" "I") ∈ lw_all := lw_g (lw_at lw_m5 141 rfl) rfl
theorem q1211 : (Jvm.Cond.fieldLink "SharedWindowModel" (34 : Nat) "SharedWindowModel" "tape" "[B") ∈ lw_all := lw_g (lw_at lw_m5 142 rfl) rfl
theorem q1212 : (Jvm.Cond.fieldLink "SharedWindowModel" (162 : Nat) "SharedWindowModel" "taped" "I") ∈ lw_all := lw_g (lw_at lw_m5 143 rfl) rfl
theorem q1213 : (Jvm.Cond.fieldLink "SharedWindowModel" (169 : Nat) "SharedWindowModel" "place0" "I") ∈ lw_all := lw_g (lw_at lw_m5 144 rfl) rfl
theorem q1214 : (Jvm.Cond.fieldLink "SharedWindowModel" (172 : Nat) "SharedWindowModel" "length0" "I") ∈ lw_all := lw_g (lw_at lw_m5 145 rfl) rfl
theorem q1215 : (Jvm.Cond.fieldLink "SharedWindowModel" (179 : Nat) "SharedWindowModel" "fault" "I") ∈ lw_all := lw_g (lw_at lw_m5 146 rfl) rfl
theorem q1216 : (Jvm.Cond.fieldLink "SharedWindowModel" (185 : Nat) "SharedWindowModel" "number0" "I") ∈ lw_all := lw_g (lw_at lw_m5 147 rfl) rfl
theorem q1217 : (Jvm.Cond.fieldLink "SharedWindowModel" (196 : Nat) "SharedWindowModel" "open" "I") ∈ lw_all := lw_g (lw_at lw_m5 148 rfl) rfl
theorem q1218 : (Jvm.Cond.fieldLink "SharedWindowModel" (192 : Nat) "SharedWindowModel" "codeMany" "I") ∈ lw_all := lw_g (lw_at lw_m5 149 rfl) rfl
theorem q1219 : (Jvm.Cond.fieldLink "SharedWindowModel" (199 : Nat) "SharedWindowModel" "waiting" "I") ∈ lw_all := lw_g (lw_at lw_m5 150 rfl) rfl
theorem q1220 : (Jvm.Cond.fieldLink "SharedWindowModel" (247 : Nat) "SharedWindowModel" "saidMany" "I") ∈ lw_all := lw_g (lw_at lw_m5 151 rfl) rfl
theorem q1221 : (Jvm.Cond.fieldLink "SharedWindowModel" (262 : Nat) "SharedWindowModel" "clauses" "I") ∈ lw_all := lw_g (lw_at lw_m5 152 rfl) rfl
theorem q1222 : (Jvm.Cond.fieldLink "SharedWindowModel" (38 : Nat) "SharedWindowModel" "said" "[I") ∈ lw_all := lw_g (lw_at lw_m5 153 rfl) rfl
theorem q1223 : (Jvm.Cond.fieldLink "SharedWindowModel" (41 : Nat) "SharedWindowModel" "waitsAt" "[I") ∈ lw_all := lw_g (lw_at lw_m5 154 rfl) rfl
theorem q1224 : (Jvm.Cond.fieldLink "SharedWindowModel" (44 : Nat) "SharedWindowModel" "saidLetter" "[I") ∈ lw_all := lw_g (lw_at lw_m5 155 rfl) rfl
theorem q1225 : (Jvm.Cond.fieldLink "SharedWindowModel" (47 : Nat) "SharedWindowModel" "saidFrom" "[I") ∈ lw_all := lw_g (lw_at lw_m5 156 rfl) rfl
theorem q1226 : (Jvm.Cond.fieldLink "SharedWindowModel" (50 : Nat) "SharedWindowModel" "saidHalf" "[I") ∈ lw_all := lw_g (lw_at lw_m5 157 rfl) rfl
theorem q1227 : (Jvm.Cond.fieldLink "SharedWindowModel" (53 : Nat) "SharedWindowModel" "saidTo" "[I") ∈ lw_all := lw_g (lw_at lw_m5 158 rfl) rfl
theorem q1228 : (Jvm.Cond.fieldLink "SharedWindowModel" (56 : Nat) "SharedWindowModel" "codes" "[I") ∈ lw_all := lw_g (lw_at lw_m5 159 rfl) rfl
theorem q1229 : (Jvm.Cond.fieldLink "SharedWindowModel" (59 : Nat) "SharedWindowModel" "clauseOf" "[I") ∈ lw_all := lw_g (lw_at lw_m5 160 rfl) rfl
theorem q1230 : (Jvm.Cond.fieldLink "SharedWindowModel" (62 : Nat) "SharedWindowModel" "codeFrom" "[I") ∈ lw_all := lw_g (lw_at lw_m5 161 rfl) rfl
theorem q1231 : (Jvm.Cond.fieldLink "SharedWindowModel" (65 : Nat) "SharedWindowModel" "codeHalf" "[I") ∈ lw_all := lw_g (lw_at lw_m5 162 rfl) rfl
theorem q1232 : (Jvm.Cond.fieldLink "SharedWindowModel" (68 : Nat) "SharedWindowModel" "codeTo" "[I") ∈ lw_all := lw_g (lw_at lw_m5 163 rfl) rfl
theorem q1233 : (Jvm.Cond.fieldLink "SharedWindowModel" (71 : Nat) "SharedWindowModel" "stack" "[I") ∈ lw_all := lw_g (lw_at lw_m5 164 rfl) rfl
theorem q1234 : (Jvm.Cond.fieldLink "SharedWindowModel" (74 : Nat) "SharedWindowModel" "facts" "[I") ∈ lw_all := lw_g (lw_at lw_m5 165 rfl) rfl
theorem q1235 : (Jvm.Cond.fieldLink "SharedWindowModel" (77 : Nat) "SharedWindowModel" "newFacing" "[I") ∈ lw_all := lw_g (lw_at lw_m5 166 rfl) rfl
theorem q1236 : (Jvm.Cond.fieldLink "SharedWindowModel" (80 : Nat) "SharedWindowModel" "newSide" "[I") ∈ lw_all := lw_g (lw_at lw_m5 167 rfl) rfl
theorem q1237 : (Jvm.Cond.fieldLink "SharedWindowModel" (83 : Nat) "SharedWindowModel" "newFrom" "[I") ∈ lw_all := lw_g (lw_at lw_m5 168 rfl) rfl
theorem q1238 : (Jvm.Cond.fieldLink "SharedWindowModel" (86 : Nat) "SharedWindowModel" "newUntil" "[I") ∈ lw_all := lw_g (lw_at lw_m5 169 rfl) rfl
theorem q1239 : (Jvm.Cond.fieldLink "SharedWindowModel" (272 : Nat) "SharedWindowModel" "newHouses" "I") ∈ lw_all := lw_g (lw_at lw_m5 170 rfl) rfl
theorem q1240 : (Jvm.Cond.fieldLink "SharedWindowModel" (278 : Nat) "SharedWindowModel" "newThings" "I") ∈ lw_all := lw_g (lw_at lw_m5 171 rfl) rfl
theorem q1241 : (Jvm.Cond.fieldLink "SharedWindowModel" (281 : Nat) "SharedWindowModel" "lines" "I") ∈ lw_all := lw_g (lw_at lw_m5 172 rfl) rfl
theorem q1242 : (Jvm.Cond.fieldLink "SharedWindowModel" (89 : Nat) "SharedWindowModel" "turnOf" "[I") ∈ lw_all := lw_g (lw_at lw_m5 173 rfl) rfl
theorem q1243 : (Jvm.Cond.fieldLink "SharedWindowModel" (92 : Nat) "SharedWindowModel" "turnPlace" "[I") ∈ lw_all := lw_g (lw_at lw_m5 174 rfl) rfl
theorem q1244 : (Jvm.Cond.fieldLink "SharedWindowModel" (95 : Nat) "SharedWindowModel" "roundFrom" "[I") ∈ lw_all := lw_g (lw_at lw_m5 175 rfl) rfl
theorem q1245 : (Jvm.Cond.fieldLink "SharedWindowModel" (98 : Nat) "SharedWindowModel" "roundAt" "[I") ∈ lw_all := lw_g (lw_at lw_m5 176 rfl) rfl
theorem q1246 : (Jvm.Cond.fieldLink "SharedWindowModel" (101 : Nat) "SharedWindowModel" "roundTimes" "[I") ∈ lw_all := lw_g (lw_at lw_m5 177 rfl) rfl
theorem q1247 : (Jvm.Cond.fieldLink "SharedWindowModel" (299 : Nat) "SharedWindowModel" "turnMany" "I") ∈ lw_all := lw_g (lw_at lw_m5 178 rfl) rfl
theorem q1248 : (Jvm.Cond.fieldLink "SharedWindowModel" (305 : Nat) "SharedWindowModel" "rounds" "I") ∈ lw_all := lw_g (lw_at lw_m5 179 rfl) rfl
theorem q1249 : (Jvm.Cond.fieldLink "SharedWindowModel" (293 : Nat) "SharedWindowModel" "itFrom" "I") ∈ lw_all := lw_g (lw_at lw_m5 180 rfl) rfl
theorem q1250 : (Jvm.Cond.fieldLink "SharedWindowModel" (296 : Nat) "SharedWindowModel" "itTimes" "I") ∈ lw_all := lw_g (lw_at lw_m5 181 rfl) rfl
theorem q1251 : (Jvm.Cond.fieldLink "SharedWindowModel" (336 : Nat) "SharedWindowModel" "cracksNow" "I") ∈ lw_all := lw_g (lw_at lw_m5 182 rfl) rfl
theorem q1252 : (Jvm.Cond.fieldLink "SharedWindowModel" (104 : Nat) "SharedWindowModel" "leastTo" "[I") ∈ lw_all := lw_g (lw_at lw_m5 183 rfl) rfl
theorem q1253 : (Jvm.Cond.fieldLink "SharedWindowModel" (107 : Nat) "SharedWindowModel" "leastThen" "[I") ∈ lw_all := lw_g (lw_at lw_m5 184 rfl) rfl
theorem q1254 : (Jvm.Cond.fieldLink "SharedWindowModel" (110 : Nat) "SharedWindowModel" "everOf" "[I") ∈ lw_all := lw_g (lw_at lw_m5 185 rfl) rfl
theorem q1255 : (Jvm.Cond.fieldLink "SharedWindowModel" (114 : Nat) "SharedWindowModel" "seenBySet" "[I") ∈ lw_all := lw_g (lw_at lw_m5 186 rfl) rfl
theorem q1256 : (Jvm.Cond.fieldLink "SharedWindowModel" (117 : Nat) "SharedWindowModel" "mostFrom" "[I") ∈ lw_all := lw_g (lw_at lw_m5 187 rfl) rfl
theorem q1257 : (Jvm.Cond.fieldLink "SharedWindowModel" (120 : Nat) "SharedWindowModel" "bestOf" "[I") ∈ lw_all := lw_g (lw_at lw_m5 188 rfl) rfl
theorem q1258 : (Jvm.Cond.fieldLink "SharedWindowModel" (123 : Nat) "SharedWindowModel" "waysBy" "[J") ∈ lw_all := lw_g (lw_at lw_m5 189 rfl) rfl
theorem q1259 : (Jvm.Cond.fieldLink "SharedWindowModel" (127 : Nat) "SharedWindowModel" "waysThen" "[J") ∈ lw_all := lw_g (lw_at lw_m5 190 rfl) rfl
theorem q1260 : (Jvm.Cond.fieldLink "SharedWindowModel" (452 : Nat) "SharedWindowModel" "isKept" "Z") ∈ lw_all := lw_g (lw_at lw_m5 191 rfl) rfl
theorem q1261 : (Jvm.Cond.fieldLink "SharedWindowModel" (456 : Nat) "SharedWindowModel" "keptHouses" "I") ∈ lw_all := lw_g (lw_at lw_m5 192 rfl) rfl
theorem q1262 : (Jvm.Cond.laysFinal "SharedWindowModel" "SharedWindowModel" "now" "[I") ∈ lw_all := lw_g (lw_at lw_m5 193 rfl) rfl
theorem q1263 : (Jvm.Cond.soleField "SharedWindowModel" "now") ∈ lw_all := lw_g (lw_at lw_m5 194 rfl) rfl
theorem q1264 : (Jvm.Cond.laysFinal "SharedWindowModel" "SharedWindowModel" "aside" "[I") ∈ lw_all := lw_g (lw_at lw_m5 195 rfl) rfl
theorem q1265 : (Jvm.Cond.soleField "SharedWindowModel" "aside") ∈ lw_all := lw_g (lw_at lw_m5 196 rfl) rfl
theorem q1266 : (Jvm.Cond.laysFinal "SharedWindowModel" "SharedWindowModel" "kept" "[I") ∈ lw_all := lw_g (lw_at lw_m5 197 rfl) rfl
theorem q1267 : (Jvm.Cond.soleField "SharedWindowModel" "kept") ∈ lw_all := lw_g (lw_at lw_m5 198 rfl) rfl
theorem q1268 : (Jvm.Cond.laysFinal "SharedWindowModel" "SharedWindowModel" "rotaOf" "[I") ∈ lw_all := lw_g (lw_at lw_m5 199 rfl) rfl
theorem q1269 : (Jvm.Cond.soleField "SharedWindowModel" "rotaOf") ∈ lw_all := lw_g (lw_at lw_m5 200 rfl) rfl
theorem q1270 : (Jvm.Cond.laysFinal "SharedWindowModel" "SharedWindowModel" "facingOf" "[I") ∈ lw_all := lw_g (lw_at lw_m5 201 rfl) rfl
theorem q1271 : (Jvm.Cond.soleField "SharedWindowModel" "facingOf") ∈ lw_all := lw_g (lw_at lw_m5 202 rfl) rfl
theorem q1272 : (Jvm.Cond.laysFinal "SharedWindowModel" "SharedWindowModel" "sideOf" "[I") ∈ lw_all := lw_g (lw_at lw_m5 203 rfl) rfl
theorem q1273 : (Jvm.Cond.soleField "SharedWindowModel" "sideOf") ∈ lw_all := lw_g (lw_at lw_m5 204 rfl) rfl
theorem q1274 : (Jvm.Cond.laysFinal "SharedWindowModel" "SharedWindowModel" "fromOf" "[I") ∈ lw_all := lw_g (lw_at lw_m5 205 rfl) rfl
theorem q1275 : (Jvm.Cond.soleField "SharedWindowModel" "fromOf") ∈ lw_all := lw_g (lw_at lw_m5 206 rfl) rfl
theorem q1276 : (Jvm.Cond.laysFinal "SharedWindowModel" "SharedWindowModel" "untilOf" "[I") ∈ lw_all := lw_g (lw_at lw_m5 207 rfl) rfl
theorem q1277 : (Jvm.Cond.soleField "SharedWindowModel" "untilOf") ∈ lw_all := lw_g (lw_at lw_m5 208 rfl) rfl
theorem q1278 : (Jvm.Cond.lays "SharedWindowModel" "SharedWindowModel" "houses" "I") ∈ lw_all := lw_g (lw_at lw_m5 209 rfl) rfl
theorem q1279 : (Jvm.Cond.soleField "SharedWindowModel" "houses") ∈ lw_all := lw_g (lw_at lw_m5 210 rfl) rfl
theorem q1280 : (Jvm.Cond.lays "SharedWindowModel" "SharedWindowModel" "things" "I") ∈ lw_all := lw_g (lw_at lw_m5 211 rfl) rfl
theorem q1281 : (Jvm.Cond.soleField "SharedWindowModel" "things") ∈ lw_all := lw_g (lw_at lw_m5 212 rfl) rfl
theorem q1282 : (Jvm.Cond.laysFinal "SharedWindowModel" "SharedWindowModel" "tape" "[B") ∈ lw_all := lw_g (lw_at lw_m5 213 rfl) rfl
theorem q1283 : (Jvm.Cond.soleField "SharedWindowModel" "tape") ∈ lw_all := lw_g (lw_at lw_m5 214 rfl) rfl
theorem q1284 : (Jvm.Cond.lays "SharedWindowModel" "SharedWindowModel" "taped" "I") ∈ lw_all := lw_g (lw_at lw_m5 215 rfl) rfl
theorem q1285 : (Jvm.Cond.soleField "SharedWindowModel" "taped") ∈ lw_all := lw_g (lw_at lw_m5 216 rfl) rfl
theorem q1286 : (Jvm.Cond.lays "SharedWindowModel" "SharedWindowModel" "place0" "I") ∈ lw_all := lw_g (lw_at lw_m5 217 rfl) rfl
theorem q1287 : (Jvm.Cond.soleField "SharedWindowModel" "place0") ∈ lw_all := lw_g (lw_at lw_m5 218 rfl) rfl
theorem q1288 : (Jvm.Cond.lays "SharedWindowModel" "SharedWindowModel" "length0" "I") ∈ lw_all := lw_g (lw_at lw_m5 219 rfl) rfl
theorem q1289 : (Jvm.Cond.soleField "SharedWindowModel" "length0") ∈ lw_all := lw_g (lw_at lw_m5 220 rfl) rfl
theorem q1290 : (Jvm.Cond.lays "SharedWindowModel" "SharedWindowModel" "fault" "I") ∈ lw_all := lw_g (lw_at lw_m5 221 rfl) rfl
theorem q1291 : (Jvm.Cond.soleField "SharedWindowModel" "fault") ∈ lw_all := lw_g (lw_at lw_m5 222 rfl) rfl
theorem q1292 : (Jvm.Cond.lays "SharedWindowModel" "SharedWindowModel" "number0" "I") ∈ lw_all := lw_g (lw_at lw_m5 223 rfl) rfl
theorem q1293 : (Jvm.Cond.soleField "SharedWindowModel" "number0") ∈ lw_all := lw_g (lw_at lw_m5 224 rfl) rfl
theorem q1294 : (Jvm.Cond.lays "SharedWindowModel" "SharedWindowModel" "open" "I") ∈ lw_all := lw_g (lw_at lw_m5 225 rfl) rfl
theorem q1295 : (Jvm.Cond.soleField "SharedWindowModel" "open") ∈ lw_all := lw_g (lw_at lw_m5 226 rfl) rfl
theorem q1296 : (Jvm.Cond.lays "SharedWindowModel" "SharedWindowModel" "codeMany" "I") ∈ lw_all := lw_g (lw_at lw_m5 227 rfl) rfl
theorem q1297 : (Jvm.Cond.soleField "SharedWindowModel" "codeMany") ∈ lw_all := lw_g (lw_at lw_m5 228 rfl) rfl
theorem q1298 : (Jvm.Cond.lays "SharedWindowModel" "SharedWindowModel" "waiting" "I") ∈ lw_all := lw_g (lw_at lw_m5 229 rfl) rfl
theorem q1299 : (Jvm.Cond.soleField "SharedWindowModel" "waiting") ∈ lw_all := lw_g (lw_at lw_m5 230 rfl) rfl
theorem q1300 : (Jvm.Cond.lays "SharedWindowModel" "SharedWindowModel" "saidMany" "I") ∈ lw_all := lw_g (lw_at lw_m5 231 rfl) rfl
theorem q1301 : (Jvm.Cond.soleField "SharedWindowModel" "saidMany") ∈ lw_all := lw_g (lw_at lw_m5 232 rfl) rfl
theorem q1302 : (Jvm.Cond.lays "SharedWindowModel" "SharedWindowModel" "clauses" "I") ∈ lw_all := lw_g (lw_at lw_m5 233 rfl) rfl
theorem q1303 : (Jvm.Cond.soleField "SharedWindowModel" "clauses") ∈ lw_all := lw_g (lw_at lw_m5 234 rfl) rfl
theorem q1304 : (Jvm.Cond.laysFinal "SharedWindowModel" "SharedWindowModel" "said" "[I") ∈ lw_all := lw_g (lw_at lw_m5 235 rfl) rfl
theorem q1305 : (Jvm.Cond.soleField "SharedWindowModel" "said") ∈ lw_all := lw_g (lw_at lw_m5 236 rfl) rfl
theorem q1306 : (Jvm.Cond.laysFinal "SharedWindowModel" "SharedWindowModel" "waitsAt" "[I") ∈ lw_all := lw_g (lw_at lw_m5 237 rfl) rfl
theorem q1307 : (Jvm.Cond.soleField "SharedWindowModel" "waitsAt") ∈ lw_all := lw_g (lw_at lw_m5 238 rfl) rfl
theorem q1308 : (Jvm.Cond.laysFinal "SharedWindowModel" "SharedWindowModel" "saidLetter" "[I") ∈ lw_all := lw_g (lw_at lw_m5 239 rfl) rfl
theorem q1309 : (Jvm.Cond.soleField "SharedWindowModel" "saidLetter") ∈ lw_all := lw_g (lw_at lw_m6 0 rfl) rfl
theorem q1310 : (Jvm.Cond.laysFinal "SharedWindowModel" "SharedWindowModel" "saidFrom" "[I") ∈ lw_all := lw_g (lw_at lw_m6 1 rfl) rfl
theorem q1311 : (Jvm.Cond.soleField "SharedWindowModel" "saidFrom") ∈ lw_all := lw_g (lw_at lw_m6 2 rfl) rfl
theorem q1312 : (Jvm.Cond.laysFinal "SharedWindowModel" "SharedWindowModel" "saidHalf" "[I") ∈ lw_all := lw_g (lw_at lw_m6 3 rfl) rfl
theorem q1313 : (Jvm.Cond.soleField "SharedWindowModel" "saidHalf") ∈ lw_all := lw_g (lw_at lw_m6 4 rfl) rfl
theorem q1314 : (Jvm.Cond.laysFinal "SharedWindowModel" "SharedWindowModel" "saidTo" "[I") ∈ lw_all := lw_g (lw_at lw_m6 5 rfl) rfl
theorem q1315 : (Jvm.Cond.soleField "SharedWindowModel" "saidTo") ∈ lw_all := lw_g (lw_at lw_m6 6 rfl) rfl
theorem q1316 : (Jvm.Cond.laysFinal "SharedWindowModel" "SharedWindowModel" "codes" "[I") ∈ lw_all := lw_g (lw_at lw_m6 7 rfl) rfl
theorem q1317 : (Jvm.Cond.soleField "SharedWindowModel" "codes") ∈ lw_all := lw_g (lw_at lw_m6 8 rfl) rfl
theorem q1318 : (Jvm.Cond.laysFinal "SharedWindowModel" "SharedWindowModel" "clauseOf" "[I") ∈ lw_all := lw_g (lw_at lw_m6 9 rfl) rfl
theorem q1319 : (Jvm.Cond.soleField "SharedWindowModel" "clauseOf") ∈ lw_all := lw_g (lw_at lw_m6 10 rfl) rfl
theorem q1320 : (Jvm.Cond.laysFinal "SharedWindowModel" "SharedWindowModel" "codeFrom" "[I") ∈ lw_all := lw_g (lw_at lw_m6 11 rfl) rfl
theorem q1321 : (Jvm.Cond.soleField "SharedWindowModel" "codeFrom") ∈ lw_all := lw_g (lw_at lw_m6 12 rfl) rfl
theorem q1322 : (Jvm.Cond.laysFinal "SharedWindowModel" "SharedWindowModel" "codeHalf" "[I") ∈ lw_all := lw_g (lw_at lw_m6 13 rfl) rfl
theorem q1323 : (Jvm.Cond.soleField "SharedWindowModel" "codeHalf") ∈ lw_all := lw_g (lw_at lw_m6 14 rfl) rfl
theorem q1324 : (Jvm.Cond.laysFinal "SharedWindowModel" "SharedWindowModel" "codeTo" "[I") ∈ lw_all := lw_g (lw_at lw_m6 15 rfl) rfl
theorem q1325 : (Jvm.Cond.soleField "SharedWindowModel" "codeTo") ∈ lw_all := lw_g (lw_at lw_m6 16 rfl) rfl
theorem q1326 : (Jvm.Cond.laysFinal "SharedWindowModel" "SharedWindowModel" "stack" "[I") ∈ lw_all := lw_g (lw_at lw_m6 17 rfl) rfl
theorem q1327 : (Jvm.Cond.soleField "SharedWindowModel" "stack") ∈ lw_all := lw_g (lw_at lw_m6 18 rfl) rfl
theorem q1328 : (Jvm.Cond.laysFinal "SharedWindowModel" "SharedWindowModel" "facts" "[I") ∈ lw_all := lw_g (lw_at lw_m6 19 rfl) rfl
theorem q1329 : (Jvm.Cond.soleField "SharedWindowModel" "facts") ∈ lw_all := lw_g (lw_at lw_m6 20 rfl) rfl
theorem q1330 : (Jvm.Cond.laysFinal "SharedWindowModel" "SharedWindowModel" "newFacing" "[I") ∈ lw_all := lw_g (lw_at lw_m6 21 rfl) rfl
theorem q1331 : (Jvm.Cond.soleField "SharedWindowModel" "newFacing") ∈ lw_all := lw_g (lw_at lw_m6 22 rfl) rfl
theorem q1332 : (Jvm.Cond.laysFinal "SharedWindowModel" "SharedWindowModel" "newSide" "[I") ∈ lw_all := lw_g (lw_at lw_m6 23 rfl) rfl
theorem q1333 : (Jvm.Cond.soleField "SharedWindowModel" "newSide") ∈ lw_all := lw_g (lw_at lw_m6 24 rfl) rfl
theorem q1334 : (Jvm.Cond.laysFinal "SharedWindowModel" "SharedWindowModel" "newFrom" "[I") ∈ lw_all := lw_g (lw_at lw_m6 25 rfl) rfl
theorem q1335 : (Jvm.Cond.soleField "SharedWindowModel" "newFrom") ∈ lw_all := lw_g (lw_at lw_m6 26 rfl) rfl
theorem q1336 : (Jvm.Cond.laysFinal "SharedWindowModel" "SharedWindowModel" "newUntil" "[I") ∈ lw_all := lw_g (lw_at lw_m6 27 rfl) rfl
theorem q1337 : (Jvm.Cond.soleField "SharedWindowModel" "newUntil") ∈ lw_all := lw_g (lw_at lw_m6 28 rfl) rfl
theorem q1338 : (Jvm.Cond.lays "SharedWindowModel" "SharedWindowModel" "newHouses" "I") ∈ lw_all := lw_g (lw_at lw_m6 29 rfl) rfl
theorem q1339 : (Jvm.Cond.soleField "SharedWindowModel" "newHouses") ∈ lw_all := lw_g (lw_at lw_m6 30 rfl) rfl
theorem q1340 : (Jvm.Cond.lays "SharedWindowModel" "SharedWindowModel" "newThings" "I") ∈ lw_all := lw_g (lw_at lw_m6 31 rfl) rfl
theorem q1341 : (Jvm.Cond.soleField "SharedWindowModel" "newThings") ∈ lw_all := lw_g (lw_at lw_m6 32 rfl) rfl
theorem q1342 : (Jvm.Cond.lays "SharedWindowModel" "SharedWindowModel" "lines" "I") ∈ lw_all := lw_g (lw_at lw_m6 33 rfl) rfl
theorem q1343 : (Jvm.Cond.soleField "SharedWindowModel" "lines") ∈ lw_all := lw_g (lw_at lw_m6 34 rfl) rfl
theorem q1344 : (Jvm.Cond.laysFinal "SharedWindowModel" "SharedWindowModel" "turnOf" "[I") ∈ lw_all := lw_g (lw_at lw_m6 35 rfl) rfl
theorem q1345 : (Jvm.Cond.soleField "SharedWindowModel" "turnOf") ∈ lw_all := lw_g (lw_at lw_m6 36 rfl) rfl
theorem q1346 : (Jvm.Cond.laysFinal "SharedWindowModel" "SharedWindowModel" "turnPlace" "[I") ∈ lw_all := lw_g (lw_at lw_m6 37 rfl) rfl
theorem q1347 : (Jvm.Cond.soleField "SharedWindowModel" "turnPlace") ∈ lw_all := lw_g (lw_at lw_m6 38 rfl) rfl
theorem q1348 : (Jvm.Cond.laysFinal "SharedWindowModel" "SharedWindowModel" "roundFrom" "[I") ∈ lw_all := lw_g (lw_at lw_m6 39 rfl) rfl
theorem q1349 : (Jvm.Cond.soleField "SharedWindowModel" "roundFrom") ∈ lw_all := lw_g (lw_at lw_m6 40 rfl) rfl
theorem q1350 : (Jvm.Cond.laysFinal "SharedWindowModel" "SharedWindowModel" "roundAt" "[I") ∈ lw_all := lw_g (lw_at lw_m6 41 rfl) rfl
theorem q1351 : (Jvm.Cond.soleField "SharedWindowModel" "roundAt") ∈ lw_all := lw_g (lw_at lw_m6 42 rfl) rfl
theorem q1352 : (Jvm.Cond.laysFinal "SharedWindowModel" "SharedWindowModel" "roundTimes" "[I") ∈ lw_all := lw_g (lw_at lw_m6 43 rfl) rfl
theorem q1353 : (Jvm.Cond.soleField "SharedWindowModel" "roundTimes") ∈ lw_all := lw_g (lw_at lw_m6 44 rfl) rfl
theorem q1354 : (Jvm.Cond.lays "SharedWindowModel" "SharedWindowModel" "turnMany" "I") ∈ lw_all := lw_g (lw_at lw_m6 45 rfl) rfl
theorem q1355 : (Jvm.Cond.soleField "SharedWindowModel" "turnMany") ∈ lw_all := lw_g (lw_at lw_m6 46 rfl) rfl
theorem q1356 : (Jvm.Cond.lays "SharedWindowModel" "SharedWindowModel" "rounds" "I") ∈ lw_all := lw_g (lw_at lw_m6 47 rfl) rfl
theorem q1357 : (Jvm.Cond.soleField "SharedWindowModel" "rounds") ∈ lw_all := lw_g (lw_at lw_m6 48 rfl) rfl
theorem q1358 : (Jvm.Cond.lays "SharedWindowModel" "SharedWindowModel" "itFrom" "I") ∈ lw_all := lw_g (lw_at lw_m6 49 rfl) rfl
theorem q1359 : (Jvm.Cond.soleField "SharedWindowModel" "itFrom") ∈ lw_all := lw_g (lw_at lw_m6 50 rfl) rfl
theorem q1360 : (Jvm.Cond.lays "SharedWindowModel" "SharedWindowModel" "itTimes" "I") ∈ lw_all := lw_g (lw_at lw_m6 51 rfl) rfl
theorem q1361 : (Jvm.Cond.soleField "SharedWindowModel" "itTimes") ∈ lw_all := lw_g (lw_at lw_m6 52 rfl) rfl
theorem q1362 : (Jvm.Cond.lays "SharedWindowModel" "SharedWindowModel" "cracksNow" "I") ∈ lw_all := lw_g (lw_at lw_m6 53 rfl) rfl
theorem q1363 : (Jvm.Cond.soleField "SharedWindowModel" "cracksNow") ∈ lw_all := lw_g (lw_at lw_m6 54 rfl) rfl
theorem q1364 : (Jvm.Cond.laysFinal "SharedWindowModel" "SharedWindowModel" "leastTo" "[I") ∈ lw_all := lw_g (lw_at lw_m6 55 rfl) rfl
theorem q1365 : (Jvm.Cond.soleField "SharedWindowModel" "leastTo") ∈ lw_all := lw_g (lw_at lw_m6 56 rfl) rfl
theorem q1366 : (Jvm.Cond.laysFinal "SharedWindowModel" "SharedWindowModel" "leastThen" "[I") ∈ lw_all := lw_g (lw_at lw_m6 57 rfl) rfl
theorem q1367 : (Jvm.Cond.soleField "SharedWindowModel" "leastThen") ∈ lw_all := lw_g (lw_at lw_m6 58 rfl) rfl
theorem q1368 : (Jvm.Cond.laysFinal "SharedWindowModel" "SharedWindowModel" "everOf" "[I") ∈ lw_all := lw_g (lw_at lw_m6 59 rfl) rfl
theorem q1369 : (Jvm.Cond.soleField "SharedWindowModel" "everOf") ∈ lw_all := lw_g (lw_at lw_m6 60 rfl) rfl
theorem q1370 : (Jvm.Cond.laysFinal "SharedWindowModel" "SharedWindowModel" "seenBySet" "[I") ∈ lw_all := lw_g (lw_at lw_m6 61 rfl) rfl
theorem q1371 : (Jvm.Cond.soleField "SharedWindowModel" "seenBySet") ∈ lw_all := lw_g (lw_at lw_m6 62 rfl) rfl
theorem q1372 : (Jvm.Cond.laysFinal "SharedWindowModel" "SharedWindowModel" "mostFrom" "[I") ∈ lw_all := lw_g (lw_at lw_m6 63 rfl) rfl
theorem q1373 : (Jvm.Cond.soleField "SharedWindowModel" "mostFrom") ∈ lw_all := lw_g (lw_at lw_m6 64 rfl) rfl
theorem q1374 : (Jvm.Cond.laysFinal "SharedWindowModel" "SharedWindowModel" "bestOf" "[I") ∈ lw_all := lw_g (lw_at lw_m6 65 rfl) rfl
theorem q1375 : (Jvm.Cond.soleField "SharedWindowModel" "bestOf") ∈ lw_all := lw_g (lw_at lw_m6 66 rfl) rfl
theorem q1376 : (Jvm.Cond.laysFinal "SharedWindowModel" "SharedWindowModel" "waysBy" "[J") ∈ lw_all := lw_g (lw_at lw_m6 67 rfl) rfl
theorem q1377 : (Jvm.Cond.soleField "SharedWindowModel" "waysBy") ∈ lw_all := lw_g (lw_at lw_m6 68 rfl) rfl
theorem q1378 : (Jvm.Cond.laysFinal "SharedWindowModel" "SharedWindowModel" "waysThen" "[J") ∈ lw_all := lw_g (lw_at lw_m6 69 rfl) rfl
theorem q1379 : (Jvm.Cond.soleField "SharedWindowModel" "waysThen") ∈ lw_all := lw_g (lw_at lw_m6 70 rfl) rfl
theorem q1380 : (Jvm.Cond.lays "SharedWindowModel" "SharedWindowModel" "isKept" "Z") ∈ lw_all := lw_g (lw_at lw_m6 71 rfl) rfl
theorem q1381 : (Jvm.Cond.soleField "SharedWindowModel" "isKept") ∈ lw_all := lw_g (lw_at lw_m6 72 rfl) rfl
theorem q1382 : (Jvm.Cond.lays "SharedWindowModel" "SharedWindowModel" "keptHouses" "I") ∈ lw_all := lw_g (lw_at lw_m6 73 rfl) rfl
theorem q1383 : (Jvm.Cond.soleField "SharedWindowModel" "keptHouses") ∈ lw_all := lw_g (lw_at lw_m6 74 rfl) rfl
theorem q1384 : (Jvm.Cond.superclass "SharedWindowModel" "java/lang/Object") ∈ lw_all := lw_g (lw_at lw_m6 75 rfl) rfl
theorem q1386 : (Jvm.Cond.instanceMethod ({ cls := "SharedWindowModel", name := "turn", desc := "(II)Z" } : Jvm.MethodName)) ∈ lw_all := lw_g (lw_at lw_m6 77 rfl) rfl
theorem q1387 : (Jvm.Cond.selects "SharedWindowModel" ({ cls := "SharedWindowModel", name := "turn", desc := "(II)Z" } : Jvm.MethodName) ({ cls := "SharedWindowModel", name := "turn", desc := "(II)Z" } : Jvm.MethodName)) ∈ lw_all := lw_g (lw_at lw_m6 78 rfl) rfl
theorem q1388 : (Jvm.Cond.code ({ cls := "SharedWindowModel", name := "turn", desc := "(II)Z" } : Jvm.MethodName) prog_20_method_16_code (3 : Nat) (Option.some Jvm.ClassFile.FieldType.boolean)) ∈ lw_all := lw_g (lw_at lw_m6 79 rfl) rfl
theorem q1389 : (Jvm.Cond.methodLink "SharedWindowModel" (156 : Nat) ({ cls := "SharedWindowModel", name := "isTurn", desc := "(I)Z" } : Jvm.MethodName)) ∈ lw_all := lw_g (lw_at lw_m6 80 rfl) rfl
theorem q1390 : (Jvm.Cond.static ({ cls := "SharedWindowModel", name := "isTurn", desc := "(I)Z" } : Jvm.MethodName)) ∈ lw_all := lw_g (lw_at lw_m6 81 rfl) rfl
theorem q1391 : (Jvm.Cond.code ({ cls := "SharedWindowModel", name := "isTurn", desc := "(I)Z" } : Jvm.MethodName) prog_20_method_12_code (1 : Nat) (Option.some Jvm.ClassFile.FieldType.boolean)) ∈ lw_all := lw_g (lw_at lw_m6 82 rfl) rfl
theorem q1392 : (Jvm.Cond.methodLink "SharedWindowModel" (134 : Nat) ({ cls := "SharedWindowModel", name := "in", desc := "(III)Z" } : Jvm.MethodName)) ∈ lw_all := lw_g (lw_at lw_m6 83 rfl) rfl
theorem q1393 : (Jvm.Cond.static ({ cls := "SharedWindowModel", name := "in", desc := "(III)Z" } : Jvm.MethodName)) ∈ lw_all := lw_g (lw_at lw_m6 84 rfl) rfl
theorem q1394 : (Jvm.Cond.code ({ cls := "SharedWindowModel", name := "in", desc := "(III)Z" } : Jvm.MethodName) prog_20_method_2_code (3 : Nat) (Option.some Jvm.ClassFile.FieldType.boolean)) ∈ lw_all := lw_g (lw_at lw_m6 85 rfl) rfl
theorem q1395 : (Jvm.Cond.methodLink "SharedWindowModel" (159 : Nat) ({ cls := "SharedWindowModel", name := "isHouse", desc := "(I)Z" } : Jvm.MethodName)) ∈ lw_all := lw_g (lw_at lw_m6 86 rfl) rfl
theorem q1396 : (Jvm.Cond.privateMethod ({ cls := "SharedWindowModel", name := "isHouse", desc := "(I)Z" } : Jvm.MethodName)) ∈ lw_tbl := lw_at lw_m6 87 rfl
theorem q1397 : (Jvm.Cond.instanceMethod ({ cls := "SharedWindowModel", name := "isHouse", desc := "(I)Z" } : Jvm.MethodName)) ∈ lw_all := lw_g (lw_at lw_m6 88 rfl) rfl
theorem q1398 : (Jvm.Cond.code ({ cls := "SharedWindowModel", name := "isHouse", desc := "(I)Z" } : Jvm.MethodName) prog_20_method_10_code (2 : Nat) (Option.some Jvm.ClassFile.FieldType.boolean)) ∈ lw_all := lw_g (lw_at lw_m6 89 rfl) rfl
theorem q1399 : (Jvm.Cond.methodLink "SharedWindowModel" (130 : Nat) ({ cls := "SharedWindowModel", name := "has", desc := "(II)Z" } : Jvm.MethodName)) ∈ lw_all := lw_g (lw_at lw_m6 90 rfl) rfl
theorem q1400 : (Jvm.Cond.static ({ cls := "SharedWindowModel", name := "has", desc := "(II)Z" } : Jvm.MethodName)) ∈ lw_all := lw_g (lw_at lw_m6 91 rfl) rfl
theorem q1401 : (Jvm.Cond.code ({ cls := "SharedWindowModel", name := "has", desc := "(II)Z" } : Jvm.MethodName) prog_20_method_6_code (2 : Nat) (Option.some Jvm.ClassFile.FieldType.boolean)) ∈ lw_all := lw_g (lw_at lw_m6 92 rfl) rfl
theorem q1403 : (Jvm.Cond.instanceMethod ({ cls := "SharedWindowModel", name := "sees", desc := "(II)I" } : Jvm.MethodName)) ∈ lw_all := lw_g (lw_at lw_m6 94 rfl) rfl
theorem q1404 : (Jvm.Cond.selects "SharedWindowModel" ({ cls := "SharedWindowModel", name := "sees", desc := "(II)I" } : Jvm.MethodName) ({ cls := "SharedWindowModel", name := "sees", desc := "(II)I" } : Jvm.MethodName)) ∈ lw_all := lw_g (lw_at lw_m6 95 rfl) rfl
theorem q1405 : (Jvm.Cond.code ({ cls := "SharedWindowModel", name := "sees", desc := "(II)I" } : Jvm.MethodName) prog_20_method_17_code (3 : Nat) (Option.some Jvm.ClassFile.FieldType.int)) ∈ lw_all := lw_g (lw_at lw_m6 96 rfl) rfl
theorem q1406 : (Jvm.Cond.methodLink "SharedWindowModel" (152 : Nat) ({ cls := "SharedWindowModel", name := "seenBy", desc := "(II)I" } : Jvm.MethodName)) ∈ lw_all := lw_g (lw_at lw_m6 97 rfl) rfl
theorem q1407 : (Jvm.Cond.privateMethod ({ cls := "SharedWindowModel", name := "seenBy", desc := "(II)I" } : Jvm.MethodName)) ∈ lw_tbl := lw_at lw_m6 98 rfl
theorem q1408 : (Jvm.Cond.instanceMethod ({ cls := "SharedWindowModel", name := "seenBy", desc := "(II)I" } : Jvm.MethodName)) ∈ lw_all := lw_g (lw_at lw_m6 99 rfl) rfl
theorem q1409 : (Jvm.Cond.code ({ cls := "SharedWindowModel", name := "seenBy", desc := "(II)I" } : Jvm.MethodName) prog_20_method_14_code (5 : Nat) (Option.some Jvm.ClassFile.FieldType.int)) ∈ lw_all := lw_g (lw_at lw_m6 100 rfl) rfl
theorem q1410 : (Jvm.Cond.methodLink "SharedWindowModel" (145 : Nat) ({ cls := "SharedWindowModel", name := "isThing", desc := "(I)Z" } : Jvm.MethodName)) ∈ lw_all := lw_g (lw_at lw_m6 101 rfl) rfl
theorem q1411 : (Jvm.Cond.privateMethod ({ cls := "SharedWindowModel", name := "isThing", desc := "(I)Z" } : Jvm.MethodName)) ∈ lw_tbl := lw_at lw_m6 102 rfl
theorem q1412 : (Jvm.Cond.instanceMethod ({ cls := "SharedWindowModel", name := "isThing", desc := "(I)Z" } : Jvm.MethodName)) ∈ lw_all := lw_g (lw_at lw_m6 103 rfl) rfl
theorem q1413 : (Jvm.Cond.code ({ cls := "SharedWindowModel", name := "isThing", desc := "(I)Z" } : Jvm.MethodName) prog_20_method_11_code (2 : Nat) (Option.some Jvm.ClassFile.FieldType.boolean)) ∈ lw_all := lw_g (lw_at lw_m6 104 rfl) rfl
theorem q1414 : (Jvm.Cond.methodLink "SharedWindowModel" (149 : Nat) ({ cls := "SharedWindowModel", name := "isSeen", desc := "(III)Z" } : Jvm.MethodName)) ∈ lw_all := lw_g (lw_at lw_m6 105 rfl) rfl
theorem q1415 : (Jvm.Cond.privateMethod ({ cls := "SharedWindowModel", name := "isSeen", desc := "(III)Z" } : Jvm.MethodName)) ∈ lw_tbl := lw_at lw_m6 106 rfl
theorem q1416 : (Jvm.Cond.instanceMethod ({ cls := "SharedWindowModel", name := "isSeen", desc := "(III)Z" } : Jvm.MethodName)) ∈ lw_all := lw_g (lw_at lw_m6 107 rfl) rfl
theorem q1417 : (Jvm.Cond.code ({ cls := "SharedWindowModel", name := "isSeen", desc := "(III)Z" } : Jvm.MethodName) prog_20_method_13_code (7 : Nat) (Option.some Jvm.ClassFile.FieldType.boolean)) ∈ lw_all := lw_g (lw_at lw_m6 108 rfl) rfl
theorem q1419 : (Jvm.Cond.instanceMethod ({ cls := "SharedWindowModel", name := "feed", desc := "(IIIII)I" } : Jvm.MethodName)) ∈ lw_all := lw_g (lw_at lw_m6 110 rfl) rfl
theorem q1420 : (Jvm.Cond.selects "SharedWindowModel" ({ cls := "SharedWindowModel", name := "feed", desc := "(IIIII)I" } : Jvm.MethodName) ({ cls := "SharedWindowModel", name := "feed", desc := "(IIIII)I" } : Jvm.MethodName)) ∈ lw_all := lw_g (lw_at lw_m6 111 rfl) rfl
theorem q1421 : (Jvm.Cond.code ({ cls := "SharedWindowModel", name := "feed", desc := "(IIIII)I" } : Jvm.MethodName) prog_20_method_19_code (6 : Nat) (Option.some Jvm.ClassFile.FieldType.int)) ∈ lw_all := lw_g (lw_at lw_m6 112 rfl) rfl
theorem q1422 : (Jvm.Cond.methodLink "SharedWindowModel" (165 : Nat) ({ cls := "SharedWindowModel", name := "types", desc := "(I)V" } : Jvm.MethodName)) ∈ lw_all := lw_g (lw_at lw_m6 113 rfl) rfl
theorem q1423 : (Jvm.Cond.privateMethod ({ cls := "SharedWindowModel", name := "types", desc := "(I)V" } : Jvm.MethodName)) ∈ lw_tbl := lw_at lw_m6 114 rfl
theorem q1424 : (Jvm.Cond.instanceMethod ({ cls := "SharedWindowModel", name := "types", desc := "(I)V" } : Jvm.MethodName)) ∈ lw_all := lw_g (lw_at lw_m6 115 rfl) rfl
theorem q1425 : (Jvm.Cond.code ({ cls := "SharedWindowModel", name := "types", desc := "(I)V" } : Jvm.MethodName) prog_20_method_18_code (3 : Nat) (Option.none : Option Jvm.ClassFile.FieldType)) ∈ lw_all := lw_g (lw_at lw_m6 116 rfl) rfl
theorem q1427 : (Jvm.Cond.instanceMethod ({ cls := "SharedWindowModel", name := "law", desc := "(I)I" } : Jvm.MethodName)) ∈ lw_all := lw_g (lw_at lw_m6 118 rfl) rfl
theorem q1428 : (Jvm.Cond.selects "SharedWindowModel" ({ cls := "SharedWindowModel", name := "law", desc := "(I)I" } : Jvm.MethodName) ({ cls := "SharedWindowModel", name := "law", desc := "(I)I" } : Jvm.MethodName)) ∈ lw_all := lw_g (lw_at lw_m6 119 rfl) rfl
theorem q1429 : (Jvm.Cond.code ({ cls := "SharedWindowModel", name := "law", desc := "(I)I" } : Jvm.MethodName) prog_20_method_42_code (4 : Nat) (Option.some Jvm.ClassFile.FieldType.int)) ∈ lw_all := lw_g (lw_at lw_m6 120 rfl) rfl
theorem q1430 : (Jvm.Cond.methodLink "SharedWindowModel" (253 : Nat) ({ cls := "SharedWindowModel", name := "beginsText", desc := "(I)V" } : Jvm.MethodName)) ∈ lw_all := lw_g (lw_at lw_m6 121 rfl) rfl
theorem q1431 : (Jvm.Cond.privateMethod ({ cls := "SharedWindowModel", name := "beginsText", desc := "(I)V" } : Jvm.MethodName)) ∈ lw_tbl := lw_at lw_m6 122 rfl
theorem q1432 : (Jvm.Cond.instanceMethod ({ cls := "SharedWindowModel", name := "beginsText", desc := "(I)V" } : Jvm.MethodName)) ∈ lw_all := lw_g (lw_at lw_m6 123 rfl) rfl
theorem q1433 : (Jvm.Cond.code ({ cls := "SharedWindowModel", name := "beginsText", desc := "(I)V" } : Jvm.MethodName) prog_20_method_41_code (2 : Nat) (Option.none : Option Jvm.ClassFile.FieldType)) ∈ lw_all := lw_g (lw_at lw_m6 124 rfl) rfl
theorem q1434 : (Jvm.Cond.methodLink "SharedWindowModel" (256 : Nat) ({ cls := "SharedWindowModel", name := "readsRule", desc := "()Z" } : Jvm.MethodName)) ∈ lw_all := lw_g (lw_at lw_m6 125 rfl) rfl
theorem q1435 : (Jvm.Cond.privateMethod ({ cls := "SharedWindowModel", name := "readsRule", desc := "()Z" } : Jvm.MethodName)) ∈ lw_tbl := lw_at lw_m6 126 rfl
theorem q1436 : (Jvm.Cond.instanceMethod ({ cls := "SharedWindowModel", name := "readsRule", desc := "()Z" } : Jvm.MethodName)) ∈ lw_all := lw_g (lw_at lw_m6 127 rfl) rfl
theorem q1437 : (Jvm.Cond.code ({ cls := "SharedWindowModel", name := "readsRule", desc := "()Z" } : Jvm.MethodName) prog_20_method_40_code (2 : Nat) (Option.some Jvm.ClassFile.FieldType.boolean)) ∈ lw_all := lw_g (lw_at lw_m6 128 rfl) rfl
theorem q1438 : (Jvm.Cond.methodLink "SharedWindowModel" (175 : Nat) ({ cls := "SharedWindowModel", name := "here", desc := "()I" } : Jvm.MethodName)) ∈ lw_all := lw_g (lw_at lw_m6 129 rfl) rfl
theorem q1439 : (Jvm.Cond.privateMethod ({ cls := "SharedWindowModel", name := "here", desc := "()I" } : Jvm.MethodName)) ∈ lw_tbl := lw_at lw_m6 130 rfl
theorem q1440 : (Jvm.Cond.instanceMethod ({ cls := "SharedWindowModel", name := "here", desc := "()I" } : Jvm.MethodName)) ∈ lw_all := lw_g (lw_at lw_m6 131 rfl) rfl
theorem q1441 : (Jvm.Cond.code ({ cls := "SharedWindowModel", name := "here", desc := "()I" } : Jvm.MethodName) prog_20_method_21_code (1 : Nat) (Option.some Jvm.ClassFile.FieldType.int)) ∈ lw_all := lw_g (lw_at lw_m6 132 rfl) rfl
theorem q1442 : (Jvm.Cond.methodLink "SharedWindowModel" (182 : Nat) ({ cls := "SharedWindowModel", name := "wrongAt", desc := "(II)Z" } : Jvm.MethodName)) ∈ lw_all := lw_g (lw_at lw_m6 133 rfl) rfl
theorem q1443 : (Jvm.Cond.privateMethod ({ cls := "SharedWindowModel", name := "wrongAt", desc := "(II)Z" } : Jvm.MethodName)) ∈ lw_tbl := lw_at lw_m6 134 rfl
theorem q1444 : (Jvm.Cond.instanceMethod ({ cls := "SharedWindowModel", name := "wrongAt", desc := "(II)Z" } : Jvm.MethodName)) ∈ lw_all := lw_g (lw_at lw_m6 135 rfl) rfl
theorem q1445 : (Jvm.Cond.code ({ cls := "SharedWindowModel", name := "wrongAt", desc := "(II)Z" } : Jvm.MethodName) prog_20_method_23_code (3 : Nat) (Option.some Jvm.ClassFile.FieldType.boolean)) ∈ lw_all := lw_g (lw_at lw_m6 136 rfl) rfl
theorem q1446 : (Jvm.Cond.methodLink "SharedWindowModel" (232 : Nat) ({ cls := "SharedWindowModel", name := "readsSum", desc := "()Z" } : Jvm.MethodName)) ∈ lw_all := lw_g (lw_at lw_m6 137 rfl) rfl
theorem q1447 : (Jvm.Cond.privateMethod ({ cls := "SharedWindowModel", name := "readsSum", desc := "()Z" } : Jvm.MethodName)) ∈ lw_tbl := lw_at lw_m6 138 rfl
theorem q1448 : (Jvm.Cond.instanceMethod ({ cls := "SharedWindowModel", name := "readsSum", desc := "()Z" } : Jvm.MethodName)) ∈ lw_all := lw_g (lw_at lw_m6 139 rfl) rfl
theorem q1449 : (Jvm.Cond.code ({ cls := "SharedWindowModel", name := "readsSum", desc := "()Z" } : Jvm.MethodName) prog_20_method_34_code (3 : Nat) (Option.some Jvm.ClassFile.FieldType.boolean)) ∈ lw_all := lw_g (lw_at lw_m6 140 rfl) rfl
theorem q1450 : (Jvm.Cond.methodLink "SharedWindowModel" (219 : Nat) ({ cls := "SharedWindowModel", name := "readsFactor", desc := "()Z" } : Jvm.MethodName)) ∈ lw_all := lw_g (lw_at lw_m6 141 rfl) rfl
theorem q1451 : (Jvm.Cond.privateMethod ({ cls := "SharedWindowModel", name := "readsFactor", desc := "()Z" } : Jvm.MethodName)) ∈ lw_tbl := lw_at lw_m6 142 rfl
theorem q1452 : (Jvm.Cond.instanceMethod ({ cls := "SharedWindowModel", name := "readsFactor", desc := "()Z" } : Jvm.MethodName)) ∈ lw_all := lw_g (lw_at lw_m6 143 rfl) rfl
theorem q1453 : (Jvm.Cond.code ({ cls := "SharedWindowModel", name := "readsFactor", desc := "()Z" } : Jvm.MethodName) prog_20_method_32_code (2 : Nat) (Option.some Jvm.ClassFile.FieldType.boolean)) ∈ lw_all := lw_g (lw_at lw_m6 144 rfl) rfl
theorem q1454 : (Jvm.Cond.methodLink "SharedWindowModel" (209 : Nat) ({ cls := "SharedWindowModel", name := "opens", desc := "(I)Z" } : Jvm.MethodName)) ∈ lw_all := lw_g (lw_at lw_m6 145 rfl) rfl
theorem q1455 : (Jvm.Cond.privateMethod ({ cls := "SharedWindowModel", name := "opens", desc := "(I)Z" } : Jvm.MethodName)) ∈ lw_tbl := lw_at lw_m6 146 rfl
theorem q1456 : (Jvm.Cond.instanceMethod ({ cls := "SharedWindowModel", name := "opens", desc := "(I)Z" } : Jvm.MethodName)) ∈ lw_all := lw_g (lw_at lw_m6 147 rfl) rfl
theorem q1457 : (Jvm.Cond.code ({ cls := "SharedWindowModel", name := "opens", desc := "(I)Z" } : Jvm.MethodName) prog_20_method_27_code (2 : Nat) (Option.some Jvm.ClassFile.FieldType.boolean)) ∈ lw_all := lw_g (lw_at lw_m6 148 rfl) rfl
theorem q1458 : (Jvm.Cond.constant "SharedWindowModel" (195 : Nat) (1048576 : Int32)) ∈ lw_all := lw_g (lw_at lw_m6 149 rfl) rfl
theorem q1459 : (Jvm.Cond.methodLink "SharedWindowModel" (188 : Nat) ({ cls := "SharedWindowModel", name := "isDigit", desc := "()Z" } : Jvm.MethodName)) ∈ lw_all := lw_g (lw_at lw_m6 150 rfl) rfl
theorem q1460 : (Jvm.Cond.privateMethod ({ cls := "SharedWindowModel", name := "isDigit", desc := "()Z" } : Jvm.MethodName)) ∈ lw_tbl := lw_at lw_m6 151 rfl
theorem q1461 : (Jvm.Cond.instanceMethod ({ cls := "SharedWindowModel", name := "isDigit", desc := "()Z" } : Jvm.MethodName)) ∈ lw_all := lw_g (lw_at lw_m6 152 rfl) rfl
theorem q1462 : (Jvm.Cond.code ({ cls := "SharedWindowModel", name := "isDigit", desc := "()Z" } : Jvm.MethodName) prog_20_method_22_code (1 : Nat) (Option.some Jvm.ClassFile.FieldType.boolean)) ∈ lw_all := lw_g (lw_at lw_m6 153 rfl) rfl
theorem q1463 : (Jvm.Cond.methodLink "SharedWindowModel" (212 : Nat) ({ cls := "SharedWindowModel", name := "readsNumber", desc := "()Z" } : Jvm.MethodName)) ∈ lw_all := lw_g (lw_at lw_m6 154 rfl) rfl
theorem q1464 : (Jvm.Cond.privateMethod ({ cls := "SharedWindowModel", name := "readsNumber", desc := "()Z" } : Jvm.MethodName)) ∈ lw_tbl := lw_at lw_m6 155 rfl
theorem q1465 : (Jvm.Cond.instanceMethod ({ cls := "SharedWindowModel", name := "readsNumber", desc := "()Z" } : Jvm.MethodName)) ∈ lw_all := lw_g (lw_at lw_m6 156 rfl) rfl
theorem q1466 : (Jvm.Cond.code ({ cls := "SharedWindowModel", name := "readsNumber", desc := "()Z" } : Jvm.MethodName) prog_20_method_25_code (2 : Nat) (Option.some Jvm.ClassFile.FieldType.boolean)) ∈ lw_all := lw_g (lw_at lw_m6 157 rfl) rfl
theorem q1467 : (Jvm.Cond.methodLink "SharedWindowModel" (205 : Nat) ({ cls := "SharedWindowModel", name := "notes", desc := "(II)V" } : Jvm.MethodName)) ∈ lw_all := lw_g (lw_at lw_m6 158 rfl) rfl
theorem q1468 : (Jvm.Cond.privateMethod ({ cls := "SharedWindowModel", name := "notes", desc := "(II)V" } : Jvm.MethodName)) ∈ lw_tbl := lw_at lw_m6 159 rfl
theorem q1469 : (Jvm.Cond.instanceMethod ({ cls := "SharedWindowModel", name := "notes", desc := "(II)V" } : Jvm.MethodName)) ∈ lw_all := lw_g (lw_at lw_m6 160 rfl) rfl
theorem q1470 : (Jvm.Cond.code ({ cls := "SharedWindowModel", name := "notes", desc := "(II)V" } : Jvm.MethodName) prog_20_method_26_code (3 : Nat) (Option.none : Option Jvm.ClassFile.FieldType)) ∈ lw_all := lw_g (lw_at lw_m6 161 rfl) rfl
theorem q1471 : (Jvm.Cond.methodLink "SharedWindowModel" (215 : Nat) ({ cls := "SharedWindowModel", name := "factOf", desc := "(I)I" } : Jvm.MethodName)) ∈ lw_all := lw_g (lw_at lw_m6 162 rfl) rfl
theorem q1472 : (Jvm.Cond.static ({ cls := "SharedWindowModel", name := "factOf", desc := "(I)I" } : Jvm.MethodName)) ∈ lw_all := lw_g (lw_at lw_m6 163 rfl) rfl
theorem q1473 : (Jvm.Cond.code ({ cls := "SharedWindowModel", name := "factOf", desc := "(I)I" } : Jvm.MethodName) prog_20_method_29_code (1 : Nat) (Option.some Jvm.ClassFile.FieldType.int)) ∈ lw_all := lw_g (lw_at lw_m6 164 rfl) rfl
theorem q1474 : (Jvm.Cond.methodLink "SharedWindowModel" (222 : Nat) ({ cls := "SharedWindowModel", name := "sumSign", desc := "(I)I" } : Jvm.MethodName)) ∈ lw_all := lw_g (lw_at lw_m6 165 rfl) rfl
theorem q1475 : (Jvm.Cond.static ({ cls := "SharedWindowModel", name := "sumSign", desc := "(I)I" } : Jvm.MethodName)) ∈ lw_all := lw_g (lw_at lw_m6 166 rfl) rfl
theorem q1476 : (Jvm.Cond.code ({ cls := "SharedWindowModel", name := "sumSign", desc := "(I)I" } : Jvm.MethodName) prog_20_method_30_code (1 : Nat) (Option.some Jvm.ClassFile.FieldType.int)) ∈ lw_all := lw_g (lw_at lw_m6 167 rfl) rfl
theorem q1477 : (Jvm.Cond.methodLink "SharedWindowModel" (225 : Nat) ({ cls := "SharedWindowModel", name := "closesSums", desc := "(Z)V" } : Jvm.MethodName)) ∈ lw_all := lw_g (lw_at lw_m6 168 rfl) rfl
theorem q1478 : (Jvm.Cond.privateMethod ({ cls := "SharedWindowModel", name := "closesSums", desc := "(Z)V" } : Jvm.MethodName)) ∈ lw_tbl := lw_at lw_m6 169 rfl
theorem q1479 : (Jvm.Cond.instanceMethod ({ cls := "SharedWindowModel", name := "closesSums", desc := "(Z)V" } : Jvm.MethodName)) ∈ lw_all := lw_g (lw_at lw_m6 170 rfl) rfl
theorem q1480 : (Jvm.Cond.code ({ cls := "SharedWindowModel", name := "closesSums", desc := "(Z)V" } : Jvm.MethodName) prog_20_method_31_code (2 : Nat) (Option.none : Option Jvm.ClassFile.FieldType)) ∈ lw_all := lw_g (lw_at lw_m6 171 rfl) rfl
theorem q1481 : (Jvm.Cond.methodLink "SharedWindowModel" (202 : Nat) ({ cls := "SharedWindowModel", name := "waitTop", desc := "()I" } : Jvm.MethodName)) ∈ lw_all := lw_g (lw_at lw_m6 172 rfl) rfl
theorem q1482 : (Jvm.Cond.privateMethod ({ cls := "SharedWindowModel", name := "waitTop", desc := "()I" } : Jvm.MethodName)) ∈ lw_tbl := lw_at lw_m6 173 rfl
theorem q1483 : (Jvm.Cond.instanceMethod ({ cls := "SharedWindowModel", name := "waitTop", desc := "()I" } : Jvm.MethodName)) ∈ lw_all := lw_g (lw_at lw_m6 174 rfl) rfl
theorem q1484 : (Jvm.Cond.code ({ cls := "SharedWindowModel", name := "waitTop", desc := "()I" } : Jvm.MethodName) prog_20_method_28_code (1 : Nat) (Option.some Jvm.ClassFile.FieldType.int)) ∈ lw_all := lw_g (lw_at lw_m6 175 rfl) rfl
theorem q1485 : (Jvm.Cond.methodLink "SharedWindowModel" (229 : Nat) ({ cls := "SharedWindowModel", name := "hasOpenSum", desc := "(I)Z" } : Jvm.MethodName)) ∈ lw_all := lw_g (lw_at lw_m6 176 rfl) rfl
theorem q1486 : (Jvm.Cond.privateMethod ({ cls := "SharedWindowModel", name := "hasOpenSum", desc := "(I)Z" } : Jvm.MethodName)) ∈ lw_tbl := lw_at lw_m6 177 rfl
theorem q1487 : (Jvm.Cond.instanceMethod ({ cls := "SharedWindowModel", name := "hasOpenSum", desc := "(I)Z" } : Jvm.MethodName)) ∈ lw_all := lw_g (lw_at lw_m6 178 rfl) rfl
theorem q1488 : (Jvm.Cond.code ({ cls := "SharedWindowModel", name := "hasOpenSum", desc := "(I)Z" } : Jvm.MethodName) prog_20_method_33_code (3 : Nat) (Option.some Jvm.ClassFile.FieldType.boolean)) ∈ lw_all := lw_g (lw_at lw_m6 179 rfl) rfl
theorem q1489 : (Jvm.Cond.methodLink "SharedWindowModel" (250 : Nat) ({ cls := "SharedWindowModel", name := "readsCondition", desc := "()Z" } : Jvm.MethodName)) ∈ lw_all := lw_g (lw_at lw_m6 180 rfl) rfl
theorem q1490 : (Jvm.Cond.privateMethod ({ cls := "SharedWindowModel", name := "readsCondition", desc := "()Z" } : Jvm.MethodName)) ∈ lw_tbl := lw_at lw_m6 181 rfl
theorem q1491 : (Jvm.Cond.instanceMethod ({ cls := "SharedWindowModel", name := "readsCondition", desc := "()Z" } : Jvm.MethodName)) ∈ lw_all := lw_g (lw_at lw_m6 182 rfl) rfl
theorem q1492 : (Jvm.Cond.code ({ cls := "SharedWindowModel", name := "readsCondition", desc := "()Z" } : Jvm.MethodName) prog_20_method_39_code (1 : Nat) (Option.some Jvm.ClassFile.FieldType.boolean)) ∈ lw_all := lw_g (lw_at lw_m6 183 rfl) rfl
theorem q1493 : (Jvm.Cond.methodLink "SharedWindowModel" (238 : Nat) ({ cls := "SharedWindowModel", name := "readsCompared", desc := "()Z" } : Jvm.MethodName)) ∈ lw_all := lw_g (lw_at lw_m6 184 rfl) rfl
theorem q1494 : (Jvm.Cond.privateMethod ({ cls := "SharedWindowModel", name := "readsCompared", desc := "()Z" } : Jvm.MethodName)) ∈ lw_tbl := lw_at lw_m6 185 rfl
theorem q1495 : (Jvm.Cond.instanceMethod ({ cls := "SharedWindowModel", name := "readsCompared", desc := "()Z" } : Jvm.MethodName)) ∈ lw_all := lw_g (lw_at lw_m6 186 rfl) rfl
theorem q1496 : (Jvm.Cond.code ({ cls := "SharedWindowModel", name := "readsCompared", desc := "()Z" } : Jvm.MethodName) prog_20_method_38_code (2 : Nat) (Option.some Jvm.ClassFile.FieldType.boolean)) ∈ lw_all := lw_g (lw_at lw_m6 187 rfl) rfl
theorem q1497 : (Jvm.Cond.methodLink "SharedWindowModel" (235 : Nat) ({ cls := "SharedWindowModel", name := "endsPiece", desc := "()V" } : Jvm.MethodName)) ∈ lw_all := lw_g (lw_at lw_m6 188 rfl) rfl
theorem q1498 : (Jvm.Cond.privateMethod ({ cls := "SharedWindowModel", name := "endsPiece", desc := "()V" } : Jvm.MethodName)) ∈ lw_tbl := lw_at lw_m6 189 rfl
theorem q1499 : (Jvm.Cond.instanceMethod ({ cls := "SharedWindowModel", name := "endsPiece", desc := "()V" } : Jvm.MethodName)) ∈ lw_all := lw_g (lw_at lw_m6 190 rfl) rfl
theorem q1500 : (Jvm.Cond.code ({ cls := "SharedWindowModel", name := "endsPiece", desc := "()V" } : Jvm.MethodName) prog_20_method_35_code (1 : Nat) (Option.none : Option Jvm.ClassFile.FieldType)) ∈ lw_all := lw_g (lw_at lw_m6 191 rfl) rfl
theorem q1501 : (Jvm.Cond.methodLink "SharedWindowModel" (241 : Nat) ({ cls := "SharedWindowModel", name := "lands", desc := "(Z)V" } : Jvm.MethodName)) ∈ lw_all := lw_g (lw_at lw_m6 192 rfl) rfl
theorem q1502 : (Jvm.Cond.privateMethod ({ cls := "SharedWindowModel", name := "lands", desc := "(Z)V" } : Jvm.MethodName)) ∈ lw_tbl := lw_at lw_m6 193 rfl
theorem q1503 : (Jvm.Cond.instanceMethod ({ cls := "SharedWindowModel", name := "lands", desc := "(Z)V" } : Jvm.MethodName)) ∈ lw_all := lw_g (lw_at lw_m6 194 rfl) rfl
theorem q1504 : (Jvm.Cond.code ({ cls := "SharedWindowModel", name := "lands", desc := "(Z)V" } : Jvm.MethodName) prog_20_method_36_code (3 : Nat) (Option.none : Option Jvm.ClassFile.FieldType)) ∈ lw_all := lw_g (lw_at lw_m6 195 rfl) rfl
theorem q1505 : (Jvm.Cond.methodLink "SharedWindowModel" (244 : Nat) ({ cls := "SharedWindowModel", name := "jumps", desc := "(I)V" } : Jvm.MethodName)) ∈ lw_all := lw_g (lw_at lw_m6 196 rfl) rfl
theorem q1506 : (Jvm.Cond.privateMethod ({ cls := "SharedWindowModel", name := "jumps", desc := "(I)V" } : Jvm.MethodName)) ∈ lw_tbl := lw_at lw_m6 197 rfl
theorem q1507 : (Jvm.Cond.instanceMethod ({ cls := "SharedWindowModel", name := "jumps", desc := "(I)V" } : Jvm.MethodName)) ∈ lw_all := lw_g (lw_at lw_m6 198 rfl) rfl
theorem q1508 : (Jvm.Cond.code ({ cls := "SharedWindowModel", name := "jumps", desc := "(I)V" } : Jvm.MethodName) prog_20_method_37_code (2 : Nat) (Option.none : Option Jvm.ClassFile.FieldType)) ∈ lw_all := lw_g (lw_at lw_m6 199 rfl) rfl
theorem q1509 : (Jvm.Cond.methodLink "SharedWindowModel" (259 : Nat) ({ cls := "SharedWindowModel", name := "takes", desc := "(I)Z" } : Jvm.MethodName)) ∈ lw_all := lw_g (lw_at lw_m6 200 rfl) rfl
theorem q1510 : (Jvm.Cond.privateMethod ({ cls := "SharedWindowModel", name := "takes", desc := "(I)Z" } : Jvm.MethodName)) ∈ lw_tbl := lw_at lw_m6 201 rfl
theorem q1511 : (Jvm.Cond.instanceMethod ({ cls := "SharedWindowModel", name := "takes", desc := "(I)Z" } : Jvm.MethodName)) ∈ lw_all := lw_g (lw_at lw_m6 202 rfl) rfl
theorem q1512 : (Jvm.Cond.code ({ cls := "SharedWindowModel", name := "takes", desc := "(I)Z" } : Jvm.MethodName) prog_20_method_24_code (2 : Nat) (Option.some Jvm.ClassFile.FieldType.boolean)) ∈ lw_all := lw_g (lw_at lw_m6 203 rfl) rfl
theorem q1514 : (Jvm.Cond.instanceMethod ({ cls := "SharedWindowModel", name := "terrace", desc := "(I)I" } : Jvm.MethodName)) ∈ lw_all := lw_g (lw_at lw_m6 205 rfl) rfl
theorem q1515 : (Jvm.Cond.selects "SharedWindowModel" ({ cls := "SharedWindowModel", name := "terrace", desc := "(I)I" } : Jvm.MethodName) ({ cls := "SharedWindowModel", name := "terrace", desc := "(I)I" } : Jvm.MethodName)) ∈ lw_all := lw_g (lw_at lw_m6 206 rfl) rfl
theorem q1516 : (Jvm.Cond.code ({ cls := "SharedWindowModel", name := "terrace", desc := "(I)I" } : Jvm.MethodName) prog_20_method_51_code (4 : Nat) (Option.some Jvm.ClassFile.FieldType.int)) ∈ lw_all := lw_g (lw_at lw_m6 207 rfl) rfl
theorem q1517 : (Jvm.Cond.methodLink "SharedWindowModel" (290 : Nat) ({ cls := "SharedWindowModel", name := "readsLine", desc := "()Z" } : Jvm.MethodName)) ∈ lw_all := lw_g (lw_at lw_m6 208 rfl) rfl
theorem q1518 : (Jvm.Cond.privateMethod ({ cls := "SharedWindowModel", name := "readsLine", desc := "()Z" } : Jvm.MethodName)) ∈ lw_tbl := lw_at lw_m6 209 rfl
theorem q1519 : (Jvm.Cond.instanceMethod ({ cls := "SharedWindowModel", name := "readsLine", desc := "()Z" } : Jvm.MethodName)) ∈ lw_all := lw_g (lw_at lw_m6 210 rfl) rfl
theorem q1520 : (Jvm.Cond.code ({ cls := "SharedWindowModel", name := "readsLine", desc := "()Z" } : Jvm.MethodName) prog_20_method_50_code (4 : Nat) (Option.some Jvm.ClassFile.FieldType.boolean)) ∈ lw_all := lw_g (lw_at lw_m6 211 rfl) rfl
theorem q1521 : (Jvm.Cond.methodLink "SharedWindowModel" (284 : Nat) ({ cls := "SharedWindowModel", name := "readsHouse", desc := "(I)Z" } : Jvm.MethodName)) ∈ lw_all := lw_g (lw_at lw_m6 212 rfl) rfl
theorem q1522 : (Jvm.Cond.privateMethod ({ cls := "SharedWindowModel", name := "readsHouse", desc := "(I)Z" } : Jvm.MethodName)) ∈ lw_tbl := lw_at lw_m6 213 rfl
theorem q1523 : (Jvm.Cond.instanceMethod ({ cls := "SharedWindowModel", name := "readsHouse", desc := "(I)Z" } : Jvm.MethodName)) ∈ lw_all := lw_g (lw_at lw_m6 214 rfl) rfl
theorem q1524 : (Jvm.Cond.code ({ cls := "SharedWindowModel", name := "readsHouse", desc := "(I)Z" } : Jvm.MethodName) prog_20_method_48_code (2 : Nat) (Option.some Jvm.ClassFile.FieldType.boolean)) ∈ lw_all := lw_g (lw_at lw_m6 215 rfl) rfl
theorem q1525 : (Jvm.Cond.methodLink "SharedWindowModel" (275 : Nat) ({ cls := "SharedWindowModel", name := "readsWithin", desc := "()Z" } : Jvm.MethodName)) ∈ lw_all := lw_g (lw_at lw_m6 216 rfl) rfl
theorem q1526 : (Jvm.Cond.privateMethod ({ cls := "SharedWindowModel", name := "readsWithin", desc := "()Z" } : Jvm.MethodName)) ∈ lw_tbl := lw_at lw_m6 217 rfl
theorem q1527 : (Jvm.Cond.instanceMethod ({ cls := "SharedWindowModel", name := "readsWithin", desc := "()Z" } : Jvm.MethodName)) ∈ lw_all := lw_g (lw_at lw_m6 218 rfl) rfl
theorem q1528 : (Jvm.Cond.code ({ cls := "SharedWindowModel", name := "readsWithin", desc := "()Z" } : Jvm.MethodName) prog_20_method_47_code (2 : Nat) (Option.some Jvm.ClassFile.FieldType.boolean)) ∈ lw_all := lw_g (lw_at lw_m6 219 rfl) rfl
theorem q1529 : (Jvm.Cond.methodLink "SharedWindowModel" (287 : Nat) ({ cls := "SharedWindowModel", name := "readsThing", desc := "(I)Z" } : Jvm.MethodName)) ∈ lw_all := lw_g (lw_at lw_m6 220 rfl) rfl
theorem q1530 : (Jvm.Cond.privateMethod ({ cls := "SharedWindowModel", name := "readsThing", desc := "(I)Z" } : Jvm.MethodName)) ∈ lw_tbl := lw_at lw_m6 221 rfl
theorem q1531 : (Jvm.Cond.instanceMethod ({ cls := "SharedWindowModel", name := "readsThing", desc := "(I)Z" } : Jvm.MethodName)) ∈ lw_all := lw_g (lw_at lw_m6 222 rfl) rfl
theorem q1532 : (Jvm.Cond.code ({ cls := "SharedWindowModel", name := "readsThing", desc := "(I)Z" } : Jvm.MethodName) prog_20_method_49_code (2 : Nat) (Option.some Jvm.ClassFile.FieldType.boolean)) ∈ lw_all := lw_g (lw_at lw_m6 223 rfl) rfl
theorem q1534 : (Jvm.Cond.instanceMethod ({ cls := "SharedWindowModel", name := "rota", desc := "(I)I" } : Jvm.MethodName)) ∈ lw_all := lw_g (lw_at lw_m6 225 rfl) rfl
theorem q1535 : (Jvm.Cond.selects "SharedWindowModel" ({ cls := "SharedWindowModel", name := "rota", desc := "(I)I" } : Jvm.MethodName) ({ cls := "SharedWindowModel", name := "rota", desc := "(I)I" } : Jvm.MethodName)) ∈ lw_all := lw_g (lw_at lw_m6 226 rfl) rfl
theorem q1536 : (Jvm.Cond.code ({ cls := "SharedWindowModel", name := "rota", desc := "(I)I" } : Jvm.MethodName) prog_20_method_56_code (4 : Nat) (Option.some Jvm.ClassFile.FieldType.int)) ∈ lw_all := lw_g (lw_at lw_m6 227 rfl) rfl
theorem q1537 : (Jvm.Cond.methodLink "SharedWindowModel" (311 : Nat) ({ cls := "SharedWindowModel", name := "readsTurn", desc := "()Z" } : Jvm.MethodName)) ∈ lw_all := lw_g (lw_at lw_m6 228 rfl) rfl
theorem q1538 : (Jvm.Cond.privateMethod ({ cls := "SharedWindowModel", name := "readsTurn", desc := "()Z" } : Jvm.MethodName)) ∈ lw_tbl := lw_at lw_m6 229 rfl
theorem q1539 : (Jvm.Cond.instanceMethod ({ cls := "SharedWindowModel", name := "readsTurn", desc := "()Z" } : Jvm.MethodName)) ∈ lw_all := lw_g (lw_at lw_m6 230 rfl) rfl
theorem q1540 : (Jvm.Cond.code ({ cls := "SharedWindowModel", name := "readsTurn", desc := "()Z" } : Jvm.MethodName) prog_20_method_54_code (4 : Nat) (Option.some Jvm.ClassFile.FieldType.boolean)) ∈ lw_all := lw_g (lw_at lw_m6 231 rfl) rfl
theorem q1541 : (Jvm.Cond.methodLink "SharedWindowModel" (302 : Nat) ({ cls := "SharedWindowModel", name := "readsTimes", desc := "()V" } : Jvm.MethodName)) ∈ lw_all := lw_g (lw_at lw_m6 232 rfl) rfl
theorem q1542 : (Jvm.Cond.privateMethod ({ cls := "SharedWindowModel", name := "readsTimes", desc := "()V" } : Jvm.MethodName)) ∈ lw_tbl := lw_at lw_m6 233 rfl
theorem q1543 : (Jvm.Cond.instanceMethod ({ cls := "SharedWindowModel", name := "readsTimes", desc := "()V" } : Jvm.MethodName)) ∈ lw_all := lw_g (lw_at lw_m6 234 rfl) rfl
theorem q1544 : (Jvm.Cond.code ({ cls := "SharedWindowModel", name := "readsTimes", desc := "()V" } : Jvm.MethodName) prog_20_method_52_code (1 : Nat) (Option.none : Option Jvm.ClassFile.FieldType)) ∈ lw_all := lw_g (lw_at lw_m6 235 rfl) rfl
theorem q1545 : (Jvm.Cond.methodLink "SharedWindowModel" (308 : Nat) ({ cls := "SharedWindowModel", name := "repeats", desc := "(III)Z" } : Jvm.MethodName)) ∈ lw_all := lw_g (lw_at lw_m6 236 rfl) rfl
theorem q1546 : (Jvm.Cond.privateMethod ({ cls := "SharedWindowModel", name := "repeats", desc := "(III)Z" } : Jvm.MethodName)) ∈ lw_tbl := lw_at lw_m6 237 rfl
theorem q1547 : (Jvm.Cond.instanceMethod ({ cls := "SharedWindowModel", name := "repeats", desc := "(III)Z" } : Jvm.MethodName)) ∈ lw_all := lw_g (lw_at lw_m6 238 rfl) rfl
theorem q1548 : (Jvm.Cond.code ({ cls := "SharedWindowModel", name := "repeats", desc := "(III)Z" } : Jvm.MethodName) prog_20_method_53_code (6 : Nat) (Option.some Jvm.ClassFile.FieldType.boolean)) ∈ lw_all := lw_g (lw_at lw_m6 239 rfl) rfl
theorem q1549 : (Jvm.Cond.methodLink "SharedWindowModel" (314 : Nat) ({ cls := "SharedWindowModel", name := "areTold", desc := "()Z" } : Jvm.MethodName)) ∈ lw_all := lw_g (lw_at lw_m7 0 rfl) rfl
theorem q1550 : (Jvm.Cond.privateMethod ({ cls := "SharedWindowModel", name := "areTold", desc := "()Z" } : Jvm.MethodName)) ∈ lw_tbl := lw_at lw_m7 1 rfl
theorem q1551 : (Jvm.Cond.instanceMethod ({ cls := "SharedWindowModel", name := "areTold", desc := "()Z" } : Jvm.MethodName)) ∈ lw_all := lw_g (lw_at lw_m7 2 rfl) rfl
theorem q1552 : (Jvm.Cond.code ({ cls := "SharedWindowModel", name := "areTold", desc := "()Z" } : Jvm.MethodName) prog_20_method_55_code (2 : Nat) (Option.some Jvm.ClassFile.FieldType.boolean)) ∈ lw_all := lw_g (lw_at lw_m7 3 rfl) rfl
theorem q1554 : (Jvm.Cond.instanceMethod ({ cls := "SharedWindowModel", name := "days", desc := "(I)I" } : Jvm.MethodName)) ∈ lw_all := lw_g (lw_at lw_m7 5 rfl) rfl
theorem q1555 : (Jvm.Cond.selects "SharedWindowModel" ({ cls := "SharedWindowModel", name := "days", desc := "(I)I" } : Jvm.MethodName) ({ cls := "SharedWindowModel", name := "days", desc := "(I)I" } : Jvm.MethodName)) ∈ lw_all := lw_g (lw_at lw_m7 6 rfl) rfl
theorem q1556 : (Jvm.Cond.code ({ cls := "SharedWindowModel", name := "days", desc := "(I)I" } : Jvm.MethodName) prog_20_method_62_code (2 : Nat) (Option.some Jvm.ClassFile.FieldType.int)) ∈ lw_all := lw_g (lw_at lw_m7 7 rfl) rfl
theorem q1557 : (Jvm.Cond.methodLink "SharedWindowModel" (349 : Nat) ({ cls := "SharedWindowModel", name := "daysGo", desc := "(I)V" } : Jvm.MethodName)) ∈ lw_all := lw_g (lw_at lw_m7 8 rfl) rfl
theorem q1558 : (Jvm.Cond.privateMethod ({ cls := "SharedWindowModel", name := "daysGo", desc := "(I)V" } : Jvm.MethodName)) ∈ lw_tbl := lw_at lw_m7 9 rfl
theorem q1559 : (Jvm.Cond.instanceMethod ({ cls := "SharedWindowModel", name := "daysGo", desc := "(I)V" } : Jvm.MethodName)) ∈ lw_all := lw_g (lw_at lw_m7 10 rfl) rfl
theorem q1560 : (Jvm.Cond.code ({ cls := "SharedWindowModel", name := "daysGo", desc := "(I)V" } : Jvm.MethodName) prog_20_method_61_code (3 : Nat) (Option.none : Option Jvm.ClassFile.FieldType)) ∈ lw_all := lw_g (lw_at lw_m7 11 rfl) rfl
theorem q1561 : (Jvm.Cond.methodLink "SharedWindowModel" (346 : Nat) ({ cls := "SharedWindowModel", name := "dayGoes", desc := "()V" } : Jvm.MethodName)) ∈ lw_all := lw_g (lw_at lw_m7 12 rfl) rfl
theorem q1562 : (Jvm.Cond.privateMethod ({ cls := "SharedWindowModel", name := "dayGoes", desc := "()V" } : Jvm.MethodName)) ∈ lw_tbl := lw_at lw_m7 13 rfl
theorem q1563 : (Jvm.Cond.instanceMethod ({ cls := "SharedWindowModel", name := "dayGoes", desc := "()V" } : Jvm.MethodName)) ∈ lw_all := lw_g (lw_at lw_m7 14 rfl) rfl
theorem q1564 : (Jvm.Cond.code ({ cls := "SharedWindowModel", name := "dayGoes", desc := "()V" } : Jvm.MethodName) prog_20_method_60_code (2 : Nat) (Option.none : Option Jvm.ClassFile.FieldType)) ∈ lw_all := lw_g (lw_at lw_m7 15 rfl) rfl
theorem q1565 : (Jvm.Cond.methodLink "SharedWindowModel" (343 : Nat) ({ cls := "SharedWindowModel", name := "turnGoes", desc := "(I)V" } : Jvm.MethodName)) ∈ lw_all := lw_g (lw_at lw_m7 16 rfl) rfl
theorem q1566 : (Jvm.Cond.privateMethod ({ cls := "SharedWindowModel", name := "turnGoes", desc := "(I)V" } : Jvm.MethodName)) ∈ lw_tbl := lw_at lw_m7 17 rfl
theorem q1567 : (Jvm.Cond.instanceMethod ({ cls := "SharedWindowModel", name := "turnGoes", desc := "(I)V" } : Jvm.MethodName)) ∈ lw_all := lw_g (lw_at lw_m7 18 rfl) rfl
theorem q1568 : (Jvm.Cond.code ({ cls := "SharedWindowModel", name := "turnGoes", desc := "(I)V" } : Jvm.MethodName) prog_20_method_59_code (5 : Nat) (Option.none : Option Jvm.ClassFile.FieldType)) ∈ lw_all := lw_g (lw_at lw_m7 19 rfl) rfl
theorem q1569 : (Jvm.Cond.methodLink "SharedWindowModel" (339 : Nat) ({ cls := "SharedWindowModel", name := "isCarried", desc := "(III)V" } : Jvm.MethodName)) ∈ lw_all := lw_g (lw_at lw_m7 20 rfl) rfl
theorem q1570 : (Jvm.Cond.privateMethod ({ cls := "SharedWindowModel", name := "isCarried", desc := "(III)V" } : Jvm.MethodName)) ∈ lw_tbl := lw_at lw_m7 21 rfl
theorem q1571 : (Jvm.Cond.instanceMethod ({ cls := "SharedWindowModel", name := "isCarried", desc := "(III)V" } : Jvm.MethodName)) ∈ lw_all := lw_g (lw_at lw_m7 22 rfl) rfl
theorem q1572 : (Jvm.Cond.code ({ cls := "SharedWindowModel", name := "isCarried", desc := "(III)V" } : Jvm.MethodName) prog_20_method_58_code (5 : Nat) (Option.none : Option Jvm.ClassFile.FieldType)) ∈ lw_all := lw_g (lw_at lw_m7 23 rfl) rfl
theorem q1573 : (Jvm.Cond.methodLink "SharedWindowModel" (323 : Nat) ({ cls := "SharedWindowModel", name := "feels", desc := "(III)V" } : Jvm.MethodName)) ∈ lw_all := lw_g (lw_at lw_m7 24 rfl) rfl
theorem q1574 : (Jvm.Cond.privateMethod ({ cls := "SharedWindowModel", name := "feels", desc := "(III)V" } : Jvm.MethodName)) ∈ lw_tbl := lw_at lw_m7 25 rfl
theorem q1575 : (Jvm.Cond.instanceMethod ({ cls := "SharedWindowModel", name := "feels", desc := "(III)V" } : Jvm.MethodName)) ∈ lw_all := lw_g (lw_at lw_m7 26 rfl) rfl
theorem q1576 : (Jvm.Cond.code ({ cls := "SharedWindowModel", name := "feels", desc := "(III)V" } : Jvm.MethodName) prog_20_method_57_code (4 : Nat) (Option.none : Option Jvm.ClassFile.FieldType)) ∈ lw_all := lw_g (lw_at lw_m7 27 rfl) rfl
theorem q1577 : (Jvm.Cond.methodLink "SharedWindowModel" (317 : Nat) ({ cls := "SharedWindowModel", name := "size", desc := "(I)I" } : Jvm.MethodName)) ∈ lw_all := lw_g (lw_at lw_m7 28 rfl) rfl
theorem q1578 : (Jvm.Cond.static ({ cls := "SharedWindowModel", name := "size", desc := "(I)I" } : Jvm.MethodName)) ∈ lw_all := lw_g (lw_at lw_m7 29 rfl) rfl
theorem q1579 : (Jvm.Cond.code ({ cls := "SharedWindowModel", name := "size", desc := "(I)I" } : Jvm.MethodName) prog_20_method_5_code (1 : Nat) (Option.some Jvm.ClassFile.FieldType.int)) ∈ lw_all := lw_g (lw_at lw_m7 30 rfl) rfl
theorem q1580 : (Jvm.Cond.methodLink "SharedWindowModel" (320 : Nat) ({ cls := "SharedWindowModel", name := "bits", desc := "(I)I" } : Jvm.MethodName)) ∈ lw_all := lw_g (lw_at lw_m7 31 rfl) rfl
theorem q1581 : (Jvm.Cond.static ({ cls := "SharedWindowModel", name := "bits", desc := "(I)I" } : Jvm.MethodName)) ∈ lw_all := lw_g (lw_at lw_m7 32 rfl) rfl
theorem q1582 : (Jvm.Cond.code ({ cls := "SharedWindowModel", name := "bits", desc := "(I)I" } : Jvm.MethodName) prog_20_method_7_code (3 : Nat) (Option.some Jvm.ClassFile.FieldType.int)) ∈ lw_all := lw_g (lw_at lw_m7 33 rfl) rfl
theorem q1583 : (Jvm.Cond.methodLink "SharedWindowModel" (327 : Nat) ({ cls := "SharedWindowModel", name := "holdsAny", desc := "(I)Z" } : Jvm.MethodName)) ∈ lw_all := lw_g (lw_at lw_m7 34 rfl) rfl
theorem q1584 : (Jvm.Cond.privateMethod ({ cls := "SharedWindowModel", name := "holdsAny", desc := "(I)Z" } : Jvm.MethodName)) ∈ lw_tbl := lw_at lw_m7 35 rfl
theorem q1585 : (Jvm.Cond.instanceMethod ({ cls := "SharedWindowModel", name := "holdsAny", desc := "(I)Z" } : Jvm.MethodName)) ∈ lw_all := lw_g (lw_at lw_m7 36 rfl) rfl
theorem q1586 : (Jvm.Cond.code ({ cls := "SharedWindowModel", name := "holdsAny", desc := "(I)Z" } : Jvm.MethodName) prog_20_method_46_code (3 : Nat) (Option.some Jvm.ClassFile.FieldType.boolean)) ∈ lw_all := lw_g (lw_at lw_m7 37 rfl) rfl
theorem q1587 : (Jvm.Cond.methodLink "SharedWindowModel" (269 : Nat) ({ cls := "SharedWindowModel", name := "reckonsTo", desc := "(II)I" } : Jvm.MethodName)) ∈ lw_all := lw_g (lw_at lw_m7 38 rfl) rfl
theorem q1588 : (Jvm.Cond.privateMethod ({ cls := "SharedWindowModel", name := "reckonsTo", desc := "(II)I" } : Jvm.MethodName)) ∈ lw_tbl := lw_at lw_m7 39 rfl
theorem q1589 : (Jvm.Cond.instanceMethod ({ cls := "SharedWindowModel", name := "reckonsTo", desc := "(II)I" } : Jvm.MethodName)) ∈ lw_all := lw_g (lw_at lw_m7 40 rfl) rfl
theorem q1590 : (Jvm.Cond.code ({ cls := "SharedWindowModel", name := "reckonsTo", desc := "(II)I" } : Jvm.MethodName) prog_20_method_44_code (8 : Nat) (Option.some Jvm.ClassFile.FieldType.int)) ∈ lw_all := lw_g (lw_at lw_m7 41 rfl) rfl
theorem q1591 : (Jvm.Cond.methodLink "SharedWindowModel" (265 : Nat) ({ cls := "SharedWindowModel", name := "reckon", desc := "(III)I" } : Jvm.MethodName)) ∈ lw_all := lw_g (lw_at lw_m7 42 rfl) rfl
theorem q1592 : (Jvm.Cond.static ({ cls := "SharedWindowModel", name := "reckon", desc := "(III)I" } : Jvm.MethodName)) ∈ lw_all := lw_g (lw_at lw_m7 43 rfl) rfl
theorem q1593 : (Jvm.Cond.code ({ cls := "SharedWindowModel", name := "reckon", desc := "(III)I" } : Jvm.MethodName) prog_20_method_43_code (3 : Nat) (Option.some Jvm.ClassFile.FieldType.int)) ∈ lw_all := lw_g (lw_at lw_m7 44 rfl) rfl
theorem q1594 : (Jvm.Cond.methodLink "SharedWindowModel" (330 : Nat) ({ cls := "SharedWindowModel", name := "byLaw", desc := "(III)I" } : Jvm.MethodName)) ∈ lw_all := lw_g (lw_at lw_m7 45 rfl) rfl
theorem q1595 : (Jvm.Cond.privateMethod ({ cls := "SharedWindowModel", name := "byLaw", desc := "(III)I" } : Jvm.MethodName)) ∈ lw_tbl := lw_at lw_m7 46 rfl
theorem q1596 : (Jvm.Cond.instanceMethod ({ cls := "SharedWindowModel", name := "byLaw", desc := "(III)I" } : Jvm.MethodName)) ∈ lw_all := lw_g (lw_at lw_m7 47 rfl) rfl
theorem q1597 : (Jvm.Cond.code ({ cls := "SharedWindowModel", name := "byLaw", desc := "(III)I" } : Jvm.MethodName) prog_20_method_45_code (6 : Nat) (Option.some Jvm.ClassFile.FieldType.int)) ∈ lw_all := lw_g (lw_at lw_m7 48 rfl) rfl
theorem q1598 : (Jvm.Cond.methodLink "SharedWindowModel" (333 : Nat) ({ cls := "SharedWindowModel", name := "min", desc := "(II)I" } : Jvm.MethodName)) ∈ lw_all := lw_g (lw_at lw_m7 49 rfl) rfl
theorem q1599 : (Jvm.Cond.static ({ cls := "SharedWindowModel", name := "min", desc := "(II)I" } : Jvm.MethodName)) ∈ lw_all := lw_g (lw_at lw_m7 50 rfl) rfl
theorem q1600 : (Jvm.Cond.code ({ cls := "SharedWindowModel", name := "min", desc := "(II)I" } : Jvm.MethodName) prog_20_method_3_code (2 : Nat) (Option.some Jvm.ClassFile.FieldType.int)) ∈ lw_all := lw_g (lw_at lw_m7 51 rfl) rfl
theorem q1601 : (Jvm.Cond.constant "SharedWindowModel" (342 : Nat) (99999 : Int32)) ∈ lw_all := lw_g (lw_at lw_m7 52 rfl) rfl
theorem q1603 : (Jvm.Cond.instanceMethod ({ cls := "SharedWindowModel", name := "tried", desc := "(II)I" } : Jvm.MethodName)) ∈ lw_all := lw_g (lw_at lw_m7 54 rfl) rfl
theorem q1604 : (Jvm.Cond.selects "SharedWindowModel" ({ cls := "SharedWindowModel", name := "tried", desc := "(II)I" } : Jvm.MethodName) ({ cls := "SharedWindowModel", name := "tried", desc := "(II)I" } : Jvm.MethodName)) ∈ lw_all := lw_g (lw_at lw_m7 55 rfl) rfl
theorem q1605 : (Jvm.Cond.code ({ cls := "SharedWindowModel", name := "tried", desc := "(II)I" } : Jvm.MethodName) prog_20_method_65_code (4 : Nat) (Option.some Jvm.ClassFile.FieldType.int)) ∈ lw_all := lw_g (lw_at lw_m7 56 rfl) rfl
theorem q1606 : (Jvm.Cond.methodLink "SharedWindowModel" (352 : Nat) ({ cls := "SharedWindowModel", name := "copies", desc := "([I[I)V" } : Jvm.MethodName)) ∈ lw_all := lw_g (lw_at lw_m7 57 rfl) rfl
theorem q1607 : (Jvm.Cond.static ({ cls := "SharedWindowModel", name := "copies", desc := "([I[I)V" } : Jvm.MethodName)) ∈ lw_all := lw_g (lw_at lw_m7 58 rfl) rfl
theorem q1608 : (Jvm.Cond.code ({ cls := "SharedWindowModel", name := "copies", desc := "([I[I)V" } : Jvm.MethodName) prog_20_method_9_code (3 : Nat) (Option.none : Option Jvm.ClassFile.FieldType)) ∈ lw_all := lw_g (lw_at lw_m7 59 rfl) rfl
theorem q1609 : (Jvm.Cond.methodLink "SharedWindowModel" (356 : Nat) ({ cls := "SharedWindowModel", name := "orNone", desc := "(I)I" } : Jvm.MethodName)) ∈ lw_all := lw_g (lw_at lw_m7 60 rfl) rfl
theorem q1610 : (Jvm.Cond.static ({ cls := "SharedWindowModel", name := "orNone", desc := "(I)I" } : Jvm.MethodName)) ∈ lw_all := lw_g (lw_at lw_m7 61 rfl) rfl
theorem q1611 : (Jvm.Cond.code ({ cls := "SharedWindowModel", name := "orNone", desc := "(I)I" } : Jvm.MethodName) prog_20_method_64_code (1 : Nat) (Option.some Jvm.ClassFile.FieldType.int)) ∈ lw_all := lw_g (lw_at lw_m7 62 rfl) rfl
theorem q1612 : (Jvm.Cond.methodLink "SharedWindowModel" (359 : Nat) ({ cls := "SharedWindowModel", name := "joyOfAll", desc := "()I" } : Jvm.MethodName)) ∈ lw_all := lw_g (lw_at lw_m7 63 rfl) rfl
theorem q1613 : (Jvm.Cond.privateMethod ({ cls := "SharedWindowModel", name := "joyOfAll", desc := "()I" } : Jvm.MethodName)) ∈ lw_tbl := lw_at lw_m7 64 rfl
theorem q1614 : (Jvm.Cond.instanceMethod ({ cls := "SharedWindowModel", name := "joyOfAll", desc := "()I" } : Jvm.MethodName)) ∈ lw_all := lw_g (lw_at lw_m7 65 rfl) rfl
theorem q1615 : (Jvm.Cond.code ({ cls := "SharedWindowModel", name := "joyOfAll", desc := "()I" } : Jvm.MethodName) prog_20_method_63_code (3 : Nat) (Option.some Jvm.ClassFile.FieldType.int)) ∈ lw_all := lw_g (lw_at lw_m7 66 rfl) rfl
theorem q1617 : (Jvm.Cond.instanceMethod ({ cls := "SharedWindowModel", name := "houseIs", desc := "(II)I" } : Jvm.MethodName)) ∈ lw_all := lw_g (lw_at lw_m7 68 rfl) rfl
theorem q1618 : (Jvm.Cond.selects "SharedWindowModel" ({ cls := "SharedWindowModel", name := "houseIs", desc := "(II)I" } : Jvm.MethodName) ({ cls := "SharedWindowModel", name := "houseIs", desc := "(II)I" } : Jvm.MethodName)) ∈ lw_all := lw_g (lw_at lw_m7 69 rfl) rfl
theorem q1619 : (Jvm.Cond.code ({ cls := "SharedWindowModel", name := "houseIs", desc := "(II)I" } : Jvm.MethodName) prog_20_method_71_code (3 : Nat) (Option.some Jvm.ClassFile.FieldType.int)) ∈ lw_all := lw_g (lw_at lw_m7 70 rfl) rfl
theorem q1620 : (Jvm.Cond.methodLink "SharedWindowModel" (368 : Nat) ({ cls := "SharedWindowModel", name := "turnsOf", desc := "(I)I" } : Jvm.MethodName)) ∈ lw_all := lw_g (lw_at lw_m7 71 rfl) rfl
theorem q1621 : (Jvm.Cond.privateMethod ({ cls := "SharedWindowModel", name := "turnsOf", desc := "(I)I" } : Jvm.MethodName)) ∈ lw_tbl := lw_at lw_m7 72 rfl
theorem q1622 : (Jvm.Cond.instanceMethod ({ cls := "SharedWindowModel", name := "turnsOf", desc := "(I)I" } : Jvm.MethodName)) ∈ lw_all := lw_g (lw_at lw_m7 73 rfl) rfl
theorem q1623 : (Jvm.Cond.code ({ cls := "SharedWindowModel", name := "turnsOf", desc := "(I)I" } : Jvm.MethodName) prog_20_method_67_code (4 : Nat) (Option.some Jvm.ClassFile.FieldType.int)) ∈ lw_all := lw_g (lw_at lw_m7 74 rfl) rfl
theorem q1624 : (Jvm.Cond.methodLink "SharedWindowModel" (371 : Nat) ({ cls := "SharedWindowModel", name := "darkOf", desc := "(I)I" } : Jvm.MethodName)) ∈ lw_all := lw_g (lw_at lw_m7 75 rfl) rfl
theorem q1625 : (Jvm.Cond.privateMethod ({ cls := "SharedWindowModel", name := "darkOf", desc := "(I)I" } : Jvm.MethodName)) ∈ lw_tbl := lw_at lw_m7 76 rfl
theorem q1626 : (Jvm.Cond.instanceMethod ({ cls := "SharedWindowModel", name := "darkOf", desc := "(I)I" } : Jvm.MethodName)) ∈ lw_all := lw_g (lw_at lw_m7 77 rfl) rfl
theorem q1627 : (Jvm.Cond.code ({ cls := "SharedWindowModel", name := "darkOf", desc := "(I)I" } : Jvm.MethodName) prog_20_method_69_code (4 : Nat) (Option.some Jvm.ClassFile.FieldType.int)) ∈ lw_all := lw_g (lw_at lw_m7 78 rfl) rfl
theorem q1628 : (Jvm.Cond.methodLink "SharedWindowModel" (365 : Nat) ({ cls := "SharedWindowModel", name := "longestRow", desc := "(I)I" } : Jvm.MethodName)) ∈ lw_all := lw_g (lw_at lw_m7 79 rfl) rfl
theorem q1629 : (Jvm.Cond.static ({ cls := "SharedWindowModel", name := "longestRow", desc := "(I)I" } : Jvm.MethodName)) ∈ lw_all := lw_g (lw_at lw_m7 80 rfl) rfl
theorem q1630 : (Jvm.Cond.code ({ cls := "SharedWindowModel", name := "longestRow", desc := "(I)I" } : Jvm.MethodName) prog_20_method_68_code (4 : Nat) (Option.some Jvm.ClassFile.FieldType.int)) ∈ lw_all := lw_g (lw_at lw_m7 81 rfl) rfl
theorem q1631 : (Jvm.Cond.methodLink "SharedWindowModel" (362 : Nat) ({ cls := "SharedWindowModel", name := "max", desc := "(II)I" } : Jvm.MethodName)) ∈ lw_all := lw_g (lw_at lw_m7 82 rfl) rfl
theorem q1632 : (Jvm.Cond.static ({ cls := "SharedWindowModel", name := "max", desc := "(II)I" } : Jvm.MethodName)) ∈ lw_all := lw_g (lw_at lw_m7 83 rfl) rfl
theorem q1633 : (Jvm.Cond.code ({ cls := "SharedWindowModel", name := "max", desc := "(II)I" } : Jvm.MethodName) prog_20_method_4_code (2 : Nat) (Option.some Jvm.ClassFile.FieldType.int)) ∈ lw_all := lw_g (lw_at lw_m7 84 rfl) rfl
theorem q1634 : (Jvm.Cond.methodLink "SharedWindowModel" (374 : Nat) ({ cls := "SharedWindowModel", name := "everSeenBy", desc := "(I)I" } : Jvm.MethodName)) ∈ lw_all := lw_g (lw_at lw_m7 85 rfl) rfl
theorem q1635 : (Jvm.Cond.privateMethod ({ cls := "SharedWindowModel", name := "everSeenBy", desc := "(I)I" } : Jvm.MethodName)) ∈ lw_tbl := lw_at lw_m7 86 rfl
theorem q1636 : (Jvm.Cond.instanceMethod ({ cls := "SharedWindowModel", name := "everSeenBy", desc := "(I)I" } : Jvm.MethodName)) ∈ lw_all := lw_g (lw_at lw_m7 87 rfl) rfl
theorem q1637 : (Jvm.Cond.code ({ cls := "SharedWindowModel", name := "everSeenBy", desc := "(I)I" } : Jvm.MethodName) prog_20_method_15_code (4 : Nat) (Option.some Jvm.ClassFile.FieldType.int)) ∈ lw_all := lw_g (lw_at lw_m7 88 rfl) rfl
theorem q1639 : (Jvm.Cond.instanceMethod ({ cls := "SharedWindowModel", name := "rotaIs", desc := "(I)I" } : Jvm.MethodName)) ∈ lw_all := lw_g (lw_at lw_m7 90 rfl) rfl
theorem q1640 : (Jvm.Cond.selects "SharedWindowModel" ({ cls := "SharedWindowModel", name := "rotaIs", desc := "(I)I" } : Jvm.MethodName) ({ cls := "SharedWindowModel", name := "rotaIs", desc := "(I)I" } : Jvm.MethodName)) ∈ lw_all := lw_g (lw_at lw_m7 91 rfl) rfl
theorem q1641 : (Jvm.Cond.code ({ cls := "SharedWindowModel", name := "rotaIs", desc := "(I)I" } : Jvm.MethodName) prog_20_method_73_code (2 : Nat) (Option.some Jvm.ClassFile.FieldType.int)) ∈ lw_all := lw_g (lw_at lw_m7 92 rfl) rfl
theorem q1642 : (Jvm.Cond.methodLink "SharedWindowModel" (377 : Nat) ({ cls := "SharedWindowModel", name := "wayOf", desc := "(Z)I" } : Jvm.MethodName)) ∈ lw_all := lw_g (lw_at lw_m7 93 rfl) rfl
theorem q1643 : (Jvm.Cond.privateMethod ({ cls := "SharedWindowModel", name := "wayOf", desc := "(Z)I" } : Jvm.MethodName)) ∈ lw_tbl := lw_at lw_m7 94 rfl
theorem q1644 : (Jvm.Cond.instanceMethod ({ cls := "SharedWindowModel", name := "wayOf", desc := "(Z)I" } : Jvm.MethodName)) ∈ lw_all := lw_g (lw_at lw_m7 95 rfl) rfl
theorem q1645 : (Jvm.Cond.code ({ cls := "SharedWindowModel", name := "wayOf", desc := "(Z)I" } : Jvm.MethodName) prog_20_method_66_code (6 : Nat) (Option.some Jvm.ClassFile.FieldType.int)) ∈ lw_all := lw_g (lw_at lw_m7 96 rfl) rfl
theorem q1646 : (Jvm.Cond.methodLink "SharedWindowModel" (381 : Nat) ({ cls := "SharedWindowModel", name := "seenByRota", desc := "()I" } : Jvm.MethodName)) ∈ lw_all := lw_g (lw_at lw_m7 97 rfl) rfl
theorem q1647 : (Jvm.Cond.privateMethod ({ cls := "SharedWindowModel", name := "seenByRota", desc := "()I" } : Jvm.MethodName)) ∈ lw_tbl := lw_at lw_m7 98 rfl
theorem q1648 : (Jvm.Cond.instanceMethod ({ cls := "SharedWindowModel", name := "seenByRota", desc := "()I" } : Jvm.MethodName)) ∈ lw_all := lw_g (lw_at lw_m7 99 rfl) rfl
theorem q1649 : (Jvm.Cond.code ({ cls := "SharedWindowModel", name := "seenByRota", desc := "()I" } : Jvm.MethodName) prog_20_method_72_code (3 : Nat) (Option.some Jvm.ClassFile.FieldType.int)) ∈ lw_all := lw_g (lw_at lw_m7 100 rfl) rfl
theorem q1651 : (Jvm.Cond.instanceMethod ({ cls := "SharedWindowModel", name := "next", desc := "(III)I" } : Jvm.MethodName)) ∈ lw_all := lw_g (lw_at lw_m7 102 rfl) rfl
theorem q1652 : (Jvm.Cond.selects "SharedWindowModel" ({ cls := "SharedWindowModel", name := "next", desc := "(III)I" } : Jvm.MethodName) ({ cls := "SharedWindowModel", name := "next", desc := "(III)I" } : Jvm.MethodName)) ∈ lw_all := lw_g (lw_at lw_m7 103 rfl) rfl
theorem q1653 : (Jvm.Cond.code ({ cls := "SharedWindowModel", name := "next", desc := "(III)I" } : Jvm.MethodName) prog_20_method_74_code (6 : Nat) (Option.some Jvm.ClassFile.FieldType.int)) ∈ lw_all := lw_g (lw_at lw_m7 104 rfl) rfl
theorem q1655 : (Jvm.Cond.instanceMethod ({ cls := "SharedWindowModel", name := "light", desc := "(II)I" } : Jvm.MethodName)) ∈ lw_all := lw_g (lw_at lw_m7 106 rfl) rfl
theorem q1656 : (Jvm.Cond.selects "SharedWindowModel" ({ cls := "SharedWindowModel", name := "light", desc := "(II)I" } : Jvm.MethodName) ({ cls := "SharedWindowModel", name := "light", desc := "(II)I" } : Jvm.MethodName)) ∈ lw_all := lw_g (lw_at lw_m7 107 rfl) rfl
theorem q1657 : (Jvm.Cond.code ({ cls := "SharedWindowModel", name := "light", desc := "(II)I" } : Jvm.MethodName) prog_20_method_75_code (3 : Nat) (Option.some Jvm.ClassFile.FieldType.int)) ∈ lw_all := lw_g (lw_at lw_m7 108 rfl) rfl
theorem q1658 : (Jvm.Cond.methodLink "SharedWindowModel" (384 : Nat) ({ cls := "SharedWindowModel", name := "lightOf", desc := "(I)I" } : Jvm.MethodName)) ∈ lw_all := lw_g (lw_at lw_m7 109 rfl) rfl
theorem q1659 : (Jvm.Cond.privateMethod ({ cls := "SharedWindowModel", name := "lightOf", desc := "(I)I" } : Jvm.MethodName)) ∈ lw_tbl := lw_at lw_m7 110 rfl
theorem q1660 : (Jvm.Cond.instanceMethod ({ cls := "SharedWindowModel", name := "lightOf", desc := "(I)I" } : Jvm.MethodName)) ∈ lw_all := lw_g (lw_at lw_m7 111 rfl) rfl
theorem q1661 : (Jvm.Cond.code ({ cls := "SharedWindowModel", name := "lightOf", desc := "(I)I" } : Jvm.MethodName) prog_20_method_70_code (4 : Nat) (Option.some Jvm.ClassFile.FieldType.int)) ∈ lw_all := lw_g (lw_at lw_m7 112 rfl) rfl
theorem q1663 : (Jvm.Cond.instanceMethod ({ cls := "SharedWindowModel", name := "seers", desc := "(I)I" } : Jvm.MethodName)) ∈ lw_all := lw_g (lw_at lw_m7 114 rfl) rfl
theorem q1664 : (Jvm.Cond.selects "SharedWindowModel" ({ cls := "SharedWindowModel", name := "seers", desc := "(I)I" } : Jvm.MethodName) ({ cls := "SharedWindowModel", name := "seers", desc := "(I)I" } : Jvm.MethodName)) ∈ lw_all := lw_g (lw_at lw_m7 115 rfl) rfl
theorem q1665 : (Jvm.Cond.code ({ cls := "SharedWindowModel", name := "seers", desc := "(I)I" } : Jvm.MethodName) prog_20_method_76_code (4 : Nat) (Option.some Jvm.ClassFile.FieldType.int)) ∈ lw_all := lw_g (lw_at lw_m7 116 rfl) rfl
theorem q1667 : (Jvm.Cond.instanceMethod ({ cls := "SharedWindowModel", name := "ifSwapped", desc := "(II)I" } : Jvm.MethodName)) ∈ lw_all := lw_g (lw_at lw_m7 118 rfl) rfl
theorem q1668 : (Jvm.Cond.selects "SharedWindowModel" ({ cls := "SharedWindowModel", name := "ifSwapped", desc := "(II)I" } : Jvm.MethodName) ({ cls := "SharedWindowModel", name := "ifSwapped", desc := "(II)I" } : Jvm.MethodName)) ∈ lw_all := lw_g (lw_at lw_m7 119 rfl) rfl
theorem q1669 : (Jvm.Cond.code ({ cls := "SharedWindowModel", name := "ifSwapped", desc := "(II)I" } : Jvm.MethodName) prog_20_method_78_code (4 : Nat) (Option.some Jvm.ClassFile.FieldType.int)) ∈ lw_all := lw_g (lw_at lw_m7 120 rfl) rfl
theorem q1670 : (Jvm.Cond.methodLink "SharedWindowModel" (387 : Nat) ({ cls := "SharedWindowModel", name := "changesTurns", desc := "(II)V" } : Jvm.MethodName)) ∈ lw_all := lw_g (lw_at lw_m7 121 rfl) rfl
theorem q1671 : (Jvm.Cond.privateMethod ({ cls := "SharedWindowModel", name := "changesTurns", desc := "(II)V" } : Jvm.MethodName)) ∈ lw_tbl := lw_at lw_m7 122 rfl
theorem q1672 : (Jvm.Cond.instanceMethod ({ cls := "SharedWindowModel", name := "changesTurns", desc := "(II)V" } : Jvm.MethodName)) ∈ lw_all := lw_g (lw_at lw_m7 123 rfl) rfl
theorem q1673 : (Jvm.Cond.code ({ cls := "SharedWindowModel", name := "changesTurns", desc := "(II)V" } : Jvm.MethodName) prog_20_method_77_code (4 : Nat) (Option.none : Option Jvm.ClassFile.FieldType)) ∈ lw_all := lw_g (lw_at lw_m7 124 rfl) rfl
theorem q1675 : (Jvm.Cond.instanceMethod ({ cls := "SharedWindowModel", name := "spread", desc := "()I" } : Jvm.MethodName)) ∈ lw_all := lw_g (lw_at lw_m7 126 rfl) rfl
theorem q1676 : (Jvm.Cond.selects "SharedWindowModel" ({ cls := "SharedWindowModel", name := "spread", desc := "()I" } : Jvm.MethodName) ({ cls := "SharedWindowModel", name := "spread", desc := "()I" } : Jvm.MethodName)) ∈ lw_all := lw_g (lw_at lw_m7 127 rfl) rfl
theorem q1677 : (Jvm.Cond.code ({ cls := "SharedWindowModel", name := "spread", desc := "()I" } : Jvm.MethodName) prog_20_method_79_code (4 : Nat) (Option.some Jvm.ClassFile.FieldType.int)) ∈ lw_all := lw_g (lw_at lw_m7 128 rfl) rfl
theorem q1679 : (Jvm.Cond.instanceMethod ({ cls := "SharedWindowModel", name := "readers", desc := "(II)I" } : Jvm.MethodName)) ∈ lw_all := lw_g (lw_at lw_m7 130 rfl) rfl
theorem q1680 : (Jvm.Cond.selects "SharedWindowModel" ({ cls := "SharedWindowModel", name := "readers", desc := "(II)I" } : Jvm.MethodName) ({ cls := "SharedWindowModel", name := "readers", desc := "(II)I" } : Jvm.MethodName)) ∈ lw_all := lw_g (lw_at lw_m7 131 rfl) rfl
theorem q1681 : (Jvm.Cond.code ({ cls := "SharedWindowModel", name := "readers", desc := "(II)I" } : Jvm.MethodName) prog_20_method_81_code (3 : Nat) (Option.some Jvm.ClassFile.FieldType.int)) ∈ lw_all := lw_g (lw_at lw_m7 132 rfl) rfl
theorem q1682 : (Jvm.Cond.methodLink "SharedWindowModel" (390 : Nat) ({ cls := "SharedWindowModel", name := "readersOf", desc := "(II)I" } : Jvm.MethodName)) ∈ lw_all := lw_g (lw_at lw_m7 133 rfl) rfl
theorem q1683 : (Jvm.Cond.privateMethod ({ cls := "SharedWindowModel", name := "readersOf", desc := "(II)I" } : Jvm.MethodName)) ∈ lw_tbl := lw_at lw_m7 134 rfl
theorem q1684 : (Jvm.Cond.instanceMethod ({ cls := "SharedWindowModel", name := "readersOf", desc := "(II)I" } : Jvm.MethodName)) ∈ lw_all := lw_g (lw_at lw_m7 135 rfl) rfl
theorem q1685 : (Jvm.Cond.code ({ cls := "SharedWindowModel", name := "readersOf", desc := "(II)I" } : Jvm.MethodName) prog_20_method_80_code (6 : Nat) (Option.some Jvm.ClassFile.FieldType.int)) ∈ lw_all := lw_g (lw_at lw_m7 136 rfl) rfl
theorem q1687 : (Jvm.Cond.instanceMethod ({ cls := "SharedWindowModel", name := "bestBreath", desc := "(II)I" } : Jvm.MethodName)) ∈ lw_all := lw_g (lw_at lw_m7 138 rfl) rfl
theorem q1688 : (Jvm.Cond.selects "SharedWindowModel" ({ cls := "SharedWindowModel", name := "bestBreath", desc := "(II)I" } : Jvm.MethodName) ({ cls := "SharedWindowModel", name := "bestBreath", desc := "(II)I" } : Jvm.MethodName)) ∈ lw_all := lw_g (lw_at lw_m7 139 rfl) rfl
theorem q1689 : (Jvm.Cond.code ({ cls := "SharedWindowModel", name := "bestBreath", desc := "(II)I" } : Jvm.MethodName) prog_20_method_83_code (5 : Nat) (Option.some Jvm.ClassFile.FieldType.int)) ∈ lw_all := lw_g (lw_at lw_m7 140 rfl) rfl
theorem q1690 : (Jvm.Cond.methodLink "SharedWindowModel" (393 : Nat) ({ cls := "SharedWindowModel", name := "othersWhoRead", desc := "(II)I" } : Jvm.MethodName)) ∈ lw_all := lw_g (lw_at lw_m7 141 rfl) rfl
theorem q1691 : (Jvm.Cond.privateMethod ({ cls := "SharedWindowModel", name := "othersWhoRead", desc := "(II)I" } : Jvm.MethodName)) ∈ lw_tbl := lw_at lw_m7 142 rfl
theorem q1692 : (Jvm.Cond.instanceMethod ({ cls := "SharedWindowModel", name := "othersWhoRead", desc := "(II)I" } : Jvm.MethodName)) ∈ lw_all := lw_g (lw_at lw_m7 143 rfl) rfl
theorem q1693 : (Jvm.Cond.code ({ cls := "SharedWindowModel", name := "othersWhoRead", desc := "(II)I" } : Jvm.MethodName) prog_20_method_82_code (3 : Nat) (Option.some Jvm.ClassFile.FieldType.int)) ∈ lw_all := lw_g (lw_at lw_m7 144 rfl) rfl
theorem q1695 : (Jvm.Cond.instanceMethod ({ cls := "SharedWindowModel", name := "clearest", desc := "(I)I" } : Jvm.MethodName)) ∈ lw_all := lw_g (lw_at lw_m7 146 rfl) rfl
theorem q1696 : (Jvm.Cond.selects "SharedWindowModel" ({ cls := "SharedWindowModel", name := "clearest", desc := "(I)I" } : Jvm.MethodName) ({ cls := "SharedWindowModel", name := "clearest", desc := "(I)I" } : Jvm.MethodName)) ∈ lw_all := lw_g (lw_at lw_m7 147 rfl) rfl
theorem q1697 : (Jvm.Cond.code ({ cls := "SharedWindowModel", name := "clearest", desc := "(I)I" } : Jvm.MethodName) prog_20_method_85_code (4 : Nat) (Option.some Jvm.ClassFile.FieldType.int)) ∈ lw_all := lw_g (lw_at lw_m7 148 rfl) rfl
theorem q1698 : (Jvm.Cond.methodLink "SharedWindowModel" (396 : Nat) ({ cls := "SharedWindowModel", name := "twosAt", desc := "(I)I" } : Jvm.MethodName)) ∈ lw_all := lw_g (lw_at lw_m7 149 rfl) rfl
theorem q1699 : (Jvm.Cond.privateMethod ({ cls := "SharedWindowModel", name := "twosAt", desc := "(I)I" } : Jvm.MethodName)) ∈ lw_tbl := lw_at lw_m7 150 rfl
theorem q1700 : (Jvm.Cond.instanceMethod ({ cls := "SharedWindowModel", name := "twosAt", desc := "(I)I" } : Jvm.MethodName)) ∈ lw_all := lw_g (lw_at lw_m7 151 rfl) rfl
theorem q1701 : (Jvm.Cond.code ({ cls := "SharedWindowModel", name := "twosAt", desc := "(I)I" } : Jvm.MethodName) prog_20_method_84_code (4 : Nat) (Option.some Jvm.ClassFile.FieldType.int)) ∈ lw_all := lw_g (lw_at lw_m7 152 rfl) rfl
theorem q1703 : (Jvm.Cond.instanceMethod ({ cls := "SharedWindowModel", name := "whoHad", desc := "(II)I" } : Jvm.MethodName)) ∈ lw_all := lw_g (lw_at lw_m7 154 rfl) rfl
theorem q1704 : (Jvm.Cond.selects "SharedWindowModel" ({ cls := "SharedWindowModel", name := "whoHad", desc := "(II)I" } : Jvm.MethodName) ({ cls := "SharedWindowModel", name := "whoHad", desc := "(II)I" } : Jvm.MethodName)) ∈ lw_all := lw_g (lw_at lw_m7 155 rfl) rfl
theorem q1705 : (Jvm.Cond.code ({ cls := "SharedWindowModel", name := "whoHad", desc := "(II)I" } : Jvm.MethodName) prog_20_method_86_code (5 : Nat) (Option.some Jvm.ClassFile.FieldType.int)) ∈ lw_all := lw_g (lw_at lw_m7 156 rfl) rfl
theorem q1706 : (Jvm.Cond.constant "SharedWindowModel" (399 : Nat) (65535 : Int32)) ∈ lw_all := lw_g (lw_at lw_m7 157 rfl) rfl
theorem q1708 : (Jvm.Cond.instanceMethod ({ cls := "SharedWindowModel", name := "shortest", desc := "(II)I" } : Jvm.MethodName)) ∈ lw_all := lw_g (lw_at lw_m7 159 rfl) rfl
theorem q1709 : (Jvm.Cond.selects "SharedWindowModel" ({ cls := "SharedWindowModel", name := "shortest", desc := "(II)I" } : Jvm.MethodName) ({ cls := "SharedWindowModel", name := "shortest", desc := "(II)I" } : Jvm.MethodName)) ∈ lw_all := lw_g (lw_at lw_m7 160 rfl) rfl
theorem q1710 : (Jvm.Cond.code ({ cls := "SharedWindowModel", name := "shortest", desc := "(II)I" } : Jvm.MethodName) prog_20_method_91_code (4 : Nat) (Option.some Jvm.ClassFile.FieldType.int)) ∈ lw_all := lw_g (lw_at lw_m7 161 rfl) rfl
theorem q1711 : (Jvm.Cond.methodLink "SharedWindowModel" (400 : Nat) ({ cls := "SharedWindowModel", name := "octet", desc := "(I)I" } : Jvm.MethodName)) ∈ lw_all := lw_g (lw_at lw_m7 162 rfl) rfl
theorem q1712 : (Jvm.Cond.privateMethod ({ cls := "SharedWindowModel", name := "octet", desc := "(I)I" } : Jvm.MethodName)) ∈ lw_tbl := lw_at lw_m7 163 rfl
theorem q1713 : (Jvm.Cond.instanceMethod ({ cls := "SharedWindowModel", name := "octet", desc := "(I)I" } : Jvm.MethodName)) ∈ lw_all := lw_g (lw_at lw_m7 164 rfl) rfl
theorem q1714 : (Jvm.Cond.code ({ cls := "SharedWindowModel", name := "octet", desc := "(I)I" } : Jvm.MethodName) prog_20_method_20_code (2 : Nat) (Option.some Jvm.ClassFile.FieldType.int)) ∈ lw_all := lw_g (lw_at lw_m7 165 rfl) rfl
theorem q1715 : (Jvm.Cond.methodLink "SharedWindowModel" (413 : Nat) ({ cls := "SharedWindowModel", name := "leastOfAll", desc := "(I)I" } : Jvm.MethodName)) ∈ lw_all := lw_g (lw_at lw_m7 166 rfl) rfl
theorem q1716 : (Jvm.Cond.privateMethod ({ cls := "SharedWindowModel", name := "leastOfAll", desc := "(I)I" } : Jvm.MethodName)) ∈ lw_tbl := lw_at lw_m7 167 rfl
theorem q1717 : (Jvm.Cond.instanceMethod ({ cls := "SharedWindowModel", name := "leastOfAll", desc := "(I)I" } : Jvm.MethodName)) ∈ lw_all := lw_g (lw_at lw_m7 168 rfl) rfl
theorem q1718 : (Jvm.Cond.code ({ cls := "SharedWindowModel", name := "leastOfAll", desc := "(I)I" } : Jvm.MethodName) prog_20_method_90_code (4 : Nat) (Option.some Jvm.ClassFile.FieldType.int)) ∈ lw_all := lw_g (lw_at lw_m7 169 rfl) rfl
theorem q1719 : (Jvm.Cond.constant "SharedWindowModel" (409 : Nat) (100000000 : Int32)) ∈ lw_all := lw_g (lw_at lw_m7 170 rfl) rfl
theorem q1720 : (Jvm.Cond.methodLink "SharedWindowModel" (406 : Nat) ({ cls := "SharedWindowModel", name := "stateOf", desc := "(II)I" } : Jvm.MethodName)) ∈ lw_all := lw_g (lw_at lw_m7 171 rfl) rfl
theorem q1721 : (Jvm.Cond.static ({ cls := "SharedWindowModel", name := "stateOf", desc := "(II)I" } : Jvm.MethodName)) ∈ lw_all := lw_g (lw_at lw_m7 172 rfl) rfl
theorem q1722 : (Jvm.Cond.code ({ cls := "SharedWindowModel", name := "stateOf", desc := "(II)I" } : Jvm.MethodName) prog_20_method_87_code (2 : Nat) (Option.some Jvm.ClassFile.FieldType.int)) ∈ lw_all := lw_g (lw_at lw_m7 173 rfl) rfl
theorem q1723 : (Jvm.Cond.methodLink "SharedWindowModel" (410 : Nat) ({ cls := "SharedWindowModel", name := "choosesHouse", desc := "(III)V" } : Jvm.MethodName)) ∈ lw_all := lw_g (lw_at lw_m7 174 rfl) rfl
theorem q1724 : (Jvm.Cond.privateMethod ({ cls := "SharedWindowModel", name := "choosesHouse", desc := "(III)V" } : Jvm.MethodName)) ∈ lw_tbl := lw_at lw_m7 175 rfl
theorem q1725 : (Jvm.Cond.instanceMethod ({ cls := "SharedWindowModel", name := "choosesHouse", desc := "(III)V" } : Jvm.MethodName)) ∈ lw_all := lw_g (lw_at lw_m7 176 rfl) rfl
theorem q1726 : (Jvm.Cond.code ({ cls := "SharedWindowModel", name := "choosesHouse", desc := "(III)V" } : Jvm.MethodName) prog_20_method_89_code (10 : Nat) (Option.none : Option Jvm.ClassFile.FieldType)) ∈ lw_all := lw_g (lw_at lw_m7 177 rfl) rfl
theorem q1727 : (Jvm.Cond.methodLink "SharedWindowModel" (403 : Nat) ({ cls := "SharedWindowModel", name := "metBy", desc := "(III)I" } : Jvm.MethodName)) ∈ lw_all := lw_g (lw_at lw_m7 178 rfl) rfl
theorem q1728 : (Jvm.Cond.privateMethod ({ cls := "SharedWindowModel", name := "metBy", desc := "(III)I" } : Jvm.MethodName)) ∈ lw_tbl := lw_at lw_m7 179 rfl
theorem q1729 : (Jvm.Cond.instanceMethod ({ cls := "SharedWindowModel", name := "metBy", desc := "(III)I" } : Jvm.MethodName)) ∈ lw_all := lw_g (lw_at lw_m7 180 rfl) rfl
theorem q1730 : (Jvm.Cond.code ({ cls := "SharedWindowModel", name := "metBy", desc := "(III)I" } : Jvm.MethodName) prog_20_method_88_code (6 : Nat) (Option.some Jvm.ClassFile.FieldType.int)) ∈ lw_all := lw_g (lw_at lw_m7 181 rfl) rfl
theorem q1732 : (Jvm.Cond.instanceMethod ({ cls := "SharedWindowModel", name := "second", desc := "(I)I" } : Jvm.MethodName)) ∈ lw_all := lw_g (lw_at lw_m7 183 rfl) rfl
theorem q1733 : (Jvm.Cond.selects "SharedWindowModel" ({ cls := "SharedWindowModel", name := "second", desc := "(I)I" } : Jvm.MethodName) ({ cls := "SharedWindowModel", name := "second", desc := "(I)I" } : Jvm.MethodName)) ∈ lw_all := lw_g (lw_at lw_m7 184 rfl) rfl
theorem q1734 : (Jvm.Cond.code ({ cls := "SharedWindowModel", name := "second", desc := "(I)I" } : Jvm.MethodName) prog_20_method_93_code (3 : Nat) (Option.some Jvm.ClassFile.FieldType.int)) ∈ lw_all := lw_g (lw_at lw_m7 185 rfl) rfl
theorem q1735 : (Jvm.Cond.methodLink "SharedWindowModel" (419 : Nat) ({ cls := "SharedWindowModel", name := "bestSet", desc := "()I" } : Jvm.MethodName)) ∈ lw_all := lw_g (lw_at lw_m7 186 rfl) rfl
theorem q1736 : (Jvm.Cond.privateMethod ({ cls := "SharedWindowModel", name := "bestSet", desc := "()I" } : Jvm.MethodName)) ∈ lw_tbl := lw_at lw_m7 187 rfl
theorem q1737 : (Jvm.Cond.instanceMethod ({ cls := "SharedWindowModel", name := "bestSet", desc := "()I" } : Jvm.MethodName)) ∈ lw_all := lw_g (lw_at lw_m7 188 rfl) rfl
theorem q1738 : (Jvm.Cond.code ({ cls := "SharedWindowModel", name := "bestSet", desc := "()I" } : Jvm.MethodName) prog_20_method_92_code (4 : Nat) (Option.some Jvm.ClassFile.FieldType.int)) ∈ lw_all := lw_g (lw_at lw_m7 189 rfl) rfl
theorem q1739 : (Jvm.Cond.methodLink "SharedWindowModel" (416 : Nat) ({ cls := "SharedWindowModel", name := "lowest", desc := "(I)I" } : Jvm.MethodName)) ∈ lw_all := lw_g (lw_at lw_m7 190 rfl) rfl
theorem q1740 : (Jvm.Cond.static ({ cls := "SharedWindowModel", name := "lowest", desc := "(I)I" } : Jvm.MethodName)) ∈ lw_all := lw_g (lw_at lw_m7 191 rfl) rfl
theorem q1741 : (Jvm.Cond.code ({ cls := "SharedWindowModel", name := "lowest", desc := "(I)I" } : Jvm.MethodName) prog_20_method_8_code (2 : Nat) (Option.some Jvm.ClassFile.FieldType.int)) ∈ lw_all := lw_g (lw_at lw_m7 192 rfl) rfl
theorem q1743 : (Jvm.Cond.instanceMethod ({ cls := "SharedWindowModel", name := "crack", desc := "(II)I" } : Jvm.MethodName)) ∈ lw_all := lw_g (lw_at lw_m7 194 rfl) rfl
theorem q1744 : (Jvm.Cond.selects "SharedWindowModel" ({ cls := "SharedWindowModel", name := "crack", desc := "(II)I" } : Jvm.MethodName) ({ cls := "SharedWindowModel", name := "crack", desc := "(II)I" } : Jvm.MethodName)) ∈ lw_all := lw_g (lw_at lw_m7 195 rfl) rfl
theorem q1745 : (Jvm.Cond.code ({ cls := "SharedWindowModel", name := "crack", desc := "(II)I" } : Jvm.MethodName) prog_20_method_95_code (6 : Nat) (Option.some Jvm.ClassFile.FieldType.int)) ∈ lw_all := lw_g (lw_at lw_m7 196 rfl) rfl
theorem q1746 : (Jvm.Cond.methodLink "SharedWindowModel" (422 : Nat) ({ cls := "SharedWindowModel", name := "fits", desc := "(II)Z" } : Jvm.MethodName)) ∈ lw_all := lw_g (lw_at lw_m7 197 rfl) rfl
theorem q1747 : (Jvm.Cond.privateMethod ({ cls := "SharedWindowModel", name := "fits", desc := "(II)Z" } : Jvm.MethodName)) ∈ lw_tbl := lw_at lw_m7 198 rfl
theorem q1748 : (Jvm.Cond.instanceMethod ({ cls := "SharedWindowModel", name := "fits", desc := "(II)Z" } : Jvm.MethodName)) ∈ lw_all := lw_g (lw_at lw_m7 199 rfl) rfl
theorem q1749 : (Jvm.Cond.code ({ cls := "SharedWindowModel", name := "fits", desc := "(II)Z" } : Jvm.MethodName) prog_20_method_94_code (4 : Nat) (Option.some Jvm.ClassFile.FieldType.boolean)) ∈ lw_all := lw_g (lw_at lw_m7 200 rfl) rfl
theorem q1751 : (Jvm.Cond.instanceMethod ({ cls := "SharedWindowModel", name := "halves", desc := "(I)I" } : Jvm.MethodName)) ∈ lw_all := lw_g (lw_at lw_m7 202 rfl) rfl
theorem q1752 : (Jvm.Cond.selects "SharedWindowModel" ({ cls := "SharedWindowModel", name := "halves", desc := "(I)I" } : Jvm.MethodName) ({ cls := "SharedWindowModel", name := "halves", desc := "(I)I" } : Jvm.MethodName)) ∈ lw_all := lw_g (lw_at lw_m7 203 rfl) rfl
theorem q1753 : (Jvm.Cond.code ({ cls := "SharedWindowModel", name := "halves", desc := "(I)I" } : Jvm.MethodName) prog_20_method_97_code (6 : Nat) (Option.some Jvm.ClassFile.FieldType.int)) ∈ lw_all := lw_g (lw_at lw_m7 204 rfl) rfl
theorem q1754 : (Jvm.Cond.methodLink "SharedWindowModel" (425 : Nat) ({ cls := "SharedWindowModel", name := "sumFrom", desc := "(II)I" } : Jvm.MethodName)) ∈ lw_all := lw_g (lw_at lw_m7 205 rfl) rfl
theorem q1755 : (Jvm.Cond.privateMethod ({ cls := "SharedWindowModel", name := "sumFrom", desc := "(II)I" } : Jvm.MethodName)) ∈ lw_tbl := lw_at lw_m7 206 rfl
theorem q1756 : (Jvm.Cond.instanceMethod ({ cls := "SharedWindowModel", name := "sumFrom", desc := "(II)I" } : Jvm.MethodName)) ∈ lw_all := lw_g (lw_at lw_m7 207 rfl) rfl
theorem q1757 : (Jvm.Cond.code ({ cls := "SharedWindowModel", name := "sumFrom", desc := "(II)I" } : Jvm.MethodName) prog_20_method_96_code (5 : Nat) (Option.some Jvm.ClassFile.FieldType.int)) ∈ lw_all := lw_g (lw_at lw_m7 208 rfl) rfl
theorem q1759 : (Jvm.Cond.instanceMethod ({ cls := "SharedWindowModel", name := "swaps", desc := "(II)I" } : Jvm.MethodName)) ∈ lw_all := lw_g (lw_at lw_m7 210 rfl) rfl
theorem q1760 : (Jvm.Cond.selects "SharedWindowModel" ({ cls := "SharedWindowModel", name := "swaps", desc := "(II)I" } : Jvm.MethodName) ({ cls := "SharedWindowModel", name := "swaps", desc := "(II)I" } : Jvm.MethodName)) ∈ lw_all := lw_g (lw_at lw_m7 211 rfl) rfl
theorem q1761 : (Jvm.Cond.code ({ cls := "SharedWindowModel", name := "swaps", desc := "(II)I" } : Jvm.MethodName) prog_20_method_101_code (6 : Nat) (Option.some Jvm.ClassFile.FieldType.int)) ∈ lw_all := lw_g (lw_at lw_m7 212 rfl) rfl
theorem q1762 : (Jvm.Cond.methodLink "SharedWindowModel" (434 : Nat) ({ cls := "SharedWindowModel", name := "mostAtOnce", desc := "(I)I" } : Jvm.MethodName)) ∈ lw_all := lw_g (lw_at lw_m7 213 rfl) rfl
theorem q1763 : (Jvm.Cond.privateMethod ({ cls := "SharedWindowModel", name := "mostAtOnce", desc := "(I)I" } : Jvm.MethodName)) ∈ lw_tbl := lw_at lw_m7 214 rfl
theorem q1764 : (Jvm.Cond.instanceMethod ({ cls := "SharedWindowModel", name := "mostAtOnce", desc := "(I)I" } : Jvm.MethodName)) ∈ lw_all := lw_g (lw_at lw_m7 215 rfl) rfl
theorem q1765 : (Jvm.Cond.code ({ cls := "SharedWindowModel", name := "mostAtOnce", desc := "(I)I" } : Jvm.MethodName) prog_20_method_100_code (6 : Nat) (Option.some Jvm.ClassFile.FieldType.int)) ∈ lw_all := lw_g (lw_at lw_m7 216 rfl) rfl
theorem q1766 : (Jvm.Cond.methodLink "SharedWindowModel" (431 : Nat) ({ cls := "SharedWindowModel", name := "bothWould", desc := "(III)Z" } : Jvm.MethodName)) ∈ lw_all := lw_g (lw_at lw_m7 217 rfl) rfl
theorem q1767 : (Jvm.Cond.privateMethod ({ cls := "SharedWindowModel", name := "bothWould", desc := "(III)Z" } : Jvm.MethodName)) ∈ lw_tbl := lw_at lw_m7 218 rfl
theorem q1768 : (Jvm.Cond.instanceMethod ({ cls := "SharedWindowModel", name := "bothWould", desc := "(III)Z" } : Jvm.MethodName)) ∈ lw_all := lw_g (lw_at lw_m7 219 rfl) rfl
theorem q1769 : (Jvm.Cond.code ({ cls := "SharedWindowModel", name := "bothWould", desc := "(III)Z" } : Jvm.MethodName) prog_20_method_99_code (4 : Nat) (Option.some Jvm.ClassFile.FieldType.boolean)) ∈ lw_all := lw_g (lw_at lw_m7 220 rfl) rfl
theorem q1770 : (Jvm.Cond.methodLink "SharedWindowModel" (428 : Nat) ({ cls := "SharedWindowModel", name := "worth", desc := "(III)I" } : Jvm.MethodName)) ∈ lw_all := lw_g (lw_at lw_m7 221 rfl) rfl
theorem q1771 : (Jvm.Cond.privateMethod ({ cls := "SharedWindowModel", name := "worth", desc := "(III)I" } : Jvm.MethodName)) ∈ lw_tbl := lw_at lw_m7 222 rfl
theorem q1772 : (Jvm.Cond.instanceMethod ({ cls := "SharedWindowModel", name := "worth", desc := "(III)I" } : Jvm.MethodName)) ∈ lw_all := lw_g (lw_at lw_m7 223 rfl) rfl
theorem q1773 : (Jvm.Cond.code ({ cls := "SharedWindowModel", name := "worth", desc := "(III)I" } : Jvm.MethodName) prog_20_method_98_code (4 : Nat) (Option.some Jvm.ClassFile.FieldType.int)) ∈ lw_all := lw_g (lw_at lw_m7 224 rfl) rfl
theorem q1775 : (Jvm.Cond.instanceMethod ({ cls := "SharedWindowModel", name := "sale", desc := "(II)I" } : Jvm.MethodName)) ∈ lw_all := lw_g (lw_at lw_m7 226 rfl) rfl
theorem q1776 : (Jvm.Cond.selects "SharedWindowModel" ({ cls := "SharedWindowModel", name := "sale", desc := "(II)I" } : Jvm.MethodName) ({ cls := "SharedWindowModel", name := "sale", desc := "(II)I" } : Jvm.MethodName)) ∈ lw_all := lw_g (lw_at lw_m7 227 rfl) rfl
theorem q1777 : (Jvm.Cond.code ({ cls := "SharedWindowModel", name := "sale", desc := "(II)I" } : Jvm.MethodName) prog_20_method_103_code (6 : Nat) (Option.some Jvm.ClassFile.FieldType.int)) ∈ lw_all := lw_g (lw_at lw_m7 228 rfl) rfl
theorem q1778 : (Jvm.Cond.methodLink "SharedWindowModel" (437 : Nat) ({ cls := "SharedWindowModel", name := "laysSale", desc := "(I)V" } : Jvm.MethodName)) ∈ lw_all := lw_g (lw_at lw_m7 229 rfl) rfl
theorem q1779 : (Jvm.Cond.privateMethod ({ cls := "SharedWindowModel", name := "laysSale", desc := "(I)V" } : Jvm.MethodName)) ∈ lw_tbl := lw_at lw_m7 230 rfl
theorem q1780 : (Jvm.Cond.instanceMethod ({ cls := "SharedWindowModel", name := "laysSale", desc := "(I)V" } : Jvm.MethodName)) ∈ lw_all := lw_g (lw_at lw_m7 231 rfl) rfl
theorem q1781 : (Jvm.Cond.code ({ cls := "SharedWindowModel", name := "laysSale", desc := "(I)V" } : Jvm.MethodName) prog_20_method_102_code (5 : Nat) (Option.none : Option Jvm.ClassFile.FieldType)) ∈ lw_all := lw_g (lw_at lw_m7 232 rfl) rfl
theorem q1783 : (Jvm.Cond.instanceMethod ({ cls := "SharedWindowModel", name := "rotas", desc := "(I)J" } : Jvm.MethodName)) ∈ lw_all := lw_g (lw_at lw_m7 234 rfl) rfl
theorem q1784 : (Jvm.Cond.selects "SharedWindowModel" ({ cls := "SharedWindowModel", name := "rotas", desc := "(I)J" } : Jvm.MethodName) ({ cls := "SharedWindowModel", name := "rotas", desc := "(I)J" } : Jvm.MethodName)) ∈ lw_all := lw_g (lw_at lw_m7 235 rfl) rfl
theorem q1785 : (Jvm.Cond.code ({ cls := "SharedWindowModel", name := "rotas", desc := "(I)J" } : Jvm.MethodName) prog_20_method_104_code (4 : Nat) (Option.some Jvm.ClassFile.FieldType.long)) ∈ lw_all := lw_g (lw_at lw_m7 236 rfl) rfl
theorem q1786 : (Jvm.Cond.constantLong "SharedWindowModel" (440 : Nat) (-1 : Int64)) ∈ lw_all := lw_g (lw_at lw_m7 237 rfl) rfl
theorem q1788 : (Jvm.Cond.instanceMethod ({ cls := "SharedWindowModel", name := "panes", desc := "(II)I" } : Jvm.MethodName)) ∈ lw_all := lw_g (lw_at lw_m7 239 rfl) rfl
theorem q1789 : (Jvm.Cond.selects "SharedWindowModel" ({ cls := "SharedWindowModel", name := "panes", desc := "(II)I" } : Jvm.MethodName) ({ cls := "SharedWindowModel", name := "panes", desc := "(II)I" } : Jvm.MethodName)) ∈ lw_all := lw_g (lw_at lw_m8 0 rfl) rfl
theorem q1790 : (Jvm.Cond.code ({ cls := "SharedWindowModel", name := "panes", desc := "(II)I" } : Jvm.MethodName) prog_20_method_107_code (8 : Nat) (Option.some Jvm.ClassFile.FieldType.int)) ∈ lw_all := lw_g (lw_at lw_m8 1 rfl) rfl
theorem q1791 : (Jvm.Cond.methodLink "SharedWindowModel" (445 : Nat) ({ cls := "SharedWindowModel", name := "tallFrom", desc := "(IIII)I" } : Jvm.MethodName)) ∈ lw_all := lw_g (lw_at lw_m8 2 rfl) rfl
theorem q1792 : (Jvm.Cond.privateMethod ({ cls := "SharedWindowModel", name := "tallFrom", desc := "(IIII)I" } : Jvm.MethodName)) ∈ lw_tbl := lw_at lw_m8 3 rfl
theorem q1793 : (Jvm.Cond.instanceMethod ({ cls := "SharedWindowModel", name := "tallFrom", desc := "(IIII)I" } : Jvm.MethodName)) ∈ lw_all := lw_g (lw_at lw_m8 4 rfl) rfl
theorem q1794 : (Jvm.Cond.code ({ cls := "SharedWindowModel", name := "tallFrom", desc := "(IIII)I" } : Jvm.MethodName) prog_20_method_106_code (6 : Nat) (Option.some Jvm.ClassFile.FieldType.int)) ∈ lw_all := lw_g (lw_at lw_m8 5 rfl) rfl
theorem q1795 : (Jvm.Cond.methodLink "SharedWindowModel" (442 : Nat) ({ cls := "SharedWindowModel", name := "areClear", desc := "(III)Z" } : Jvm.MethodName)) ∈ lw_all := lw_g (lw_at lw_m8 6 rfl) rfl
theorem q1796 : (Jvm.Cond.static ({ cls := "SharedWindowModel", name := "areClear", desc := "(III)Z" } : Jvm.MethodName)) ∈ lw_all := lw_g (lw_at lw_m8 7 rfl) rfl
theorem q1797 : (Jvm.Cond.code ({ cls := "SharedWindowModel", name := "areClear", desc := "(III)Z" } : Jvm.MethodName) prog_20_method_105_code (4 : Nat) (Option.some Jvm.ClassFile.FieldType.boolean)) ∈ lw_all := lw_g (lw_at lw_m8 8 rfl) rfl
theorem q1799 : (Jvm.Cond.instanceMethod ({ cls := "SharedWindowModel", name := "keepIt", desc := "(II)I" } : Jvm.MethodName)) ∈ lw_all := lw_g (lw_at lw_m8 10 rfl) rfl
theorem q1800 : (Jvm.Cond.selects "SharedWindowModel" ({ cls := "SharedWindowModel", name := "keepIt", desc := "(II)I" } : Jvm.MethodName) ({ cls := "SharedWindowModel", name := "keepIt", desc := "(II)I" } : Jvm.MethodName)) ∈ lw_all := lw_g (lw_at lw_m8 11 rfl) rfl
theorem q1801 : (Jvm.Cond.code ({ cls := "SharedWindowModel", name := "keepIt", desc := "(II)I" } : Jvm.MethodName) prog_20_method_109_code (5 : Nat) (Option.some Jvm.ClassFile.FieldType.int)) ∈ lw_all := lw_g (lw_at lw_m8 12 rfl) rfl
theorem q1802 : (Jvm.Cond.methodLink "SharedWindowModel" (449 : Nat) ({ cls := "SharedWindowModel", name := "hasBy", desc := "(II)I" } : Jvm.MethodName)) ∈ lw_all := lw_g (lw_at lw_m8 13 rfl) rfl
theorem q1803 : (Jvm.Cond.privateMethod ({ cls := "SharedWindowModel", name := "hasBy", desc := "(II)I" } : Jvm.MethodName)) ∈ lw_tbl := lw_at lw_m8 14 rfl
theorem q1804 : (Jvm.Cond.instanceMethod ({ cls := "SharedWindowModel", name := "hasBy", desc := "(II)I" } : Jvm.MethodName)) ∈ lw_all := lw_g (lw_at lw_m8 15 rfl) rfl
theorem q1805 : (Jvm.Cond.code ({ cls := "SharedWindowModel", name := "hasBy", desc := "(II)I" } : Jvm.MethodName) prog_20_method_108_code (5 : Nat) (Option.some Jvm.ClassFile.FieldType.int)) ∈ lw_all := lw_g (lw_at lw_m8 16 rfl) rfl
theorem q1807 : (Jvm.Cond.instanceMethod ({ cls := "SharedWindowModel", name := "seed", desc := "(I)Z" } : Jvm.MethodName)) ∈ lw_all := lw_g (lw_at lw_m8 18 rfl) rfl
theorem q1808 : (Jvm.Cond.selects "SharedWindowModel" ({ cls := "SharedWindowModel", name := "seed", desc := "(I)Z" } : Jvm.MethodName) ({ cls := "SharedWindowModel", name := "seed", desc := "(I)Z" } : Jvm.MethodName)) ∈ lw_all := lw_g (lw_at lw_m8 19 rfl) rfl
theorem q1809 : (Jvm.Cond.code ({ cls := "SharedWindowModel", name := "seed", desc := "(I)Z" } : Jvm.MethodName) prog_20_method_110_code (2 : Nat) (Option.some Jvm.ClassFile.FieldType.boolean)) ∈ lw_all := lw_g (lw_at lw_m8 20 rfl) rfl
theorem q1811 : (Jvm.Cond.instanceMethod ({ cls := "SharedWindowModel", name := "keep", desc := "()I" } : Jvm.MethodName)) ∈ lw_all := lw_g (lw_at lw_m8 22 rfl) rfl
theorem q1812 : (Jvm.Cond.selects "SharedWindowModel" ({ cls := "SharedWindowModel", name := "keep", desc := "()I" } : Jvm.MethodName) ({ cls := "SharedWindowModel", name := "keep", desc := "()I" } : Jvm.MethodName)) ∈ lw_all := lw_g (lw_at lw_m8 23 rfl) rfl
theorem q1813 : (Jvm.Cond.code ({ cls := "SharedWindowModel", name := "keep", desc := "()I" } : Jvm.MethodName) prog_20_method_111_code (1 : Nat) (Option.some Jvm.ClassFile.FieldType.int)) ∈ lw_all := lw_g (lw_at lw_m8 24 rfl) rfl
theorem q1815 : (Jvm.Cond.instanceMethod ({ cls := "SharedWindowModel", name := "undo", desc := "()Z" } : Jvm.MethodName)) ∈ lw_all := lw_g (lw_at lw_m8 26 rfl) rfl
theorem q1816 : (Jvm.Cond.selects "SharedWindowModel" ({ cls := "SharedWindowModel", name := "undo", desc := "()Z" } : Jvm.MethodName) ({ cls := "SharedWindowModel", name := "undo", desc := "()Z" } : Jvm.MethodName)) ∈ lw_all := lw_g (lw_at lw_m8 27 rfl) rfl
theorem q1817 : (Jvm.Cond.code ({ cls := "SharedWindowModel", name := "undo", desc := "()Z" } : Jvm.MethodName) prog_20_method_112_code (2 : Nat) (Option.some Jvm.ClassFile.FieldType.boolean)) ∈ lw_all := lw_g (lw_at lw_m8 28 rfl) rfl
theorem q1819 : (Jvm.Cond.instanceMethod ({ cls := "SharedWindowModel", name := "check", desc := "(I)I" } : Jvm.MethodName)) ∈ lw_all := lw_g (lw_at lw_m8 30 rfl) rfl
theorem q1820 : (Jvm.Cond.selects "SharedWindowModel" ({ cls := "SharedWindowModel", name := "check", desc := "(I)I" } : Jvm.MethodName) ({ cls := "SharedWindowModel", name := "check", desc := "(I)I" } : Jvm.MethodName)) ∈ lw_all := lw_g (lw_at lw_m8 31 rfl) rfl
theorem q1821 : (Jvm.Cond.code ({ cls := "SharedWindowModel", name := "check", desc := "(I)I" } : Jvm.MethodName) prog_20_method_113_code (3 : Nat) (Option.some Jvm.ClassFile.FieldType.int)) ∈ lw_all := lw_g (lw_at lw_m8 32 rfl) rfl
theorem q1823 : (Jvm.Cond.instanceMethod ({ cls := "SharedWindowModel", name := "count", desc := "(I)I" } : Jvm.MethodName)) ∈ lw_all := lw_g (lw_at lw_m8 34 rfl) rfl
theorem q1824 : (Jvm.Cond.selects "SharedWindowModel" ({ cls := "SharedWindowModel", name := "count", desc := "(I)I" } : Jvm.MethodName) ({ cls := "SharedWindowModel", name := "count", desc := "(I)I" } : Jvm.MethodName)) ∈ lw_all := lw_g (lw_at lw_m8 35 rfl) rfl
theorem q1825 : (Jvm.Cond.code ({ cls := "SharedWindowModel", name := "count", desc := "(I)I" } : Jvm.MethodName) prog_20_method_114_code (2 : Nat) (Option.some Jvm.ClassFile.FieldType.int)) ∈ lw_all := lw_g (lw_at lw_m8 36 rfl) rfl
theorem in_X6 : ∀ w ∈ wsX60, w ∈ lw_all := lw_in wsX60 [1262, 1264, 1266, 1268, 1270, 1272, 1274, 1276, 1278, 1280, 1282, 1284, 1286, 1288, 1290, 1292, 1294, 1296, 1298, 1300, 1302, 1304, 1306, 1308, 1310, 1312, 1314, 1316, 1318, 1320, 1322, 1324, 1326, 1328, 1330, 1332, 1334, 1336, 1338, 1340, 1342, 1344, 1346, 1348, 1350, 1352, 1354, 1356, 1358, 1360, 1362, 1364, 1366, 1368, 1370, 1372, 1374, 1376, 1378, 1380, 1382] (by decide +kernel) (by decide +kernel)
