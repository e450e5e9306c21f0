/-! SharedWindow -/
set_option maxRecDepth 100000
def RX0 : String := "SharedWindow"
def TX0 : u_T := fun k => match k with
  | 0 => ("SharedWindow", "plan", "LSharedWindow$Plan;", true)
  | 1 => ("SharedWindow", "whose", "[I", true)
  | 2 => ("SharedWindow", "moment", "LSharedWindow$Moment;", true)
  | 3 => ("SharedWindow", "street", "LSharedWindow$Street;", true)
  | 4 => ("SharedWindow", "then", "LSharedWindow$Street;", true)
  | 5 => ("SharedWindow", "kept", "LSharedWindow$Street;", true)
  | 6 => ("SharedWindow", "tape", "[B", true)
  | 7 => ("SharedWindow", "law", "LSharedWindow$Text;", false)
  | 8 => ("SharedWindow", "taped", "I", false)
  | 9 => ("SharedWindow", "isKept", "Z", false)
  | 10 => ("SharedWindow", "least", "[[I", true)
  | 11 => ("SharedWindow", "lowest", "[[I", true)
  | 12 => ("SharedWindow", "newLeast", "[[I", true)
  | 13 => ("SharedWindow", "newLowest", "[[I", true)
  | 14 => ("SharedWindow", "ever", "[I", true)
  | 15 => ("SharedWindow", "end", "[[I", true)
  | 16 => ("SharedWindow", "taken", "[I", true)
  | 17 => ("SharedWindow", "sold", "[I", true)
  | 18 => ("SharedWindow", "mostWorth", "I", false)
  | _ => ("SharedWindow", "ways", "[J", true)
def tyX0 : Nat → FieldType := fun k => match k with
  | 0 => .object "SharedWindow$Plan"
  | 1 => .array .int
  | 2 => .object "SharedWindow$Moment"
  | 3 => .object "SharedWindow$Street"
  | 4 => .object "SharedWindow$Street"
  | 5 => .object "SharedWindow$Street"
  | 6 => .array .byte
  | 7 => .object "SharedWindow$Text"
  | 8 => .int
  | 9 => .boolean
  | 10 => .array (.array .int)
  | 11 => .array (.array .int)
  | 12 => .array (.array .int)
  | 13 => .array (.array .int)
  | 14 => .array .int
  | 15 => .array (.array .int)
  | 16 => .array .int
  | 17 => .array .int
  | 18 => .int
  | _ => .array .long
abbrev wsX00 : List Cond := u_ws RX0 TX0 20
set_option maxRecDepth 100000 in
theorem nmX0 : ∀ a, a < 20 → ∀ b, b < 20 → a ≠ b → (TX0 a).2.1 ≠ (TX0 b).2.1 := by decide +kernel
set_option maxRecDepth 100000 in
theorem tyX0_ok : ∀ k, k < 20 → parseFieldDescriptor (TX0 k).2.2.1 = some (tyX0 k) := by decide +kernel
abbrev cX0_init : ByteArray := prog_1_method_6_code
def yX0_init : MethodName := ⟨RX0, "<init>", "()V"⟩
def dkwX0_init_8 : List UInt8 := [180, 0, 25, 27, 2, 79, 132, 1, 1, 167, 255, 240, 42, 180, 0, 41, 4, 181, 0, 92, 177]
abbrev dktX0_init_8 : List UInt8 := dkwX0_init_8 ++ []
def dkwX0_init_7 : List UInt8 := [16, 8, 188, 10, 181, 0, 85, 42, 16, 14, 188, 11, 181, 0, 88, 3, 60, 27, 16, 12, 162, 0, 16, 42]
abbrev dktX0_init_7 : List UInt8 := dkwX0_init_7 ++ dktX0_init_8
def dkwX0_init_6 : List UInt8 := [181, 0, 76, 42, 16, 13, 16, 13, 197, 0, 62, 2, 181, 0, 79, 42, 16, 8, 188, 10, 181, 0, 82, 42]
abbrev dktX0_init_6 : List UInt8 := dkwX0_init_6 ++ dktX0_init_7
def dkwX0_init_5 : List UInt8 := [197, 0, 62, 2, 181, 0, 70, 42, 16, 64, 16, 17, 197, 0, 62, 2, 181, 0, 73, 42, 16, 16, 188, 10]
abbrev dktX0_init_5 : List UInt8 := dkwX0_init_5 ++ dktX0_init_6
def dkwX0_init_4 : List UInt8 := [197, 0, 62, 2, 181, 0, 64, 42, 16, 64, 16, 17, 197, 0, 62, 2, 181, 0, 67, 42, 16, 64, 16, 17]
abbrev dktX0_init_4 : List UInt8 := dkwX0_init_4 ++ dktX0_init_5
def dkwX0_init_3 : List UInt8 := [17, 1, 4, 188, 8, 181, 0, 51, 42, 187, 0, 55, 89, 183, 0, 57, 181, 0, 58, 42, 16, 64, 16, 17]
abbrev dktX0_init_3 : List UInt8 := dkwX0_init_3 ++ dktX0_init_4
def dkwX0_init_2 : List UInt8 := [187, 0, 36, 89, 42, 183, 0, 38, 181, 0, 45, 42, 187, 0, 36, 89, 42, 183, 0, 38, 181, 0, 48, 42]
abbrev dktX0_init_2 : List UInt8 := dkwX0_init_2 ++ dktX0_init_3
def dkwX0_init_1 : List UInt8 := [187, 0, 29, 89, 183, 0, 31, 181, 0, 32, 42, 187, 0, 36, 89, 42, 183, 0, 38, 181, 0, 41, 42]
abbrev dktX0_init_1 : List UInt8 := dkwX0_init_1 ++ dktX0_init_2
def dkwX0_init_0 : List UInt8 := [42, 183, 0, 12, 42, 187, 0, 18, 89, 183, 0, 20, 181, 0, 21, 42, 16, 12, 188, 10, 181, 0, 25, 42]
abbrev dktX0_init_0 : List UInt8 := dkwX0_init_0 ++ dktX0_init_1
theorem dksX0_init_0 : cX0_init.data.toList.drop 0 = dktX0_init_0 := by decide +kernel
theorem dksX0_init_1 : cX0_init.data.toList.drop 24 = dktX0_init_1 := dk_seg dksX0_init_0 24 rfl rfl
theorem dksX0_init_2 : cX0_init.data.toList.drop 47 = dktX0_init_2 := dk_seg dksX0_init_1 23 rfl rfl
theorem dksX0_init_3 : cX0_init.data.toList.drop 71 = dktX0_init_3 := dk_seg dksX0_init_2 24 rfl rfl
theorem dksX0_init_4 : cX0_init.data.toList.drop 95 = dktX0_init_4 := dk_seg dksX0_init_3 24 rfl rfl
theorem dksX0_init_5 : cX0_init.data.toList.drop 119 = dktX0_init_5 := dk_seg dksX0_init_4 24 rfl rfl
theorem dksX0_init_6 : cX0_init.data.toList.drop 143 = dktX0_init_6 := dk_seg dksX0_init_5 24 rfl rfl
theorem dksX0_init_7 : cX0_init.data.toList.drop 167 = dktX0_init_7 := dk_seg dksX0_init_6 24 rfl rfl
theorem dksX0_init_8 : cX0_init.data.toList.drop 191 = dktX0_init_8 := dk_seg dksX0_init_7 24 rfl rfl
theorem dX0_init_0 : decode cX0_init 0 = .ok (.aload_n 0, 1) := dk_42 (dk_at dksX0_init_0 0 rfl rfl)
theorem dX0_init_1 : decode cX0_init 1 = .ok (.invokespecial 12, 3) := dk_183 0 12 (dk_at dksX0_init_0 1 rfl rfl)
theorem dX0_init_4 : decode cX0_init 4 = .ok (.aload_n 0, 1) := dk_42 (dk_at dksX0_init_0 4 rfl rfl)
theorem dX0_init_5 : decode cX0_init 5 = .ok (.new 18, 3) := dk_187 0 18 (dk_at dksX0_init_0 5 rfl rfl)
theorem dX0_init_8 : decode cX0_init 8 = .ok (.dup, 1) := dk_89 (dk_at dksX0_init_0 8 rfl rfl)
theorem dX0_init_9 : decode cX0_init 9 = .ok (.invokespecial 20, 3) := dk_183 0 20 (dk_at dksX0_init_0 9 rfl rfl)
theorem dX0_init_12 : decode cX0_init 12 = .ok (.putfield 21, 3) := dk_181 0 21 (dk_at dksX0_init_0 12 rfl rfl)
theorem dX0_init_15 : decode cX0_init 15 = .ok (.aload_n 0, 1) := dk_42 (dk_at dksX0_init_0 15 rfl rfl)
theorem dX0_init_16 : decode cX0_init 16 = .ok (.bipush 12, 2) := dk_16 12 (dk_at dksX0_init_0 16 rfl rfl)
theorem dX0_init_18 : decode cX0_init 18 = .ok (.newarray .int, 2) := dk_188_10 (dk_at dksX0_init_0 18 rfl rfl)
theorem dX0_init_20 : decode cX0_init 20 = .ok (.putfield 25, 3) := dk_181 0 25 (dk_at dksX0_init_0 20 rfl rfl)
theorem dX0_init_23 : decode cX0_init 23 = .ok (.aload_n 0, 1) := dk_42 (dk_at dksX0_init_0 23 rfl rfl)
theorem dX0_init_24 : decode cX0_init 24 = .ok (.new 29, 3) := dk_187 0 29 (dk_at dksX0_init_1 0 rfl rfl)
theorem dX0_init_27 : decode cX0_init 27 = .ok (.dup, 1) := dk_89 (dk_at dksX0_init_1 3 rfl rfl)
theorem dX0_init_28 : decode cX0_init 28 = .ok (.invokespecial 31, 3) := dk_183 0 31 (dk_at dksX0_init_1 4 rfl rfl)
theorem dX0_init_31 : decode cX0_init 31 = .ok (.putfield 32, 3) := dk_181 0 32 (dk_at dksX0_init_1 7 rfl rfl)
theorem dX0_init_34 : decode cX0_init 34 = .ok (.aload_n 0, 1) := dk_42 (dk_at dksX0_init_1 10 rfl rfl)
theorem dX0_init_35 : decode cX0_init 35 = .ok (.new 36, 3) := dk_187 0 36 (dk_at dksX0_init_1 11 rfl rfl)
theorem dX0_init_38 : decode cX0_init 38 = .ok (.dup, 1) := dk_89 (dk_at dksX0_init_1 14 rfl rfl)
theorem dX0_init_39 : decode cX0_init 39 = .ok (.aload_n 0, 1) := dk_42 (dk_at dksX0_init_1 15 rfl rfl)
theorem dX0_init_40 : decode cX0_init 40 = .ok (.invokespecial 38, 3) := dk_183 0 38 (dk_at dksX0_init_1 16 rfl rfl)
theorem dX0_init_43 : decode cX0_init 43 = .ok (.putfield 41, 3) := dk_181 0 41 (dk_at dksX0_init_1 19 rfl rfl)
theorem dX0_init_46 : decode cX0_init 46 = .ok (.aload_n 0, 1) := dk_42 (dk_at dksX0_init_1 22 rfl rfl)
theorem dX0_init_47 : decode cX0_init 47 = .ok (.new 36, 3) := dk_187 0 36 (dk_at dksX0_init_2 0 rfl rfl)
theorem dX0_init_50 : decode cX0_init 50 = .ok (.dup, 1) := dk_89 (dk_at dksX0_init_2 3 rfl rfl)
theorem dX0_init_51 : decode cX0_init 51 = .ok (.aload_n 0, 1) := dk_42 (dk_at dksX0_init_2 4 rfl rfl)
theorem dX0_init_52 : decode cX0_init 52 = .ok (.invokespecial 38, 3) := dk_183 0 38 (dk_at dksX0_init_2 5 rfl rfl)
theorem dX0_init_55 : decode cX0_init 55 = .ok (.putfield 45, 3) := dk_181 0 45 (dk_at dksX0_init_2 8 rfl rfl)
theorem dX0_init_58 : decode cX0_init 58 = .ok (.aload_n 0, 1) := dk_42 (dk_at dksX0_init_2 11 rfl rfl)
theorem dX0_init_59 : decode cX0_init 59 = .ok (.new 36, 3) := dk_187 0 36 (dk_at dksX0_init_2 12 rfl rfl)
theorem dX0_init_62 : decode cX0_init 62 = .ok (.dup, 1) := dk_89 (dk_at dksX0_init_2 15 rfl rfl)
theorem dX0_init_63 : decode cX0_init 63 = .ok (.aload_n 0, 1) := dk_42 (dk_at dksX0_init_2 16 rfl rfl)
theorem dX0_init_64 : decode cX0_init 64 = .ok (.invokespecial 38, 3) := dk_183 0 38 (dk_at dksX0_init_2 17 rfl rfl)
theorem dX0_init_67 : decode cX0_init 67 = .ok (.putfield 48, 3) := dk_181 0 48 (dk_at dksX0_init_2 20 rfl rfl)
theorem dX0_init_70 : decode cX0_init 70 = .ok (.aload_n 0, 1) := dk_42 (dk_at dksX0_init_2 23 rfl rfl)
theorem dX0_init_71 : decode cX0_init 71 = .ok (.sipush 260, 3) := dk_17 1 4 (dk_at dksX0_init_3 0 rfl rfl)
theorem dX0_init_74 : decode cX0_init 74 = .ok (.newarray .byte, 2) := dk_188_8 (dk_at dksX0_init_3 3 rfl rfl)
theorem dX0_init_76 : decode cX0_init 76 = .ok (.putfield 51, 3) := dk_181 0 51 (dk_at dksX0_init_3 5 rfl rfl)
theorem dX0_init_79 : decode cX0_init 79 = .ok (.aload_n 0, 1) := dk_42 (dk_at dksX0_init_3 8 rfl rfl)
theorem dX0_init_80 : decode cX0_init 80 = .ok (.new 55, 3) := dk_187 0 55 (dk_at dksX0_init_3 9 rfl rfl)
theorem dX0_init_83 : decode cX0_init 83 = .ok (.dup, 1) := dk_89 (dk_at dksX0_init_3 12 rfl rfl)
theorem dX0_init_84 : decode cX0_init 84 = .ok (.invokespecial 57, 3) := dk_183 0 57 (dk_at dksX0_init_3 13 rfl rfl)
theorem dX0_init_87 : decode cX0_init 87 = .ok (.putfield 58, 3) := dk_181 0 58 (dk_at dksX0_init_3 16 rfl rfl)
theorem dX0_init_90 : decode cX0_init 90 = .ok (.aload_n 0, 1) := dk_42 (dk_at dksX0_init_3 19 rfl rfl)
theorem dX0_init_91 : decode cX0_init 91 = .ok (.bipush 64, 2) := dk_16 64 (dk_at dksX0_init_3 20 rfl rfl)
theorem dX0_init_93 : decode cX0_init 93 = .ok (.bipush 17, 2) := dk_16 17 (dk_at dksX0_init_3 22 rfl rfl)
theorem dX0_init_95 : decode cX0_init 95 = .ok (.multianewarray 62 2, 4) := by decide +kernel
theorem dX0_init_99 : decode cX0_init 99 = .ok (.putfield 64, 3) := dk_181 0 64 (dk_at dksX0_init_4 4 rfl rfl)
theorem dX0_init_102 : decode cX0_init 102 = .ok (.aload_n 0, 1) := dk_42 (dk_at dksX0_init_4 7 rfl rfl)
theorem dX0_init_103 : decode cX0_init 103 = .ok (.bipush 64, 2) := dk_16 64 (dk_at dksX0_init_4 8 rfl rfl)
theorem dX0_init_105 : decode cX0_init 105 = .ok (.bipush 17, 2) := dk_16 17 (dk_at dksX0_init_4 10 rfl rfl)
theorem dX0_init_107 : decode cX0_init 107 = .ok (.multianewarray 62 2, 4) := by decide +kernel
theorem dX0_init_111 : decode cX0_init 111 = .ok (.putfield 67, 3) := dk_181 0 67 (dk_at dksX0_init_4 16 rfl rfl)
theorem dX0_init_114 : decode cX0_init 114 = .ok (.aload_n 0, 1) := dk_42 (dk_at dksX0_init_4 19 rfl rfl)
theorem dX0_init_115 : decode cX0_init 115 = .ok (.bipush 64, 2) := dk_16 64 (dk_at dksX0_init_4 20 rfl rfl)
theorem dX0_init_117 : decode cX0_init 117 = .ok (.bipush 17, 2) := dk_16 17 (dk_at dksX0_init_4 22 rfl rfl)
theorem dX0_init_119 : decode cX0_init 119 = .ok (.multianewarray 62 2, 4) := by decide +kernel
theorem dX0_init_123 : decode cX0_init 123 = .ok (.putfield 70, 3) := dk_181 0 70 (dk_at dksX0_init_5 4 rfl rfl)
theorem dX0_init_126 : decode cX0_init 126 = .ok (.aload_n 0, 1) := dk_42 (dk_at dksX0_init_5 7 rfl rfl)
theorem dX0_init_127 : decode cX0_init 127 = .ok (.bipush 64, 2) := dk_16 64 (dk_at dksX0_init_5 8 rfl rfl)
theorem dX0_init_129 : decode cX0_init 129 = .ok (.bipush 17, 2) := dk_16 17 (dk_at dksX0_init_5 10 rfl rfl)
theorem dX0_init_131 : decode cX0_init 131 = .ok (.multianewarray 62 2, 4) := by decide +kernel
theorem dX0_init_135 : decode cX0_init 135 = .ok (.putfield 73, 3) := dk_181 0 73 (dk_at dksX0_init_5 16 rfl rfl)
theorem dX0_init_138 : decode cX0_init 138 = .ok (.aload_n 0, 1) := dk_42 (dk_at dksX0_init_5 19 rfl rfl)
theorem dX0_init_139 : decode cX0_init 139 = .ok (.bipush 16, 2) := dk_16 16 (dk_at dksX0_init_5 20 rfl rfl)
theorem dX0_init_141 : decode cX0_init 141 = .ok (.newarray .int, 2) := dk_188_10 (dk_at dksX0_init_5 22 rfl rfl)
theorem dX0_init_143 : decode cX0_init 143 = .ok (.putfield 76, 3) := dk_181 0 76 (dk_at dksX0_init_6 0 rfl rfl)
theorem dX0_init_146 : decode cX0_init 146 = .ok (.aload_n 0, 1) := dk_42 (dk_at dksX0_init_6 3 rfl rfl)
theorem dX0_init_147 : decode cX0_init 147 = .ok (.bipush 13, 2) := dk_16 13 (dk_at dksX0_init_6 4 rfl rfl)
theorem dX0_init_149 : decode cX0_init 149 = .ok (.bipush 13, 2) := dk_16 13 (dk_at dksX0_init_6 6 rfl rfl)
theorem dX0_init_151 : decode cX0_init 151 = .ok (.multianewarray 62 2, 4) := by decide +kernel
theorem dX0_init_155 : decode cX0_init 155 = .ok (.putfield 79, 3) := dk_181 0 79 (dk_at dksX0_init_6 12 rfl rfl)
theorem dX0_init_158 : decode cX0_init 158 = .ok (.aload_n 0, 1) := dk_42 (dk_at dksX0_init_6 15 rfl rfl)
theorem dX0_init_159 : decode cX0_init 159 = .ok (.bipush 8, 2) := dk_16 8 (dk_at dksX0_init_6 16 rfl rfl)
theorem dX0_init_161 : decode cX0_init 161 = .ok (.newarray .int, 2) := dk_188_10 (dk_at dksX0_init_6 18 rfl rfl)
theorem dX0_init_163 : decode cX0_init 163 = .ok (.putfield 82, 3) := dk_181 0 82 (dk_at dksX0_init_6 20 rfl rfl)
theorem dX0_init_166 : decode cX0_init 166 = .ok (.aload_n 0, 1) := dk_42 (dk_at dksX0_init_6 23 rfl rfl)
theorem dX0_init_167 : decode cX0_init 167 = .ok (.bipush 8, 2) := dk_16 8 (dk_at dksX0_init_7 0 rfl rfl)
theorem dX0_init_169 : decode cX0_init 169 = .ok (.newarray .int, 2) := dk_188_10 (dk_at dksX0_init_7 2 rfl rfl)
theorem dX0_init_171 : decode cX0_init 171 = .ok (.putfield 85, 3) := dk_181 0 85 (dk_at dksX0_init_7 4 rfl rfl)
theorem dX0_init_174 : decode cX0_init 174 = .ok (.aload_n 0, 1) := dk_42 (dk_at dksX0_init_7 7 rfl rfl)
theorem dX0_init_175 : decode cX0_init 175 = .ok (.bipush 14, 2) := dk_16 14 (dk_at dksX0_init_7 8 rfl rfl)
theorem dX0_init_177 : decode cX0_init 177 = .ok (.newarray .long, 2) := dk_188_11 (dk_at dksX0_init_7 10 rfl rfl)
theorem dX0_init_179 : decode cX0_init 179 = .ok (.putfield 88, 3) := dk_181 0 88 (dk_at dksX0_init_7 12 rfl rfl)
theorem dX0_init_182 : decode cX0_init 182 = .ok (.iconst 0, 1) := dk_3 (dk_at dksX0_init_7 15 rfl rfl)
theorem dX0_init_183 : decode cX0_init 183 = .ok (.istore_n 1, 1) := dk_60 (dk_at dksX0_init_7 16 rfl rfl)
theorem dX0_init_184 : decode cX0_init 184 = .ok (.iload_n 1, 1) := dk_27 (dk_at dksX0_init_7 17 rfl rfl)
theorem dX0_init_185 : decode cX0_init 185 = .ok (.bipush 12, 2) := dk_16 12 (dk_at dksX0_init_7 18 rfl rfl)
theorem dX0_init_187 : decode cX0_init 187 = .ok (.if_icmp .ge 16, 3) := dk_162 0 16 (dk_at dksX0_init_7 20 rfl rfl)
theorem dX0_init_190 : decode cX0_init 190 = .ok (.aload_n 0, 1) := dk_42 (dk_at dksX0_init_7 23 rfl rfl)
theorem dX0_init_191 : decode cX0_init 191 = .ok (.getfield 25, 3) := dk_180 0 25 (dk_at dksX0_init_8 0 rfl rfl)
theorem dX0_init_194 : decode cX0_init 194 = .ok (.iload_n 1, 1) := dk_27 (dk_at dksX0_init_8 3 rfl rfl)
theorem dX0_init_195 : decode cX0_init 195 = .ok (.iconst (-1), 1) := dk_2 (dk_at dksX0_init_8 4 rfl rfl)
theorem dX0_init_196 : decode cX0_init 196 = .ok (.iastore, 1) := dk_79 (dk_at dksX0_init_8 5 rfl rfl)
theorem dX0_init_197 : decode cX0_init 197 = .ok (.iinc 1 1, 3) := dk_132 1 1 (dk_at dksX0_init_8 6 rfl rfl)
theorem dX0_init_200 : decode cX0_init 200 = .ok (.goto (-16), 3) := dk_167 255 240 (dk_at dksX0_init_8 9 rfl rfl)
theorem dX0_init_203 : decode cX0_init 203 = .ok (.aload_n 0, 1) := dk_42 (dk_at dksX0_init_8 12 rfl rfl)
theorem dX0_init_204 : decode cX0_init 204 = .ok (.getfield 41, 3) := dk_180 0 41 (dk_at dksX0_init_8 13 rfl rfl)
theorem dX0_init_207 : decode cX0_init 207 = .ok (.iconst 1, 1) := dk_4 (dk_at dksX0_init_8 16 rfl rfl)
theorem dX0_init_208 : decode cX0_init 208 = .ok (.putfield 92, 3) := dk_181 0 92 (dk_at dksX0_init_8 17 rfl rfl)
theorem dX0_init_211 : decode cX0_init 211 = .ok (.return_, 1) := dk_177 (dk_at dksX0_init_8 20 rfl rfl)
abbrev cX0_turn : ByteArray := prog_1_method_8_code
def yX0_turn : MethodName := ⟨RX0, "turn", "(II)Z"⟩
def dkwX0_turn_1 : List UInt8 := [172, 42, 180, 0, 25, 27, 28, 79, 4, 172]
abbrev dktX0_turn_1 : List UInt8 := dkwX0_turn_1 ++ []
def dkwX0_turn_0 : List UInt8 := [27, 184, 0, 100, 153, 0, 19, 28, 2, 159, 0, 16, 42, 180, 0, 21, 28, 182, 0, 104, 154, 0, 5, 3]
abbrev dktX0_turn_0 : List UInt8 := dkwX0_turn_0 ++ dktX0_turn_1
theorem dksX0_turn_0 : cX0_turn.data.toList.drop 0 = dktX0_turn_0 := by decide +kernel
theorem dksX0_turn_1 : cX0_turn.data.toList.drop 24 = dktX0_turn_1 := dk_seg dksX0_turn_0 24 rfl rfl
theorem dX0_turn_0 : decode cX0_turn 0 = .ok (.iload_n 1, 1) := dk_27 (dk_at dksX0_turn_0 0 rfl rfl)
theorem dX0_turn_1 : decode cX0_turn 1 = .ok (.invokestatic 100, 3) := dk_184 0 100 (dk_at dksX0_turn_0 1 rfl rfl)
theorem dX0_turn_4 : decode cX0_turn 4 = .ok (.ifCond .eq 19, 3) := dk_153 0 19 (dk_at dksX0_turn_0 4 rfl rfl)
theorem dX0_turn_7 : decode cX0_turn 7 = .ok (.iload_n 2, 1) := dk_28 (dk_at dksX0_turn_0 7 rfl rfl)
theorem dX0_turn_8 : decode cX0_turn 8 = .ok (.iconst (-1), 1) := dk_2 (dk_at dksX0_turn_0 8 rfl rfl)
theorem dX0_turn_9 : decode cX0_turn 9 = .ok (.if_icmp .eq 16, 3) := dk_159 0 16 (dk_at dksX0_turn_0 9 rfl rfl)
theorem dX0_turn_12 : decode cX0_turn 12 = .ok (.aload_n 0, 1) := dk_42 (dk_at dksX0_turn_0 12 rfl rfl)
theorem dX0_turn_13 : decode cX0_turn 13 = .ok (.getfield 21, 3) := dk_180 0 21 (dk_at dksX0_turn_0 13 rfl rfl)
theorem dX0_turn_16 : decode cX0_turn 16 = .ok (.iload_n 2, 1) := dk_28 (dk_at dksX0_turn_0 16 rfl rfl)
theorem dX0_turn_17 : decode cX0_turn 17 = .ok (.invokevirtual 104, 3) := dk_182 0 104 (dk_at dksX0_turn_0 17 rfl rfl)
theorem dX0_turn_20 : decode cX0_turn 20 = .ok (.ifCond .ne 5, 3) := dk_154 0 5 (dk_at dksX0_turn_0 20 rfl rfl)
theorem dX0_turn_23 : decode cX0_turn 23 = .ok (.iconst 0, 1) := dk_3 (dk_at dksX0_turn_0 23 rfl rfl)
theorem dX0_turn_24 : decode cX0_turn 24 = .ok (.ireturn, 1) := dk_172 (dk_at dksX0_turn_1 0 rfl rfl)
theorem dX0_turn_25 : decode cX0_turn 25 = .ok (.aload_n 0, 1) := dk_42 (dk_at dksX0_turn_1 1 rfl rfl)
theorem dX0_turn_26 : decode cX0_turn 26 = .ok (.getfield 25, 3) := dk_180 0 25 (dk_at dksX0_turn_1 2 rfl rfl)
theorem dX0_turn_29 : decode cX0_turn 29 = .ok (.iload_n 1, 1) := dk_27 (dk_at dksX0_turn_1 5 rfl rfl)
theorem dX0_turn_30 : decode cX0_turn 30 = .ok (.iload_n 2, 1) := dk_28 (dk_at dksX0_turn_1 6 rfl rfl)
theorem dX0_turn_31 : decode cX0_turn 31 = .ok (.iastore, 1) := dk_79 (dk_at dksX0_turn_1 7 rfl rfl)
theorem dX0_turn_32 : decode cX0_turn 32 = .ok (.iconst 1, 1) := dk_4 (dk_at dksX0_turn_1 8 rfl rfl)
theorem dX0_turn_33 : decode cX0_turn 33 = .ok (.ireturn, 1) := dk_172 (dk_at dksX0_turn_1 9 rfl rfl)
abbrev cX0_isTurn : ByteArray := prog_1_method_7_code
def yX0_isTurn : MethodName := ⟨RX0, "isTurn", "(I)Z"⟩
def dkwX0_isTurn_0 : List UInt8 := [26, 16, 12, 184, 0, 96, 172]
abbrev dktX0_isTurn_0 : List UInt8 := dkwX0_isTurn_0 ++ []
theorem dksX0_isTurn_0 : cX0_isTurn.data.toList.drop 0 = dktX0_isTurn_0 := by decide +kernel
theorem dX0_isTurn_0 : decode cX0_isTurn 0 = .ok (.iload_n 0, 1) := dk_26 (dk_at dksX0_isTurn_0 0 rfl rfl)
theorem dX0_isTurn_1 : decode cX0_isTurn 1 = .ok (.bipush 12, 2) := dk_16 12 (dk_at dksX0_isTurn_0 1 rfl rfl)
theorem dX0_isTurn_3 : decode cX0_isTurn 3 = .ok (.invokestatic 96, 3) := dk_184 0 96 (dk_at dksX0_isTurn_0 3 rfl rfl)
theorem dX0_isTurn_6 : decode cX0_isTurn 6 = .ok (.ireturn, 1) := dk_172 (dk_at dksX0_isTurn_0 6 rfl rfl)
abbrev cX0_in : ByteArray := prog_1_method_1_code
def yX0_in : MethodName := ⟨RX0, "in", "(II)Z"⟩
def dkwX0_in_0 : List UInt8 := [26, 155, 0, 12, 26, 27, 162, 0, 7, 4, 167, 0, 4, 3, 172]
abbrev dktX0_in_0 : List UInt8 := dkwX0_in_0 ++ []
theorem dksX0_in_0 : cX0_in.data.toList.drop 0 = dktX0_in_0 := by decide +kernel
theorem dX0_in_0 : decode cX0_in 0 = .ok (.iload_n 0, 1) := dk_26 (dk_at dksX0_in_0 0 rfl rfl)
theorem dX0_in_1 : decode cX0_in 1 = .ok (.ifCond .lt 12, 3) := dk_155 0 12 (dk_at dksX0_in_0 1 rfl rfl)
theorem dX0_in_4 : decode cX0_in 4 = .ok (.iload_n 0, 1) := dk_26 (dk_at dksX0_in_0 4 rfl rfl)
theorem dX0_in_5 : decode cX0_in 5 = .ok (.iload_n 1, 1) := dk_27 (dk_at dksX0_in_0 5 rfl rfl)
theorem dX0_in_6 : decode cX0_in 6 = .ok (.if_icmp .ge 7, 3) := dk_162 0 7 (dk_at dksX0_in_0 6 rfl rfl)
theorem dX0_in_9 : decode cX0_in 9 = .ok (.iconst 1, 1) := dk_4 (dk_at dksX0_in_0 9 rfl rfl)
theorem dX0_in_10 : decode cX0_in 10 = .ok (.goto 4, 3) := dk_167 0 4 (dk_at dksX0_in_0 10 rfl rfl)
theorem dX0_in_13 : decode cX0_in 13 = .ok (.iconst 0, 1) := dk_3 (dk_at dksX0_in_0 13 rfl rfl)
theorem dX0_in_14 : decode cX0_in 14 = .ok (.ireturn, 1) := dk_172 (dk_at dksX0_in_0 14 rfl rfl)
abbrev cX0_feed : ByteArray := prog_1_method_10_code
def yX0_feed : MethodName := ⟨RX0, "feed", "(IIIII)I"⟩
def dkwX0_feed_2 : List UInt8 := [172]
abbrev dktX0_feed_2 : List UInt8 := dkwX0_feed_2 ++ []
def dkwX0_feed_1 : List UInt8 := [182, 0, 110, 42, 29, 182, 0, 110, 42, 21, 4, 182, 0, 110, 42, 21, 5, 182, 0, 110, 42, 180, 0, 107]
abbrev dktX0_feed_1 : List UInt8 := dkwX0_feed_1 ++ dktX0_feed_2
def dkwX0_feed_0 : List UInt8 := [42, 180, 0, 107, 16, 20, 96, 17, 1, 4, 164, 0, 5, 2, 172, 42, 27, 182, 0, 110, 42, 28]
abbrev dktX0_feed_0 : List UInt8 := dkwX0_feed_0 ++ dktX0_feed_1
theorem dksX0_feed_0 : cX0_feed.data.toList.drop 0 = dktX0_feed_0 := by decide +kernel
theorem dksX0_feed_1 : cX0_feed.data.toList.drop 22 = dktX0_feed_1 := dk_seg dksX0_feed_0 22 rfl rfl
theorem dksX0_feed_2 : cX0_feed.data.toList.drop 46 = dktX0_feed_2 := dk_seg dksX0_feed_1 24 rfl rfl
theorem dX0_feed_0 : decode cX0_feed 0 = .ok (.aload_n 0, 1) := dk_42 (dk_at dksX0_feed_0 0 rfl rfl)
theorem dX0_feed_1 : decode cX0_feed 1 = .ok (.getfield 107, 3) := dk_180 0 107 (dk_at dksX0_feed_0 1 rfl rfl)
theorem dX0_feed_4 : decode cX0_feed 4 = .ok (.bipush 20, 2) := dk_16 20 (dk_at dksX0_feed_0 4 rfl rfl)
theorem dX0_feed_6 : decode cX0_feed 6 = .ok (.iadd, 1) := dk_96 (dk_at dksX0_feed_0 6 rfl rfl)
theorem dX0_feed_7 : decode cX0_feed 7 = .ok (.sipush 260, 3) := dk_17 1 4 (dk_at dksX0_feed_0 7 rfl rfl)
theorem dX0_feed_10 : decode cX0_feed 10 = .ok (.if_icmp .le 5, 3) := dk_164 0 5 (dk_at dksX0_feed_0 10 rfl rfl)
theorem dX0_feed_13 : decode cX0_feed 13 = .ok (.iconst (-1), 1) := dk_2 (dk_at dksX0_feed_0 13 rfl rfl)
theorem dX0_feed_14 : decode cX0_feed 14 = .ok (.ireturn, 1) := dk_172 (dk_at dksX0_feed_0 14 rfl rfl)
theorem dX0_feed_15 : decode cX0_feed 15 = .ok (.aload_n 0, 1) := dk_42 (dk_at dksX0_feed_0 15 rfl rfl)
theorem dX0_feed_16 : decode cX0_feed 16 = .ok (.iload_n 1, 1) := dk_27 (dk_at dksX0_feed_0 16 rfl rfl)
theorem dX0_feed_17 : decode cX0_feed 17 = .ok (.invokevirtual 110, 3) := dk_182 0 110 (dk_at dksX0_feed_0 17 rfl rfl)
theorem dX0_feed_20 : decode cX0_feed 20 = .ok (.aload_n 0, 1) := dk_42 (dk_at dksX0_feed_0 20 rfl rfl)
theorem dX0_feed_21 : decode cX0_feed 21 = .ok (.iload_n 2, 1) := dk_28 (dk_at dksX0_feed_0 21 rfl rfl)
theorem dX0_feed_22 : decode cX0_feed 22 = .ok (.invokevirtual 110, 3) := dk_182 0 110 (dk_at dksX0_feed_1 0 rfl rfl)
theorem dX0_feed_25 : decode cX0_feed 25 = .ok (.aload_n 0, 1) := dk_42 (dk_at dksX0_feed_1 3 rfl rfl)
theorem dX0_feed_26 : decode cX0_feed 26 = .ok (.iload_n 3, 1) := dk_29 (dk_at dksX0_feed_1 4 rfl rfl)
theorem dX0_feed_27 : decode cX0_feed 27 = .ok (.invokevirtual 110, 3) := dk_182 0 110 (dk_at dksX0_feed_1 5 rfl rfl)
theorem dX0_feed_30 : decode cX0_feed 30 = .ok (.aload_n 0, 1) := dk_42 (dk_at dksX0_feed_1 8 rfl rfl)
theorem dX0_feed_31 : decode cX0_feed 31 = .ok (.iload 4, 2) := dk_21 4 (dk_at dksX0_feed_1 9 rfl rfl)
theorem dX0_feed_33 : decode cX0_feed 33 = .ok (.invokevirtual 110, 3) := dk_182 0 110 (dk_at dksX0_feed_1 11 rfl rfl)
theorem dX0_feed_36 : decode cX0_feed 36 = .ok (.aload_n 0, 1) := dk_42 (dk_at dksX0_feed_1 14 rfl rfl)
theorem dX0_feed_37 : decode cX0_feed 37 = .ok (.iload 5, 2) := dk_21 5 (dk_at dksX0_feed_1 15 rfl rfl)
theorem dX0_feed_39 : decode cX0_feed 39 = .ok (.invokevirtual 110, 3) := dk_182 0 110 (dk_at dksX0_feed_1 17 rfl rfl)
theorem dX0_feed_42 : decode cX0_feed 42 = .ok (.aload_n 0, 1) := dk_42 (dk_at dksX0_feed_1 20 rfl rfl)
theorem dX0_feed_43 : decode cX0_feed 43 = .ok (.getfield 107, 3) := dk_180 0 107 (dk_at dksX0_feed_1 21 rfl rfl)
theorem dX0_feed_46 : decode cX0_feed 46 = .ok (.ireturn, 1) := dk_172 (dk_at dksX0_feed_2 0 rfl rfl)
abbrev cX0_push : ByteArray := prog_1_method_9_code
def yX0_push : MethodName := ⟨RX0, "push", "(I)V"⟩
def dkwX0_push_1 : List UInt8 := [180, 0, 107, 4, 96, 181, 0, 107, 132, 2, 248, 167, 255, 226, 177]
abbrev dktX0_push_1 : List UInt8 := dkwX0_push_1 ++ []
def dkwX0_push_0 : List UInt8 := [16, 24, 61, 28, 155, 0, 32, 42, 180, 0, 51, 42, 180, 0, 107, 27, 28, 122, 145, 84, 42, 89]
abbrev dktX0_push_0 : List UInt8 := dkwX0_push_0 ++ dktX0_push_1
theorem dksX0_push_0 : cX0_push.data.toList.drop 0 = dktX0_push_0 := by decide +kernel
theorem dksX0_push_1 : cX0_push.data.toList.drop 22 = dktX0_push_1 := dk_seg dksX0_push_0 22 rfl rfl
theorem dX0_push_0 : decode cX0_push 0 = .ok (.bipush 24, 2) := dk_16 24 (dk_at dksX0_push_0 0 rfl rfl)
theorem dX0_push_2 : decode cX0_push 2 = .ok (.istore_n 2, 1) := dk_61 (dk_at dksX0_push_0 2 rfl rfl)
theorem dX0_push_3 : decode cX0_push 3 = .ok (.iload_n 2, 1) := dk_28 (dk_at dksX0_push_0 3 rfl rfl)
theorem dX0_push_4 : decode cX0_push 4 = .ok (.ifCond .lt 32, 3) := dk_155 0 32 (dk_at dksX0_push_0 4 rfl rfl)
theorem dX0_push_7 : decode cX0_push 7 = .ok (.aload_n 0, 1) := dk_42 (dk_at dksX0_push_0 7 rfl rfl)
theorem dX0_push_8 : decode cX0_push 8 = .ok (.getfield 51, 3) := dk_180 0 51 (dk_at dksX0_push_0 8 rfl rfl)
theorem dX0_push_11 : decode cX0_push 11 = .ok (.aload_n 0, 1) := dk_42 (dk_at dksX0_push_0 11 rfl rfl)
theorem dX0_push_12 : decode cX0_push 12 = .ok (.getfield 107, 3) := dk_180 0 107 (dk_at dksX0_push_0 12 rfl rfl)
theorem dX0_push_15 : decode cX0_push 15 = .ok (.iload_n 1, 1) := dk_27 (dk_at dksX0_push_0 15 rfl rfl)
theorem dX0_push_16 : decode cX0_push 16 = .ok (.iload_n 2, 1) := dk_28 (dk_at dksX0_push_0 16 rfl rfl)
theorem dX0_push_17 : decode cX0_push 17 = .ok (.ishr, 1) := dk_122 (dk_at dksX0_push_0 17 rfl rfl)
theorem dX0_push_18 : decode cX0_push 18 = .ok (.i2b, 1) := dk_145 (dk_at dksX0_push_0 18 rfl rfl)
theorem dX0_push_19 : decode cX0_push 19 = .ok (.bastore, 1) := dk_84 (dk_at dksX0_push_0 19 rfl rfl)
theorem dX0_push_20 : decode cX0_push 20 = .ok (.aload_n 0, 1) := dk_42 (dk_at dksX0_push_0 20 rfl rfl)
theorem dX0_push_21 : decode cX0_push 21 = .ok (.dup, 1) := dk_89 (dk_at dksX0_push_0 21 rfl rfl)
theorem dX0_push_22 : decode cX0_push 22 = .ok (.getfield 107, 3) := dk_180 0 107 (dk_at dksX0_push_1 0 rfl rfl)
theorem dX0_push_25 : decode cX0_push 25 = .ok (.iconst 1, 1) := dk_4 (dk_at dksX0_push_1 3 rfl rfl)
theorem dX0_push_26 : decode cX0_push 26 = .ok (.iadd, 1) := dk_96 (dk_at dksX0_push_1 4 rfl rfl)
theorem dX0_push_27 : decode cX0_push 27 = .ok (.putfield 107, 3) := dk_181 0 107 (dk_at dksX0_push_1 5 rfl rfl)
theorem dX0_push_30 : decode cX0_push 30 = .ok (.iinc 2 (-8), 3) := dk_132 2 248 (dk_at dksX0_push_1 8 rfl rfl)
theorem dX0_push_33 : decode cX0_push 33 = .ok (.goto (-30), 3) := dk_167 255 226 (dk_at dksX0_push_1 11 rfl rfl)
theorem dX0_push_36 : decode cX0_push 36 = .ok (.return_, 1) := dk_177 (dk_at dksX0_push_1 14 rfl rfl)
abbrev cX0_law : ByteArray := prog_1_method_11_code
def yX0_law : MethodName := ⟨RX0, "law", "(I)I"⟩
def dkwX0_law_2 : List UInt8 := [180, 0, 127, 181, 0, 58, 29, 172]
abbrev dktX0_law_2 : List UInt8 := dkwX0_law_2 ++ []
def dkwX0_law_1 : List UInt8 := [181, 0, 107, 187, 0, 118, 89, 42, 27, 183, 0, 120, 77, 44, 182, 0, 123, 62, 29, 155, 0, 11, 42, 44]
abbrev dktX0_law_1 : List UInt8 := dkwX0_law_1 ++ dktX0_law_2
def dkwX0_law_0 : List UInt8 := [27, 4, 17, 0, 240, 184, 0, 114, 153, 0, 11, 27, 42, 180, 0, 107, 164, 0, 5, 2, 172, 42, 3]
abbrev dktX0_law_0 : List UInt8 := dkwX0_law_0 ++ dktX0_law_1
theorem dksX0_law_0 : cX0_law.data.toList.drop 0 = dktX0_law_0 := by decide +kernel
theorem dksX0_law_1 : cX0_law.data.toList.drop 23 = dktX0_law_1 := dk_seg dksX0_law_0 23 rfl rfl
theorem dksX0_law_2 : cX0_law.data.toList.drop 47 = dktX0_law_2 := dk_seg dksX0_law_1 24 rfl rfl
theorem dX0_law_0 : decode cX0_law 0 = .ok (.iload_n 1, 1) := dk_27 (dk_at dksX0_law_0 0 rfl rfl)
theorem dX0_law_1 : decode cX0_law 1 = .ok (.iconst 1, 1) := dk_4 (dk_at dksX0_law_0 1 rfl rfl)
theorem dX0_law_2 : decode cX0_law 2 = .ok (.sipush 240, 3) := dk_17 0 240 (dk_at dksX0_law_0 2 rfl rfl)
theorem dX0_law_5 : decode cX0_law 5 = .ok (.invokestatic 114, 3) := dk_184 0 114 (dk_at dksX0_law_0 5 rfl rfl)
theorem dX0_law_8 : decode cX0_law 8 = .ok (.ifCond .eq 11, 3) := dk_153 0 11 (dk_at dksX0_law_0 8 rfl rfl)
theorem dX0_law_11 : decode cX0_law 11 = .ok (.iload_n 1, 1) := dk_27 (dk_at dksX0_law_0 11 rfl rfl)
theorem dX0_law_12 : decode cX0_law 12 = .ok (.aload_n 0, 1) := dk_42 (dk_at dksX0_law_0 12 rfl rfl)
theorem dX0_law_13 : decode cX0_law 13 = .ok (.getfield 107, 3) := dk_180 0 107 (dk_at dksX0_law_0 13 rfl rfl)
theorem dX0_law_16 : decode cX0_law 16 = .ok (.if_icmp .le 5, 3) := dk_164 0 5 (dk_at dksX0_law_0 16 rfl rfl)
theorem dX0_law_19 : decode cX0_law 19 = .ok (.iconst (-1), 1) := dk_2 (dk_at dksX0_law_0 19 rfl rfl)
theorem dX0_law_20 : decode cX0_law 20 = .ok (.ireturn, 1) := dk_172 (dk_at dksX0_law_0 20 rfl rfl)
theorem dX0_law_21 : decode cX0_law 21 = .ok (.aload_n 0, 1) := dk_42 (dk_at dksX0_law_0 21 rfl rfl)
theorem dX0_law_22 : decode cX0_law 22 = .ok (.iconst 0, 1) := dk_3 (dk_at dksX0_law_0 22 rfl rfl)
theorem dX0_law_23 : decode cX0_law 23 = .ok (.putfield 107, 3) := dk_181 0 107 (dk_at dksX0_law_1 0 rfl rfl)
theorem dX0_law_26 : decode cX0_law 26 = .ok (.new 118, 3) := dk_187 0 118 (dk_at dksX0_law_1 3 rfl rfl)
theorem dX0_law_29 : decode cX0_law 29 = .ok (.dup, 1) := dk_89 (dk_at dksX0_law_1 6 rfl rfl)
theorem dX0_law_30 : decode cX0_law 30 = .ok (.aload_n 0, 1) := dk_42 (dk_at dksX0_law_1 7 rfl rfl)
theorem dX0_law_31 : decode cX0_law 31 = .ok (.iload_n 1, 1) := dk_27 (dk_at dksX0_law_1 8 rfl rfl)
theorem dX0_law_32 : decode cX0_law 32 = .ok (.invokespecial 120, 3) := dk_183 0 120 (dk_at dksX0_law_1 9 rfl rfl)
theorem dX0_law_35 : decode cX0_law 35 = .ok (.astore_n 2, 1) := dk_77 (dk_at dksX0_law_1 12 rfl rfl)
theorem dX0_law_36 : decode cX0_law 36 = .ok (.aload_n 2, 1) := dk_44 (dk_at dksX0_law_1 13 rfl rfl)
theorem dX0_law_37 : decode cX0_law 37 = .ok (.invokevirtual 123, 3) := dk_182 0 123 (dk_at dksX0_law_1 14 rfl rfl)
theorem dX0_law_40 : decode cX0_law 40 = .ok (.istore_n 3, 1) := dk_62 (dk_at dksX0_law_1 17 rfl rfl)
theorem dX0_law_41 : decode cX0_law 41 = .ok (.iload_n 3, 1) := dk_29 (dk_at dksX0_law_1 18 rfl rfl)
theorem dX0_law_42 : decode cX0_law 42 = .ok (.ifCond .lt 11, 3) := dk_155 0 11 (dk_at dksX0_law_1 19 rfl rfl)
theorem dX0_law_45 : decode cX0_law 45 = .ok (.aload_n 0, 1) := dk_42 (dk_at dksX0_law_1 22 rfl rfl)
theorem dX0_law_46 : decode cX0_law 46 = .ok (.aload_n 2, 1) := dk_44 (dk_at dksX0_law_1 23 rfl rfl)
theorem dX0_law_47 : decode cX0_law 47 = .ok (.getfield 127, 3) := dk_180 0 127 (dk_at dksX0_law_2 0 rfl rfl)
theorem dX0_law_50 : decode cX0_law 50 = .ok (.putfield 58, 3) := dk_181 0 58 (dk_at dksX0_law_2 3 rfl rfl)
theorem dX0_law_53 : decode cX0_law 53 = .ok (.iload_n 3, 1) := dk_29 (dk_at dksX0_law_2 6 rfl rfl)
theorem dX0_law_54 : decode cX0_law 54 = .ok (.ireturn, 1) := dk_172 (dk_at dksX0_law_2 7 rfl rfl)
abbrev cX0_within : ByteArray := prog_1_method_2_code
def yX0_within : MethodName := ⟨RX0, "within", "(III)Z"⟩
def dkwX0_within_0 : List UInt8 := [26, 27, 161, 0, 12, 26, 28, 163, 0, 7, 4, 167, 0, 4, 3, 172]
abbrev dktX0_within_0 : List UInt8 := dkwX0_within_0 ++ []
theorem dksX0_within_0 : cX0_within.data.toList.drop 0 = dktX0_within_0 := by decide +kernel
theorem dX0_within_0 : decode cX0_within 0 = .ok (.iload_n 0, 1) := dk_26 (dk_at dksX0_within_0 0 rfl rfl)
theorem dX0_within_1 : decode cX0_within 1 = .ok (.iload_n 1, 1) := dk_27 (dk_at dksX0_within_0 1 rfl rfl)
theorem dX0_within_2 : decode cX0_within 2 = .ok (.if_icmp .lt 12, 3) := dk_161 0 12 (dk_at dksX0_within_0 2 rfl rfl)
theorem dX0_within_5 : decode cX0_within 5 = .ok (.iload_n 0, 1) := dk_26 (dk_at dksX0_within_0 5 rfl rfl)
theorem dX0_within_6 : decode cX0_within 6 = .ok (.iload_n 2, 1) := dk_28 (dk_at dksX0_within_0 6 rfl rfl)
theorem dX0_within_7 : decode cX0_within 7 = .ok (.if_icmp .gt 7, 3) := dk_163 0 7 (dk_at dksX0_within_0 7 rfl rfl)
theorem dX0_within_10 : decode cX0_within 10 = .ok (.iconst 1, 1) := dk_4 (dk_at dksX0_within_0 10 rfl rfl)
theorem dX0_within_11 : decode cX0_within 11 = .ok (.goto 4, 3) := dk_167 0 4 (dk_at dksX0_within_0 11 rfl rfl)
theorem dX0_within_14 : decode cX0_within 14 = .ok (.iconst 0, 1) := dk_3 (dk_at dksX0_within_0 14 rfl rfl)
theorem dX0_within_15 : decode cX0_within 15 = .ok (.ireturn, 1) := dk_172 (dk_at dksX0_within_0 15 rfl rfl)
abbrev cX0_terrace : ByteArray := prog_1_method_12_code
def yX0_terrace : MethodName := ⟨RX0, "terrace", "(I)I"⟩
def dkwX0_terrace_5 : List UInt8 := [29, 172]
abbrev dktX0_terrace_5 : List UInt8 := dkwX0_terrace_5 ++ []
def dkwX0_terrace_4 : List UInt8 := [182, 0, 104, 153, 0, 13, 42, 180, 0, 25, 21, 4, 46, 167, 0, 4, 2, 79, 132, 4, 1, 167, 255, 211]
abbrev dktX0_terrace_4 : List UInt8 := dkwX0_terrace_4 ++ dktX0_terrace_5
def dkwX0_terrace_3 : List UInt8 := [16, 12, 162, 0, 44, 42, 180, 0, 25, 21, 4, 42, 180, 0, 21, 42, 180, 0, 25, 21, 4, 46]
abbrev dktX0_terrace_3 : List UInt8 := dkwX0_terrace_3 ++ dktX0_terrace_4
def dkwX0_terrace_2 : List UInt8 := [42, 180, 0, 21, 44, 180, 0, 134, 182, 0, 137, 42, 180, 0, 41, 182, 0, 141, 3, 54, 4, 21, 4]
abbrev dktX0_terrace_2 : List UInt8 := dkwX0_terrace_2 ++ dktX0_terrace_3
def dkwX0_terrace_1 : List UInt8 := [181, 0, 107, 187, 0, 130, 89, 42, 27, 183, 0, 132, 77, 44, 182, 0, 133, 62, 29, 156, 0, 5, 29, 172]
abbrev dktX0_terrace_1 : List UInt8 := dkwX0_terrace_1 ++ dktX0_terrace_2
def dkwX0_terrace_0 : List UInt8 := [27, 4, 17, 0, 200, 184, 0, 114, 153, 0, 11, 27, 42, 180, 0, 107, 164, 0, 5, 2, 172, 42, 3]
abbrev dktX0_terrace_0 : List UInt8 := dkwX0_terrace_0 ++ dktX0_terrace_1
theorem dksX0_terrace_0 : cX0_terrace.data.toList.drop 0 = dktX0_terrace_0 := by decide +kernel
theorem dksX0_terrace_1 : cX0_terrace.data.toList.drop 23 = dktX0_terrace_1 := dk_seg dksX0_terrace_0 23 rfl rfl
theorem dksX0_terrace_2 : cX0_terrace.data.toList.drop 47 = dktX0_terrace_2 := dk_seg dksX0_terrace_1 24 rfl rfl
theorem dksX0_terrace_3 : cX0_terrace.data.toList.drop 70 = dktX0_terrace_3 := dk_seg dksX0_terrace_2 23 rfl rfl
theorem dksX0_terrace_4 : cX0_terrace.data.toList.drop 92 = dktX0_terrace_4 := dk_seg dksX0_terrace_3 22 rfl rfl
theorem dksX0_terrace_5 : cX0_terrace.data.toList.drop 116 = dktX0_terrace_5 := dk_seg dksX0_terrace_4 24 rfl rfl
theorem dX0_terrace_0 : decode cX0_terrace 0 = .ok (.iload_n 1, 1) := dk_27 (dk_at dksX0_terrace_0 0 rfl rfl)
theorem dX0_terrace_1 : decode cX0_terrace 1 = .ok (.iconst 1, 1) := dk_4 (dk_at dksX0_terrace_0 1 rfl rfl)
theorem dX0_terrace_2 : decode cX0_terrace 2 = .ok (.sipush 200, 3) := dk_17 0 200 (dk_at dksX0_terrace_0 2 rfl rfl)
theorem dX0_terrace_5 : decode cX0_terrace 5 = .ok (.invokestatic 114, 3) := dk_184 0 114 (dk_at dksX0_terrace_0 5 rfl rfl)
theorem dX0_terrace_8 : decode cX0_terrace 8 = .ok (.ifCond .eq 11, 3) := dk_153 0 11 (dk_at dksX0_terrace_0 8 rfl rfl)
theorem dX0_terrace_11 : decode cX0_terrace 11 = .ok (.iload_n 1, 1) := dk_27 (dk_at dksX0_terrace_0 11 rfl rfl)
theorem dX0_terrace_12 : decode cX0_terrace 12 = .ok (.aload_n 0, 1) := dk_42 (dk_at dksX0_terrace_0 12 rfl rfl)
theorem dX0_terrace_13 : decode cX0_terrace 13 = .ok (.getfield 107, 3) := dk_180 0 107 (dk_at dksX0_terrace_0 13 rfl rfl)
theorem dX0_terrace_16 : decode cX0_terrace 16 = .ok (.if_icmp .le 5, 3) := dk_164 0 5 (dk_at dksX0_terrace_0 16 rfl rfl)
theorem dX0_terrace_19 : decode cX0_terrace 19 = .ok (.iconst (-1), 1) := dk_2 (dk_at dksX0_terrace_0 19 rfl rfl)
theorem dX0_terrace_20 : decode cX0_terrace 20 = .ok (.ireturn, 1) := dk_172 (dk_at dksX0_terrace_0 20 rfl rfl)
theorem dX0_terrace_21 : decode cX0_terrace 21 = .ok (.aload_n 0, 1) := dk_42 (dk_at dksX0_terrace_0 21 rfl rfl)
theorem dX0_terrace_22 : decode cX0_terrace 22 = .ok (.iconst 0, 1) := dk_3 (dk_at dksX0_terrace_0 22 rfl rfl)
theorem dX0_terrace_23 : decode cX0_terrace 23 = .ok (.putfield 107, 3) := dk_181 0 107 (dk_at dksX0_terrace_1 0 rfl rfl)
theorem dX0_terrace_26 : decode cX0_terrace 26 = .ok (.new 130, 3) := dk_187 0 130 (dk_at dksX0_terrace_1 3 rfl rfl)
theorem dX0_terrace_29 : decode cX0_terrace 29 = .ok (.dup, 1) := dk_89 (dk_at dksX0_terrace_1 6 rfl rfl)
theorem dX0_terrace_30 : decode cX0_terrace 30 = .ok (.aload_n 0, 1) := dk_42 (dk_at dksX0_terrace_1 7 rfl rfl)
theorem dX0_terrace_31 : decode cX0_terrace 31 = .ok (.iload_n 1, 1) := dk_27 (dk_at dksX0_terrace_1 8 rfl rfl)
theorem dX0_terrace_32 : decode cX0_terrace 32 = .ok (.invokespecial 132, 3) := dk_183 0 132 (dk_at dksX0_terrace_1 9 rfl rfl)
theorem dX0_terrace_35 : decode cX0_terrace 35 = .ok (.astore_n 2, 1) := dk_77 (dk_at dksX0_terrace_1 12 rfl rfl)
theorem dX0_terrace_36 : decode cX0_terrace 36 = .ok (.aload_n 2, 1) := dk_44 (dk_at dksX0_terrace_1 13 rfl rfl)
theorem dX0_terrace_37 : decode cX0_terrace 37 = .ok (.invokevirtual 133, 3) := dk_182 0 133 (dk_at dksX0_terrace_1 14 rfl rfl)
theorem dX0_terrace_40 : decode cX0_terrace 40 = .ok (.istore_n 3, 1) := dk_62 (dk_at dksX0_terrace_1 17 rfl rfl)
theorem dX0_terrace_41 : decode cX0_terrace 41 = .ok (.iload_n 3, 1) := dk_29 (dk_at dksX0_terrace_1 18 rfl rfl)
theorem dX0_terrace_42 : decode cX0_terrace 42 = .ok (.ifCond .ge 5, 3) := dk_156 0 5 (dk_at dksX0_terrace_1 19 rfl rfl)
theorem dX0_terrace_45 : decode cX0_terrace 45 = .ok (.iload_n 3, 1) := dk_29 (dk_at dksX0_terrace_1 22 rfl rfl)
theorem dX0_terrace_46 : decode cX0_terrace 46 = .ok (.ireturn, 1) := dk_172 (dk_at dksX0_terrace_1 23 rfl rfl)
theorem dX0_terrace_47 : decode cX0_terrace 47 = .ok (.aload_n 0, 1) := dk_42 (dk_at dksX0_terrace_2 0 rfl rfl)
theorem dX0_terrace_48 : decode cX0_terrace 48 = .ok (.getfield 21, 3) := dk_180 0 21 (dk_at dksX0_terrace_2 1 rfl rfl)
theorem dX0_terrace_51 : decode cX0_terrace 51 = .ok (.aload_n 2, 1) := dk_44 (dk_at dksX0_terrace_2 4 rfl rfl)
theorem dX0_terrace_52 : decode cX0_terrace 52 = .ok (.getfield 134, 3) := dk_180 0 134 (dk_at dksX0_terrace_2 5 rfl rfl)
theorem dX0_terrace_55 : decode cX0_terrace 55 = .ok (.invokevirtual 137, 3) := dk_182 0 137 (dk_at dksX0_terrace_2 8 rfl rfl)
theorem dX0_terrace_58 : decode cX0_terrace 58 = .ok (.aload_n 0, 1) := dk_42 (dk_at dksX0_terrace_2 11 rfl rfl)
theorem dX0_terrace_59 : decode cX0_terrace 59 = .ok (.getfield 41, 3) := dk_180 0 41 (dk_at dksX0_terrace_2 12 rfl rfl)
theorem dX0_terrace_62 : decode cX0_terrace 62 = .ok (.invokevirtual 141, 3) := dk_182 0 141 (dk_at dksX0_terrace_2 15 rfl rfl)
theorem dX0_terrace_65 : decode cX0_terrace 65 = .ok (.iconst 0, 1) := dk_3 (dk_at dksX0_terrace_2 18 rfl rfl)
theorem dX0_terrace_66 : decode cX0_terrace 66 = .ok (.istore 4, 2) := dk_54 4 (dk_at dksX0_terrace_2 19 rfl rfl)
theorem dX0_terrace_68 : decode cX0_terrace 68 = .ok (.iload 4, 2) := dk_21 4 (dk_at dksX0_terrace_2 21 rfl rfl)
theorem dX0_terrace_70 : decode cX0_terrace 70 = .ok (.bipush 12, 2) := dk_16 12 (dk_at dksX0_terrace_3 0 rfl rfl)
theorem dX0_terrace_72 : decode cX0_terrace 72 = .ok (.if_icmp .ge 44, 3) := dk_162 0 44 (dk_at dksX0_terrace_3 2 rfl rfl)
theorem dX0_terrace_75 : decode cX0_terrace 75 = .ok (.aload_n 0, 1) := dk_42 (dk_at dksX0_terrace_3 5 rfl rfl)
theorem dX0_terrace_76 : decode cX0_terrace 76 = .ok (.getfield 25, 3) := dk_180 0 25 (dk_at dksX0_terrace_3 6 rfl rfl)
theorem dX0_terrace_79 : decode cX0_terrace 79 = .ok (.iload 4, 2) := dk_21 4 (dk_at dksX0_terrace_3 9 rfl rfl)
theorem dX0_terrace_81 : decode cX0_terrace 81 = .ok (.aload_n 0, 1) := dk_42 (dk_at dksX0_terrace_3 11 rfl rfl)
theorem dX0_terrace_82 : decode cX0_terrace 82 = .ok (.getfield 21, 3) := dk_180 0 21 (dk_at dksX0_terrace_3 12 rfl rfl)
theorem dX0_terrace_85 : decode cX0_terrace 85 = .ok (.aload_n 0, 1) := dk_42 (dk_at dksX0_terrace_3 15 rfl rfl)
theorem dX0_terrace_86 : decode cX0_terrace 86 = .ok (.getfield 25, 3) := dk_180 0 25 (dk_at dksX0_terrace_3 16 rfl rfl)
theorem dX0_terrace_89 : decode cX0_terrace 89 = .ok (.iload 4, 2) := dk_21 4 (dk_at dksX0_terrace_3 19 rfl rfl)
theorem dX0_terrace_91 : decode cX0_terrace 91 = .ok (.iaload, 1) := dk_46 (dk_at dksX0_terrace_3 21 rfl rfl)
theorem dX0_terrace_92 : decode cX0_terrace 92 = .ok (.invokevirtual 104, 3) := dk_182 0 104 (dk_at dksX0_terrace_4 0 rfl rfl)
theorem dX0_terrace_95 : decode cX0_terrace 95 = .ok (.ifCond .eq 13, 3) := dk_153 0 13 (dk_at dksX0_terrace_4 3 rfl rfl)
theorem dX0_terrace_98 : decode cX0_terrace 98 = .ok (.aload_n 0, 1) := dk_42 (dk_at dksX0_terrace_4 6 rfl rfl)
theorem dX0_terrace_99 : decode cX0_terrace 99 = .ok (.getfield 25, 3) := dk_180 0 25 (dk_at dksX0_terrace_4 7 rfl rfl)
theorem dX0_terrace_102 : decode cX0_terrace 102 = .ok (.iload 4, 2) := dk_21 4 (dk_at dksX0_terrace_4 10 rfl rfl)
theorem dX0_terrace_104 : decode cX0_terrace 104 = .ok (.iaload, 1) := dk_46 (dk_at dksX0_terrace_4 12 rfl rfl)
theorem dX0_terrace_105 : decode cX0_terrace 105 = .ok (.goto 4, 3) := dk_167 0 4 (dk_at dksX0_terrace_4 13 rfl rfl)
theorem dX0_terrace_108 : decode cX0_terrace 108 = .ok (.iconst (-1), 1) := dk_2 (dk_at dksX0_terrace_4 16 rfl rfl)
theorem dX0_terrace_109 : decode cX0_terrace 109 = .ok (.iastore, 1) := dk_79 (dk_at dksX0_terrace_4 17 rfl rfl)
theorem dX0_terrace_110 : decode cX0_terrace 110 = .ok (.iinc 4 1, 3) := dk_132 4 1 (dk_at dksX0_terrace_4 18 rfl rfl)
theorem dX0_terrace_113 : decode cX0_terrace 113 = .ok (.goto (-45), 3) := dk_167 255 211 (dk_at dksX0_terrace_4 21 rfl rfl)
theorem dX0_terrace_116 : decode cX0_terrace 116 = .ok (.iload_n 3, 1) := dk_29 (dk_at dksX0_terrace_5 0 rfl rfl)
theorem dX0_terrace_117 : decode cX0_terrace 117 = .ok (.ireturn, 1) := dk_172 (dk_at dksX0_terrace_5 1 rfl rfl)
abbrev cX0_rota : ByteArray := prog_1_method_13_code
def yX0_rota : MethodName := ⟨RX0, "rota", "(I)I"⟩
def dkwX0_rota_3 : List UInt8 := [180, 0, 148, 21, 4, 46, 167, 0, 4, 2, 79, 132, 4, 1, 167, 255, 222, 29, 172]
abbrev dktX0_rota_3 : List UInt8 := dkwX0_rota_3 ++ []
def dkwX0_rota_2 : List UInt8 := [3, 54, 4, 21, 4, 16, 12, 162, 0, 33, 42, 180, 0, 25, 21, 4, 21, 4, 29, 162, 0, 13, 44]
abbrev dktX0_rota_2 : List UInt8 := dkwX0_rota_2 ++ dktX0_rota_3
def dkwX0_rota_1 : List UInt8 := [181, 0, 107, 187, 0, 144, 89, 42, 27, 183, 0, 146, 77, 44, 182, 0, 147, 62, 29, 156, 0, 5, 29, 172]
abbrev dktX0_rota_1 : List UInt8 := dkwX0_rota_1 ++ dktX0_rota_2
def dkwX0_rota_0 : List UInt8 := [27, 4, 16, 60, 184, 0, 114, 153, 0, 11, 27, 42, 180, 0, 107, 164, 0, 5, 2, 172, 42, 3]
abbrev dktX0_rota_0 : List UInt8 := dkwX0_rota_0 ++ dktX0_rota_1
theorem dksX0_rota_0 : cX0_rota.data.toList.drop 0 = dktX0_rota_0 := by decide +kernel
theorem dksX0_rota_1 : cX0_rota.data.toList.drop 22 = dktX0_rota_1 := dk_seg dksX0_rota_0 22 rfl rfl
theorem dksX0_rota_2 : cX0_rota.data.toList.drop 46 = dktX0_rota_2 := dk_seg dksX0_rota_1 24 rfl rfl
theorem dksX0_rota_3 : cX0_rota.data.toList.drop 69 = dktX0_rota_3 := dk_seg dksX0_rota_2 23 rfl rfl
theorem dX0_rota_0 : decode cX0_rota 0 = .ok (.iload_n 1, 1) := dk_27 (dk_at dksX0_rota_0 0 rfl rfl)
theorem dX0_rota_1 : decode cX0_rota 1 = .ok (.iconst 1, 1) := dk_4 (dk_at dksX0_rota_0 1 rfl rfl)
theorem dX0_rota_2 : decode cX0_rota 2 = .ok (.bipush 60, 2) := dk_16 60 (dk_at dksX0_rota_0 2 rfl rfl)
theorem dX0_rota_4 : decode cX0_rota 4 = .ok (.invokestatic 114, 3) := dk_184 0 114 (dk_at dksX0_rota_0 4 rfl rfl)
theorem dX0_rota_7 : decode cX0_rota 7 = .ok (.ifCond .eq 11, 3) := dk_153 0 11 (dk_at dksX0_rota_0 7 rfl rfl)
theorem dX0_rota_10 : decode cX0_rota 10 = .ok (.iload_n 1, 1) := dk_27 (dk_at dksX0_rota_0 10 rfl rfl)
theorem dX0_rota_11 : decode cX0_rota 11 = .ok (.aload_n 0, 1) := dk_42 (dk_at dksX0_rota_0 11 rfl rfl)
theorem dX0_rota_12 : decode cX0_rota 12 = .ok (.getfield 107, 3) := dk_180 0 107 (dk_at dksX0_rota_0 12 rfl rfl)
theorem dX0_rota_15 : decode cX0_rota 15 = .ok (.if_icmp .le 5, 3) := dk_164 0 5 (dk_at dksX0_rota_0 15 rfl rfl)
theorem dX0_rota_18 : decode cX0_rota 18 = .ok (.iconst (-1), 1) := dk_2 (dk_at dksX0_rota_0 18 rfl rfl)
theorem dX0_rota_19 : decode cX0_rota 19 = .ok (.ireturn, 1) := dk_172 (dk_at dksX0_rota_0 19 rfl rfl)
theorem dX0_rota_20 : decode cX0_rota 20 = .ok (.aload_n 0, 1) := dk_42 (dk_at dksX0_rota_0 20 rfl rfl)
theorem dX0_rota_21 : decode cX0_rota 21 = .ok (.iconst 0, 1) := dk_3 (dk_at dksX0_rota_0 21 rfl rfl)
theorem dX0_rota_22 : decode cX0_rota 22 = .ok (.putfield 107, 3) := dk_181 0 107 (dk_at dksX0_rota_1 0 rfl rfl)
theorem dX0_rota_25 : decode cX0_rota 25 = .ok (.new 144, 3) := dk_187 0 144 (dk_at dksX0_rota_1 3 rfl rfl)
theorem dX0_rota_28 : decode cX0_rota 28 = .ok (.dup, 1) := dk_89 (dk_at dksX0_rota_1 6 rfl rfl)
theorem dX0_rota_29 : decode cX0_rota 29 = .ok (.aload_n 0, 1) := dk_42 (dk_at dksX0_rota_1 7 rfl rfl)
theorem dX0_rota_30 : decode cX0_rota 30 = .ok (.iload_n 1, 1) := dk_27 (dk_at dksX0_rota_1 8 rfl rfl)
theorem dX0_rota_31 : decode cX0_rota 31 = .ok (.invokespecial 146, 3) := dk_183 0 146 (dk_at dksX0_rota_1 9 rfl rfl)
theorem dX0_rota_34 : decode cX0_rota 34 = .ok (.astore_n 2, 1) := dk_77 (dk_at dksX0_rota_1 12 rfl rfl)
theorem dX0_rota_35 : decode cX0_rota 35 = .ok (.aload_n 2, 1) := dk_44 (dk_at dksX0_rota_1 13 rfl rfl)
theorem dX0_rota_36 : decode cX0_rota 36 = .ok (.invokevirtual 147, 3) := dk_182 0 147 (dk_at dksX0_rota_1 14 rfl rfl)
theorem dX0_rota_39 : decode cX0_rota 39 = .ok (.istore_n 3, 1) := dk_62 (dk_at dksX0_rota_1 17 rfl rfl)
theorem dX0_rota_40 : decode cX0_rota 40 = .ok (.iload_n 3, 1) := dk_29 (dk_at dksX0_rota_1 18 rfl rfl)
theorem dX0_rota_41 : decode cX0_rota 41 = .ok (.ifCond .ge 5, 3) := dk_156 0 5 (dk_at dksX0_rota_1 19 rfl rfl)
theorem dX0_rota_44 : decode cX0_rota 44 = .ok (.iload_n 3, 1) := dk_29 (dk_at dksX0_rota_1 22 rfl rfl)
theorem dX0_rota_45 : decode cX0_rota 45 = .ok (.ireturn, 1) := dk_172 (dk_at dksX0_rota_1 23 rfl rfl)
theorem dX0_rota_46 : decode cX0_rota 46 = .ok (.iconst 0, 1) := dk_3 (dk_at dksX0_rota_2 0 rfl rfl)
theorem dX0_rota_47 : decode cX0_rota 47 = .ok (.istore 4, 2) := dk_54 4 (dk_at dksX0_rota_2 1 rfl rfl)
theorem dX0_rota_49 : decode cX0_rota 49 = .ok (.iload 4, 2) := dk_21 4 (dk_at dksX0_rota_2 3 rfl rfl)
theorem dX0_rota_51 : decode cX0_rota 51 = .ok (.bipush 12, 2) := dk_16 12 (dk_at dksX0_rota_2 5 rfl rfl)
theorem dX0_rota_53 : decode cX0_rota 53 = .ok (.if_icmp .ge 33, 3) := dk_162 0 33 (dk_at dksX0_rota_2 7 rfl rfl)
theorem dX0_rota_56 : decode cX0_rota 56 = .ok (.aload_n 0, 1) := dk_42 (dk_at dksX0_rota_2 10 rfl rfl)
theorem dX0_rota_57 : decode cX0_rota 57 = .ok (.getfield 25, 3) := dk_180 0 25 (dk_at dksX0_rota_2 11 rfl rfl)
theorem dX0_rota_60 : decode cX0_rota 60 = .ok (.iload 4, 2) := dk_21 4 (dk_at dksX0_rota_2 14 rfl rfl)
theorem dX0_rota_62 : decode cX0_rota 62 = .ok (.iload 4, 2) := dk_21 4 (dk_at dksX0_rota_2 16 rfl rfl)
theorem dX0_rota_64 : decode cX0_rota 64 = .ok (.iload_n 3, 1) := dk_29 (dk_at dksX0_rota_2 18 rfl rfl)
theorem dX0_rota_65 : decode cX0_rota 65 = .ok (.if_icmp .ge 13, 3) := dk_162 0 13 (dk_at dksX0_rota_2 19 rfl rfl)
theorem dX0_rota_68 : decode cX0_rota 68 = .ok (.aload_n 2, 1) := dk_44 (dk_at dksX0_rota_2 22 rfl rfl)
theorem dX0_rota_69 : decode cX0_rota 69 = .ok (.getfield 148, 3) := dk_180 0 148 (dk_at dksX0_rota_3 0 rfl rfl)
theorem dX0_rota_72 : decode cX0_rota 72 = .ok (.iload 4, 2) := dk_21 4 (dk_at dksX0_rota_3 3 rfl rfl)
theorem dX0_rota_74 : decode cX0_rota 74 = .ok (.iaload, 1) := dk_46 (dk_at dksX0_rota_3 5 rfl rfl)
theorem dX0_rota_75 : decode cX0_rota 75 = .ok (.goto 4, 3) := dk_167 0 4 (dk_at dksX0_rota_3 6 rfl rfl)
theorem dX0_rota_78 : decode cX0_rota 78 = .ok (.iconst (-1), 1) := dk_2 (dk_at dksX0_rota_3 9 rfl rfl)
theorem dX0_rota_79 : decode cX0_rota 79 = .ok (.iastore, 1) := dk_79 (dk_at dksX0_rota_3 10 rfl rfl)
theorem dX0_rota_80 : decode cX0_rota 80 = .ok (.iinc 4 1, 3) := dk_132 4 1 (dk_at dksX0_rota_3 11 rfl rfl)
theorem dX0_rota_83 : decode cX0_rota 83 = .ok (.goto (-34), 3) := dk_167 255 222 (dk_at dksX0_rota_3 14 rfl rfl)
theorem dX0_rota_86 : decode cX0_rota 86 = .ok (.iload_n 3, 1) := dk_29 (dk_at dksX0_rota_3 17 rfl rfl)
theorem dX0_rota_87 : decode cX0_rota 87 = .ok (.ireturn, 1) := dk_172 (dk_at dksX0_rota_3 18 rfl rfl)
abbrev cX0_days : ByteArray := prog_1_method_14_code
def yX0_days : MethodName := ⟨RX0, "days", "(I)I"⟩
def dkwX0_days_1 : List UInt8 := [2, 172]
abbrev dktX0_days_1 : List UInt8 := dkwX0_days_1 ++ []
def dkwX0_days_0 : List UInt8 := [27, 4, 16, 100, 184, 0, 114, 153, 0, 17, 42, 180, 0, 41, 27, 182, 0, 151, 180, 0, 155, 167, 0, 4]
abbrev dktX0_days_0 : List UInt8 := dkwX0_days_0 ++ dktX0_days_1
theorem dksX0_days_0 : cX0_days.data.toList.drop 0 = dktX0_days_0 := by decide +kernel
theorem dksX0_days_1 : cX0_days.data.toList.drop 24 = dktX0_days_1 := dk_seg dksX0_days_0 24 rfl rfl
theorem dX0_days_0 : decode cX0_days 0 = .ok (.iload_n 1, 1) := dk_27 (dk_at dksX0_days_0 0 rfl rfl)
theorem dX0_days_1 : decode cX0_days 1 = .ok (.iconst 1, 1) := dk_4 (dk_at dksX0_days_0 1 rfl rfl)
theorem dX0_days_2 : decode cX0_days 2 = .ok (.bipush 100, 2) := dk_16 100 (dk_at dksX0_days_0 2 rfl rfl)
theorem dX0_days_4 : decode cX0_days 4 = .ok (.invokestatic 114, 3) := dk_184 0 114 (dk_at dksX0_days_0 4 rfl rfl)
theorem dX0_days_7 : decode cX0_days 7 = .ok (.ifCond .eq 17, 3) := dk_153 0 17 (dk_at dksX0_days_0 7 rfl rfl)
theorem dX0_days_10 : decode cX0_days 10 = .ok (.aload_n 0, 1) := dk_42 (dk_at dksX0_days_0 10 rfl rfl)
theorem dX0_days_11 : decode cX0_days 11 = .ok (.getfield 41, 3) := dk_180 0 41 (dk_at dksX0_days_0 11 rfl rfl)
theorem dX0_days_14 : decode cX0_days 14 = .ok (.iload_n 1, 1) := dk_27 (dk_at dksX0_days_0 14 rfl rfl)
theorem dX0_days_15 : decode cX0_days 15 = .ok (.invokevirtual 151, 3) := dk_182 0 151 (dk_at dksX0_days_0 15 rfl rfl)
theorem dX0_days_18 : decode cX0_days 18 = .ok (.getfield 155, 3) := dk_180 0 155 (dk_at dksX0_days_0 18 rfl rfl)
theorem dX0_days_21 : decode cX0_days 21 = .ok (.goto 4, 3) := dk_167 0 4 (dk_at dksX0_days_0 21 rfl rfl)
theorem dX0_days_24 : decode cX0_days 24 = .ok (.iconst (-1), 1) := dk_2 (dk_at dksX0_days_1 0 rfl rfl)
theorem dX0_days_25 : decode cX0_days 25 = .ok (.ireturn, 1) := dk_172 (dk_at dksX0_days_1 1 rfl rfl)
abbrev cX0_held : ByteArray := prog_1_method_4_code
def yX0_held : MethodName := ⟨RX0, "held", "(II)I"⟩
def dkwX0_held_0 : List UInt8 := [3, 27, 26, 184, 0, 1, 184, 0, 7, 172]
abbrev dktX0_held_0 : List UInt8 := dkwX0_held_0 ++ []
theorem dksX0_held_0 : cX0_held.data.toList.drop 0 = dktX0_held_0 := by decide +kernel
theorem dX0_held_0 : decode cX0_held 0 = .ok (.iconst 0, 1) := dk_3 (dk_at dksX0_held_0 0 rfl rfl)
theorem dX0_held_1 : decode cX0_held 1 = .ok (.iload_n 1, 1) := dk_27 (dk_at dksX0_held_0 1 rfl rfl)
theorem dX0_held_2 : decode cX0_held 2 = .ok (.iload_n 0, 1) := dk_26 (dk_at dksX0_held_0 2 rfl rfl)
theorem dX0_held_3 : decode cX0_held 3 = .ok (.invokestatic 1, 3) := dk_184 0 1 (dk_at dksX0_held_0 3 rfl rfl)
theorem dX0_held_6 : decode cX0_held 6 = .ok (.invokestatic 7, 3) := dk_184 0 7 (dk_at dksX0_held_0 6 rfl rfl)
theorem dX0_held_9 : decode cX0_held 9 = .ok (.ireturn, 1) := dk_172 (dk_at dksX0_held_0 9 rfl rfl)
abbrev cX0_tried : ByteArray := prog_1_method_15_code
def yX0_tried : MethodName := ⟨RX0, "tried", "(II)I"⟩
def dkwX0_tried_6 : List UInt8 := [172]
abbrev dktX0_tried_6 : List UInt8 := dkwX0_tried_6 ++ []
def dkwX0_tried_5 : List UInt8 := [180, 0, 168, 172, 42, 180, 0, 45, 182, 0, 171, 172, 42, 180, 0, 45, 180, 0, 174, 28, 16, 10, 100, 46]
abbrev dktX0_tried_5 : List UInt8 := dkwX0_tried_5 ++ dktX0_tried_6
def dkwX0_tried_4 : List UInt8 := [42, 180, 0, 45, 180, 0, 155, 172, 42, 180, 0, 45, 180, 0, 161, 184, 0, 164, 172, 42, 180, 0, 45]
abbrev dktX0_tried_4 : List UInt8 := dkwX0_tried_4 ++ dktX0_tried_5
def dkwX0_tried_3 : List UInt8 := [170, 0, 0, 0, 64, 0, 0, 0, 0, 0, 0, 0, 3, 0, 0, 0, 29, 0, 0, 0, 37, 0, 0, 0, 48, 0, 0, 0, 56]
abbrev dktX0_tried_3 : List UInt8 := dkwX0_tried_3 ++ dktX0_tried_4
def dkwX0_tried_2 : List UInt8 := [182, 0, 151, 87, 28]
abbrev dktX0_tried_2 : List UInt8 := dkwX0_tried_2 ++ dktX0_tried_3
def dkwX0_tried_1 : List UInt8 := [16, 10, 100, 182, 0, 104, 154, 0, 5, 2, 172, 42, 180, 0, 45, 42, 180, 0, 41, 182, 0, 158, 27]
abbrev dktX0_tried_1 : List UInt8 := dkwX0_tried_1 ++ dktX0_tried_2
def dkwX0_tried_0 : List UInt8 := [27, 4, 16, 100, 184, 0, 114, 153, 0, 25, 28, 7, 184, 0, 96, 154, 0, 19, 42, 180, 0, 21, 28]
abbrev dktX0_tried_0 : List UInt8 := dkwX0_tried_0 ++ dktX0_tried_1
theorem dksX0_tried_0 : cX0_tried.data.toList.drop 0 = dktX0_tried_0 := by decide +kernel
theorem dksX0_tried_1 : cX0_tried.data.toList.drop 23 = dktX0_tried_1 := dk_seg dksX0_tried_0 23 rfl rfl
theorem dksX0_tried_2 : cX0_tried.data.toList.drop 46 = dktX0_tried_2 := dk_seg dksX0_tried_1 23 rfl rfl
theorem dksX0_tried_3 : cX0_tried.data.toList.drop 51 = dktX0_tried_3 := dk_seg dksX0_tried_2 5 rfl rfl
theorem dksX0_tried_4 : cX0_tried.data.toList.drop 80 = dktX0_tried_4 := dk_seg dksX0_tried_3 29 rfl rfl
theorem dksX0_tried_5 : cX0_tried.data.toList.drop 103 = dktX0_tried_5 := dk_seg dksX0_tried_4 23 rfl rfl
theorem dksX0_tried_6 : cX0_tried.data.toList.drop 127 = dktX0_tried_6 := dk_seg dksX0_tried_5 24 rfl rfl
theorem dX0_tried_0 : decode cX0_tried 0 = .ok (.iload_n 1, 1) := dk_27 (dk_at dksX0_tried_0 0 rfl rfl)
theorem dX0_tried_1 : decode cX0_tried 1 = .ok (.iconst 1, 1) := dk_4 (dk_at dksX0_tried_0 1 rfl rfl)
theorem dX0_tried_2 : decode cX0_tried 2 = .ok (.bipush 100, 2) := dk_16 100 (dk_at dksX0_tried_0 2 rfl rfl)
theorem dX0_tried_4 : decode cX0_tried 4 = .ok (.invokestatic 114, 3) := dk_184 0 114 (dk_at dksX0_tried_0 4 rfl rfl)
theorem dX0_tried_7 : decode cX0_tried 7 = .ok (.ifCond .eq 25, 3) := dk_153 0 25 (dk_at dksX0_tried_0 7 rfl rfl)
theorem dX0_tried_10 : decode cX0_tried 10 = .ok (.iload_n 2, 1) := dk_28 (dk_at dksX0_tried_0 10 rfl rfl)
theorem dX0_tried_11 : decode cX0_tried 11 = .ok (.iconst 4, 1) := dk_7 (dk_at dksX0_tried_0 11 rfl rfl)
theorem dX0_tried_12 : decode cX0_tried 12 = .ok (.invokestatic 96, 3) := dk_184 0 96 (dk_at dksX0_tried_0 12 rfl rfl)
theorem dX0_tried_15 : decode cX0_tried 15 = .ok (.ifCond .ne 19, 3) := dk_154 0 19 (dk_at dksX0_tried_0 15 rfl rfl)
theorem dX0_tried_18 : decode cX0_tried 18 = .ok (.aload_n 0, 1) := dk_42 (dk_at dksX0_tried_0 18 rfl rfl)
theorem dX0_tried_19 : decode cX0_tried 19 = .ok (.getfield 21, 3) := dk_180 0 21 (dk_at dksX0_tried_0 19 rfl rfl)
theorem dX0_tried_22 : decode cX0_tried 22 = .ok (.iload_n 2, 1) := dk_28 (dk_at dksX0_tried_0 22 rfl rfl)
theorem dX0_tried_23 : decode cX0_tried 23 = .ok (.bipush 10, 2) := dk_16 10 (dk_at dksX0_tried_1 0 rfl rfl)
theorem dX0_tried_25 : decode cX0_tried 25 = .ok (.isub, 1) := dk_100 (dk_at dksX0_tried_1 2 rfl rfl)
theorem dX0_tried_26 : decode cX0_tried 26 = .ok (.invokevirtual 104, 3) := dk_182 0 104 (dk_at dksX0_tried_1 3 rfl rfl)
theorem dX0_tried_29 : decode cX0_tried 29 = .ok (.ifCond .ne 5, 3) := dk_154 0 5 (dk_at dksX0_tried_1 6 rfl rfl)
theorem dX0_tried_32 : decode cX0_tried 32 = .ok (.iconst (-1), 1) := dk_2 (dk_at dksX0_tried_1 9 rfl rfl)
theorem dX0_tried_33 : decode cX0_tried 33 = .ok (.ireturn, 1) := dk_172 (dk_at dksX0_tried_1 10 rfl rfl)
theorem dX0_tried_34 : decode cX0_tried 34 = .ok (.aload_n 0, 1) := dk_42 (dk_at dksX0_tried_1 11 rfl rfl)
theorem dX0_tried_35 : decode cX0_tried 35 = .ok (.getfield 45, 3) := dk_180 0 45 (dk_at dksX0_tried_1 12 rfl rfl)
theorem dX0_tried_38 : decode cX0_tried 38 = .ok (.aload_n 0, 1) := dk_42 (dk_at dksX0_tried_1 15 rfl rfl)
theorem dX0_tried_39 : decode cX0_tried 39 = .ok (.getfield 41, 3) := dk_180 0 41 (dk_at dksX0_tried_1 16 rfl rfl)
theorem dX0_tried_42 : decode cX0_tried 42 = .ok (.invokevirtual 158, 3) := dk_182 0 158 (dk_at dksX0_tried_1 19 rfl rfl)
theorem dX0_tried_45 : decode cX0_tried 45 = .ok (.iload_n 1, 1) := dk_27 (dk_at dksX0_tried_1 22 rfl rfl)
theorem dX0_tried_46 : decode cX0_tried 46 = .ok (.invokevirtual 151, 3) := dk_182 0 151 (dk_at dksX0_tried_2 0 rfl rfl)
theorem dX0_tried_49 : decode cX0_tried 49 = .ok (.pop, 1) := dk_87 (dk_at dksX0_tried_2 3 rfl rfl)
theorem dX0_tried_50 : decode cX0_tried 50 = .ok (.iload_n 2, 1) := dk_28 (dk_at dksX0_tried_2 4 rfl rfl)
theorem dX0_tried_51 : decode cX0_tried 51 = .ok (.tableswitch 64 0 3 #[29, 37, 48, 56], 29) := by decide +kernel
theorem dX0_tried_80 : decode cX0_tried 80 = .ok (.aload_n 0, 1) := dk_42 (dk_at dksX0_tried_4 0 rfl rfl)
theorem dX0_tried_81 : decode cX0_tried 81 = .ok (.getfield 45, 3) := dk_180 0 45 (dk_at dksX0_tried_4 1 rfl rfl)
theorem dX0_tried_84 : decode cX0_tried 84 = .ok (.getfield 155, 3) := dk_180 0 155 (dk_at dksX0_tried_4 4 rfl rfl)
theorem dX0_tried_87 : decode cX0_tried 87 = .ok (.ireturn, 1) := dk_172 (dk_at dksX0_tried_4 7 rfl rfl)
theorem dX0_tried_88 : decode cX0_tried 88 = .ok (.aload_n 0, 1) := dk_42 (dk_at dksX0_tried_4 8 rfl rfl)
theorem dX0_tried_89 : decode cX0_tried 89 = .ok (.getfield 45, 3) := dk_180 0 45 (dk_at dksX0_tried_4 9 rfl rfl)
theorem dX0_tried_92 : decode cX0_tried 92 = .ok (.getfield 161, 3) := dk_180 0 161 (dk_at dksX0_tried_4 12 rfl rfl)
theorem dX0_tried_95 : decode cX0_tried 95 = .ok (.invokestatic 164, 3) := dk_184 0 164 (dk_at dksX0_tried_4 15 rfl rfl)
theorem dX0_tried_98 : decode cX0_tried 98 = .ok (.ireturn, 1) := dk_172 (dk_at dksX0_tried_4 18 rfl rfl)
theorem dX0_tried_99 : decode cX0_tried 99 = .ok (.aload_n 0, 1) := dk_42 (dk_at dksX0_tried_4 19 rfl rfl)
theorem dX0_tried_100 : decode cX0_tried 100 = .ok (.getfield 45, 3) := dk_180 0 45 (dk_at dksX0_tried_4 20 rfl rfl)
theorem dX0_tried_103 : decode cX0_tried 103 = .ok (.getfield 168, 3) := dk_180 0 168 (dk_at dksX0_tried_5 0 rfl rfl)
theorem dX0_tried_106 : decode cX0_tried 106 = .ok (.ireturn, 1) := dk_172 (dk_at dksX0_tried_5 3 rfl rfl)
theorem dX0_tried_107 : decode cX0_tried 107 = .ok (.aload_n 0, 1) := dk_42 (dk_at dksX0_tried_5 4 rfl rfl)
theorem dX0_tried_108 : decode cX0_tried 108 = .ok (.getfield 45, 3) := dk_180 0 45 (dk_at dksX0_tried_5 5 rfl rfl)
theorem dX0_tried_111 : decode cX0_tried 111 = .ok (.invokevirtual 171, 3) := dk_182 0 171 (dk_at dksX0_tried_5 8 rfl rfl)
theorem dX0_tried_114 : decode cX0_tried 114 = .ok (.ireturn, 1) := dk_172 (dk_at dksX0_tried_5 11 rfl rfl)
theorem dX0_tried_115 : decode cX0_tried 115 = .ok (.aload_n 0, 1) := dk_42 (dk_at dksX0_tried_5 12 rfl rfl)
theorem dX0_tried_116 : decode cX0_tried 116 = .ok (.getfield 45, 3) := dk_180 0 45 (dk_at dksX0_tried_5 13 rfl rfl)
theorem dX0_tried_119 : decode cX0_tried 119 = .ok (.getfield 174, 3) := dk_180 0 174 (dk_at dksX0_tried_5 16 rfl rfl)
theorem dX0_tried_122 : decode cX0_tried 122 = .ok (.iload_n 2, 1) := dk_28 (dk_at dksX0_tried_5 19 rfl rfl)
theorem dX0_tried_123 : decode cX0_tried 123 = .ok (.bipush 10, 2) := dk_16 10 (dk_at dksX0_tried_5 20 rfl rfl)
theorem dX0_tried_125 : decode cX0_tried 125 = .ok (.isub, 1) := dk_100 (dk_at dksX0_tried_5 22 rfl rfl)
theorem dX0_tried_126 : decode cX0_tried 126 = .ok (.iaload, 1) := dk_46 (dk_at dksX0_tried_5 23 rfl rfl)
theorem dX0_tried_127 : decode cX0_tried 127 = .ok (.ireturn, 1) := dk_172 (dk_at dksX0_tried_6 0 rfl rfl)
abbrev cX0_orNobody : ByteArray := prog_1_method_5_code
def yX0_orNobody : MethodName := ⟨RX0, "orNobody", "(I)I"⟩
def dkwX0_orNobody_0 : List UInt8 := [26, 2, 160, 0, 8, 16, 254, 167, 0, 4, 26, 172]
abbrev dktX0_orNobody_0 : List UInt8 := dkwX0_orNobody_0 ++ []
theorem dksX0_orNobody_0 : cX0_orNobody.data.toList.drop 0 = dktX0_orNobody_0 := by decide +kernel
theorem dX0_orNobody_0 : decode cX0_orNobody 0 = .ok (.iload_n 0, 1) := dk_26 (dk_at dksX0_orNobody_0 0 rfl rfl)
theorem dX0_orNobody_1 : decode cX0_orNobody 1 = .ok (.iconst (-1), 1) := dk_2 (dk_at dksX0_orNobody_0 1 rfl rfl)
theorem dX0_orNobody_2 : decode cX0_orNobody 2 = .ok (.if_icmp .ne 8, 3) := dk_160 0 8 (dk_at dksX0_orNobody_0 2 rfl rfl)
theorem dX0_orNobody_5 : decode cX0_orNobody 5 = .ok (.bipush (-2), 2) := dk_16 254 (dk_at dksX0_orNobody_0 5 rfl rfl)
theorem dX0_orNobody_7 : decode cX0_orNobody 7 = .ok (.goto 4, 3) := dk_167 0 4 (dk_at dksX0_orNobody_0 7 rfl rfl)
theorem dX0_orNobody_10 : decode cX0_orNobody 10 = .ok (.iload_n 0, 1) := dk_26 (dk_at dksX0_orNobody_0 10 rfl rfl)
theorem dX0_orNobody_11 : decode cX0_orNobody 11 = .ok (.ireturn, 1) := dk_172 (dk_at dksX0_orNobody_0 11 rfl rfl)
abbrev cX0_sees : ByteArray := prog_1_method_16_code
def yX0_sees : MethodName := ⟨RX0, "sees", "(II)I"⟩
def dkwX0_sees_1 : List UInt8 := [182, 0, 177, 167, 0, 4, 2, 172]
abbrev dktX0_sees_1 : List UInt8 := dkwX0_sees_1 ++ []
def dkwX0_sees_0 : List UInt8 := [42, 180, 0, 21, 27, 182, 0, 104, 153, 0, 22, 28, 184, 0, 100, 153, 0, 15, 42, 180, 0, 21, 27, 28]
abbrev dktX0_sees_0 : List UInt8 := dkwX0_sees_0 ++ dktX0_sees_1
theorem dksX0_sees_0 : cX0_sees.data.toList.drop 0 = dktX0_sees_0 := by decide +kernel
theorem dksX0_sees_1 : cX0_sees.data.toList.drop 24 = dktX0_sees_1 := dk_seg dksX0_sees_0 24 rfl rfl
theorem dX0_sees_0 : decode cX0_sees 0 = .ok (.aload_n 0, 1) := dk_42 (dk_at dksX0_sees_0 0 rfl rfl)
theorem dX0_sees_1 : decode cX0_sees 1 = .ok (.getfield 21, 3) := dk_180 0 21 (dk_at dksX0_sees_0 1 rfl rfl)
theorem dX0_sees_4 : decode cX0_sees 4 = .ok (.iload_n 1, 1) := dk_27 (dk_at dksX0_sees_0 4 rfl rfl)
theorem dX0_sees_5 : decode cX0_sees 5 = .ok (.invokevirtual 104, 3) := dk_182 0 104 (dk_at dksX0_sees_0 5 rfl rfl)
theorem dX0_sees_8 : decode cX0_sees 8 = .ok (.ifCond .eq 22, 3) := dk_153 0 22 (dk_at dksX0_sees_0 8 rfl rfl)
theorem dX0_sees_11 : decode cX0_sees 11 = .ok (.iload_n 2, 1) := dk_28 (dk_at dksX0_sees_0 11 rfl rfl)
theorem dX0_sees_12 : decode cX0_sees 12 = .ok (.invokestatic 100, 3) := dk_184 0 100 (dk_at dksX0_sees_0 12 rfl rfl)
theorem dX0_sees_15 : decode cX0_sees 15 = .ok (.ifCond .eq 15, 3) := dk_153 0 15 (dk_at dksX0_sees_0 15 rfl rfl)
theorem dX0_sees_18 : decode cX0_sees 18 = .ok (.aload_n 0, 1) := dk_42 (dk_at dksX0_sees_0 18 rfl rfl)
theorem dX0_sees_19 : decode cX0_sees 19 = .ok (.getfield 21, 3) := dk_180 0 21 (dk_at dksX0_sees_0 19 rfl rfl)
theorem dX0_sees_22 : decode cX0_sees 22 = .ok (.iload_n 1, 1) := dk_27 (dk_at dksX0_sees_0 22 rfl rfl)
theorem dX0_sees_23 : decode cX0_sees 23 = .ok (.iload_n 2, 1) := dk_28 (dk_at dksX0_sees_0 23 rfl rfl)
theorem dX0_sees_24 : decode cX0_sees 24 = .ok (.invokevirtual 177, 3) := dk_182 0 177 (dk_at dksX0_sees_1 0 rfl rfl)
theorem dX0_sees_27 : decode cX0_sees 27 = .ok (.goto 4, 3) := dk_167 0 4 (dk_at dksX0_sees_1 3 rfl rfl)
theorem dX0_sees_30 : decode cX0_sees 30 = .ok (.iconst (-1), 1) := dk_2 (dk_at dksX0_sees_1 6 rfl rfl)
theorem dX0_sees_31 : decode cX0_sees 31 = .ok (.ireturn, 1) := dk_172 (dk_at dksX0_sees_1 7 rfl rfl)
abbrev cX0_houseIs : ByteArray := prog_1_method_19_code
def yX0_houseIs : MethodName := ⟨RX0, "houseIs", "(II)I"⟩
def dkwX0_houseIs_3 : List UInt8 := [182, 0, 183, 172, 42, 27, 182, 0, 186, 172, 42, 180, 0, 21, 27, 182, 0, 189, 172, 2, 172]
abbrev dktX0_houseIs_3 : List UInt8 := dkwX0_houseIs_3 ++ []
def dkwX0_houseIs_2 : List UInt8 := [42, 180, 0, 21, 180, 0, 180, 27, 46, 172, 42, 180, 0, 41, 180, 0, 174, 27, 46, 172, 42, 27]
abbrev dktX0_houseIs_2 : List UInt8 := dkwX0_houseIs_2 ++ dktX0_houseIs_3
def dkwX0_houseIs_1 : List UInt8 := [170, 0, 0, 0, 0, 75, 0, 0, 0, 0, 0, 0, 0, 4, 0, 0, 0, 34, 0, 0, 0, 44, 0, 0, 0, 54, 0, 0, 0, 60, 0, 0, 0, 66]
abbrev dktX0_houseIs_1 : List UInt8 := dkwX0_houseIs_1 ++ dktX0_houseIs_2
def dkwX0_houseIs_0 : List UInt8 := [42, 180, 0, 21, 27, 182, 0, 104, 154, 0, 5, 2, 172, 28]
abbrev dktX0_houseIs_0 : List UInt8 := dkwX0_houseIs_0 ++ dktX0_houseIs_1
theorem dksX0_houseIs_0 : cX0_houseIs.data.toList.drop 0 = dktX0_houseIs_0 := by decide +kernel
theorem dksX0_houseIs_1 : cX0_houseIs.data.toList.drop 14 = dktX0_houseIs_1 := dk_seg dksX0_houseIs_0 14 rfl rfl
theorem dksX0_houseIs_2 : cX0_houseIs.data.toList.drop 48 = dktX0_houseIs_2 := dk_seg dksX0_houseIs_1 34 rfl rfl
theorem dksX0_houseIs_3 : cX0_houseIs.data.toList.drop 70 = dktX0_houseIs_3 := dk_seg dksX0_houseIs_2 22 rfl rfl
theorem dX0_houseIs_0 : decode cX0_houseIs 0 = .ok (.aload_n 0, 1) := dk_42 (dk_at dksX0_houseIs_0 0 rfl rfl)
theorem dX0_houseIs_1 : decode cX0_houseIs 1 = .ok (.getfield 21, 3) := dk_180 0 21 (dk_at dksX0_houseIs_0 1 rfl rfl)
theorem dX0_houseIs_4 : decode cX0_houseIs 4 = .ok (.iload_n 1, 1) := dk_27 (dk_at dksX0_houseIs_0 4 rfl rfl)
theorem dX0_houseIs_5 : decode cX0_houseIs 5 = .ok (.invokevirtual 104, 3) := dk_182 0 104 (dk_at dksX0_houseIs_0 5 rfl rfl)
theorem dX0_houseIs_8 : decode cX0_houseIs 8 = .ok (.ifCond .ne 5, 3) := dk_154 0 5 (dk_at dksX0_houseIs_0 8 rfl rfl)
theorem dX0_houseIs_11 : decode cX0_houseIs 11 = .ok (.iconst (-1), 1) := dk_2 (dk_at dksX0_houseIs_0 11 rfl rfl)
theorem dX0_houseIs_12 : decode cX0_houseIs 12 = .ok (.ireturn, 1) := dk_172 (dk_at dksX0_houseIs_0 12 rfl rfl)
theorem dX0_houseIs_13 : decode cX0_houseIs 13 = .ok (.iload_n 2, 1) := dk_28 (dk_at dksX0_houseIs_0 13 rfl rfl)
theorem dX0_houseIs_14 : decode cX0_houseIs 14 = .ok (.tableswitch 75 0 4 #[34, 44, 54, 60, 66], 34) := by decide +kernel
theorem dX0_houseIs_48 : decode cX0_houseIs 48 = .ok (.aload_n 0, 1) := dk_42 (dk_at dksX0_houseIs_2 0 rfl rfl)
theorem dX0_houseIs_49 : decode cX0_houseIs 49 = .ok (.getfield 21, 3) := dk_180 0 21 (dk_at dksX0_houseIs_2 1 rfl rfl)
theorem dX0_houseIs_52 : decode cX0_houseIs 52 = .ok (.getfield 180, 3) := dk_180 0 180 (dk_at dksX0_houseIs_2 4 rfl rfl)
theorem dX0_houseIs_55 : decode cX0_houseIs 55 = .ok (.iload_n 1, 1) := dk_27 (dk_at dksX0_houseIs_2 7 rfl rfl)
theorem dX0_houseIs_56 : decode cX0_houseIs 56 = .ok (.iaload, 1) := dk_46 (dk_at dksX0_houseIs_2 8 rfl rfl)
theorem dX0_houseIs_57 : decode cX0_houseIs 57 = .ok (.ireturn, 1) := dk_172 (dk_at dksX0_houseIs_2 9 rfl rfl)
theorem dX0_houseIs_58 : decode cX0_houseIs 58 = .ok (.aload_n 0, 1) := dk_42 (dk_at dksX0_houseIs_2 10 rfl rfl)
theorem dX0_houseIs_59 : decode cX0_houseIs 59 = .ok (.getfield 41, 3) := dk_180 0 41 (dk_at dksX0_houseIs_2 11 rfl rfl)
theorem dX0_houseIs_62 : decode cX0_houseIs 62 = .ok (.getfield 174, 3) := dk_180 0 174 (dk_at dksX0_houseIs_2 14 rfl rfl)
theorem dX0_houseIs_65 : decode cX0_houseIs 65 = .ok (.iload_n 1, 1) := dk_27 (dk_at dksX0_houseIs_2 17 rfl rfl)
theorem dX0_houseIs_66 : decode cX0_houseIs 66 = .ok (.iaload, 1) := dk_46 (dk_at dksX0_houseIs_2 18 rfl rfl)
theorem dX0_houseIs_67 : decode cX0_houseIs 67 = .ok (.ireturn, 1) := dk_172 (dk_at dksX0_houseIs_2 19 rfl rfl)
theorem dX0_houseIs_68 : decode cX0_houseIs 68 = .ok (.aload_n 0, 1) := dk_42 (dk_at dksX0_houseIs_2 20 rfl rfl)
theorem dX0_houseIs_69 : decode cX0_houseIs 69 = .ok (.iload_n 1, 1) := dk_27 (dk_at dksX0_houseIs_2 21 rfl rfl)
theorem dX0_houseIs_70 : decode cX0_houseIs 70 = .ok (.invokevirtual 183, 3) := dk_182 0 183 (dk_at dksX0_houseIs_3 0 rfl rfl)
theorem dX0_houseIs_73 : decode cX0_houseIs 73 = .ok (.ireturn, 1) := dk_172 (dk_at dksX0_houseIs_3 3 rfl rfl)
theorem dX0_houseIs_74 : decode cX0_houseIs 74 = .ok (.aload_n 0, 1) := dk_42 (dk_at dksX0_houseIs_3 4 rfl rfl)
theorem dX0_houseIs_75 : decode cX0_houseIs 75 = .ok (.iload_n 1, 1) := dk_27 (dk_at dksX0_houseIs_3 5 rfl rfl)
theorem dX0_houseIs_76 : decode cX0_houseIs 76 = .ok (.invokevirtual 186, 3) := dk_182 0 186 (dk_at dksX0_houseIs_3 6 rfl rfl)
theorem dX0_houseIs_79 : decode cX0_houseIs 79 = .ok (.ireturn, 1) := dk_172 (dk_at dksX0_houseIs_3 9 rfl rfl)
theorem dX0_houseIs_80 : decode cX0_houseIs 80 = .ok (.aload_n 0, 1) := dk_42 (dk_at dksX0_houseIs_3 10 rfl rfl)
theorem dX0_houseIs_81 : decode cX0_houseIs 81 = .ok (.getfield 21, 3) := dk_180 0 21 (dk_at dksX0_houseIs_3 11 rfl rfl)
theorem dX0_houseIs_84 : decode cX0_houseIs 84 = .ok (.iload_n 1, 1) := dk_27 (dk_at dksX0_houseIs_3 14 rfl rfl)
theorem dX0_houseIs_85 : decode cX0_houseIs 85 = .ok (.invokevirtual 189, 3) := dk_182 0 189 (dk_at dksX0_houseIs_3 15 rfl rfl)
theorem dX0_houseIs_88 : decode cX0_houseIs 88 = .ok (.ireturn, 1) := dk_172 (dk_at dksX0_houseIs_3 18 rfl rfl)
theorem dX0_houseIs_89 : decode cX0_houseIs 89 = .ok (.iconst (-1), 1) := dk_2 (dk_at dksX0_houseIs_3 19 rfl rfl)
theorem dX0_houseIs_90 : decode cX0_houseIs 90 = .ok (.ireturn, 1) := dk_172 (dk_at dksX0_houseIs_3 20 rfl rfl)
abbrev cX0_turnsOf : ByteArray := prog_1_method_17_code
def yX0_turnsOf : MethodName := ⟨RX0, "turnsOf", "(I)I"⟩
def dkwX0_turnsOf_2 : List UInt8 := [172]
abbrev dktX0_turnsOf_2 : List UInt8 := dkwX0_turnsOf_2 ++ []
def dkwX0_turnsOf_1 : List UInt8 := [46, 54, 6, 28, 21, 6, 27, 160, 0, 7, 4, 167, 0, 4, 3, 96, 61, 132, 5, 1, 167, 255, 226, 28]
abbrev dktX0_turnsOf_1 : List UInt8 := dkwX0_turnsOf_1 ++ dktX0_turnsOf_2
def dkwX0_turnsOf_0 : List UInt8 := [3, 61, 42, 180, 0, 25, 78, 45, 190, 54, 4, 3, 54, 5, 21, 5, 21, 4, 162, 0, 29, 45, 21, 5]
abbrev dktX0_turnsOf_0 : List UInt8 := dkwX0_turnsOf_0 ++ dktX0_turnsOf_1
theorem dksX0_turnsOf_0 : cX0_turnsOf.data.toList.drop 0 = dktX0_turnsOf_0 := by decide +kernel
theorem dksX0_turnsOf_1 : cX0_turnsOf.data.toList.drop 24 = dktX0_turnsOf_1 := dk_seg dksX0_turnsOf_0 24 rfl rfl
theorem dksX0_turnsOf_2 : cX0_turnsOf.data.toList.drop 48 = dktX0_turnsOf_2 := dk_seg dksX0_turnsOf_1 24 rfl rfl
theorem dX0_turnsOf_0 : decode cX0_turnsOf 0 = .ok (.iconst 0, 1) := dk_3 (dk_at dksX0_turnsOf_0 0 rfl rfl)
theorem dX0_turnsOf_1 : decode cX0_turnsOf 1 = .ok (.istore_n 2, 1) := dk_61 (dk_at dksX0_turnsOf_0 1 rfl rfl)
theorem dX0_turnsOf_2 : decode cX0_turnsOf 2 = .ok (.aload_n 0, 1) := dk_42 (dk_at dksX0_turnsOf_0 2 rfl rfl)
theorem dX0_turnsOf_3 : decode cX0_turnsOf 3 = .ok (.getfield 25, 3) := dk_180 0 25 (dk_at dksX0_turnsOf_0 3 rfl rfl)
theorem dX0_turnsOf_6 : decode cX0_turnsOf 6 = .ok (.astore_n 3, 1) := dk_78 (dk_at dksX0_turnsOf_0 6 rfl rfl)
theorem dX0_turnsOf_7 : decode cX0_turnsOf 7 = .ok (.aload_n 3, 1) := dk_45 (dk_at dksX0_turnsOf_0 7 rfl rfl)
theorem dX0_turnsOf_8 : decode cX0_turnsOf 8 = .ok (.arraylength, 1) := dk_190 (dk_at dksX0_turnsOf_0 8 rfl rfl)
theorem dX0_turnsOf_9 : decode cX0_turnsOf 9 = .ok (.istore 4, 2) := dk_54 4 (dk_at dksX0_turnsOf_0 9 rfl rfl)
theorem dX0_turnsOf_11 : decode cX0_turnsOf 11 = .ok (.iconst 0, 1) := dk_3 (dk_at dksX0_turnsOf_0 11 rfl rfl)
theorem dX0_turnsOf_12 : decode cX0_turnsOf 12 = .ok (.istore 5, 2) := dk_54 5 (dk_at dksX0_turnsOf_0 12 rfl rfl)
theorem dX0_turnsOf_14 : decode cX0_turnsOf 14 = .ok (.iload 5, 2) := dk_21 5 (dk_at dksX0_turnsOf_0 14 rfl rfl)
theorem dX0_turnsOf_16 : decode cX0_turnsOf 16 = .ok (.iload 4, 2) := dk_21 4 (dk_at dksX0_turnsOf_0 16 rfl rfl)
theorem dX0_turnsOf_18 : decode cX0_turnsOf 18 = .ok (.if_icmp .ge 29, 3) := dk_162 0 29 (dk_at dksX0_turnsOf_0 18 rfl rfl)
theorem dX0_turnsOf_21 : decode cX0_turnsOf 21 = .ok (.aload_n 3, 1) := dk_45 (dk_at dksX0_turnsOf_0 21 rfl rfl)
theorem dX0_turnsOf_22 : decode cX0_turnsOf 22 = .ok (.iload 5, 2) := dk_21 5 (dk_at dksX0_turnsOf_0 22 rfl rfl)
theorem dX0_turnsOf_24 : decode cX0_turnsOf 24 = .ok (.iaload, 1) := dk_46 (dk_at dksX0_turnsOf_1 0 rfl rfl)
theorem dX0_turnsOf_25 : decode cX0_turnsOf 25 = .ok (.istore 6, 2) := dk_54 6 (dk_at dksX0_turnsOf_1 1 rfl rfl)
theorem dX0_turnsOf_27 : decode cX0_turnsOf 27 = .ok (.iload_n 2, 1) := dk_28 (dk_at dksX0_turnsOf_1 3 rfl rfl)
theorem dX0_turnsOf_28 : decode cX0_turnsOf 28 = .ok (.iload 6, 2) := dk_21 6 (dk_at dksX0_turnsOf_1 4 rfl rfl)
theorem dX0_turnsOf_30 : decode cX0_turnsOf 30 = .ok (.iload_n 1, 1) := dk_27 (dk_at dksX0_turnsOf_1 6 rfl rfl)
theorem dX0_turnsOf_31 : decode cX0_turnsOf 31 = .ok (.if_icmp .ne 7, 3) := dk_160 0 7 (dk_at dksX0_turnsOf_1 7 rfl rfl)
theorem dX0_turnsOf_34 : decode cX0_turnsOf 34 = .ok (.iconst 1, 1) := dk_4 (dk_at dksX0_turnsOf_1 10 rfl rfl)
theorem dX0_turnsOf_35 : decode cX0_turnsOf 35 = .ok (.goto 4, 3) := dk_167 0 4 (dk_at dksX0_turnsOf_1 11 rfl rfl)
theorem dX0_turnsOf_38 : decode cX0_turnsOf 38 = .ok (.iconst 0, 1) := dk_3 (dk_at dksX0_turnsOf_1 14 rfl rfl)
theorem dX0_turnsOf_39 : decode cX0_turnsOf 39 = .ok (.iadd, 1) := dk_96 (dk_at dksX0_turnsOf_1 15 rfl rfl)
theorem dX0_turnsOf_40 : decode cX0_turnsOf 40 = .ok (.istore_n 2, 1) := dk_61 (dk_at dksX0_turnsOf_1 16 rfl rfl)
theorem dX0_turnsOf_41 : decode cX0_turnsOf 41 = .ok (.iinc 5 1, 3) := dk_132 5 1 (dk_at dksX0_turnsOf_1 17 rfl rfl)
theorem dX0_turnsOf_44 : decode cX0_turnsOf 44 = .ok (.goto (-30), 3) := dk_167 255 226 (dk_at dksX0_turnsOf_1 20 rfl rfl)
theorem dX0_turnsOf_47 : decode cX0_turnsOf 47 = .ok (.iload_n 2, 1) := dk_28 (dk_at dksX0_turnsOf_1 23 rfl rfl)
theorem dX0_turnsOf_48 : decode cX0_turnsOf 48 = .ok (.ireturn, 1) := dk_172 (dk_at dksX0_turnsOf_2 0 rfl rfl)
abbrev cX0_dark : ByteArray := prog_1_method_18_code
def yX0_dark : MethodName := ⟨RX0, "dark", "(I)I"⟩
def dkwX0_dark_2 : List UInt8 := [29, 16, 12, 184, 0, 1, 172]
abbrev dktX0_dark_2 : List UInt8 := dkwX0_dark_2 ++ []
def dkwX0_dark_1 : List UInt8 := [27, 160, 0, 7, 3, 167, 0, 6, 28, 4, 96, 61, 29, 28, 184, 0, 7, 62, 132, 4, 1, 167, 255, 218]
abbrev dktX0_dark_1 : List UInt8 := dkwX0_dark_1 ++ dktX0_dark_2
def dkwX0_dark_0 : List UInt8 := [3, 61, 3, 62, 3, 54, 4, 21, 4, 16, 24, 162, 0, 37, 42, 180, 0, 25, 21, 4, 16, 12, 112, 46]
abbrev dktX0_dark_0 : List UInt8 := dkwX0_dark_0 ++ dktX0_dark_1
theorem dksX0_dark_0 : cX0_dark.data.toList.drop 0 = dktX0_dark_0 := by decide +kernel
theorem dksX0_dark_1 : cX0_dark.data.toList.drop 24 = dktX0_dark_1 := dk_seg dksX0_dark_0 24 rfl rfl
theorem dksX0_dark_2 : cX0_dark.data.toList.drop 48 = dktX0_dark_2 := dk_seg dksX0_dark_1 24 rfl rfl
theorem dX0_dark_0 : decode cX0_dark 0 = .ok (.iconst 0, 1) := dk_3 (dk_at dksX0_dark_0 0 rfl rfl)
theorem dX0_dark_1 : decode cX0_dark 1 = .ok (.istore_n 2, 1) := dk_61 (dk_at dksX0_dark_0 1 rfl rfl)
theorem dX0_dark_2 : decode cX0_dark 2 = .ok (.iconst 0, 1) := dk_3 (dk_at dksX0_dark_0 2 rfl rfl)
theorem dX0_dark_3 : decode cX0_dark 3 = .ok (.istore_n 3, 1) := dk_62 (dk_at dksX0_dark_0 3 rfl rfl)
theorem dX0_dark_4 : decode cX0_dark 4 = .ok (.iconst 0, 1) := dk_3 (dk_at dksX0_dark_0 4 rfl rfl)
theorem dX0_dark_5 : decode cX0_dark 5 = .ok (.istore 4, 2) := dk_54 4 (dk_at dksX0_dark_0 5 rfl rfl)
theorem dX0_dark_7 : decode cX0_dark 7 = .ok (.iload 4, 2) := dk_21 4 (dk_at dksX0_dark_0 7 rfl rfl)
theorem dX0_dark_9 : decode cX0_dark 9 = .ok (.bipush 24, 2) := dk_16 24 (dk_at dksX0_dark_0 9 rfl rfl)
theorem dX0_dark_11 : decode cX0_dark 11 = .ok (.if_icmp .ge 37, 3) := dk_162 0 37 (dk_at dksX0_dark_0 11 rfl rfl)
theorem dX0_dark_14 : decode cX0_dark 14 = .ok (.aload_n 0, 1) := dk_42 (dk_at dksX0_dark_0 14 rfl rfl)
theorem dX0_dark_15 : decode cX0_dark 15 = .ok (.getfield 25, 3) := dk_180 0 25 (dk_at dksX0_dark_0 15 rfl rfl)
theorem dX0_dark_18 : decode cX0_dark 18 = .ok (.iload 4, 2) := dk_21 4 (dk_at dksX0_dark_0 18 rfl rfl)
theorem dX0_dark_20 : decode cX0_dark 20 = .ok (.bipush 12, 2) := dk_16 12 (dk_at dksX0_dark_0 20 rfl rfl)
theorem dX0_dark_22 : decode cX0_dark 22 = .ok (.irem, 1) := dk_112 (dk_at dksX0_dark_0 22 rfl rfl)
theorem dX0_dark_23 : decode cX0_dark 23 = .ok (.iaload, 1) := dk_46 (dk_at dksX0_dark_0 23 rfl rfl)
theorem dX0_dark_24 : decode cX0_dark 24 = .ok (.iload_n 1, 1) := dk_27 (dk_at dksX0_dark_1 0 rfl rfl)
theorem dX0_dark_25 : decode cX0_dark 25 = .ok (.if_icmp .ne 7, 3) := dk_160 0 7 (dk_at dksX0_dark_1 1 rfl rfl)
theorem dX0_dark_28 : decode cX0_dark 28 = .ok (.iconst 0, 1) := dk_3 (dk_at dksX0_dark_1 4 rfl rfl)
theorem dX0_dark_29 : decode cX0_dark 29 = .ok (.goto 6, 3) := dk_167 0 6 (dk_at dksX0_dark_1 5 rfl rfl)
theorem dX0_dark_32 : decode cX0_dark 32 = .ok (.iload_n 2, 1) := dk_28 (dk_at dksX0_dark_1 8 rfl rfl)
theorem dX0_dark_33 : decode cX0_dark 33 = .ok (.iconst 1, 1) := dk_4 (dk_at dksX0_dark_1 9 rfl rfl)
theorem dX0_dark_34 : decode cX0_dark 34 = .ok (.iadd, 1) := dk_96 (dk_at dksX0_dark_1 10 rfl rfl)
theorem dX0_dark_35 : decode cX0_dark 35 = .ok (.istore_n 2, 1) := dk_61 (dk_at dksX0_dark_1 11 rfl rfl)
theorem dX0_dark_36 : decode cX0_dark 36 = .ok (.iload_n 3, 1) := dk_29 (dk_at dksX0_dark_1 12 rfl rfl)
theorem dX0_dark_37 : decode cX0_dark 37 = .ok (.iload_n 2, 1) := dk_28 (dk_at dksX0_dark_1 13 rfl rfl)
theorem dX0_dark_38 : decode cX0_dark 38 = .ok (.invokestatic 7, 3) := dk_184 0 7 (dk_at dksX0_dark_1 14 rfl rfl)
theorem dX0_dark_41 : decode cX0_dark 41 = .ok (.istore_n 3, 1) := dk_62 (dk_at dksX0_dark_1 17 rfl rfl)
theorem dX0_dark_42 : decode cX0_dark 42 = .ok (.iinc 4 1, 3) := dk_132 4 1 (dk_at dksX0_dark_1 18 rfl rfl)
theorem dX0_dark_45 : decode cX0_dark 45 = .ok (.goto (-38), 3) := dk_167 255 218 (dk_at dksX0_dark_1 21 rfl rfl)
theorem dX0_dark_48 : decode cX0_dark 48 = .ok (.iload_n 3, 1) := dk_29 (dk_at dksX0_dark_2 0 rfl rfl)
theorem dX0_dark_49 : decode cX0_dark 49 = .ok (.bipush 12, 2) := dk_16 12 (dk_at dksX0_dark_2 1 rfl rfl)
theorem dX0_dark_51 : decode cX0_dark 51 = .ok (.invokestatic 1, 3) := dk_184 0 1 (dk_at dksX0_dark_2 3 rfl rfl)
theorem dX0_dark_54 : decode cX0_dark 54 = .ok (.ireturn, 1) := dk_172 (dk_at dksX0_dark_2 6 rfl rfl)
abbrev cX0_rotaIs : ByteArray := prog_1_method_22_code
def yX0_rotaIs : MethodName := ⟨RX0, "rotaIs", "(I)I"⟩
def dkwX0_rotaIs_2 : List UInt8 := [160, 0, 10, 42, 182, 0, 199, 167, 0, 4, 2, 172]
abbrev dktX0_rotaIs_2 : List UInt8 := dkwX0_rotaIs_2 ++ []
def dkwX0_rotaIs_1 : List UInt8 := [3, 182, 0, 195, 167, 0, 31, 27, 16, 101, 160, 0, 11, 42, 4, 182, 0, 195, 167, 0, 17, 27, 16, 102]
abbrev dktX0_rotaIs_1 : List UInt8 := dkwX0_rotaIs_1 ++ dktX0_rotaIs_2
def dkwX0_rotaIs_0 : List UInt8 := [27, 184, 0, 100, 153, 0, 13, 42, 180, 0, 25, 27, 46, 184, 0, 164, 172, 27, 16, 100, 160, 0, 11, 42]
abbrev dktX0_rotaIs_0 : List UInt8 := dkwX0_rotaIs_0 ++ dktX0_rotaIs_1
theorem dksX0_rotaIs_0 : cX0_rotaIs.data.toList.drop 0 = dktX0_rotaIs_0 := by decide +kernel
theorem dksX0_rotaIs_1 : cX0_rotaIs.data.toList.drop 24 = dktX0_rotaIs_1 := dk_seg dksX0_rotaIs_0 24 rfl rfl
theorem dksX0_rotaIs_2 : cX0_rotaIs.data.toList.drop 48 = dktX0_rotaIs_2 := dk_seg dksX0_rotaIs_1 24 rfl rfl
theorem dX0_rotaIs_0 : decode cX0_rotaIs 0 = .ok (.iload_n 1, 1) := dk_27 (dk_at dksX0_rotaIs_0 0 rfl rfl)
theorem dX0_rotaIs_1 : decode cX0_rotaIs 1 = .ok (.invokestatic 100, 3) := dk_184 0 100 (dk_at dksX0_rotaIs_0 1 rfl rfl)
theorem dX0_rotaIs_4 : decode cX0_rotaIs 4 = .ok (.ifCond .eq 13, 3) := dk_153 0 13 (dk_at dksX0_rotaIs_0 4 rfl rfl)
theorem dX0_rotaIs_7 : decode cX0_rotaIs 7 = .ok (.aload_n 0, 1) := dk_42 (dk_at dksX0_rotaIs_0 7 rfl rfl)
theorem dX0_rotaIs_8 : decode cX0_rotaIs 8 = .ok (.getfield 25, 3) := dk_180 0 25 (dk_at dksX0_rotaIs_0 8 rfl rfl)
theorem dX0_rotaIs_11 : decode cX0_rotaIs 11 = .ok (.iload_n 1, 1) := dk_27 (dk_at dksX0_rotaIs_0 11 rfl rfl)
theorem dX0_rotaIs_12 : decode cX0_rotaIs 12 = .ok (.iaload, 1) := dk_46 (dk_at dksX0_rotaIs_0 12 rfl rfl)
theorem dX0_rotaIs_13 : decode cX0_rotaIs 13 = .ok (.invokestatic 164, 3) := dk_184 0 164 (dk_at dksX0_rotaIs_0 13 rfl rfl)
theorem dX0_rotaIs_16 : decode cX0_rotaIs 16 = .ok (.ireturn, 1) := dk_172 (dk_at dksX0_rotaIs_0 16 rfl rfl)
theorem dX0_rotaIs_17 : decode cX0_rotaIs 17 = .ok (.iload_n 1, 1) := dk_27 (dk_at dksX0_rotaIs_0 17 rfl rfl)
theorem dX0_rotaIs_18 : decode cX0_rotaIs 18 = .ok (.bipush 100, 2) := dk_16 100 (dk_at dksX0_rotaIs_0 18 rfl rfl)
theorem dX0_rotaIs_20 : decode cX0_rotaIs 20 = .ok (.if_icmp .ne 11, 3) := dk_160 0 11 (dk_at dksX0_rotaIs_0 20 rfl rfl)
theorem dX0_rotaIs_23 : decode cX0_rotaIs 23 = .ok (.aload_n 0, 1) := dk_42 (dk_at dksX0_rotaIs_0 23 rfl rfl)
theorem dX0_rotaIs_24 : decode cX0_rotaIs 24 = .ok (.iconst 0, 1) := dk_3 (dk_at dksX0_rotaIs_1 0 rfl rfl)
theorem dX0_rotaIs_25 : decode cX0_rotaIs 25 = .ok (.invokevirtual 195, 3) := dk_182 0 195 (dk_at dksX0_rotaIs_1 1 rfl rfl)
theorem dX0_rotaIs_28 : decode cX0_rotaIs 28 = .ok (.goto 31, 3) := dk_167 0 31 (dk_at dksX0_rotaIs_1 4 rfl rfl)
theorem dX0_rotaIs_31 : decode cX0_rotaIs 31 = .ok (.iload_n 1, 1) := dk_27 (dk_at dksX0_rotaIs_1 7 rfl rfl)
theorem dX0_rotaIs_32 : decode cX0_rotaIs 32 = .ok (.bipush 101, 2) := dk_16 101 (dk_at dksX0_rotaIs_1 8 rfl rfl)
theorem dX0_rotaIs_34 : decode cX0_rotaIs 34 = .ok (.if_icmp .ne 11, 3) := dk_160 0 11 (dk_at dksX0_rotaIs_1 10 rfl rfl)
theorem dX0_rotaIs_37 : decode cX0_rotaIs 37 = .ok (.aload_n 0, 1) := dk_42 (dk_at dksX0_rotaIs_1 13 rfl rfl)
theorem dX0_rotaIs_38 : decode cX0_rotaIs 38 = .ok (.iconst 1, 1) := dk_4 (dk_at dksX0_rotaIs_1 14 rfl rfl)
theorem dX0_rotaIs_39 : decode cX0_rotaIs 39 = .ok (.invokevirtual 195, 3) := dk_182 0 195 (dk_at dksX0_rotaIs_1 15 rfl rfl)
theorem dX0_rotaIs_42 : decode cX0_rotaIs 42 = .ok (.goto 17, 3) := dk_167 0 17 (dk_at dksX0_rotaIs_1 18 rfl rfl)
theorem dX0_rotaIs_45 : decode cX0_rotaIs 45 = .ok (.iload_n 1, 1) := dk_27 (dk_at dksX0_rotaIs_1 21 rfl rfl)
theorem dX0_rotaIs_46 : decode cX0_rotaIs 46 = .ok (.bipush 102, 2) := dk_16 102 (dk_at dksX0_rotaIs_1 22 rfl rfl)
theorem dX0_rotaIs_48 : decode cX0_rotaIs 48 = .ok (.if_icmp .ne 10, 3) := dk_160 0 10 (dk_at dksX0_rotaIs_2 0 rfl rfl)
theorem dX0_rotaIs_51 : decode cX0_rotaIs 51 = .ok (.aload_n 0, 1) := dk_42 (dk_at dksX0_rotaIs_2 3 rfl rfl)
theorem dX0_rotaIs_52 : decode cX0_rotaIs 52 = .ok (.invokevirtual 199, 3) := dk_182 0 199 (dk_at dksX0_rotaIs_2 4 rfl rfl)
theorem dX0_rotaIs_55 : decode cX0_rotaIs 55 = .ok (.goto 4, 3) := dk_167 0 4 (dk_at dksX0_rotaIs_2 7 rfl rfl)
theorem dX0_rotaIs_58 : decode cX0_rotaIs 58 = .ok (.iconst (-1), 1) := dk_2 (dk_at dksX0_rotaIs_2 10 rfl rfl)
theorem dX0_rotaIs_59 : decode cX0_rotaIs 59 = .ok (.ireturn, 1) := dk_172 (dk_at dksX0_rotaIs_2 11 rfl rfl)
abbrev cX0_way : ByteArray := prog_1_method_20_code
def yX0_way : MethodName := ⟨RX0, "way", "(Z)I"⟩
def dkwX0_way_4 : List UInt8 := [159, 0, 15, 21, 4, 29, 28, 100, 184, 0, 192, 96, 167, 0, 5, 21, 4, 172]
abbrev dktX0_way_4 : List UInt8 := dkwX0_way_4 ++ []
def dkwX0_way_3 : List UInt8 := [21, 8, 167, 0, 4, 28, 61, 21, 8, 62, 132, 7, 1, 167, 255, 194, 27, 153, 0, 20, 28, 2]
abbrev dktX0_way_3 : List UInt8 := dkwX0_way_3 ++ dktX0_way_4
def dkwX0_way_2 : List UInt8 := [2, 160, 0, 7, 3, 167, 0, 10, 21, 8, 29, 100, 184, 0, 192, 96, 54, 4, 28, 2, 160, 0, 8]
abbrev dktX0_way_2 : List UInt8 := dkwX0_way_2 ++ dktX0_way_3
def dkwX0_way_1 : List UInt8 := [21, 6, 162, 0, 61, 25, 5, 21, 7, 46, 54, 8, 21, 8, 2, 160, 0, 6, 167, 0, 39, 21, 4, 29]
abbrev dktX0_way_1 : List UInt8 := dkwX0_way_1 ++ dktX0_way_2
def dkwX0_way_0 : List UInt8 := [2, 61, 2, 62, 3, 54, 4, 42, 180, 0, 25, 58, 5, 25, 5, 190, 54, 6, 3, 54, 7, 21, 7]
abbrev dktX0_way_0 : List UInt8 := dkwX0_way_0 ++ dktX0_way_1
theorem dksX0_way_0 : cX0_way.data.toList.drop 0 = dktX0_way_0 := by decide +kernel
theorem dksX0_way_1 : cX0_way.data.toList.drop 23 = dktX0_way_1 := dk_seg dksX0_way_0 23 rfl rfl
theorem dksX0_way_2 : cX0_way.data.toList.drop 47 = dktX0_way_2 := dk_seg dksX0_way_1 24 rfl rfl
theorem dksX0_way_3 : cX0_way.data.toList.drop 70 = dktX0_way_3 := dk_seg dksX0_way_2 23 rfl rfl
theorem dksX0_way_4 : cX0_way.data.toList.drop 92 = dktX0_way_4 := dk_seg dksX0_way_3 22 rfl rfl
theorem dX0_way_0 : decode cX0_way 0 = .ok (.iconst (-1), 1) := dk_2 (dk_at dksX0_way_0 0 rfl rfl)
theorem dX0_way_1 : decode cX0_way 1 = .ok (.istore_n 2, 1) := dk_61 (dk_at dksX0_way_0 1 rfl rfl)
theorem dX0_way_2 : decode cX0_way 2 = .ok (.iconst (-1), 1) := dk_2 (dk_at dksX0_way_0 2 rfl rfl)
theorem dX0_way_3 : decode cX0_way 3 = .ok (.istore_n 3, 1) := dk_62 (dk_at dksX0_way_0 3 rfl rfl)
theorem dX0_way_4 : decode cX0_way 4 = .ok (.iconst 0, 1) := dk_3 (dk_at dksX0_way_0 4 rfl rfl)
theorem dX0_way_5 : decode cX0_way 5 = .ok (.istore 4, 2) := dk_54 4 (dk_at dksX0_way_0 5 rfl rfl)
theorem dX0_way_7 : decode cX0_way 7 = .ok (.aload_n 0, 1) := dk_42 (dk_at dksX0_way_0 7 rfl rfl)
theorem dX0_way_8 : decode cX0_way 8 = .ok (.getfield 25, 3) := dk_180 0 25 (dk_at dksX0_way_0 8 rfl rfl)
theorem dX0_way_11 : decode cX0_way 11 = .ok (.astore 5, 2) := dk_58 5 (dk_at dksX0_way_0 11 rfl rfl)
theorem dX0_way_13 : decode cX0_way 13 = .ok (.aload 5, 2) := dk_25 5 (dk_at dksX0_way_0 13 rfl rfl)
theorem dX0_way_15 : decode cX0_way 15 = .ok (.arraylength, 1) := dk_190 (dk_at dksX0_way_0 15 rfl rfl)
theorem dX0_way_16 : decode cX0_way 16 = .ok (.istore 6, 2) := dk_54 6 (dk_at dksX0_way_0 16 rfl rfl)
theorem dX0_way_18 : decode cX0_way 18 = .ok (.iconst 0, 1) := dk_3 (dk_at dksX0_way_0 18 rfl rfl)
theorem dX0_way_19 : decode cX0_way 19 = .ok (.istore 7, 2) := dk_54 7 (dk_at dksX0_way_0 19 rfl rfl)
theorem dX0_way_21 : decode cX0_way 21 = .ok (.iload 7, 2) := dk_21 7 (dk_at dksX0_way_0 21 rfl rfl)
theorem dX0_way_23 : decode cX0_way 23 = .ok (.iload 6, 2) := dk_21 6 (dk_at dksX0_way_1 0 rfl rfl)
theorem dX0_way_25 : decode cX0_way 25 = .ok (.if_icmp .ge 61, 3) := dk_162 0 61 (dk_at dksX0_way_1 2 rfl rfl)
theorem dX0_way_28 : decode cX0_way 28 = .ok (.aload 5, 2) := dk_25 5 (dk_at dksX0_way_1 5 rfl rfl)
theorem dX0_way_30 : decode cX0_way 30 = .ok (.iload 7, 2) := dk_21 7 (dk_at dksX0_way_1 7 rfl rfl)
theorem dX0_way_32 : decode cX0_way 32 = .ok (.iaload, 1) := dk_46 (dk_at dksX0_way_1 9 rfl rfl)
theorem dX0_way_33 : decode cX0_way 33 = .ok (.istore 8, 2) := dk_54 8 (dk_at dksX0_way_1 10 rfl rfl)
theorem dX0_way_35 : decode cX0_way 35 = .ok (.iload 8, 2) := dk_21 8 (dk_at dksX0_way_1 12 rfl rfl)
theorem dX0_way_37 : decode cX0_way 37 = .ok (.iconst (-1), 1) := dk_2 (dk_at dksX0_way_1 14 rfl rfl)
theorem dX0_way_38 : decode cX0_way 38 = .ok (.if_icmp .ne 6, 3) := dk_160 0 6 (dk_at dksX0_way_1 15 rfl rfl)
theorem dX0_way_41 : decode cX0_way 41 = .ok (.goto 39, 3) := dk_167 0 39 (dk_at dksX0_way_1 18 rfl rfl)
theorem dX0_way_44 : decode cX0_way 44 = .ok (.iload 4, 2) := dk_21 4 (dk_at dksX0_way_1 21 rfl rfl)
theorem dX0_way_46 : decode cX0_way 46 = .ok (.iload_n 3, 1) := dk_29 (dk_at dksX0_way_1 23 rfl rfl)
theorem dX0_way_47 : decode cX0_way 47 = .ok (.iconst (-1), 1) := dk_2 (dk_at dksX0_way_2 0 rfl rfl)
theorem dX0_way_48 : decode cX0_way 48 = .ok (.if_icmp .ne 7, 3) := dk_160 0 7 (dk_at dksX0_way_2 1 rfl rfl)
theorem dX0_way_51 : decode cX0_way 51 = .ok (.iconst 0, 1) := dk_3 (dk_at dksX0_way_2 4 rfl rfl)
theorem dX0_way_52 : decode cX0_way 52 = .ok (.goto 10, 3) := dk_167 0 10 (dk_at dksX0_way_2 5 rfl rfl)
theorem dX0_way_55 : decode cX0_way 55 = .ok (.iload 8, 2) := dk_21 8 (dk_at dksX0_way_2 8 rfl rfl)
theorem dX0_way_57 : decode cX0_way 57 = .ok (.iload_n 3, 1) := dk_29 (dk_at dksX0_way_2 10 rfl rfl)
theorem dX0_way_58 : decode cX0_way 58 = .ok (.isub, 1) := dk_100 (dk_at dksX0_way_2 11 rfl rfl)
theorem dX0_way_59 : decode cX0_way 59 = .ok (.invokestatic 192, 3) := dk_184 0 192 (dk_at dksX0_way_2 12 rfl rfl)
theorem dX0_way_62 : decode cX0_way 62 = .ok (.iadd, 1) := dk_96 (dk_at dksX0_way_2 15 rfl rfl)
theorem dX0_way_63 : decode cX0_way 63 = .ok (.istore 4, 2) := dk_54 4 (dk_at dksX0_way_2 16 rfl rfl)
theorem dX0_way_65 : decode cX0_way 65 = .ok (.iload_n 2, 1) := dk_28 (dk_at dksX0_way_2 18 rfl rfl)
theorem dX0_way_66 : decode cX0_way 66 = .ok (.iconst (-1), 1) := dk_2 (dk_at dksX0_way_2 19 rfl rfl)
theorem dX0_way_67 : decode cX0_way 67 = .ok (.if_icmp .ne 8, 3) := dk_160 0 8 (dk_at dksX0_way_2 20 rfl rfl)
theorem dX0_way_70 : decode cX0_way 70 = .ok (.iload 8, 2) := dk_21 8 (dk_at dksX0_way_3 0 rfl rfl)
theorem dX0_way_72 : decode cX0_way 72 = .ok (.goto 4, 3) := dk_167 0 4 (dk_at dksX0_way_3 2 rfl rfl)
theorem dX0_way_75 : decode cX0_way 75 = .ok (.iload_n 2, 1) := dk_28 (dk_at dksX0_way_3 5 rfl rfl)
theorem dX0_way_76 : decode cX0_way 76 = .ok (.istore_n 2, 1) := dk_61 (dk_at dksX0_way_3 6 rfl rfl)
theorem dX0_way_77 : decode cX0_way 77 = .ok (.iload 8, 2) := dk_21 8 (dk_at dksX0_way_3 7 rfl rfl)
theorem dX0_way_79 : decode cX0_way 79 = .ok (.istore_n 3, 1) := dk_62 (dk_at dksX0_way_3 9 rfl rfl)
theorem dX0_way_80 : decode cX0_way 80 = .ok (.iinc 7 1, 3) := dk_132 7 1 (dk_at dksX0_way_3 10 rfl rfl)
theorem dX0_way_83 : decode cX0_way 83 = .ok (.goto (-62), 3) := dk_167 255 194 (dk_at dksX0_way_3 13 rfl rfl)
theorem dX0_way_86 : decode cX0_way 86 = .ok (.iload_n 1, 1) := dk_27 (dk_at dksX0_way_3 16 rfl rfl)
theorem dX0_way_87 : decode cX0_way 87 = .ok (.ifCond .eq 20, 3) := dk_153 0 20 (dk_at dksX0_way_3 17 rfl rfl)
theorem dX0_way_90 : decode cX0_way 90 = .ok (.iload_n 2, 1) := dk_28 (dk_at dksX0_way_3 20 rfl rfl)
theorem dX0_way_91 : decode cX0_way 91 = .ok (.iconst (-1), 1) := dk_2 (dk_at dksX0_way_3 21 rfl rfl)
theorem dX0_way_92 : decode cX0_way 92 = .ok (.if_icmp .eq 15, 3) := dk_159 0 15 (dk_at dksX0_way_4 0 rfl rfl)
theorem dX0_way_95 : decode cX0_way 95 = .ok (.iload 4, 2) := dk_21 4 (dk_at dksX0_way_4 3 rfl rfl)
theorem dX0_way_97 : decode cX0_way 97 = .ok (.iload_n 3, 1) := dk_29 (dk_at dksX0_way_4 5 rfl rfl)
theorem dX0_way_98 : decode cX0_way 98 = .ok (.iload_n 2, 1) := dk_28 (dk_at dksX0_way_4 6 rfl rfl)
theorem dX0_way_99 : decode cX0_way 99 = .ok (.isub, 1) := dk_100 (dk_at dksX0_way_4 7 rfl rfl)
theorem dX0_way_100 : decode cX0_way 100 = .ok (.invokestatic 192, 3) := dk_184 0 192 (dk_at dksX0_way_4 8 rfl rfl)
theorem dX0_way_103 : decode cX0_way 103 = .ok (.iadd, 1) := dk_96 (dk_at dksX0_way_4 11 rfl rfl)
theorem dX0_way_104 : decode cX0_way 104 = .ok (.goto 5, 3) := dk_167 0 5 (dk_at dksX0_way_4 12 rfl rfl)
theorem dX0_way_107 : decode cX0_way 107 = .ok (.iload 4, 2) := dk_21 4 (dk_at dksX0_way_4 15 rfl rfl)
theorem dX0_way_109 : decode cX0_way 109 = .ok (.ireturn, 1) := dk_172 (dk_at dksX0_way_4 17 rfl rfl)
abbrev cX0_seenByAll : ByteArray := prog_1_method_21_code
def yX0_seenByAll : MethodName := ⟨RX0, "seenByAll", "()I"⟩
def dkwX0_seenByAll_2 : List UInt8 := [167, 255, 216, 27, 172]
abbrev dktX0_seenByAll_2 : List UInt8 := dkwX0_seenByAll_2 ++ []
def dkwX0_seenByAll_1 : List UInt8 := [167, 0, 17, 42, 180, 0, 21, 42, 180, 0, 25, 28, 46, 28, 182, 0, 177, 128, 60, 132, 2, 1]
abbrev dktX0_seenByAll_1 : List UInt8 := dkwX0_seenByAll_1 ++ dktX0_seenByAll_2
def dkwX0_seenByAll_0 : List UInt8 := [3, 60, 3, 61, 28, 16, 12, 162, 0, 40, 27, 42, 180, 0, 25, 28, 46, 2, 160, 0, 7, 3]
abbrev dktX0_seenByAll_0 : List UInt8 := dkwX0_seenByAll_0 ++ dktX0_seenByAll_1
theorem dksX0_seenByAll_0 : cX0_seenByAll.data.toList.drop 0 = dktX0_seenByAll_0 := by decide +kernel
theorem dksX0_seenByAll_1 : cX0_seenByAll.data.toList.drop 22 = dktX0_seenByAll_1 := dk_seg dksX0_seenByAll_0 22 rfl rfl
theorem dksX0_seenByAll_2 : cX0_seenByAll.data.toList.drop 44 = dktX0_seenByAll_2 := dk_seg dksX0_seenByAll_1 22 rfl rfl
theorem dX0_seenByAll_0 : decode cX0_seenByAll 0 = .ok (.iconst 0, 1) := dk_3 (dk_at dksX0_seenByAll_0 0 rfl rfl)
theorem dX0_seenByAll_1 : decode cX0_seenByAll 1 = .ok (.istore_n 1, 1) := dk_60 (dk_at dksX0_seenByAll_0 1 rfl rfl)
theorem dX0_seenByAll_2 : decode cX0_seenByAll 2 = .ok (.iconst 0, 1) := dk_3 (dk_at dksX0_seenByAll_0 2 rfl rfl)
theorem dX0_seenByAll_3 : decode cX0_seenByAll 3 = .ok (.istore_n 2, 1) := dk_61 (dk_at dksX0_seenByAll_0 3 rfl rfl)
theorem dX0_seenByAll_4 : decode cX0_seenByAll 4 = .ok (.iload_n 2, 1) := dk_28 (dk_at dksX0_seenByAll_0 4 rfl rfl)
theorem dX0_seenByAll_5 : decode cX0_seenByAll 5 = .ok (.bipush 12, 2) := dk_16 12 (dk_at dksX0_seenByAll_0 5 rfl rfl)
theorem dX0_seenByAll_7 : decode cX0_seenByAll 7 = .ok (.if_icmp .ge 40, 3) := dk_162 0 40 (dk_at dksX0_seenByAll_0 7 rfl rfl)
theorem dX0_seenByAll_10 : decode cX0_seenByAll 10 = .ok (.iload_n 1, 1) := dk_27 (dk_at dksX0_seenByAll_0 10 rfl rfl)
theorem dX0_seenByAll_11 : decode cX0_seenByAll 11 = .ok (.aload_n 0, 1) := dk_42 (dk_at dksX0_seenByAll_0 11 rfl rfl)
theorem dX0_seenByAll_12 : decode cX0_seenByAll 12 = .ok (.getfield 25, 3) := dk_180 0 25 (dk_at dksX0_seenByAll_0 12 rfl rfl)
theorem dX0_seenByAll_15 : decode cX0_seenByAll 15 = .ok (.iload_n 2, 1) := dk_28 (dk_at dksX0_seenByAll_0 15 rfl rfl)
theorem dX0_seenByAll_16 : decode cX0_seenByAll 16 = .ok (.iaload, 1) := dk_46 (dk_at dksX0_seenByAll_0 16 rfl rfl)
theorem dX0_seenByAll_17 : decode cX0_seenByAll 17 = .ok (.iconst (-1), 1) := dk_2 (dk_at dksX0_seenByAll_0 17 rfl rfl)
theorem dX0_seenByAll_18 : decode cX0_seenByAll 18 = .ok (.if_icmp .ne 7, 3) := dk_160 0 7 (dk_at dksX0_seenByAll_0 18 rfl rfl)
theorem dX0_seenByAll_21 : decode cX0_seenByAll 21 = .ok (.iconst 0, 1) := dk_3 (dk_at dksX0_seenByAll_0 21 rfl rfl)
theorem dX0_seenByAll_22 : decode cX0_seenByAll 22 = .ok (.goto 17, 3) := dk_167 0 17 (dk_at dksX0_seenByAll_1 0 rfl rfl)
theorem dX0_seenByAll_25 : decode cX0_seenByAll 25 = .ok (.aload_n 0, 1) := dk_42 (dk_at dksX0_seenByAll_1 3 rfl rfl)
theorem dX0_seenByAll_26 : decode cX0_seenByAll 26 = .ok (.getfield 21, 3) := dk_180 0 21 (dk_at dksX0_seenByAll_1 4 rfl rfl)
theorem dX0_seenByAll_29 : decode cX0_seenByAll 29 = .ok (.aload_n 0, 1) := dk_42 (dk_at dksX0_seenByAll_1 7 rfl rfl)
theorem dX0_seenByAll_30 : decode cX0_seenByAll 30 = .ok (.getfield 25, 3) := dk_180 0 25 (dk_at dksX0_seenByAll_1 8 rfl rfl)
theorem dX0_seenByAll_33 : decode cX0_seenByAll 33 = .ok (.iload_n 2, 1) := dk_28 (dk_at dksX0_seenByAll_1 11 rfl rfl)
theorem dX0_seenByAll_34 : decode cX0_seenByAll 34 = .ok (.iaload, 1) := dk_46 (dk_at dksX0_seenByAll_1 12 rfl rfl)
theorem dX0_seenByAll_35 : decode cX0_seenByAll 35 = .ok (.iload_n 2, 1) := dk_28 (dk_at dksX0_seenByAll_1 13 rfl rfl)
theorem dX0_seenByAll_36 : decode cX0_seenByAll 36 = .ok (.invokevirtual 177, 3) := dk_182 0 177 (dk_at dksX0_seenByAll_1 14 rfl rfl)
theorem dX0_seenByAll_39 : decode cX0_seenByAll 39 = .ok (.ior, 1) := dk_128 (dk_at dksX0_seenByAll_1 17 rfl rfl)
theorem dX0_seenByAll_40 : decode cX0_seenByAll 40 = .ok (.istore_n 1, 1) := dk_60 (dk_at dksX0_seenByAll_1 18 rfl rfl)
theorem dX0_seenByAll_41 : decode cX0_seenByAll 41 = .ok (.iinc 2 1, 3) := dk_132 2 1 (dk_at dksX0_seenByAll_1 19 rfl rfl)
theorem dX0_seenByAll_44 : decode cX0_seenByAll 44 = .ok (.goto (-40), 3) := dk_167 255 216 (dk_at dksX0_seenByAll_2 0 rfl rfl)
theorem dX0_seenByAll_47 : decode cX0_seenByAll 47 = .ok (.iload_n 1, 1) := dk_27 (dk_at dksX0_seenByAll_2 3 rfl rfl)
theorem dX0_seenByAll_48 : decode cX0_seenByAll 48 = .ok (.ireturn, 1) := dk_172 (dk_at dksX0_seenByAll_2 4 rfl rfl)
abbrev cX0_next : ByteArray := prog_1_method_23_code
def yX0_next : MethodName := ⟨RX0, "next", "(III)I"⟩
def dkwX0_next_3 : List UInt8 := [28, 184, 0, 205, 153, 0, 6, 21, 4, 172, 132, 4, 1, 167, 255, 206, 16, 254, 172]
abbrev dktX0_next_3 : List UInt8 := dkwX0_next_3 ++ []
def dkwX0_next_2 : List UInt8 := [112, 54, 5, 42, 180, 0, 25, 21, 5, 46, 27, 160, 0, 23, 42, 180, 0, 21, 27, 21, 5, 182, 0, 177]
abbrev dktX0_next_2 : List UInt8 := dkwX0_next_2 ++ dktX0_next_3
def dkwX0_next_1 : List UInt8 := [184, 0, 100, 154, 0, 5, 2, 172, 3, 54, 4, 21, 4, 16, 12, 162, 0, 49, 29, 21, 4, 96, 16, 12]
abbrev dktX0_next_1 : List UInt8 := dkwX0_next_1 ++ dktX0_next_2
def dkwX0_next_0 : List UInt8 := [42, 180, 0, 21, 27, 182, 0, 104, 153, 0, 21, 42, 180, 0, 21, 28, 182, 0, 202, 153, 0, 10, 29]
abbrev dktX0_next_0 : List UInt8 := dkwX0_next_0 ++ dktX0_next_1
theorem dksX0_next_0 : cX0_next.data.toList.drop 0 = dktX0_next_0 := by decide +kernel
theorem dksX0_next_1 : cX0_next.data.toList.drop 23 = dktX0_next_1 := dk_seg dksX0_next_0 23 rfl rfl
theorem dksX0_next_2 : cX0_next.data.toList.drop 47 = dktX0_next_2 := dk_seg dksX0_next_1 24 rfl rfl
theorem dksX0_next_3 : cX0_next.data.toList.drop 71 = dktX0_next_3 := dk_seg dksX0_next_2 24 rfl rfl
theorem dX0_next_0 : decode cX0_next 0 = .ok (.aload_n 0, 1) := dk_42 (dk_at dksX0_next_0 0 rfl rfl)
theorem dX0_next_1 : decode cX0_next 1 = .ok (.getfield 21, 3) := dk_180 0 21 (dk_at dksX0_next_0 1 rfl rfl)
theorem dX0_next_4 : decode cX0_next 4 = .ok (.iload_n 1, 1) := dk_27 (dk_at dksX0_next_0 4 rfl rfl)
theorem dX0_next_5 : decode cX0_next 5 = .ok (.invokevirtual 104, 3) := dk_182 0 104 (dk_at dksX0_next_0 5 rfl rfl)
theorem dX0_next_8 : decode cX0_next 8 = .ok (.ifCond .eq 21, 3) := dk_153 0 21 (dk_at dksX0_next_0 8 rfl rfl)
theorem dX0_next_11 : decode cX0_next 11 = .ok (.aload_n 0, 1) := dk_42 (dk_at dksX0_next_0 11 rfl rfl)
theorem dX0_next_12 : decode cX0_next 12 = .ok (.getfield 21, 3) := dk_180 0 21 (dk_at dksX0_next_0 12 rfl rfl)
theorem dX0_next_15 : decode cX0_next 15 = .ok (.iload_n 2, 1) := dk_28 (dk_at dksX0_next_0 15 rfl rfl)
theorem dX0_next_16 : decode cX0_next 16 = .ok (.invokevirtual 202, 3) := dk_182 0 202 (dk_at dksX0_next_0 16 rfl rfl)
theorem dX0_next_19 : decode cX0_next 19 = .ok (.ifCond .eq 10, 3) := dk_153 0 10 (dk_at dksX0_next_0 19 rfl rfl)
theorem dX0_next_22 : decode cX0_next 22 = .ok (.iload_n 3, 1) := dk_29 (dk_at dksX0_next_0 22 rfl rfl)
theorem dX0_next_23 : decode cX0_next 23 = .ok (.invokestatic 100, 3) := dk_184 0 100 (dk_at dksX0_next_1 0 rfl rfl)
theorem dX0_next_26 : decode cX0_next 26 = .ok (.ifCond .ne 5, 3) := dk_154 0 5 (dk_at dksX0_next_1 3 rfl rfl)
theorem dX0_next_29 : decode cX0_next 29 = .ok (.iconst (-1), 1) := dk_2 (dk_at dksX0_next_1 6 rfl rfl)
theorem dX0_next_30 : decode cX0_next 30 = .ok (.ireturn, 1) := dk_172 (dk_at dksX0_next_1 7 rfl rfl)
theorem dX0_next_31 : decode cX0_next 31 = .ok (.iconst 0, 1) := dk_3 (dk_at dksX0_next_1 8 rfl rfl)
theorem dX0_next_32 : decode cX0_next 32 = .ok (.istore 4, 2) := dk_54 4 (dk_at dksX0_next_1 9 rfl rfl)
theorem dX0_next_34 : decode cX0_next 34 = .ok (.iload 4, 2) := dk_21 4 (dk_at dksX0_next_1 11 rfl rfl)
theorem dX0_next_36 : decode cX0_next 36 = .ok (.bipush 12, 2) := dk_16 12 (dk_at dksX0_next_1 13 rfl rfl)
theorem dX0_next_38 : decode cX0_next 38 = .ok (.if_icmp .ge 49, 3) := dk_162 0 49 (dk_at dksX0_next_1 15 rfl rfl)
theorem dX0_next_41 : decode cX0_next 41 = .ok (.iload_n 3, 1) := dk_29 (dk_at dksX0_next_1 18 rfl rfl)
theorem dX0_next_42 : decode cX0_next 42 = .ok (.iload 4, 2) := dk_21 4 (dk_at dksX0_next_1 19 rfl rfl)
theorem dX0_next_44 : decode cX0_next 44 = .ok (.iadd, 1) := dk_96 (dk_at dksX0_next_1 21 rfl rfl)
theorem dX0_next_45 : decode cX0_next 45 = .ok (.bipush 12, 2) := dk_16 12 (dk_at dksX0_next_1 22 rfl rfl)
theorem dX0_next_47 : decode cX0_next 47 = .ok (.irem, 1) := dk_112 (dk_at dksX0_next_2 0 rfl rfl)
theorem dX0_next_48 : decode cX0_next 48 = .ok (.istore 5, 2) := dk_54 5 (dk_at dksX0_next_2 1 rfl rfl)
theorem dX0_next_50 : decode cX0_next 50 = .ok (.aload_n 0, 1) := dk_42 (dk_at dksX0_next_2 3 rfl rfl)
theorem dX0_next_51 : decode cX0_next 51 = .ok (.getfield 25, 3) := dk_180 0 25 (dk_at dksX0_next_2 4 rfl rfl)
theorem dX0_next_54 : decode cX0_next 54 = .ok (.iload 5, 2) := dk_21 5 (dk_at dksX0_next_2 7 rfl rfl)
theorem dX0_next_56 : decode cX0_next 56 = .ok (.iaload, 1) := dk_46 (dk_at dksX0_next_2 9 rfl rfl)
theorem dX0_next_57 : decode cX0_next 57 = .ok (.iload_n 1, 1) := dk_27 (dk_at dksX0_next_2 10 rfl rfl)
theorem dX0_next_58 : decode cX0_next 58 = .ok (.if_icmp .ne 23, 3) := dk_160 0 23 (dk_at dksX0_next_2 11 rfl rfl)
theorem dX0_next_61 : decode cX0_next 61 = .ok (.aload_n 0, 1) := dk_42 (dk_at dksX0_next_2 14 rfl rfl)
theorem dX0_next_62 : decode cX0_next 62 = .ok (.getfield 21, 3) := dk_180 0 21 (dk_at dksX0_next_2 15 rfl rfl)
theorem dX0_next_65 : decode cX0_next 65 = .ok (.iload_n 1, 1) := dk_27 (dk_at dksX0_next_2 18 rfl rfl)
theorem dX0_next_66 : decode cX0_next 66 = .ok (.iload 5, 2) := dk_21 5 (dk_at dksX0_next_2 19 rfl rfl)
theorem dX0_next_68 : decode cX0_next 68 = .ok (.invokevirtual 177, 3) := dk_182 0 177 (dk_at dksX0_next_2 21 rfl rfl)
theorem dX0_next_71 : decode cX0_next 71 = .ok (.iload_n 2, 1) := dk_28 (dk_at dksX0_next_3 0 rfl rfl)
theorem dX0_next_72 : decode cX0_next 72 = .ok (.invokestatic 205, 3) := dk_184 0 205 (dk_at dksX0_next_3 1 rfl rfl)
theorem dX0_next_75 : decode cX0_next 75 = .ok (.ifCond .eq 6, 3) := dk_153 0 6 (dk_at dksX0_next_3 4 rfl rfl)
theorem dX0_next_78 : decode cX0_next 78 = .ok (.iload 4, 2) := dk_21 4 (dk_at dksX0_next_3 7 rfl rfl)
theorem dX0_next_80 : decode cX0_next 80 = .ok (.ireturn, 1) := dk_172 (dk_at dksX0_next_3 9 rfl rfl)
theorem dX0_next_81 : decode cX0_next 81 = .ok (.iinc 4 1, 3) := dk_132 4 1 (dk_at dksX0_next_3 10 rfl rfl)
theorem dX0_next_84 : decode cX0_next 84 = .ok (.goto (-50), 3) := dk_167 255 206 (dk_at dksX0_next_3 13 rfl rfl)
theorem dX0_next_87 : decode cX0_next 87 = .ok (.bipush (-2), 2) := dk_16 254 (dk_at dksX0_next_3 16 rfl rfl)
theorem dX0_next_89 : decode cX0_next 89 = .ok (.ireturn, 1) := dk_172 (dk_at dksX0_next_3 18 rfl rfl)
abbrev cX0_has : ByteArray := prog_1_method_3_code
def yX0_has : MethodName := ⟨RX0, "has", "(II)Z"⟩
def dkwX0_has_0 : List UInt8 := [26, 27, 122, 4, 126, 4, 160, 0, 7, 4, 167, 0, 4, 3, 172]
abbrev dktX0_has_0 : List UInt8 := dkwX0_has_0 ++ []
theorem dksX0_has_0 : cX0_has.data.toList.drop 0 = dktX0_has_0 := by decide +kernel
theorem dX0_has_0 : decode cX0_has 0 = .ok (.iload_n 0, 1) := dk_26 (dk_at dksX0_has_0 0 rfl rfl)
theorem dX0_has_1 : decode cX0_has 1 = .ok (.iload_n 1, 1) := dk_27 (dk_at dksX0_has_0 1 rfl rfl)
theorem dX0_has_2 : decode cX0_has 2 = .ok (.ishr, 1) := dk_122 (dk_at dksX0_has_0 2 rfl rfl)
theorem dX0_has_3 : decode cX0_has 3 = .ok (.iconst 1, 1) := dk_4 (dk_at dksX0_has_0 3 rfl rfl)
theorem dX0_has_4 : decode cX0_has 4 = .ok (.iand, 1) := dk_126 (dk_at dksX0_has_0 4 rfl rfl)
theorem dX0_has_5 : decode cX0_has 5 = .ok (.iconst 1, 1) := dk_4 (dk_at dksX0_has_0 5 rfl rfl)
theorem dX0_has_6 : decode cX0_has 6 = .ok (.if_icmp .ne 7, 3) := dk_160 0 7 (dk_at dksX0_has_0 6 rfl rfl)
theorem dX0_has_9 : decode cX0_has 9 = .ok (.iconst 1, 1) := dk_4 (dk_at dksX0_has_0 9 rfl rfl)
theorem dX0_has_10 : decode cX0_has 10 = .ok (.goto 4, 3) := dk_167 0 4 (dk_at dksX0_has_0 10 rfl rfl)
theorem dX0_has_13 : decode cX0_has 13 = .ok (.iconst 0, 1) := dk_3 (dk_at dksX0_has_0 13 rfl rfl)
theorem dX0_has_14 : decode cX0_has 14 = .ok (.ireturn, 1) := dk_172 (dk_at dksX0_has_0 14 rfl rfl)
abbrev cX0_light : ByteArray := prog_1_method_24_code
def yX0_light : MethodName := ⟨RX0, "light", "(II)I"⟩
def dkwX0_light_5 : List UInt8 := [167, 0, 10, 21, 5, 16, 12, 184, 0, 1, 172]
abbrev dktX0_light_5 : List UInt8 := dkwX0_light_5 ++ []
def dkwX0_light_4 : List UInt8 := [54, 4, 21, 5, 21, 4, 184, 0, 7, 54, 5, 132, 6, 1, 167, 255, 179, 28, 154, 0, 7, 29]
abbrev dktX0_light_4 : List UInt8 := dkwX0_light_4 ++ dktX0_light_5
def dkwX0_light_3 : List UInt8 := [162, 0, 7, 4, 167, 0, 4, 3, 96, 62, 21, 7, 153, 0, 10, 21, 4, 4, 96, 167, 0, 4, 3]
abbrev dktX0_light_3 : List UInt8 := dkwX0_light_3 ++ dktX0_light_4
def dkwX0_light_2 : List UInt8 := [112, 182, 0, 177, 153, 0, 7, 4, 167, 0, 4, 3, 54, 7, 29, 21, 7, 153, 0, 14, 21, 6, 16, 12]
abbrev dktX0_light_2 : List UInt8 := dkwX0_light_2 ++ dktX0_light_3
def dkwX0_light_1 : List UInt8 := [54, 4, 3, 54, 5, 3, 54, 6, 21, 6, 16, 24, 162, 0, 76, 42, 180, 0, 21, 27, 21, 6, 16, 12]
abbrev dktX0_light_1 : List UInt8 := dkwX0_light_1 ++ dktX0_light_2
def dkwX0_light_0 : List UInt8 := [42, 180, 0, 21, 27, 182, 0, 104, 153, 0, 11, 28, 5, 184, 0, 96, 154, 0, 5, 2, 172, 3, 62, 3]
abbrev dktX0_light_0 : List UInt8 := dkwX0_light_0 ++ dktX0_light_1
theorem dksX0_light_0 : cX0_light.data.toList.drop 0 = dktX0_light_0 := by decide +kernel
theorem dksX0_light_1 : cX0_light.data.toList.drop 24 = dktX0_light_1 := dk_seg dksX0_light_0 24 rfl rfl
theorem dksX0_light_2 : cX0_light.data.toList.drop 48 = dktX0_light_2 := dk_seg dksX0_light_1 24 rfl rfl
theorem dksX0_light_3 : cX0_light.data.toList.drop 72 = dktX0_light_3 := dk_seg dksX0_light_2 24 rfl rfl
theorem dksX0_light_4 : cX0_light.data.toList.drop 95 = dktX0_light_4 := dk_seg dksX0_light_3 23 rfl rfl
theorem dksX0_light_5 : cX0_light.data.toList.drop 117 = dktX0_light_5 := dk_seg dksX0_light_4 22 rfl rfl
theorem dX0_light_0 : decode cX0_light 0 = .ok (.aload_n 0, 1) := dk_42 (dk_at dksX0_light_0 0 rfl rfl)
theorem dX0_light_1 : decode cX0_light 1 = .ok (.getfield 21, 3) := dk_180 0 21 (dk_at dksX0_light_0 1 rfl rfl)
theorem dX0_light_4 : decode cX0_light 4 = .ok (.iload_n 1, 1) := dk_27 (dk_at dksX0_light_0 4 rfl rfl)
theorem dX0_light_5 : decode cX0_light 5 = .ok (.invokevirtual 104, 3) := dk_182 0 104 (dk_at dksX0_light_0 5 rfl rfl)
theorem dX0_light_8 : decode cX0_light 8 = .ok (.ifCond .eq 11, 3) := dk_153 0 11 (dk_at dksX0_light_0 8 rfl rfl)
theorem dX0_light_11 : decode cX0_light 11 = .ok (.iload_n 2, 1) := dk_28 (dk_at dksX0_light_0 11 rfl rfl)
theorem dX0_light_12 : decode cX0_light 12 = .ok (.iconst 2, 1) := dk_5 (dk_at dksX0_light_0 12 rfl rfl)
theorem dX0_light_13 : decode cX0_light 13 = .ok (.invokestatic 96, 3) := dk_184 0 96 (dk_at dksX0_light_0 13 rfl rfl)
theorem dX0_light_16 : decode cX0_light 16 = .ok (.ifCond .ne 5, 3) := dk_154 0 5 (dk_at dksX0_light_0 16 rfl rfl)
theorem dX0_light_19 : decode cX0_light 19 = .ok (.iconst (-1), 1) := dk_2 (dk_at dksX0_light_0 19 rfl rfl)
theorem dX0_light_20 : decode cX0_light 20 = .ok (.ireturn, 1) := dk_172 (dk_at dksX0_light_0 20 rfl rfl)
theorem dX0_light_21 : decode cX0_light 21 = .ok (.iconst 0, 1) := dk_3 (dk_at dksX0_light_0 21 rfl rfl)
theorem dX0_light_22 : decode cX0_light 22 = .ok (.istore_n 3, 1) := dk_62 (dk_at dksX0_light_0 22 rfl rfl)
theorem dX0_light_23 : decode cX0_light 23 = .ok (.iconst 0, 1) := dk_3 (dk_at dksX0_light_0 23 rfl rfl)
theorem dX0_light_24 : decode cX0_light 24 = .ok (.istore 4, 2) := dk_54 4 (dk_at dksX0_light_1 0 rfl rfl)
theorem dX0_light_26 : decode cX0_light 26 = .ok (.iconst 0, 1) := dk_3 (dk_at dksX0_light_1 2 rfl rfl)
theorem dX0_light_27 : decode cX0_light 27 = .ok (.istore 5, 2) := dk_54 5 (dk_at dksX0_light_1 3 rfl rfl)
theorem dX0_light_29 : decode cX0_light 29 = .ok (.iconst 0, 1) := dk_3 (dk_at dksX0_light_1 5 rfl rfl)
theorem dX0_light_30 : decode cX0_light 30 = .ok (.istore 6, 2) := dk_54 6 (dk_at dksX0_light_1 6 rfl rfl)
theorem dX0_light_32 : decode cX0_light 32 = .ok (.iload 6, 2) := dk_21 6 (dk_at dksX0_light_1 8 rfl rfl)
theorem dX0_light_34 : decode cX0_light 34 = .ok (.bipush 24, 2) := dk_16 24 (dk_at dksX0_light_1 10 rfl rfl)
theorem dX0_light_36 : decode cX0_light 36 = .ok (.if_icmp .ge 76, 3) := dk_162 0 76 (dk_at dksX0_light_1 12 rfl rfl)
theorem dX0_light_39 : decode cX0_light 39 = .ok (.aload_n 0, 1) := dk_42 (dk_at dksX0_light_1 15 rfl rfl)
theorem dX0_light_40 : decode cX0_light 40 = .ok (.getfield 21, 3) := dk_180 0 21 (dk_at dksX0_light_1 16 rfl rfl)
theorem dX0_light_43 : decode cX0_light 43 = .ok (.iload_n 1, 1) := dk_27 (dk_at dksX0_light_1 19 rfl rfl)
theorem dX0_light_44 : decode cX0_light 44 = .ok (.iload 6, 2) := dk_21 6 (dk_at dksX0_light_1 20 rfl rfl)
theorem dX0_light_46 : decode cX0_light 46 = .ok (.bipush 12, 2) := dk_16 12 (dk_at dksX0_light_1 22 rfl rfl)
theorem dX0_light_48 : decode cX0_light 48 = .ok (.irem, 1) := dk_112 (dk_at dksX0_light_2 0 rfl rfl)
theorem dX0_light_49 : decode cX0_light 49 = .ok (.invokevirtual 177, 3) := dk_182 0 177 (dk_at dksX0_light_2 1 rfl rfl)
theorem dX0_light_52 : decode cX0_light 52 = .ok (.ifCond .eq 7, 3) := dk_153 0 7 (dk_at dksX0_light_2 4 rfl rfl)
theorem dX0_light_55 : decode cX0_light 55 = .ok (.iconst 1, 1) := dk_4 (dk_at dksX0_light_2 7 rfl rfl)
theorem dX0_light_56 : decode cX0_light 56 = .ok (.goto 4, 3) := dk_167 0 4 (dk_at dksX0_light_2 8 rfl rfl)
theorem dX0_light_59 : decode cX0_light 59 = .ok (.iconst 0, 1) := dk_3 (dk_at dksX0_light_2 11 rfl rfl)
theorem dX0_light_60 : decode cX0_light 60 = .ok (.istore 7, 2) := dk_54 7 (dk_at dksX0_light_2 12 rfl rfl)
theorem dX0_light_62 : decode cX0_light 62 = .ok (.iload_n 3, 1) := dk_29 (dk_at dksX0_light_2 14 rfl rfl)
theorem dX0_light_63 : decode cX0_light 63 = .ok (.iload 7, 2) := dk_21 7 (dk_at dksX0_light_2 15 rfl rfl)
theorem dX0_light_65 : decode cX0_light 65 = .ok (.ifCond .eq 14, 3) := dk_153 0 14 (dk_at dksX0_light_2 17 rfl rfl)
theorem dX0_light_68 : decode cX0_light 68 = .ok (.iload 6, 2) := dk_21 6 (dk_at dksX0_light_2 20 rfl rfl)
theorem dX0_light_70 : decode cX0_light 70 = .ok (.bipush 12, 2) := dk_16 12 (dk_at dksX0_light_2 22 rfl rfl)
theorem dX0_light_72 : decode cX0_light 72 = .ok (.if_icmp .ge 7, 3) := dk_162 0 7 (dk_at dksX0_light_3 0 rfl rfl)
theorem dX0_light_75 : decode cX0_light 75 = .ok (.iconst 1, 1) := dk_4 (dk_at dksX0_light_3 3 rfl rfl)
theorem dX0_light_76 : decode cX0_light 76 = .ok (.goto 4, 3) := dk_167 0 4 (dk_at dksX0_light_3 4 rfl rfl)
theorem dX0_light_79 : decode cX0_light 79 = .ok (.iconst 0, 1) := dk_3 (dk_at dksX0_light_3 7 rfl rfl)
theorem dX0_light_80 : decode cX0_light 80 = .ok (.iadd, 1) := dk_96 (dk_at dksX0_light_3 8 rfl rfl)
theorem dX0_light_81 : decode cX0_light 81 = .ok (.istore_n 3, 1) := dk_62 (dk_at dksX0_light_3 9 rfl rfl)
theorem dX0_light_82 : decode cX0_light 82 = .ok (.iload 7, 2) := dk_21 7 (dk_at dksX0_light_3 10 rfl rfl)
theorem dX0_light_84 : decode cX0_light 84 = .ok (.ifCond .eq 10, 3) := dk_153 0 10 (dk_at dksX0_light_3 12 rfl rfl)
theorem dX0_light_87 : decode cX0_light 87 = .ok (.iload 4, 2) := dk_21 4 (dk_at dksX0_light_3 15 rfl rfl)
theorem dX0_light_89 : decode cX0_light 89 = .ok (.iconst 1, 1) := dk_4 (dk_at dksX0_light_3 17 rfl rfl)
theorem dX0_light_90 : decode cX0_light 90 = .ok (.iadd, 1) := dk_96 (dk_at dksX0_light_3 18 rfl rfl)
theorem dX0_light_91 : decode cX0_light 91 = .ok (.goto 4, 3) := dk_167 0 4 (dk_at dksX0_light_3 19 rfl rfl)
theorem dX0_light_94 : decode cX0_light 94 = .ok (.iconst 0, 1) := dk_3 (dk_at dksX0_light_3 22 rfl rfl)
theorem dX0_light_95 : decode cX0_light 95 = .ok (.istore 4, 2) := dk_54 4 (dk_at dksX0_light_4 0 rfl rfl)
theorem dX0_light_97 : decode cX0_light 97 = .ok (.iload 5, 2) := dk_21 5 (dk_at dksX0_light_4 2 rfl rfl)
theorem dX0_light_99 : decode cX0_light 99 = .ok (.iload 4, 2) := dk_21 4 (dk_at dksX0_light_4 4 rfl rfl)
theorem dX0_light_101 : decode cX0_light 101 = .ok (.invokestatic 7, 3) := dk_184 0 7 (dk_at dksX0_light_4 6 rfl rfl)
theorem dX0_light_104 : decode cX0_light 104 = .ok (.istore 5, 2) := dk_54 5 (dk_at dksX0_light_4 9 rfl rfl)
theorem dX0_light_106 : decode cX0_light 106 = .ok (.iinc 6 1, 3) := dk_132 6 1 (dk_at dksX0_light_4 11 rfl rfl)
theorem dX0_light_109 : decode cX0_light 109 = .ok (.goto (-77), 3) := dk_167 255 179 (dk_at dksX0_light_4 14 rfl rfl)
theorem dX0_light_112 : decode cX0_light 112 = .ok (.iload_n 2, 1) := dk_28 (dk_at dksX0_light_4 17 rfl rfl)
theorem dX0_light_113 : decode cX0_light 113 = .ok (.ifCond .ne 7, 3) := dk_154 0 7 (dk_at dksX0_light_4 18 rfl rfl)
theorem dX0_light_116 : decode cX0_light 116 = .ok (.iload_n 3, 1) := dk_29 (dk_at dksX0_light_4 21 rfl rfl)
theorem dX0_light_117 : decode cX0_light 117 = .ok (.goto 10, 3) := dk_167 0 10 (dk_at dksX0_light_5 0 rfl rfl)
theorem dX0_light_120 : decode cX0_light 120 = .ok (.iload 5, 2) := dk_21 5 (dk_at dksX0_light_5 3 rfl rfl)
theorem dX0_light_122 : decode cX0_light 122 = .ok (.bipush 12, 2) := dk_16 12 (dk_at dksX0_light_5 5 rfl rfl)
theorem dX0_light_124 : decode cX0_light 124 = .ok (.invokestatic 1, 3) := dk_184 0 1 (dk_at dksX0_light_5 7 rfl rfl)
theorem dX0_light_127 : decode cX0_light 127 = .ok (.ireturn, 1) := dk_172 (dk_at dksX0_light_5 10 rfl rfl)
abbrev cX0_seers : ByteArray := prog_1_method_25_code
def yX0_seers : MethodName := ⟨RX0, "seers", "(I)I"⟩
def dkwX0_seers_2 : List UInt8 := [153, 0, 9, 4, 29, 120, 167, 0, 4, 3, 128, 61, 132, 3, 1, 167, 255, 211, 28, 172]
abbrev dktX0_seers_2 : List UInt8 := dkwX0_seers_2 ++ []
def dkwX0_seers_1 : List UInt8 := [42, 180, 0, 21, 29, 182, 0, 104, 153, 0, 24, 42, 180, 0, 21, 29, 182, 0, 189, 27, 184, 0, 205]
abbrev dktX0_seers_1 : List UInt8 := dkwX0_seers_1 ++ dktX0_seers_2
def dkwX0_seers_0 : List UInt8 := [42, 180, 0, 21, 27, 182, 0, 202, 154, 0, 5, 2, 172, 3, 61, 3, 62, 29, 16, 16, 162, 0, 45, 28]
abbrev dktX0_seers_0 : List UInt8 := dkwX0_seers_0 ++ dktX0_seers_1
theorem dksX0_seers_0 : cX0_seers.data.toList.drop 0 = dktX0_seers_0 := by decide +kernel
theorem dksX0_seers_1 : cX0_seers.data.toList.drop 24 = dktX0_seers_1 := dk_seg dksX0_seers_0 24 rfl rfl
theorem dksX0_seers_2 : cX0_seers.data.toList.drop 47 = dktX0_seers_2 := dk_seg dksX0_seers_1 23 rfl rfl
theorem dX0_seers_0 : decode cX0_seers 0 = .ok (.aload_n 0, 1) := dk_42 (dk_at dksX0_seers_0 0 rfl rfl)
theorem dX0_seers_1 : decode cX0_seers 1 = .ok (.getfield 21, 3) := dk_180 0 21 (dk_at dksX0_seers_0 1 rfl rfl)
theorem dX0_seers_4 : decode cX0_seers 4 = .ok (.iload_n 1, 1) := dk_27 (dk_at dksX0_seers_0 4 rfl rfl)
theorem dX0_seers_5 : decode cX0_seers 5 = .ok (.invokevirtual 202, 3) := dk_182 0 202 (dk_at dksX0_seers_0 5 rfl rfl)
theorem dX0_seers_8 : decode cX0_seers 8 = .ok (.ifCond .ne 5, 3) := dk_154 0 5 (dk_at dksX0_seers_0 8 rfl rfl)
theorem dX0_seers_11 : decode cX0_seers 11 = .ok (.iconst (-1), 1) := dk_2 (dk_at dksX0_seers_0 11 rfl rfl)
theorem dX0_seers_12 : decode cX0_seers 12 = .ok (.ireturn, 1) := dk_172 (dk_at dksX0_seers_0 12 rfl rfl)
theorem dX0_seers_13 : decode cX0_seers 13 = .ok (.iconst 0, 1) := dk_3 (dk_at dksX0_seers_0 13 rfl rfl)
theorem dX0_seers_14 : decode cX0_seers 14 = .ok (.istore_n 2, 1) := dk_61 (dk_at dksX0_seers_0 14 rfl rfl)
theorem dX0_seers_15 : decode cX0_seers 15 = .ok (.iconst 0, 1) := dk_3 (dk_at dksX0_seers_0 15 rfl rfl)
theorem dX0_seers_16 : decode cX0_seers 16 = .ok (.istore_n 3, 1) := dk_62 (dk_at dksX0_seers_0 16 rfl rfl)
theorem dX0_seers_17 : decode cX0_seers 17 = .ok (.iload_n 3, 1) := dk_29 (dk_at dksX0_seers_0 17 rfl rfl)
theorem dX0_seers_18 : decode cX0_seers 18 = .ok (.bipush 16, 2) := dk_16 16 (dk_at dksX0_seers_0 18 rfl rfl)
theorem dX0_seers_20 : decode cX0_seers 20 = .ok (.if_icmp .ge 45, 3) := dk_162 0 45 (dk_at dksX0_seers_0 20 rfl rfl)
theorem dX0_seers_23 : decode cX0_seers 23 = .ok (.iload_n 2, 1) := dk_28 (dk_at dksX0_seers_0 23 rfl rfl)
theorem dX0_seers_24 : decode cX0_seers 24 = .ok (.aload_n 0, 1) := dk_42 (dk_at dksX0_seers_1 0 rfl rfl)
theorem dX0_seers_25 : decode cX0_seers 25 = .ok (.getfield 21, 3) := dk_180 0 21 (dk_at dksX0_seers_1 1 rfl rfl)
theorem dX0_seers_28 : decode cX0_seers 28 = .ok (.iload_n 3, 1) := dk_29 (dk_at dksX0_seers_1 4 rfl rfl)
theorem dX0_seers_29 : decode cX0_seers 29 = .ok (.invokevirtual 104, 3) := dk_182 0 104 (dk_at dksX0_seers_1 5 rfl rfl)
theorem dX0_seers_32 : decode cX0_seers 32 = .ok (.ifCond .eq 24, 3) := dk_153 0 24 (dk_at dksX0_seers_1 8 rfl rfl)
theorem dX0_seers_35 : decode cX0_seers 35 = .ok (.aload_n 0, 1) := dk_42 (dk_at dksX0_seers_1 11 rfl rfl)
theorem dX0_seers_36 : decode cX0_seers 36 = .ok (.getfield 21, 3) := dk_180 0 21 (dk_at dksX0_seers_1 12 rfl rfl)
theorem dX0_seers_39 : decode cX0_seers 39 = .ok (.iload_n 3, 1) := dk_29 (dk_at dksX0_seers_1 15 rfl rfl)
theorem dX0_seers_40 : decode cX0_seers 40 = .ok (.invokevirtual 189, 3) := dk_182 0 189 (dk_at dksX0_seers_1 16 rfl rfl)
theorem dX0_seers_43 : decode cX0_seers 43 = .ok (.iload_n 1, 1) := dk_27 (dk_at dksX0_seers_1 19 rfl rfl)
theorem dX0_seers_44 : decode cX0_seers 44 = .ok (.invokestatic 205, 3) := dk_184 0 205 (dk_at dksX0_seers_1 20 rfl rfl)
theorem dX0_seers_47 : decode cX0_seers 47 = .ok (.ifCond .eq 9, 3) := dk_153 0 9 (dk_at dksX0_seers_2 0 rfl rfl)
theorem dX0_seers_50 : decode cX0_seers 50 = .ok (.iconst 1, 1) := dk_4 (dk_at dksX0_seers_2 3 rfl rfl)
theorem dX0_seers_51 : decode cX0_seers 51 = .ok (.iload_n 3, 1) := dk_29 (dk_at dksX0_seers_2 4 rfl rfl)
theorem dX0_seers_52 : decode cX0_seers 52 = .ok (.ishl, 1) := dk_120 (dk_at dksX0_seers_2 5 rfl rfl)
theorem dX0_seers_53 : decode cX0_seers 53 = .ok (.goto 4, 3) := dk_167 0 4 (dk_at dksX0_seers_2 6 rfl rfl)
theorem dX0_seers_56 : decode cX0_seers 56 = .ok (.iconst 0, 1) := dk_3 (dk_at dksX0_seers_2 9 rfl rfl)
theorem dX0_seers_57 : decode cX0_seers 57 = .ok (.ior, 1) := dk_128 (dk_at dksX0_seers_2 10 rfl rfl)
theorem dX0_seers_58 : decode cX0_seers 58 = .ok (.istore_n 2, 1) := dk_61 (dk_at dksX0_seers_2 11 rfl rfl)
theorem dX0_seers_59 : decode cX0_seers 59 = .ok (.iinc 3 1, 3) := dk_132 3 1 (dk_at dksX0_seers_2 12 rfl rfl)
theorem dX0_seers_62 : decode cX0_seers 62 = .ok (.goto (-45), 3) := dk_167 255 211 (dk_at dksX0_seers_2 15 rfl rfl)
theorem dX0_seers_65 : decode cX0_seers 65 = .ok (.iload_n 2, 1) := dk_28 (dk_at dksX0_seers_2 18 rfl rfl)
theorem dX0_seers_66 : decode cX0_seers 66 = .ok (.ireturn, 1) := dk_172 (dk_at dksX0_seers_2 19 rfl rfl)
abbrev cX0_ifSwapped : ByteArray := prog_1_method_27_code
def yX0_ifSwapped : MethodName := ⟨RX0, "ifSwapped", "(II)I"⟩
def dkwX0_ifSwapped_1 : List UInt8 := [182, 0, 195, 62, 42, 27, 28, 182, 0, 208, 29, 172]
abbrev dktX0_ifSwapped_1 : List UInt8 := dkwX0_ifSwapped_1 ++ []
def dkwX0_ifSwapped_0 : List UInt8 := [27, 184, 0, 100, 153, 0, 10, 28, 184, 0, 100, 154, 0, 5, 2, 172, 42, 27, 28, 182, 0, 208, 42, 3]
abbrev dktX0_ifSwapped_0 : List UInt8 := dkwX0_ifSwapped_0 ++ dktX0_ifSwapped_1
theorem dksX0_ifSwapped_0 : cX0_ifSwapped.data.toList.drop 0 = dktX0_ifSwapped_0 := by decide +kernel
theorem dksX0_ifSwapped_1 : cX0_ifSwapped.data.toList.drop 24 = dktX0_ifSwapped_1 := dk_seg dksX0_ifSwapped_0 24 rfl rfl
theorem dX0_ifSwapped_0 : decode cX0_ifSwapped 0 = .ok (.iload_n 1, 1) := dk_27 (dk_at dksX0_ifSwapped_0 0 rfl rfl)
theorem dX0_ifSwapped_1 : decode cX0_ifSwapped 1 = .ok (.invokestatic 100, 3) := dk_184 0 100 (dk_at dksX0_ifSwapped_0 1 rfl rfl)
theorem dX0_ifSwapped_4 : decode cX0_ifSwapped 4 = .ok (.ifCond .eq 10, 3) := dk_153 0 10 (dk_at dksX0_ifSwapped_0 4 rfl rfl)
theorem dX0_ifSwapped_7 : decode cX0_ifSwapped 7 = .ok (.iload_n 2, 1) := dk_28 (dk_at dksX0_ifSwapped_0 7 rfl rfl)
theorem dX0_ifSwapped_8 : decode cX0_ifSwapped 8 = .ok (.invokestatic 100, 3) := dk_184 0 100 (dk_at dksX0_ifSwapped_0 8 rfl rfl)
theorem dX0_ifSwapped_11 : decode cX0_ifSwapped 11 = .ok (.ifCond .ne 5, 3) := dk_154 0 5 (dk_at dksX0_ifSwapped_0 11 rfl rfl)
theorem dX0_ifSwapped_14 : decode cX0_ifSwapped 14 = .ok (.iconst (-1), 1) := dk_2 (dk_at dksX0_ifSwapped_0 14 rfl rfl)
theorem dX0_ifSwapped_15 : decode cX0_ifSwapped 15 = .ok (.ireturn, 1) := dk_172 (dk_at dksX0_ifSwapped_0 15 rfl rfl)
theorem dX0_ifSwapped_16 : decode cX0_ifSwapped 16 = .ok (.aload_n 0, 1) := dk_42 (dk_at dksX0_ifSwapped_0 16 rfl rfl)
theorem dX0_ifSwapped_17 : decode cX0_ifSwapped 17 = .ok (.iload_n 1, 1) := dk_27 (dk_at dksX0_ifSwapped_0 17 rfl rfl)
theorem dX0_ifSwapped_18 : decode cX0_ifSwapped 18 = .ok (.iload_n 2, 1) := dk_28 (dk_at dksX0_ifSwapped_0 18 rfl rfl)
theorem dX0_ifSwapped_19 : decode cX0_ifSwapped 19 = .ok (.invokevirtual 208, 3) := dk_182 0 208 (dk_at dksX0_ifSwapped_0 19 rfl rfl)
theorem dX0_ifSwapped_22 : decode cX0_ifSwapped 22 = .ok (.aload_n 0, 1) := dk_42 (dk_at dksX0_ifSwapped_0 22 rfl rfl)
theorem dX0_ifSwapped_23 : decode cX0_ifSwapped 23 = .ok (.iconst 0, 1) := dk_3 (dk_at dksX0_ifSwapped_0 23 rfl rfl)
theorem dX0_ifSwapped_24 : decode cX0_ifSwapped 24 = .ok (.invokevirtual 195, 3) := dk_182 0 195 (dk_at dksX0_ifSwapped_1 0 rfl rfl)
theorem dX0_ifSwapped_27 : decode cX0_ifSwapped 27 = .ok (.istore_n 3, 1) := dk_62 (dk_at dksX0_ifSwapped_1 3 rfl rfl)
theorem dX0_ifSwapped_28 : decode cX0_ifSwapped 28 = .ok (.aload_n 0, 1) := dk_42 (dk_at dksX0_ifSwapped_1 4 rfl rfl)
theorem dX0_ifSwapped_29 : decode cX0_ifSwapped 29 = .ok (.iload_n 1, 1) := dk_27 (dk_at dksX0_ifSwapped_1 5 rfl rfl)
theorem dX0_ifSwapped_30 : decode cX0_ifSwapped 30 = .ok (.iload_n 2, 1) := dk_28 (dk_at dksX0_ifSwapped_1 6 rfl rfl)
theorem dX0_ifSwapped_31 : decode cX0_ifSwapped 31 = .ok (.invokevirtual 208, 3) := dk_182 0 208 (dk_at dksX0_ifSwapped_1 7 rfl rfl)
theorem dX0_ifSwapped_34 : decode cX0_ifSwapped 34 = .ok (.iload_n 3, 1) := dk_29 (dk_at dksX0_ifSwapped_1 10 rfl rfl)
theorem dX0_ifSwapped_35 : decode cX0_ifSwapped 35 = .ok (.ireturn, 1) := dk_172 (dk_at dksX0_ifSwapped_1 11 rfl rfl)
abbrev cX0_exchanges : ByteArray := prog_1_method_26_code
def yX0_exchanges : MethodName := ⟨RX0, "exchanges", "(II)V"⟩
def dkwX0_exchanges_1 : List UInt8 := [29, 79, 177]
abbrev dktX0_exchanges_1 : List UInt8 := dkwX0_exchanges_1 ++ []
def dkwX0_exchanges_0 : List UInt8 := [42, 180, 0, 25, 27, 46, 62, 42, 180, 0, 25, 27, 42, 180, 0, 25, 28, 46, 79, 42, 180, 0, 25, 28]
abbrev dktX0_exchanges_0 : List UInt8 := dkwX0_exchanges_0 ++ dktX0_exchanges_1
theorem dksX0_exchanges_0 : cX0_exchanges.data.toList.drop 0 = dktX0_exchanges_0 := by decide +kernel
theorem dksX0_exchanges_1 : cX0_exchanges.data.toList.drop 24 = dktX0_exchanges_1 := dk_seg dksX0_exchanges_0 24 rfl rfl
theorem dX0_exchanges_0 : decode cX0_exchanges 0 = .ok (.aload_n 0, 1) := dk_42 (dk_at dksX0_exchanges_0 0 rfl rfl)
theorem dX0_exchanges_1 : decode cX0_exchanges 1 = .ok (.getfield 25, 3) := dk_180 0 25 (dk_at dksX0_exchanges_0 1 rfl rfl)
theorem dX0_exchanges_4 : decode cX0_exchanges 4 = .ok (.iload_n 1, 1) := dk_27 (dk_at dksX0_exchanges_0 4 rfl rfl)
theorem dX0_exchanges_5 : decode cX0_exchanges 5 = .ok (.iaload, 1) := dk_46 (dk_at dksX0_exchanges_0 5 rfl rfl)
theorem dX0_exchanges_6 : decode cX0_exchanges 6 = .ok (.istore_n 3, 1) := dk_62 (dk_at dksX0_exchanges_0 6 rfl rfl)
theorem dX0_exchanges_7 : decode cX0_exchanges 7 = .ok (.aload_n 0, 1) := dk_42 (dk_at dksX0_exchanges_0 7 rfl rfl)
theorem dX0_exchanges_8 : decode cX0_exchanges 8 = .ok (.getfield 25, 3) := dk_180 0 25 (dk_at dksX0_exchanges_0 8 rfl rfl)
theorem dX0_exchanges_11 : decode cX0_exchanges 11 = .ok (.iload_n 1, 1) := dk_27 (dk_at dksX0_exchanges_0 11 rfl rfl)
theorem dX0_exchanges_12 : decode cX0_exchanges 12 = .ok (.aload_n 0, 1) := dk_42 (dk_at dksX0_exchanges_0 12 rfl rfl)
theorem dX0_exchanges_13 : decode cX0_exchanges 13 = .ok (.getfield 25, 3) := dk_180 0 25 (dk_at dksX0_exchanges_0 13 rfl rfl)
theorem dX0_exchanges_16 : decode cX0_exchanges 16 = .ok (.iload_n 2, 1) := dk_28 (dk_at dksX0_exchanges_0 16 rfl rfl)
theorem dX0_exchanges_17 : decode cX0_exchanges 17 = .ok (.iaload, 1) := dk_46 (dk_at dksX0_exchanges_0 17 rfl rfl)
theorem dX0_exchanges_18 : decode cX0_exchanges 18 = .ok (.iastore, 1) := dk_79 (dk_at dksX0_exchanges_0 18 rfl rfl)
theorem dX0_exchanges_19 : decode cX0_exchanges 19 = .ok (.aload_n 0, 1) := dk_42 (dk_at dksX0_exchanges_0 19 rfl rfl)
theorem dX0_exchanges_20 : decode cX0_exchanges 20 = .ok (.getfield 25, 3) := dk_180 0 25 (dk_at dksX0_exchanges_0 20 rfl rfl)
theorem dX0_exchanges_23 : decode cX0_exchanges 23 = .ok (.iload_n 2, 1) := dk_28 (dk_at dksX0_exchanges_0 23 rfl rfl)
theorem dX0_exchanges_24 : decode cX0_exchanges 24 = .ok (.iload_n 3, 1) := dk_29 (dk_at dksX0_exchanges_1 0 rfl rfl)
theorem dX0_exchanges_25 : decode cX0_exchanges 25 = .ok (.iastore, 1) := dk_79 (dk_at dksX0_exchanges_1 1 rfl rfl)
theorem dX0_exchanges_26 : decode cX0_exchanges 26 = .ok (.return_, 1) := dk_177 (dk_at dksX0_exchanges_1 2 rfl rfl)
abbrev cX0_spread : ByteArray := prog_1_method_28_code
def yX0_spread : MethodName := ⟨RX0, "spread", "()I"⟩
def dkwX0_spread_3 : List UInt8 := [180, 0, 21, 180, 0, 212, 154, 0, 7, 3, 167, 0, 6, 27, 28, 100, 172]
abbrev dktX0_spread_3 : List UInt8 := dkwX0_spread_3 ++ []
def dkwX0_spread_2 : List UInt8 := [153, 0, 15, 28, 42, 29, 182, 0, 183, 184, 0, 1, 167, 0, 4, 28, 61, 132, 3, 1, 167, 255, 197, 42]
abbrev dktX0_spread_2 : List UInt8 := dkwX0_spread_2 ++ dktX0_spread_3
def dkwX0_spread_1 : List UInt8 := [27, 42, 29, 182, 0, 183, 184, 0, 7, 167, 0, 4, 27, 60, 42, 180, 0, 21, 29, 182, 0, 104]
abbrev dktX0_spread_1 : List UInt8 := dkwX0_spread_1 ++ dktX0_spread_2
def dkwX0_spread_0 : List UInt8 := [3, 60, 16, 12, 61, 3, 62, 29, 16, 16, 162, 0, 59, 42, 180, 0, 21, 29, 182, 0, 104, 153, 0, 15]
abbrev dktX0_spread_0 : List UInt8 := dkwX0_spread_0 ++ dktX0_spread_1
theorem dksX0_spread_0 : cX0_spread.data.toList.drop 0 = dktX0_spread_0 := by decide +kernel
theorem dksX0_spread_1 : cX0_spread.data.toList.drop 24 = dktX0_spread_1 := dk_seg dksX0_spread_0 24 rfl rfl
theorem dksX0_spread_2 : cX0_spread.data.toList.drop 46 = dktX0_spread_2 := dk_seg dksX0_spread_1 22 rfl rfl
theorem dksX0_spread_3 : cX0_spread.data.toList.drop 70 = dktX0_spread_3 := dk_seg dksX0_spread_2 24 rfl rfl
theorem dX0_spread_0 : decode cX0_spread 0 = .ok (.iconst 0, 1) := dk_3 (dk_at dksX0_spread_0 0 rfl rfl)
theorem dX0_spread_1 : decode cX0_spread 1 = .ok (.istore_n 1, 1) := dk_60 (dk_at dksX0_spread_0 1 rfl rfl)
theorem dX0_spread_2 : decode cX0_spread 2 = .ok (.bipush 12, 2) := dk_16 12 (dk_at dksX0_spread_0 2 rfl rfl)
theorem dX0_spread_4 : decode cX0_spread 4 = .ok (.istore_n 2, 1) := dk_61 (dk_at dksX0_spread_0 4 rfl rfl)
theorem dX0_spread_5 : decode cX0_spread 5 = .ok (.iconst 0, 1) := dk_3 (dk_at dksX0_spread_0 5 rfl rfl)
theorem dX0_spread_6 : decode cX0_spread 6 = .ok (.istore_n 3, 1) := dk_62 (dk_at dksX0_spread_0 6 rfl rfl)
theorem dX0_spread_7 : decode cX0_spread 7 = .ok (.iload_n 3, 1) := dk_29 (dk_at dksX0_spread_0 7 rfl rfl)
theorem dX0_spread_8 : decode cX0_spread 8 = .ok (.bipush 16, 2) := dk_16 16 (dk_at dksX0_spread_0 8 rfl rfl)
theorem dX0_spread_10 : decode cX0_spread 10 = .ok (.if_icmp .ge 59, 3) := dk_162 0 59 (dk_at dksX0_spread_0 10 rfl rfl)
theorem dX0_spread_13 : decode cX0_spread 13 = .ok (.aload_n 0, 1) := dk_42 (dk_at dksX0_spread_0 13 rfl rfl)
theorem dX0_spread_14 : decode cX0_spread 14 = .ok (.getfield 21, 3) := dk_180 0 21 (dk_at dksX0_spread_0 14 rfl rfl)
theorem dX0_spread_17 : decode cX0_spread 17 = .ok (.iload_n 3, 1) := dk_29 (dk_at dksX0_spread_0 17 rfl rfl)
theorem dX0_spread_18 : decode cX0_spread 18 = .ok (.invokevirtual 104, 3) := dk_182 0 104 (dk_at dksX0_spread_0 18 rfl rfl)
theorem dX0_spread_21 : decode cX0_spread 21 = .ok (.ifCond .eq 15, 3) := dk_153 0 15 (dk_at dksX0_spread_0 21 rfl rfl)
theorem dX0_spread_24 : decode cX0_spread 24 = .ok (.iload_n 1, 1) := dk_27 (dk_at dksX0_spread_1 0 rfl rfl)
theorem dX0_spread_25 : decode cX0_spread 25 = .ok (.aload_n 0, 1) := dk_42 (dk_at dksX0_spread_1 1 rfl rfl)
theorem dX0_spread_26 : decode cX0_spread 26 = .ok (.iload_n 3, 1) := dk_29 (dk_at dksX0_spread_1 2 rfl rfl)
theorem dX0_spread_27 : decode cX0_spread 27 = .ok (.invokevirtual 183, 3) := dk_182 0 183 (dk_at dksX0_spread_1 3 rfl rfl)
theorem dX0_spread_30 : decode cX0_spread 30 = .ok (.invokestatic 7, 3) := dk_184 0 7 (dk_at dksX0_spread_1 6 rfl rfl)
theorem dX0_spread_33 : decode cX0_spread 33 = .ok (.goto 4, 3) := dk_167 0 4 (dk_at dksX0_spread_1 9 rfl rfl)
theorem dX0_spread_36 : decode cX0_spread 36 = .ok (.iload_n 1, 1) := dk_27 (dk_at dksX0_spread_1 12 rfl rfl)
theorem dX0_spread_37 : decode cX0_spread 37 = .ok (.istore_n 1, 1) := dk_60 (dk_at dksX0_spread_1 13 rfl rfl)
theorem dX0_spread_38 : decode cX0_spread 38 = .ok (.aload_n 0, 1) := dk_42 (dk_at dksX0_spread_1 14 rfl rfl)
theorem dX0_spread_39 : decode cX0_spread 39 = .ok (.getfield 21, 3) := dk_180 0 21 (dk_at dksX0_spread_1 15 rfl rfl)
theorem dX0_spread_42 : decode cX0_spread 42 = .ok (.iload_n 3, 1) := dk_29 (dk_at dksX0_spread_1 18 rfl rfl)
theorem dX0_spread_43 : decode cX0_spread 43 = .ok (.invokevirtual 104, 3) := dk_182 0 104 (dk_at dksX0_spread_1 19 rfl rfl)
theorem dX0_spread_46 : decode cX0_spread 46 = .ok (.ifCond .eq 15, 3) := dk_153 0 15 (dk_at dksX0_spread_2 0 rfl rfl)
theorem dX0_spread_49 : decode cX0_spread 49 = .ok (.iload_n 2, 1) := dk_28 (dk_at dksX0_spread_2 3 rfl rfl)
theorem dX0_spread_50 : decode cX0_spread 50 = .ok (.aload_n 0, 1) := dk_42 (dk_at dksX0_spread_2 4 rfl rfl)
theorem dX0_spread_51 : decode cX0_spread 51 = .ok (.iload_n 3, 1) := dk_29 (dk_at dksX0_spread_2 5 rfl rfl)
theorem dX0_spread_52 : decode cX0_spread 52 = .ok (.invokevirtual 183, 3) := dk_182 0 183 (dk_at dksX0_spread_2 6 rfl rfl)
theorem dX0_spread_55 : decode cX0_spread 55 = .ok (.invokestatic 1, 3) := dk_184 0 1 (dk_at dksX0_spread_2 9 rfl rfl)
theorem dX0_spread_58 : decode cX0_spread 58 = .ok (.goto 4, 3) := dk_167 0 4 (dk_at dksX0_spread_2 12 rfl rfl)
theorem dX0_spread_61 : decode cX0_spread 61 = .ok (.iload_n 2, 1) := dk_28 (dk_at dksX0_spread_2 15 rfl rfl)
theorem dX0_spread_62 : decode cX0_spread 62 = .ok (.istore_n 2, 1) := dk_61 (dk_at dksX0_spread_2 16 rfl rfl)
theorem dX0_spread_63 : decode cX0_spread 63 = .ok (.iinc 3 1, 3) := dk_132 3 1 (dk_at dksX0_spread_2 17 rfl rfl)
theorem dX0_spread_66 : decode cX0_spread 66 = .ok (.goto (-59), 3) := dk_167 255 197 (dk_at dksX0_spread_2 20 rfl rfl)
theorem dX0_spread_69 : decode cX0_spread 69 = .ok (.aload_n 0, 1) := dk_42 (dk_at dksX0_spread_2 23 rfl rfl)
theorem dX0_spread_70 : decode cX0_spread 70 = .ok (.getfield 21, 3) := dk_180 0 21 (dk_at dksX0_spread_3 0 rfl rfl)
theorem dX0_spread_73 : decode cX0_spread 73 = .ok (.getfield 212, 3) := dk_180 0 212 (dk_at dksX0_spread_3 3 rfl rfl)
theorem dX0_spread_76 : decode cX0_spread 76 = .ok (.ifCond .ne 7, 3) := dk_154 0 7 (dk_at dksX0_spread_3 6 rfl rfl)
theorem dX0_spread_79 : decode cX0_spread 79 = .ok (.iconst 0, 1) := dk_3 (dk_at dksX0_spread_3 9 rfl rfl)
theorem dX0_spread_80 : decode cX0_spread 80 = .ok (.goto 6, 3) := dk_167 0 6 (dk_at dksX0_spread_3 10 rfl rfl)
theorem dX0_spread_83 : decode cX0_spread 83 = .ok (.iload_n 1, 1) := dk_27 (dk_at dksX0_spread_3 13 rfl rfl)
theorem dX0_spread_84 : decode cX0_spread 84 = .ok (.iload_n 2, 1) := dk_28 (dk_at dksX0_spread_3 14 rfl rfl)
theorem dX0_spread_85 : decode cX0_spread 85 = .ok (.isub, 1) := dk_100 (dk_at dksX0_spread_3 15 rfl rfl)
theorem dX0_spread_86 : decode cX0_spread 86 = .ok (.ireturn, 1) := dk_172 (dk_at dksX0_spread_3 16 rfl rfl)
abbrev cX0_bestBreath : ByteArray := prog_1_method_30_code
def yX0_bestBreath : MethodName := ⟨RX0, "bestBreath", "(II)I"⟩
def dkwX0_bestBreath_4 : List UInt8 := [42, 27, 29, 182, 0, 223, 172]
abbrev dktX0_bestBreath_4 : List UInt8 := dkwX0_bestBreath_4 ++ []
def dkwX0_bestBreath_3 : List UInt8 := [132, 4, 1, 167, 255, 210, 28, 154, 0, 7, 29, 167, 0, 19, 29, 16, 254, 160, 0, 7, 3, 167, 0, 9]
abbrev dktX0_bestBreath_3 : List UInt8 := dkwX0_bestBreath_3 ++ dktX0_bestBreath_4
def dkwX0_bestBreath_2 : List UInt8 := [159, 0, 19, 42, 27, 21, 4, 182, 0, 223, 42, 27, 29, 182, 0, 223, 164, 0, 6, 21, 4, 62]
abbrev dktX0_bestBreath_2 : List UInt8 := dkwX0_bestBreath_2 ++ dktX0_bestBreath_3
def dkwX0_bestBreath_1 : List UInt8 := [3, 54, 4, 21, 4, 16, 12, 162, 0, 45, 42, 180, 0, 25, 21, 4, 46, 27, 160, 0, 28, 29, 16, 254]
abbrev dktX0_bestBreath_1 : List UInt8 := dkwX0_bestBreath_1 ++ dktX0_bestBreath_2
def dkwX0_bestBreath_0 : List UInt8 := [42, 180, 0, 21, 27, 182, 0, 104, 153, 0, 11, 28, 5, 184, 0, 96, 154, 0, 5, 2, 172, 16, 254, 62]
abbrev dktX0_bestBreath_0 : List UInt8 := dkwX0_bestBreath_0 ++ dktX0_bestBreath_1
theorem dksX0_bestBreath_0 : cX0_bestBreath.data.toList.drop 0 = dktX0_bestBreath_0 := by decide +kernel
theorem dksX0_bestBreath_1 : cX0_bestBreath.data.toList.drop 24 = dktX0_bestBreath_1 := dk_seg dksX0_bestBreath_0 24 rfl rfl
theorem dksX0_bestBreath_2 : cX0_bestBreath.data.toList.drop 48 = dktX0_bestBreath_2 := dk_seg dksX0_bestBreath_1 24 rfl rfl
theorem dksX0_bestBreath_3 : cX0_bestBreath.data.toList.drop 70 = dktX0_bestBreath_3 := dk_seg dksX0_bestBreath_2 22 rfl rfl
theorem dksX0_bestBreath_4 : cX0_bestBreath.data.toList.drop 94 = dktX0_bestBreath_4 := dk_seg dksX0_bestBreath_3 24 rfl rfl
theorem dX0_bestBreath_0 : decode cX0_bestBreath 0 = .ok (.aload_n 0, 1) := dk_42 (dk_at dksX0_bestBreath_0 0 rfl rfl)
theorem dX0_bestBreath_1 : decode cX0_bestBreath 1 = .ok (.getfield 21, 3) := dk_180 0 21 (dk_at dksX0_bestBreath_0 1 rfl rfl)
theorem dX0_bestBreath_4 : decode cX0_bestBreath 4 = .ok (.iload_n 1, 1) := dk_27 (dk_at dksX0_bestBreath_0 4 rfl rfl)
theorem dX0_bestBreath_5 : decode cX0_bestBreath 5 = .ok (.invokevirtual 104, 3) := dk_182 0 104 (dk_at dksX0_bestBreath_0 5 rfl rfl)
theorem dX0_bestBreath_8 : decode cX0_bestBreath 8 = .ok (.ifCond .eq 11, 3) := dk_153 0 11 (dk_at dksX0_bestBreath_0 8 rfl rfl)
theorem dX0_bestBreath_11 : decode cX0_bestBreath 11 = .ok (.iload_n 2, 1) := dk_28 (dk_at dksX0_bestBreath_0 11 rfl rfl)
theorem dX0_bestBreath_12 : decode cX0_bestBreath 12 = .ok (.iconst 2, 1) := dk_5 (dk_at dksX0_bestBreath_0 12 rfl rfl)
theorem dX0_bestBreath_13 : decode cX0_bestBreath 13 = .ok (.invokestatic 96, 3) := dk_184 0 96 (dk_at dksX0_bestBreath_0 13 rfl rfl)
theorem dX0_bestBreath_16 : decode cX0_bestBreath 16 = .ok (.ifCond .ne 5, 3) := dk_154 0 5 (dk_at dksX0_bestBreath_0 16 rfl rfl)
theorem dX0_bestBreath_19 : decode cX0_bestBreath 19 = .ok (.iconst (-1), 1) := dk_2 (dk_at dksX0_bestBreath_0 19 rfl rfl)
theorem dX0_bestBreath_20 : decode cX0_bestBreath 20 = .ok (.ireturn, 1) := dk_172 (dk_at dksX0_bestBreath_0 20 rfl rfl)
theorem dX0_bestBreath_21 : decode cX0_bestBreath 21 = .ok (.bipush (-2), 2) := dk_16 254 (dk_at dksX0_bestBreath_0 21 rfl rfl)
theorem dX0_bestBreath_23 : decode cX0_bestBreath 23 = .ok (.istore_n 3, 1) := dk_62 (dk_at dksX0_bestBreath_0 23 rfl rfl)
theorem dX0_bestBreath_24 : decode cX0_bestBreath 24 = .ok (.iconst 0, 1) := dk_3 (dk_at dksX0_bestBreath_1 0 rfl rfl)
theorem dX0_bestBreath_25 : decode cX0_bestBreath 25 = .ok (.istore 4, 2) := dk_54 4 (dk_at dksX0_bestBreath_1 1 rfl rfl)
theorem dX0_bestBreath_27 : decode cX0_bestBreath 27 = .ok (.iload 4, 2) := dk_21 4 (dk_at dksX0_bestBreath_1 3 rfl rfl)
theorem dX0_bestBreath_29 : decode cX0_bestBreath 29 = .ok (.bipush 12, 2) := dk_16 12 (dk_at dksX0_bestBreath_1 5 rfl rfl)
theorem dX0_bestBreath_31 : decode cX0_bestBreath 31 = .ok (.if_icmp .ge 45, 3) := dk_162 0 45 (dk_at dksX0_bestBreath_1 7 rfl rfl)
theorem dX0_bestBreath_34 : decode cX0_bestBreath 34 = .ok (.aload_n 0, 1) := dk_42 (dk_at dksX0_bestBreath_1 10 rfl rfl)
theorem dX0_bestBreath_35 : decode cX0_bestBreath 35 = .ok (.getfield 25, 3) := dk_180 0 25 (dk_at dksX0_bestBreath_1 11 rfl rfl)
theorem dX0_bestBreath_38 : decode cX0_bestBreath 38 = .ok (.iload 4, 2) := dk_21 4 (dk_at dksX0_bestBreath_1 14 rfl rfl)
theorem dX0_bestBreath_40 : decode cX0_bestBreath 40 = .ok (.iaload, 1) := dk_46 (dk_at dksX0_bestBreath_1 16 rfl rfl)
theorem dX0_bestBreath_41 : decode cX0_bestBreath 41 = .ok (.iload_n 1, 1) := dk_27 (dk_at dksX0_bestBreath_1 17 rfl rfl)
theorem dX0_bestBreath_42 : decode cX0_bestBreath 42 = .ok (.if_icmp .ne 28, 3) := dk_160 0 28 (dk_at dksX0_bestBreath_1 18 rfl rfl)
theorem dX0_bestBreath_45 : decode cX0_bestBreath 45 = .ok (.iload_n 3, 1) := dk_29 (dk_at dksX0_bestBreath_1 21 rfl rfl)
theorem dX0_bestBreath_46 : decode cX0_bestBreath 46 = .ok (.bipush (-2), 2) := dk_16 254 (dk_at dksX0_bestBreath_1 22 rfl rfl)
theorem dX0_bestBreath_48 : decode cX0_bestBreath 48 = .ok (.if_icmp .eq 19, 3) := dk_159 0 19 (dk_at dksX0_bestBreath_2 0 rfl rfl)
theorem dX0_bestBreath_51 : decode cX0_bestBreath 51 = .ok (.aload_n 0, 1) := dk_42 (dk_at dksX0_bestBreath_2 3 rfl rfl)
theorem dX0_bestBreath_52 : decode cX0_bestBreath 52 = .ok (.iload_n 1, 1) := dk_27 (dk_at dksX0_bestBreath_2 4 rfl rfl)
theorem dX0_bestBreath_53 : decode cX0_bestBreath 53 = .ok (.iload 4, 2) := dk_21 4 (dk_at dksX0_bestBreath_2 5 rfl rfl)
theorem dX0_bestBreath_55 : decode cX0_bestBreath 55 = .ok (.invokevirtual 223, 3) := dk_182 0 223 (dk_at dksX0_bestBreath_2 7 rfl rfl)
theorem dX0_bestBreath_58 : decode cX0_bestBreath 58 = .ok (.aload_n 0, 1) := dk_42 (dk_at dksX0_bestBreath_2 10 rfl rfl)
theorem dX0_bestBreath_59 : decode cX0_bestBreath 59 = .ok (.iload_n 1, 1) := dk_27 (dk_at dksX0_bestBreath_2 11 rfl rfl)
theorem dX0_bestBreath_60 : decode cX0_bestBreath 60 = .ok (.iload_n 3, 1) := dk_29 (dk_at dksX0_bestBreath_2 12 rfl rfl)
theorem dX0_bestBreath_61 : decode cX0_bestBreath 61 = .ok (.invokevirtual 223, 3) := dk_182 0 223 (dk_at dksX0_bestBreath_2 13 rfl rfl)
theorem dX0_bestBreath_64 : decode cX0_bestBreath 64 = .ok (.if_icmp .le 6, 3) := dk_164 0 6 (dk_at dksX0_bestBreath_2 16 rfl rfl)
theorem dX0_bestBreath_67 : decode cX0_bestBreath 67 = .ok (.iload 4, 2) := dk_21 4 (dk_at dksX0_bestBreath_2 19 rfl rfl)
theorem dX0_bestBreath_69 : decode cX0_bestBreath 69 = .ok (.istore_n 3, 1) := dk_62 (dk_at dksX0_bestBreath_2 21 rfl rfl)
theorem dX0_bestBreath_70 : decode cX0_bestBreath 70 = .ok (.iinc 4 1, 3) := dk_132 4 1 (dk_at dksX0_bestBreath_3 0 rfl rfl)
theorem dX0_bestBreath_73 : decode cX0_bestBreath 73 = .ok (.goto (-46), 3) := dk_167 255 210 (dk_at dksX0_bestBreath_3 3 rfl rfl)
theorem dX0_bestBreath_76 : decode cX0_bestBreath 76 = .ok (.iload_n 2, 1) := dk_28 (dk_at dksX0_bestBreath_3 6 rfl rfl)
theorem dX0_bestBreath_77 : decode cX0_bestBreath 77 = .ok (.ifCond .ne 7, 3) := dk_154 0 7 (dk_at dksX0_bestBreath_3 7 rfl rfl)
theorem dX0_bestBreath_80 : decode cX0_bestBreath 80 = .ok (.iload_n 3, 1) := dk_29 (dk_at dksX0_bestBreath_3 10 rfl rfl)
theorem dX0_bestBreath_81 : decode cX0_bestBreath 81 = .ok (.goto 19, 3) := dk_167 0 19 (dk_at dksX0_bestBreath_3 11 rfl rfl)
theorem dX0_bestBreath_84 : decode cX0_bestBreath 84 = .ok (.iload_n 3, 1) := dk_29 (dk_at dksX0_bestBreath_3 14 rfl rfl)
theorem dX0_bestBreath_85 : decode cX0_bestBreath 85 = .ok (.bipush (-2), 2) := dk_16 254 (dk_at dksX0_bestBreath_3 15 rfl rfl)
theorem dX0_bestBreath_87 : decode cX0_bestBreath 87 = .ok (.if_icmp .ne 7, 3) := dk_160 0 7 (dk_at dksX0_bestBreath_3 17 rfl rfl)
theorem dX0_bestBreath_90 : decode cX0_bestBreath 90 = .ok (.iconst 0, 1) := dk_3 (dk_at dksX0_bestBreath_3 20 rfl rfl)
theorem dX0_bestBreath_91 : decode cX0_bestBreath 91 = .ok (.goto 9, 3) := dk_167 0 9 (dk_at dksX0_bestBreath_3 21 rfl rfl)
theorem dX0_bestBreath_94 : decode cX0_bestBreath 94 = .ok (.aload_n 0, 1) := dk_42 (dk_at dksX0_bestBreath_4 0 rfl rfl)
theorem dX0_bestBreath_95 : decode cX0_bestBreath 95 = .ok (.iload_n 1, 1) := dk_27 (dk_at dksX0_bestBreath_4 1 rfl rfl)
theorem dX0_bestBreath_96 : decode cX0_bestBreath 96 = .ok (.iload_n 3, 1) := dk_29 (dk_at dksX0_bestBreath_4 2 rfl rfl)
theorem dX0_bestBreath_97 : decode cX0_bestBreath 97 = .ok (.invokevirtual 223, 3) := dk_182 0 223 (dk_at dksX0_bestBreath_4 3 rfl rfl)
theorem dX0_bestBreath_100 : decode cX0_bestBreath 100 = .ok (.ireturn, 1) := dk_172 (dk_at dksX0_bestBreath_4 6 rfl rfl)
abbrev cX0_othersReading : ByteArray := prog_1_method_29_code
def yX0_othersReading : MethodName := ⟨RX0, "othersReading", "(II)I"⟩
def dkwX0_othersReading_0 : List UInt8 := [42, 28, 16, 12, 182, 0, 215, 4, 27, 120, 2, 130, 126, 184, 0, 218, 172]
abbrev dktX0_othersReading_0 : List UInt8 := dkwX0_othersReading_0 ++ []
theorem dksX0_othersReading_0 : cX0_othersReading.data.toList.drop 0 = dktX0_othersReading_0 := by decide +kernel
theorem dX0_othersReading_0 : decode cX0_othersReading 0 = .ok (.aload_n 0, 1) := dk_42 (dk_at dksX0_othersReading_0 0 rfl rfl)
theorem dX0_othersReading_1 : decode cX0_othersReading 1 = .ok (.iload_n 2, 1) := dk_28 (dk_at dksX0_othersReading_0 1 rfl rfl)
theorem dX0_othersReading_2 : decode cX0_othersReading 2 = .ok (.bipush 12, 2) := dk_16 12 (dk_at dksX0_othersReading_0 2 rfl rfl)
theorem dX0_othersReading_4 : decode cX0_othersReading 4 = .ok (.invokevirtual 215, 3) := dk_182 0 215 (dk_at dksX0_othersReading_0 4 rfl rfl)
theorem dX0_othersReading_7 : decode cX0_othersReading 7 = .ok (.iconst 1, 1) := dk_4 (dk_at dksX0_othersReading_0 7 rfl rfl)
theorem dX0_othersReading_8 : decode cX0_othersReading 8 = .ok (.iload_n 1, 1) := dk_27 (dk_at dksX0_othersReading_0 8 rfl rfl)
theorem dX0_othersReading_9 : decode cX0_othersReading 9 = .ok (.ishl, 1) := dk_120 (dk_at dksX0_othersReading_0 9 rfl rfl)
theorem dX0_othersReading_10 : decode cX0_othersReading 10 = .ok (.iconst (-1), 1) := dk_2 (dk_at dksX0_othersReading_0 10 rfl rfl)
theorem dX0_othersReading_11 : decode cX0_othersReading 11 = .ok (.ixor, 1) := dk_130 (dk_at dksX0_othersReading_0 11 rfl rfl)
theorem dX0_othersReading_12 : decode cX0_othersReading 12 = .ok (.iand, 1) := dk_126 (dk_at dksX0_othersReading_0 12 rfl rfl)
theorem dX0_othersReading_13 : decode cX0_othersReading 13 = .ok (.invokestatic 218, 3) := dk_184 0 218 (dk_at dksX0_othersReading_0 13 rfl rfl)
theorem dX0_othersReading_16 : decode cX0_othersReading 16 = .ok (.ireturn, 1) := dk_172 (dk_at dksX0_othersReading_0 16 rfl rfl)
abbrev cX0_readers : ByteArray := prog_1_method_39_code
def yX0_readers : MethodName := ⟨RX0, "readers", "(II)I"⟩
def dkwX0_readers_3 : List UInt8 := [180, 0, 25, 21, 5, 46, 21, 5, 182, 0, 177, 154, 0, 5, 29, 172, 132, 4, 1, 167, 255, 191, 29, 172]
abbrev dktX0_readers_3 : List UInt8 := dkwX0_readers_3 ++ []
def dkwX0_readers_2 : List UInt8 := [160, 0, 6, 167, 0, 36, 29, 4, 42, 180, 0, 25, 21, 5, 46, 120, 128, 62, 42, 180, 0, 21, 42]
abbrev dktX0_readers_2 : List UInt8 := dkwX0_readers_2 ++ dktX0_readers_3
def dkwX0_readers_1 : List UInt8 := [21, 4, 28, 163, 0, 65, 27, 21, 4, 96, 16, 12, 112, 54, 5, 42, 180, 0, 25, 21, 5, 46, 2]
abbrev dktX0_readers_1 : List UInt8 := dkwX0_readers_1 ++ dktX0_readers_2
def dkwX0_readers_0 : List UInt8 := [27, 184, 0, 100, 153, 0, 13, 28, 3, 16, 12, 184, 0, 114, 154, 0, 5, 2, 172, 3, 62, 4, 54, 4]
abbrev dktX0_readers_0 : List UInt8 := dkwX0_readers_0 ++ dktX0_readers_1
theorem dksX0_readers_0 : cX0_readers.data.toList.drop 0 = dktX0_readers_0 := by decide +kernel
theorem dksX0_readers_1 : cX0_readers.data.toList.drop 24 = dktX0_readers_1 := dk_seg dksX0_readers_0 24 rfl rfl
theorem dksX0_readers_2 : cX0_readers.data.toList.drop 47 = dktX0_readers_2 := dk_seg dksX0_readers_1 23 rfl rfl
theorem dksX0_readers_3 : cX0_readers.data.toList.drop 70 = dktX0_readers_3 := dk_seg dksX0_readers_2 23 rfl rfl
theorem dX0_readers_0 : decode cX0_readers 0 = .ok (.iload_n 1, 1) := dk_27 (dk_at dksX0_readers_0 0 rfl rfl)
theorem dX0_readers_1 : decode cX0_readers 1 = .ok (.invokestatic 100, 3) := dk_184 0 100 (dk_at dksX0_readers_0 1 rfl rfl)
theorem dX0_readers_4 : decode cX0_readers 4 = .ok (.ifCond .eq 13, 3) := dk_153 0 13 (dk_at dksX0_readers_0 4 rfl rfl)
theorem dX0_readers_7 : decode cX0_readers 7 = .ok (.iload_n 2, 1) := dk_28 (dk_at dksX0_readers_0 7 rfl rfl)
theorem dX0_readers_8 : decode cX0_readers 8 = .ok (.iconst 0, 1) := dk_3 (dk_at dksX0_readers_0 8 rfl rfl)
theorem dX0_readers_9 : decode cX0_readers 9 = .ok (.bipush 12, 2) := dk_16 12 (dk_at dksX0_readers_0 9 rfl rfl)
theorem dX0_readers_11 : decode cX0_readers 11 = .ok (.invokestatic 114, 3) := dk_184 0 114 (dk_at dksX0_readers_0 11 rfl rfl)
theorem dX0_readers_14 : decode cX0_readers 14 = .ok (.ifCond .ne 5, 3) := dk_154 0 5 (dk_at dksX0_readers_0 14 rfl rfl)
theorem dX0_readers_17 : decode cX0_readers 17 = .ok (.iconst (-1), 1) := dk_2 (dk_at dksX0_readers_0 17 rfl rfl)
theorem dX0_readers_18 : decode cX0_readers 18 = .ok (.ireturn, 1) := dk_172 (dk_at dksX0_readers_0 18 rfl rfl)
theorem dX0_readers_19 : decode cX0_readers 19 = .ok (.iconst 0, 1) := dk_3 (dk_at dksX0_readers_0 19 rfl rfl)
theorem dX0_readers_20 : decode cX0_readers 20 = .ok (.istore_n 3, 1) := dk_62 (dk_at dksX0_readers_0 20 rfl rfl)
theorem dX0_readers_21 : decode cX0_readers 21 = .ok (.iconst 1, 1) := dk_4 (dk_at dksX0_readers_0 21 rfl rfl)
theorem dX0_readers_22 : decode cX0_readers 22 = .ok (.istore 4, 2) := dk_54 4 (dk_at dksX0_readers_0 22 rfl rfl)
theorem dX0_readers_24 : decode cX0_readers 24 = .ok (.iload 4, 2) := dk_21 4 (dk_at dksX0_readers_1 0 rfl rfl)
theorem dX0_readers_26 : decode cX0_readers 26 = .ok (.iload_n 2, 1) := dk_28 (dk_at dksX0_readers_1 2 rfl rfl)
theorem dX0_readers_27 : decode cX0_readers 27 = .ok (.if_icmp .gt 65, 3) := dk_163 0 65 (dk_at dksX0_readers_1 3 rfl rfl)
theorem dX0_readers_30 : decode cX0_readers 30 = .ok (.iload_n 1, 1) := dk_27 (dk_at dksX0_readers_1 6 rfl rfl)
theorem dX0_readers_31 : decode cX0_readers 31 = .ok (.iload 4, 2) := dk_21 4 (dk_at dksX0_readers_1 7 rfl rfl)
theorem dX0_readers_33 : decode cX0_readers 33 = .ok (.iadd, 1) := dk_96 (dk_at dksX0_readers_1 9 rfl rfl)
theorem dX0_readers_34 : decode cX0_readers 34 = .ok (.bipush 12, 2) := dk_16 12 (dk_at dksX0_readers_1 10 rfl rfl)
theorem dX0_readers_36 : decode cX0_readers 36 = .ok (.irem, 1) := dk_112 (dk_at dksX0_readers_1 12 rfl rfl)
theorem dX0_readers_37 : decode cX0_readers 37 = .ok (.istore 5, 2) := dk_54 5 (dk_at dksX0_readers_1 13 rfl rfl)
theorem dX0_readers_39 : decode cX0_readers 39 = .ok (.aload_n 0, 1) := dk_42 (dk_at dksX0_readers_1 15 rfl rfl)
theorem dX0_readers_40 : decode cX0_readers 40 = .ok (.getfield 25, 3) := dk_180 0 25 (dk_at dksX0_readers_1 16 rfl rfl)
theorem dX0_readers_43 : decode cX0_readers 43 = .ok (.iload 5, 2) := dk_21 5 (dk_at dksX0_readers_1 19 rfl rfl)
theorem dX0_readers_45 : decode cX0_readers 45 = .ok (.iaload, 1) := dk_46 (dk_at dksX0_readers_1 21 rfl rfl)
theorem dX0_readers_46 : decode cX0_readers 46 = .ok (.iconst (-1), 1) := dk_2 (dk_at dksX0_readers_1 22 rfl rfl)
theorem dX0_readers_47 : decode cX0_readers 47 = .ok (.if_icmp .ne 6, 3) := dk_160 0 6 (dk_at dksX0_readers_2 0 rfl rfl)
theorem dX0_readers_50 : decode cX0_readers 50 = .ok (.goto 36, 3) := dk_167 0 36 (dk_at dksX0_readers_2 3 rfl rfl)
theorem dX0_readers_53 : decode cX0_readers 53 = .ok (.iload_n 3, 1) := dk_29 (dk_at dksX0_readers_2 6 rfl rfl)
theorem dX0_readers_54 : decode cX0_readers 54 = .ok (.iconst 1, 1) := dk_4 (dk_at dksX0_readers_2 7 rfl rfl)
theorem dX0_readers_55 : decode cX0_readers 55 = .ok (.aload_n 0, 1) := dk_42 (dk_at dksX0_readers_2 8 rfl rfl)
theorem dX0_readers_56 : decode cX0_readers 56 = .ok (.getfield 25, 3) := dk_180 0 25 (dk_at dksX0_readers_2 9 rfl rfl)
theorem dX0_readers_59 : decode cX0_readers 59 = .ok (.iload 5, 2) := dk_21 5 (dk_at dksX0_readers_2 12 rfl rfl)
theorem dX0_readers_61 : decode cX0_readers 61 = .ok (.iaload, 1) := dk_46 (dk_at dksX0_readers_2 14 rfl rfl)
theorem dX0_readers_62 : decode cX0_readers 62 = .ok (.ishl, 1) := dk_120 (dk_at dksX0_readers_2 15 rfl rfl)
theorem dX0_readers_63 : decode cX0_readers 63 = .ok (.ior, 1) := dk_128 (dk_at dksX0_readers_2 16 rfl rfl)
theorem dX0_readers_64 : decode cX0_readers 64 = .ok (.istore_n 3, 1) := dk_62 (dk_at dksX0_readers_2 17 rfl rfl)
theorem dX0_readers_65 : decode cX0_readers 65 = .ok (.aload_n 0, 1) := dk_42 (dk_at dksX0_readers_2 18 rfl rfl)
theorem dX0_readers_66 : decode cX0_readers 66 = .ok (.getfield 21, 3) := dk_180 0 21 (dk_at dksX0_readers_2 19 rfl rfl)
theorem dX0_readers_69 : decode cX0_readers 69 = .ok (.aload_n 0, 1) := dk_42 (dk_at dksX0_readers_2 22 rfl rfl)
theorem dX0_readers_70 : decode cX0_readers 70 = .ok (.getfield 25, 3) := dk_180 0 25 (dk_at dksX0_readers_3 0 rfl rfl)
theorem dX0_readers_73 : decode cX0_readers 73 = .ok (.iload 5, 2) := dk_21 5 (dk_at dksX0_readers_3 3 rfl rfl)
theorem dX0_readers_75 : decode cX0_readers 75 = .ok (.iaload, 1) := dk_46 (dk_at dksX0_readers_3 5 rfl rfl)
theorem dX0_readers_76 : decode cX0_readers 76 = .ok (.iload 5, 2) := dk_21 5 (dk_at dksX0_readers_3 6 rfl rfl)
theorem dX0_readers_78 : decode cX0_readers 78 = .ok (.invokevirtual 177, 3) := dk_182 0 177 (dk_at dksX0_readers_3 8 rfl rfl)
theorem dX0_readers_81 : decode cX0_readers 81 = .ok (.ifCond .ne 5, 3) := dk_154 0 5 (dk_at dksX0_readers_3 11 rfl rfl)
theorem dX0_readers_84 : decode cX0_readers 84 = .ok (.iload_n 3, 1) := dk_29 (dk_at dksX0_readers_3 14 rfl rfl)
theorem dX0_readers_85 : decode cX0_readers 85 = .ok (.ireturn, 1) := dk_172 (dk_at dksX0_readers_3 15 rfl rfl)
theorem dX0_readers_86 : decode cX0_readers 86 = .ok (.iinc 4 1, 3) := dk_132 4 1 (dk_at dksX0_readers_3 16 rfl rfl)
theorem dX0_readers_89 : decode cX0_readers 89 = .ok (.goto (-65), 3) := dk_167 255 191 (dk_at dksX0_readers_3 19 rfl rfl)
theorem dX0_readers_92 : decode cX0_readers 92 = .ok (.iload_n 3, 1) := dk_29 (dk_at dksX0_readers_3 22 rfl rfl)
theorem dX0_readers_93 : decode cX0_readers 93 = .ok (.ireturn, 1) := dk_172 (dk_at dksX0_readers_3 23 rfl rfl)
abbrev cX0_clearest : ByteArray := prog_1_method_32_code
def yX0_clearest : MethodName := ⟨RX0, "clearest", "(I)I"⟩
def dkwX0_clearest_2 : List UInt8 := [167, 0, 8, 42, 28, 182, 0, 226, 172]
abbrev dktX0_clearest_2 : List UInt8 := dkwX0_clearest_2 ++ []
def dkwX0_clearest_1 : List UInt8 := [182, 0, 226, 42, 28, 182, 0, 226, 164, 0, 5, 29, 61, 132, 3, 1, 167, 255, 232, 27, 154, 0, 7, 28]
abbrev dktX0_clearest_1 : List UInt8 := dkwX0_clearest_1 ++ dktX0_clearest_2
def dkwX0_clearest_0 : List UInt8 := [27, 5, 184, 0, 96, 154, 0, 5, 2, 172, 3, 61, 4, 62, 29, 16, 12, 162, 0, 24, 42, 29]
abbrev dktX0_clearest_0 : List UInt8 := dkwX0_clearest_0 ++ dktX0_clearest_1
theorem dksX0_clearest_0 : cX0_clearest.data.toList.drop 0 = dktX0_clearest_0 := by decide +kernel
theorem dksX0_clearest_1 : cX0_clearest.data.toList.drop 22 = dktX0_clearest_1 := dk_seg dksX0_clearest_0 22 rfl rfl
theorem dksX0_clearest_2 : cX0_clearest.data.toList.drop 46 = dktX0_clearest_2 := dk_seg dksX0_clearest_1 24 rfl rfl
theorem dX0_clearest_0 : decode cX0_clearest 0 = .ok (.iload_n 1, 1) := dk_27 (dk_at dksX0_clearest_0 0 rfl rfl)
theorem dX0_clearest_1 : decode cX0_clearest 1 = .ok (.iconst 2, 1) := dk_5 (dk_at dksX0_clearest_0 1 rfl rfl)
theorem dX0_clearest_2 : decode cX0_clearest 2 = .ok (.invokestatic 96, 3) := dk_184 0 96 (dk_at dksX0_clearest_0 2 rfl rfl)
theorem dX0_clearest_5 : decode cX0_clearest 5 = .ok (.ifCond .ne 5, 3) := dk_154 0 5 (dk_at dksX0_clearest_0 5 rfl rfl)
theorem dX0_clearest_8 : decode cX0_clearest 8 = .ok (.iconst (-1), 1) := dk_2 (dk_at dksX0_clearest_0 8 rfl rfl)
theorem dX0_clearest_9 : decode cX0_clearest 9 = .ok (.ireturn, 1) := dk_172 (dk_at dksX0_clearest_0 9 rfl rfl)
theorem dX0_clearest_10 : decode cX0_clearest 10 = .ok (.iconst 0, 1) := dk_3 (dk_at dksX0_clearest_0 10 rfl rfl)
theorem dX0_clearest_11 : decode cX0_clearest 11 = .ok (.istore_n 2, 1) := dk_61 (dk_at dksX0_clearest_0 11 rfl rfl)
theorem dX0_clearest_12 : decode cX0_clearest 12 = .ok (.iconst 1, 1) := dk_4 (dk_at dksX0_clearest_0 12 rfl rfl)
theorem dX0_clearest_13 : decode cX0_clearest 13 = .ok (.istore_n 3, 1) := dk_62 (dk_at dksX0_clearest_0 13 rfl rfl)
theorem dX0_clearest_14 : decode cX0_clearest 14 = .ok (.iload_n 3, 1) := dk_29 (dk_at dksX0_clearest_0 14 rfl rfl)
theorem dX0_clearest_15 : decode cX0_clearest 15 = .ok (.bipush 12, 2) := dk_16 12 (dk_at dksX0_clearest_0 15 rfl rfl)
theorem dX0_clearest_17 : decode cX0_clearest 17 = .ok (.if_icmp .ge 24, 3) := dk_162 0 24 (dk_at dksX0_clearest_0 17 rfl rfl)
theorem dX0_clearest_20 : decode cX0_clearest 20 = .ok (.aload_n 0, 1) := dk_42 (dk_at dksX0_clearest_0 20 rfl rfl)
theorem dX0_clearest_21 : decode cX0_clearest 21 = .ok (.iload_n 3, 1) := dk_29 (dk_at dksX0_clearest_0 21 rfl rfl)
theorem dX0_clearest_22 : decode cX0_clearest 22 = .ok (.invokevirtual 226, 3) := dk_182 0 226 (dk_at dksX0_clearest_1 0 rfl rfl)
theorem dX0_clearest_25 : decode cX0_clearest 25 = .ok (.aload_n 0, 1) := dk_42 (dk_at dksX0_clearest_1 3 rfl rfl)
theorem dX0_clearest_26 : decode cX0_clearest 26 = .ok (.iload_n 2, 1) := dk_28 (dk_at dksX0_clearest_1 4 rfl rfl)
theorem dX0_clearest_27 : decode cX0_clearest 27 = .ok (.invokevirtual 226, 3) := dk_182 0 226 (dk_at dksX0_clearest_1 5 rfl rfl)
theorem dX0_clearest_30 : decode cX0_clearest 30 = .ok (.if_icmp .le 5, 3) := dk_164 0 5 (dk_at dksX0_clearest_1 8 rfl rfl)
theorem dX0_clearest_33 : decode cX0_clearest 33 = .ok (.iload_n 3, 1) := dk_29 (dk_at dksX0_clearest_1 11 rfl rfl)
theorem dX0_clearest_34 : decode cX0_clearest 34 = .ok (.istore_n 2, 1) := dk_61 (dk_at dksX0_clearest_1 12 rfl rfl)
theorem dX0_clearest_35 : decode cX0_clearest 35 = .ok (.iinc 3 1, 3) := dk_132 3 1 (dk_at dksX0_clearest_1 13 rfl rfl)
theorem dX0_clearest_38 : decode cX0_clearest 38 = .ok (.goto (-24), 3) := dk_167 255 232 (dk_at dksX0_clearest_1 16 rfl rfl)
theorem dX0_clearest_41 : decode cX0_clearest 41 = .ok (.iload_n 1, 1) := dk_27 (dk_at dksX0_clearest_1 19 rfl rfl)
theorem dX0_clearest_42 : decode cX0_clearest 42 = .ok (.ifCond .ne 7, 3) := dk_154 0 7 (dk_at dksX0_clearest_1 20 rfl rfl)
theorem dX0_clearest_45 : decode cX0_clearest 45 = .ok (.iload_n 2, 1) := dk_28 (dk_at dksX0_clearest_1 23 rfl rfl)
theorem dX0_clearest_46 : decode cX0_clearest 46 = .ok (.goto 8, 3) := dk_167 0 8 (dk_at dksX0_clearest_2 0 rfl rfl)
theorem dX0_clearest_49 : decode cX0_clearest 49 = .ok (.aload_n 0, 1) := dk_42 (dk_at dksX0_clearest_2 3 rfl rfl)
theorem dX0_clearest_50 : decode cX0_clearest 50 = .ok (.iload_n 2, 1) := dk_28 (dk_at dksX0_clearest_2 4 rfl rfl)
theorem dX0_clearest_51 : decode cX0_clearest 51 = .ok (.invokevirtual 226, 3) := dk_182 0 226 (dk_at dksX0_clearest_2 5 rfl rfl)
theorem dX0_clearest_54 : decode cX0_clearest 54 = .ok (.ireturn, 1) := dk_172 (dk_at dksX0_clearest_2 8 rfl rfl)
abbrev cX0_clearIn : ByteArray := prog_1_method_31_code
def yX0_clearIn : MethodName := ⟨RX0, "clearIn", "(I)I"⟩
def dkwX0_clearIn_2 : List UInt8 := [172]
abbrev dktX0_clearIn_2 : List UInt8 := dkwX0_clearIn_2 ++ []
def dkwX0_clearIn_1 : List UInt8 := [180, 0, 21, 29, 27, 182, 0, 177, 184, 0, 218, 167, 0, 4, 3, 96, 61, 132, 3, 1, 167, 255, 217, 28]
abbrev dktX0_clearIn_1 : List UInt8 := dkwX0_clearIn_1 ++ dktX0_clearIn_2
def dkwX0_clearIn_0 : List UInt8 := [3, 61, 3, 62, 29, 16, 16, 162, 0, 39, 28, 42, 180, 0, 21, 29, 182, 0, 104, 153, 0, 18, 42]
abbrev dktX0_clearIn_0 : List UInt8 := dkwX0_clearIn_0 ++ dktX0_clearIn_1
theorem dksX0_clearIn_0 : cX0_clearIn.data.toList.drop 0 = dktX0_clearIn_0 := by decide +kernel
theorem dksX0_clearIn_1 : cX0_clearIn.data.toList.drop 23 = dktX0_clearIn_1 := dk_seg dksX0_clearIn_0 23 rfl rfl
theorem dksX0_clearIn_2 : cX0_clearIn.data.toList.drop 47 = dktX0_clearIn_2 := dk_seg dksX0_clearIn_1 24 rfl rfl
theorem dX0_clearIn_0 : decode cX0_clearIn 0 = .ok (.iconst 0, 1) := dk_3 (dk_at dksX0_clearIn_0 0 rfl rfl)
theorem dX0_clearIn_1 : decode cX0_clearIn 1 = .ok (.istore_n 2, 1) := dk_61 (dk_at dksX0_clearIn_0 1 rfl rfl)
theorem dX0_clearIn_2 : decode cX0_clearIn 2 = .ok (.iconst 0, 1) := dk_3 (dk_at dksX0_clearIn_0 2 rfl rfl)
theorem dX0_clearIn_3 : decode cX0_clearIn 3 = .ok (.istore_n 3, 1) := dk_62 (dk_at dksX0_clearIn_0 3 rfl rfl)
theorem dX0_clearIn_4 : decode cX0_clearIn 4 = .ok (.iload_n 3, 1) := dk_29 (dk_at dksX0_clearIn_0 4 rfl rfl)
theorem dX0_clearIn_5 : decode cX0_clearIn 5 = .ok (.bipush 16, 2) := dk_16 16 (dk_at dksX0_clearIn_0 5 rfl rfl)
theorem dX0_clearIn_7 : decode cX0_clearIn 7 = .ok (.if_icmp .ge 39, 3) := dk_162 0 39 (dk_at dksX0_clearIn_0 7 rfl rfl)
theorem dX0_clearIn_10 : decode cX0_clearIn 10 = .ok (.iload_n 2, 1) := dk_28 (dk_at dksX0_clearIn_0 10 rfl rfl)
theorem dX0_clearIn_11 : decode cX0_clearIn 11 = .ok (.aload_n 0, 1) := dk_42 (dk_at dksX0_clearIn_0 11 rfl rfl)
theorem dX0_clearIn_12 : decode cX0_clearIn 12 = .ok (.getfield 21, 3) := dk_180 0 21 (dk_at dksX0_clearIn_0 12 rfl rfl)
theorem dX0_clearIn_15 : decode cX0_clearIn 15 = .ok (.iload_n 3, 1) := dk_29 (dk_at dksX0_clearIn_0 15 rfl rfl)
theorem dX0_clearIn_16 : decode cX0_clearIn 16 = .ok (.invokevirtual 104, 3) := dk_182 0 104 (dk_at dksX0_clearIn_0 16 rfl rfl)
theorem dX0_clearIn_19 : decode cX0_clearIn 19 = .ok (.ifCond .eq 18, 3) := dk_153 0 18 (dk_at dksX0_clearIn_0 19 rfl rfl)
theorem dX0_clearIn_22 : decode cX0_clearIn 22 = .ok (.aload_n 0, 1) := dk_42 (dk_at dksX0_clearIn_0 22 rfl rfl)
theorem dX0_clearIn_23 : decode cX0_clearIn 23 = .ok (.getfield 21, 3) := dk_180 0 21 (dk_at dksX0_clearIn_1 0 rfl rfl)
theorem dX0_clearIn_26 : decode cX0_clearIn 26 = .ok (.iload_n 3, 1) := dk_29 (dk_at dksX0_clearIn_1 3 rfl rfl)
theorem dX0_clearIn_27 : decode cX0_clearIn 27 = .ok (.iload_n 1, 1) := dk_27 (dk_at dksX0_clearIn_1 4 rfl rfl)
theorem dX0_clearIn_28 : decode cX0_clearIn 28 = .ok (.invokevirtual 177, 3) := dk_182 0 177 (dk_at dksX0_clearIn_1 5 rfl rfl)
theorem dX0_clearIn_31 : decode cX0_clearIn 31 = .ok (.invokestatic 218, 3) := dk_184 0 218 (dk_at dksX0_clearIn_1 8 rfl rfl)
theorem dX0_clearIn_34 : decode cX0_clearIn 34 = .ok (.goto 4, 3) := dk_167 0 4 (dk_at dksX0_clearIn_1 11 rfl rfl)
theorem dX0_clearIn_37 : decode cX0_clearIn 37 = .ok (.iconst 0, 1) := dk_3 (dk_at dksX0_clearIn_1 14 rfl rfl)
theorem dX0_clearIn_38 : decode cX0_clearIn 38 = .ok (.iadd, 1) := dk_96 (dk_at dksX0_clearIn_1 15 rfl rfl)
theorem dX0_clearIn_39 : decode cX0_clearIn 39 = .ok (.istore_n 2, 1) := dk_61 (dk_at dksX0_clearIn_1 16 rfl rfl)
theorem dX0_clearIn_40 : decode cX0_clearIn 40 = .ok (.iinc 3 1, 3) := dk_132 3 1 (dk_at dksX0_clearIn_1 17 rfl rfl)
theorem dX0_clearIn_43 : decode cX0_clearIn 43 = .ok (.goto (-39), 3) := dk_167 255 217 (dk_at dksX0_clearIn_1 20 rfl rfl)
theorem dX0_clearIn_46 : decode cX0_clearIn 46 = .ok (.iload_n 2, 1) := dk_28 (dk_at dksX0_clearIn_1 23 rfl rfl)
theorem dX0_clearIn_47 : decode cX0_clearIn 47 = .ok (.ireturn, 1) := dk_172 (dk_at dksX0_clearIn_2 0 rfl rfl)
abbrev cX0_shortest : ByteArray := prog_1_method_37_code
def yX0_shortest : MethodName := ⟨RX0, "shortest", "(II)I"⟩
def dkwX0_shortest_13 : List UInt8 := [167, 0, 12, 42, 180, 0, 67, 29, 50, 21, 4, 46, 172]
abbrev dktX0_shortest_13 : List UInt8 := dkwX0_shortest_13 ++ []
def dkwX0_shortest_12 : List UInt8 := [46, 18, 236, 161, 0, 8, 16, 254, 167, 0, 28, 28, 154, 0, 15, 42, 180, 0, 64, 29, 50, 21, 4, 46]
abbrev dktX0_shortest_12 : List UInt8 := dkwX0_shortest_12 ++ dktX0_shortest_13
def dkwX0_shortest_11 : List UInt8 := [21, 4, 46, 162, 0, 7, 21, 5, 54, 4, 132, 5, 1, 167, 255, 179, 42, 180, 0, 64, 29, 50, 21, 4]
abbrev dktX0_shortest_11 : List UInt8 := dkwX0_shortest_11 ++ dktX0_shortest_12
def dkwX0_shortest_10 : List UInt8 := [29, 50, 21, 4, 46, 160, 0, 28, 42, 180, 0, 67, 29, 50, 21, 5, 46, 42, 180, 0, 67, 29, 50]
abbrev dktX0_shortest_10 : List UInt8 := dkwX0_shortest_10 ++ dktX0_shortest_11
def dkwX0_shortest_9 : List UInt8 := [180, 0, 64, 29, 50, 21, 4, 46, 161, 0, 45, 42, 180, 0, 64, 29, 50, 21, 5, 46, 42, 180, 0, 64]
abbrev dktX0_shortest_9 : List UInt8 := dkwX0_shortest_9 ++ dktX0_shortest_10
def dkwX0_shortest_8 : List UInt8 := [54, 4, 3, 54, 5, 21, 5, 16, 16, 162, 0, 76, 42, 180, 0, 64, 29, 50, 21, 5, 46, 42]
abbrev dktX0_shortest_8 : List UInt8 := dkwX0_shortest_8 ++ dktX0_shortest_9
def dkwX0_shortest_7 : List UInt8 := [162, 0, 15, 42, 27, 29, 182, 0, 241, 132, 3, 1, 167, 255, 241, 4, 27, 120, 4, 100, 62, 16, 16]
abbrev dktX0_shortest_7 : List UInt8 := dkwX0_shortest_7 ++ dktX0_shortest_8
def dkwX0_shortest_6 : List UInt8 := [21, 4, 16, 16, 79, 132, 4, 1, 167, 255, 209, 132, 3, 1, 167, 255, 193, 3, 62, 29, 16, 12]
abbrev dktX0_shortest_6 : List UInt8 := dkwX0_shortest_6 ++ dktX0_shortest_7
def dkwX0_shortest_5 : List UInt8 := [154, 0, 14, 21, 4, 16, 16, 160, 0, 7, 3, 167, 0, 5, 18, 236, 79, 42, 180, 0, 67, 29, 50]
abbrev dktX0_shortest_5 : List UInt8 := dkwX0_shortest_5 ++ dktX0_shortest_6
def dkwX0_shortest_4 : List UInt8 := [162, 0, 62, 3, 54, 4, 21, 4, 16, 16, 163, 0, 46, 42, 180, 0, 64, 29, 50, 21, 4, 29]
abbrev dktX0_shortest_4 : List UInt8 := dkwX0_shortest_4 ++ dktX0_shortest_5
def dkwX0_shortest_3 : List UInt8 := [182, 0, 229, 182, 0, 202, 154, 0, 6, 16, 253, 172, 132, 3, 1, 167, 255, 209, 3, 62, 29, 4, 27, 120]
abbrev dktX0_shortest_3 : List UInt8 := dkwX0_shortest_3 ++ dktX0_shortest_4
def dkwX0_shortest_2 : List UInt8 := [42, 5, 29, 104, 182, 0, 229, 182, 0, 104, 153, 0, 22, 42, 180, 0, 21, 42, 5, 29, 104, 4, 96]
abbrev dktX0_shortest_2 : List UInt8 := dkwX0_shortest_2 ++ dktX0_shortest_3
def dkwX0_shortest_1 : List UInt8 := [180, 0, 107, 164, 0, 5, 2, 172, 42, 3, 181, 0, 107, 3, 62, 29, 27, 162, 0, 48, 42, 180, 0, 21]
abbrev dktX0_shortest_1 : List UInt8 := dkwX0_shortest_1 ++ dktX0_shortest_2
def dkwX0_shortest_0 : List UInt8 := [27, 4, 16, 6, 184, 0, 114, 153, 0, 21, 28, 5, 184, 0, 96, 153, 0, 13, 5, 27, 104, 42]
abbrev dktX0_shortest_0 : List UInt8 := dkwX0_shortest_0 ++ dktX0_shortest_1
theorem dksX0_shortest_0 : cX0_shortest.data.toList.drop 0 = dktX0_shortest_0 := by decide +kernel
theorem dksX0_shortest_1 : cX0_shortest.data.toList.drop 22 = dktX0_shortest_1 := dk_seg dksX0_shortest_0 22 rfl rfl
theorem dksX0_shortest_2 : cX0_shortest.data.toList.drop 46 = dktX0_shortest_2 := dk_seg dksX0_shortest_1 24 rfl rfl
theorem dksX0_shortest_3 : cX0_shortest.data.toList.drop 69 = dktX0_shortest_3 := dk_seg dksX0_shortest_2 23 rfl rfl
theorem dksX0_shortest_4 : cX0_shortest.data.toList.drop 93 = dktX0_shortest_4 := dk_seg dksX0_shortest_3 24 rfl rfl
theorem dksX0_shortest_5 : cX0_shortest.data.toList.drop 115 = dktX0_shortest_5 := dk_seg dksX0_shortest_4 22 rfl rfl
theorem dksX0_shortest_6 : cX0_shortest.data.toList.drop 138 = dktX0_shortest_6 := dk_seg dksX0_shortest_5 23 rfl rfl
theorem dksX0_shortest_7 : cX0_shortest.data.toList.drop 160 = dktX0_shortest_7 := dk_seg dksX0_shortest_6 22 rfl rfl
theorem dksX0_shortest_8 : cX0_shortest.data.toList.drop 183 = dktX0_shortest_8 := dk_seg dksX0_shortest_7 23 rfl rfl
theorem dksX0_shortest_9 : cX0_shortest.data.toList.drop 205 = dktX0_shortest_9 := dk_seg dksX0_shortest_8 22 rfl rfl
theorem dksX0_shortest_10 : cX0_shortest.data.toList.drop 229 = dktX0_shortest_10 := dk_seg dksX0_shortest_9 24 rfl rfl
theorem dksX0_shortest_11 : cX0_shortest.data.toList.drop 252 = dktX0_shortest_11 := dk_seg dksX0_shortest_10 23 rfl rfl
theorem dksX0_shortest_12 : cX0_shortest.data.toList.drop 276 = dktX0_shortest_12 := dk_seg dksX0_shortest_11 24 rfl rfl
theorem dksX0_shortest_13 : cX0_shortest.data.toList.drop 300 = dktX0_shortest_13 := dk_seg dksX0_shortest_12 24 rfl rfl
theorem dX0_shortest_0 : decode cX0_shortest 0 = .ok (.iload_n 1, 1) := dk_27 (dk_at dksX0_shortest_0 0 rfl rfl)
theorem dX0_shortest_1 : decode cX0_shortest 1 = .ok (.iconst 1, 1) := dk_4 (dk_at dksX0_shortest_0 1 rfl rfl)
theorem dX0_shortest_2 : decode cX0_shortest 2 = .ok (.bipush 6, 2) := dk_16 6 (dk_at dksX0_shortest_0 2 rfl rfl)
theorem dX0_shortest_4 : decode cX0_shortest 4 = .ok (.invokestatic 114, 3) := dk_184 0 114 (dk_at dksX0_shortest_0 4 rfl rfl)
theorem dX0_shortest_7 : decode cX0_shortest 7 = .ok (.ifCond .eq 21, 3) := dk_153 0 21 (dk_at dksX0_shortest_0 7 rfl rfl)
theorem dX0_shortest_10 : decode cX0_shortest 10 = .ok (.iload_n 2, 1) := dk_28 (dk_at dksX0_shortest_0 10 rfl rfl)
theorem dX0_shortest_11 : decode cX0_shortest 11 = .ok (.iconst 2, 1) := dk_5 (dk_at dksX0_shortest_0 11 rfl rfl)
theorem dX0_shortest_12 : decode cX0_shortest 12 = .ok (.invokestatic 96, 3) := dk_184 0 96 (dk_at dksX0_shortest_0 12 rfl rfl)
theorem dX0_shortest_15 : decode cX0_shortest 15 = .ok (.ifCond .eq 13, 3) := dk_153 0 13 (dk_at dksX0_shortest_0 15 rfl rfl)
theorem dX0_shortest_18 : decode cX0_shortest 18 = .ok (.iconst 2, 1) := dk_5 (dk_at dksX0_shortest_0 18 rfl rfl)
theorem dX0_shortest_19 : decode cX0_shortest 19 = .ok (.iload_n 1, 1) := dk_27 (dk_at dksX0_shortest_0 19 rfl rfl)
theorem dX0_shortest_20 : decode cX0_shortest 20 = .ok (.imul, 1) := dk_104 (dk_at dksX0_shortest_0 20 rfl rfl)
theorem dX0_shortest_21 : decode cX0_shortest 21 = .ok (.aload_n 0, 1) := dk_42 (dk_at dksX0_shortest_0 21 rfl rfl)
theorem dX0_shortest_22 : decode cX0_shortest 22 = .ok (.getfield 107, 3) := dk_180 0 107 (dk_at dksX0_shortest_1 0 rfl rfl)
theorem dX0_shortest_25 : decode cX0_shortest 25 = .ok (.if_icmp .le 5, 3) := dk_164 0 5 (dk_at dksX0_shortest_1 3 rfl rfl)
theorem dX0_shortest_28 : decode cX0_shortest 28 = .ok (.iconst (-1), 1) := dk_2 (dk_at dksX0_shortest_1 6 rfl rfl)
theorem dX0_shortest_29 : decode cX0_shortest 29 = .ok (.ireturn, 1) := dk_172 (dk_at dksX0_shortest_1 7 rfl rfl)
theorem dX0_shortest_30 : decode cX0_shortest 30 = .ok (.aload_n 0, 1) := dk_42 (dk_at dksX0_shortest_1 8 rfl rfl)
theorem dX0_shortest_31 : decode cX0_shortest 31 = .ok (.iconst 0, 1) := dk_3 (dk_at dksX0_shortest_1 9 rfl rfl)
theorem dX0_shortest_32 : decode cX0_shortest 32 = .ok (.putfield 107, 3) := dk_181 0 107 (dk_at dksX0_shortest_1 10 rfl rfl)
theorem dX0_shortest_35 : decode cX0_shortest 35 = .ok (.iconst 0, 1) := dk_3 (dk_at dksX0_shortest_1 13 rfl rfl)
theorem dX0_shortest_36 : decode cX0_shortest 36 = .ok (.istore_n 3, 1) := dk_62 (dk_at dksX0_shortest_1 14 rfl rfl)
theorem dX0_shortest_37 : decode cX0_shortest 37 = .ok (.iload_n 3, 1) := dk_29 (dk_at dksX0_shortest_1 15 rfl rfl)
theorem dX0_shortest_38 : decode cX0_shortest 38 = .ok (.iload_n 1, 1) := dk_27 (dk_at dksX0_shortest_1 16 rfl rfl)
theorem dX0_shortest_39 : decode cX0_shortest 39 = .ok (.if_icmp .ge 48, 3) := dk_162 0 48 (dk_at dksX0_shortest_1 17 rfl rfl)
theorem dX0_shortest_42 : decode cX0_shortest 42 = .ok (.aload_n 0, 1) := dk_42 (dk_at dksX0_shortest_1 20 rfl rfl)
theorem dX0_shortest_43 : decode cX0_shortest 43 = .ok (.getfield 21, 3) := dk_180 0 21 (dk_at dksX0_shortest_1 21 rfl rfl)
theorem dX0_shortest_46 : decode cX0_shortest 46 = .ok (.aload_n 0, 1) := dk_42 (dk_at dksX0_shortest_2 0 rfl rfl)
theorem dX0_shortest_47 : decode cX0_shortest 47 = .ok (.iconst 2, 1) := dk_5 (dk_at dksX0_shortest_2 1 rfl rfl)
theorem dX0_shortest_48 : decode cX0_shortest 48 = .ok (.iload_n 3, 1) := dk_29 (dk_at dksX0_shortest_2 2 rfl rfl)
theorem dX0_shortest_49 : decode cX0_shortest 49 = .ok (.imul, 1) := dk_104 (dk_at dksX0_shortest_2 3 rfl rfl)
theorem dX0_shortest_50 : decode cX0_shortest 50 = .ok (.invokevirtual 229, 3) := dk_182 0 229 (dk_at dksX0_shortest_2 4 rfl rfl)
theorem dX0_shortest_53 : decode cX0_shortest 53 = .ok (.invokevirtual 104, 3) := dk_182 0 104 (dk_at dksX0_shortest_2 7 rfl rfl)
theorem dX0_shortest_56 : decode cX0_shortest 56 = .ok (.ifCond .eq 22, 3) := dk_153 0 22 (dk_at dksX0_shortest_2 10 rfl rfl)
theorem dX0_shortest_59 : decode cX0_shortest 59 = .ok (.aload_n 0, 1) := dk_42 (dk_at dksX0_shortest_2 13 rfl rfl)
theorem dX0_shortest_60 : decode cX0_shortest 60 = .ok (.getfield 21, 3) := dk_180 0 21 (dk_at dksX0_shortest_2 14 rfl rfl)
theorem dX0_shortest_63 : decode cX0_shortest 63 = .ok (.aload_n 0, 1) := dk_42 (dk_at dksX0_shortest_2 17 rfl rfl)
theorem dX0_shortest_64 : decode cX0_shortest 64 = .ok (.iconst 2, 1) := dk_5 (dk_at dksX0_shortest_2 18 rfl rfl)
theorem dX0_shortest_65 : decode cX0_shortest 65 = .ok (.iload_n 3, 1) := dk_29 (dk_at dksX0_shortest_2 19 rfl rfl)
theorem dX0_shortest_66 : decode cX0_shortest 66 = .ok (.imul, 1) := dk_104 (dk_at dksX0_shortest_2 20 rfl rfl)
theorem dX0_shortest_67 : decode cX0_shortest 67 = .ok (.iconst 1, 1) := dk_4 (dk_at dksX0_shortest_2 21 rfl rfl)
theorem dX0_shortest_68 : decode cX0_shortest 68 = .ok (.iadd, 1) := dk_96 (dk_at dksX0_shortest_2 22 rfl rfl)
theorem dX0_shortest_69 : decode cX0_shortest 69 = .ok (.invokevirtual 229, 3) := dk_182 0 229 (dk_at dksX0_shortest_3 0 rfl rfl)
theorem dX0_shortest_72 : decode cX0_shortest 72 = .ok (.invokevirtual 202, 3) := dk_182 0 202 (dk_at dksX0_shortest_3 3 rfl rfl)
theorem dX0_shortest_75 : decode cX0_shortest 75 = .ok (.ifCond .ne 6, 3) := dk_154 0 6 (dk_at dksX0_shortest_3 6 rfl rfl)
theorem dX0_shortest_78 : decode cX0_shortest 78 = .ok (.bipush (-3), 2) := dk_16 253 (dk_at dksX0_shortest_3 9 rfl rfl)
theorem dX0_shortest_80 : decode cX0_shortest 80 = .ok (.ireturn, 1) := dk_172 (dk_at dksX0_shortest_3 11 rfl rfl)
theorem dX0_shortest_81 : decode cX0_shortest 81 = .ok (.iinc 3 1, 3) := dk_132 3 1 (dk_at dksX0_shortest_3 12 rfl rfl)
theorem dX0_shortest_84 : decode cX0_shortest 84 = .ok (.goto (-47), 3) := dk_167 255 209 (dk_at dksX0_shortest_3 15 rfl rfl)
theorem dX0_shortest_87 : decode cX0_shortest 87 = .ok (.iconst 0, 1) := dk_3 (dk_at dksX0_shortest_3 18 rfl rfl)
theorem dX0_shortest_88 : decode cX0_shortest 88 = .ok (.istore_n 3, 1) := dk_62 (dk_at dksX0_shortest_3 19 rfl rfl)
theorem dX0_shortest_89 : decode cX0_shortest 89 = .ok (.iload_n 3, 1) := dk_29 (dk_at dksX0_shortest_3 20 rfl rfl)
theorem dX0_shortest_90 : decode cX0_shortest 90 = .ok (.iconst 1, 1) := dk_4 (dk_at dksX0_shortest_3 21 rfl rfl)
theorem dX0_shortest_91 : decode cX0_shortest 91 = .ok (.iload_n 1, 1) := dk_27 (dk_at dksX0_shortest_3 22 rfl rfl)
theorem dX0_shortest_92 : decode cX0_shortest 92 = .ok (.ishl, 1) := dk_120 (dk_at dksX0_shortest_3 23 rfl rfl)
theorem dX0_shortest_93 : decode cX0_shortest 93 = .ok (.if_icmp .ge 62, 3) := dk_162 0 62 (dk_at dksX0_shortest_4 0 rfl rfl)
theorem dX0_shortest_96 : decode cX0_shortest 96 = .ok (.iconst 0, 1) := dk_3 (dk_at dksX0_shortest_4 3 rfl rfl)
theorem dX0_shortest_97 : decode cX0_shortest 97 = .ok (.istore 4, 2) := dk_54 4 (dk_at dksX0_shortest_4 4 rfl rfl)
theorem dX0_shortest_99 : decode cX0_shortest 99 = .ok (.iload 4, 2) := dk_21 4 (dk_at dksX0_shortest_4 6 rfl rfl)
theorem dX0_shortest_101 : decode cX0_shortest 101 = .ok (.bipush 16, 2) := dk_16 16 (dk_at dksX0_shortest_4 8 rfl rfl)
theorem dX0_shortest_103 : decode cX0_shortest 103 = .ok (.if_icmp .gt 46, 3) := dk_163 0 46 (dk_at dksX0_shortest_4 10 rfl rfl)
theorem dX0_shortest_106 : decode cX0_shortest 106 = .ok (.aload_n 0, 1) := dk_42 (dk_at dksX0_shortest_4 13 rfl rfl)
theorem dX0_shortest_107 : decode cX0_shortest 107 = .ok (.getfield 64, 3) := dk_180 0 64 (dk_at dksX0_shortest_4 14 rfl rfl)
theorem dX0_shortest_110 : decode cX0_shortest 110 = .ok (.iload_n 3, 1) := dk_29 (dk_at dksX0_shortest_4 17 rfl rfl)
theorem dX0_shortest_111 : decode cX0_shortest 111 = .ok (.aaload, 1) := dk_50 (dk_at dksX0_shortest_4 18 rfl rfl)
theorem dX0_shortest_112 : decode cX0_shortest 112 = .ok (.iload 4, 2) := dk_21 4 (dk_at dksX0_shortest_4 19 rfl rfl)
theorem dX0_shortest_114 : decode cX0_shortest 114 = .ok (.iload_n 3, 1) := dk_29 (dk_at dksX0_shortest_4 21 rfl rfl)
theorem dX0_shortest_115 : decode cX0_shortest 115 = .ok (.ifCond .ne 14, 3) := dk_154 0 14 (dk_at dksX0_shortest_5 0 rfl rfl)
theorem dX0_shortest_118 : decode cX0_shortest 118 = .ok (.iload 4, 2) := dk_21 4 (dk_at dksX0_shortest_5 3 rfl rfl)
theorem dX0_shortest_120 : decode cX0_shortest 120 = .ok (.bipush 16, 2) := dk_16 16 (dk_at dksX0_shortest_5 5 rfl rfl)
theorem dX0_shortest_122 : decode cX0_shortest 122 = .ok (.if_icmp .ne 7, 3) := dk_160 0 7 (dk_at dksX0_shortest_5 7 rfl rfl)
theorem dX0_shortest_125 : decode cX0_shortest 125 = .ok (.iconst 0, 1) := dk_3 (dk_at dksX0_shortest_5 10 rfl rfl)
theorem dX0_shortest_126 : decode cX0_shortest 126 = .ok (.goto 5, 3) := dk_167 0 5 (dk_at dksX0_shortest_5 11 rfl rfl)
theorem dX0_shortest_129 : decode cX0_shortest 129 = .ok (.ldc 236, 2) := dk_18 236 (dk_at dksX0_shortest_5 14 rfl rfl)
theorem dX0_shortest_131 : decode cX0_shortest 131 = .ok (.iastore, 1) := dk_79 (dk_at dksX0_shortest_5 16 rfl rfl)
theorem dX0_shortest_132 : decode cX0_shortest 132 = .ok (.aload_n 0, 1) := dk_42 (dk_at dksX0_shortest_5 17 rfl rfl)
theorem dX0_shortest_133 : decode cX0_shortest 133 = .ok (.getfield 67, 3) := dk_180 0 67 (dk_at dksX0_shortest_5 18 rfl rfl)
theorem dX0_shortest_136 : decode cX0_shortest 136 = .ok (.iload_n 3, 1) := dk_29 (dk_at dksX0_shortest_5 21 rfl rfl)
theorem dX0_shortest_137 : decode cX0_shortest 137 = .ok (.aaload, 1) := dk_50 (dk_at dksX0_shortest_5 22 rfl rfl)
theorem dX0_shortest_138 : decode cX0_shortest 138 = .ok (.iload 4, 2) := dk_21 4 (dk_at dksX0_shortest_6 0 rfl rfl)
theorem dX0_shortest_140 : decode cX0_shortest 140 = .ok (.bipush 16, 2) := dk_16 16 (dk_at dksX0_shortest_6 2 rfl rfl)
theorem dX0_shortest_142 : decode cX0_shortest 142 = .ok (.iastore, 1) := dk_79 (dk_at dksX0_shortest_6 4 rfl rfl)
theorem dX0_shortest_143 : decode cX0_shortest 143 = .ok (.iinc 4 1, 3) := dk_132 4 1 (dk_at dksX0_shortest_6 5 rfl rfl)
theorem dX0_shortest_146 : decode cX0_shortest 146 = .ok (.goto (-47), 3) := dk_167 255 209 (dk_at dksX0_shortest_6 8 rfl rfl)
theorem dX0_shortest_149 : decode cX0_shortest 149 = .ok (.iinc 3 1, 3) := dk_132 3 1 (dk_at dksX0_shortest_6 11 rfl rfl)
theorem dX0_shortest_152 : decode cX0_shortest 152 = .ok (.goto (-63), 3) := dk_167 255 193 (dk_at dksX0_shortest_6 14 rfl rfl)
theorem dX0_shortest_155 : decode cX0_shortest 155 = .ok (.iconst 0, 1) := dk_3 (dk_at dksX0_shortest_6 17 rfl rfl)
theorem dX0_shortest_156 : decode cX0_shortest 156 = .ok (.istore_n 3, 1) := dk_62 (dk_at dksX0_shortest_6 18 rfl rfl)
theorem dX0_shortest_157 : decode cX0_shortest 157 = .ok (.iload_n 3, 1) := dk_29 (dk_at dksX0_shortest_6 19 rfl rfl)
theorem dX0_shortest_158 : decode cX0_shortest 158 = .ok (.bipush 12, 2) := dk_16 12 (dk_at dksX0_shortest_6 20 rfl rfl)
theorem dX0_shortest_160 : decode cX0_shortest 160 = .ok (.if_icmp .ge 15, 3) := dk_162 0 15 (dk_at dksX0_shortest_7 0 rfl rfl)
theorem dX0_shortest_163 : decode cX0_shortest 163 = .ok (.aload_n 0, 1) := dk_42 (dk_at dksX0_shortest_7 3 rfl rfl)
theorem dX0_shortest_164 : decode cX0_shortest 164 = .ok (.iload_n 1, 1) := dk_27 (dk_at dksX0_shortest_7 4 rfl rfl)
theorem dX0_shortest_165 : decode cX0_shortest 165 = .ok (.iload_n 3, 1) := dk_29 (dk_at dksX0_shortest_7 5 rfl rfl)
theorem dX0_shortest_166 : decode cX0_shortest 166 = .ok (.invokevirtual 241, 3) := dk_182 0 241 (dk_at dksX0_shortest_7 6 rfl rfl)
theorem dX0_shortest_169 : decode cX0_shortest 169 = .ok (.iinc 3 1, 3) := dk_132 3 1 (dk_at dksX0_shortest_7 9 rfl rfl)
theorem dX0_shortest_172 : decode cX0_shortest 172 = .ok (.goto (-15), 3) := dk_167 255 241 (dk_at dksX0_shortest_7 12 rfl rfl)
theorem dX0_shortest_175 : decode cX0_shortest 175 = .ok (.iconst 1, 1) := dk_4 (dk_at dksX0_shortest_7 15 rfl rfl)
theorem dX0_shortest_176 : decode cX0_shortest 176 = .ok (.iload_n 1, 1) := dk_27 (dk_at dksX0_shortest_7 16 rfl rfl)
theorem dX0_shortest_177 : decode cX0_shortest 177 = .ok (.ishl, 1) := dk_120 (dk_at dksX0_shortest_7 17 rfl rfl)
theorem dX0_shortest_178 : decode cX0_shortest 178 = .ok (.iconst 1, 1) := dk_4 (dk_at dksX0_shortest_7 18 rfl rfl)
theorem dX0_shortest_179 : decode cX0_shortest 179 = .ok (.isub, 1) := dk_100 (dk_at dksX0_shortest_7 19 rfl rfl)
theorem dX0_shortest_180 : decode cX0_shortest 180 = .ok (.istore_n 3, 1) := dk_62 (dk_at dksX0_shortest_7 20 rfl rfl)
theorem dX0_shortest_181 : decode cX0_shortest 181 = .ok (.bipush 16, 2) := dk_16 16 (dk_at dksX0_shortest_7 21 rfl rfl)
theorem dX0_shortest_183 : decode cX0_shortest 183 = .ok (.istore 4, 2) := dk_54 4 (dk_at dksX0_shortest_8 0 rfl rfl)
theorem dX0_shortest_185 : decode cX0_shortest 185 = .ok (.iconst 0, 1) := dk_3 (dk_at dksX0_shortest_8 2 rfl rfl)
theorem dX0_shortest_186 : decode cX0_shortest 186 = .ok (.istore 5, 2) := dk_54 5 (dk_at dksX0_shortest_8 3 rfl rfl)
theorem dX0_shortest_188 : decode cX0_shortest 188 = .ok (.iload 5, 2) := dk_21 5 (dk_at dksX0_shortest_8 5 rfl rfl)
theorem dX0_shortest_190 : decode cX0_shortest 190 = .ok (.bipush 16, 2) := dk_16 16 (dk_at dksX0_shortest_8 7 rfl rfl)
theorem dX0_shortest_192 : decode cX0_shortest 192 = .ok (.if_icmp .ge 76, 3) := dk_162 0 76 (dk_at dksX0_shortest_8 9 rfl rfl)
theorem dX0_shortest_195 : decode cX0_shortest 195 = .ok (.aload_n 0, 1) := dk_42 (dk_at dksX0_shortest_8 12 rfl rfl)
theorem dX0_shortest_196 : decode cX0_shortest 196 = .ok (.getfield 64, 3) := dk_180 0 64 (dk_at dksX0_shortest_8 13 rfl rfl)
theorem dX0_shortest_199 : decode cX0_shortest 199 = .ok (.iload_n 3, 1) := dk_29 (dk_at dksX0_shortest_8 16 rfl rfl)
theorem dX0_shortest_200 : decode cX0_shortest 200 = .ok (.aaload, 1) := dk_50 (dk_at dksX0_shortest_8 17 rfl rfl)
theorem dX0_shortest_201 : decode cX0_shortest 201 = .ok (.iload 5, 2) := dk_21 5 (dk_at dksX0_shortest_8 18 rfl rfl)
theorem dX0_shortest_203 : decode cX0_shortest 203 = .ok (.iaload, 1) := dk_46 (dk_at dksX0_shortest_8 20 rfl rfl)
theorem dX0_shortest_204 : decode cX0_shortest 204 = .ok (.aload_n 0, 1) := dk_42 (dk_at dksX0_shortest_8 21 rfl rfl)
theorem dX0_shortest_205 : decode cX0_shortest 205 = .ok (.getfield 64, 3) := dk_180 0 64 (dk_at dksX0_shortest_9 0 rfl rfl)
theorem dX0_shortest_208 : decode cX0_shortest 208 = .ok (.iload_n 3, 1) := dk_29 (dk_at dksX0_shortest_9 3 rfl rfl)
theorem dX0_shortest_209 : decode cX0_shortest 209 = .ok (.aaload, 1) := dk_50 (dk_at dksX0_shortest_9 4 rfl rfl)
theorem dX0_shortest_210 : decode cX0_shortest 210 = .ok (.iload 4, 2) := dk_21 4 (dk_at dksX0_shortest_9 5 rfl rfl)
theorem dX0_shortest_212 : decode cX0_shortest 212 = .ok (.iaload, 1) := dk_46 (dk_at dksX0_shortest_9 7 rfl rfl)
theorem dX0_shortest_213 : decode cX0_shortest 213 = .ok (.if_icmp .lt 45, 3) := dk_161 0 45 (dk_at dksX0_shortest_9 8 rfl rfl)
theorem dX0_shortest_216 : decode cX0_shortest 216 = .ok (.aload_n 0, 1) := dk_42 (dk_at dksX0_shortest_9 11 rfl rfl)
theorem dX0_shortest_217 : decode cX0_shortest 217 = .ok (.getfield 64, 3) := dk_180 0 64 (dk_at dksX0_shortest_9 12 rfl rfl)
theorem dX0_shortest_220 : decode cX0_shortest 220 = .ok (.iload_n 3, 1) := dk_29 (dk_at dksX0_shortest_9 15 rfl rfl)
theorem dX0_shortest_221 : decode cX0_shortest 221 = .ok (.aaload, 1) := dk_50 (dk_at dksX0_shortest_9 16 rfl rfl)
theorem dX0_shortest_222 : decode cX0_shortest 222 = .ok (.iload 5, 2) := dk_21 5 (dk_at dksX0_shortest_9 17 rfl rfl)
theorem dX0_shortest_224 : decode cX0_shortest 224 = .ok (.iaload, 1) := dk_46 (dk_at dksX0_shortest_9 19 rfl rfl)
theorem dX0_shortest_225 : decode cX0_shortest 225 = .ok (.aload_n 0, 1) := dk_42 (dk_at dksX0_shortest_9 20 rfl rfl)
theorem dX0_shortest_226 : decode cX0_shortest 226 = .ok (.getfield 64, 3) := dk_180 0 64 (dk_at dksX0_shortest_9 21 rfl rfl)
theorem dX0_shortest_229 : decode cX0_shortest 229 = .ok (.iload_n 3, 1) := dk_29 (dk_at dksX0_shortest_10 0 rfl rfl)
theorem dX0_shortest_230 : decode cX0_shortest 230 = .ok (.aaload, 1) := dk_50 (dk_at dksX0_shortest_10 1 rfl rfl)
theorem dX0_shortest_231 : decode cX0_shortest 231 = .ok (.iload 4, 2) := dk_21 4 (dk_at dksX0_shortest_10 2 rfl rfl)
theorem dX0_shortest_233 : decode cX0_shortest 233 = .ok (.iaload, 1) := dk_46 (dk_at dksX0_shortest_10 4 rfl rfl)
theorem dX0_shortest_234 : decode cX0_shortest 234 = .ok (.if_icmp .ne 28, 3) := dk_160 0 28 (dk_at dksX0_shortest_10 5 rfl rfl)
theorem dX0_shortest_237 : decode cX0_shortest 237 = .ok (.aload_n 0, 1) := dk_42 (dk_at dksX0_shortest_10 8 rfl rfl)
theorem dX0_shortest_238 : decode cX0_shortest 238 = .ok (.getfield 67, 3) := dk_180 0 67 (dk_at dksX0_shortest_10 9 rfl rfl)
theorem dX0_shortest_241 : decode cX0_shortest 241 = .ok (.iload_n 3, 1) := dk_29 (dk_at dksX0_shortest_10 12 rfl rfl)
theorem dX0_shortest_242 : decode cX0_shortest 242 = .ok (.aaload, 1) := dk_50 (dk_at dksX0_shortest_10 13 rfl rfl)
theorem dX0_shortest_243 : decode cX0_shortest 243 = .ok (.iload 5, 2) := dk_21 5 (dk_at dksX0_shortest_10 14 rfl rfl)
theorem dX0_shortest_245 : decode cX0_shortest 245 = .ok (.iaload, 1) := dk_46 (dk_at dksX0_shortest_10 16 rfl rfl)
theorem dX0_shortest_246 : decode cX0_shortest 246 = .ok (.aload_n 0, 1) := dk_42 (dk_at dksX0_shortest_10 17 rfl rfl)
theorem dX0_shortest_247 : decode cX0_shortest 247 = .ok (.getfield 67, 3) := dk_180 0 67 (dk_at dksX0_shortest_10 18 rfl rfl)
theorem dX0_shortest_250 : decode cX0_shortest 250 = .ok (.iload_n 3, 1) := dk_29 (dk_at dksX0_shortest_10 21 rfl rfl)
theorem dX0_shortest_251 : decode cX0_shortest 251 = .ok (.aaload, 1) := dk_50 (dk_at dksX0_shortest_10 22 rfl rfl)
theorem dX0_shortest_252 : decode cX0_shortest 252 = .ok (.iload 4, 2) := dk_21 4 (dk_at dksX0_shortest_11 0 rfl rfl)
theorem dX0_shortest_254 : decode cX0_shortest 254 = .ok (.iaload, 1) := dk_46 (dk_at dksX0_shortest_11 2 rfl rfl)
theorem dX0_shortest_255 : decode cX0_shortest 255 = .ok (.if_icmp .ge 7, 3) := dk_162 0 7 (dk_at dksX0_shortest_11 3 rfl rfl)
theorem dX0_shortest_258 : decode cX0_shortest 258 = .ok (.iload 5, 2) := dk_21 5 (dk_at dksX0_shortest_11 6 rfl rfl)
theorem dX0_shortest_260 : decode cX0_shortest 260 = .ok (.istore 4, 2) := dk_54 4 (dk_at dksX0_shortest_11 8 rfl rfl)
theorem dX0_shortest_262 : decode cX0_shortest 262 = .ok (.iinc 5 1, 3) := dk_132 5 1 (dk_at dksX0_shortest_11 10 rfl rfl)
theorem dX0_shortest_265 : decode cX0_shortest 265 = .ok (.goto (-77), 3) := dk_167 255 179 (dk_at dksX0_shortest_11 13 rfl rfl)
theorem dX0_shortest_268 : decode cX0_shortest 268 = .ok (.aload_n 0, 1) := dk_42 (dk_at dksX0_shortest_11 16 rfl rfl)
theorem dX0_shortest_269 : decode cX0_shortest 269 = .ok (.getfield 64, 3) := dk_180 0 64 (dk_at dksX0_shortest_11 17 rfl rfl)
theorem dX0_shortest_272 : decode cX0_shortest 272 = .ok (.iload_n 3, 1) := dk_29 (dk_at dksX0_shortest_11 20 rfl rfl)
theorem dX0_shortest_273 : decode cX0_shortest 273 = .ok (.aaload, 1) := dk_50 (dk_at dksX0_shortest_11 21 rfl rfl)
theorem dX0_shortest_274 : decode cX0_shortest 274 = .ok (.iload 4, 2) := dk_21 4 (dk_at dksX0_shortest_11 22 rfl rfl)
theorem dX0_shortest_276 : decode cX0_shortest 276 = .ok (.iaload, 1) := dk_46 (dk_at dksX0_shortest_12 0 rfl rfl)
theorem dX0_shortest_277 : decode cX0_shortest 277 = .ok (.ldc 236, 2) := dk_18 236 (dk_at dksX0_shortest_12 1 rfl rfl)
theorem dX0_shortest_279 : decode cX0_shortest 279 = .ok (.if_icmp .lt 8, 3) := dk_161 0 8 (dk_at dksX0_shortest_12 3 rfl rfl)
theorem dX0_shortest_282 : decode cX0_shortest 282 = .ok (.bipush (-2), 2) := dk_16 254 (dk_at dksX0_shortest_12 6 rfl rfl)
theorem dX0_shortest_284 : decode cX0_shortest 284 = .ok (.goto 28, 3) := dk_167 0 28 (dk_at dksX0_shortest_12 8 rfl rfl)
theorem dX0_shortest_287 : decode cX0_shortest 287 = .ok (.iload_n 2, 1) := dk_28 (dk_at dksX0_shortest_12 11 rfl rfl)
theorem dX0_shortest_288 : decode cX0_shortest 288 = .ok (.ifCond .ne 15, 3) := dk_154 0 15 (dk_at dksX0_shortest_12 12 rfl rfl)
theorem dX0_shortest_291 : decode cX0_shortest 291 = .ok (.aload_n 0, 1) := dk_42 (dk_at dksX0_shortest_12 15 rfl rfl)
theorem dX0_shortest_292 : decode cX0_shortest 292 = .ok (.getfield 64, 3) := dk_180 0 64 (dk_at dksX0_shortest_12 16 rfl rfl)
theorem dX0_shortest_295 : decode cX0_shortest 295 = .ok (.iload_n 3, 1) := dk_29 (dk_at dksX0_shortest_12 19 rfl rfl)
theorem dX0_shortest_296 : decode cX0_shortest 296 = .ok (.aaload, 1) := dk_50 (dk_at dksX0_shortest_12 20 rfl rfl)
theorem dX0_shortest_297 : decode cX0_shortest 297 = .ok (.iload 4, 2) := dk_21 4 (dk_at dksX0_shortest_12 21 rfl rfl)
theorem dX0_shortest_299 : decode cX0_shortest 299 = .ok (.iaload, 1) := dk_46 (dk_at dksX0_shortest_12 23 rfl rfl)
theorem dX0_shortest_300 : decode cX0_shortest 300 = .ok (.goto 12, 3) := dk_167 0 12 (dk_at dksX0_shortest_13 0 rfl rfl)
theorem dX0_shortest_303 : decode cX0_shortest 303 = .ok (.aload_n 0, 1) := dk_42 (dk_at dksX0_shortest_13 3 rfl rfl)
theorem dX0_shortest_304 : decode cX0_shortest 304 = .ok (.getfield 67, 3) := dk_180 0 67 (dk_at dksX0_shortest_13 4 rfl rfl)
theorem dX0_shortest_307 : decode cX0_shortest 307 = .ok (.iload_n 3, 1) := dk_29 (dk_at dksX0_shortest_13 7 rfl rfl)
theorem dX0_shortest_308 : decode cX0_shortest 308 = .ok (.aaload, 1) := dk_50 (dk_at dksX0_shortest_13 8 rfl rfl)
theorem dX0_shortest_309 : decode cX0_shortest 309 = .ok (.iload 4, 2) := dk_21 4 (dk_at dksX0_shortest_13 9 rfl rfl)
theorem dX0_shortest_311 : decode cX0_shortest 311 = .ok (.iaload, 1) := dk_46 (dk_at dksX0_shortest_13 11 rfl rfl)
theorem dX0_shortest_312 : decode cX0_shortest 312 = .ok (.ireturn, 1) := dk_172 (dk_at dksX0_shortest_13 12 rfl rfl)
abbrev cX0_fed : ByteArray := prog_1_method_33_code
def yX0_fed : MethodName := ⟨RX0, "fed", "(I)I"⟩
def dkwX0_fed_0 : List UInt8 := [42, 180, 0, 51, 27, 51, 17, 0, 255, 126, 172]
abbrev dktX0_fed_0 : List UInt8 := dkwX0_fed_0 ++ []
theorem dksX0_fed_0 : cX0_fed.data.toList.drop 0 = dktX0_fed_0 := by decide +kernel
theorem dX0_fed_0 : decode cX0_fed 0 = .ok (.aload_n 0, 1) := dk_42 (dk_at dksX0_fed_0 0 rfl rfl)
theorem dX0_fed_1 : decode cX0_fed 1 = .ok (.getfield 51, 3) := dk_180 0 51 (dk_at dksX0_fed_0 1 rfl rfl)
theorem dX0_fed_4 : decode cX0_fed 4 = .ok (.iload_n 1, 1) := dk_27 (dk_at dksX0_fed_0 4 rfl rfl)
theorem dX0_fed_5 : decode cX0_fed 5 = .ok (.baload, 1) := dk_51 (dk_at dksX0_fed_0 5 rfl rfl)
theorem dX0_fed_6 : decode cX0_fed 6 = .ok (.sipush 255, 3) := dk_17 0 255 (dk_at dksX0_fed_0 6 rfl rfl)
theorem dX0_fed_9 : decode cX0_fed 9 = .ok (.iand, 1) := dk_126 (dk_at dksX0_fed_0 9 rfl rfl)
theorem dX0_fed_10 : decode cX0_fed 10 = .ok (.ireturn, 1) := dk_172 (dk_at dksX0_fed_0 10 rfl rfl)
abbrev cX0_turnIsLaid : ByteArray := prog_1_method_36_code
def yX0_turnIsLaid : MethodName := ⟨RX0, "turnIsLaid", "(II)V"⟩
def dkwX0_turnIsLaid_11 : List UInt8 := [180, 0, 73, 29, 50, 21, 4, 46, 79, 132, 4, 1, 167, 255, 210, 132, 3, 1, 167, 255, 194, 177]
abbrev dktX0_turnIsLaid_11 : List UInt8 := dkwX0_turnIsLaid_11 ++ []
def dkwX0_turnIsLaid_10 : List UInt8 := [50, 21, 4, 42, 180, 0, 70, 29, 50, 21, 4, 46, 79, 42, 180, 0, 67, 29, 50, 21, 4, 42]
abbrev dktX0_turnIsLaid_10 : List UInt8 := dkwX0_turnIsLaid_10 ++ dktX0_turnIsLaid_11
def dkwX0_turnIsLaid_9 : List UInt8 := [3, 62, 29, 4, 27, 120, 162, 0, 61, 3, 54, 4, 21, 4, 16, 16, 163, 0, 45, 42, 180, 0, 64, 29]
abbrev dktX0_turnIsLaid_9 : List UInt8 := dkwX0_turnIsLaid_9 ++ dktX0_turnIsLaid_10
def dkwX0_turnIsLaid_8 : List UInt8 := [21, 7, 46, 182, 0, 237, 132, 7, 1, 167, 255, 168, 132, 6, 1, 167, 255, 151, 132, 3, 1, 167, 255, 118]
abbrev dktX0_turnIsLaid_8 : List UInt8 := dkwX0_turnIsLaid_8 ++ dktX0_turnIsLaid_9
def dkwX0_turnIsLaid_7 : List UInt8 := [184, 0, 192, 96, 21, 7, 16, 16, 160, 0, 8, 21, 4, 167, 0, 13, 42, 180, 0, 67, 21, 6, 50]
abbrev dktX0_turnIsLaid_7 : List UInt8 := dkwX0_turnIsLaid_7 ++ dktX0_turnIsLaid_8
def dkwX0_turnIsLaid_6 : List UInt8 := [21, 6, 50, 21, 7, 46, 21, 7, 16, 16, 160, 0, 7, 3, 167, 0, 11, 21, 7, 21, 4, 100]
abbrev dktX0_turnIsLaid_6 : List UInt8 := dkwX0_turnIsLaid_6 ++ dktX0_turnIsLaid_7
def dkwX0_turnIsLaid_5 : List UInt8 := [21, 6, 50, 21, 7, 46, 18, 236, 162, 0, 66, 42, 21, 6, 21, 5, 128, 21, 4, 42, 180, 0, 64]
abbrev dktX0_turnIsLaid_5 : List UInt8 := dkwX0_turnIsLaid_5 ++ dktX0_turnIsLaid_6
def dkwX0_turnIsLaid_4 : List UInt8 := [54, 6, 21, 6, 4, 27, 120, 162, 0, 103, 3, 54, 7, 21, 7, 16, 16, 163, 0, 87, 42, 180, 0, 64]
abbrev dktX0_turnIsLaid_4 : List UInt8 := dkwX0_turnIsLaid_4 ++ dktX0_turnIsLaid_5
def dkwX0_turnIsLaid_3 : List UInt8 := [27, 162, 0, 139, 42, 5, 29, 104, 182, 0, 229, 54, 4, 42, 27, 21, 4, 28, 182, 0, 232, 54, 5, 3]
abbrev dktX0_turnIsLaid_3 : List UInt8 := dkwX0_turnIsLaid_3 ++ dktX0_turnIsLaid_4
def dkwX0_turnIsLaid_2 : List UInt8 := [180, 0, 67, 29, 50, 21, 4, 46, 79, 132, 4, 1, 167, 255, 210, 132, 3, 1, 167, 255, 194, 3, 62, 29]
abbrev dktX0_turnIsLaid_2 : List UInt8 := dkwX0_turnIsLaid_2 ++ dktX0_turnIsLaid_3
def dkwX0_turnIsLaid_1 : List UInt8 := [50, 21, 4, 42, 180, 0, 64, 29, 50, 21, 4, 46, 79, 42, 180, 0, 73, 29, 50, 21, 4, 42]
abbrev dktX0_turnIsLaid_1 : List UInt8 := dkwX0_turnIsLaid_1 ++ dktX0_turnIsLaid_2
def dkwX0_turnIsLaid_0 : List UInt8 := [3, 62, 29, 4, 27, 120, 162, 0, 61, 3, 54, 4, 21, 4, 16, 16, 163, 0, 45, 42, 180, 0, 70, 29]
abbrev dktX0_turnIsLaid_0 : List UInt8 := dkwX0_turnIsLaid_0 ++ dktX0_turnIsLaid_1
theorem dksX0_turnIsLaid_0 : cX0_turnIsLaid.data.toList.drop 0 = dktX0_turnIsLaid_0 := by decide +kernel
theorem dksX0_turnIsLaid_1 : cX0_turnIsLaid.data.toList.drop 24 = dktX0_turnIsLaid_1 := dk_seg dksX0_turnIsLaid_0 24 rfl rfl
theorem dksX0_turnIsLaid_2 : cX0_turnIsLaid.data.toList.drop 46 = dktX0_turnIsLaid_2 := dk_seg dksX0_turnIsLaid_1 22 rfl rfl
theorem dksX0_turnIsLaid_3 : cX0_turnIsLaid.data.toList.drop 70 = dktX0_turnIsLaid_3 := dk_seg dksX0_turnIsLaid_2 24 rfl rfl
theorem dksX0_turnIsLaid_4 : cX0_turnIsLaid.data.toList.drop 94 = dktX0_turnIsLaid_4 := dk_seg dksX0_turnIsLaid_3 24 rfl rfl
theorem dksX0_turnIsLaid_5 : cX0_turnIsLaid.data.toList.drop 118 = dktX0_turnIsLaid_5 := dk_seg dksX0_turnIsLaid_4 24 rfl rfl
theorem dksX0_turnIsLaid_6 : cX0_turnIsLaid.data.toList.drop 141 = dktX0_turnIsLaid_6 := dk_seg dksX0_turnIsLaid_5 23 rfl rfl
theorem dksX0_turnIsLaid_7 : cX0_turnIsLaid.data.toList.drop 163 = dktX0_turnIsLaid_7 := dk_seg dksX0_turnIsLaid_6 22 rfl rfl
theorem dksX0_turnIsLaid_8 : cX0_turnIsLaid.data.toList.drop 186 = dktX0_turnIsLaid_8 := dk_seg dksX0_turnIsLaid_7 23 rfl rfl
theorem dksX0_turnIsLaid_9 : cX0_turnIsLaid.data.toList.drop 210 = dktX0_turnIsLaid_9 := dk_seg dksX0_turnIsLaid_8 24 rfl rfl
theorem dksX0_turnIsLaid_10 : cX0_turnIsLaid.data.toList.drop 234 = dktX0_turnIsLaid_10 := dk_seg dksX0_turnIsLaid_9 24 rfl rfl
theorem dksX0_turnIsLaid_11 : cX0_turnIsLaid.data.toList.drop 256 = dktX0_turnIsLaid_11 := dk_seg dksX0_turnIsLaid_10 22 rfl rfl
theorem dX0_turnIsLaid_0 : decode cX0_turnIsLaid 0 = .ok (.iconst 0, 1) := dk_3 (dk_at dksX0_turnIsLaid_0 0 rfl rfl)
theorem dX0_turnIsLaid_1 : decode cX0_turnIsLaid 1 = .ok (.istore_n 3, 1) := dk_62 (dk_at dksX0_turnIsLaid_0 1 rfl rfl)
theorem dX0_turnIsLaid_2 : decode cX0_turnIsLaid 2 = .ok (.iload_n 3, 1) := dk_29 (dk_at dksX0_turnIsLaid_0 2 rfl rfl)
theorem dX0_turnIsLaid_3 : decode cX0_turnIsLaid 3 = .ok (.iconst 1, 1) := dk_4 (dk_at dksX0_turnIsLaid_0 3 rfl rfl)
theorem dX0_turnIsLaid_4 : decode cX0_turnIsLaid 4 = .ok (.iload_n 1, 1) := dk_27 (dk_at dksX0_turnIsLaid_0 4 rfl rfl)
theorem dX0_turnIsLaid_5 : decode cX0_turnIsLaid 5 = .ok (.ishl, 1) := dk_120 (dk_at dksX0_turnIsLaid_0 5 rfl rfl)
theorem dX0_turnIsLaid_6 : decode cX0_turnIsLaid 6 = .ok (.if_icmp .ge 61, 3) := dk_162 0 61 (dk_at dksX0_turnIsLaid_0 6 rfl rfl)
theorem dX0_turnIsLaid_9 : decode cX0_turnIsLaid 9 = .ok (.iconst 0, 1) := dk_3 (dk_at dksX0_turnIsLaid_0 9 rfl rfl)
theorem dX0_turnIsLaid_10 : decode cX0_turnIsLaid 10 = .ok (.istore 4, 2) := dk_54 4 (dk_at dksX0_turnIsLaid_0 10 rfl rfl)
theorem dX0_turnIsLaid_12 : decode cX0_turnIsLaid 12 = .ok (.iload 4, 2) := dk_21 4 (dk_at dksX0_turnIsLaid_0 12 rfl rfl)
theorem dX0_turnIsLaid_14 : decode cX0_turnIsLaid 14 = .ok (.bipush 16, 2) := dk_16 16 (dk_at dksX0_turnIsLaid_0 14 rfl rfl)
theorem dX0_turnIsLaid_16 : decode cX0_turnIsLaid 16 = .ok (.if_icmp .gt 45, 3) := dk_163 0 45 (dk_at dksX0_turnIsLaid_0 16 rfl rfl)
theorem dX0_turnIsLaid_19 : decode cX0_turnIsLaid 19 = .ok (.aload_n 0, 1) := dk_42 (dk_at dksX0_turnIsLaid_0 19 rfl rfl)
theorem dX0_turnIsLaid_20 : decode cX0_turnIsLaid 20 = .ok (.getfield 70, 3) := dk_180 0 70 (dk_at dksX0_turnIsLaid_0 20 rfl rfl)
theorem dX0_turnIsLaid_23 : decode cX0_turnIsLaid 23 = .ok (.iload_n 3, 1) := dk_29 (dk_at dksX0_turnIsLaid_0 23 rfl rfl)
theorem dX0_turnIsLaid_24 : decode cX0_turnIsLaid 24 = .ok (.aaload, 1) := dk_50 (dk_at dksX0_turnIsLaid_1 0 rfl rfl)
theorem dX0_turnIsLaid_25 : decode cX0_turnIsLaid 25 = .ok (.iload 4, 2) := dk_21 4 (dk_at dksX0_turnIsLaid_1 1 rfl rfl)
theorem dX0_turnIsLaid_27 : decode cX0_turnIsLaid 27 = .ok (.aload_n 0, 1) := dk_42 (dk_at dksX0_turnIsLaid_1 3 rfl rfl)
theorem dX0_turnIsLaid_28 : decode cX0_turnIsLaid 28 = .ok (.getfield 64, 3) := dk_180 0 64 (dk_at dksX0_turnIsLaid_1 4 rfl rfl)
theorem dX0_turnIsLaid_31 : decode cX0_turnIsLaid 31 = .ok (.iload_n 3, 1) := dk_29 (dk_at dksX0_turnIsLaid_1 7 rfl rfl)
theorem dX0_turnIsLaid_32 : decode cX0_turnIsLaid 32 = .ok (.aaload, 1) := dk_50 (dk_at dksX0_turnIsLaid_1 8 rfl rfl)
theorem dX0_turnIsLaid_33 : decode cX0_turnIsLaid 33 = .ok (.iload 4, 2) := dk_21 4 (dk_at dksX0_turnIsLaid_1 9 rfl rfl)
theorem dX0_turnIsLaid_35 : decode cX0_turnIsLaid 35 = .ok (.iaload, 1) := dk_46 (dk_at dksX0_turnIsLaid_1 11 rfl rfl)
theorem dX0_turnIsLaid_36 : decode cX0_turnIsLaid 36 = .ok (.iastore, 1) := dk_79 (dk_at dksX0_turnIsLaid_1 12 rfl rfl)
theorem dX0_turnIsLaid_37 : decode cX0_turnIsLaid 37 = .ok (.aload_n 0, 1) := dk_42 (dk_at dksX0_turnIsLaid_1 13 rfl rfl)
theorem dX0_turnIsLaid_38 : decode cX0_turnIsLaid 38 = .ok (.getfield 73, 3) := dk_180 0 73 (dk_at dksX0_turnIsLaid_1 14 rfl rfl)
theorem dX0_turnIsLaid_41 : decode cX0_turnIsLaid 41 = .ok (.iload_n 3, 1) := dk_29 (dk_at dksX0_turnIsLaid_1 17 rfl rfl)
theorem dX0_turnIsLaid_42 : decode cX0_turnIsLaid 42 = .ok (.aaload, 1) := dk_50 (dk_at dksX0_turnIsLaid_1 18 rfl rfl)
theorem dX0_turnIsLaid_43 : decode cX0_turnIsLaid 43 = .ok (.iload 4, 2) := dk_21 4 (dk_at dksX0_turnIsLaid_1 19 rfl rfl)
theorem dX0_turnIsLaid_45 : decode cX0_turnIsLaid 45 = .ok (.aload_n 0, 1) := dk_42 (dk_at dksX0_turnIsLaid_1 21 rfl rfl)
theorem dX0_turnIsLaid_46 : decode cX0_turnIsLaid 46 = .ok (.getfield 67, 3) := dk_180 0 67 (dk_at dksX0_turnIsLaid_2 0 rfl rfl)
theorem dX0_turnIsLaid_49 : decode cX0_turnIsLaid 49 = .ok (.iload_n 3, 1) := dk_29 (dk_at dksX0_turnIsLaid_2 3 rfl rfl)
theorem dX0_turnIsLaid_50 : decode cX0_turnIsLaid 50 = .ok (.aaload, 1) := dk_50 (dk_at dksX0_turnIsLaid_2 4 rfl rfl)
theorem dX0_turnIsLaid_51 : decode cX0_turnIsLaid 51 = .ok (.iload 4, 2) := dk_21 4 (dk_at dksX0_turnIsLaid_2 5 rfl rfl)
theorem dX0_turnIsLaid_53 : decode cX0_turnIsLaid 53 = .ok (.iaload, 1) := dk_46 (dk_at dksX0_turnIsLaid_2 7 rfl rfl)
theorem dX0_turnIsLaid_54 : decode cX0_turnIsLaid 54 = .ok (.iastore, 1) := dk_79 (dk_at dksX0_turnIsLaid_2 8 rfl rfl)
theorem dX0_turnIsLaid_55 : decode cX0_turnIsLaid 55 = .ok (.iinc 4 1, 3) := dk_132 4 1 (dk_at dksX0_turnIsLaid_2 9 rfl rfl)
theorem dX0_turnIsLaid_58 : decode cX0_turnIsLaid 58 = .ok (.goto (-46), 3) := dk_167 255 210 (dk_at dksX0_turnIsLaid_2 12 rfl rfl)
theorem dX0_turnIsLaid_61 : decode cX0_turnIsLaid 61 = .ok (.iinc 3 1, 3) := dk_132 3 1 (dk_at dksX0_turnIsLaid_2 15 rfl rfl)
theorem dX0_turnIsLaid_64 : decode cX0_turnIsLaid 64 = .ok (.goto (-62), 3) := dk_167 255 194 (dk_at dksX0_turnIsLaid_2 18 rfl rfl)
theorem dX0_turnIsLaid_67 : decode cX0_turnIsLaid 67 = .ok (.iconst 0, 1) := dk_3 (dk_at dksX0_turnIsLaid_2 21 rfl rfl)
theorem dX0_turnIsLaid_68 : decode cX0_turnIsLaid 68 = .ok (.istore_n 3, 1) := dk_62 (dk_at dksX0_turnIsLaid_2 22 rfl rfl)
theorem dX0_turnIsLaid_69 : decode cX0_turnIsLaid 69 = .ok (.iload_n 3, 1) := dk_29 (dk_at dksX0_turnIsLaid_2 23 rfl rfl)
theorem dX0_turnIsLaid_70 : decode cX0_turnIsLaid 70 = .ok (.iload_n 1, 1) := dk_27 (dk_at dksX0_turnIsLaid_3 0 rfl rfl)
theorem dX0_turnIsLaid_71 : decode cX0_turnIsLaid 71 = .ok (.if_icmp .ge 139, 3) := dk_162 0 139 (dk_at dksX0_turnIsLaid_3 1 rfl rfl)
theorem dX0_turnIsLaid_74 : decode cX0_turnIsLaid 74 = .ok (.aload_n 0, 1) := dk_42 (dk_at dksX0_turnIsLaid_3 4 rfl rfl)
theorem dX0_turnIsLaid_75 : decode cX0_turnIsLaid 75 = .ok (.iconst 2, 1) := dk_5 (dk_at dksX0_turnIsLaid_3 5 rfl rfl)
theorem dX0_turnIsLaid_76 : decode cX0_turnIsLaid 76 = .ok (.iload_n 3, 1) := dk_29 (dk_at dksX0_turnIsLaid_3 6 rfl rfl)
theorem dX0_turnIsLaid_77 : decode cX0_turnIsLaid 77 = .ok (.imul, 1) := dk_104 (dk_at dksX0_turnIsLaid_3 7 rfl rfl)
theorem dX0_turnIsLaid_78 : decode cX0_turnIsLaid 78 = .ok (.invokevirtual 229, 3) := dk_182 0 229 (dk_at dksX0_turnIsLaid_3 8 rfl rfl)
theorem dX0_turnIsLaid_81 : decode cX0_turnIsLaid 81 = .ok (.istore 4, 2) := dk_54 4 (dk_at dksX0_turnIsLaid_3 11 rfl rfl)
theorem dX0_turnIsLaid_83 : decode cX0_turnIsLaid 83 = .ok (.aload_n 0, 1) := dk_42 (dk_at dksX0_turnIsLaid_3 13 rfl rfl)
theorem dX0_turnIsLaid_84 : decode cX0_turnIsLaid 84 = .ok (.iload_n 1, 1) := dk_27 (dk_at dksX0_turnIsLaid_3 14 rfl rfl)
theorem dX0_turnIsLaid_85 : decode cX0_turnIsLaid 85 = .ok (.iload 4, 2) := dk_21 4 (dk_at dksX0_turnIsLaid_3 15 rfl rfl)
theorem dX0_turnIsLaid_87 : decode cX0_turnIsLaid 87 = .ok (.iload_n 2, 1) := dk_28 (dk_at dksX0_turnIsLaid_3 17 rfl rfl)
theorem dX0_turnIsLaid_88 : decode cX0_turnIsLaid 88 = .ok (.invokevirtual 232, 3) := dk_182 0 232 (dk_at dksX0_turnIsLaid_3 18 rfl rfl)
theorem dX0_turnIsLaid_91 : decode cX0_turnIsLaid 91 = .ok (.istore 5, 2) := dk_54 5 (dk_at dksX0_turnIsLaid_3 21 rfl rfl)
theorem dX0_turnIsLaid_93 : decode cX0_turnIsLaid 93 = .ok (.iconst 0, 1) := dk_3 (dk_at dksX0_turnIsLaid_3 23 rfl rfl)
theorem dX0_turnIsLaid_94 : decode cX0_turnIsLaid 94 = .ok (.istore 6, 2) := dk_54 6 (dk_at dksX0_turnIsLaid_4 0 rfl rfl)
theorem dX0_turnIsLaid_96 : decode cX0_turnIsLaid 96 = .ok (.iload 6, 2) := dk_21 6 (dk_at dksX0_turnIsLaid_4 2 rfl rfl)
theorem dX0_turnIsLaid_98 : decode cX0_turnIsLaid 98 = .ok (.iconst 1, 1) := dk_4 (dk_at dksX0_turnIsLaid_4 4 rfl rfl)
theorem dX0_turnIsLaid_99 : decode cX0_turnIsLaid 99 = .ok (.iload_n 1, 1) := dk_27 (dk_at dksX0_turnIsLaid_4 5 rfl rfl)
theorem dX0_turnIsLaid_100 : decode cX0_turnIsLaid 100 = .ok (.ishl, 1) := dk_120 (dk_at dksX0_turnIsLaid_4 6 rfl rfl)
theorem dX0_turnIsLaid_101 : decode cX0_turnIsLaid 101 = .ok (.if_icmp .ge 103, 3) := dk_162 0 103 (dk_at dksX0_turnIsLaid_4 7 rfl rfl)
theorem dX0_turnIsLaid_104 : decode cX0_turnIsLaid 104 = .ok (.iconst 0, 1) := dk_3 (dk_at dksX0_turnIsLaid_4 10 rfl rfl)
theorem dX0_turnIsLaid_105 : decode cX0_turnIsLaid 105 = .ok (.istore 7, 2) := dk_54 7 (dk_at dksX0_turnIsLaid_4 11 rfl rfl)
theorem dX0_turnIsLaid_107 : decode cX0_turnIsLaid 107 = .ok (.iload 7, 2) := dk_21 7 (dk_at dksX0_turnIsLaid_4 13 rfl rfl)
theorem dX0_turnIsLaid_109 : decode cX0_turnIsLaid 109 = .ok (.bipush 16, 2) := dk_16 16 (dk_at dksX0_turnIsLaid_4 15 rfl rfl)
theorem dX0_turnIsLaid_111 : decode cX0_turnIsLaid 111 = .ok (.if_icmp .gt 87, 3) := dk_163 0 87 (dk_at dksX0_turnIsLaid_4 17 rfl rfl)
theorem dX0_turnIsLaid_114 : decode cX0_turnIsLaid 114 = .ok (.aload_n 0, 1) := dk_42 (dk_at dksX0_turnIsLaid_4 20 rfl rfl)
theorem dX0_turnIsLaid_115 : decode cX0_turnIsLaid 115 = .ok (.getfield 64, 3) := dk_180 0 64 (dk_at dksX0_turnIsLaid_4 21 rfl rfl)
theorem dX0_turnIsLaid_118 : decode cX0_turnIsLaid 118 = .ok (.iload 6, 2) := dk_21 6 (dk_at dksX0_turnIsLaid_5 0 rfl rfl)
theorem dX0_turnIsLaid_120 : decode cX0_turnIsLaid 120 = .ok (.aaload, 1) := dk_50 (dk_at dksX0_turnIsLaid_5 2 rfl rfl)
theorem dX0_turnIsLaid_121 : decode cX0_turnIsLaid 121 = .ok (.iload 7, 2) := dk_21 7 (dk_at dksX0_turnIsLaid_5 3 rfl rfl)
theorem dX0_turnIsLaid_123 : decode cX0_turnIsLaid 123 = .ok (.iaload, 1) := dk_46 (dk_at dksX0_turnIsLaid_5 5 rfl rfl)
theorem dX0_turnIsLaid_124 : decode cX0_turnIsLaid 124 = .ok (.ldc 236, 2) := dk_18 236 (dk_at dksX0_turnIsLaid_5 6 rfl rfl)
theorem dX0_turnIsLaid_126 : decode cX0_turnIsLaid 126 = .ok (.if_icmp .ge 66, 3) := dk_162 0 66 (dk_at dksX0_turnIsLaid_5 8 rfl rfl)
theorem dX0_turnIsLaid_129 : decode cX0_turnIsLaid 129 = .ok (.aload_n 0, 1) := dk_42 (dk_at dksX0_turnIsLaid_5 11 rfl rfl)
theorem dX0_turnIsLaid_130 : decode cX0_turnIsLaid 130 = .ok (.iload 6, 2) := dk_21 6 (dk_at dksX0_turnIsLaid_5 12 rfl rfl)
theorem dX0_turnIsLaid_132 : decode cX0_turnIsLaid 132 = .ok (.iload 5, 2) := dk_21 5 (dk_at dksX0_turnIsLaid_5 14 rfl rfl)
theorem dX0_turnIsLaid_134 : decode cX0_turnIsLaid 134 = .ok (.ior, 1) := dk_128 (dk_at dksX0_turnIsLaid_5 16 rfl rfl)
theorem dX0_turnIsLaid_135 : decode cX0_turnIsLaid 135 = .ok (.iload 4, 2) := dk_21 4 (dk_at dksX0_turnIsLaid_5 17 rfl rfl)
theorem dX0_turnIsLaid_137 : decode cX0_turnIsLaid 137 = .ok (.aload_n 0, 1) := dk_42 (dk_at dksX0_turnIsLaid_5 19 rfl rfl)
theorem dX0_turnIsLaid_138 : decode cX0_turnIsLaid 138 = .ok (.getfield 64, 3) := dk_180 0 64 (dk_at dksX0_turnIsLaid_5 20 rfl rfl)
theorem dX0_turnIsLaid_141 : decode cX0_turnIsLaid 141 = .ok (.iload 6, 2) := dk_21 6 (dk_at dksX0_turnIsLaid_6 0 rfl rfl)
theorem dX0_turnIsLaid_143 : decode cX0_turnIsLaid 143 = .ok (.aaload, 1) := dk_50 (dk_at dksX0_turnIsLaid_6 2 rfl rfl)
theorem dX0_turnIsLaid_144 : decode cX0_turnIsLaid 144 = .ok (.iload 7, 2) := dk_21 7 (dk_at dksX0_turnIsLaid_6 3 rfl rfl)
theorem dX0_turnIsLaid_146 : decode cX0_turnIsLaid 146 = .ok (.iaload, 1) := dk_46 (dk_at dksX0_turnIsLaid_6 5 rfl rfl)
theorem dX0_turnIsLaid_147 : decode cX0_turnIsLaid 147 = .ok (.iload 7, 2) := dk_21 7 (dk_at dksX0_turnIsLaid_6 6 rfl rfl)
theorem dX0_turnIsLaid_149 : decode cX0_turnIsLaid 149 = .ok (.bipush 16, 2) := dk_16 16 (dk_at dksX0_turnIsLaid_6 8 rfl rfl)
theorem dX0_turnIsLaid_151 : decode cX0_turnIsLaid 151 = .ok (.if_icmp .ne 7, 3) := dk_160 0 7 (dk_at dksX0_turnIsLaid_6 10 rfl rfl)
theorem dX0_turnIsLaid_154 : decode cX0_turnIsLaid 154 = .ok (.iconst 0, 1) := dk_3 (dk_at dksX0_turnIsLaid_6 13 rfl rfl)
theorem dX0_turnIsLaid_155 : decode cX0_turnIsLaid 155 = .ok (.goto 11, 3) := dk_167 0 11 (dk_at dksX0_turnIsLaid_6 14 rfl rfl)
theorem dX0_turnIsLaid_158 : decode cX0_turnIsLaid 158 = .ok (.iload 7, 2) := dk_21 7 (dk_at dksX0_turnIsLaid_6 17 rfl rfl)
theorem dX0_turnIsLaid_160 : decode cX0_turnIsLaid 160 = .ok (.iload 4, 2) := dk_21 4 (dk_at dksX0_turnIsLaid_6 19 rfl rfl)
theorem dX0_turnIsLaid_162 : decode cX0_turnIsLaid 162 = .ok (.isub, 1) := dk_100 (dk_at dksX0_turnIsLaid_6 21 rfl rfl)
theorem dX0_turnIsLaid_163 : decode cX0_turnIsLaid 163 = .ok (.invokestatic 192, 3) := dk_184 0 192 (dk_at dksX0_turnIsLaid_7 0 rfl rfl)
theorem dX0_turnIsLaid_166 : decode cX0_turnIsLaid 166 = .ok (.iadd, 1) := dk_96 (dk_at dksX0_turnIsLaid_7 3 rfl rfl)
theorem dX0_turnIsLaid_167 : decode cX0_turnIsLaid 167 = .ok (.iload 7, 2) := dk_21 7 (dk_at dksX0_turnIsLaid_7 4 rfl rfl)
theorem dX0_turnIsLaid_169 : decode cX0_turnIsLaid 169 = .ok (.bipush 16, 2) := dk_16 16 (dk_at dksX0_turnIsLaid_7 6 rfl rfl)
theorem dX0_turnIsLaid_171 : decode cX0_turnIsLaid 171 = .ok (.if_icmp .ne 8, 3) := dk_160 0 8 (dk_at dksX0_turnIsLaid_7 8 rfl rfl)
theorem dX0_turnIsLaid_174 : decode cX0_turnIsLaid 174 = .ok (.iload 4, 2) := dk_21 4 (dk_at dksX0_turnIsLaid_7 11 rfl rfl)
theorem dX0_turnIsLaid_176 : decode cX0_turnIsLaid 176 = .ok (.goto 13, 3) := dk_167 0 13 (dk_at dksX0_turnIsLaid_7 13 rfl rfl)
theorem dX0_turnIsLaid_179 : decode cX0_turnIsLaid 179 = .ok (.aload_n 0, 1) := dk_42 (dk_at dksX0_turnIsLaid_7 16 rfl rfl)
theorem dX0_turnIsLaid_180 : decode cX0_turnIsLaid 180 = .ok (.getfield 67, 3) := dk_180 0 67 (dk_at dksX0_turnIsLaid_7 17 rfl rfl)
theorem dX0_turnIsLaid_183 : decode cX0_turnIsLaid 183 = .ok (.iload 6, 2) := dk_21 6 (dk_at dksX0_turnIsLaid_7 20 rfl rfl)
theorem dX0_turnIsLaid_185 : decode cX0_turnIsLaid 185 = .ok (.aaload, 1) := dk_50 (dk_at dksX0_turnIsLaid_7 22 rfl rfl)
theorem dX0_turnIsLaid_186 : decode cX0_turnIsLaid 186 = .ok (.iload 7, 2) := dk_21 7 (dk_at dksX0_turnIsLaid_8 0 rfl rfl)
theorem dX0_turnIsLaid_188 : decode cX0_turnIsLaid 188 = .ok (.iaload, 1) := dk_46 (dk_at dksX0_turnIsLaid_8 2 rfl rfl)
theorem dX0_turnIsLaid_189 : decode cX0_turnIsLaid 189 = .ok (.invokevirtual 237, 3) := dk_182 0 237 (dk_at dksX0_turnIsLaid_8 3 rfl rfl)
theorem dX0_turnIsLaid_192 : decode cX0_turnIsLaid 192 = .ok (.iinc 7 1, 3) := dk_132 7 1 (dk_at dksX0_turnIsLaid_8 6 rfl rfl)
theorem dX0_turnIsLaid_195 : decode cX0_turnIsLaid 195 = .ok (.goto (-88), 3) := dk_167 255 168 (dk_at dksX0_turnIsLaid_8 9 rfl rfl)
theorem dX0_turnIsLaid_198 : decode cX0_turnIsLaid 198 = .ok (.iinc 6 1, 3) := dk_132 6 1 (dk_at dksX0_turnIsLaid_8 12 rfl rfl)
theorem dX0_turnIsLaid_201 : decode cX0_turnIsLaid 201 = .ok (.goto (-105), 3) := dk_167 255 151 (dk_at dksX0_turnIsLaid_8 15 rfl rfl)
theorem dX0_turnIsLaid_204 : decode cX0_turnIsLaid 204 = .ok (.iinc 3 1, 3) := dk_132 3 1 (dk_at dksX0_turnIsLaid_8 18 rfl rfl)
theorem dX0_turnIsLaid_207 : decode cX0_turnIsLaid 207 = .ok (.goto (-138), 3) := dk_167 255 118 (dk_at dksX0_turnIsLaid_8 21 rfl rfl)
theorem dX0_turnIsLaid_210 : decode cX0_turnIsLaid 210 = .ok (.iconst 0, 1) := dk_3 (dk_at dksX0_turnIsLaid_9 0 rfl rfl)
theorem dX0_turnIsLaid_211 : decode cX0_turnIsLaid 211 = .ok (.istore_n 3, 1) := dk_62 (dk_at dksX0_turnIsLaid_9 1 rfl rfl)
theorem dX0_turnIsLaid_212 : decode cX0_turnIsLaid 212 = .ok (.iload_n 3, 1) := dk_29 (dk_at dksX0_turnIsLaid_9 2 rfl rfl)
theorem dX0_turnIsLaid_213 : decode cX0_turnIsLaid 213 = .ok (.iconst 1, 1) := dk_4 (dk_at dksX0_turnIsLaid_9 3 rfl rfl)
theorem dX0_turnIsLaid_214 : decode cX0_turnIsLaid 214 = .ok (.iload_n 1, 1) := dk_27 (dk_at dksX0_turnIsLaid_9 4 rfl rfl)
theorem dX0_turnIsLaid_215 : decode cX0_turnIsLaid 215 = .ok (.ishl, 1) := dk_120 (dk_at dksX0_turnIsLaid_9 5 rfl rfl)
theorem dX0_turnIsLaid_216 : decode cX0_turnIsLaid 216 = .ok (.if_icmp .ge 61, 3) := dk_162 0 61 (dk_at dksX0_turnIsLaid_9 6 rfl rfl)
theorem dX0_turnIsLaid_219 : decode cX0_turnIsLaid 219 = .ok (.iconst 0, 1) := dk_3 (dk_at dksX0_turnIsLaid_9 9 rfl rfl)
theorem dX0_turnIsLaid_220 : decode cX0_turnIsLaid 220 = .ok (.istore 4, 2) := dk_54 4 (dk_at dksX0_turnIsLaid_9 10 rfl rfl)
theorem dX0_turnIsLaid_222 : decode cX0_turnIsLaid 222 = .ok (.iload 4, 2) := dk_21 4 (dk_at dksX0_turnIsLaid_9 12 rfl rfl)
theorem dX0_turnIsLaid_224 : decode cX0_turnIsLaid 224 = .ok (.bipush 16, 2) := dk_16 16 (dk_at dksX0_turnIsLaid_9 14 rfl rfl)
theorem dX0_turnIsLaid_226 : decode cX0_turnIsLaid 226 = .ok (.if_icmp .gt 45, 3) := dk_163 0 45 (dk_at dksX0_turnIsLaid_9 16 rfl rfl)
theorem dX0_turnIsLaid_229 : decode cX0_turnIsLaid 229 = .ok (.aload_n 0, 1) := dk_42 (dk_at dksX0_turnIsLaid_9 19 rfl rfl)
theorem dX0_turnIsLaid_230 : decode cX0_turnIsLaid 230 = .ok (.getfield 64, 3) := dk_180 0 64 (dk_at dksX0_turnIsLaid_9 20 rfl rfl)
theorem dX0_turnIsLaid_233 : decode cX0_turnIsLaid 233 = .ok (.iload_n 3, 1) := dk_29 (dk_at dksX0_turnIsLaid_9 23 rfl rfl)
theorem dX0_turnIsLaid_234 : decode cX0_turnIsLaid 234 = .ok (.aaload, 1) := dk_50 (dk_at dksX0_turnIsLaid_10 0 rfl rfl)
theorem dX0_turnIsLaid_235 : decode cX0_turnIsLaid 235 = .ok (.iload 4, 2) := dk_21 4 (dk_at dksX0_turnIsLaid_10 1 rfl rfl)
theorem dX0_turnIsLaid_237 : decode cX0_turnIsLaid 237 = .ok (.aload_n 0, 1) := dk_42 (dk_at dksX0_turnIsLaid_10 3 rfl rfl)
theorem dX0_turnIsLaid_238 : decode cX0_turnIsLaid 238 = .ok (.getfield 70, 3) := dk_180 0 70 (dk_at dksX0_turnIsLaid_10 4 rfl rfl)
theorem dX0_turnIsLaid_241 : decode cX0_turnIsLaid 241 = .ok (.iload_n 3, 1) := dk_29 (dk_at dksX0_turnIsLaid_10 7 rfl rfl)
theorem dX0_turnIsLaid_242 : decode cX0_turnIsLaid 242 = .ok (.aaload, 1) := dk_50 (dk_at dksX0_turnIsLaid_10 8 rfl rfl)
theorem dX0_turnIsLaid_243 : decode cX0_turnIsLaid 243 = .ok (.iload 4, 2) := dk_21 4 (dk_at dksX0_turnIsLaid_10 9 rfl rfl)
theorem dX0_turnIsLaid_245 : decode cX0_turnIsLaid 245 = .ok (.iaload, 1) := dk_46 (dk_at dksX0_turnIsLaid_10 11 rfl rfl)
theorem dX0_turnIsLaid_246 : decode cX0_turnIsLaid 246 = .ok (.iastore, 1) := dk_79 (dk_at dksX0_turnIsLaid_10 12 rfl rfl)
theorem dX0_turnIsLaid_247 : decode cX0_turnIsLaid 247 = .ok (.aload_n 0, 1) := dk_42 (dk_at dksX0_turnIsLaid_10 13 rfl rfl)
theorem dX0_turnIsLaid_248 : decode cX0_turnIsLaid 248 = .ok (.getfield 67, 3) := dk_180 0 67 (dk_at dksX0_turnIsLaid_10 14 rfl rfl)
theorem dX0_turnIsLaid_251 : decode cX0_turnIsLaid 251 = .ok (.iload_n 3, 1) := dk_29 (dk_at dksX0_turnIsLaid_10 17 rfl rfl)
theorem dX0_turnIsLaid_252 : decode cX0_turnIsLaid 252 = .ok (.aaload, 1) := dk_50 (dk_at dksX0_turnIsLaid_10 18 rfl rfl)
theorem dX0_turnIsLaid_253 : decode cX0_turnIsLaid 253 = .ok (.iload 4, 2) := dk_21 4 (dk_at dksX0_turnIsLaid_10 19 rfl rfl)
theorem dX0_turnIsLaid_255 : decode cX0_turnIsLaid 255 = .ok (.aload_n 0, 1) := dk_42 (dk_at dksX0_turnIsLaid_10 21 rfl rfl)
theorem dX0_turnIsLaid_256 : decode cX0_turnIsLaid 256 = .ok (.getfield 73, 3) := dk_180 0 73 (dk_at dksX0_turnIsLaid_11 0 rfl rfl)
theorem dX0_turnIsLaid_259 : decode cX0_turnIsLaid 259 = .ok (.iload_n 3, 1) := dk_29 (dk_at dksX0_turnIsLaid_11 3 rfl rfl)
theorem dX0_turnIsLaid_260 : decode cX0_turnIsLaid 260 = .ok (.aaload, 1) := dk_50 (dk_at dksX0_turnIsLaid_11 4 rfl rfl)
theorem dX0_turnIsLaid_261 : decode cX0_turnIsLaid 261 = .ok (.iload 4, 2) := dk_21 4 (dk_at dksX0_turnIsLaid_11 5 rfl rfl)
theorem dX0_turnIsLaid_263 : decode cX0_turnIsLaid 263 = .ok (.iaload, 1) := dk_46 (dk_at dksX0_turnIsLaid_11 7 rfl rfl)
theorem dX0_turnIsLaid_264 : decode cX0_turnIsLaid 264 = .ok (.iastore, 1) := dk_79 (dk_at dksX0_turnIsLaid_11 8 rfl rfl)
theorem dX0_turnIsLaid_265 : decode cX0_turnIsLaid 265 = .ok (.iinc 4 1, 3) := dk_132 4 1 (dk_at dksX0_turnIsLaid_11 9 rfl rfl)
theorem dX0_turnIsLaid_268 : decode cX0_turnIsLaid 268 = .ok (.goto (-46), 3) := dk_167 255 210 (dk_at dksX0_turnIsLaid_11 12 rfl rfl)
theorem dX0_turnIsLaid_271 : decode cX0_turnIsLaid 271 = .ok (.iinc 3 1, 3) := dk_132 3 1 (dk_at dksX0_turnIsLaid_11 15 rfl rfl)
theorem dX0_turnIsLaid_274 : decode cX0_turnIsLaid 274 = .ok (.goto (-62), 3) := dk_167 255 194 (dk_at dksX0_turnIsLaid_11 18 rfl rfl)
theorem dX0_turnIsLaid_277 : decode cX0_turnIsLaid 277 = .ok (.return_, 1) := dk_177 (dk_at dksX0_turnIsLaid_11 21 rfl rfl)
abbrev cX0_metBy : ByteArray := prog_1_method_34_code
def yX0_metBy : MethodName := ⟨RX0, "metBy", "(III)I"⟩
def dkwX0_metBy_3 : List UInt8 := [21, 4, 172]
abbrev dktX0_metBy_3 : List UInt8 := dkwX0_metBy_3 ++ []
def dkwX0_metBy_2 : List UInt8 := [184, 0, 205, 153, 0, 10, 4, 21, 5, 120, 167, 0, 4, 3, 128, 54, 4, 132, 5, 1, 167, 255, 197]
abbrev dktX0_metBy_2 : List UInt8 := dkwX0_metBy_2 ++ dktX0_metBy_3
def dkwX0_metBy_1 : List UInt8 := [160, 0, 35, 42, 180, 0, 21, 28, 29, 182, 0, 177, 42, 5, 21, 5, 104, 4, 96, 182, 0, 229]
abbrev dktX0_metBy_1 : List UInt8 := dkwX0_metBy_1 ++ dktX0_metBy_2
def dkwX0_metBy_0 : List UInt8 := [3, 54, 4, 3, 54, 5, 21, 5, 27, 162, 0, 59, 21, 4, 42, 5, 21, 5, 104, 182, 0, 229, 28]
abbrev dktX0_metBy_0 : List UInt8 := dkwX0_metBy_0 ++ dktX0_metBy_1
theorem dksX0_metBy_0 : cX0_metBy.data.toList.drop 0 = dktX0_metBy_0 := by decide +kernel
theorem dksX0_metBy_1 : cX0_metBy.data.toList.drop 23 = dktX0_metBy_1 := dk_seg dksX0_metBy_0 23 rfl rfl
theorem dksX0_metBy_2 : cX0_metBy.data.toList.drop 45 = dktX0_metBy_2 := dk_seg dksX0_metBy_1 22 rfl rfl
theorem dksX0_metBy_3 : cX0_metBy.data.toList.drop 68 = dktX0_metBy_3 := dk_seg dksX0_metBy_2 23 rfl rfl
theorem dX0_metBy_0 : decode cX0_metBy 0 = .ok (.iconst 0, 1) := dk_3 (dk_at dksX0_metBy_0 0 rfl rfl)
theorem dX0_metBy_1 : decode cX0_metBy 1 = .ok (.istore 4, 2) := dk_54 4 (dk_at dksX0_metBy_0 1 rfl rfl)
theorem dX0_metBy_3 : decode cX0_metBy 3 = .ok (.iconst 0, 1) := dk_3 (dk_at dksX0_metBy_0 3 rfl rfl)
theorem dX0_metBy_4 : decode cX0_metBy 4 = .ok (.istore 5, 2) := dk_54 5 (dk_at dksX0_metBy_0 4 rfl rfl)
theorem dX0_metBy_6 : decode cX0_metBy 6 = .ok (.iload 5, 2) := dk_21 5 (dk_at dksX0_metBy_0 6 rfl rfl)
theorem dX0_metBy_8 : decode cX0_metBy 8 = .ok (.iload_n 1, 1) := dk_27 (dk_at dksX0_metBy_0 8 rfl rfl)
theorem dX0_metBy_9 : decode cX0_metBy 9 = .ok (.if_icmp .ge 59, 3) := dk_162 0 59 (dk_at dksX0_metBy_0 9 rfl rfl)
theorem dX0_metBy_12 : decode cX0_metBy 12 = .ok (.iload 4, 2) := dk_21 4 (dk_at dksX0_metBy_0 12 rfl rfl)
theorem dX0_metBy_14 : decode cX0_metBy 14 = .ok (.aload_n 0, 1) := dk_42 (dk_at dksX0_metBy_0 14 rfl rfl)
theorem dX0_metBy_15 : decode cX0_metBy 15 = .ok (.iconst 2, 1) := dk_5 (dk_at dksX0_metBy_0 15 rfl rfl)
theorem dX0_metBy_16 : decode cX0_metBy 16 = .ok (.iload 5, 2) := dk_21 5 (dk_at dksX0_metBy_0 16 rfl rfl)
theorem dX0_metBy_18 : decode cX0_metBy 18 = .ok (.imul, 1) := dk_104 (dk_at dksX0_metBy_0 18 rfl rfl)
theorem dX0_metBy_19 : decode cX0_metBy 19 = .ok (.invokevirtual 229, 3) := dk_182 0 229 (dk_at dksX0_metBy_0 19 rfl rfl)
theorem dX0_metBy_22 : decode cX0_metBy 22 = .ok (.iload_n 2, 1) := dk_28 (dk_at dksX0_metBy_0 22 rfl rfl)
theorem dX0_metBy_23 : decode cX0_metBy 23 = .ok (.if_icmp .ne 35, 3) := dk_160 0 35 (dk_at dksX0_metBy_1 0 rfl rfl)
theorem dX0_metBy_26 : decode cX0_metBy 26 = .ok (.aload_n 0, 1) := dk_42 (dk_at dksX0_metBy_1 3 rfl rfl)
theorem dX0_metBy_27 : decode cX0_metBy 27 = .ok (.getfield 21, 3) := dk_180 0 21 (dk_at dksX0_metBy_1 4 rfl rfl)
theorem dX0_metBy_30 : decode cX0_metBy 30 = .ok (.iload_n 2, 1) := dk_28 (dk_at dksX0_metBy_1 7 rfl rfl)
theorem dX0_metBy_31 : decode cX0_metBy 31 = .ok (.iload_n 3, 1) := dk_29 (dk_at dksX0_metBy_1 8 rfl rfl)
theorem dX0_metBy_32 : decode cX0_metBy 32 = .ok (.invokevirtual 177, 3) := dk_182 0 177 (dk_at dksX0_metBy_1 9 rfl rfl)
theorem dX0_metBy_35 : decode cX0_metBy 35 = .ok (.aload_n 0, 1) := dk_42 (dk_at dksX0_metBy_1 12 rfl rfl)
theorem dX0_metBy_36 : decode cX0_metBy 36 = .ok (.iconst 2, 1) := dk_5 (dk_at dksX0_metBy_1 13 rfl rfl)
theorem dX0_metBy_37 : decode cX0_metBy 37 = .ok (.iload 5, 2) := dk_21 5 (dk_at dksX0_metBy_1 14 rfl rfl)
theorem dX0_metBy_39 : decode cX0_metBy 39 = .ok (.imul, 1) := dk_104 (dk_at dksX0_metBy_1 16 rfl rfl)
theorem dX0_metBy_40 : decode cX0_metBy 40 = .ok (.iconst 1, 1) := dk_4 (dk_at dksX0_metBy_1 17 rfl rfl)
theorem dX0_metBy_41 : decode cX0_metBy 41 = .ok (.iadd, 1) := dk_96 (dk_at dksX0_metBy_1 18 rfl rfl)
theorem dX0_metBy_42 : decode cX0_metBy 42 = .ok (.invokevirtual 229, 3) := dk_182 0 229 (dk_at dksX0_metBy_1 19 rfl rfl)
theorem dX0_metBy_45 : decode cX0_metBy 45 = .ok (.invokestatic 205, 3) := dk_184 0 205 (dk_at dksX0_metBy_2 0 rfl rfl)
theorem dX0_metBy_48 : decode cX0_metBy 48 = .ok (.ifCond .eq 10, 3) := dk_153 0 10 (dk_at dksX0_metBy_2 3 rfl rfl)
theorem dX0_metBy_51 : decode cX0_metBy 51 = .ok (.iconst 1, 1) := dk_4 (dk_at dksX0_metBy_2 6 rfl rfl)
theorem dX0_metBy_52 : decode cX0_metBy 52 = .ok (.iload 5, 2) := dk_21 5 (dk_at dksX0_metBy_2 7 rfl rfl)
theorem dX0_metBy_54 : decode cX0_metBy 54 = .ok (.ishl, 1) := dk_120 (dk_at dksX0_metBy_2 9 rfl rfl)
theorem dX0_metBy_55 : decode cX0_metBy 55 = .ok (.goto 4, 3) := dk_167 0 4 (dk_at dksX0_metBy_2 10 rfl rfl)
theorem dX0_metBy_58 : decode cX0_metBy 58 = .ok (.iconst 0, 1) := dk_3 (dk_at dksX0_metBy_2 13 rfl rfl)
theorem dX0_metBy_59 : decode cX0_metBy 59 = .ok (.ior, 1) := dk_128 (dk_at dksX0_metBy_2 14 rfl rfl)
theorem dX0_metBy_60 : decode cX0_metBy 60 = .ok (.istore 4, 2) := dk_54 4 (dk_at dksX0_metBy_2 15 rfl rfl)
theorem dX0_metBy_62 : decode cX0_metBy 62 = .ok (.iinc 5 1, 3) := dk_132 5 1 (dk_at dksX0_metBy_2 17 rfl rfl)
theorem dX0_metBy_65 : decode cX0_metBy 65 = .ok (.goto (-59), 3) := dk_167 255 197 (dk_at dksX0_metBy_2 20 rfl rfl)
theorem dX0_metBy_68 : decode cX0_metBy 68 = .ok (.iload 4, 2) := dk_21 4 (dk_at dksX0_metBy_3 0 rfl rfl)
theorem dX0_metBy_70 : decode cX0_metBy 70 = .ok (.ireturn, 1) := dk_172 (dk_at dksX0_metBy_3 2 rfl rfl)
abbrev cX0_betters : ByteArray := prog_1_method_35_code
def yX0_betters : MethodName := ⟨RX0, "betters", "(IIII)V"⟩
def dkwX0_betters_2 : List UInt8 := [154, 0, 4, 177, 42, 180, 0, 70, 27, 50, 28, 29, 79, 42, 180, 0, 73, 27, 50, 28, 21, 4, 79, 177]
abbrev dktX0_betters_2 : List UInt8 := dkwX0_betters_2 ++ []
def dkwX0_betters_1 : List UInt8 := [21, 4, 42, 180, 0, 73, 27, 50, 28, 46, 162, 0, 7, 4, 167, 0, 4, 3, 54, 5, 21, 5]
abbrev dktX0_betters_1 : List UInt8 := dkwX0_betters_1 ++ dktX0_betters_2
def dkwX0_betters_0 : List UInt8 := [29, 42, 180, 0, 70, 27, 50, 28, 46, 161, 0, 28, 29, 42, 180, 0, 70, 27, 50, 28, 46, 160, 0, 20]
abbrev dktX0_betters_0 : List UInt8 := dkwX0_betters_0 ++ dktX0_betters_1
theorem dksX0_betters_0 : cX0_betters.data.toList.drop 0 = dktX0_betters_0 := by decide +kernel
theorem dksX0_betters_1 : cX0_betters.data.toList.drop 24 = dktX0_betters_1 := dk_seg dksX0_betters_0 24 rfl rfl
theorem dksX0_betters_2 : cX0_betters.data.toList.drop 46 = dktX0_betters_2 := dk_seg dksX0_betters_1 22 rfl rfl
theorem dX0_betters_0 : decode cX0_betters 0 = .ok (.iload_n 3, 1) := dk_29 (dk_at dksX0_betters_0 0 rfl rfl)
theorem dX0_betters_1 : decode cX0_betters 1 = .ok (.aload_n 0, 1) := dk_42 (dk_at dksX0_betters_0 1 rfl rfl)
theorem dX0_betters_2 : decode cX0_betters 2 = .ok (.getfield 70, 3) := dk_180 0 70 (dk_at dksX0_betters_0 2 rfl rfl)
theorem dX0_betters_5 : decode cX0_betters 5 = .ok (.iload_n 1, 1) := dk_27 (dk_at dksX0_betters_0 5 rfl rfl)
theorem dX0_betters_6 : decode cX0_betters 6 = .ok (.aaload, 1) := dk_50 (dk_at dksX0_betters_0 6 rfl rfl)
theorem dX0_betters_7 : decode cX0_betters 7 = .ok (.iload_n 2, 1) := dk_28 (dk_at dksX0_betters_0 7 rfl rfl)
theorem dX0_betters_8 : decode cX0_betters 8 = .ok (.iaload, 1) := dk_46 (dk_at dksX0_betters_0 8 rfl rfl)
theorem dX0_betters_9 : decode cX0_betters 9 = .ok (.if_icmp .lt 28, 3) := dk_161 0 28 (dk_at dksX0_betters_0 9 rfl rfl)
theorem dX0_betters_12 : decode cX0_betters 12 = .ok (.iload_n 3, 1) := dk_29 (dk_at dksX0_betters_0 12 rfl rfl)
theorem dX0_betters_13 : decode cX0_betters 13 = .ok (.aload_n 0, 1) := dk_42 (dk_at dksX0_betters_0 13 rfl rfl)
theorem dX0_betters_14 : decode cX0_betters 14 = .ok (.getfield 70, 3) := dk_180 0 70 (dk_at dksX0_betters_0 14 rfl rfl)
theorem dX0_betters_17 : decode cX0_betters 17 = .ok (.iload_n 1, 1) := dk_27 (dk_at dksX0_betters_0 17 rfl rfl)
theorem dX0_betters_18 : decode cX0_betters 18 = .ok (.aaload, 1) := dk_50 (dk_at dksX0_betters_0 18 rfl rfl)
theorem dX0_betters_19 : decode cX0_betters 19 = .ok (.iload_n 2, 1) := dk_28 (dk_at dksX0_betters_0 19 rfl rfl)
theorem dX0_betters_20 : decode cX0_betters 20 = .ok (.iaload, 1) := dk_46 (dk_at dksX0_betters_0 20 rfl rfl)
theorem dX0_betters_21 : decode cX0_betters 21 = .ok (.if_icmp .ne 20, 3) := dk_160 0 20 (dk_at dksX0_betters_0 21 rfl rfl)
theorem dX0_betters_24 : decode cX0_betters 24 = .ok (.iload 4, 2) := dk_21 4 (dk_at dksX0_betters_1 0 rfl rfl)
theorem dX0_betters_26 : decode cX0_betters 26 = .ok (.aload_n 0, 1) := dk_42 (dk_at dksX0_betters_1 2 rfl rfl)
theorem dX0_betters_27 : decode cX0_betters 27 = .ok (.getfield 73, 3) := dk_180 0 73 (dk_at dksX0_betters_1 3 rfl rfl)
theorem dX0_betters_30 : decode cX0_betters 30 = .ok (.iload_n 1, 1) := dk_27 (dk_at dksX0_betters_1 6 rfl rfl)
theorem dX0_betters_31 : decode cX0_betters 31 = .ok (.aaload, 1) := dk_50 (dk_at dksX0_betters_1 7 rfl rfl)
theorem dX0_betters_32 : decode cX0_betters 32 = .ok (.iload_n 2, 1) := dk_28 (dk_at dksX0_betters_1 8 rfl rfl)
theorem dX0_betters_33 : decode cX0_betters 33 = .ok (.iaload, 1) := dk_46 (dk_at dksX0_betters_1 9 rfl rfl)
theorem dX0_betters_34 : decode cX0_betters 34 = .ok (.if_icmp .ge 7, 3) := dk_162 0 7 (dk_at dksX0_betters_1 10 rfl rfl)
theorem dX0_betters_37 : decode cX0_betters 37 = .ok (.iconst 1, 1) := dk_4 (dk_at dksX0_betters_1 13 rfl rfl)
theorem dX0_betters_38 : decode cX0_betters 38 = .ok (.goto 4, 3) := dk_167 0 4 (dk_at dksX0_betters_1 14 rfl rfl)
theorem dX0_betters_41 : decode cX0_betters 41 = .ok (.iconst 0, 1) := dk_3 (dk_at dksX0_betters_1 17 rfl rfl)
theorem dX0_betters_42 : decode cX0_betters 42 = .ok (.istore 5, 2) := dk_54 5 (dk_at dksX0_betters_1 18 rfl rfl)
theorem dX0_betters_44 : decode cX0_betters 44 = .ok (.iload 5, 2) := dk_21 5 (dk_at dksX0_betters_1 20 rfl rfl)
theorem dX0_betters_46 : decode cX0_betters 46 = .ok (.ifCond .ne 4, 3) := dk_154 0 4 (dk_at dksX0_betters_2 0 rfl rfl)
theorem dX0_betters_49 : decode cX0_betters 49 = .ok (.return_, 1) := dk_177 (dk_at dksX0_betters_2 3 rfl rfl)
theorem dX0_betters_50 : decode cX0_betters 50 = .ok (.aload_n 0, 1) := dk_42 (dk_at dksX0_betters_2 4 rfl rfl)
theorem dX0_betters_51 : decode cX0_betters 51 = .ok (.getfield 70, 3) := dk_180 0 70 (dk_at dksX0_betters_2 5 rfl rfl)
theorem dX0_betters_54 : decode cX0_betters 54 = .ok (.iload_n 1, 1) := dk_27 (dk_at dksX0_betters_2 8 rfl rfl)
theorem dX0_betters_55 : decode cX0_betters 55 = .ok (.aaload, 1) := dk_50 (dk_at dksX0_betters_2 9 rfl rfl)
theorem dX0_betters_56 : decode cX0_betters 56 = .ok (.iload_n 2, 1) := dk_28 (dk_at dksX0_betters_2 10 rfl rfl)
theorem dX0_betters_57 : decode cX0_betters 57 = .ok (.iload_n 3, 1) := dk_29 (dk_at dksX0_betters_2 11 rfl rfl)
theorem dX0_betters_58 : decode cX0_betters 58 = .ok (.iastore, 1) := dk_79 (dk_at dksX0_betters_2 12 rfl rfl)
theorem dX0_betters_59 : decode cX0_betters 59 = .ok (.aload_n 0, 1) := dk_42 (dk_at dksX0_betters_2 13 rfl rfl)
theorem dX0_betters_60 : decode cX0_betters 60 = .ok (.getfield 73, 3) := dk_180 0 73 (dk_at dksX0_betters_2 14 rfl rfl)
theorem dX0_betters_63 : decode cX0_betters 63 = .ok (.iload_n 1, 1) := dk_27 (dk_at dksX0_betters_2 17 rfl rfl)
theorem dX0_betters_64 : decode cX0_betters 64 = .ok (.aaload, 1) := dk_50 (dk_at dksX0_betters_2 18 rfl rfl)
theorem dX0_betters_65 : decode cX0_betters 65 = .ok (.iload_n 2, 1) := dk_28 (dk_at dksX0_betters_2 19 rfl rfl)
theorem dX0_betters_66 : decode cX0_betters 66 = .ok (.iload 4, 2) := dk_21 4 (dk_at dksX0_betters_2 20 rfl rfl)
theorem dX0_betters_68 : decode cX0_betters 68 = .ok (.iastore, 1) := dk_79 (dk_at dksX0_betters_2 22 rfl rfl)
theorem dX0_betters_69 : decode cX0_betters 69 = .ok (.return_, 1) := dk_177 (dk_at dksX0_betters_2 23 rfl rfl)
abbrev cX0_whoHad : ByteArray := prog_1_method_38_code
def yX0_whoHad : MethodName := ⟨RX0, "whoHad", "(II)I"⟩
def dkwX0_whoHad_3 : List UInt8 := [167, 255, 209, 29, 172]
abbrev dktX0_whoHad_3 : List UInt8 := dkwX0_whoHad_3 ++ []
def dkwX0_whoHad_2 : List UInt8 := [21, 4, 27, 182, 0, 177, 28, 160, 0, 10, 4, 21, 4, 120, 167, 0, 4, 3, 128, 62, 132, 4, 1]
abbrev dktX0_whoHad_2 : List UInt8 := dkwX0_whoHad_2 ++ dktX0_whoHad_3
def dkwX0_whoHad_1 : List UInt8 := [21, 4, 16, 16, 162, 0, 46, 29, 42, 180, 0, 21, 21, 4, 182, 0, 104, 153, 0, 24, 42, 180, 0, 21]
abbrev dktX0_whoHad_1 : List UInt8 := dkwX0_whoHad_1 ++ dktX0_whoHad_2
def dkwX0_whoHad_0 : List UInt8 := [27, 184, 0, 100, 153, 0, 12, 28, 18, 244, 184, 0, 96, 154, 0, 5, 2, 172, 3, 62, 3, 54, 4]
abbrev dktX0_whoHad_0 : List UInt8 := dkwX0_whoHad_0 ++ dktX0_whoHad_1
theorem dksX0_whoHad_0 : cX0_whoHad.data.toList.drop 0 = dktX0_whoHad_0 := by decide +kernel
theorem dksX0_whoHad_1 : cX0_whoHad.data.toList.drop 23 = dktX0_whoHad_1 := dk_seg dksX0_whoHad_0 23 rfl rfl
theorem dksX0_whoHad_2 : cX0_whoHad.data.toList.drop 47 = dktX0_whoHad_2 := dk_seg dksX0_whoHad_1 24 rfl rfl
theorem dksX0_whoHad_3 : cX0_whoHad.data.toList.drop 70 = dktX0_whoHad_3 := dk_seg dksX0_whoHad_2 23 rfl rfl
theorem dX0_whoHad_0 : decode cX0_whoHad 0 = .ok (.iload_n 1, 1) := dk_27 (dk_at dksX0_whoHad_0 0 rfl rfl)
theorem dX0_whoHad_1 : decode cX0_whoHad 1 = .ok (.invokestatic 100, 3) := dk_184 0 100 (dk_at dksX0_whoHad_0 1 rfl rfl)
theorem dX0_whoHad_4 : decode cX0_whoHad 4 = .ok (.ifCond .eq 12, 3) := dk_153 0 12 (dk_at dksX0_whoHad_0 4 rfl rfl)
theorem dX0_whoHad_7 : decode cX0_whoHad 7 = .ok (.iload_n 2, 1) := dk_28 (dk_at dksX0_whoHad_0 7 rfl rfl)
theorem dX0_whoHad_8 : decode cX0_whoHad 8 = .ok (.ldc 244, 2) := dk_18 244 (dk_at dksX0_whoHad_0 8 rfl rfl)
theorem dX0_whoHad_10 : decode cX0_whoHad 10 = .ok (.invokestatic 96, 3) := dk_184 0 96 (dk_at dksX0_whoHad_0 10 rfl rfl)
theorem dX0_whoHad_13 : decode cX0_whoHad 13 = .ok (.ifCond .ne 5, 3) := dk_154 0 5 (dk_at dksX0_whoHad_0 13 rfl rfl)
theorem dX0_whoHad_16 : decode cX0_whoHad 16 = .ok (.iconst (-1), 1) := dk_2 (dk_at dksX0_whoHad_0 16 rfl rfl)
theorem dX0_whoHad_17 : decode cX0_whoHad 17 = .ok (.ireturn, 1) := dk_172 (dk_at dksX0_whoHad_0 17 rfl rfl)
theorem dX0_whoHad_18 : decode cX0_whoHad 18 = .ok (.iconst 0, 1) := dk_3 (dk_at dksX0_whoHad_0 18 rfl rfl)
theorem dX0_whoHad_19 : decode cX0_whoHad 19 = .ok (.istore_n 3, 1) := dk_62 (dk_at dksX0_whoHad_0 19 rfl rfl)
theorem dX0_whoHad_20 : decode cX0_whoHad 20 = .ok (.iconst 0, 1) := dk_3 (dk_at dksX0_whoHad_0 20 rfl rfl)
theorem dX0_whoHad_21 : decode cX0_whoHad 21 = .ok (.istore 4, 2) := dk_54 4 (dk_at dksX0_whoHad_0 21 rfl rfl)
theorem dX0_whoHad_23 : decode cX0_whoHad 23 = .ok (.iload 4, 2) := dk_21 4 (dk_at dksX0_whoHad_1 0 rfl rfl)
theorem dX0_whoHad_25 : decode cX0_whoHad 25 = .ok (.bipush 16, 2) := dk_16 16 (dk_at dksX0_whoHad_1 2 rfl rfl)
theorem dX0_whoHad_27 : decode cX0_whoHad 27 = .ok (.if_icmp .ge 46, 3) := dk_162 0 46 (dk_at dksX0_whoHad_1 4 rfl rfl)
theorem dX0_whoHad_30 : decode cX0_whoHad 30 = .ok (.iload_n 3, 1) := dk_29 (dk_at dksX0_whoHad_1 7 rfl rfl)
theorem dX0_whoHad_31 : decode cX0_whoHad 31 = .ok (.aload_n 0, 1) := dk_42 (dk_at dksX0_whoHad_1 8 rfl rfl)
theorem dX0_whoHad_32 : decode cX0_whoHad 32 = .ok (.getfield 21, 3) := dk_180 0 21 (dk_at dksX0_whoHad_1 9 rfl rfl)
theorem dX0_whoHad_35 : decode cX0_whoHad 35 = .ok (.iload 4, 2) := dk_21 4 (dk_at dksX0_whoHad_1 12 rfl rfl)
theorem dX0_whoHad_37 : decode cX0_whoHad 37 = .ok (.invokevirtual 104, 3) := dk_182 0 104 (dk_at dksX0_whoHad_1 14 rfl rfl)
theorem dX0_whoHad_40 : decode cX0_whoHad 40 = .ok (.ifCond .eq 24, 3) := dk_153 0 24 (dk_at dksX0_whoHad_1 17 rfl rfl)
theorem dX0_whoHad_43 : decode cX0_whoHad 43 = .ok (.aload_n 0, 1) := dk_42 (dk_at dksX0_whoHad_1 20 rfl rfl)
theorem dX0_whoHad_44 : decode cX0_whoHad 44 = .ok (.getfield 21, 3) := dk_180 0 21 (dk_at dksX0_whoHad_1 21 rfl rfl)
theorem dX0_whoHad_47 : decode cX0_whoHad 47 = .ok (.iload 4, 2) := dk_21 4 (dk_at dksX0_whoHad_2 0 rfl rfl)
theorem dX0_whoHad_49 : decode cX0_whoHad 49 = .ok (.iload_n 1, 1) := dk_27 (dk_at dksX0_whoHad_2 2 rfl rfl)
theorem dX0_whoHad_50 : decode cX0_whoHad 50 = .ok (.invokevirtual 177, 3) := dk_182 0 177 (dk_at dksX0_whoHad_2 3 rfl rfl)
theorem dX0_whoHad_53 : decode cX0_whoHad 53 = .ok (.iload_n 2, 1) := dk_28 (dk_at dksX0_whoHad_2 6 rfl rfl)
theorem dX0_whoHad_54 : decode cX0_whoHad 54 = .ok (.if_icmp .ne 10, 3) := dk_160 0 10 (dk_at dksX0_whoHad_2 7 rfl rfl)
theorem dX0_whoHad_57 : decode cX0_whoHad 57 = .ok (.iconst 1, 1) := dk_4 (dk_at dksX0_whoHad_2 10 rfl rfl)
theorem dX0_whoHad_58 : decode cX0_whoHad 58 = .ok (.iload 4, 2) := dk_21 4 (dk_at dksX0_whoHad_2 11 rfl rfl)
theorem dX0_whoHad_60 : decode cX0_whoHad 60 = .ok (.ishl, 1) := dk_120 (dk_at dksX0_whoHad_2 13 rfl rfl)
theorem dX0_whoHad_61 : decode cX0_whoHad 61 = .ok (.goto 4, 3) := dk_167 0 4 (dk_at dksX0_whoHad_2 14 rfl rfl)
theorem dX0_whoHad_64 : decode cX0_whoHad 64 = .ok (.iconst 0, 1) := dk_3 (dk_at dksX0_whoHad_2 17 rfl rfl)
theorem dX0_whoHad_65 : decode cX0_whoHad 65 = .ok (.ior, 1) := dk_128 (dk_at dksX0_whoHad_2 18 rfl rfl)
theorem dX0_whoHad_66 : decode cX0_whoHad 66 = .ok (.istore_n 3, 1) := dk_62 (dk_at dksX0_whoHad_2 19 rfl rfl)
theorem dX0_whoHad_67 : decode cX0_whoHad 67 = .ok (.iinc 4 1, 3) := dk_132 4 1 (dk_at dksX0_whoHad_2 20 rfl rfl)
theorem dX0_whoHad_70 : decode cX0_whoHad 70 = .ok (.goto (-47), 3) := dk_167 255 209 (dk_at dksX0_whoHad_3 0 rfl rfl)
theorem dX0_whoHad_73 : decode cX0_whoHad 73 = .ok (.iload_n 3, 1) := dk_29 (dk_at dksX0_whoHad_3 3 rfl rfl)
theorem dX0_whoHad_74 : decode cX0_whoHad 74 = .ok (.ireturn, 1) := dk_172 (dk_at dksX0_whoHad_3 4 rfl rfl)
abbrev cX0_second : ByteArray := prog_1_method_40_code
def yX0_second : MethodName := ⟨RX0, "second", "(I)I"⟩
def dkwX0_second_8 : List UInt8 := [154, 0, 10, 29, 184, 0, 218, 167, 0, 4, 29, 172]
abbrev dktX0_second_8 : List UInt8 := dkwX0_second_8 ++ []
def dkwX0_second_7 : List UInt8 := [132, 7, 1, 167, 255, 220, 21, 6, 28, 160, 0, 6, 21, 4, 62, 132, 4, 1, 167, 255, 146, 27]
abbrev dktX0_second_7 : List UInt8 := dkwX0_second_7 ++ dktX0_second_8
def dkwX0_second_6 : List UInt8 := [21, 4, 21, 7, 184, 0, 205, 153, 0, 13, 42, 180, 0, 76, 21, 7, 46, 167, 0, 4, 3, 128, 54, 6]
abbrev dktX0_second_6 : List UInt8 := dkwX0_second_6 ++ dktX0_second_7
def dkwX0_second_5 : List UInt8 := [21, 4, 29, 161, 0, 6, 167, 0, 57, 3, 54, 6, 3, 54, 7, 21, 7, 16, 16, 162, 0, 35, 21, 6]
abbrev dktX0_second_5 : List UInt8 := dkwX0_second_5 ++ dktX0_second_6
def dkwX0_second_4 : List UInt8 := [42, 180, 0, 21, 180, 0, 212, 2, 130, 126, 154, 0, 76, 21, 5, 157, 0, 71, 21, 5, 154, 0, 12]
abbrev dktX0_second_4 : List UInt8 := dkwX0_second_4 ++ dktX0_second_5
def dkwX0_second_3 : List UInt8 := [3, 54, 4, 21, 4, 18, 244, 162, 0, 109, 21, 4, 184, 0, 218, 29, 184, 0, 218, 100, 54, 5, 21, 4]
abbrev dktX0_second_3 : List UInt8 := dkwX0_second_3 ++ dktX0_second_4
def dkwX0_second_2 : List UInt8 := [79, 28, 42, 180, 0, 76, 29, 46, 128, 61, 132, 3, 1, 167, 255, 209, 42, 180, 0, 21, 180, 0, 212, 62]
abbrev dktX0_second_2 : List UInt8 := dkwX0_second_2 ++ dktX0_second_3
def dkwX0_second_1 : List UInt8 := [29, 42, 180, 0, 21, 29, 182, 0, 104, 153, 0, 14, 42, 180, 0, 21, 29, 182, 0, 189, 167, 0, 4, 3]
abbrev dktX0_second_1 : List UInt8 := dkwX0_second_1 ++ dktX0_second_2
def dkwX0_second_0 : List UInt8 := [27, 5, 184, 0, 96, 154, 0, 5, 2, 172, 3, 61, 3, 62, 29, 16, 16, 162, 0, 47, 42, 180, 0, 76]
abbrev dktX0_second_0 : List UInt8 := dkwX0_second_0 ++ dktX0_second_1
theorem dksX0_second_0 : cX0_second.data.toList.drop 0 = dktX0_second_0 := by decide +kernel
theorem dksX0_second_1 : cX0_second.data.toList.drop 24 = dktX0_second_1 := dk_seg dksX0_second_0 24 rfl rfl
theorem dksX0_second_2 : cX0_second.data.toList.drop 48 = dktX0_second_2 := dk_seg dksX0_second_1 24 rfl rfl
theorem dksX0_second_3 : cX0_second.data.toList.drop 72 = dktX0_second_3 := dk_seg dksX0_second_2 24 rfl rfl
theorem dksX0_second_4 : cX0_second.data.toList.drop 96 = dktX0_second_4 := dk_seg dksX0_second_3 24 rfl rfl
theorem dksX0_second_5 : cX0_second.data.toList.drop 119 = dktX0_second_5 := dk_seg dksX0_second_4 23 rfl rfl
theorem dksX0_second_6 : cX0_second.data.toList.drop 143 = dktX0_second_6 := dk_seg dksX0_second_5 24 rfl rfl
theorem dksX0_second_7 : cX0_second.data.toList.drop 167 = dktX0_second_7 := dk_seg dksX0_second_6 24 rfl rfl
theorem dksX0_second_8 : cX0_second.data.toList.drop 189 = dktX0_second_8 := dk_seg dksX0_second_7 22 rfl rfl
theorem dX0_second_0 : decode cX0_second 0 = .ok (.iload_n 1, 1) := dk_27 (dk_at dksX0_second_0 0 rfl rfl)
theorem dX0_second_1 : decode cX0_second 1 = .ok (.iconst 2, 1) := dk_5 (dk_at dksX0_second_0 1 rfl rfl)
theorem dX0_second_2 : decode cX0_second 2 = .ok (.invokestatic 96, 3) := dk_184 0 96 (dk_at dksX0_second_0 2 rfl rfl)
theorem dX0_second_5 : decode cX0_second 5 = .ok (.ifCond .ne 5, 3) := dk_154 0 5 (dk_at dksX0_second_0 5 rfl rfl)
theorem dX0_second_8 : decode cX0_second 8 = .ok (.iconst (-1), 1) := dk_2 (dk_at dksX0_second_0 8 rfl rfl)
theorem dX0_second_9 : decode cX0_second 9 = .ok (.ireturn, 1) := dk_172 (dk_at dksX0_second_0 9 rfl rfl)
theorem dX0_second_10 : decode cX0_second 10 = .ok (.iconst 0, 1) := dk_3 (dk_at dksX0_second_0 10 rfl rfl)
theorem dX0_second_11 : decode cX0_second 11 = .ok (.istore_n 2, 1) := dk_61 (dk_at dksX0_second_0 11 rfl rfl)
theorem dX0_second_12 : decode cX0_second 12 = .ok (.iconst 0, 1) := dk_3 (dk_at dksX0_second_0 12 rfl rfl)
theorem dX0_second_13 : decode cX0_second 13 = .ok (.istore_n 3, 1) := dk_62 (dk_at dksX0_second_0 13 rfl rfl)
theorem dX0_second_14 : decode cX0_second 14 = .ok (.iload_n 3, 1) := dk_29 (dk_at dksX0_second_0 14 rfl rfl)
theorem dX0_second_15 : decode cX0_second 15 = .ok (.bipush 16, 2) := dk_16 16 (dk_at dksX0_second_0 15 rfl rfl)
theorem dX0_second_17 : decode cX0_second 17 = .ok (.if_icmp .ge 47, 3) := dk_162 0 47 (dk_at dksX0_second_0 17 rfl rfl)
theorem dX0_second_20 : decode cX0_second 20 = .ok (.aload_n 0, 1) := dk_42 (dk_at dksX0_second_0 20 rfl rfl)
theorem dX0_second_21 : decode cX0_second 21 = .ok (.getfield 76, 3) := dk_180 0 76 (dk_at dksX0_second_0 21 rfl rfl)
theorem dX0_second_24 : decode cX0_second 24 = .ok (.iload_n 3, 1) := dk_29 (dk_at dksX0_second_1 0 rfl rfl)
theorem dX0_second_25 : decode cX0_second 25 = .ok (.aload_n 0, 1) := dk_42 (dk_at dksX0_second_1 1 rfl rfl)
theorem dX0_second_26 : decode cX0_second 26 = .ok (.getfield 21, 3) := dk_180 0 21 (dk_at dksX0_second_1 2 rfl rfl)
theorem dX0_second_29 : decode cX0_second 29 = .ok (.iload_n 3, 1) := dk_29 (dk_at dksX0_second_1 5 rfl rfl)
theorem dX0_second_30 : decode cX0_second 30 = .ok (.invokevirtual 104, 3) := dk_182 0 104 (dk_at dksX0_second_1 6 rfl rfl)
theorem dX0_second_33 : decode cX0_second 33 = .ok (.ifCond .eq 14, 3) := dk_153 0 14 (dk_at dksX0_second_1 9 rfl rfl)
theorem dX0_second_36 : decode cX0_second 36 = .ok (.aload_n 0, 1) := dk_42 (dk_at dksX0_second_1 12 rfl rfl)
theorem dX0_second_37 : decode cX0_second 37 = .ok (.getfield 21, 3) := dk_180 0 21 (dk_at dksX0_second_1 13 rfl rfl)
theorem dX0_second_40 : decode cX0_second 40 = .ok (.iload_n 3, 1) := dk_29 (dk_at dksX0_second_1 16 rfl rfl)
theorem dX0_second_41 : decode cX0_second 41 = .ok (.invokevirtual 189, 3) := dk_182 0 189 (dk_at dksX0_second_1 17 rfl rfl)
theorem dX0_second_44 : decode cX0_second 44 = .ok (.goto 4, 3) := dk_167 0 4 (dk_at dksX0_second_1 20 rfl rfl)
theorem dX0_second_47 : decode cX0_second 47 = .ok (.iconst 0, 1) := dk_3 (dk_at dksX0_second_1 23 rfl rfl)
theorem dX0_second_48 : decode cX0_second 48 = .ok (.iastore, 1) := dk_79 (dk_at dksX0_second_2 0 rfl rfl)
theorem dX0_second_49 : decode cX0_second 49 = .ok (.iload_n 2, 1) := dk_28 (dk_at dksX0_second_2 1 rfl rfl)
theorem dX0_second_50 : decode cX0_second 50 = .ok (.aload_n 0, 1) := dk_42 (dk_at dksX0_second_2 2 rfl rfl)
theorem dX0_second_51 : decode cX0_second 51 = .ok (.getfield 76, 3) := dk_180 0 76 (dk_at dksX0_second_2 3 rfl rfl)
theorem dX0_second_54 : decode cX0_second 54 = .ok (.iload_n 3, 1) := dk_29 (dk_at dksX0_second_2 6 rfl rfl)
theorem dX0_second_55 : decode cX0_second 55 = .ok (.iaload, 1) := dk_46 (dk_at dksX0_second_2 7 rfl rfl)
theorem dX0_second_56 : decode cX0_second 56 = .ok (.ior, 1) := dk_128 (dk_at dksX0_second_2 8 rfl rfl)
theorem dX0_second_57 : decode cX0_second 57 = .ok (.istore_n 2, 1) := dk_61 (dk_at dksX0_second_2 9 rfl rfl)
theorem dX0_second_58 : decode cX0_second 58 = .ok (.iinc 3 1, 3) := dk_132 3 1 (dk_at dksX0_second_2 10 rfl rfl)
theorem dX0_second_61 : decode cX0_second 61 = .ok (.goto (-47), 3) := dk_167 255 209 (dk_at dksX0_second_2 13 rfl rfl)
theorem dX0_second_64 : decode cX0_second 64 = .ok (.aload_n 0, 1) := dk_42 (dk_at dksX0_second_2 16 rfl rfl)
theorem dX0_second_65 : decode cX0_second 65 = .ok (.getfield 21, 3) := dk_180 0 21 (dk_at dksX0_second_2 17 rfl rfl)
theorem dX0_second_68 : decode cX0_second 68 = .ok (.getfield 212, 3) := dk_180 0 212 (dk_at dksX0_second_2 20 rfl rfl)
theorem dX0_second_71 : decode cX0_second 71 = .ok (.istore_n 3, 1) := dk_62 (dk_at dksX0_second_2 23 rfl rfl)
theorem dX0_second_72 : decode cX0_second 72 = .ok (.iconst 0, 1) := dk_3 (dk_at dksX0_second_3 0 rfl rfl)
theorem dX0_second_73 : decode cX0_second 73 = .ok (.istore 4, 2) := dk_54 4 (dk_at dksX0_second_3 1 rfl rfl)
theorem dX0_second_75 : decode cX0_second 75 = .ok (.iload 4, 2) := dk_21 4 (dk_at dksX0_second_3 3 rfl rfl)
theorem dX0_second_77 : decode cX0_second 77 = .ok (.ldc 244, 2) := dk_18 244 (dk_at dksX0_second_3 5 rfl rfl)
theorem dX0_second_79 : decode cX0_second 79 = .ok (.if_icmp .ge 109, 3) := dk_162 0 109 (dk_at dksX0_second_3 7 rfl rfl)
theorem dX0_second_82 : decode cX0_second 82 = .ok (.iload 4, 2) := dk_21 4 (dk_at dksX0_second_3 10 rfl rfl)
theorem dX0_second_84 : decode cX0_second 84 = .ok (.invokestatic 218, 3) := dk_184 0 218 (dk_at dksX0_second_3 12 rfl rfl)
theorem dX0_second_87 : decode cX0_second 87 = .ok (.iload_n 3, 1) := dk_29 (dk_at dksX0_second_3 15 rfl rfl)
theorem dX0_second_88 : decode cX0_second 88 = .ok (.invokestatic 218, 3) := dk_184 0 218 (dk_at dksX0_second_3 16 rfl rfl)
theorem dX0_second_91 : decode cX0_second 91 = .ok (.isub, 1) := dk_100 (dk_at dksX0_second_3 19 rfl rfl)
theorem dX0_second_92 : decode cX0_second 92 = .ok (.istore 5, 2) := dk_54 5 (dk_at dksX0_second_3 20 rfl rfl)
theorem dX0_second_94 : decode cX0_second 94 = .ok (.iload 4, 2) := dk_21 4 (dk_at dksX0_second_3 22 rfl rfl)
theorem dX0_second_96 : decode cX0_second 96 = .ok (.aload_n 0, 1) := dk_42 (dk_at dksX0_second_4 0 rfl rfl)
theorem dX0_second_97 : decode cX0_second 97 = .ok (.getfield 21, 3) := dk_180 0 21 (dk_at dksX0_second_4 1 rfl rfl)
theorem dX0_second_100 : decode cX0_second 100 = .ok (.getfield 212, 3) := dk_180 0 212 (dk_at dksX0_second_4 4 rfl rfl)
theorem dX0_second_103 : decode cX0_second 103 = .ok (.iconst (-1), 1) := dk_2 (dk_at dksX0_second_4 7 rfl rfl)
theorem dX0_second_104 : decode cX0_second 104 = .ok (.ixor, 1) := dk_130 (dk_at dksX0_second_4 8 rfl rfl)
theorem dX0_second_105 : decode cX0_second 105 = .ok (.iand, 1) := dk_126 (dk_at dksX0_second_4 9 rfl rfl)
theorem dX0_second_106 : decode cX0_second 106 = .ok (.ifCond .ne 76, 3) := dk_154 0 76 (dk_at dksX0_second_4 10 rfl rfl)
theorem dX0_second_109 : decode cX0_second 109 = .ok (.iload 5, 2) := dk_21 5 (dk_at dksX0_second_4 13 rfl rfl)
theorem dX0_second_111 : decode cX0_second 111 = .ok (.ifCond .gt 71, 3) := dk_157 0 71 (dk_at dksX0_second_4 15 rfl rfl)
theorem dX0_second_114 : decode cX0_second 114 = .ok (.iload 5, 2) := dk_21 5 (dk_at dksX0_second_4 18 rfl rfl)
theorem dX0_second_116 : decode cX0_second 116 = .ok (.ifCond .ne 12, 3) := dk_154 0 12 (dk_at dksX0_second_4 20 rfl rfl)
theorem dX0_second_119 : decode cX0_second 119 = .ok (.iload 4, 2) := dk_21 4 (dk_at dksX0_second_5 0 rfl rfl)
theorem dX0_second_121 : decode cX0_second 121 = .ok (.iload_n 3, 1) := dk_29 (dk_at dksX0_second_5 2 rfl rfl)
theorem dX0_second_122 : decode cX0_second 122 = .ok (.if_icmp .lt 6, 3) := dk_161 0 6 (dk_at dksX0_second_5 3 rfl rfl)
theorem dX0_second_125 : decode cX0_second 125 = .ok (.goto 57, 3) := dk_167 0 57 (dk_at dksX0_second_5 6 rfl rfl)
theorem dX0_second_128 : decode cX0_second 128 = .ok (.iconst 0, 1) := dk_3 (dk_at dksX0_second_5 9 rfl rfl)
theorem dX0_second_129 : decode cX0_second 129 = .ok (.istore 6, 2) := dk_54 6 (dk_at dksX0_second_5 10 rfl rfl)
theorem dX0_second_131 : decode cX0_second 131 = .ok (.iconst 0, 1) := dk_3 (dk_at dksX0_second_5 12 rfl rfl)
theorem dX0_second_132 : decode cX0_second 132 = .ok (.istore 7, 2) := dk_54 7 (dk_at dksX0_second_5 13 rfl rfl)
theorem dX0_second_134 : decode cX0_second 134 = .ok (.iload 7, 2) := dk_21 7 (dk_at dksX0_second_5 15 rfl rfl)
theorem dX0_second_136 : decode cX0_second 136 = .ok (.bipush 16, 2) := dk_16 16 (dk_at dksX0_second_5 17 rfl rfl)
theorem dX0_second_138 : decode cX0_second 138 = .ok (.if_icmp .ge 35, 3) := dk_162 0 35 (dk_at dksX0_second_5 19 rfl rfl)
theorem dX0_second_141 : decode cX0_second 141 = .ok (.iload 6, 2) := dk_21 6 (dk_at dksX0_second_5 22 rfl rfl)
theorem dX0_second_143 : decode cX0_second 143 = .ok (.iload 4, 2) := dk_21 4 (dk_at dksX0_second_6 0 rfl rfl)
theorem dX0_second_145 : decode cX0_second 145 = .ok (.iload 7, 2) := dk_21 7 (dk_at dksX0_second_6 2 rfl rfl)
theorem dX0_second_147 : decode cX0_second 147 = .ok (.invokestatic 205, 3) := dk_184 0 205 (dk_at dksX0_second_6 4 rfl rfl)
theorem dX0_second_150 : decode cX0_second 150 = .ok (.ifCond .eq 13, 3) := dk_153 0 13 (dk_at dksX0_second_6 7 rfl rfl)
theorem dX0_second_153 : decode cX0_second 153 = .ok (.aload_n 0, 1) := dk_42 (dk_at dksX0_second_6 10 rfl rfl)
theorem dX0_second_154 : decode cX0_second 154 = .ok (.getfield 76, 3) := dk_180 0 76 (dk_at dksX0_second_6 11 rfl rfl)
theorem dX0_second_157 : decode cX0_second 157 = .ok (.iload 7, 2) := dk_21 7 (dk_at dksX0_second_6 14 rfl rfl)
theorem dX0_second_159 : decode cX0_second 159 = .ok (.iaload, 1) := dk_46 (dk_at dksX0_second_6 16 rfl rfl)
theorem dX0_second_160 : decode cX0_second 160 = .ok (.goto 4, 3) := dk_167 0 4 (dk_at dksX0_second_6 17 rfl rfl)
theorem dX0_second_163 : decode cX0_second 163 = .ok (.iconst 0, 1) := dk_3 (dk_at dksX0_second_6 20 rfl rfl)
theorem dX0_second_164 : decode cX0_second 164 = .ok (.ior, 1) := dk_128 (dk_at dksX0_second_6 21 rfl rfl)
theorem dX0_second_165 : decode cX0_second 165 = .ok (.istore 6, 2) := dk_54 6 (dk_at dksX0_second_6 22 rfl rfl)
theorem dX0_second_167 : decode cX0_second 167 = .ok (.iinc 7 1, 3) := dk_132 7 1 (dk_at dksX0_second_7 0 rfl rfl)
theorem dX0_second_170 : decode cX0_second 170 = .ok (.goto (-36), 3) := dk_167 255 220 (dk_at dksX0_second_7 3 rfl rfl)
theorem dX0_second_173 : decode cX0_second 173 = .ok (.iload 6, 2) := dk_21 6 (dk_at dksX0_second_7 6 rfl rfl)
theorem dX0_second_175 : decode cX0_second 175 = .ok (.iload_n 2, 1) := dk_28 (dk_at dksX0_second_7 8 rfl rfl)
theorem dX0_second_176 : decode cX0_second 176 = .ok (.if_icmp .ne 6, 3) := dk_160 0 6 (dk_at dksX0_second_7 9 rfl rfl)
theorem dX0_second_179 : decode cX0_second 179 = .ok (.iload 4, 2) := dk_21 4 (dk_at dksX0_second_7 12 rfl rfl)
theorem dX0_second_181 : decode cX0_second 181 = .ok (.istore_n 3, 1) := dk_62 (dk_at dksX0_second_7 14 rfl rfl)
theorem dX0_second_182 : decode cX0_second 182 = .ok (.iinc 4 1, 3) := dk_132 4 1 (dk_at dksX0_second_7 15 rfl rfl)
theorem dX0_second_185 : decode cX0_second 185 = .ok (.goto (-110), 3) := dk_167 255 146 (dk_at dksX0_second_7 18 rfl rfl)
theorem dX0_second_188 : decode cX0_second 188 = .ok (.iload_n 1, 1) := dk_27 (dk_at dksX0_second_7 21 rfl rfl)
theorem dX0_second_189 : decode cX0_second 189 = .ok (.ifCond .ne 10, 3) := dk_154 0 10 (dk_at dksX0_second_8 0 rfl rfl)
theorem dX0_second_192 : decode cX0_second 192 = .ok (.iload_n 3, 1) := dk_29 (dk_at dksX0_second_8 3 rfl rfl)
theorem dX0_second_193 : decode cX0_second 193 = .ok (.invokestatic 218, 3) := dk_184 0 218 (dk_at dksX0_second_8 4 rfl rfl)
theorem dX0_second_196 : decode cX0_second 196 = .ok (.goto 4, 3) := dk_167 0 4 (dk_at dksX0_second_8 7 rfl rfl)
theorem dX0_second_199 : decode cX0_second 199 = .ok (.iload_n 3, 1) := dk_29 (dk_at dksX0_second_8 10 rfl rfl)
theorem dX0_second_200 : decode cX0_second 200 = .ok (.ireturn, 1) := dk_172 (dk_at dksX0_second_8 11 rfl rfl)
abbrev cX0_crack : ByteArray := prog_1_method_41_code
def yX0_crack : MethodName := ⟨RX0, "crack", "(II)I"⟩
def dkwX0_crack_9 : List UInt8 := [167, 255, 134, 28, 154, 0, 7, 29, 167, 0, 5, 21, 4, 172]
abbrev dktX0_crack_9 : List UInt8 := dkwX0_crack_9 ++ []
def dkwX0_crack_8 : List UInt8 := [159, 0, 15, 4, 42, 180, 0, 25, 21, 5, 46, 120, 167, 0, 4, 3, 128, 54, 4, 132, 5, 1]
abbrev dktX0_crack_8 : List UInt8 := dkwX0_crack_8 ++ dktX0_crack_9
def dkwX0_crack_7 : List UInt8 := [21, 5, 120, 128, 62, 21, 4, 21, 5, 16, 12, 162, 0, 26, 42, 180, 0, 25, 21, 5, 46, 2]
abbrev dktX0_crack_7 : List UInt8 := dkwX0_crack_7 ++ dktX0_crack_8
def dkwX0_crack_6 : List UInt8 := [4, 167, 0, 4, 3, 54, 6, 132, 7, 1, 167, 255, 204, 21, 6, 154, 0, 6, 167, 0, 46, 29, 4]
abbrev dktX0_crack_6 : List UInt8 := dkwX0_crack_6 ++ dktX0_crack_7
def dkwX0_crack_5 : List UInt8 := [182, 0, 229, 163, 0, 7, 4, 167, 0, 4, 3, 42, 5, 21, 7, 104, 4, 96, 182, 0, 229, 160, 0, 7]
abbrev dktX0_crack_5 : List UInt8 := dkwX0_crack_5 ++ dktX0_crack_6
def dkwX0_crack_4 : List UInt8 := [54, 6, 3, 54, 7, 21, 7, 27, 162, 0, 52, 21, 6, 153, 0, 38, 21, 5, 42, 5, 21, 7, 104]
abbrev dktX0_crack_4 : List UInt8 := dkwX0_crack_4 ++ dktX0_crack_5
def dkwX0_crack_3 : List UInt8 := [172, 132, 3, 1, 167, 255, 219, 3, 62, 3, 54, 4, 3, 54, 5, 21, 5, 16, 12, 163, 0, 121, 4]
abbrev dktX0_crack_3 : List UInt8 := dkwX0_crack_3 ++ dktX0_crack_4
def dkwX0_crack_2 : List UInt8 := [182, 0, 229, 184, 0, 100, 153, 0, 16, 42, 5, 29, 104, 4, 96, 182, 0, 229, 4, 164, 0, 6, 16, 253]
abbrev dktX0_crack_2 : List UInt8 := dkwX0_crack_2 ++ dktX0_crack_3
def dkwX0_crack_1 : List UInt8 := [180, 0, 107, 164, 0, 5, 2, 172, 42, 3, 181, 0, 107, 3, 62, 29, 27, 162, 0, 38, 42, 5, 29, 104]
abbrev dktX0_crack_1 : List UInt8 := dkwX0_crack_1 ++ dktX0_crack_2
def dkwX0_crack_0 : List UInt8 := [27, 4, 16, 12, 184, 0, 114, 153, 0, 21, 28, 5, 184, 0, 96, 153, 0, 13, 5, 27, 104, 42]
abbrev dktX0_crack_0 : List UInt8 := dkwX0_crack_0 ++ dktX0_crack_1
theorem dksX0_crack_0 : cX0_crack.data.toList.drop 0 = dktX0_crack_0 := by decide +kernel
theorem dksX0_crack_1 : cX0_crack.data.toList.drop 22 = dktX0_crack_1 := dk_seg dksX0_crack_0 22 rfl rfl
theorem dksX0_crack_2 : cX0_crack.data.toList.drop 46 = dktX0_crack_2 := dk_seg dksX0_crack_1 24 rfl rfl
theorem dksX0_crack_3 : cX0_crack.data.toList.drop 70 = dktX0_crack_3 := dk_seg dksX0_crack_2 24 rfl rfl
theorem dksX0_crack_4 : cX0_crack.data.toList.drop 93 = dktX0_crack_4 := dk_seg dksX0_crack_3 23 rfl rfl
theorem dksX0_crack_5 : cX0_crack.data.toList.drop 116 = dktX0_crack_5 := dk_seg dksX0_crack_4 23 rfl rfl
theorem dksX0_crack_6 : cX0_crack.data.toList.drop 140 = dktX0_crack_6 := dk_seg dksX0_crack_5 24 rfl rfl
theorem dksX0_crack_7 : cX0_crack.data.toList.drop 163 = dktX0_crack_7 := dk_seg dksX0_crack_6 23 rfl rfl
theorem dksX0_crack_8 : cX0_crack.data.toList.drop 185 = dktX0_crack_8 := dk_seg dksX0_crack_7 22 rfl rfl
theorem dksX0_crack_9 : cX0_crack.data.toList.drop 207 = dktX0_crack_9 := dk_seg dksX0_crack_8 22 rfl rfl
theorem dX0_crack_0 : decode cX0_crack 0 = .ok (.iload_n 1, 1) := dk_27 (dk_at dksX0_crack_0 0 rfl rfl)
theorem dX0_crack_1 : decode cX0_crack 1 = .ok (.iconst 1, 1) := dk_4 (dk_at dksX0_crack_0 1 rfl rfl)
theorem dX0_crack_2 : decode cX0_crack 2 = .ok (.bipush 12, 2) := dk_16 12 (dk_at dksX0_crack_0 2 rfl rfl)
theorem dX0_crack_4 : decode cX0_crack 4 = .ok (.invokestatic 114, 3) := dk_184 0 114 (dk_at dksX0_crack_0 4 rfl rfl)
theorem dX0_crack_7 : decode cX0_crack 7 = .ok (.ifCond .eq 21, 3) := dk_153 0 21 (dk_at dksX0_crack_0 7 rfl rfl)
theorem dX0_crack_10 : decode cX0_crack 10 = .ok (.iload_n 2, 1) := dk_28 (dk_at dksX0_crack_0 10 rfl rfl)
theorem dX0_crack_11 : decode cX0_crack 11 = .ok (.iconst 2, 1) := dk_5 (dk_at dksX0_crack_0 11 rfl rfl)
theorem dX0_crack_12 : decode cX0_crack 12 = .ok (.invokestatic 96, 3) := dk_184 0 96 (dk_at dksX0_crack_0 12 rfl rfl)
theorem dX0_crack_15 : decode cX0_crack 15 = .ok (.ifCond .eq 13, 3) := dk_153 0 13 (dk_at dksX0_crack_0 15 rfl rfl)
theorem dX0_crack_18 : decode cX0_crack 18 = .ok (.iconst 2, 1) := dk_5 (dk_at dksX0_crack_0 18 rfl rfl)
theorem dX0_crack_19 : decode cX0_crack 19 = .ok (.iload_n 1, 1) := dk_27 (dk_at dksX0_crack_0 19 rfl rfl)
theorem dX0_crack_20 : decode cX0_crack 20 = .ok (.imul, 1) := dk_104 (dk_at dksX0_crack_0 20 rfl rfl)
theorem dX0_crack_21 : decode cX0_crack 21 = .ok (.aload_n 0, 1) := dk_42 (dk_at dksX0_crack_0 21 rfl rfl)
theorem dX0_crack_22 : decode cX0_crack 22 = .ok (.getfield 107, 3) := dk_180 0 107 (dk_at dksX0_crack_1 0 rfl rfl)
theorem dX0_crack_25 : decode cX0_crack 25 = .ok (.if_icmp .le 5, 3) := dk_164 0 5 (dk_at dksX0_crack_1 3 rfl rfl)
theorem dX0_crack_28 : decode cX0_crack 28 = .ok (.iconst (-1), 1) := dk_2 (dk_at dksX0_crack_1 6 rfl rfl)
theorem dX0_crack_29 : decode cX0_crack 29 = .ok (.ireturn, 1) := dk_172 (dk_at dksX0_crack_1 7 rfl rfl)
theorem dX0_crack_30 : decode cX0_crack 30 = .ok (.aload_n 0, 1) := dk_42 (dk_at dksX0_crack_1 8 rfl rfl)
theorem dX0_crack_31 : decode cX0_crack 31 = .ok (.iconst 0, 1) := dk_3 (dk_at dksX0_crack_1 9 rfl rfl)
theorem dX0_crack_32 : decode cX0_crack 32 = .ok (.putfield 107, 3) := dk_181 0 107 (dk_at dksX0_crack_1 10 rfl rfl)
theorem dX0_crack_35 : decode cX0_crack 35 = .ok (.iconst 0, 1) := dk_3 (dk_at dksX0_crack_1 13 rfl rfl)
theorem dX0_crack_36 : decode cX0_crack 36 = .ok (.istore_n 3, 1) := dk_62 (dk_at dksX0_crack_1 14 rfl rfl)
theorem dX0_crack_37 : decode cX0_crack 37 = .ok (.iload_n 3, 1) := dk_29 (dk_at dksX0_crack_1 15 rfl rfl)
theorem dX0_crack_38 : decode cX0_crack 38 = .ok (.iload_n 1, 1) := dk_27 (dk_at dksX0_crack_1 16 rfl rfl)
theorem dX0_crack_39 : decode cX0_crack 39 = .ok (.if_icmp .ge 38, 3) := dk_162 0 38 (dk_at dksX0_crack_1 17 rfl rfl)
theorem dX0_crack_42 : decode cX0_crack 42 = .ok (.aload_n 0, 1) := dk_42 (dk_at dksX0_crack_1 20 rfl rfl)
theorem dX0_crack_43 : decode cX0_crack 43 = .ok (.iconst 2, 1) := dk_5 (dk_at dksX0_crack_1 21 rfl rfl)
theorem dX0_crack_44 : decode cX0_crack 44 = .ok (.iload_n 3, 1) := dk_29 (dk_at dksX0_crack_1 22 rfl rfl)
theorem dX0_crack_45 : decode cX0_crack 45 = .ok (.imul, 1) := dk_104 (dk_at dksX0_crack_1 23 rfl rfl)
theorem dX0_crack_46 : decode cX0_crack 46 = .ok (.invokevirtual 229, 3) := dk_182 0 229 (dk_at dksX0_crack_2 0 rfl rfl)
theorem dX0_crack_49 : decode cX0_crack 49 = .ok (.invokestatic 100, 3) := dk_184 0 100 (dk_at dksX0_crack_2 3 rfl rfl)
theorem dX0_crack_52 : decode cX0_crack 52 = .ok (.ifCond .eq 16, 3) := dk_153 0 16 (dk_at dksX0_crack_2 6 rfl rfl)
theorem dX0_crack_55 : decode cX0_crack 55 = .ok (.aload_n 0, 1) := dk_42 (dk_at dksX0_crack_2 9 rfl rfl)
theorem dX0_crack_56 : decode cX0_crack 56 = .ok (.iconst 2, 1) := dk_5 (dk_at dksX0_crack_2 10 rfl rfl)
theorem dX0_crack_57 : decode cX0_crack 57 = .ok (.iload_n 3, 1) := dk_29 (dk_at dksX0_crack_2 11 rfl rfl)
theorem dX0_crack_58 : decode cX0_crack 58 = .ok (.imul, 1) := dk_104 (dk_at dksX0_crack_2 12 rfl rfl)
theorem dX0_crack_59 : decode cX0_crack 59 = .ok (.iconst 1, 1) := dk_4 (dk_at dksX0_crack_2 13 rfl rfl)
theorem dX0_crack_60 : decode cX0_crack 60 = .ok (.iadd, 1) := dk_96 (dk_at dksX0_crack_2 14 rfl rfl)
theorem dX0_crack_61 : decode cX0_crack 61 = .ok (.invokevirtual 229, 3) := dk_182 0 229 (dk_at dksX0_crack_2 15 rfl rfl)
theorem dX0_crack_64 : decode cX0_crack 64 = .ok (.iconst 1, 1) := dk_4 (dk_at dksX0_crack_2 18 rfl rfl)
theorem dX0_crack_65 : decode cX0_crack 65 = .ok (.if_icmp .le 6, 3) := dk_164 0 6 (dk_at dksX0_crack_2 19 rfl rfl)
theorem dX0_crack_68 : decode cX0_crack 68 = .ok (.bipush (-3), 2) := dk_16 253 (dk_at dksX0_crack_2 22 rfl rfl)
theorem dX0_crack_70 : decode cX0_crack 70 = .ok (.ireturn, 1) := dk_172 (dk_at dksX0_crack_3 0 rfl rfl)
theorem dX0_crack_71 : decode cX0_crack 71 = .ok (.iinc 3 1, 3) := dk_132 3 1 (dk_at dksX0_crack_3 1 rfl rfl)
theorem dX0_crack_74 : decode cX0_crack 74 = .ok (.goto (-37), 3) := dk_167 255 219 (dk_at dksX0_crack_3 4 rfl rfl)
theorem dX0_crack_77 : decode cX0_crack 77 = .ok (.iconst 0, 1) := dk_3 (dk_at dksX0_crack_3 7 rfl rfl)
theorem dX0_crack_78 : decode cX0_crack 78 = .ok (.istore_n 3, 1) := dk_62 (dk_at dksX0_crack_3 8 rfl rfl)
theorem dX0_crack_79 : decode cX0_crack 79 = .ok (.iconst 0, 1) := dk_3 (dk_at dksX0_crack_3 9 rfl rfl)
theorem dX0_crack_80 : decode cX0_crack 80 = .ok (.istore 4, 2) := dk_54 4 (dk_at dksX0_crack_3 10 rfl rfl)
theorem dX0_crack_82 : decode cX0_crack 82 = .ok (.iconst 0, 1) := dk_3 (dk_at dksX0_crack_3 12 rfl rfl)
theorem dX0_crack_83 : decode cX0_crack 83 = .ok (.istore 5, 2) := dk_54 5 (dk_at dksX0_crack_3 13 rfl rfl)
theorem dX0_crack_85 : decode cX0_crack 85 = .ok (.iload 5, 2) := dk_21 5 (dk_at dksX0_crack_3 15 rfl rfl)
theorem dX0_crack_87 : decode cX0_crack 87 = .ok (.bipush 12, 2) := dk_16 12 (dk_at dksX0_crack_3 17 rfl rfl)
theorem dX0_crack_89 : decode cX0_crack 89 = .ok (.if_icmp .gt 121, 3) := dk_163 0 121 (dk_at dksX0_crack_3 19 rfl rfl)
theorem dX0_crack_92 : decode cX0_crack 92 = .ok (.iconst 1, 1) := dk_4 (dk_at dksX0_crack_3 22 rfl rfl)
theorem dX0_crack_93 : decode cX0_crack 93 = .ok (.istore 6, 2) := dk_54 6 (dk_at dksX0_crack_4 0 rfl rfl)
theorem dX0_crack_95 : decode cX0_crack 95 = .ok (.iconst 0, 1) := dk_3 (dk_at dksX0_crack_4 2 rfl rfl)
theorem dX0_crack_96 : decode cX0_crack 96 = .ok (.istore 7, 2) := dk_54 7 (dk_at dksX0_crack_4 3 rfl rfl)
theorem dX0_crack_98 : decode cX0_crack 98 = .ok (.iload 7, 2) := dk_21 7 (dk_at dksX0_crack_4 5 rfl rfl)
theorem dX0_crack_100 : decode cX0_crack 100 = .ok (.iload_n 1, 1) := dk_27 (dk_at dksX0_crack_4 7 rfl rfl)
theorem dX0_crack_101 : decode cX0_crack 101 = .ok (.if_icmp .ge 52, 3) := dk_162 0 52 (dk_at dksX0_crack_4 8 rfl rfl)
theorem dX0_crack_104 : decode cX0_crack 104 = .ok (.iload 6, 2) := dk_21 6 (dk_at dksX0_crack_4 11 rfl rfl)
theorem dX0_crack_106 : decode cX0_crack 106 = .ok (.ifCond .eq 38, 3) := dk_153 0 38 (dk_at dksX0_crack_4 13 rfl rfl)
theorem dX0_crack_109 : decode cX0_crack 109 = .ok (.iload 5, 2) := dk_21 5 (dk_at dksX0_crack_4 16 rfl rfl)
theorem dX0_crack_111 : decode cX0_crack 111 = .ok (.aload_n 0, 1) := dk_42 (dk_at dksX0_crack_4 18 rfl rfl)
theorem dX0_crack_112 : decode cX0_crack 112 = .ok (.iconst 2, 1) := dk_5 (dk_at dksX0_crack_4 19 rfl rfl)
theorem dX0_crack_113 : decode cX0_crack 113 = .ok (.iload 7, 2) := dk_21 7 (dk_at dksX0_crack_4 20 rfl rfl)
theorem dX0_crack_115 : decode cX0_crack 115 = .ok (.imul, 1) := dk_104 (dk_at dksX0_crack_4 22 rfl rfl)
theorem dX0_crack_116 : decode cX0_crack 116 = .ok (.invokevirtual 229, 3) := dk_182 0 229 (dk_at dksX0_crack_5 0 rfl rfl)
theorem dX0_crack_119 : decode cX0_crack 119 = .ok (.if_icmp .gt 7, 3) := dk_163 0 7 (dk_at dksX0_crack_5 3 rfl rfl)
theorem dX0_crack_122 : decode cX0_crack 122 = .ok (.iconst 1, 1) := dk_4 (dk_at dksX0_crack_5 6 rfl rfl)
theorem dX0_crack_123 : decode cX0_crack 123 = .ok (.goto 4, 3) := dk_167 0 4 (dk_at dksX0_crack_5 7 rfl rfl)
theorem dX0_crack_126 : decode cX0_crack 126 = .ok (.iconst 0, 1) := dk_3 (dk_at dksX0_crack_5 10 rfl rfl)
theorem dX0_crack_127 : decode cX0_crack 127 = .ok (.aload_n 0, 1) := dk_42 (dk_at dksX0_crack_5 11 rfl rfl)
theorem dX0_crack_128 : decode cX0_crack 128 = .ok (.iconst 2, 1) := dk_5 (dk_at dksX0_crack_5 12 rfl rfl)
theorem dX0_crack_129 : decode cX0_crack 129 = .ok (.iload 7, 2) := dk_21 7 (dk_at dksX0_crack_5 13 rfl rfl)
theorem dX0_crack_131 : decode cX0_crack 131 = .ok (.imul, 1) := dk_104 (dk_at dksX0_crack_5 15 rfl rfl)
theorem dX0_crack_132 : decode cX0_crack 132 = .ok (.iconst 1, 1) := dk_4 (dk_at dksX0_crack_5 16 rfl rfl)
theorem dX0_crack_133 : decode cX0_crack 133 = .ok (.iadd, 1) := dk_96 (dk_at dksX0_crack_5 17 rfl rfl)
theorem dX0_crack_134 : decode cX0_crack 134 = .ok (.invokevirtual 229, 3) := dk_182 0 229 (dk_at dksX0_crack_5 18 rfl rfl)
theorem dX0_crack_137 : decode cX0_crack 137 = .ok (.if_icmp .ne 7, 3) := dk_160 0 7 (dk_at dksX0_crack_5 21 rfl rfl)
theorem dX0_crack_140 : decode cX0_crack 140 = .ok (.iconst 1, 1) := dk_4 (dk_at dksX0_crack_6 0 rfl rfl)
theorem dX0_crack_141 : decode cX0_crack 141 = .ok (.goto 4, 3) := dk_167 0 4 (dk_at dksX0_crack_6 1 rfl rfl)
theorem dX0_crack_144 : decode cX0_crack 144 = .ok (.iconst 0, 1) := dk_3 (dk_at dksX0_crack_6 4 rfl rfl)
theorem dX0_crack_145 : decode cX0_crack 145 = .ok (.istore 6, 2) := dk_54 6 (dk_at dksX0_crack_6 5 rfl rfl)
theorem dX0_crack_147 : decode cX0_crack 147 = .ok (.iinc 7 1, 3) := dk_132 7 1 (dk_at dksX0_crack_6 7 rfl rfl)
theorem dX0_crack_150 : decode cX0_crack 150 = .ok (.goto (-52), 3) := dk_167 255 204 (dk_at dksX0_crack_6 10 rfl rfl)
theorem dX0_crack_153 : decode cX0_crack 153 = .ok (.iload 6, 2) := dk_21 6 (dk_at dksX0_crack_6 13 rfl rfl)
theorem dX0_crack_155 : decode cX0_crack 155 = .ok (.ifCond .ne 6, 3) := dk_154 0 6 (dk_at dksX0_crack_6 15 rfl rfl)
theorem dX0_crack_158 : decode cX0_crack 158 = .ok (.goto 46, 3) := dk_167 0 46 (dk_at dksX0_crack_6 18 rfl rfl)
theorem dX0_crack_161 : decode cX0_crack 161 = .ok (.iload_n 3, 1) := dk_29 (dk_at dksX0_crack_6 21 rfl rfl)
theorem dX0_crack_162 : decode cX0_crack 162 = .ok (.iconst 1, 1) := dk_4 (dk_at dksX0_crack_6 22 rfl rfl)
theorem dX0_crack_163 : decode cX0_crack 163 = .ok (.iload 5, 2) := dk_21 5 (dk_at dksX0_crack_7 0 rfl rfl)
theorem dX0_crack_165 : decode cX0_crack 165 = .ok (.ishl, 1) := dk_120 (dk_at dksX0_crack_7 2 rfl rfl)
theorem dX0_crack_166 : decode cX0_crack 166 = .ok (.ior, 1) := dk_128 (dk_at dksX0_crack_7 3 rfl rfl)
theorem dX0_crack_167 : decode cX0_crack 167 = .ok (.istore_n 3, 1) := dk_62 (dk_at dksX0_crack_7 4 rfl rfl)
theorem dX0_crack_168 : decode cX0_crack 168 = .ok (.iload 4, 2) := dk_21 4 (dk_at dksX0_crack_7 5 rfl rfl)
theorem dX0_crack_170 : decode cX0_crack 170 = .ok (.iload 5, 2) := dk_21 5 (dk_at dksX0_crack_7 7 rfl rfl)
theorem dX0_crack_172 : decode cX0_crack 172 = .ok (.bipush 12, 2) := dk_16 12 (dk_at dksX0_crack_7 9 rfl rfl)
theorem dX0_crack_174 : decode cX0_crack 174 = .ok (.if_icmp .ge 26, 3) := dk_162 0 26 (dk_at dksX0_crack_7 11 rfl rfl)
theorem dX0_crack_177 : decode cX0_crack 177 = .ok (.aload_n 0, 1) := dk_42 (dk_at dksX0_crack_7 14 rfl rfl)
theorem dX0_crack_178 : decode cX0_crack 178 = .ok (.getfield 25, 3) := dk_180 0 25 (dk_at dksX0_crack_7 15 rfl rfl)
theorem dX0_crack_181 : decode cX0_crack 181 = .ok (.iload 5, 2) := dk_21 5 (dk_at dksX0_crack_7 18 rfl rfl)
theorem dX0_crack_183 : decode cX0_crack 183 = .ok (.iaload, 1) := dk_46 (dk_at dksX0_crack_7 20 rfl rfl)
theorem dX0_crack_184 : decode cX0_crack 184 = .ok (.iconst (-1), 1) := dk_2 (dk_at dksX0_crack_7 21 rfl rfl)
theorem dX0_crack_185 : decode cX0_crack 185 = .ok (.if_icmp .eq 15, 3) := dk_159 0 15 (dk_at dksX0_crack_8 0 rfl rfl)
theorem dX0_crack_188 : decode cX0_crack 188 = .ok (.iconst 1, 1) := dk_4 (dk_at dksX0_crack_8 3 rfl rfl)
theorem dX0_crack_189 : decode cX0_crack 189 = .ok (.aload_n 0, 1) := dk_42 (dk_at dksX0_crack_8 4 rfl rfl)
theorem dX0_crack_190 : decode cX0_crack 190 = .ok (.getfield 25, 3) := dk_180 0 25 (dk_at dksX0_crack_8 5 rfl rfl)
theorem dX0_crack_193 : decode cX0_crack 193 = .ok (.iload 5, 2) := dk_21 5 (dk_at dksX0_crack_8 8 rfl rfl)
theorem dX0_crack_195 : decode cX0_crack 195 = .ok (.iaload, 1) := dk_46 (dk_at dksX0_crack_8 10 rfl rfl)
theorem dX0_crack_196 : decode cX0_crack 196 = .ok (.ishl, 1) := dk_120 (dk_at dksX0_crack_8 11 rfl rfl)
theorem dX0_crack_197 : decode cX0_crack 197 = .ok (.goto 4, 3) := dk_167 0 4 (dk_at dksX0_crack_8 12 rfl rfl)
theorem dX0_crack_200 : decode cX0_crack 200 = .ok (.iconst 0, 1) := dk_3 (dk_at dksX0_crack_8 15 rfl rfl)
theorem dX0_crack_201 : decode cX0_crack 201 = .ok (.ior, 1) := dk_128 (dk_at dksX0_crack_8 16 rfl rfl)
theorem dX0_crack_202 : decode cX0_crack 202 = .ok (.istore 4, 2) := dk_54 4 (dk_at dksX0_crack_8 17 rfl rfl)
theorem dX0_crack_204 : decode cX0_crack 204 = .ok (.iinc 5 1, 3) := dk_132 5 1 (dk_at dksX0_crack_8 19 rfl rfl)
theorem dX0_crack_207 : decode cX0_crack 207 = .ok (.goto (-122), 3) := dk_167 255 134 (dk_at dksX0_crack_9 0 rfl rfl)
theorem dX0_crack_210 : decode cX0_crack 210 = .ok (.iload_n 2, 1) := dk_28 (dk_at dksX0_crack_9 3 rfl rfl)
theorem dX0_crack_211 : decode cX0_crack 211 = .ok (.ifCond .ne 7, 3) := dk_154 0 7 (dk_at dksX0_crack_9 4 rfl rfl)
theorem dX0_crack_214 : decode cX0_crack 214 = .ok (.iload_n 3, 1) := dk_29 (dk_at dksX0_crack_9 7 rfl rfl)
theorem dX0_crack_215 : decode cX0_crack 215 = .ok (.goto 5, 3) := dk_167 0 5 (dk_at dksX0_crack_9 8 rfl rfl)
theorem dX0_crack_218 : decode cX0_crack 218 = .ok (.iload 4, 2) := dk_21 4 (dk_at dksX0_crack_9 11 rfl rfl)
theorem dX0_crack_220 : decode cX0_crack 220 = .ok (.ireturn, 1) := dk_172 (dk_at dksX0_crack_9 13 rfl rfl)
abbrev cX0_halves : ByteArray := prog_1_method_42_code
def yX0_halves : MethodName := ⟨RX0, "halves", "(I)I"⟩
def dkwX0_halves_6 : List UInt8 := [46, 172]
abbrev dktX0_halves_6 : List UInt8 := dkwX0_halves_6 ++ []
def dkwX0_halves_5 : List UInt8 := [184, 0, 1, 100, 79, 132, 3, 1, 167, 255, 167, 132, 2, 1, 167, 255, 154, 42, 180, 0, 79, 3, 50, 27]
abbrev dktX0_halves_5 : List UInt8 := dkwX0_halves_5 ++ dktX0_halves_6
def dkwX0_halves_4 : List UInt8 := [180, 0, 79, 29, 4, 96, 50, 29, 28, 96, 46, 42, 180, 0, 79, 29, 50, 29, 28, 96, 4, 100, 46]
abbrev dktX0_halves_4 : List UInt8 := dkwX0_halves_4 ++ dktX0_halves_5
def dkwX0_halves_3 : List UInt8 := [167, 255, 234, 42, 180, 0, 79, 29, 50, 29, 28, 96, 28, 154, 0, 7, 3, 167, 0, 33, 21, 4, 42]
abbrev dktX0_halves_3 : List UInt8 := dkwX0_halves_3 ++ dktX0_halves_4
def dkwX0_halves_2 : List UInt8 := [54, 5, 21, 5, 29, 28, 96, 162, 0, 20, 21, 4, 42, 21, 5, 182, 0, 229, 96, 54, 4, 132, 5, 1]
abbrev dktX0_halves_2 : List UInt8 := dkwX0_halves_2 ++ dktX0_halves_3
def dkwX0_halves_1 : List UInt8 := [181, 0, 107, 3, 61, 28, 27, 163, 0, 103, 3, 62, 29, 28, 96, 27, 163, 0, 88, 3, 54, 4, 29]
abbrev dktX0_halves_1 : List UInt8 := dkwX0_halves_1 ++ dktX0_halves_2
def dkwX0_halves_0 : List UInt8 := [27, 5, 16, 12, 184, 0, 114, 153, 0, 11, 27, 42, 180, 0, 107, 164, 0, 5, 2, 172, 42, 3]
abbrev dktX0_halves_0 : List UInt8 := dkwX0_halves_0 ++ dktX0_halves_1
theorem dksX0_halves_0 : cX0_halves.data.toList.drop 0 = dktX0_halves_0 := by decide +kernel
theorem dksX0_halves_1 : cX0_halves.data.toList.drop 22 = dktX0_halves_1 := dk_seg dksX0_halves_0 22 rfl rfl
theorem dksX0_halves_2 : cX0_halves.data.toList.drop 45 = dktX0_halves_2 := dk_seg dksX0_halves_1 23 rfl rfl
theorem dksX0_halves_3 : cX0_halves.data.toList.drop 69 = dktX0_halves_3 := dk_seg dksX0_halves_2 24 rfl rfl
theorem dksX0_halves_4 : cX0_halves.data.toList.drop 92 = dktX0_halves_4 := dk_seg dksX0_halves_3 23 rfl rfl
theorem dksX0_halves_5 : cX0_halves.data.toList.drop 115 = dktX0_halves_5 := dk_seg dksX0_halves_4 23 rfl rfl
theorem dksX0_halves_6 : cX0_halves.data.toList.drop 139 = dktX0_halves_6 := dk_seg dksX0_halves_5 24 rfl rfl
theorem dX0_halves_0 : decode cX0_halves 0 = .ok (.iload_n 1, 1) := dk_27 (dk_at dksX0_halves_0 0 rfl rfl)
theorem dX0_halves_1 : decode cX0_halves 1 = .ok (.iconst 2, 1) := dk_5 (dk_at dksX0_halves_0 1 rfl rfl)
theorem dX0_halves_2 : decode cX0_halves 2 = .ok (.bipush 12, 2) := dk_16 12 (dk_at dksX0_halves_0 2 rfl rfl)
theorem dX0_halves_4 : decode cX0_halves 4 = .ok (.invokestatic 114, 3) := dk_184 0 114 (dk_at dksX0_halves_0 4 rfl rfl)
theorem dX0_halves_7 : decode cX0_halves 7 = .ok (.ifCond .eq 11, 3) := dk_153 0 11 (dk_at dksX0_halves_0 7 rfl rfl)
theorem dX0_halves_10 : decode cX0_halves 10 = .ok (.iload_n 1, 1) := dk_27 (dk_at dksX0_halves_0 10 rfl rfl)
theorem dX0_halves_11 : decode cX0_halves 11 = .ok (.aload_n 0, 1) := dk_42 (dk_at dksX0_halves_0 11 rfl rfl)
theorem dX0_halves_12 : decode cX0_halves 12 = .ok (.getfield 107, 3) := dk_180 0 107 (dk_at dksX0_halves_0 12 rfl rfl)
theorem dX0_halves_15 : decode cX0_halves 15 = .ok (.if_icmp .le 5, 3) := dk_164 0 5 (dk_at dksX0_halves_0 15 rfl rfl)
theorem dX0_halves_18 : decode cX0_halves 18 = .ok (.iconst (-1), 1) := dk_2 (dk_at dksX0_halves_0 18 rfl rfl)
theorem dX0_halves_19 : decode cX0_halves 19 = .ok (.ireturn, 1) := dk_172 (dk_at dksX0_halves_0 19 rfl rfl)
theorem dX0_halves_20 : decode cX0_halves 20 = .ok (.aload_n 0, 1) := dk_42 (dk_at dksX0_halves_0 20 rfl rfl)
theorem dX0_halves_21 : decode cX0_halves 21 = .ok (.iconst 0, 1) := dk_3 (dk_at dksX0_halves_0 21 rfl rfl)
theorem dX0_halves_22 : decode cX0_halves 22 = .ok (.putfield 107, 3) := dk_181 0 107 (dk_at dksX0_halves_1 0 rfl rfl)
theorem dX0_halves_25 : decode cX0_halves 25 = .ok (.iconst 0, 1) := dk_3 (dk_at dksX0_halves_1 3 rfl rfl)
theorem dX0_halves_26 : decode cX0_halves 26 = .ok (.istore_n 2, 1) := dk_61 (dk_at dksX0_halves_1 4 rfl rfl)
theorem dX0_halves_27 : decode cX0_halves 27 = .ok (.iload_n 2, 1) := dk_28 (dk_at dksX0_halves_1 5 rfl rfl)
theorem dX0_halves_28 : decode cX0_halves 28 = .ok (.iload_n 1, 1) := dk_27 (dk_at dksX0_halves_1 6 rfl rfl)
theorem dX0_halves_29 : decode cX0_halves 29 = .ok (.if_icmp .gt 103, 3) := dk_163 0 103 (dk_at dksX0_halves_1 7 rfl rfl)
theorem dX0_halves_32 : decode cX0_halves 32 = .ok (.iconst 0, 1) := dk_3 (dk_at dksX0_halves_1 10 rfl rfl)
theorem dX0_halves_33 : decode cX0_halves 33 = .ok (.istore_n 3, 1) := dk_62 (dk_at dksX0_halves_1 11 rfl rfl)
theorem dX0_halves_34 : decode cX0_halves 34 = .ok (.iload_n 3, 1) := dk_29 (dk_at dksX0_halves_1 12 rfl rfl)
theorem dX0_halves_35 : decode cX0_halves 35 = .ok (.iload_n 2, 1) := dk_28 (dk_at dksX0_halves_1 13 rfl rfl)
theorem dX0_halves_36 : decode cX0_halves 36 = .ok (.iadd, 1) := dk_96 (dk_at dksX0_halves_1 14 rfl rfl)
theorem dX0_halves_37 : decode cX0_halves 37 = .ok (.iload_n 1, 1) := dk_27 (dk_at dksX0_halves_1 15 rfl rfl)
theorem dX0_halves_38 : decode cX0_halves 38 = .ok (.if_icmp .gt 88, 3) := dk_163 0 88 (dk_at dksX0_halves_1 16 rfl rfl)
theorem dX0_halves_41 : decode cX0_halves 41 = .ok (.iconst 0, 1) := dk_3 (dk_at dksX0_halves_1 19 rfl rfl)
theorem dX0_halves_42 : decode cX0_halves 42 = .ok (.istore 4, 2) := dk_54 4 (dk_at dksX0_halves_1 20 rfl rfl)
theorem dX0_halves_44 : decode cX0_halves 44 = .ok (.iload_n 3, 1) := dk_29 (dk_at dksX0_halves_1 22 rfl rfl)
theorem dX0_halves_45 : decode cX0_halves 45 = .ok (.istore 5, 2) := dk_54 5 (dk_at dksX0_halves_2 0 rfl rfl)
theorem dX0_halves_47 : decode cX0_halves 47 = .ok (.iload 5, 2) := dk_21 5 (dk_at dksX0_halves_2 2 rfl rfl)
theorem dX0_halves_49 : decode cX0_halves 49 = .ok (.iload_n 3, 1) := dk_29 (dk_at dksX0_halves_2 4 rfl rfl)
theorem dX0_halves_50 : decode cX0_halves 50 = .ok (.iload_n 2, 1) := dk_28 (dk_at dksX0_halves_2 5 rfl rfl)
theorem dX0_halves_51 : decode cX0_halves 51 = .ok (.iadd, 1) := dk_96 (dk_at dksX0_halves_2 6 rfl rfl)
theorem dX0_halves_52 : decode cX0_halves 52 = .ok (.if_icmp .ge 20, 3) := dk_162 0 20 (dk_at dksX0_halves_2 7 rfl rfl)
theorem dX0_halves_55 : decode cX0_halves 55 = .ok (.iload 4, 2) := dk_21 4 (dk_at dksX0_halves_2 10 rfl rfl)
theorem dX0_halves_57 : decode cX0_halves 57 = .ok (.aload_n 0, 1) := dk_42 (dk_at dksX0_halves_2 12 rfl rfl)
theorem dX0_halves_58 : decode cX0_halves 58 = .ok (.iload 5, 2) := dk_21 5 (dk_at dksX0_halves_2 13 rfl rfl)
theorem dX0_halves_60 : decode cX0_halves 60 = .ok (.invokevirtual 229, 3) := dk_182 0 229 (dk_at dksX0_halves_2 15 rfl rfl)
theorem dX0_halves_63 : decode cX0_halves 63 = .ok (.iadd, 1) := dk_96 (dk_at dksX0_halves_2 18 rfl rfl)
theorem dX0_halves_64 : decode cX0_halves 64 = .ok (.istore 4, 2) := dk_54 4 (dk_at dksX0_halves_2 19 rfl rfl)
theorem dX0_halves_66 : decode cX0_halves 66 = .ok (.iinc 5 1, 3) := dk_132 5 1 (dk_at dksX0_halves_2 21 rfl rfl)
theorem dX0_halves_69 : decode cX0_halves 69 = .ok (.goto (-22), 3) := dk_167 255 234 (dk_at dksX0_halves_3 0 rfl rfl)
theorem dX0_halves_72 : decode cX0_halves 72 = .ok (.aload_n 0, 1) := dk_42 (dk_at dksX0_halves_3 3 rfl rfl)
theorem dX0_halves_73 : decode cX0_halves 73 = .ok (.getfield 79, 3) := dk_180 0 79 (dk_at dksX0_halves_3 4 rfl rfl)
theorem dX0_halves_76 : decode cX0_halves 76 = .ok (.iload_n 3, 1) := dk_29 (dk_at dksX0_halves_3 7 rfl rfl)
theorem dX0_halves_77 : decode cX0_halves 77 = .ok (.aaload, 1) := dk_50 (dk_at dksX0_halves_3 8 rfl rfl)
theorem dX0_halves_78 : decode cX0_halves 78 = .ok (.iload_n 3, 1) := dk_29 (dk_at dksX0_halves_3 9 rfl rfl)
theorem dX0_halves_79 : decode cX0_halves 79 = .ok (.iload_n 2, 1) := dk_28 (dk_at dksX0_halves_3 10 rfl rfl)
theorem dX0_halves_80 : decode cX0_halves 80 = .ok (.iadd, 1) := dk_96 (dk_at dksX0_halves_3 11 rfl rfl)
theorem dX0_halves_81 : decode cX0_halves 81 = .ok (.iload_n 2, 1) := dk_28 (dk_at dksX0_halves_3 12 rfl rfl)
theorem dX0_halves_82 : decode cX0_halves 82 = .ok (.ifCond .ne 7, 3) := dk_154 0 7 (dk_at dksX0_halves_3 13 rfl rfl)
theorem dX0_halves_85 : decode cX0_halves 85 = .ok (.iconst 0, 1) := dk_3 (dk_at dksX0_halves_3 16 rfl rfl)
theorem dX0_halves_86 : decode cX0_halves 86 = .ok (.goto 33, 3) := dk_167 0 33 (dk_at dksX0_halves_3 17 rfl rfl)
theorem dX0_halves_89 : decode cX0_halves 89 = .ok (.iload 4, 2) := dk_21 4 (dk_at dksX0_halves_3 20 rfl rfl)
theorem dX0_halves_91 : decode cX0_halves 91 = .ok (.aload_n 0, 1) := dk_42 (dk_at dksX0_halves_3 22 rfl rfl)
theorem dX0_halves_92 : decode cX0_halves 92 = .ok (.getfield 79, 3) := dk_180 0 79 (dk_at dksX0_halves_4 0 rfl rfl)
theorem dX0_halves_95 : decode cX0_halves 95 = .ok (.iload_n 3, 1) := dk_29 (dk_at dksX0_halves_4 3 rfl rfl)
theorem dX0_halves_96 : decode cX0_halves 96 = .ok (.iconst 1, 1) := dk_4 (dk_at dksX0_halves_4 4 rfl rfl)
theorem dX0_halves_97 : decode cX0_halves 97 = .ok (.iadd, 1) := dk_96 (dk_at dksX0_halves_4 5 rfl rfl)
theorem dX0_halves_98 : decode cX0_halves 98 = .ok (.aaload, 1) := dk_50 (dk_at dksX0_halves_4 6 rfl rfl)
theorem dX0_halves_99 : decode cX0_halves 99 = .ok (.iload_n 3, 1) := dk_29 (dk_at dksX0_halves_4 7 rfl rfl)
theorem dX0_halves_100 : decode cX0_halves 100 = .ok (.iload_n 2, 1) := dk_28 (dk_at dksX0_halves_4 8 rfl rfl)
theorem dX0_halves_101 : decode cX0_halves 101 = .ok (.iadd, 1) := dk_96 (dk_at dksX0_halves_4 9 rfl rfl)
theorem dX0_halves_102 : decode cX0_halves 102 = .ok (.iaload, 1) := dk_46 (dk_at dksX0_halves_4 10 rfl rfl)
theorem dX0_halves_103 : decode cX0_halves 103 = .ok (.aload_n 0, 1) := dk_42 (dk_at dksX0_halves_4 11 rfl rfl)
theorem dX0_halves_104 : decode cX0_halves 104 = .ok (.getfield 79, 3) := dk_180 0 79 (dk_at dksX0_halves_4 12 rfl rfl)
theorem dX0_halves_107 : decode cX0_halves 107 = .ok (.iload_n 3, 1) := dk_29 (dk_at dksX0_halves_4 15 rfl rfl)
theorem dX0_halves_108 : decode cX0_halves 108 = .ok (.aaload, 1) := dk_50 (dk_at dksX0_halves_4 16 rfl rfl)
theorem dX0_halves_109 : decode cX0_halves 109 = .ok (.iload_n 3, 1) := dk_29 (dk_at dksX0_halves_4 17 rfl rfl)
theorem dX0_halves_110 : decode cX0_halves 110 = .ok (.iload_n 2, 1) := dk_28 (dk_at dksX0_halves_4 18 rfl rfl)
theorem dX0_halves_111 : decode cX0_halves 111 = .ok (.iadd, 1) := dk_96 (dk_at dksX0_halves_4 19 rfl rfl)
theorem dX0_halves_112 : decode cX0_halves 112 = .ok (.iconst 1, 1) := dk_4 (dk_at dksX0_halves_4 20 rfl rfl)
theorem dX0_halves_113 : decode cX0_halves 113 = .ok (.isub, 1) := dk_100 (dk_at dksX0_halves_4 21 rfl rfl)
theorem dX0_halves_114 : decode cX0_halves 114 = .ok (.iaload, 1) := dk_46 (dk_at dksX0_halves_4 22 rfl rfl)
theorem dX0_halves_115 : decode cX0_halves 115 = .ok (.invokestatic 1, 3) := dk_184 0 1 (dk_at dksX0_halves_5 0 rfl rfl)
theorem dX0_halves_118 : decode cX0_halves 118 = .ok (.isub, 1) := dk_100 (dk_at dksX0_halves_5 3 rfl rfl)
theorem dX0_halves_119 : decode cX0_halves 119 = .ok (.iastore, 1) := dk_79 (dk_at dksX0_halves_5 4 rfl rfl)
theorem dX0_halves_120 : decode cX0_halves 120 = .ok (.iinc 3 1, 3) := dk_132 3 1 (dk_at dksX0_halves_5 5 rfl rfl)
theorem dX0_halves_123 : decode cX0_halves 123 = .ok (.goto (-89), 3) := dk_167 255 167 (dk_at dksX0_halves_5 8 rfl rfl)
theorem dX0_halves_126 : decode cX0_halves 126 = .ok (.iinc 2 1, 3) := dk_132 2 1 (dk_at dksX0_halves_5 11 rfl rfl)
theorem dX0_halves_129 : decode cX0_halves 129 = .ok (.goto (-102), 3) := dk_167 255 154 (dk_at dksX0_halves_5 14 rfl rfl)
theorem dX0_halves_132 : decode cX0_halves 132 = .ok (.aload_n 0, 1) := dk_42 (dk_at dksX0_halves_5 17 rfl rfl)
theorem dX0_halves_133 : decode cX0_halves 133 = .ok (.getfield 79, 3) := dk_180 0 79 (dk_at dksX0_halves_5 18 rfl rfl)
theorem dX0_halves_136 : decode cX0_halves 136 = .ok (.iconst 0, 1) := dk_3 (dk_at dksX0_halves_5 21 rfl rfl)
theorem dX0_halves_137 : decode cX0_halves 137 = .ok (.aaload, 1) := dk_50 (dk_at dksX0_halves_5 22 rfl rfl)
theorem dX0_halves_138 : decode cX0_halves 138 = .ok (.iload_n 1, 1) := dk_27 (dk_at dksX0_halves_5 23 rfl rfl)
theorem dX0_halves_139 : decode cX0_halves 139 = .ok (.iaload, 1) := dk_46 (dk_at dksX0_halves_6 0 rfl rfl)
theorem dX0_halves_140 : decode cX0_halves 140 = .ok (.ireturn, 1) := dk_172 (dk_at dksX0_halves_6 1 rfl rfl)
abbrev cX0_swaps : ByteArray := prog_1_method_46_code
def yX0_swaps : MethodName := ⟨RX0, "swaps", "(II)I"⟩
def dkwX0_swaps_4 : List UInt8 := [132, 5, 1, 167, 255, 226, 132, 4, 1, 167, 255, 211, 29, 172]
abbrev dktX0_swaps_4 : List UInt8 := dkwX0_swaps_4 ++ []
def dkwX0_swaps_3 : List UInt8 := [162, 0, 29, 29, 42, 27, 21, 4, 21, 5, 182, 0, 254, 153, 0, 7, 4, 167, 0, 4, 3, 96, 62]
abbrev dktX0_swaps_3 : List UInt8 := dkwX0_swaps_3 ++ dktX0_swaps_4
def dkwX0_swaps_2 : List UInt8 := [100, 182, 0, 251, 172, 3, 62, 3, 54, 4, 21, 4, 27, 162, 0, 45, 3, 54, 5, 21, 5, 21, 4]
abbrev dktX0_swaps_2 : List UInt8 := dkwX0_swaps_2 ++ dktX0_swaps_3
def dkwX0_swaps_1 : List UInt8 := [180, 0, 107, 164, 0, 5, 2, 172, 42, 3, 181, 0, 107, 28, 4, 160, 0, 14, 42, 27, 4, 27, 120, 4]
abbrev dktX0_swaps_1 : List UInt8 := dkwX0_swaps_1 ++ dktX0_swaps_2
def dkwX0_swaps_0 : List UInt8 := [27, 5, 16, 8, 184, 0, 114, 153, 0, 21, 28, 5, 184, 0, 96, 153, 0, 13, 27, 27, 104, 42]
abbrev dktX0_swaps_0 : List UInt8 := dkwX0_swaps_0 ++ dktX0_swaps_1
theorem dksX0_swaps_0 : cX0_swaps.data.toList.drop 0 = dktX0_swaps_0 := by decide +kernel
theorem dksX0_swaps_1 : cX0_swaps.data.toList.drop 22 = dktX0_swaps_1 := dk_seg dksX0_swaps_0 22 rfl rfl
theorem dksX0_swaps_2 : cX0_swaps.data.toList.drop 46 = dktX0_swaps_2 := dk_seg dksX0_swaps_1 24 rfl rfl
theorem dksX0_swaps_3 : cX0_swaps.data.toList.drop 69 = dktX0_swaps_3 := dk_seg dksX0_swaps_2 23 rfl rfl
theorem dksX0_swaps_4 : cX0_swaps.data.toList.drop 92 = dktX0_swaps_4 := dk_seg dksX0_swaps_3 23 rfl rfl
theorem dX0_swaps_0 : decode cX0_swaps 0 = .ok (.iload_n 1, 1) := dk_27 (dk_at dksX0_swaps_0 0 rfl rfl)
theorem dX0_swaps_1 : decode cX0_swaps 1 = .ok (.iconst 2, 1) := dk_5 (dk_at dksX0_swaps_0 1 rfl rfl)
theorem dX0_swaps_2 : decode cX0_swaps 2 = .ok (.bipush 8, 2) := dk_16 8 (dk_at dksX0_swaps_0 2 rfl rfl)
theorem dX0_swaps_4 : decode cX0_swaps 4 = .ok (.invokestatic 114, 3) := dk_184 0 114 (dk_at dksX0_swaps_0 4 rfl rfl)
theorem dX0_swaps_7 : decode cX0_swaps 7 = .ok (.ifCond .eq 21, 3) := dk_153 0 21 (dk_at dksX0_swaps_0 7 rfl rfl)
theorem dX0_swaps_10 : decode cX0_swaps 10 = .ok (.iload_n 2, 1) := dk_28 (dk_at dksX0_swaps_0 10 rfl rfl)
theorem dX0_swaps_11 : decode cX0_swaps 11 = .ok (.iconst 2, 1) := dk_5 (dk_at dksX0_swaps_0 11 rfl rfl)
theorem dX0_swaps_12 : decode cX0_swaps 12 = .ok (.invokestatic 96, 3) := dk_184 0 96 (dk_at dksX0_swaps_0 12 rfl rfl)
theorem dX0_swaps_15 : decode cX0_swaps 15 = .ok (.ifCond .eq 13, 3) := dk_153 0 13 (dk_at dksX0_swaps_0 15 rfl rfl)
theorem dX0_swaps_18 : decode cX0_swaps 18 = .ok (.iload_n 1, 1) := dk_27 (dk_at dksX0_swaps_0 18 rfl rfl)
theorem dX0_swaps_19 : decode cX0_swaps 19 = .ok (.iload_n 1, 1) := dk_27 (dk_at dksX0_swaps_0 19 rfl rfl)
theorem dX0_swaps_20 : decode cX0_swaps 20 = .ok (.imul, 1) := dk_104 (dk_at dksX0_swaps_0 20 rfl rfl)
theorem dX0_swaps_21 : decode cX0_swaps 21 = .ok (.aload_n 0, 1) := dk_42 (dk_at dksX0_swaps_0 21 rfl rfl)
theorem dX0_swaps_22 : decode cX0_swaps 22 = .ok (.getfield 107, 3) := dk_180 0 107 (dk_at dksX0_swaps_1 0 rfl rfl)
theorem dX0_swaps_25 : decode cX0_swaps 25 = .ok (.if_icmp .le 5, 3) := dk_164 0 5 (dk_at dksX0_swaps_1 3 rfl rfl)
theorem dX0_swaps_28 : decode cX0_swaps 28 = .ok (.iconst (-1), 1) := dk_2 (dk_at dksX0_swaps_1 6 rfl rfl)
theorem dX0_swaps_29 : decode cX0_swaps 29 = .ok (.ireturn, 1) := dk_172 (dk_at dksX0_swaps_1 7 rfl rfl)
theorem dX0_swaps_30 : decode cX0_swaps 30 = .ok (.aload_n 0, 1) := dk_42 (dk_at dksX0_swaps_1 8 rfl rfl)
theorem dX0_swaps_31 : decode cX0_swaps 31 = .ok (.iconst 0, 1) := dk_3 (dk_at dksX0_swaps_1 9 rfl rfl)
theorem dX0_swaps_32 : decode cX0_swaps 32 = .ok (.putfield 107, 3) := dk_181 0 107 (dk_at dksX0_swaps_1 10 rfl rfl)
theorem dX0_swaps_35 : decode cX0_swaps 35 = .ok (.iload_n 2, 1) := dk_28 (dk_at dksX0_swaps_1 13 rfl rfl)
theorem dX0_swaps_36 : decode cX0_swaps 36 = .ok (.iconst 1, 1) := dk_4 (dk_at dksX0_swaps_1 14 rfl rfl)
theorem dX0_swaps_37 : decode cX0_swaps 37 = .ok (.if_icmp .ne 14, 3) := dk_160 0 14 (dk_at dksX0_swaps_1 15 rfl rfl)
theorem dX0_swaps_40 : decode cX0_swaps 40 = .ok (.aload_n 0, 1) := dk_42 (dk_at dksX0_swaps_1 18 rfl rfl)
theorem dX0_swaps_41 : decode cX0_swaps 41 = .ok (.iload_n 1, 1) := dk_27 (dk_at dksX0_swaps_1 19 rfl rfl)
theorem dX0_swaps_42 : decode cX0_swaps 42 = .ok (.iconst 1, 1) := dk_4 (dk_at dksX0_swaps_1 20 rfl rfl)
theorem dX0_swaps_43 : decode cX0_swaps 43 = .ok (.iload_n 1, 1) := dk_27 (dk_at dksX0_swaps_1 21 rfl rfl)
theorem dX0_swaps_44 : decode cX0_swaps 44 = .ok (.ishl, 1) := dk_120 (dk_at dksX0_swaps_1 22 rfl rfl)
theorem dX0_swaps_45 : decode cX0_swaps 45 = .ok (.iconst 1, 1) := dk_4 (dk_at dksX0_swaps_1 23 rfl rfl)
theorem dX0_swaps_46 : decode cX0_swaps 46 = .ok (.isub, 1) := dk_100 (dk_at dksX0_swaps_2 0 rfl rfl)
theorem dX0_swaps_47 : decode cX0_swaps 47 = .ok (.invokevirtual 251, 3) := dk_182 0 251 (dk_at dksX0_swaps_2 1 rfl rfl)
theorem dX0_swaps_50 : decode cX0_swaps 50 = .ok (.ireturn, 1) := dk_172 (dk_at dksX0_swaps_2 4 rfl rfl)
theorem dX0_swaps_51 : decode cX0_swaps 51 = .ok (.iconst 0, 1) := dk_3 (dk_at dksX0_swaps_2 5 rfl rfl)
theorem dX0_swaps_52 : decode cX0_swaps 52 = .ok (.istore_n 3, 1) := dk_62 (dk_at dksX0_swaps_2 6 rfl rfl)
theorem dX0_swaps_53 : decode cX0_swaps 53 = .ok (.iconst 0, 1) := dk_3 (dk_at dksX0_swaps_2 7 rfl rfl)
theorem dX0_swaps_54 : decode cX0_swaps 54 = .ok (.istore 4, 2) := dk_54 4 (dk_at dksX0_swaps_2 8 rfl rfl)
theorem dX0_swaps_56 : decode cX0_swaps 56 = .ok (.iload 4, 2) := dk_21 4 (dk_at dksX0_swaps_2 10 rfl rfl)
theorem dX0_swaps_58 : decode cX0_swaps 58 = .ok (.iload_n 1, 1) := dk_27 (dk_at dksX0_swaps_2 12 rfl rfl)
theorem dX0_swaps_59 : decode cX0_swaps 59 = .ok (.if_icmp .ge 45, 3) := dk_162 0 45 (dk_at dksX0_swaps_2 13 rfl rfl)
theorem dX0_swaps_62 : decode cX0_swaps 62 = .ok (.iconst 0, 1) := dk_3 (dk_at dksX0_swaps_2 16 rfl rfl)
theorem dX0_swaps_63 : decode cX0_swaps 63 = .ok (.istore 5, 2) := dk_54 5 (dk_at dksX0_swaps_2 17 rfl rfl)
theorem dX0_swaps_65 : decode cX0_swaps 65 = .ok (.iload 5, 2) := dk_21 5 (dk_at dksX0_swaps_2 19 rfl rfl)
theorem dX0_swaps_67 : decode cX0_swaps 67 = .ok (.iload 4, 2) := dk_21 4 (dk_at dksX0_swaps_2 21 rfl rfl)
theorem dX0_swaps_69 : decode cX0_swaps 69 = .ok (.if_icmp .ge 29, 3) := dk_162 0 29 (dk_at dksX0_swaps_3 0 rfl rfl)
theorem dX0_swaps_72 : decode cX0_swaps 72 = .ok (.iload_n 3, 1) := dk_29 (dk_at dksX0_swaps_3 3 rfl rfl)
theorem dX0_swaps_73 : decode cX0_swaps 73 = .ok (.aload_n 0, 1) := dk_42 (dk_at dksX0_swaps_3 4 rfl rfl)
theorem dX0_swaps_74 : decode cX0_swaps 74 = .ok (.iload_n 1, 1) := dk_27 (dk_at dksX0_swaps_3 5 rfl rfl)
theorem dX0_swaps_75 : decode cX0_swaps 75 = .ok (.iload 4, 2) := dk_21 4 (dk_at dksX0_swaps_3 6 rfl rfl)
theorem dX0_swaps_77 : decode cX0_swaps 77 = .ok (.iload 5, 2) := dk_21 5 (dk_at dksX0_swaps_3 8 rfl rfl)
theorem dX0_swaps_79 : decode cX0_swaps 79 = .ok (.invokevirtual 254, 3) := dk_182 0 254 (dk_at dksX0_swaps_3 10 rfl rfl)
theorem dX0_swaps_82 : decode cX0_swaps 82 = .ok (.ifCond .eq 7, 3) := dk_153 0 7 (dk_at dksX0_swaps_3 13 rfl rfl)
theorem dX0_swaps_85 : decode cX0_swaps 85 = .ok (.iconst 1, 1) := dk_4 (dk_at dksX0_swaps_3 16 rfl rfl)
theorem dX0_swaps_86 : decode cX0_swaps 86 = .ok (.goto 4, 3) := dk_167 0 4 (dk_at dksX0_swaps_3 17 rfl rfl)
theorem dX0_swaps_89 : decode cX0_swaps 89 = .ok (.iconst 0, 1) := dk_3 (dk_at dksX0_swaps_3 20 rfl rfl)
theorem dX0_swaps_90 : decode cX0_swaps 90 = .ok (.iadd, 1) := dk_96 (dk_at dksX0_swaps_3 21 rfl rfl)
theorem dX0_swaps_91 : decode cX0_swaps 91 = .ok (.istore_n 3, 1) := dk_62 (dk_at dksX0_swaps_3 22 rfl rfl)
theorem dX0_swaps_92 : decode cX0_swaps 92 = .ok (.iinc 5 1, 3) := dk_132 5 1 (dk_at dksX0_swaps_4 0 rfl rfl)
theorem dX0_swaps_95 : decode cX0_swaps 95 = .ok (.goto (-30), 3) := dk_167 255 226 (dk_at dksX0_swaps_4 3 rfl rfl)
theorem dX0_swaps_98 : decode cX0_swaps 98 = .ok (.iinc 4 1, 3) := dk_132 4 1 (dk_at dksX0_swaps_4 6 rfl rfl)
theorem dX0_swaps_101 : decode cX0_swaps 101 = .ok (.goto (-45), 3) := dk_167 255 211 (dk_at dksX0_swaps_4 9 rfl rfl)
theorem dX0_swaps_104 : decode cX0_swaps 104 = .ok (.iload_n 3, 1) := dk_29 (dk_at dksX0_swaps_4 12 rfl rfl)
theorem dX0_swaps_105 : decode cX0_swaps 105 = .ok (.ireturn, 1) := dk_172 (dk_at dksX0_swaps_4 13 rfl rfl)
abbrev cX0_mostSwaps : ByteArray := prog_1_method_45_code
def yX0_mostSwaps : MethodName := ⟨RX0, "mostSwaps", "(II)I"⟩
def dkwX0_mostSwaps_3 : List UInt8 := [120, 2, 130, 126, 182, 0, 251, 96, 184, 0, 7, 54, 4, 132, 5, 1, 167, 255, 199, 21, 4, 172]
abbrev dktX0_mostSwaps_3 : List UInt8 := dkwX0_mostSwaps_3 ++ []
def dkwX0_mostSwaps_2 : List UInt8 := [29, 21, 5, 182, 0, 254, 153, 0, 31, 21, 4, 4, 42, 27, 28, 4, 29, 120, 2, 130, 126, 4, 21, 5]
abbrev dktX0_mostSwaps_2 : List UInt8 := dkwX0_mostSwaps_2 ++ dktX0_mostSwaps_3
def dkwX0_mostSwaps_1 : List UInt8 := [54, 4, 29, 4, 96, 54, 5, 21, 5, 27, 162, 0, 57, 28, 21, 5, 184, 0, 205, 153, 0, 42, 42, 27]
abbrev dktX0_mostSwaps_1 : List UInt8 := dkwX0_mostSwaps_1 ++ dktX0_mostSwaps_2
def dkwX0_mostSwaps_0 : List UInt8 := [28, 154, 0, 5, 3, 172, 28, 184, 0, 248, 62, 42, 27, 28, 4, 29, 120, 2, 130, 126, 182, 0, 251]
abbrev dktX0_mostSwaps_0 : List UInt8 := dkwX0_mostSwaps_0 ++ dktX0_mostSwaps_1
theorem dksX0_mostSwaps_0 : cX0_mostSwaps.data.toList.drop 0 = dktX0_mostSwaps_0 := by decide +kernel
theorem dksX0_mostSwaps_1 : cX0_mostSwaps.data.toList.drop 23 = dktX0_mostSwaps_1 := dk_seg dksX0_mostSwaps_0 23 rfl rfl
theorem dksX0_mostSwaps_2 : cX0_mostSwaps.data.toList.drop 47 = dktX0_mostSwaps_2 := dk_seg dksX0_mostSwaps_1 24 rfl rfl
theorem dksX0_mostSwaps_3 : cX0_mostSwaps.data.toList.drop 71 = dktX0_mostSwaps_3 := dk_seg dksX0_mostSwaps_2 24 rfl rfl
theorem dX0_mostSwaps_0 : decode cX0_mostSwaps 0 = .ok (.iload_n 2, 1) := dk_28 (dk_at dksX0_mostSwaps_0 0 rfl rfl)
theorem dX0_mostSwaps_1 : decode cX0_mostSwaps 1 = .ok (.ifCond .ne 5, 3) := dk_154 0 5 (dk_at dksX0_mostSwaps_0 1 rfl rfl)
theorem dX0_mostSwaps_4 : decode cX0_mostSwaps 4 = .ok (.iconst 0, 1) := dk_3 (dk_at dksX0_mostSwaps_0 4 rfl rfl)
theorem dX0_mostSwaps_5 : decode cX0_mostSwaps 5 = .ok (.ireturn, 1) := dk_172 (dk_at dksX0_mostSwaps_0 5 rfl rfl)
theorem dX0_mostSwaps_6 : decode cX0_mostSwaps 6 = .ok (.iload_n 2, 1) := dk_28 (dk_at dksX0_mostSwaps_0 6 rfl rfl)
theorem dX0_mostSwaps_7 : decode cX0_mostSwaps 7 = .ok (.invokestatic 248, 3) := dk_184 0 248 (dk_at dksX0_mostSwaps_0 7 rfl rfl)
theorem dX0_mostSwaps_10 : decode cX0_mostSwaps 10 = .ok (.istore_n 3, 1) := dk_62 (dk_at dksX0_mostSwaps_0 10 rfl rfl)
theorem dX0_mostSwaps_11 : decode cX0_mostSwaps 11 = .ok (.aload_n 0, 1) := dk_42 (dk_at dksX0_mostSwaps_0 11 rfl rfl)
theorem dX0_mostSwaps_12 : decode cX0_mostSwaps 12 = .ok (.iload_n 1, 1) := dk_27 (dk_at dksX0_mostSwaps_0 12 rfl rfl)
theorem dX0_mostSwaps_13 : decode cX0_mostSwaps 13 = .ok (.iload_n 2, 1) := dk_28 (dk_at dksX0_mostSwaps_0 13 rfl rfl)
theorem dX0_mostSwaps_14 : decode cX0_mostSwaps 14 = .ok (.iconst 1, 1) := dk_4 (dk_at dksX0_mostSwaps_0 14 rfl rfl)
theorem dX0_mostSwaps_15 : decode cX0_mostSwaps 15 = .ok (.iload_n 3, 1) := dk_29 (dk_at dksX0_mostSwaps_0 15 rfl rfl)
theorem dX0_mostSwaps_16 : decode cX0_mostSwaps 16 = .ok (.ishl, 1) := dk_120 (dk_at dksX0_mostSwaps_0 16 rfl rfl)
theorem dX0_mostSwaps_17 : decode cX0_mostSwaps 17 = .ok (.iconst (-1), 1) := dk_2 (dk_at dksX0_mostSwaps_0 17 rfl rfl)
theorem dX0_mostSwaps_18 : decode cX0_mostSwaps 18 = .ok (.ixor, 1) := dk_130 (dk_at dksX0_mostSwaps_0 18 rfl rfl)
theorem dX0_mostSwaps_19 : decode cX0_mostSwaps 19 = .ok (.iand, 1) := dk_126 (dk_at dksX0_mostSwaps_0 19 rfl rfl)
theorem dX0_mostSwaps_20 : decode cX0_mostSwaps 20 = .ok (.invokevirtual 251, 3) := dk_182 0 251 (dk_at dksX0_mostSwaps_0 20 rfl rfl)
theorem dX0_mostSwaps_23 : decode cX0_mostSwaps 23 = .ok (.istore 4, 2) := dk_54 4 (dk_at dksX0_mostSwaps_1 0 rfl rfl)
theorem dX0_mostSwaps_25 : decode cX0_mostSwaps 25 = .ok (.iload_n 3, 1) := dk_29 (dk_at dksX0_mostSwaps_1 2 rfl rfl)
theorem dX0_mostSwaps_26 : decode cX0_mostSwaps 26 = .ok (.iconst 1, 1) := dk_4 (dk_at dksX0_mostSwaps_1 3 rfl rfl)
theorem dX0_mostSwaps_27 : decode cX0_mostSwaps 27 = .ok (.iadd, 1) := dk_96 (dk_at dksX0_mostSwaps_1 4 rfl rfl)
theorem dX0_mostSwaps_28 : decode cX0_mostSwaps 28 = .ok (.istore 5, 2) := dk_54 5 (dk_at dksX0_mostSwaps_1 5 rfl rfl)
theorem dX0_mostSwaps_30 : decode cX0_mostSwaps 30 = .ok (.iload 5, 2) := dk_21 5 (dk_at dksX0_mostSwaps_1 7 rfl rfl)
theorem dX0_mostSwaps_32 : decode cX0_mostSwaps 32 = .ok (.iload_n 1, 1) := dk_27 (dk_at dksX0_mostSwaps_1 9 rfl rfl)
theorem dX0_mostSwaps_33 : decode cX0_mostSwaps 33 = .ok (.if_icmp .ge 57, 3) := dk_162 0 57 (dk_at dksX0_mostSwaps_1 10 rfl rfl)
theorem dX0_mostSwaps_36 : decode cX0_mostSwaps 36 = .ok (.iload_n 2, 1) := dk_28 (dk_at dksX0_mostSwaps_1 13 rfl rfl)
theorem dX0_mostSwaps_37 : decode cX0_mostSwaps 37 = .ok (.iload 5, 2) := dk_21 5 (dk_at dksX0_mostSwaps_1 14 rfl rfl)
theorem dX0_mostSwaps_39 : decode cX0_mostSwaps 39 = .ok (.invokestatic 205, 3) := dk_184 0 205 (dk_at dksX0_mostSwaps_1 16 rfl rfl)
theorem dX0_mostSwaps_42 : decode cX0_mostSwaps 42 = .ok (.ifCond .eq 42, 3) := dk_153 0 42 (dk_at dksX0_mostSwaps_1 19 rfl rfl)
theorem dX0_mostSwaps_45 : decode cX0_mostSwaps 45 = .ok (.aload_n 0, 1) := dk_42 (dk_at dksX0_mostSwaps_1 22 rfl rfl)
theorem dX0_mostSwaps_46 : decode cX0_mostSwaps 46 = .ok (.iload_n 1, 1) := dk_27 (dk_at dksX0_mostSwaps_1 23 rfl rfl)
theorem dX0_mostSwaps_47 : decode cX0_mostSwaps 47 = .ok (.iload_n 3, 1) := dk_29 (dk_at dksX0_mostSwaps_2 0 rfl rfl)
theorem dX0_mostSwaps_48 : decode cX0_mostSwaps 48 = .ok (.iload 5, 2) := dk_21 5 (dk_at dksX0_mostSwaps_2 1 rfl rfl)
theorem dX0_mostSwaps_50 : decode cX0_mostSwaps 50 = .ok (.invokevirtual 254, 3) := dk_182 0 254 (dk_at dksX0_mostSwaps_2 3 rfl rfl)
theorem dX0_mostSwaps_53 : decode cX0_mostSwaps 53 = .ok (.ifCond .eq 31, 3) := dk_153 0 31 (dk_at dksX0_mostSwaps_2 6 rfl rfl)
theorem dX0_mostSwaps_56 : decode cX0_mostSwaps 56 = .ok (.iload 4, 2) := dk_21 4 (dk_at dksX0_mostSwaps_2 9 rfl rfl)
theorem dX0_mostSwaps_58 : decode cX0_mostSwaps 58 = .ok (.iconst 1, 1) := dk_4 (dk_at dksX0_mostSwaps_2 11 rfl rfl)
theorem dX0_mostSwaps_59 : decode cX0_mostSwaps 59 = .ok (.aload_n 0, 1) := dk_42 (dk_at dksX0_mostSwaps_2 12 rfl rfl)
theorem dX0_mostSwaps_60 : decode cX0_mostSwaps 60 = .ok (.iload_n 1, 1) := dk_27 (dk_at dksX0_mostSwaps_2 13 rfl rfl)
theorem dX0_mostSwaps_61 : decode cX0_mostSwaps 61 = .ok (.iload_n 2, 1) := dk_28 (dk_at dksX0_mostSwaps_2 14 rfl rfl)
theorem dX0_mostSwaps_62 : decode cX0_mostSwaps 62 = .ok (.iconst 1, 1) := dk_4 (dk_at dksX0_mostSwaps_2 15 rfl rfl)
theorem dX0_mostSwaps_63 : decode cX0_mostSwaps 63 = .ok (.iload_n 3, 1) := dk_29 (dk_at dksX0_mostSwaps_2 16 rfl rfl)
theorem dX0_mostSwaps_64 : decode cX0_mostSwaps 64 = .ok (.ishl, 1) := dk_120 (dk_at dksX0_mostSwaps_2 17 rfl rfl)
theorem dX0_mostSwaps_65 : decode cX0_mostSwaps 65 = .ok (.iconst (-1), 1) := dk_2 (dk_at dksX0_mostSwaps_2 18 rfl rfl)
theorem dX0_mostSwaps_66 : decode cX0_mostSwaps 66 = .ok (.ixor, 1) := dk_130 (dk_at dksX0_mostSwaps_2 19 rfl rfl)
theorem dX0_mostSwaps_67 : decode cX0_mostSwaps 67 = .ok (.iand, 1) := dk_126 (dk_at dksX0_mostSwaps_2 20 rfl rfl)
theorem dX0_mostSwaps_68 : decode cX0_mostSwaps 68 = .ok (.iconst 1, 1) := dk_4 (dk_at dksX0_mostSwaps_2 21 rfl rfl)
theorem dX0_mostSwaps_69 : decode cX0_mostSwaps 69 = .ok (.iload 5, 2) := dk_21 5 (dk_at dksX0_mostSwaps_2 22 rfl rfl)
theorem dX0_mostSwaps_71 : decode cX0_mostSwaps 71 = .ok (.ishl, 1) := dk_120 (dk_at dksX0_mostSwaps_3 0 rfl rfl)
theorem dX0_mostSwaps_72 : decode cX0_mostSwaps 72 = .ok (.iconst (-1), 1) := dk_2 (dk_at dksX0_mostSwaps_3 1 rfl rfl)
theorem dX0_mostSwaps_73 : decode cX0_mostSwaps 73 = .ok (.ixor, 1) := dk_130 (dk_at dksX0_mostSwaps_3 2 rfl rfl)
theorem dX0_mostSwaps_74 : decode cX0_mostSwaps 74 = .ok (.iand, 1) := dk_126 (dk_at dksX0_mostSwaps_3 3 rfl rfl)
theorem dX0_mostSwaps_75 : decode cX0_mostSwaps 75 = .ok (.invokevirtual 251, 3) := dk_182 0 251 (dk_at dksX0_mostSwaps_3 4 rfl rfl)
theorem dX0_mostSwaps_78 : decode cX0_mostSwaps 78 = .ok (.iadd, 1) := dk_96 (dk_at dksX0_mostSwaps_3 7 rfl rfl)
theorem dX0_mostSwaps_79 : decode cX0_mostSwaps 79 = .ok (.invokestatic 7, 3) := dk_184 0 7 (dk_at dksX0_mostSwaps_3 8 rfl rfl)
theorem dX0_mostSwaps_82 : decode cX0_mostSwaps 82 = .ok (.istore 4, 2) := dk_54 4 (dk_at dksX0_mostSwaps_3 11 rfl rfl)
theorem dX0_mostSwaps_84 : decode cX0_mostSwaps 84 = .ok (.iinc 5 1, 3) := dk_132 5 1 (dk_at dksX0_mostSwaps_3 13 rfl rfl)
theorem dX0_mostSwaps_87 : decode cX0_mostSwaps 87 = .ok (.goto (-57), 3) := dk_167 255 199 (dk_at dksX0_mostSwaps_3 16 rfl rfl)
theorem dX0_mostSwaps_90 : decode cX0_mostSwaps 90 = .ok (.iload 4, 2) := dk_21 4 (dk_at dksX0_mostSwaps_3 19 rfl rfl)
theorem dX0_mostSwaps_92 : decode cX0_mostSwaps 92 = .ok (.ireturn, 1) := dk_172 (dk_at dksX0_mostSwaps_3 21 rfl rfl)
abbrev cX0_wouldSwap : ByteArray := prog_1_method_44_code
def yX0_wouldSwap : MethodName := ⟨RX0, "wouldSwap", "(III)Z"⟩
def dkwX0_wouldSwap_1 : List UInt8 := [42, 27, 29, 29, 182, 0, 245, 164, 0, 7, 4, 167, 0, 4, 3, 172]
abbrev dktX0_wouldSwap_1 : List UInt8 := dkwX0_wouldSwap_1 ++ []
def dkwX0_wouldSwap_0 : List UInt8 := [42, 27, 28, 29, 182, 0, 245, 42, 27, 28, 28, 182, 0, 245, 164, 0, 24, 42, 27, 29, 28, 182, 0, 245]
abbrev dktX0_wouldSwap_0 : List UInt8 := dkwX0_wouldSwap_0 ++ dktX0_wouldSwap_1
theorem dksX0_wouldSwap_0 : cX0_wouldSwap.data.toList.drop 0 = dktX0_wouldSwap_0 := by decide +kernel
theorem dksX0_wouldSwap_1 : cX0_wouldSwap.data.toList.drop 24 = dktX0_wouldSwap_1 := dk_seg dksX0_wouldSwap_0 24 rfl rfl
theorem dX0_wouldSwap_0 : decode cX0_wouldSwap 0 = .ok (.aload_n 0, 1) := dk_42 (dk_at dksX0_wouldSwap_0 0 rfl rfl)
theorem dX0_wouldSwap_1 : decode cX0_wouldSwap 1 = .ok (.iload_n 1, 1) := dk_27 (dk_at dksX0_wouldSwap_0 1 rfl rfl)
theorem dX0_wouldSwap_2 : decode cX0_wouldSwap 2 = .ok (.iload_n 2, 1) := dk_28 (dk_at dksX0_wouldSwap_0 2 rfl rfl)
theorem dX0_wouldSwap_3 : decode cX0_wouldSwap 3 = .ok (.iload_n 3, 1) := dk_29 (dk_at dksX0_wouldSwap_0 3 rfl rfl)
theorem dX0_wouldSwap_4 : decode cX0_wouldSwap 4 = .ok (.invokevirtual 245, 3) := dk_182 0 245 (dk_at dksX0_wouldSwap_0 4 rfl rfl)
theorem dX0_wouldSwap_7 : decode cX0_wouldSwap 7 = .ok (.aload_n 0, 1) := dk_42 (dk_at dksX0_wouldSwap_0 7 rfl rfl)
theorem dX0_wouldSwap_8 : decode cX0_wouldSwap 8 = .ok (.iload_n 1, 1) := dk_27 (dk_at dksX0_wouldSwap_0 8 rfl rfl)
theorem dX0_wouldSwap_9 : decode cX0_wouldSwap 9 = .ok (.iload_n 2, 1) := dk_28 (dk_at dksX0_wouldSwap_0 9 rfl rfl)
theorem dX0_wouldSwap_10 : decode cX0_wouldSwap 10 = .ok (.iload_n 2, 1) := dk_28 (dk_at dksX0_wouldSwap_0 10 rfl rfl)
theorem dX0_wouldSwap_11 : decode cX0_wouldSwap 11 = .ok (.invokevirtual 245, 3) := dk_182 0 245 (dk_at dksX0_wouldSwap_0 11 rfl rfl)
theorem dX0_wouldSwap_14 : decode cX0_wouldSwap 14 = .ok (.if_icmp .le 24, 3) := dk_164 0 24 (dk_at dksX0_wouldSwap_0 14 rfl rfl)
theorem dX0_wouldSwap_17 : decode cX0_wouldSwap 17 = .ok (.aload_n 0, 1) := dk_42 (dk_at dksX0_wouldSwap_0 17 rfl rfl)
theorem dX0_wouldSwap_18 : decode cX0_wouldSwap 18 = .ok (.iload_n 1, 1) := dk_27 (dk_at dksX0_wouldSwap_0 18 rfl rfl)
theorem dX0_wouldSwap_19 : decode cX0_wouldSwap 19 = .ok (.iload_n 3, 1) := dk_29 (dk_at dksX0_wouldSwap_0 19 rfl rfl)
theorem dX0_wouldSwap_20 : decode cX0_wouldSwap 20 = .ok (.iload_n 2, 1) := dk_28 (dk_at dksX0_wouldSwap_0 20 rfl rfl)
theorem dX0_wouldSwap_21 : decode cX0_wouldSwap 21 = .ok (.invokevirtual 245, 3) := dk_182 0 245 (dk_at dksX0_wouldSwap_0 21 rfl rfl)
theorem dX0_wouldSwap_24 : decode cX0_wouldSwap 24 = .ok (.aload_n 0, 1) := dk_42 (dk_at dksX0_wouldSwap_1 0 rfl rfl)
theorem dX0_wouldSwap_25 : decode cX0_wouldSwap 25 = .ok (.iload_n 1, 1) := dk_27 (dk_at dksX0_wouldSwap_1 1 rfl rfl)
theorem dX0_wouldSwap_26 : decode cX0_wouldSwap 26 = .ok (.iload_n 3, 1) := dk_29 (dk_at dksX0_wouldSwap_1 2 rfl rfl)
theorem dX0_wouldSwap_27 : decode cX0_wouldSwap 27 = .ok (.iload_n 3, 1) := dk_29 (dk_at dksX0_wouldSwap_1 3 rfl rfl)
theorem dX0_wouldSwap_28 : decode cX0_wouldSwap 28 = .ok (.invokevirtual 245, 3) := dk_182 0 245 (dk_at dksX0_wouldSwap_1 4 rfl rfl)
theorem dX0_wouldSwap_31 : decode cX0_wouldSwap 31 = .ok (.if_icmp .le 7, 3) := dk_164 0 7 (dk_at dksX0_wouldSwap_1 7 rfl rfl)
theorem dX0_wouldSwap_34 : decode cX0_wouldSwap 34 = .ok (.iconst 1, 1) := dk_4 (dk_at dksX0_wouldSwap_1 10 rfl rfl)
theorem dX0_wouldSwap_35 : decode cX0_wouldSwap 35 = .ok (.goto 4, 3) := dk_167 0 4 (dk_at dksX0_wouldSwap_1 11 rfl rfl)
theorem dX0_wouldSwap_38 : decode cX0_wouldSwap 38 = .ok (.iconst 0, 1) := dk_3 (dk_at dksX0_wouldSwap_1 14 rfl rfl)
theorem dX0_wouldSwap_39 : decode cX0_wouldSwap 39 = .ok (.ireturn, 1) := dk_172 (dk_at dksX0_wouldSwap_1 15 rfl rfl)
abbrev cX0_worth : ByteArray := prog_1_method_43_code
def yX0_worth : MethodName := ⟨RX0, "worth", "(III)I"⟩
def dkwX0_worth_0 : List UInt8 := [42, 27, 28, 104, 29, 96, 182, 0, 229, 172]
abbrev dktX0_worth_0 : List UInt8 := dkwX0_worth_0 ++ []
theorem dksX0_worth_0 : cX0_worth.data.toList.drop 0 = dktX0_worth_0 := by decide +kernel
theorem dX0_worth_0 : decode cX0_worth 0 = .ok (.aload_n 0, 1) := dk_42 (dk_at dksX0_worth_0 0 rfl rfl)
theorem dX0_worth_1 : decode cX0_worth 1 = .ok (.iload_n 1, 1) := dk_27 (dk_at dksX0_worth_0 1 rfl rfl)
theorem dX0_worth_2 : decode cX0_worth 2 = .ok (.iload_n 2, 1) := dk_28 (dk_at dksX0_worth_0 2 rfl rfl)
theorem dX0_worth_3 : decode cX0_worth 3 = .ok (.imul, 1) := dk_104 (dk_at dksX0_worth_0 3 rfl rfl)
theorem dX0_worth_4 : decode cX0_worth 4 = .ok (.iload_n 3, 1) := dk_29 (dk_at dksX0_worth_0 4 rfl rfl)
theorem dX0_worth_5 : decode cX0_worth 5 = .ok (.iadd, 1) := dk_96 (dk_at dksX0_worth_0 5 rfl rfl)
theorem dX0_worth_6 : decode cX0_worth 6 = .ok (.invokevirtual 229, 3) := dk_182 0 229 (dk_at dksX0_worth_0 6 rfl rfl)
theorem dX0_worth_9 : decode cX0_worth 9 = .ok (.ireturn, 1) := dk_172 (dk_at dksX0_worth_0 9 rfl rfl)
abbrev cX0_sale : ByteArray := prog_1_method_48_code
def yX0_sale : MethodName := ⟨RX0, "sale", "(II)I"⟩
def dkwX0_sale_3 : List UInt8 := [46, 172]
abbrev dktX0_sale_3 : List UInt8 := dkwX0_sale_3 ++ []
def dkwX0_sale_2 : List UInt8 := [3, 3, 3, 182, 1, 4, 28, 16, 100, 160, 0, 10, 42, 180, 1, 1, 167, 0, 9, 42, 180, 0, 85, 28]
abbrev dktX0_sale_2 : List UInt8 := dkwX0_sale_2 ++ dktX0_sale_3
def dkwX0_sale_1 : List UInt8 := [27, 27, 104, 42, 180, 0, 107, 164, 0, 5, 2, 172, 42, 3, 181, 0, 107, 42, 2, 181, 1, 1, 42, 27]
abbrev dktX0_sale_1 : List UInt8 := dkwX0_sale_1 ++ dktX0_sale_2
def dkwX0_sale_0 : List UInt8 := [27, 5, 16, 8, 184, 0, 114, 153, 0, 27, 28, 16, 100, 159, 0, 11, 28, 27, 184, 0, 96, 153, 0, 13]
abbrev dktX0_sale_0 : List UInt8 := dkwX0_sale_0 ++ dktX0_sale_1
theorem dksX0_sale_0 : cX0_sale.data.toList.drop 0 = dktX0_sale_0 := by decide +kernel
theorem dksX0_sale_1 : cX0_sale.data.toList.drop 24 = dktX0_sale_1 := dk_seg dksX0_sale_0 24 rfl rfl
theorem dksX0_sale_2 : cX0_sale.data.toList.drop 48 = dktX0_sale_2 := dk_seg dksX0_sale_1 24 rfl rfl
theorem dksX0_sale_3 : cX0_sale.data.toList.drop 72 = dktX0_sale_3 := dk_seg dksX0_sale_2 24 rfl rfl
theorem dX0_sale_0 : decode cX0_sale 0 = .ok (.iload_n 1, 1) := dk_27 (dk_at dksX0_sale_0 0 rfl rfl)
theorem dX0_sale_1 : decode cX0_sale 1 = .ok (.iconst 2, 1) := dk_5 (dk_at dksX0_sale_0 1 rfl rfl)
theorem dX0_sale_2 : decode cX0_sale 2 = .ok (.bipush 8, 2) := dk_16 8 (dk_at dksX0_sale_0 2 rfl rfl)
theorem dX0_sale_4 : decode cX0_sale 4 = .ok (.invokestatic 114, 3) := dk_184 0 114 (dk_at dksX0_sale_0 4 rfl rfl)
theorem dX0_sale_7 : decode cX0_sale 7 = .ok (.ifCond .eq 27, 3) := dk_153 0 27 (dk_at dksX0_sale_0 7 rfl rfl)
theorem dX0_sale_10 : decode cX0_sale 10 = .ok (.iload_n 2, 1) := dk_28 (dk_at dksX0_sale_0 10 rfl rfl)
theorem dX0_sale_11 : decode cX0_sale 11 = .ok (.bipush 100, 2) := dk_16 100 (dk_at dksX0_sale_0 11 rfl rfl)
theorem dX0_sale_13 : decode cX0_sale 13 = .ok (.if_icmp .eq 11, 3) := dk_159 0 11 (dk_at dksX0_sale_0 13 rfl rfl)
theorem dX0_sale_16 : decode cX0_sale 16 = .ok (.iload_n 2, 1) := dk_28 (dk_at dksX0_sale_0 16 rfl rfl)
theorem dX0_sale_17 : decode cX0_sale 17 = .ok (.iload_n 1, 1) := dk_27 (dk_at dksX0_sale_0 17 rfl rfl)
theorem dX0_sale_18 : decode cX0_sale 18 = .ok (.invokestatic 96, 3) := dk_184 0 96 (dk_at dksX0_sale_0 18 rfl rfl)
theorem dX0_sale_21 : decode cX0_sale 21 = .ok (.ifCond .eq 13, 3) := dk_153 0 13 (dk_at dksX0_sale_0 21 rfl rfl)
theorem dX0_sale_24 : decode cX0_sale 24 = .ok (.iload_n 1, 1) := dk_27 (dk_at dksX0_sale_1 0 rfl rfl)
theorem dX0_sale_25 : decode cX0_sale 25 = .ok (.iload_n 1, 1) := dk_27 (dk_at dksX0_sale_1 1 rfl rfl)
theorem dX0_sale_26 : decode cX0_sale 26 = .ok (.imul, 1) := dk_104 (dk_at dksX0_sale_1 2 rfl rfl)
theorem dX0_sale_27 : decode cX0_sale 27 = .ok (.aload_n 0, 1) := dk_42 (dk_at dksX0_sale_1 3 rfl rfl)
theorem dX0_sale_28 : decode cX0_sale 28 = .ok (.getfield 107, 3) := dk_180 0 107 (dk_at dksX0_sale_1 4 rfl rfl)
theorem dX0_sale_31 : decode cX0_sale 31 = .ok (.if_icmp .le 5, 3) := dk_164 0 5 (dk_at dksX0_sale_1 7 rfl rfl)
theorem dX0_sale_34 : decode cX0_sale 34 = .ok (.iconst (-1), 1) := dk_2 (dk_at dksX0_sale_1 10 rfl rfl)
theorem dX0_sale_35 : decode cX0_sale 35 = .ok (.ireturn, 1) := dk_172 (dk_at dksX0_sale_1 11 rfl rfl)
theorem dX0_sale_36 : decode cX0_sale 36 = .ok (.aload_n 0, 1) := dk_42 (dk_at dksX0_sale_1 12 rfl rfl)
theorem dX0_sale_37 : decode cX0_sale 37 = .ok (.iconst 0, 1) := dk_3 (dk_at dksX0_sale_1 13 rfl rfl)
theorem dX0_sale_38 : decode cX0_sale 38 = .ok (.putfield 107, 3) := dk_181 0 107 (dk_at dksX0_sale_1 14 rfl rfl)
theorem dX0_sale_41 : decode cX0_sale 41 = .ok (.aload_n 0, 1) := dk_42 (dk_at dksX0_sale_1 17 rfl rfl)
theorem dX0_sale_42 : decode cX0_sale 42 = .ok (.iconst (-1), 1) := dk_2 (dk_at dksX0_sale_1 18 rfl rfl)
theorem dX0_sale_43 : decode cX0_sale 43 = .ok (.putfield 257, 3) := dk_181 1 1 (dk_at dksX0_sale_1 19 rfl rfl)
theorem dX0_sale_46 : decode cX0_sale 46 = .ok (.aload_n 0, 1) := dk_42 (dk_at dksX0_sale_1 22 rfl rfl)
theorem dX0_sale_47 : decode cX0_sale 47 = .ok (.iload_n 1, 1) := dk_27 (dk_at dksX0_sale_1 23 rfl rfl)
theorem dX0_sale_48 : decode cX0_sale 48 = .ok (.iconst 0, 1) := dk_3 (dk_at dksX0_sale_2 0 rfl rfl)
theorem dX0_sale_49 : decode cX0_sale 49 = .ok (.iconst 0, 1) := dk_3 (dk_at dksX0_sale_2 1 rfl rfl)
theorem dX0_sale_50 : decode cX0_sale 50 = .ok (.iconst 0, 1) := dk_3 (dk_at dksX0_sale_2 2 rfl rfl)
theorem dX0_sale_51 : decode cX0_sale 51 = .ok (.invokevirtual 260, 3) := dk_182 1 4 (dk_at dksX0_sale_2 3 rfl rfl)
theorem dX0_sale_54 : decode cX0_sale 54 = .ok (.iload_n 2, 1) := dk_28 (dk_at dksX0_sale_2 6 rfl rfl)
theorem dX0_sale_55 : decode cX0_sale 55 = .ok (.bipush 100, 2) := dk_16 100 (dk_at dksX0_sale_2 7 rfl rfl)
theorem dX0_sale_57 : decode cX0_sale 57 = .ok (.if_icmp .ne 10, 3) := dk_160 0 10 (dk_at dksX0_sale_2 9 rfl rfl)
theorem dX0_sale_60 : decode cX0_sale 60 = .ok (.aload_n 0, 1) := dk_42 (dk_at dksX0_sale_2 12 rfl rfl)
theorem dX0_sale_61 : decode cX0_sale 61 = .ok (.getfield 257, 3) := dk_180 1 1 (dk_at dksX0_sale_2 13 rfl rfl)
theorem dX0_sale_64 : decode cX0_sale 64 = .ok (.goto 9, 3) := dk_167 0 9 (dk_at dksX0_sale_2 16 rfl rfl)
theorem dX0_sale_67 : decode cX0_sale 67 = .ok (.aload_n 0, 1) := dk_42 (dk_at dksX0_sale_2 19 rfl rfl)
theorem dX0_sale_68 : decode cX0_sale 68 = .ok (.getfield 85, 3) := dk_180 0 85 (dk_at dksX0_sale_2 20 rfl rfl)
theorem dX0_sale_71 : decode cX0_sale 71 = .ok (.iload_n 2, 1) := dk_28 (dk_at dksX0_sale_2 23 rfl rfl)
theorem dX0_sale_72 : decode cX0_sale 72 = .ok (.iaload, 1) := dk_46 (dk_at dksX0_sale_3 0 rfl rfl)
theorem dX0_sale_73 : decode cX0_sale 73 = .ok (.ireturn, 1) := dk_172 (dk_at dksX0_sale_3 1 rfl rfl)
abbrev cX0_sells : ByteArray := prog_1_method_47_code
def yX0_sells : MethodName := ⟨RX0, "sells", "(IIII)V"⟩
def dkwX0_sells_4 : List UInt8 := [42, 27, 28, 21, 5, 182, 0, 245, 96, 182, 1, 4, 132, 5, 1, 167, 255, 202, 177]
abbrev dktX0_sells_4 : List UInt8 := dkwX0_sells_4 ++ []
def dkwX0_sells_3 : List UInt8 := [167, 0, 36, 42, 180, 0, 82, 21, 5, 28, 79, 42, 27, 28, 4, 96, 29, 4, 21, 5, 120, 128, 21, 4]
abbrev dktX0_sells_3 : List UInt8 := dkwX0_sells_3 ++ dktX0_sells_4
def dkwX0_sells_2 : List UInt8 := [167, 255, 233, 177, 3, 54, 5, 21, 5, 27, 162, 0, 54, 29, 21, 5, 184, 0, 205, 153, 0, 6]
abbrev dktX0_sells_2 : List UInt8 := dkwX0_sells_2 ++ dktX0_sells_3
def dkwX0_sells_1 : List UInt8 := [21, 5, 27, 162, 0, 23, 42, 180, 0, 85, 21, 5, 42, 180, 0, 82, 21, 5, 46, 79, 132, 5, 1]
abbrev dktX0_sells_1 : List UInt8 := dkwX0_sells_1 ++ dktX0_sells_2
def dkwX0_sells_0 : List UInt8 := [28, 27, 160, 0, 49, 21, 4, 42, 180, 1, 1, 163, 0, 4, 177, 42, 21, 4, 181, 1, 1, 3, 54, 5]
abbrev dktX0_sells_0 : List UInt8 := dkwX0_sells_0 ++ dktX0_sells_1
theorem dksX0_sells_0 : cX0_sells.data.toList.drop 0 = dktX0_sells_0 := by decide +kernel
theorem dksX0_sells_1 : cX0_sells.data.toList.drop 24 = dktX0_sells_1 := dk_seg dksX0_sells_0 24 rfl rfl
theorem dksX0_sells_2 : cX0_sells.data.toList.drop 47 = dktX0_sells_2 := dk_seg dksX0_sells_1 23 rfl rfl
theorem dksX0_sells_3 : cX0_sells.data.toList.drop 69 = dktX0_sells_3 := dk_seg dksX0_sells_2 22 rfl rfl
theorem dksX0_sells_4 : cX0_sells.data.toList.drop 93 = dktX0_sells_4 := dk_seg dksX0_sells_3 24 rfl rfl
theorem dX0_sells_0 : decode cX0_sells 0 = .ok (.iload_n 2, 1) := dk_28 (dk_at dksX0_sells_0 0 rfl rfl)
theorem dX0_sells_1 : decode cX0_sells 1 = .ok (.iload_n 1, 1) := dk_27 (dk_at dksX0_sells_0 1 rfl rfl)
theorem dX0_sells_2 : decode cX0_sells 2 = .ok (.if_icmp .ne 49, 3) := dk_160 0 49 (dk_at dksX0_sells_0 2 rfl rfl)
theorem dX0_sells_5 : decode cX0_sells 5 = .ok (.iload 4, 2) := dk_21 4 (dk_at dksX0_sells_0 5 rfl rfl)
theorem dX0_sells_7 : decode cX0_sells 7 = .ok (.aload_n 0, 1) := dk_42 (dk_at dksX0_sells_0 7 rfl rfl)
theorem dX0_sells_8 : decode cX0_sells 8 = .ok (.getfield 257, 3) := dk_180 1 1 (dk_at dksX0_sells_0 8 rfl rfl)
theorem dX0_sells_11 : decode cX0_sells 11 = .ok (.if_icmp .gt 4, 3) := dk_163 0 4 (dk_at dksX0_sells_0 11 rfl rfl)
theorem dX0_sells_14 : decode cX0_sells 14 = .ok (.return_, 1) := dk_177 (dk_at dksX0_sells_0 14 rfl rfl)
theorem dX0_sells_15 : decode cX0_sells 15 = .ok (.aload_n 0, 1) := dk_42 (dk_at dksX0_sells_0 15 rfl rfl)
theorem dX0_sells_16 : decode cX0_sells 16 = .ok (.iload 4, 2) := dk_21 4 (dk_at dksX0_sells_0 16 rfl rfl)
theorem dX0_sells_18 : decode cX0_sells 18 = .ok (.putfield 257, 3) := dk_181 1 1 (dk_at dksX0_sells_0 18 rfl rfl)
theorem dX0_sells_21 : decode cX0_sells 21 = .ok (.iconst 0, 1) := dk_3 (dk_at dksX0_sells_0 21 rfl rfl)
theorem dX0_sells_22 : decode cX0_sells 22 = .ok (.istore 5, 2) := dk_54 5 (dk_at dksX0_sells_0 22 rfl rfl)
theorem dX0_sells_24 : decode cX0_sells 24 = .ok (.iload 5, 2) := dk_21 5 (dk_at dksX0_sells_1 0 rfl rfl)
theorem dX0_sells_26 : decode cX0_sells 26 = .ok (.iload_n 1, 1) := dk_27 (dk_at dksX0_sells_1 2 rfl rfl)
theorem dX0_sells_27 : decode cX0_sells 27 = .ok (.if_icmp .ge 23, 3) := dk_162 0 23 (dk_at dksX0_sells_1 3 rfl rfl)
theorem dX0_sells_30 : decode cX0_sells 30 = .ok (.aload_n 0, 1) := dk_42 (dk_at dksX0_sells_1 6 rfl rfl)
theorem dX0_sells_31 : decode cX0_sells 31 = .ok (.getfield 85, 3) := dk_180 0 85 (dk_at dksX0_sells_1 7 rfl rfl)
theorem dX0_sells_34 : decode cX0_sells 34 = .ok (.iload 5, 2) := dk_21 5 (dk_at dksX0_sells_1 10 rfl rfl)
theorem dX0_sells_36 : decode cX0_sells 36 = .ok (.aload_n 0, 1) := dk_42 (dk_at dksX0_sells_1 12 rfl rfl)
theorem dX0_sells_37 : decode cX0_sells 37 = .ok (.getfield 82, 3) := dk_180 0 82 (dk_at dksX0_sells_1 13 rfl rfl)
theorem dX0_sells_40 : decode cX0_sells 40 = .ok (.iload 5, 2) := dk_21 5 (dk_at dksX0_sells_1 16 rfl rfl)
theorem dX0_sells_42 : decode cX0_sells 42 = .ok (.iaload, 1) := dk_46 (dk_at dksX0_sells_1 18 rfl rfl)
theorem dX0_sells_43 : decode cX0_sells 43 = .ok (.iastore, 1) := dk_79 (dk_at dksX0_sells_1 19 rfl rfl)
theorem dX0_sells_44 : decode cX0_sells 44 = .ok (.iinc 5 1, 3) := dk_132 5 1 (dk_at dksX0_sells_1 20 rfl rfl)
theorem dX0_sells_47 : decode cX0_sells 47 = .ok (.goto (-23), 3) := dk_167 255 233 (dk_at dksX0_sells_2 0 rfl rfl)
theorem dX0_sells_50 : decode cX0_sells 50 = .ok (.return_, 1) := dk_177 (dk_at dksX0_sells_2 3 rfl rfl)
theorem dX0_sells_51 : decode cX0_sells 51 = .ok (.iconst 0, 1) := dk_3 (dk_at dksX0_sells_2 4 rfl rfl)
theorem dX0_sells_52 : decode cX0_sells 52 = .ok (.istore 5, 2) := dk_54 5 (dk_at dksX0_sells_2 5 rfl rfl)
theorem dX0_sells_54 : decode cX0_sells 54 = .ok (.iload 5, 2) := dk_21 5 (dk_at dksX0_sells_2 7 rfl rfl)
theorem dX0_sells_56 : decode cX0_sells 56 = .ok (.iload_n 1, 1) := dk_27 (dk_at dksX0_sells_2 9 rfl rfl)
theorem dX0_sells_57 : decode cX0_sells 57 = .ok (.if_icmp .ge 54, 3) := dk_162 0 54 (dk_at dksX0_sells_2 10 rfl rfl)
theorem dX0_sells_60 : decode cX0_sells 60 = .ok (.iload_n 3, 1) := dk_29 (dk_at dksX0_sells_2 13 rfl rfl)
theorem dX0_sells_61 : decode cX0_sells 61 = .ok (.iload 5, 2) := dk_21 5 (dk_at dksX0_sells_2 14 rfl rfl)
theorem dX0_sells_63 : decode cX0_sells 63 = .ok (.invokestatic 205, 3) := dk_184 0 205 (dk_at dksX0_sells_2 16 rfl rfl)
theorem dX0_sells_66 : decode cX0_sells 66 = .ok (.ifCond .eq 6, 3) := dk_153 0 6 (dk_at dksX0_sells_2 19 rfl rfl)
theorem dX0_sells_69 : decode cX0_sells 69 = .ok (.goto 36, 3) := dk_167 0 36 (dk_at dksX0_sells_3 0 rfl rfl)
theorem dX0_sells_72 : decode cX0_sells 72 = .ok (.aload_n 0, 1) := dk_42 (dk_at dksX0_sells_3 3 rfl rfl)
theorem dX0_sells_73 : decode cX0_sells 73 = .ok (.getfield 82, 3) := dk_180 0 82 (dk_at dksX0_sells_3 4 rfl rfl)
theorem dX0_sells_76 : decode cX0_sells 76 = .ok (.iload 5, 2) := dk_21 5 (dk_at dksX0_sells_3 7 rfl rfl)
theorem dX0_sells_78 : decode cX0_sells 78 = .ok (.iload_n 2, 1) := dk_28 (dk_at dksX0_sells_3 9 rfl rfl)
theorem dX0_sells_79 : decode cX0_sells 79 = .ok (.iastore, 1) := dk_79 (dk_at dksX0_sells_3 10 rfl rfl)
theorem dX0_sells_80 : decode cX0_sells 80 = .ok (.aload_n 0, 1) := dk_42 (dk_at dksX0_sells_3 11 rfl rfl)
theorem dX0_sells_81 : decode cX0_sells 81 = .ok (.iload_n 1, 1) := dk_27 (dk_at dksX0_sells_3 12 rfl rfl)
theorem dX0_sells_82 : decode cX0_sells 82 = .ok (.iload_n 2, 1) := dk_28 (dk_at dksX0_sells_3 13 rfl rfl)
theorem dX0_sells_83 : decode cX0_sells 83 = .ok (.iconst 1, 1) := dk_4 (dk_at dksX0_sells_3 14 rfl rfl)
theorem dX0_sells_84 : decode cX0_sells 84 = .ok (.iadd, 1) := dk_96 (dk_at dksX0_sells_3 15 rfl rfl)
theorem dX0_sells_85 : decode cX0_sells 85 = .ok (.iload_n 3, 1) := dk_29 (dk_at dksX0_sells_3 16 rfl rfl)
theorem dX0_sells_86 : decode cX0_sells 86 = .ok (.iconst 1, 1) := dk_4 (dk_at dksX0_sells_3 17 rfl rfl)
theorem dX0_sells_87 : decode cX0_sells 87 = .ok (.iload 5, 2) := dk_21 5 (dk_at dksX0_sells_3 18 rfl rfl)
theorem dX0_sells_89 : decode cX0_sells 89 = .ok (.ishl, 1) := dk_120 (dk_at dksX0_sells_3 20 rfl rfl)
theorem dX0_sells_90 : decode cX0_sells 90 = .ok (.ior, 1) := dk_128 (dk_at dksX0_sells_3 21 rfl rfl)
theorem dX0_sells_91 : decode cX0_sells 91 = .ok (.iload 4, 2) := dk_21 4 (dk_at dksX0_sells_3 22 rfl rfl)
theorem dX0_sells_93 : decode cX0_sells 93 = .ok (.aload_n 0, 1) := dk_42 (dk_at dksX0_sells_4 0 rfl rfl)
theorem dX0_sells_94 : decode cX0_sells 94 = .ok (.iload_n 1, 1) := dk_27 (dk_at dksX0_sells_4 1 rfl rfl)
theorem dX0_sells_95 : decode cX0_sells 95 = .ok (.iload_n 2, 1) := dk_28 (dk_at dksX0_sells_4 2 rfl rfl)
theorem dX0_sells_96 : decode cX0_sells 96 = .ok (.iload 5, 2) := dk_21 5 (dk_at dksX0_sells_4 3 rfl rfl)
theorem dX0_sells_98 : decode cX0_sells 98 = .ok (.invokevirtual 245, 3) := dk_182 0 245 (dk_at dksX0_sells_4 5 rfl rfl)
theorem dX0_sells_101 : decode cX0_sells 101 = .ok (.iadd, 1) := dk_96 (dk_at dksX0_sells_4 8 rfl rfl)
theorem dX0_sells_102 : decode cX0_sells 102 = .ok (.invokevirtual 260, 3) := dk_182 1 4 (dk_at dksX0_sells_4 9 rfl rfl)
theorem dX0_sells_105 : decode cX0_sells 105 = .ok (.iinc 5 1, 3) := dk_132 5 1 (dk_at dksX0_sells_4 12 rfl rfl)
theorem dX0_sells_108 : decode cX0_sells 108 = .ok (.goto (-54), 3) := dk_167 255 202 (dk_at dksX0_sells_4 15 rfl rfl)
theorem dX0_sells_111 : decode cX0_sells 111 = .ok (.return_, 1) := dk_177 (dk_at dksX0_sells_4 18 rfl rfl)
abbrev cX0_rotas : ByteArray := prog_1_method_49_code
def yX0_rotas : MethodName := ⟨RX0, "rotas", "(I)J"⟩
def dkwX0_rotas_4 : List UInt8 := [132, 3, 255, 167, 255, 216, 132, 2, 1, 167, 255, 201, 42, 180, 0, 88, 27, 47, 173]
abbrev dktX0_rotas_4 : List UInt8 := dkwX0_rotas_4 ++ []
def dkwX0_rotas_3 : List UInt8 := [29, 4, 100, 133, 105, 42, 180, 0, 88, 29, 4, 100, 47, 27, 29, 100, 4, 96, 133, 105, 97, 80]
abbrev dktX0_rotas_3 : List UInt8 := dkwX0_rotas_3 ++ dktX0_rotas_4
def dkwX0_rotas_2 : List UInt8 := [28, 16, 12, 162, 0, 55, 16, 12, 62, 29, 158, 0, 42, 42, 180, 0, 88, 29, 42, 180, 0, 88, 29, 47]
abbrev dktX0_rotas_2 : List UInt8 := dkwX0_rotas_2 ++ dktX0_rotas_3
def dkwX0_rotas_1 : List UInt8 := [180, 0, 88, 28, 28, 4, 160, 0, 8, 27, 133, 167, 0, 4, 9, 80, 132, 2, 1, 167, 255, 230, 4, 61]
abbrev dktX0_rotas_1 : List UInt8 := dkwX0_rotas_1 ++ dktX0_rotas_2
def dkwX0_rotas_0 : List UInt8 := [27, 4, 16, 12, 184, 0, 114, 154, 0, 7, 20, 1, 7, 173, 3, 61, 28, 16, 12, 163, 0, 26, 42]
abbrev dktX0_rotas_0 : List UInt8 := dkwX0_rotas_0 ++ dktX0_rotas_1
theorem dksX0_rotas_0 : cX0_rotas.data.toList.drop 0 = dktX0_rotas_0 := by decide +kernel
theorem dksX0_rotas_1 : cX0_rotas.data.toList.drop 23 = dktX0_rotas_1 := dk_seg dksX0_rotas_0 23 rfl rfl
theorem dksX0_rotas_2 : cX0_rotas.data.toList.drop 47 = dktX0_rotas_2 := dk_seg dksX0_rotas_1 24 rfl rfl
theorem dksX0_rotas_3 : cX0_rotas.data.toList.drop 71 = dktX0_rotas_3 := dk_seg dksX0_rotas_2 24 rfl rfl
theorem dksX0_rotas_4 : cX0_rotas.data.toList.drop 93 = dktX0_rotas_4 := dk_seg dksX0_rotas_3 22 rfl rfl
theorem dX0_rotas_0 : decode cX0_rotas 0 = .ok (.iload_n 1, 1) := dk_27 (dk_at dksX0_rotas_0 0 rfl rfl)
theorem dX0_rotas_1 : decode cX0_rotas 1 = .ok (.iconst 1, 1) := dk_4 (dk_at dksX0_rotas_0 1 rfl rfl)
theorem dX0_rotas_2 : decode cX0_rotas 2 = .ok (.bipush 12, 2) := dk_16 12 (dk_at dksX0_rotas_0 2 rfl rfl)
theorem dX0_rotas_4 : decode cX0_rotas 4 = .ok (.invokestatic 114, 3) := dk_184 0 114 (dk_at dksX0_rotas_0 4 rfl rfl)
theorem dX0_rotas_7 : decode cX0_rotas 7 = .ok (.ifCond .ne 7, 3) := dk_154 0 7 (dk_at dksX0_rotas_0 7 rfl rfl)
theorem dX0_rotas_10 : decode cX0_rotas 10 = .ok (.ldc2_w 263, 3) := dk_20 1 7 (dk_at dksX0_rotas_0 10 rfl rfl)
theorem dX0_rotas_13 : decode cX0_rotas 13 = .ok (.lreturn, 1) := dk_173 (dk_at dksX0_rotas_0 13 rfl rfl)
theorem dX0_rotas_14 : decode cX0_rotas 14 = .ok (.iconst 0, 1) := dk_3 (dk_at dksX0_rotas_0 14 rfl rfl)
theorem dX0_rotas_15 : decode cX0_rotas 15 = .ok (.istore_n 2, 1) := dk_61 (dk_at dksX0_rotas_0 15 rfl rfl)
theorem dX0_rotas_16 : decode cX0_rotas 16 = .ok (.iload_n 2, 1) := dk_28 (dk_at dksX0_rotas_0 16 rfl rfl)
theorem dX0_rotas_17 : decode cX0_rotas 17 = .ok (.bipush 12, 2) := dk_16 12 (dk_at dksX0_rotas_0 17 rfl rfl)
theorem dX0_rotas_19 : decode cX0_rotas 19 = .ok (.if_icmp .gt 26, 3) := dk_163 0 26 (dk_at dksX0_rotas_0 19 rfl rfl)
theorem dX0_rotas_22 : decode cX0_rotas 22 = .ok (.aload_n 0, 1) := dk_42 (dk_at dksX0_rotas_0 22 rfl rfl)
theorem dX0_rotas_23 : decode cX0_rotas 23 = .ok (.getfield 88, 3) := dk_180 0 88 (dk_at dksX0_rotas_1 0 rfl rfl)
theorem dX0_rotas_26 : decode cX0_rotas 26 = .ok (.iload_n 2, 1) := dk_28 (dk_at dksX0_rotas_1 3 rfl rfl)
theorem dX0_rotas_27 : decode cX0_rotas 27 = .ok (.iload_n 2, 1) := dk_28 (dk_at dksX0_rotas_1 4 rfl rfl)
theorem dX0_rotas_28 : decode cX0_rotas 28 = .ok (.iconst 1, 1) := dk_4 (dk_at dksX0_rotas_1 5 rfl rfl)
theorem dX0_rotas_29 : decode cX0_rotas 29 = .ok (.if_icmp .ne 8, 3) := dk_160 0 8 (dk_at dksX0_rotas_1 6 rfl rfl)
theorem dX0_rotas_32 : decode cX0_rotas 32 = .ok (.iload_n 1, 1) := dk_27 (dk_at dksX0_rotas_1 9 rfl rfl)
theorem dX0_rotas_33 : decode cX0_rotas 33 = .ok (.i2l, 1) := dk_133 (dk_at dksX0_rotas_1 10 rfl rfl)
theorem dX0_rotas_34 : decode cX0_rotas 34 = .ok (.goto 4, 3) := dk_167 0 4 (dk_at dksX0_rotas_1 11 rfl rfl)
theorem dX0_rotas_37 : decode cX0_rotas 37 = .ok (.lconst 0, 1) := dk_9 (dk_at dksX0_rotas_1 14 rfl rfl)
theorem dX0_rotas_38 : decode cX0_rotas 38 = .ok (.lastore, 1) := dk_80 (dk_at dksX0_rotas_1 15 rfl rfl)
theorem dX0_rotas_39 : decode cX0_rotas 39 = .ok (.iinc 2 1, 3) := dk_132 2 1 (dk_at dksX0_rotas_1 16 rfl rfl)
theorem dX0_rotas_42 : decode cX0_rotas 42 = .ok (.goto (-26), 3) := dk_167 255 230 (dk_at dksX0_rotas_1 19 rfl rfl)
theorem dX0_rotas_45 : decode cX0_rotas 45 = .ok (.iconst 1, 1) := dk_4 (dk_at dksX0_rotas_1 22 rfl rfl)
theorem dX0_rotas_46 : decode cX0_rotas 46 = .ok (.istore_n 2, 1) := dk_61 (dk_at dksX0_rotas_1 23 rfl rfl)
theorem dX0_rotas_47 : decode cX0_rotas 47 = .ok (.iload_n 2, 1) := dk_28 (dk_at dksX0_rotas_2 0 rfl rfl)
theorem dX0_rotas_48 : decode cX0_rotas 48 = .ok (.bipush 12, 2) := dk_16 12 (dk_at dksX0_rotas_2 1 rfl rfl)
theorem dX0_rotas_50 : decode cX0_rotas 50 = .ok (.if_icmp .ge 55, 3) := dk_162 0 55 (dk_at dksX0_rotas_2 3 rfl rfl)
theorem dX0_rotas_53 : decode cX0_rotas 53 = .ok (.bipush 12, 2) := dk_16 12 (dk_at dksX0_rotas_2 6 rfl rfl)
theorem dX0_rotas_55 : decode cX0_rotas 55 = .ok (.istore_n 3, 1) := dk_62 (dk_at dksX0_rotas_2 8 rfl rfl)
theorem dX0_rotas_56 : decode cX0_rotas 56 = .ok (.iload_n 3, 1) := dk_29 (dk_at dksX0_rotas_2 9 rfl rfl)
theorem dX0_rotas_57 : decode cX0_rotas 57 = .ok (.ifCond .le 42, 3) := dk_158 0 42 (dk_at dksX0_rotas_2 10 rfl rfl)
theorem dX0_rotas_60 : decode cX0_rotas 60 = .ok (.aload_n 0, 1) := dk_42 (dk_at dksX0_rotas_2 13 rfl rfl)
theorem dX0_rotas_61 : decode cX0_rotas 61 = .ok (.getfield 88, 3) := dk_180 0 88 (dk_at dksX0_rotas_2 14 rfl rfl)
theorem dX0_rotas_64 : decode cX0_rotas 64 = .ok (.iload_n 3, 1) := dk_29 (dk_at dksX0_rotas_2 17 rfl rfl)
theorem dX0_rotas_65 : decode cX0_rotas 65 = .ok (.aload_n 0, 1) := dk_42 (dk_at dksX0_rotas_2 18 rfl rfl)
theorem dX0_rotas_66 : decode cX0_rotas 66 = .ok (.getfield 88, 3) := dk_180 0 88 (dk_at dksX0_rotas_2 19 rfl rfl)
theorem dX0_rotas_69 : decode cX0_rotas 69 = .ok (.iload_n 3, 1) := dk_29 (dk_at dksX0_rotas_2 22 rfl rfl)
theorem dX0_rotas_70 : decode cX0_rotas 70 = .ok (.laload, 1) := dk_47 (dk_at dksX0_rotas_2 23 rfl rfl)
theorem dX0_rotas_71 : decode cX0_rotas 71 = .ok (.iload_n 3, 1) := dk_29 (dk_at dksX0_rotas_3 0 rfl rfl)
theorem dX0_rotas_72 : decode cX0_rotas 72 = .ok (.iconst 1, 1) := dk_4 (dk_at dksX0_rotas_3 1 rfl rfl)
theorem dX0_rotas_73 : decode cX0_rotas 73 = .ok (.isub, 1) := dk_100 (dk_at dksX0_rotas_3 2 rfl rfl)
theorem dX0_rotas_74 : decode cX0_rotas 74 = .ok (.i2l, 1) := dk_133 (dk_at dksX0_rotas_3 3 rfl rfl)
theorem dX0_rotas_75 : decode cX0_rotas 75 = .ok (.lmul, 1) := dk_105 (dk_at dksX0_rotas_3 4 rfl rfl)
theorem dX0_rotas_76 : decode cX0_rotas 76 = .ok (.aload_n 0, 1) := dk_42 (dk_at dksX0_rotas_3 5 rfl rfl)
theorem dX0_rotas_77 : decode cX0_rotas 77 = .ok (.getfield 88, 3) := dk_180 0 88 (dk_at dksX0_rotas_3 6 rfl rfl)
theorem dX0_rotas_80 : decode cX0_rotas 80 = .ok (.iload_n 3, 1) := dk_29 (dk_at dksX0_rotas_3 9 rfl rfl)
theorem dX0_rotas_81 : decode cX0_rotas 81 = .ok (.iconst 1, 1) := dk_4 (dk_at dksX0_rotas_3 10 rfl rfl)
theorem dX0_rotas_82 : decode cX0_rotas 82 = .ok (.isub, 1) := dk_100 (dk_at dksX0_rotas_3 11 rfl rfl)
theorem dX0_rotas_83 : decode cX0_rotas 83 = .ok (.laload, 1) := dk_47 (dk_at dksX0_rotas_3 12 rfl rfl)
theorem dX0_rotas_84 : decode cX0_rotas 84 = .ok (.iload_n 1, 1) := dk_27 (dk_at dksX0_rotas_3 13 rfl rfl)
theorem dX0_rotas_85 : decode cX0_rotas 85 = .ok (.iload_n 3, 1) := dk_29 (dk_at dksX0_rotas_3 14 rfl rfl)
theorem dX0_rotas_86 : decode cX0_rotas 86 = .ok (.isub, 1) := dk_100 (dk_at dksX0_rotas_3 15 rfl rfl)
theorem dX0_rotas_87 : decode cX0_rotas 87 = .ok (.iconst 1, 1) := dk_4 (dk_at dksX0_rotas_3 16 rfl rfl)
theorem dX0_rotas_88 : decode cX0_rotas 88 = .ok (.iadd, 1) := dk_96 (dk_at dksX0_rotas_3 17 rfl rfl)
theorem dX0_rotas_89 : decode cX0_rotas 89 = .ok (.i2l, 1) := dk_133 (dk_at dksX0_rotas_3 18 rfl rfl)
theorem dX0_rotas_90 : decode cX0_rotas 90 = .ok (.lmul, 1) := dk_105 (dk_at dksX0_rotas_3 19 rfl rfl)
theorem dX0_rotas_91 : decode cX0_rotas 91 = .ok (.ladd, 1) := dk_97 (dk_at dksX0_rotas_3 20 rfl rfl)
theorem dX0_rotas_92 : decode cX0_rotas 92 = .ok (.lastore, 1) := dk_80 (dk_at dksX0_rotas_3 21 rfl rfl)
theorem dX0_rotas_93 : decode cX0_rotas 93 = .ok (.iinc 3 (-1), 3) := dk_132 3 255 (dk_at dksX0_rotas_4 0 rfl rfl)
theorem dX0_rotas_96 : decode cX0_rotas 96 = .ok (.goto (-40), 3) := dk_167 255 216 (dk_at dksX0_rotas_4 3 rfl rfl)
theorem dX0_rotas_99 : decode cX0_rotas 99 = .ok (.iinc 2 1, 3) := dk_132 2 1 (dk_at dksX0_rotas_4 6 rfl rfl)
theorem dX0_rotas_102 : decode cX0_rotas 102 = .ok (.goto (-55), 3) := dk_167 255 201 (dk_at dksX0_rotas_4 9 rfl rfl)
theorem dX0_rotas_105 : decode cX0_rotas 105 = .ok (.aload_n 0, 1) := dk_42 (dk_at dksX0_rotas_4 12 rfl rfl)
theorem dX0_rotas_106 : decode cX0_rotas 106 = .ok (.getfield 88, 3) := dk_180 0 88 (dk_at dksX0_rotas_4 13 rfl rfl)
theorem dX0_rotas_109 : decode cX0_rotas 109 = .ok (.iload_n 1, 1) := dk_27 (dk_at dksX0_rotas_4 16 rfl rfl)
theorem dX0_rotas_110 : decode cX0_rotas 110 = .ok (.laload, 1) := dk_47 (dk_at dksX0_rotas_4 17 rfl rfl)
theorem dX0_rotas_111 : decode cX0_rotas 111 = .ok (.lreturn, 1) := dk_173 (dk_at dksX0_rotas_4 18 rfl rfl)
abbrev cX0_panes : ByteArray := prog_1_method_51_code
def yX0_panes : MethodName := ⟨RX0, "panes", "(II)I"⟩
def dkwX0_panes_5 : List UInt8 := [132, 6, 1, 167, 255, 196, 132, 5, 1, 167, 255, 181, 132, 4, 1, 167, 255, 165, 29, 172]
abbrev dktX0_panes_5 : List UInt8 := dkwX0_panes_5 ++ []
def dkwX0_panes_4 : List UInt8 := [21, 4, 100, 4, 96, 21, 7, 21, 6, 100, 4, 96, 104, 184, 0, 7, 62, 132, 7, 1, 167, 255, 212]
abbrev dktX0_panes_4 : List UInt8 := dkwX0_panes_4 ++ dktX0_panes_5
def dkwX0_panes_3 : List UInt8 := [21, 7, 28, 162, 0, 44, 42, 21, 4, 21, 5, 21, 6, 21, 7, 182, 1, 9, 153, 0, 23, 29, 21, 5]
abbrev dktX0_panes_3 : List UInt8 := dkwX0_panes_3 ++ dktX0_panes_4
def dkwX0_panes_2 : List UInt8 := [21, 4, 54, 5, 21, 5, 27, 162, 0, 75, 3, 54, 6, 21, 6, 28, 162, 0, 60, 21, 6, 54, 7]
abbrev dktX0_panes_2 : List UInt8 := dkwX0_panes_2 ++ dktX0_panes_3
def dkwX0_panes_1 : List UInt8 := [180, 0, 107, 164, 0, 5, 2, 172, 42, 3, 181, 0, 107, 3, 62, 3, 54, 4, 21, 4, 27, 162, 0, 91]
abbrev dktX0_panes_1 : List UInt8 := dkwX0_panes_1 ++ dktX0_panes_2
def dkwX0_panes_0 : List UInt8 := [27, 4, 16, 6, 184, 0, 114, 153, 0, 21, 28, 4, 16, 6, 184, 0, 114, 153, 0, 11, 27, 42]
abbrev dktX0_panes_0 : List UInt8 := dkwX0_panes_0 ++ dktX0_panes_1
theorem dksX0_panes_0 : cX0_panes.data.toList.drop 0 = dktX0_panes_0 := by decide +kernel
theorem dksX0_panes_1 : cX0_panes.data.toList.drop 22 = dktX0_panes_1 := dk_seg dksX0_panes_0 22 rfl rfl
theorem dksX0_panes_2 : cX0_panes.data.toList.drop 46 = dktX0_panes_2 := dk_seg dksX0_panes_1 24 rfl rfl
theorem dksX0_panes_3 : cX0_panes.data.toList.drop 69 = dktX0_panes_3 := dk_seg dksX0_panes_2 23 rfl rfl
theorem dksX0_panes_4 : cX0_panes.data.toList.drop 93 = dktX0_panes_4 := dk_seg dksX0_panes_3 24 rfl rfl
theorem dksX0_panes_5 : cX0_panes.data.toList.drop 116 = dktX0_panes_5 := dk_seg dksX0_panes_4 23 rfl rfl
theorem dX0_panes_0 : decode cX0_panes 0 = .ok (.iload_n 1, 1) := dk_27 (dk_at dksX0_panes_0 0 rfl rfl)
theorem dX0_panes_1 : decode cX0_panes 1 = .ok (.iconst 1, 1) := dk_4 (dk_at dksX0_panes_0 1 rfl rfl)
theorem dX0_panes_2 : decode cX0_panes 2 = .ok (.bipush 6, 2) := dk_16 6 (dk_at dksX0_panes_0 2 rfl rfl)
theorem dX0_panes_4 : decode cX0_panes 4 = .ok (.invokestatic 114, 3) := dk_184 0 114 (dk_at dksX0_panes_0 4 rfl rfl)
theorem dX0_panes_7 : decode cX0_panes 7 = .ok (.ifCond .eq 21, 3) := dk_153 0 21 (dk_at dksX0_panes_0 7 rfl rfl)
theorem dX0_panes_10 : decode cX0_panes 10 = .ok (.iload_n 2, 1) := dk_28 (dk_at dksX0_panes_0 10 rfl rfl)
theorem dX0_panes_11 : decode cX0_panes 11 = .ok (.iconst 1, 1) := dk_4 (dk_at dksX0_panes_0 11 rfl rfl)
theorem dX0_panes_12 : decode cX0_panes 12 = .ok (.bipush 6, 2) := dk_16 6 (dk_at dksX0_panes_0 12 rfl rfl)
theorem dX0_panes_14 : decode cX0_panes 14 = .ok (.invokestatic 114, 3) := dk_184 0 114 (dk_at dksX0_panes_0 14 rfl rfl)
theorem dX0_panes_17 : decode cX0_panes 17 = .ok (.ifCond .eq 11, 3) := dk_153 0 11 (dk_at dksX0_panes_0 17 rfl rfl)
theorem dX0_panes_20 : decode cX0_panes 20 = .ok (.iload_n 1, 1) := dk_27 (dk_at dksX0_panes_0 20 rfl rfl)
theorem dX0_panes_21 : decode cX0_panes 21 = .ok (.aload_n 0, 1) := dk_42 (dk_at dksX0_panes_0 21 rfl rfl)
theorem dX0_panes_22 : decode cX0_panes 22 = .ok (.getfield 107, 3) := dk_180 0 107 (dk_at dksX0_panes_1 0 rfl rfl)
theorem dX0_panes_25 : decode cX0_panes 25 = .ok (.if_icmp .le 5, 3) := dk_164 0 5 (dk_at dksX0_panes_1 3 rfl rfl)
theorem dX0_panes_28 : decode cX0_panes 28 = .ok (.iconst (-1), 1) := dk_2 (dk_at dksX0_panes_1 6 rfl rfl)
theorem dX0_panes_29 : decode cX0_panes 29 = .ok (.ireturn, 1) := dk_172 (dk_at dksX0_panes_1 7 rfl rfl)
theorem dX0_panes_30 : decode cX0_panes 30 = .ok (.aload_n 0, 1) := dk_42 (dk_at dksX0_panes_1 8 rfl rfl)
theorem dX0_panes_31 : decode cX0_panes 31 = .ok (.iconst 0, 1) := dk_3 (dk_at dksX0_panes_1 9 rfl rfl)
theorem dX0_panes_32 : decode cX0_panes 32 = .ok (.putfield 107, 3) := dk_181 0 107 (dk_at dksX0_panes_1 10 rfl rfl)
theorem dX0_panes_35 : decode cX0_panes 35 = .ok (.iconst 0, 1) := dk_3 (dk_at dksX0_panes_1 13 rfl rfl)
theorem dX0_panes_36 : decode cX0_panes 36 = .ok (.istore_n 3, 1) := dk_62 (dk_at dksX0_panes_1 14 rfl rfl)
theorem dX0_panes_37 : decode cX0_panes 37 = .ok (.iconst 0, 1) := dk_3 (dk_at dksX0_panes_1 15 rfl rfl)
theorem dX0_panes_38 : decode cX0_panes 38 = .ok (.istore 4, 2) := dk_54 4 (dk_at dksX0_panes_1 16 rfl rfl)
theorem dX0_panes_40 : decode cX0_panes 40 = .ok (.iload 4, 2) := dk_21 4 (dk_at dksX0_panes_1 18 rfl rfl)
theorem dX0_panes_42 : decode cX0_panes 42 = .ok (.iload_n 1, 1) := dk_27 (dk_at dksX0_panes_1 20 rfl rfl)
theorem dX0_panes_43 : decode cX0_panes 43 = .ok (.if_icmp .ge 91, 3) := dk_162 0 91 (dk_at dksX0_panes_1 21 rfl rfl)
theorem dX0_panes_46 : decode cX0_panes 46 = .ok (.iload 4, 2) := dk_21 4 (dk_at dksX0_panes_2 0 rfl rfl)
theorem dX0_panes_48 : decode cX0_panes 48 = .ok (.istore 5, 2) := dk_54 5 (dk_at dksX0_panes_2 2 rfl rfl)
theorem dX0_panes_50 : decode cX0_panes 50 = .ok (.iload 5, 2) := dk_21 5 (dk_at dksX0_panes_2 4 rfl rfl)
theorem dX0_panes_52 : decode cX0_panes 52 = .ok (.iload_n 1, 1) := dk_27 (dk_at dksX0_panes_2 6 rfl rfl)
theorem dX0_panes_53 : decode cX0_panes 53 = .ok (.if_icmp .ge 75, 3) := dk_162 0 75 (dk_at dksX0_panes_2 7 rfl rfl)
theorem dX0_panes_56 : decode cX0_panes 56 = .ok (.iconst 0, 1) := dk_3 (dk_at dksX0_panes_2 10 rfl rfl)
theorem dX0_panes_57 : decode cX0_panes 57 = .ok (.istore 6, 2) := dk_54 6 (dk_at dksX0_panes_2 11 rfl rfl)
theorem dX0_panes_59 : decode cX0_panes 59 = .ok (.iload 6, 2) := dk_21 6 (dk_at dksX0_panes_2 13 rfl rfl)
theorem dX0_panes_61 : decode cX0_panes 61 = .ok (.iload_n 2, 1) := dk_28 (dk_at dksX0_panes_2 15 rfl rfl)
theorem dX0_panes_62 : decode cX0_panes 62 = .ok (.if_icmp .ge 60, 3) := dk_162 0 60 (dk_at dksX0_panes_2 16 rfl rfl)
theorem dX0_panes_65 : decode cX0_panes 65 = .ok (.iload 6, 2) := dk_21 6 (dk_at dksX0_panes_2 19 rfl rfl)
theorem dX0_panes_67 : decode cX0_panes 67 = .ok (.istore 7, 2) := dk_54 7 (dk_at dksX0_panes_2 21 rfl rfl)
theorem dX0_panes_69 : decode cX0_panes 69 = .ok (.iload 7, 2) := dk_21 7 (dk_at dksX0_panes_3 0 rfl rfl)
theorem dX0_panes_71 : decode cX0_panes 71 = .ok (.iload_n 2, 1) := dk_28 (dk_at dksX0_panes_3 2 rfl rfl)
theorem dX0_panes_72 : decode cX0_panes 72 = .ok (.if_icmp .ge 44, 3) := dk_162 0 44 (dk_at dksX0_panes_3 3 rfl rfl)
theorem dX0_panes_75 : decode cX0_panes 75 = .ok (.aload_n 0, 1) := dk_42 (dk_at dksX0_panes_3 6 rfl rfl)
theorem dX0_panes_76 : decode cX0_panes 76 = .ok (.iload 4, 2) := dk_21 4 (dk_at dksX0_panes_3 7 rfl rfl)
theorem dX0_panes_78 : decode cX0_panes 78 = .ok (.iload 5, 2) := dk_21 5 (dk_at dksX0_panes_3 9 rfl rfl)
theorem dX0_panes_80 : decode cX0_panes 80 = .ok (.iload 6, 2) := dk_21 6 (dk_at dksX0_panes_3 11 rfl rfl)
theorem dX0_panes_82 : decode cX0_panes 82 = .ok (.iload 7, 2) := dk_21 7 (dk_at dksX0_panes_3 13 rfl rfl)
theorem dX0_panes_84 : decode cX0_panes 84 = .ok (.invokevirtual 265, 3) := dk_182 1 9 (dk_at dksX0_panes_3 15 rfl rfl)
theorem dX0_panes_87 : decode cX0_panes 87 = .ok (.ifCond .eq 23, 3) := dk_153 0 23 (dk_at dksX0_panes_3 18 rfl rfl)
theorem dX0_panes_90 : decode cX0_panes 90 = .ok (.iload_n 3, 1) := dk_29 (dk_at dksX0_panes_3 21 rfl rfl)
theorem dX0_panes_91 : decode cX0_panes 91 = .ok (.iload 5, 2) := dk_21 5 (dk_at dksX0_panes_3 22 rfl rfl)
theorem dX0_panes_93 : decode cX0_panes 93 = .ok (.iload 4, 2) := dk_21 4 (dk_at dksX0_panes_4 0 rfl rfl)
theorem dX0_panes_95 : decode cX0_panes 95 = .ok (.isub, 1) := dk_100 (dk_at dksX0_panes_4 2 rfl rfl)
theorem dX0_panes_96 : decode cX0_panes 96 = .ok (.iconst 1, 1) := dk_4 (dk_at dksX0_panes_4 3 rfl rfl)
theorem dX0_panes_97 : decode cX0_panes 97 = .ok (.iadd, 1) := dk_96 (dk_at dksX0_panes_4 4 rfl rfl)
theorem dX0_panes_98 : decode cX0_panes 98 = .ok (.iload 7, 2) := dk_21 7 (dk_at dksX0_panes_4 5 rfl rfl)
theorem dX0_panes_100 : decode cX0_panes 100 = .ok (.iload 6, 2) := dk_21 6 (dk_at dksX0_panes_4 7 rfl rfl)
theorem dX0_panes_102 : decode cX0_panes 102 = .ok (.isub, 1) := dk_100 (dk_at dksX0_panes_4 9 rfl rfl)
theorem dX0_panes_103 : decode cX0_panes 103 = .ok (.iconst 1, 1) := dk_4 (dk_at dksX0_panes_4 10 rfl rfl)
theorem dX0_panes_104 : decode cX0_panes 104 = .ok (.iadd, 1) := dk_96 (dk_at dksX0_panes_4 11 rfl rfl)
theorem dX0_panes_105 : decode cX0_panes 105 = .ok (.imul, 1) := dk_104 (dk_at dksX0_panes_4 12 rfl rfl)
theorem dX0_panes_106 : decode cX0_panes 106 = .ok (.invokestatic 7, 3) := dk_184 0 7 (dk_at dksX0_panes_4 13 rfl rfl)
theorem dX0_panes_109 : decode cX0_panes 109 = .ok (.istore_n 3, 1) := dk_62 (dk_at dksX0_panes_4 16 rfl rfl)
theorem dX0_panes_110 : decode cX0_panes 110 = .ok (.iinc 7 1, 3) := dk_132 7 1 (dk_at dksX0_panes_4 17 rfl rfl)
theorem dX0_panes_113 : decode cX0_panes 113 = .ok (.goto (-44), 3) := dk_167 255 212 (dk_at dksX0_panes_4 20 rfl rfl)
theorem dX0_panes_116 : decode cX0_panes 116 = .ok (.iinc 6 1, 3) := dk_132 6 1 (dk_at dksX0_panes_5 0 rfl rfl)
theorem dX0_panes_119 : decode cX0_panes 119 = .ok (.goto (-60), 3) := dk_167 255 196 (dk_at dksX0_panes_5 3 rfl rfl)
theorem dX0_panes_122 : decode cX0_panes 122 = .ok (.iinc 5 1, 3) := dk_132 5 1 (dk_at dksX0_panes_5 6 rfl rfl)
theorem dX0_panes_125 : decode cX0_panes 125 = .ok (.goto (-75), 3) := dk_167 255 181 (dk_at dksX0_panes_5 9 rfl rfl)
theorem dX0_panes_128 : decode cX0_panes 128 = .ok (.iinc 4 1, 3) := dk_132 4 1 (dk_at dksX0_panes_5 12 rfl rfl)
theorem dX0_panes_131 : decode cX0_panes 131 = .ok (.goto (-91), 3) := dk_167 255 165 (dk_at dksX0_panes_5 15 rfl rfl)
theorem dX0_panes_134 : decode cX0_panes 134 = .ok (.iload_n 3, 1) := dk_29 (dk_at dksX0_panes_5 18 rfl rfl)
theorem dX0_panes_135 : decode cX0_panes 135 = .ok (.ireturn, 1) := dk_172 (dk_at dksX0_panes_5 19 rfl rfl)
abbrev cX0_areClear : ByteArray := prog_1_method_50_code
def yX0_areClear : MethodName := ⟨RX0, "areClear", "(IIII)Z"⟩
def dkwX0_areClear_2 : List UInt8 := [167, 255, 215, 4, 172]
abbrev dktX0_areClear_2 : List UInt8 := dkwX0_areClear_2 ++ []
def dkwX0_areClear_1 : List UInt8 := [182, 0, 229, 21, 6, 184, 0, 205, 153, 0, 5, 3, 172, 132, 6, 1, 167, 255, 230, 132, 5, 1]
abbrev dktX0_areClear_1 : List UInt8 := dkwX0_areClear_1 ++ dktX0_areClear_2
def dkwX0_areClear_0 : List UInt8 := [27, 54, 5, 21, 5, 28, 163, 0, 41, 29, 54, 6, 21, 6, 21, 4, 163, 0, 25, 42, 21, 5]
abbrev dktX0_areClear_0 : List UInt8 := dkwX0_areClear_0 ++ dktX0_areClear_1
theorem dksX0_areClear_0 : cX0_areClear.data.toList.drop 0 = dktX0_areClear_0 := by decide +kernel
theorem dksX0_areClear_1 : cX0_areClear.data.toList.drop 22 = dktX0_areClear_1 := dk_seg dksX0_areClear_0 22 rfl rfl
theorem dksX0_areClear_2 : cX0_areClear.data.toList.drop 44 = dktX0_areClear_2 := dk_seg dksX0_areClear_1 22 rfl rfl
theorem dX0_areClear_0 : decode cX0_areClear 0 = .ok (.iload_n 1, 1) := dk_27 (dk_at dksX0_areClear_0 0 rfl rfl)
theorem dX0_areClear_1 : decode cX0_areClear 1 = .ok (.istore 5, 2) := dk_54 5 (dk_at dksX0_areClear_0 1 rfl rfl)
theorem dX0_areClear_3 : decode cX0_areClear 3 = .ok (.iload 5, 2) := dk_21 5 (dk_at dksX0_areClear_0 3 rfl rfl)
theorem dX0_areClear_5 : decode cX0_areClear 5 = .ok (.iload_n 2, 1) := dk_28 (dk_at dksX0_areClear_0 5 rfl rfl)
theorem dX0_areClear_6 : decode cX0_areClear 6 = .ok (.if_icmp .gt 41, 3) := dk_163 0 41 (dk_at dksX0_areClear_0 6 rfl rfl)
theorem dX0_areClear_9 : decode cX0_areClear 9 = .ok (.iload_n 3, 1) := dk_29 (dk_at dksX0_areClear_0 9 rfl rfl)
theorem dX0_areClear_10 : decode cX0_areClear 10 = .ok (.istore 6, 2) := dk_54 6 (dk_at dksX0_areClear_0 10 rfl rfl)
theorem dX0_areClear_12 : decode cX0_areClear 12 = .ok (.iload 6, 2) := dk_21 6 (dk_at dksX0_areClear_0 12 rfl rfl)
theorem dX0_areClear_14 : decode cX0_areClear 14 = .ok (.iload 4, 2) := dk_21 4 (dk_at dksX0_areClear_0 14 rfl rfl)
theorem dX0_areClear_16 : decode cX0_areClear 16 = .ok (.if_icmp .gt 25, 3) := dk_163 0 25 (dk_at dksX0_areClear_0 16 rfl rfl)
theorem dX0_areClear_19 : decode cX0_areClear 19 = .ok (.aload_n 0, 1) := dk_42 (dk_at dksX0_areClear_0 19 rfl rfl)
theorem dX0_areClear_20 : decode cX0_areClear 20 = .ok (.iload 5, 2) := dk_21 5 (dk_at dksX0_areClear_0 20 rfl rfl)
theorem dX0_areClear_22 : decode cX0_areClear 22 = .ok (.invokevirtual 229, 3) := dk_182 0 229 (dk_at dksX0_areClear_1 0 rfl rfl)
theorem dX0_areClear_25 : decode cX0_areClear 25 = .ok (.iload 6, 2) := dk_21 6 (dk_at dksX0_areClear_1 3 rfl rfl)
theorem dX0_areClear_27 : decode cX0_areClear 27 = .ok (.invokestatic 205, 3) := dk_184 0 205 (dk_at dksX0_areClear_1 5 rfl rfl)
theorem dX0_areClear_30 : decode cX0_areClear 30 = .ok (.ifCond .eq 5, 3) := dk_153 0 5 (dk_at dksX0_areClear_1 8 rfl rfl)
theorem dX0_areClear_33 : decode cX0_areClear 33 = .ok (.iconst 0, 1) := dk_3 (dk_at dksX0_areClear_1 11 rfl rfl)
theorem dX0_areClear_34 : decode cX0_areClear 34 = .ok (.ireturn, 1) := dk_172 (dk_at dksX0_areClear_1 12 rfl rfl)
theorem dX0_areClear_35 : decode cX0_areClear 35 = .ok (.iinc 6 1, 3) := dk_132 6 1 (dk_at dksX0_areClear_1 13 rfl rfl)
theorem dX0_areClear_38 : decode cX0_areClear 38 = .ok (.goto (-26), 3) := dk_167 255 230 (dk_at dksX0_areClear_1 16 rfl rfl)
theorem dX0_areClear_41 : decode cX0_areClear 41 = .ok (.iinc 5 1, 3) := dk_132 5 1 (dk_at dksX0_areClear_1 19 rfl rfl)
theorem dX0_areClear_44 : decode cX0_areClear 44 = .ok (.goto (-41), 3) := dk_167 255 215 (dk_at dksX0_areClear_2 0 rfl rfl)
theorem dX0_areClear_47 : decode cX0_areClear 47 = .ok (.iconst 1, 1) := dk_4 (dk_at dksX0_areClear_2 3 rfl rfl)
theorem dX0_areClear_48 : decode cX0_areClear 48 = .ok (.ireturn, 1) := dk_172 (dk_at dksX0_areClear_2 4 rfl rfl)
abbrev cX0_keepIt : ByteArray := prog_1_method_53_code
def yX0_keepIt : MethodName := ⟨RX0, "keepIt", "(II)I"⟩
def dkwX0_keepIt_3 : List UInt8 := [182, 1, 13, 164, 0, 6, 21, 4, 62, 132, 4, 1, 167, 255, 228, 29, 172]
abbrev dktX0_keepIt_3 : List UInt8 := dkwX0_keepIt_3 ++ []
def dkwX0_keepIt_2 : List UInt8 := [172, 3, 62, 4, 54, 4, 21, 4, 27, 162, 0, 28, 42, 27, 21, 4, 182, 1, 13, 42, 27, 29]
abbrev dktX0_keepIt_2 : List UInt8 := dkwX0_keepIt_2 ++ dktX0_keepIt_3
def dkwX0_keepIt_1 : List UInt8 := [180, 0, 107, 164, 0, 5, 2, 172, 42, 3, 181, 0, 107, 28, 2, 159, 0, 10, 42, 27, 28, 182, 1, 13]
abbrev dktX0_keepIt_1 : List UInt8 := dkwX0_keepIt_1 ++ dktX0_keepIt_2
def dkwX0_keepIt_0 : List UInt8 := [27, 4, 16, 20, 184, 0, 114, 153, 0, 22, 28, 2, 27, 4, 100, 184, 0, 114, 153, 0, 11, 27, 42]
abbrev dktX0_keepIt_0 : List UInt8 := dkwX0_keepIt_0 ++ dktX0_keepIt_1
theorem dksX0_keepIt_0 : cX0_keepIt.data.toList.drop 0 = dktX0_keepIt_0 := by decide +kernel
theorem dksX0_keepIt_1 : cX0_keepIt.data.toList.drop 23 = dktX0_keepIt_1 := dk_seg dksX0_keepIt_0 23 rfl rfl
theorem dksX0_keepIt_2 : cX0_keepIt.data.toList.drop 47 = dktX0_keepIt_2 := dk_seg dksX0_keepIt_1 24 rfl rfl
theorem dksX0_keepIt_3 : cX0_keepIt.data.toList.drop 69 = dktX0_keepIt_3 := dk_seg dksX0_keepIt_2 22 rfl rfl
theorem dX0_keepIt_0 : decode cX0_keepIt 0 = .ok (.iload_n 1, 1) := dk_27 (dk_at dksX0_keepIt_0 0 rfl rfl)
theorem dX0_keepIt_1 : decode cX0_keepIt 1 = .ok (.iconst 1, 1) := dk_4 (dk_at dksX0_keepIt_0 1 rfl rfl)
theorem dX0_keepIt_2 : decode cX0_keepIt 2 = .ok (.bipush 20, 2) := dk_16 20 (dk_at dksX0_keepIt_0 2 rfl rfl)
theorem dX0_keepIt_4 : decode cX0_keepIt 4 = .ok (.invokestatic 114, 3) := dk_184 0 114 (dk_at dksX0_keepIt_0 4 rfl rfl)
theorem dX0_keepIt_7 : decode cX0_keepIt 7 = .ok (.ifCond .eq 22, 3) := dk_153 0 22 (dk_at dksX0_keepIt_0 7 rfl rfl)
theorem dX0_keepIt_10 : decode cX0_keepIt 10 = .ok (.iload_n 2, 1) := dk_28 (dk_at dksX0_keepIt_0 10 rfl rfl)
theorem dX0_keepIt_11 : decode cX0_keepIt 11 = .ok (.iconst (-1), 1) := dk_2 (dk_at dksX0_keepIt_0 11 rfl rfl)
theorem dX0_keepIt_12 : decode cX0_keepIt 12 = .ok (.iload_n 1, 1) := dk_27 (dk_at dksX0_keepIt_0 12 rfl rfl)
theorem dX0_keepIt_13 : decode cX0_keepIt 13 = .ok (.iconst 1, 1) := dk_4 (dk_at dksX0_keepIt_0 13 rfl rfl)
theorem dX0_keepIt_14 : decode cX0_keepIt 14 = .ok (.isub, 1) := dk_100 (dk_at dksX0_keepIt_0 14 rfl rfl)
theorem dX0_keepIt_15 : decode cX0_keepIt 15 = .ok (.invokestatic 114, 3) := dk_184 0 114 (dk_at dksX0_keepIt_0 15 rfl rfl)
theorem dX0_keepIt_18 : decode cX0_keepIt 18 = .ok (.ifCond .eq 11, 3) := dk_153 0 11 (dk_at dksX0_keepIt_0 18 rfl rfl)
theorem dX0_keepIt_21 : decode cX0_keepIt 21 = .ok (.iload_n 1, 1) := dk_27 (dk_at dksX0_keepIt_0 21 rfl rfl)
theorem dX0_keepIt_22 : decode cX0_keepIt 22 = .ok (.aload_n 0, 1) := dk_42 (dk_at dksX0_keepIt_0 22 rfl rfl)
theorem dX0_keepIt_23 : decode cX0_keepIt 23 = .ok (.getfield 107, 3) := dk_180 0 107 (dk_at dksX0_keepIt_1 0 rfl rfl)
theorem dX0_keepIt_26 : decode cX0_keepIt 26 = .ok (.if_icmp .le 5, 3) := dk_164 0 5 (dk_at dksX0_keepIt_1 3 rfl rfl)
theorem dX0_keepIt_29 : decode cX0_keepIt 29 = .ok (.iconst (-1), 1) := dk_2 (dk_at dksX0_keepIt_1 6 rfl rfl)
theorem dX0_keepIt_30 : decode cX0_keepIt 30 = .ok (.ireturn, 1) := dk_172 (dk_at dksX0_keepIt_1 7 rfl rfl)
theorem dX0_keepIt_31 : decode cX0_keepIt 31 = .ok (.aload_n 0, 1) := dk_42 (dk_at dksX0_keepIt_1 8 rfl rfl)
theorem dX0_keepIt_32 : decode cX0_keepIt 32 = .ok (.iconst 0, 1) := dk_3 (dk_at dksX0_keepIt_1 9 rfl rfl)
theorem dX0_keepIt_33 : decode cX0_keepIt 33 = .ok (.putfield 107, 3) := dk_181 0 107 (dk_at dksX0_keepIt_1 10 rfl rfl)
theorem dX0_keepIt_36 : decode cX0_keepIt 36 = .ok (.iload_n 2, 1) := dk_28 (dk_at dksX0_keepIt_1 13 rfl rfl)
theorem dX0_keepIt_37 : decode cX0_keepIt 37 = .ok (.iconst (-1), 1) := dk_2 (dk_at dksX0_keepIt_1 14 rfl rfl)
theorem dX0_keepIt_38 : decode cX0_keepIt 38 = .ok (.if_icmp .eq 10, 3) := dk_159 0 10 (dk_at dksX0_keepIt_1 15 rfl rfl)
theorem dX0_keepIt_41 : decode cX0_keepIt 41 = .ok (.aload_n 0, 1) := dk_42 (dk_at dksX0_keepIt_1 18 rfl rfl)
theorem dX0_keepIt_42 : decode cX0_keepIt 42 = .ok (.iload_n 1, 1) := dk_27 (dk_at dksX0_keepIt_1 19 rfl rfl)
theorem dX0_keepIt_43 : decode cX0_keepIt 43 = .ok (.iload_n 2, 1) := dk_28 (dk_at dksX0_keepIt_1 20 rfl rfl)
theorem dX0_keepIt_44 : decode cX0_keepIt 44 = .ok (.invokevirtual 269, 3) := dk_182 1 13 (dk_at dksX0_keepIt_1 21 rfl rfl)
theorem dX0_keepIt_47 : decode cX0_keepIt 47 = .ok (.ireturn, 1) := dk_172 (dk_at dksX0_keepIt_2 0 rfl rfl)
theorem dX0_keepIt_48 : decode cX0_keepIt 48 = .ok (.iconst 0, 1) := dk_3 (dk_at dksX0_keepIt_2 1 rfl rfl)
theorem dX0_keepIt_49 : decode cX0_keepIt 49 = .ok (.istore_n 3, 1) := dk_62 (dk_at dksX0_keepIt_2 2 rfl rfl)
theorem dX0_keepIt_50 : decode cX0_keepIt 50 = .ok (.iconst 1, 1) := dk_4 (dk_at dksX0_keepIt_2 3 rfl rfl)
theorem dX0_keepIt_51 : decode cX0_keepIt 51 = .ok (.istore 4, 2) := dk_54 4 (dk_at dksX0_keepIt_2 4 rfl rfl)
theorem dX0_keepIt_53 : decode cX0_keepIt 53 = .ok (.iload 4, 2) := dk_21 4 (dk_at dksX0_keepIt_2 6 rfl rfl)
theorem dX0_keepIt_55 : decode cX0_keepIt 55 = .ok (.iload_n 1, 1) := dk_27 (dk_at dksX0_keepIt_2 8 rfl rfl)
theorem dX0_keepIt_56 : decode cX0_keepIt 56 = .ok (.if_icmp .ge 28, 3) := dk_162 0 28 (dk_at dksX0_keepIt_2 9 rfl rfl)
theorem dX0_keepIt_59 : decode cX0_keepIt 59 = .ok (.aload_n 0, 1) := dk_42 (dk_at dksX0_keepIt_2 12 rfl rfl)
theorem dX0_keepIt_60 : decode cX0_keepIt 60 = .ok (.iload_n 1, 1) := dk_27 (dk_at dksX0_keepIt_2 13 rfl rfl)
theorem dX0_keepIt_61 : decode cX0_keepIt 61 = .ok (.iload 4, 2) := dk_21 4 (dk_at dksX0_keepIt_2 14 rfl rfl)
theorem dX0_keepIt_63 : decode cX0_keepIt 63 = .ok (.invokevirtual 269, 3) := dk_182 1 13 (dk_at dksX0_keepIt_2 16 rfl rfl)
theorem dX0_keepIt_66 : decode cX0_keepIt 66 = .ok (.aload_n 0, 1) := dk_42 (dk_at dksX0_keepIt_2 19 rfl rfl)
theorem dX0_keepIt_67 : decode cX0_keepIt 67 = .ok (.iload_n 1, 1) := dk_27 (dk_at dksX0_keepIt_2 20 rfl rfl)
theorem dX0_keepIt_68 : decode cX0_keepIt 68 = .ok (.iload_n 3, 1) := dk_29 (dk_at dksX0_keepIt_2 21 rfl rfl)
theorem dX0_keepIt_69 : decode cX0_keepIt 69 = .ok (.invokevirtual 269, 3) := dk_182 1 13 (dk_at dksX0_keepIt_3 0 rfl rfl)
theorem dX0_keepIt_72 : decode cX0_keepIt 72 = .ok (.if_icmp .le 6, 3) := dk_164 0 6 (dk_at dksX0_keepIt_3 3 rfl rfl)
theorem dX0_keepIt_75 : decode cX0_keepIt 75 = .ok (.iload 4, 2) := dk_21 4 (dk_at dksX0_keepIt_3 6 rfl rfl)
theorem dX0_keepIt_77 : decode cX0_keepIt 77 = .ok (.istore_n 3, 1) := dk_62 (dk_at dksX0_keepIt_3 8 rfl rfl)
theorem dX0_keepIt_78 : decode cX0_keepIt 78 = .ok (.iinc 4 1, 3) := dk_132 4 1 (dk_at dksX0_keepIt_3 9 rfl rfl)
theorem dX0_keepIt_81 : decode cX0_keepIt 81 = .ok (.goto (-28), 3) := dk_167 255 228 (dk_at dksX0_keepIt_3 12 rfl rfl)
theorem dX0_keepIt_84 : decode cX0_keepIt 84 = .ok (.iload_n 3, 1) := dk_29 (dk_at dksX0_keepIt_3 15 rfl rfl)
theorem dX0_keepIt_85 : decode cX0_keepIt 85 = .ok (.ireturn, 1) := dk_172 (dk_at dksX0_keepIt_3 16 rfl rfl)
abbrev cX0_hadBy : ByteArray := prog_1_method_52_code
def yX0_hadBy : MethodName := ⟨RX0, "hadBy", "(II)I"⟩
def dkwX0_hadBy_2 : List UInt8 := [182, 0, 229, 184, 0, 7, 62, 132, 4, 1, 167, 255, 205, 2, 172]
abbrev dktX0_hadBy_2 : List UInt8 := dkwX0_hadBy_2 ++ []
def dkwX0_hadBy_1 : List UInt8 := [163, 0, 11, 21, 4, 27, 4, 100, 160, 0, 10, 42, 21, 4, 182, 0, 229, 172, 29, 42, 21, 4]
abbrev dktX0_hadBy_1 : List UInt8 := dkwX0_hadBy_1 ++ dktX0_hadBy_2
def dkwX0_hadBy_0 : List UInt8 := [2, 62, 3, 54, 4, 21, 4, 27, 162, 0, 51, 21, 4, 28, 161, 0, 13, 42, 21, 4, 182, 0, 229, 29]
abbrev dktX0_hadBy_0 : List UInt8 := dkwX0_hadBy_0 ++ dktX0_hadBy_1
theorem dksX0_hadBy_0 : cX0_hadBy.data.toList.drop 0 = dktX0_hadBy_0 := by decide +kernel
theorem dksX0_hadBy_1 : cX0_hadBy.data.toList.drop 24 = dktX0_hadBy_1 := dk_seg dksX0_hadBy_0 24 rfl rfl
theorem dksX0_hadBy_2 : cX0_hadBy.data.toList.drop 46 = dktX0_hadBy_2 := dk_seg dksX0_hadBy_1 22 rfl rfl
theorem dX0_hadBy_0 : decode cX0_hadBy 0 = .ok (.iconst (-1), 1) := dk_2 (dk_at dksX0_hadBy_0 0 rfl rfl)
theorem dX0_hadBy_1 : decode cX0_hadBy 1 = .ok (.istore_n 3, 1) := dk_62 (dk_at dksX0_hadBy_0 1 rfl rfl)
theorem dX0_hadBy_2 : decode cX0_hadBy 2 = .ok (.iconst 0, 1) := dk_3 (dk_at dksX0_hadBy_0 2 rfl rfl)
theorem dX0_hadBy_3 : decode cX0_hadBy 3 = .ok (.istore 4, 2) := dk_54 4 (dk_at dksX0_hadBy_0 3 rfl rfl)
theorem dX0_hadBy_5 : decode cX0_hadBy 5 = .ok (.iload 4, 2) := dk_21 4 (dk_at dksX0_hadBy_0 5 rfl rfl)
theorem dX0_hadBy_7 : decode cX0_hadBy 7 = .ok (.iload_n 1, 1) := dk_27 (dk_at dksX0_hadBy_0 7 rfl rfl)
theorem dX0_hadBy_8 : decode cX0_hadBy 8 = .ok (.if_icmp .ge 51, 3) := dk_162 0 51 (dk_at dksX0_hadBy_0 8 rfl rfl)
theorem dX0_hadBy_11 : decode cX0_hadBy 11 = .ok (.iload 4, 2) := dk_21 4 (dk_at dksX0_hadBy_0 11 rfl rfl)
theorem dX0_hadBy_13 : decode cX0_hadBy 13 = .ok (.iload_n 2, 1) := dk_28 (dk_at dksX0_hadBy_0 13 rfl rfl)
theorem dX0_hadBy_14 : decode cX0_hadBy 14 = .ok (.if_icmp .lt 13, 3) := dk_161 0 13 (dk_at dksX0_hadBy_0 14 rfl rfl)
theorem dX0_hadBy_17 : decode cX0_hadBy 17 = .ok (.aload_n 0, 1) := dk_42 (dk_at dksX0_hadBy_0 17 rfl rfl)
theorem dX0_hadBy_18 : decode cX0_hadBy 18 = .ok (.iload 4, 2) := dk_21 4 (dk_at dksX0_hadBy_0 18 rfl rfl)
theorem dX0_hadBy_20 : decode cX0_hadBy 20 = .ok (.invokevirtual 229, 3) := dk_182 0 229 (dk_at dksX0_hadBy_0 20 rfl rfl)
theorem dX0_hadBy_23 : decode cX0_hadBy 23 = .ok (.iload_n 3, 1) := dk_29 (dk_at dksX0_hadBy_0 23 rfl rfl)
theorem dX0_hadBy_24 : decode cX0_hadBy 24 = .ok (.if_icmp .gt 11, 3) := dk_163 0 11 (dk_at dksX0_hadBy_1 0 rfl rfl)
theorem dX0_hadBy_27 : decode cX0_hadBy 27 = .ok (.iload 4, 2) := dk_21 4 (dk_at dksX0_hadBy_1 3 rfl rfl)
theorem dX0_hadBy_29 : decode cX0_hadBy 29 = .ok (.iload_n 1, 1) := dk_27 (dk_at dksX0_hadBy_1 5 rfl rfl)
theorem dX0_hadBy_30 : decode cX0_hadBy 30 = .ok (.iconst 1, 1) := dk_4 (dk_at dksX0_hadBy_1 6 rfl rfl)
theorem dX0_hadBy_31 : decode cX0_hadBy 31 = .ok (.isub, 1) := dk_100 (dk_at dksX0_hadBy_1 7 rfl rfl)
theorem dX0_hadBy_32 : decode cX0_hadBy 32 = .ok (.if_icmp .ne 10, 3) := dk_160 0 10 (dk_at dksX0_hadBy_1 8 rfl rfl)
theorem dX0_hadBy_35 : decode cX0_hadBy 35 = .ok (.aload_n 0, 1) := dk_42 (dk_at dksX0_hadBy_1 11 rfl rfl)
theorem dX0_hadBy_36 : decode cX0_hadBy 36 = .ok (.iload 4, 2) := dk_21 4 (dk_at dksX0_hadBy_1 12 rfl rfl)
theorem dX0_hadBy_38 : decode cX0_hadBy 38 = .ok (.invokevirtual 229, 3) := dk_182 0 229 (dk_at dksX0_hadBy_1 14 rfl rfl)
theorem dX0_hadBy_41 : decode cX0_hadBy 41 = .ok (.ireturn, 1) := dk_172 (dk_at dksX0_hadBy_1 17 rfl rfl)
theorem dX0_hadBy_42 : decode cX0_hadBy 42 = .ok (.iload_n 3, 1) := dk_29 (dk_at dksX0_hadBy_1 18 rfl rfl)
theorem dX0_hadBy_43 : decode cX0_hadBy 43 = .ok (.aload_n 0, 1) := dk_42 (dk_at dksX0_hadBy_1 19 rfl rfl)
theorem dX0_hadBy_44 : decode cX0_hadBy 44 = .ok (.iload 4, 2) := dk_21 4 (dk_at dksX0_hadBy_1 20 rfl rfl)
theorem dX0_hadBy_46 : decode cX0_hadBy 46 = .ok (.invokevirtual 229, 3) := dk_182 0 229 (dk_at dksX0_hadBy_2 0 rfl rfl)
theorem dX0_hadBy_49 : decode cX0_hadBy 49 = .ok (.invokestatic 7, 3) := dk_184 0 7 (dk_at dksX0_hadBy_2 3 rfl rfl)
theorem dX0_hadBy_52 : decode cX0_hadBy 52 = .ok (.istore_n 3, 1) := dk_62 (dk_at dksX0_hadBy_2 6 rfl rfl)
theorem dX0_hadBy_53 : decode cX0_hadBy 53 = .ok (.iinc 4 1, 3) := dk_132 4 1 (dk_at dksX0_hadBy_2 7 rfl rfl)
theorem dX0_hadBy_56 : decode cX0_hadBy 56 = .ok (.goto (-51), 3) := dk_167 255 205 (dk_at dksX0_hadBy_2 10 rfl rfl)
theorem dX0_hadBy_59 : decode cX0_hadBy 59 = .ok (.iconst (-1), 1) := dk_2 (dk_at dksX0_hadBy_2 13 rfl rfl)
theorem dX0_hadBy_60 : decode cX0_hadBy 60 = .ok (.ireturn, 1) := dk_172 (dk_at dksX0_hadBy_2 14 rfl rfl)
abbrev cX0_seed : ByteArray := prog_1_method_54_code
def yX0_seed : MethodName := ⟨RX0, "seed", "(I)Z"⟩
def dkwX0_seed_0 : List UInt8 := [27, 18, 244, 184, 0, 96, 154, 0, 5, 3, 172, 42, 180, 0, 41, 27, 181, 0, 92, 4, 172]
abbrev dktX0_seed_0 : List UInt8 := dkwX0_seed_0 ++ []
theorem dksX0_seed_0 : cX0_seed.data.toList.drop 0 = dktX0_seed_0 := by decide +kernel
theorem dX0_seed_0 : decode cX0_seed 0 = .ok (.iload_n 1, 1) := dk_27 (dk_at dksX0_seed_0 0 rfl rfl)
theorem dX0_seed_1 : decode cX0_seed 1 = .ok (.ldc 244, 2) := dk_18 244 (dk_at dksX0_seed_0 1 rfl rfl)
theorem dX0_seed_3 : decode cX0_seed 3 = .ok (.invokestatic 96, 3) := dk_184 0 96 (dk_at dksX0_seed_0 3 rfl rfl)
theorem dX0_seed_6 : decode cX0_seed 6 = .ok (.ifCond .ne 5, 3) := dk_154 0 5 (dk_at dksX0_seed_0 6 rfl rfl)
theorem dX0_seed_9 : decode cX0_seed 9 = .ok (.iconst 0, 1) := dk_3 (dk_at dksX0_seed_0 9 rfl rfl)
theorem dX0_seed_10 : decode cX0_seed 10 = .ok (.ireturn, 1) := dk_172 (dk_at dksX0_seed_0 10 rfl rfl)
theorem dX0_seed_11 : decode cX0_seed 11 = .ok (.aload_n 0, 1) := dk_42 (dk_at dksX0_seed_0 11 rfl rfl)
theorem dX0_seed_12 : decode cX0_seed 12 = .ok (.getfield 41, 3) := dk_180 0 41 (dk_at dksX0_seed_0 12 rfl rfl)
theorem dX0_seed_15 : decode cX0_seed 15 = .ok (.iload_n 1, 1) := dk_27 (dk_at dksX0_seed_0 15 rfl rfl)
theorem dX0_seed_16 : decode cX0_seed 16 = .ok (.putfield 92, 3) := dk_181 0 92 (dk_at dksX0_seed_0 16 rfl rfl)
theorem dX0_seed_19 : decode cX0_seed 19 = .ok (.iconst 1, 1) := dk_4 (dk_at dksX0_seed_0 19 rfl rfl)
theorem dX0_seed_20 : decode cX0_seed 20 = .ok (.ireturn, 1) := dk_172 (dk_at dksX0_seed_0 20 rfl rfl)
abbrev cX0_keep : ByteArray := prog_1_method_55_code
def yX0_keep : MethodName := ⟨RX0, "keep", "()I"⟩
def dkwX0_keep_1 : List UInt8 := [172]
abbrev dktX0_keep_1 : List UInt8 := dkwX0_keep_1 ++ []
def dkwX0_keep_0 : List UInt8 := [42, 4, 181, 1, 16, 42, 180, 0, 48, 42, 180, 0, 41, 182, 0, 158, 87, 42, 180, 0, 41, 180, 1, 20]
abbrev dktX0_keep_0 : List UInt8 := dkwX0_keep_0 ++ dktX0_keep_1
theorem dksX0_keep_0 : cX0_keep.data.toList.drop 0 = dktX0_keep_0 := by decide +kernel
theorem dksX0_keep_1 : cX0_keep.data.toList.drop 24 = dktX0_keep_1 := dk_seg dksX0_keep_0 24 rfl rfl
theorem dX0_keep_0 : decode cX0_keep 0 = .ok (.aload_n 0, 1) := dk_42 (dk_at dksX0_keep_0 0 rfl rfl)
theorem dX0_keep_1 : decode cX0_keep 1 = .ok (.iconst 1, 1) := dk_4 (dk_at dksX0_keep_0 1 rfl rfl)
theorem dX0_keep_2 : decode cX0_keep 2 = .ok (.putfield 272, 3) := dk_181 1 16 (dk_at dksX0_keep_0 2 rfl rfl)
theorem dX0_keep_5 : decode cX0_keep 5 = .ok (.aload_n 0, 1) := dk_42 (dk_at dksX0_keep_0 5 rfl rfl)
theorem dX0_keep_6 : decode cX0_keep 6 = .ok (.getfield 48, 3) := dk_180 0 48 (dk_at dksX0_keep_0 6 rfl rfl)
theorem dX0_keep_9 : decode cX0_keep 9 = .ok (.aload_n 0, 1) := dk_42 (dk_at dksX0_keep_0 9 rfl rfl)
theorem dX0_keep_10 : decode cX0_keep 10 = .ok (.getfield 41, 3) := dk_180 0 41 (dk_at dksX0_keep_0 10 rfl rfl)
theorem dX0_keep_13 : decode cX0_keep 13 = .ok (.invokevirtual 158, 3) := dk_182 0 158 (dk_at dksX0_keep_0 13 rfl rfl)
theorem dX0_keep_16 : decode cX0_keep 16 = .ok (.pop, 1) := dk_87 (dk_at dksX0_keep_0 16 rfl rfl)
theorem dX0_keep_17 : decode cX0_keep 17 = .ok (.aload_n 0, 1) := dk_42 (dk_at dksX0_keep_0 17 rfl rfl)
theorem dX0_keep_18 : decode cX0_keep 18 = .ok (.getfield 41, 3) := dk_180 0 41 (dk_at dksX0_keep_0 18 rfl rfl)
theorem dX0_keep_21 : decode cX0_keep 21 = .ok (.getfield 276, 3) := dk_180 1 20 (dk_at dksX0_keep_0 21 rfl rfl)
theorem dX0_keep_24 : decode cX0_keep 24 = .ok (.ireturn, 1) := dk_172 (dk_at dksX0_keep_1 0 rfl rfl)
abbrev cX0_undo : ByteArray := prog_1_method_56_code
def yX0_undo : MethodName := ⟨RX0, "undo", "()Z"⟩
def dkwX0_undo_0 : List UInt8 := [42, 180, 1, 16, 154, 0, 5, 3, 172, 42, 180, 0, 41, 42, 180, 0, 48, 182, 1, 23, 4, 172]
abbrev dktX0_undo_0 : List UInt8 := dkwX0_undo_0 ++ []
theorem dksX0_undo_0 : cX0_undo.data.toList.drop 0 = dktX0_undo_0 := by decide +kernel
theorem dX0_undo_0 : decode cX0_undo 0 = .ok (.aload_n 0, 1) := dk_42 (dk_at dksX0_undo_0 0 rfl rfl)
theorem dX0_undo_1 : decode cX0_undo 1 = .ok (.getfield 272, 3) := dk_180 1 16 (dk_at dksX0_undo_0 1 rfl rfl)
theorem dX0_undo_4 : decode cX0_undo 4 = .ok (.ifCond .ne 5, 3) := dk_154 0 5 (dk_at dksX0_undo_0 4 rfl rfl)
theorem dX0_undo_7 : decode cX0_undo 7 = .ok (.iconst 0, 1) := dk_3 (dk_at dksX0_undo_0 7 rfl rfl)
theorem dX0_undo_8 : decode cX0_undo 8 = .ok (.ireturn, 1) := dk_172 (dk_at dksX0_undo_0 8 rfl rfl)
theorem dX0_undo_9 : decode cX0_undo 9 = .ok (.aload_n 0, 1) := dk_42 (dk_at dksX0_undo_0 9 rfl rfl)
theorem dX0_undo_10 : decode cX0_undo 10 = .ok (.getfield 41, 3) := dk_180 0 41 (dk_at dksX0_undo_0 10 rfl rfl)
theorem dX0_undo_13 : decode cX0_undo 13 = .ok (.aload_n 0, 1) := dk_42 (dk_at dksX0_undo_0 13 rfl rfl)
theorem dX0_undo_14 : decode cX0_undo 14 = .ok (.getfield 48, 3) := dk_180 0 48 (dk_at dksX0_undo_0 14 rfl rfl)
theorem dX0_undo_17 : decode cX0_undo 17 = .ok (.invokevirtual 279, 3) := dk_182 1 23 (dk_at dksX0_undo_0 17 rfl rfl)
theorem dX0_undo_20 : decode cX0_undo 20 = .ok (.iconst 1, 1) := dk_4 (dk_at dksX0_undo_0 20 rfl rfl)
theorem dX0_undo_21 : decode cX0_undo 21 = .ok (.ireturn, 1) := dk_172 (dk_at dksX0_undo_0 21 rfl rfl)
abbrev cX0_check : ByteArray := prog_1_method_57_code
def yX0_check : MethodName := ⟨RX0, "check", "(I)I"⟩
def dkwX0_check_3 : List UInt8 := [159, 0, 5, 28, 172, 132, 2, 1, 167, 255, 208, 2, 172]
abbrev dktX0_check_3 : List UInt8 := dkwX0_check_3 ++ []
def dkwX0_check_2 : List UInt8 := [153, 0, 19, 42, 180, 0, 41, 180, 0, 174, 28, 46, 17, 0, 255, 126, 167, 0, 6, 17, 0, 255]
abbrev dktX0_check_2 : List UInt8 := dkwX0_check_2 ++ dktX0_check_3
def dkwX0_check_1 : List UInt8 := [181, 0, 107, 3, 61, 28, 27, 162, 0, 49, 42, 28, 182, 0, 229, 42, 180, 0, 21, 28, 182, 0, 104]
abbrev dktX0_check_1 : List UInt8 := dkwX0_check_1 ++ dktX0_check_2
def dkwX0_check_0 : List UInt8 := [27, 3, 16, 16, 184, 0, 114, 153, 0, 11, 27, 42, 180, 0, 107, 164, 0, 6, 16, 254, 172, 42, 3]
abbrev dktX0_check_0 : List UInt8 := dkwX0_check_0 ++ dktX0_check_1
theorem dksX0_check_0 : cX0_check.data.toList.drop 0 = dktX0_check_0 := by decide +kernel
theorem dksX0_check_1 : cX0_check.data.toList.drop 23 = dktX0_check_1 := dk_seg dksX0_check_0 23 rfl rfl
theorem dksX0_check_2 : cX0_check.data.toList.drop 46 = dktX0_check_2 := dk_seg dksX0_check_1 23 rfl rfl
theorem dksX0_check_3 : cX0_check.data.toList.drop 68 = dktX0_check_3 := dk_seg dksX0_check_2 22 rfl rfl
theorem dX0_check_0 : decode cX0_check 0 = .ok (.iload_n 1, 1) := dk_27 (dk_at dksX0_check_0 0 rfl rfl)
theorem dX0_check_1 : decode cX0_check 1 = .ok (.iconst 0, 1) := dk_3 (dk_at dksX0_check_0 1 rfl rfl)
theorem dX0_check_2 : decode cX0_check 2 = .ok (.bipush 16, 2) := dk_16 16 (dk_at dksX0_check_0 2 rfl rfl)
theorem dX0_check_4 : decode cX0_check 4 = .ok (.invokestatic 114, 3) := dk_184 0 114 (dk_at dksX0_check_0 4 rfl rfl)
theorem dX0_check_7 : decode cX0_check 7 = .ok (.ifCond .eq 11, 3) := dk_153 0 11 (dk_at dksX0_check_0 7 rfl rfl)
theorem dX0_check_10 : decode cX0_check 10 = .ok (.iload_n 1, 1) := dk_27 (dk_at dksX0_check_0 10 rfl rfl)
theorem dX0_check_11 : decode cX0_check 11 = .ok (.aload_n 0, 1) := dk_42 (dk_at dksX0_check_0 11 rfl rfl)
theorem dX0_check_12 : decode cX0_check 12 = .ok (.getfield 107, 3) := dk_180 0 107 (dk_at dksX0_check_0 12 rfl rfl)
theorem dX0_check_15 : decode cX0_check 15 = .ok (.if_icmp .le 6, 3) := dk_164 0 6 (dk_at dksX0_check_0 15 rfl rfl)
theorem dX0_check_18 : decode cX0_check 18 = .ok (.bipush (-2), 2) := dk_16 254 (dk_at dksX0_check_0 18 rfl rfl)
theorem dX0_check_20 : decode cX0_check 20 = .ok (.ireturn, 1) := dk_172 (dk_at dksX0_check_0 20 rfl rfl)
theorem dX0_check_21 : decode cX0_check 21 = .ok (.aload_n 0, 1) := dk_42 (dk_at dksX0_check_0 21 rfl rfl)
theorem dX0_check_22 : decode cX0_check 22 = .ok (.iconst 0, 1) := dk_3 (dk_at dksX0_check_0 22 rfl rfl)
theorem dX0_check_23 : decode cX0_check 23 = .ok (.putfield 107, 3) := dk_181 0 107 (dk_at dksX0_check_1 0 rfl rfl)
theorem dX0_check_26 : decode cX0_check 26 = .ok (.iconst 0, 1) := dk_3 (dk_at dksX0_check_1 3 rfl rfl)
theorem dX0_check_27 : decode cX0_check 27 = .ok (.istore_n 2, 1) := dk_61 (dk_at dksX0_check_1 4 rfl rfl)
theorem dX0_check_28 : decode cX0_check 28 = .ok (.iload_n 2, 1) := dk_28 (dk_at dksX0_check_1 5 rfl rfl)
theorem dX0_check_29 : decode cX0_check 29 = .ok (.iload_n 1, 1) := dk_27 (dk_at dksX0_check_1 6 rfl rfl)
theorem dX0_check_30 : decode cX0_check 30 = .ok (.if_icmp .ge 49, 3) := dk_162 0 49 (dk_at dksX0_check_1 7 rfl rfl)
theorem dX0_check_33 : decode cX0_check 33 = .ok (.aload_n 0, 1) := dk_42 (dk_at dksX0_check_1 10 rfl rfl)
theorem dX0_check_34 : decode cX0_check 34 = .ok (.iload_n 2, 1) := dk_28 (dk_at dksX0_check_1 11 rfl rfl)
theorem dX0_check_35 : decode cX0_check 35 = .ok (.invokevirtual 229, 3) := dk_182 0 229 (dk_at dksX0_check_1 12 rfl rfl)
theorem dX0_check_38 : decode cX0_check 38 = .ok (.aload_n 0, 1) := dk_42 (dk_at dksX0_check_1 15 rfl rfl)
theorem dX0_check_39 : decode cX0_check 39 = .ok (.getfield 21, 3) := dk_180 0 21 (dk_at dksX0_check_1 16 rfl rfl)
theorem dX0_check_42 : decode cX0_check 42 = .ok (.iload_n 2, 1) := dk_28 (dk_at dksX0_check_1 19 rfl rfl)
theorem dX0_check_43 : decode cX0_check 43 = .ok (.invokevirtual 104, 3) := dk_182 0 104 (dk_at dksX0_check_1 20 rfl rfl)
theorem dX0_check_46 : decode cX0_check 46 = .ok (.ifCond .eq 19, 3) := dk_153 0 19 (dk_at dksX0_check_2 0 rfl rfl)
theorem dX0_check_49 : decode cX0_check 49 = .ok (.aload_n 0, 1) := dk_42 (dk_at dksX0_check_2 3 rfl rfl)
theorem dX0_check_50 : decode cX0_check 50 = .ok (.getfield 41, 3) := dk_180 0 41 (dk_at dksX0_check_2 4 rfl rfl)
theorem dX0_check_53 : decode cX0_check 53 = .ok (.getfield 174, 3) := dk_180 0 174 (dk_at dksX0_check_2 7 rfl rfl)
theorem dX0_check_56 : decode cX0_check 56 = .ok (.iload_n 2, 1) := dk_28 (dk_at dksX0_check_2 10 rfl rfl)
theorem dX0_check_57 : decode cX0_check 57 = .ok (.iaload, 1) := dk_46 (dk_at dksX0_check_2 11 rfl rfl)
theorem dX0_check_58 : decode cX0_check 58 = .ok (.sipush 255, 3) := dk_17 0 255 (dk_at dksX0_check_2 12 rfl rfl)
theorem dX0_check_61 : decode cX0_check 61 = .ok (.iand, 1) := dk_126 (dk_at dksX0_check_2 15 rfl rfl)
theorem dX0_check_62 : decode cX0_check 62 = .ok (.goto 6, 3) := dk_167 0 6 (dk_at dksX0_check_2 16 rfl rfl)
theorem dX0_check_65 : decode cX0_check 65 = .ok (.sipush 255, 3) := dk_17 0 255 (dk_at dksX0_check_2 19 rfl rfl)
theorem dX0_check_68 : decode cX0_check 68 = .ok (.if_icmp .eq 5, 3) := dk_159 0 5 (dk_at dksX0_check_3 0 rfl rfl)
theorem dX0_check_71 : decode cX0_check 71 = .ok (.iload_n 2, 1) := dk_28 (dk_at dksX0_check_3 3 rfl rfl)
theorem dX0_check_72 : decode cX0_check 72 = .ok (.ireturn, 1) := dk_172 (dk_at dksX0_check_3 4 rfl rfl)
theorem dX0_check_73 : decode cX0_check 73 = .ok (.iinc 2 1, 3) := dk_132 2 1 (dk_at dksX0_check_3 5 rfl rfl)
theorem dX0_check_76 : decode cX0_check 76 = .ok (.goto (-48), 3) := dk_167 255 208 (dk_at dksX0_check_3 8 rfl rfl)
theorem dX0_check_79 : decode cX0_check 79 = .ok (.iconst (-1), 1) := dk_2 (dk_at dksX0_check_3 11 rfl rfl)
theorem dX0_check_80 : decode cX0_check 80 = .ok (.ireturn, 1) := dk_172 (dk_at dksX0_check_3 12 rfl rfl)
abbrev cX0_count : ByteArray := prog_1_method_58_code
def yX0_count : MethodName := ⟨RX0, "count", "(I)I"⟩
def dkwX0_count_6 : List UInt8 := [182, 0, 183, 100, 172, 2, 172]
abbrev dktX0_count_6 : List UInt8 := dkwX0_count_6 ++ []
def dkwX0_count_5 : List UInt8 := [172, 42, 180, 0, 41, 182, 0, 171, 172, 42, 180, 0, 41, 180, 0, 168, 184, 0, 218, 172, 16, 12, 42, 2]
abbrev dktX0_count_5 : List UInt8 := dkwX0_count_5 ++ dktX0_count_6
def dkwX0_count_4 : List UInt8 := [180, 1, 30, 172, 42, 180, 0, 58, 180, 1, 33, 172, 42, 180, 0, 107, 172, 42, 180, 0, 41, 180, 0, 92]
abbrev dktX0_count_4 : List UInt8 := dkwX0_count_4 ++ dktX0_count_5
def dkwX0_count_3 : List UInt8 := [42, 180, 0, 41, 180, 0, 161, 184, 0, 164, 172, 42, 180, 0, 41, 180, 0, 168, 172, 42, 180, 0, 41]
abbrev dktX0_count_3 : List UInt8 := dkwX0_count_3 ++ dktX0_count_4
def dkwX0_count_2 : List UInt8 := [42, 180, 0, 41, 180, 1, 20, 172, 42, 180, 0, 21, 180, 0, 212, 172, 42, 180, 0, 21, 180, 1, 27, 172]
abbrev dktX0_count_2 : List UInt8 := dkwX0_count_2 ++ dktX0_count_3
def dkwX0_count_1 : List UInt8 := [170, 0, 0, 0, 0, 0, 163, 0, 0, 0, 0, 0, 0, 0, 11, 0, 0, 0, 63, 0, 0, 0, 71, 0, 0, 0, 79, 0, 0, 0, 87, 0, 0, 0, 98, 0, 0, 0, 106, 0, 0, 0, 114, 0, 0, 0, 122, 0, 0, 0, 127, 0, 0, 0, 135, 0, 0, 0, 143, 0, 0, 0, 154]
abbrev dktX0_count_1 : List UInt8 := dkwX0_count_1 ++ dktX0_count_2
def dkwX0_count_0 : List UInt8 := [27]
abbrev dktX0_count_0 : List UInt8 := dkwX0_count_0 ++ dktX0_count_1
theorem dksX0_count_0 : cX0_count.data.toList.drop 0 = dktX0_count_0 := by decide +kernel
theorem dksX0_count_1 : cX0_count.data.toList.drop 1 = dktX0_count_1 := dk_seg dksX0_count_0 1 rfl rfl
theorem dksX0_count_2 : cX0_count.data.toList.drop 64 = dktX0_count_2 := dk_seg dksX0_count_1 63 rfl rfl
theorem dksX0_count_3 : cX0_count.data.toList.drop 88 = dktX0_count_3 := dk_seg dksX0_count_2 24 rfl rfl
theorem dksX0_count_4 : cX0_count.data.toList.drop 111 = dktX0_count_4 := dk_seg dksX0_count_3 23 rfl rfl
theorem dksX0_count_5 : cX0_count.data.toList.drop 135 = dktX0_count_5 := dk_seg dksX0_count_4 24 rfl rfl
theorem dksX0_count_6 : cX0_count.data.toList.drop 159 = dktX0_count_6 := dk_seg dksX0_count_5 24 rfl rfl
theorem dX0_count_0 : decode cX0_count 0 = .ok (.iload_n 1, 1) := dk_27 (dk_at dksX0_count_0 0 rfl rfl)
theorem dX0_count_1 : decode cX0_count 1 = .ok (.tableswitch 163 0 11 #[63, 71, 79, 87, 98, 106, 114, 122, 127, 135, 143, 154], 63) := by decide +kernel
theorem dX0_count_64 : decode cX0_count 64 = .ok (.aload_n 0, 1) := dk_42 (dk_at dksX0_count_2 0 rfl rfl)
theorem dX0_count_65 : decode cX0_count 65 = .ok (.getfield 41, 3) := dk_180 0 41 (dk_at dksX0_count_2 1 rfl rfl)
theorem dX0_count_68 : decode cX0_count 68 = .ok (.getfield 276, 3) := dk_180 1 20 (dk_at dksX0_count_2 4 rfl rfl)
theorem dX0_count_71 : decode cX0_count 71 = .ok (.ireturn, 1) := dk_172 (dk_at dksX0_count_2 7 rfl rfl)
theorem dX0_count_72 : decode cX0_count 72 = .ok (.aload_n 0, 1) := dk_42 (dk_at dksX0_count_2 8 rfl rfl)
theorem dX0_count_73 : decode cX0_count 73 = .ok (.getfield 21, 3) := dk_180 0 21 (dk_at dksX0_count_2 9 rfl rfl)
theorem dX0_count_76 : decode cX0_count 76 = .ok (.getfield 212, 3) := dk_180 0 212 (dk_at dksX0_count_2 12 rfl rfl)
theorem dX0_count_79 : decode cX0_count 79 = .ok (.ireturn, 1) := dk_172 (dk_at dksX0_count_2 15 rfl rfl)
theorem dX0_count_80 : decode cX0_count 80 = .ok (.aload_n 0, 1) := dk_42 (dk_at dksX0_count_2 16 rfl rfl)
theorem dX0_count_81 : decode cX0_count 81 = .ok (.getfield 21, 3) := dk_180 0 21 (dk_at dksX0_count_2 17 rfl rfl)
theorem dX0_count_84 : decode cX0_count 84 = .ok (.getfield 283, 3) := dk_180 1 27 (dk_at dksX0_count_2 20 rfl rfl)
theorem dX0_count_87 : decode cX0_count 87 = .ok (.ireturn, 1) := dk_172 (dk_at dksX0_count_2 23 rfl rfl)
theorem dX0_count_88 : decode cX0_count 88 = .ok (.aload_n 0, 1) := dk_42 (dk_at dksX0_count_3 0 rfl rfl)
theorem dX0_count_89 : decode cX0_count 89 = .ok (.getfield 41, 3) := dk_180 0 41 (dk_at dksX0_count_3 1 rfl rfl)
theorem dX0_count_92 : decode cX0_count 92 = .ok (.getfield 161, 3) := dk_180 0 161 (dk_at dksX0_count_3 4 rfl rfl)
theorem dX0_count_95 : decode cX0_count 95 = .ok (.invokestatic 164, 3) := dk_184 0 164 (dk_at dksX0_count_3 7 rfl rfl)
theorem dX0_count_98 : decode cX0_count 98 = .ok (.ireturn, 1) := dk_172 (dk_at dksX0_count_3 10 rfl rfl)
theorem dX0_count_99 : decode cX0_count 99 = .ok (.aload_n 0, 1) := dk_42 (dk_at dksX0_count_3 11 rfl rfl)
theorem dX0_count_100 : decode cX0_count 100 = .ok (.getfield 41, 3) := dk_180 0 41 (dk_at dksX0_count_3 12 rfl rfl)
theorem dX0_count_103 : decode cX0_count 103 = .ok (.getfield 168, 3) := dk_180 0 168 (dk_at dksX0_count_3 15 rfl rfl)
theorem dX0_count_106 : decode cX0_count 106 = .ok (.ireturn, 1) := dk_172 (dk_at dksX0_count_3 18 rfl rfl)
theorem dX0_count_107 : decode cX0_count 107 = .ok (.aload_n 0, 1) := dk_42 (dk_at dksX0_count_3 19 rfl rfl)
theorem dX0_count_108 : decode cX0_count 108 = .ok (.getfield 41, 3) := dk_180 0 41 (dk_at dksX0_count_3 20 rfl rfl)
theorem dX0_count_111 : decode cX0_count 111 = .ok (.getfield 286, 3) := dk_180 1 30 (dk_at dksX0_count_4 0 rfl rfl)
theorem dX0_count_114 : decode cX0_count 114 = .ok (.ireturn, 1) := dk_172 (dk_at dksX0_count_4 3 rfl rfl)
theorem dX0_count_115 : decode cX0_count 115 = .ok (.aload_n 0, 1) := dk_42 (dk_at dksX0_count_4 4 rfl rfl)
theorem dX0_count_116 : decode cX0_count 116 = .ok (.getfield 58, 3) := dk_180 0 58 (dk_at dksX0_count_4 5 rfl rfl)
theorem dX0_count_119 : decode cX0_count 119 = .ok (.getfield 289, 3) := dk_180 1 33 (dk_at dksX0_count_4 8 rfl rfl)
theorem dX0_count_122 : decode cX0_count 122 = .ok (.ireturn, 1) := dk_172 (dk_at dksX0_count_4 11 rfl rfl)
theorem dX0_count_123 : decode cX0_count 123 = .ok (.aload_n 0, 1) := dk_42 (dk_at dksX0_count_4 12 rfl rfl)
theorem dX0_count_124 : decode cX0_count 124 = .ok (.getfield 107, 3) := dk_180 0 107 (dk_at dksX0_count_4 13 rfl rfl)
theorem dX0_count_127 : decode cX0_count 127 = .ok (.ireturn, 1) := dk_172 (dk_at dksX0_count_4 16 rfl rfl)
theorem dX0_count_128 : decode cX0_count 128 = .ok (.aload_n 0, 1) := dk_42 (dk_at dksX0_count_4 17 rfl rfl)
theorem dX0_count_129 : decode cX0_count 129 = .ok (.getfield 41, 3) := dk_180 0 41 (dk_at dksX0_count_4 18 rfl rfl)
theorem dX0_count_132 : decode cX0_count 132 = .ok (.getfield 92, 3) := dk_180 0 92 (dk_at dksX0_count_4 21 rfl rfl)
theorem dX0_count_135 : decode cX0_count 135 = .ok (.ireturn, 1) := dk_172 (dk_at dksX0_count_5 0 rfl rfl)
theorem dX0_count_136 : decode cX0_count 136 = .ok (.aload_n 0, 1) := dk_42 (dk_at dksX0_count_5 1 rfl rfl)
theorem dX0_count_137 : decode cX0_count 137 = .ok (.getfield 41, 3) := dk_180 0 41 (dk_at dksX0_count_5 2 rfl rfl)
theorem dX0_count_140 : decode cX0_count 140 = .ok (.invokevirtual 171, 3) := dk_182 0 171 (dk_at dksX0_count_5 5 rfl rfl)
theorem dX0_count_143 : decode cX0_count 143 = .ok (.ireturn, 1) := dk_172 (dk_at dksX0_count_5 8 rfl rfl)
theorem dX0_count_144 : decode cX0_count 144 = .ok (.aload_n 0, 1) := dk_42 (dk_at dksX0_count_5 9 rfl rfl)
theorem dX0_count_145 : decode cX0_count 145 = .ok (.getfield 41, 3) := dk_180 0 41 (dk_at dksX0_count_5 10 rfl rfl)
theorem dX0_count_148 : decode cX0_count 148 = .ok (.getfield 168, 3) := dk_180 0 168 (dk_at dksX0_count_5 13 rfl rfl)
theorem dX0_count_151 : decode cX0_count 151 = .ok (.invokestatic 218, 3) := dk_184 0 218 (dk_at dksX0_count_5 16 rfl rfl)
theorem dX0_count_154 : decode cX0_count 154 = .ok (.ireturn, 1) := dk_172 (dk_at dksX0_count_5 19 rfl rfl)
theorem dX0_count_155 : decode cX0_count 155 = .ok (.bipush 12, 2) := dk_16 12 (dk_at dksX0_count_5 20 rfl rfl)
theorem dX0_count_157 : decode cX0_count 157 = .ok (.aload_n 0, 1) := dk_42 (dk_at dksX0_count_5 22 rfl rfl)
theorem dX0_count_158 : decode cX0_count 158 = .ok (.iconst (-1), 1) := dk_2 (dk_at dksX0_count_5 23 rfl rfl)
theorem dX0_count_159 : decode cX0_count 159 = .ok (.invokevirtual 183, 3) := dk_182 0 183 (dk_at dksX0_count_6 0 rfl rfl)
theorem dX0_count_162 : decode cX0_count 162 = .ok (.isub, 1) := dk_100 (dk_at dksX0_count_6 3 rfl rfl)
theorem dX0_count_163 : decode cX0_count 163 = .ok (.ireturn, 1) := dk_172 (dk_at dksX0_count_6 4 rfl rfl)
theorem dX0_count_164 : decode cX0_count 164 = .ok (.iconst (-1), 1) := dk_2 (dk_at dksX0_count_6 5 rfl rfl)
theorem dX0_count_165 : decode cX0_count 165 = .ok (.ireturn, 1) := dk_172 (dk_at dksX0_count_6 6 rfl rfl)
theorem q110 : (Jvm.Cond.initialized "SharedWindow") ∈ lw_all := lw_g (lw_at lw_m1 1 rfl) rfl
theorem q137 : (Jvm.Cond.instantiable "SharedWindow" (20 : Nat)) ∈ lw_all := lw_g (lw_at lw_m1 28 rfl) rfl
theorem q139 : (Jvm.Cond.instanceMethod ({ cls := "SharedWindow", name := "<init>", desc := "()V" } : Jvm.MethodName)) ∈ lw_all := lw_g (lw_at lw_m1 30 rfl) rfl
theorem q140 : (Jvm.Cond.code ({ cls := "SharedWindow", name := "<init>", desc := "()V" } : Jvm.MethodName) prog_1_method_6_code (2 : Nat) (Option.none : Option Jvm.ClassFile.FieldType)) ∈ lw_all := lw_g (lw_at lw_m1 31 rfl) rfl
theorem q141 : (Jvm.Cond.methodLink "SharedWindow" (12 : Nat) ({ cls := "java/lang/Object", name := "<init>", desc := "()V" } : Jvm.MethodName)) ∈ lw_all := lw_g (lw_at lw_m1 32 rfl) rfl
theorem q144 : (Jvm.Cond.classLink "SharedWindow" (18 : Nat) "SharedWindow$Plan") ∈ lw_all := lw_g (lw_at lw_m1 35 rfl) rfl
theorem q146 : (Jvm.Cond.methodLinkNest "SharedWindow" (20 : Nat) ({ cls := "SharedWindow$Plan", name := "<init>", desc := "()V" } : Jvm.MethodName) "SharedWindow") ∈ lw_tbl := lw_at lw_m1 37 rfl
theorem q152 : (Jvm.Cond.fieldLinkNest "SharedWindow" (180 : Nat) "SharedWindow$Plan" "facing" "[I" "SharedWindow") ∈ lw_tbl := lw_at lw_m1 43 rfl
theorem q161 : (Jvm.Cond.fieldLinkNest "SharedWindow" (212 : Nat) "SharedWindow$Plan" "houses" "I" "SharedWindow") ∈ lw_tbl := lw_at lw_m1 52 rfl
theorem q164 : (Jvm.Cond.fieldLinkNest "SharedWindow" (283 : Nat) "SharedWindow$Plan" "things" "I" "SharedWindow") ∈ lw_tbl := lw_at lw_m1 55 rfl
theorem q179 : (Jvm.Cond.classLink "SharedWindow" (29 : Nat) "SharedWindow$Moment") ∈ lw_all := lw_g (lw_at lw_m1 70 rfl) rfl
theorem q181 : (Jvm.Cond.methodLinkNest "SharedWindow" (31 : Nat) ({ cls := "SharedWindow$Moment", name := "<init>", desc := "()V" } : Jvm.MethodName) "SharedWindow") ∈ lw_tbl := lw_at lw_m1 72 rfl
theorem q221 : (Jvm.Cond.classLink "SharedWindow" (36 : Nat) "SharedWindow$Street") ∈ lw_all := lw_g (lw_at lw_m1 112 rfl) rfl
theorem q223 : (Jvm.Cond.methodLinkNest "SharedWindow" (38 : Nat) ({ cls := "SharedWindow$Street", name := "<init>", desc := "(LSharedWindow;)V" } : Jvm.MethodName) "SharedWindow") ∈ lw_tbl := lw_at lw_m1 114 rfl
theorem q228 : (Jvm.Cond.fieldLinkNest "SharedWindow" (174 : Nat) "SharedWindow$Street" "joy" "[I" "SharedWindow") ∈ lw_tbl := lw_at lw_m1 119 rfl
theorem q230 : (Jvm.Cond.fieldLinkNest "SharedWindow" (161 : Nat) "SharedWindow$Street" "window" "I" "SharedWindow") ∈ lw_tbl := lw_at lw_m1 121 rfl
theorem q232 : (Jvm.Cond.fieldLinkNest "SharedWindow" (168 : Nat) "SharedWindow$Street" "brings" "I" "SharedWindow") ∈ lw_tbl := lw_at lw_m1 123 rfl
theorem q234 : (Jvm.Cond.fieldLinkNest "SharedWindow" (286 : Nat) "SharedWindow$Street" "cracks" "I" "SharedWindow") ∈ lw_tbl := lw_at lw_m1 125 rfl
theorem q236 : (Jvm.Cond.fieldLinkNest "SharedWindow" (276 : Nat) "SharedWindow$Street" "day" "I" "SharedWindow") ∈ lw_tbl := lw_at lw_m1 127 rfl
theorem q238 : (Jvm.Cond.fieldLinkNest "SharedWindow" (92 : Nat) "SharedWindow$Street" "x" "I" "SharedWindow") ∈ lw_tbl := lw_at lw_m1 129 rfl
theorem q240 : (Jvm.Cond.fieldLinkNest "SharedWindow" (155 : Nat) "SharedWindow$Street" "cracksNow" "I" "SharedWindow") ∈ lw_tbl := lw_at lw_m1 131 rfl
theorem q259 : (Jvm.Cond.classLink "SharedWindow" (55 : Nat) "SharedWindow$Text") ∈ lw_all := lw_g (lw_at lw_m1 150 rfl) rfl
theorem q261 : (Jvm.Cond.methodLinkNest "SharedWindow" (57 : Nat) ({ cls := "SharedWindow$Text", name := "<init>", desc := "()V" } : Jvm.MethodName) "SharedWindow") ∈ lw_tbl := lw_at lw_m1 152 rfl
theorem q277 : (Jvm.Cond.fieldLinkNest "SharedWindow" (289 : Nat) "SharedWindow$Text" "many" "I" "SharedWindow") ∈ lw_tbl := lw_at lw_m1 168 rfl
theorem q288 : (Jvm.Cond.classLink "SharedWindow" (62 : Nat) "[[I") ∈ lw_all := lw_g (lw_at lw_m1 179 rfl) rfl
theorem q291 : (Jvm.Cond.fieldLink "SharedWindow" (21 : Nat) "SharedWindow" "plan" "LSharedWindow$Plan;") ∈ lw_all := lw_g (lw_at lw_m1 182 rfl) rfl
theorem q293 : (Jvm.Cond.fieldLink "SharedWindow" (25 : Nat) "SharedWindow" "whose" "[I") ∈ lw_all := lw_g (lw_at lw_m1 184 rfl) rfl
theorem q296 : (Jvm.Cond.fieldLink "SharedWindow" (32 : Nat) "SharedWindow" "moment" "LSharedWindow$Moment;") ∈ lw_all := lw_g (lw_at lw_m1 187 rfl) rfl
theorem q297 : (Jvm.Cond.fieldLink "SharedWindow" (41 : Nat) "SharedWindow" "street" "LSharedWindow$Street;") ∈ lw_all := lw_g (lw_at lw_m1 188 rfl) rfl
theorem q298 : (Jvm.Cond.fieldLink "SharedWindow" (45 : Nat) "SharedWindow" "then" "LSharedWindow$Street;") ∈ lw_all := lw_g (lw_at lw_m1 189 rfl) rfl
theorem q299 : (Jvm.Cond.fieldLink "SharedWindow" (48 : Nat) "SharedWindow" "kept" "LSharedWindow$Street;") ∈ lw_all := lw_g (lw_at lw_m1 190 rfl) rfl
theorem q302 : (Jvm.Cond.fieldLink "SharedWindow" (51 : Nat) "SharedWindow" "tape" "[B") ∈ lw_all := lw_g (lw_at lw_m1 193 rfl) rfl
theorem q303 : (Jvm.Cond.fieldLink "SharedWindow" (58 : Nat) "SharedWindow" "law" "LSharedWindow$Text;") ∈ lw_all := lw_g (lw_at lw_m1 194 rfl) rfl
theorem q305 : (Jvm.Cond.fieldLink "SharedWindow" (107 : Nat) "SharedWindow" "taped" "I") ∈ lw_all := lw_g (lw_at lw_m1 196 rfl) rfl
theorem q306 : (Jvm.Cond.fieldLink "SharedWindow" (272 : Nat) "SharedWindow" "isKept" "Z") ∈ lw_all := lw_g (lw_at lw_m1 197 rfl) rfl
theorem q307 : (Jvm.Cond.fieldLink "SharedWindow" (64 : Nat) "SharedWindow" "least" "[[I") ∈ lw_all := lw_g (lw_at lw_m1 198 rfl) rfl
theorem q308 : (Jvm.Cond.fieldLink "SharedWindow" (67 : Nat) "SharedWindow" "lowest" "[[I") ∈ lw_all := lw_g (lw_at lw_m1 199 rfl) rfl
theorem q309 : (Jvm.Cond.fieldLink "SharedWindow" (70 : Nat) "SharedWindow" "newLeast" "[[I") ∈ lw_all := lw_g (lw_at lw_m1 200 rfl) rfl
theorem q310 : (Jvm.Cond.fieldLink "SharedWindow" (73 : Nat) "SharedWindow" "newLowest" "[[I") ∈ lw_all := lw_g (lw_at lw_m1 201 rfl) rfl
theorem q311 : (Jvm.Cond.fieldLink "SharedWindow" (76 : Nat) "SharedWindow" "ever" "[I") ∈ lw_all := lw_g (lw_at lw_m1 202 rfl) rfl
theorem q312 : (Jvm.Cond.fieldLink "SharedWindow" (79 : Nat) "SharedWindow" "end" "[[I") ∈ lw_all := lw_g (lw_at lw_m1 203 rfl) rfl
theorem q313 : (Jvm.Cond.fieldLink "SharedWindow" (82 : Nat) "SharedWindow" "taken" "[I") ∈ lw_all := lw_g (lw_at lw_m1 204 rfl) rfl
theorem q314 : (Jvm.Cond.fieldLink "SharedWindow" (85 : Nat) "SharedWindow" "sold" "[I") ∈ lw_all := lw_g (lw_at lw_m1 205 rfl) rfl
theorem q315 : (Jvm.Cond.fieldLink "SharedWindow" (257 : Nat) "SharedWindow" "mostWorth" "I") ∈ lw_all := lw_g (lw_at lw_m1 206 rfl) rfl
theorem q316 : (Jvm.Cond.fieldLink "SharedWindow" (88 : Nat) "SharedWindow" "ways" "[J") ∈ lw_all := lw_g (lw_at lw_m1 207 rfl) rfl
theorem q317 : (Jvm.Cond.laysFinal "SharedWindow" "SharedWindow" "plan" "LSharedWindow$Plan;") ∈ lw_all := lw_g (lw_at lw_m1 208 rfl) rfl
theorem q318 : (Jvm.Cond.soleField "SharedWindow" "plan") ∈ lw_all := lw_g (lw_at lw_m1 209 rfl) rfl
theorem q319 : (Jvm.Cond.laysFinal "SharedWindow" "SharedWindow" "whose" "[I") ∈ lw_all := lw_g (lw_at lw_m1 210 rfl) rfl
theorem q320 : (Jvm.Cond.soleField "SharedWindow" "whose") ∈ lw_all := lw_g (lw_at lw_m1 211 rfl) rfl
theorem q321 : (Jvm.Cond.laysFinal "SharedWindow" "SharedWindow" "moment" "LSharedWindow$Moment;") ∈ lw_all := lw_g (lw_at lw_m1 212 rfl) rfl
theorem q322 : (Jvm.Cond.soleField "SharedWindow" "moment") ∈ lw_all := lw_g (lw_at lw_m1 213 rfl) rfl
theorem q323 : (Jvm.Cond.laysFinal "SharedWindow" "SharedWindow" "street" "LSharedWindow$Street;") ∈ lw_all := lw_g (lw_at lw_m1 214 rfl) rfl
theorem q324 : (Jvm.Cond.soleField "SharedWindow" "street") ∈ lw_all := lw_g (lw_at lw_m1 215 rfl) rfl
theorem q325 : (Jvm.Cond.laysFinal "SharedWindow" "SharedWindow" "then" "LSharedWindow$Street;") ∈ lw_all := lw_g (lw_at lw_m1 216 rfl) rfl
theorem q326 : (Jvm.Cond.soleField "SharedWindow" "then") ∈ lw_all := lw_g (lw_at lw_m1 217 rfl) rfl
theorem q327 : (Jvm.Cond.laysFinal "SharedWindow" "SharedWindow" "kept" "LSharedWindow$Street;") ∈ lw_all := lw_g (lw_at lw_m1 218 rfl) rfl
theorem q328 : (Jvm.Cond.soleField "SharedWindow" "kept") ∈ lw_all := lw_g (lw_at lw_m1 219 rfl) rfl
theorem q329 : (Jvm.Cond.laysFinal "SharedWindow" "SharedWindow" "tape" "[B") ∈ lw_all := lw_g (lw_at lw_m1 220 rfl) rfl
theorem q330 : (Jvm.Cond.soleField "SharedWindow" "tape") ∈ lw_all := lw_g (lw_at lw_m1 221 rfl) rfl
theorem q331 : (Jvm.Cond.lays "SharedWindow" "SharedWindow" "law" "LSharedWindow$Text;") ∈ lw_all := lw_g (lw_at lw_m1 222 rfl) rfl
theorem q332 : (Jvm.Cond.soleField "SharedWindow" "law") ∈ lw_all := lw_g (lw_at lw_m1 223 rfl) rfl
theorem q333 : (Jvm.Cond.lays "SharedWindow" "SharedWindow" "taped" "I") ∈ lw_all := lw_g (lw_at lw_m1 224 rfl) rfl
theorem q334 : (Jvm.Cond.soleField "SharedWindow" "taped") ∈ lw_all := lw_g (lw_at lw_m1 225 rfl) rfl
theorem q335 : (Jvm.Cond.lays "SharedWindow" "SharedWindow" "isKept" "Z") ∈ lw_all := lw_g (lw_at lw_m1 226 rfl) rfl
theorem q336 : (Jvm.Cond.soleField "SharedWindow" "isKept") ∈ lw_all := lw_g (lw_at lw_m1 227 rfl) rfl
theorem q337 : (Jvm.Cond.laysFinal "SharedWindow" "SharedWindow" "least" "[[I") ∈ lw_all := lw_g (lw_at lw_m1 228 rfl) rfl
theorem q338 : (Jvm.Cond.soleField "SharedWindow" "least") ∈ lw_all := lw_g (lw_at lw_m1 229 rfl) rfl
theorem q339 : (Jvm.Cond.laysFinal "SharedWindow" "SharedWindow" "lowest" "[[I") ∈ lw_all := lw_g (lw_at lw_m1 230 rfl) rfl
theorem q340 : (Jvm.Cond.soleField "SharedWindow" "lowest") ∈ lw_all := lw_g (lw_at lw_m1 231 rfl) rfl
theorem q341 : (Jvm.Cond.laysFinal "SharedWindow" "SharedWindow" "newLeast" "[[I") ∈ lw_all := lw_g (lw_at lw_m1 232 rfl) rfl
theorem q342 : (Jvm.Cond.soleField "SharedWindow" "newLeast") ∈ lw_all := lw_g (lw_at lw_m1 233 rfl) rfl
theorem q343 : (Jvm.Cond.laysFinal "SharedWindow" "SharedWindow" "newLowest" "[[I") ∈ lw_all := lw_g (lw_at lw_m1 234 rfl) rfl
theorem q344 : (Jvm.Cond.soleField "SharedWindow" "newLowest") ∈ lw_all := lw_g (lw_at lw_m1 235 rfl) rfl
theorem q345 : (Jvm.Cond.laysFinal "SharedWindow" "SharedWindow" "ever" "[I") ∈ lw_all := lw_g (lw_at lw_m1 236 rfl) rfl
theorem q346 : (Jvm.Cond.soleField "SharedWindow" "ever") ∈ lw_all := lw_g (lw_at lw_m1 237 rfl) rfl
theorem q347 : (Jvm.Cond.laysFinal "SharedWindow" "SharedWindow" "end" "[[I") ∈ lw_all := lw_g (lw_at lw_m1 238 rfl) rfl
theorem q348 : (Jvm.Cond.soleField "SharedWindow" "end") ∈ lw_all := lw_g (lw_at lw_m1 239 rfl) rfl
theorem q349 : (Jvm.Cond.laysFinal "SharedWindow" "SharedWindow" "taken" "[I") ∈ lw_all := lw_g (lw_at lw_m2 0 rfl) rfl
theorem q350 : (Jvm.Cond.soleField "SharedWindow" "taken") ∈ lw_all := lw_g (lw_at lw_m2 1 rfl) rfl
theorem q351 : (Jvm.Cond.laysFinal "SharedWindow" "SharedWindow" "sold" "[I") ∈ lw_all := lw_g (lw_at lw_m2 2 rfl) rfl
theorem q352 : (Jvm.Cond.soleField "SharedWindow" "sold") ∈ lw_all := lw_g (lw_at lw_m2 3 rfl) rfl
theorem q353 : (Jvm.Cond.lays "SharedWindow" "SharedWindow" "mostWorth" "I") ∈ lw_all := lw_g (lw_at lw_m2 4 rfl) rfl
theorem q354 : (Jvm.Cond.soleField "SharedWindow" "mostWorth") ∈ lw_all := lw_g (lw_at lw_m2 5 rfl) rfl
theorem q355 : (Jvm.Cond.laysFinal "SharedWindow" "SharedWindow" "ways" "[J") ∈ lw_all := lw_g (lw_at lw_m2 6 rfl) rfl
theorem q356 : (Jvm.Cond.soleField "SharedWindow" "ways") ∈ lw_all := lw_g (lw_at lw_m2 7 rfl) rfl
theorem q357 : (Jvm.Cond.superclass "SharedWindow" "java/lang/Object") ∈ lw_all := lw_g (lw_at lw_m2 8 rfl) rfl
theorem q360 : (Jvm.Cond.instanceMethod ({ cls := "SharedWindow", name := "turn", desc := "(II)Z" } : Jvm.MethodName)) ∈ lw_all := lw_g (lw_at lw_m2 11 rfl) rfl
theorem q361 : (Jvm.Cond.selects "SharedWindow" ({ cls := "SharedWindow", name := "turn", desc := "(II)Z" } : Jvm.MethodName) ({ cls := "SharedWindow", name := "turn", desc := "(II)Z" } : Jvm.MethodName)) ∈ lw_all := lw_g (lw_at lw_m2 12 rfl) rfl
theorem q362 : (Jvm.Cond.code ({ cls := "SharedWindow", name := "turn", desc := "(II)Z" } : Jvm.MethodName) prog_1_method_8_code (3 : Nat) (Option.some Jvm.ClassFile.FieldType.boolean)) ∈ lw_all := lw_g (lw_at lw_m2 13 rfl) rfl
theorem q363 : (Jvm.Cond.methodLink "SharedWindow" (100 : Nat) ({ cls := "SharedWindow", name := "isTurn", desc := "(I)Z" } : Jvm.MethodName)) ∈ lw_all := lw_g (lw_at lw_m2 14 rfl) rfl
theorem q364 : (Jvm.Cond.static ({ cls := "SharedWindow", name := "isTurn", desc := "(I)Z" } : Jvm.MethodName)) ∈ lw_all := lw_g (lw_at lw_m2 15 rfl) rfl
theorem q365 : (Jvm.Cond.code ({ cls := "SharedWindow", name := "isTurn", desc := "(I)Z" } : Jvm.MethodName) prog_1_method_7_code (1 : Nat) (Option.some Jvm.ClassFile.FieldType.boolean)) ∈ lw_all := lw_g (lw_at lw_m2 16 rfl) rfl
theorem q366 : (Jvm.Cond.methodLink "SharedWindow" (96 : Nat) ({ cls := "SharedWindow", name := "in", desc := "(II)Z" } : Jvm.MethodName)) ∈ lw_all := lw_g (lw_at lw_m2 17 rfl) rfl
theorem q367 : (Jvm.Cond.static ({ cls := "SharedWindow", name := "in", desc := "(II)Z" } : Jvm.MethodName)) ∈ lw_all := lw_g (lw_at lw_m2 18 rfl) rfl
theorem q368 : (Jvm.Cond.code ({ cls := "SharedWindow", name := "in", desc := "(II)Z" } : Jvm.MethodName) prog_1_method_1_code (2 : Nat) (Option.some Jvm.ClassFile.FieldType.boolean)) ∈ lw_all := lw_g (lw_at lw_m2 19 rfl) rfl
theorem q369 : (Jvm.Cond.methodLink "SharedWindow" (104 : Nat) ({ cls := "SharedWindow$Plan", name := "isHouse", desc := "(I)Z" } : Jvm.MethodName)) ∈ lw_all := lw_g (lw_at lw_m2 20 rfl) rfl
theorem q374 : (Jvm.Cond.instanceMethod ({ cls := "SharedWindow", name := "feed", desc := "(IIIII)I" } : Jvm.MethodName)) ∈ lw_all := lw_g (lw_at lw_m2 25 rfl) rfl
theorem q375 : (Jvm.Cond.selects "SharedWindow" ({ cls := "SharedWindow", name := "feed", desc := "(IIIII)I" } : Jvm.MethodName) ({ cls := "SharedWindow", name := "feed", desc := "(IIIII)I" } : Jvm.MethodName)) ∈ lw_all := lw_g (lw_at lw_m2 26 rfl) rfl
theorem q376 : (Jvm.Cond.code ({ cls := "SharedWindow", name := "feed", desc := "(IIIII)I" } : Jvm.MethodName) prog_1_method_10_code (6 : Nat) (Option.some Jvm.ClassFile.FieldType.int)) ∈ lw_all := lw_g (lw_at lw_m2 27 rfl) rfl
theorem q377 : (Jvm.Cond.methodLink "SharedWindow" (110 : Nat) ({ cls := "SharedWindow", name := "push", desc := "(I)V" } : Jvm.MethodName)) ∈ lw_all := lw_g (lw_at lw_m2 28 rfl) rfl
theorem q378 : (Jvm.Cond.privateMethod ({ cls := "SharedWindow", name := "push", desc := "(I)V" } : Jvm.MethodName)) ∈ lw_tbl := lw_at lw_m2 29 rfl
theorem q379 : (Jvm.Cond.instanceMethod ({ cls := "SharedWindow", name := "push", desc := "(I)V" } : Jvm.MethodName)) ∈ lw_all := lw_g (lw_at lw_m2 30 rfl) rfl
theorem q380 : (Jvm.Cond.code ({ cls := "SharedWindow", name := "push", desc := "(I)V" } : Jvm.MethodName) prog_1_method_9_code (3 : Nat) (Option.none : Option Jvm.ClassFile.FieldType)) ∈ lw_all := lw_g (lw_at lw_m2 31 rfl) rfl
theorem q382 : (Jvm.Cond.instanceMethod ({ cls := "SharedWindow", name := "law", desc := "(I)I" } : Jvm.MethodName)) ∈ lw_all := lw_g (lw_at lw_m2 33 rfl) rfl
theorem q383 : (Jvm.Cond.selects "SharedWindow" ({ cls := "SharedWindow", name := "law", desc := "(I)I" } : Jvm.MethodName) ({ cls := "SharedWindow", name := "law", desc := "(I)I" } : Jvm.MethodName)) ∈ lw_all := lw_g (lw_at lw_m2 34 rfl) rfl
theorem q384 : (Jvm.Cond.code ({ cls := "SharedWindow", name := "law", desc := "(I)I" } : Jvm.MethodName) prog_1_method_11_code (4 : Nat) (Option.some Jvm.ClassFile.FieldType.int)) ∈ lw_all := lw_g (lw_at lw_m2 35 rfl) rfl
theorem q385 : (Jvm.Cond.methodLink "SharedWindow" (114 : Nat) ({ cls := "SharedWindow", name := "within", desc := "(III)Z" } : Jvm.MethodName)) ∈ lw_all := lw_g (lw_at lw_m2 36 rfl) rfl
theorem q386 : (Jvm.Cond.static ({ cls := "SharedWindow", name := "within", desc := "(III)Z" } : Jvm.MethodName)) ∈ lw_all := lw_g (lw_at lw_m2 37 rfl) rfl
theorem q387 : (Jvm.Cond.code ({ cls := "SharedWindow", name := "within", desc := "(III)Z" } : Jvm.MethodName) prog_1_method_2_code (3 : Nat) (Option.some Jvm.ClassFile.FieldType.boolean)) ∈ lw_all := lw_g (lw_at lw_m2 38 rfl) rfl
theorem q388 : (Jvm.Cond.classLink "SharedWindow" (118 : Nat) "SharedWindow$Reader") ∈ lw_all := lw_g (lw_at lw_m2 39 rfl) rfl
theorem q390 : (Jvm.Cond.methodLink "SharedWindow" (120 : Nat) ({ cls := "SharedWindow$Reader", name := "<init>", desc := "(LSharedWindow;I)V" } : Jvm.MethodName)) ∈ lw_all := lw_g (lw_at lw_m2 41 rfl) rfl
theorem q398 : (Jvm.Cond.fieldLinkNest "SharedWindow" (127 : Nat) "SharedWindow$Reader" "text" "LSharedWindow$Text;" "SharedWindow") ∈ lw_tbl := lw_at lw_m2 49 rfl
theorem q419 : (Jvm.Cond.methodLink "SharedWindow" (123 : Nat) ({ cls := "SharedWindow$Reader", name := "read", desc := "()I" } : Jvm.MethodName)) ∈ lw_all := lw_g (lw_at lw_m2 70 rfl) rfl
theorem q654 : (Jvm.Cond.instanceMethod ({ cls := "SharedWindow", name := "terrace", desc := "(I)I" } : Jvm.MethodName)) ∈ lw_all := lw_g (lw_at lw_m3 65 rfl) rfl
theorem q655 : (Jvm.Cond.selects "SharedWindow" ({ cls := "SharedWindow", name := "terrace", desc := "(I)I" } : Jvm.MethodName) ({ cls := "SharedWindow", name := "terrace", desc := "(I)I" } : Jvm.MethodName)) ∈ lw_all := lw_g (lw_at lw_m3 66 rfl) rfl
theorem q656 : (Jvm.Cond.code ({ cls := "SharedWindow", name := "terrace", desc := "(I)I" } : Jvm.MethodName) prog_1_method_12_code (5 : Nat) (Option.some Jvm.ClassFile.FieldType.int)) ∈ lw_all := lw_g (lw_at lw_m3 67 rfl) rfl
theorem q657 : (Jvm.Cond.classLink "SharedWindow" (130 : Nat) "SharedWindow$Surveyor") ∈ lw_all := lw_g (lw_at lw_m3 68 rfl) rfl
theorem q659 : (Jvm.Cond.methodLink "SharedWindow" (132 : Nat) ({ cls := "SharedWindow$Surveyor", name := "<init>", desc := "(LSharedWindow;I)V" } : Jvm.MethodName)) ∈ lw_all := lw_g (lw_at lw_m3 70 rfl) rfl
theorem q669 : (Jvm.Cond.fieldLinkNest "SharedWindow" (134 : Nat) "SharedWindow$Surveyor" "trial" "LSharedWindow$Plan;" "SharedWindow") ∈ lw_tbl := lw_at lw_m3 80 rfl
theorem q694 : (Jvm.Cond.methodLink "SharedWindow" (133 : Nat) ({ cls := "SharedWindow$Surveyor", name := "read", desc := "()I" } : Jvm.MethodName)) ∈ lw_all := lw_g (lw_at lw_m3 105 rfl) rfl
theorem q779 : (Jvm.Cond.methodLink "SharedWindow" (137 : Nat) ({ cls := "SharedWindow$Plan", name := "takes", desc := "(LSharedWindow$Plan;)V" } : Jvm.MethodName)) ∈ lw_all := lw_g (lw_at lw_m3 190 rfl) rfl
theorem q783 : (Jvm.Cond.methodLink "SharedWindow" (141 : Nat) ({ cls := "SharedWindow$Street", name := "begins", desc := "()V" } : Jvm.MethodName)) ∈ lw_all := lw_g (lw_at lw_m3 194 rfl) rfl
theorem q788 : (Jvm.Cond.instanceMethod ({ cls := "SharedWindow", name := "rota", desc := "(I)I" } : Jvm.MethodName)) ∈ lw_all := lw_g (lw_at lw_m3 199 rfl) rfl
theorem q789 : (Jvm.Cond.selects "SharedWindow" ({ cls := "SharedWindow", name := "rota", desc := "(I)I" } : Jvm.MethodName) ({ cls := "SharedWindow", name := "rota", desc := "(I)I" } : Jvm.MethodName)) ∈ lw_all := lw_g (lw_at lw_m3 200 rfl) rfl
theorem q790 : (Jvm.Cond.code ({ cls := "SharedWindow", name := "rota", desc := "(I)I" } : Jvm.MethodName) prog_1_method_13_code (5 : Nat) (Option.some Jvm.ClassFile.FieldType.int)) ∈ lw_all := lw_g (lw_at lw_m3 201 rfl) rfl
theorem q791 : (Jvm.Cond.classLink "SharedWindow" (144 : Nat) "SharedWindow$Clerk") ∈ lw_all := lw_g (lw_at lw_m3 202 rfl) rfl
theorem q793 : (Jvm.Cond.methodLink "SharedWindow" (146 : Nat) ({ cls := "SharedWindow$Clerk", name := "<init>", desc := "(LSharedWindow;I)V" } : Jvm.MethodName)) ∈ lw_all := lw_g (lw_at lw_m3 204 rfl) rfl
theorem q798 : (Jvm.Cond.fieldLinkNest "SharedWindow" (148 : Nat) "SharedWindow$Clerk" "row" "[I" "SharedWindow") ∈ lw_tbl := lw_at lw_m3 209 rfl
theorem q819 : (Jvm.Cond.methodLink "SharedWindow" (147 : Nat) ({ cls := "SharedWindow$Clerk", name := "read", desc := "()I" } : Jvm.MethodName)) ∈ lw_all := lw_g (lw_at lw_m3 230 rfl) rfl
theorem q865 : (Jvm.Cond.instanceMethod ({ cls := "SharedWindow", name := "days", desc := "(I)I" } : Jvm.MethodName)) ∈ lw_all := lw_g (lw_at lw_m4 36 rfl) rfl
theorem q866 : (Jvm.Cond.selects "SharedWindow" ({ cls := "SharedWindow", name := "days", desc := "(I)I" } : Jvm.MethodName) ({ cls := "SharedWindow", name := "days", desc := "(I)I" } : Jvm.MethodName)) ∈ lw_all := lw_g (lw_at lw_m4 37 rfl) rfl
theorem q867 : (Jvm.Cond.code ({ cls := "SharedWindow", name := "days", desc := "(I)I" } : Jvm.MethodName) prog_1_method_14_code (2 : Nat) (Option.some Jvm.ClassFile.FieldType.int)) ∈ lw_all := lw_g (lw_at lw_m4 38 rfl) rfl
theorem q868 : (Jvm.Cond.methodLink "SharedWindow" (151 : Nat) ({ cls := "SharedWindow$Street", name := "goes", desc := "(I)LSharedWindow$Street;" } : Jvm.MethodName)) ∈ lw_all := lw_g (lw_at lw_m4 39 rfl) rfl
theorem q975 : (Jvm.Cond.static ({ cls := "SharedWindow", name := "held", desc := "(II)I" } : Jvm.MethodName)) ∈ lw_all := lw_g (lw_at lw_m4 146 rfl) rfl
theorem q976 : (Jvm.Cond.code ({ cls := "SharedWindow", name := "held", desc := "(II)I" } : Jvm.MethodName) prog_1_method_4_code (2 : Nat) (Option.some Jvm.ClassFile.FieldType.int)) ∈ lw_all := lw_g (lw_at lw_m4 147 rfl) rfl
theorem q977 : (Jvm.Cond.methodLink "SharedWindow" (1 : Nat) ({ cls := "java/lang/Math", name := "min", desc := "(II)I" } : Jvm.MethodName)) ∈ lw_all := lw_g (lw_at lw_m4 148 rfl) rfl
theorem q978 : (Jvm.Cond.methodLink "SharedWindow" (7 : Nat) ({ cls := "java/lang/Math", name := "max", desc := "(II)I" } : Jvm.MethodName)) ∈ lw_all := lw_g (lw_at lw_m4 149 rfl) rfl
theorem q982 : (Jvm.Cond.instanceMethod ({ cls := "SharedWindow", name := "tried", desc := "(II)I" } : Jvm.MethodName)) ∈ lw_all := lw_g (lw_at lw_m4 153 rfl) rfl
theorem q983 : (Jvm.Cond.selects "SharedWindow" ({ cls := "SharedWindow", name := "tried", desc := "(II)I" } : Jvm.MethodName) ({ cls := "SharedWindow", name := "tried", desc := "(II)I" } : Jvm.MethodName)) ∈ lw_all := lw_g (lw_at lw_m4 154 rfl) rfl
theorem q984 : (Jvm.Cond.code ({ cls := "SharedWindow", name := "tried", desc := "(II)I" } : Jvm.MethodName) prog_1_method_15_code (3 : Nat) (Option.some Jvm.ClassFile.FieldType.int)) ∈ lw_all := lw_g (lw_at lw_m4 155 rfl) rfl
theorem q985 : (Jvm.Cond.methodLink "SharedWindow" (158 : Nat) ({ cls := "SharedWindow$Street", name := "takes", desc := "(LSharedWindow$Street;)LSharedWindow$Street;" } : Jvm.MethodName)) ∈ lw_all := lw_g (lw_at lw_m4 156 rfl) rfl
theorem q989 : (Jvm.Cond.methodLink "SharedWindow" (164 : Nat) ({ cls := "SharedWindow", name := "orNobody", desc := "(I)I" } : Jvm.MethodName)) ∈ lw_all := lw_g (lw_at lw_m4 160 rfl) rfl
theorem q990 : (Jvm.Cond.static ({ cls := "SharedWindow", name := "orNobody", desc := "(I)I" } : Jvm.MethodName)) ∈ lw_all := lw_g (lw_at lw_m4 161 rfl) rfl
theorem q991 : (Jvm.Cond.code ({ cls := "SharedWindow", name := "orNobody", desc := "(I)I" } : Jvm.MethodName) prog_1_method_5_code (1 : Nat) (Option.some Jvm.ClassFile.FieldType.int)) ∈ lw_all := lw_g (lw_at lw_m4 162 rfl) rfl
theorem q992 : (Jvm.Cond.methodLink "SharedWindow" (171 : Nat) ({ cls := "SharedWindow$Street", name := "joyOfAll", desc := "()I" } : Jvm.MethodName)) ∈ lw_all := lw_g (lw_at lw_m4 163 rfl) rfl
theorem q997 : (Jvm.Cond.instanceMethod ({ cls := "SharedWindow", name := "sees", desc := "(II)I" } : Jvm.MethodName)) ∈ lw_all := lw_g (lw_at lw_m4 168 rfl) rfl
theorem q998 : (Jvm.Cond.selects "SharedWindow" ({ cls := "SharedWindow", name := "sees", desc := "(II)I" } : Jvm.MethodName) ({ cls := "SharedWindow", name := "sees", desc := "(II)I" } : Jvm.MethodName)) ∈ lw_all := lw_g (lw_at lw_m4 169 rfl) rfl
theorem q999 : (Jvm.Cond.code ({ cls := "SharedWindow", name := "sees", desc := "(II)I" } : Jvm.MethodName) prog_1_method_16_code (3 : Nat) (Option.some Jvm.ClassFile.FieldType.int)) ∈ lw_all := lw_g (lw_at lw_m4 170 rfl) rfl
theorem q1000 : (Jvm.Cond.methodLink "SharedWindow" (177 : Nat) ({ cls := "SharedWindow$Plan", name := "seen", desc := "(II)I" } : Jvm.MethodName)) ∈ lw_all := lw_g (lw_at lw_m4 171 rfl) rfl
theorem q1002 : (Jvm.Cond.instanceMethod ({ cls := "SharedWindow", name := "houseIs", desc := "(II)I" } : Jvm.MethodName)) ∈ lw_all := lw_g (lw_at lw_m4 173 rfl) rfl
theorem q1003 : (Jvm.Cond.selects "SharedWindow" ({ cls := "SharedWindow", name := "houseIs", desc := "(II)I" } : Jvm.MethodName) ({ cls := "SharedWindow", name := "houseIs", desc := "(II)I" } : Jvm.MethodName)) ∈ lw_all := lw_g (lw_at lw_m4 174 rfl) rfl
theorem q1004 : (Jvm.Cond.code ({ cls := "SharedWindow", name := "houseIs", desc := "(II)I" } : Jvm.MethodName) prog_1_method_19_code (3 : Nat) (Option.some Jvm.ClassFile.FieldType.int)) ∈ lw_all := lw_g (lw_at lw_m4 175 rfl) rfl
theorem q1005 : (Jvm.Cond.methodLink "SharedWindow" (183 : Nat) ({ cls := "SharedWindow", name := "turnsOf", desc := "(I)I" } : Jvm.MethodName)) ∈ lw_all := lw_g (lw_at lw_m4 176 rfl) rfl
theorem q1006 : (Jvm.Cond.privateMethod ({ cls := "SharedWindow", name := "turnsOf", desc := "(I)I" } : Jvm.MethodName)) ∈ lw_tbl := lw_at lw_m4 177 rfl
theorem q1007 : (Jvm.Cond.instanceMethod ({ cls := "SharedWindow", name := "turnsOf", desc := "(I)I" } : Jvm.MethodName)) ∈ lw_all := lw_g (lw_at lw_m4 178 rfl) rfl
theorem q1008 : (Jvm.Cond.code ({ cls := "SharedWindow", name := "turnsOf", desc := "(I)I" } : Jvm.MethodName) prog_1_method_17_code (7 : Nat) (Option.some Jvm.ClassFile.FieldType.int)) ∈ lw_all := lw_g (lw_at lw_m4 179 rfl) rfl
theorem q1009 : (Jvm.Cond.methodLink "SharedWindow" (186 : Nat) ({ cls := "SharedWindow", name := "dark", desc := "(I)I" } : Jvm.MethodName)) ∈ lw_all := lw_g (lw_at lw_m4 180 rfl) rfl
theorem q1010 : (Jvm.Cond.privateMethod ({ cls := "SharedWindow", name := "dark", desc := "(I)I" } : Jvm.MethodName)) ∈ lw_tbl := lw_at lw_m4 181 rfl
theorem q1011 : (Jvm.Cond.instanceMethod ({ cls := "SharedWindow", name := "dark", desc := "(I)I" } : Jvm.MethodName)) ∈ lw_all := lw_g (lw_at lw_m4 182 rfl) rfl
theorem q1012 : (Jvm.Cond.code ({ cls := "SharedWindow", name := "dark", desc := "(I)I" } : Jvm.MethodName) prog_1_method_18_code (5 : Nat) (Option.some Jvm.ClassFile.FieldType.int)) ∈ lw_all := lw_g (lw_at lw_m4 183 rfl) rfl
theorem q1013 : (Jvm.Cond.methodLink "SharedWindow" (189 : Nat) ({ cls := "SharedWindow$Plan", name := "seenEver", desc := "(I)I" } : Jvm.MethodName)) ∈ lw_all := lw_g (lw_at lw_m4 184 rfl) rfl
theorem q1019 : (Jvm.Cond.instanceMethod ({ cls := "SharedWindow", name := "rotaIs", desc := "(I)I" } : Jvm.MethodName)) ∈ lw_all := lw_g (lw_at lw_m4 190 rfl) rfl
theorem q1020 : (Jvm.Cond.selects "SharedWindow" ({ cls := "SharedWindow", name := "rotaIs", desc := "(I)I" } : Jvm.MethodName) ({ cls := "SharedWindow", name := "rotaIs", desc := "(I)I" } : Jvm.MethodName)) ∈ lw_all := lw_g (lw_at lw_m4 191 rfl) rfl
theorem q1021 : (Jvm.Cond.code ({ cls := "SharedWindow", name := "rotaIs", desc := "(I)I" } : Jvm.MethodName) prog_1_method_22_code (2 : Nat) (Option.some Jvm.ClassFile.FieldType.int)) ∈ lw_all := lw_g (lw_at lw_m4 192 rfl) rfl
theorem q1022 : (Jvm.Cond.methodLink "SharedWindow" (195 : Nat) ({ cls := "SharedWindow", name := "way", desc := "(Z)I" } : Jvm.MethodName)) ∈ lw_all := lw_g (lw_at lw_m4 193 rfl) rfl
theorem q1023 : (Jvm.Cond.privateMethod ({ cls := "SharedWindow", name := "way", desc := "(Z)I" } : Jvm.MethodName)) ∈ lw_tbl := lw_at lw_m4 194 rfl
theorem q1024 : (Jvm.Cond.instanceMethod ({ cls := "SharedWindow", name := "way", desc := "(Z)I" } : Jvm.MethodName)) ∈ lw_all := lw_g (lw_at lw_m4 195 rfl) rfl
theorem q1025 : (Jvm.Cond.code ({ cls := "SharedWindow", name := "way", desc := "(Z)I" } : Jvm.MethodName) prog_1_method_20_code (9 : Nat) (Option.some Jvm.ClassFile.FieldType.int)) ∈ lw_all := lw_g (lw_at lw_m4 196 rfl) rfl
theorem q1026 : (Jvm.Cond.methodLink "SharedWindow" (192 : Nat) ({ cls := "java/lang/Math", name := "abs", desc := "(I)I" } : Jvm.MethodName)) ∈ lw_all := lw_g (lw_at lw_m4 197 rfl) rfl
theorem q1027 : (Jvm.Cond.methodLink "SharedWindow" (199 : Nat) ({ cls := "SharedWindow", name := "seenByAll", desc := "()I" } : Jvm.MethodName)) ∈ lw_all := lw_g (lw_at lw_m4 198 rfl) rfl
theorem q1028 : (Jvm.Cond.privateMethod ({ cls := "SharedWindow", name := "seenByAll", desc := "()I" } : Jvm.MethodName)) ∈ lw_tbl := lw_at lw_m4 199 rfl
theorem q1029 : (Jvm.Cond.instanceMethod ({ cls := "SharedWindow", name := "seenByAll", desc := "()I" } : Jvm.MethodName)) ∈ lw_all := lw_g (lw_at lw_m4 200 rfl) rfl
theorem q1030 : (Jvm.Cond.code ({ cls := "SharedWindow", name := "seenByAll", desc := "()I" } : Jvm.MethodName) prog_1_method_21_code (3 : Nat) (Option.some Jvm.ClassFile.FieldType.int)) ∈ lw_all := lw_g (lw_at lw_m4 201 rfl) rfl
theorem q1032 : (Jvm.Cond.instanceMethod ({ cls := "SharedWindow", name := "next", desc := "(III)I" } : Jvm.MethodName)) ∈ lw_all := lw_g (lw_at lw_m4 203 rfl) rfl
theorem q1033 : (Jvm.Cond.selects "SharedWindow" ({ cls := "SharedWindow", name := "next", desc := "(III)I" } : Jvm.MethodName) ({ cls := "SharedWindow", name := "next", desc := "(III)I" } : Jvm.MethodName)) ∈ lw_all := lw_g (lw_at lw_m4 204 rfl) rfl
theorem q1034 : (Jvm.Cond.code ({ cls := "SharedWindow", name := "next", desc := "(III)I" } : Jvm.MethodName) prog_1_method_23_code (6 : Nat) (Option.some Jvm.ClassFile.FieldType.int)) ∈ lw_all := lw_g (lw_at lw_m4 205 rfl) rfl
theorem q1035 : (Jvm.Cond.methodLink "SharedWindow" (202 : Nat) ({ cls := "SharedWindow$Plan", name := "isThing", desc := "(I)Z" } : Jvm.MethodName)) ∈ lw_all := lw_g (lw_at lw_m4 206 rfl) rfl
theorem q1036 : (Jvm.Cond.methodLink "SharedWindow" (205 : Nat) ({ cls := "SharedWindow", name := "has", desc := "(II)Z" } : Jvm.MethodName)) ∈ lw_all := lw_g (lw_at lw_m4 207 rfl) rfl
theorem q1037 : (Jvm.Cond.static ({ cls := "SharedWindow", name := "has", desc := "(II)Z" } : Jvm.MethodName)) ∈ lw_all := lw_g (lw_at lw_m4 208 rfl) rfl
theorem q1038 : (Jvm.Cond.code ({ cls := "SharedWindow", name := "has", desc := "(II)Z" } : Jvm.MethodName) prog_1_method_3_code (2 : Nat) (Option.some Jvm.ClassFile.FieldType.boolean)) ∈ lw_all := lw_g (lw_at lw_m4 209 rfl) rfl
theorem q1040 : (Jvm.Cond.instanceMethod ({ cls := "SharedWindow", name := "light", desc := "(II)I" } : Jvm.MethodName)) ∈ lw_all := lw_g (lw_at lw_m4 211 rfl) rfl
theorem q1041 : (Jvm.Cond.selects "SharedWindow" ({ cls := "SharedWindow", name := "light", desc := "(II)I" } : Jvm.MethodName) ({ cls := "SharedWindow", name := "light", desc := "(II)I" } : Jvm.MethodName)) ∈ lw_all := lw_g (lw_at lw_m4 212 rfl) rfl
theorem q1042 : (Jvm.Cond.code ({ cls := "SharedWindow", name := "light", desc := "(II)I" } : Jvm.MethodName) prog_1_method_24_code (8 : Nat) (Option.some Jvm.ClassFile.FieldType.int)) ∈ lw_all := lw_g (lw_at lw_m4 213 rfl) rfl
theorem q1044 : (Jvm.Cond.instanceMethod ({ cls := "SharedWindow", name := "seers", desc := "(I)I" } : Jvm.MethodName)) ∈ lw_all := lw_g (lw_at lw_m4 215 rfl) rfl
theorem q1045 : (Jvm.Cond.selects "SharedWindow" ({ cls := "SharedWindow", name := "seers", desc := "(I)I" } : Jvm.MethodName) ({ cls := "SharedWindow", name := "seers", desc := "(I)I" } : Jvm.MethodName)) ∈ lw_all := lw_g (lw_at lw_m4 216 rfl) rfl
theorem q1046 : (Jvm.Cond.code ({ cls := "SharedWindow", name := "seers", desc := "(I)I" } : Jvm.MethodName) prog_1_method_25_code (4 : Nat) (Option.some Jvm.ClassFile.FieldType.int)) ∈ lw_all := lw_g (lw_at lw_m4 217 rfl) rfl
theorem q1048 : (Jvm.Cond.instanceMethod ({ cls := "SharedWindow", name := "ifSwapped", desc := "(II)I" } : Jvm.MethodName)) ∈ lw_all := lw_g (lw_at lw_m4 219 rfl) rfl
theorem q1049 : (Jvm.Cond.selects "SharedWindow" ({ cls := "SharedWindow", name := "ifSwapped", desc := "(II)I" } : Jvm.MethodName) ({ cls := "SharedWindow", name := "ifSwapped", desc := "(II)I" } : Jvm.MethodName)) ∈ lw_all := lw_g (lw_at lw_m4 220 rfl) rfl
theorem q1050 : (Jvm.Cond.code ({ cls := "SharedWindow", name := "ifSwapped", desc := "(II)I" } : Jvm.MethodName) prog_1_method_27_code (4 : Nat) (Option.some Jvm.ClassFile.FieldType.int)) ∈ lw_all := lw_g (lw_at lw_m4 221 rfl) rfl
theorem q1051 : (Jvm.Cond.methodLink "SharedWindow" (208 : Nat) ({ cls := "SharedWindow", name := "exchanges", desc := "(II)V" } : Jvm.MethodName)) ∈ lw_all := lw_g (lw_at lw_m4 222 rfl) rfl
theorem q1052 : (Jvm.Cond.privateMethod ({ cls := "SharedWindow", name := "exchanges", desc := "(II)V" } : Jvm.MethodName)) ∈ lw_tbl := lw_at lw_m4 223 rfl
theorem q1053 : (Jvm.Cond.instanceMethod ({ cls := "SharedWindow", name := "exchanges", desc := "(II)V" } : Jvm.MethodName)) ∈ lw_all := lw_g (lw_at lw_m4 224 rfl) rfl
theorem q1054 : (Jvm.Cond.code ({ cls := "SharedWindow", name := "exchanges", desc := "(II)V" } : Jvm.MethodName) prog_1_method_26_code (4 : Nat) (Option.none : Option Jvm.ClassFile.FieldType)) ∈ lw_all := lw_g (lw_at lw_m4 225 rfl) rfl
theorem q1056 : (Jvm.Cond.instanceMethod ({ cls := "SharedWindow", name := "spread", desc := "()I" } : Jvm.MethodName)) ∈ lw_all := lw_g (lw_at lw_m4 227 rfl) rfl
theorem q1057 : (Jvm.Cond.selects "SharedWindow" ({ cls := "SharedWindow", name := "spread", desc := "()I" } : Jvm.MethodName) ({ cls := "SharedWindow", name := "spread", desc := "()I" } : Jvm.MethodName)) ∈ lw_all := lw_g (lw_at lw_m4 228 rfl) rfl
theorem q1058 : (Jvm.Cond.code ({ cls := "SharedWindow", name := "spread", desc := "()I" } : Jvm.MethodName) prog_1_method_28_code (4 : Nat) (Option.some Jvm.ClassFile.FieldType.int)) ∈ lw_all := lw_g (lw_at lw_m4 229 rfl) rfl
theorem q1060 : (Jvm.Cond.instanceMethod ({ cls := "SharedWindow", name := "bestBreath", desc := "(II)I" } : Jvm.MethodName)) ∈ lw_all := lw_g (lw_at lw_m4 231 rfl) rfl
theorem q1061 : (Jvm.Cond.selects "SharedWindow" ({ cls := "SharedWindow", name := "bestBreath", desc := "(II)I" } : Jvm.MethodName) ({ cls := "SharedWindow", name := "bestBreath", desc := "(II)I" } : Jvm.MethodName)) ∈ lw_all := lw_g (lw_at lw_m4 232 rfl) rfl
theorem q1062 : (Jvm.Cond.code ({ cls := "SharedWindow", name := "bestBreath", desc := "(II)I" } : Jvm.MethodName) prog_1_method_30_code (5 : Nat) (Option.some Jvm.ClassFile.FieldType.int)) ∈ lw_all := lw_g (lw_at lw_m4 233 rfl) rfl
theorem q1063 : (Jvm.Cond.methodLink "SharedWindow" (223 : Nat) ({ cls := "SharedWindow", name := "othersReading", desc := "(II)I" } : Jvm.MethodName)) ∈ lw_all := lw_g (lw_at lw_m4 234 rfl) rfl
theorem q1064 : (Jvm.Cond.privateMethod ({ cls := "SharedWindow", name := "othersReading", desc := "(II)I" } : Jvm.MethodName)) ∈ lw_tbl := lw_at lw_m4 235 rfl
theorem q1065 : (Jvm.Cond.instanceMethod ({ cls := "SharedWindow", name := "othersReading", desc := "(II)I" } : Jvm.MethodName)) ∈ lw_all := lw_g (lw_at lw_m4 236 rfl) rfl
theorem q1066 : (Jvm.Cond.code ({ cls := "SharedWindow", name := "othersReading", desc := "(II)I" } : Jvm.MethodName) prog_1_method_29_code (3 : Nat) (Option.some Jvm.ClassFile.FieldType.int)) ∈ lw_all := lw_g (lw_at lw_m4 237 rfl) rfl
theorem q1067 : (Jvm.Cond.methodLink "SharedWindow" (215 : Nat) ({ cls := "SharedWindow", name := "readers", desc := "(II)I" } : Jvm.MethodName)) ∈ lw_all := lw_g (lw_at lw_m4 238 rfl) rfl
theorem q1068 : (Jvm.Cond.instanceMethod ({ cls := "SharedWindow", name := "readers", desc := "(II)I" } : Jvm.MethodName)) ∈ lw_all := lw_g (lw_at lw_m4 239 rfl) rfl
theorem q1069 : (Jvm.Cond.selects "SharedWindow" ({ cls := "SharedWindow", name := "readers", desc := "(II)I" } : Jvm.MethodName) ({ cls := "SharedWindow", name := "readers", desc := "(II)I" } : Jvm.MethodName)) ∈ lw_all := lw_g (lw_at lw_m5 0 rfl) rfl
theorem q1070 : (Jvm.Cond.code ({ cls := "SharedWindow", name := "readers", desc := "(II)I" } : Jvm.MethodName) prog_1_method_39_code (6 : Nat) (Option.some Jvm.ClassFile.FieldType.int)) ∈ lw_all := lw_g (lw_at lw_m5 1 rfl) rfl
theorem q1071 : (Jvm.Cond.methodLink "SharedWindow" (218 : Nat) ({ cls := "java/lang/Integer", name := "bitCount", desc := "(I)I" } : Jvm.MethodName)) ∈ lw_all := lw_g (lw_at lw_m5 2 rfl) rfl
theorem q1073 : (Jvm.Cond.instanceMethod ({ cls := "SharedWindow", name := "clearest", desc := "(I)I" } : Jvm.MethodName)) ∈ lw_all := lw_g (lw_at lw_m5 4 rfl) rfl
theorem q1074 : (Jvm.Cond.selects "SharedWindow" ({ cls := "SharedWindow", name := "clearest", desc := "(I)I" } : Jvm.MethodName) ({ cls := "SharedWindow", name := "clearest", desc := "(I)I" } : Jvm.MethodName)) ∈ lw_all := lw_g (lw_at lw_m5 5 rfl) rfl
theorem q1075 : (Jvm.Cond.code ({ cls := "SharedWindow", name := "clearest", desc := "(I)I" } : Jvm.MethodName) prog_1_method_32_code (4 : Nat) (Option.some Jvm.ClassFile.FieldType.int)) ∈ lw_all := lw_g (lw_at lw_m5 6 rfl) rfl
theorem q1076 : (Jvm.Cond.methodLink "SharedWindow" (226 : Nat) ({ cls := "SharedWindow", name := "clearIn", desc := "(I)I" } : Jvm.MethodName)) ∈ lw_all := lw_g (lw_at lw_m5 7 rfl) rfl
theorem q1077 : (Jvm.Cond.privateMethod ({ cls := "SharedWindow", name := "clearIn", desc := "(I)I" } : Jvm.MethodName)) ∈ lw_tbl := lw_at lw_m5 8 rfl
theorem q1078 : (Jvm.Cond.instanceMethod ({ cls := "SharedWindow", name := "clearIn", desc := "(I)I" } : Jvm.MethodName)) ∈ lw_all := lw_g (lw_at lw_m5 9 rfl) rfl
theorem q1079 : (Jvm.Cond.code ({ cls := "SharedWindow", name := "clearIn", desc := "(I)I" } : Jvm.MethodName) prog_1_method_31_code (4 : Nat) (Option.some Jvm.ClassFile.FieldType.int)) ∈ lw_all := lw_g (lw_at lw_m5 10 rfl) rfl
theorem q1081 : (Jvm.Cond.instanceMethod ({ cls := "SharedWindow", name := "shortest", desc := "(II)I" } : Jvm.MethodName)) ∈ lw_all := lw_g (lw_at lw_m5 12 rfl) rfl
theorem q1082 : (Jvm.Cond.selects "SharedWindow" ({ cls := "SharedWindow", name := "shortest", desc := "(II)I" } : Jvm.MethodName) ({ cls := "SharedWindow", name := "shortest", desc := "(II)I" } : Jvm.MethodName)) ∈ lw_all := lw_g (lw_at lw_m5 13 rfl) rfl
theorem q1083 : (Jvm.Cond.code ({ cls := "SharedWindow", name := "shortest", desc := "(II)I" } : Jvm.MethodName) prog_1_method_37_code (6 : Nat) (Option.some Jvm.ClassFile.FieldType.int)) ∈ lw_all := lw_g (lw_at lw_m5 14 rfl) rfl
theorem q1084 : (Jvm.Cond.methodLink "SharedWindow" (229 : Nat) ({ cls := "SharedWindow", name := "fed", desc := "(I)I" } : Jvm.MethodName)) ∈ lw_all := lw_g (lw_at lw_m5 15 rfl) rfl
theorem q1085 : (Jvm.Cond.privateMethod ({ cls := "SharedWindow", name := "fed", desc := "(I)I" } : Jvm.MethodName)) ∈ lw_tbl := lw_at lw_m5 16 rfl
theorem q1086 : (Jvm.Cond.instanceMethod ({ cls := "SharedWindow", name := "fed", desc := "(I)I" } : Jvm.MethodName)) ∈ lw_all := lw_g (lw_at lw_m5 17 rfl) rfl
theorem q1087 : (Jvm.Cond.code ({ cls := "SharedWindow", name := "fed", desc := "(I)I" } : Jvm.MethodName) prog_1_method_33_code (2 : Nat) (Option.some Jvm.ClassFile.FieldType.int)) ∈ lw_all := lw_g (lw_at lw_m5 18 rfl) rfl
theorem q1088 : (Jvm.Cond.constant "SharedWindow" (236 : Nat) (268435456 : Int32)) ∈ lw_all := lw_g (lw_at lw_m5 19 rfl) rfl
theorem q1089 : (Jvm.Cond.methodLink "SharedWindow" (241 : Nat) ({ cls := "SharedWindow", name := "turnIsLaid", desc := "(II)V" } : Jvm.MethodName)) ∈ lw_all := lw_g (lw_at lw_m5 20 rfl) rfl
theorem q1090 : (Jvm.Cond.privateMethod ({ cls := "SharedWindow", name := "turnIsLaid", desc := "(II)V" } : Jvm.MethodName)) ∈ lw_tbl := lw_at lw_m5 21 rfl
theorem q1091 : (Jvm.Cond.instanceMethod ({ cls := "SharedWindow", name := "turnIsLaid", desc := "(II)V" } : Jvm.MethodName)) ∈ lw_all := lw_g (lw_at lw_m5 22 rfl) rfl
theorem q1092 : (Jvm.Cond.code ({ cls := "SharedWindow", name := "turnIsLaid", desc := "(II)V" } : Jvm.MethodName) prog_1_method_36_code (8 : Nat) (Option.none : Option Jvm.ClassFile.FieldType)) ∈ lw_all := lw_g (lw_at lw_m5 23 rfl) rfl
theorem q1093 : (Jvm.Cond.methodLink "SharedWindow" (232 : Nat) ({ cls := "SharedWindow", name := "metBy", desc := "(III)I" } : Jvm.MethodName)) ∈ lw_all := lw_g (lw_at lw_m5 24 rfl) rfl
theorem q1094 : (Jvm.Cond.privateMethod ({ cls := "SharedWindow", name := "metBy", desc := "(III)I" } : Jvm.MethodName)) ∈ lw_tbl := lw_at lw_m5 25 rfl
theorem q1095 : (Jvm.Cond.instanceMethod ({ cls := "SharedWindow", name := "metBy", desc := "(III)I" } : Jvm.MethodName)) ∈ lw_all := lw_g (lw_at lw_m5 26 rfl) rfl
theorem q1096 : (Jvm.Cond.code ({ cls := "SharedWindow", name := "metBy", desc := "(III)I" } : Jvm.MethodName) prog_1_method_34_code (6 : Nat) (Option.some Jvm.ClassFile.FieldType.int)) ∈ lw_all := lw_g (lw_at lw_m5 27 rfl) rfl
theorem q1097 : (Jvm.Cond.methodLink "SharedWindow" (237 : Nat) ({ cls := "SharedWindow", name := "betters", desc := "(IIII)V" } : Jvm.MethodName)) ∈ lw_all := lw_g (lw_at lw_m5 28 rfl) rfl
theorem q1098 : (Jvm.Cond.privateMethod ({ cls := "SharedWindow", name := "betters", desc := "(IIII)V" } : Jvm.MethodName)) ∈ lw_tbl := lw_at lw_m5 29 rfl
theorem q1099 : (Jvm.Cond.instanceMethod ({ cls := "SharedWindow", name := "betters", desc := "(IIII)V" } : Jvm.MethodName)) ∈ lw_all := lw_g (lw_at lw_m5 30 rfl) rfl
theorem q1100 : (Jvm.Cond.code ({ cls := "SharedWindow", name := "betters", desc := "(IIII)V" } : Jvm.MethodName) prog_1_method_35_code (6 : Nat) (Option.none : Option Jvm.ClassFile.FieldType)) ∈ lw_all := lw_g (lw_at lw_m5 31 rfl) rfl
theorem q1102 : (Jvm.Cond.instanceMethod ({ cls := "SharedWindow", name := "whoHad", desc := "(II)I" } : Jvm.MethodName)) ∈ lw_all := lw_g (lw_at lw_m5 33 rfl) rfl
theorem q1103 : (Jvm.Cond.selects "SharedWindow" ({ cls := "SharedWindow", name := "whoHad", desc := "(II)I" } : Jvm.MethodName) ({ cls := "SharedWindow", name := "whoHad", desc := "(II)I" } : Jvm.MethodName)) ∈ lw_all := lw_g (lw_at lw_m5 34 rfl) rfl
theorem q1104 : (Jvm.Cond.code ({ cls := "SharedWindow", name := "whoHad", desc := "(II)I" } : Jvm.MethodName) prog_1_method_38_code (5 : Nat) (Option.some Jvm.ClassFile.FieldType.int)) ∈ lw_all := lw_g (lw_at lw_m5 35 rfl) rfl
theorem q1105 : (Jvm.Cond.constant "SharedWindow" (244 : Nat) (65536 : Int32)) ∈ lw_all := lw_g (lw_at lw_m5 36 rfl) rfl
theorem q1108 : (Jvm.Cond.instanceMethod ({ cls := "SharedWindow", name := "second", desc := "(I)I" } : Jvm.MethodName)) ∈ lw_all := lw_g (lw_at lw_m5 39 rfl) rfl
theorem q1109 : (Jvm.Cond.selects "SharedWindow" ({ cls := "SharedWindow", name := "second", desc := "(I)I" } : Jvm.MethodName) ({ cls := "SharedWindow", name := "second", desc := "(I)I" } : Jvm.MethodName)) ∈ lw_all := lw_g (lw_at lw_m5 40 rfl) rfl
theorem q1110 : (Jvm.Cond.code ({ cls := "SharedWindow", name := "second", desc := "(I)I" } : Jvm.MethodName) prog_1_method_40_code (8 : Nat) (Option.some Jvm.ClassFile.FieldType.int)) ∈ lw_all := lw_g (lw_at lw_m5 41 rfl) rfl
theorem q1112 : (Jvm.Cond.instanceMethod ({ cls := "SharedWindow", name := "crack", desc := "(II)I" } : Jvm.MethodName)) ∈ lw_all := lw_g (lw_at lw_m5 43 rfl) rfl
theorem q1113 : (Jvm.Cond.selects "SharedWindow" ({ cls := "SharedWindow", name := "crack", desc := "(II)I" } : Jvm.MethodName) ({ cls := "SharedWindow", name := "crack", desc := "(II)I" } : Jvm.MethodName)) ∈ lw_all := lw_g (lw_at lw_m5 44 rfl) rfl
theorem q1114 : (Jvm.Cond.code ({ cls := "SharedWindow", name := "crack", desc := "(II)I" } : Jvm.MethodName) prog_1_method_41_code (8 : Nat) (Option.some Jvm.ClassFile.FieldType.int)) ∈ lw_all := lw_g (lw_at lw_m5 45 rfl) rfl
theorem q1116 : (Jvm.Cond.instanceMethod ({ cls := "SharedWindow", name := "halves", desc := "(I)I" } : Jvm.MethodName)) ∈ lw_all := lw_g (lw_at lw_m5 47 rfl) rfl
theorem q1117 : (Jvm.Cond.selects "SharedWindow" ({ cls := "SharedWindow", name := "halves", desc := "(I)I" } : Jvm.MethodName) ({ cls := "SharedWindow", name := "halves", desc := "(I)I" } : Jvm.MethodName)) ∈ lw_all := lw_g (lw_at lw_m5 48 rfl) rfl
theorem q1118 : (Jvm.Cond.code ({ cls := "SharedWindow", name := "halves", desc := "(I)I" } : Jvm.MethodName) prog_1_method_42_code (6 : Nat) (Option.some Jvm.ClassFile.FieldType.int)) ∈ lw_all := lw_g (lw_at lw_m5 49 rfl) rfl
theorem q1120 : (Jvm.Cond.instanceMethod ({ cls := "SharedWindow", name := "swaps", desc := "(II)I" } : Jvm.MethodName)) ∈ lw_all := lw_g (lw_at lw_m5 51 rfl) rfl
theorem q1121 : (Jvm.Cond.selects "SharedWindow" ({ cls := "SharedWindow", name := "swaps", desc := "(II)I" } : Jvm.MethodName) ({ cls := "SharedWindow", name := "swaps", desc := "(II)I" } : Jvm.MethodName)) ∈ lw_all := lw_g (lw_at lw_m5 52 rfl) rfl
theorem q1122 : (Jvm.Cond.code ({ cls := "SharedWindow", name := "swaps", desc := "(II)I" } : Jvm.MethodName) prog_1_method_46_code (6 : Nat) (Option.some Jvm.ClassFile.FieldType.int)) ∈ lw_all := lw_g (lw_at lw_m5 53 rfl) rfl
theorem q1123 : (Jvm.Cond.methodLink "SharedWindow" (251 : Nat) ({ cls := "SharedWindow", name := "mostSwaps", desc := "(II)I" } : Jvm.MethodName)) ∈ lw_all := lw_g (lw_at lw_m5 54 rfl) rfl
theorem q1124 : (Jvm.Cond.privateMethod ({ cls := "SharedWindow", name := "mostSwaps", desc := "(II)I" } : Jvm.MethodName)) ∈ lw_tbl := lw_at lw_m5 55 rfl
theorem q1125 : (Jvm.Cond.instanceMethod ({ cls := "SharedWindow", name := "mostSwaps", desc := "(II)I" } : Jvm.MethodName)) ∈ lw_all := lw_g (lw_at lw_m5 56 rfl) rfl
theorem q1126 : (Jvm.Cond.code ({ cls := "SharedWindow", name := "mostSwaps", desc := "(II)I" } : Jvm.MethodName) prog_1_method_45_code (6 : Nat) (Option.some Jvm.ClassFile.FieldType.int)) ∈ lw_all := lw_g (lw_at lw_m5 57 rfl) rfl
theorem q1127 : (Jvm.Cond.methodLink "SharedWindow" (248 : Nat) ({ cls := "java/lang/Integer", name := "numberOfTrailingZeros", desc := "(I)I" } : Jvm.MethodName)) ∈ lw_all := lw_g (lw_at lw_m5 58 rfl) rfl
theorem q1131 : (Jvm.Cond.methodLink "SharedWindow" (254 : Nat) ({ cls := "SharedWindow", name := "wouldSwap", desc := "(III)Z" } : Jvm.MethodName)) ∈ lw_all := lw_g (lw_at lw_m5 62 rfl) rfl
theorem q1132 : (Jvm.Cond.privateMethod ({ cls := "SharedWindow", name := "wouldSwap", desc := "(III)Z" } : Jvm.MethodName)) ∈ lw_tbl := lw_at lw_m5 63 rfl
theorem q1133 : (Jvm.Cond.instanceMethod ({ cls := "SharedWindow", name := "wouldSwap", desc := "(III)Z" } : Jvm.MethodName)) ∈ lw_all := lw_g (lw_at lw_m5 64 rfl) rfl
theorem q1134 : (Jvm.Cond.code ({ cls := "SharedWindow", name := "wouldSwap", desc := "(III)Z" } : Jvm.MethodName) prog_1_method_44_code (4 : Nat) (Option.some Jvm.ClassFile.FieldType.boolean)) ∈ lw_all := lw_g (lw_at lw_m5 65 rfl) rfl
theorem q1135 : (Jvm.Cond.methodLink "SharedWindow" (245 : Nat) ({ cls := "SharedWindow", name := "worth", desc := "(III)I" } : Jvm.MethodName)) ∈ lw_all := lw_g (lw_at lw_m5 66 rfl) rfl
theorem q1136 : (Jvm.Cond.privateMethod ({ cls := "SharedWindow", name := "worth", desc := "(III)I" } : Jvm.MethodName)) ∈ lw_tbl := lw_at lw_m5 67 rfl
theorem q1137 : (Jvm.Cond.instanceMethod ({ cls := "SharedWindow", name := "worth", desc := "(III)I" } : Jvm.MethodName)) ∈ lw_all := lw_g (lw_at lw_m5 68 rfl) rfl
theorem q1138 : (Jvm.Cond.code ({ cls := "SharedWindow", name := "worth", desc := "(III)I" } : Jvm.MethodName) prog_1_method_43_code (4 : Nat) (Option.some Jvm.ClassFile.FieldType.int)) ∈ lw_all := lw_g (lw_at lw_m5 69 rfl) rfl
theorem q1140 : (Jvm.Cond.instanceMethod ({ cls := "SharedWindow", name := "sale", desc := "(II)I" } : Jvm.MethodName)) ∈ lw_all := lw_g (lw_at lw_m5 71 rfl) rfl
theorem q1141 : (Jvm.Cond.selects "SharedWindow" ({ cls := "SharedWindow", name := "sale", desc := "(II)I" } : Jvm.MethodName) ({ cls := "SharedWindow", name := "sale", desc := "(II)I" } : Jvm.MethodName)) ∈ lw_all := lw_g (lw_at lw_m5 72 rfl) rfl
theorem q1142 : (Jvm.Cond.code ({ cls := "SharedWindow", name := "sale", desc := "(II)I" } : Jvm.MethodName) prog_1_method_48_code (3 : Nat) (Option.some Jvm.ClassFile.FieldType.int)) ∈ lw_all := lw_g (lw_at lw_m5 73 rfl) rfl
theorem q1143 : (Jvm.Cond.methodLink "SharedWindow" (260 : Nat) ({ cls := "SharedWindow", name := "sells", desc := "(IIII)V" } : Jvm.MethodName)) ∈ lw_all := lw_g (lw_at lw_m5 74 rfl) rfl
theorem q1144 : (Jvm.Cond.privateMethod ({ cls := "SharedWindow", name := "sells", desc := "(IIII)V" } : Jvm.MethodName)) ∈ lw_tbl := lw_at lw_m5 75 rfl
theorem q1145 : (Jvm.Cond.instanceMethod ({ cls := "SharedWindow", name := "sells", desc := "(IIII)V" } : Jvm.MethodName)) ∈ lw_all := lw_g (lw_at lw_m5 76 rfl) rfl
theorem q1146 : (Jvm.Cond.code ({ cls := "SharedWindow", name := "sells", desc := "(IIII)V" } : Jvm.MethodName) prog_1_method_47_code (6 : Nat) (Option.none : Option Jvm.ClassFile.FieldType)) ∈ lw_all := lw_g (lw_at lw_m5 77 rfl) rfl
theorem q1148 : (Jvm.Cond.instanceMethod ({ cls := "SharedWindow", name := "rotas", desc := "(I)J" } : Jvm.MethodName)) ∈ lw_all := lw_g (lw_at lw_m5 79 rfl) rfl
theorem q1149 : (Jvm.Cond.selects "SharedWindow" ({ cls := "SharedWindow", name := "rotas", desc := "(I)J" } : Jvm.MethodName) ({ cls := "SharedWindow", name := "rotas", desc := "(I)J" } : Jvm.MethodName)) ∈ lw_all := lw_g (lw_at lw_m5 80 rfl) rfl
theorem q1150 : (Jvm.Cond.code ({ cls := "SharedWindow", name := "rotas", desc := "(I)J" } : Jvm.MethodName) prog_1_method_49_code (4 : Nat) (Option.some Jvm.ClassFile.FieldType.long)) ∈ lw_all := lw_g (lw_at lw_m5 81 rfl) rfl
theorem q1151 : (Jvm.Cond.constantLong "SharedWindow" (263 : Nat) (-1 : Int64)) ∈ lw_all := lw_g (lw_at lw_m5 82 rfl) rfl
theorem q1153 : (Jvm.Cond.instanceMethod ({ cls := "SharedWindow", name := "panes", desc := "(II)I" } : Jvm.MethodName)) ∈ lw_all := lw_g (lw_at lw_m5 84 rfl) rfl
theorem q1154 : (Jvm.Cond.selects "SharedWindow" ({ cls := "SharedWindow", name := "panes", desc := "(II)I" } : Jvm.MethodName) ({ cls := "SharedWindow", name := "panes", desc := "(II)I" } : Jvm.MethodName)) ∈ lw_all := lw_g (lw_at lw_m5 85 rfl) rfl
theorem q1155 : (Jvm.Cond.code ({ cls := "SharedWindow", name := "panes", desc := "(II)I" } : Jvm.MethodName) prog_1_method_51_code (8 : Nat) (Option.some Jvm.ClassFile.FieldType.int)) ∈ lw_all := lw_g (lw_at lw_m5 86 rfl) rfl
theorem q1156 : (Jvm.Cond.methodLink "SharedWindow" (265 : Nat) ({ cls := "SharedWindow", name := "areClear", desc := "(IIII)Z" } : Jvm.MethodName)) ∈ lw_all := lw_g (lw_at lw_m5 87 rfl) rfl
theorem q1157 : (Jvm.Cond.privateMethod ({ cls := "SharedWindow", name := "areClear", desc := "(IIII)Z" } : Jvm.MethodName)) ∈ lw_tbl := lw_at lw_m5 88 rfl
theorem q1158 : (Jvm.Cond.instanceMethod ({ cls := "SharedWindow", name := "areClear", desc := "(IIII)Z" } : Jvm.MethodName)) ∈ lw_all := lw_g (lw_at lw_m5 89 rfl) rfl
theorem q1159 : (Jvm.Cond.code ({ cls := "SharedWindow", name := "areClear", desc := "(IIII)Z" } : Jvm.MethodName) prog_1_method_50_code (7 : Nat) (Option.some Jvm.ClassFile.FieldType.boolean)) ∈ lw_all := lw_g (lw_at lw_m5 90 rfl) rfl
theorem q1161 : (Jvm.Cond.instanceMethod ({ cls := "SharedWindow", name := "keepIt", desc := "(II)I" } : Jvm.MethodName)) ∈ lw_all := lw_g (lw_at lw_m5 92 rfl) rfl
theorem q1162 : (Jvm.Cond.selects "SharedWindow" ({ cls := "SharedWindow", name := "keepIt", desc := "(II)I" } : Jvm.MethodName) ({ cls := "SharedWindow", name := "keepIt", desc := "(II)I" } : Jvm.MethodName)) ∈ lw_all := lw_g (lw_at lw_m5 93 rfl) rfl
theorem q1163 : (Jvm.Cond.code ({ cls := "SharedWindow", name := "keepIt", desc := "(II)I" } : Jvm.MethodName) prog_1_method_53_code (5 : Nat) (Option.some Jvm.ClassFile.FieldType.int)) ∈ lw_all := lw_g (lw_at lw_m5 94 rfl) rfl
theorem q1164 : (Jvm.Cond.methodLink "SharedWindow" (269 : Nat) ({ cls := "SharedWindow", name := "hadBy", desc := "(II)I" } : Jvm.MethodName)) ∈ lw_all := lw_g (lw_at lw_m5 95 rfl) rfl
theorem q1165 : (Jvm.Cond.privateMethod ({ cls := "SharedWindow", name := "hadBy", desc := "(II)I" } : Jvm.MethodName)) ∈ lw_tbl := lw_at lw_m5 96 rfl
theorem q1166 : (Jvm.Cond.instanceMethod ({ cls := "SharedWindow", name := "hadBy", desc := "(II)I" } : Jvm.MethodName)) ∈ lw_all := lw_g (lw_at lw_m5 97 rfl) rfl
theorem q1167 : (Jvm.Cond.code ({ cls := "SharedWindow", name := "hadBy", desc := "(II)I" } : Jvm.MethodName) prog_1_method_52_code (5 : Nat) (Option.some Jvm.ClassFile.FieldType.int)) ∈ lw_all := lw_g (lw_at lw_m5 98 rfl) rfl
theorem q1169 : (Jvm.Cond.instanceMethod ({ cls := "SharedWindow", name := "seed", desc := "(I)Z" } : Jvm.MethodName)) ∈ lw_all := lw_g (lw_at lw_m5 100 rfl) rfl
theorem q1170 : (Jvm.Cond.selects "SharedWindow" ({ cls := "SharedWindow", name := "seed", desc := "(I)Z" } : Jvm.MethodName) ({ cls := "SharedWindow", name := "seed", desc := "(I)Z" } : Jvm.MethodName)) ∈ lw_all := lw_g (lw_at lw_m5 101 rfl) rfl
theorem q1171 : (Jvm.Cond.code ({ cls := "SharedWindow", name := "seed", desc := "(I)Z" } : Jvm.MethodName) prog_1_method_54_code (2 : Nat) (Option.some Jvm.ClassFile.FieldType.boolean)) ∈ lw_all := lw_g (lw_at lw_m5 102 rfl) rfl
theorem q1173 : (Jvm.Cond.instanceMethod ({ cls := "SharedWindow", name := "keep", desc := "()I" } : Jvm.MethodName)) ∈ lw_all := lw_g (lw_at lw_m5 104 rfl) rfl
theorem q1174 : (Jvm.Cond.selects "SharedWindow" ({ cls := "SharedWindow", name := "keep", desc := "()I" } : Jvm.MethodName) ({ cls := "SharedWindow", name := "keep", desc := "()I" } : Jvm.MethodName)) ∈ lw_all := lw_g (lw_at lw_m5 105 rfl) rfl
theorem q1175 : (Jvm.Cond.code ({ cls := "SharedWindow", name := "keep", desc := "()I" } : Jvm.MethodName) prog_1_method_55_code (1 : Nat) (Option.some Jvm.ClassFile.FieldType.int)) ∈ lw_all := lw_g (lw_at lw_m5 106 rfl) rfl
theorem q1177 : (Jvm.Cond.instanceMethod ({ cls := "SharedWindow", name := "undo", desc := "()Z" } : Jvm.MethodName)) ∈ lw_all := lw_g (lw_at lw_m5 108 rfl) rfl
theorem q1178 : (Jvm.Cond.selects "SharedWindow" ({ cls := "SharedWindow", name := "undo", desc := "()Z" } : Jvm.MethodName) ({ cls := "SharedWindow", name := "undo", desc := "()Z" } : Jvm.MethodName)) ∈ lw_all := lw_g (lw_at lw_m5 109 rfl) rfl
theorem q1179 : (Jvm.Cond.code ({ cls := "SharedWindow", name := "undo", desc := "()Z" } : Jvm.MethodName) prog_1_method_56_code (1 : Nat) (Option.some Jvm.ClassFile.FieldType.boolean)) ∈ lw_all := lw_g (lw_at lw_m5 110 rfl) rfl
theorem q1180 : (Jvm.Cond.methodLink "SharedWindow" (279 : Nat) ({ cls := "SharedWindow$Street", name := "isAgain", desc := "(LSharedWindow$Street;)V" } : Jvm.MethodName)) ∈ lw_all := lw_g (lw_at lw_m5 111 rfl) rfl
theorem q1187 : (Jvm.Cond.instanceMethod ({ cls := "SharedWindow", name := "check", desc := "(I)I" } : Jvm.MethodName)) ∈ lw_all := lw_g (lw_at lw_m5 118 rfl) rfl
theorem q1188 : (Jvm.Cond.selects "SharedWindow" ({ cls := "SharedWindow", name := "check", desc := "(I)I" } : Jvm.MethodName) ({ cls := "SharedWindow", name := "check", desc := "(I)I" } : Jvm.MethodName)) ∈ lw_all := lw_g (lw_at lw_m5 119 rfl) rfl
theorem q1189 : (Jvm.Cond.code ({ cls := "SharedWindow", name := "check", desc := "(I)I" } : Jvm.MethodName) prog_1_method_57_code (3 : Nat) (Option.some Jvm.ClassFile.FieldType.int)) ∈ lw_all := lw_g (lw_at lw_m5 120 rfl) rfl
theorem q1191 : (Jvm.Cond.instanceMethod ({ cls := "SharedWindow", name := "count", desc := "(I)I" } : Jvm.MethodName)) ∈ lw_all := lw_g (lw_at lw_m5 122 rfl) rfl
theorem q1192 : (Jvm.Cond.selects "SharedWindow" ({ cls := "SharedWindow", name := "count", desc := "(I)I" } : Jvm.MethodName) ({ cls := "SharedWindow", name := "count", desc := "(I)I" } : Jvm.MethodName)) ∈ lw_all := lw_g (lw_at lw_m5 123 rfl) rfl
theorem q1193 : (Jvm.Cond.code ({ cls := "SharedWindow", name := "count", desc := "(I)I" } : Jvm.MethodName) prog_1_method_58_code (2 : Nat) (Option.some Jvm.ClassFile.FieldType.int)) ∈ lw_all := lw_g (lw_at lw_m5 124 rfl) rfl
theorem in_X0 : ∀ w ∈ wsX00, w ∈ lw_all := lw_in wsX00 [317, 319, 321, 323, 325, 327, 329, 331, 333, 335, 337, 339, 341, 343, 345, 347, 349, 351, 353, 355] (by decide +kernel) (by decide +kernel)
