/-! SharedWindow$Plan -/
set_option maxRecDepth 100000
def RX1 : String := "SharedWindow$Plan"
def TX1 : u_T := fun k => match k with
  | 0 => ("SharedWindow$Plan", "facing", "[I", true)
  | 1 => ("SharedWindow$Plan", "side", "[I", true)
  | 2 => ("SharedWindow$Plan", "from", "[I", true)
  | 3 => ("SharedWindow$Plan", "till", "[I", true)
  | 4 => ("SharedWindow$Plan", "houses", "I", false)
  | _ => ("SharedWindow$Plan", "things", "I", false)
def tyX1 : Nat → FieldType := fun k => match k with
  | 0 => .array .int
  | 1 => .array .int
  | 2 => .array .int
  | 3 => .array .int
  | 4 => .int
  | _ => .int
abbrev wsX10 : List Cond := u_ws RX1 TX1 6
theorem nmX1 : ∀ a, a < 6 → ∀ b, b < 6 → a ≠ b → (TX1 a).2.1 ≠ (TX1 b).2.1 := by decide +kernel
theorem tyX1_ok : ∀ k, k < 6 → parseFieldDescriptor (TX1 k).2.2.1 = some (tyX1 k) := by decide +kernel
abbrev cX1_init : ByteArray := prog_10_method_1_code
def yX1_init : MethodName := ⟨RX1, "<init>", "()V"⟩
def dkwX1_init_1 : List UInt8 := [188, 10, 181, 0, 18, 42, 16, 16, 188, 10, 181, 0, 21, 177]
abbrev dktX1_init_1 : List UInt8 := dkwX1_init_1 ++ []
def dkwX1_init_0 : List UInt8 := [42, 183, 0, 3, 42, 16, 16, 188, 10, 181, 0, 9, 42, 16, 16, 188, 10, 181, 0, 15, 42, 16, 16]
abbrev dktX1_init_0 : List UInt8 := dkwX1_init_0 ++ dktX1_init_1
theorem dksX1_init_0 : cX1_init.data.toList.drop 0 = dktX1_init_0 := by decide +kernel
theorem dksX1_init_1 : cX1_init.data.toList.drop 23 = dktX1_init_1 := dk_seg dksX1_init_0 23 rfl rfl
theorem dX1_init_0 : decode cX1_init 0 = .ok (.aload_n 0, 1) := dk_42 (dk_at dksX1_init_0 0 rfl rfl)
theorem dX1_init_1 : decode cX1_init 1 = .ok (.invokespecial 3, 3) := dk_183 0 3 (dk_at dksX1_init_0 1 rfl rfl)
theorem dX1_init_4 : decode cX1_init 4 = .ok (.aload_n 0, 1) := dk_42 (dk_at dksX1_init_0 4 rfl rfl)
theorem dX1_init_5 : decode cX1_init 5 = .ok (.bipush 16, 2) := dk_16 16 (dk_at dksX1_init_0 5 rfl rfl)
theorem dX1_init_7 : decode cX1_init 7 = .ok (.newarray .int, 2) := dk_188_10 (dk_at dksX1_init_0 7 rfl rfl)
theorem dX1_init_9 : decode cX1_init 9 = .ok (.putfield 9, 3) := dk_181 0 9 (dk_at dksX1_init_0 9 rfl rfl)
theorem dX1_init_12 : decode cX1_init 12 = .ok (.aload_n 0, 1) := dk_42 (dk_at dksX1_init_0 12 rfl rfl)
theorem dX1_init_13 : decode cX1_init 13 = .ok (.bipush 16, 2) := dk_16 16 (dk_at dksX1_init_0 13 rfl rfl)
theorem dX1_init_15 : decode cX1_init 15 = .ok (.newarray .int, 2) := dk_188_10 (dk_at dksX1_init_0 15 rfl rfl)
theorem dX1_init_17 : decode cX1_init 17 = .ok (.putfield 15, 3) := dk_181 0 15 (dk_at dksX1_init_0 17 rfl rfl)
theorem dX1_init_20 : decode cX1_init 20 = .ok (.aload_n 0, 1) := dk_42 (dk_at dksX1_init_0 20 rfl rfl)
theorem dX1_init_21 : decode cX1_init 21 = .ok (.bipush 16, 2) := dk_16 16 (dk_at dksX1_init_0 21 rfl rfl)
theorem dX1_init_23 : decode cX1_init 23 = .ok (.newarray .int, 2) := dk_188_10 (dk_at dksX1_init_1 0 rfl rfl)
theorem dX1_init_25 : decode cX1_init 25 = .ok (.putfield 18, 3) := dk_181 0 18 (dk_at dksX1_init_1 2 rfl rfl)
theorem dX1_init_28 : decode cX1_init 28 = .ok (.aload_n 0, 1) := dk_42 (dk_at dksX1_init_1 5 rfl rfl)
theorem dX1_init_29 : decode cX1_init 29 = .ok (.bipush 16, 2) := dk_16 16 (dk_at dksX1_init_1 6 rfl rfl)
theorem dX1_init_31 : decode cX1_init 31 = .ok (.newarray .int, 2) := dk_188_10 (dk_at dksX1_init_1 8 rfl rfl)
theorem dX1_init_33 : decode cX1_init 33 = .ok (.putfield 21, 3) := dk_181 0 21 (dk_at dksX1_init_1 10 rfl rfl)
theorem dX1_init_36 : decode cX1_init 36 = .ok (.return_, 1) := dk_177 (dk_at dksX1_init_1 13 rfl rfl)
abbrev cX1_isHouse : ByteArray := prog_10_method_3_code
def yX1_isHouse : MethodName := ⟨RX1, "isHouse", "(I)Z"⟩
def dkwX1_isHouse_1 : List UInt8 := [167, 0, 4, 3, 172]
abbrev dktX1_isHouse_1 : List UInt8 := dkwX1_isHouse_1 ++ []
def dkwX1_isHouse_0 : List UInt8 := [27, 155, 0, 25, 27, 16, 16, 162, 0, 19, 42, 180, 0, 24, 27, 122, 4, 126, 4, 160, 0, 7, 4]
abbrev dktX1_isHouse_0 : List UInt8 := dkwX1_isHouse_0 ++ dktX1_isHouse_1
theorem dksX1_isHouse_0 : cX1_isHouse.data.toList.drop 0 = dktX1_isHouse_0 := by decide +kernel
theorem dksX1_isHouse_1 : cX1_isHouse.data.toList.drop 23 = dktX1_isHouse_1 := dk_seg dksX1_isHouse_0 23 rfl rfl
theorem dX1_isHouse_0 : decode cX1_isHouse 0 = .ok (.iload_n 1, 1) := dk_27 (dk_at dksX1_isHouse_0 0 rfl rfl)
theorem dX1_isHouse_1 : decode cX1_isHouse 1 = .ok (.ifCond .lt 25, 3) := dk_155 0 25 (dk_at dksX1_isHouse_0 1 rfl rfl)
theorem dX1_isHouse_4 : decode cX1_isHouse 4 = .ok (.iload_n 1, 1) := dk_27 (dk_at dksX1_isHouse_0 4 rfl rfl)
theorem dX1_isHouse_5 : decode cX1_isHouse 5 = .ok (.bipush 16, 2) := dk_16 16 (dk_at dksX1_isHouse_0 5 rfl rfl)
theorem dX1_isHouse_7 : decode cX1_isHouse 7 = .ok (.if_icmp .ge 19, 3) := dk_162 0 19 (dk_at dksX1_isHouse_0 7 rfl rfl)
theorem dX1_isHouse_10 : decode cX1_isHouse 10 = .ok (.aload_n 0, 1) := dk_42 (dk_at dksX1_isHouse_0 10 rfl rfl)
theorem dX1_isHouse_11 : decode cX1_isHouse 11 = .ok (.getfield 24, 3) := dk_180 0 24 (dk_at dksX1_isHouse_0 11 rfl rfl)
theorem dX1_isHouse_14 : decode cX1_isHouse 14 = .ok (.iload_n 1, 1) := dk_27 (dk_at dksX1_isHouse_0 14 rfl rfl)
theorem dX1_isHouse_15 : decode cX1_isHouse 15 = .ok (.ishr, 1) := dk_122 (dk_at dksX1_isHouse_0 15 rfl rfl)
theorem dX1_isHouse_16 : decode cX1_isHouse 16 = .ok (.iconst 1, 1) := dk_4 (dk_at dksX1_isHouse_0 16 rfl rfl)
theorem dX1_isHouse_17 : decode cX1_isHouse 17 = .ok (.iand, 1) := dk_126 (dk_at dksX1_isHouse_0 17 rfl rfl)
theorem dX1_isHouse_18 : decode cX1_isHouse 18 = .ok (.iconst 1, 1) := dk_4 (dk_at dksX1_isHouse_0 18 rfl rfl)
theorem dX1_isHouse_19 : decode cX1_isHouse 19 = .ok (.if_icmp .ne 7, 3) := dk_160 0 7 (dk_at dksX1_isHouse_0 19 rfl rfl)
theorem dX1_isHouse_22 : decode cX1_isHouse 22 = .ok (.iconst 1, 1) := dk_4 (dk_at dksX1_isHouse_0 22 rfl rfl)
theorem dX1_isHouse_23 : decode cX1_isHouse 23 = .ok (.goto 4, 3) := dk_167 0 4 (dk_at dksX1_isHouse_1 0 rfl rfl)
theorem dX1_isHouse_26 : decode cX1_isHouse 26 = .ok (.iconst 0, 1) := dk_3 (dk_at dksX1_isHouse_1 3 rfl rfl)
theorem dX1_isHouse_27 : decode cX1_isHouse 27 = .ok (.ireturn, 1) := dk_172 (dk_at dksX1_isHouse_1 4 rfl rfl)
abbrev cX1_isThing : ByteArray := prog_10_method_4_code
def yX1_isThing : MethodName := ⟨RX1, "isThing", "(I)Z"⟩
def dkwX1_isThing_1 : List UInt8 := [167, 0, 4, 3, 172]
abbrev dktX1_isThing_1 : List UInt8 := dkwX1_isThing_1 ++ []
def dkwX1_isThing_0 : List UInt8 := [27, 155, 0, 25, 27, 16, 16, 162, 0, 19, 42, 180, 0, 28, 27, 122, 4, 126, 4, 160, 0, 7, 4]
abbrev dktX1_isThing_0 : List UInt8 := dkwX1_isThing_0 ++ dktX1_isThing_1
theorem dksX1_isThing_0 : cX1_isThing.data.toList.drop 0 = dktX1_isThing_0 := by decide +kernel
theorem dksX1_isThing_1 : cX1_isThing.data.toList.drop 23 = dktX1_isThing_1 := dk_seg dksX1_isThing_0 23 rfl rfl
theorem dX1_isThing_0 : decode cX1_isThing 0 = .ok (.iload_n 1, 1) := dk_27 (dk_at dksX1_isThing_0 0 rfl rfl)
theorem dX1_isThing_1 : decode cX1_isThing 1 = .ok (.ifCond .lt 25, 3) := dk_155 0 25 (dk_at dksX1_isThing_0 1 rfl rfl)
theorem dX1_isThing_4 : decode cX1_isThing 4 = .ok (.iload_n 1, 1) := dk_27 (dk_at dksX1_isThing_0 4 rfl rfl)
theorem dX1_isThing_5 : decode cX1_isThing 5 = .ok (.bipush 16, 2) := dk_16 16 (dk_at dksX1_isThing_0 5 rfl rfl)
theorem dX1_isThing_7 : decode cX1_isThing 7 = .ok (.if_icmp .ge 19, 3) := dk_162 0 19 (dk_at dksX1_isThing_0 7 rfl rfl)
theorem dX1_isThing_10 : decode cX1_isThing 10 = .ok (.aload_n 0, 1) := dk_42 (dk_at dksX1_isThing_0 10 rfl rfl)
theorem dX1_isThing_11 : decode cX1_isThing 11 = .ok (.getfield 28, 3) := dk_180 0 28 (dk_at dksX1_isThing_0 11 rfl rfl)
theorem dX1_isThing_14 : decode cX1_isThing 14 = .ok (.iload_n 1, 1) := dk_27 (dk_at dksX1_isThing_0 14 rfl rfl)
theorem dX1_isThing_15 : decode cX1_isThing 15 = .ok (.ishr, 1) := dk_122 (dk_at dksX1_isThing_0 15 rfl rfl)
theorem dX1_isThing_16 : decode cX1_isThing 16 = .ok (.iconst 1, 1) := dk_4 (dk_at dksX1_isThing_0 16 rfl rfl)
theorem dX1_isThing_17 : decode cX1_isThing 17 = .ok (.iand, 1) := dk_126 (dk_at dksX1_isThing_0 17 rfl rfl)
theorem dX1_isThing_18 : decode cX1_isThing 18 = .ok (.iconst 1, 1) := dk_4 (dk_at dksX1_isThing_0 18 rfl rfl)
theorem dX1_isThing_19 : decode cX1_isThing 19 = .ok (.if_icmp .ne 7, 3) := dk_160 0 7 (dk_at dksX1_isThing_0 19 rfl rfl)
theorem dX1_isThing_22 : decode cX1_isThing 22 = .ok (.iconst 1, 1) := dk_4 (dk_at dksX1_isThing_0 22 rfl rfl)
theorem dX1_isThing_23 : decode cX1_isThing 23 = .ok (.goto 4, 3) := dk_167 0 4 (dk_at dksX1_isThing_1 0 rfl rfl)
theorem dX1_isThing_26 : decode cX1_isThing 26 = .ok (.iconst 0, 1) := dk_3 (dk_at dksX1_isThing_1 3 rfl rfl)
theorem dX1_isThing_27 : decode cX1_isThing 27 = .ok (.ireturn, 1) := dk_172 (dk_at dksX1_isThing_1 4 rfl rfl)
abbrev cX1_takes : ByteArray := prog_10_method_2_code
def yX1_takes : MethodName := ⟨RX1, "takes", "(LSharedWindow$Plan;)V"⟩
def dkwX1_takes_3 : List UInt8 := [132, 2, 1, 167, 255, 199, 177]
abbrev dktX1_takes_3 : List UInt8 := dkwX1_takes_3 ++ []
def dkwX1_takes_2 : List UInt8 := [42, 180, 0, 18, 28, 43, 180, 0, 18, 28, 46, 79, 42, 180, 0, 21, 28, 43, 180, 0, 21, 28, 46, 79]
abbrev dktX1_takes_2 : List UInt8 := dkwX1_takes_2 ++ dktX1_takes_3
def dkwX1_takes_1 : List UInt8 := [42, 180, 0, 9, 28, 43, 180, 0, 9, 28, 46, 79, 42, 180, 0, 15, 28, 43, 180, 0, 15, 28, 46, 79]
abbrev dktX1_takes_1 : List UInt8 := dkwX1_takes_1 ++ dktX1_takes_2
def dkwX1_takes_0 : List UInt8 := [42, 43, 180, 0, 24, 181, 0, 24, 42, 43, 180, 0, 28, 181, 0, 28, 3, 61, 28, 16, 16, 162, 0, 57]
abbrev dktX1_takes_0 : List UInt8 := dkwX1_takes_0 ++ dktX1_takes_1
theorem dksX1_takes_0 : cX1_takes.data.toList.drop 0 = dktX1_takes_0 := by decide +kernel
theorem dksX1_takes_1 : cX1_takes.data.toList.drop 24 = dktX1_takes_1 := dk_seg dksX1_takes_0 24 rfl rfl
theorem dksX1_takes_2 : cX1_takes.data.toList.drop 48 = dktX1_takes_2 := dk_seg dksX1_takes_1 24 rfl rfl
theorem dksX1_takes_3 : cX1_takes.data.toList.drop 72 = dktX1_takes_3 := dk_seg dksX1_takes_2 24 rfl rfl
theorem dX1_takes_0 : decode cX1_takes 0 = .ok (.aload_n 0, 1) := dk_42 (dk_at dksX1_takes_0 0 rfl rfl)
theorem dX1_takes_1 : decode cX1_takes 1 = .ok (.aload_n 1, 1) := dk_43 (dk_at dksX1_takes_0 1 rfl rfl)
theorem dX1_takes_2 : decode cX1_takes 2 = .ok (.getfield 24, 3) := dk_180 0 24 (dk_at dksX1_takes_0 2 rfl rfl)
theorem dX1_takes_5 : decode cX1_takes 5 = .ok (.putfield 24, 3) := dk_181 0 24 (dk_at dksX1_takes_0 5 rfl rfl)
theorem dX1_takes_8 : decode cX1_takes 8 = .ok (.aload_n 0, 1) := dk_42 (dk_at dksX1_takes_0 8 rfl rfl)
theorem dX1_takes_9 : decode cX1_takes 9 = .ok (.aload_n 1, 1) := dk_43 (dk_at dksX1_takes_0 9 rfl rfl)
theorem dX1_takes_10 : decode cX1_takes 10 = .ok (.getfield 28, 3) := dk_180 0 28 (dk_at dksX1_takes_0 10 rfl rfl)
theorem dX1_takes_13 : decode cX1_takes 13 = .ok (.putfield 28, 3) := dk_181 0 28 (dk_at dksX1_takes_0 13 rfl rfl)
theorem dX1_takes_16 : decode cX1_takes 16 = .ok (.iconst 0, 1) := dk_3 (dk_at dksX1_takes_0 16 rfl rfl)
theorem dX1_takes_17 : decode cX1_takes 17 = .ok (.istore_n 2, 1) := dk_61 (dk_at dksX1_takes_0 17 rfl rfl)
theorem dX1_takes_18 : decode cX1_takes 18 = .ok (.iload_n 2, 1) := dk_28 (dk_at dksX1_takes_0 18 rfl rfl)
theorem dX1_takes_19 : decode cX1_takes 19 = .ok (.bipush 16, 2) := dk_16 16 (dk_at dksX1_takes_0 19 rfl rfl)
theorem dX1_takes_21 : decode cX1_takes 21 = .ok (.if_icmp .ge 57, 3) := dk_162 0 57 (dk_at dksX1_takes_0 21 rfl rfl)
theorem dX1_takes_24 : decode cX1_takes 24 = .ok (.aload_n 0, 1) := dk_42 (dk_at dksX1_takes_1 0 rfl rfl)
theorem dX1_takes_25 : decode cX1_takes 25 = .ok (.getfield 9, 3) := dk_180 0 9 (dk_at dksX1_takes_1 1 rfl rfl)
theorem dX1_takes_28 : decode cX1_takes 28 = .ok (.iload_n 2, 1) := dk_28 (dk_at dksX1_takes_1 4 rfl rfl)
theorem dX1_takes_29 : decode cX1_takes 29 = .ok (.aload_n 1, 1) := dk_43 (dk_at dksX1_takes_1 5 rfl rfl)
theorem dX1_takes_30 : decode cX1_takes 30 = .ok (.getfield 9, 3) := dk_180 0 9 (dk_at dksX1_takes_1 6 rfl rfl)
theorem dX1_takes_33 : decode cX1_takes 33 = .ok (.iload_n 2, 1) := dk_28 (dk_at dksX1_takes_1 9 rfl rfl)
theorem dX1_takes_34 : decode cX1_takes 34 = .ok (.iaload, 1) := dk_46 (dk_at dksX1_takes_1 10 rfl rfl)
theorem dX1_takes_35 : decode cX1_takes 35 = .ok (.iastore, 1) := dk_79 (dk_at dksX1_takes_1 11 rfl rfl)
theorem dX1_takes_36 : decode cX1_takes 36 = .ok (.aload_n 0, 1) := dk_42 (dk_at dksX1_takes_1 12 rfl rfl)
theorem dX1_takes_37 : decode cX1_takes 37 = .ok (.getfield 15, 3) := dk_180 0 15 (dk_at dksX1_takes_1 13 rfl rfl)
theorem dX1_takes_40 : decode cX1_takes 40 = .ok (.iload_n 2, 1) := dk_28 (dk_at dksX1_takes_1 16 rfl rfl)
theorem dX1_takes_41 : decode cX1_takes 41 = .ok (.aload_n 1, 1) := dk_43 (dk_at dksX1_takes_1 17 rfl rfl)
theorem dX1_takes_42 : decode cX1_takes 42 = .ok (.getfield 15, 3) := dk_180 0 15 (dk_at dksX1_takes_1 18 rfl rfl)
theorem dX1_takes_45 : decode cX1_takes 45 = .ok (.iload_n 2, 1) := dk_28 (dk_at dksX1_takes_1 21 rfl rfl)
theorem dX1_takes_46 : decode cX1_takes 46 = .ok (.iaload, 1) := dk_46 (dk_at dksX1_takes_1 22 rfl rfl)
theorem dX1_takes_47 : decode cX1_takes 47 = .ok (.iastore, 1) := dk_79 (dk_at dksX1_takes_1 23 rfl rfl)
theorem dX1_takes_48 : decode cX1_takes 48 = .ok (.aload_n 0, 1) := dk_42 (dk_at dksX1_takes_2 0 rfl rfl)
theorem dX1_takes_49 : decode cX1_takes 49 = .ok (.getfield 18, 3) := dk_180 0 18 (dk_at dksX1_takes_2 1 rfl rfl)
theorem dX1_takes_52 : decode cX1_takes 52 = .ok (.iload_n 2, 1) := dk_28 (dk_at dksX1_takes_2 4 rfl rfl)
theorem dX1_takes_53 : decode cX1_takes 53 = .ok (.aload_n 1, 1) := dk_43 (dk_at dksX1_takes_2 5 rfl rfl)
theorem dX1_takes_54 : decode cX1_takes 54 = .ok (.getfield 18, 3) := dk_180 0 18 (dk_at dksX1_takes_2 6 rfl rfl)
theorem dX1_takes_57 : decode cX1_takes 57 = .ok (.iload_n 2, 1) := dk_28 (dk_at dksX1_takes_2 9 rfl rfl)
theorem dX1_takes_58 : decode cX1_takes 58 = .ok (.iaload, 1) := dk_46 (dk_at dksX1_takes_2 10 rfl rfl)
theorem dX1_takes_59 : decode cX1_takes 59 = .ok (.iastore, 1) := dk_79 (dk_at dksX1_takes_2 11 rfl rfl)
theorem dX1_takes_60 : decode cX1_takes 60 = .ok (.aload_n 0, 1) := dk_42 (dk_at dksX1_takes_2 12 rfl rfl)
theorem dX1_takes_61 : decode cX1_takes 61 = .ok (.getfield 21, 3) := dk_180 0 21 (dk_at dksX1_takes_2 13 rfl rfl)
theorem dX1_takes_64 : decode cX1_takes 64 = .ok (.iload_n 2, 1) := dk_28 (dk_at dksX1_takes_2 16 rfl rfl)
theorem dX1_takes_65 : decode cX1_takes 65 = .ok (.aload_n 1, 1) := dk_43 (dk_at dksX1_takes_2 17 rfl rfl)
theorem dX1_takes_66 : decode cX1_takes 66 = .ok (.getfield 21, 3) := dk_180 0 21 (dk_at dksX1_takes_2 18 rfl rfl)
theorem dX1_takes_69 : decode cX1_takes 69 = .ok (.iload_n 2, 1) := dk_28 (dk_at dksX1_takes_2 21 rfl rfl)
theorem dX1_takes_70 : decode cX1_takes 70 = .ok (.iaload, 1) := dk_46 (dk_at dksX1_takes_2 22 rfl rfl)
theorem dX1_takes_71 : decode cX1_takes 71 = .ok (.iastore, 1) := dk_79 (dk_at dksX1_takes_2 23 rfl rfl)
theorem dX1_takes_72 : decode cX1_takes 72 = .ok (.iinc 2 1, 3) := dk_132 2 1 (dk_at dksX1_takes_3 0 rfl rfl)
theorem dX1_takes_75 : decode cX1_takes 75 = .ok (.goto (-57), 3) := dk_167 255 199 (dk_at dksX1_takes_3 3 rfl rfl)
theorem dX1_takes_78 : decode cX1_takes 78 = .ok (.return_, 1) := dk_177 (dk_at dksX1_takes_3 6 rfl rfl)
abbrev cX1_seen : ByteArray := prog_10_method_6_code
def yX1_seen : MethodName := ⟨RX1, "seen", "(II)I"⟩
def dkwX1_seen_2 : List UInt8 := [167, 255, 215, 29, 172]
abbrev dktX1_seen_2 : List UInt8 := dkwX1_seen_2 ++ []
def dkwX1_seen_1 : List UInt8 := [21, 4, 28, 182, 0, 41, 153, 0, 10, 4, 21, 4, 120, 167, 0, 4, 3, 128, 62, 132, 4, 1]
abbrev dktX1_seen_1 : List UInt8 := dkwX1_seen_1 ++ dktX1_seen_2
def dkwX1_seen_0 : List UInt8 := [3, 62, 3, 54, 4, 21, 4, 16, 16, 162, 0, 40, 29, 42, 21, 4, 182, 0, 37, 153, 0, 21, 42, 27]
abbrev dktX1_seen_0 : List UInt8 := dkwX1_seen_0 ++ dktX1_seen_1
theorem dksX1_seen_0 : cX1_seen.data.toList.drop 0 = dktX1_seen_0 := by decide +kernel
theorem dksX1_seen_1 : cX1_seen.data.toList.drop 24 = dktX1_seen_1 := dk_seg dksX1_seen_0 24 rfl rfl
theorem dksX1_seen_2 : cX1_seen.data.toList.drop 46 = dktX1_seen_2 := dk_seg dksX1_seen_1 22 rfl rfl
theorem dX1_seen_0 : decode cX1_seen 0 = .ok (.iconst 0, 1) := dk_3 (dk_at dksX1_seen_0 0 rfl rfl)
theorem dX1_seen_1 : decode cX1_seen 1 = .ok (.istore_n 3, 1) := dk_62 (dk_at dksX1_seen_0 1 rfl rfl)
theorem dX1_seen_2 : decode cX1_seen 2 = .ok (.iconst 0, 1) := dk_3 (dk_at dksX1_seen_0 2 rfl rfl)
theorem dX1_seen_3 : decode cX1_seen 3 = .ok (.istore 4, 2) := dk_54 4 (dk_at dksX1_seen_0 3 rfl rfl)
theorem dX1_seen_5 : decode cX1_seen 5 = .ok (.iload 4, 2) := dk_21 4 (dk_at dksX1_seen_0 5 rfl rfl)
theorem dX1_seen_7 : decode cX1_seen 7 = .ok (.bipush 16, 2) := dk_16 16 (dk_at dksX1_seen_0 7 rfl rfl)
theorem dX1_seen_9 : decode cX1_seen 9 = .ok (.if_icmp .ge 40, 3) := dk_162 0 40 (dk_at dksX1_seen_0 9 rfl rfl)
theorem dX1_seen_12 : decode cX1_seen 12 = .ok (.iload_n 3, 1) := dk_29 (dk_at dksX1_seen_0 12 rfl rfl)
theorem dX1_seen_13 : decode cX1_seen 13 = .ok (.aload_n 0, 1) := dk_42 (dk_at dksX1_seen_0 13 rfl rfl)
theorem dX1_seen_14 : decode cX1_seen 14 = .ok (.iload 4, 2) := dk_21 4 (dk_at dksX1_seen_0 14 rfl rfl)
theorem dX1_seen_16 : decode cX1_seen 16 = .ok (.invokevirtual 37, 3) := dk_182 0 37 (dk_at dksX1_seen_0 16 rfl rfl)
theorem dX1_seen_19 : decode cX1_seen 19 = .ok (.ifCond .eq 21, 3) := dk_153 0 21 (dk_at dksX1_seen_0 19 rfl rfl)
theorem dX1_seen_22 : decode cX1_seen 22 = .ok (.aload_n 0, 1) := dk_42 (dk_at dksX1_seen_0 22 rfl rfl)
theorem dX1_seen_23 : decode cX1_seen 23 = .ok (.iload_n 1, 1) := dk_27 (dk_at dksX1_seen_0 23 rfl rfl)
theorem dX1_seen_24 : decode cX1_seen 24 = .ok (.iload 4, 2) := dk_21 4 (dk_at dksX1_seen_1 0 rfl rfl)
theorem dX1_seen_26 : decode cX1_seen 26 = .ok (.iload_n 2, 1) := dk_28 (dk_at dksX1_seen_1 2 rfl rfl)
theorem dX1_seen_27 : decode cX1_seen 27 = .ok (.invokevirtual 41, 3) := dk_182 0 41 (dk_at dksX1_seen_1 3 rfl rfl)
theorem dX1_seen_30 : decode cX1_seen 30 = .ok (.ifCond .eq 10, 3) := dk_153 0 10 (dk_at dksX1_seen_1 6 rfl rfl)
theorem dX1_seen_33 : decode cX1_seen 33 = .ok (.iconst 1, 1) := dk_4 (dk_at dksX1_seen_1 9 rfl rfl)
theorem dX1_seen_34 : decode cX1_seen 34 = .ok (.iload 4, 2) := dk_21 4 (dk_at dksX1_seen_1 10 rfl rfl)
theorem dX1_seen_36 : decode cX1_seen 36 = .ok (.ishl, 1) := dk_120 (dk_at dksX1_seen_1 12 rfl rfl)
theorem dX1_seen_37 : decode cX1_seen 37 = .ok (.goto 4, 3) := dk_167 0 4 (dk_at dksX1_seen_1 13 rfl rfl)
theorem dX1_seen_40 : decode cX1_seen 40 = .ok (.iconst 0, 1) := dk_3 (dk_at dksX1_seen_1 16 rfl rfl)
theorem dX1_seen_41 : decode cX1_seen 41 = .ok (.ior, 1) := dk_128 (dk_at dksX1_seen_1 17 rfl rfl)
theorem dX1_seen_42 : decode cX1_seen 42 = .ok (.istore_n 3, 1) := dk_62 (dk_at dksX1_seen_1 18 rfl rfl)
theorem dX1_seen_43 : decode cX1_seen 43 = .ok (.iinc 4 1, 3) := dk_132 4 1 (dk_at dksX1_seen_1 19 rfl rfl)
theorem dX1_seen_46 : decode cX1_seen 46 = .ok (.goto (-41), 3) := dk_167 255 215 (dk_at dksX1_seen_2 0 rfl rfl)
theorem dX1_seen_49 : decode cX1_seen 49 = .ok (.iload_n 3, 1) := dk_29 (dk_at dksX1_seen_2 3 rfl rfl)
theorem dX1_seen_50 : decode cX1_seen 50 = .ok (.ireturn, 1) := dk_172 (dk_at dksX1_seen_2 4 rfl rfl)
abbrev cX1_isSeen : ByteArray := prog_10_method_5_code
def yX1_isSeen : MethodName := ⟨RX1, "isSeen", "(III)Z"⟩
def dkwX1_isSeen_4 : List UInt8 := [153, 0, 13, 21, 4, 6, 162, 0, 7, 4, 167, 0, 4, 3, 172]
abbrev dktX1_isSeen_4 : List UInt8 := dkwX1_isSeen_4 ++ []
def dkwX1_isSeen_3 : List UInt8 := [46, 162, 0, 13, 29, 42, 180, 0, 21, 28, 46, 163, 0, 7, 4, 167, 0, 4, 3, 54, 5, 21, 5]
abbrev dktX1_isSeen_3 : List UInt8 := dkwX1_isSeen_3 ++ dktX1_isSeen_4
def dkwX1_isSeen_2 : List UInt8 := [29, 42, 180, 0, 21, 28, 46, 163, 0, 7, 4, 167, 0, 32, 3, 167, 0, 28, 29, 42, 180, 0, 18, 28]
abbrev dktX1_isSeen_2 : List UInt8 := dkwX1_isSeen_2 ++ dktX1_isSeen_3
def dkwX1_isSeen_1 : List UInt8 := [180, 0, 18, 28, 46, 42, 180, 0, 21, 28, 46, 163, 0, 31, 29, 42, 180, 0, 18, 28, 46, 161, 0, 17]
abbrev dktX1_isSeen_1 : List UInt8 := dkwX1_isSeen_1 ++ dktX1_isSeen_2
def dkwX1_isSeen_0 : List UInt8 := [42, 180, 0, 15, 28, 46, 42, 180, 0, 9, 27, 46, 100, 4, 96, 16, 12, 184, 0, 31, 54, 4, 42]
abbrev dktX1_isSeen_0 : List UInt8 := dkwX1_isSeen_0 ++ dktX1_isSeen_1
theorem dksX1_isSeen_0 : cX1_isSeen.data.toList.drop 0 = dktX1_isSeen_0 := by decide +kernel
theorem dksX1_isSeen_1 : cX1_isSeen.data.toList.drop 23 = dktX1_isSeen_1 := dk_seg dksX1_isSeen_0 23 rfl rfl
theorem dksX1_isSeen_2 : cX1_isSeen.data.toList.drop 47 = dktX1_isSeen_2 := dk_seg dksX1_isSeen_1 24 rfl rfl
theorem dksX1_isSeen_3 : cX1_isSeen.data.toList.drop 71 = dktX1_isSeen_3 := dk_seg dksX1_isSeen_2 24 rfl rfl
theorem dksX1_isSeen_4 : cX1_isSeen.data.toList.drop 94 = dktX1_isSeen_4 := dk_seg dksX1_isSeen_3 23 rfl rfl
theorem dX1_isSeen_0 : decode cX1_isSeen 0 = .ok (.aload_n 0, 1) := dk_42 (dk_at dksX1_isSeen_0 0 rfl rfl)
theorem dX1_isSeen_1 : decode cX1_isSeen 1 = .ok (.getfield 15, 3) := dk_180 0 15 (dk_at dksX1_isSeen_0 1 rfl rfl)
theorem dX1_isSeen_4 : decode cX1_isSeen 4 = .ok (.iload_n 2, 1) := dk_28 (dk_at dksX1_isSeen_0 4 rfl rfl)
theorem dX1_isSeen_5 : decode cX1_isSeen 5 = .ok (.iaload, 1) := dk_46 (dk_at dksX1_isSeen_0 5 rfl rfl)
theorem dX1_isSeen_6 : decode cX1_isSeen 6 = .ok (.aload_n 0, 1) := dk_42 (dk_at dksX1_isSeen_0 6 rfl rfl)
theorem dX1_isSeen_7 : decode cX1_isSeen 7 = .ok (.getfield 9, 3) := dk_180 0 9 (dk_at dksX1_isSeen_0 7 rfl rfl)
theorem dX1_isSeen_10 : decode cX1_isSeen 10 = .ok (.iload_n 1, 1) := dk_27 (dk_at dksX1_isSeen_0 10 rfl rfl)
theorem dX1_isSeen_11 : decode cX1_isSeen 11 = .ok (.iaload, 1) := dk_46 (dk_at dksX1_isSeen_0 11 rfl rfl)
theorem dX1_isSeen_12 : decode cX1_isSeen 12 = .ok (.isub, 1) := dk_100 (dk_at dksX1_isSeen_0 12 rfl rfl)
theorem dX1_isSeen_13 : decode cX1_isSeen 13 = .ok (.iconst 1, 1) := dk_4 (dk_at dksX1_isSeen_0 13 rfl rfl)
theorem dX1_isSeen_14 : decode cX1_isSeen 14 = .ok (.iadd, 1) := dk_96 (dk_at dksX1_isSeen_0 14 rfl rfl)
theorem dX1_isSeen_15 : decode cX1_isSeen 15 = .ok (.bipush 12, 2) := dk_16 12 (dk_at dksX1_isSeen_0 15 rfl rfl)
theorem dX1_isSeen_17 : decode cX1_isSeen 17 = .ok (.invokestatic 31, 3) := dk_184 0 31 (dk_at dksX1_isSeen_0 17 rfl rfl)
theorem dX1_isSeen_20 : decode cX1_isSeen 20 = .ok (.istore 4, 2) := dk_54 4 (dk_at dksX1_isSeen_0 20 rfl rfl)
theorem dX1_isSeen_22 : decode cX1_isSeen 22 = .ok (.aload_n 0, 1) := dk_42 (dk_at dksX1_isSeen_0 22 rfl rfl)
theorem dX1_isSeen_23 : decode cX1_isSeen 23 = .ok (.getfield 18, 3) := dk_180 0 18 (dk_at dksX1_isSeen_1 0 rfl rfl)
theorem dX1_isSeen_26 : decode cX1_isSeen 26 = .ok (.iload_n 2, 1) := dk_28 (dk_at dksX1_isSeen_1 3 rfl rfl)
theorem dX1_isSeen_27 : decode cX1_isSeen 27 = .ok (.iaload, 1) := dk_46 (dk_at dksX1_isSeen_1 4 rfl rfl)
theorem dX1_isSeen_28 : decode cX1_isSeen 28 = .ok (.aload_n 0, 1) := dk_42 (dk_at dksX1_isSeen_1 5 rfl rfl)
theorem dX1_isSeen_29 : decode cX1_isSeen 29 = .ok (.getfield 21, 3) := dk_180 0 21 (dk_at dksX1_isSeen_1 6 rfl rfl)
theorem dX1_isSeen_32 : decode cX1_isSeen 32 = .ok (.iload_n 2, 1) := dk_28 (dk_at dksX1_isSeen_1 9 rfl rfl)
theorem dX1_isSeen_33 : decode cX1_isSeen 33 = .ok (.iaload, 1) := dk_46 (dk_at dksX1_isSeen_1 10 rfl rfl)
theorem dX1_isSeen_34 : decode cX1_isSeen 34 = .ok (.if_icmp .gt 31, 3) := dk_163 0 31 (dk_at dksX1_isSeen_1 11 rfl rfl)
theorem dX1_isSeen_37 : decode cX1_isSeen 37 = .ok (.iload_n 3, 1) := dk_29 (dk_at dksX1_isSeen_1 14 rfl rfl)
theorem dX1_isSeen_38 : decode cX1_isSeen 38 = .ok (.aload_n 0, 1) := dk_42 (dk_at dksX1_isSeen_1 15 rfl rfl)
theorem dX1_isSeen_39 : decode cX1_isSeen 39 = .ok (.getfield 18, 3) := dk_180 0 18 (dk_at dksX1_isSeen_1 16 rfl rfl)
theorem dX1_isSeen_42 : decode cX1_isSeen 42 = .ok (.iload_n 2, 1) := dk_28 (dk_at dksX1_isSeen_1 19 rfl rfl)
theorem dX1_isSeen_43 : decode cX1_isSeen 43 = .ok (.iaload, 1) := dk_46 (dk_at dksX1_isSeen_1 20 rfl rfl)
theorem dX1_isSeen_44 : decode cX1_isSeen 44 = .ok (.if_icmp .lt 17, 3) := dk_161 0 17 (dk_at dksX1_isSeen_1 21 rfl rfl)
theorem dX1_isSeen_47 : decode cX1_isSeen 47 = .ok (.iload_n 3, 1) := dk_29 (dk_at dksX1_isSeen_2 0 rfl rfl)
theorem dX1_isSeen_48 : decode cX1_isSeen 48 = .ok (.aload_n 0, 1) := dk_42 (dk_at dksX1_isSeen_2 1 rfl rfl)
theorem dX1_isSeen_49 : decode cX1_isSeen 49 = .ok (.getfield 21, 3) := dk_180 0 21 (dk_at dksX1_isSeen_2 2 rfl rfl)
theorem dX1_isSeen_52 : decode cX1_isSeen 52 = .ok (.iload_n 2, 1) := dk_28 (dk_at dksX1_isSeen_2 5 rfl rfl)
theorem dX1_isSeen_53 : decode cX1_isSeen 53 = .ok (.iaload, 1) := dk_46 (dk_at dksX1_isSeen_2 6 rfl rfl)
theorem dX1_isSeen_54 : decode cX1_isSeen 54 = .ok (.if_icmp .gt 7, 3) := dk_163 0 7 (dk_at dksX1_isSeen_2 7 rfl rfl)
theorem dX1_isSeen_57 : decode cX1_isSeen 57 = .ok (.iconst 1, 1) := dk_4 (dk_at dksX1_isSeen_2 10 rfl rfl)
theorem dX1_isSeen_58 : decode cX1_isSeen 58 = .ok (.goto 32, 3) := dk_167 0 32 (dk_at dksX1_isSeen_2 11 rfl rfl)
theorem dX1_isSeen_61 : decode cX1_isSeen 61 = .ok (.iconst 0, 1) := dk_3 (dk_at dksX1_isSeen_2 14 rfl rfl)
theorem dX1_isSeen_62 : decode cX1_isSeen 62 = .ok (.goto 28, 3) := dk_167 0 28 (dk_at dksX1_isSeen_2 15 rfl rfl)
theorem dX1_isSeen_65 : decode cX1_isSeen 65 = .ok (.iload_n 3, 1) := dk_29 (dk_at dksX1_isSeen_2 18 rfl rfl)
theorem dX1_isSeen_66 : decode cX1_isSeen 66 = .ok (.aload_n 0, 1) := dk_42 (dk_at dksX1_isSeen_2 19 rfl rfl)
theorem dX1_isSeen_67 : decode cX1_isSeen 67 = .ok (.getfield 18, 3) := dk_180 0 18 (dk_at dksX1_isSeen_2 20 rfl rfl)
theorem dX1_isSeen_70 : decode cX1_isSeen 70 = .ok (.iload_n 2, 1) := dk_28 (dk_at dksX1_isSeen_2 23 rfl rfl)
theorem dX1_isSeen_71 : decode cX1_isSeen 71 = .ok (.iaload, 1) := dk_46 (dk_at dksX1_isSeen_3 0 rfl rfl)
theorem dX1_isSeen_72 : decode cX1_isSeen 72 = .ok (.if_icmp .ge 13, 3) := dk_162 0 13 (dk_at dksX1_isSeen_3 1 rfl rfl)
theorem dX1_isSeen_75 : decode cX1_isSeen 75 = .ok (.iload_n 3, 1) := dk_29 (dk_at dksX1_isSeen_3 4 rfl rfl)
theorem dX1_isSeen_76 : decode cX1_isSeen 76 = .ok (.aload_n 0, 1) := dk_42 (dk_at dksX1_isSeen_3 5 rfl rfl)
theorem dX1_isSeen_77 : decode cX1_isSeen 77 = .ok (.getfield 21, 3) := dk_180 0 21 (dk_at dksX1_isSeen_3 6 rfl rfl)
theorem dX1_isSeen_80 : decode cX1_isSeen 80 = .ok (.iload_n 2, 1) := dk_28 (dk_at dksX1_isSeen_3 9 rfl rfl)
theorem dX1_isSeen_81 : decode cX1_isSeen 81 = .ok (.iaload, 1) := dk_46 (dk_at dksX1_isSeen_3 10 rfl rfl)
theorem dX1_isSeen_82 : decode cX1_isSeen 82 = .ok (.if_icmp .gt 7, 3) := dk_163 0 7 (dk_at dksX1_isSeen_3 11 rfl rfl)
theorem dX1_isSeen_85 : decode cX1_isSeen 85 = .ok (.iconst 1, 1) := dk_4 (dk_at dksX1_isSeen_3 14 rfl rfl)
theorem dX1_isSeen_86 : decode cX1_isSeen 86 = .ok (.goto 4, 3) := dk_167 0 4 (dk_at dksX1_isSeen_3 15 rfl rfl)
theorem dX1_isSeen_89 : decode cX1_isSeen 89 = .ok (.iconst 0, 1) := dk_3 (dk_at dksX1_isSeen_3 18 rfl rfl)
theorem dX1_isSeen_90 : decode cX1_isSeen 90 = .ok (.istore 5, 2) := dk_54 5 (dk_at dksX1_isSeen_3 19 rfl rfl)
theorem dX1_isSeen_92 : decode cX1_isSeen 92 = .ok (.iload 5, 2) := dk_21 5 (dk_at dksX1_isSeen_3 21 rfl rfl)
theorem dX1_isSeen_94 : decode cX1_isSeen 94 = .ok (.ifCond .eq 13, 3) := dk_153 0 13 (dk_at dksX1_isSeen_4 0 rfl rfl)
theorem dX1_isSeen_97 : decode cX1_isSeen 97 = .ok (.iload 4, 2) := dk_21 4 (dk_at dksX1_isSeen_4 3 rfl rfl)
theorem dX1_isSeen_99 : decode cX1_isSeen 99 = .ok (.iconst 3, 1) := dk_6 (dk_at dksX1_isSeen_4 5 rfl rfl)
theorem dX1_isSeen_100 : decode cX1_isSeen 100 = .ok (.if_icmp .ge 7, 3) := dk_162 0 7 (dk_at dksX1_isSeen_4 6 rfl rfl)
theorem dX1_isSeen_103 : decode cX1_isSeen 103 = .ok (.iconst 1, 1) := dk_4 (dk_at dksX1_isSeen_4 9 rfl rfl)
theorem dX1_isSeen_104 : decode cX1_isSeen 104 = .ok (.goto 4, 3) := dk_167 0 4 (dk_at dksX1_isSeen_4 10 rfl rfl)
theorem dX1_isSeen_107 : decode cX1_isSeen 107 = .ok (.iconst 0, 1) := dk_3 (dk_at dksX1_isSeen_4 13 rfl rfl)
theorem dX1_isSeen_108 : decode cX1_isSeen 108 = .ok (.ireturn, 1) := dk_172 (dk_at dksX1_isSeen_4 14 rfl rfl)
abbrev cX1_seenEver : ByteArray := prog_10_method_7_code
def yX1_seenEver : MethodName := ⟨RX1, "seenEver", "(I)I"⟩
def dkwX1_seenEver_1 : List UInt8 := [167, 255, 238, 28, 172]
abbrev dktX1_seenEver_1 : List UInt8 := dkwX1_seenEver_1 ++ []
def dkwX1_seenEver_0 : List UInt8 := [3, 61, 3, 62, 29, 16, 12, 162, 0, 18, 28, 42, 27, 29, 182, 0, 45, 128, 61, 132, 3, 1]
abbrev dktX1_seenEver_0 : List UInt8 := dkwX1_seenEver_0 ++ dktX1_seenEver_1
theorem dksX1_seenEver_0 : cX1_seenEver.data.toList.drop 0 = dktX1_seenEver_0 := by decide +kernel
theorem dksX1_seenEver_1 : cX1_seenEver.data.toList.drop 22 = dktX1_seenEver_1 := dk_seg dksX1_seenEver_0 22 rfl rfl
theorem dX1_seenEver_0 : decode cX1_seenEver 0 = .ok (.iconst 0, 1) := dk_3 (dk_at dksX1_seenEver_0 0 rfl rfl)
theorem dX1_seenEver_1 : decode cX1_seenEver 1 = .ok (.istore_n 2, 1) := dk_61 (dk_at dksX1_seenEver_0 1 rfl rfl)
theorem dX1_seenEver_2 : decode cX1_seenEver 2 = .ok (.iconst 0, 1) := dk_3 (dk_at dksX1_seenEver_0 2 rfl rfl)
theorem dX1_seenEver_3 : decode cX1_seenEver 3 = .ok (.istore_n 3, 1) := dk_62 (dk_at dksX1_seenEver_0 3 rfl rfl)
theorem dX1_seenEver_4 : decode cX1_seenEver 4 = .ok (.iload_n 3, 1) := dk_29 (dk_at dksX1_seenEver_0 4 rfl rfl)
theorem dX1_seenEver_5 : decode cX1_seenEver 5 = .ok (.bipush 12, 2) := dk_16 12 (dk_at dksX1_seenEver_0 5 rfl rfl)
theorem dX1_seenEver_7 : decode cX1_seenEver 7 = .ok (.if_icmp .ge 18, 3) := dk_162 0 18 (dk_at dksX1_seenEver_0 7 rfl rfl)
theorem dX1_seenEver_10 : decode cX1_seenEver 10 = .ok (.iload_n 2, 1) := dk_28 (dk_at dksX1_seenEver_0 10 rfl rfl)
theorem dX1_seenEver_11 : decode cX1_seenEver 11 = .ok (.aload_n 0, 1) := dk_42 (dk_at dksX1_seenEver_0 11 rfl rfl)
theorem dX1_seenEver_12 : decode cX1_seenEver 12 = .ok (.iload_n 1, 1) := dk_27 (dk_at dksX1_seenEver_0 12 rfl rfl)
theorem dX1_seenEver_13 : decode cX1_seenEver 13 = .ok (.iload_n 3, 1) := dk_29 (dk_at dksX1_seenEver_0 13 rfl rfl)
theorem dX1_seenEver_14 : decode cX1_seenEver 14 = .ok (.invokevirtual 45, 3) := dk_182 0 45 (dk_at dksX1_seenEver_0 14 rfl rfl)
theorem dX1_seenEver_17 : decode cX1_seenEver 17 = .ok (.ior, 1) := dk_128 (dk_at dksX1_seenEver_0 17 rfl rfl)
theorem dX1_seenEver_18 : decode cX1_seenEver 18 = .ok (.istore_n 2, 1) := dk_61 (dk_at dksX1_seenEver_0 18 rfl rfl)
theorem dX1_seenEver_19 : decode cX1_seenEver 19 = .ok (.iinc 3 1, 3) := dk_132 3 1 (dk_at dksX1_seenEver_0 19 rfl rfl)
theorem dX1_seenEver_22 : decode cX1_seenEver 22 = .ok (.goto (-18), 3) := dk_167 255 238 (dk_at dksX1_seenEver_1 0 rfl rfl)
theorem dX1_seenEver_25 : decode cX1_seenEver 25 = .ok (.iload_n 2, 1) := dk_28 (dk_at dksX1_seenEver_1 3 rfl rfl)
theorem dX1_seenEver_26 : decode cX1_seenEver 26 = .ok (.ireturn, 1) := dk_172 (dk_at dksX1_seenEver_1 4 rfl rfl)
theorem q111 : (Jvm.Cond.initialized "SharedWindow$Plan") ∈ lw_all := lw_g (lw_at lw_m1 2 rfl) rfl
theorem q145 : (Jvm.Cond.instantiable "SharedWindow$Plan" (6 : Nat)) ∈ lw_all := lw_g (lw_at lw_m1 36 rfl) rfl
theorem q147 : (Jvm.Cond.instanceMethod ({ cls := "SharedWindow$Plan", name := "<init>", desc := "()V" } : Jvm.MethodName)) ∈ lw_all := lw_g (lw_at lw_m1 38 rfl) rfl
theorem q148 : (Jvm.Cond.code ({ cls := "SharedWindow$Plan", name := "<init>", desc := "()V" } : Jvm.MethodName) prog_10_method_1_code (1 : Nat) (Option.none : Option Jvm.ClassFile.FieldType)) ∈ lw_all := lw_g (lw_at lw_m1 39 rfl) rfl
theorem q149 : (Jvm.Cond.methodLink "SharedWindow$Plan" (3 : Nat) ({ cls := "java/lang/Object", name := "<init>", desc := "()V" } : Jvm.MethodName)) ∈ lw_all := lw_g (lw_at lw_m1 40 rfl) rfl
theorem q150 : (Jvm.Cond.fieldLink "SharedWindow$Plan" (9 : Nat) "SharedWindow$Plan" "facing" "[I") ∈ lw_all := lw_g (lw_at lw_m1 41 rfl) rfl
theorem q153 : (Jvm.Cond.fieldLink "SharedWindow$Plan" (15 : Nat) "SharedWindow$Plan" "side" "[I") ∈ lw_all := lw_g (lw_at lw_m1 44 rfl) rfl
theorem q155 : (Jvm.Cond.fieldLink "SharedWindow$Plan" (18 : Nat) "SharedWindow$Plan" "from" "[I") ∈ lw_all := lw_g (lw_at lw_m1 46 rfl) rfl
theorem q157 : (Jvm.Cond.fieldLink "SharedWindow$Plan" (21 : Nat) "SharedWindow$Plan" "till" "[I") ∈ lw_all := lw_g (lw_at lw_m1 48 rfl) rfl
theorem q159 : (Jvm.Cond.fieldLink "SharedWindow$Plan" (24 : Nat) "SharedWindow$Plan" "houses" "I") ∈ lw_all := lw_g (lw_at lw_m1 50 rfl) rfl
theorem q162 : (Jvm.Cond.fieldLink "SharedWindow$Plan" (28 : Nat) "SharedWindow$Plan" "things" "I") ∈ lw_all := lw_g (lw_at lw_m1 53 rfl) rfl
theorem q165 : (Jvm.Cond.laysFinal "SharedWindow$Plan" "SharedWindow$Plan" "facing" "[I") ∈ lw_all := lw_g (lw_at lw_m1 56 rfl) rfl
theorem q166 : (Jvm.Cond.soleField "SharedWindow$Plan" "facing") ∈ lw_all := lw_g (lw_at lw_m1 57 rfl) rfl
theorem q167 : (Jvm.Cond.laysFinal "SharedWindow$Plan" "SharedWindow$Plan" "side" "[I") ∈ lw_all := lw_g (lw_at lw_m1 58 rfl) rfl
theorem q168 : (Jvm.Cond.soleField "SharedWindow$Plan" "side") ∈ lw_all := lw_g (lw_at lw_m1 59 rfl) rfl
theorem q169 : (Jvm.Cond.laysFinal "SharedWindow$Plan" "SharedWindow$Plan" "from" "[I") ∈ lw_all := lw_g (lw_at lw_m1 60 rfl) rfl
theorem q170 : (Jvm.Cond.soleField "SharedWindow$Plan" "from") ∈ lw_all := lw_g (lw_at lw_m1 61 rfl) rfl
theorem q171 : (Jvm.Cond.laysFinal "SharedWindow$Plan" "SharedWindow$Plan" "till" "[I") ∈ lw_all := lw_g (lw_at lw_m1 62 rfl) rfl
theorem q172 : (Jvm.Cond.soleField "SharedWindow$Plan" "till") ∈ lw_all := lw_g (lw_at lw_m1 63 rfl) rfl
theorem q173 : (Jvm.Cond.lays "SharedWindow$Plan" "SharedWindow$Plan" "houses" "I") ∈ lw_all := lw_g (lw_at lw_m1 64 rfl) rfl
theorem q174 : (Jvm.Cond.soleField "SharedWindow$Plan" "houses") ∈ lw_all := lw_g (lw_at lw_m1 65 rfl) rfl
theorem q175 : (Jvm.Cond.lays "SharedWindow$Plan" "SharedWindow$Plan" "things" "I") ∈ lw_all := lw_g (lw_at lw_m1 66 rfl) rfl
theorem q176 : (Jvm.Cond.soleField "SharedWindow$Plan" "things") ∈ lw_all := lw_g (lw_at lw_m1 67 rfl) rfl
theorem q177 : (Jvm.Cond.superclass "SharedWindow$Plan" "java/lang/Object") ∈ lw_all := lw_g (lw_at lw_m1 68 rfl) rfl
theorem q370 : (Jvm.Cond.instanceMethod ({ cls := "SharedWindow$Plan", name := "isHouse", desc := "(I)Z" } : Jvm.MethodName)) ∈ lw_all := lw_g (lw_at lw_m2 21 rfl) rfl
theorem q371 : (Jvm.Cond.selects "SharedWindow$Plan" ({ cls := "SharedWindow$Plan", name := "isHouse", desc := "(I)Z" } : Jvm.MethodName) ({ cls := "SharedWindow$Plan", name := "isHouse", desc := "(I)Z" } : Jvm.MethodName)) ∈ lw_all := lw_g (lw_at lw_m2 22 rfl) rfl
theorem q372 : (Jvm.Cond.code ({ cls := "SharedWindow$Plan", name := "isHouse", desc := "(I)Z" } : Jvm.MethodName) prog_10_method_3_code (2 : Nat) (Option.some Jvm.ClassFile.FieldType.boolean)) ∈ lw_all := lw_g (lw_at lw_m2 23 rfl) rfl
theorem q732 : (Jvm.Cond.instanceMethod ({ cls := "SharedWindow$Plan", name := "isThing", desc := "(I)Z" } : Jvm.MethodName)) ∈ lw_all := lw_g (lw_at lw_m3 143 rfl) rfl
theorem q733 : (Jvm.Cond.selects "SharedWindow$Plan" ({ cls := "SharedWindow$Plan", name := "isThing", desc := "(I)Z" } : Jvm.MethodName) ({ cls := "SharedWindow$Plan", name := "isThing", desc := "(I)Z" } : Jvm.MethodName)) ∈ lw_all := lw_g (lw_at lw_m3 144 rfl) rfl
theorem q734 : (Jvm.Cond.code ({ cls := "SharedWindow$Plan", name := "isThing", desc := "(I)Z" } : Jvm.MethodName) prog_10_method_4_code (2 : Nat) (Option.some Jvm.ClassFile.FieldType.boolean)) ∈ lw_all := lw_g (lw_at lw_m3 145 rfl) rfl
theorem q780 : (Jvm.Cond.instanceMethod ({ cls := "SharedWindow$Plan", name := "takes", desc := "(LSharedWindow$Plan;)V" } : Jvm.MethodName)) ∈ lw_all := lw_g (lw_at lw_m3 191 rfl) rfl
theorem q781 : (Jvm.Cond.selects "SharedWindow$Plan" ({ cls := "SharedWindow$Plan", name := "takes", desc := "(LSharedWindow$Plan;)V" } : Jvm.MethodName) ({ cls := "SharedWindow$Plan", name := "takes", desc := "(LSharedWindow$Plan;)V" } : Jvm.MethodName)) ∈ lw_all := lw_g (lw_at lw_m3 192 rfl) rfl
theorem q782 : (Jvm.Cond.code ({ cls := "SharedWindow$Plan", name := "takes", desc := "(LSharedWindow$Plan;)V" } : Jvm.MethodName) prog_10_method_2_code (3 : Nat) (Option.none : Option Jvm.ClassFile.FieldType)) ∈ lw_all := lw_g (lw_at lw_m3 193 rfl) rfl
theorem q894 : (Jvm.Cond.instanceMethod ({ cls := "SharedWindow$Plan", name := "seen", desc := "(II)I" } : Jvm.MethodName)) ∈ lw_all := lw_g (lw_at lw_m4 65 rfl) rfl
theorem q895 : (Jvm.Cond.selects "SharedWindow$Plan" ({ cls := "SharedWindow$Plan", name := "seen", desc := "(II)I" } : Jvm.MethodName) ({ cls := "SharedWindow$Plan", name := "seen", desc := "(II)I" } : Jvm.MethodName)) ∈ lw_all := lw_g (lw_at lw_m4 66 rfl) rfl
theorem q896 : (Jvm.Cond.code ({ cls := "SharedWindow$Plan", name := "seen", desc := "(II)I" } : Jvm.MethodName) prog_10_method_6_code (5 : Nat) (Option.some Jvm.ClassFile.FieldType.int)) ∈ lw_all := lw_g (lw_at lw_m4 67 rfl) rfl
theorem q897 : (Jvm.Cond.methodLink "SharedWindow$Plan" (37 : Nat) ({ cls := "SharedWindow$Plan", name := "isThing", desc := "(I)Z" } : Jvm.MethodName)) ∈ lw_all := lw_g (lw_at lw_m4 68 rfl) rfl
theorem q898 : (Jvm.Cond.methodLink "SharedWindow$Plan" (41 : Nat) ({ cls := "SharedWindow$Plan", name := "isSeen", desc := "(III)Z" } : Jvm.MethodName)) ∈ lw_all := lw_g (lw_at lw_m4 69 rfl) rfl
theorem q899 : (Jvm.Cond.privateMethod ({ cls := "SharedWindow$Plan", name := "isSeen", desc := "(III)Z" } : Jvm.MethodName)) ∈ lw_tbl := lw_at lw_m4 70 rfl
theorem q900 : (Jvm.Cond.instanceMethod ({ cls := "SharedWindow$Plan", name := "isSeen", desc := "(III)Z" } : Jvm.MethodName)) ∈ lw_all := lw_g (lw_at lw_m4 71 rfl) rfl
theorem q901 : (Jvm.Cond.code ({ cls := "SharedWindow$Plan", name := "isSeen", desc := "(III)Z" } : Jvm.MethodName) prog_10_method_5_code (6 : Nat) (Option.some Jvm.ClassFile.FieldType.boolean)) ∈ lw_all := lw_g (lw_at lw_m4 72 rfl) rfl
theorem q902 : (Jvm.Cond.methodLink "SharedWindow$Plan" (31 : Nat) ({ cls := "java/lang/Math", name := "floorMod", desc := "(II)I" } : Jvm.MethodName)) ∈ lw_all := lw_g (lw_at lw_m4 73 rfl) rfl
theorem q1014 : (Jvm.Cond.instanceMethod ({ cls := "SharedWindow$Plan", name := "seenEver", desc := "(I)I" } : Jvm.MethodName)) ∈ lw_all := lw_g (lw_at lw_m4 185 rfl) rfl
theorem q1015 : (Jvm.Cond.selects "SharedWindow$Plan" ({ cls := "SharedWindow$Plan", name := "seenEver", desc := "(I)I" } : Jvm.MethodName) ({ cls := "SharedWindow$Plan", name := "seenEver", desc := "(I)I" } : Jvm.MethodName)) ∈ lw_all := lw_g (lw_at lw_m4 186 rfl) rfl
theorem q1016 : (Jvm.Cond.code ({ cls := "SharedWindow$Plan", name := "seenEver", desc := "(I)I" } : Jvm.MethodName) prog_10_method_7_code (4 : Nat) (Option.some Jvm.ClassFile.FieldType.int)) ∈ lw_all := lw_g (lw_at lw_m4 187 rfl) rfl
theorem q1017 : (Jvm.Cond.methodLink "SharedWindow$Plan" (45 : Nat) ({ cls := "SharedWindow$Plan", name := "seen", desc := "(II)I" } : Jvm.MethodName)) ∈ lw_all := lw_g (lw_at lw_m4 188 rfl) rfl
theorem in_X1 : ∀ w ∈ wsX10, w ∈ lw_all := lw_in wsX10 [165, 167, 169, 171, 173, 175] (by decide +kernel) (by decide +kernel)
/-! SharedWindow$Asked -/
set_option maxRecDepth 100000
def RX2 : String := "SharedWindow$Asked"
abbrev cX2_init : ByteArray := prog_2_method_1_code
def yX2_init : MethodName := ⟨RX2, "<init>", "()V"⟩
theorem dX2_init_0 : decode cX2_init 0 = .ok (.aload_n 0, 1) := by decide +kernel
theorem dX2_init_1 : decode cX2_init 1 = .ok (.invokespecial 1, 3) := by decide +kernel
theorem dX2_init_4 : decode cX2_init 4 = .ok (.return_, 1) := by decide +kernel
theorem q112 : (Jvm.Cond.initialized "SharedWindow$Asked") ∈ lw_all := lw_g (lw_at lw_m1 3 rfl) rfl
theorem q185 : (Jvm.Cond.instanceMethod ({ cls := "SharedWindow$Asked", name := "<init>", desc := "()V" } : Jvm.MethodName)) ∈ lw_all := lw_g (lw_at lw_m1 76 rfl) rfl
theorem q186 : (Jvm.Cond.code ({ cls := "SharedWindow$Asked", name := "<init>", desc := "()V" } : Jvm.MethodName) prog_2_method_1_code (1 : Nat) (Option.none : Option Jvm.ClassFile.FieldType)) ∈ lw_all := lw_g (lw_at lw_m1 77 rfl) rfl
theorem q187 : (Jvm.Cond.methodLink "SharedWindow$Asked" (1 : Nat) ({ cls := "java/lang/Object", name := "<init>", desc := "()V" } : Jvm.MethodName)) ∈ lw_all := lw_g (lw_at lw_m1 78 rfl) rfl
theorem q219 : (Jvm.Cond.soleField "SharedWindow$Asked" "isRefused") ∈ lw_all := lw_g (lw_at lw_m1 110 rfl) rfl
theorem q939 : (Jvm.Cond.declares ({ cls := "SharedWindow$Asked", name := "value", desc := "(I)I" } : Jvm.MethodName)) ∈ lw_tbl := lw_at lw_m4 110 rfl
theorem q940 : (Jvm.Cond.sameMethod "SharedWindow$Asked" "SharedWindow$Asked" "value" "(I)I") ∈ lw_all := lw_g (lw_at lw_m4 111 rfl) rfl
/-! SharedWindow$Moment -/
set_option maxRecDepth 100000
def RX3 : String := "SharedWindow$Moment"
def TX3 : u_T := fun k => match k with
  | 0 => ("SharedWindow$Asked", "isRefused", "Z", false)
  | 1 => ("SharedWindow$Moment", "house", "I", false)
  | 2 => ("SharedWindow$Moment", "window", "I", false)
  | 3 => ("SharedWindow$Moment", "turn", "I", false)
  | 4 => ("SharedWindow$Moment", "apart", "I", false)
  | 5 => ("SharedWindow$Moment", "seen", "I", false)
  | 6 => ("SharedWindow$Moment", "brought", "I", false)
  | 7 => ("SharedWindow$Moment", "cracks", "I", false)
  | 8 => ("SharedWindow$Moment", "day", "I", false)
  | _ => ("SharedWindow$Moment", "drawn", "I", false)
def tyX3 : Nat → FieldType := fun k => match k with
  | 0 => .boolean
  | 1 => .int
  | 2 => .int
  | 3 => .int
  | 4 => .int
  | 5 => .int
  | 6 => .int
  | 7 => .int
  | 8 => .int
  | _ => .int
abbrev wsX30 : List Cond := u_ws RX3 TX3 10
theorem nmX3 : ∀ a, a < 10 → ∀ b, b < 10 → a ≠ b → (TX3 a).2.1 ≠ (TX3 b).2.1 := by decide +kernel
theorem tyX3_ok : ∀ k, k < 10 → parseFieldDescriptor (TX3 k).2.2.1 = some (tyX3 k) := by decide +kernel
abbrev cX3_init : ByteArray := prog_7_method_1_code
def yX3_init : MethodName := ⟨RX3, "<init>", "()V"⟩
theorem dX3_init_0 : decode cX3_init 0 = .ok (.aload_n 0, 1) := by decide +kernel
theorem dX3_init_1 : decode cX3_init 1 = .ok (.invokespecial 3, 3) := by decide +kernel
theorem dX3_init_4 : decode cX3_init 4 = .ok (.return_, 1) := by decide +kernel
abbrev cX3_of : ByteArray := prog_7_method_2_code
def yX3_of : MethodName := ⟨RX3, "of", "(IIIII)LSharedWindow$Moment;"⟩
def dkwX3_of_2 : List UInt8 := [21, 4, 181, 0, 30, 42, 21, 5, 181, 0, 33, 42, 176]
abbrev dktX3_of_2 : List UInt8 := dkwX3_of_2 ++ []
def dkwX3_of_1 : List UInt8 := [181, 0, 18, 42, 28, 2, 160, 0, 7, 3, 167, 0, 9, 27, 28, 100, 184, 0, 21, 181, 0, 27, 42]
abbrev dktX3_of_1 : List UInt8 := dkwX3_of_1 ++ dktX3_of_2
def dkwX3_of_0 : List UInt8 := [42, 27, 181, 0, 9, 42, 28, 2, 160, 0, 8, 16, 16, 167, 0, 4, 28, 181, 0, 15, 42, 29]
abbrev dktX3_of_0 : List UInt8 := dkwX3_of_0 ++ dktX3_of_1
theorem dksX3_of_0 : cX3_of.data.toList.drop 0 = dktX3_of_0 := by decide +kernel
theorem dksX3_of_1 : cX3_of.data.toList.drop 22 = dktX3_of_1 := dk_seg dksX3_of_0 22 rfl rfl
theorem dksX3_of_2 : cX3_of.data.toList.drop 45 = dktX3_of_2 := dk_seg dksX3_of_1 23 rfl rfl
theorem dX3_of_0 : decode cX3_of 0 = .ok (.aload_n 0, 1) := dk_42 (dk_at dksX3_of_0 0 rfl rfl)
theorem dX3_of_1 : decode cX3_of 1 = .ok (.iload_n 1, 1) := dk_27 (dk_at dksX3_of_0 1 rfl rfl)
theorem dX3_of_2 : decode cX3_of 2 = .ok (.putfield 9, 3) := dk_181 0 9 (dk_at dksX3_of_0 2 rfl rfl)
theorem dX3_of_5 : decode cX3_of 5 = .ok (.aload_n 0, 1) := dk_42 (dk_at dksX3_of_0 5 rfl rfl)
theorem dX3_of_6 : decode cX3_of 6 = .ok (.iload_n 2, 1) := dk_28 (dk_at dksX3_of_0 6 rfl rfl)
theorem dX3_of_7 : decode cX3_of 7 = .ok (.iconst (-1), 1) := dk_2 (dk_at dksX3_of_0 7 rfl rfl)
theorem dX3_of_8 : decode cX3_of 8 = .ok (.if_icmp .ne 8, 3) := dk_160 0 8 (dk_at dksX3_of_0 8 rfl rfl)
theorem dX3_of_11 : decode cX3_of 11 = .ok (.bipush 16, 2) := dk_16 16 (dk_at dksX3_of_0 11 rfl rfl)
theorem dX3_of_13 : decode cX3_of 13 = .ok (.goto 4, 3) := dk_167 0 4 (dk_at dksX3_of_0 13 rfl rfl)
theorem dX3_of_16 : decode cX3_of 16 = .ok (.iload_n 2, 1) := dk_28 (dk_at dksX3_of_0 16 rfl rfl)
theorem dX3_of_17 : decode cX3_of 17 = .ok (.putfield 15, 3) := dk_181 0 15 (dk_at dksX3_of_0 17 rfl rfl)
theorem dX3_of_20 : decode cX3_of 20 = .ok (.aload_n 0, 1) := dk_42 (dk_at dksX3_of_0 20 rfl rfl)
theorem dX3_of_21 : decode cX3_of 21 = .ok (.iload_n 3, 1) := dk_29 (dk_at dksX3_of_0 21 rfl rfl)
theorem dX3_of_22 : decode cX3_of 22 = .ok (.putfield 18, 3) := dk_181 0 18 (dk_at dksX3_of_1 0 rfl rfl)
theorem dX3_of_25 : decode cX3_of 25 = .ok (.aload_n 0, 1) := dk_42 (dk_at dksX3_of_1 3 rfl rfl)
theorem dX3_of_26 : decode cX3_of 26 = .ok (.iload_n 2, 1) := dk_28 (dk_at dksX3_of_1 4 rfl rfl)
theorem dX3_of_27 : decode cX3_of 27 = .ok (.iconst (-1), 1) := dk_2 (dk_at dksX3_of_1 5 rfl rfl)
theorem dX3_of_28 : decode cX3_of 28 = .ok (.if_icmp .ne 7, 3) := dk_160 0 7 (dk_at dksX3_of_1 6 rfl rfl)
theorem dX3_of_31 : decode cX3_of 31 = .ok (.iconst 0, 1) := dk_3 (dk_at dksX3_of_1 9 rfl rfl)
theorem dX3_of_32 : decode cX3_of 32 = .ok (.goto 9, 3) := dk_167 0 9 (dk_at dksX3_of_1 10 rfl rfl)
theorem dX3_of_35 : decode cX3_of 35 = .ok (.iload_n 1, 1) := dk_27 (dk_at dksX3_of_1 13 rfl rfl)
theorem dX3_of_36 : decode cX3_of 36 = .ok (.iload_n 2, 1) := dk_28 (dk_at dksX3_of_1 14 rfl rfl)
theorem dX3_of_37 : decode cX3_of 37 = .ok (.isub, 1) := dk_100 (dk_at dksX3_of_1 15 rfl rfl)
theorem dX3_of_38 : decode cX3_of 38 = .ok (.invokestatic 21, 3) := dk_184 0 21 (dk_at dksX3_of_1 16 rfl rfl)
theorem dX3_of_41 : decode cX3_of 41 = .ok (.putfield 27, 3) := dk_181 0 27 (dk_at dksX3_of_1 19 rfl rfl)
theorem dX3_of_44 : decode cX3_of 44 = .ok (.aload_n 0, 1) := dk_42 (dk_at dksX3_of_1 22 rfl rfl)
theorem dX3_of_45 : decode cX3_of 45 = .ok (.iload 4, 2) := dk_21 4 (dk_at dksX3_of_2 0 rfl rfl)
theorem dX3_of_47 : decode cX3_of 47 = .ok (.putfield 30, 3) := dk_181 0 30 (dk_at dksX3_of_2 2 rfl rfl)
theorem dX3_of_50 : decode cX3_of 50 = .ok (.aload_n 0, 1) := dk_42 (dk_at dksX3_of_2 5 rfl rfl)
theorem dX3_of_51 : decode cX3_of 51 = .ok (.iload 5, 2) := dk_21 5 (dk_at dksX3_of_2 6 rfl rfl)
theorem dX3_of_53 : decode cX3_of 53 = .ok (.putfield 33, 3) := dk_181 0 33 (dk_at dksX3_of_2 8 rfl rfl)
theorem dX3_of_56 : decode cX3_of 56 = .ok (.aload_n 0, 1) := dk_42 (dk_at dksX3_of_2 11 rfl rfl)
theorem dX3_of_57 : decode cX3_of 57 = .ok (.areturn, 1) := dk_176 (dk_at dksX3_of_2 12 rfl rfl)
abbrev cX3_on : ByteArray := prog_7_method_3_code
def yX3_on : MethodName := ⟨RX3, "on", "(III)LSharedWindow$Moment;"⟩
def dkwX3_on_0 : List UInt8 := [42, 27, 16, 100, 112, 181, 0, 36, 42, 28, 16, 100, 112, 181, 0, 39, 42, 29, 181, 0, 42, 42, 176]
abbrev dktX3_on_0 : List UInt8 := dkwX3_on_0 ++ []
theorem dksX3_on_0 : cX3_on.data.toList.drop 0 = dktX3_on_0 := by decide +kernel
theorem dX3_on_0 : decode cX3_on 0 = .ok (.aload_n 0, 1) := dk_42 (dk_at dksX3_on_0 0 rfl rfl)
theorem dX3_on_1 : decode cX3_on 1 = .ok (.iload_n 1, 1) := dk_27 (dk_at dksX3_on_0 1 rfl rfl)
theorem dX3_on_2 : decode cX3_on 2 = .ok (.bipush 100, 2) := dk_16 100 (dk_at dksX3_on_0 2 rfl rfl)
theorem dX3_on_4 : decode cX3_on 4 = .ok (.irem, 1) := dk_112 (dk_at dksX3_on_0 4 rfl rfl)
theorem dX3_on_5 : decode cX3_on 5 = .ok (.putfield 36, 3) := dk_181 0 36 (dk_at dksX3_on_0 5 rfl rfl)
theorem dX3_on_8 : decode cX3_on 8 = .ok (.aload_n 0, 1) := dk_42 (dk_at dksX3_on_0 8 rfl rfl)
theorem dX3_on_9 : decode cX3_on 9 = .ok (.iload_n 2, 1) := dk_28 (dk_at dksX3_on_0 9 rfl rfl)
theorem dX3_on_10 : decode cX3_on 10 = .ok (.bipush 100, 2) := dk_16 100 (dk_at dksX3_on_0 10 rfl rfl)
theorem dX3_on_12 : decode cX3_on 12 = .ok (.irem, 1) := dk_112 (dk_at dksX3_on_0 12 rfl rfl)
theorem dX3_on_13 : decode cX3_on 13 = .ok (.putfield 39, 3) := dk_181 0 39 (dk_at dksX3_on_0 13 rfl rfl)
theorem dX3_on_16 : decode cX3_on 16 = .ok (.aload_n 0, 1) := dk_42 (dk_at dksX3_on_0 16 rfl rfl)
theorem dX3_on_17 : decode cX3_on 17 = .ok (.iload_n 3, 1) := dk_29 (dk_at dksX3_on_0 17 rfl rfl)
theorem dX3_on_18 : decode cX3_on 18 = .ok (.putfield 42, 3) := dk_181 0 42 (dk_at dksX3_on_0 18 rfl rfl)
theorem dX3_on_21 : decode cX3_on 21 = .ok (.aload_n 0, 1) := dk_42 (dk_at dksX3_on_0 21 rfl rfl)
theorem dX3_on_22 : decode cX3_on 22 = .ok (.areturn, 1) := dk_176 (dk_at dksX3_on_0 22 rfl rfl)
abbrev cX3_value : ByteArray := prog_7_method_4_code
def yX3_value : MethodName := ⟨RX3, "value", "(I)I"⟩
def dkwX3_value_3 : List UInt8 := [172, 42, 180, 0, 33, 172, 42, 180, 0, 36, 172, 42, 180, 0, 39, 172, 42, 180, 0, 42, 172]
abbrev dktX3_value_3 : List UInt8 := dkwX3_value_3 ++ []
def dkwX3_value_2 : List UInt8 := [42, 180, 0, 9, 172, 42, 180, 0, 15, 172, 42, 180, 0, 18, 172, 42, 180, 0, 27, 172, 42, 180, 0, 30]
abbrev dktX3_value_2 : List UInt8 := dkwX3_value_2 ++ dktX3_value_3
def dkwX3_value_1 : List UInt8 := [170, 0, 0, 0, 0, 0, 131, 0, 0, 0, 98, 0, 0, 0, 116, 0, 0, 0, 116, 0, 0, 0, 131, 0, 0, 0, 106, 0, 0, 0, 131, 0, 0, 0, 131, 0, 0, 0, 96, 0, 0, 0, 91, 0, 0, 0, 131, 0, 0, 0, 131, 0, 0, 0, 121, 0, 0, 0, 131, 0, 0, 0, 131, 0, 0, 0, 111, 0, 0, 0, 131, 0, 0, 0, 131, 0, 0, 0, 131, 0, 0, 0, 131, 0, 0, 0, 101, 0, 0, 0, 126]
abbrev dktX3_value_1 : List UInt8 := dkwX3_value_1 ++ dktX3_value_2
def dkwX3_value_0 : List UInt8 := [27]
abbrev dktX3_value_0 : List UInt8 := dkwX3_value_0 ++ dktX3_value_1
theorem dksX3_value_0 : cX3_value.data.toList.drop 0 = dktX3_value_0 := by decide +kernel
theorem dksX3_value_1 : cX3_value.data.toList.drop 1 = dktX3_value_1 := dk_seg dksX3_value_0 1 rfl rfl
theorem dksX3_value_2 : cX3_value.data.toList.drop 92 = dktX3_value_2 := dk_seg dksX3_value_1 91 rfl rfl
theorem dksX3_value_3 : cX3_value.data.toList.drop 116 = dktX3_value_3 := dk_seg dksX3_value_2 24 rfl rfl
theorem dX3_value_0 : decode cX3_value 0 = .ok (.iload_n 1, 1) := dk_27 (dk_at dksX3_value_0 0 rfl rfl)
theorem dX3_value_1 : decode cX3_value 1 = .ok (.tableswitch 131 98 116 #[116, 131, 106, 131, 131, 96, 91, 131, 131, 121, 131, 131, 111, 131, 131, 131, 131, 101, 126], 91) := by decide +kernel
theorem dX3_value_92 : decode cX3_value 92 = .ok (.aload_n 0, 1) := dk_42 (dk_at dksX3_value_2 0 rfl rfl)
theorem dX3_value_93 : decode cX3_value 93 = .ok (.getfield 9, 3) := dk_180 0 9 (dk_at dksX3_value_2 1 rfl rfl)
theorem dX3_value_96 : decode cX3_value 96 = .ok (.ireturn, 1) := dk_172 (dk_at dksX3_value_2 4 rfl rfl)
theorem dX3_value_97 : decode cX3_value 97 = .ok (.aload_n 0, 1) := dk_42 (dk_at dksX3_value_2 5 rfl rfl)
theorem dX3_value_98 : decode cX3_value 98 = .ok (.getfield 15, 3) := dk_180 0 15 (dk_at dksX3_value_2 6 rfl rfl)
theorem dX3_value_101 : decode cX3_value 101 = .ok (.ireturn, 1) := dk_172 (dk_at dksX3_value_2 9 rfl rfl)
theorem dX3_value_102 : decode cX3_value 102 = .ok (.aload_n 0, 1) := dk_42 (dk_at dksX3_value_2 10 rfl rfl)
theorem dX3_value_103 : decode cX3_value 103 = .ok (.getfield 18, 3) := dk_180 0 18 (dk_at dksX3_value_2 11 rfl rfl)
theorem dX3_value_106 : decode cX3_value 106 = .ok (.ireturn, 1) := dk_172 (dk_at dksX3_value_2 14 rfl rfl)
theorem dX3_value_107 : decode cX3_value 107 = .ok (.aload_n 0, 1) := dk_42 (dk_at dksX3_value_2 15 rfl rfl)
theorem dX3_value_108 : decode cX3_value 108 = .ok (.getfield 27, 3) := dk_180 0 27 (dk_at dksX3_value_2 16 rfl rfl)
theorem dX3_value_111 : decode cX3_value 111 = .ok (.ireturn, 1) := dk_172 (dk_at dksX3_value_2 19 rfl rfl)
theorem dX3_value_112 : decode cX3_value 112 = .ok (.aload_n 0, 1) := dk_42 (dk_at dksX3_value_2 20 rfl rfl)
theorem dX3_value_113 : decode cX3_value 113 = .ok (.getfield 30, 3) := dk_180 0 30 (dk_at dksX3_value_2 21 rfl rfl)
theorem dX3_value_116 : decode cX3_value 116 = .ok (.ireturn, 1) := dk_172 (dk_at dksX3_value_3 0 rfl rfl)
theorem dX3_value_117 : decode cX3_value 117 = .ok (.aload_n 0, 1) := dk_42 (dk_at dksX3_value_3 1 rfl rfl)
theorem dX3_value_118 : decode cX3_value 118 = .ok (.getfield 33, 3) := dk_180 0 33 (dk_at dksX3_value_3 2 rfl rfl)
theorem dX3_value_121 : decode cX3_value 121 = .ok (.ireturn, 1) := dk_172 (dk_at dksX3_value_3 5 rfl rfl)
theorem dX3_value_122 : decode cX3_value 122 = .ok (.aload_n 0, 1) := dk_42 (dk_at dksX3_value_3 6 rfl rfl)
theorem dX3_value_123 : decode cX3_value 123 = .ok (.getfield 36, 3) := dk_180 0 36 (dk_at dksX3_value_3 7 rfl rfl)
theorem dX3_value_126 : decode cX3_value 126 = .ok (.ireturn, 1) := dk_172 (dk_at dksX3_value_3 10 rfl rfl)
theorem dX3_value_127 : decode cX3_value 127 = .ok (.aload_n 0, 1) := dk_42 (dk_at dksX3_value_3 11 rfl rfl)
theorem dX3_value_128 : decode cX3_value 128 = .ok (.getfield 39, 3) := dk_180 0 39 (dk_at dksX3_value_3 12 rfl rfl)
theorem dX3_value_131 : decode cX3_value 131 = .ok (.ireturn, 1) := dk_172 (dk_at dksX3_value_3 15 rfl rfl)
theorem dX3_value_132 : decode cX3_value 132 = .ok (.aload_n 0, 1) := dk_42 (dk_at dksX3_value_3 16 rfl rfl)
theorem dX3_value_133 : decode cX3_value 133 = .ok (.getfield 42, 3) := dk_180 0 42 (dk_at dksX3_value_3 17 rfl rfl)
theorem dX3_value_136 : decode cX3_value 136 = .ok (.ireturn, 1) := dk_172 (dk_at dksX3_value_3 20 rfl rfl)
theorem q113 : (Jvm.Cond.initialized "SharedWindow$Moment") ∈ lw_all := lw_g (lw_at lw_m1 4 rfl) rfl
theorem q180 : (Jvm.Cond.instantiable "SharedWindow$Moment" (10 : Nat)) ∈ lw_all := lw_g (lw_at lw_m1 71 rfl) rfl
theorem q182 : (Jvm.Cond.instanceMethod ({ cls := "SharedWindow$Moment", name := "<init>", desc := "()V" } : Jvm.MethodName)) ∈ lw_all := lw_g (lw_at lw_m1 73 rfl) rfl
theorem q183 : (Jvm.Cond.code ({ cls := "SharedWindow$Moment", name := "<init>", desc := "()V" } : Jvm.MethodName) prog_7_method_1_code (1 : Nat) (Option.none : Option Jvm.ClassFile.FieldType)) ∈ lw_all := lw_g (lw_at lw_m1 74 rfl) rfl
theorem q184 : (Jvm.Cond.methodLinkNest "SharedWindow$Moment" (3 : Nat) ({ cls := "SharedWindow$Asked", name := "<init>", desc := "()V" } : Jvm.MethodName) "SharedWindow") ∈ lw_tbl := lw_at lw_m1 75 rfl
theorem q188 : (Jvm.Cond.fieldLink "SharedWindow$Moment" (9 : Nat) "SharedWindow$Moment" "house" "I") ∈ lw_all := lw_g (lw_at lw_m1 79 rfl) rfl
theorem q189 : (Jvm.Cond.fieldLink "SharedWindow$Moment" (15 : Nat) "SharedWindow$Moment" "window" "I") ∈ lw_all := lw_g (lw_at lw_m1 80 rfl) rfl
theorem q190 : (Jvm.Cond.fieldLink "SharedWindow$Moment" (18 : Nat) "SharedWindow$Moment" "turn" "I") ∈ lw_all := lw_g (lw_at lw_m1 81 rfl) rfl
theorem q191 : (Jvm.Cond.fieldLink "SharedWindow$Moment" (27 : Nat) "SharedWindow$Moment" "apart" "I") ∈ lw_all := lw_g (lw_at lw_m1 82 rfl) rfl
theorem q192 : (Jvm.Cond.fieldLink "SharedWindow$Moment" (30 : Nat) "SharedWindow$Moment" "seen" "I") ∈ lw_all := lw_g (lw_at lw_m1 83 rfl) rfl
theorem q193 : (Jvm.Cond.fieldLink "SharedWindow$Moment" (33 : Nat) "SharedWindow$Moment" "brought" "I") ∈ lw_all := lw_g (lw_at lw_m1 84 rfl) rfl
theorem q194 : (Jvm.Cond.fieldLink "SharedWindow$Moment" (36 : Nat) "SharedWindow$Moment" "cracks" "I") ∈ lw_all := lw_g (lw_at lw_m1 85 rfl) rfl
theorem q195 : (Jvm.Cond.fieldLink "SharedWindow$Moment" (39 : Nat) "SharedWindow$Moment" "day" "I") ∈ lw_all := lw_g (lw_at lw_m1 86 rfl) rfl
theorem q196 : (Jvm.Cond.fieldLink "SharedWindow$Moment" (42 : Nat) "SharedWindow$Moment" "drawn" "I") ∈ lw_all := lw_g (lw_at lw_m1 87 rfl) rfl
theorem q200 : (Jvm.Cond.lays "SharedWindow$Moment" "SharedWindow$Moment" "house" "I") ∈ lw_all := lw_g (lw_at lw_m1 91 rfl) rfl
theorem q201 : (Jvm.Cond.soleField "SharedWindow$Moment" "house") ∈ lw_all := lw_g (lw_at lw_m1 92 rfl) rfl
theorem q202 : (Jvm.Cond.lays "SharedWindow$Moment" "SharedWindow$Moment" "window" "I") ∈ lw_all := lw_g (lw_at lw_m1 93 rfl) rfl
theorem q203 : (Jvm.Cond.soleField "SharedWindow$Moment" "window") ∈ lw_all := lw_g (lw_at lw_m1 94 rfl) rfl
theorem q204 : (Jvm.Cond.lays "SharedWindow$Moment" "SharedWindow$Moment" "turn" "I") ∈ lw_all := lw_g (lw_at lw_m1 95 rfl) rfl
theorem q205 : (Jvm.Cond.soleField "SharedWindow$Moment" "turn") ∈ lw_all := lw_g (lw_at lw_m1 96 rfl) rfl
theorem q206 : (Jvm.Cond.lays "SharedWindow$Moment" "SharedWindow$Moment" "apart" "I") ∈ lw_all := lw_g (lw_at lw_m1 97 rfl) rfl
theorem q207 : (Jvm.Cond.soleField "SharedWindow$Moment" "apart") ∈ lw_all := lw_g (lw_at lw_m1 98 rfl) rfl
theorem q208 : (Jvm.Cond.lays "SharedWindow$Moment" "SharedWindow$Moment" "seen" "I") ∈ lw_all := lw_g (lw_at lw_m1 99 rfl) rfl
theorem q209 : (Jvm.Cond.soleField "SharedWindow$Moment" "seen") ∈ lw_all := lw_g (lw_at lw_m1 100 rfl) rfl
theorem q210 : (Jvm.Cond.lays "SharedWindow$Moment" "SharedWindow$Moment" "brought" "I") ∈ lw_all := lw_g (lw_at lw_m1 101 rfl) rfl
theorem q211 : (Jvm.Cond.soleField "SharedWindow$Moment" "brought") ∈ lw_all := lw_g (lw_at lw_m1 102 rfl) rfl
theorem q212 : (Jvm.Cond.lays "SharedWindow$Moment" "SharedWindow$Moment" "cracks" "I") ∈ lw_all := lw_g (lw_at lw_m1 103 rfl) rfl
theorem q213 : (Jvm.Cond.soleField "SharedWindow$Moment" "cracks") ∈ lw_all := lw_g (lw_at lw_m1 104 rfl) rfl
theorem q214 : (Jvm.Cond.lays "SharedWindow$Moment" "SharedWindow$Moment" "day" "I") ∈ lw_all := lw_g (lw_at lw_m1 105 rfl) rfl
theorem q215 : (Jvm.Cond.soleField "SharedWindow$Moment" "day") ∈ lw_all := lw_g (lw_at lw_m1 106 rfl) rfl
theorem q216 : (Jvm.Cond.lays "SharedWindow$Moment" "SharedWindow$Moment" "drawn" "I") ∈ lw_all := lw_g (lw_at lw_m1 107 rfl) rfl
theorem q217 : (Jvm.Cond.soleField "SharedWindow$Moment" "drawn") ∈ lw_all := lw_g (lw_at lw_m1 108 rfl) rfl
theorem q218 : (Jvm.Cond.lays "SharedWindow$Moment" "SharedWindow$Asked" "isRefused" "Z") ∈ lw_all := lw_g (lw_at lw_m1 109 rfl) rfl
theorem q220 : (Jvm.Cond.superclass "SharedWindow$Moment" "SharedWindow$Asked") ∈ lw_all := lw_g (lw_at lw_m1 111 rfl) rfl
theorem q912 : (Jvm.Cond.instanceMethod ({ cls := "SharedWindow$Moment", name := "of", desc := "(IIIII)LSharedWindow$Moment;" } : Jvm.MethodName)) ∈ lw_all := lw_g (lw_at lw_m4 83 rfl) rfl
theorem q913 : (Jvm.Cond.selects "SharedWindow$Moment" ({ cls := "SharedWindow$Moment", name := "of", desc := "(IIIII)LSharedWindow$Moment;" } : Jvm.MethodName) ({ cls := "SharedWindow$Moment", name := "of", desc := "(IIIII)LSharedWindow$Moment;" } : Jvm.MethodName)) ∈ lw_all := lw_g (lw_at lw_m4 84 rfl) rfl
theorem q914 : (Jvm.Cond.code ({ cls := "SharedWindow$Moment", name := "of", desc := "(IIIII)LSharedWindow$Moment;" } : Jvm.MethodName) prog_7_method_2_code (6 : Nat) (Option.some (Jvm.ClassFile.FieldType.object "SharedWindow$Moment"))) ∈ lw_all := lw_g (lw_at lw_m4 85 rfl) rfl
theorem q915 : (Jvm.Cond.methodLink "SharedWindow$Moment" (21 : Nat) ({ cls := "java/lang/Math", name := "abs", desc := "(I)I" } : Jvm.MethodName)) ∈ lw_all := lw_g (lw_at lw_m4 86 rfl) rfl
theorem q919 : (Jvm.Cond.instanceMethod ({ cls := "SharedWindow$Moment", name := "on", desc := "(III)LSharedWindow$Moment;" } : Jvm.MethodName)) ∈ lw_all := lw_g (lw_at lw_m4 90 rfl) rfl
theorem q920 : (Jvm.Cond.selects "SharedWindow$Moment" ({ cls := "SharedWindow$Moment", name := "on", desc := "(III)LSharedWindow$Moment;" } : Jvm.MethodName) ({ cls := "SharedWindow$Moment", name := "on", desc := "(III)LSharedWindow$Moment;" } : Jvm.MethodName)) ∈ lw_all := lw_g (lw_at lw_m4 91 rfl) rfl
theorem q921 : (Jvm.Cond.code ({ cls := "SharedWindow$Moment", name := "on", desc := "(III)LSharedWindow$Moment;" } : Jvm.MethodName) prog_7_method_3_code (4 : Nat) (Option.some (Jvm.ClassFile.FieldType.object "SharedWindow$Moment"))) ∈ lw_all := lw_g (lw_at lw_m4 92 rfl) rfl
theorem q941 : (Jvm.Cond.selects "SharedWindow$Moment" ({ cls := "SharedWindow$Asked", name := "value", desc := "(I)I" } : Jvm.MethodName) ({ cls := "SharedWindow$Moment", name := "value", desc := "(I)I" } : Jvm.MethodName)) ∈ lw_all := lw_g (lw_at lw_m4 112 rfl) rfl
theorem q942 : (Jvm.Cond.instanceMethod ({ cls := "SharedWindow$Moment", name := "value", desc := "(I)I" } : Jvm.MethodName)) ∈ lw_all := lw_g (lw_at lw_m4 113 rfl) rfl
theorem q943 : (Jvm.Cond.code ({ cls := "SharedWindow$Moment", name := "value", desc := "(I)I" } : Jvm.MethodName) prog_7_method_4_code (2 : Nat) (Option.some Jvm.ClassFile.FieldType.int)) ∈ lw_all := lw_g (lw_at lw_m4 114 rfl) rfl
theorem in_X3 : ∀ w ∈ wsX30, w ∈ lw_all := lw_in wsX30 [218, 200, 202, 204, 206, 208, 210, 212, 214, 216] (by decide +kernel) (by decide +kernel)
/-! SharedWindow$Street -/
set_option maxRecDepth 100000
def RX4 : String := "SharedWindow$Street"
def TX4 : u_T := fun k => match k with
  | 0 => ("SharedWindow$Street", "joy", "[I", true)
  | 1 => ("SharedWindow$Street", "window", "I", false)
  | 2 => ("SharedWindow$Street", "brings", "I", false)
  | 3 => ("SharedWindow$Street", "cracks", "I", false)
  | 4 => ("SharedWindow$Street", "day", "I", false)
  | 5 => ("SharedWindow$Street", "x", "I", false)
  | 6 => ("SharedWindow$Street", "cracksNow", "I", false)
  | _ => ("SharedWindow$Street", "this$0", "LSharedWindow;", true)
def tyX4 : Nat → FieldType := fun k => match k with
  | 0 => .array .int
  | 1 => .int
  | 2 => .int
  | 3 => .int
  | 4 => .int
  | 5 => .int
  | 6 => .int
  | _ => .object "SharedWindow"
abbrev wsX40 : List Cond := u_ws RX4 TX4 8
theorem nmX4 : ∀ a, a < 8 → ∀ b, b < 8 → a ≠ b → (TX4 a).2.1 ≠ (TX4 b).2.1 := by decide +kernel
theorem tyX4_ok : ∀ k, k < 8 → parseFieldDescriptor (TX4 k).2.2.1 = some (tyX4 k) := by decide +kernel
abbrev cX4_init : ByteArray := prog_15_method_1_code
def yX4_init : MethodName := ⟨RX4, "<init>", "(LSharedWindow;)V"⟩
def dkwX4_init_0 : List UInt8 := [42, 43, 181, 0, 3, 42, 183, 0, 9, 42, 16, 16, 188, 10, 181, 0, 15, 42, 2, 181, 0, 19, 177]
abbrev dktX4_init_0 : List UInt8 := dkwX4_init_0 ++ []
theorem dksX4_init_0 : cX4_init.data.toList.drop 0 = dktX4_init_0 := by decide +kernel
theorem dX4_init_0 : decode cX4_init 0 = .ok (.aload_n 0, 1) := dk_42 (dk_at dksX4_init_0 0 rfl rfl)
theorem dX4_init_1 : decode cX4_init 1 = .ok (.aload_n 1, 1) := dk_43 (dk_at dksX4_init_0 1 rfl rfl)
theorem dX4_init_2 : decode cX4_init 2 = .ok (.putfield 3, 3) := dk_181 0 3 (dk_at dksX4_init_0 2 rfl rfl)
theorem dX4_init_5 : decode cX4_init 5 = .ok (.aload_n 0, 1) := dk_42 (dk_at dksX4_init_0 5 rfl rfl)
theorem dX4_init_6 : decode cX4_init 6 = .ok (.invokespecial 9, 3) := dk_183 0 9 (dk_at dksX4_init_0 6 rfl rfl)
theorem dX4_init_9 : decode cX4_init 9 = .ok (.aload_n 0, 1) := dk_42 (dk_at dksX4_init_0 9 rfl rfl)
theorem dX4_init_10 : decode cX4_init 10 = .ok (.bipush 16, 2) := dk_16 16 (dk_at dksX4_init_0 10 rfl rfl)
theorem dX4_init_12 : decode cX4_init 12 = .ok (.newarray .int, 2) := dk_188_10 (dk_at dksX4_init_0 12 rfl rfl)
theorem dX4_init_14 : decode cX4_init 14 = .ok (.putfield 15, 3) := dk_181 0 15 (dk_at dksX4_init_0 14 rfl rfl)
theorem dX4_init_17 : decode cX4_init 17 = .ok (.aload_n 0, 1) := dk_42 (dk_at dksX4_init_0 17 rfl rfl)
theorem dX4_init_18 : decode cX4_init 18 = .ok (.iconst (-1), 1) := dk_2 (dk_at dksX4_init_0 18 rfl rfl)
theorem dX4_init_19 : decode cX4_init 19 = .ok (.putfield 19, 3) := dk_181 0 19 (dk_at dksX4_init_0 19 rfl rfl)
theorem dX4_init_22 : decode cX4_init 22 = .ok (.return_, 1) := dk_177 (dk_at dksX4_init_0 22 rfl rfl)
abbrev cX4_begins : ByteArray := prog_15_method_3_code
def yX4_begins : MethodName := ⟨RX4, "begins", "()V"⟩
def dkwX4_begins_1 : List UInt8 := [181, 0, 19, 42, 3, 181, 0, 23, 42, 3, 181, 0, 26, 177]
abbrev dktX4_begins_1 : List UInt8 := dkwX4_begins_1 ++ []
def dkwX4_begins_0 : List UInt8 := [3, 60, 27, 16, 16, 162, 0, 16, 42, 180, 0, 15, 27, 3, 79, 132, 1, 1, 167, 255, 240, 42, 2]
abbrev dktX4_begins_0 : List UInt8 := dkwX4_begins_0 ++ dktX4_begins_1
theorem dksX4_begins_0 : cX4_begins.data.toList.drop 0 = dktX4_begins_0 := by decide +kernel
theorem dksX4_begins_1 : cX4_begins.data.toList.drop 23 = dktX4_begins_1 := dk_seg dksX4_begins_0 23 rfl rfl
theorem dX4_begins_0 : decode cX4_begins 0 = .ok (.iconst 0, 1) := dk_3 (dk_at dksX4_begins_0 0 rfl rfl)
theorem dX4_begins_1 : decode cX4_begins 1 = .ok (.istore_n 1, 1) := dk_60 (dk_at dksX4_begins_0 1 rfl rfl)
theorem dX4_begins_2 : decode cX4_begins 2 = .ok (.iload_n 1, 1) := dk_27 (dk_at dksX4_begins_0 2 rfl rfl)
theorem dX4_begins_3 : decode cX4_begins 3 = .ok (.bipush 16, 2) := dk_16 16 (dk_at dksX4_begins_0 3 rfl rfl)
theorem dX4_begins_5 : decode cX4_begins 5 = .ok (.if_icmp .ge 16, 3) := dk_162 0 16 (dk_at dksX4_begins_0 5 rfl rfl)
theorem dX4_begins_8 : decode cX4_begins 8 = .ok (.aload_n 0, 1) := dk_42 (dk_at dksX4_begins_0 8 rfl rfl)
theorem dX4_begins_9 : decode cX4_begins 9 = .ok (.getfield 15, 3) := dk_180 0 15 (dk_at dksX4_begins_0 9 rfl rfl)
theorem dX4_begins_12 : decode cX4_begins 12 = .ok (.iload_n 1, 1) := dk_27 (dk_at dksX4_begins_0 12 rfl rfl)
theorem dX4_begins_13 : decode cX4_begins 13 = .ok (.iconst 0, 1) := dk_3 (dk_at dksX4_begins_0 13 rfl rfl)
theorem dX4_begins_14 : decode cX4_begins 14 = .ok (.iastore, 1) := dk_79 (dk_at dksX4_begins_0 14 rfl rfl)
theorem dX4_begins_15 : decode cX4_begins 15 = .ok (.iinc 1 1, 3) := dk_132 1 1 (dk_at dksX4_begins_0 15 rfl rfl)
theorem dX4_begins_18 : decode cX4_begins 18 = .ok (.goto (-16), 3) := dk_167 255 240 (dk_at dksX4_begins_0 18 rfl rfl)
theorem dX4_begins_21 : decode cX4_begins 21 = .ok (.aload_n 0, 1) := dk_42 (dk_at dksX4_begins_0 21 rfl rfl)
theorem dX4_begins_22 : decode cX4_begins 22 = .ok (.iconst (-1), 1) := dk_2 (dk_at dksX4_begins_0 22 rfl rfl)
theorem dX4_begins_23 : decode cX4_begins 23 = .ok (.putfield 19, 3) := dk_181 0 19 (dk_at dksX4_begins_1 0 rfl rfl)
theorem dX4_begins_26 : decode cX4_begins 26 = .ok (.aload_n 0, 1) := dk_42 (dk_at dksX4_begins_1 3 rfl rfl)
theorem dX4_begins_27 : decode cX4_begins 27 = .ok (.iconst 0, 1) := dk_3 (dk_at dksX4_begins_1 4 rfl rfl)
theorem dX4_begins_28 : decode cX4_begins 28 = .ok (.putfield 23, 3) := dk_181 0 23 (dk_at dksX4_begins_1 5 rfl rfl)
theorem dX4_begins_31 : decode cX4_begins 31 = .ok (.aload_n 0, 1) := dk_42 (dk_at dksX4_begins_1 8 rfl rfl)
theorem dX4_begins_32 : decode cX4_begins 32 = .ok (.iconst 0, 1) := dk_3 (dk_at dksX4_begins_1 9 rfl rfl)
theorem dX4_begins_33 : decode cX4_begins 33 = .ok (.putfield 26, 3) := dk_181 0 26 (dk_at dksX4_begins_1 10 rfl rfl)
theorem dX4_begins_36 : decode cX4_begins 36 = .ok (.return_, 1) := dk_177 (dk_at dksX4_begins_1 13 rfl rfl)
abbrev cX4_goes : ByteArray := prog_15_method_10_code
def yX4_goes : MethodName := ⟨RX4, "goes", "(I)LSharedWindow$Street;"⟩
def dkwX4_goes_1 : List UInt8 := [182, 0, 118, 132, 2, 1, 167, 255, 234, 42, 176]
abbrev dktX4_goes_1 : List UInt8 := dkwX4_goes_1 ++ []
def dkwX4_goes_0 : List UInt8 := [42, 3, 181, 0, 94, 3, 61, 28, 27, 162, 0, 23, 42, 180, 0, 29, 17, 39, 15, 162, 0, 13, 42]
abbrev dktX4_goes_0 : List UInt8 := dkwX4_goes_0 ++ dktX4_goes_1
theorem dksX4_goes_0 : cX4_goes.data.toList.drop 0 = dktX4_goes_0 := by decide +kernel
theorem dksX4_goes_1 : cX4_goes.data.toList.drop 23 = dktX4_goes_1 := dk_seg dksX4_goes_0 23 rfl rfl
theorem dX4_goes_0 : decode cX4_goes 0 = .ok (.aload_n 0, 1) := dk_42 (dk_at dksX4_goes_0 0 rfl rfl)
theorem dX4_goes_1 : decode cX4_goes 1 = .ok (.iconst 0, 1) := dk_3 (dk_at dksX4_goes_0 1 rfl rfl)
theorem dX4_goes_2 : decode cX4_goes 2 = .ok (.putfield 94, 3) := dk_181 0 94 (dk_at dksX4_goes_0 2 rfl rfl)
theorem dX4_goes_5 : decode cX4_goes 5 = .ok (.iconst 0, 1) := dk_3 (dk_at dksX4_goes_0 5 rfl rfl)
theorem dX4_goes_6 : decode cX4_goes 6 = .ok (.istore_n 2, 1) := dk_61 (dk_at dksX4_goes_0 6 rfl rfl)
theorem dX4_goes_7 : decode cX4_goes 7 = .ok (.iload_n 2, 1) := dk_28 (dk_at dksX4_goes_0 7 rfl rfl)
theorem dX4_goes_8 : decode cX4_goes 8 = .ok (.iload_n 1, 1) := dk_27 (dk_at dksX4_goes_0 8 rfl rfl)
theorem dX4_goes_9 : decode cX4_goes 9 = .ok (.if_icmp .ge 23, 3) := dk_162 0 23 (dk_at dksX4_goes_0 9 rfl rfl)
theorem dX4_goes_12 : decode cX4_goes 12 = .ok (.aload_n 0, 1) := dk_42 (dk_at dksX4_goes_0 12 rfl rfl)
theorem dX4_goes_13 : decode cX4_goes 13 = .ok (.getfield 29, 3) := dk_180 0 29 (dk_at dksX4_goes_0 13 rfl rfl)
theorem dX4_goes_16 : decode cX4_goes 16 = .ok (.sipush 9999, 3) := dk_17 39 15 (dk_at dksX4_goes_0 16 rfl rfl)
theorem dX4_goes_19 : decode cX4_goes 19 = .ok (.if_icmp .ge 13, 3) := dk_162 0 13 (dk_at dksX4_goes_0 19 rfl rfl)
theorem dX4_goes_22 : decode cX4_goes 22 = .ok (.aload_n 0, 1) := dk_42 (dk_at dksX4_goes_0 22 rfl rfl)
theorem dX4_goes_23 : decode cX4_goes 23 = .ok (.invokevirtual 118, 3) := dk_182 0 118 (dk_at dksX4_goes_1 0 rfl rfl)
theorem dX4_goes_26 : decode cX4_goes 26 = .ok (.iinc 2 1, 3) := dk_132 2 1 (dk_at dksX4_goes_1 3 rfl rfl)
theorem dX4_goes_29 : decode cX4_goes 29 = .ok (.goto (-22), 3) := dk_167 255 234 (dk_at dksX4_goes_1 6 rfl rfl)
theorem dX4_goes_32 : decode cX4_goes 32 = .ok (.aload_n 0, 1) := dk_42 (dk_at dksX4_goes_1 9 rfl rfl)
theorem dX4_goes_33 : decode cX4_goes 33 = .ok (.areturn, 1) := dk_176 (dk_at dksX4_goes_1 10 rfl rfl)
abbrev cX4_dayGoes : ByteArray := prog_15_method_9_code
def yX4_dayGoes : MethodName := ⟨RX4, "dayGoes", "()V"⟩
def dkwX4_dayGoes_1 : List UInt8 := [182, 0, 114, 132, 1, 1, 167, 255, 229, 42, 89, 180, 0, 29, 4, 96, 181, 0, 29, 177]
abbrev dktX4_dayGoes_1 : List UInt8 := dkwX4_dayGoes_1 ++ []
def dkwX4_dayGoes_0 : List UInt8 := [3, 60, 27, 16, 12, 162, 0, 27, 42, 180, 0, 3, 180, 0, 106, 27, 46, 2, 159, 0, 8, 42, 27]
abbrev dktX4_dayGoes_0 : List UInt8 := dkwX4_dayGoes_0 ++ dktX4_dayGoes_1
theorem dksX4_dayGoes_0 : cX4_dayGoes.data.toList.drop 0 = dktX4_dayGoes_0 := by decide +kernel
theorem dksX4_dayGoes_1 : cX4_dayGoes.data.toList.drop 23 = dktX4_dayGoes_1 := dk_seg dksX4_dayGoes_0 23 rfl rfl
theorem dX4_dayGoes_0 : decode cX4_dayGoes 0 = .ok (.iconst 0, 1) := dk_3 (dk_at dksX4_dayGoes_0 0 rfl rfl)
theorem dX4_dayGoes_1 : decode cX4_dayGoes 1 = .ok (.istore_n 1, 1) := dk_60 (dk_at dksX4_dayGoes_0 1 rfl rfl)
theorem dX4_dayGoes_2 : decode cX4_dayGoes 2 = .ok (.iload_n 1, 1) := dk_27 (dk_at dksX4_dayGoes_0 2 rfl rfl)
theorem dX4_dayGoes_3 : decode cX4_dayGoes 3 = .ok (.bipush 12, 2) := dk_16 12 (dk_at dksX4_dayGoes_0 3 rfl rfl)
theorem dX4_dayGoes_5 : decode cX4_dayGoes 5 = .ok (.if_icmp .ge 27, 3) := dk_162 0 27 (dk_at dksX4_dayGoes_0 5 rfl rfl)
theorem dX4_dayGoes_8 : decode cX4_dayGoes 8 = .ok (.aload_n 0, 1) := dk_42 (dk_at dksX4_dayGoes_0 8 rfl rfl)
theorem dX4_dayGoes_9 : decode cX4_dayGoes 9 = .ok (.getfield 3, 3) := dk_180 0 3 (dk_at dksX4_dayGoes_0 9 rfl rfl)
theorem dX4_dayGoes_12 : decode cX4_dayGoes 12 = .ok (.getfield 106, 3) := dk_180 0 106 (dk_at dksX4_dayGoes_0 12 rfl rfl)
theorem dX4_dayGoes_15 : decode cX4_dayGoes 15 = .ok (.iload_n 1, 1) := dk_27 (dk_at dksX4_dayGoes_0 15 rfl rfl)
theorem dX4_dayGoes_16 : decode cX4_dayGoes 16 = .ok (.iaload, 1) := dk_46 (dk_at dksX4_dayGoes_0 16 rfl rfl)
theorem dX4_dayGoes_17 : decode cX4_dayGoes 17 = .ok (.iconst (-1), 1) := dk_2 (dk_at dksX4_dayGoes_0 17 rfl rfl)
theorem dX4_dayGoes_18 : decode cX4_dayGoes 18 = .ok (.if_icmp .eq 8, 3) := dk_159 0 8 (dk_at dksX4_dayGoes_0 18 rfl rfl)
theorem dX4_dayGoes_21 : decode cX4_dayGoes 21 = .ok (.aload_n 0, 1) := dk_42 (dk_at dksX4_dayGoes_0 21 rfl rfl)
theorem dX4_dayGoes_22 : decode cX4_dayGoes 22 = .ok (.iload_n 1, 1) := dk_27 (dk_at dksX4_dayGoes_0 22 rfl rfl)
theorem dX4_dayGoes_23 : decode cX4_dayGoes 23 = .ok (.invokevirtual 114, 3) := dk_182 0 114 (dk_at dksX4_dayGoes_1 0 rfl rfl)
theorem dX4_dayGoes_26 : decode cX4_dayGoes 26 = .ok (.iinc 1 1, 3) := dk_132 1 1 (dk_at dksX4_dayGoes_1 3 rfl rfl)
theorem dX4_dayGoes_29 : decode cX4_dayGoes 29 = .ok (.goto (-27), 3) := dk_167 255 229 (dk_at dksX4_dayGoes_1 6 rfl rfl)
theorem dX4_dayGoes_32 : decode cX4_dayGoes 32 = .ok (.aload_n 0, 1) := dk_42 (dk_at dksX4_dayGoes_1 9 rfl rfl)
theorem dX4_dayGoes_33 : decode cX4_dayGoes 33 = .ok (.dup, 1) := dk_89 (dk_at dksX4_dayGoes_1 10 rfl rfl)
theorem dX4_dayGoes_34 : decode cX4_dayGoes 34 = .ok (.getfield 29, 3) := dk_180 0 29 (dk_at dksX4_dayGoes_1 11 rfl rfl)
theorem dX4_dayGoes_37 : decode cX4_dayGoes 37 = .ok (.iconst 1, 1) := dk_4 (dk_at dksX4_dayGoes_1 14 rfl rfl)
theorem dX4_dayGoes_38 : decode cX4_dayGoes 38 = .ok (.iadd, 1) := dk_96 (dk_at dksX4_dayGoes_1 15 rfl rfl)
theorem dX4_dayGoes_39 : decode cX4_dayGoes 39 = .ok (.putfield 29, 3) := dk_181 0 29 (dk_at dksX4_dayGoes_1 16 rfl rfl)
theorem dX4_dayGoes_42 : decode cX4_dayGoes 42 = .ok (.return_, 1) := dk_177 (dk_at dksX4_dayGoes_1 19 rfl rfl)
abbrev cX4_turnGoes : ByteArray := prog_15_method_8_code
def yX4_turnGoes : MethodName := ⟨RX4, "turnGoes", "(I)V"⟩
def dkwX4_turnGoes_5 : List UInt8 := [154, 0, 10, 42, 180, 0, 23, 167, 0, 4, 29, 181, 0, 23, 177]
abbrev dktX4_turnGoes_5 : List UInt8 := dkwX4_turnGoes_5 ++ []
def dkwX4_turnGoes_4 : List UInt8 := [180, 0, 19, 18, 113, 42, 180, 0, 15, 42, 180, 0, 19, 46, 21, 4, 96, 184, 0, 97, 79, 42, 29]
abbrev dktX4_turnGoes_4 : List UInt8 := dkwX4_turnGoes_4 ++ dktX4_turnGoes_5
def dkwX4_turnGoes_3 : List UInt8 := [180, 0, 19, 27, 28, 182, 0, 74, 182, 0, 87, 16, 99, 184, 0, 91, 54, 4, 42, 180, 0, 15, 42]
abbrev dktX4_turnGoes_3 : List UInt8 := dkwX4_turnGoes_3 ++ dktX4_turnGoes_4
def dkwX4_turnGoes_2 : List UInt8 := [180, 0, 3, 180, 0, 77, 16, 106, 29, 184, 0, 58, 42, 180, 0, 23, 184, 0, 58, 96, 42, 42]
abbrev dktX4_turnGoes_2 : List UInt8 := dkwX4_turnGoes_2 ++ dktX4_turnGoes_3
def dkwX4_turnGoes_1 : List UInt8 := [2, 160, 0, 4, 177, 42, 180, 0, 3, 180, 0, 39, 42, 180, 0, 19, 27, 182, 0, 54, 62, 42]
abbrev dktX4_turnGoes_1 : List UInt8 := dkwX4_turnGoes_1 ++ dktX4_turnGoes_2
def dkwX4_turnGoes_0 : List UInt8 := [42, 182, 0, 102, 61, 42, 42, 180, 0, 3, 180, 0, 106, 27, 46, 27, 28, 182, 0, 109, 42, 180, 0, 19]
abbrev dktX4_turnGoes_0 : List UInt8 := dkwX4_turnGoes_0 ++ dktX4_turnGoes_1
theorem dksX4_turnGoes_0 : cX4_turnGoes.data.toList.drop 0 = dktX4_turnGoes_0 := by decide +kernel
theorem dksX4_turnGoes_1 : cX4_turnGoes.data.toList.drop 24 = dktX4_turnGoes_1 := dk_seg dksX4_turnGoes_0 24 rfl rfl
theorem dksX4_turnGoes_2 : cX4_turnGoes.data.toList.drop 46 = dktX4_turnGoes_2 := dk_seg dksX4_turnGoes_1 22 rfl rfl
theorem dksX4_turnGoes_3 : cX4_turnGoes.data.toList.drop 68 = dktX4_turnGoes_3 := dk_seg dksX4_turnGoes_2 22 rfl rfl
theorem dksX4_turnGoes_4 : cX4_turnGoes.data.toList.drop 91 = dktX4_turnGoes_4 := dk_seg dksX4_turnGoes_3 23 rfl rfl
theorem dksX4_turnGoes_5 : cX4_turnGoes.data.toList.drop 114 = dktX4_turnGoes_5 := dk_seg dksX4_turnGoes_4 23 rfl rfl
theorem dX4_turnGoes_0 : decode cX4_turnGoes 0 = .ok (.aload_n 0, 1) := dk_42 (dk_at dksX4_turnGoes_0 0 rfl rfl)
theorem dX4_turnGoes_1 : decode cX4_turnGoes 1 = .ok (.invokevirtual 102, 3) := dk_182 0 102 (dk_at dksX4_turnGoes_0 1 rfl rfl)
theorem dX4_turnGoes_4 : decode cX4_turnGoes 4 = .ok (.istore_n 2, 1) := dk_61 (dk_at dksX4_turnGoes_0 4 rfl rfl)
theorem dX4_turnGoes_5 : decode cX4_turnGoes 5 = .ok (.aload_n 0, 1) := dk_42 (dk_at dksX4_turnGoes_0 5 rfl rfl)
theorem dX4_turnGoes_6 : decode cX4_turnGoes 6 = .ok (.aload_n 0, 1) := dk_42 (dk_at dksX4_turnGoes_0 6 rfl rfl)
theorem dX4_turnGoes_7 : decode cX4_turnGoes 7 = .ok (.getfield 3, 3) := dk_180 0 3 (dk_at dksX4_turnGoes_0 7 rfl rfl)
theorem dX4_turnGoes_10 : decode cX4_turnGoes 10 = .ok (.getfield 106, 3) := dk_180 0 106 (dk_at dksX4_turnGoes_0 10 rfl rfl)
theorem dX4_turnGoes_13 : decode cX4_turnGoes 13 = .ok (.iload_n 1, 1) := dk_27 (dk_at dksX4_turnGoes_0 13 rfl rfl)
theorem dX4_turnGoes_14 : decode cX4_turnGoes 14 = .ok (.iaload, 1) := dk_46 (dk_at dksX4_turnGoes_0 14 rfl rfl)
theorem dX4_turnGoes_15 : decode cX4_turnGoes 15 = .ok (.iload_n 1, 1) := dk_27 (dk_at dksX4_turnGoes_0 15 rfl rfl)
theorem dX4_turnGoes_16 : decode cX4_turnGoes 16 = .ok (.iload_n 2, 1) := dk_28 (dk_at dksX4_turnGoes_0 16 rfl rfl)
theorem dX4_turnGoes_17 : decode cX4_turnGoes 17 = .ok (.invokevirtual 109, 3) := dk_182 0 109 (dk_at dksX4_turnGoes_0 17 rfl rfl)
theorem dX4_turnGoes_20 : decode cX4_turnGoes 20 = .ok (.aload_n 0, 1) := dk_42 (dk_at dksX4_turnGoes_0 20 rfl rfl)
theorem dX4_turnGoes_21 : decode cX4_turnGoes 21 = .ok (.getfield 19, 3) := dk_180 0 19 (dk_at dksX4_turnGoes_0 21 rfl rfl)
theorem dX4_turnGoes_24 : decode cX4_turnGoes 24 = .ok (.iconst (-1), 1) := dk_2 (dk_at dksX4_turnGoes_1 0 rfl rfl)
theorem dX4_turnGoes_25 : decode cX4_turnGoes 25 = .ok (.if_icmp .ne 4, 3) := dk_160 0 4 (dk_at dksX4_turnGoes_1 1 rfl rfl)
theorem dX4_turnGoes_28 : decode cX4_turnGoes 28 = .ok (.return_, 1) := dk_177 (dk_at dksX4_turnGoes_1 4 rfl rfl)
theorem dX4_turnGoes_29 : decode cX4_turnGoes 29 = .ok (.aload_n 0, 1) := dk_42 (dk_at dksX4_turnGoes_1 5 rfl rfl)
theorem dX4_turnGoes_30 : decode cX4_turnGoes 30 = .ok (.getfield 3, 3) := dk_180 0 3 (dk_at dksX4_turnGoes_1 6 rfl rfl)
theorem dX4_turnGoes_33 : decode cX4_turnGoes 33 = .ok (.getfield 39, 3) := dk_180 0 39 (dk_at dksX4_turnGoes_1 9 rfl rfl)
theorem dX4_turnGoes_36 : decode cX4_turnGoes 36 = .ok (.aload_n 0, 1) := dk_42 (dk_at dksX4_turnGoes_1 12 rfl rfl)
theorem dX4_turnGoes_37 : decode cX4_turnGoes 37 = .ok (.getfield 19, 3) := dk_180 0 19 (dk_at dksX4_turnGoes_1 13 rfl rfl)
theorem dX4_turnGoes_40 : decode cX4_turnGoes 40 = .ok (.iload_n 1, 1) := dk_27 (dk_at dksX4_turnGoes_1 16 rfl rfl)
theorem dX4_turnGoes_41 : decode cX4_turnGoes 41 = .ok (.invokevirtual 54, 3) := dk_182 0 54 (dk_at dksX4_turnGoes_1 17 rfl rfl)
theorem dX4_turnGoes_44 : decode cX4_turnGoes 44 = .ok (.istore_n 3, 1) := dk_62 (dk_at dksX4_turnGoes_1 20 rfl rfl)
theorem dX4_turnGoes_45 : decode cX4_turnGoes 45 = .ok (.aload_n 0, 1) := dk_42 (dk_at dksX4_turnGoes_1 21 rfl rfl)
theorem dX4_turnGoes_46 : decode cX4_turnGoes 46 = .ok (.getfield 3, 3) := dk_180 0 3 (dk_at dksX4_turnGoes_2 0 rfl rfl)
theorem dX4_turnGoes_49 : decode cX4_turnGoes 49 = .ok (.getfield 77, 3) := dk_180 0 77 (dk_at dksX4_turnGoes_2 3 rfl rfl)
theorem dX4_turnGoes_52 : decode cX4_turnGoes 52 = .ok (.bipush 106, 2) := dk_16 106 (dk_at dksX4_turnGoes_2 6 rfl rfl)
theorem dX4_turnGoes_54 : decode cX4_turnGoes 54 = .ok (.iload_n 3, 1) := dk_29 (dk_at dksX4_turnGoes_2 8 rfl rfl)
theorem dX4_turnGoes_55 : decode cX4_turnGoes 55 = .ok (.invokestatic 58, 3) := dk_184 0 58 (dk_at dksX4_turnGoes_2 9 rfl rfl)
theorem dX4_turnGoes_58 : decode cX4_turnGoes 58 = .ok (.aload_n 0, 1) := dk_42 (dk_at dksX4_turnGoes_2 12 rfl rfl)
theorem dX4_turnGoes_59 : decode cX4_turnGoes 59 = .ok (.getfield 23, 3) := dk_180 0 23 (dk_at dksX4_turnGoes_2 13 rfl rfl)
theorem dX4_turnGoes_62 : decode cX4_turnGoes 62 = .ok (.invokestatic 58, 3) := dk_184 0 58 (dk_at dksX4_turnGoes_2 16 rfl rfl)
theorem dX4_turnGoes_65 : decode cX4_turnGoes 65 = .ok (.iadd, 1) := dk_96 (dk_at dksX4_turnGoes_2 19 rfl rfl)
theorem dX4_turnGoes_66 : decode cX4_turnGoes 66 = .ok (.aload_n 0, 1) := dk_42 (dk_at dksX4_turnGoes_2 20 rfl rfl)
theorem dX4_turnGoes_67 : decode cX4_turnGoes 67 = .ok (.aload_n 0, 1) := dk_42 (dk_at dksX4_turnGoes_2 21 rfl rfl)
theorem dX4_turnGoes_68 : decode cX4_turnGoes 68 = .ok (.getfield 19, 3) := dk_180 0 19 (dk_at dksX4_turnGoes_3 0 rfl rfl)
theorem dX4_turnGoes_71 : decode cX4_turnGoes 71 = .ok (.iload_n 1, 1) := dk_27 (dk_at dksX4_turnGoes_3 3 rfl rfl)
theorem dX4_turnGoes_72 : decode cX4_turnGoes 72 = .ok (.iload_n 2, 1) := dk_28 (dk_at dksX4_turnGoes_3 4 rfl rfl)
theorem dX4_turnGoes_73 : decode cX4_turnGoes 73 = .ok (.invokevirtual 74, 3) := dk_182 0 74 (dk_at dksX4_turnGoes_3 5 rfl rfl)
theorem dX4_turnGoes_76 : decode cX4_turnGoes 76 = .ok (.invokevirtual 87, 3) := dk_182 0 87 (dk_at dksX4_turnGoes_3 8 rfl rfl)
theorem dX4_turnGoes_79 : decode cX4_turnGoes 79 = .ok (.bipush 99, 2) := dk_16 99 (dk_at dksX4_turnGoes_3 11 rfl rfl)
theorem dX4_turnGoes_81 : decode cX4_turnGoes 81 = .ok (.invokestatic 91, 3) := dk_184 0 91 (dk_at dksX4_turnGoes_3 13 rfl rfl)
theorem dX4_turnGoes_84 : decode cX4_turnGoes 84 = .ok (.istore 4, 2) := dk_54 4 (dk_at dksX4_turnGoes_3 16 rfl rfl)
theorem dX4_turnGoes_86 : decode cX4_turnGoes 86 = .ok (.aload_n 0, 1) := dk_42 (dk_at dksX4_turnGoes_3 18 rfl rfl)
theorem dX4_turnGoes_87 : decode cX4_turnGoes 87 = .ok (.getfield 15, 3) := dk_180 0 15 (dk_at dksX4_turnGoes_3 19 rfl rfl)
theorem dX4_turnGoes_90 : decode cX4_turnGoes 90 = .ok (.aload_n 0, 1) := dk_42 (dk_at dksX4_turnGoes_3 22 rfl rfl)
theorem dX4_turnGoes_91 : decode cX4_turnGoes 91 = .ok (.getfield 19, 3) := dk_180 0 19 (dk_at dksX4_turnGoes_4 0 rfl rfl)
theorem dX4_turnGoes_94 : decode cX4_turnGoes 94 = .ok (.ldc 113, 2) := dk_18 113 (dk_at dksX4_turnGoes_4 3 rfl rfl)
theorem dX4_turnGoes_96 : decode cX4_turnGoes 96 = .ok (.aload_n 0, 1) := dk_42 (dk_at dksX4_turnGoes_4 5 rfl rfl)
theorem dX4_turnGoes_97 : decode cX4_turnGoes 97 = .ok (.getfield 15, 3) := dk_180 0 15 (dk_at dksX4_turnGoes_4 6 rfl rfl)
theorem dX4_turnGoes_100 : decode cX4_turnGoes 100 = .ok (.aload_n 0, 1) := dk_42 (dk_at dksX4_turnGoes_4 9 rfl rfl)
theorem dX4_turnGoes_101 : decode cX4_turnGoes 101 = .ok (.getfield 19, 3) := dk_180 0 19 (dk_at dksX4_turnGoes_4 10 rfl rfl)
theorem dX4_turnGoes_104 : decode cX4_turnGoes 104 = .ok (.iaload, 1) := dk_46 (dk_at dksX4_turnGoes_4 13 rfl rfl)
theorem dX4_turnGoes_105 : decode cX4_turnGoes 105 = .ok (.iload 4, 2) := dk_21 4 (dk_at dksX4_turnGoes_4 14 rfl rfl)
theorem dX4_turnGoes_107 : decode cX4_turnGoes 107 = .ok (.iadd, 1) := dk_96 (dk_at dksX4_turnGoes_4 16 rfl rfl)
theorem dX4_turnGoes_108 : decode cX4_turnGoes 108 = .ok (.invokestatic 97, 3) := dk_184 0 97 (dk_at dksX4_turnGoes_4 17 rfl rfl)
theorem dX4_turnGoes_111 : decode cX4_turnGoes 111 = .ok (.iastore, 1) := dk_79 (dk_at dksX4_turnGoes_4 20 rfl rfl)
theorem dX4_turnGoes_112 : decode cX4_turnGoes 112 = .ok (.aload_n 0, 1) := dk_42 (dk_at dksX4_turnGoes_4 21 rfl rfl)
theorem dX4_turnGoes_113 : decode cX4_turnGoes 113 = .ok (.iload_n 3, 1) := dk_29 (dk_at dksX4_turnGoes_4 22 rfl rfl)
theorem dX4_turnGoes_114 : decode cX4_turnGoes 114 = .ok (.ifCond .ne 10, 3) := dk_154 0 10 (dk_at dksX4_turnGoes_5 0 rfl rfl)
theorem dX4_turnGoes_117 : decode cX4_turnGoes 117 = .ok (.aload_n 0, 1) := dk_42 (dk_at dksX4_turnGoes_5 3 rfl rfl)
theorem dX4_turnGoes_118 : decode cX4_turnGoes 118 = .ok (.getfield 23, 3) := dk_180 0 23 (dk_at dksX4_turnGoes_5 4 rfl rfl)
theorem dX4_turnGoes_121 : decode cX4_turnGoes 121 = .ok (.goto 4, 3) := dk_167 0 4 (dk_at dksX4_turnGoes_5 7 rfl rfl)
theorem dX4_turnGoes_124 : decode cX4_turnGoes 124 = .ok (.iload_n 3, 1) := dk_29 (dk_at dksX4_turnGoes_5 10 rfl rfl)
theorem dX4_turnGoes_125 : decode cX4_turnGoes 125 = .ok (.putfield 23, 3) := dk_181 0 23 (dk_at dksX4_turnGoes_5 11 rfl rfl)
theorem dX4_turnGoes_128 : decode cX4_turnGoes 128 = .ok (.return_, 1) := dk_177 (dk_at dksX4_turnGoes_5 14 rfl rfl)
abbrev cX4_draw : ByteArray := prog_15_method_5_code
def yX4_draw : MethodName := ⟨RX4, "draw", "()I"⟩
def dkwX4_draw_1 : List UInt8 := [16, 10, 112, 172]
abbrev dktX4_draw_1 : List UInt8 := dkwX4_draw_1 ++ []
def dkwX4_draw_0 : List UInt8 := [42, 17, 98, 85, 42, 180, 0, 32, 104, 17, 54, 25, 96, 18, 49, 112, 181, 0, 32, 42, 180, 0, 32]
abbrev dktX4_draw_0 : List UInt8 := dkwX4_draw_0 ++ dktX4_draw_1
theorem dksX4_draw_0 : cX4_draw.data.toList.drop 0 = dktX4_draw_0 := by decide +kernel
theorem dksX4_draw_1 : cX4_draw.data.toList.drop 23 = dktX4_draw_1 := dk_seg dksX4_draw_0 23 rfl rfl
theorem dX4_draw_0 : decode cX4_draw 0 = .ok (.aload_n 0, 1) := dk_42 (dk_at dksX4_draw_0 0 rfl rfl)
theorem dX4_draw_1 : decode cX4_draw 1 = .ok (.sipush 25173, 3) := dk_17 98 85 (dk_at dksX4_draw_0 1 rfl rfl)
theorem dX4_draw_4 : decode cX4_draw 4 = .ok (.aload_n 0, 1) := dk_42 (dk_at dksX4_draw_0 4 rfl rfl)
theorem dX4_draw_5 : decode cX4_draw 5 = .ok (.getfield 32, 3) := dk_180 0 32 (dk_at dksX4_draw_0 5 rfl rfl)
theorem dX4_draw_8 : decode cX4_draw 8 = .ok (.imul, 1) := dk_104 (dk_at dksX4_draw_0 8 rfl rfl)
theorem dX4_draw_9 : decode cX4_draw 9 = .ok (.sipush 13849, 3) := dk_17 54 25 (dk_at dksX4_draw_0 9 rfl rfl)
theorem dX4_draw_12 : decode cX4_draw 12 = .ok (.iadd, 1) := dk_96 (dk_at dksX4_draw_0 12 rfl rfl)
theorem dX4_draw_13 : decode cX4_draw 13 = .ok (.ldc 49, 2) := dk_18 49 (dk_at dksX4_draw_0 13 rfl rfl)
theorem dX4_draw_15 : decode cX4_draw 15 = .ok (.irem, 1) := dk_112 (dk_at dksX4_draw_0 15 rfl rfl)
theorem dX4_draw_16 : decode cX4_draw 16 = .ok (.putfield 32, 3) := dk_181 0 32 (dk_at dksX4_draw_0 16 rfl rfl)
theorem dX4_draw_19 : decode cX4_draw 19 = .ok (.aload_n 0, 1) := dk_42 (dk_at dksX4_draw_0 19 rfl rfl)
theorem dX4_draw_20 : decode cX4_draw 20 = .ok (.getfield 32, 3) := dk_180 0 32 (dk_at dksX4_draw_0 20 rfl rfl)
theorem dX4_draw_23 : decode cX4_draw 23 = .ok (.bipush 10, 2) := dk_16 10 (dk_at dksX4_draw_1 0 rfl rfl)
theorem dX4_draw_25 : decode cX4_draw 25 = .ok (.irem, 1) := dk_112 (dk_at dksX4_draw_1 2 rfl rfl)
theorem dX4_draw_26 : decode cX4_draw 26 = .ok (.ireturn, 1) := dk_172 (dk_at dksX4_draw_1 3 rfl rfl)
abbrev cX4_isCarried : ByteArray := prog_15_method_7_code
def yX4_isCarried : MethodName := ⟨RX4, "isCarried", "(III)V"⟩
def dkwX4_isCarried_4 : List UInt8 := [181, 0, 26, 42, 27, 181, 0, 19, 177]
abbrev dktX4_isCarried_4 : List UInt8 := dkwX4_isCarried_4 ++ []
def dkwX4_isCarried_3 : List UInt8 := [100, 184, 0, 97, 96, 181, 0, 94, 42, 17, 39, 15, 42, 180, 0, 26, 21, 5, 96, 184, 0, 97]
abbrev dktX4_isCarried_3 : List UInt8 := dkwX4_isCarried_3 ++ dktX4_isCarried_4
def dkwX4_isCarried_2 : List UInt8 := [182, 0, 87, 16, 9, 184, 0, 91, 54, 5, 42, 89, 180, 0, 94, 21, 5, 17, 39, 15, 42, 180, 0, 26]
abbrev dktX4_isCarried_2 : List UInt8 := dkwX4_isCarried_2 ++ dktX4_isCarried_3
def dkwX4_isCarried_1 : List UInt8 := [154, 0, 11, 42, 180, 0, 19, 27, 160, 0, 4, 177, 42, 180, 0, 3, 180, 0, 77, 16, 99, 3, 25, 4]
abbrev dktX4_isCarried_1 : List UInt8 := dkwX4_isCarried_1 ++ dktX4_isCarried_2
def dkwX4_isCarried_0 : List UInt8 := [42, 27, 28, 29, 182, 0, 74, 58, 4, 42, 180, 0, 3, 180, 0, 77, 16, 120, 25, 4, 182, 0, 81]
abbrev dktX4_isCarried_0 : List UInt8 := dkwX4_isCarried_0 ++ dktX4_isCarried_1
theorem dksX4_isCarried_0 : cX4_isCarried.data.toList.drop 0 = dktX4_isCarried_0 := by decide +kernel
theorem dksX4_isCarried_1 : cX4_isCarried.data.toList.drop 23 = dktX4_isCarried_1 := dk_seg dksX4_isCarried_0 23 rfl rfl
theorem dksX4_isCarried_2 : cX4_isCarried.data.toList.drop 47 = dktX4_isCarried_2 := dk_seg dksX4_isCarried_1 24 rfl rfl
theorem dksX4_isCarried_3 : cX4_isCarried.data.toList.drop 71 = dktX4_isCarried_3 := dk_seg dksX4_isCarried_2 24 rfl rfl
theorem dksX4_isCarried_4 : cX4_isCarried.data.toList.drop 93 = dktX4_isCarried_4 := dk_seg dksX4_isCarried_3 22 rfl rfl
theorem dX4_isCarried_0 : decode cX4_isCarried 0 = .ok (.aload_n 0, 1) := dk_42 (dk_at dksX4_isCarried_0 0 rfl rfl)
theorem dX4_isCarried_1 : decode cX4_isCarried 1 = .ok (.iload_n 1, 1) := dk_27 (dk_at dksX4_isCarried_0 1 rfl rfl)
theorem dX4_isCarried_2 : decode cX4_isCarried 2 = .ok (.iload_n 2, 1) := dk_28 (dk_at dksX4_isCarried_0 2 rfl rfl)
theorem dX4_isCarried_3 : decode cX4_isCarried 3 = .ok (.iload_n 3, 1) := dk_29 (dk_at dksX4_isCarried_0 3 rfl rfl)
theorem dX4_isCarried_4 : decode cX4_isCarried 4 = .ok (.invokevirtual 74, 3) := dk_182 0 74 (dk_at dksX4_isCarried_0 4 rfl rfl)
theorem dX4_isCarried_7 : decode cX4_isCarried 7 = .ok (.astore 4, 2) := dk_58 4 (dk_at dksX4_isCarried_0 7 rfl rfl)
theorem dX4_isCarried_9 : decode cX4_isCarried 9 = .ok (.aload_n 0, 1) := dk_42 (dk_at dksX4_isCarried_0 9 rfl rfl)
theorem dX4_isCarried_10 : decode cX4_isCarried 10 = .ok (.getfield 3, 3) := dk_180 0 3 (dk_at dksX4_isCarried_0 10 rfl rfl)
theorem dX4_isCarried_13 : decode cX4_isCarried 13 = .ok (.getfield 77, 3) := dk_180 0 77 (dk_at dksX4_isCarried_0 13 rfl rfl)
theorem dX4_isCarried_16 : decode cX4_isCarried 16 = .ok (.bipush 120, 2) := dk_16 120 (dk_at dksX4_isCarried_0 16 rfl rfl)
theorem dX4_isCarried_18 : decode cX4_isCarried 18 = .ok (.aload 4, 2) := dk_25 4 (dk_at dksX4_isCarried_0 18 rfl rfl)
theorem dX4_isCarried_20 : decode cX4_isCarried 20 = .ok (.invokevirtual 81, 3) := dk_182 0 81 (dk_at dksX4_isCarried_0 20 rfl rfl)
theorem dX4_isCarried_23 : decode cX4_isCarried 23 = .ok (.ifCond .ne 11, 3) := dk_154 0 11 (dk_at dksX4_isCarried_1 0 rfl rfl)
theorem dX4_isCarried_26 : decode cX4_isCarried 26 = .ok (.aload_n 0, 1) := dk_42 (dk_at dksX4_isCarried_1 3 rfl rfl)
theorem dX4_isCarried_27 : decode cX4_isCarried 27 = .ok (.getfield 19, 3) := dk_180 0 19 (dk_at dksX4_isCarried_1 4 rfl rfl)
theorem dX4_isCarried_30 : decode cX4_isCarried 30 = .ok (.iload_n 1, 1) := dk_27 (dk_at dksX4_isCarried_1 7 rfl rfl)
theorem dX4_isCarried_31 : decode cX4_isCarried 31 = .ok (.if_icmp .ne 4, 3) := dk_160 0 4 (dk_at dksX4_isCarried_1 8 rfl rfl)
theorem dX4_isCarried_34 : decode cX4_isCarried 34 = .ok (.return_, 1) := dk_177 (dk_at dksX4_isCarried_1 11 rfl rfl)
theorem dX4_isCarried_35 : decode cX4_isCarried 35 = .ok (.aload_n 0, 1) := dk_42 (dk_at dksX4_isCarried_1 12 rfl rfl)
theorem dX4_isCarried_36 : decode cX4_isCarried 36 = .ok (.getfield 3, 3) := dk_180 0 3 (dk_at dksX4_isCarried_1 13 rfl rfl)
theorem dX4_isCarried_39 : decode cX4_isCarried 39 = .ok (.getfield 77, 3) := dk_180 0 77 (dk_at dksX4_isCarried_1 16 rfl rfl)
theorem dX4_isCarried_42 : decode cX4_isCarried 42 = .ok (.bipush 99, 2) := dk_16 99 (dk_at dksX4_isCarried_1 19 rfl rfl)
theorem dX4_isCarried_44 : decode cX4_isCarried 44 = .ok (.iconst 0, 1) := dk_3 (dk_at dksX4_isCarried_1 21 rfl rfl)
theorem dX4_isCarried_45 : decode cX4_isCarried 45 = .ok (.aload 4, 2) := dk_25 4 (dk_at dksX4_isCarried_1 22 rfl rfl)
theorem dX4_isCarried_47 : decode cX4_isCarried 47 = .ok (.invokevirtual 87, 3) := dk_182 0 87 (dk_at dksX4_isCarried_2 0 rfl rfl)
theorem dX4_isCarried_50 : decode cX4_isCarried 50 = .ok (.bipush 9, 2) := dk_16 9 (dk_at dksX4_isCarried_2 3 rfl rfl)
theorem dX4_isCarried_52 : decode cX4_isCarried 52 = .ok (.invokestatic 91, 3) := dk_184 0 91 (dk_at dksX4_isCarried_2 5 rfl rfl)
theorem dX4_isCarried_55 : decode cX4_isCarried 55 = .ok (.istore 5, 2) := dk_54 5 (dk_at dksX4_isCarried_2 8 rfl rfl)
theorem dX4_isCarried_57 : decode cX4_isCarried 57 = .ok (.aload_n 0, 1) := dk_42 (dk_at dksX4_isCarried_2 10 rfl rfl)
theorem dX4_isCarried_58 : decode cX4_isCarried 58 = .ok (.dup, 1) := dk_89 (dk_at dksX4_isCarried_2 11 rfl rfl)
theorem dX4_isCarried_59 : decode cX4_isCarried 59 = .ok (.getfield 94, 3) := dk_180 0 94 (dk_at dksX4_isCarried_2 12 rfl rfl)
theorem dX4_isCarried_62 : decode cX4_isCarried 62 = .ok (.iload 5, 2) := dk_21 5 (dk_at dksX4_isCarried_2 15 rfl rfl)
theorem dX4_isCarried_64 : decode cX4_isCarried 64 = .ok (.sipush 9999, 3) := dk_17 39 15 (dk_at dksX4_isCarried_2 17 rfl rfl)
theorem dX4_isCarried_67 : decode cX4_isCarried 67 = .ok (.aload_n 0, 1) := dk_42 (dk_at dksX4_isCarried_2 20 rfl rfl)
theorem dX4_isCarried_68 : decode cX4_isCarried 68 = .ok (.getfield 26, 3) := dk_180 0 26 (dk_at dksX4_isCarried_2 21 rfl rfl)
theorem dX4_isCarried_71 : decode cX4_isCarried 71 = .ok (.isub, 1) := dk_100 (dk_at dksX4_isCarried_3 0 rfl rfl)
theorem dX4_isCarried_72 : decode cX4_isCarried 72 = .ok (.invokestatic 97, 3) := dk_184 0 97 (dk_at dksX4_isCarried_3 1 rfl rfl)
theorem dX4_isCarried_75 : decode cX4_isCarried 75 = .ok (.iadd, 1) := dk_96 (dk_at dksX4_isCarried_3 4 rfl rfl)
theorem dX4_isCarried_76 : decode cX4_isCarried 76 = .ok (.putfield 94, 3) := dk_181 0 94 (dk_at dksX4_isCarried_3 5 rfl rfl)
theorem dX4_isCarried_79 : decode cX4_isCarried 79 = .ok (.aload_n 0, 1) := dk_42 (dk_at dksX4_isCarried_3 8 rfl rfl)
theorem dX4_isCarried_80 : decode cX4_isCarried 80 = .ok (.sipush 9999, 3) := dk_17 39 15 (dk_at dksX4_isCarried_3 9 rfl rfl)
theorem dX4_isCarried_83 : decode cX4_isCarried 83 = .ok (.aload_n 0, 1) := dk_42 (dk_at dksX4_isCarried_3 12 rfl rfl)
theorem dX4_isCarried_84 : decode cX4_isCarried 84 = .ok (.getfield 26, 3) := dk_180 0 26 (dk_at dksX4_isCarried_3 13 rfl rfl)
theorem dX4_isCarried_87 : decode cX4_isCarried 87 = .ok (.iload 5, 2) := dk_21 5 (dk_at dksX4_isCarried_3 16 rfl rfl)
theorem dX4_isCarried_89 : decode cX4_isCarried 89 = .ok (.iadd, 1) := dk_96 (dk_at dksX4_isCarried_3 18 rfl rfl)
theorem dX4_isCarried_90 : decode cX4_isCarried 90 = .ok (.invokestatic 97, 3) := dk_184 0 97 (dk_at dksX4_isCarried_3 19 rfl rfl)
theorem dX4_isCarried_93 : decode cX4_isCarried 93 = .ok (.putfield 26, 3) := dk_181 0 26 (dk_at dksX4_isCarried_4 0 rfl rfl)
theorem dX4_isCarried_96 : decode cX4_isCarried 96 = .ok (.aload_n 0, 1) := dk_42 (dk_at dksX4_isCarried_4 3 rfl rfl)
theorem dX4_isCarried_97 : decode cX4_isCarried 97 = .ok (.iload_n 1, 1) := dk_27 (dk_at dksX4_isCarried_4 4 rfl rfl)
theorem dX4_isCarried_98 : decode cX4_isCarried 98 = .ok (.putfield 19, 3) := dk_181 0 19 (dk_at dksX4_isCarried_4 5 rfl rfl)
theorem dX4_isCarried_101 : decode cX4_isCarried 101 = .ok (.return_, 1) := dk_177 (dk_at dksX4_isCarried_4 8 rfl rfl)
abbrev cX4_asked : ByteArray := prog_15_method_6_code
def yX4_asked : MethodName := ⟨RX4, "asked", "(III)LSharedWindow$Moment;"⟩
def dkwX4_asked_2 : List UInt8 := [29, 182, 0, 70, 176]
abbrev dktX4_asked_2 : List UInt8 := dkwX4_asked_2 ++ []
def dkwX4_asked_1 : List UInt8 := [182, 0, 54, 184, 0, 58, 42, 180, 0, 23, 184, 0, 58, 182, 0, 64, 42, 180, 0, 26, 42, 180, 0, 29]
abbrev dktX4_asked_1 : List UInt8 := dkwX4_asked_1 ++ dktX4_asked_2
def dkwX4_asked_0 : List UInt8 := [42, 180, 0, 3, 180, 0, 50, 27, 42, 180, 0, 19, 28, 42, 180, 0, 3, 180, 0, 39, 27, 28]
abbrev dktX4_asked_0 : List UInt8 := dkwX4_asked_0 ++ dktX4_asked_1
theorem dksX4_asked_0 : cX4_asked.data.toList.drop 0 = dktX4_asked_0 := by decide +kernel
theorem dksX4_asked_1 : cX4_asked.data.toList.drop 22 = dktX4_asked_1 := dk_seg dksX4_asked_0 22 rfl rfl
theorem dksX4_asked_2 : cX4_asked.data.toList.drop 46 = dktX4_asked_2 := dk_seg dksX4_asked_1 24 rfl rfl
theorem dX4_asked_0 : decode cX4_asked 0 = .ok (.aload_n 0, 1) := dk_42 (dk_at dksX4_asked_0 0 rfl rfl)
theorem dX4_asked_1 : decode cX4_asked 1 = .ok (.getfield 3, 3) := dk_180 0 3 (dk_at dksX4_asked_0 1 rfl rfl)
theorem dX4_asked_4 : decode cX4_asked 4 = .ok (.getfield 50, 3) := dk_180 0 50 (dk_at dksX4_asked_0 4 rfl rfl)
theorem dX4_asked_7 : decode cX4_asked 7 = .ok (.iload_n 1, 1) := dk_27 (dk_at dksX4_asked_0 7 rfl rfl)
theorem dX4_asked_8 : decode cX4_asked 8 = .ok (.aload_n 0, 1) := dk_42 (dk_at dksX4_asked_0 8 rfl rfl)
theorem dX4_asked_9 : decode cX4_asked 9 = .ok (.getfield 19, 3) := dk_180 0 19 (dk_at dksX4_asked_0 9 rfl rfl)
theorem dX4_asked_12 : decode cX4_asked 12 = .ok (.iload_n 2, 1) := dk_28 (dk_at dksX4_asked_0 12 rfl rfl)
theorem dX4_asked_13 : decode cX4_asked 13 = .ok (.aload_n 0, 1) := dk_42 (dk_at dksX4_asked_0 13 rfl rfl)
theorem dX4_asked_14 : decode cX4_asked 14 = .ok (.getfield 3, 3) := dk_180 0 3 (dk_at dksX4_asked_0 14 rfl rfl)
theorem dX4_asked_17 : decode cX4_asked 17 = .ok (.getfield 39, 3) := dk_180 0 39 (dk_at dksX4_asked_0 17 rfl rfl)
theorem dX4_asked_20 : decode cX4_asked 20 = .ok (.iload_n 1, 1) := dk_27 (dk_at dksX4_asked_0 20 rfl rfl)
theorem dX4_asked_21 : decode cX4_asked 21 = .ok (.iload_n 2, 1) := dk_28 (dk_at dksX4_asked_0 21 rfl rfl)
theorem dX4_asked_22 : decode cX4_asked 22 = .ok (.invokevirtual 54, 3) := dk_182 0 54 (dk_at dksX4_asked_1 0 rfl rfl)
theorem dX4_asked_25 : decode cX4_asked 25 = .ok (.invokestatic 58, 3) := dk_184 0 58 (dk_at dksX4_asked_1 3 rfl rfl)
theorem dX4_asked_28 : decode cX4_asked 28 = .ok (.aload_n 0, 1) := dk_42 (dk_at dksX4_asked_1 6 rfl rfl)
theorem dX4_asked_29 : decode cX4_asked 29 = .ok (.getfield 23, 3) := dk_180 0 23 (dk_at dksX4_asked_1 7 rfl rfl)
theorem dX4_asked_32 : decode cX4_asked 32 = .ok (.invokestatic 58, 3) := dk_184 0 58 (dk_at dksX4_asked_1 10 rfl rfl)
theorem dX4_asked_35 : decode cX4_asked 35 = .ok (.invokevirtual 64, 3) := dk_182 0 64 (dk_at dksX4_asked_1 13 rfl rfl)
theorem dX4_asked_38 : decode cX4_asked 38 = .ok (.aload_n 0, 1) := dk_42 (dk_at dksX4_asked_1 16 rfl rfl)
theorem dX4_asked_39 : decode cX4_asked 39 = .ok (.getfield 26, 3) := dk_180 0 26 (dk_at dksX4_asked_1 17 rfl rfl)
theorem dX4_asked_42 : decode cX4_asked 42 = .ok (.aload_n 0, 1) := dk_42 (dk_at dksX4_asked_1 20 rfl rfl)
theorem dX4_asked_43 : decode cX4_asked 43 = .ok (.getfield 29, 3) := dk_180 0 29 (dk_at dksX4_asked_1 21 rfl rfl)
theorem dX4_asked_46 : decode cX4_asked 46 = .ok (.iload_n 3, 1) := dk_29 (dk_at dksX4_asked_2 0 rfl rfl)
theorem dX4_asked_47 : decode cX4_asked 47 = .ok (.invokevirtual 70, 3) := dk_182 0 70 (dk_at dksX4_asked_2 1 rfl rfl)
theorem dX4_asked_50 : decode cX4_asked 50 = .ok (.areturn, 1) := dk_176 (dk_at dksX4_asked_2 4 rfl rfl)
abbrev cX4_takes : ByteArray := prog_15_method_2_code
def yX4_takes : MethodName := ⟨RX4, "takes", "(LSharedWindow$Street;)LSharedWindow$Street;"⟩
def dkwX4_takes_2 : List UInt8 := [181, 0, 26, 42, 43, 180, 0, 29, 181, 0, 29, 42, 43, 180, 0, 32, 181, 0, 32, 42, 176]
abbrev dktX4_takes_2 : List UInt8 := dkwX4_takes_2 ++ []
def dkwX4_takes_1 : List UInt8 := [167, 255, 235, 42, 43, 180, 0, 19, 181, 0, 19, 42, 43, 180, 0, 23, 181, 0, 23, 42, 43, 180, 0, 26]
abbrev dktX4_takes_1 : List UInt8 := dkwX4_takes_1 ++ dktX4_takes_2
def dkwX4_takes_0 : List UInt8 := [3, 61, 28, 16, 16, 162, 0, 21, 42, 180, 0, 15, 28, 43, 180, 0, 15, 28, 46, 79, 132, 2, 1]
abbrev dktX4_takes_0 : List UInt8 := dkwX4_takes_0 ++ dktX4_takes_1
theorem dksX4_takes_0 : cX4_takes.data.toList.drop 0 = dktX4_takes_0 := by decide +kernel
theorem dksX4_takes_1 : cX4_takes.data.toList.drop 23 = dktX4_takes_1 := dk_seg dksX4_takes_0 23 rfl rfl
theorem dksX4_takes_2 : cX4_takes.data.toList.drop 47 = dktX4_takes_2 := dk_seg dksX4_takes_1 24 rfl rfl
theorem dX4_takes_0 : decode cX4_takes 0 = .ok (.iconst 0, 1) := dk_3 (dk_at dksX4_takes_0 0 rfl rfl)
theorem dX4_takes_1 : decode cX4_takes 1 = .ok (.istore_n 2, 1) := dk_61 (dk_at dksX4_takes_0 1 rfl rfl)
theorem dX4_takes_2 : decode cX4_takes 2 = .ok (.iload_n 2, 1) := dk_28 (dk_at dksX4_takes_0 2 rfl rfl)
theorem dX4_takes_3 : decode cX4_takes 3 = .ok (.bipush 16, 2) := dk_16 16 (dk_at dksX4_takes_0 3 rfl rfl)
theorem dX4_takes_5 : decode cX4_takes 5 = .ok (.if_icmp .ge 21, 3) := dk_162 0 21 (dk_at dksX4_takes_0 5 rfl rfl)
theorem dX4_takes_8 : decode cX4_takes 8 = .ok (.aload_n 0, 1) := dk_42 (dk_at dksX4_takes_0 8 rfl rfl)
theorem dX4_takes_9 : decode cX4_takes 9 = .ok (.getfield 15, 3) := dk_180 0 15 (dk_at dksX4_takes_0 9 rfl rfl)
theorem dX4_takes_12 : decode cX4_takes 12 = .ok (.iload_n 2, 1) := dk_28 (dk_at dksX4_takes_0 12 rfl rfl)
theorem dX4_takes_13 : decode cX4_takes 13 = .ok (.aload_n 1, 1) := dk_43 (dk_at dksX4_takes_0 13 rfl rfl)
theorem dX4_takes_14 : decode cX4_takes 14 = .ok (.getfield 15, 3) := dk_180 0 15 (dk_at dksX4_takes_0 14 rfl rfl)
theorem dX4_takes_17 : decode cX4_takes 17 = .ok (.iload_n 2, 1) := dk_28 (dk_at dksX4_takes_0 17 rfl rfl)
theorem dX4_takes_18 : decode cX4_takes 18 = .ok (.iaload, 1) := dk_46 (dk_at dksX4_takes_0 18 rfl rfl)
theorem dX4_takes_19 : decode cX4_takes 19 = .ok (.iastore, 1) := dk_79 (dk_at dksX4_takes_0 19 rfl rfl)
theorem dX4_takes_20 : decode cX4_takes 20 = .ok (.iinc 2 1, 3) := dk_132 2 1 (dk_at dksX4_takes_0 20 rfl rfl)
theorem dX4_takes_23 : decode cX4_takes 23 = .ok (.goto (-21), 3) := dk_167 255 235 (dk_at dksX4_takes_1 0 rfl rfl)
theorem dX4_takes_26 : decode cX4_takes 26 = .ok (.aload_n 0, 1) := dk_42 (dk_at dksX4_takes_1 3 rfl rfl)
theorem dX4_takes_27 : decode cX4_takes 27 = .ok (.aload_n 1, 1) := dk_43 (dk_at dksX4_takes_1 4 rfl rfl)
theorem dX4_takes_28 : decode cX4_takes 28 = .ok (.getfield 19, 3) := dk_180 0 19 (dk_at dksX4_takes_1 5 rfl rfl)
theorem dX4_takes_31 : decode cX4_takes 31 = .ok (.putfield 19, 3) := dk_181 0 19 (dk_at dksX4_takes_1 8 rfl rfl)
theorem dX4_takes_34 : decode cX4_takes 34 = .ok (.aload_n 0, 1) := dk_42 (dk_at dksX4_takes_1 11 rfl rfl)
theorem dX4_takes_35 : decode cX4_takes 35 = .ok (.aload_n 1, 1) := dk_43 (dk_at dksX4_takes_1 12 rfl rfl)
theorem dX4_takes_36 : decode cX4_takes 36 = .ok (.getfield 23, 3) := dk_180 0 23 (dk_at dksX4_takes_1 13 rfl rfl)
theorem dX4_takes_39 : decode cX4_takes 39 = .ok (.putfield 23, 3) := dk_181 0 23 (dk_at dksX4_takes_1 16 rfl rfl)
theorem dX4_takes_42 : decode cX4_takes 42 = .ok (.aload_n 0, 1) := dk_42 (dk_at dksX4_takes_1 19 rfl rfl)
theorem dX4_takes_43 : decode cX4_takes 43 = .ok (.aload_n 1, 1) := dk_43 (dk_at dksX4_takes_1 20 rfl rfl)
theorem dX4_takes_44 : decode cX4_takes 44 = .ok (.getfield 26, 3) := dk_180 0 26 (dk_at dksX4_takes_1 21 rfl rfl)
theorem dX4_takes_47 : decode cX4_takes 47 = .ok (.putfield 26, 3) := dk_181 0 26 (dk_at dksX4_takes_2 0 rfl rfl)
theorem dX4_takes_50 : decode cX4_takes 50 = .ok (.aload_n 0, 1) := dk_42 (dk_at dksX4_takes_2 3 rfl rfl)
theorem dX4_takes_51 : decode cX4_takes 51 = .ok (.aload_n 1, 1) := dk_43 (dk_at dksX4_takes_2 4 rfl rfl)
theorem dX4_takes_52 : decode cX4_takes 52 = .ok (.getfield 29, 3) := dk_180 0 29 (dk_at dksX4_takes_2 5 rfl rfl)
theorem dX4_takes_55 : decode cX4_takes 55 = .ok (.putfield 29, 3) := dk_181 0 29 (dk_at dksX4_takes_2 8 rfl rfl)
theorem dX4_takes_58 : decode cX4_takes 58 = .ok (.aload_n 0, 1) := dk_42 (dk_at dksX4_takes_2 11 rfl rfl)
theorem dX4_takes_59 : decode cX4_takes 59 = .ok (.aload_n 1, 1) := dk_43 (dk_at dksX4_takes_2 12 rfl rfl)
theorem dX4_takes_60 : decode cX4_takes 60 = .ok (.getfield 32, 3) := dk_180 0 32 (dk_at dksX4_takes_2 13 rfl rfl)
theorem dX4_takes_63 : decode cX4_takes 63 = .ok (.putfield 32, 3) := dk_181 0 32 (dk_at dksX4_takes_2 16 rfl rfl)
theorem dX4_takes_66 : decode cX4_takes 66 = .ok (.aload_n 0, 1) := dk_42 (dk_at dksX4_takes_2 19 rfl rfl)
theorem dX4_takes_67 : decode cX4_takes 67 = .ok (.areturn, 1) := dk_176 (dk_at dksX4_takes_2 20 rfl rfl)
abbrev cX4_joyOfAll : ByteArray := prog_15_method_11_code
def yX4_joyOfAll : MethodName := ⟨RX4, "joyOfAll", "()I"⟩
def dkwX4_joyOfAll_1 : List UInt8 := [54, 5, 27, 21, 5, 96, 60, 132, 4, 1, 167, 255, 236, 27, 172]
abbrev dktX4_joyOfAll_1 : List UInt8 := dkwX4_joyOfAll_1 ++ []
def dkwX4_joyOfAll_0 : List UInt8 := [3, 60, 42, 180, 0, 15, 77, 44, 190, 62, 3, 54, 4, 21, 4, 29, 162, 0, 20, 44, 21, 4, 46]
abbrev dktX4_joyOfAll_0 : List UInt8 := dkwX4_joyOfAll_0 ++ dktX4_joyOfAll_1
theorem dksX4_joyOfAll_0 : cX4_joyOfAll.data.toList.drop 0 = dktX4_joyOfAll_0 := by decide +kernel
theorem dksX4_joyOfAll_1 : cX4_joyOfAll.data.toList.drop 23 = dktX4_joyOfAll_1 := dk_seg dksX4_joyOfAll_0 23 rfl rfl
theorem dX4_joyOfAll_0 : decode cX4_joyOfAll 0 = .ok (.iconst 0, 1) := dk_3 (dk_at dksX4_joyOfAll_0 0 rfl rfl)
theorem dX4_joyOfAll_1 : decode cX4_joyOfAll 1 = .ok (.istore_n 1, 1) := dk_60 (dk_at dksX4_joyOfAll_0 1 rfl rfl)
theorem dX4_joyOfAll_2 : decode cX4_joyOfAll 2 = .ok (.aload_n 0, 1) := dk_42 (dk_at dksX4_joyOfAll_0 2 rfl rfl)
theorem dX4_joyOfAll_3 : decode cX4_joyOfAll 3 = .ok (.getfield 15, 3) := dk_180 0 15 (dk_at dksX4_joyOfAll_0 3 rfl rfl)
theorem dX4_joyOfAll_6 : decode cX4_joyOfAll 6 = .ok (.astore_n 2, 1) := dk_77 (dk_at dksX4_joyOfAll_0 6 rfl rfl)
theorem dX4_joyOfAll_7 : decode cX4_joyOfAll 7 = .ok (.aload_n 2, 1) := dk_44 (dk_at dksX4_joyOfAll_0 7 rfl rfl)
theorem dX4_joyOfAll_8 : decode cX4_joyOfAll 8 = .ok (.arraylength, 1) := dk_190 (dk_at dksX4_joyOfAll_0 8 rfl rfl)
theorem dX4_joyOfAll_9 : decode cX4_joyOfAll 9 = .ok (.istore_n 3, 1) := dk_62 (dk_at dksX4_joyOfAll_0 9 rfl rfl)
theorem dX4_joyOfAll_10 : decode cX4_joyOfAll 10 = .ok (.iconst 0, 1) := dk_3 (dk_at dksX4_joyOfAll_0 10 rfl rfl)
theorem dX4_joyOfAll_11 : decode cX4_joyOfAll 11 = .ok (.istore 4, 2) := dk_54 4 (dk_at dksX4_joyOfAll_0 11 rfl rfl)
theorem dX4_joyOfAll_13 : decode cX4_joyOfAll 13 = .ok (.iload 4, 2) := dk_21 4 (dk_at dksX4_joyOfAll_0 13 rfl rfl)
theorem dX4_joyOfAll_15 : decode cX4_joyOfAll 15 = .ok (.iload_n 3, 1) := dk_29 (dk_at dksX4_joyOfAll_0 15 rfl rfl)
theorem dX4_joyOfAll_16 : decode cX4_joyOfAll 16 = .ok (.if_icmp .ge 20, 3) := dk_162 0 20 (dk_at dksX4_joyOfAll_0 16 rfl rfl)
theorem dX4_joyOfAll_19 : decode cX4_joyOfAll 19 = .ok (.aload_n 2, 1) := dk_44 (dk_at dksX4_joyOfAll_0 19 rfl rfl)
theorem dX4_joyOfAll_20 : decode cX4_joyOfAll 20 = .ok (.iload 4, 2) := dk_21 4 (dk_at dksX4_joyOfAll_0 20 rfl rfl)
theorem dX4_joyOfAll_22 : decode cX4_joyOfAll 22 = .ok (.iaload, 1) := dk_46 (dk_at dksX4_joyOfAll_0 22 rfl rfl)
theorem dX4_joyOfAll_23 : decode cX4_joyOfAll 23 = .ok (.istore 5, 2) := dk_54 5 (dk_at dksX4_joyOfAll_1 0 rfl rfl)
theorem dX4_joyOfAll_25 : decode cX4_joyOfAll 25 = .ok (.iload_n 1, 1) := dk_27 (dk_at dksX4_joyOfAll_1 2 rfl rfl)
theorem dX4_joyOfAll_26 : decode cX4_joyOfAll 26 = .ok (.iload 5, 2) := dk_21 5 (dk_at dksX4_joyOfAll_1 3 rfl rfl)
theorem dX4_joyOfAll_28 : decode cX4_joyOfAll 28 = .ok (.iadd, 1) := dk_96 (dk_at dksX4_joyOfAll_1 5 rfl rfl)
theorem dX4_joyOfAll_29 : decode cX4_joyOfAll 29 = .ok (.istore_n 1, 1) := dk_60 (dk_at dksX4_joyOfAll_1 6 rfl rfl)
theorem dX4_joyOfAll_30 : decode cX4_joyOfAll 30 = .ok (.iinc 4 1, 3) := dk_132 4 1 (dk_at dksX4_joyOfAll_1 7 rfl rfl)
theorem dX4_joyOfAll_33 : decode cX4_joyOfAll 33 = .ok (.goto (-20), 3) := dk_167 255 236 (dk_at dksX4_joyOfAll_1 10 rfl rfl)
theorem dX4_joyOfAll_36 : decode cX4_joyOfAll 36 = .ok (.iload_n 1, 1) := dk_27 (dk_at dksX4_joyOfAll_1 13 rfl rfl)
theorem dX4_joyOfAll_37 : decode cX4_joyOfAll 37 = .ok (.ireturn, 1) := dk_172 (dk_at dksX4_joyOfAll_1 14 rfl rfl)
abbrev cX4_isAgain : ByteArray := prog_15_method_4_code
def yX4_isAgain : MethodName := ⟨RX4, "isAgain", "(LSharedWindow$Street;)V"⟩
def dkwX4_isAgain_3 : List UInt8 := [180, 0, 19, 167, 0, 4, 2, 181, 0, 19, 177]
abbrev dktX4_isAgain_3 : List UInt8 := dkwX4_isAgain_3 ++ []
def dkwX4_isAgain_2 : List UInt8 := [167, 255, 217, 42, 42, 180, 0, 3, 180, 0, 39, 42, 180, 0, 19, 182, 0, 43, 153, 0, 10, 42]
abbrev dktX4_isAgain_2 : List UInt8 := dkwX4_isAgain_2 ++ dktX4_isAgain_3
def dkwX4_isAgain_1 : List UInt8 := [180, 0, 39, 28, 182, 0, 43, 153, 0, 12, 42, 180, 0, 15, 28, 46, 167, 0, 4, 3, 79, 132, 2, 1]
abbrev dktX4_isAgain_1 : List UInt8 := dkwX4_isAgain_1 ++ dktX4_isAgain_2
def dkwX4_isAgain_0 : List UInt8 := [42, 43, 182, 0, 35, 87, 3, 61, 28, 16, 16, 162, 0, 39, 42, 180, 0, 15, 28, 42, 180, 0, 3]
abbrev dktX4_isAgain_0 : List UInt8 := dkwX4_isAgain_0 ++ dktX4_isAgain_1
theorem dksX4_isAgain_0 : cX4_isAgain.data.toList.drop 0 = dktX4_isAgain_0 := by decide +kernel
theorem dksX4_isAgain_1 : cX4_isAgain.data.toList.drop 23 = dktX4_isAgain_1 := dk_seg dksX4_isAgain_0 23 rfl rfl
theorem dksX4_isAgain_2 : cX4_isAgain.data.toList.drop 47 = dktX4_isAgain_2 := dk_seg dksX4_isAgain_1 24 rfl rfl
theorem dksX4_isAgain_3 : cX4_isAgain.data.toList.drop 69 = dktX4_isAgain_3 := dk_seg dksX4_isAgain_2 22 rfl rfl
theorem dX4_isAgain_0 : decode cX4_isAgain 0 = .ok (.aload_n 0, 1) := dk_42 (dk_at dksX4_isAgain_0 0 rfl rfl)
theorem dX4_isAgain_1 : decode cX4_isAgain 1 = .ok (.aload_n 1, 1) := dk_43 (dk_at dksX4_isAgain_0 1 rfl rfl)
theorem dX4_isAgain_2 : decode cX4_isAgain 2 = .ok (.invokevirtual 35, 3) := dk_182 0 35 (dk_at dksX4_isAgain_0 2 rfl rfl)
theorem dX4_isAgain_5 : decode cX4_isAgain 5 = .ok (.pop, 1) := dk_87 (dk_at dksX4_isAgain_0 5 rfl rfl)
theorem dX4_isAgain_6 : decode cX4_isAgain 6 = .ok (.iconst 0, 1) := dk_3 (dk_at dksX4_isAgain_0 6 rfl rfl)
theorem dX4_isAgain_7 : decode cX4_isAgain 7 = .ok (.istore_n 2, 1) := dk_61 (dk_at dksX4_isAgain_0 7 rfl rfl)
theorem dX4_isAgain_8 : decode cX4_isAgain 8 = .ok (.iload_n 2, 1) := dk_28 (dk_at dksX4_isAgain_0 8 rfl rfl)
theorem dX4_isAgain_9 : decode cX4_isAgain 9 = .ok (.bipush 16, 2) := dk_16 16 (dk_at dksX4_isAgain_0 9 rfl rfl)
theorem dX4_isAgain_11 : decode cX4_isAgain 11 = .ok (.if_icmp .ge 39, 3) := dk_162 0 39 (dk_at dksX4_isAgain_0 11 rfl rfl)
theorem dX4_isAgain_14 : decode cX4_isAgain 14 = .ok (.aload_n 0, 1) := dk_42 (dk_at dksX4_isAgain_0 14 rfl rfl)
theorem dX4_isAgain_15 : decode cX4_isAgain 15 = .ok (.getfield 15, 3) := dk_180 0 15 (dk_at dksX4_isAgain_0 15 rfl rfl)
theorem dX4_isAgain_18 : decode cX4_isAgain 18 = .ok (.iload_n 2, 1) := dk_28 (dk_at dksX4_isAgain_0 18 rfl rfl)
theorem dX4_isAgain_19 : decode cX4_isAgain 19 = .ok (.aload_n 0, 1) := dk_42 (dk_at dksX4_isAgain_0 19 rfl rfl)
theorem dX4_isAgain_20 : decode cX4_isAgain 20 = .ok (.getfield 3, 3) := dk_180 0 3 (dk_at dksX4_isAgain_0 20 rfl rfl)
theorem dX4_isAgain_23 : decode cX4_isAgain 23 = .ok (.getfield 39, 3) := dk_180 0 39 (dk_at dksX4_isAgain_1 0 rfl rfl)
theorem dX4_isAgain_26 : decode cX4_isAgain 26 = .ok (.iload_n 2, 1) := dk_28 (dk_at dksX4_isAgain_1 3 rfl rfl)
theorem dX4_isAgain_27 : decode cX4_isAgain 27 = .ok (.invokevirtual 43, 3) := dk_182 0 43 (dk_at dksX4_isAgain_1 4 rfl rfl)
theorem dX4_isAgain_30 : decode cX4_isAgain 30 = .ok (.ifCond .eq 12, 3) := dk_153 0 12 (dk_at dksX4_isAgain_1 7 rfl rfl)
theorem dX4_isAgain_33 : decode cX4_isAgain 33 = .ok (.aload_n 0, 1) := dk_42 (dk_at dksX4_isAgain_1 10 rfl rfl)
theorem dX4_isAgain_34 : decode cX4_isAgain 34 = .ok (.getfield 15, 3) := dk_180 0 15 (dk_at dksX4_isAgain_1 11 rfl rfl)
theorem dX4_isAgain_37 : decode cX4_isAgain 37 = .ok (.iload_n 2, 1) := dk_28 (dk_at dksX4_isAgain_1 14 rfl rfl)
theorem dX4_isAgain_38 : decode cX4_isAgain 38 = .ok (.iaload, 1) := dk_46 (dk_at dksX4_isAgain_1 15 rfl rfl)
theorem dX4_isAgain_39 : decode cX4_isAgain 39 = .ok (.goto 4, 3) := dk_167 0 4 (dk_at dksX4_isAgain_1 16 rfl rfl)
theorem dX4_isAgain_42 : decode cX4_isAgain 42 = .ok (.iconst 0, 1) := dk_3 (dk_at dksX4_isAgain_1 19 rfl rfl)
theorem dX4_isAgain_43 : decode cX4_isAgain 43 = .ok (.iastore, 1) := dk_79 (dk_at dksX4_isAgain_1 20 rfl rfl)
theorem dX4_isAgain_44 : decode cX4_isAgain 44 = .ok (.iinc 2 1, 3) := dk_132 2 1 (dk_at dksX4_isAgain_1 21 rfl rfl)
theorem dX4_isAgain_47 : decode cX4_isAgain 47 = .ok (.goto (-39), 3) := dk_167 255 217 (dk_at dksX4_isAgain_2 0 rfl rfl)
theorem dX4_isAgain_50 : decode cX4_isAgain 50 = .ok (.aload_n 0, 1) := dk_42 (dk_at dksX4_isAgain_2 3 rfl rfl)
theorem dX4_isAgain_51 : decode cX4_isAgain 51 = .ok (.aload_n 0, 1) := dk_42 (dk_at dksX4_isAgain_2 4 rfl rfl)
theorem dX4_isAgain_52 : decode cX4_isAgain 52 = .ok (.getfield 3, 3) := dk_180 0 3 (dk_at dksX4_isAgain_2 5 rfl rfl)
theorem dX4_isAgain_55 : decode cX4_isAgain 55 = .ok (.getfield 39, 3) := dk_180 0 39 (dk_at dksX4_isAgain_2 8 rfl rfl)
theorem dX4_isAgain_58 : decode cX4_isAgain 58 = .ok (.aload_n 0, 1) := dk_42 (dk_at dksX4_isAgain_2 11 rfl rfl)
theorem dX4_isAgain_59 : decode cX4_isAgain 59 = .ok (.getfield 19, 3) := dk_180 0 19 (dk_at dksX4_isAgain_2 12 rfl rfl)
theorem dX4_isAgain_62 : decode cX4_isAgain 62 = .ok (.invokevirtual 43, 3) := dk_182 0 43 (dk_at dksX4_isAgain_2 15 rfl rfl)
theorem dX4_isAgain_65 : decode cX4_isAgain 65 = .ok (.ifCond .eq 10, 3) := dk_153 0 10 (dk_at dksX4_isAgain_2 18 rfl rfl)
theorem dX4_isAgain_68 : decode cX4_isAgain 68 = .ok (.aload_n 0, 1) := dk_42 (dk_at dksX4_isAgain_2 21 rfl rfl)
theorem dX4_isAgain_69 : decode cX4_isAgain 69 = .ok (.getfield 19, 3) := dk_180 0 19 (dk_at dksX4_isAgain_3 0 rfl rfl)
theorem dX4_isAgain_72 : decode cX4_isAgain 72 = .ok (.goto 4, 3) := dk_167 0 4 (dk_at dksX4_isAgain_3 3 rfl rfl)
theorem dX4_isAgain_75 : decode cX4_isAgain 75 = .ok (.iconst (-1), 1) := dk_2 (dk_at dksX4_isAgain_3 6 rfl rfl)
theorem dX4_isAgain_76 : decode cX4_isAgain 76 = .ok (.putfield 19, 3) := dk_181 0 19 (dk_at dksX4_isAgain_3 7 rfl rfl)
theorem dX4_isAgain_79 : decode cX4_isAgain 79 = .ok (.return_, 1) := dk_177 (dk_at dksX4_isAgain_3 10 rfl rfl)
theorem q114 : (Jvm.Cond.initialized "SharedWindow$Street") ∈ lw_all := lw_g (lw_at lw_m1 5 rfl) rfl
theorem q222 : (Jvm.Cond.instantiable "SharedWindow$Street" (8 : Nat)) ∈ lw_all := lw_g (lw_at lw_m1 113 rfl) rfl
theorem q224 : (Jvm.Cond.instanceMethod ({ cls := "SharedWindow$Street", name := "<init>", desc := "(LSharedWindow;)V" } : Jvm.MethodName)) ∈ lw_all := lw_g (lw_at lw_m1 115 rfl) rfl
theorem q225 : (Jvm.Cond.code ({ cls := "SharedWindow$Street", name := "<init>", desc := "(LSharedWindow;)V" } : Jvm.MethodName) prog_15_method_1_code (2 : Nat) (Option.none : Option Jvm.ClassFile.FieldType)) ∈ lw_all := lw_g (lw_at lw_m1 116 rfl) rfl
theorem q226 : (Jvm.Cond.methodLink "SharedWindow$Street" (9 : Nat) ({ cls := "java/lang/Object", name := "<init>", desc := "()V" } : Jvm.MethodName)) ∈ lw_all := lw_g (lw_at lw_m1 117 rfl) rfl
theorem q227 : (Jvm.Cond.fieldLink "SharedWindow$Street" (15 : Nat) "SharedWindow$Street" "joy" "[I") ∈ lw_all := lw_g (lw_at lw_m1 118 rfl) rfl
theorem q229 : (Jvm.Cond.fieldLink "SharedWindow$Street" (19 : Nat) "SharedWindow$Street" "window" "I") ∈ lw_all := lw_g (lw_at lw_m1 120 rfl) rfl
theorem q231 : (Jvm.Cond.fieldLink "SharedWindow$Street" (23 : Nat) "SharedWindow$Street" "brings" "I") ∈ lw_all := lw_g (lw_at lw_m1 122 rfl) rfl
theorem q233 : (Jvm.Cond.fieldLink "SharedWindow$Street" (26 : Nat) "SharedWindow$Street" "cracks" "I") ∈ lw_all := lw_g (lw_at lw_m1 124 rfl) rfl
theorem q235 : (Jvm.Cond.fieldLink "SharedWindow$Street" (29 : Nat) "SharedWindow$Street" "day" "I") ∈ lw_all := lw_g (lw_at lw_m1 126 rfl) rfl
theorem q237 : (Jvm.Cond.fieldLink "SharedWindow$Street" (32 : Nat) "SharedWindow$Street" "x" "I") ∈ lw_all := lw_g (lw_at lw_m1 128 rfl) rfl
theorem q239 : (Jvm.Cond.fieldLink "SharedWindow$Street" (94 : Nat) "SharedWindow$Street" "cracksNow" "I") ∈ lw_all := lw_g (lw_at lw_m1 130 rfl) rfl
theorem q241 : (Jvm.Cond.fieldLink "SharedWindow$Street" (3 : Nat) "SharedWindow$Street" "this$0" "LSharedWindow;") ∈ lw_all := lw_g (lw_at lw_m1 132 rfl) rfl
theorem q242 : (Jvm.Cond.laysFinal "SharedWindow$Street" "SharedWindow$Street" "joy" "[I") ∈ lw_all := lw_g (lw_at lw_m1 133 rfl) rfl
theorem q243 : (Jvm.Cond.soleField "SharedWindow$Street" "joy") ∈ lw_all := lw_g (lw_at lw_m1 134 rfl) rfl
theorem q244 : (Jvm.Cond.lays "SharedWindow$Street" "SharedWindow$Street" "window" "I") ∈ lw_all := lw_g (lw_at lw_m1 135 rfl) rfl
theorem q245 : (Jvm.Cond.soleField "SharedWindow$Street" "window") ∈ lw_all := lw_g (lw_at lw_m1 136 rfl) rfl
theorem q246 : (Jvm.Cond.lays "SharedWindow$Street" "SharedWindow$Street" "brings" "I") ∈ lw_all := lw_g (lw_at lw_m1 137 rfl) rfl
theorem q247 : (Jvm.Cond.soleField "SharedWindow$Street" "brings") ∈ lw_all := lw_g (lw_at lw_m1 138 rfl) rfl
theorem q248 : (Jvm.Cond.lays "SharedWindow$Street" "SharedWindow$Street" "cracks" "I") ∈ lw_all := lw_g (lw_at lw_m1 139 rfl) rfl
theorem q249 : (Jvm.Cond.soleField "SharedWindow$Street" "cracks") ∈ lw_all := lw_g (lw_at lw_m1 140 rfl) rfl
theorem q250 : (Jvm.Cond.lays "SharedWindow$Street" "SharedWindow$Street" "day" "I") ∈ lw_all := lw_g (lw_at lw_m1 141 rfl) rfl
theorem q251 : (Jvm.Cond.soleField "SharedWindow$Street" "day") ∈ lw_all := lw_g (lw_at lw_m1 142 rfl) rfl
theorem q252 : (Jvm.Cond.lays "SharedWindow$Street" "SharedWindow$Street" "x" "I") ∈ lw_all := lw_g (lw_at lw_m1 143 rfl) rfl
theorem q253 : (Jvm.Cond.soleField "SharedWindow$Street" "x") ∈ lw_all := lw_g (lw_at lw_m1 144 rfl) rfl
theorem q254 : (Jvm.Cond.lays "SharedWindow$Street" "SharedWindow$Street" "cracksNow" "I") ∈ lw_all := lw_g (lw_at lw_m1 145 rfl) rfl
theorem q255 : (Jvm.Cond.soleField "SharedWindow$Street" "cracksNow") ∈ lw_all := lw_g (lw_at lw_m1 146 rfl) rfl
theorem q256 : (Jvm.Cond.laysFinal "SharedWindow$Street" "SharedWindow$Street" "this$0" "LSharedWindow;") ∈ lw_all := lw_g (lw_at lw_m1 147 rfl) rfl
theorem q257 : (Jvm.Cond.soleField "SharedWindow$Street" "this$0") ∈ lw_all := lw_g (lw_at lw_m1 148 rfl) rfl
theorem q258 : (Jvm.Cond.superclass "SharedWindow$Street" "java/lang/Object") ∈ lw_all := lw_g (lw_at lw_m1 149 rfl) rfl
theorem q290 : (Jvm.Cond.fieldLinkNest "SharedWindow$Street" (39 : Nat) "SharedWindow" "plan" "LSharedWindow$Plan;" "SharedWindow") ∈ lw_tbl := lw_at lw_m1 181 rfl
theorem q294 : (Jvm.Cond.fieldLinkNest "SharedWindow$Street" (106 : Nat) "SharedWindow" "whose" "[I" "SharedWindow") ∈ lw_tbl := lw_at lw_m1 185 rfl
theorem q295 : (Jvm.Cond.fieldLinkNest "SharedWindow$Street" (50 : Nat) "SharedWindow" "moment" "LSharedWindow$Moment;" "SharedWindow") ∈ lw_tbl := lw_at lw_m1 186 rfl
theorem q304 : (Jvm.Cond.fieldLinkNest "SharedWindow$Street" (77 : Nat) "SharedWindow" "law" "LSharedWindow$Text;" "SharedWindow") ∈ lw_tbl := lw_at lw_m1 195 rfl
theorem q784 : (Jvm.Cond.instanceMethod ({ cls := "SharedWindow$Street", name := "begins", desc := "()V" } : Jvm.MethodName)) ∈ lw_all := lw_g (lw_at lw_m3 195 rfl) rfl
theorem q785 : (Jvm.Cond.selects "SharedWindow$Street" ({ cls := "SharedWindow$Street", name := "begins", desc := "()V" } : Jvm.MethodName) ({ cls := "SharedWindow$Street", name := "begins", desc := "()V" } : Jvm.MethodName)) ∈ lw_all := lw_g (lw_at lw_m3 196 rfl) rfl
theorem q786 : (Jvm.Cond.code ({ cls := "SharedWindow$Street", name := "begins", desc := "()V" } : Jvm.MethodName) prog_15_method_3_code (2 : Nat) (Option.none : Option Jvm.ClassFile.FieldType)) ∈ lw_all := lw_g (lw_at lw_m3 197 rfl) rfl
theorem q869 : (Jvm.Cond.instanceMethod ({ cls := "SharedWindow$Street", name := "goes", desc := "(I)LSharedWindow$Street;" } : Jvm.MethodName)) ∈ lw_all := lw_g (lw_at lw_m4 40 rfl) rfl
theorem q870 : (Jvm.Cond.selects "SharedWindow$Street" ({ cls := "SharedWindow$Street", name := "goes", desc := "(I)LSharedWindow$Street;" } : Jvm.MethodName) ({ cls := "SharedWindow$Street", name := "goes", desc := "(I)LSharedWindow$Street;" } : Jvm.MethodName)) ∈ lw_all := lw_g (lw_at lw_m4 41 rfl) rfl
theorem q871 : (Jvm.Cond.code ({ cls := "SharedWindow$Street", name := "goes", desc := "(I)LSharedWindow$Street;" } : Jvm.MethodName) prog_15_method_10_code (3 : Nat) (Option.some (Jvm.ClassFile.FieldType.object "SharedWindow$Street"))) ∈ lw_all := lw_g (lw_at lw_m4 42 rfl) rfl
theorem q872 : (Jvm.Cond.methodLink "SharedWindow$Street" (118 : Nat) ({ cls := "SharedWindow$Street", name := "dayGoes", desc := "()V" } : Jvm.MethodName)) ∈ lw_all := lw_g (lw_at lw_m4 43 rfl) rfl
theorem q873 : (Jvm.Cond.instanceMethod ({ cls := "SharedWindow$Street", name := "dayGoes", desc := "()V" } : Jvm.MethodName)) ∈ lw_all := lw_g (lw_at lw_m4 44 rfl) rfl
theorem q874 : (Jvm.Cond.selects "SharedWindow$Street" ({ cls := "SharedWindow$Street", name := "dayGoes", desc := "()V" } : Jvm.MethodName) ({ cls := "SharedWindow$Street", name := "dayGoes", desc := "()V" } : Jvm.MethodName)) ∈ lw_all := lw_g (lw_at lw_m4 45 rfl) rfl
theorem q875 : (Jvm.Cond.code ({ cls := "SharedWindow$Street", name := "dayGoes", desc := "()V" } : Jvm.MethodName) prog_15_method_9_code (2 : Nat) (Option.none : Option Jvm.ClassFile.FieldType)) ∈ lw_all := lw_g (lw_at lw_m4 46 rfl) rfl
theorem q876 : (Jvm.Cond.methodLink "SharedWindow$Street" (114 : Nat) ({ cls := "SharedWindow$Street", name := "turnGoes", desc := "(I)V" } : Jvm.MethodName)) ∈ lw_all := lw_g (lw_at lw_m4 47 rfl) rfl
theorem q877 : (Jvm.Cond.privateMethod ({ cls := "SharedWindow$Street", name := "turnGoes", desc := "(I)V" } : Jvm.MethodName)) ∈ lw_tbl := lw_at lw_m4 48 rfl
theorem q878 : (Jvm.Cond.instanceMethod ({ cls := "SharedWindow$Street", name := "turnGoes", desc := "(I)V" } : Jvm.MethodName)) ∈ lw_all := lw_g (lw_at lw_m4 49 rfl) rfl
theorem q879 : (Jvm.Cond.code ({ cls := "SharedWindow$Street", name := "turnGoes", desc := "(I)V" } : Jvm.MethodName) prog_15_method_8_code (5 : Nat) (Option.none : Option Jvm.ClassFile.FieldType)) ∈ lw_all := lw_g (lw_at lw_m4 50 rfl) rfl
theorem q880 : (Jvm.Cond.methodLink "SharedWindow$Street" (102 : Nat) ({ cls := "SharedWindow$Street", name := "draw", desc := "()I" } : Jvm.MethodName)) ∈ lw_all := lw_g (lw_at lw_m4 51 rfl) rfl
theorem q881 : (Jvm.Cond.privateMethod ({ cls := "SharedWindow$Street", name := "draw", desc := "()I" } : Jvm.MethodName)) ∈ lw_tbl := lw_at lw_m4 52 rfl
theorem q882 : (Jvm.Cond.instanceMethod ({ cls := "SharedWindow$Street", name := "draw", desc := "()I" } : Jvm.MethodName)) ∈ lw_all := lw_g (lw_at lw_m4 53 rfl) rfl
theorem q883 : (Jvm.Cond.code ({ cls := "SharedWindow$Street", name := "draw", desc := "()I" } : Jvm.MethodName) prog_15_method_5_code (1 : Nat) (Option.some Jvm.ClassFile.FieldType.int)) ∈ lw_all := lw_g (lw_at lw_m4 54 rfl) rfl
theorem q884 : (Jvm.Cond.constant "SharedWindow$Street" (49 : Nat) (65536 : Int32)) ∈ lw_all := lw_g (lw_at lw_m4 55 rfl) rfl
theorem q885 : (Jvm.Cond.methodLink "SharedWindow$Street" (109 : Nat) ({ cls := "SharedWindow$Street", name := "isCarried", desc := "(III)V" } : Jvm.MethodName)) ∈ lw_all := lw_g (lw_at lw_m4 56 rfl) rfl
theorem q886 : (Jvm.Cond.privateMethod ({ cls := "SharedWindow$Street", name := "isCarried", desc := "(III)V" } : Jvm.MethodName)) ∈ lw_tbl := lw_at lw_m4 57 rfl
theorem q887 : (Jvm.Cond.instanceMethod ({ cls := "SharedWindow$Street", name := "isCarried", desc := "(III)V" } : Jvm.MethodName)) ∈ lw_all := lw_g (lw_at lw_m4 58 rfl) rfl
theorem q888 : (Jvm.Cond.code ({ cls := "SharedWindow$Street", name := "isCarried", desc := "(III)V" } : Jvm.MethodName) prog_15_method_7_code (6 : Nat) (Option.none : Option Jvm.ClassFile.FieldType)) ∈ lw_all := lw_g (lw_at lw_m4 59 rfl) rfl
theorem q889 : (Jvm.Cond.methodLink "SharedWindow$Street" (74 : Nat) ({ cls := "SharedWindow$Street", name := "asked", desc := "(III)LSharedWindow$Moment;" } : Jvm.MethodName)) ∈ lw_all := lw_g (lw_at lw_m4 60 rfl) rfl
theorem q890 : (Jvm.Cond.privateMethod ({ cls := "SharedWindow$Street", name := "asked", desc := "(III)LSharedWindow$Moment;" } : Jvm.MethodName)) ∈ lw_tbl := lw_at lw_m4 61 rfl
theorem q891 : (Jvm.Cond.instanceMethod ({ cls := "SharedWindow$Street", name := "asked", desc := "(III)LSharedWindow$Moment;" } : Jvm.MethodName)) ∈ lw_all := lw_g (lw_at lw_m4 62 rfl) rfl
theorem q892 : (Jvm.Cond.code ({ cls := "SharedWindow$Street", name := "asked", desc := "(III)LSharedWindow$Moment;" } : Jvm.MethodName) prog_15_method_6_code (4 : Nat) (Option.some (Jvm.ClassFile.FieldType.object "SharedWindow$Moment"))) ∈ lw_all := lw_g (lw_at lw_m4 63 rfl) rfl
theorem q893 : (Jvm.Cond.methodLink "SharedWindow$Street" (54 : Nat) ({ cls := "SharedWindow$Plan", name := "seen", desc := "(II)I" } : Jvm.MethodName)) ∈ lw_all := lw_g (lw_at lw_m4 64 rfl) rfl
theorem q905 : (Jvm.Cond.methodLink "SharedWindow$Street" (58 : Nat) ({ cls := "java/lang/Integer", name := "bitCount", desc := "(I)I" } : Jvm.MethodName)) ∈ lw_all := lw_g (lw_at lw_m4 76 rfl) rfl
theorem q911 : (Jvm.Cond.methodLink "SharedWindow$Street" (64 : Nat) ({ cls := "SharedWindow$Moment", name := "of", desc := "(IIIII)LSharedWindow$Moment;" } : Jvm.MethodName)) ∈ lw_all := lw_g (lw_at lw_m4 82 rfl) rfl
theorem q918 : (Jvm.Cond.methodLink "SharedWindow$Street" (70 : Nat) ({ cls := "SharedWindow$Moment", name := "on", desc := "(III)LSharedWindow$Moment;" } : Jvm.MethodName)) ∈ lw_all := lw_g (lw_at lw_m4 89 rfl) rfl
theorem q922 : (Jvm.Cond.methodLink "SharedWindow$Street" (81 : Nat) ({ cls := "SharedWindow$Text", name := "says", desc := "(ILSharedWindow$Asked;)Z" } : Jvm.MethodName)) ∈ lw_all := lw_g (lw_at lw_m4 93 rfl) rfl
theorem q962 : (Jvm.Cond.methodLink "SharedWindow$Street" (87 : Nat) ({ cls := "SharedWindow$Text", name := "tells", desc := "(IILSharedWindow$Asked;)I" } : Jvm.MethodName)) ∈ lw_all := lw_g (lw_at lw_m4 133 rfl) rfl
theorem q974 : (Jvm.Cond.methodLinkNest "SharedWindow$Street" (91 : Nat) ({ cls := "SharedWindow", name := "held", desc := "(II)I" } : Jvm.MethodName) "SharedWindow") ∈ lw_tbl := lw_at lw_m4 145 rfl
theorem q979 : (Jvm.Cond.methodLink "SharedWindow$Street" (97 : Nat) ({ cls := "java/lang/Math", name := "min", desc := "(II)I" } : Jvm.MethodName)) ∈ lw_all := lw_g (lw_at lw_m4 150 rfl) rfl
theorem q980 : (Jvm.Cond.constant "SharedWindow$Street" (113 : Nat) (99999 : Int32)) ∈ lw_all := lw_g (lw_at lw_m4 151 rfl) rfl
theorem q986 : (Jvm.Cond.instanceMethod ({ cls := "SharedWindow$Street", name := "takes", desc := "(LSharedWindow$Street;)LSharedWindow$Street;" } : Jvm.MethodName)) ∈ lw_all := lw_g (lw_at lw_m4 157 rfl) rfl
theorem q987 : (Jvm.Cond.selects "SharedWindow$Street" ({ cls := "SharedWindow$Street", name := "takes", desc := "(LSharedWindow$Street;)LSharedWindow$Street;" } : Jvm.MethodName) ({ cls := "SharedWindow$Street", name := "takes", desc := "(LSharedWindow$Street;)LSharedWindow$Street;" } : Jvm.MethodName)) ∈ lw_all := lw_g (lw_at lw_m4 158 rfl) rfl
theorem q988 : (Jvm.Cond.code ({ cls := "SharedWindow$Street", name := "takes", desc := "(LSharedWindow$Street;)LSharedWindow$Street;" } : Jvm.MethodName) prog_15_method_2_code (3 : Nat) (Option.some (Jvm.ClassFile.FieldType.object "SharedWindow$Street"))) ∈ lw_all := lw_g (lw_at lw_m4 159 rfl) rfl
theorem q993 : (Jvm.Cond.instanceMethod ({ cls := "SharedWindow$Street", name := "joyOfAll", desc := "()I" } : Jvm.MethodName)) ∈ lw_all := lw_g (lw_at lw_m4 164 rfl) rfl
theorem q994 : (Jvm.Cond.selects "SharedWindow$Street" ({ cls := "SharedWindow$Street", name := "joyOfAll", desc := "()I" } : Jvm.MethodName) ({ cls := "SharedWindow$Street", name := "joyOfAll", desc := "()I" } : Jvm.MethodName)) ∈ lw_all := lw_g (lw_at lw_m4 165 rfl) rfl
theorem q995 : (Jvm.Cond.code ({ cls := "SharedWindow$Street", name := "joyOfAll", desc := "()I" } : Jvm.MethodName) prog_15_method_11_code (6 : Nat) (Option.some Jvm.ClassFile.FieldType.int)) ∈ lw_all := lw_g (lw_at lw_m4 166 rfl) rfl
theorem q1181 : (Jvm.Cond.instanceMethod ({ cls := "SharedWindow$Street", name := "isAgain", desc := "(LSharedWindow$Street;)V" } : Jvm.MethodName)) ∈ lw_all := lw_g (lw_at lw_m5 112 rfl) rfl
theorem q1182 : (Jvm.Cond.selects "SharedWindow$Street" ({ cls := "SharedWindow$Street", name := "isAgain", desc := "(LSharedWindow$Street;)V" } : Jvm.MethodName) ({ cls := "SharedWindow$Street", name := "isAgain", desc := "(LSharedWindow$Street;)V" } : Jvm.MethodName)) ∈ lw_all := lw_g (lw_at lw_m5 113 rfl) rfl
theorem q1183 : (Jvm.Cond.code ({ cls := "SharedWindow$Street", name := "isAgain", desc := "(LSharedWindow$Street;)V" } : Jvm.MethodName) prog_15_method_4_code (3 : Nat) (Option.none : Option Jvm.ClassFile.FieldType)) ∈ lw_all := lw_g (lw_at lw_m5 114 rfl) rfl
theorem q1184 : (Jvm.Cond.methodLink "SharedWindow$Street" (35 : Nat) ({ cls := "SharedWindow$Street", name := "takes", desc := "(LSharedWindow$Street;)LSharedWindow$Street;" } : Jvm.MethodName)) ∈ lw_all := lw_g (lw_at lw_m5 115 rfl) rfl
theorem q1185 : (Jvm.Cond.methodLink "SharedWindow$Street" (43 : Nat) ({ cls := "SharedWindow$Plan", name := "isHouse", desc := "(I)Z" } : Jvm.MethodName)) ∈ lw_all := lw_g (lw_at lw_m5 116 rfl) rfl
theorem in_X4 : ∀ w ∈ wsX40, w ∈ lw_all := lw_in wsX40 [242, 244, 246, 248, 250, 252, 254, 256] (by decide +kernel) (by decide +kernel)
/-! SharedWindow$Text -/
set_option maxRecDepth 100000
def RX5 : String := "SharedWindow$Text"
def TX5 : u_T := fun k => match k with
  | 0 => ("SharedWindow$Text", "letters", "[I", true)
  | 1 => ("SharedWindow$Text", "sums", "[LSharedWindow$Sum;", true)
  | 2 => ("SharedWindow$Text", "conditions", "[LSharedWindow$Condition;", true)
  | _ => ("SharedWindow$Text", "many", "I", false)
def tyX5 : Nat → FieldType := fun k => match k with
  | 0 => .array .int
  | 1 => .array (.object "SharedWindow$Sum")
  | 2 => .array (.object "SharedWindow$Condition")
  | _ => .int
abbrev wsX50 : List Cond := u_ws RX5 TX5 4
theorem nmX5 : ∀ a, a < 4 → ∀ b, b < 4 → a ≠ b → (TX5 a).2.1 ≠ (TX5 b).2.1 := by decide +kernel
theorem tyX5_ok : ∀ k, k < 4 → parseFieldDescriptor (TX5 k).2.2.1 = some (tyX5 k) := by decide +kernel
abbrev cX5_init : ByteArray := prog_18_method_1_code
def yX5_init : MethodName := ⟨RX5, "<init>", "()V"⟩
def dkwX5_init_1 : List UInt8 := [189, 0, 21, 181, 0, 23, 177]
abbrev dktX5_init_1 : List UInt8 := dkwX5_init_1 ++ []
def dkwX5_init_0 : List UInt8 := [42, 183, 0, 3, 42, 16, 16, 188, 10, 181, 0, 9, 42, 16, 16, 189, 0, 15, 181, 0, 17, 42, 16, 16]
abbrev dktX5_init_0 : List UInt8 := dkwX5_init_0 ++ dktX5_init_1
theorem dksX5_init_0 : cX5_init.data.toList.drop 0 = dktX5_init_0 := by decide +kernel
theorem dksX5_init_1 : cX5_init.data.toList.drop 24 = dktX5_init_1 := dk_seg dksX5_init_0 24 rfl rfl
theorem dX5_init_0 : decode cX5_init 0 = .ok (.aload_n 0, 1) := dk_42 (dk_at dksX5_init_0 0 rfl rfl)
theorem dX5_init_1 : decode cX5_init 1 = .ok (.invokespecial 3, 3) := dk_183 0 3 (dk_at dksX5_init_0 1 rfl rfl)
theorem dX5_init_4 : decode cX5_init 4 = .ok (.aload_n 0, 1) := dk_42 (dk_at dksX5_init_0 4 rfl rfl)
theorem dX5_init_5 : decode cX5_init 5 = .ok (.bipush 16, 2) := dk_16 16 (dk_at dksX5_init_0 5 rfl rfl)
theorem dX5_init_7 : decode cX5_init 7 = .ok (.newarray .int, 2) := dk_188_10 (dk_at dksX5_init_0 7 rfl rfl)
theorem dX5_init_9 : decode cX5_init 9 = .ok (.putfield 9, 3) := dk_181 0 9 (dk_at dksX5_init_0 9 rfl rfl)
theorem dX5_init_12 : decode cX5_init 12 = .ok (.aload_n 0, 1) := dk_42 (dk_at dksX5_init_0 12 rfl rfl)
theorem dX5_init_13 : decode cX5_init 13 = .ok (.bipush 16, 2) := dk_16 16 (dk_at dksX5_init_0 13 rfl rfl)
theorem dX5_init_15 : decode cX5_init 15 = .ok (.anewarray 15, 3) := dk_189 0 15 (dk_at dksX5_init_0 15 rfl rfl)
theorem dX5_init_18 : decode cX5_init 18 = .ok (.putfield 17, 3) := dk_181 0 17 (dk_at dksX5_init_0 18 rfl rfl)
theorem dX5_init_21 : decode cX5_init 21 = .ok (.aload_n 0, 1) := dk_42 (dk_at dksX5_init_0 21 rfl rfl)
theorem dX5_init_22 : decode cX5_init 22 = .ok (.bipush 16, 2) := dk_16 16 (dk_at dksX5_init_0 22 rfl rfl)
theorem dX5_init_24 : decode cX5_init 24 = .ok (.anewarray 21, 3) := dk_189 0 21 (dk_at dksX5_init_1 0 rfl rfl)
theorem dX5_init_27 : decode cX5_init 27 = .ok (.putfield 23, 3) := dk_181 0 23 (dk_at dksX5_init_1 3 rfl rfl)
theorem dX5_init_30 : decode cX5_init 30 = .ok (.return_, 1) := dk_177 (dk_at dksX5_init_1 6 rfl rfl)
abbrev cX5_says : ByteArray := prog_18_method_3_code
def yX5_says : MethodName := ⟨RX5, "says", "(ILSharedWindow$Asked;)Z"⟩
def dkwX5_says_1 : List UInt8 := [29, 50, 44, 182, 0, 31, 4, 160, 0, 5, 4, 172, 132, 3, 1, 167, 255, 219, 3, 172]
abbrev dktX5_says_1 : List UInt8 := dkwX5_says_1 ++ []
def dkwX5_says_0 : List UInt8 := [3, 62, 29, 42, 180, 0, 27, 162, 0, 35, 42, 180, 0, 9, 29, 46, 27, 160, 0, 19, 42, 180, 0, 23]
abbrev dktX5_says_0 : List UInt8 := dkwX5_says_0 ++ dktX5_says_1
theorem dksX5_says_0 : cX5_says.data.toList.drop 0 = dktX5_says_0 := by decide +kernel
theorem dksX5_says_1 : cX5_says.data.toList.drop 24 = dktX5_says_1 := dk_seg dksX5_says_0 24 rfl rfl
theorem dX5_says_0 : decode cX5_says 0 = .ok (.iconst 0, 1) := dk_3 (dk_at dksX5_says_0 0 rfl rfl)
theorem dX5_says_1 : decode cX5_says 1 = .ok (.istore_n 3, 1) := dk_62 (dk_at dksX5_says_0 1 rfl rfl)
theorem dX5_says_2 : decode cX5_says 2 = .ok (.iload_n 3, 1) := dk_29 (dk_at dksX5_says_0 2 rfl rfl)
theorem dX5_says_3 : decode cX5_says 3 = .ok (.aload_n 0, 1) := dk_42 (dk_at dksX5_says_0 3 rfl rfl)
theorem dX5_says_4 : decode cX5_says 4 = .ok (.getfield 27, 3) := dk_180 0 27 (dk_at dksX5_says_0 4 rfl rfl)
theorem dX5_says_7 : decode cX5_says 7 = .ok (.if_icmp .ge 35, 3) := dk_162 0 35 (dk_at dksX5_says_0 7 rfl rfl)
theorem dX5_says_10 : decode cX5_says 10 = .ok (.aload_n 0, 1) := dk_42 (dk_at dksX5_says_0 10 rfl rfl)
theorem dX5_says_11 : decode cX5_says 11 = .ok (.getfield 9, 3) := dk_180 0 9 (dk_at dksX5_says_0 11 rfl rfl)
theorem dX5_says_14 : decode cX5_says 14 = .ok (.iload_n 3, 1) := dk_29 (dk_at dksX5_says_0 14 rfl rfl)
theorem dX5_says_15 : decode cX5_says 15 = .ok (.iaload, 1) := dk_46 (dk_at dksX5_says_0 15 rfl rfl)
theorem dX5_says_16 : decode cX5_says 16 = .ok (.iload_n 1, 1) := dk_27 (dk_at dksX5_says_0 16 rfl rfl)
theorem dX5_says_17 : decode cX5_says 17 = .ok (.if_icmp .ne 19, 3) := dk_160 0 19 (dk_at dksX5_says_0 17 rfl rfl)
theorem dX5_says_20 : decode cX5_says 20 = .ok (.aload_n 0, 1) := dk_42 (dk_at dksX5_says_0 20 rfl rfl)
theorem dX5_says_21 : decode cX5_says 21 = .ok (.getfield 23, 3) := dk_180 0 23 (dk_at dksX5_says_0 21 rfl rfl)
theorem dX5_says_24 : decode cX5_says 24 = .ok (.iload_n 3, 1) := dk_29 (dk_at dksX5_says_1 0 rfl rfl)
theorem dX5_says_25 : decode cX5_says 25 = .ok (.aaload, 1) := dk_50 (dk_at dksX5_says_1 1 rfl rfl)
theorem dX5_says_26 : decode cX5_says 26 = .ok (.aload_n 2, 1) := dk_44 (dk_at dksX5_says_1 2 rfl rfl)
theorem dX5_says_27 : decode cX5_says 27 = .ok (.invokevirtual 31, 3) := dk_182 0 31 (dk_at dksX5_says_1 3 rfl rfl)
theorem dX5_says_30 : decode cX5_says 30 = .ok (.iconst 1, 1) := dk_4 (dk_at dksX5_says_1 6 rfl rfl)
theorem dX5_says_31 : decode cX5_says 31 = .ok (.if_icmp .ne 5, 3) := dk_160 0 5 (dk_at dksX5_says_1 7 rfl rfl)
theorem dX5_says_34 : decode cX5_says 34 = .ok (.iconst 1, 1) := dk_4 (dk_at dksX5_says_1 10 rfl rfl)
theorem dX5_says_35 : decode cX5_says 35 = .ok (.ireturn, 1) := dk_172 (dk_at dksX5_says_1 11 rfl rfl)
theorem dX5_says_36 : decode cX5_says 36 = .ok (.iinc 3 1, 3) := dk_132 3 1 (dk_at dksX5_says_1 12 rfl rfl)
theorem dX5_says_39 : decode cX5_says 39 = .ok (.goto (-37), 3) := dk_167 255 219 (dk_at dksX5_says_1 15 rfl rfl)
theorem dX5_says_42 : decode cX5_says 42 = .ok (.iconst 0, 1) := dk_3 (dk_at dksX5_says_1 18 rfl rfl)
theorem dX5_says_43 : decode cX5_says 43 = .ok (.ireturn, 1) := dk_172 (dk_at dksX5_says_1 19 rfl rfl)
abbrev cX5_tells : ByteArray := prog_18_method_2_code
def yX5_tells : MethodName := ⟨RX5, "tells", "(IILSharedWindow$Asked;)I"⟩
def dkwX5_tells_2 : List UInt8 := [182, 0, 35, 172, 132, 4, 1, 167, 255, 206, 28, 172]
abbrev dktX5_tells_2 : List UInt8 := dkwX5_tells_2 ++ []
def dkwX5_tells_1 : List UInt8 := [180, 0, 23, 21, 4, 50, 45, 182, 0, 31, 4, 160, 0, 15, 42, 180, 0, 17, 21, 4, 50, 45]
abbrev dktX5_tells_1 : List UInt8 := dkwX5_tells_1 ++ dktX5_tells_2
def dkwX5_tells_0 : List UInt8 := [3, 54, 4, 21, 4, 42, 180, 0, 27, 162, 0, 47, 42, 180, 0, 9, 21, 4, 46, 27, 160, 0, 30, 42]
abbrev dktX5_tells_0 : List UInt8 := dkwX5_tells_0 ++ dktX5_tells_1
theorem dksX5_tells_0 : cX5_tells.data.toList.drop 0 = dktX5_tells_0 := by decide +kernel
theorem dksX5_tells_1 : cX5_tells.data.toList.drop 24 = dktX5_tells_1 := dk_seg dksX5_tells_0 24 rfl rfl
theorem dksX5_tells_2 : cX5_tells.data.toList.drop 46 = dktX5_tells_2 := dk_seg dksX5_tells_1 22 rfl rfl
theorem dX5_tells_0 : decode cX5_tells 0 = .ok (.iconst 0, 1) := dk_3 (dk_at dksX5_tells_0 0 rfl rfl)
theorem dX5_tells_1 : decode cX5_tells 1 = .ok (.istore 4, 2) := dk_54 4 (dk_at dksX5_tells_0 1 rfl rfl)
theorem dX5_tells_3 : decode cX5_tells 3 = .ok (.iload 4, 2) := dk_21 4 (dk_at dksX5_tells_0 3 rfl rfl)
theorem dX5_tells_5 : decode cX5_tells 5 = .ok (.aload_n 0, 1) := dk_42 (dk_at dksX5_tells_0 5 rfl rfl)
theorem dX5_tells_6 : decode cX5_tells 6 = .ok (.getfield 27, 3) := dk_180 0 27 (dk_at dksX5_tells_0 6 rfl rfl)
theorem dX5_tells_9 : decode cX5_tells 9 = .ok (.if_icmp .ge 47, 3) := dk_162 0 47 (dk_at dksX5_tells_0 9 rfl rfl)
theorem dX5_tells_12 : decode cX5_tells 12 = .ok (.aload_n 0, 1) := dk_42 (dk_at dksX5_tells_0 12 rfl rfl)
theorem dX5_tells_13 : decode cX5_tells 13 = .ok (.getfield 9, 3) := dk_180 0 9 (dk_at dksX5_tells_0 13 rfl rfl)
theorem dX5_tells_16 : decode cX5_tells 16 = .ok (.iload 4, 2) := dk_21 4 (dk_at dksX5_tells_0 16 rfl rfl)
theorem dX5_tells_18 : decode cX5_tells 18 = .ok (.iaload, 1) := dk_46 (dk_at dksX5_tells_0 18 rfl rfl)
theorem dX5_tells_19 : decode cX5_tells 19 = .ok (.iload_n 1, 1) := dk_27 (dk_at dksX5_tells_0 19 rfl rfl)
theorem dX5_tells_20 : decode cX5_tells 20 = .ok (.if_icmp .ne 30, 3) := dk_160 0 30 (dk_at dksX5_tells_0 20 rfl rfl)
theorem dX5_tells_23 : decode cX5_tells 23 = .ok (.aload_n 0, 1) := dk_42 (dk_at dksX5_tells_0 23 rfl rfl)
theorem dX5_tells_24 : decode cX5_tells 24 = .ok (.getfield 23, 3) := dk_180 0 23 (dk_at dksX5_tells_1 0 rfl rfl)
theorem dX5_tells_27 : decode cX5_tells 27 = .ok (.iload 4, 2) := dk_21 4 (dk_at dksX5_tells_1 3 rfl rfl)
theorem dX5_tells_29 : decode cX5_tells 29 = .ok (.aaload, 1) := dk_50 (dk_at dksX5_tells_1 5 rfl rfl)
theorem dX5_tells_30 : decode cX5_tells 30 = .ok (.aload_n 3, 1) := dk_45 (dk_at dksX5_tells_1 6 rfl rfl)
theorem dX5_tells_31 : decode cX5_tells 31 = .ok (.invokevirtual 31, 3) := dk_182 0 31 (dk_at dksX5_tells_1 7 rfl rfl)
theorem dX5_tells_34 : decode cX5_tells 34 = .ok (.iconst 1, 1) := dk_4 (dk_at dksX5_tells_1 10 rfl rfl)
theorem dX5_tells_35 : decode cX5_tells 35 = .ok (.if_icmp .ne 15, 3) := dk_160 0 15 (dk_at dksX5_tells_1 11 rfl rfl)
theorem dX5_tells_38 : decode cX5_tells 38 = .ok (.aload_n 0, 1) := dk_42 (dk_at dksX5_tells_1 14 rfl rfl)
theorem dX5_tells_39 : decode cX5_tells 39 = .ok (.getfield 17, 3) := dk_180 0 17 (dk_at dksX5_tells_1 15 rfl rfl)
theorem dX5_tells_42 : decode cX5_tells 42 = .ok (.iload 4, 2) := dk_21 4 (dk_at dksX5_tells_1 18 rfl rfl)
theorem dX5_tells_44 : decode cX5_tells 44 = .ok (.aaload, 1) := dk_50 (dk_at dksX5_tells_1 20 rfl rfl)
theorem dX5_tells_45 : decode cX5_tells 45 = .ok (.aload_n 3, 1) := dk_45 (dk_at dksX5_tells_1 21 rfl rfl)
theorem dX5_tells_46 : decode cX5_tells 46 = .ok (.invokevirtual 35, 3) := dk_182 0 35 (dk_at dksX5_tells_2 0 rfl rfl)
theorem dX5_tells_49 : decode cX5_tells 49 = .ok (.ireturn, 1) := dk_172 (dk_at dksX5_tells_2 3 rfl rfl)
theorem dX5_tells_50 : decode cX5_tells 50 = .ok (.iinc 4 1, 3) := dk_132 4 1 (dk_at dksX5_tells_2 4 rfl rfl)
theorem dX5_tells_53 : decode cX5_tells 53 = .ok (.goto (-50), 3) := dk_167 255 206 (dk_at dksX5_tells_2 7 rfl rfl)
theorem dX5_tells_56 : decode cX5_tells 56 = .ok (.iload_n 2, 1) := dk_28 (dk_at dksX5_tells_2 10 rfl rfl)
theorem dX5_tells_57 : decode cX5_tells 57 = .ok (.ireturn, 1) := dk_172 (dk_at dksX5_tells_2 11 rfl rfl)
theorem q115 : (Jvm.Cond.initialized "SharedWindow$Text") ∈ lw_all := lw_g (lw_at lw_m1 6 rfl) rfl
theorem q260 : (Jvm.Cond.instantiable "SharedWindow$Text" (4 : Nat)) ∈ lw_all := lw_g (lw_at lw_m1 151 rfl) rfl
theorem q262 : (Jvm.Cond.instanceMethod ({ cls := "SharedWindow$Text", name := "<init>", desc := "()V" } : Jvm.MethodName)) ∈ lw_all := lw_g (lw_at lw_m1 153 rfl) rfl
theorem q263 : (Jvm.Cond.code ({ cls := "SharedWindow$Text", name := "<init>", desc := "()V" } : Jvm.MethodName) prog_18_method_1_code (1 : Nat) (Option.none : Option Jvm.ClassFile.FieldType)) ∈ lw_all := lw_g (lw_at lw_m1 154 rfl) rfl
theorem q264 : (Jvm.Cond.methodLink "SharedWindow$Text" (3 : Nat) ({ cls := "java/lang/Object", name := "<init>", desc := "()V" } : Jvm.MethodName)) ∈ lw_all := lw_g (lw_at lw_m1 155 rfl) rfl
theorem q265 : (Jvm.Cond.classLink "SharedWindow$Text" (15 : Nat) "SharedWindow$Sum") ∈ lw_all := lw_g (lw_at lw_m1 156 rfl) rfl
theorem q267 : (Jvm.Cond.classLink "SharedWindow$Text" (21 : Nat) "SharedWindow$Condition") ∈ lw_all := lw_g (lw_at lw_m1 158 rfl) rfl
theorem q269 : (Jvm.Cond.fieldLink "SharedWindow$Text" (9 : Nat) "SharedWindow$Text" "letters" "[I") ∈ lw_all := lw_g (lw_at lw_m1 160 rfl) rfl
theorem q271 : (Jvm.Cond.fieldLink "SharedWindow$Text" (17 : Nat) "SharedWindow$Text" "sums" "[LSharedWindow$Sum;") ∈ lw_all := lw_g (lw_at lw_m1 162 rfl) rfl
theorem q273 : (Jvm.Cond.fieldLink "SharedWindow$Text" (23 : Nat) "SharedWindow$Text" "conditions" "[LSharedWindow$Condition;") ∈ lw_all := lw_g (lw_at lw_m1 164 rfl) rfl
theorem q275 : (Jvm.Cond.fieldLink "SharedWindow$Text" (27 : Nat) "SharedWindow$Text" "many" "I") ∈ lw_all := lw_g (lw_at lw_m1 166 rfl) rfl
theorem q278 : (Jvm.Cond.laysFinal "SharedWindow$Text" "SharedWindow$Text" "letters" "[I") ∈ lw_all := lw_g (lw_at lw_m1 169 rfl) rfl
theorem q279 : (Jvm.Cond.soleField "SharedWindow$Text" "letters") ∈ lw_all := lw_g (lw_at lw_m1 170 rfl) rfl
theorem q280 : (Jvm.Cond.laysFinal "SharedWindow$Text" "SharedWindow$Text" "sums" "[LSharedWindow$Sum;") ∈ lw_all := lw_g (lw_at lw_m1 171 rfl) rfl
theorem q281 : (Jvm.Cond.soleField "SharedWindow$Text" "sums") ∈ lw_all := lw_g (lw_at lw_m1 172 rfl) rfl
theorem q282 : (Jvm.Cond.laysFinal "SharedWindow$Text" "SharedWindow$Text" "conditions" "[LSharedWindow$Condition;") ∈ lw_all := lw_g (lw_at lw_m1 173 rfl) rfl
theorem q283 : (Jvm.Cond.soleField "SharedWindow$Text" "conditions") ∈ lw_all := lw_g (lw_at lw_m1 174 rfl) rfl
theorem q284 : (Jvm.Cond.lays "SharedWindow$Text" "SharedWindow$Text" "many" "I") ∈ lw_all := lw_g (lw_at lw_m1 175 rfl) rfl
theorem q285 : (Jvm.Cond.soleField "SharedWindow$Text" "many") ∈ lw_all := lw_g (lw_at lw_m1 176 rfl) rfl
theorem q286 : (Jvm.Cond.superclass "SharedWindow$Text" "java/lang/Object") ∈ lw_all := lw_g (lw_at lw_m1 177 rfl) rfl
theorem q923 : (Jvm.Cond.instanceMethod ({ cls := "SharedWindow$Text", name := "says", desc := "(ILSharedWindow$Asked;)Z" } : Jvm.MethodName)) ∈ lw_all := lw_g (lw_at lw_m4 94 rfl) rfl
theorem q924 : (Jvm.Cond.selects "SharedWindow$Text" ({ cls := "SharedWindow$Text", name := "says", desc := "(ILSharedWindow$Asked;)Z" } : Jvm.MethodName) ({ cls := "SharedWindow$Text", name := "says", desc := "(ILSharedWindow$Asked;)Z" } : Jvm.MethodName)) ∈ lw_all := lw_g (lw_at lw_m4 95 rfl) rfl
theorem q925 : (Jvm.Cond.code ({ cls := "SharedWindow$Text", name := "says", desc := "(ILSharedWindow$Asked;)Z" } : Jvm.MethodName) prog_18_method_3_code (4 : Nat) (Option.some Jvm.ClassFile.FieldType.boolean)) ∈ lw_all := lw_g (lw_at lw_m4 96 rfl) rfl
theorem q926 : (Jvm.Cond.methodLink "SharedWindow$Text" (31 : Nat) ({ cls := "SharedWindow$Condition", name := "holds", desc := "(LSharedWindow$Asked;)I" } : Jvm.MethodName)) ∈ lw_all := lw_g (lw_at lw_m4 97 rfl) rfl
theorem q963 : (Jvm.Cond.instanceMethod ({ cls := "SharedWindow$Text", name := "tells", desc := "(IILSharedWindow$Asked;)I" } : Jvm.MethodName)) ∈ lw_all := lw_g (lw_at lw_m4 134 rfl) rfl
theorem q964 : (Jvm.Cond.selects "SharedWindow$Text" ({ cls := "SharedWindow$Text", name := "tells", desc := "(IILSharedWindow$Asked;)I" } : Jvm.MethodName) ({ cls := "SharedWindow$Text", name := "tells", desc := "(IILSharedWindow$Asked;)I" } : Jvm.MethodName)) ∈ lw_all := lw_g (lw_at lw_m4 135 rfl) rfl
theorem q965 : (Jvm.Cond.code ({ cls := "SharedWindow$Text", name := "tells", desc := "(IILSharedWindow$Asked;)I" } : Jvm.MethodName) prog_18_method_2_code (5 : Nat) (Option.some Jvm.ClassFile.FieldType.int)) ∈ lw_all := lw_g (lw_at lw_m4 136 rfl) rfl
theorem q966 : (Jvm.Cond.methodLink "SharedWindow$Text" (35 : Nat) ({ cls := "SharedWindow$Sum", name := "told", desc := "(LSharedWindow$Asked;)I" } : Jvm.MethodName)) ∈ lw_all := lw_g (lw_at lw_m4 137 rfl) rfl
theorem in_X5 : ∀ w ∈ wsX50, w ∈ lw_all := lw_in wsX50 [278, 280, 282, 284] (by decide +kernel) (by decide +kernel)
/-! SharedWindow$Reader -/
set_option maxRecDepth 100000
def RX7 : String := "SharedWindow$Reader"
def TX7 : u_T := fun k => match k with
  | 0 => ("SharedWindow$Reader", "n", "I", true)
  | 1 => ("SharedWindow$Reader", "text", "LSharedWindow$Text;", true)
  | 2 => ("SharedWindow$Reader", "at", "I", false)
  | 3 => ("SharedWindow$Reader", "open", "I", false)
  | 4 => ("SharedWindow$Reader", "fault", "I", false)
  | 5 => ("SharedWindow$Reader", "place", "I", false)
  | _ => ("SharedWindow$Reader", "this$0", "LSharedWindow;", true)
def tyX7 : Nat → FieldType := fun k => match k with
  | 0 => .int
  | 1 => .object "SharedWindow$Text"
  | 2 => .int
  | 3 => .int
  | 4 => .int
  | 5 => .int
  | _ => .object "SharedWindow"
abbrev wsX70 : List Cond := u_ws RX7 TX7 7
theorem nmX7 : ∀ a, a < 7 → ∀ b, b < 7 → a ≠ b → (TX7 a).2.1 ≠ (TX7 b).2.1 := by decide +kernel
theorem tyX7_ok : ∀ k, k < 7 → parseFieldDescriptor (TX7 k).2.2.1 = some (tyX7 k) := by decide +kernel
abbrev cX7_init : ByteArray := prog_11_method_1_code
def yX7_init : MethodName := ⟨RX7, "<init>", "(LSharedWindow;I)V"⟩
def dkwX7_init_1 : List UInt8 := [181, 0, 22, 177]
abbrev dktX7_init_1 : List UInt8 := dkwX7_init_1 ++ []
def dkwX7_init_0 : List UInt8 := [42, 43, 181, 0, 3, 42, 183, 0, 9, 42, 187, 0, 15, 89, 183, 0, 17, 181, 0, 18, 42, 28]
abbrev dktX7_init_0 : List UInt8 := dkwX7_init_0 ++ dktX7_init_1
theorem dksX7_init_0 : cX7_init.data.toList.drop 0 = dktX7_init_0 := by decide +kernel
theorem dksX7_init_1 : cX7_init.data.toList.drop 22 = dktX7_init_1 := dk_seg dksX7_init_0 22 rfl rfl
theorem dX7_init_0 : decode cX7_init 0 = .ok (.aload_n 0, 1) := dk_42 (dk_at dksX7_init_0 0 rfl rfl)
theorem dX7_init_1 : decode cX7_init 1 = .ok (.aload_n 1, 1) := dk_43 (dk_at dksX7_init_0 1 rfl rfl)
theorem dX7_init_2 : decode cX7_init 2 = .ok (.putfield 3, 3) := dk_181 0 3 (dk_at dksX7_init_0 2 rfl rfl)
theorem dX7_init_5 : decode cX7_init 5 = .ok (.aload_n 0, 1) := dk_42 (dk_at dksX7_init_0 5 rfl rfl)
theorem dX7_init_6 : decode cX7_init 6 = .ok (.invokespecial 9, 3) := dk_183 0 9 (dk_at dksX7_init_0 6 rfl rfl)
theorem dX7_init_9 : decode cX7_init 9 = .ok (.aload_n 0, 1) := dk_42 (dk_at dksX7_init_0 9 rfl rfl)
theorem dX7_init_10 : decode cX7_init 10 = .ok (.new 15, 3) := dk_187 0 15 (dk_at dksX7_init_0 10 rfl rfl)
theorem dX7_init_13 : decode cX7_init 13 = .ok (.dup, 1) := dk_89 (dk_at dksX7_init_0 13 rfl rfl)
theorem dX7_init_14 : decode cX7_init 14 = .ok (.invokespecial 17, 3) := dk_183 0 17 (dk_at dksX7_init_0 14 rfl rfl)
theorem dX7_init_17 : decode cX7_init 17 = .ok (.putfield 18, 3) := dk_181 0 18 (dk_at dksX7_init_0 17 rfl rfl)
theorem dX7_init_20 : decode cX7_init 20 = .ok (.aload_n 0, 1) := dk_42 (dk_at dksX7_init_0 20 rfl rfl)
theorem dX7_init_21 : decode cX7_init 21 = .ok (.iload_n 2, 1) := dk_28 (dk_at dksX7_init_0 21 rfl rfl)
theorem dX7_init_22 : decode cX7_init 22 = .ok (.putfield 22, 3) := dk_181 0 22 (dk_at dksX7_init_1 0 rfl rfl)
theorem dX7_init_25 : decode cX7_init 25 = .ok (.return_, 1) := dk_177 (dk_at dksX7_init_1 3 rfl rfl)
abbrev cX7_read : ByteArray := prog_11_method_16_code
def yX7_read : MethodName := ⟨RX7, "read", "()I"⟩
def dkwX7_read_3 : List UInt8 := [17, 252, 24, 42, 180, 0, 33, 104, 42, 180, 0, 36, 100, 172]
abbrev dktX7_read_3 : List UInt8 := dkwX7_read_3 ++ []
def dkwX7_read_2 : List UInt8 := [182, 0, 64, 167, 255, 207, 42, 182, 0, 43, 153, 0, 13, 42, 180, 0, 18, 180, 0, 131, 167, 0, 16]
abbrev dktX7_read_2 : List UInt8 := dkwX7_read_2 ++ dktX7_read_3
def dkwX7_read_1 : List UInt8 := [42, 180, 0, 26, 42, 180, 0, 22, 162, 0, 7, 4, 167, 0, 4, 3, 60, 27, 153, 255, 216, 42, 16, 59]
abbrev dktX7_read_1 : List UInt8 := dkwX7_read_1 ++ dktX7_read_2
def dkwX7_read_0 : List UInt8 := [4, 60, 27, 153, 0, 51, 42, 182, 0, 43, 153, 0, 44, 42, 182, 0, 146, 42, 182, 0, 43, 153, 0, 18]
abbrev dktX7_read_0 : List UInt8 := dkwX7_read_0 ++ dktX7_read_1
theorem dksX7_read_0 : cX7_read.data.toList.drop 0 = dktX7_read_0 := by decide +kernel
theorem dksX7_read_1 : cX7_read.data.toList.drop 24 = dktX7_read_1 := dk_seg dksX7_read_0 24 rfl rfl
theorem dksX7_read_2 : cX7_read.data.toList.drop 48 = dktX7_read_2 := dk_seg dksX7_read_1 24 rfl rfl
theorem dksX7_read_3 : cX7_read.data.toList.drop 71 = dktX7_read_3 := dk_seg dksX7_read_2 23 rfl rfl
theorem dX7_read_0 : decode cX7_read 0 = .ok (.iconst 1, 1) := dk_4 (dk_at dksX7_read_0 0 rfl rfl)
theorem dX7_read_1 : decode cX7_read 1 = .ok (.istore_n 1, 1) := dk_60 (dk_at dksX7_read_0 1 rfl rfl)
theorem dX7_read_2 : decode cX7_read 2 = .ok (.iload_n 1, 1) := dk_27 (dk_at dksX7_read_0 2 rfl rfl)
theorem dX7_read_3 : decode cX7_read 3 = .ok (.ifCond .eq 51, 3) := dk_153 0 51 (dk_at dksX7_read_0 3 rfl rfl)
theorem dX7_read_6 : decode cX7_read 6 = .ok (.aload_n 0, 1) := dk_42 (dk_at dksX7_read_0 6 rfl rfl)
theorem dX7_read_7 : decode cX7_read 7 = .ok (.invokevirtual 43, 3) := dk_182 0 43 (dk_at dksX7_read_0 7 rfl rfl)
theorem dX7_read_10 : decode cX7_read 10 = .ok (.ifCond .eq 44, 3) := dk_153 0 44 (dk_at dksX7_read_0 10 rfl rfl)
theorem dX7_read_13 : decode cX7_read 13 = .ok (.aload_n 0, 1) := dk_42 (dk_at dksX7_read_0 13 rfl rfl)
theorem dX7_read_14 : decode cX7_read 14 = .ok (.invokevirtual 146, 3) := dk_182 0 146 (dk_at dksX7_read_0 14 rfl rfl)
theorem dX7_read_17 : decode cX7_read 17 = .ok (.aload_n 0, 1) := dk_42 (dk_at dksX7_read_0 17 rfl rfl)
theorem dX7_read_18 : decode cX7_read 18 = .ok (.invokevirtual 43, 3) := dk_182 0 43 (dk_at dksX7_read_0 18 rfl rfl)
theorem dX7_read_21 : decode cX7_read 21 = .ok (.ifCond .eq 18, 3) := dk_153 0 18 (dk_at dksX7_read_0 21 rfl rfl)
theorem dX7_read_24 : decode cX7_read 24 = .ok (.aload_n 0, 1) := dk_42 (dk_at dksX7_read_1 0 rfl rfl)
theorem dX7_read_25 : decode cX7_read 25 = .ok (.getfield 26, 3) := dk_180 0 26 (dk_at dksX7_read_1 1 rfl rfl)
theorem dX7_read_28 : decode cX7_read 28 = .ok (.aload_n 0, 1) := dk_42 (dk_at dksX7_read_1 4 rfl rfl)
theorem dX7_read_29 : decode cX7_read 29 = .ok (.getfield 22, 3) := dk_180 0 22 (dk_at dksX7_read_1 5 rfl rfl)
theorem dX7_read_32 : decode cX7_read 32 = .ok (.if_icmp .ge 7, 3) := dk_162 0 7 (dk_at dksX7_read_1 8 rfl rfl)
theorem dX7_read_35 : decode cX7_read 35 = .ok (.iconst 1, 1) := dk_4 (dk_at dksX7_read_1 11 rfl rfl)
theorem dX7_read_36 : decode cX7_read 36 = .ok (.goto 4, 3) := dk_167 0 4 (dk_at dksX7_read_1 12 rfl rfl)
theorem dX7_read_39 : decode cX7_read 39 = .ok (.iconst 0, 1) := dk_3 (dk_at dksX7_read_1 15 rfl rfl)
theorem dX7_read_40 : decode cX7_read 40 = .ok (.istore_n 1, 1) := dk_60 (dk_at dksX7_read_1 16 rfl rfl)
theorem dX7_read_41 : decode cX7_read 41 = .ok (.iload_n 1, 1) := dk_27 (dk_at dksX7_read_1 17 rfl rfl)
theorem dX7_read_42 : decode cX7_read 42 = .ok (.ifCond .eq (-40), 3) := dk_153 255 216 (dk_at dksX7_read_1 18 rfl rfl)
theorem dX7_read_45 : decode cX7_read 45 = .ok (.aload_n 0, 1) := dk_42 (dk_at dksX7_read_1 21 rfl rfl)
theorem dX7_read_46 : decode cX7_read 46 = .ok (.bipush 59, 2) := dk_16 59 (dk_at dksX7_read_1 22 rfl rfl)
theorem dX7_read_48 : decode cX7_read 48 = .ok (.invokevirtual 64, 3) := dk_182 0 64 (dk_at dksX7_read_2 0 rfl rfl)
theorem dX7_read_51 : decode cX7_read 51 = .ok (.goto (-49), 3) := dk_167 255 207 (dk_at dksX7_read_2 3 rfl rfl)
theorem dX7_read_54 : decode cX7_read 54 = .ok (.aload_n 0, 1) := dk_42 (dk_at dksX7_read_2 6 rfl rfl)
theorem dX7_read_55 : decode cX7_read 55 = .ok (.invokevirtual 43, 3) := dk_182 0 43 (dk_at dksX7_read_2 7 rfl rfl)
theorem dX7_read_58 : decode cX7_read 58 = .ok (.ifCond .eq 13, 3) := dk_153 0 13 (dk_at dksX7_read_2 10 rfl rfl)
theorem dX7_read_61 : decode cX7_read 61 = .ok (.aload_n 0, 1) := dk_42 (dk_at dksX7_read_2 13 rfl rfl)
theorem dX7_read_62 : decode cX7_read 62 = .ok (.getfield 18, 3) := dk_180 0 18 (dk_at dksX7_read_2 14 rfl rfl)
theorem dX7_read_65 : decode cX7_read 65 = .ok (.getfield 131, 3) := dk_180 0 131 (dk_at dksX7_read_2 17 rfl rfl)
theorem dX7_read_68 : decode cX7_read 68 = .ok (.goto 16, 3) := dk_167 0 16 (dk_at dksX7_read_2 20 rfl rfl)
theorem dX7_read_71 : decode cX7_read 71 = .ok (.sipush (-1000), 3) := dk_17 252 24 (dk_at dksX7_read_3 0 rfl rfl)
theorem dX7_read_74 : decode cX7_read 74 = .ok (.aload_n 0, 1) := dk_42 (dk_at dksX7_read_3 3 rfl rfl)
theorem dX7_read_75 : decode cX7_read 75 = .ok (.getfield 33, 3) := dk_180 0 33 (dk_at dksX7_read_3 4 rfl rfl)
theorem dX7_read_78 : decode cX7_read 78 = .ok (.imul, 1) := dk_104 (dk_at dksX7_read_3 7 rfl rfl)
theorem dX7_read_79 : decode cX7_read 79 = .ok (.aload_n 0, 1) := dk_42 (dk_at dksX7_read_3 8 rfl rfl)
theorem dX7_read_80 : decode cX7_read 80 = .ok (.getfield 36, 3) := dk_180 0 36 (dk_at dksX7_read_3 9 rfl rfl)
theorem dX7_read_83 : decode cX7_read 83 = .ok (.isub, 1) := dk_100 (dk_at dksX7_read_3 12 rfl rfl)
theorem dX7_read_84 : decode cX7_read 84 = .ok (.ireturn, 1) := dk_172 (dk_at dksX7_read_3 13 rfl rfl)
abbrev cX7_isGood : ByteArray := prog_11_method_3_code
def yX7_isGood : MethodName := ⟨RX7, "isGood", "()Z"⟩
def dkwX7_isGood_0 : List UInt8 := [42, 180, 0, 33, 154, 0, 7, 4, 167, 0, 4, 3, 172]
abbrev dktX7_isGood_0 : List UInt8 := dkwX7_isGood_0 ++ []
theorem dksX7_isGood_0 : cX7_isGood.data.toList.drop 0 = dktX7_isGood_0 := by decide +kernel
theorem dX7_isGood_0 : decode cX7_isGood 0 = .ok (.aload_n 0, 1) := dk_42 (dk_at dksX7_isGood_0 0 rfl rfl)
theorem dX7_isGood_1 : decode cX7_isGood 1 = .ok (.getfield 33, 3) := dk_180 0 33 (dk_at dksX7_isGood_0 1 rfl rfl)
theorem dX7_isGood_4 : decode cX7_isGood 4 = .ok (.ifCond .ne 7, 3) := dk_154 0 7 (dk_at dksX7_isGood_0 4 rfl rfl)
theorem dX7_isGood_7 : decode cX7_isGood 7 = .ok (.iconst 1, 1) := dk_4 (dk_at dksX7_isGood_0 7 rfl rfl)
theorem dX7_isGood_8 : decode cX7_isGood 8 = .ok (.goto 4, 3) := dk_167 0 4 (dk_at dksX7_isGood_0 8 rfl rfl)
theorem dX7_isGood_11 : decode cX7_isGood 11 = .ok (.iconst 0, 1) := dk_3 (dk_at dksX7_isGood_0 11 rfl rfl)
theorem dX7_isGood_12 : decode cX7_isGood 12 = .ok (.ireturn, 1) := dk_172 (dk_at dksX7_isGood_0 12 rfl rfl)
abbrev cX7_clause : ByteArray := prog_11_method_15_code
def yX7_clause : MethodName := ⟨RX7, "clause", "()V"⟩
def dkwX7_clause_8 : List UInt8 := [4, 96, 181, 0, 131, 177]
abbrev dktX7_clause_8 : List UInt8 := dkwX7_clause_8 ++ []
def dkwX7_clause_7 : List UInt8 := [42, 180, 0, 18, 180, 0, 142, 42, 180, 0, 18, 180, 0, 131, 45, 83, 42, 180, 0, 18, 89, 180, 0, 131]
abbrev dktX7_clause_7 : List UInt8 := dkwX7_clause_7 ++ dktX7_clause_8
def dkwX7_clause_6 : List UInt8 := [180, 0, 18, 180, 0, 131, 27, 79, 42, 180, 0, 18, 180, 0, 138, 42, 180, 0, 18, 180, 0, 131, 44, 83]
abbrev dktX7_clause_6 : List UInt8 := dkwX7_clause_6 ++ dktX7_clause_7
def dkwX7_clause_5 : List UInt8 := [182, 0, 43, 153, 0, 10, 42, 182, 0, 110, 167, 0, 4, 1, 78, 42, 180, 0, 18, 180, 0, 134, 42]
abbrev dktX7_clause_5 : List UInt8 := dkwX7_clause_5 ++ dktX7_clause_6
def dkwX7_clause_4 : List UInt8 := [153, 0, 21, 42, 182, 0, 39, 16, 40, 159, 0, 12, 42, 4, 42, 180, 0, 26, 182, 0, 50, 42]
abbrev dktX7_clause_4 : List UInt8 := dkwX7_clause_4 ++ dktX7_clause_5
def dkwX7_clause_3 : List UInt8 := [181, 0, 54, 27, 16, 120, 160, 0, 7, 1, 167, 0, 7, 42, 182, 0, 60, 77, 42, 182, 0, 43]
abbrev dktX7_clause_3 : List UInt8 := dkwX7_clause_3 ++ dktX7_clause_4
def dkwX7_clause_2 : List UInt8 := [182, 0, 50, 42, 182, 0, 43, 154, 0, 4, 177, 42, 89, 180, 0, 26, 4, 96, 181, 0, 26, 42, 3]
abbrev dktX7_clause_2 : List UInt8 := dkwX7_clause_2 ++ dktX7_clause_3
def dkwX7_clause_1 : List UInt8 := [182, 0, 50, 167, 0, 24, 42, 180, 0, 18, 180, 0, 131, 16, 16, 160, 0, 12, 42, 7, 42, 180, 0, 26]
abbrev dktX7_clause_1 : List UInt8 := dkwX7_clause_1 ++ dktX7_clause_2
def dkwX7_clause_0 : List UInt8 := [42, 182, 0, 39, 60, 27, 153, 0, 12, 18, 129, 27, 182, 0, 77, 156, 0, 15, 42, 4, 42, 180, 0, 26]
abbrev dktX7_clause_0 : List UInt8 := dkwX7_clause_0 ++ dktX7_clause_1
theorem dksX7_clause_0 : cX7_clause.data.toList.drop 0 = dktX7_clause_0 := by decide +kernel
theorem dksX7_clause_1 : cX7_clause.data.toList.drop 24 = dktX7_clause_1 := dk_seg dksX7_clause_0 24 rfl rfl
theorem dksX7_clause_2 : cX7_clause.data.toList.drop 48 = dktX7_clause_2 := dk_seg dksX7_clause_1 24 rfl rfl
theorem dksX7_clause_3 : cX7_clause.data.toList.drop 71 = dktX7_clause_3 := dk_seg dksX7_clause_2 23 rfl rfl
theorem dksX7_clause_4 : cX7_clause.data.toList.drop 93 = dktX7_clause_4 := dk_seg dksX7_clause_3 22 rfl rfl
theorem dksX7_clause_5 : cX7_clause.data.toList.drop 115 = dktX7_clause_5 := dk_seg dksX7_clause_4 22 rfl rfl
theorem dksX7_clause_6 : cX7_clause.data.toList.drop 138 = dktX7_clause_6 := dk_seg dksX7_clause_5 23 rfl rfl
theorem dksX7_clause_7 : cX7_clause.data.toList.drop 162 = dktX7_clause_7 := dk_seg dksX7_clause_6 24 rfl rfl
theorem dksX7_clause_8 : cX7_clause.data.toList.drop 186 = dktX7_clause_8 := dk_seg dksX7_clause_7 24 rfl rfl
theorem dX7_clause_0 : decode cX7_clause 0 = .ok (.aload_n 0, 1) := dk_42 (dk_at dksX7_clause_0 0 rfl rfl)
theorem dX7_clause_1 : decode cX7_clause 1 = .ok (.invokevirtual 39, 3) := dk_182 0 39 (dk_at dksX7_clause_0 1 rfl rfl)
theorem dX7_clause_4 : decode cX7_clause 4 = .ok (.istore_n 1, 1) := dk_60 (dk_at dksX7_clause_0 4 rfl rfl)
theorem dX7_clause_5 : decode cX7_clause 5 = .ok (.iload_n 1, 1) := dk_27 (dk_at dksX7_clause_0 5 rfl rfl)
theorem dX7_clause_6 : decode cX7_clause 6 = .ok (.ifCond .eq 12, 3) := dk_153 0 12 (dk_at dksX7_clause_0 6 rfl rfl)
theorem dX7_clause_9 : decode cX7_clause 9 = .ok (.ldc 129, 2) := dk_18 129 (dk_at dksX7_clause_0 9 rfl rfl)
theorem dX7_clause_11 : decode cX7_clause 11 = .ok (.iload_n 1, 1) := dk_27 (dk_at dksX7_clause_0 11 rfl rfl)
theorem dX7_clause_12 : decode cX7_clause 12 = .ok (.invokevirtual 77, 3) := dk_182 0 77 (dk_at dksX7_clause_0 12 rfl rfl)
theorem dX7_clause_15 : decode cX7_clause 15 = .ok (.ifCond .ge 15, 3) := dk_156 0 15 (dk_at dksX7_clause_0 15 rfl rfl)
theorem dX7_clause_18 : decode cX7_clause 18 = .ok (.aload_n 0, 1) := dk_42 (dk_at dksX7_clause_0 18 rfl rfl)
theorem dX7_clause_19 : decode cX7_clause 19 = .ok (.iconst 1, 1) := dk_4 (dk_at dksX7_clause_0 19 rfl rfl)
theorem dX7_clause_20 : decode cX7_clause 20 = .ok (.aload_n 0, 1) := dk_42 (dk_at dksX7_clause_0 20 rfl rfl)
theorem dX7_clause_21 : decode cX7_clause 21 = .ok (.getfield 26, 3) := dk_180 0 26 (dk_at dksX7_clause_0 21 rfl rfl)
theorem dX7_clause_24 : decode cX7_clause 24 = .ok (.invokevirtual 50, 3) := dk_182 0 50 (dk_at dksX7_clause_1 0 rfl rfl)
theorem dX7_clause_27 : decode cX7_clause 27 = .ok (.goto 24, 3) := dk_167 0 24 (dk_at dksX7_clause_1 3 rfl rfl)
theorem dX7_clause_30 : decode cX7_clause 30 = .ok (.aload_n 0, 1) := dk_42 (dk_at dksX7_clause_1 6 rfl rfl)
theorem dX7_clause_31 : decode cX7_clause 31 = .ok (.getfield 18, 3) := dk_180 0 18 (dk_at dksX7_clause_1 7 rfl rfl)
theorem dX7_clause_34 : decode cX7_clause 34 = .ok (.getfield 131, 3) := dk_180 0 131 (dk_at dksX7_clause_1 10 rfl rfl)
theorem dX7_clause_37 : decode cX7_clause 37 = .ok (.bipush 16, 2) := dk_16 16 (dk_at dksX7_clause_1 13 rfl rfl)
theorem dX7_clause_39 : decode cX7_clause 39 = .ok (.if_icmp .ne 12, 3) := dk_160 0 12 (dk_at dksX7_clause_1 15 rfl rfl)
theorem dX7_clause_42 : decode cX7_clause 42 = .ok (.aload_n 0, 1) := dk_42 (dk_at dksX7_clause_1 18 rfl rfl)
theorem dX7_clause_43 : decode cX7_clause 43 = .ok (.iconst 4, 1) := dk_7 (dk_at dksX7_clause_1 19 rfl rfl)
theorem dX7_clause_44 : decode cX7_clause 44 = .ok (.aload_n 0, 1) := dk_42 (dk_at dksX7_clause_1 20 rfl rfl)
theorem dX7_clause_45 : decode cX7_clause 45 = .ok (.getfield 26, 3) := dk_180 0 26 (dk_at dksX7_clause_1 21 rfl rfl)
theorem dX7_clause_48 : decode cX7_clause 48 = .ok (.invokevirtual 50, 3) := dk_182 0 50 (dk_at dksX7_clause_2 0 rfl rfl)
theorem dX7_clause_51 : decode cX7_clause 51 = .ok (.aload_n 0, 1) := dk_42 (dk_at dksX7_clause_2 3 rfl rfl)
theorem dX7_clause_52 : decode cX7_clause 52 = .ok (.invokevirtual 43, 3) := dk_182 0 43 (dk_at dksX7_clause_2 4 rfl rfl)
theorem dX7_clause_55 : decode cX7_clause 55 = .ok (.ifCond .ne 4, 3) := dk_154 0 4 (dk_at dksX7_clause_2 7 rfl rfl)
theorem dX7_clause_58 : decode cX7_clause 58 = .ok (.return_, 1) := dk_177 (dk_at dksX7_clause_2 10 rfl rfl)
theorem dX7_clause_59 : decode cX7_clause 59 = .ok (.aload_n 0, 1) := dk_42 (dk_at dksX7_clause_2 11 rfl rfl)
theorem dX7_clause_60 : decode cX7_clause 60 = .ok (.dup, 1) := dk_89 (dk_at dksX7_clause_2 12 rfl rfl)
theorem dX7_clause_61 : decode cX7_clause 61 = .ok (.getfield 26, 3) := dk_180 0 26 (dk_at dksX7_clause_2 13 rfl rfl)
theorem dX7_clause_64 : decode cX7_clause 64 = .ok (.iconst 1, 1) := dk_4 (dk_at dksX7_clause_2 16 rfl rfl)
theorem dX7_clause_65 : decode cX7_clause 65 = .ok (.iadd, 1) := dk_96 (dk_at dksX7_clause_2 17 rfl rfl)
theorem dX7_clause_66 : decode cX7_clause 66 = .ok (.putfield 26, 3) := dk_181 0 26 (dk_at dksX7_clause_2 18 rfl rfl)
theorem dX7_clause_69 : decode cX7_clause 69 = .ok (.aload_n 0, 1) := dk_42 (dk_at dksX7_clause_2 21 rfl rfl)
theorem dX7_clause_70 : decode cX7_clause 70 = .ok (.iconst 0, 1) := dk_3 (dk_at dksX7_clause_2 22 rfl rfl)
theorem dX7_clause_71 : decode cX7_clause 71 = .ok (.putfield 54, 3) := dk_181 0 54 (dk_at dksX7_clause_3 0 rfl rfl)
theorem dX7_clause_74 : decode cX7_clause 74 = .ok (.iload_n 1, 1) := dk_27 (dk_at dksX7_clause_3 3 rfl rfl)
theorem dX7_clause_75 : decode cX7_clause 75 = .ok (.bipush 120, 2) := dk_16 120 (dk_at dksX7_clause_3 4 rfl rfl)
theorem dX7_clause_77 : decode cX7_clause 77 = .ok (.if_icmp .ne 7, 3) := dk_160 0 7 (dk_at dksX7_clause_3 6 rfl rfl)
theorem dX7_clause_80 : decode cX7_clause 80 = .ok (.aconst_null, 1) := dk_1 (dk_at dksX7_clause_3 9 rfl rfl)
theorem dX7_clause_81 : decode cX7_clause 81 = .ok (.goto 7, 3) := dk_167 0 7 (dk_at dksX7_clause_3 10 rfl rfl)
theorem dX7_clause_84 : decode cX7_clause 84 = .ok (.aload_n 0, 1) := dk_42 (dk_at dksX7_clause_3 13 rfl rfl)
theorem dX7_clause_85 : decode cX7_clause 85 = .ok (.invokevirtual 60, 3) := dk_182 0 60 (dk_at dksX7_clause_3 14 rfl rfl)
theorem dX7_clause_88 : decode cX7_clause 88 = .ok (.astore_n 2, 1) := dk_77 (dk_at dksX7_clause_3 17 rfl rfl)
theorem dX7_clause_89 : decode cX7_clause 89 = .ok (.aload_n 0, 1) := dk_42 (dk_at dksX7_clause_3 18 rfl rfl)
theorem dX7_clause_90 : decode cX7_clause 90 = .ok (.invokevirtual 43, 3) := dk_182 0 43 (dk_at dksX7_clause_3 19 rfl rfl)
theorem dX7_clause_93 : decode cX7_clause 93 = .ok (.ifCond .eq 21, 3) := dk_153 0 21 (dk_at dksX7_clause_4 0 rfl rfl)
theorem dX7_clause_96 : decode cX7_clause 96 = .ok (.aload_n 0, 1) := dk_42 (dk_at dksX7_clause_4 3 rfl rfl)
theorem dX7_clause_97 : decode cX7_clause 97 = .ok (.invokevirtual 39, 3) := dk_182 0 39 (dk_at dksX7_clause_4 4 rfl rfl)
theorem dX7_clause_100 : decode cX7_clause 100 = .ok (.bipush 40, 2) := dk_16 40 (dk_at dksX7_clause_4 7 rfl rfl)
theorem dX7_clause_102 : decode cX7_clause 102 = .ok (.if_icmp .eq 12, 3) := dk_159 0 12 (dk_at dksX7_clause_4 9 rfl rfl)
theorem dX7_clause_105 : decode cX7_clause 105 = .ok (.aload_n 0, 1) := dk_42 (dk_at dksX7_clause_4 12 rfl rfl)
theorem dX7_clause_106 : decode cX7_clause 106 = .ok (.iconst 1, 1) := dk_4 (dk_at dksX7_clause_4 13 rfl rfl)
theorem dX7_clause_107 : decode cX7_clause 107 = .ok (.aload_n 0, 1) := dk_42 (dk_at dksX7_clause_4 14 rfl rfl)
theorem dX7_clause_108 : decode cX7_clause 108 = .ok (.getfield 26, 3) := dk_180 0 26 (dk_at dksX7_clause_4 15 rfl rfl)
theorem dX7_clause_111 : decode cX7_clause 111 = .ok (.invokevirtual 50, 3) := dk_182 0 50 (dk_at dksX7_clause_4 18 rfl rfl)
theorem dX7_clause_114 : decode cX7_clause 114 = .ok (.aload_n 0, 1) := dk_42 (dk_at dksX7_clause_4 21 rfl rfl)
theorem dX7_clause_115 : decode cX7_clause 115 = .ok (.invokevirtual 43, 3) := dk_182 0 43 (dk_at dksX7_clause_5 0 rfl rfl)
theorem dX7_clause_118 : decode cX7_clause 118 = .ok (.ifCond .eq 10, 3) := dk_153 0 10 (dk_at dksX7_clause_5 3 rfl rfl)
theorem dX7_clause_121 : decode cX7_clause 121 = .ok (.aload_n 0, 1) := dk_42 (dk_at dksX7_clause_5 6 rfl rfl)
theorem dX7_clause_122 : decode cX7_clause 122 = .ok (.invokevirtual 110, 3) := dk_182 0 110 (dk_at dksX7_clause_5 7 rfl rfl)
theorem dX7_clause_125 : decode cX7_clause 125 = .ok (.goto 4, 3) := dk_167 0 4 (dk_at dksX7_clause_5 10 rfl rfl)
theorem dX7_clause_128 : decode cX7_clause 128 = .ok (.aconst_null, 1) := dk_1 (dk_at dksX7_clause_5 13 rfl rfl)
theorem dX7_clause_129 : decode cX7_clause 129 = .ok (.astore_n 3, 1) := dk_78 (dk_at dksX7_clause_5 14 rfl rfl)
theorem dX7_clause_130 : decode cX7_clause 130 = .ok (.aload_n 0, 1) := dk_42 (dk_at dksX7_clause_5 15 rfl rfl)
theorem dX7_clause_131 : decode cX7_clause 131 = .ok (.getfield 18, 3) := dk_180 0 18 (dk_at dksX7_clause_5 16 rfl rfl)
theorem dX7_clause_134 : decode cX7_clause 134 = .ok (.getfield 134, 3) := dk_180 0 134 (dk_at dksX7_clause_5 19 rfl rfl)
theorem dX7_clause_137 : decode cX7_clause 137 = .ok (.aload_n 0, 1) := dk_42 (dk_at dksX7_clause_5 22 rfl rfl)
theorem dX7_clause_138 : decode cX7_clause 138 = .ok (.getfield 18, 3) := dk_180 0 18 (dk_at dksX7_clause_6 0 rfl rfl)
theorem dX7_clause_141 : decode cX7_clause 141 = .ok (.getfield 131, 3) := dk_180 0 131 (dk_at dksX7_clause_6 3 rfl rfl)
theorem dX7_clause_144 : decode cX7_clause 144 = .ok (.iload_n 1, 1) := dk_27 (dk_at dksX7_clause_6 6 rfl rfl)
theorem dX7_clause_145 : decode cX7_clause 145 = .ok (.iastore, 1) := dk_79 (dk_at dksX7_clause_6 7 rfl rfl)
theorem dX7_clause_146 : decode cX7_clause 146 = .ok (.aload_n 0, 1) := dk_42 (dk_at dksX7_clause_6 8 rfl rfl)
theorem dX7_clause_147 : decode cX7_clause 147 = .ok (.getfield 18, 3) := dk_180 0 18 (dk_at dksX7_clause_6 9 rfl rfl)
theorem dX7_clause_150 : decode cX7_clause 150 = .ok (.getfield 138, 3) := dk_180 0 138 (dk_at dksX7_clause_6 12 rfl rfl)
theorem dX7_clause_153 : decode cX7_clause 153 = .ok (.aload_n 0, 1) := dk_42 (dk_at dksX7_clause_6 15 rfl rfl)
theorem dX7_clause_154 : decode cX7_clause 154 = .ok (.getfield 18, 3) := dk_180 0 18 (dk_at dksX7_clause_6 16 rfl rfl)
theorem dX7_clause_157 : decode cX7_clause 157 = .ok (.getfield 131, 3) := dk_180 0 131 (dk_at dksX7_clause_6 19 rfl rfl)
theorem dX7_clause_160 : decode cX7_clause 160 = .ok (.aload_n 2, 1) := dk_44 (dk_at dksX7_clause_6 22 rfl rfl)
theorem dX7_clause_161 : decode cX7_clause 161 = .ok (.aastore, 1) := dk_83 (dk_at dksX7_clause_6 23 rfl rfl)
theorem dX7_clause_162 : decode cX7_clause 162 = .ok (.aload_n 0, 1) := dk_42 (dk_at dksX7_clause_7 0 rfl rfl)
theorem dX7_clause_163 : decode cX7_clause 163 = .ok (.getfield 18, 3) := dk_180 0 18 (dk_at dksX7_clause_7 1 rfl rfl)
theorem dX7_clause_166 : decode cX7_clause 166 = .ok (.getfield 142, 3) := dk_180 0 142 (dk_at dksX7_clause_7 4 rfl rfl)
theorem dX7_clause_169 : decode cX7_clause 169 = .ok (.aload_n 0, 1) := dk_42 (dk_at dksX7_clause_7 7 rfl rfl)
theorem dX7_clause_170 : decode cX7_clause 170 = .ok (.getfield 18, 3) := dk_180 0 18 (dk_at dksX7_clause_7 8 rfl rfl)
theorem dX7_clause_173 : decode cX7_clause 173 = .ok (.getfield 131, 3) := dk_180 0 131 (dk_at dksX7_clause_7 11 rfl rfl)
theorem dX7_clause_176 : decode cX7_clause 176 = .ok (.aload_n 3, 1) := dk_45 (dk_at dksX7_clause_7 14 rfl rfl)
theorem dX7_clause_177 : decode cX7_clause 177 = .ok (.aastore, 1) := dk_83 (dk_at dksX7_clause_7 15 rfl rfl)
theorem dX7_clause_178 : decode cX7_clause 178 = .ok (.aload_n 0, 1) := dk_42 (dk_at dksX7_clause_7 16 rfl rfl)
theorem dX7_clause_179 : decode cX7_clause 179 = .ok (.getfield 18, 3) := dk_180 0 18 (dk_at dksX7_clause_7 17 rfl rfl)
theorem dX7_clause_182 : decode cX7_clause 182 = .ok (.dup, 1) := dk_89 (dk_at dksX7_clause_7 20 rfl rfl)
theorem dX7_clause_183 : decode cX7_clause 183 = .ok (.getfield 131, 3) := dk_180 0 131 (dk_at dksX7_clause_7 21 rfl rfl)
theorem dX7_clause_186 : decode cX7_clause 186 = .ok (.iconst 1, 1) := dk_4 (dk_at dksX7_clause_8 0 rfl rfl)
theorem dX7_clause_187 : decode cX7_clause 187 = .ok (.iadd, 1) := dk_96 (dk_at dksX7_clause_8 1 rfl rfl)
theorem dX7_clause_188 : decode cX7_clause 188 = .ok (.putfield 131, 3) := dk_181 0 131 (dk_at dksX7_clause_8 2 rfl rfl)
theorem dX7_clause_191 : decode cX7_clause 191 = .ok (.return_, 1) := dk_177 (dk_at dksX7_clause_8 5 rfl rfl)
abbrev cX7_here : ByteArray := prog_11_method_2_code
def yX7_here : MethodName := ⟨RX7, "here", "()I"⟩
def dkwX7_here_1 : List UInt8 := [17, 0, 255, 126, 167, 0, 4, 3, 172]
abbrev dktX7_here_1 : List UInt8 := dkwX7_here_1 ++ []
def dkwX7_here_0 : List UInt8 := [42, 180, 0, 26, 42, 180, 0, 22, 162, 0, 22, 42, 180, 0, 3, 180, 0, 29, 42, 180, 0, 26, 51]
abbrev dktX7_here_0 : List UInt8 := dkwX7_here_0 ++ dktX7_here_1
theorem dksX7_here_0 : cX7_here.data.toList.drop 0 = dktX7_here_0 := by decide +kernel
theorem dksX7_here_1 : cX7_here.data.toList.drop 23 = dktX7_here_1 := dk_seg dksX7_here_0 23 rfl rfl
theorem dX7_here_0 : decode cX7_here 0 = .ok (.aload_n 0, 1) := dk_42 (dk_at dksX7_here_0 0 rfl rfl)
theorem dX7_here_1 : decode cX7_here 1 = .ok (.getfield 26, 3) := dk_180 0 26 (dk_at dksX7_here_0 1 rfl rfl)
theorem dX7_here_4 : decode cX7_here 4 = .ok (.aload_n 0, 1) := dk_42 (dk_at dksX7_here_0 4 rfl rfl)
theorem dX7_here_5 : decode cX7_here 5 = .ok (.getfield 22, 3) := dk_180 0 22 (dk_at dksX7_here_0 5 rfl rfl)
theorem dX7_here_8 : decode cX7_here 8 = .ok (.if_icmp .ge 22, 3) := dk_162 0 22 (dk_at dksX7_here_0 8 rfl rfl)
theorem dX7_here_11 : decode cX7_here 11 = .ok (.aload_n 0, 1) := dk_42 (dk_at dksX7_here_0 11 rfl rfl)
theorem dX7_here_12 : decode cX7_here 12 = .ok (.getfield 3, 3) := dk_180 0 3 (dk_at dksX7_here_0 12 rfl rfl)
theorem dX7_here_15 : decode cX7_here 15 = .ok (.getfield 29, 3) := dk_180 0 29 (dk_at dksX7_here_0 15 rfl rfl)
theorem dX7_here_18 : decode cX7_here 18 = .ok (.aload_n 0, 1) := dk_42 (dk_at dksX7_here_0 18 rfl rfl)
theorem dX7_here_19 : decode cX7_here 19 = .ok (.getfield 26, 3) := dk_180 0 26 (dk_at dksX7_here_0 19 rfl rfl)
theorem dX7_here_22 : decode cX7_here 22 = .ok (.baload, 1) := dk_51 (dk_at dksX7_here_0 22 rfl rfl)
theorem dX7_here_23 : decode cX7_here 23 = .ok (.sipush 255, 3) := dk_17 0 255 (dk_at dksX7_here_1 0 rfl rfl)
theorem dX7_here_26 : decode cX7_here 26 = .ok (.iand, 1) := dk_126 (dk_at dksX7_here_1 3 rfl rfl)
theorem dX7_here_27 : decode cX7_here 27 = .ok (.goto 4, 3) := dk_167 0 4 (dk_at dksX7_here_1 4 rfl rfl)
theorem dX7_here_30 : decode cX7_here 30 = .ok (.iconst 0, 1) := dk_3 (dk_at dksX7_here_1 7 rfl rfl)
theorem dX7_here_31 : decode cX7_here 31 = .ok (.ireturn, 1) := dk_172 (dk_at dksX7_here_1 8 rfl rfl)
abbrev cX7_bad : ByteArray := prog_11_method_4_code
def yX7_bad : MethodName := ⟨RX7, "bad", "(II)V"⟩
def dkwX7_bad_0 : List UInt8 := [42, 180, 0, 33, 158, 0, 4, 177, 42, 27, 181, 0, 33, 42, 28, 181, 0, 36, 177]
abbrev dktX7_bad_0 : List UInt8 := dkwX7_bad_0 ++ []
theorem dksX7_bad_0 : cX7_bad.data.toList.drop 0 = dktX7_bad_0 := by decide +kernel
theorem dX7_bad_0 : decode cX7_bad 0 = .ok (.aload_n 0, 1) := dk_42 (dk_at dksX7_bad_0 0 rfl rfl)
theorem dX7_bad_1 : decode cX7_bad 1 = .ok (.getfield 33, 3) := dk_180 0 33 (dk_at dksX7_bad_0 1 rfl rfl)
theorem dX7_bad_4 : decode cX7_bad 4 = .ok (.ifCond .le 4, 3) := dk_158 0 4 (dk_at dksX7_bad_0 4 rfl rfl)
theorem dX7_bad_7 : decode cX7_bad 7 = .ok (.return_, 1) := dk_177 (dk_at dksX7_bad_0 7 rfl rfl)
theorem dX7_bad_8 : decode cX7_bad 8 = .ok (.aload_n 0, 1) := dk_42 (dk_at dksX7_bad_0 8 rfl rfl)
theorem dX7_bad_9 : decode cX7_bad 9 = .ok (.iload_n 1, 1) := dk_27 (dk_at dksX7_bad_0 9 rfl rfl)
theorem dX7_bad_10 : decode cX7_bad 10 = .ok (.putfield 33, 3) := dk_181 0 33 (dk_at dksX7_bad_0 10 rfl rfl)
theorem dX7_bad_13 : decode cX7_bad 13 = .ok (.aload_n 0, 1) := dk_42 (dk_at dksX7_bad_0 13 rfl rfl)
theorem dX7_bad_14 : decode cX7_bad 14 = .ok (.iload_n 2, 1) := dk_28 (dk_at dksX7_bad_0 14 rfl rfl)
theorem dX7_bad_15 : decode cX7_bad 15 = .ok (.putfield 36, 3) := dk_181 0 36 (dk_at dksX7_bad_0 15 rfl rfl)
theorem dX7_bad_18 : decode cX7_bad 18 = .ok (.return_, 1) := dk_177 (dk_at dksX7_bad_0 18 rfl rfl)
abbrev cX7_sum : ByteArray := prog_11_method_11_code
def yX7_sum : MethodName := ⟨RX7, "sum", "()LSharedWindow$Sum;"⟩
def dkwX7_sum_3 : List UInt8 := [44, 180, 0, 94, 77, 167, 255, 195, 43, 176]
abbrev dktX7_sum_3 : List UInt8 := dkwX7_sum_3 ++ []
def dkwX7_sum_2 : List UInt8 := [180, 0, 26, 4, 96, 181, 0, 26, 44, 187, 0, 86, 89, 29, 42, 182, 0, 98, 183, 0, 91, 181, 0, 94]
abbrev dktX7_sum_2 : List UInt8 := dkwX7_sum_2 ++ dktX7_sum_3
def dkwX7_sum_1 : List UInt8 := [182, 0, 39, 16, 43, 159, 0, 12, 42, 182, 0, 39, 16, 45, 160, 0, 42, 42, 182, 0, 39, 62, 42, 89]
abbrev dktX7_sum_1 : List UInt8 := dkwX7_sum_1 ++ dktX7_sum_2
def dkwX7_sum_0 : List UInt8 := [187, 0, 86, 89, 3, 42, 182, 0, 98, 183, 0, 91, 76, 43, 77, 42, 182, 0, 43, 153, 0, 60, 42]
abbrev dktX7_sum_0 : List UInt8 := dkwX7_sum_0 ++ dktX7_sum_1
theorem dksX7_sum_0 : cX7_sum.data.toList.drop 0 = dktX7_sum_0 := by decide +kernel
theorem dksX7_sum_1 : cX7_sum.data.toList.drop 23 = dktX7_sum_1 := dk_seg dksX7_sum_0 23 rfl rfl
theorem dksX7_sum_2 : cX7_sum.data.toList.drop 47 = dktX7_sum_2 := dk_seg dksX7_sum_1 24 rfl rfl
theorem dksX7_sum_3 : cX7_sum.data.toList.drop 71 = dktX7_sum_3 := dk_seg dksX7_sum_2 24 rfl rfl
theorem dX7_sum_0 : decode cX7_sum 0 = .ok (.new 86, 3) := dk_187 0 86 (dk_at dksX7_sum_0 0 rfl rfl)
theorem dX7_sum_3 : decode cX7_sum 3 = .ok (.dup, 1) := dk_89 (dk_at dksX7_sum_0 3 rfl rfl)
theorem dX7_sum_4 : decode cX7_sum 4 = .ok (.iconst 0, 1) := dk_3 (dk_at dksX7_sum_0 4 rfl rfl)
theorem dX7_sum_5 : decode cX7_sum 5 = .ok (.aload_n 0, 1) := dk_42 (dk_at dksX7_sum_0 5 rfl rfl)
theorem dX7_sum_6 : decode cX7_sum 6 = .ok (.invokevirtual 98, 3) := dk_182 0 98 (dk_at dksX7_sum_0 6 rfl rfl)
theorem dX7_sum_9 : decode cX7_sum 9 = .ok (.invokespecial 91, 3) := dk_183 0 91 (dk_at dksX7_sum_0 9 rfl rfl)
theorem dX7_sum_12 : decode cX7_sum 12 = .ok (.astore_n 1, 1) := dk_76 (dk_at dksX7_sum_0 12 rfl rfl)
theorem dX7_sum_13 : decode cX7_sum 13 = .ok (.aload_n 1, 1) := dk_43 (dk_at dksX7_sum_0 13 rfl rfl)
theorem dX7_sum_14 : decode cX7_sum 14 = .ok (.astore_n 2, 1) := dk_77 (dk_at dksX7_sum_0 14 rfl rfl)
theorem dX7_sum_15 : decode cX7_sum 15 = .ok (.aload_n 0, 1) := dk_42 (dk_at dksX7_sum_0 15 rfl rfl)
theorem dX7_sum_16 : decode cX7_sum 16 = .ok (.invokevirtual 43, 3) := dk_182 0 43 (dk_at dksX7_sum_0 16 rfl rfl)
theorem dX7_sum_19 : decode cX7_sum 19 = .ok (.ifCond .eq 60, 3) := dk_153 0 60 (dk_at dksX7_sum_0 19 rfl rfl)
theorem dX7_sum_22 : decode cX7_sum 22 = .ok (.aload_n 0, 1) := dk_42 (dk_at dksX7_sum_0 22 rfl rfl)
theorem dX7_sum_23 : decode cX7_sum 23 = .ok (.invokevirtual 39, 3) := dk_182 0 39 (dk_at dksX7_sum_1 0 rfl rfl)
theorem dX7_sum_26 : decode cX7_sum 26 = .ok (.bipush 43, 2) := dk_16 43 (dk_at dksX7_sum_1 3 rfl rfl)
theorem dX7_sum_28 : decode cX7_sum 28 = .ok (.if_icmp .eq 12, 3) := dk_159 0 12 (dk_at dksX7_sum_1 5 rfl rfl)
theorem dX7_sum_31 : decode cX7_sum 31 = .ok (.aload_n 0, 1) := dk_42 (dk_at dksX7_sum_1 8 rfl rfl)
theorem dX7_sum_32 : decode cX7_sum 32 = .ok (.invokevirtual 39, 3) := dk_182 0 39 (dk_at dksX7_sum_1 9 rfl rfl)
theorem dX7_sum_35 : decode cX7_sum 35 = .ok (.bipush 45, 2) := dk_16 45 (dk_at dksX7_sum_1 12 rfl rfl)
theorem dX7_sum_37 : decode cX7_sum 37 = .ok (.if_icmp .ne 42, 3) := dk_160 0 42 (dk_at dksX7_sum_1 14 rfl rfl)
theorem dX7_sum_40 : decode cX7_sum 40 = .ok (.aload_n 0, 1) := dk_42 (dk_at dksX7_sum_1 17 rfl rfl)
theorem dX7_sum_41 : decode cX7_sum 41 = .ok (.invokevirtual 39, 3) := dk_182 0 39 (dk_at dksX7_sum_1 18 rfl rfl)
theorem dX7_sum_44 : decode cX7_sum 44 = .ok (.istore_n 3, 1) := dk_62 (dk_at dksX7_sum_1 21 rfl rfl)
theorem dX7_sum_45 : decode cX7_sum 45 = .ok (.aload_n 0, 1) := dk_42 (dk_at dksX7_sum_1 22 rfl rfl)
theorem dX7_sum_46 : decode cX7_sum 46 = .ok (.dup, 1) := dk_89 (dk_at dksX7_sum_1 23 rfl rfl)
theorem dX7_sum_47 : decode cX7_sum 47 = .ok (.getfield 26, 3) := dk_180 0 26 (dk_at dksX7_sum_2 0 rfl rfl)
theorem dX7_sum_50 : decode cX7_sum 50 = .ok (.iconst 1, 1) := dk_4 (dk_at dksX7_sum_2 3 rfl rfl)
theorem dX7_sum_51 : decode cX7_sum 51 = .ok (.iadd, 1) := dk_96 (dk_at dksX7_sum_2 4 rfl rfl)
theorem dX7_sum_52 : decode cX7_sum 52 = .ok (.putfield 26, 3) := dk_181 0 26 (dk_at dksX7_sum_2 5 rfl rfl)
theorem dX7_sum_55 : decode cX7_sum 55 = .ok (.aload_n 2, 1) := dk_44 (dk_at dksX7_sum_2 8 rfl rfl)
theorem dX7_sum_56 : decode cX7_sum 56 = .ok (.new 86, 3) := dk_187 0 86 (dk_at dksX7_sum_2 9 rfl rfl)
theorem dX7_sum_59 : decode cX7_sum 59 = .ok (.dup, 1) := dk_89 (dk_at dksX7_sum_2 12 rfl rfl)
theorem dX7_sum_60 : decode cX7_sum 60 = .ok (.iload_n 3, 1) := dk_29 (dk_at dksX7_sum_2 13 rfl rfl)
theorem dX7_sum_61 : decode cX7_sum 61 = .ok (.aload_n 0, 1) := dk_42 (dk_at dksX7_sum_2 14 rfl rfl)
theorem dX7_sum_62 : decode cX7_sum 62 = .ok (.invokevirtual 98, 3) := dk_182 0 98 (dk_at dksX7_sum_2 15 rfl rfl)
theorem dX7_sum_65 : decode cX7_sum 65 = .ok (.invokespecial 91, 3) := dk_183 0 91 (dk_at dksX7_sum_2 18 rfl rfl)
theorem dX7_sum_68 : decode cX7_sum 68 = .ok (.putfield 94, 3) := dk_181 0 94 (dk_at dksX7_sum_2 21 rfl rfl)
theorem dX7_sum_71 : decode cX7_sum 71 = .ok (.aload_n 2, 1) := dk_44 (dk_at dksX7_sum_3 0 rfl rfl)
theorem dX7_sum_72 : decode cX7_sum 72 = .ok (.getfield 94, 3) := dk_180 0 94 (dk_at dksX7_sum_3 1 rfl rfl)
theorem dX7_sum_75 : decode cX7_sum 75 = .ok (.astore_n 2, 1) := dk_77 (dk_at dksX7_sum_3 4 rfl rfl)
theorem dX7_sum_76 : decode cX7_sum 76 = .ok (.goto (-61), 3) := dk_167 255 195 (dk_at dksX7_sum_3 5 rfl rfl)
theorem dX7_sum_79 : decode cX7_sum 79 = .ok (.aload_n 1, 1) := dk_43 (dk_at dksX7_sum_3 8 rfl rfl)
theorem dX7_sum_80 : decode cX7_sum 80 = .ok (.areturn, 1) := dk_176 (dk_at dksX7_sum_3 9 rfl rfl)
abbrev cX7_product : ByteArray := prog_11_method_10_code
def yX7_product : MethodName := ⟨RX7, "product", "()LSharedWindow$Sum;"⟩
def dkwX7_product_3 : List UInt8 := [42, 182, 0, 88, 183, 0, 91, 181, 0, 94, 44, 180, 0, 94, 77, 167, 255, 186, 43, 176]
abbrev dktX7_product_3 : List UInt8 := dkwX7_product_3 ++ []
def dkwX7_product_2 : List UInt8 := [160, 0, 42, 42, 182, 0, 39, 62, 42, 89, 180, 0, 26, 4, 96, 181, 0, 26, 44, 187, 0, 86, 89, 29]
abbrev dktX7_product_2 : List UInt8 := dkwX7_product_2 ++ dktX7_product_3
def dkwX7_product_1 : List UInt8 := [182, 0, 39, 16, 42, 159, 0, 21, 42, 182, 0, 39, 16, 47, 159, 0, 12, 42, 182, 0, 39, 16, 37]
abbrev dktX7_product_1 : List UInt8 := dkwX7_product_1 ++ dktX7_product_2
def dkwX7_product_0 : List UInt8 := [187, 0, 86, 89, 3, 42, 182, 0, 88, 183, 0, 91, 76, 43, 77, 42, 182, 0, 43, 153, 0, 69, 42]
abbrev dktX7_product_0 : List UInt8 := dkwX7_product_0 ++ dktX7_product_1
theorem dksX7_product_0 : cX7_product.data.toList.drop 0 = dktX7_product_0 := by decide +kernel
theorem dksX7_product_1 : cX7_product.data.toList.drop 23 = dktX7_product_1 := dk_seg dksX7_product_0 23 rfl rfl
theorem dksX7_product_2 : cX7_product.data.toList.drop 46 = dktX7_product_2 := dk_seg dksX7_product_1 23 rfl rfl
theorem dksX7_product_3 : cX7_product.data.toList.drop 70 = dktX7_product_3 := dk_seg dksX7_product_2 24 rfl rfl
theorem dX7_product_0 : decode cX7_product 0 = .ok (.new 86, 3) := dk_187 0 86 (dk_at dksX7_product_0 0 rfl rfl)
theorem dX7_product_3 : decode cX7_product 3 = .ok (.dup, 1) := dk_89 (dk_at dksX7_product_0 3 rfl rfl)
theorem dX7_product_4 : decode cX7_product 4 = .ok (.iconst 0, 1) := dk_3 (dk_at dksX7_product_0 4 rfl rfl)
theorem dX7_product_5 : decode cX7_product 5 = .ok (.aload_n 0, 1) := dk_42 (dk_at dksX7_product_0 5 rfl rfl)
theorem dX7_product_6 : decode cX7_product 6 = .ok (.invokevirtual 88, 3) := dk_182 0 88 (dk_at dksX7_product_0 6 rfl rfl)
theorem dX7_product_9 : decode cX7_product 9 = .ok (.invokespecial 91, 3) := dk_183 0 91 (dk_at dksX7_product_0 9 rfl rfl)
theorem dX7_product_12 : decode cX7_product 12 = .ok (.astore_n 1, 1) := dk_76 (dk_at dksX7_product_0 12 rfl rfl)
theorem dX7_product_13 : decode cX7_product 13 = .ok (.aload_n 1, 1) := dk_43 (dk_at dksX7_product_0 13 rfl rfl)
theorem dX7_product_14 : decode cX7_product 14 = .ok (.astore_n 2, 1) := dk_77 (dk_at dksX7_product_0 14 rfl rfl)
theorem dX7_product_15 : decode cX7_product 15 = .ok (.aload_n 0, 1) := dk_42 (dk_at dksX7_product_0 15 rfl rfl)
theorem dX7_product_16 : decode cX7_product 16 = .ok (.invokevirtual 43, 3) := dk_182 0 43 (dk_at dksX7_product_0 16 rfl rfl)
theorem dX7_product_19 : decode cX7_product 19 = .ok (.ifCond .eq 69, 3) := dk_153 0 69 (dk_at dksX7_product_0 19 rfl rfl)
theorem dX7_product_22 : decode cX7_product 22 = .ok (.aload_n 0, 1) := dk_42 (dk_at dksX7_product_0 22 rfl rfl)
theorem dX7_product_23 : decode cX7_product 23 = .ok (.invokevirtual 39, 3) := dk_182 0 39 (dk_at dksX7_product_1 0 rfl rfl)
theorem dX7_product_26 : decode cX7_product 26 = .ok (.bipush 42, 2) := dk_16 42 (dk_at dksX7_product_1 3 rfl rfl)
theorem dX7_product_28 : decode cX7_product 28 = .ok (.if_icmp .eq 21, 3) := dk_159 0 21 (dk_at dksX7_product_1 5 rfl rfl)
theorem dX7_product_31 : decode cX7_product 31 = .ok (.aload_n 0, 1) := dk_42 (dk_at dksX7_product_1 8 rfl rfl)
theorem dX7_product_32 : decode cX7_product 32 = .ok (.invokevirtual 39, 3) := dk_182 0 39 (dk_at dksX7_product_1 9 rfl rfl)
theorem dX7_product_35 : decode cX7_product 35 = .ok (.bipush 47, 2) := dk_16 47 (dk_at dksX7_product_1 12 rfl rfl)
theorem dX7_product_37 : decode cX7_product 37 = .ok (.if_icmp .eq 12, 3) := dk_159 0 12 (dk_at dksX7_product_1 14 rfl rfl)
theorem dX7_product_40 : decode cX7_product 40 = .ok (.aload_n 0, 1) := dk_42 (dk_at dksX7_product_1 17 rfl rfl)
theorem dX7_product_41 : decode cX7_product 41 = .ok (.invokevirtual 39, 3) := dk_182 0 39 (dk_at dksX7_product_1 18 rfl rfl)
theorem dX7_product_44 : decode cX7_product 44 = .ok (.bipush 37, 2) := dk_16 37 (dk_at dksX7_product_1 21 rfl rfl)
theorem dX7_product_46 : decode cX7_product 46 = .ok (.if_icmp .ne 42, 3) := dk_160 0 42 (dk_at dksX7_product_2 0 rfl rfl)
theorem dX7_product_49 : decode cX7_product 49 = .ok (.aload_n 0, 1) := dk_42 (dk_at dksX7_product_2 3 rfl rfl)
theorem dX7_product_50 : decode cX7_product 50 = .ok (.invokevirtual 39, 3) := dk_182 0 39 (dk_at dksX7_product_2 4 rfl rfl)
theorem dX7_product_53 : decode cX7_product 53 = .ok (.istore_n 3, 1) := dk_62 (dk_at dksX7_product_2 7 rfl rfl)
theorem dX7_product_54 : decode cX7_product 54 = .ok (.aload_n 0, 1) := dk_42 (dk_at dksX7_product_2 8 rfl rfl)
theorem dX7_product_55 : decode cX7_product 55 = .ok (.dup, 1) := dk_89 (dk_at dksX7_product_2 9 rfl rfl)
theorem dX7_product_56 : decode cX7_product 56 = .ok (.getfield 26, 3) := dk_180 0 26 (dk_at dksX7_product_2 10 rfl rfl)
theorem dX7_product_59 : decode cX7_product 59 = .ok (.iconst 1, 1) := dk_4 (dk_at dksX7_product_2 13 rfl rfl)
theorem dX7_product_60 : decode cX7_product 60 = .ok (.iadd, 1) := dk_96 (dk_at dksX7_product_2 14 rfl rfl)
theorem dX7_product_61 : decode cX7_product 61 = .ok (.putfield 26, 3) := dk_181 0 26 (dk_at dksX7_product_2 15 rfl rfl)
theorem dX7_product_64 : decode cX7_product 64 = .ok (.aload_n 2, 1) := dk_44 (dk_at dksX7_product_2 18 rfl rfl)
theorem dX7_product_65 : decode cX7_product 65 = .ok (.new 86, 3) := dk_187 0 86 (dk_at dksX7_product_2 19 rfl rfl)
theorem dX7_product_68 : decode cX7_product 68 = .ok (.dup, 1) := dk_89 (dk_at dksX7_product_2 22 rfl rfl)
theorem dX7_product_69 : decode cX7_product 69 = .ok (.iload_n 3, 1) := dk_29 (dk_at dksX7_product_2 23 rfl rfl)
theorem dX7_product_70 : decode cX7_product 70 = .ok (.aload_n 0, 1) := dk_42 (dk_at dksX7_product_3 0 rfl rfl)
theorem dX7_product_71 : decode cX7_product 71 = .ok (.invokevirtual 88, 3) := dk_182 0 88 (dk_at dksX7_product_3 1 rfl rfl)
theorem dX7_product_74 : decode cX7_product 74 = .ok (.invokespecial 91, 3) := dk_183 0 91 (dk_at dksX7_product_3 4 rfl rfl)
theorem dX7_product_77 : decode cX7_product 77 = .ok (.putfield 94, 3) := dk_181 0 94 (dk_at dksX7_product_3 7 rfl rfl)
theorem dX7_product_80 : decode cX7_product 80 = .ok (.aload_n 2, 1) := dk_44 (dk_at dksX7_product_3 10 rfl rfl)
theorem dX7_product_81 : decode cX7_product 81 = .ok (.getfield 94, 3) := dk_180 0 94 (dk_at dksX7_product_3 11 rfl rfl)
theorem dX7_product_84 : decode cX7_product 84 = .ok (.astore_n 2, 1) := dk_77 (dk_at dksX7_product_3 14 rfl rfl)
theorem dX7_product_85 : decode cX7_product 85 = .ok (.goto (-70), 3) := dk_167 255 186 (dk_at dksX7_product_3 15 rfl rfl)
theorem dX7_product_88 : decode cX7_product 88 = .ok (.aload_n 1, 1) := dk_43 (dk_at dksX7_product_3 18 rfl rfl)
theorem dX7_product_89 : decode cX7_product 89 = .ok (.areturn, 1) := dk_176 (dk_at dksX7_product_3 19 rfl rfl)
abbrev cX7_factor : ByteArray := prog_11_method_9_code
def yX7_factor : MethodName := ⟨RX7, "factor", "()LSharedWindow$Sum;"⟩
def dkwX7_factor_5 : List UInt8 := [176]
abbrev dktX7_factor_5 : List UInt8 := dkwX7_factor_5 ++ []
def dkwX7_factor_4 : List UInt8 := [180, 0, 26, 182, 0, 50, 42, 89, 180, 0, 26, 4, 96, 181, 0, 26, 187, 0, 83, 89, 27, 183, 0, 85]
abbrev dktX7_factor_4 : List UInt8 := dkwX7_factor_4 ++ dktX7_factor_5
def dkwX7_factor_3 : List UInt8 := [182, 0, 70, 183, 0, 73, 176, 27, 153, 0, 12, 18, 75, 27, 182, 0, 77, 156, 0, 12, 42, 4, 42]
abbrev dktX7_factor_3 : List UInt8 := dkwX7_factor_3 ++ dktX7_factor_4
def dkwX7_factor_2 : List UInt8 := [180, 0, 54, 4, 100, 181, 0, 54, 44, 176, 42, 182, 0, 47, 153, 0, 15, 187, 0, 68, 89, 42]
abbrev dktX7_factor_2 : List UInt8 := dkwX7_factor_2 ++ dktX7_factor_3
def dkwX7_factor_1 : List UInt8 := [182, 0, 60, 167, 0, 4, 1, 77, 42, 182, 0, 43, 153, 0, 9, 42, 16, 93, 182, 0, 64, 42, 89]
abbrev dktX7_factor_1 : List UInt8 := dkwX7_factor_1 ++ dktX7_factor_2
def dkwX7_factor_0 : List UInt8 := [42, 182, 0, 39, 60, 27, 16, 91, 160, 0, 48, 42, 182, 0, 57, 42, 182, 0, 43, 153, 0, 10, 42]
abbrev dktX7_factor_0 : List UInt8 := dkwX7_factor_0 ++ dktX7_factor_1
theorem dksX7_factor_0 : cX7_factor.data.toList.drop 0 = dktX7_factor_0 := by decide +kernel
theorem dksX7_factor_1 : cX7_factor.data.toList.drop 23 = dktX7_factor_1 := dk_seg dksX7_factor_0 23 rfl rfl
theorem dksX7_factor_2 : cX7_factor.data.toList.drop 46 = dktX7_factor_2 := dk_seg dksX7_factor_1 23 rfl rfl
theorem dksX7_factor_3 : cX7_factor.data.toList.drop 68 = dktX7_factor_3 := dk_seg dksX7_factor_2 22 rfl rfl
theorem dksX7_factor_4 : cX7_factor.data.toList.drop 91 = dktX7_factor_4 := dk_seg dksX7_factor_3 23 rfl rfl
theorem dksX7_factor_5 : cX7_factor.data.toList.drop 115 = dktX7_factor_5 := dk_seg dksX7_factor_4 24 rfl rfl
theorem dX7_factor_0 : decode cX7_factor 0 = .ok (.aload_n 0, 1) := dk_42 (dk_at dksX7_factor_0 0 rfl rfl)
theorem dX7_factor_1 : decode cX7_factor 1 = .ok (.invokevirtual 39, 3) := dk_182 0 39 (dk_at dksX7_factor_0 1 rfl rfl)
theorem dX7_factor_4 : decode cX7_factor 4 = .ok (.istore_n 1, 1) := dk_60 (dk_at dksX7_factor_0 4 rfl rfl)
theorem dX7_factor_5 : decode cX7_factor 5 = .ok (.iload_n 1, 1) := dk_27 (dk_at dksX7_factor_0 5 rfl rfl)
theorem dX7_factor_6 : decode cX7_factor 6 = .ok (.bipush 91, 2) := dk_16 91 (dk_at dksX7_factor_0 6 rfl rfl)
theorem dX7_factor_8 : decode cX7_factor 8 = .ok (.if_icmp .ne 48, 3) := dk_160 0 48 (dk_at dksX7_factor_0 8 rfl rfl)
theorem dX7_factor_11 : decode cX7_factor 11 = .ok (.aload_n 0, 1) := dk_42 (dk_at dksX7_factor_0 11 rfl rfl)
theorem dX7_factor_12 : decode cX7_factor 12 = .ok (.invokevirtual 57, 3) := dk_182 0 57 (dk_at dksX7_factor_0 12 rfl rfl)
theorem dX7_factor_15 : decode cX7_factor 15 = .ok (.aload_n 0, 1) := dk_42 (dk_at dksX7_factor_0 15 rfl rfl)
theorem dX7_factor_16 : decode cX7_factor 16 = .ok (.invokevirtual 43, 3) := dk_182 0 43 (dk_at dksX7_factor_0 16 rfl rfl)
theorem dX7_factor_19 : decode cX7_factor 19 = .ok (.ifCond .eq 10, 3) := dk_153 0 10 (dk_at dksX7_factor_0 19 rfl rfl)
theorem dX7_factor_22 : decode cX7_factor 22 = .ok (.aload_n 0, 1) := dk_42 (dk_at dksX7_factor_0 22 rfl rfl)
theorem dX7_factor_23 : decode cX7_factor 23 = .ok (.invokevirtual 60, 3) := dk_182 0 60 (dk_at dksX7_factor_1 0 rfl rfl)
theorem dX7_factor_26 : decode cX7_factor 26 = .ok (.goto 4, 3) := dk_167 0 4 (dk_at dksX7_factor_1 3 rfl rfl)
theorem dX7_factor_29 : decode cX7_factor 29 = .ok (.aconst_null, 1) := dk_1 (dk_at dksX7_factor_1 6 rfl rfl)
theorem dX7_factor_30 : decode cX7_factor 30 = .ok (.astore_n 2, 1) := dk_77 (dk_at dksX7_factor_1 7 rfl rfl)
theorem dX7_factor_31 : decode cX7_factor 31 = .ok (.aload_n 0, 1) := dk_42 (dk_at dksX7_factor_1 8 rfl rfl)
theorem dX7_factor_32 : decode cX7_factor 32 = .ok (.invokevirtual 43, 3) := dk_182 0 43 (dk_at dksX7_factor_1 9 rfl rfl)
theorem dX7_factor_35 : decode cX7_factor 35 = .ok (.ifCond .eq 9, 3) := dk_153 0 9 (dk_at dksX7_factor_1 12 rfl rfl)
theorem dX7_factor_38 : decode cX7_factor 38 = .ok (.aload_n 0, 1) := dk_42 (dk_at dksX7_factor_1 15 rfl rfl)
theorem dX7_factor_39 : decode cX7_factor 39 = .ok (.bipush 93, 2) := dk_16 93 (dk_at dksX7_factor_1 16 rfl rfl)
theorem dX7_factor_41 : decode cX7_factor 41 = .ok (.invokevirtual 64, 3) := dk_182 0 64 (dk_at dksX7_factor_1 18 rfl rfl)
theorem dX7_factor_44 : decode cX7_factor 44 = .ok (.aload_n 0, 1) := dk_42 (dk_at dksX7_factor_1 21 rfl rfl)
theorem dX7_factor_45 : decode cX7_factor 45 = .ok (.dup, 1) := dk_89 (dk_at dksX7_factor_1 22 rfl rfl)
theorem dX7_factor_46 : decode cX7_factor 46 = .ok (.getfield 54, 3) := dk_180 0 54 (dk_at dksX7_factor_2 0 rfl rfl)
theorem dX7_factor_49 : decode cX7_factor 49 = .ok (.iconst 1, 1) := dk_4 (dk_at dksX7_factor_2 3 rfl rfl)
theorem dX7_factor_50 : decode cX7_factor 50 = .ok (.isub, 1) := dk_100 (dk_at dksX7_factor_2 4 rfl rfl)
theorem dX7_factor_51 : decode cX7_factor 51 = .ok (.putfield 54, 3) := dk_181 0 54 (dk_at dksX7_factor_2 5 rfl rfl)
theorem dX7_factor_54 : decode cX7_factor 54 = .ok (.aload_n 2, 1) := dk_44 (dk_at dksX7_factor_2 8 rfl rfl)
theorem dX7_factor_55 : decode cX7_factor 55 = .ok (.areturn, 1) := dk_176 (dk_at dksX7_factor_2 9 rfl rfl)
theorem dX7_factor_56 : decode cX7_factor 56 = .ok (.aload_n 0, 1) := dk_42 (dk_at dksX7_factor_2 10 rfl rfl)
theorem dX7_factor_57 : decode cX7_factor 57 = .ok (.invokevirtual 47, 3) := dk_182 0 47 (dk_at dksX7_factor_2 11 rfl rfl)
theorem dX7_factor_60 : decode cX7_factor 60 = .ok (.ifCond .eq 15, 3) := dk_153 0 15 (dk_at dksX7_factor_2 14 rfl rfl)
theorem dX7_factor_63 : decode cX7_factor 63 = .ok (.new 68, 3) := dk_187 0 68 (dk_at dksX7_factor_2 17 rfl rfl)
theorem dX7_factor_66 : decode cX7_factor 66 = .ok (.dup, 1) := dk_89 (dk_at dksX7_factor_2 20 rfl rfl)
theorem dX7_factor_67 : decode cX7_factor 67 = .ok (.aload_n 0, 1) := dk_42 (dk_at dksX7_factor_2 21 rfl rfl)
theorem dX7_factor_68 : decode cX7_factor 68 = .ok (.invokevirtual 70, 3) := dk_182 0 70 (dk_at dksX7_factor_3 0 rfl rfl)
theorem dX7_factor_71 : decode cX7_factor 71 = .ok (.invokespecial 73, 3) := dk_183 0 73 (dk_at dksX7_factor_3 3 rfl rfl)
theorem dX7_factor_74 : decode cX7_factor 74 = .ok (.areturn, 1) := dk_176 (dk_at dksX7_factor_3 6 rfl rfl)
theorem dX7_factor_75 : decode cX7_factor 75 = .ok (.iload_n 1, 1) := dk_27 (dk_at dksX7_factor_3 7 rfl rfl)
theorem dX7_factor_76 : decode cX7_factor 76 = .ok (.ifCond .eq 12, 3) := dk_153 0 12 (dk_at dksX7_factor_3 8 rfl rfl)
theorem dX7_factor_79 : decode cX7_factor 79 = .ok (.ldc 75, 2) := dk_18 75 (dk_at dksX7_factor_3 11 rfl rfl)
theorem dX7_factor_81 : decode cX7_factor 81 = .ok (.iload_n 1, 1) := dk_27 (dk_at dksX7_factor_3 13 rfl rfl)
theorem dX7_factor_82 : decode cX7_factor 82 = .ok (.invokevirtual 77, 3) := dk_182 0 77 (dk_at dksX7_factor_3 14 rfl rfl)
theorem dX7_factor_85 : decode cX7_factor 85 = .ok (.ifCond .ge 12, 3) := dk_156 0 12 (dk_at dksX7_factor_3 17 rfl rfl)
theorem dX7_factor_88 : decode cX7_factor 88 = .ok (.aload_n 0, 1) := dk_42 (dk_at dksX7_factor_3 20 rfl rfl)
theorem dX7_factor_89 : decode cX7_factor 89 = .ok (.iconst 1, 1) := dk_4 (dk_at dksX7_factor_3 21 rfl rfl)
theorem dX7_factor_90 : decode cX7_factor 90 = .ok (.aload_n 0, 1) := dk_42 (dk_at dksX7_factor_3 22 rfl rfl)
theorem dX7_factor_91 : decode cX7_factor 91 = .ok (.getfield 26, 3) := dk_180 0 26 (dk_at dksX7_factor_4 0 rfl rfl)
theorem dX7_factor_94 : decode cX7_factor 94 = .ok (.invokevirtual 50, 3) := dk_182 0 50 (dk_at dksX7_factor_4 3 rfl rfl)
theorem dX7_factor_97 : decode cX7_factor 97 = .ok (.aload_n 0, 1) := dk_42 (dk_at dksX7_factor_4 6 rfl rfl)
theorem dX7_factor_98 : decode cX7_factor 98 = .ok (.dup, 1) := dk_89 (dk_at dksX7_factor_4 7 rfl rfl)
theorem dX7_factor_99 : decode cX7_factor 99 = .ok (.getfield 26, 3) := dk_180 0 26 (dk_at dksX7_factor_4 8 rfl rfl)
theorem dX7_factor_102 : decode cX7_factor 102 = .ok (.iconst 1, 1) := dk_4 (dk_at dksX7_factor_4 11 rfl rfl)
theorem dX7_factor_103 : decode cX7_factor 103 = .ok (.iadd, 1) := dk_96 (dk_at dksX7_factor_4 12 rfl rfl)
theorem dX7_factor_104 : decode cX7_factor 104 = .ok (.putfield 26, 3) := dk_181 0 26 (dk_at dksX7_factor_4 13 rfl rfl)
theorem dX7_factor_107 : decode cX7_factor 107 = .ok (.new 83, 3) := dk_187 0 83 (dk_at dksX7_factor_4 16 rfl rfl)
theorem dX7_factor_110 : decode cX7_factor 110 = .ok (.dup, 1) := dk_89 (dk_at dksX7_factor_4 19 rfl rfl)
theorem dX7_factor_111 : decode cX7_factor 111 = .ok (.iload_n 1, 1) := dk_27 (dk_at dksX7_factor_4 20 rfl rfl)
theorem dX7_factor_112 : decode cX7_factor 112 = .ok (.invokespecial 85, 3) := dk_183 0 85 (dk_at dksX7_factor_4 21 rfl rfl)
theorem dX7_factor_115 : decode cX7_factor 115 = .ok (.areturn, 1) := dk_176 (dk_at dksX7_factor_5 0 rfl rfl)
abbrev cX7_opens : ByteArray := prog_11_method_8_code
def yX7_opens : MethodName := ⟨RX7, "opens", "()V"⟩
def dkwX7_opens_1 : List UInt8 := [96, 181, 0, 54, 42, 89, 180, 0, 26, 4, 96, 181, 0, 26, 177]
abbrev dktX7_opens_1 : List UInt8 := dkwX7_opens_1 ++ []
def dkwX7_opens_0 : List UInt8 := [42, 180, 0, 54, 16, 6, 160, 0, 12, 42, 8, 42, 180, 0, 26, 182, 0, 50, 42, 89, 180, 0, 54, 4]
abbrev dktX7_opens_0 : List UInt8 := dkwX7_opens_0 ++ dktX7_opens_1
theorem dksX7_opens_0 : cX7_opens.data.toList.drop 0 = dktX7_opens_0 := by decide +kernel
theorem dksX7_opens_1 : cX7_opens.data.toList.drop 24 = dktX7_opens_1 := dk_seg dksX7_opens_0 24 rfl rfl
theorem dX7_opens_0 : decode cX7_opens 0 = .ok (.aload_n 0, 1) := dk_42 (dk_at dksX7_opens_0 0 rfl rfl)
theorem dX7_opens_1 : decode cX7_opens 1 = .ok (.getfield 54, 3) := dk_180 0 54 (dk_at dksX7_opens_0 1 rfl rfl)
theorem dX7_opens_4 : decode cX7_opens 4 = .ok (.bipush 6, 2) := dk_16 6 (dk_at dksX7_opens_0 4 rfl rfl)
theorem dX7_opens_6 : decode cX7_opens 6 = .ok (.if_icmp .ne 12, 3) := dk_160 0 12 (dk_at dksX7_opens_0 6 rfl rfl)
theorem dX7_opens_9 : decode cX7_opens 9 = .ok (.aload_n 0, 1) := dk_42 (dk_at dksX7_opens_0 9 rfl rfl)
theorem dX7_opens_10 : decode cX7_opens 10 = .ok (.iconst 5, 1) := dk_8 (dk_at dksX7_opens_0 10 rfl rfl)
theorem dX7_opens_11 : decode cX7_opens 11 = .ok (.aload_n 0, 1) := dk_42 (dk_at dksX7_opens_0 11 rfl rfl)
theorem dX7_opens_12 : decode cX7_opens 12 = .ok (.getfield 26, 3) := dk_180 0 26 (dk_at dksX7_opens_0 12 rfl rfl)
theorem dX7_opens_15 : decode cX7_opens 15 = .ok (.invokevirtual 50, 3) := dk_182 0 50 (dk_at dksX7_opens_0 15 rfl rfl)
theorem dX7_opens_18 : decode cX7_opens 18 = .ok (.aload_n 0, 1) := dk_42 (dk_at dksX7_opens_0 18 rfl rfl)
theorem dX7_opens_19 : decode cX7_opens 19 = .ok (.dup, 1) := dk_89 (dk_at dksX7_opens_0 19 rfl rfl)
theorem dX7_opens_20 : decode cX7_opens 20 = .ok (.getfield 54, 3) := dk_180 0 54 (dk_at dksX7_opens_0 20 rfl rfl)
theorem dX7_opens_23 : decode cX7_opens 23 = .ok (.iconst 1, 1) := dk_4 (dk_at dksX7_opens_0 23 rfl rfl)
theorem dX7_opens_24 : decode cX7_opens 24 = .ok (.iadd, 1) := dk_96 (dk_at dksX7_opens_1 0 rfl rfl)
theorem dX7_opens_25 : decode cX7_opens 25 = .ok (.putfield 54, 3) := dk_181 0 54 (dk_at dksX7_opens_1 1 rfl rfl)
theorem dX7_opens_28 : decode cX7_opens 28 = .ok (.aload_n 0, 1) := dk_42 (dk_at dksX7_opens_1 4 rfl rfl)
theorem dX7_opens_29 : decode cX7_opens 29 = .ok (.dup, 1) := dk_89 (dk_at dksX7_opens_1 5 rfl rfl)
theorem dX7_opens_30 : decode cX7_opens 30 = .ok (.getfield 26, 3) := dk_180 0 26 (dk_at dksX7_opens_1 6 rfl rfl)
theorem dX7_opens_33 : decode cX7_opens 33 = .ok (.iconst 1, 1) := dk_4 (dk_at dksX7_opens_1 9 rfl rfl)
theorem dX7_opens_34 : decode cX7_opens 34 = .ok (.iadd, 1) := dk_96 (dk_at dksX7_opens_1 10 rfl rfl)
theorem dX7_opens_35 : decode cX7_opens 35 = .ok (.putfield 26, 3) := dk_181 0 26 (dk_at dksX7_opens_1 11 rfl rfl)
theorem dX7_opens_38 : decode cX7_opens 38 = .ok (.return_, 1) := dk_177 (dk_at dksX7_opens_1 14 rfl rfl)
abbrev cX7_must : ByteArray := prog_11_method_7_code
def yX7_must : MethodName := ⟨RX7, "must", "(I)V"⟩
def dkwX7_must_1 : List UInt8 := [181, 0, 26, 177]
abbrev dktX7_must_1 : List UInt8 := dkwX7_must_1 ++ []
def dkwX7_must_0 : List UInt8 := [42, 182, 0, 39, 27, 159, 0, 12, 42, 4, 42, 180, 0, 26, 182, 0, 50, 42, 89, 180, 0, 26, 4, 96]
abbrev dktX7_must_0 : List UInt8 := dkwX7_must_0 ++ dktX7_must_1
theorem dksX7_must_0 : cX7_must.data.toList.drop 0 = dktX7_must_0 := by decide +kernel
theorem dksX7_must_1 : cX7_must.data.toList.drop 24 = dktX7_must_1 := dk_seg dksX7_must_0 24 rfl rfl
theorem dX7_must_0 : decode cX7_must 0 = .ok (.aload_n 0, 1) := dk_42 (dk_at dksX7_must_0 0 rfl rfl)
theorem dX7_must_1 : decode cX7_must 1 = .ok (.invokevirtual 39, 3) := dk_182 0 39 (dk_at dksX7_must_0 1 rfl rfl)
theorem dX7_must_4 : decode cX7_must 4 = .ok (.iload_n 1, 1) := dk_27 (dk_at dksX7_must_0 4 rfl rfl)
theorem dX7_must_5 : decode cX7_must 5 = .ok (.if_icmp .eq 12, 3) := dk_159 0 12 (dk_at dksX7_must_0 5 rfl rfl)
theorem dX7_must_8 : decode cX7_must 8 = .ok (.aload_n 0, 1) := dk_42 (dk_at dksX7_must_0 8 rfl rfl)
theorem dX7_must_9 : decode cX7_must 9 = .ok (.iconst 1, 1) := dk_4 (dk_at dksX7_must_0 9 rfl rfl)
theorem dX7_must_10 : decode cX7_must 10 = .ok (.aload_n 0, 1) := dk_42 (dk_at dksX7_must_0 10 rfl rfl)
theorem dX7_must_11 : decode cX7_must 11 = .ok (.getfield 26, 3) := dk_180 0 26 (dk_at dksX7_must_0 11 rfl rfl)
theorem dX7_must_14 : decode cX7_must 14 = .ok (.invokevirtual 50, 3) := dk_182 0 50 (dk_at dksX7_must_0 14 rfl rfl)
theorem dX7_must_17 : decode cX7_must 17 = .ok (.aload_n 0, 1) := dk_42 (dk_at dksX7_must_0 17 rfl rfl)
theorem dX7_must_18 : decode cX7_must 18 = .ok (.dup, 1) := dk_89 (dk_at dksX7_must_0 18 rfl rfl)
theorem dX7_must_19 : decode cX7_must 19 = .ok (.getfield 26, 3) := dk_180 0 26 (dk_at dksX7_must_0 19 rfl rfl)
theorem dX7_must_22 : decode cX7_must 22 = .ok (.iconst 1, 1) := dk_4 (dk_at dksX7_must_0 22 rfl rfl)
theorem dX7_must_23 : decode cX7_must 23 = .ok (.iadd, 1) := dk_96 (dk_at dksX7_must_0 23 rfl rfl)
theorem dX7_must_24 : decode cX7_must 24 = .ok (.putfield 26, 3) := dk_181 0 26 (dk_at dksX7_must_1 0 rfl rfl)
theorem dX7_must_27 : decode cX7_must 27 = .ok (.return_, 1) := dk_177 (dk_at dksX7_must_1 3 rfl rfl)
abbrev cX7_seesDigit : ByteArray := prog_11_method_5_code
def yX7_seesDigit : MethodName := ⟨RX7, "seesDigit", "()Z"⟩
def dkwX7_seesDigit_0 : List UInt8 := [42, 182, 0, 39, 16, 48, 161, 0, 16, 42, 182, 0, 39, 16, 57, 163, 0, 7, 4, 167, 0, 4, 3, 172]
abbrev dktX7_seesDigit_0 : List UInt8 := dkwX7_seesDigit_0 ++ []
theorem dksX7_seesDigit_0 : cX7_seesDigit.data.toList.drop 0 = dktX7_seesDigit_0 := by decide +kernel
theorem dX7_seesDigit_0 : decode cX7_seesDigit 0 = .ok (.aload_n 0, 1) := dk_42 (dk_at dksX7_seesDigit_0 0 rfl rfl)
theorem dX7_seesDigit_1 : decode cX7_seesDigit 1 = .ok (.invokevirtual 39, 3) := dk_182 0 39 (dk_at dksX7_seesDigit_0 1 rfl rfl)
theorem dX7_seesDigit_4 : decode cX7_seesDigit 4 = .ok (.bipush 48, 2) := dk_16 48 (dk_at dksX7_seesDigit_0 4 rfl rfl)
theorem dX7_seesDigit_6 : decode cX7_seesDigit 6 = .ok (.if_icmp .lt 16, 3) := dk_161 0 16 (dk_at dksX7_seesDigit_0 6 rfl rfl)
theorem dX7_seesDigit_9 : decode cX7_seesDigit 9 = .ok (.aload_n 0, 1) := dk_42 (dk_at dksX7_seesDigit_0 9 rfl rfl)
theorem dX7_seesDigit_10 : decode cX7_seesDigit 10 = .ok (.invokevirtual 39, 3) := dk_182 0 39 (dk_at dksX7_seesDigit_0 10 rfl rfl)
theorem dX7_seesDigit_13 : decode cX7_seesDigit 13 = .ok (.bipush 57, 2) := dk_16 57 (dk_at dksX7_seesDigit_0 13 rfl rfl)
theorem dX7_seesDigit_15 : decode cX7_seesDigit 15 = .ok (.if_icmp .gt 7, 3) := dk_163 0 7 (dk_at dksX7_seesDigit_0 15 rfl rfl)
theorem dX7_seesDigit_18 : decode cX7_seesDigit 18 = .ok (.iconst 1, 1) := dk_4 (dk_at dksX7_seesDigit_0 18 rfl rfl)
theorem dX7_seesDigit_19 : decode cX7_seesDigit 19 = .ok (.goto 4, 3) := dk_167 0 4 (dk_at dksX7_seesDigit_0 19 rfl rfl)
theorem dX7_seesDigit_22 : decode cX7_seesDigit 22 = .ok (.iconst 0, 1) := dk_3 (dk_at dksX7_seesDigit_0 22 rfl rfl)
theorem dX7_seesDigit_23 : decode cX7_seesDigit 23 = .ok (.ireturn, 1) := dk_172 (dk_at dksX7_seesDigit_0 23 rfl rfl)
abbrev cX7_number : ByteArray := prog_11_method_6_code
def yX7_number : MethodName := ⟨RX7, "number", "()I"⟩
def dkwX7_number_2 : List UInt8 := [182, 0, 39, 96, 16, 48, 100, 61, 42, 89, 180, 0, 26, 4, 96, 181, 0, 26, 167, 255, 200, 28, 172]
abbrev dktX7_number_2 : List UInt8 := dkwX7_number_2 ++ []
def dkwX7_number_1 : List UInt8 := [180, 0, 26, 27, 8, 96, 160, 0, 12, 42, 5, 42, 180, 0, 26, 182, 0, 50, 16, 10, 28, 104, 42]
abbrev dktX7_number_1 : List UInt8 := dkwX7_number_1 ++ dktX7_number_2
def dkwX7_number_0 : List UInt8 := [42, 180, 0, 26, 60, 3, 61, 42, 182, 0, 43, 153, 0, 55, 42, 182, 0, 47, 153, 0, 48, 42]
abbrev dktX7_number_0 : List UInt8 := dkwX7_number_0 ++ dktX7_number_1
theorem dksX7_number_0 : cX7_number.data.toList.drop 0 = dktX7_number_0 := by decide +kernel
theorem dksX7_number_1 : cX7_number.data.toList.drop 22 = dktX7_number_1 := dk_seg dksX7_number_0 22 rfl rfl
theorem dksX7_number_2 : cX7_number.data.toList.drop 45 = dktX7_number_2 := dk_seg dksX7_number_1 23 rfl rfl
theorem dX7_number_0 : decode cX7_number 0 = .ok (.aload_n 0, 1) := dk_42 (dk_at dksX7_number_0 0 rfl rfl)
theorem dX7_number_1 : decode cX7_number 1 = .ok (.getfield 26, 3) := dk_180 0 26 (dk_at dksX7_number_0 1 rfl rfl)
theorem dX7_number_4 : decode cX7_number 4 = .ok (.istore_n 1, 1) := dk_60 (dk_at dksX7_number_0 4 rfl rfl)
theorem dX7_number_5 : decode cX7_number 5 = .ok (.iconst 0, 1) := dk_3 (dk_at dksX7_number_0 5 rfl rfl)
theorem dX7_number_6 : decode cX7_number 6 = .ok (.istore_n 2, 1) := dk_61 (dk_at dksX7_number_0 6 rfl rfl)
theorem dX7_number_7 : decode cX7_number 7 = .ok (.aload_n 0, 1) := dk_42 (dk_at dksX7_number_0 7 rfl rfl)
theorem dX7_number_8 : decode cX7_number 8 = .ok (.invokevirtual 43, 3) := dk_182 0 43 (dk_at dksX7_number_0 8 rfl rfl)
theorem dX7_number_11 : decode cX7_number 11 = .ok (.ifCond .eq 55, 3) := dk_153 0 55 (dk_at dksX7_number_0 11 rfl rfl)
theorem dX7_number_14 : decode cX7_number 14 = .ok (.aload_n 0, 1) := dk_42 (dk_at dksX7_number_0 14 rfl rfl)
theorem dX7_number_15 : decode cX7_number 15 = .ok (.invokevirtual 47, 3) := dk_182 0 47 (dk_at dksX7_number_0 15 rfl rfl)
theorem dX7_number_18 : decode cX7_number 18 = .ok (.ifCond .eq 48, 3) := dk_153 0 48 (dk_at dksX7_number_0 18 rfl rfl)
theorem dX7_number_21 : decode cX7_number 21 = .ok (.aload_n 0, 1) := dk_42 (dk_at dksX7_number_0 21 rfl rfl)
theorem dX7_number_22 : decode cX7_number 22 = .ok (.getfield 26, 3) := dk_180 0 26 (dk_at dksX7_number_1 0 rfl rfl)
theorem dX7_number_25 : decode cX7_number 25 = .ok (.iload_n 1, 1) := dk_27 (dk_at dksX7_number_1 3 rfl rfl)
theorem dX7_number_26 : decode cX7_number 26 = .ok (.iconst 5, 1) := dk_8 (dk_at dksX7_number_1 4 rfl rfl)
theorem dX7_number_27 : decode cX7_number 27 = .ok (.iadd, 1) := dk_96 (dk_at dksX7_number_1 5 rfl rfl)
theorem dX7_number_28 : decode cX7_number 28 = .ok (.if_icmp .ne 12, 3) := dk_160 0 12 (dk_at dksX7_number_1 6 rfl rfl)
theorem dX7_number_31 : decode cX7_number 31 = .ok (.aload_n 0, 1) := dk_42 (dk_at dksX7_number_1 9 rfl rfl)
theorem dX7_number_32 : decode cX7_number 32 = .ok (.iconst 2, 1) := dk_5 (dk_at dksX7_number_1 10 rfl rfl)
theorem dX7_number_33 : decode cX7_number 33 = .ok (.aload_n 0, 1) := dk_42 (dk_at dksX7_number_1 11 rfl rfl)
theorem dX7_number_34 : decode cX7_number 34 = .ok (.getfield 26, 3) := dk_180 0 26 (dk_at dksX7_number_1 12 rfl rfl)
theorem dX7_number_37 : decode cX7_number 37 = .ok (.invokevirtual 50, 3) := dk_182 0 50 (dk_at dksX7_number_1 15 rfl rfl)
theorem dX7_number_40 : decode cX7_number 40 = .ok (.bipush 10, 2) := dk_16 10 (dk_at dksX7_number_1 18 rfl rfl)
theorem dX7_number_42 : decode cX7_number 42 = .ok (.iload_n 2, 1) := dk_28 (dk_at dksX7_number_1 20 rfl rfl)
theorem dX7_number_43 : decode cX7_number 43 = .ok (.imul, 1) := dk_104 (dk_at dksX7_number_1 21 rfl rfl)
theorem dX7_number_44 : decode cX7_number 44 = .ok (.aload_n 0, 1) := dk_42 (dk_at dksX7_number_1 22 rfl rfl)
theorem dX7_number_45 : decode cX7_number 45 = .ok (.invokevirtual 39, 3) := dk_182 0 39 (dk_at dksX7_number_2 0 rfl rfl)
theorem dX7_number_48 : decode cX7_number 48 = .ok (.iadd, 1) := dk_96 (dk_at dksX7_number_2 3 rfl rfl)
theorem dX7_number_49 : decode cX7_number 49 = .ok (.bipush 48, 2) := dk_16 48 (dk_at dksX7_number_2 4 rfl rfl)
theorem dX7_number_51 : decode cX7_number 51 = .ok (.isub, 1) := dk_100 (dk_at dksX7_number_2 6 rfl rfl)
theorem dX7_number_52 : decode cX7_number 52 = .ok (.istore_n 2, 1) := dk_61 (dk_at dksX7_number_2 7 rfl rfl)
theorem dX7_number_53 : decode cX7_number 53 = .ok (.aload_n 0, 1) := dk_42 (dk_at dksX7_number_2 8 rfl rfl)
theorem dX7_number_54 : decode cX7_number 54 = .ok (.dup, 1) := dk_89 (dk_at dksX7_number_2 9 rfl rfl)
theorem dX7_number_55 : decode cX7_number 55 = .ok (.getfield 26, 3) := dk_180 0 26 (dk_at dksX7_number_2 10 rfl rfl)
theorem dX7_number_58 : decode cX7_number 58 = .ok (.iconst 1, 1) := dk_4 (dk_at dksX7_number_2 13 rfl rfl)
theorem dX7_number_59 : decode cX7_number 59 = .ok (.iadd, 1) := dk_96 (dk_at dksX7_number_2 14 rfl rfl)
theorem dX7_number_60 : decode cX7_number 60 = .ok (.putfield 26, 3) := dk_181 0 26 (dk_at dksX7_number_2 15 rfl rfl)
theorem dX7_number_63 : decode cX7_number 63 = .ok (.goto (-56), 3) := dk_167 255 200 (dk_at dksX7_number_2 18 rfl rfl)
theorem dX7_number_66 : decode cX7_number 66 = .ok (.iload_n 2, 1) := dk_28 (dk_at dksX7_number_2 21 rfl rfl)
theorem dX7_number_67 : decode cX7_number 67 = .ok (.ireturn, 1) := dk_172 (dk_at dksX7_number_2 22 rfl rfl)
abbrev cX7_condition : ByteArray := prog_11_method_14_code
def yX7_condition : MethodName := ⟨RX7, "condition", "()LSharedWindow$Condition;"⟩
def dkwX7_condition_4 : List UInt8 := [42, 89, 180, 0, 54, 4, 100, 181, 0, 54, 43, 176]
abbrev dktX7_condition_4 : List UInt8 := dkwX7_condition_4 ++ []
def dkwX7_condition_3 : List UInt8 := [181, 0, 123, 44, 180, 0, 123, 77, 167, 255, 209, 42, 182, 0, 43, 153, 0, 9, 42, 16, 41, 182, 0, 64]
abbrev dktX7_condition_3 : List UInt8 := dkwX7_condition_3 ++ dktX7_condition_4
def dkwX7_condition_2 : List UInt8 := [89, 180, 0, 26, 4, 96, 181, 0, 26, 44, 187, 0, 118, 89, 42, 182, 0, 126, 4, 183, 0, 120]
abbrev dktX7_condition_2 : List UInt8 := dkwX7_condition_2 ++ dktX7_condition_3
def dkwX7_condition_1 : List UInt8 := [167, 0, 4, 1, 76, 43, 77, 42, 182, 0, 43, 153, 0, 46, 42, 182, 0, 39, 16, 124, 160, 0, 37, 42]
abbrev dktX7_condition_1 : List UInt8 := dkwX7_condition_1 ++ dktX7_condition_2
def dkwX7_condition_0 : List UInt8 := [42, 182, 0, 57, 42, 182, 0, 43, 153, 0, 18, 187, 0, 118, 89, 42, 182, 0, 126, 4, 183, 0, 120]
abbrev dktX7_condition_0 : List UInt8 := dkwX7_condition_0 ++ dktX7_condition_1
theorem dksX7_condition_0 : cX7_condition.data.toList.drop 0 = dktX7_condition_0 := by decide +kernel
theorem dksX7_condition_1 : cX7_condition.data.toList.drop 23 = dktX7_condition_1 := dk_seg dksX7_condition_0 23 rfl rfl
theorem dksX7_condition_2 : cX7_condition.data.toList.drop 47 = dktX7_condition_2 := dk_seg dksX7_condition_1 24 rfl rfl
theorem dksX7_condition_3 : cX7_condition.data.toList.drop 69 = dktX7_condition_3 := dk_seg dksX7_condition_2 22 rfl rfl
theorem dksX7_condition_4 : cX7_condition.data.toList.drop 93 = dktX7_condition_4 := dk_seg dksX7_condition_3 24 rfl rfl
theorem dX7_condition_0 : decode cX7_condition 0 = .ok (.aload_n 0, 1) := dk_42 (dk_at dksX7_condition_0 0 rfl rfl)
theorem dX7_condition_1 : decode cX7_condition 1 = .ok (.invokevirtual 57, 3) := dk_182 0 57 (dk_at dksX7_condition_0 1 rfl rfl)
theorem dX7_condition_4 : decode cX7_condition 4 = .ok (.aload_n 0, 1) := dk_42 (dk_at dksX7_condition_0 4 rfl rfl)
theorem dX7_condition_5 : decode cX7_condition 5 = .ok (.invokevirtual 43, 3) := dk_182 0 43 (dk_at dksX7_condition_0 5 rfl rfl)
theorem dX7_condition_8 : decode cX7_condition 8 = .ok (.ifCond .eq 18, 3) := dk_153 0 18 (dk_at dksX7_condition_0 8 rfl rfl)
theorem dX7_condition_11 : decode cX7_condition 11 = .ok (.new 118, 3) := dk_187 0 118 (dk_at dksX7_condition_0 11 rfl rfl)
theorem dX7_condition_14 : decode cX7_condition 14 = .ok (.dup, 1) := dk_89 (dk_at dksX7_condition_0 14 rfl rfl)
theorem dX7_condition_15 : decode cX7_condition 15 = .ok (.aload_n 0, 1) := dk_42 (dk_at dksX7_condition_0 15 rfl rfl)
theorem dX7_condition_16 : decode cX7_condition 16 = .ok (.invokevirtual 126, 3) := dk_182 0 126 (dk_at dksX7_condition_0 16 rfl rfl)
theorem dX7_condition_19 : decode cX7_condition 19 = .ok (.iconst 1, 1) := dk_4 (dk_at dksX7_condition_0 19 rfl rfl)
theorem dX7_condition_20 : decode cX7_condition 20 = .ok (.invokespecial 120, 3) := dk_183 0 120 (dk_at dksX7_condition_0 20 rfl rfl)
theorem dX7_condition_23 : decode cX7_condition 23 = .ok (.goto 4, 3) := dk_167 0 4 (dk_at dksX7_condition_1 0 rfl rfl)
theorem dX7_condition_26 : decode cX7_condition 26 = .ok (.aconst_null, 1) := dk_1 (dk_at dksX7_condition_1 3 rfl rfl)
theorem dX7_condition_27 : decode cX7_condition 27 = .ok (.astore_n 1, 1) := dk_76 (dk_at dksX7_condition_1 4 rfl rfl)
theorem dX7_condition_28 : decode cX7_condition 28 = .ok (.aload_n 1, 1) := dk_43 (dk_at dksX7_condition_1 5 rfl rfl)
theorem dX7_condition_29 : decode cX7_condition 29 = .ok (.astore_n 2, 1) := dk_77 (dk_at dksX7_condition_1 6 rfl rfl)
theorem dX7_condition_30 : decode cX7_condition 30 = .ok (.aload_n 0, 1) := dk_42 (dk_at dksX7_condition_1 7 rfl rfl)
theorem dX7_condition_31 : decode cX7_condition 31 = .ok (.invokevirtual 43, 3) := dk_182 0 43 (dk_at dksX7_condition_1 8 rfl rfl)
theorem dX7_condition_34 : decode cX7_condition 34 = .ok (.ifCond .eq 46, 3) := dk_153 0 46 (dk_at dksX7_condition_1 11 rfl rfl)
theorem dX7_condition_37 : decode cX7_condition 37 = .ok (.aload_n 0, 1) := dk_42 (dk_at dksX7_condition_1 14 rfl rfl)
theorem dX7_condition_38 : decode cX7_condition 38 = .ok (.invokevirtual 39, 3) := dk_182 0 39 (dk_at dksX7_condition_1 15 rfl rfl)
theorem dX7_condition_41 : decode cX7_condition 41 = .ok (.bipush 124, 2) := dk_16 124 (dk_at dksX7_condition_1 18 rfl rfl)
theorem dX7_condition_43 : decode cX7_condition 43 = .ok (.if_icmp .ne 37, 3) := dk_160 0 37 (dk_at dksX7_condition_1 20 rfl rfl)
theorem dX7_condition_46 : decode cX7_condition 46 = .ok (.aload_n 0, 1) := dk_42 (dk_at dksX7_condition_1 23 rfl rfl)
theorem dX7_condition_47 : decode cX7_condition 47 = .ok (.dup, 1) := dk_89 (dk_at dksX7_condition_2 0 rfl rfl)
theorem dX7_condition_48 : decode cX7_condition 48 = .ok (.getfield 26, 3) := dk_180 0 26 (dk_at dksX7_condition_2 1 rfl rfl)
theorem dX7_condition_51 : decode cX7_condition 51 = .ok (.iconst 1, 1) := dk_4 (dk_at dksX7_condition_2 4 rfl rfl)
theorem dX7_condition_52 : decode cX7_condition 52 = .ok (.iadd, 1) := dk_96 (dk_at dksX7_condition_2 5 rfl rfl)
theorem dX7_condition_53 : decode cX7_condition 53 = .ok (.putfield 26, 3) := dk_181 0 26 (dk_at dksX7_condition_2 6 rfl rfl)
theorem dX7_condition_56 : decode cX7_condition 56 = .ok (.aload_n 2, 1) := dk_44 (dk_at dksX7_condition_2 9 rfl rfl)
theorem dX7_condition_57 : decode cX7_condition 57 = .ok (.new 118, 3) := dk_187 0 118 (dk_at dksX7_condition_2 10 rfl rfl)
theorem dX7_condition_60 : decode cX7_condition 60 = .ok (.dup, 1) := dk_89 (dk_at dksX7_condition_2 13 rfl rfl)
theorem dX7_condition_61 : decode cX7_condition 61 = .ok (.aload_n 0, 1) := dk_42 (dk_at dksX7_condition_2 14 rfl rfl)
theorem dX7_condition_62 : decode cX7_condition 62 = .ok (.invokevirtual 126, 3) := dk_182 0 126 (dk_at dksX7_condition_2 15 rfl rfl)
theorem dX7_condition_65 : decode cX7_condition 65 = .ok (.iconst 1, 1) := dk_4 (dk_at dksX7_condition_2 18 rfl rfl)
theorem dX7_condition_66 : decode cX7_condition 66 = .ok (.invokespecial 120, 3) := dk_183 0 120 (dk_at dksX7_condition_2 19 rfl rfl)
theorem dX7_condition_69 : decode cX7_condition 69 = .ok (.putfield 123, 3) := dk_181 0 123 (dk_at dksX7_condition_3 0 rfl rfl)
theorem dX7_condition_72 : decode cX7_condition 72 = .ok (.aload_n 2, 1) := dk_44 (dk_at dksX7_condition_3 3 rfl rfl)
theorem dX7_condition_73 : decode cX7_condition 73 = .ok (.getfield 123, 3) := dk_180 0 123 (dk_at dksX7_condition_3 4 rfl rfl)
theorem dX7_condition_76 : decode cX7_condition 76 = .ok (.astore_n 2, 1) := dk_77 (dk_at dksX7_condition_3 7 rfl rfl)
theorem dX7_condition_77 : decode cX7_condition 77 = .ok (.goto (-47), 3) := dk_167 255 209 (dk_at dksX7_condition_3 8 rfl rfl)
theorem dX7_condition_80 : decode cX7_condition 80 = .ok (.aload_n 0, 1) := dk_42 (dk_at dksX7_condition_3 11 rfl rfl)
theorem dX7_condition_81 : decode cX7_condition 81 = .ok (.invokevirtual 43, 3) := dk_182 0 43 (dk_at dksX7_condition_3 12 rfl rfl)
theorem dX7_condition_84 : decode cX7_condition 84 = .ok (.ifCond .eq 9, 3) := dk_153 0 9 (dk_at dksX7_condition_3 15 rfl rfl)
theorem dX7_condition_87 : decode cX7_condition 87 = .ok (.aload_n 0, 1) := dk_42 (dk_at dksX7_condition_3 18 rfl rfl)
theorem dX7_condition_88 : decode cX7_condition 88 = .ok (.bipush 41, 2) := dk_16 41 (dk_at dksX7_condition_3 19 rfl rfl)
theorem dX7_condition_90 : decode cX7_condition 90 = .ok (.invokevirtual 64, 3) := dk_182 0 64 (dk_at dksX7_condition_3 21 rfl rfl)
theorem dX7_condition_93 : decode cX7_condition 93 = .ok (.aload_n 0, 1) := dk_42 (dk_at dksX7_condition_4 0 rfl rfl)
theorem dX7_condition_94 : decode cX7_condition 94 = .ok (.dup, 1) := dk_89 (dk_at dksX7_condition_4 1 rfl rfl)
theorem dX7_condition_95 : decode cX7_condition 95 = .ok (.getfield 54, 3) := dk_180 0 54 (dk_at dksX7_condition_4 2 rfl rfl)
theorem dX7_condition_98 : decode cX7_condition 98 = .ok (.iconst 1, 1) := dk_4 (dk_at dksX7_condition_4 5 rfl rfl)
theorem dX7_condition_99 : decode cX7_condition 99 = .ok (.isub, 1) := dk_100 (dk_at dksX7_condition_4 6 rfl rfl)
theorem dX7_condition_100 : decode cX7_condition 100 = .ok (.putfield 54, 3) := dk_181 0 54 (dk_at dksX7_condition_4 7 rfl rfl)
theorem dX7_condition_103 : decode cX7_condition 103 = .ok (.aload_n 1, 1) := dk_43 (dk_at dksX7_condition_4 10 rfl rfl)
theorem dX7_condition_104 : decode cX7_condition 104 = .ok (.areturn, 1) := dk_176 (dk_at dksX7_condition_4 11 rfl rfl)
abbrev cX7_pieces : ByteArray := prog_11_method_13_code
def yX7_pieces : MethodName := ⟨RX7, "pieces", "()LSharedWindow$Condition;"⟩
def dkwX7_pieces_2 : List UInt8 := [182, 0, 101, 3, 183, 0, 120, 181, 0, 123, 44, 180, 0, 123, 77, 167, 255, 209, 43, 176]
abbrev dktX7_pieces_2 : List UInt8 := dkwX7_pieces_2 ++ []
def dkwX7_pieces_1 : List UInt8 := [182, 0, 39, 16, 38, 160, 0, 37, 42, 89, 180, 0, 26, 4, 96, 181, 0, 26, 44, 187, 0, 118, 89, 42]
abbrev dktX7_pieces_1 : List UInt8 := dkwX7_pieces_1 ++ dktX7_pieces_2
def dkwX7_pieces_0 : List UInt8 := [187, 0, 118, 89, 42, 182, 0, 101, 3, 183, 0, 120, 76, 43, 77, 42, 182, 0, 43, 153, 0, 46, 42]
abbrev dktX7_pieces_0 : List UInt8 := dkwX7_pieces_0 ++ dktX7_pieces_1
theorem dksX7_pieces_0 : cX7_pieces.data.toList.drop 0 = dktX7_pieces_0 := by decide +kernel
theorem dksX7_pieces_1 : cX7_pieces.data.toList.drop 23 = dktX7_pieces_1 := dk_seg dksX7_pieces_0 23 rfl rfl
theorem dksX7_pieces_2 : cX7_pieces.data.toList.drop 47 = dktX7_pieces_2 := dk_seg dksX7_pieces_1 24 rfl rfl
theorem dX7_pieces_0 : decode cX7_pieces 0 = .ok (.new 118, 3) := dk_187 0 118 (dk_at dksX7_pieces_0 0 rfl rfl)
theorem dX7_pieces_3 : decode cX7_pieces 3 = .ok (.dup, 1) := dk_89 (dk_at dksX7_pieces_0 3 rfl rfl)
theorem dX7_pieces_4 : decode cX7_pieces 4 = .ok (.aload_n 0, 1) := dk_42 (dk_at dksX7_pieces_0 4 rfl rfl)
theorem dX7_pieces_5 : decode cX7_pieces 5 = .ok (.invokevirtual 101, 3) := dk_182 0 101 (dk_at dksX7_pieces_0 5 rfl rfl)
theorem dX7_pieces_8 : decode cX7_pieces 8 = .ok (.iconst 0, 1) := dk_3 (dk_at dksX7_pieces_0 8 rfl rfl)
theorem dX7_pieces_9 : decode cX7_pieces 9 = .ok (.invokespecial 120, 3) := dk_183 0 120 (dk_at dksX7_pieces_0 9 rfl rfl)
theorem dX7_pieces_12 : decode cX7_pieces 12 = .ok (.astore_n 1, 1) := dk_76 (dk_at dksX7_pieces_0 12 rfl rfl)
theorem dX7_pieces_13 : decode cX7_pieces 13 = .ok (.aload_n 1, 1) := dk_43 (dk_at dksX7_pieces_0 13 rfl rfl)
theorem dX7_pieces_14 : decode cX7_pieces 14 = .ok (.astore_n 2, 1) := dk_77 (dk_at dksX7_pieces_0 14 rfl rfl)
theorem dX7_pieces_15 : decode cX7_pieces 15 = .ok (.aload_n 0, 1) := dk_42 (dk_at dksX7_pieces_0 15 rfl rfl)
theorem dX7_pieces_16 : decode cX7_pieces 16 = .ok (.invokevirtual 43, 3) := dk_182 0 43 (dk_at dksX7_pieces_0 16 rfl rfl)
theorem dX7_pieces_19 : decode cX7_pieces 19 = .ok (.ifCond .eq 46, 3) := dk_153 0 46 (dk_at dksX7_pieces_0 19 rfl rfl)
theorem dX7_pieces_22 : decode cX7_pieces 22 = .ok (.aload_n 0, 1) := dk_42 (dk_at dksX7_pieces_0 22 rfl rfl)
theorem dX7_pieces_23 : decode cX7_pieces 23 = .ok (.invokevirtual 39, 3) := dk_182 0 39 (dk_at dksX7_pieces_1 0 rfl rfl)
theorem dX7_pieces_26 : decode cX7_pieces 26 = .ok (.bipush 38, 2) := dk_16 38 (dk_at dksX7_pieces_1 3 rfl rfl)
theorem dX7_pieces_28 : decode cX7_pieces 28 = .ok (.if_icmp .ne 37, 3) := dk_160 0 37 (dk_at dksX7_pieces_1 5 rfl rfl)
theorem dX7_pieces_31 : decode cX7_pieces 31 = .ok (.aload_n 0, 1) := dk_42 (dk_at dksX7_pieces_1 8 rfl rfl)
theorem dX7_pieces_32 : decode cX7_pieces 32 = .ok (.dup, 1) := dk_89 (dk_at dksX7_pieces_1 9 rfl rfl)
theorem dX7_pieces_33 : decode cX7_pieces 33 = .ok (.getfield 26, 3) := dk_180 0 26 (dk_at dksX7_pieces_1 10 rfl rfl)
theorem dX7_pieces_36 : decode cX7_pieces 36 = .ok (.iconst 1, 1) := dk_4 (dk_at dksX7_pieces_1 13 rfl rfl)
theorem dX7_pieces_37 : decode cX7_pieces 37 = .ok (.iadd, 1) := dk_96 (dk_at dksX7_pieces_1 14 rfl rfl)
theorem dX7_pieces_38 : decode cX7_pieces 38 = .ok (.putfield 26, 3) := dk_181 0 26 (dk_at dksX7_pieces_1 15 rfl rfl)
theorem dX7_pieces_41 : decode cX7_pieces 41 = .ok (.aload_n 2, 1) := dk_44 (dk_at dksX7_pieces_1 18 rfl rfl)
theorem dX7_pieces_42 : decode cX7_pieces 42 = .ok (.new 118, 3) := dk_187 0 118 (dk_at dksX7_pieces_1 19 rfl rfl)
theorem dX7_pieces_45 : decode cX7_pieces 45 = .ok (.dup, 1) := dk_89 (dk_at dksX7_pieces_1 22 rfl rfl)
theorem dX7_pieces_46 : decode cX7_pieces 46 = .ok (.aload_n 0, 1) := dk_42 (dk_at dksX7_pieces_1 23 rfl rfl)
theorem dX7_pieces_47 : decode cX7_pieces 47 = .ok (.invokevirtual 101, 3) := dk_182 0 101 (dk_at dksX7_pieces_2 0 rfl rfl)
theorem dX7_pieces_50 : decode cX7_pieces 50 = .ok (.iconst 0, 1) := dk_3 (dk_at dksX7_pieces_2 3 rfl rfl)
theorem dX7_pieces_51 : decode cX7_pieces 51 = .ok (.invokespecial 120, 3) := dk_183 0 120 (dk_at dksX7_pieces_2 4 rfl rfl)
theorem dX7_pieces_54 : decode cX7_pieces 54 = .ok (.putfield 123, 3) := dk_181 0 123 (dk_at dksX7_pieces_2 7 rfl rfl)
theorem dX7_pieces_57 : decode cX7_pieces 57 = .ok (.aload_n 2, 1) := dk_44 (dk_at dksX7_pieces_2 10 rfl rfl)
theorem dX7_pieces_58 : decode cX7_pieces 58 = .ok (.getfield 123, 3) := dk_180 0 123 (dk_at dksX7_pieces_2 11 rfl rfl)
theorem dX7_pieces_61 : decode cX7_pieces 61 = .ok (.astore_n 2, 1) := dk_77 (dk_at dksX7_pieces_2 14 rfl rfl)
theorem dX7_pieces_62 : decode cX7_pieces 62 = .ok (.goto (-47), 3) := dk_167 255 209 (dk_at dksX7_pieces_2 15 rfl rfl)
theorem dX7_pieces_65 : decode cX7_pieces 65 = .ok (.aload_n 1, 1) := dk_43 (dk_at dksX7_pieces_2 18 rfl rfl)
theorem dX7_pieces_66 : decode cX7_pieces 66 = .ok (.areturn, 1) := dk_176 (dk_at dksX7_pieces_2 19 rfl rfl)
abbrev cX7_piece : ByteArray := prog_11_method_12_code
def yX7_piece : MethodName := ⟨RX7, "piece", "()LSharedWindow$Condition;"⟩
def dkwX7_piece_5 : List UInt8 := [182, 0, 43, 153, 0, 10, 42, 182, 0, 60, 167, 0, 4, 1, 183, 0, 115, 176]
abbrev dktX7_piece_5 : List UInt8 := dkwX7_piece_5 ++ []
def dkwX7_piece_4 : List UInt8 := [180, 0, 26, 182, 0, 50, 42, 89, 180, 0, 26, 4, 96, 181, 0, 26, 187, 0, 113, 89, 44, 29, 42]
abbrev dktX7_piece_4 : List UInt8 := dkwX7_piece_4 ++ dktX7_piece_5
def dkwX7_piece_3 : List UInt8 := [62, 29, 16, 60, 159, 0, 24, 29, 16, 62, 159, 0, 18, 29, 16, 61, 159, 0, 12, 42, 4, 42]
abbrev dktX7_piece_3 : List UInt8 := dkwX7_piece_3 ++ dktX7_piece_4
def dkwX7_piece_2 : List UInt8 := [183, 0, 107, 176, 27, 16, 40, 160, 0, 8, 42, 182, 0, 110, 176, 42, 182, 0, 60, 77, 42, 182, 0, 39]
abbrev dktX7_piece_2 : List UInt8 := dkwX7_piece_2 ++ dktX7_piece_3
def dkwX7_piece_1 : List UInt8 := [182, 0, 101, 167, 0, 4, 1, 77, 42, 89, 180, 0, 54, 4, 100, 181, 0, 54, 187, 0, 105, 89, 44]
abbrev dktX7_piece_1 : List UInt8 := dkwX7_piece_1 ++ dktX7_piece_2
def dkwX7_piece_0 : List UInt8 := [42, 182, 0, 39, 60, 27, 16, 33, 160, 0, 42, 42, 182, 0, 57, 42, 182, 0, 43, 153, 0, 10, 42]
abbrev dktX7_piece_0 : List UInt8 := dkwX7_piece_0 ++ dktX7_piece_1
theorem dksX7_piece_0 : cX7_piece.data.toList.drop 0 = dktX7_piece_0 := by decide +kernel
theorem dksX7_piece_1 : cX7_piece.data.toList.drop 23 = dktX7_piece_1 := dk_seg dksX7_piece_0 23 rfl rfl
theorem dksX7_piece_2 : cX7_piece.data.toList.drop 46 = dktX7_piece_2 := dk_seg dksX7_piece_1 23 rfl rfl
theorem dksX7_piece_3 : cX7_piece.data.toList.drop 70 = dktX7_piece_3 := dk_seg dksX7_piece_2 24 rfl rfl
theorem dksX7_piece_4 : cX7_piece.data.toList.drop 92 = dktX7_piece_4 := dk_seg dksX7_piece_3 22 rfl rfl
theorem dksX7_piece_5 : cX7_piece.data.toList.drop 115 = dktX7_piece_5 := dk_seg dksX7_piece_4 23 rfl rfl
theorem dX7_piece_0 : decode cX7_piece 0 = .ok (.aload_n 0, 1) := dk_42 (dk_at dksX7_piece_0 0 rfl rfl)
theorem dX7_piece_1 : decode cX7_piece 1 = .ok (.invokevirtual 39, 3) := dk_182 0 39 (dk_at dksX7_piece_0 1 rfl rfl)
theorem dX7_piece_4 : decode cX7_piece 4 = .ok (.istore_n 1, 1) := dk_60 (dk_at dksX7_piece_0 4 rfl rfl)
theorem dX7_piece_5 : decode cX7_piece 5 = .ok (.iload_n 1, 1) := dk_27 (dk_at dksX7_piece_0 5 rfl rfl)
theorem dX7_piece_6 : decode cX7_piece 6 = .ok (.bipush 33, 2) := dk_16 33 (dk_at dksX7_piece_0 6 rfl rfl)
theorem dX7_piece_8 : decode cX7_piece 8 = .ok (.if_icmp .ne 42, 3) := dk_160 0 42 (dk_at dksX7_piece_0 8 rfl rfl)
theorem dX7_piece_11 : decode cX7_piece 11 = .ok (.aload_n 0, 1) := dk_42 (dk_at dksX7_piece_0 11 rfl rfl)
theorem dX7_piece_12 : decode cX7_piece 12 = .ok (.invokevirtual 57, 3) := dk_182 0 57 (dk_at dksX7_piece_0 12 rfl rfl)
theorem dX7_piece_15 : decode cX7_piece 15 = .ok (.aload_n 0, 1) := dk_42 (dk_at dksX7_piece_0 15 rfl rfl)
theorem dX7_piece_16 : decode cX7_piece 16 = .ok (.invokevirtual 43, 3) := dk_182 0 43 (dk_at dksX7_piece_0 16 rfl rfl)
theorem dX7_piece_19 : decode cX7_piece 19 = .ok (.ifCond .eq 10, 3) := dk_153 0 10 (dk_at dksX7_piece_0 19 rfl rfl)
theorem dX7_piece_22 : decode cX7_piece 22 = .ok (.aload_n 0, 1) := dk_42 (dk_at dksX7_piece_0 22 rfl rfl)
theorem dX7_piece_23 : decode cX7_piece 23 = .ok (.invokevirtual 101, 3) := dk_182 0 101 (dk_at dksX7_piece_1 0 rfl rfl)
theorem dX7_piece_26 : decode cX7_piece 26 = .ok (.goto 4, 3) := dk_167 0 4 (dk_at dksX7_piece_1 3 rfl rfl)
theorem dX7_piece_29 : decode cX7_piece 29 = .ok (.aconst_null, 1) := dk_1 (dk_at dksX7_piece_1 6 rfl rfl)
theorem dX7_piece_30 : decode cX7_piece 30 = .ok (.astore_n 2, 1) := dk_77 (dk_at dksX7_piece_1 7 rfl rfl)
theorem dX7_piece_31 : decode cX7_piece 31 = .ok (.aload_n 0, 1) := dk_42 (dk_at dksX7_piece_1 8 rfl rfl)
theorem dX7_piece_32 : decode cX7_piece 32 = .ok (.dup, 1) := dk_89 (dk_at dksX7_piece_1 9 rfl rfl)
theorem dX7_piece_33 : decode cX7_piece 33 = .ok (.getfield 54, 3) := dk_180 0 54 (dk_at dksX7_piece_1 10 rfl rfl)
theorem dX7_piece_36 : decode cX7_piece 36 = .ok (.iconst 1, 1) := dk_4 (dk_at dksX7_piece_1 13 rfl rfl)
theorem dX7_piece_37 : decode cX7_piece 37 = .ok (.isub, 1) := dk_100 (dk_at dksX7_piece_1 14 rfl rfl)
theorem dX7_piece_38 : decode cX7_piece 38 = .ok (.putfield 54, 3) := dk_181 0 54 (dk_at dksX7_piece_1 15 rfl rfl)
theorem dX7_piece_41 : decode cX7_piece 41 = .ok (.new 105, 3) := dk_187 0 105 (dk_at dksX7_piece_1 18 rfl rfl)
theorem dX7_piece_44 : decode cX7_piece 44 = .ok (.dup, 1) := dk_89 (dk_at dksX7_piece_1 21 rfl rfl)
theorem dX7_piece_45 : decode cX7_piece 45 = .ok (.aload_n 2, 1) := dk_44 (dk_at dksX7_piece_1 22 rfl rfl)
theorem dX7_piece_46 : decode cX7_piece 46 = .ok (.invokespecial 107, 3) := dk_183 0 107 (dk_at dksX7_piece_2 0 rfl rfl)
theorem dX7_piece_49 : decode cX7_piece 49 = .ok (.areturn, 1) := dk_176 (dk_at dksX7_piece_2 3 rfl rfl)
theorem dX7_piece_50 : decode cX7_piece 50 = .ok (.iload_n 1, 1) := dk_27 (dk_at dksX7_piece_2 4 rfl rfl)
theorem dX7_piece_51 : decode cX7_piece 51 = .ok (.bipush 40, 2) := dk_16 40 (dk_at dksX7_piece_2 5 rfl rfl)
theorem dX7_piece_53 : decode cX7_piece 53 = .ok (.if_icmp .ne 8, 3) := dk_160 0 8 (dk_at dksX7_piece_2 7 rfl rfl)
theorem dX7_piece_56 : decode cX7_piece 56 = .ok (.aload_n 0, 1) := dk_42 (dk_at dksX7_piece_2 10 rfl rfl)
theorem dX7_piece_57 : decode cX7_piece 57 = .ok (.invokevirtual 110, 3) := dk_182 0 110 (dk_at dksX7_piece_2 11 rfl rfl)
theorem dX7_piece_60 : decode cX7_piece 60 = .ok (.areturn, 1) := dk_176 (dk_at dksX7_piece_2 14 rfl rfl)
theorem dX7_piece_61 : decode cX7_piece 61 = .ok (.aload_n 0, 1) := dk_42 (dk_at dksX7_piece_2 15 rfl rfl)
theorem dX7_piece_62 : decode cX7_piece 62 = .ok (.invokevirtual 60, 3) := dk_182 0 60 (dk_at dksX7_piece_2 16 rfl rfl)
theorem dX7_piece_65 : decode cX7_piece 65 = .ok (.astore_n 2, 1) := dk_77 (dk_at dksX7_piece_2 19 rfl rfl)
theorem dX7_piece_66 : decode cX7_piece 66 = .ok (.aload_n 0, 1) := dk_42 (dk_at dksX7_piece_2 20 rfl rfl)
theorem dX7_piece_67 : decode cX7_piece 67 = .ok (.invokevirtual 39, 3) := dk_182 0 39 (dk_at dksX7_piece_2 21 rfl rfl)
theorem dX7_piece_70 : decode cX7_piece 70 = .ok (.istore_n 3, 1) := dk_62 (dk_at dksX7_piece_3 0 rfl rfl)
theorem dX7_piece_71 : decode cX7_piece 71 = .ok (.iload_n 3, 1) := dk_29 (dk_at dksX7_piece_3 1 rfl rfl)
theorem dX7_piece_72 : decode cX7_piece 72 = .ok (.bipush 60, 2) := dk_16 60 (dk_at dksX7_piece_3 2 rfl rfl)
theorem dX7_piece_74 : decode cX7_piece 74 = .ok (.if_icmp .eq 24, 3) := dk_159 0 24 (dk_at dksX7_piece_3 4 rfl rfl)
theorem dX7_piece_77 : decode cX7_piece 77 = .ok (.iload_n 3, 1) := dk_29 (dk_at dksX7_piece_3 7 rfl rfl)
theorem dX7_piece_78 : decode cX7_piece 78 = .ok (.bipush 62, 2) := dk_16 62 (dk_at dksX7_piece_3 8 rfl rfl)
theorem dX7_piece_80 : decode cX7_piece 80 = .ok (.if_icmp .eq 18, 3) := dk_159 0 18 (dk_at dksX7_piece_3 10 rfl rfl)
theorem dX7_piece_83 : decode cX7_piece 83 = .ok (.iload_n 3, 1) := dk_29 (dk_at dksX7_piece_3 13 rfl rfl)
theorem dX7_piece_84 : decode cX7_piece 84 = .ok (.bipush 61, 2) := dk_16 61 (dk_at dksX7_piece_3 14 rfl rfl)
theorem dX7_piece_86 : decode cX7_piece 86 = .ok (.if_icmp .eq 12, 3) := dk_159 0 12 (dk_at dksX7_piece_3 16 rfl rfl)
theorem dX7_piece_89 : decode cX7_piece 89 = .ok (.aload_n 0, 1) := dk_42 (dk_at dksX7_piece_3 19 rfl rfl)
theorem dX7_piece_90 : decode cX7_piece 90 = .ok (.iconst 1, 1) := dk_4 (dk_at dksX7_piece_3 20 rfl rfl)
theorem dX7_piece_91 : decode cX7_piece 91 = .ok (.aload_n 0, 1) := dk_42 (dk_at dksX7_piece_3 21 rfl rfl)
theorem dX7_piece_92 : decode cX7_piece 92 = .ok (.getfield 26, 3) := dk_180 0 26 (dk_at dksX7_piece_4 0 rfl rfl)
theorem dX7_piece_95 : decode cX7_piece 95 = .ok (.invokevirtual 50, 3) := dk_182 0 50 (dk_at dksX7_piece_4 3 rfl rfl)
theorem dX7_piece_98 : decode cX7_piece 98 = .ok (.aload_n 0, 1) := dk_42 (dk_at dksX7_piece_4 6 rfl rfl)
theorem dX7_piece_99 : decode cX7_piece 99 = .ok (.dup, 1) := dk_89 (dk_at dksX7_piece_4 7 rfl rfl)
theorem dX7_piece_100 : decode cX7_piece 100 = .ok (.getfield 26, 3) := dk_180 0 26 (dk_at dksX7_piece_4 8 rfl rfl)
theorem dX7_piece_103 : decode cX7_piece 103 = .ok (.iconst 1, 1) := dk_4 (dk_at dksX7_piece_4 11 rfl rfl)
theorem dX7_piece_104 : decode cX7_piece 104 = .ok (.iadd, 1) := dk_96 (dk_at dksX7_piece_4 12 rfl rfl)
theorem dX7_piece_105 : decode cX7_piece 105 = .ok (.putfield 26, 3) := dk_181 0 26 (dk_at dksX7_piece_4 13 rfl rfl)
theorem dX7_piece_108 : decode cX7_piece 108 = .ok (.new 113, 3) := dk_187 0 113 (dk_at dksX7_piece_4 16 rfl rfl)
theorem dX7_piece_111 : decode cX7_piece 111 = .ok (.dup, 1) := dk_89 (dk_at dksX7_piece_4 19 rfl rfl)
theorem dX7_piece_112 : decode cX7_piece 112 = .ok (.aload_n 2, 1) := dk_44 (dk_at dksX7_piece_4 20 rfl rfl)
theorem dX7_piece_113 : decode cX7_piece 113 = .ok (.iload_n 3, 1) := dk_29 (dk_at dksX7_piece_4 21 rfl rfl)
theorem dX7_piece_114 : decode cX7_piece 114 = .ok (.aload_n 0, 1) := dk_42 (dk_at dksX7_piece_4 22 rfl rfl)
theorem dX7_piece_115 : decode cX7_piece 115 = .ok (.invokevirtual 43, 3) := dk_182 0 43 (dk_at dksX7_piece_5 0 rfl rfl)
theorem dX7_piece_118 : decode cX7_piece 118 = .ok (.ifCond .eq 10, 3) := dk_153 0 10 (dk_at dksX7_piece_5 3 rfl rfl)
theorem dX7_piece_121 : decode cX7_piece 121 = .ok (.aload_n 0, 1) := dk_42 (dk_at dksX7_piece_5 6 rfl rfl)
theorem dX7_piece_122 : decode cX7_piece 122 = .ok (.invokevirtual 60, 3) := dk_182 0 60 (dk_at dksX7_piece_5 7 rfl rfl)
theorem dX7_piece_125 : decode cX7_piece 125 = .ok (.goto 4, 3) := dk_167 0 4 (dk_at dksX7_piece_5 10 rfl rfl)
theorem dX7_piece_128 : decode cX7_piece 128 = .ok (.aconst_null, 1) := dk_1 (dk_at dksX7_piece_5 13 rfl rfl)
theorem dX7_piece_129 : decode cX7_piece 129 = .ok (.invokespecial 115, 3) := dk_183 0 115 (dk_at dksX7_piece_5 14 rfl rfl)
theorem dX7_piece_132 : decode cX7_piece 132 = .ok (.areturn, 1) := dk_176 (dk_at dksX7_piece_5 17 rfl rfl)
theorem q117 : (Jvm.Cond.initialized "SharedWindow$Reader") ∈ lw_all := lw_g (lw_at lw_m1 8 rfl) rfl
theorem q270 : (Jvm.Cond.fieldLinkNest "SharedWindow$Reader" (134 : Nat) "SharedWindow$Text" "letters" "[I" "SharedWindow") ∈ lw_tbl := lw_at lw_m1 161 rfl
theorem q272 : (Jvm.Cond.fieldLinkNest "SharedWindow$Reader" (138 : Nat) "SharedWindow$Text" "sums" "[LSharedWindow$Sum;" "SharedWindow") ∈ lw_tbl := lw_at lw_m1 163 rfl
theorem q274 : (Jvm.Cond.fieldLinkNest "SharedWindow$Reader" (142 : Nat) "SharedWindow$Text" "conditions" "[LSharedWindow$Condition;" "SharedWindow") ∈ lw_tbl := lw_at lw_m1 165 rfl
theorem q276 : (Jvm.Cond.fieldLinkNest "SharedWindow$Reader" (131 : Nat) "SharedWindow$Text" "many" "I" "SharedWindow") ∈ lw_tbl := lw_at lw_m1 167 rfl
theorem q300 : (Jvm.Cond.fieldLinkNest "SharedWindow$Reader" (29 : Nat) "SharedWindow" "tape" "[B" "SharedWindow") ∈ lw_tbl := lw_at lw_m1 191 rfl
theorem q389 : (Jvm.Cond.instantiable "SharedWindow$Reader" (7 : Nat)) ∈ lw_all := lw_g (lw_at lw_m2 40 rfl) rfl
theorem q391 : (Jvm.Cond.instanceMethod ({ cls := "SharedWindow$Reader", name := "<init>", desc := "(LSharedWindow;I)V" } : Jvm.MethodName)) ∈ lw_all := lw_g (lw_at lw_m2 42 rfl) rfl
theorem q392 : (Jvm.Cond.code ({ cls := "SharedWindow$Reader", name := "<init>", desc := "(LSharedWindow;I)V" } : Jvm.MethodName) prog_11_method_1_code (3 : Nat) (Option.none : Option Jvm.ClassFile.FieldType)) ∈ lw_all := lw_g (lw_at lw_m2 43 rfl) rfl
theorem q393 : (Jvm.Cond.methodLink "SharedWindow$Reader" (9 : Nat) ({ cls := "java/lang/Object", name := "<init>", desc := "()V" } : Jvm.MethodName)) ∈ lw_all := lw_g (lw_at lw_m2 44 rfl) rfl
theorem q394 : (Jvm.Cond.classLink "SharedWindow$Reader" (15 : Nat) "SharedWindow$Text") ∈ lw_all := lw_g (lw_at lw_m2 45 rfl) rfl
theorem q395 : (Jvm.Cond.methodLinkNest "SharedWindow$Reader" (17 : Nat) ({ cls := "SharedWindow$Text", name := "<init>", desc := "()V" } : Jvm.MethodName) "SharedWindow") ∈ lw_tbl := lw_at lw_m2 46 rfl
theorem q396 : (Jvm.Cond.fieldLink "SharedWindow$Reader" (22 : Nat) "SharedWindow$Reader" "n" "I") ∈ lw_all := lw_g (lw_at lw_m2 47 rfl) rfl
theorem q397 : (Jvm.Cond.fieldLink "SharedWindow$Reader" (18 : Nat) "SharedWindow$Reader" "text" "LSharedWindow$Text;") ∈ lw_all := lw_g (lw_at lw_m2 48 rfl) rfl
theorem q399 : (Jvm.Cond.fieldLink "SharedWindow$Reader" (26 : Nat) "SharedWindow$Reader" "at" "I") ∈ lw_all := lw_g (lw_at lw_m2 50 rfl) rfl
theorem q400 : (Jvm.Cond.fieldLink "SharedWindow$Reader" (54 : Nat) "SharedWindow$Reader" "open" "I") ∈ lw_all := lw_g (lw_at lw_m2 51 rfl) rfl
theorem q401 : (Jvm.Cond.fieldLink "SharedWindow$Reader" (33 : Nat) "SharedWindow$Reader" "fault" "I") ∈ lw_all := lw_g (lw_at lw_m2 52 rfl) rfl
theorem q402 : (Jvm.Cond.fieldLink "SharedWindow$Reader" (36 : Nat) "SharedWindow$Reader" "place" "I") ∈ lw_all := lw_g (lw_at lw_m2 53 rfl) rfl
theorem q403 : (Jvm.Cond.fieldLink "SharedWindow$Reader" (3 : Nat) "SharedWindow$Reader" "this$0" "LSharedWindow;") ∈ lw_all := lw_g (lw_at lw_m2 54 rfl) rfl
theorem q404 : (Jvm.Cond.laysFinal "SharedWindow$Reader" "SharedWindow$Reader" "n" "I") ∈ lw_all := lw_g (lw_at lw_m2 55 rfl) rfl
theorem q405 : (Jvm.Cond.soleField "SharedWindow$Reader" "n") ∈ lw_all := lw_g (lw_at lw_m2 56 rfl) rfl
theorem q406 : (Jvm.Cond.laysFinal "SharedWindow$Reader" "SharedWindow$Reader" "text" "LSharedWindow$Text;") ∈ lw_all := lw_g (lw_at lw_m2 57 rfl) rfl
theorem q407 : (Jvm.Cond.soleField "SharedWindow$Reader" "text") ∈ lw_all := lw_g (lw_at lw_m2 58 rfl) rfl
theorem q408 : (Jvm.Cond.lays "SharedWindow$Reader" "SharedWindow$Reader" "at" "I") ∈ lw_all := lw_g (lw_at lw_m2 59 rfl) rfl
theorem q409 : (Jvm.Cond.soleField "SharedWindow$Reader" "at") ∈ lw_all := lw_g (lw_at lw_m2 60 rfl) rfl
theorem q410 : (Jvm.Cond.lays "SharedWindow$Reader" "SharedWindow$Reader" "open" "I") ∈ lw_all := lw_g (lw_at lw_m2 61 rfl) rfl
theorem q411 : (Jvm.Cond.soleField "SharedWindow$Reader" "open") ∈ lw_all := lw_g (lw_at lw_m2 62 rfl) rfl
theorem q412 : (Jvm.Cond.lays "SharedWindow$Reader" "SharedWindow$Reader" "fault" "I") ∈ lw_all := lw_g (lw_at lw_m2 63 rfl) rfl
theorem q413 : (Jvm.Cond.soleField "SharedWindow$Reader" "fault") ∈ lw_all := lw_g (lw_at lw_m2 64 rfl) rfl
theorem q414 : (Jvm.Cond.lays "SharedWindow$Reader" "SharedWindow$Reader" "place" "I") ∈ lw_all := lw_g (lw_at lw_m2 65 rfl) rfl
theorem q415 : (Jvm.Cond.soleField "SharedWindow$Reader" "place") ∈ lw_all := lw_g (lw_at lw_m2 66 rfl) rfl
theorem q416 : (Jvm.Cond.laysFinal "SharedWindow$Reader" "SharedWindow$Reader" "this$0" "LSharedWindow;") ∈ lw_all := lw_g (lw_at lw_m2 67 rfl) rfl
theorem q417 : (Jvm.Cond.soleField "SharedWindow$Reader" "this$0") ∈ lw_all := lw_g (lw_at lw_m2 68 rfl) rfl
theorem q418 : (Jvm.Cond.superclass "SharedWindow$Reader" "java/lang/Object") ∈ lw_all := lw_g (lw_at lw_m2 69 rfl) rfl
theorem q420 : (Jvm.Cond.instanceMethod ({ cls := "SharedWindow$Reader", name := "read", desc := "()I" } : Jvm.MethodName)) ∈ lw_all := lw_g (lw_at lw_m2 71 rfl) rfl
theorem q421 : (Jvm.Cond.selects "SharedWindow$Reader" ({ cls := "SharedWindow$Reader", name := "read", desc := "()I" } : Jvm.MethodName) ({ cls := "SharedWindow$Reader", name := "read", desc := "()I" } : Jvm.MethodName)) ∈ lw_all := lw_g (lw_at lw_m2 72 rfl) rfl
theorem q422 : (Jvm.Cond.code ({ cls := "SharedWindow$Reader", name := "read", desc := "()I" } : Jvm.MethodName) prog_11_method_16_code (2 : Nat) (Option.some Jvm.ClassFile.FieldType.int)) ∈ lw_all := lw_g (lw_at lw_m2 73 rfl) rfl
theorem q423 : (Jvm.Cond.methodLink "SharedWindow$Reader" (43 : Nat) ({ cls := "SharedWindow$Reader", name := "isGood", desc := "()Z" } : Jvm.MethodName)) ∈ lw_all := lw_g (lw_at lw_m2 74 rfl) rfl
theorem q424 : (Jvm.Cond.privateMethod ({ cls := "SharedWindow$Reader", name := "isGood", desc := "()Z" } : Jvm.MethodName)) ∈ lw_tbl := lw_at lw_m2 75 rfl
theorem q425 : (Jvm.Cond.instanceMethod ({ cls := "SharedWindow$Reader", name := "isGood", desc := "()Z" } : Jvm.MethodName)) ∈ lw_all := lw_g (lw_at lw_m2 76 rfl) rfl
theorem q426 : (Jvm.Cond.code ({ cls := "SharedWindow$Reader", name := "isGood", desc := "()Z" } : Jvm.MethodName) prog_11_method_3_code (1 : Nat) (Option.some Jvm.ClassFile.FieldType.boolean)) ∈ lw_all := lw_g (lw_at lw_m2 77 rfl) rfl
theorem q427 : (Jvm.Cond.methodLink "SharedWindow$Reader" (146 : Nat) ({ cls := "SharedWindow$Reader", name := "clause", desc := "()V" } : Jvm.MethodName)) ∈ lw_all := lw_g (lw_at lw_m2 78 rfl) rfl
theorem q428 : (Jvm.Cond.privateMethod ({ cls := "SharedWindow$Reader", name := "clause", desc := "()V" } : Jvm.MethodName)) ∈ lw_tbl := lw_at lw_m2 79 rfl
theorem q429 : (Jvm.Cond.instanceMethod ({ cls := "SharedWindow$Reader", name := "clause", desc := "()V" } : Jvm.MethodName)) ∈ lw_all := lw_g (lw_at lw_m2 80 rfl) rfl
theorem q430 : (Jvm.Cond.code ({ cls := "SharedWindow$Reader", name := "clause", desc := "()V" } : Jvm.MethodName) prog_11_method_15_code (4 : Nat) (Option.none : Option Jvm.ClassFile.FieldType)) ∈ lw_all := lw_g (lw_at lw_m2 81 rfl) rfl
theorem q431 : (Jvm.Cond.methodLink "SharedWindow$Reader" (39 : Nat) ({ cls := "SharedWindow$Reader", name := "here", desc := "()I" } : Jvm.MethodName)) ∈ lw_all := lw_g (lw_at lw_m2 82 rfl) rfl
theorem q432 : (Jvm.Cond.privateMethod ({ cls := "SharedWindow$Reader", name := "here", desc := "()I" } : Jvm.MethodName)) ∈ lw_tbl := lw_at lw_m2 83 rfl
theorem q433 : (Jvm.Cond.instanceMethod ({ cls := "SharedWindow$Reader", name := "here", desc := "()I" } : Jvm.MethodName)) ∈ lw_all := lw_g (lw_at lw_m2 84 rfl) rfl
theorem q434 : (Jvm.Cond.code ({ cls := "SharedWindow$Reader", name := "here", desc := "()I" } : Jvm.MethodName) prog_11_method_2_code (1 : Nat) (Option.some Jvm.ClassFile.FieldType.int)) ∈ lw_all := lw_g (lw_at lw_m2 85 rfl) rfl
theorem q435 : (Jvm.Cond.stringRef "SharedWindow$Reader" (129 : Nat) "cjx") ∈ lw_tbl := lw_at lw_m2 86 rfl
theorem q436 : (Jvm.Cond.methodLink "SharedWindow$Reader" (77 : Nat) ({ cls := "java/lang/String", name := "indexOf", desc := "(I)I" } : Jvm.MethodName)) ∈ lw_all := lw_g (lw_at lw_m2 87 rfl) rfl
theorem q522 : (Jvm.Cond.methodLink "SharedWindow$Reader" (50 : Nat) ({ cls := "SharedWindow$Reader", name := "bad", desc := "(II)V" } : Jvm.MethodName)) ∈ lw_all := lw_g (lw_at lw_m2 173 rfl) rfl
theorem q523 : (Jvm.Cond.privateMethod ({ cls := "SharedWindow$Reader", name := "bad", desc := "(II)V" } : Jvm.MethodName)) ∈ lw_tbl := lw_at lw_m2 174 rfl
theorem q524 : (Jvm.Cond.instanceMethod ({ cls := "SharedWindow$Reader", name := "bad", desc := "(II)V" } : Jvm.MethodName)) ∈ lw_all := lw_g (lw_at lw_m2 175 rfl) rfl
theorem q525 : (Jvm.Cond.code ({ cls := "SharedWindow$Reader", name := "bad", desc := "(II)V" } : Jvm.MethodName) prog_11_method_4_code (3 : Nat) (Option.none : Option Jvm.ClassFile.FieldType)) ∈ lw_all := lw_g (lw_at lw_m2 176 rfl) rfl
theorem q526 : (Jvm.Cond.methodLink "SharedWindow$Reader" (60 : Nat) ({ cls := "SharedWindow$Reader", name := "sum", desc := "()LSharedWindow$Sum;" } : Jvm.MethodName)) ∈ lw_all := lw_g (lw_at lw_m2 177 rfl) rfl
theorem q527 : (Jvm.Cond.privateMethod ({ cls := "SharedWindow$Reader", name := "sum", desc := "()LSharedWindow$Sum;" } : Jvm.MethodName)) ∈ lw_tbl := lw_at lw_m2 178 rfl
theorem q528 : (Jvm.Cond.instanceMethod ({ cls := "SharedWindow$Reader", name := "sum", desc := "()LSharedWindow$Sum;" } : Jvm.MethodName)) ∈ lw_all := lw_g (lw_at lw_m2 179 rfl) rfl
theorem q529 : (Jvm.Cond.code ({ cls := "SharedWindow$Reader", name := "sum", desc := "()LSharedWindow$Sum;" } : Jvm.MethodName) prog_11_method_11_code (4 : Nat) (Option.some (Jvm.ClassFile.FieldType.object "SharedWindow$Sum"))) ∈ lw_all := lw_g (lw_at lw_m2 180 rfl) rfl
theorem q530 : (Jvm.Cond.classLink "SharedWindow$Reader" (86 : Nat) "SharedWindow$Row") ∈ lw_all := lw_g (lw_at lw_m2 181 rfl) rfl
theorem q532 : (Jvm.Cond.methodLink "SharedWindow$Reader" (98 : Nat) ({ cls := "SharedWindow$Reader", name := "product", desc := "()LSharedWindow$Sum;" } : Jvm.MethodName)) ∈ lw_all := lw_g (lw_at lw_m2 183 rfl) rfl
theorem q533 : (Jvm.Cond.privateMethod ({ cls := "SharedWindow$Reader", name := "product", desc := "()LSharedWindow$Sum;" } : Jvm.MethodName)) ∈ lw_tbl := lw_at lw_m2 184 rfl
theorem q534 : (Jvm.Cond.instanceMethod ({ cls := "SharedWindow$Reader", name := "product", desc := "()LSharedWindow$Sum;" } : Jvm.MethodName)) ∈ lw_all := lw_g (lw_at lw_m2 185 rfl) rfl
theorem q535 : (Jvm.Cond.code ({ cls := "SharedWindow$Reader", name := "product", desc := "()LSharedWindow$Sum;" } : Jvm.MethodName) prog_11_method_10_code (4 : Nat) (Option.some (Jvm.ClassFile.FieldType.object "SharedWindow$Sum"))) ∈ lw_all := lw_g (lw_at lw_m2 186 rfl) rfl
theorem q536 : (Jvm.Cond.methodLink "SharedWindow$Reader" (88 : Nat) ({ cls := "SharedWindow$Reader", name := "factor", desc := "()LSharedWindow$Sum;" } : Jvm.MethodName)) ∈ lw_all := lw_g (lw_at lw_m2 187 rfl) rfl
theorem q537 : (Jvm.Cond.privateMethod ({ cls := "SharedWindow$Reader", name := "factor", desc := "()LSharedWindow$Sum;" } : Jvm.MethodName)) ∈ lw_tbl := lw_at lw_m2 188 rfl
theorem q538 : (Jvm.Cond.instanceMethod ({ cls := "SharedWindow$Reader", name := "factor", desc := "()LSharedWindow$Sum;" } : Jvm.MethodName)) ∈ lw_all := lw_g (lw_at lw_m2 189 rfl) rfl
theorem q539 : (Jvm.Cond.code ({ cls := "SharedWindow$Reader", name := "factor", desc := "()LSharedWindow$Sum;" } : Jvm.MethodName) prog_11_method_9_code (3 : Nat) (Option.some (Jvm.ClassFile.FieldType.object "SharedWindow$Sum"))) ∈ lw_all := lw_g (lw_at lw_m2 190 rfl) rfl
theorem q540 : (Jvm.Cond.methodLink "SharedWindow$Reader" (57 : Nat) ({ cls := "SharedWindow$Reader", name := "opens", desc := "()V" } : Jvm.MethodName)) ∈ lw_all := lw_g (lw_at lw_m2 191 rfl) rfl
theorem q541 : (Jvm.Cond.privateMethod ({ cls := "SharedWindow$Reader", name := "opens", desc := "()V" } : Jvm.MethodName)) ∈ lw_tbl := lw_at lw_m2 192 rfl
theorem q542 : (Jvm.Cond.instanceMethod ({ cls := "SharedWindow$Reader", name := "opens", desc := "()V" } : Jvm.MethodName)) ∈ lw_all := lw_g (lw_at lw_m2 193 rfl) rfl
theorem q543 : (Jvm.Cond.code ({ cls := "SharedWindow$Reader", name := "opens", desc := "()V" } : Jvm.MethodName) prog_11_method_8_code (1 : Nat) (Option.none : Option Jvm.ClassFile.FieldType)) ∈ lw_all := lw_g (lw_at lw_m2 194 rfl) rfl
theorem q544 : (Jvm.Cond.methodLink "SharedWindow$Reader" (64 : Nat) ({ cls := "SharedWindow$Reader", name := "must", desc := "(I)V" } : Jvm.MethodName)) ∈ lw_all := lw_g (lw_at lw_m2 195 rfl) rfl
theorem q545 : (Jvm.Cond.privateMethod ({ cls := "SharedWindow$Reader", name := "must", desc := "(I)V" } : Jvm.MethodName)) ∈ lw_tbl := lw_at lw_m2 196 rfl
theorem q546 : (Jvm.Cond.instanceMethod ({ cls := "SharedWindow$Reader", name := "must", desc := "(I)V" } : Jvm.MethodName)) ∈ lw_all := lw_g (lw_at lw_m2 197 rfl) rfl
theorem q547 : (Jvm.Cond.code ({ cls := "SharedWindow$Reader", name := "must", desc := "(I)V" } : Jvm.MethodName) prog_11_method_7_code (2 : Nat) (Option.none : Option Jvm.ClassFile.FieldType)) ∈ lw_all := lw_g (lw_at lw_m2 198 rfl) rfl
theorem q548 : (Jvm.Cond.methodLink "SharedWindow$Reader" (47 : Nat) ({ cls := "SharedWindow$Reader", name := "seesDigit", desc := "()Z" } : Jvm.MethodName)) ∈ lw_all := lw_g (lw_at lw_m2 199 rfl) rfl
theorem q549 : (Jvm.Cond.privateMethod ({ cls := "SharedWindow$Reader", name := "seesDigit", desc := "()Z" } : Jvm.MethodName)) ∈ lw_tbl := lw_at lw_m2 200 rfl
theorem q550 : (Jvm.Cond.instanceMethod ({ cls := "SharedWindow$Reader", name := "seesDigit", desc := "()Z" } : Jvm.MethodName)) ∈ lw_all := lw_g (lw_at lw_m2 201 rfl) rfl
theorem q551 : (Jvm.Cond.code ({ cls := "SharedWindow$Reader", name := "seesDigit", desc := "()Z" } : Jvm.MethodName) prog_11_method_5_code (1 : Nat) (Option.some Jvm.ClassFile.FieldType.boolean)) ∈ lw_all := lw_g (lw_at lw_m2 202 rfl) rfl
theorem q552 : (Jvm.Cond.classLink "SharedWindow$Reader" (68 : Nat) "SharedWindow$Number") ∈ lw_all := lw_g (lw_at lw_m2 203 rfl) rfl
theorem q554 : (Jvm.Cond.methodLink "SharedWindow$Reader" (70 : Nat) ({ cls := "SharedWindow$Reader", name := "number", desc := "()I" } : Jvm.MethodName)) ∈ lw_all := lw_g (lw_at lw_m2 205 rfl) rfl
theorem q555 : (Jvm.Cond.privateMethod ({ cls := "SharedWindow$Reader", name := "number", desc := "()I" } : Jvm.MethodName)) ∈ lw_tbl := lw_at lw_m2 206 rfl
theorem q556 : (Jvm.Cond.instanceMethod ({ cls := "SharedWindow$Reader", name := "number", desc := "()I" } : Jvm.MethodName)) ∈ lw_all := lw_g (lw_at lw_m2 207 rfl) rfl
theorem q557 : (Jvm.Cond.code ({ cls := "SharedWindow$Reader", name := "number", desc := "()I" } : Jvm.MethodName) prog_11_method_6_code (3 : Nat) (Option.some Jvm.ClassFile.FieldType.int)) ∈ lw_all := lw_g (lw_at lw_m2 208 rfl) rfl
theorem q558 : (Jvm.Cond.methodLink "SharedWindow$Reader" (73 : Nat) ({ cls := "SharedWindow$Number", name := "<init>", desc := "(I)V" } : Jvm.MethodName)) ∈ lw_all := lw_g (lw_at lw_m2 209 rfl) rfl
theorem q569 : (Jvm.Cond.stringRef "SharedWindow$Reader" (75 : Nat) "hgsdnbktw") ∈ lw_tbl := lw_at lw_m2 220 rfl
theorem q570 : (Jvm.Cond.classLink "SharedWindow$Reader" (83 : Nat) "SharedWindow$Letter") ∈ lw_all := lw_g (lw_at lw_m2 221 rfl) rfl
theorem q572 : (Jvm.Cond.methodLink "SharedWindow$Reader" (85 : Nat) ({ cls := "SharedWindow$Letter", name := "<init>", desc := "(I)V" } : Jvm.MethodName)) ∈ lw_all := lw_g (lw_at lw_m2 223 rfl) rfl
theorem q580 : (Jvm.Cond.methodLink "SharedWindow$Reader" (91 : Nat) ({ cls := "SharedWindow$Row", name := "<init>", desc := "(ILSharedWindow$Sum;)V" } : Jvm.MethodName)) ∈ lw_all := lw_g (lw_at lw_m2 231 rfl) rfl
theorem q587 : (Jvm.Cond.fieldLinkNest "SharedWindow$Reader" (94 : Nat) "SharedWindow$Row" "next" "LSharedWindow$Row;" "SharedWindow") ∈ lw_tbl := lw_at lw_m2 238 rfl
theorem q595 : (Jvm.Cond.methodLink "SharedWindow$Reader" (110 : Nat) ({ cls := "SharedWindow$Reader", name := "condition", desc := "()LSharedWindow$Condition;" } : Jvm.MethodName)) ∈ lw_all := lw_g (lw_at lw_m3 6 rfl) rfl
theorem q596 : (Jvm.Cond.privateMethod ({ cls := "SharedWindow$Reader", name := "condition", desc := "()LSharedWindow$Condition;" } : Jvm.MethodName)) ∈ lw_tbl := lw_at lw_m3 7 rfl
theorem q597 : (Jvm.Cond.instanceMethod ({ cls := "SharedWindow$Reader", name := "condition", desc := "()LSharedWindow$Condition;" } : Jvm.MethodName)) ∈ lw_all := lw_g (lw_at lw_m3 8 rfl) rfl
theorem q598 : (Jvm.Cond.code ({ cls := "SharedWindow$Reader", name := "condition", desc := "()LSharedWindow$Condition;" } : Jvm.MethodName) prog_11_method_14_code (3 : Nat) (Option.some (Jvm.ClassFile.FieldType.object "SharedWindow$Condition"))) ∈ lw_all := lw_g (lw_at lw_m3 9 rfl) rfl
theorem q599 : (Jvm.Cond.classLink "SharedWindow$Reader" (118 : Nat) "SharedWindow$Some") ∈ lw_all := lw_g (lw_at lw_m3 10 rfl) rfl
theorem q601 : (Jvm.Cond.methodLink "SharedWindow$Reader" (126 : Nat) ({ cls := "SharedWindow$Reader", name := "pieces", desc := "()LSharedWindow$Condition;" } : Jvm.MethodName)) ∈ lw_all := lw_g (lw_at lw_m3 12 rfl) rfl
theorem q602 : (Jvm.Cond.privateMethod ({ cls := "SharedWindow$Reader", name := "pieces", desc := "()LSharedWindow$Condition;" } : Jvm.MethodName)) ∈ lw_tbl := lw_at lw_m3 13 rfl
theorem q603 : (Jvm.Cond.instanceMethod ({ cls := "SharedWindow$Reader", name := "pieces", desc := "()LSharedWindow$Condition;" } : Jvm.MethodName)) ∈ lw_all := lw_g (lw_at lw_m3 14 rfl) rfl
theorem q604 : (Jvm.Cond.code ({ cls := "SharedWindow$Reader", name := "pieces", desc := "()LSharedWindow$Condition;" } : Jvm.MethodName) prog_11_method_13_code (3 : Nat) (Option.some (Jvm.ClassFile.FieldType.object "SharedWindow$Condition"))) ∈ lw_all := lw_g (lw_at lw_m3 15 rfl) rfl
theorem q605 : (Jvm.Cond.methodLink "SharedWindow$Reader" (101 : Nat) ({ cls := "SharedWindow$Reader", name := "piece", desc := "()LSharedWindow$Condition;" } : Jvm.MethodName)) ∈ lw_all := lw_g (lw_at lw_m3 16 rfl) rfl
theorem q606 : (Jvm.Cond.privateMethod ({ cls := "SharedWindow$Reader", name := "piece", desc := "()LSharedWindow$Condition;" } : Jvm.MethodName)) ∈ lw_tbl := lw_at lw_m3 17 rfl
theorem q607 : (Jvm.Cond.instanceMethod ({ cls := "SharedWindow$Reader", name := "piece", desc := "()LSharedWindow$Condition;" } : Jvm.MethodName)) ∈ lw_all := lw_g (lw_at lw_m3 18 rfl) rfl
theorem q608 : (Jvm.Cond.code ({ cls := "SharedWindow$Reader", name := "piece", desc := "()LSharedWindow$Condition;" } : Jvm.MethodName) prog_11_method_12_code (4 : Nat) (Option.some (Jvm.ClassFile.FieldType.object "SharedWindow$Condition"))) ∈ lw_all := lw_g (lw_at lw_m3 19 rfl) rfl
theorem q609 : (Jvm.Cond.classLink "SharedWindow$Reader" (105 : Nat) "SharedWindow$Not") ∈ lw_all := lw_g (lw_at lw_m3 20 rfl) rfl
theorem q611 : (Jvm.Cond.methodLink "SharedWindow$Reader" (107 : Nat) ({ cls := "SharedWindow$Not", name := "<init>", desc := "(LSharedWindow$Condition;)V" } : Jvm.MethodName)) ∈ lw_all := lw_g (lw_at lw_m3 22 rfl) rfl
theorem q622 : (Jvm.Cond.classLink "SharedWindow$Reader" (113 : Nat) "SharedWindow$Compared") ∈ lw_all := lw_g (lw_at lw_m3 33 rfl) rfl
theorem q624 : (Jvm.Cond.methodLink "SharedWindow$Reader" (115 : Nat) ({ cls := "SharedWindow$Compared", name := "<init>", desc := "(LSharedWindow$Sum;ILSharedWindow$Sum;)V" } : Jvm.MethodName)) ∈ lw_all := lw_g (lw_at lw_m3 35 rfl) rfl
theorem q638 : (Jvm.Cond.methodLink "SharedWindow$Reader" (120 : Nat) ({ cls := "SharedWindow$Some", name := "<init>", desc := "(LSharedWindow$Condition;I)V" } : Jvm.MethodName)) ∈ lw_all := lw_g (lw_at lw_m3 49 rfl) rfl
theorem q645 : (Jvm.Cond.fieldLinkNest "SharedWindow$Reader" (123 : Nat) "SharedWindow$Some" "next" "LSharedWindow$Some;" "SharedWindow") ∈ lw_tbl := lw_at lw_m3 56 rfl
theorem in_X7 : ∀ w ∈ wsX70, w ∈ lw_all := lw_in wsX70 [404, 406, 408, 410, 412, 414, 416] (by decide +kernel) (by decide +kernel)
/-! SharedWindow$Sum -/
set_option maxRecDepth 100000
def RX8 : String := "SharedWindow$Sum"
abbrev cX8_init : ByteArray := prog_16_method_1_code
def yX8_init : MethodName := ⟨RX8, "<init>", "()V"⟩
theorem dX8_init_0 : decode cX8_init 0 = .ok (.aload_n 0, 1) := by decide +kernel
theorem dX8_init_1 : decode cX8_init 1 = .ok (.invokespecial 1, 3) := by decide +kernel
theorem dX8_init_4 : decode cX8_init 4 = .ok (.return_, 1) := by decide +kernel
abbrev cX8_told : ByteArray := prog_16_method_3_code
def yX8_told : MethodName := ⟨RX8, "told", "(LSharedWindow$Asked;)I"⟩
def dkwX8_told_0 : List UInt8 := [43, 3, 181, 0, 7, 42, 43, 182, 0, 13, 61, 43, 180, 0, 7, 153, 0, 7, 3, 167, 0, 4, 28, 172]
abbrev dktX8_told_0 : List UInt8 := dkwX8_told_0 ++ []
theorem dksX8_told_0 : cX8_told.data.toList.drop 0 = dktX8_told_0 := by decide +kernel
theorem dX8_told_0 : decode cX8_told 0 = .ok (.aload_n 1, 1) := dk_43 (dk_at dksX8_told_0 0 rfl rfl)
theorem dX8_told_1 : decode cX8_told 1 = .ok (.iconst 0, 1) := dk_3 (dk_at dksX8_told_0 1 rfl rfl)
theorem dX8_told_2 : decode cX8_told 2 = .ok (.putfield 7, 3) := dk_181 0 7 (dk_at dksX8_told_0 2 rfl rfl)
theorem dX8_told_5 : decode cX8_told 5 = .ok (.aload_n 0, 1) := dk_42 (dk_at dksX8_told_0 5 rfl rfl)
theorem dX8_told_6 : decode cX8_told 6 = .ok (.aload_n 1, 1) := dk_43 (dk_at dksX8_told_0 6 rfl rfl)
theorem dX8_told_7 : decode cX8_told 7 = .ok (.invokevirtual 13, 3) := dk_182 0 13 (dk_at dksX8_told_0 7 rfl rfl)
theorem dX8_told_10 : decode cX8_told 10 = .ok (.istore_n 2, 1) := dk_61 (dk_at dksX8_told_0 10 rfl rfl)
theorem dX8_told_11 : decode cX8_told 11 = .ok (.aload_n 1, 1) := dk_43 (dk_at dksX8_told_0 11 rfl rfl)
theorem dX8_told_12 : decode cX8_told 12 = .ok (.getfield 7, 3) := dk_180 0 7 (dk_at dksX8_told_0 12 rfl rfl)
theorem dX8_told_15 : decode cX8_told 15 = .ok (.ifCond .eq 7, 3) := dk_153 0 7 (dk_at dksX8_told_0 15 rfl rfl)
theorem dX8_told_18 : decode cX8_told 18 = .ok (.iconst 0, 1) := dk_3 (dk_at dksX8_told_0 18 rfl rfl)
theorem dX8_told_19 : decode cX8_told 19 = .ok (.goto 4, 3) := dk_167 0 4 (dk_at dksX8_told_0 19 rfl rfl)
theorem dX8_told_22 : decode cX8_told 22 = .ok (.iload_n 2, 1) := dk_28 (dk_at dksX8_told_0 22 rfl rfl)
theorem dX8_told_23 : decode cX8_told 23 = .ok (.ireturn, 1) := dk_172 (dk_at dksX8_told_0 23 rfl rfl)
theorem q124 : (Jvm.Cond.initialized "SharedWindow$Sum") ∈ lw_all := lw_g (lw_at lw_m1 15 rfl) rfl
theorem q199 : (Jvm.Cond.fieldLinkNest "SharedWindow$Sum" (7 : Nat) "SharedWindow$Asked" "isRefused" "Z" "SharedWindow") ∈ lw_tbl := lw_at lw_m1 90 rfl
theorem q562 : (Jvm.Cond.instanceMethod ({ cls := "SharedWindow$Sum", name := "<init>", desc := "()V" } : Jvm.MethodName)) ∈ lw_all := lw_g (lw_at lw_m2 213 rfl) rfl
theorem q563 : (Jvm.Cond.code ({ cls := "SharedWindow$Sum", name := "<init>", desc := "()V" } : Jvm.MethodName) prog_16_method_1_code (1 : Nat) (Option.none : Option Jvm.ClassFile.FieldType)) ∈ lw_all := lw_g (lw_at lw_m2 214 rfl) rfl
theorem q564 : (Jvm.Cond.methodLink "SharedWindow$Sum" (1 : Nat) ({ cls := "java/lang/Object", name := "<init>", desc := "()V" } : Jvm.MethodName)) ∈ lw_all := lw_g (lw_at lw_m2 215 rfl) rfl
theorem q933 : (Jvm.Cond.declares ({ cls := "SharedWindow$Sum", name := "worth", desc := "(LSharedWindow$Asked;)I" } : Jvm.MethodName)) ∈ lw_tbl := lw_at lw_m4 104 rfl
theorem q934 : (Jvm.Cond.sameMethod "SharedWindow$Sum" "SharedWindow$Sum" "worth" "(LSharedWindow$Asked;)I") ∈ lw_all := lw_g (lw_at lw_m4 105 rfl) rfl
theorem q967 : (Jvm.Cond.instanceMethod ({ cls := "SharedWindow$Sum", name := "told", desc := "(LSharedWindow$Asked;)I" } : Jvm.MethodName)) ∈ lw_all := lw_g (lw_at lw_m4 138 rfl) rfl
theorem q968 : (Jvm.Cond.sameMethod "SharedWindow$Sum" "SharedWindow$Sum" "told" "(LSharedWindow$Asked;)I") ∈ lw_all := lw_g (lw_at lw_m4 139 rfl) rfl
theorem q972 : (Jvm.Cond.code ({ cls := "SharedWindow$Sum", name := "told", desc := "(LSharedWindow$Asked;)I" } : Jvm.MethodName) prog_16_method_3_code (3 : Nat) (Option.some Jvm.ClassFile.FieldType.int)) ∈ lw_all := lw_g (lw_at lw_m4 143 rfl) rfl
theorem q973 : (Jvm.Cond.methodLink "SharedWindow$Sum" (13 : Nat) ({ cls := "SharedWindow$Sum", name := "worth", desc := "(LSharedWindow$Asked;)I" } : Jvm.MethodName)) ∈ lw_all := lw_g (lw_at lw_m4 144 rfl) rfl
/-! SharedWindow$Row -/
set_option maxRecDepth 100000
def RX9 : String := "SharedWindow$Row"
def TX9 : u_T := fun k => match k with
  | 0 => ("SharedWindow$Row", "sign", "I", true)
  | 1 => ("SharedWindow$Row", "part", "LSharedWindow$Sum;", true)
  | _ => ("SharedWindow$Row", "next", "LSharedWindow$Row;", false)
def tyX9 : Nat → FieldType := fun k => match k with
  | 0 => .int
  | 1 => .object "SharedWindow$Sum"
  | _ => .object "SharedWindow$Row"
abbrev wsX90 : List Cond := u_ws RX9 TX9 3
theorem nmX9 : ∀ a, a < 3 → ∀ b, b < 3 → a ≠ b → (TX9 a).2.1 ≠ (TX9 b).2.1 := by decide +kernel
theorem tyX9_ok : ∀ k, k < 3 → parseFieldDescriptor (TX9 k).2.2.1 = some (tyX9 k) := by decide +kernel
abbrev cX9_init : ByteArray := prog_12_method_1_code
def yX9_init : MethodName := ⟨RX9, "<init>", "(ILSharedWindow$Sum;)V"⟩
def dkwX9_init_0 : List UInt8 := [42, 183, 0, 1, 42, 27, 181, 0, 7, 42, 44, 181, 0, 13, 177]
abbrev dktX9_init_0 : List UInt8 := dkwX9_init_0 ++ []
theorem dksX9_init_0 : cX9_init.data.toList.drop 0 = dktX9_init_0 := by decide +kernel
theorem dX9_init_0 : decode cX9_init 0 = .ok (.aload_n 0, 1) := dk_42 (dk_at dksX9_init_0 0 rfl rfl)
theorem dX9_init_1 : decode cX9_init 1 = .ok (.invokespecial 1, 3) := dk_183 0 1 (dk_at dksX9_init_0 1 rfl rfl)
theorem dX9_init_4 : decode cX9_init 4 = .ok (.aload_n 0, 1) := dk_42 (dk_at dksX9_init_0 4 rfl rfl)
theorem dX9_init_5 : decode cX9_init 5 = .ok (.iload_n 1, 1) := dk_27 (dk_at dksX9_init_0 5 rfl rfl)
theorem dX9_init_6 : decode cX9_init 6 = .ok (.putfield 7, 3) := dk_181 0 7 (dk_at dksX9_init_0 6 rfl rfl)
theorem dX9_init_9 : decode cX9_init 9 = .ok (.aload_n 0, 1) := dk_42 (dk_at dksX9_init_0 9 rfl rfl)
theorem dX9_init_10 : decode cX9_init 10 = .ok (.aload_n 2, 1) := dk_44 (dk_at dksX9_init_0 10 rfl rfl)
theorem dX9_init_11 : decode cX9_init 11 = .ok (.putfield 13, 3) := dk_181 0 13 (dk_at dksX9_init_0 11 rfl rfl)
theorem dX9_init_14 : decode cX9_init 14 = .ok (.return_, 1) := dk_177 (dk_at dksX9_init_0 14 rfl rfl)
abbrev cX9_worth : ByteArray := prog_12_method_3_code
def yX9_worth : MethodName := ⟨RX9, "worth", "(LSharedWindow$Asked;)I"⟩
def dkwX9_worth_1 : List UInt8 := [180, 0, 13, 43, 182, 0, 23, 43, 184, 0, 31, 61, 45, 180, 0, 27, 78, 167, 255, 229, 28, 172]
abbrev dktX9_worth_1 : List UInt8 := dkwX9_worth_1 ++ []
def dkwX9_worth_0 : List UInt8 := [42, 180, 0, 13, 43, 182, 0, 23, 61, 42, 180, 0, 27, 78, 45, 198, 0, 29, 45, 180, 0, 7, 28, 45]
abbrev dktX9_worth_0 : List UInt8 := dkwX9_worth_0 ++ dktX9_worth_1
theorem dksX9_worth_0 : cX9_worth.data.toList.drop 0 = dktX9_worth_0 := by decide +kernel
theorem dksX9_worth_1 : cX9_worth.data.toList.drop 24 = dktX9_worth_1 := dk_seg dksX9_worth_0 24 rfl rfl
theorem dX9_worth_0 : decode cX9_worth 0 = .ok (.aload_n 0, 1) := dk_42 (dk_at dksX9_worth_0 0 rfl rfl)
theorem dX9_worth_1 : decode cX9_worth 1 = .ok (.getfield 13, 3) := dk_180 0 13 (dk_at dksX9_worth_0 1 rfl rfl)
theorem dX9_worth_4 : decode cX9_worth 4 = .ok (.aload_n 1, 1) := dk_43 (dk_at dksX9_worth_0 4 rfl rfl)
theorem dX9_worth_5 : decode cX9_worth 5 = .ok (.invokevirtual 23, 3) := dk_182 0 23 (dk_at dksX9_worth_0 5 rfl rfl)
theorem dX9_worth_8 : decode cX9_worth 8 = .ok (.istore_n 2, 1) := dk_61 (dk_at dksX9_worth_0 8 rfl rfl)
theorem dX9_worth_9 : decode cX9_worth 9 = .ok (.aload_n 0, 1) := dk_42 (dk_at dksX9_worth_0 9 rfl rfl)
theorem dX9_worth_10 : decode cX9_worth 10 = .ok (.getfield 27, 3) := dk_180 0 27 (dk_at dksX9_worth_0 10 rfl rfl)
theorem dX9_worth_13 : decode cX9_worth 13 = .ok (.astore_n 3, 1) := dk_78 (dk_at dksX9_worth_0 13 rfl rfl)
theorem dX9_worth_14 : decode cX9_worth 14 = .ok (.aload_n 3, 1) := dk_45 (dk_at dksX9_worth_0 14 rfl rfl)
theorem dX9_worth_15 : decode cX9_worth 15 = .ok (.ifnull 29, 3) := dk_198 0 29 (dk_at dksX9_worth_0 15 rfl rfl)
theorem dX9_worth_18 : decode cX9_worth 18 = .ok (.aload_n 3, 1) := dk_45 (dk_at dksX9_worth_0 18 rfl rfl)
theorem dX9_worth_19 : decode cX9_worth 19 = .ok (.getfield 7, 3) := dk_180 0 7 (dk_at dksX9_worth_0 19 rfl rfl)
theorem dX9_worth_22 : decode cX9_worth 22 = .ok (.iload_n 2, 1) := dk_28 (dk_at dksX9_worth_0 22 rfl rfl)
theorem dX9_worth_23 : decode cX9_worth 23 = .ok (.aload_n 3, 1) := dk_45 (dk_at dksX9_worth_0 23 rfl rfl)
theorem dX9_worth_24 : decode cX9_worth 24 = .ok (.getfield 13, 3) := dk_180 0 13 (dk_at dksX9_worth_1 0 rfl rfl)
theorem dX9_worth_27 : decode cX9_worth 27 = .ok (.aload_n 1, 1) := dk_43 (dk_at dksX9_worth_1 3 rfl rfl)
theorem dX9_worth_28 : decode cX9_worth 28 = .ok (.invokevirtual 23, 3) := dk_182 0 23 (dk_at dksX9_worth_1 4 rfl rfl)
theorem dX9_worth_31 : decode cX9_worth 31 = .ok (.aload_n 1, 1) := dk_43 (dk_at dksX9_worth_1 7 rfl rfl)
theorem dX9_worth_32 : decode cX9_worth 32 = .ok (.invokestatic 31, 3) := dk_184 0 31 (dk_at dksX9_worth_1 8 rfl rfl)
theorem dX9_worth_35 : decode cX9_worth 35 = .ok (.istore_n 2, 1) := dk_61 (dk_at dksX9_worth_1 11 rfl rfl)
theorem dX9_worth_36 : decode cX9_worth 36 = .ok (.aload_n 3, 1) := dk_45 (dk_at dksX9_worth_1 12 rfl rfl)
theorem dX9_worth_37 : decode cX9_worth 37 = .ok (.getfield 27, 3) := dk_180 0 27 (dk_at dksX9_worth_1 13 rfl rfl)
theorem dX9_worth_40 : decode cX9_worth 40 = .ok (.astore_n 3, 1) := dk_78 (dk_at dksX9_worth_1 16 rfl rfl)
theorem dX9_worth_41 : decode cX9_worth 41 = .ok (.goto (-27), 3) := dk_167 255 229 (dk_at dksX9_worth_1 17 rfl rfl)
theorem dX9_worth_44 : decode cX9_worth 44 = .ok (.iload_n 2, 1) := dk_28 (dk_at dksX9_worth_1 20 rfl rfl)
theorem dX9_worth_45 : decode cX9_worth 45 = .ok (.ireturn, 1) := dk_172 (dk_at dksX9_worth_1 21 rfl rfl)
abbrev cX9_worked : ByteArray := prog_12_method_2_code
def yX9_worked : MethodName := ⟨RX9, "worked", "(IIILSharedWindow$Asked;)I"⟩
def dkwX9_worked_3 : List UInt8 := [154, 0, 7, 3, 167, 0, 18, 26, 16, 47, 160, 0, 9, 27, 28, 108, 167, 0, 6, 27, 28, 112, 172]
abbrev dktX9_worked_3 : List UInt8 := dkwX9_worked_3 ++ []
def dkwX9_worked_2 : List UInt8 := [27, 28, 96, 172, 27, 28, 100, 172, 27, 28, 104, 172, 28, 154, 0, 8, 45, 4, 181, 0, 17, 28]
abbrev dktX9_worked_2 : List UInt8 := dkwX9_worked_2 ++ dktX9_worked_3
def dkwX9_worked_1 : List UInt8 := [170, 0, 0, 0, 0, 0, 43, 0, 0, 0, 42, 0, 0, 0, 45, 0, 0, 0, 39, 0, 0, 0, 31, 0, 0, 0, 43, 0, 0, 0, 35]
abbrev dktX9_worked_1 : List UInt8 := dkwX9_worked_1 ++ dktX9_worked_2
def dkwX9_worked_0 : List UInt8 := [26]
abbrev dktX9_worked_0 : List UInt8 := dkwX9_worked_0 ++ dktX9_worked_1
theorem dksX9_worked_0 : cX9_worked.data.toList.drop 0 = dktX9_worked_0 := by decide +kernel
theorem dksX9_worked_1 : cX9_worked.data.toList.drop 1 = dktX9_worked_1 := dk_seg dksX9_worked_0 1 rfl rfl
theorem dksX9_worked_2 : cX9_worked.data.toList.drop 32 = dktX9_worked_2 := dk_seg dksX9_worked_1 31 rfl rfl
theorem dksX9_worked_3 : cX9_worked.data.toList.drop 54 = dktX9_worked_3 := dk_seg dksX9_worked_2 22 rfl rfl
theorem dX9_worked_0 : decode cX9_worked 0 = .ok (.iload_n 0, 1) := dk_26 (dk_at dksX9_worked_0 0 rfl rfl)
theorem dX9_worked_1 : decode cX9_worked 1 = .ok (.tableswitch 43 42 45 #[39, 31, 43, 35], 31) := by decide +kernel
theorem dX9_worked_32 : decode cX9_worked 32 = .ok (.iload_n 1, 1) := dk_27 (dk_at dksX9_worked_2 0 rfl rfl)
theorem dX9_worked_33 : decode cX9_worked 33 = .ok (.iload_n 2, 1) := dk_28 (dk_at dksX9_worked_2 1 rfl rfl)
theorem dX9_worked_34 : decode cX9_worked 34 = .ok (.iadd, 1) := dk_96 (dk_at dksX9_worked_2 2 rfl rfl)
theorem dX9_worked_35 : decode cX9_worked 35 = .ok (.ireturn, 1) := dk_172 (dk_at dksX9_worked_2 3 rfl rfl)
theorem dX9_worked_36 : decode cX9_worked 36 = .ok (.iload_n 1, 1) := dk_27 (dk_at dksX9_worked_2 4 rfl rfl)
theorem dX9_worked_37 : decode cX9_worked 37 = .ok (.iload_n 2, 1) := dk_28 (dk_at dksX9_worked_2 5 rfl rfl)
theorem dX9_worked_38 : decode cX9_worked 38 = .ok (.isub, 1) := dk_100 (dk_at dksX9_worked_2 6 rfl rfl)
theorem dX9_worked_39 : decode cX9_worked 39 = .ok (.ireturn, 1) := dk_172 (dk_at dksX9_worked_2 7 rfl rfl)
theorem dX9_worked_40 : decode cX9_worked 40 = .ok (.iload_n 1, 1) := dk_27 (dk_at dksX9_worked_2 8 rfl rfl)
theorem dX9_worked_41 : decode cX9_worked 41 = .ok (.iload_n 2, 1) := dk_28 (dk_at dksX9_worked_2 9 rfl rfl)
theorem dX9_worked_42 : decode cX9_worked 42 = .ok (.imul, 1) := dk_104 (dk_at dksX9_worked_2 10 rfl rfl)
theorem dX9_worked_43 : decode cX9_worked 43 = .ok (.ireturn, 1) := dk_172 (dk_at dksX9_worked_2 11 rfl rfl)
theorem dX9_worked_44 : decode cX9_worked 44 = .ok (.iload_n 2, 1) := dk_28 (dk_at dksX9_worked_2 12 rfl rfl)
theorem dX9_worked_45 : decode cX9_worked 45 = .ok (.ifCond .ne 8, 3) := dk_154 0 8 (dk_at dksX9_worked_2 13 rfl rfl)
theorem dX9_worked_48 : decode cX9_worked 48 = .ok (.aload_n 3, 1) := dk_45 (dk_at dksX9_worked_2 16 rfl rfl)
theorem dX9_worked_49 : decode cX9_worked 49 = .ok (.iconst 1, 1) := dk_4 (dk_at dksX9_worked_2 17 rfl rfl)
theorem dX9_worked_50 : decode cX9_worked 50 = .ok (.putfield 17, 3) := dk_181 0 17 (dk_at dksX9_worked_2 18 rfl rfl)
theorem dX9_worked_53 : decode cX9_worked 53 = .ok (.iload_n 2, 1) := dk_28 (dk_at dksX9_worked_2 21 rfl rfl)
theorem dX9_worked_54 : decode cX9_worked 54 = .ok (.ifCond .ne 7, 3) := dk_154 0 7 (dk_at dksX9_worked_3 0 rfl rfl)
theorem dX9_worked_57 : decode cX9_worked 57 = .ok (.iconst 0, 1) := dk_3 (dk_at dksX9_worked_3 3 rfl rfl)
theorem dX9_worked_58 : decode cX9_worked 58 = .ok (.goto 18, 3) := dk_167 0 18 (dk_at dksX9_worked_3 4 rfl rfl)
theorem dX9_worked_61 : decode cX9_worked 61 = .ok (.iload_n 0, 1) := dk_26 (dk_at dksX9_worked_3 7 rfl rfl)
theorem dX9_worked_62 : decode cX9_worked 62 = .ok (.bipush 47, 2) := dk_16 47 (dk_at dksX9_worked_3 8 rfl rfl)
theorem dX9_worked_64 : decode cX9_worked 64 = .ok (.if_icmp .ne 9, 3) := dk_160 0 9 (dk_at dksX9_worked_3 10 rfl rfl)
theorem dX9_worked_67 : decode cX9_worked 67 = .ok (.iload_n 1, 1) := dk_27 (dk_at dksX9_worked_3 13 rfl rfl)
theorem dX9_worked_68 : decode cX9_worked 68 = .ok (.iload_n 2, 1) := dk_28 (dk_at dksX9_worked_3 14 rfl rfl)
theorem dX9_worked_69 : decode cX9_worked 69 = .ok (.idiv, 1) := dk_108 (dk_at dksX9_worked_3 15 rfl rfl)
theorem dX9_worked_70 : decode cX9_worked 70 = .ok (.goto 6, 3) := dk_167 0 6 (dk_at dksX9_worked_3 16 rfl rfl)
theorem dX9_worked_73 : decode cX9_worked 73 = .ok (.iload_n 1, 1) := dk_27 (dk_at dksX9_worked_3 19 rfl rfl)
theorem dX9_worked_74 : decode cX9_worked 74 = .ok (.iload_n 2, 1) := dk_28 (dk_at dksX9_worked_3 20 rfl rfl)
theorem dX9_worked_75 : decode cX9_worked 75 = .ok (.irem, 1) := dk_112 (dk_at dksX9_worked_3 21 rfl rfl)
theorem dX9_worked_76 : decode cX9_worked 76 = .ok (.ireturn, 1) := dk_172 (dk_at dksX9_worked_3 22 rfl rfl)
theorem q125 : (Jvm.Cond.initialized "SharedWindow$Row") ∈ lw_all := lw_g (lw_at lw_m1 16 rfl) rfl
theorem q198 : (Jvm.Cond.fieldLinkNest "SharedWindow$Row" (17 : Nat) "SharedWindow$Asked" "isRefused" "Z" "SharedWindow") ∈ lw_tbl := lw_at lw_m1 89 rfl
theorem q531 : (Jvm.Cond.instantiable "SharedWindow$Row" (3 : Nat)) ∈ lw_all := lw_g (lw_at lw_m2 182 rfl) rfl
theorem q581 : (Jvm.Cond.instanceMethod ({ cls := "SharedWindow$Row", name := "<init>", desc := "(ILSharedWindow$Sum;)V" } : Jvm.MethodName)) ∈ lw_all := lw_g (lw_at lw_m2 232 rfl) rfl
theorem q582 : (Jvm.Cond.code ({ cls := "SharedWindow$Row", name := "<init>", desc := "(ILSharedWindow$Sum;)V" } : Jvm.MethodName) prog_12_method_1_code (3 : Nat) (Option.none : Option Jvm.ClassFile.FieldType)) ∈ lw_all := lw_g (lw_at lw_m2 233 rfl) rfl
theorem q583 : (Jvm.Cond.methodLinkNest "SharedWindow$Row" (1 : Nat) ({ cls := "SharedWindow$Sum", name := "<init>", desc := "()V" } : Jvm.MethodName) "SharedWindow") ∈ lw_tbl := lw_at lw_m2 234 rfl
theorem q584 : (Jvm.Cond.fieldLink "SharedWindow$Row" (7 : Nat) "SharedWindow$Row" "sign" "I") ∈ lw_all := lw_g (lw_at lw_m2 235 rfl) rfl
theorem q585 : (Jvm.Cond.fieldLink "SharedWindow$Row" (13 : Nat) "SharedWindow$Row" "part" "LSharedWindow$Sum;") ∈ lw_all := lw_g (lw_at lw_m2 236 rfl) rfl
theorem q586 : (Jvm.Cond.fieldLink "SharedWindow$Row" (27 : Nat) "SharedWindow$Row" "next" "LSharedWindow$Row;") ∈ lw_all := lw_g (lw_at lw_m2 237 rfl) rfl
theorem q588 : (Jvm.Cond.laysFinal "SharedWindow$Row" "SharedWindow$Row" "sign" "I") ∈ lw_all := lw_g (lw_at lw_m2 239 rfl) rfl
theorem q589 : (Jvm.Cond.soleField "SharedWindow$Row" "sign") ∈ lw_all := lw_g (lw_at lw_m3 0 rfl) rfl
theorem q590 : (Jvm.Cond.laysFinal "SharedWindow$Row" "SharedWindow$Row" "part" "LSharedWindow$Sum;") ∈ lw_all := lw_g (lw_at lw_m3 1 rfl) rfl
theorem q591 : (Jvm.Cond.soleField "SharedWindow$Row" "part") ∈ lw_all := lw_g (lw_at lw_m3 2 rfl) rfl
theorem q592 : (Jvm.Cond.lays "SharedWindow$Row" "SharedWindow$Row" "next" "LSharedWindow$Row;") ∈ lw_all := lw_g (lw_at lw_m3 3 rfl) rfl
theorem q593 : (Jvm.Cond.soleField "SharedWindow$Row" "next") ∈ lw_all := lw_g (lw_at lw_m3 4 rfl) rfl
theorem q594 : (Jvm.Cond.superclass "SharedWindow$Row" "SharedWindow$Sum") ∈ lw_all := lw_g (lw_at lw_m3 5 rfl) rfl
theorem q947 : (Jvm.Cond.selects "SharedWindow$Row" ({ cls := "SharedWindow$Sum", name := "worth", desc := "(LSharedWindow$Asked;)I" } : Jvm.MethodName) ({ cls := "SharedWindow$Row", name := "worth", desc := "(LSharedWindow$Asked;)I" } : Jvm.MethodName)) ∈ lw_all := lw_g (lw_at lw_m4 118 rfl) rfl
theorem q948 : (Jvm.Cond.instanceMethod ({ cls := "SharedWindow$Row", name := "worth", desc := "(LSharedWindow$Asked;)I" } : Jvm.MethodName)) ∈ lw_all := lw_g (lw_at lw_m4 119 rfl) rfl
theorem q949 : (Jvm.Cond.code ({ cls := "SharedWindow$Row", name := "worth", desc := "(LSharedWindow$Asked;)I" } : Jvm.MethodName) prog_12_method_3_code (4 : Nat) (Option.some Jvm.ClassFile.FieldType.int)) ∈ lw_all := lw_g (lw_at lw_m4 120 rfl) rfl
theorem q950 : (Jvm.Cond.methodLink "SharedWindow$Row" (23 : Nat) ({ cls := "SharedWindow$Sum", name := "worth", desc := "(LSharedWindow$Asked;)I" } : Jvm.MethodName)) ∈ lw_all := lw_g (lw_at lw_m4 121 rfl) rfl
theorem q951 : (Jvm.Cond.methodLink "SharedWindow$Row" (31 : Nat) ({ cls := "SharedWindow$Row", name := "worked", desc := "(IIILSharedWindow$Asked;)I" } : Jvm.MethodName)) ∈ lw_all := lw_g (lw_at lw_m4 122 rfl) rfl
theorem q952 : (Jvm.Cond.static ({ cls := "SharedWindow$Row", name := "worked", desc := "(IIILSharedWindow$Asked;)I" } : Jvm.MethodName)) ∈ lw_all := lw_g (lw_at lw_m4 123 rfl) rfl
theorem q953 : (Jvm.Cond.code ({ cls := "SharedWindow$Row", name := "worked", desc := "(IIILSharedWindow$Asked;)I" } : Jvm.MethodName) prog_12_method_2_code (4 : Nat) (Option.some Jvm.ClassFile.FieldType.int)) ∈ lw_all := lw_g (lw_at lw_m4 124 rfl) rfl
theorem q971 : (Jvm.Cond.selects "SharedWindow$Row" ({ cls := "SharedWindow$Sum", name := "told", desc := "(LSharedWindow$Asked;)I" } : Jvm.MethodName) ({ cls := "SharedWindow$Sum", name := "told", desc := "(LSharedWindow$Asked;)I" } : Jvm.MethodName)) ∈ lw_all := lw_g (lw_at lw_m4 142 rfl) rfl
theorem q1832 : (Jvm.Cond.castable "SharedWindow$Row" "SharedWindow$Sum") ∈ lw_tbl := lw_at lw_m8 43 rfl
theorem in_X9 : ∀ w ∈ wsX90, w ∈ lw_all := lw_in wsX90 [588, 590, 592] (by decide +kernel) (by decide +kernel)
/-! SharedWindow$Number -/
set_option maxRecDepth 100000
def RX10 : String := "SharedWindow$Number"
def TX10 : u_T := fun k => match k with
  | _ => ("SharedWindow$Number", "n", "I", true)
def tyX10 : Nat → FieldType := fun k => match k with
  | _ => .int
abbrev wsX100 : List Cond := u_ws RX10 TX10 1
theorem nmX10 : ∀ a, a < 1 → ∀ b, b < 1 → a ≠ b → (TX10 a).2.1 ≠ (TX10 b).2.1 := by decide +kernel
theorem tyX10_ok : ∀ k, k < 1 → parseFieldDescriptor (TX10 k).2.2.1 = some (tyX10 k) := by decide +kernel
abbrev cX10_init : ByteArray := prog_9_method_1_code
def yX10_init : MethodName := ⟨RX10, "<init>", "(I)V"⟩
def dkwX10_init_0 : List UInt8 := [42, 183, 0, 1, 42, 27, 181, 0, 7, 177]
abbrev dktX10_init_0 : List UInt8 := dkwX10_init_0 ++ []
theorem dksX10_init_0 : cX10_init.data.toList.drop 0 = dktX10_init_0 := by decide +kernel
theorem dX10_init_0 : decode cX10_init 0 = .ok (.aload_n 0, 1) := dk_42 (dk_at dksX10_init_0 0 rfl rfl)
theorem dX10_init_1 : decode cX10_init 1 = .ok (.invokespecial 1, 3) := dk_183 0 1 (dk_at dksX10_init_0 1 rfl rfl)
theorem dX10_init_4 : decode cX10_init 4 = .ok (.aload_n 0, 1) := dk_42 (dk_at dksX10_init_0 4 rfl rfl)
theorem dX10_init_5 : decode cX10_init 5 = .ok (.iload_n 1, 1) := dk_27 (dk_at dksX10_init_0 5 rfl rfl)
theorem dX10_init_6 : decode cX10_init 6 = .ok (.putfield 7, 3) := dk_181 0 7 (dk_at dksX10_init_0 6 rfl rfl)
theorem dX10_init_9 : decode cX10_init 9 = .ok (.return_, 1) := dk_177 (dk_at dksX10_init_0 9 rfl rfl)
abbrev cX10_worth : ByteArray := prog_9_method_2_code
def yX10_worth : MethodName := ⟨RX10, "worth", "(LSharedWindow$Asked;)I"⟩
theorem dX10_worth_0 : decode cX10_worth 0 = .ok (.aload_n 0, 1) := by decide +kernel
theorem dX10_worth_1 : decode cX10_worth 1 = .ok (.getfield 7, 3) := by decide +kernel
theorem dX10_worth_4 : decode cX10_worth 4 = .ok (.ireturn, 1) := by decide +kernel
theorem q126 : (Jvm.Cond.initialized "SharedWindow$Number") ∈ lw_all := lw_g (lw_at lw_m1 17 rfl) rfl
theorem q553 : (Jvm.Cond.instantiable "SharedWindow$Number" (1 : Nat)) ∈ lw_all := lw_g (lw_at lw_m2 204 rfl) rfl
theorem q559 : (Jvm.Cond.instanceMethod ({ cls := "SharedWindow$Number", name := "<init>", desc := "(I)V" } : Jvm.MethodName)) ∈ lw_all := lw_g (lw_at lw_m2 210 rfl) rfl
theorem q560 : (Jvm.Cond.code ({ cls := "SharedWindow$Number", name := "<init>", desc := "(I)V" } : Jvm.MethodName) prog_9_method_1_code (2 : Nat) (Option.none : Option Jvm.ClassFile.FieldType)) ∈ lw_all := lw_g (lw_at lw_m2 211 rfl) rfl
theorem q561 : (Jvm.Cond.methodLinkNest "SharedWindow$Number" (1 : Nat) ({ cls := "SharedWindow$Sum", name := "<init>", desc := "()V" } : Jvm.MethodName) "SharedWindow") ∈ lw_tbl := lw_at lw_m2 212 rfl
theorem q565 : (Jvm.Cond.fieldLink "SharedWindow$Number" (7 : Nat) "SharedWindow$Number" "n" "I") ∈ lw_all := lw_g (lw_at lw_m2 216 rfl) rfl
theorem q566 : (Jvm.Cond.laysFinal "SharedWindow$Number" "SharedWindow$Number" "n" "I") ∈ lw_all := lw_g (lw_at lw_m2 217 rfl) rfl
theorem q567 : (Jvm.Cond.soleField "SharedWindow$Number" "n") ∈ lw_all := lw_g (lw_at lw_m2 218 rfl) rfl
theorem q568 : (Jvm.Cond.superclass "SharedWindow$Number" "SharedWindow$Sum") ∈ lw_all := lw_g (lw_at lw_m2 219 rfl) rfl
theorem q944 : (Jvm.Cond.selects "SharedWindow$Number" ({ cls := "SharedWindow$Sum", name := "worth", desc := "(LSharedWindow$Asked;)I" } : Jvm.MethodName) ({ cls := "SharedWindow$Number", name := "worth", desc := "(LSharedWindow$Asked;)I" } : Jvm.MethodName)) ∈ lw_all := lw_g (lw_at lw_m4 115 rfl) rfl
theorem q945 : (Jvm.Cond.instanceMethod ({ cls := "SharedWindow$Number", name := "worth", desc := "(LSharedWindow$Asked;)I" } : Jvm.MethodName)) ∈ lw_all := lw_g (lw_at lw_m4 116 rfl) rfl
theorem q946 : (Jvm.Cond.code ({ cls := "SharedWindow$Number", name := "worth", desc := "(LSharedWindow$Asked;)I" } : Jvm.MethodName) prog_9_method_2_code (2 : Nat) (Option.some Jvm.ClassFile.FieldType.int)) ∈ lw_all := lw_g (lw_at lw_m4 117 rfl) rfl
theorem q970 : (Jvm.Cond.selects "SharedWindow$Number" ({ cls := "SharedWindow$Sum", name := "told", desc := "(LSharedWindow$Asked;)I" } : Jvm.MethodName) ({ cls := "SharedWindow$Sum", name := "told", desc := "(LSharedWindow$Asked;)I" } : Jvm.MethodName)) ∈ lw_all := lw_g (lw_at lw_m4 141 rfl) rfl
theorem q1833 : (Jvm.Cond.castable "SharedWindow$Number" "SharedWindow$Sum") ∈ lw_tbl := lw_at lw_m8 44 rfl
theorem in_X10 : ∀ w ∈ wsX100, w ∈ lw_all := lw_in wsX100 [566] (by decide +kernel) (by decide +kernel)
/-! SharedWindow$Letter -/
set_option maxRecDepth 100000
def RX11 : String := "SharedWindow$Letter"
def TX11 : u_T := fun k => match k with
  | _ => ("SharedWindow$Letter", "letter", "I", true)
def tyX11 : Nat → FieldType := fun k => match k with
  | _ => .int
abbrev wsX110 : List Cond := u_ws RX11 TX11 1
theorem nmX11 : ∀ a, a < 1 → ∀ b, b < 1 → a ≠ b → (TX11 a).2.1 ≠ (TX11 b).2.1 := by decide +kernel
theorem tyX11_ok : ∀ k, k < 1 → parseFieldDescriptor (TX11 k).2.2.1 = some (tyX11 k) := by decide +kernel
abbrev cX11_init : ByteArray := prog_6_method_1_code
def yX11_init : MethodName := ⟨RX11, "<init>", "(I)V"⟩
def dkwX11_init_0 : List UInt8 := [42, 183, 0, 1, 42, 27, 181, 0, 7, 177]
abbrev dktX11_init_0 : List UInt8 := dkwX11_init_0 ++ []
theorem dksX11_init_0 : cX11_init.data.toList.drop 0 = dktX11_init_0 := by decide +kernel
theorem dX11_init_0 : decode cX11_init 0 = .ok (.aload_n 0, 1) := dk_42 (dk_at dksX11_init_0 0 rfl rfl)
theorem dX11_init_1 : decode cX11_init 1 = .ok (.invokespecial 1, 3) := dk_183 0 1 (dk_at dksX11_init_0 1 rfl rfl)
theorem dX11_init_4 : decode cX11_init 4 = .ok (.aload_n 0, 1) := dk_42 (dk_at dksX11_init_0 4 rfl rfl)
theorem dX11_init_5 : decode cX11_init 5 = .ok (.iload_n 1, 1) := dk_27 (dk_at dksX11_init_0 5 rfl rfl)
theorem dX11_init_6 : decode cX11_init 6 = .ok (.putfield 7, 3) := dk_181 0 7 (dk_at dksX11_init_0 6 rfl rfl)
theorem dX11_init_9 : decode cX11_init 9 = .ok (.return_, 1) := dk_177 (dk_at dksX11_init_0 9 rfl rfl)
abbrev cX11_worth : ByteArray := prog_6_method_2_code
def yX11_worth : MethodName := ⟨RX11, "worth", "(LSharedWindow$Asked;)I"⟩
def dkwX11_worth_0 : List UInt8 := [43, 42, 180, 0, 7, 182, 0, 13, 172]
abbrev dktX11_worth_0 : List UInt8 := dkwX11_worth_0 ++ []
theorem dksX11_worth_0 : cX11_worth.data.toList.drop 0 = dktX11_worth_0 := by decide +kernel
theorem dX11_worth_0 : decode cX11_worth 0 = .ok (.aload_n 1, 1) := dk_43 (dk_at dksX11_worth_0 0 rfl rfl)
theorem dX11_worth_1 : decode cX11_worth 1 = .ok (.aload_n 0, 1) := dk_42 (dk_at dksX11_worth_0 1 rfl rfl)
theorem dX11_worth_2 : decode cX11_worth 2 = .ok (.getfield 7, 3) := dk_180 0 7 (dk_at dksX11_worth_0 2 rfl rfl)
theorem dX11_worth_5 : decode cX11_worth 5 = .ok (.invokevirtual 13, 3) := dk_182 0 13 (dk_at dksX11_worth_0 5 rfl rfl)
theorem dX11_worth_8 : decode cX11_worth 8 = .ok (.ireturn, 1) := dk_172 (dk_at dksX11_worth_0 8 rfl rfl)
theorem q127 : (Jvm.Cond.initialized "SharedWindow$Letter") ∈ lw_all := lw_g (lw_at lw_m1 18 rfl) rfl
theorem q571 : (Jvm.Cond.instantiable "SharedWindow$Letter" (1 : Nat)) ∈ lw_all := lw_g (lw_at lw_m2 222 rfl) rfl
theorem q573 : (Jvm.Cond.instanceMethod ({ cls := "SharedWindow$Letter", name := "<init>", desc := "(I)V" } : Jvm.MethodName)) ∈ lw_all := lw_g (lw_at lw_m2 224 rfl) rfl
theorem q574 : (Jvm.Cond.code ({ cls := "SharedWindow$Letter", name := "<init>", desc := "(I)V" } : Jvm.MethodName) prog_6_method_1_code (2 : Nat) (Option.none : Option Jvm.ClassFile.FieldType)) ∈ lw_all := lw_g (lw_at lw_m2 225 rfl) rfl
theorem q575 : (Jvm.Cond.methodLinkNest "SharedWindow$Letter" (1 : Nat) ({ cls := "SharedWindow$Sum", name := "<init>", desc := "()V" } : Jvm.MethodName) "SharedWindow") ∈ lw_tbl := lw_at lw_m2 226 rfl
theorem q576 : (Jvm.Cond.fieldLink "SharedWindow$Letter" (7 : Nat) "SharedWindow$Letter" "letter" "I") ∈ lw_all := lw_g (lw_at lw_m2 227 rfl) rfl
theorem q577 : (Jvm.Cond.laysFinal "SharedWindow$Letter" "SharedWindow$Letter" "letter" "I") ∈ lw_all := lw_g (lw_at lw_m2 228 rfl) rfl
theorem q578 : (Jvm.Cond.soleField "SharedWindow$Letter" "letter") ∈ lw_all := lw_g (lw_at lw_m2 229 rfl) rfl
theorem q579 : (Jvm.Cond.superclass "SharedWindow$Letter" "SharedWindow$Sum") ∈ lw_all := lw_g (lw_at lw_m2 230 rfl) rfl
theorem q935 : (Jvm.Cond.selects "SharedWindow$Letter" ({ cls := "SharedWindow$Sum", name := "worth", desc := "(LSharedWindow$Asked;)I" } : Jvm.MethodName) ({ cls := "SharedWindow$Letter", name := "worth", desc := "(LSharedWindow$Asked;)I" } : Jvm.MethodName)) ∈ lw_all := lw_g (lw_at lw_m4 106 rfl) rfl
theorem q936 : (Jvm.Cond.instanceMethod ({ cls := "SharedWindow$Letter", name := "worth", desc := "(LSharedWindow$Asked;)I" } : Jvm.MethodName)) ∈ lw_all := lw_g (lw_at lw_m4 107 rfl) rfl
theorem q937 : (Jvm.Cond.code ({ cls := "SharedWindow$Letter", name := "worth", desc := "(LSharedWindow$Asked;)I" } : Jvm.MethodName) prog_6_method_2_code (2 : Nat) (Option.some Jvm.ClassFile.FieldType.int)) ∈ lw_all := lw_g (lw_at lw_m4 108 rfl) rfl
theorem q938 : (Jvm.Cond.methodLink "SharedWindow$Letter" (13 : Nat) ({ cls := "SharedWindow$Asked", name := "value", desc := "(I)I" } : Jvm.MethodName)) ∈ lw_all := lw_g (lw_at lw_m4 109 rfl) rfl
theorem q969 : (Jvm.Cond.selects "SharedWindow$Letter" ({ cls := "SharedWindow$Sum", name := "told", desc := "(LSharedWindow$Asked;)I" } : Jvm.MethodName) ({ cls := "SharedWindow$Sum", name := "told", desc := "(LSharedWindow$Asked;)I" } : Jvm.MethodName)) ∈ lw_all := lw_g (lw_at lw_m4 140 rfl) rfl
theorem q1834 : (Jvm.Cond.castable "SharedWindow$Letter" "SharedWindow$Sum") ∈ lw_tbl := lw_at lw_m8 45 rfl
theorem in_X11 : ∀ w ∈ wsX110, w ∈ lw_all := lw_in wsX110 [577] (by decide +kernel) (by decide +kernel)
/-! SharedWindow$Condition -/
set_option maxRecDepth 100000
def RX12 : String := "SharedWindow$Condition"
abbrev cX12_init : ByteArray := prog_5_method_1_code
def yX12_init : MethodName := ⟨RX12, "<init>", "()V"⟩
theorem dX12_init_0 : decode cX12_init 0 = .ok (.aload_n 0, 1) := by decide +kernel
theorem dX12_init_1 : decode cX12_init 1 = .ok (.invokespecial 1, 3) := by decide +kernel
theorem dX12_init_4 : decode cX12_init 4 = .ok (.return_, 1) := by decide +kernel
theorem q128 : (Jvm.Cond.initialized "SharedWindow$Condition") ∈ lw_all := lw_g (lw_at lw_m1 19 rfl) rfl
theorem q615 : (Jvm.Cond.instanceMethod ({ cls := "SharedWindow$Condition", name := "<init>", desc := "()V" } : Jvm.MethodName)) ∈ lw_all := lw_g (lw_at lw_m3 26 rfl) rfl
theorem q616 : (Jvm.Cond.code ({ cls := "SharedWindow$Condition", name := "<init>", desc := "()V" } : Jvm.MethodName) prog_5_method_1_code (1 : Nat) (Option.none : Option Jvm.ClassFile.FieldType)) ∈ lw_all := lw_g (lw_at lw_m3 27 rfl) rfl
theorem q617 : (Jvm.Cond.methodLink "SharedWindow$Condition" (1 : Nat) ({ cls := "java/lang/Object", name := "<init>", desc := "()V" } : Jvm.MethodName)) ∈ lw_all := lw_g (lw_at lw_m3 28 rfl) rfl
theorem q927 : (Jvm.Cond.declares ({ cls := "SharedWindow$Condition", name := "holds", desc := "(LSharedWindow$Asked;)I" } : Jvm.MethodName)) ∈ lw_tbl := lw_at lw_m4 98 rfl
theorem q928 : (Jvm.Cond.sameMethod "SharedWindow$Condition" "SharedWindow$Condition" "holds" "(LSharedWindow$Asked;)I") ∈ lw_all := lw_g (lw_at lw_m4 99 rfl) rfl
/-! SharedWindow$Some -/
set_option maxRecDepth 100000
def RX13 : String := "SharedWindow$Some"
def TX13 : u_T := fun k => match k with
  | 0 => ("SharedWindow$Some", "part", "LSharedWindow$Condition;", true)
  | 1 => ("SharedWindow$Some", "decides", "I", true)
  | _ => ("SharedWindow$Some", "next", "LSharedWindow$Some;", false)
def tyX13 : Nat → FieldType := fun k => match k with
  | 0 => .object "SharedWindow$Condition"
  | 1 => .int
  | _ => .object "SharedWindow$Some"
abbrev wsX130 : List Cond := u_ws RX13 TX13 3
theorem nmX13 : ∀ a, a < 3 → ∀ b, b < 3 → a ≠ b → (TX13 a).2.1 ≠ (TX13 b).2.1 := by decide +kernel
theorem tyX13_ok : ∀ k, k < 3 → parseFieldDescriptor (TX13 k).2.2.1 = some (tyX13 k) := by decide +kernel
abbrev cX13_init : ByteArray := prog_14_method_1_code
def yX13_init : MethodName := ⟨RX13, "<init>", "(LSharedWindow$Condition;I)V"⟩
def dkwX13_init_0 : List UInt8 := [42, 183, 0, 1, 42, 43, 181, 0, 7, 42, 28, 181, 0, 13, 177]
abbrev dktX13_init_0 : List UInt8 := dkwX13_init_0 ++ []
theorem dksX13_init_0 : cX13_init.data.toList.drop 0 = dktX13_init_0 := by decide +kernel
theorem dX13_init_0 : decode cX13_init 0 = .ok (.aload_n 0, 1) := dk_42 (dk_at dksX13_init_0 0 rfl rfl)
theorem dX13_init_1 : decode cX13_init 1 = .ok (.invokespecial 1, 3) := dk_183 0 1 (dk_at dksX13_init_0 1 rfl rfl)
theorem dX13_init_4 : decode cX13_init 4 = .ok (.aload_n 0, 1) := dk_42 (dk_at dksX13_init_0 4 rfl rfl)
theorem dX13_init_5 : decode cX13_init 5 = .ok (.aload_n 1, 1) := dk_43 (dk_at dksX13_init_0 5 rfl rfl)
theorem dX13_init_6 : decode cX13_init 6 = .ok (.putfield 7, 3) := dk_181 0 7 (dk_at dksX13_init_0 6 rfl rfl)
theorem dX13_init_9 : decode cX13_init 9 = .ok (.aload_n 0, 1) := dk_42 (dk_at dksX13_init_0 9 rfl rfl)
theorem dX13_init_10 : decode cX13_init 10 = .ok (.iload_n 2, 1) := dk_28 (dk_at dksX13_init_0 10 rfl rfl)
theorem dX13_init_11 : decode cX13_init 11 = .ok (.putfield 13, 3) := dk_181 0 13 (dk_at dksX13_init_0 11 rfl rfl)
theorem dX13_init_14 : decode cX13_init 14 = .ok (.return_, 1) := dk_177 (dk_at dksX13_init_0 14 rfl rfl)
abbrev cX13_holds : ByteArray := prog_14_method_2_code
def yX13_holds : MethodName := ⟨RX13, "holds", "(LSharedWindow$Asked;)I"⟩
def dkwX13_holds_1 : List UInt8 := [180, 0, 13, 160, 0, 5, 29, 172, 44, 180, 0, 21, 77, 167, 255, 223, 4, 42, 180, 0, 13, 100, 172]
abbrev dktX13_holds_1 : List UInt8 := dkwX13_holds_1 ++ []
def dkwX13_holds_0 : List UInt8 := [42, 77, 44, 198, 0, 35, 44, 180, 0, 7, 43, 182, 0, 17, 62, 29, 5, 159, 0, 11, 29, 42]
abbrev dktX13_holds_0 : List UInt8 := dkwX13_holds_0 ++ dktX13_holds_1
theorem dksX13_holds_0 : cX13_holds.data.toList.drop 0 = dktX13_holds_0 := by decide +kernel
theorem dksX13_holds_1 : cX13_holds.data.toList.drop 22 = dktX13_holds_1 := dk_seg dksX13_holds_0 22 rfl rfl
theorem dX13_holds_0 : decode cX13_holds 0 = .ok (.aload_n 0, 1) := dk_42 (dk_at dksX13_holds_0 0 rfl rfl)
theorem dX13_holds_1 : decode cX13_holds 1 = .ok (.astore_n 2, 1) := dk_77 (dk_at dksX13_holds_0 1 rfl rfl)
theorem dX13_holds_2 : decode cX13_holds 2 = .ok (.aload_n 2, 1) := dk_44 (dk_at dksX13_holds_0 2 rfl rfl)
theorem dX13_holds_3 : decode cX13_holds 3 = .ok (.ifnull 35, 3) := dk_198 0 35 (dk_at dksX13_holds_0 3 rfl rfl)
theorem dX13_holds_6 : decode cX13_holds 6 = .ok (.aload_n 2, 1) := dk_44 (dk_at dksX13_holds_0 6 rfl rfl)
theorem dX13_holds_7 : decode cX13_holds 7 = .ok (.getfield 7, 3) := dk_180 0 7 (dk_at dksX13_holds_0 7 rfl rfl)
theorem dX13_holds_10 : decode cX13_holds 10 = .ok (.aload_n 1, 1) := dk_43 (dk_at dksX13_holds_0 10 rfl rfl)
theorem dX13_holds_11 : decode cX13_holds 11 = .ok (.invokevirtual 17, 3) := dk_182 0 17 (dk_at dksX13_holds_0 11 rfl rfl)
theorem dX13_holds_14 : decode cX13_holds 14 = .ok (.istore_n 3, 1) := dk_62 (dk_at dksX13_holds_0 14 rfl rfl)
theorem dX13_holds_15 : decode cX13_holds 15 = .ok (.iload_n 3, 1) := dk_29 (dk_at dksX13_holds_0 15 rfl rfl)
theorem dX13_holds_16 : decode cX13_holds 16 = .ok (.iconst 2, 1) := dk_5 (dk_at dksX13_holds_0 16 rfl rfl)
theorem dX13_holds_17 : decode cX13_holds 17 = .ok (.if_icmp .eq 11, 3) := dk_159 0 11 (dk_at dksX13_holds_0 17 rfl rfl)
theorem dX13_holds_20 : decode cX13_holds 20 = .ok (.iload_n 3, 1) := dk_29 (dk_at dksX13_holds_0 20 rfl rfl)
theorem dX13_holds_21 : decode cX13_holds 21 = .ok (.aload_n 0, 1) := dk_42 (dk_at dksX13_holds_0 21 rfl rfl)
theorem dX13_holds_22 : decode cX13_holds 22 = .ok (.getfield 13, 3) := dk_180 0 13 (dk_at dksX13_holds_1 0 rfl rfl)
theorem dX13_holds_25 : decode cX13_holds 25 = .ok (.if_icmp .ne 5, 3) := dk_160 0 5 (dk_at dksX13_holds_1 3 rfl rfl)
theorem dX13_holds_28 : decode cX13_holds 28 = .ok (.iload_n 3, 1) := dk_29 (dk_at dksX13_holds_1 6 rfl rfl)
theorem dX13_holds_29 : decode cX13_holds 29 = .ok (.ireturn, 1) := dk_172 (dk_at dksX13_holds_1 7 rfl rfl)
theorem dX13_holds_30 : decode cX13_holds 30 = .ok (.aload_n 2, 1) := dk_44 (dk_at dksX13_holds_1 8 rfl rfl)
theorem dX13_holds_31 : decode cX13_holds 31 = .ok (.getfield 21, 3) := dk_180 0 21 (dk_at dksX13_holds_1 9 rfl rfl)
theorem dX13_holds_34 : decode cX13_holds 34 = .ok (.astore_n 2, 1) := dk_77 (dk_at dksX13_holds_1 12 rfl rfl)
theorem dX13_holds_35 : decode cX13_holds 35 = .ok (.goto (-33), 3) := dk_167 255 223 (dk_at dksX13_holds_1 13 rfl rfl)
theorem dX13_holds_38 : decode cX13_holds 38 = .ok (.iconst 1, 1) := dk_4 (dk_at dksX13_holds_1 16 rfl rfl)
theorem dX13_holds_39 : decode cX13_holds 39 = .ok (.aload_n 0, 1) := dk_42 (dk_at dksX13_holds_1 17 rfl rfl)
theorem dX13_holds_40 : decode cX13_holds 40 = .ok (.getfield 13, 3) := dk_180 0 13 (dk_at dksX13_holds_1 18 rfl rfl)
theorem dX13_holds_43 : decode cX13_holds 43 = .ok (.isub, 1) := dk_100 (dk_at dksX13_holds_1 21 rfl rfl)
theorem dX13_holds_44 : decode cX13_holds 44 = .ok (.ireturn, 1) := dk_172 (dk_at dksX13_holds_1 22 rfl rfl)
theorem q129 : (Jvm.Cond.initialized "SharedWindow$Some") ∈ lw_all := lw_g (lw_at lw_m1 20 rfl) rfl
theorem q600 : (Jvm.Cond.instantiable "SharedWindow$Some" (3 : Nat)) ∈ lw_all := lw_g (lw_at lw_m3 11 rfl) rfl
theorem q639 : (Jvm.Cond.instanceMethod ({ cls := "SharedWindow$Some", name := "<init>", desc := "(LSharedWindow$Condition;I)V" } : Jvm.MethodName)) ∈ lw_all := lw_g (lw_at lw_m3 50 rfl) rfl
theorem q640 : (Jvm.Cond.code ({ cls := "SharedWindow$Some", name := "<init>", desc := "(LSharedWindow$Condition;I)V" } : Jvm.MethodName) prog_14_method_1_code (3 : Nat) (Option.none : Option Jvm.ClassFile.FieldType)) ∈ lw_all := lw_g (lw_at lw_m3 51 rfl) rfl
theorem q641 : (Jvm.Cond.methodLinkNest "SharedWindow$Some" (1 : Nat) ({ cls := "SharedWindow$Condition", name := "<init>", desc := "()V" } : Jvm.MethodName) "SharedWindow") ∈ lw_tbl := lw_at lw_m3 52 rfl
theorem q642 : (Jvm.Cond.fieldLink "SharedWindow$Some" (7 : Nat) "SharedWindow$Some" "part" "LSharedWindow$Condition;") ∈ lw_all := lw_g (lw_at lw_m3 53 rfl) rfl
theorem q643 : (Jvm.Cond.fieldLink "SharedWindow$Some" (13 : Nat) "SharedWindow$Some" "decides" "I") ∈ lw_all := lw_g (lw_at lw_m3 54 rfl) rfl
theorem q644 : (Jvm.Cond.fieldLink "SharedWindow$Some" (21 : Nat) "SharedWindow$Some" "next" "LSharedWindow$Some;") ∈ lw_all := lw_g (lw_at lw_m3 55 rfl) rfl
theorem q646 : (Jvm.Cond.laysFinal "SharedWindow$Some" "SharedWindow$Some" "part" "LSharedWindow$Condition;") ∈ lw_all := lw_g (lw_at lw_m3 57 rfl) rfl
theorem q647 : (Jvm.Cond.soleField "SharedWindow$Some" "part") ∈ lw_all := lw_g (lw_at lw_m3 58 rfl) rfl
theorem q648 : (Jvm.Cond.laysFinal "SharedWindow$Some" "SharedWindow$Some" "decides" "I") ∈ lw_all := lw_g (lw_at lw_m3 59 rfl) rfl
theorem q649 : (Jvm.Cond.soleField "SharedWindow$Some" "decides") ∈ lw_all := lw_g (lw_at lw_m3 60 rfl) rfl
theorem q650 : (Jvm.Cond.lays "SharedWindow$Some" "SharedWindow$Some" "next" "LSharedWindow$Some;") ∈ lw_all := lw_g (lw_at lw_m3 61 rfl) rfl
theorem q651 : (Jvm.Cond.soleField "SharedWindow$Some" "next") ∈ lw_all := lw_g (lw_at lw_m3 62 rfl) rfl
theorem q652 : (Jvm.Cond.superclass "SharedWindow$Some" "SharedWindow$Condition") ∈ lw_all := lw_g (lw_at lw_m3 63 rfl) rfl
theorem q958 : (Jvm.Cond.instanceMethod ({ cls := "SharedWindow$Some", name := "holds", desc := "(LSharedWindow$Asked;)I" } : Jvm.MethodName)) ∈ lw_all := lw_g (lw_at lw_m4 129 rfl) rfl
theorem q959 : (Jvm.Cond.code ({ cls := "SharedWindow$Some", name := "holds", desc := "(LSharedWindow$Asked;)I" } : Jvm.MethodName) prog_14_method_2_code (4 : Nat) (Option.some Jvm.ClassFile.FieldType.int)) ∈ lw_all := lw_g (lw_at lw_m4 130 rfl) rfl
theorem q960 : (Jvm.Cond.methodLink "SharedWindow$Some" (17 : Nat) ({ cls := "SharedWindow$Condition", name := "holds", desc := "(LSharedWindow$Asked;)I" } : Jvm.MethodName)) ∈ lw_all := lw_g (lw_at lw_m4 131 rfl) rfl
theorem q961 : (Jvm.Cond.selects "SharedWindow$Some" ({ cls := "SharedWindow$Condition", name := "holds", desc := "(LSharedWindow$Asked;)I" } : Jvm.MethodName) ({ cls := "SharedWindow$Some", name := "holds", desc := "(LSharedWindow$Asked;)I" } : Jvm.MethodName)) ∈ lw_all := lw_g (lw_at lw_m4 132 rfl) rfl
theorem q1835 : (Jvm.Cond.castable "SharedWindow$Some" "SharedWindow$Condition") ∈ lw_tbl := lw_at lw_m8 46 rfl
theorem in_X13 : ∀ w ∈ wsX130, w ∈ lw_all := lw_in wsX130 [646, 648, 650] (by decide +kernel) (by decide +kernel)
/-! SharedWindow$Not -/
set_option maxRecDepth 100000
def RX14 : String := "SharedWindow$Not"
def TX14 : u_T := fun k => match k with
  | _ => ("SharedWindow$Not", "x", "LSharedWindow$Condition;", true)
def tyX14 : Nat → FieldType := fun k => match k with
  | _ => .object "SharedWindow$Condition"
abbrev wsX140 : List Cond := u_ws RX14 TX14 1
theorem nmX14 : ∀ a, a < 1 → ∀ b, b < 1 → a ≠ b → (TX14 a).2.1 ≠ (TX14 b).2.1 := by decide +kernel
theorem tyX14_ok : ∀ k, k < 1 → parseFieldDescriptor (TX14 k).2.2.1 = some (tyX14 k) := by decide +kernel
abbrev cX14_init : ByteArray := prog_8_method_1_code
def yX14_init : MethodName := ⟨RX14, "<init>", "(LSharedWindow$Condition;)V"⟩
def dkwX14_init_0 : List UInt8 := [42, 183, 0, 1, 42, 43, 181, 0, 7, 177]
abbrev dktX14_init_0 : List UInt8 := dkwX14_init_0 ++ []
theorem dksX14_init_0 : cX14_init.data.toList.drop 0 = dktX14_init_0 := by decide +kernel
theorem dX14_init_0 : decode cX14_init 0 = .ok (.aload_n 0, 1) := dk_42 (dk_at dksX14_init_0 0 rfl rfl)
theorem dX14_init_1 : decode cX14_init 1 = .ok (.invokespecial 1, 3) := dk_183 0 1 (dk_at dksX14_init_0 1 rfl rfl)
theorem dX14_init_4 : decode cX14_init 4 = .ok (.aload_n 0, 1) := dk_42 (dk_at dksX14_init_0 4 rfl rfl)
theorem dX14_init_5 : decode cX14_init 5 = .ok (.aload_n 1, 1) := dk_43 (dk_at dksX14_init_0 5 rfl rfl)
theorem dX14_init_6 : decode cX14_init 6 = .ok (.putfield 7, 3) := dk_181 0 7 (dk_at dksX14_init_0 6 rfl rfl)
theorem dX14_init_9 : decode cX14_init 9 = .ok (.return_, 1) := dk_177 (dk_at dksX14_init_0 9 rfl rfl)
abbrev cX14_holds : ByteArray := prog_8_method_2_code
def yX14_holds : MethodName := ⟨RX14, "holds", "(LSharedWindow$Asked;)I"⟩
def dkwX14_holds_0 : List UInt8 := [42, 180, 0, 7, 43, 182, 0, 13, 61, 28, 5, 160, 0, 7, 5, 167, 0, 6, 4, 28, 100, 172]
abbrev dktX14_holds_0 : List UInt8 := dkwX14_holds_0 ++ []
theorem dksX14_holds_0 : cX14_holds.data.toList.drop 0 = dktX14_holds_0 := by decide +kernel
theorem dX14_holds_0 : decode cX14_holds 0 = .ok (.aload_n 0, 1) := dk_42 (dk_at dksX14_holds_0 0 rfl rfl)
theorem dX14_holds_1 : decode cX14_holds 1 = .ok (.getfield 7, 3) := dk_180 0 7 (dk_at dksX14_holds_0 1 rfl rfl)
theorem dX14_holds_4 : decode cX14_holds 4 = .ok (.aload_n 1, 1) := dk_43 (dk_at dksX14_holds_0 4 rfl rfl)
theorem dX14_holds_5 : decode cX14_holds 5 = .ok (.invokevirtual 13, 3) := dk_182 0 13 (dk_at dksX14_holds_0 5 rfl rfl)
theorem dX14_holds_8 : decode cX14_holds 8 = .ok (.istore_n 2, 1) := dk_61 (dk_at dksX14_holds_0 8 rfl rfl)
theorem dX14_holds_9 : decode cX14_holds 9 = .ok (.iload_n 2, 1) := dk_28 (dk_at dksX14_holds_0 9 rfl rfl)
theorem dX14_holds_10 : decode cX14_holds 10 = .ok (.iconst 2, 1) := dk_5 (dk_at dksX14_holds_0 10 rfl rfl)
theorem dX14_holds_11 : decode cX14_holds 11 = .ok (.if_icmp .ne 7, 3) := dk_160 0 7 (dk_at dksX14_holds_0 11 rfl rfl)
theorem dX14_holds_14 : decode cX14_holds 14 = .ok (.iconst 2, 1) := dk_5 (dk_at dksX14_holds_0 14 rfl rfl)
theorem dX14_holds_15 : decode cX14_holds 15 = .ok (.goto 6, 3) := dk_167 0 6 (dk_at dksX14_holds_0 15 rfl rfl)
theorem dX14_holds_18 : decode cX14_holds 18 = .ok (.iconst 1, 1) := dk_4 (dk_at dksX14_holds_0 18 rfl rfl)
theorem dX14_holds_19 : decode cX14_holds 19 = .ok (.iload_n 2, 1) := dk_28 (dk_at dksX14_holds_0 19 rfl rfl)
theorem dX14_holds_20 : decode cX14_holds 20 = .ok (.isub, 1) := dk_100 (dk_at dksX14_holds_0 20 rfl rfl)
theorem dX14_holds_21 : decode cX14_holds 21 = .ok (.ireturn, 1) := dk_172 (dk_at dksX14_holds_0 21 rfl rfl)
theorem q130 : (Jvm.Cond.initialized "SharedWindow$Not") ∈ lw_all := lw_g (lw_at lw_m1 21 rfl) rfl
theorem q610 : (Jvm.Cond.instantiable "SharedWindow$Not" (1 : Nat)) ∈ lw_all := lw_g (lw_at lw_m3 21 rfl) rfl
theorem q612 : (Jvm.Cond.instanceMethod ({ cls := "SharedWindow$Not", name := "<init>", desc := "(LSharedWindow$Condition;)V" } : Jvm.MethodName)) ∈ lw_all := lw_g (lw_at lw_m3 23 rfl) rfl
theorem q613 : (Jvm.Cond.code ({ cls := "SharedWindow$Not", name := "<init>", desc := "(LSharedWindow$Condition;)V" } : Jvm.MethodName) prog_8_method_1_code (2 : Nat) (Option.none : Option Jvm.ClassFile.FieldType)) ∈ lw_all := lw_g (lw_at lw_m3 24 rfl) rfl
theorem q614 : (Jvm.Cond.methodLinkNest "SharedWindow$Not" (1 : Nat) ({ cls := "SharedWindow$Condition", name := "<init>", desc := "()V" } : Jvm.MethodName) "SharedWindow") ∈ lw_tbl := lw_at lw_m3 25 rfl
theorem q618 : (Jvm.Cond.fieldLink "SharedWindow$Not" (7 : Nat) "SharedWindow$Not" "x" "LSharedWindow$Condition;") ∈ lw_all := lw_g (lw_at lw_m3 29 rfl) rfl
theorem q619 : (Jvm.Cond.laysFinal "SharedWindow$Not" "SharedWindow$Not" "x" "LSharedWindow$Condition;") ∈ lw_all := lw_g (lw_at lw_m3 30 rfl) rfl
theorem q620 : (Jvm.Cond.soleField "SharedWindow$Not" "x") ∈ lw_all := lw_g (lw_at lw_m3 31 rfl) rfl
theorem q621 : (Jvm.Cond.superclass "SharedWindow$Not" "SharedWindow$Condition") ∈ lw_all := lw_g (lw_at lw_m3 32 rfl) rfl
theorem q954 : (Jvm.Cond.selects "SharedWindow$Not" ({ cls := "SharedWindow$Condition", name := "holds", desc := "(LSharedWindow$Asked;)I" } : Jvm.MethodName) ({ cls := "SharedWindow$Not", name := "holds", desc := "(LSharedWindow$Asked;)I" } : Jvm.MethodName)) ∈ lw_all := lw_g (lw_at lw_m4 125 rfl) rfl
theorem q955 : (Jvm.Cond.instanceMethod ({ cls := "SharedWindow$Not", name := "holds", desc := "(LSharedWindow$Asked;)I" } : Jvm.MethodName)) ∈ lw_all := lw_g (lw_at lw_m4 126 rfl) rfl
theorem q956 : (Jvm.Cond.code ({ cls := "SharedWindow$Not", name := "holds", desc := "(LSharedWindow$Asked;)I" } : Jvm.MethodName) prog_8_method_2_code (3 : Nat) (Option.some Jvm.ClassFile.FieldType.int)) ∈ lw_all := lw_g (lw_at lw_m4 127 rfl) rfl
theorem q957 : (Jvm.Cond.methodLink "SharedWindow$Not" (13 : Nat) ({ cls := "SharedWindow$Condition", name := "holds", desc := "(LSharedWindow$Asked;)I" } : Jvm.MethodName)) ∈ lw_all := lw_g (lw_at lw_m4 128 rfl) rfl
theorem q1836 : (Jvm.Cond.castable "SharedWindow$Not" "SharedWindow$Condition") ∈ lw_tbl := lw_at lw_m8 47 rfl
theorem in_X14 : ∀ w ∈ wsX140, w ∈ lw_all := lw_in wsX140 [619] (by decide +kernel) (by decide +kernel)
/-! SharedWindow$Compared -/
set_option maxRecDepth 100000
def RX15 : String := "SharedWindow$Compared"
def TX15 : u_T := fun k => match k with
  | 0 => ("SharedWindow$Compared", "x", "LSharedWindow$Sum;", true)
  | 1 => ("SharedWindow$Compared", "y", "LSharedWindow$Sum;", true)
  | _ => ("SharedWindow$Compared", "sign", "I", true)
def tyX15 : Nat → FieldType := fun k => match k with
  | 0 => .object "SharedWindow$Sum"
  | 1 => .object "SharedWindow$Sum"
  | _ => .int
abbrev wsX150 : List Cond := u_ws RX15 TX15 3
theorem nmX15 : ∀ a, a < 3 → ∀ b, b < 3 → a ≠ b → (TX15 a).2.1 ≠ (TX15 b).2.1 := by decide +kernel
theorem tyX15_ok : ∀ k, k < 3 → parseFieldDescriptor (TX15 k).2.2.1 = some (tyX15 k) := by decide +kernel
abbrev cX15_init : ByteArray := prog_4_method_1_code
def yX15_init : MethodName := ⟨RX15, "<init>", "(LSharedWindow$Sum;ILSharedWindow$Sum;)V"⟩
def dkwX15_init_0 : List UInt8 := [42, 183, 0, 1, 42, 43, 181, 0, 7, 42, 28, 181, 0, 13, 42, 45, 181, 0, 17, 177]
abbrev dktX15_init_0 : List UInt8 := dkwX15_init_0 ++ []
theorem dksX15_init_0 : cX15_init.data.toList.drop 0 = dktX15_init_0 := by decide +kernel
theorem dX15_init_0 : decode cX15_init 0 = .ok (.aload_n 0, 1) := dk_42 (dk_at dksX15_init_0 0 rfl rfl)
theorem dX15_init_1 : decode cX15_init 1 = .ok (.invokespecial 1, 3) := dk_183 0 1 (dk_at dksX15_init_0 1 rfl rfl)
theorem dX15_init_4 : decode cX15_init 4 = .ok (.aload_n 0, 1) := dk_42 (dk_at dksX15_init_0 4 rfl rfl)
theorem dX15_init_5 : decode cX15_init 5 = .ok (.aload_n 1, 1) := dk_43 (dk_at dksX15_init_0 5 rfl rfl)
theorem dX15_init_6 : decode cX15_init 6 = .ok (.putfield 7, 3) := dk_181 0 7 (dk_at dksX15_init_0 6 rfl rfl)
theorem dX15_init_9 : decode cX15_init 9 = .ok (.aload_n 0, 1) := dk_42 (dk_at dksX15_init_0 9 rfl rfl)
theorem dX15_init_10 : decode cX15_init 10 = .ok (.iload_n 2, 1) := dk_28 (dk_at dksX15_init_0 10 rfl rfl)
theorem dX15_init_11 : decode cX15_init 11 = .ok (.putfield 13, 3) := dk_181 0 13 (dk_at dksX15_init_0 11 rfl rfl)
theorem dX15_init_14 : decode cX15_init 14 = .ok (.aload_n 0, 1) := dk_42 (dk_at dksX15_init_0 14 rfl rfl)
theorem dX15_init_15 : decode cX15_init 15 = .ok (.aload_n 3, 1) := dk_45 (dk_at dksX15_init_0 15 rfl rfl)
theorem dX15_init_16 : decode cX15_init 16 = .ok (.putfield 17, 3) := dk_181 0 17 (dk_at dksX15_init_0 16 rfl rfl)
theorem dX15_init_19 : decode cX15_init 19 = .ok (.return_, 1) := dk_177 (dk_at dksX15_init_0 19 rfl rfl)
abbrev cX15_holds : ByteArray := prog_4_method_2_code
def yX15_holds : MethodName := ⟨RX15, "holds", "(LSharedWindow$Asked;)I"⟩
def dkwX15_holds_4 : List UInt8 := [153, 0, 7, 4, 167, 0, 4, 3, 172]
abbrev dktX15_holds_4 : List UInt8 := dkwX15_holds_4 ++ []
def dkwX15_holds_3 : List UInt8 := [160, 0, 7, 4, 167, 0, 4, 3, 54, 4, 43, 180, 0, 20, 153, 0, 7, 5, 167, 0, 13, 21, 4]
abbrev dktX15_holds_3 : List UInt8 := dkwX15_holds_3 ++ dktX15_holds_4
def dkwX15_holds_2 : List UInt8 := [180, 0, 13, 16, 62, 160, 0, 16, 28, 29, 164, 0, 7, 4, 167, 0, 17, 3, 167, 0, 13, 28, 29]
abbrev dktX15_holds_2 : List UInt8 := dkwX15_holds_2 ++ dktX15_holds_3
def dkwX15_holds_1 : List UInt8 := [180, 0, 13, 16, 60, 160, 0, 16, 28, 29, 162, 0, 7, 4, 167, 0, 39, 3, 167, 0, 35, 42]
abbrev dktX15_holds_1 : List UInt8 := dkwX15_holds_1 ++ dktX15_holds_2
def dkwX15_holds_0 : List UInt8 := [43, 3, 181, 0, 20, 42, 180, 0, 7, 43, 182, 0, 26, 61, 42, 180, 0, 17, 43, 182, 0, 26, 62, 42]
abbrev dktX15_holds_0 : List UInt8 := dkwX15_holds_0 ++ dktX15_holds_1
theorem dksX15_holds_0 : cX15_holds.data.toList.drop 0 = dktX15_holds_0 := by decide +kernel
theorem dksX15_holds_1 : cX15_holds.data.toList.drop 24 = dktX15_holds_1 := dk_seg dksX15_holds_0 24 rfl rfl
theorem dksX15_holds_2 : cX15_holds.data.toList.drop 46 = dktX15_holds_2 := dk_seg dksX15_holds_1 22 rfl rfl
theorem dksX15_holds_3 : cX15_holds.data.toList.drop 69 = dktX15_holds_3 := dk_seg dksX15_holds_2 23 rfl rfl
theorem dksX15_holds_4 : cX15_holds.data.toList.drop 92 = dktX15_holds_4 := dk_seg dksX15_holds_3 23 rfl rfl
theorem dX15_holds_0 : decode cX15_holds 0 = .ok (.aload_n 1, 1) := dk_43 (dk_at dksX15_holds_0 0 rfl rfl)
theorem dX15_holds_1 : decode cX15_holds 1 = .ok (.iconst 0, 1) := dk_3 (dk_at dksX15_holds_0 1 rfl rfl)
theorem dX15_holds_2 : decode cX15_holds 2 = .ok (.putfield 20, 3) := dk_181 0 20 (dk_at dksX15_holds_0 2 rfl rfl)
theorem dX15_holds_5 : decode cX15_holds 5 = .ok (.aload_n 0, 1) := dk_42 (dk_at dksX15_holds_0 5 rfl rfl)
theorem dX15_holds_6 : decode cX15_holds 6 = .ok (.getfield 7, 3) := dk_180 0 7 (dk_at dksX15_holds_0 6 rfl rfl)
theorem dX15_holds_9 : decode cX15_holds 9 = .ok (.aload_n 1, 1) := dk_43 (dk_at dksX15_holds_0 9 rfl rfl)
theorem dX15_holds_10 : decode cX15_holds 10 = .ok (.invokevirtual 26, 3) := dk_182 0 26 (dk_at dksX15_holds_0 10 rfl rfl)
theorem dX15_holds_13 : decode cX15_holds 13 = .ok (.istore_n 2, 1) := dk_61 (dk_at dksX15_holds_0 13 rfl rfl)
theorem dX15_holds_14 : decode cX15_holds 14 = .ok (.aload_n 0, 1) := dk_42 (dk_at dksX15_holds_0 14 rfl rfl)
theorem dX15_holds_15 : decode cX15_holds 15 = .ok (.getfield 17, 3) := dk_180 0 17 (dk_at dksX15_holds_0 15 rfl rfl)
theorem dX15_holds_18 : decode cX15_holds 18 = .ok (.aload_n 1, 1) := dk_43 (dk_at dksX15_holds_0 18 rfl rfl)
theorem dX15_holds_19 : decode cX15_holds 19 = .ok (.invokevirtual 26, 3) := dk_182 0 26 (dk_at dksX15_holds_0 19 rfl rfl)
theorem dX15_holds_22 : decode cX15_holds 22 = .ok (.istore_n 3, 1) := dk_62 (dk_at dksX15_holds_0 22 rfl rfl)
theorem dX15_holds_23 : decode cX15_holds 23 = .ok (.aload_n 0, 1) := dk_42 (dk_at dksX15_holds_0 23 rfl rfl)
theorem dX15_holds_24 : decode cX15_holds 24 = .ok (.getfield 13, 3) := dk_180 0 13 (dk_at dksX15_holds_1 0 rfl rfl)
theorem dX15_holds_27 : decode cX15_holds 27 = .ok (.bipush 60, 2) := dk_16 60 (dk_at dksX15_holds_1 3 rfl rfl)
theorem dX15_holds_29 : decode cX15_holds 29 = .ok (.if_icmp .ne 16, 3) := dk_160 0 16 (dk_at dksX15_holds_1 5 rfl rfl)
theorem dX15_holds_32 : decode cX15_holds 32 = .ok (.iload_n 2, 1) := dk_28 (dk_at dksX15_holds_1 8 rfl rfl)
theorem dX15_holds_33 : decode cX15_holds 33 = .ok (.iload_n 3, 1) := dk_29 (dk_at dksX15_holds_1 9 rfl rfl)
theorem dX15_holds_34 : decode cX15_holds 34 = .ok (.if_icmp .ge 7, 3) := dk_162 0 7 (dk_at dksX15_holds_1 10 rfl rfl)
theorem dX15_holds_37 : decode cX15_holds 37 = .ok (.iconst 1, 1) := dk_4 (dk_at dksX15_holds_1 13 rfl rfl)
theorem dX15_holds_38 : decode cX15_holds 38 = .ok (.goto 39, 3) := dk_167 0 39 (dk_at dksX15_holds_1 14 rfl rfl)
theorem dX15_holds_41 : decode cX15_holds 41 = .ok (.iconst 0, 1) := dk_3 (dk_at dksX15_holds_1 17 rfl rfl)
theorem dX15_holds_42 : decode cX15_holds 42 = .ok (.goto 35, 3) := dk_167 0 35 (dk_at dksX15_holds_1 18 rfl rfl)
theorem dX15_holds_45 : decode cX15_holds 45 = .ok (.aload_n 0, 1) := dk_42 (dk_at dksX15_holds_1 21 rfl rfl)
theorem dX15_holds_46 : decode cX15_holds 46 = .ok (.getfield 13, 3) := dk_180 0 13 (dk_at dksX15_holds_2 0 rfl rfl)
theorem dX15_holds_49 : decode cX15_holds 49 = .ok (.bipush 62, 2) := dk_16 62 (dk_at dksX15_holds_2 3 rfl rfl)
theorem dX15_holds_51 : decode cX15_holds 51 = .ok (.if_icmp .ne 16, 3) := dk_160 0 16 (dk_at dksX15_holds_2 5 rfl rfl)
theorem dX15_holds_54 : decode cX15_holds 54 = .ok (.iload_n 2, 1) := dk_28 (dk_at dksX15_holds_2 8 rfl rfl)
theorem dX15_holds_55 : decode cX15_holds 55 = .ok (.iload_n 3, 1) := dk_29 (dk_at dksX15_holds_2 9 rfl rfl)
theorem dX15_holds_56 : decode cX15_holds 56 = .ok (.if_icmp .le 7, 3) := dk_164 0 7 (dk_at dksX15_holds_2 10 rfl rfl)
theorem dX15_holds_59 : decode cX15_holds 59 = .ok (.iconst 1, 1) := dk_4 (dk_at dksX15_holds_2 13 rfl rfl)
theorem dX15_holds_60 : decode cX15_holds 60 = .ok (.goto 17, 3) := dk_167 0 17 (dk_at dksX15_holds_2 14 rfl rfl)
theorem dX15_holds_63 : decode cX15_holds 63 = .ok (.iconst 0, 1) := dk_3 (dk_at dksX15_holds_2 17 rfl rfl)
theorem dX15_holds_64 : decode cX15_holds 64 = .ok (.goto 13, 3) := dk_167 0 13 (dk_at dksX15_holds_2 18 rfl rfl)
theorem dX15_holds_67 : decode cX15_holds 67 = .ok (.iload_n 2, 1) := dk_28 (dk_at dksX15_holds_2 21 rfl rfl)
theorem dX15_holds_68 : decode cX15_holds 68 = .ok (.iload_n 3, 1) := dk_29 (dk_at dksX15_holds_2 22 rfl rfl)
theorem dX15_holds_69 : decode cX15_holds 69 = .ok (.if_icmp .ne 7, 3) := dk_160 0 7 (dk_at dksX15_holds_3 0 rfl rfl)
theorem dX15_holds_72 : decode cX15_holds 72 = .ok (.iconst 1, 1) := dk_4 (dk_at dksX15_holds_3 3 rfl rfl)
theorem dX15_holds_73 : decode cX15_holds 73 = .ok (.goto 4, 3) := dk_167 0 4 (dk_at dksX15_holds_3 4 rfl rfl)
theorem dX15_holds_76 : decode cX15_holds 76 = .ok (.iconst 0, 1) := dk_3 (dk_at dksX15_holds_3 7 rfl rfl)
theorem dX15_holds_77 : decode cX15_holds 77 = .ok (.istore 4, 2) := dk_54 4 (dk_at dksX15_holds_3 8 rfl rfl)
theorem dX15_holds_79 : decode cX15_holds 79 = .ok (.aload_n 1, 1) := dk_43 (dk_at dksX15_holds_3 10 rfl rfl)
theorem dX15_holds_80 : decode cX15_holds 80 = .ok (.getfield 20, 3) := dk_180 0 20 (dk_at dksX15_holds_3 11 rfl rfl)
theorem dX15_holds_83 : decode cX15_holds 83 = .ok (.ifCond .eq 7, 3) := dk_153 0 7 (dk_at dksX15_holds_3 14 rfl rfl)
theorem dX15_holds_86 : decode cX15_holds 86 = .ok (.iconst 2, 1) := dk_5 (dk_at dksX15_holds_3 17 rfl rfl)
theorem dX15_holds_87 : decode cX15_holds 87 = .ok (.goto 13, 3) := dk_167 0 13 (dk_at dksX15_holds_3 18 rfl rfl)
theorem dX15_holds_90 : decode cX15_holds 90 = .ok (.iload 4, 2) := dk_21 4 (dk_at dksX15_holds_3 21 rfl rfl)
theorem dX15_holds_92 : decode cX15_holds 92 = .ok (.ifCond .eq 7, 3) := dk_153 0 7 (dk_at dksX15_holds_4 0 rfl rfl)
theorem dX15_holds_95 : decode cX15_holds 95 = .ok (.iconst 1, 1) := dk_4 (dk_at dksX15_holds_4 3 rfl rfl)
theorem dX15_holds_96 : decode cX15_holds 96 = .ok (.goto 4, 3) := dk_167 0 4 (dk_at dksX15_holds_4 4 rfl rfl)
theorem dX15_holds_99 : decode cX15_holds 99 = .ok (.iconst 0, 1) := dk_3 (dk_at dksX15_holds_4 7 rfl rfl)
theorem dX15_holds_100 : decode cX15_holds 100 = .ok (.ireturn, 1) := dk_172 (dk_at dksX15_holds_4 8 rfl rfl)
theorem q131 : (Jvm.Cond.initialized "SharedWindow$Compared") ∈ lw_all := lw_g (lw_at lw_m1 22 rfl) rfl
theorem q197 : (Jvm.Cond.fieldLinkNest "SharedWindow$Compared" (20 : Nat) "SharedWindow$Asked" "isRefused" "Z" "SharedWindow") ∈ lw_tbl := lw_at lw_m1 88 rfl
theorem q623 : (Jvm.Cond.instantiable "SharedWindow$Compared" (3 : Nat)) ∈ lw_all := lw_g (lw_at lw_m3 34 rfl) rfl
theorem q625 : (Jvm.Cond.instanceMethod ({ cls := "SharedWindow$Compared", name := "<init>", desc := "(LSharedWindow$Sum;ILSharedWindow$Sum;)V" } : Jvm.MethodName)) ∈ lw_all := lw_g (lw_at lw_m3 36 rfl) rfl
theorem q626 : (Jvm.Cond.code ({ cls := "SharedWindow$Compared", name := "<init>", desc := "(LSharedWindow$Sum;ILSharedWindow$Sum;)V" } : Jvm.MethodName) prog_4_method_1_code (4 : Nat) (Option.none : Option Jvm.ClassFile.FieldType)) ∈ lw_all := lw_g (lw_at lw_m3 37 rfl) rfl
theorem q627 : (Jvm.Cond.methodLinkNest "SharedWindow$Compared" (1 : Nat) ({ cls := "SharedWindow$Condition", name := "<init>", desc := "()V" } : Jvm.MethodName) "SharedWindow") ∈ lw_tbl := lw_at lw_m3 38 rfl
theorem q628 : (Jvm.Cond.fieldLink "SharedWindow$Compared" (7 : Nat) "SharedWindow$Compared" "x" "LSharedWindow$Sum;") ∈ lw_all := lw_g (lw_at lw_m3 39 rfl) rfl
theorem q629 : (Jvm.Cond.fieldLink "SharedWindow$Compared" (17 : Nat) "SharedWindow$Compared" "y" "LSharedWindow$Sum;") ∈ lw_all := lw_g (lw_at lw_m3 40 rfl) rfl
theorem q630 : (Jvm.Cond.fieldLink "SharedWindow$Compared" (13 : Nat) "SharedWindow$Compared" "sign" "I") ∈ lw_all := lw_g (lw_at lw_m3 41 rfl) rfl
theorem q631 : (Jvm.Cond.laysFinal "SharedWindow$Compared" "SharedWindow$Compared" "x" "LSharedWindow$Sum;") ∈ lw_all := lw_g (lw_at lw_m3 42 rfl) rfl
theorem q632 : (Jvm.Cond.soleField "SharedWindow$Compared" "x") ∈ lw_all := lw_g (lw_at lw_m3 43 rfl) rfl
theorem q633 : (Jvm.Cond.laysFinal "SharedWindow$Compared" "SharedWindow$Compared" "y" "LSharedWindow$Sum;") ∈ lw_all := lw_g (lw_at lw_m3 44 rfl) rfl
theorem q634 : (Jvm.Cond.soleField "SharedWindow$Compared" "y") ∈ lw_all := lw_g (lw_at lw_m3 45 rfl) rfl
theorem q635 : (Jvm.Cond.laysFinal "SharedWindow$Compared" "SharedWindow$Compared" "sign" "I") ∈ lw_all := lw_g (lw_at lw_m3 46 rfl) rfl
theorem q636 : (Jvm.Cond.soleField "SharedWindow$Compared" "sign") ∈ lw_all := lw_g (lw_at lw_m3 47 rfl) rfl
theorem q637 : (Jvm.Cond.superclass "SharedWindow$Compared" "SharedWindow$Condition") ∈ lw_all := lw_g (lw_at lw_m3 48 rfl) rfl
theorem q929 : (Jvm.Cond.selects "SharedWindow$Compared" ({ cls := "SharedWindow$Condition", name := "holds", desc := "(LSharedWindow$Asked;)I" } : Jvm.MethodName) ({ cls := "SharedWindow$Compared", name := "holds", desc := "(LSharedWindow$Asked;)I" } : Jvm.MethodName)) ∈ lw_all := lw_g (lw_at lw_m4 100 rfl) rfl
theorem q930 : (Jvm.Cond.instanceMethod ({ cls := "SharedWindow$Compared", name := "holds", desc := "(LSharedWindow$Asked;)I" } : Jvm.MethodName)) ∈ lw_all := lw_g (lw_at lw_m4 101 rfl) rfl
theorem q931 : (Jvm.Cond.code ({ cls := "SharedWindow$Compared", name := "holds", desc := "(LSharedWindow$Asked;)I" } : Jvm.MethodName) prog_4_method_2_code (5 : Nat) (Option.some Jvm.ClassFile.FieldType.int)) ∈ lw_all := lw_g (lw_at lw_m4 102 rfl) rfl
theorem q932 : (Jvm.Cond.methodLink "SharedWindow$Compared" (26 : Nat) ({ cls := "SharedWindow$Sum", name := "worth", desc := "(LSharedWindow$Asked;)I" } : Jvm.MethodName)) ∈ lw_all := lw_g (lw_at lw_m4 103 rfl) rfl
theorem q1837 : (Jvm.Cond.castable "SharedWindow$Compared" "SharedWindow$Condition") ∈ lw_tbl := lw_at lw_m8 48 rfl
theorem in_X15 : ∀ w ∈ wsX150, w ∈ lw_all := lw_in wsX150 [631, 633, 635] (by decide +kernel) (by decide +kernel)
/-! SharedWindow$Scribe -/
set_option maxRecDepth 100000
def RX16 : String := "SharedWindow$Scribe"
abbrev cX16_init : ByteArray := prog_13_method_1_code
def yX16_init : MethodName := ⟨RX16, "<init>", "(LSharedWindow;I)V"⟩
def dkwX16_init_0 : List UInt8 := [42, 43, 181, 0, 1, 42, 183, 0, 7, 42, 28, 181, 0, 13, 177]
abbrev dktX16_init_0 : List UInt8 := dkwX16_init_0 ++ []
theorem dksX16_init_0 : cX16_init.data.toList.drop 0 = dktX16_init_0 := by decide +kernel
theorem dX16_init_0 : decode cX16_init 0 = .ok (.aload_n 0, 1) := dk_42 (dk_at dksX16_init_0 0 rfl rfl)
theorem dX16_init_1 : decode cX16_init 1 = .ok (.aload_n 1, 1) := dk_43 (dk_at dksX16_init_0 1 rfl rfl)
theorem dX16_init_2 : decode cX16_init 2 = .ok (.putfield 1, 3) := dk_181 0 1 (dk_at dksX16_init_0 2 rfl rfl)
theorem dX16_init_5 : decode cX16_init 5 = .ok (.aload_n 0, 1) := dk_42 (dk_at dksX16_init_0 5 rfl rfl)
theorem dX16_init_6 : decode cX16_init 6 = .ok (.invokespecial 7, 3) := dk_183 0 7 (dk_at dksX16_init_0 6 rfl rfl)
theorem dX16_init_9 : decode cX16_init 9 = .ok (.aload_n 0, 1) := dk_42 (dk_at dksX16_init_0 9 rfl rfl)
theorem dX16_init_10 : decode cX16_init 10 = .ok (.iload_n 2, 1) := dk_28 (dk_at dksX16_init_0 10 rfl rfl)
theorem dX16_init_11 : decode cX16_init 11 = .ok (.putfield 13, 3) := dk_181 0 13 (dk_at dksX16_init_0 11 rfl rfl)
theorem dX16_init_14 : decode cX16_init 14 = .ok (.return_, 1) := dk_177 (dk_at dksX16_init_0 14 rfl rfl)
abbrev cX16_isIn : ByteArray := prog_13_method_9_code
def yX16_isIn : MethodName := ⟨RX16, "isIn", "(II)Z"⟩
def dkwX16_isIn_0 : List UInt8 := [42, 182, 0, 36, 27, 161, 0, 15, 42, 182, 0, 36, 28, 163, 0, 7, 4, 167, 0, 4, 3, 172]
abbrev dktX16_isIn_0 : List UInt8 := dkwX16_isIn_0 ++ []
theorem dksX16_isIn_0 : cX16_isIn.data.toList.drop 0 = dktX16_isIn_0 := by decide +kernel
theorem dX16_isIn_0 : decode cX16_isIn 0 = .ok (.aload_n 0, 1) := dk_42 (dk_at dksX16_isIn_0 0 rfl rfl)
theorem dX16_isIn_1 : decode cX16_isIn 1 = .ok (.invokevirtual 36, 3) := dk_182 0 36 (dk_at dksX16_isIn_0 1 rfl rfl)
theorem dX16_isIn_4 : decode cX16_isIn 4 = .ok (.iload_n 1, 1) := dk_27 (dk_at dksX16_isIn_0 4 rfl rfl)
theorem dX16_isIn_5 : decode cX16_isIn 5 = .ok (.if_icmp .lt 15, 3) := dk_161 0 15 (dk_at dksX16_isIn_0 5 rfl rfl)
theorem dX16_isIn_8 : decode cX16_isIn 8 = .ok (.aload_n 0, 1) := dk_42 (dk_at dksX16_isIn_0 8 rfl rfl)
theorem dX16_isIn_9 : decode cX16_isIn 9 = .ok (.invokevirtual 36, 3) := dk_182 0 36 (dk_at dksX16_isIn_0 9 rfl rfl)
theorem dX16_isIn_12 : decode cX16_isIn 12 = .ok (.iload_n 2, 1) := dk_28 (dk_at dksX16_isIn_0 12 rfl rfl)
theorem dX16_isIn_13 : decode cX16_isIn 13 = .ok (.if_icmp .gt 7, 3) := dk_163 0 7 (dk_at dksX16_isIn_0 13 rfl rfl)
theorem dX16_isIn_16 : decode cX16_isIn 16 = .ok (.iconst 1, 1) := dk_4 (dk_at dksX16_isIn_0 16 rfl rfl)
theorem dX16_isIn_17 : decode cX16_isIn 17 = .ok (.goto 4, 3) := dk_167 0 4 (dk_at dksX16_isIn_0 17 rfl rfl)
theorem dX16_isIn_20 : decode cX16_isIn 20 = .ok (.iconst 0, 1) := dk_3 (dk_at dksX16_isIn_0 20 rfl rfl)
theorem dX16_isIn_21 : decode cX16_isIn 21 = .ok (.ireturn, 1) := dk_172 (dk_at dksX16_isIn_0 21 rfl rfl)
abbrev cX16_here : ByteArray := prog_13_method_2_code
def yX16_here : MethodName := ⟨RX16, "here", "()I"⟩
def dkwX16_here_1 : List UInt8 := [17, 0, 255, 126, 167, 0, 4, 3, 172]
abbrev dktX16_here_1 : List UInt8 := dkwX16_here_1 ++ []
def dkwX16_here_0 : List UInt8 := [42, 180, 0, 17, 42, 180, 0, 13, 162, 0, 22, 42, 180, 0, 1, 180, 0, 20, 42, 180, 0, 17, 51]
abbrev dktX16_here_0 : List UInt8 := dkwX16_here_0 ++ dktX16_here_1
theorem dksX16_here_0 : cX16_here.data.toList.drop 0 = dktX16_here_0 := by decide +kernel
theorem dksX16_here_1 : cX16_here.data.toList.drop 23 = dktX16_here_1 := dk_seg dksX16_here_0 23 rfl rfl
theorem dX16_here_0 : decode cX16_here 0 = .ok (.aload_n 0, 1) := dk_42 (dk_at dksX16_here_0 0 rfl rfl)
theorem dX16_here_1 : decode cX16_here 1 = .ok (.getfield 17, 3) := dk_180 0 17 (dk_at dksX16_here_0 1 rfl rfl)
theorem dX16_here_4 : decode cX16_here 4 = .ok (.aload_n 0, 1) := dk_42 (dk_at dksX16_here_0 4 rfl rfl)
theorem dX16_here_5 : decode cX16_here 5 = .ok (.getfield 13, 3) := dk_180 0 13 (dk_at dksX16_here_0 5 rfl rfl)
theorem dX16_here_8 : decode cX16_here 8 = .ok (.if_icmp .ge 22, 3) := dk_162 0 22 (dk_at dksX16_here_0 8 rfl rfl)
theorem dX16_here_11 : decode cX16_here 11 = .ok (.aload_n 0, 1) := dk_42 (dk_at dksX16_here_0 11 rfl rfl)
theorem dX16_here_12 : decode cX16_here 12 = .ok (.getfield 1, 3) := dk_180 0 1 (dk_at dksX16_here_0 12 rfl rfl)
theorem dX16_here_15 : decode cX16_here 15 = .ok (.getfield 20, 3) := dk_180 0 20 (dk_at dksX16_here_0 15 rfl rfl)
theorem dX16_here_18 : decode cX16_here 18 = .ok (.aload_n 0, 1) := dk_42 (dk_at dksX16_here_0 18 rfl rfl)
theorem dX16_here_19 : decode cX16_here 19 = .ok (.getfield 17, 3) := dk_180 0 17 (dk_at dksX16_here_0 19 rfl rfl)
theorem dX16_here_22 : decode cX16_here 22 = .ok (.baload, 1) := dk_51 (dk_at dksX16_here_0 22 rfl rfl)
theorem dX16_here_23 : decode cX16_here 23 = .ok (.sipush 255, 3) := dk_17 0 255 (dk_at dksX16_here_1 0 rfl rfl)
theorem dX16_here_26 : decode cX16_here 26 = .ok (.iand, 1) := dk_126 (dk_at dksX16_here_1 3 rfl rfl)
theorem dX16_here_27 : decode cX16_here 27 = .ok (.goto 4, 3) := dk_167 0 4 (dk_at dksX16_here_1 4 rfl rfl)
theorem dX16_here_30 : decode cX16_here 30 = .ok (.iconst 0, 1) := dk_3 (dk_at dksX16_here_1 7 rfl rfl)
theorem dX16_here_31 : decode cX16_here 31 = .ok (.ireturn, 1) := dk_172 (dk_at dksX16_here_1 8 rfl rfl)
abbrev cX16_place : ByteArray := prog_13_method_3_code
def yX16_place : MethodName := ⟨RX16, "place", "()I"⟩
theorem dX16_place_0 : decode cX16_place 0 = .ok (.aload_n 0, 1) := by decide +kernel
theorem dX16_place_1 : decode cX16_place 1 = .ok (.getfield 17, 3) := by decide +kernel
theorem dX16_place_4 : decode cX16_place 4 = .ok (.ireturn, 1) := by decide +kernel
abbrev cX16_bad : ByteArray := prog_13_method_6_code
def yX16_bad : MethodName := ⟨RX16, "bad", "(II)V"⟩
def dkwX16_bad_0 : List UInt8 := [42, 180, 0, 26, 158, 0, 4, 177, 42, 27, 181, 0, 26, 42, 28, 181, 0, 29, 177]
abbrev dktX16_bad_0 : List UInt8 := dkwX16_bad_0 ++ []
theorem dksX16_bad_0 : cX16_bad.data.toList.drop 0 = dktX16_bad_0 := by decide +kernel
theorem dX16_bad_0 : decode cX16_bad 0 = .ok (.aload_n 0, 1) := dk_42 (dk_at dksX16_bad_0 0 rfl rfl)
theorem dX16_bad_1 : decode cX16_bad 1 = .ok (.getfield 26, 3) := dk_180 0 26 (dk_at dksX16_bad_0 1 rfl rfl)
theorem dX16_bad_4 : decode cX16_bad 4 = .ok (.ifCond .le 4, 3) := dk_158 0 4 (dk_at dksX16_bad_0 4 rfl rfl)
theorem dX16_bad_7 : decode cX16_bad 7 = .ok (.return_, 1) := dk_177 (dk_at dksX16_bad_0 7 rfl rfl)
theorem dX16_bad_8 : decode cX16_bad 8 = .ok (.aload_n 0, 1) := dk_42 (dk_at dksX16_bad_0 8 rfl rfl)
theorem dX16_bad_9 : decode cX16_bad 9 = .ok (.iload_n 1, 1) := dk_27 (dk_at dksX16_bad_0 9 rfl rfl)
theorem dX16_bad_10 : decode cX16_bad 10 = .ok (.putfield 26, 3) := dk_181 0 26 (dk_at dksX16_bad_0 10 rfl rfl)
theorem dX16_bad_13 : decode cX16_bad 13 = .ok (.aload_n 0, 1) := dk_42 (dk_at dksX16_bad_0 13 rfl rfl)
theorem dX16_bad_14 : decode cX16_bad 14 = .ok (.iload_n 2, 1) := dk_28 (dk_at dksX16_bad_0 14 rfl rfl)
theorem dX16_bad_15 : decode cX16_bad 15 = .ok (.putfield 29, 3) := dk_181 0 29 (dk_at dksX16_bad_0 15 rfl rfl)
theorem dX16_bad_18 : decode cX16_bad 18 = .ok (.return_, 1) := dk_177 (dk_at dksX16_bad_0 18 rfl rfl)
abbrev cX16_goesOn : ByteArray := prog_13_method_4_code
def yX16_goesOn : MethodName := ⟨RX16, "goesOn", "()V"⟩
def dkwX16_goesOn_0 : List UInt8 := [42, 89, 180, 0, 17, 4, 96, 181, 0, 17, 177]
abbrev dktX16_goesOn_0 : List UInt8 := dkwX16_goesOn_0 ++ []
theorem dksX16_goesOn_0 : cX16_goesOn.data.toList.drop 0 = dktX16_goesOn_0 := by decide +kernel
theorem dX16_goesOn_0 : decode cX16_goesOn 0 = .ok (.aload_n 0, 1) := dk_42 (dk_at dksX16_goesOn_0 0 rfl rfl)
theorem dX16_goesOn_1 : decode cX16_goesOn 1 = .ok (.dup, 1) := dk_89 (dk_at dksX16_goesOn_0 1 rfl rfl)
theorem dX16_goesOn_2 : decode cX16_goesOn 2 = .ok (.getfield 17, 3) := dk_180 0 17 (dk_at dksX16_goesOn_0 2 rfl rfl)
theorem dX16_goesOn_5 : decode cX16_goesOn 5 = .ok (.iconst 1, 1) := dk_4 (dk_at dksX16_goesOn_0 5 rfl rfl)
theorem dX16_goesOn_6 : decode cX16_goesOn 6 = .ok (.iadd, 1) := dk_96 (dk_at dksX16_goesOn_0 6 rfl rfl)
theorem dX16_goesOn_7 : decode cX16_goesOn 7 = .ok (.putfield 17, 3) := dk_181 0 17 (dk_at dksX16_goesOn_0 7 rfl rfl)
theorem dX16_goesOn_10 : decode cX16_goesOn 10 = .ok (.return_, 1) := dk_177 (dk_at dksX16_goesOn_0 10 rfl rfl)
abbrev cX16_isGood : ByteArray := prog_13_method_7_code
def yX16_isGood : MethodName := ⟨RX16, "isGood", "()Z"⟩
def dkwX16_isGood_0 : List UInt8 := [42, 180, 0, 26, 154, 0, 7, 4, 167, 0, 4, 3, 172]
abbrev dktX16_isGood_0 : List UInt8 := dkwX16_isGood_0 ++ []
theorem dksX16_isGood_0 : cX16_isGood.data.toList.drop 0 = dktX16_isGood_0 := by decide +kernel
theorem dX16_isGood_0 : decode cX16_isGood 0 = .ok (.aload_n 0, 1) := dk_42 (dk_at dksX16_isGood_0 0 rfl rfl)
theorem dX16_isGood_1 : decode cX16_isGood 1 = .ok (.getfield 26, 3) := dk_180 0 26 (dk_at dksX16_isGood_0 1 rfl rfl)
theorem dX16_isGood_4 : decode cX16_isGood 4 = .ok (.ifCond .ne 7, 3) := dk_154 0 7 (dk_at dksX16_isGood_0 4 rfl rfl)
theorem dX16_isGood_7 : decode cX16_isGood 7 = .ok (.iconst 1, 1) := dk_4 (dk_at dksX16_isGood_0 7 rfl rfl)
theorem dX16_isGood_8 : decode cX16_isGood 8 = .ok (.goto 4, 3) := dk_167 0 4 (dk_at dksX16_isGood_0 8 rfl rfl)
theorem dX16_isGood_11 : decode cX16_isGood 11 = .ok (.iconst 0, 1) := dk_3 (dk_at dksX16_isGood_0 11 rfl rfl)
theorem dX16_isGood_12 : decode cX16_isGood 12 = .ok (.ireturn, 1) := dk_172 (dk_at dksX16_isGood_0 12 rfl rfl)
abbrev cX16_must : ByteArray := prog_13_method_10_code
def yX16_must : MethodName := ⟨RX16, "must", "(I)V"⟩
def dkwX16_must_1 : List UInt8 := [42, 89, 180, 0, 17, 4, 96, 181, 0, 17, 177]
abbrev dktX16_must_1 : List UInt8 := dkwX16_must_1 ++ []
def dkwX16_must_0 : List UInt8 := [42, 182, 0, 32, 153, 0, 20, 42, 182, 0, 36, 27, 159, 0, 12, 42, 4, 42, 180, 0, 17, 182, 0, 40]
abbrev dktX16_must_0 : List UInt8 := dkwX16_must_0 ++ dktX16_must_1
theorem dksX16_must_0 : cX16_must.data.toList.drop 0 = dktX16_must_0 := by decide +kernel
theorem dksX16_must_1 : cX16_must.data.toList.drop 24 = dktX16_must_1 := dk_seg dksX16_must_0 24 rfl rfl
theorem dX16_must_0 : decode cX16_must 0 = .ok (.aload_n 0, 1) := dk_42 (dk_at dksX16_must_0 0 rfl rfl)
theorem dX16_must_1 : decode cX16_must 1 = .ok (.invokevirtual 32, 3) := dk_182 0 32 (dk_at dksX16_must_0 1 rfl rfl)
theorem dX16_must_4 : decode cX16_must 4 = .ok (.ifCond .eq 20, 3) := dk_153 0 20 (dk_at dksX16_must_0 4 rfl rfl)
theorem dX16_must_7 : decode cX16_must 7 = .ok (.aload_n 0, 1) := dk_42 (dk_at dksX16_must_0 7 rfl rfl)
theorem dX16_must_8 : decode cX16_must 8 = .ok (.invokevirtual 36, 3) := dk_182 0 36 (dk_at dksX16_must_0 8 rfl rfl)
theorem dX16_must_11 : decode cX16_must 11 = .ok (.iload_n 1, 1) := dk_27 (dk_at dksX16_must_0 11 rfl rfl)
theorem dX16_must_12 : decode cX16_must 12 = .ok (.if_icmp .eq 12, 3) := dk_159 0 12 (dk_at dksX16_must_0 12 rfl rfl)
theorem dX16_must_15 : decode cX16_must 15 = .ok (.aload_n 0, 1) := dk_42 (dk_at dksX16_must_0 15 rfl rfl)
theorem dX16_must_16 : decode cX16_must 16 = .ok (.iconst 1, 1) := dk_4 (dk_at dksX16_must_0 16 rfl rfl)
theorem dX16_must_17 : decode cX16_must 17 = .ok (.aload_n 0, 1) := dk_42 (dk_at dksX16_must_0 17 rfl rfl)
theorem dX16_must_18 : decode cX16_must 18 = .ok (.getfield 17, 3) := dk_180 0 17 (dk_at dksX16_must_0 18 rfl rfl)
theorem dX16_must_21 : decode cX16_must 21 = .ok (.invokevirtual 40, 3) := dk_182 0 40 (dk_at dksX16_must_0 21 rfl rfl)
theorem dX16_must_24 : decode cX16_must 24 = .ok (.aload_n 0, 1) := dk_42 (dk_at dksX16_must_1 0 rfl rfl)
theorem dX16_must_25 : decode cX16_must 25 = .ok (.dup, 1) := dk_89 (dk_at dksX16_must_1 1 rfl rfl)
theorem dX16_must_26 : decode cX16_must 26 = .ok (.getfield 17, 3) := dk_180 0 17 (dk_at dksX16_must_1 2 rfl rfl)
theorem dX16_must_29 : decode cX16_must 29 = .ok (.iconst 1, 1) := dk_4 (dk_at dksX16_must_1 5 rfl rfl)
theorem dX16_must_30 : decode cX16_must 30 = .ok (.iadd, 1) := dk_96 (dk_at dksX16_must_1 6 rfl rfl)
theorem dX16_must_31 : decode cX16_must 31 = .ok (.putfield 17, 3) := dk_181 0 17 (dk_at dksX16_must_1 7 rfl rfl)
theorem dX16_must_34 : decode cX16_must 34 = .ok (.return_, 1) := dk_177 (dk_at dksX16_must_1 10 rfl rfl)
abbrev cX16_isEnd : ByteArray := prog_13_method_5_code
def yX16_isEnd : MethodName := ⟨RX16, "isEnd", "()Z"⟩
def dkwX16_isEnd_0 : List UInt8 := [42, 180, 0, 17, 42, 180, 0, 13, 161, 0, 7, 4, 167, 0, 4, 3, 172]
abbrev dktX16_isEnd_0 : List UInt8 := dkwX16_isEnd_0 ++ []
theorem dksX16_isEnd_0 : cX16_isEnd.data.toList.drop 0 = dktX16_isEnd_0 := by decide +kernel
theorem dX16_isEnd_0 : decode cX16_isEnd 0 = .ok (.aload_n 0, 1) := dk_42 (dk_at dksX16_isEnd_0 0 rfl rfl)
theorem dX16_isEnd_1 : decode cX16_isEnd 1 = .ok (.getfield 17, 3) := dk_180 0 17 (dk_at dksX16_isEnd_0 1 rfl rfl)
theorem dX16_isEnd_4 : decode cX16_isEnd 4 = .ok (.aload_n 0, 1) := dk_42 (dk_at dksX16_isEnd_0 4 rfl rfl)
theorem dX16_isEnd_5 : decode cX16_isEnd 5 = .ok (.getfield 13, 3) := dk_180 0 13 (dk_at dksX16_isEnd_0 5 rfl rfl)
theorem dX16_isEnd_8 : decode cX16_isEnd 8 = .ok (.if_icmp .lt 7, 3) := dk_161 0 7 (dk_at dksX16_isEnd_0 8 rfl rfl)
theorem dX16_isEnd_11 : decode cX16_isEnd 11 = .ok (.iconst 1, 1) := dk_4 (dk_at dksX16_isEnd_0 11 rfl rfl)
theorem dX16_isEnd_12 : decode cX16_isEnd 12 = .ok (.goto 4, 3) := dk_167 0 4 (dk_at dksX16_isEnd_0 12 rfl rfl)
theorem dX16_isEnd_15 : decode cX16_isEnd 15 = .ok (.iconst 0, 1) := dk_3 (dk_at dksX16_isEnd_0 15 rfl rfl)
theorem dX16_isEnd_16 : decode cX16_isEnd 16 = .ok (.ireturn, 1) := dk_172 (dk_at dksX16_isEnd_0 16 rfl rfl)
abbrev cX16_answer : ByteArray := prog_13_method_8_code
def yX16_answer : MethodName := ⟨RX16, "answer", "(I)I"⟩
def dkwX16_answer_1 : List UInt8 := [172]
abbrev dktX16_answer_1 : List UInt8 := dkwX16_answer_1 ++ []
def dkwX16_answer_0 : List UInt8 := [42, 182, 0, 32, 153, 0, 7, 27, 167, 0, 16, 17, 252, 24, 42, 180, 0, 26, 104, 42, 180, 0, 29, 100]
abbrev dktX16_answer_0 : List UInt8 := dkwX16_answer_0 ++ dktX16_answer_1
theorem dksX16_answer_0 : cX16_answer.data.toList.drop 0 = dktX16_answer_0 := by decide +kernel
theorem dksX16_answer_1 : cX16_answer.data.toList.drop 24 = dktX16_answer_1 := dk_seg dksX16_answer_0 24 rfl rfl
theorem dX16_answer_0 : decode cX16_answer 0 = .ok (.aload_n 0, 1) := dk_42 (dk_at dksX16_answer_0 0 rfl rfl)
theorem dX16_answer_1 : decode cX16_answer 1 = .ok (.invokevirtual 32, 3) := dk_182 0 32 (dk_at dksX16_answer_0 1 rfl rfl)
theorem dX16_answer_4 : decode cX16_answer 4 = .ok (.ifCond .eq 7, 3) := dk_153 0 7 (dk_at dksX16_answer_0 4 rfl rfl)
theorem dX16_answer_7 : decode cX16_answer 7 = .ok (.iload_n 1, 1) := dk_27 (dk_at dksX16_answer_0 7 rfl rfl)
theorem dX16_answer_8 : decode cX16_answer 8 = .ok (.goto 16, 3) := dk_167 0 16 (dk_at dksX16_answer_0 8 rfl rfl)
theorem dX16_answer_11 : decode cX16_answer 11 = .ok (.sipush (-1000), 3) := dk_17 252 24 (dk_at dksX16_answer_0 11 rfl rfl)
theorem dX16_answer_14 : decode cX16_answer 14 = .ok (.aload_n 0, 1) := dk_42 (dk_at dksX16_answer_0 14 rfl rfl)
theorem dX16_answer_15 : decode cX16_answer 15 = .ok (.getfield 26, 3) := dk_180 0 26 (dk_at dksX16_answer_0 15 rfl rfl)
theorem dX16_answer_18 : decode cX16_answer 18 = .ok (.imul, 1) := dk_104 (dk_at dksX16_answer_0 18 rfl rfl)
theorem dX16_answer_19 : decode cX16_answer 19 = .ok (.aload_n 0, 1) := dk_42 (dk_at dksX16_answer_0 19 rfl rfl)
theorem dX16_answer_20 : decode cX16_answer 20 = .ok (.getfield 29, 3) := dk_180 0 29 (dk_at dksX16_answer_0 20 rfl rfl)
theorem dX16_answer_23 : decode cX16_answer 23 = .ok (.isub, 1) := dk_100 (dk_at dksX16_answer_0 23 rfl rfl)
theorem dX16_answer_24 : decode cX16_answer 24 = .ok (.ireturn, 1) := dk_172 (dk_at dksX16_answer_1 0 rfl rfl)
theorem q132 : (Jvm.Cond.initialized "SharedWindow$Scribe") ∈ lw_all := lw_g (lw_at lw_m1 23 rfl) rfl
theorem q301 : (Jvm.Cond.fieldLinkNest "SharedWindow$Scribe" (20 : Nat) "SharedWindow" "tape" "[B" "SharedWindow") ∈ lw_tbl := lw_at lw_m1 192 rfl
theorem q663 : (Jvm.Cond.instanceMethod ({ cls := "SharedWindow$Scribe", name := "<init>", desc := "(LSharedWindow;I)V" } : Jvm.MethodName)) ∈ lw_all := lw_g (lw_at lw_m3 74 rfl) rfl
theorem q664 : (Jvm.Cond.code ({ cls := "SharedWindow$Scribe", name := "<init>", desc := "(LSharedWindow;I)V" } : Jvm.MethodName) prog_13_method_1_code (3 : Nat) (Option.none : Option Jvm.ClassFile.FieldType)) ∈ lw_all := lw_g (lw_at lw_m3 75 rfl) rfl
theorem q665 : (Jvm.Cond.methodLink "SharedWindow$Scribe" (7 : Nat) ({ cls := "java/lang/Object", name := "<init>", desc := "()V" } : Jvm.MethodName)) ∈ lw_all := lw_g (lw_at lw_m3 76 rfl) rfl
theorem q672 : (Jvm.Cond.fieldLink "SharedWindow$Scribe" (13 : Nat) "SharedWindow$Scribe" "n" "I") ∈ lw_all := lw_g (lw_at lw_m3 83 rfl) rfl
theorem q673 : (Jvm.Cond.fieldLink "SharedWindow$Scribe" (17 : Nat) "SharedWindow$Scribe" "at" "I") ∈ lw_all := lw_g (lw_at lw_m3 84 rfl) rfl
theorem q674 : (Jvm.Cond.fieldLink "SharedWindow$Scribe" (26 : Nat) "SharedWindow$Scribe" "fault" "I") ∈ lw_all := lw_g (lw_at lw_m3 85 rfl) rfl
theorem q675 : (Jvm.Cond.fieldLink "SharedWindow$Scribe" (29 : Nat) "SharedWindow$Scribe" "place" "I") ∈ lw_all := lw_g (lw_at lw_m3 86 rfl) rfl
theorem q676 : (Jvm.Cond.fieldLink "SharedWindow$Scribe" (1 : Nat) "SharedWindow$Scribe" "this$0" "LSharedWindow;") ∈ lw_all := lw_g (lw_at lw_m3 87 rfl) rfl
theorem q684 : (Jvm.Cond.soleField "SharedWindow$Scribe" "n") ∈ lw_all := lw_g (lw_at lw_m3 95 rfl) rfl
theorem q686 : (Jvm.Cond.soleField "SharedWindow$Scribe" "at") ∈ lw_all := lw_g (lw_at lw_m3 97 rfl) rfl
theorem q688 : (Jvm.Cond.soleField "SharedWindow$Scribe" "fault") ∈ lw_all := lw_g (lw_at lw_m3 99 rfl) rfl
theorem q690 : (Jvm.Cond.soleField "SharedWindow$Scribe" "place") ∈ lw_all := lw_g (lw_at lw_m3 101 rfl) rfl
theorem q692 : (Jvm.Cond.soleField "SharedWindow$Scribe" "this$0") ∈ lw_all := lw_g (lw_at lw_m3 103 rfl) rfl
theorem q704 : (Jvm.Cond.declares ({ cls := "SharedWindow$Scribe", name := "isIn", desc := "(II)Z" } : Jvm.MethodName)) ∈ lw_tbl := lw_at lw_m3 115 rfl
theorem q706 : (Jvm.Cond.instanceMethod ({ cls := "SharedWindow$Scribe", name := "isIn", desc := "(II)Z" } : Jvm.MethodName)) ∈ lw_all := lw_g (lw_at lw_m3 117 rfl) rfl
theorem q707 : (Jvm.Cond.code ({ cls := "SharedWindow$Scribe", name := "isIn", desc := "(II)Z" } : Jvm.MethodName) prog_13_method_9_code (3 : Nat) (Option.some Jvm.ClassFile.FieldType.boolean)) ∈ lw_all := lw_g (lw_at lw_m3 118 rfl) rfl
theorem q708 : (Jvm.Cond.methodLink "SharedWindow$Scribe" (36 : Nat) ({ cls := "SharedWindow$Scribe", name := "here", desc := "()I" } : Jvm.MethodName)) ∈ lw_all := lw_g (lw_at lw_m3 119 rfl) rfl
theorem q709 : (Jvm.Cond.instanceMethod ({ cls := "SharedWindow$Scribe", name := "here", desc := "()I" } : Jvm.MethodName)) ∈ lw_all := lw_g (lw_at lw_m3 120 rfl) rfl
theorem q710 : (Jvm.Cond.sameMethod "SharedWindow$Scribe" "SharedWindow$Scribe" "here" "()I") ∈ lw_all := lw_g (lw_at lw_m3 121 rfl) rfl
theorem q713 : (Jvm.Cond.code ({ cls := "SharedWindow$Scribe", name := "here", desc := "()I" } : Jvm.MethodName) prog_13_method_2_code (1 : Nat) (Option.some Jvm.ClassFile.FieldType.int)) ∈ lw_all := lw_g (lw_at lw_m3 124 rfl) rfl
theorem q716 : (Jvm.Cond.declares ({ cls := "SharedWindow$Scribe", name := "here", desc := "()I" } : Jvm.MethodName)) ∈ lw_tbl := lw_at lw_m3 127 rfl
theorem q720 : (Jvm.Cond.declares ({ cls := "SharedWindow$Scribe", name := "place", desc := "()I" } : Jvm.MethodName)) ∈ lw_tbl := lw_at lw_m3 131 rfl
theorem q722 : (Jvm.Cond.instanceMethod ({ cls := "SharedWindow$Scribe", name := "place", desc := "()I" } : Jvm.MethodName)) ∈ lw_all := lw_g (lw_at lw_m3 133 rfl) rfl
theorem q723 : (Jvm.Cond.code ({ cls := "SharedWindow$Scribe", name := "place", desc := "()I" } : Jvm.MethodName) prog_13_method_3_code (1 : Nat) (Option.some Jvm.ClassFile.FieldType.int)) ∈ lw_all := lw_g (lw_at lw_m3 134 rfl) rfl
theorem q726 : (Jvm.Cond.declares ({ cls := "SharedWindow$Scribe", name := "bad", desc := "(II)V" } : Jvm.MethodName)) ∈ lw_tbl := lw_at lw_m3 137 rfl
theorem q728 : (Jvm.Cond.instanceMethod ({ cls := "SharedWindow$Scribe", name := "bad", desc := "(II)V" } : Jvm.MethodName)) ∈ lw_all := lw_g (lw_at lw_m3 139 rfl) rfl
theorem q729 : (Jvm.Cond.code ({ cls := "SharedWindow$Scribe", name := "bad", desc := "(II)V" } : Jvm.MethodName) prog_13_method_6_code (3 : Nat) (Option.none : Option Jvm.ClassFile.FieldType)) ∈ lw_all := lw_g (lw_at lw_m3 140 rfl) rfl
theorem q737 : (Jvm.Cond.declares ({ cls := "SharedWindow$Scribe", name := "goesOn", desc := "()V" } : Jvm.MethodName)) ∈ lw_tbl := lw_at lw_m3 148 rfl
theorem q739 : (Jvm.Cond.instanceMethod ({ cls := "SharedWindow$Scribe", name := "goesOn", desc := "()V" } : Jvm.MethodName)) ∈ lw_all := lw_g (lw_at lw_m3 150 rfl) rfl
theorem q740 : (Jvm.Cond.code ({ cls := "SharedWindow$Scribe", name := "goesOn", desc := "()V" } : Jvm.MethodName) prog_13_method_4_code (1 : Nat) (Option.none : Option Jvm.ClassFile.FieldType)) ∈ lw_all := lw_g (lw_at lw_m3 151 rfl) rfl
theorem q743 : (Jvm.Cond.declares ({ cls := "SharedWindow$Scribe", name := "isGood", desc := "()Z" } : Jvm.MethodName)) ∈ lw_tbl := lw_at lw_m3 154 rfl
theorem q745 : (Jvm.Cond.instanceMethod ({ cls := "SharedWindow$Scribe", name := "isGood", desc := "()Z" } : Jvm.MethodName)) ∈ lw_all := lw_g (lw_at lw_m3 156 rfl) rfl
theorem q746 : (Jvm.Cond.code ({ cls := "SharedWindow$Scribe", name := "isGood", desc := "()Z" } : Jvm.MethodName) prog_13_method_7_code (1 : Nat) (Option.some Jvm.ClassFile.FieldType.boolean)) ∈ lw_all := lw_g (lw_at lw_m3 157 rfl) rfl
theorem q761 : (Jvm.Cond.declares ({ cls := "SharedWindow$Scribe", name := "must", desc := "(I)V" } : Jvm.MethodName)) ∈ lw_tbl := lw_at lw_m3 172 rfl
theorem q763 : (Jvm.Cond.instanceMethod ({ cls := "SharedWindow$Scribe", name := "must", desc := "(I)V" } : Jvm.MethodName)) ∈ lw_all := lw_g (lw_at lw_m3 174 rfl) rfl
theorem q764 : (Jvm.Cond.code ({ cls := "SharedWindow$Scribe", name := "must", desc := "(I)V" } : Jvm.MethodName) prog_13_method_10_code (2 : Nat) (Option.none : Option Jvm.ClassFile.FieldType)) ∈ lw_all := lw_g (lw_at lw_m3 175 rfl) rfl
theorem q765 : (Jvm.Cond.methodLink "SharedWindow$Scribe" (32 : Nat) ({ cls := "SharedWindow$Scribe", name := "isGood", desc := "()Z" } : Jvm.MethodName)) ∈ lw_all := lw_g (lw_at lw_m3 176 rfl) rfl
theorem q766 : (Jvm.Cond.methodLink "SharedWindow$Scribe" (40 : Nat) ({ cls := "SharedWindow$Scribe", name := "bad", desc := "(II)V" } : Jvm.MethodName)) ∈ lw_all := lw_g (lw_at lw_m3 177 rfl) rfl
theorem q769 : (Jvm.Cond.declares ({ cls := "SharedWindow$Scribe", name := "isEnd", desc := "()Z" } : Jvm.MethodName)) ∈ lw_tbl := lw_at lw_m3 180 rfl
theorem q771 : (Jvm.Cond.instanceMethod ({ cls := "SharedWindow$Scribe", name := "isEnd", desc := "()Z" } : Jvm.MethodName)) ∈ lw_all := lw_g (lw_at lw_m3 182 rfl) rfl
theorem q772 : (Jvm.Cond.code ({ cls := "SharedWindow$Scribe", name := "isEnd", desc := "()Z" } : Jvm.MethodName) prog_13_method_5_code (1 : Nat) (Option.some Jvm.ClassFile.FieldType.boolean)) ∈ lw_all := lw_g (lw_at lw_m3 183 rfl) rfl
theorem q775 : (Jvm.Cond.declares ({ cls := "SharedWindow$Scribe", name := "answer", desc := "(I)I" } : Jvm.MethodName)) ∈ lw_tbl := lw_at lw_m3 186 rfl
theorem q777 : (Jvm.Cond.instanceMethod ({ cls := "SharedWindow$Scribe", name := "answer", desc := "(I)I" } : Jvm.MethodName)) ∈ lw_all := lw_g (lw_at lw_m3 188 rfl) rfl
theorem q778 : (Jvm.Cond.code ({ cls := "SharedWindow$Scribe", name := "answer", desc := "(I)I" } : Jvm.MethodName) prog_13_method_8_code (2 : Nat) (Option.some Jvm.ClassFile.FieldType.int)) ∈ lw_all := lw_g (lw_at lw_m3 189 rfl) rfl
theorem q1826 : (Jvm.Cond.sameMethod "SharedWindow$Scribe" "SharedWindow$Scribe" "isGood" "()Z") ∈ lw_all := lw_g (lw_at lw_m8 37 rfl) rfl
theorem q1829 : (Jvm.Cond.sameMethod "SharedWindow$Scribe" "SharedWindow$Scribe" "bad" "(II)V") ∈ lw_all := lw_g (lw_at lw_m8 40 rfl) rfl
/-! SharedWindow$Surveyor -/
set_option maxRecDepth 100000
def RX17 : String := "SharedWindow$Surveyor"
def TX17 : u_T := fun k => match k with
  | 0 => ("SharedWindow$Scribe", "n", "I", true)
  | 1 => ("SharedWindow$Scribe", "at", "I", false)
  | 2 => ("SharedWindow$Scribe", "fault", "I", false)
  | 3 => ("SharedWindow$Scribe", "place", "I", false)
  | 4 => ("SharedWindow$Scribe", "this$0", "LSharedWindow;", true)
  | 5 => ("SharedWindow$Surveyor", "trial", "LSharedWindow$Plan;", true)
  | 6 => ("SharedWindow$Surveyor", "lines", "I", false)
  | _ => ("SharedWindow$Surveyor", "this$0", "LSharedWindow;", true)
def tyX17 : Nat → FieldType := fun k => match k with
  | 0 => .int
  | 1 => .int
  | 2 => .int
  | 3 => .int
  | 4 => .object "SharedWindow"
  | 5 => .object "SharedWindow$Plan"
  | 6 => .int
  | _ => .object "SharedWindow"
abbrev wsX170 : List Cond := u_ws RX17 TX17 8
-- two fields of one name: no nmX17
theorem tyX17_ok : ∀ k, k < 8 → parseFieldDescriptor (TX17 k).2.2.1 = some (tyX17 k) := by decide +kernel
abbrev cX17_init : ByteArray := prog_17_method_1_code
def yX17_init : MethodName := ⟨RX17, "<init>", "(LSharedWindow;I)V"⟩
def dkwX17_init_0 : List UInt8 := [42, 43, 181, 0, 3, 42, 43, 28, 183, 0, 9, 42, 187, 0, 15, 89, 183, 0, 17, 181, 0, 20, 177]
abbrev dktX17_init_0 : List UInt8 := dkwX17_init_0 ++ []
theorem dksX17_init_0 : cX17_init.data.toList.drop 0 = dktX17_init_0 := by decide +kernel
theorem dX17_init_0 : decode cX17_init 0 = .ok (.aload_n 0, 1) := dk_42 (dk_at dksX17_init_0 0 rfl rfl)
theorem dX17_init_1 : decode cX17_init 1 = .ok (.aload_n 1, 1) := dk_43 (dk_at dksX17_init_0 1 rfl rfl)
theorem dX17_init_2 : decode cX17_init 2 = .ok (.putfield 3, 3) := dk_181 0 3 (dk_at dksX17_init_0 2 rfl rfl)
theorem dX17_init_5 : decode cX17_init 5 = .ok (.aload_n 0, 1) := dk_42 (dk_at dksX17_init_0 5 rfl rfl)
theorem dX17_init_6 : decode cX17_init 6 = .ok (.aload_n 1, 1) := dk_43 (dk_at dksX17_init_0 6 rfl rfl)
theorem dX17_init_7 : decode cX17_init 7 = .ok (.iload_n 2, 1) := dk_28 (dk_at dksX17_init_0 7 rfl rfl)
theorem dX17_init_8 : decode cX17_init 8 = .ok (.invokespecial 9, 3) := dk_183 0 9 (dk_at dksX17_init_0 8 rfl rfl)
theorem dX17_init_11 : decode cX17_init 11 = .ok (.aload_n 0, 1) := dk_42 (dk_at dksX17_init_0 11 rfl rfl)
theorem dX17_init_12 : decode cX17_init 12 = .ok (.new 15, 3) := dk_187 0 15 (dk_at dksX17_init_0 12 rfl rfl)
theorem dX17_init_15 : decode cX17_init 15 = .ok (.dup, 1) := dk_89 (dk_at dksX17_init_0 15 rfl rfl)
theorem dX17_init_16 : decode cX17_init 16 = .ok (.invokespecial 17, 3) := dk_183 0 17 (dk_at dksX17_init_0 16 rfl rfl)
theorem dX17_init_19 : decode cX17_init 19 = .ok (.putfield 20, 3) := dk_181 0 20 (dk_at dksX17_init_0 19 rfl rfl)
theorem dX17_init_22 : decode cX17_init 22 = .ok (.return_, 1) := dk_177 (dk_at dksX17_init_0 22 rfl rfl)
abbrev cX17_read : ByteArray := prog_17_method_6_code
def yX17_read : MethodName := ⟨RX17, "read", "()I"⟩
def dkwX17_read_1 : List UInt8 := [42, 182, 0, 28, 153, 255, 232, 42, 182, 0, 89, 167, 255, 225, 42, 42, 180, 0, 73, 182, 0, 95, 172]
abbrev dktX17_read_1 : List UInt8 := dkwX17_read_1 ++ []
def dkwX17_read_0 : List UInt8 := [42, 182, 0, 89, 42, 182, 0, 28, 153, 0, 30, 42, 182, 0, 92, 154, 0, 23, 42, 16, 59, 182, 0, 57]
abbrev dktX17_read_0 : List UInt8 := dkwX17_read_0 ++ dktX17_read_1
theorem dksX17_read_0 : cX17_read.data.toList.drop 0 = dktX17_read_0 := by decide +kernel
theorem dksX17_read_1 : cX17_read.data.toList.drop 24 = dktX17_read_1 := dk_seg dksX17_read_0 24 rfl rfl
theorem dX17_read_0 : decode cX17_read 0 = .ok (.aload_n 0, 1) := dk_42 (dk_at dksX17_read_0 0 rfl rfl)
theorem dX17_read_1 : decode cX17_read 1 = .ok (.invokevirtual 89, 3) := dk_182 0 89 (dk_at dksX17_read_0 1 rfl rfl)
theorem dX17_read_4 : decode cX17_read 4 = .ok (.aload_n 0, 1) := dk_42 (dk_at dksX17_read_0 4 rfl rfl)
theorem dX17_read_5 : decode cX17_read 5 = .ok (.invokevirtual 28, 3) := dk_182 0 28 (dk_at dksX17_read_0 5 rfl rfl)
theorem dX17_read_8 : decode cX17_read 8 = .ok (.ifCond .eq 30, 3) := dk_153 0 30 (dk_at dksX17_read_0 8 rfl rfl)
theorem dX17_read_11 : decode cX17_read 11 = .ok (.aload_n 0, 1) := dk_42 (dk_at dksX17_read_0 11 rfl rfl)
theorem dX17_read_12 : decode cX17_read 12 = .ok (.invokevirtual 92, 3) := dk_182 0 92 (dk_at dksX17_read_0 12 rfl rfl)
theorem dX17_read_15 : decode cX17_read 15 = .ok (.ifCond .ne 23, 3) := dk_154 0 23 (dk_at dksX17_read_0 15 rfl rfl)
theorem dX17_read_18 : decode cX17_read 18 = .ok (.aload_n 0, 1) := dk_42 (dk_at dksX17_read_0 18 rfl rfl)
theorem dX17_read_19 : decode cX17_read 19 = .ok (.bipush 59, 2) := dk_16 59 (dk_at dksX17_read_0 19 rfl rfl)
theorem dX17_read_21 : decode cX17_read 21 = .ok (.invokevirtual 57, 3) := dk_182 0 57 (dk_at dksX17_read_0 21 rfl rfl)
theorem dX17_read_24 : decode cX17_read 24 = .ok (.aload_n 0, 1) := dk_42 (dk_at dksX17_read_1 0 rfl rfl)
theorem dX17_read_25 : decode cX17_read 25 = .ok (.invokevirtual 28, 3) := dk_182 0 28 (dk_at dksX17_read_1 1 rfl rfl)
theorem dX17_read_28 : decode cX17_read 28 = .ok (.ifCond .eq (-24), 3) := dk_153 255 232 (dk_at dksX17_read_1 4 rfl rfl)
theorem dX17_read_31 : decode cX17_read 31 = .ok (.aload_n 0, 1) := dk_42 (dk_at dksX17_read_1 7 rfl rfl)
theorem dX17_read_32 : decode cX17_read 32 = .ok (.invokevirtual 89, 3) := dk_182 0 89 (dk_at dksX17_read_1 8 rfl rfl)
theorem dX17_read_35 : decode cX17_read 35 = .ok (.goto (-31), 3) := dk_167 255 225 (dk_at dksX17_read_1 11 rfl rfl)
theorem dX17_read_38 : decode cX17_read 38 = .ok (.aload_n 0, 1) := dk_42 (dk_at dksX17_read_1 14 rfl rfl)
theorem dX17_read_39 : decode cX17_read 39 = .ok (.aload_n 0, 1) := dk_42 (dk_at dksX17_read_1 15 rfl rfl)
theorem dX17_read_40 : decode cX17_read 40 = .ok (.getfield 73, 3) := dk_180 0 73 (dk_at dksX17_read_1 16 rfl rfl)
theorem dX17_read_43 : decode cX17_read 43 = .ok (.invokevirtual 95, 3) := dk_182 0 95 (dk_at dksX17_read_1 19 rfl rfl)
theorem dX17_read_46 : decode cX17_read 46 = .ok (.ireturn, 1) := dk_172 (dk_at dksX17_read_1 22 rfl rfl)
abbrev cX17_line : ByteArray := prog_17_method_5_code
def yX17_line : MethodName := ⟨RX17, "line", "()V"⟩
def dkwX17_line_6 : List UInt8 := [42, 29, 182, 0, 83, 167, 0, 8, 42, 29, 182, 0, 86, 177]
abbrev dktX17_line_6 : List UInt8 := dkwX17_line_6 ++ []
def dkwX17_line_5 : List UInt8 := [180, 0, 73, 4, 96, 181, 0, 73, 42, 182, 0, 43, 42, 182, 0, 28, 154, 0, 4, 177, 27, 153, 0, 11]
abbrev dktX17_line_5 : List UInt8 := dkwX17_line_5 ++ dktX17_line_6
def dkwX17_line_4 : List UInt8 := [42, 180, 0, 20, 29, 182, 0, 80, 153, 0, 13, 42, 16, 6, 42, 182, 0, 24, 182, 0, 36, 42, 89]
abbrev dktX17_line_4 : List UInt8 := dkwX17_line_4 ++ dktX17_line_5
def dkwX17_line_3 : List UInt8 := [182, 0, 36, 167, 0, 42, 27, 153, 0, 17, 42, 180, 0, 20, 29, 182, 0, 76, 153, 0, 27, 167, 0, 14]
abbrev dktX17_line_3 : List UInt8 := dkwX17_line_3 ++ dktX17_line_4
def dkwX17_line_2 : List UInt8 := [182, 0, 24, 182, 0, 36, 167, 0, 63, 42, 180, 0, 73, 16, 32, 160, 0, 15, 42, 7, 42, 182, 0, 24]
abbrev dktX17_line_2 : List UInt8 := dkwX17_line_2 ++ dktX17_line_3
def dkwX17_line_1 : List UInt8 := [153, 0, 8, 16, 97, 167, 0, 5, 16, 65, 100, 62, 27, 154, 0, 19, 28, 154, 0, 15, 42, 4, 42]
abbrev dktX17_line_1 : List UInt8 := dkwX17_line_1 ++ dktX17_line_2
def dkwX17_line_0 : List UInt8 := [42, 16, 97, 16, 112, 182, 0, 32, 60, 42, 16, 65, 16, 80, 182, 0, 32, 61, 42, 182, 0, 40, 27]
abbrev dktX17_line_0 : List UInt8 := dkwX17_line_0 ++ dktX17_line_1
theorem dksX17_line_0 : cX17_line.data.toList.drop 0 = dktX17_line_0 := by decide +kernel
theorem dksX17_line_1 : cX17_line.data.toList.drop 23 = dktX17_line_1 := dk_seg dksX17_line_0 23 rfl rfl
theorem dksX17_line_2 : cX17_line.data.toList.drop 46 = dktX17_line_2 := dk_seg dksX17_line_1 23 rfl rfl
theorem dksX17_line_3 : cX17_line.data.toList.drop 70 = dktX17_line_3 := dk_seg dksX17_line_2 24 rfl rfl
theorem dksX17_line_4 : cX17_line.data.toList.drop 94 = dktX17_line_4 := dk_seg dksX17_line_3 24 rfl rfl
theorem dksX17_line_5 : cX17_line.data.toList.drop 117 = dktX17_line_5 := dk_seg dksX17_line_4 23 rfl rfl
theorem dksX17_line_6 : cX17_line.data.toList.drop 141 = dktX17_line_6 := dk_seg dksX17_line_5 24 rfl rfl
theorem dX17_line_0 : decode cX17_line 0 = .ok (.aload_n 0, 1) := dk_42 (dk_at dksX17_line_0 0 rfl rfl)
theorem dX17_line_1 : decode cX17_line 1 = .ok (.bipush 97, 2) := dk_16 97 (dk_at dksX17_line_0 1 rfl rfl)
theorem dX17_line_3 : decode cX17_line 3 = .ok (.bipush 112, 2) := dk_16 112 (dk_at dksX17_line_0 3 rfl rfl)
theorem dX17_line_5 : decode cX17_line 5 = .ok (.invokevirtual 32, 3) := dk_182 0 32 (dk_at dksX17_line_0 5 rfl rfl)
theorem dX17_line_8 : decode cX17_line 8 = .ok (.istore_n 1, 1) := dk_60 (dk_at dksX17_line_0 8 rfl rfl)
theorem dX17_line_9 : decode cX17_line 9 = .ok (.aload_n 0, 1) := dk_42 (dk_at dksX17_line_0 9 rfl rfl)
theorem dX17_line_10 : decode cX17_line 10 = .ok (.bipush 65, 2) := dk_16 65 (dk_at dksX17_line_0 10 rfl rfl)
theorem dX17_line_12 : decode cX17_line 12 = .ok (.bipush 80, 2) := dk_16 80 (dk_at dksX17_line_0 12 rfl rfl)
theorem dX17_line_14 : decode cX17_line 14 = .ok (.invokevirtual 32, 3) := dk_182 0 32 (dk_at dksX17_line_0 14 rfl rfl)
theorem dX17_line_17 : decode cX17_line 17 = .ok (.istore_n 2, 1) := dk_61 (dk_at dksX17_line_0 17 rfl rfl)
theorem dX17_line_18 : decode cX17_line 18 = .ok (.aload_n 0, 1) := dk_42 (dk_at dksX17_line_0 18 rfl rfl)
theorem dX17_line_19 : decode cX17_line 19 = .ok (.invokevirtual 40, 3) := dk_182 0 40 (dk_at dksX17_line_0 19 rfl rfl)
theorem dX17_line_22 : decode cX17_line 22 = .ok (.iload_n 1, 1) := dk_27 (dk_at dksX17_line_0 22 rfl rfl)
theorem dX17_line_23 : decode cX17_line 23 = .ok (.ifCond .eq 8, 3) := dk_153 0 8 (dk_at dksX17_line_1 0 rfl rfl)
theorem dX17_line_26 : decode cX17_line 26 = .ok (.bipush 97, 2) := dk_16 97 (dk_at dksX17_line_1 3 rfl rfl)
theorem dX17_line_28 : decode cX17_line 28 = .ok (.goto 5, 3) := dk_167 0 5 (dk_at dksX17_line_1 5 rfl rfl)
theorem dX17_line_31 : decode cX17_line 31 = .ok (.bipush 65, 2) := dk_16 65 (dk_at dksX17_line_1 8 rfl rfl)
theorem dX17_line_33 : decode cX17_line 33 = .ok (.isub, 1) := dk_100 (dk_at dksX17_line_1 10 rfl rfl)
theorem dX17_line_34 : decode cX17_line 34 = .ok (.istore_n 3, 1) := dk_62 (dk_at dksX17_line_1 11 rfl rfl)
theorem dX17_line_35 : decode cX17_line 35 = .ok (.iload_n 1, 1) := dk_27 (dk_at dksX17_line_1 12 rfl rfl)
theorem dX17_line_36 : decode cX17_line 36 = .ok (.ifCond .ne 19, 3) := dk_154 0 19 (dk_at dksX17_line_1 13 rfl rfl)
theorem dX17_line_39 : decode cX17_line 39 = .ok (.iload_n 2, 1) := dk_28 (dk_at dksX17_line_1 16 rfl rfl)
theorem dX17_line_40 : decode cX17_line 40 = .ok (.ifCond .ne 15, 3) := dk_154 0 15 (dk_at dksX17_line_1 17 rfl rfl)
theorem dX17_line_43 : decode cX17_line 43 = .ok (.aload_n 0, 1) := dk_42 (dk_at dksX17_line_1 20 rfl rfl)
theorem dX17_line_44 : decode cX17_line 44 = .ok (.iconst 1, 1) := dk_4 (dk_at dksX17_line_1 21 rfl rfl)
theorem dX17_line_45 : decode cX17_line 45 = .ok (.aload_n 0, 1) := dk_42 (dk_at dksX17_line_1 22 rfl rfl)
theorem dX17_line_46 : decode cX17_line 46 = .ok (.invokevirtual 24, 3) := dk_182 0 24 (dk_at dksX17_line_2 0 rfl rfl)
theorem dX17_line_49 : decode cX17_line 49 = .ok (.invokevirtual 36, 3) := dk_182 0 36 (dk_at dksX17_line_2 3 rfl rfl)
theorem dX17_line_52 : decode cX17_line 52 = .ok (.goto 63, 3) := dk_167 0 63 (dk_at dksX17_line_2 6 rfl rfl)
theorem dX17_line_55 : decode cX17_line 55 = .ok (.aload_n 0, 1) := dk_42 (dk_at dksX17_line_2 9 rfl rfl)
theorem dX17_line_56 : decode cX17_line 56 = .ok (.getfield 73, 3) := dk_180 0 73 (dk_at dksX17_line_2 10 rfl rfl)
theorem dX17_line_59 : decode cX17_line 59 = .ok (.bipush 32, 2) := dk_16 32 (dk_at dksX17_line_2 13 rfl rfl)
theorem dX17_line_61 : decode cX17_line 61 = .ok (.if_icmp .ne 15, 3) := dk_160 0 15 (dk_at dksX17_line_2 15 rfl rfl)
theorem dX17_line_64 : decode cX17_line 64 = .ok (.aload_n 0, 1) := dk_42 (dk_at dksX17_line_2 18 rfl rfl)
theorem dX17_line_65 : decode cX17_line 65 = .ok (.iconst 4, 1) := dk_7 (dk_at dksX17_line_2 19 rfl rfl)
theorem dX17_line_66 : decode cX17_line 66 = .ok (.aload_n 0, 1) := dk_42 (dk_at dksX17_line_2 20 rfl rfl)
theorem dX17_line_67 : decode cX17_line 67 = .ok (.invokevirtual 24, 3) := dk_182 0 24 (dk_at dksX17_line_2 21 rfl rfl)
theorem dX17_line_70 : decode cX17_line 70 = .ok (.invokevirtual 36, 3) := dk_182 0 36 (dk_at dksX17_line_3 0 rfl rfl)
theorem dX17_line_73 : decode cX17_line 73 = .ok (.goto 42, 3) := dk_167 0 42 (dk_at dksX17_line_3 3 rfl rfl)
theorem dX17_line_76 : decode cX17_line 76 = .ok (.iload_n 1, 1) := dk_27 (dk_at dksX17_line_3 6 rfl rfl)
theorem dX17_line_77 : decode cX17_line 77 = .ok (.ifCond .eq 17, 3) := dk_153 0 17 (dk_at dksX17_line_3 7 rfl rfl)
theorem dX17_line_80 : decode cX17_line 80 = .ok (.aload_n 0, 1) := dk_42 (dk_at dksX17_line_3 10 rfl rfl)
theorem dX17_line_81 : decode cX17_line 81 = .ok (.getfield 20, 3) := dk_180 0 20 (dk_at dksX17_line_3 11 rfl rfl)
theorem dX17_line_84 : decode cX17_line 84 = .ok (.iload_n 3, 1) := dk_29 (dk_at dksX17_line_3 14 rfl rfl)
theorem dX17_line_85 : decode cX17_line 85 = .ok (.invokevirtual 76, 3) := dk_182 0 76 (dk_at dksX17_line_3 15 rfl rfl)
theorem dX17_line_88 : decode cX17_line 88 = .ok (.ifCond .eq 27, 3) := dk_153 0 27 (dk_at dksX17_line_3 18 rfl rfl)
theorem dX17_line_91 : decode cX17_line 91 = .ok (.goto 14, 3) := dk_167 0 14 (dk_at dksX17_line_3 21 rfl rfl)
theorem dX17_line_94 : decode cX17_line 94 = .ok (.aload_n 0, 1) := dk_42 (dk_at dksX17_line_4 0 rfl rfl)
theorem dX17_line_95 : decode cX17_line 95 = .ok (.getfield 20, 3) := dk_180 0 20 (dk_at dksX17_line_4 1 rfl rfl)
theorem dX17_line_98 : decode cX17_line 98 = .ok (.iload_n 3, 1) := dk_29 (dk_at dksX17_line_4 4 rfl rfl)
theorem dX17_line_99 : decode cX17_line 99 = .ok (.invokevirtual 80, 3) := dk_182 0 80 (dk_at dksX17_line_4 5 rfl rfl)
theorem dX17_line_102 : decode cX17_line 102 = .ok (.ifCond .eq 13, 3) := dk_153 0 13 (dk_at dksX17_line_4 8 rfl rfl)
theorem dX17_line_105 : decode cX17_line 105 = .ok (.aload_n 0, 1) := dk_42 (dk_at dksX17_line_4 11 rfl rfl)
theorem dX17_line_106 : decode cX17_line 106 = .ok (.bipush 6, 2) := dk_16 6 (dk_at dksX17_line_4 12 rfl rfl)
theorem dX17_line_108 : decode cX17_line 108 = .ok (.aload_n 0, 1) := dk_42 (dk_at dksX17_line_4 14 rfl rfl)
theorem dX17_line_109 : decode cX17_line 109 = .ok (.invokevirtual 24, 3) := dk_182 0 24 (dk_at dksX17_line_4 15 rfl rfl)
theorem dX17_line_112 : decode cX17_line 112 = .ok (.invokevirtual 36, 3) := dk_182 0 36 (dk_at dksX17_line_4 18 rfl rfl)
theorem dX17_line_115 : decode cX17_line 115 = .ok (.aload_n 0, 1) := dk_42 (dk_at dksX17_line_4 21 rfl rfl)
theorem dX17_line_116 : decode cX17_line 116 = .ok (.dup, 1) := dk_89 (dk_at dksX17_line_4 22 rfl rfl)
theorem dX17_line_117 : decode cX17_line 117 = .ok (.getfield 73, 3) := dk_180 0 73 (dk_at dksX17_line_5 0 rfl rfl)
theorem dX17_line_120 : decode cX17_line 120 = .ok (.iconst 1, 1) := dk_4 (dk_at dksX17_line_5 3 rfl rfl)
theorem dX17_line_121 : decode cX17_line 121 = .ok (.iadd, 1) := dk_96 (dk_at dksX17_line_5 4 rfl rfl)
theorem dX17_line_122 : decode cX17_line 122 = .ok (.putfield 73, 3) := dk_181 0 73 (dk_at dksX17_line_5 5 rfl rfl)
theorem dX17_line_125 : decode cX17_line 125 = .ok (.aload_n 0, 1) := dk_42 (dk_at dksX17_line_5 8 rfl rfl)
theorem dX17_line_126 : decode cX17_line 126 = .ok (.invokevirtual 43, 3) := dk_182 0 43 (dk_at dksX17_line_5 9 rfl rfl)
theorem dX17_line_129 : decode cX17_line 129 = .ok (.aload_n 0, 1) := dk_42 (dk_at dksX17_line_5 12 rfl rfl)
theorem dX17_line_130 : decode cX17_line 130 = .ok (.invokevirtual 28, 3) := dk_182 0 28 (dk_at dksX17_line_5 13 rfl rfl)
theorem dX17_line_133 : decode cX17_line 133 = .ok (.ifCond .ne 4, 3) := dk_154 0 4 (dk_at dksX17_line_5 16 rfl rfl)
theorem dX17_line_136 : decode cX17_line 136 = .ok (.return_, 1) := dk_177 (dk_at dksX17_line_5 19 rfl rfl)
theorem dX17_line_137 : decode cX17_line 137 = .ok (.iload_n 1, 1) := dk_27 (dk_at dksX17_line_5 20 rfl rfl)
theorem dX17_line_138 : decode cX17_line 138 = .ok (.ifCond .eq 11, 3) := dk_153 0 11 (dk_at dksX17_line_5 21 rfl rfl)
theorem dX17_line_141 : decode cX17_line 141 = .ok (.aload_n 0, 1) := dk_42 (dk_at dksX17_line_6 0 rfl rfl)
theorem dX17_line_142 : decode cX17_line 142 = .ok (.iload_n 3, 1) := dk_29 (dk_at dksX17_line_6 1 rfl rfl)
theorem dX17_line_143 : decode cX17_line 143 = .ok (.invokevirtual 83, 3) := dk_182 0 83 (dk_at dksX17_line_6 2 rfl rfl)
theorem dX17_line_146 : decode cX17_line 146 = .ok (.goto 8, 3) := dk_167 0 8 (dk_at dksX17_line_6 5 rfl rfl)
theorem dX17_line_149 : decode cX17_line 149 = .ok (.aload_n 0, 1) := dk_42 (dk_at dksX17_line_6 8 rfl rfl)
theorem dX17_line_150 : decode cX17_line 150 = .ok (.iload_n 3, 1) := dk_29 (dk_at dksX17_line_6 9 rfl rfl)
theorem dX17_line_151 : decode cX17_line 151 = .ok (.invokevirtual 86, 3) := dk_182 0 86 (dk_at dksX17_line_6 10 rfl rfl)
theorem dX17_line_154 : decode cX17_line 154 = .ok (.return_, 1) := dk_177 (dk_at dksX17_line_6 13 rfl rfl)
abbrev cX17_house : ByteArray := prog_17_method_3_code
def yX17_house : MethodName := ⟨RX17, "house", "(I)V"⟩
def dkwX17_house_1 : List UInt8 := [128, 181, 0, 49, 42, 180, 0, 20, 180, 0, 53, 27, 28, 79, 177]
abbrev dktX17_house_1 : List UInt8 := dkwX17_house_1 ++ []
def dkwX17_house_0 : List UInt8 := [42, 182, 0, 46, 61, 42, 182, 0, 28, 154, 0, 4, 177, 42, 180, 0, 20, 89, 180, 0, 49, 4, 27, 120]
abbrev dktX17_house_0 : List UInt8 := dkwX17_house_0 ++ dktX17_house_1
theorem dksX17_house_0 : cX17_house.data.toList.drop 0 = dktX17_house_0 := by decide +kernel
theorem dksX17_house_1 : cX17_house.data.toList.drop 24 = dktX17_house_1 := dk_seg dksX17_house_0 24 rfl rfl
theorem dX17_house_0 : decode cX17_house 0 = .ok (.aload_n 0, 1) := dk_42 (dk_at dksX17_house_0 0 rfl rfl)
theorem dX17_house_1 : decode cX17_house 1 = .ok (.invokevirtual 46, 3) := dk_182 0 46 (dk_at dksX17_house_0 1 rfl rfl)
theorem dX17_house_4 : decode cX17_house 4 = .ok (.istore_n 2, 1) := dk_61 (dk_at dksX17_house_0 4 rfl rfl)
theorem dX17_house_5 : decode cX17_house 5 = .ok (.aload_n 0, 1) := dk_42 (dk_at dksX17_house_0 5 rfl rfl)
theorem dX17_house_6 : decode cX17_house 6 = .ok (.invokevirtual 28, 3) := dk_182 0 28 (dk_at dksX17_house_0 6 rfl rfl)
theorem dX17_house_9 : decode cX17_house 9 = .ok (.ifCond .ne 4, 3) := dk_154 0 4 (dk_at dksX17_house_0 9 rfl rfl)
theorem dX17_house_12 : decode cX17_house 12 = .ok (.return_, 1) := dk_177 (dk_at dksX17_house_0 12 rfl rfl)
theorem dX17_house_13 : decode cX17_house 13 = .ok (.aload_n 0, 1) := dk_42 (dk_at dksX17_house_0 13 rfl rfl)
theorem dX17_house_14 : decode cX17_house 14 = .ok (.getfield 20, 3) := dk_180 0 20 (dk_at dksX17_house_0 14 rfl rfl)
theorem dX17_house_17 : decode cX17_house 17 = .ok (.dup, 1) := dk_89 (dk_at dksX17_house_0 17 rfl rfl)
theorem dX17_house_18 : decode cX17_house 18 = .ok (.getfield 49, 3) := dk_180 0 49 (dk_at dksX17_house_0 18 rfl rfl)
theorem dX17_house_21 : decode cX17_house 21 = .ok (.iconst 1, 1) := dk_4 (dk_at dksX17_house_0 21 rfl rfl)
theorem dX17_house_22 : decode cX17_house 22 = .ok (.iload_n 1, 1) := dk_27 (dk_at dksX17_house_0 22 rfl rfl)
theorem dX17_house_23 : decode cX17_house 23 = .ok (.ishl, 1) := dk_120 (dk_at dksX17_house_0 23 rfl rfl)
theorem dX17_house_24 : decode cX17_house 24 = .ok (.ior, 1) := dk_128 (dk_at dksX17_house_1 0 rfl rfl)
theorem dX17_house_25 : decode cX17_house 25 = .ok (.putfield 49, 3) := dk_181 0 49 (dk_at dksX17_house_1 1 rfl rfl)
theorem dX17_house_28 : decode cX17_house 28 = .ok (.aload_n 0, 1) := dk_42 (dk_at dksX17_house_1 4 rfl rfl)
theorem dX17_house_29 : decode cX17_house 29 = .ok (.getfield 20, 3) := dk_180 0 20 (dk_at dksX17_house_1 5 rfl rfl)
theorem dX17_house_32 : decode cX17_house 32 = .ok (.getfield 53, 3) := dk_180 0 53 (dk_at dksX17_house_1 8 rfl rfl)
theorem dX17_house_35 : decode cX17_house 35 = .ok (.iload_n 1, 1) := dk_27 (dk_at dksX17_house_1 11 rfl rfl)
theorem dX17_house_36 : decode cX17_house 36 = .ok (.iload_n 2, 1) := dk_28 (dk_at dksX17_house_1 12 rfl rfl)
theorem dX17_house_37 : decode cX17_house 37 = .ok (.iastore, 1) := dk_79 (dk_at dksX17_house_1 13 rfl rfl)
theorem dX17_house_38 : decode cX17_house 38 = .ok (.return_, 1) := dk_177 (dk_at dksX17_house_1 14 rfl rfl)
abbrev cX17_number : ByteArray := prog_17_method_2_code
def yX17_number : MethodName := ⟨RX17, "number", "()I"⟩
def dkwX17_number_4 : List UInt8 := [153, 0, 15, 27, 16, 12, 161, 0, 9, 42, 6, 28, 182, 0, 36, 27, 172]
abbrev dktX17_number_4 : List UInt8 := dkwX17_number_4 ++ []
def dkwX17_number_3 : List UInt8 := [27, 104, 42, 182, 0, 40, 96, 16, 48, 100, 60, 42, 182, 0, 43, 167, 255, 202, 42, 182, 0, 28]
abbrev dktX17_number_3 : List UInt8 := dkwX17_number_3 ++ dktX17_number_4
def dkwX17_number_2 : List UInt8 := [153, 0, 42, 42, 182, 0, 24, 28, 5, 96, 160, 0, 12, 42, 5, 42, 182, 0, 24, 182, 0, 36, 16, 10]
abbrev dktX17_number_2 : List UInt8 := dkwX17_number_2 ++ dktX17_number_3
def dkwX17_number_1 : List UInt8 := [154, 0, 9, 42, 4, 28, 182, 0, 36, 42, 182, 0, 28, 153, 0, 53, 42, 16, 48, 16, 57, 182, 0, 32]
abbrev dktX17_number_1 : List UInt8 := dkwX17_number_1 ++ dktX17_number_2
def dkwX17_number_0 : List UInt8 := [3, 60, 42, 182, 0, 24, 61, 42, 182, 0, 28, 153, 0, 20, 42, 16, 48, 16, 57, 182, 0, 32]
abbrev dktX17_number_0 : List UInt8 := dkwX17_number_0 ++ dktX17_number_1
theorem dksX17_number_0 : cX17_number.data.toList.drop 0 = dktX17_number_0 := by decide +kernel
theorem dksX17_number_1 : cX17_number.data.toList.drop 22 = dktX17_number_1 := dk_seg dksX17_number_0 22 rfl rfl
theorem dksX17_number_2 : cX17_number.data.toList.drop 46 = dktX17_number_2 := dk_seg dksX17_number_1 24 rfl rfl
theorem dksX17_number_3 : cX17_number.data.toList.drop 70 = dktX17_number_3 := dk_seg dksX17_number_2 24 rfl rfl
theorem dksX17_number_4 : cX17_number.data.toList.drop 92 = dktX17_number_4 := dk_seg dksX17_number_3 22 rfl rfl
theorem dX17_number_0 : decode cX17_number 0 = .ok (.iconst 0, 1) := dk_3 (dk_at dksX17_number_0 0 rfl rfl)
theorem dX17_number_1 : decode cX17_number 1 = .ok (.istore_n 1, 1) := dk_60 (dk_at dksX17_number_0 1 rfl rfl)
theorem dX17_number_2 : decode cX17_number 2 = .ok (.aload_n 0, 1) := dk_42 (dk_at dksX17_number_0 2 rfl rfl)
theorem dX17_number_3 : decode cX17_number 3 = .ok (.invokevirtual 24, 3) := dk_182 0 24 (dk_at dksX17_number_0 3 rfl rfl)
theorem dX17_number_6 : decode cX17_number 6 = .ok (.istore_n 2, 1) := dk_61 (dk_at dksX17_number_0 6 rfl rfl)
theorem dX17_number_7 : decode cX17_number 7 = .ok (.aload_n 0, 1) := dk_42 (dk_at dksX17_number_0 7 rfl rfl)
theorem dX17_number_8 : decode cX17_number 8 = .ok (.invokevirtual 28, 3) := dk_182 0 28 (dk_at dksX17_number_0 8 rfl rfl)
theorem dX17_number_11 : decode cX17_number 11 = .ok (.ifCond .eq 20, 3) := dk_153 0 20 (dk_at dksX17_number_0 11 rfl rfl)
theorem dX17_number_14 : decode cX17_number 14 = .ok (.aload_n 0, 1) := dk_42 (dk_at dksX17_number_0 14 rfl rfl)
theorem dX17_number_15 : decode cX17_number 15 = .ok (.bipush 48, 2) := dk_16 48 (dk_at dksX17_number_0 15 rfl rfl)
theorem dX17_number_17 : decode cX17_number 17 = .ok (.bipush 57, 2) := dk_16 57 (dk_at dksX17_number_0 17 rfl rfl)
theorem dX17_number_19 : decode cX17_number 19 = .ok (.invokevirtual 32, 3) := dk_182 0 32 (dk_at dksX17_number_0 19 rfl rfl)
theorem dX17_number_22 : decode cX17_number 22 = .ok (.ifCond .ne 9, 3) := dk_154 0 9 (dk_at dksX17_number_1 0 rfl rfl)
theorem dX17_number_25 : decode cX17_number 25 = .ok (.aload_n 0, 1) := dk_42 (dk_at dksX17_number_1 3 rfl rfl)
theorem dX17_number_26 : decode cX17_number 26 = .ok (.iconst 1, 1) := dk_4 (dk_at dksX17_number_1 4 rfl rfl)
theorem dX17_number_27 : decode cX17_number 27 = .ok (.iload_n 2, 1) := dk_28 (dk_at dksX17_number_1 5 rfl rfl)
theorem dX17_number_28 : decode cX17_number 28 = .ok (.invokevirtual 36, 3) := dk_182 0 36 (dk_at dksX17_number_1 6 rfl rfl)
theorem dX17_number_31 : decode cX17_number 31 = .ok (.aload_n 0, 1) := dk_42 (dk_at dksX17_number_1 9 rfl rfl)
theorem dX17_number_32 : decode cX17_number 32 = .ok (.invokevirtual 28, 3) := dk_182 0 28 (dk_at dksX17_number_1 10 rfl rfl)
theorem dX17_number_35 : decode cX17_number 35 = .ok (.ifCond .eq 53, 3) := dk_153 0 53 (dk_at dksX17_number_1 13 rfl rfl)
theorem dX17_number_38 : decode cX17_number 38 = .ok (.aload_n 0, 1) := dk_42 (dk_at dksX17_number_1 16 rfl rfl)
theorem dX17_number_39 : decode cX17_number 39 = .ok (.bipush 48, 2) := dk_16 48 (dk_at dksX17_number_1 17 rfl rfl)
theorem dX17_number_41 : decode cX17_number 41 = .ok (.bipush 57, 2) := dk_16 57 (dk_at dksX17_number_1 19 rfl rfl)
theorem dX17_number_43 : decode cX17_number 43 = .ok (.invokevirtual 32, 3) := dk_182 0 32 (dk_at dksX17_number_1 21 rfl rfl)
theorem dX17_number_46 : decode cX17_number 46 = .ok (.ifCond .eq 42, 3) := dk_153 0 42 (dk_at dksX17_number_2 0 rfl rfl)
theorem dX17_number_49 : decode cX17_number 49 = .ok (.aload_n 0, 1) := dk_42 (dk_at dksX17_number_2 3 rfl rfl)
theorem dX17_number_50 : decode cX17_number 50 = .ok (.invokevirtual 24, 3) := dk_182 0 24 (dk_at dksX17_number_2 4 rfl rfl)
theorem dX17_number_53 : decode cX17_number 53 = .ok (.iload_n 2, 1) := dk_28 (dk_at dksX17_number_2 7 rfl rfl)
theorem dX17_number_54 : decode cX17_number 54 = .ok (.iconst 2, 1) := dk_5 (dk_at dksX17_number_2 8 rfl rfl)
theorem dX17_number_55 : decode cX17_number 55 = .ok (.iadd, 1) := dk_96 (dk_at dksX17_number_2 9 rfl rfl)
theorem dX17_number_56 : decode cX17_number 56 = .ok (.if_icmp .ne 12, 3) := dk_160 0 12 (dk_at dksX17_number_2 10 rfl rfl)
theorem dX17_number_59 : decode cX17_number 59 = .ok (.aload_n 0, 1) := dk_42 (dk_at dksX17_number_2 13 rfl rfl)
theorem dX17_number_60 : decode cX17_number 60 = .ok (.iconst 2, 1) := dk_5 (dk_at dksX17_number_2 14 rfl rfl)
theorem dX17_number_61 : decode cX17_number 61 = .ok (.aload_n 0, 1) := dk_42 (dk_at dksX17_number_2 15 rfl rfl)
theorem dX17_number_62 : decode cX17_number 62 = .ok (.invokevirtual 24, 3) := dk_182 0 24 (dk_at dksX17_number_2 16 rfl rfl)
theorem dX17_number_65 : decode cX17_number 65 = .ok (.invokevirtual 36, 3) := dk_182 0 36 (dk_at dksX17_number_2 19 rfl rfl)
theorem dX17_number_68 : decode cX17_number 68 = .ok (.bipush 10, 2) := dk_16 10 (dk_at dksX17_number_2 22 rfl rfl)
theorem dX17_number_70 : decode cX17_number 70 = .ok (.iload_n 1, 1) := dk_27 (dk_at dksX17_number_3 0 rfl rfl)
theorem dX17_number_71 : decode cX17_number 71 = .ok (.imul, 1) := dk_104 (dk_at dksX17_number_3 1 rfl rfl)
theorem dX17_number_72 : decode cX17_number 72 = .ok (.aload_n 0, 1) := dk_42 (dk_at dksX17_number_3 2 rfl rfl)
theorem dX17_number_73 : decode cX17_number 73 = .ok (.invokevirtual 40, 3) := dk_182 0 40 (dk_at dksX17_number_3 3 rfl rfl)
theorem dX17_number_76 : decode cX17_number 76 = .ok (.iadd, 1) := dk_96 (dk_at dksX17_number_3 6 rfl rfl)
theorem dX17_number_77 : decode cX17_number 77 = .ok (.bipush 48, 2) := dk_16 48 (dk_at dksX17_number_3 7 rfl rfl)
theorem dX17_number_79 : decode cX17_number 79 = .ok (.isub, 1) := dk_100 (dk_at dksX17_number_3 9 rfl rfl)
theorem dX17_number_80 : decode cX17_number 80 = .ok (.istore_n 1, 1) := dk_60 (dk_at dksX17_number_3 10 rfl rfl)
theorem dX17_number_81 : decode cX17_number 81 = .ok (.aload_n 0, 1) := dk_42 (dk_at dksX17_number_3 11 rfl rfl)
theorem dX17_number_82 : decode cX17_number 82 = .ok (.invokevirtual 43, 3) := dk_182 0 43 (dk_at dksX17_number_3 12 rfl rfl)
theorem dX17_number_85 : decode cX17_number 85 = .ok (.goto (-54), 3) := dk_167 255 202 (dk_at dksX17_number_3 15 rfl rfl)
theorem dX17_number_88 : decode cX17_number 88 = .ok (.aload_n 0, 1) := dk_42 (dk_at dksX17_number_3 18 rfl rfl)
theorem dX17_number_89 : decode cX17_number 89 = .ok (.invokevirtual 28, 3) := dk_182 0 28 (dk_at dksX17_number_3 19 rfl rfl)
theorem dX17_number_92 : decode cX17_number 92 = .ok (.ifCond .eq 15, 3) := dk_153 0 15 (dk_at dksX17_number_4 0 rfl rfl)
theorem dX17_number_95 : decode cX17_number 95 = .ok (.iload_n 1, 1) := dk_27 (dk_at dksX17_number_4 3 rfl rfl)
theorem dX17_number_96 : decode cX17_number 96 = .ok (.bipush 12, 2) := dk_16 12 (dk_at dksX17_number_4 4 rfl rfl)
theorem dX17_number_98 : decode cX17_number 98 = .ok (.if_icmp .lt 9, 3) := dk_161 0 9 (dk_at dksX17_number_4 6 rfl rfl)
theorem dX17_number_101 : decode cX17_number 101 = .ok (.aload_n 0, 1) := dk_42 (dk_at dksX17_number_4 9 rfl rfl)
theorem dX17_number_102 : decode cX17_number 102 = .ok (.iconst 3, 1) := dk_6 (dk_at dksX17_number_4 10 rfl rfl)
theorem dX17_number_103 : decode cX17_number 103 = .ok (.iload_n 2, 1) := dk_28 (dk_at dksX17_number_4 11 rfl rfl)
theorem dX17_number_104 : decode cX17_number 104 = .ok (.invokevirtual 36, 3) := dk_182 0 36 (dk_at dksX17_number_4 12 rfl rfl)
theorem dX17_number_107 : decode cX17_number 107 = .ok (.iload_n 1, 1) := dk_27 (dk_at dksX17_number_4 15 rfl rfl)
theorem dX17_number_108 : decode cX17_number 108 = .ok (.ireturn, 1) := dk_172 (dk_at dksX17_number_4 16 rfl rfl)
abbrev cX17_thing : ByteArray := prog_17_method_4_code
def yX17_thing : MethodName := ⟨RX17, "thing", "(I)V"⟩
def dkwX17_thing_3 : List UInt8 := [42, 180, 0, 20, 180, 0, 70, 27, 21, 4, 79, 177]
abbrev dktX17_thing_3 : List UInt8 := dkwX17_thing_3 ++ []
def dkwX17_thing_2 : List UInt8 := [128, 181, 0, 61, 42, 180, 0, 20, 180, 0, 64, 27, 28, 79, 42, 180, 0, 20, 180, 0, 67, 27, 29, 79]
abbrev dktX17_thing_2 : List UInt8 := dkwX17_thing_2 ++ dktX17_thing_3
def dkwX17_thing_1 : List UInt8 := [182, 0, 46, 54, 4, 42, 182, 0, 28, 154, 0, 4, 177, 42, 180, 0, 20, 89, 180, 0, 61, 4, 27, 120]
abbrev dktX17_thing_1 : List UInt8 := dkwX17_thing_1 ++ dktX17_thing_2
def dkwX17_thing_0 : List UInt8 := [42, 182, 0, 46, 61, 42, 16, 64, 182, 0, 57, 42, 182, 0, 46, 62, 42, 16, 45, 182, 0, 57, 42]
abbrev dktX17_thing_0 : List UInt8 := dkwX17_thing_0 ++ dktX17_thing_1
theorem dksX17_thing_0 : cX17_thing.data.toList.drop 0 = dktX17_thing_0 := by decide +kernel
theorem dksX17_thing_1 : cX17_thing.data.toList.drop 23 = dktX17_thing_1 := dk_seg dksX17_thing_0 23 rfl rfl
theorem dksX17_thing_2 : cX17_thing.data.toList.drop 47 = dktX17_thing_2 := dk_seg dksX17_thing_1 24 rfl rfl
theorem dksX17_thing_3 : cX17_thing.data.toList.drop 71 = dktX17_thing_3 := dk_seg dksX17_thing_2 24 rfl rfl
theorem dX17_thing_0 : decode cX17_thing 0 = .ok (.aload_n 0, 1) := dk_42 (dk_at dksX17_thing_0 0 rfl rfl)
theorem dX17_thing_1 : decode cX17_thing 1 = .ok (.invokevirtual 46, 3) := dk_182 0 46 (dk_at dksX17_thing_0 1 rfl rfl)
theorem dX17_thing_4 : decode cX17_thing 4 = .ok (.istore_n 2, 1) := dk_61 (dk_at dksX17_thing_0 4 rfl rfl)
theorem dX17_thing_5 : decode cX17_thing 5 = .ok (.aload_n 0, 1) := dk_42 (dk_at dksX17_thing_0 5 rfl rfl)
theorem dX17_thing_6 : decode cX17_thing 6 = .ok (.bipush 64, 2) := dk_16 64 (dk_at dksX17_thing_0 6 rfl rfl)
theorem dX17_thing_8 : decode cX17_thing 8 = .ok (.invokevirtual 57, 3) := dk_182 0 57 (dk_at dksX17_thing_0 8 rfl rfl)
theorem dX17_thing_11 : decode cX17_thing 11 = .ok (.aload_n 0, 1) := dk_42 (dk_at dksX17_thing_0 11 rfl rfl)
theorem dX17_thing_12 : decode cX17_thing 12 = .ok (.invokevirtual 46, 3) := dk_182 0 46 (dk_at dksX17_thing_0 12 rfl rfl)
theorem dX17_thing_15 : decode cX17_thing 15 = .ok (.istore_n 3, 1) := dk_62 (dk_at dksX17_thing_0 15 rfl rfl)
theorem dX17_thing_16 : decode cX17_thing 16 = .ok (.aload_n 0, 1) := dk_42 (dk_at dksX17_thing_0 16 rfl rfl)
theorem dX17_thing_17 : decode cX17_thing 17 = .ok (.bipush 45, 2) := dk_16 45 (dk_at dksX17_thing_0 17 rfl rfl)
theorem dX17_thing_19 : decode cX17_thing 19 = .ok (.invokevirtual 57, 3) := dk_182 0 57 (dk_at dksX17_thing_0 19 rfl rfl)
theorem dX17_thing_22 : decode cX17_thing 22 = .ok (.aload_n 0, 1) := dk_42 (dk_at dksX17_thing_0 22 rfl rfl)
theorem dX17_thing_23 : decode cX17_thing 23 = .ok (.invokevirtual 46, 3) := dk_182 0 46 (dk_at dksX17_thing_1 0 rfl rfl)
theorem dX17_thing_26 : decode cX17_thing 26 = .ok (.istore 4, 2) := dk_54 4 (dk_at dksX17_thing_1 3 rfl rfl)
theorem dX17_thing_28 : decode cX17_thing 28 = .ok (.aload_n 0, 1) := dk_42 (dk_at dksX17_thing_1 5 rfl rfl)
theorem dX17_thing_29 : decode cX17_thing 29 = .ok (.invokevirtual 28, 3) := dk_182 0 28 (dk_at dksX17_thing_1 6 rfl rfl)
theorem dX17_thing_32 : decode cX17_thing 32 = .ok (.ifCond .ne 4, 3) := dk_154 0 4 (dk_at dksX17_thing_1 9 rfl rfl)
theorem dX17_thing_35 : decode cX17_thing 35 = .ok (.return_, 1) := dk_177 (dk_at dksX17_thing_1 12 rfl rfl)
theorem dX17_thing_36 : decode cX17_thing 36 = .ok (.aload_n 0, 1) := dk_42 (dk_at dksX17_thing_1 13 rfl rfl)
theorem dX17_thing_37 : decode cX17_thing 37 = .ok (.getfield 20, 3) := dk_180 0 20 (dk_at dksX17_thing_1 14 rfl rfl)
theorem dX17_thing_40 : decode cX17_thing 40 = .ok (.dup, 1) := dk_89 (dk_at dksX17_thing_1 17 rfl rfl)
theorem dX17_thing_41 : decode cX17_thing 41 = .ok (.getfield 61, 3) := dk_180 0 61 (dk_at dksX17_thing_1 18 rfl rfl)
theorem dX17_thing_44 : decode cX17_thing 44 = .ok (.iconst 1, 1) := dk_4 (dk_at dksX17_thing_1 21 rfl rfl)
theorem dX17_thing_45 : decode cX17_thing 45 = .ok (.iload_n 1, 1) := dk_27 (dk_at dksX17_thing_1 22 rfl rfl)
theorem dX17_thing_46 : decode cX17_thing 46 = .ok (.ishl, 1) := dk_120 (dk_at dksX17_thing_1 23 rfl rfl)
theorem dX17_thing_47 : decode cX17_thing 47 = .ok (.ior, 1) := dk_128 (dk_at dksX17_thing_2 0 rfl rfl)
theorem dX17_thing_48 : decode cX17_thing 48 = .ok (.putfield 61, 3) := dk_181 0 61 (dk_at dksX17_thing_2 1 rfl rfl)
theorem dX17_thing_51 : decode cX17_thing 51 = .ok (.aload_n 0, 1) := dk_42 (dk_at dksX17_thing_2 4 rfl rfl)
theorem dX17_thing_52 : decode cX17_thing 52 = .ok (.getfield 20, 3) := dk_180 0 20 (dk_at dksX17_thing_2 5 rfl rfl)
theorem dX17_thing_55 : decode cX17_thing 55 = .ok (.getfield 64, 3) := dk_180 0 64 (dk_at dksX17_thing_2 8 rfl rfl)
theorem dX17_thing_58 : decode cX17_thing 58 = .ok (.iload_n 1, 1) := dk_27 (dk_at dksX17_thing_2 11 rfl rfl)
theorem dX17_thing_59 : decode cX17_thing 59 = .ok (.iload_n 2, 1) := dk_28 (dk_at dksX17_thing_2 12 rfl rfl)
theorem dX17_thing_60 : decode cX17_thing 60 = .ok (.iastore, 1) := dk_79 (dk_at dksX17_thing_2 13 rfl rfl)
theorem dX17_thing_61 : decode cX17_thing 61 = .ok (.aload_n 0, 1) := dk_42 (dk_at dksX17_thing_2 14 rfl rfl)
theorem dX17_thing_62 : decode cX17_thing 62 = .ok (.getfield 20, 3) := dk_180 0 20 (dk_at dksX17_thing_2 15 rfl rfl)
theorem dX17_thing_65 : decode cX17_thing 65 = .ok (.getfield 67, 3) := dk_180 0 67 (dk_at dksX17_thing_2 18 rfl rfl)
theorem dX17_thing_68 : decode cX17_thing 68 = .ok (.iload_n 1, 1) := dk_27 (dk_at dksX17_thing_2 21 rfl rfl)
theorem dX17_thing_69 : decode cX17_thing 69 = .ok (.iload_n 3, 1) := dk_29 (dk_at dksX17_thing_2 22 rfl rfl)
theorem dX17_thing_70 : decode cX17_thing 70 = .ok (.iastore, 1) := dk_79 (dk_at dksX17_thing_2 23 rfl rfl)
theorem dX17_thing_71 : decode cX17_thing 71 = .ok (.aload_n 0, 1) := dk_42 (dk_at dksX17_thing_3 0 rfl rfl)
theorem dX17_thing_72 : decode cX17_thing 72 = .ok (.getfield 20, 3) := dk_180 0 20 (dk_at dksX17_thing_3 1 rfl rfl)
theorem dX17_thing_75 : decode cX17_thing 75 = .ok (.getfield 70, 3) := dk_180 0 70 (dk_at dksX17_thing_3 4 rfl rfl)
theorem dX17_thing_78 : decode cX17_thing 78 = .ok (.iload_n 1, 1) := dk_27 (dk_at dksX17_thing_3 7 rfl rfl)
theorem dX17_thing_79 : decode cX17_thing 79 = .ok (.iload 4, 2) := dk_21 4 (dk_at dksX17_thing_3 8 rfl rfl)
theorem dX17_thing_81 : decode cX17_thing 81 = .ok (.iastore, 1) := dk_79 (dk_at dksX17_thing_3 10 rfl rfl)
theorem dX17_thing_82 : decode cX17_thing 82 = .ok (.return_, 1) := dk_177 (dk_at dksX17_thing_3 11 rfl rfl)
theorem q133 : (Jvm.Cond.initialized "SharedWindow$Surveyor") ∈ lw_all := lw_g (lw_at lw_m1 24 rfl) rfl
theorem q151 : (Jvm.Cond.fieldLinkNest "SharedWindow$Surveyor" (53 : Nat) "SharedWindow$Plan" "facing" "[I" "SharedWindow") ∈ lw_tbl := lw_at lw_m1 42 rfl
theorem q154 : (Jvm.Cond.fieldLinkNest "SharedWindow$Surveyor" (64 : Nat) "SharedWindow$Plan" "side" "[I" "SharedWindow") ∈ lw_tbl := lw_at lw_m1 45 rfl
theorem q156 : (Jvm.Cond.fieldLinkNest "SharedWindow$Surveyor" (67 : Nat) "SharedWindow$Plan" "from" "[I" "SharedWindow") ∈ lw_tbl := lw_at lw_m1 47 rfl
theorem q158 : (Jvm.Cond.fieldLinkNest "SharedWindow$Surveyor" (70 : Nat) "SharedWindow$Plan" "till" "[I" "SharedWindow") ∈ lw_tbl := lw_at lw_m1 49 rfl
theorem q160 : (Jvm.Cond.fieldLinkNest "SharedWindow$Surveyor" (49 : Nat) "SharedWindow$Plan" "houses" "I" "SharedWindow") ∈ lw_tbl := lw_at lw_m1 51 rfl
theorem q163 : (Jvm.Cond.fieldLinkNest "SharedWindow$Surveyor" (61 : Nat) "SharedWindow$Plan" "things" "I" "SharedWindow") ∈ lw_tbl := lw_at lw_m1 54 rfl
theorem q658 : (Jvm.Cond.instantiable "SharedWindow$Surveyor" (8 : Nat)) ∈ lw_all := lw_g (lw_at lw_m3 69 rfl) rfl
theorem q660 : (Jvm.Cond.instanceMethod ({ cls := "SharedWindow$Surveyor", name := "<init>", desc := "(LSharedWindow;I)V" } : Jvm.MethodName)) ∈ lw_all := lw_g (lw_at lw_m3 71 rfl) rfl
theorem q661 : (Jvm.Cond.code ({ cls := "SharedWindow$Surveyor", name := "<init>", desc := "(LSharedWindow;I)V" } : Jvm.MethodName) prog_17_method_1_code (3 : Nat) (Option.none : Option Jvm.ClassFile.FieldType)) ∈ lw_all := lw_g (lw_at lw_m3 72 rfl) rfl
theorem q662 : (Jvm.Cond.methodLink "SharedWindow$Surveyor" (9 : Nat) ({ cls := "SharedWindow$Scribe", name := "<init>", desc := "(LSharedWindow;I)V" } : Jvm.MethodName)) ∈ lw_all := lw_g (lw_at lw_m3 73 rfl) rfl
theorem q666 : (Jvm.Cond.classLink "SharedWindow$Surveyor" (15 : Nat) "SharedWindow$Plan") ∈ lw_all := lw_g (lw_at lw_m3 77 rfl) rfl
theorem q667 : (Jvm.Cond.methodLinkNest "SharedWindow$Surveyor" (17 : Nat) ({ cls := "SharedWindow$Plan", name := "<init>", desc := "()V" } : Jvm.MethodName) "SharedWindow") ∈ lw_tbl := lw_at lw_m3 78 rfl
theorem q668 : (Jvm.Cond.fieldLink "SharedWindow$Surveyor" (20 : Nat) "SharedWindow$Surveyor" "trial" "LSharedWindow$Plan;") ∈ lw_all := lw_g (lw_at lw_m3 79 rfl) rfl
theorem q670 : (Jvm.Cond.fieldLink "SharedWindow$Surveyor" (73 : Nat) "SharedWindow$Surveyor" "lines" "I") ∈ lw_all := lw_g (lw_at lw_m3 81 rfl) rfl
theorem q671 : (Jvm.Cond.fieldLink "SharedWindow$Surveyor" (3 : Nat) "SharedWindow$Surveyor" "this$0" "LSharedWindow;") ∈ lw_all := lw_g (lw_at lw_m3 82 rfl) rfl
theorem q677 : (Jvm.Cond.laysFinal "SharedWindow$Surveyor" "SharedWindow$Surveyor" "trial" "LSharedWindow$Plan;") ∈ lw_all := lw_g (lw_at lw_m3 88 rfl) rfl
theorem q678 : (Jvm.Cond.soleField "SharedWindow$Surveyor" "trial") ∈ lw_all := lw_g (lw_at lw_m3 89 rfl) rfl
theorem q679 : (Jvm.Cond.lays "SharedWindow$Surveyor" "SharedWindow$Surveyor" "lines" "I") ∈ lw_all := lw_g (lw_at lw_m3 90 rfl) rfl
theorem q680 : (Jvm.Cond.soleField "SharedWindow$Surveyor" "lines") ∈ lw_all := lw_g (lw_at lw_m3 91 rfl) rfl
theorem q681 : (Jvm.Cond.laysFinal "SharedWindow$Surveyor" "SharedWindow$Surveyor" "this$0" "LSharedWindow;") ∈ lw_all := lw_g (lw_at lw_m3 92 rfl) rfl
theorem q682 : (Jvm.Cond.soleField "SharedWindow$Surveyor" "this$0") ∈ lw_all := lw_g (lw_at lw_m3 93 rfl) rfl
theorem q683 : (Jvm.Cond.laysFinal "SharedWindow$Surveyor" "SharedWindow$Scribe" "n" "I") ∈ lw_all := lw_g (lw_at lw_m3 94 rfl) rfl
theorem q685 : (Jvm.Cond.lays "SharedWindow$Surveyor" "SharedWindow$Scribe" "at" "I") ∈ lw_all := lw_g (lw_at lw_m3 96 rfl) rfl
theorem q687 : (Jvm.Cond.lays "SharedWindow$Surveyor" "SharedWindow$Scribe" "fault" "I") ∈ lw_all := lw_g (lw_at lw_m3 98 rfl) rfl
theorem q689 : (Jvm.Cond.lays "SharedWindow$Surveyor" "SharedWindow$Scribe" "place" "I") ∈ lw_all := lw_g (lw_at lw_m3 100 rfl) rfl
theorem q691 : (Jvm.Cond.laysFinal "SharedWindow$Surveyor" "SharedWindow$Scribe" "this$0" "LSharedWindow;") ∈ lw_all := lw_g (lw_at lw_m3 102 rfl) rfl
theorem q693 : (Jvm.Cond.superclass "SharedWindow$Surveyor" "SharedWindow$Scribe") ∈ lw_all := lw_g (lw_at lw_m3 104 rfl) rfl
theorem q695 : (Jvm.Cond.instanceMethod ({ cls := "SharedWindow$Surveyor", name := "read", desc := "()I" } : Jvm.MethodName)) ∈ lw_all := lw_g (lw_at lw_m3 106 rfl) rfl
theorem q696 : (Jvm.Cond.selects "SharedWindow$Surveyor" ({ cls := "SharedWindow$Surveyor", name := "read", desc := "()I" } : Jvm.MethodName) ({ cls := "SharedWindow$Surveyor", name := "read", desc := "()I" } : Jvm.MethodName)) ∈ lw_all := lw_g (lw_at lw_m3 107 rfl) rfl
theorem q697 : (Jvm.Cond.code ({ cls := "SharedWindow$Surveyor", name := "read", desc := "()I" } : Jvm.MethodName) prog_17_method_6_code (1 : Nat) (Option.some Jvm.ClassFile.FieldType.int)) ∈ lw_all := lw_g (lw_at lw_m3 108 rfl) rfl
theorem q698 : (Jvm.Cond.methodLink "SharedWindow$Surveyor" (89 : Nat) ({ cls := "SharedWindow$Surveyor", name := "line", desc := "()V" } : Jvm.MethodName)) ∈ lw_all := lw_g (lw_at lw_m3 109 rfl) rfl
theorem q699 : (Jvm.Cond.privateMethod ({ cls := "SharedWindow$Surveyor", name := "line", desc := "()V" } : Jvm.MethodName)) ∈ lw_tbl := lw_at lw_m3 110 rfl
theorem q700 : (Jvm.Cond.instanceMethod ({ cls := "SharedWindow$Surveyor", name := "line", desc := "()V" } : Jvm.MethodName)) ∈ lw_all := lw_g (lw_at lw_m3 111 rfl) rfl
theorem q701 : (Jvm.Cond.code ({ cls := "SharedWindow$Surveyor", name := "line", desc := "()V" } : Jvm.MethodName) prog_17_method_5_code (4 : Nat) (Option.none : Option Jvm.ClassFile.FieldType)) ∈ lw_all := lw_g (lw_at lw_m3 112 rfl) rfl
theorem q702 : (Jvm.Cond.methodLink "SharedWindow$Surveyor" (32 : Nat) ({ cls := "SharedWindow$Surveyor", name := "isIn", desc := "(II)Z" } : Jvm.MethodName)) ∈ lw_all := lw_g (lw_at lw_m3 113 rfl) rfl
theorem q703 : (Jvm.Cond.sameMethod "SharedWindow$Surveyor" "SharedWindow$Scribe" "isIn" "(II)Z") ∈ lw_all := lw_g (lw_at lw_m3 114 rfl) rfl
theorem q705 : (Jvm.Cond.selects "SharedWindow$Surveyor" ({ cls := "SharedWindow$Surveyor", name := "isIn", desc := "(II)Z" } : Jvm.MethodName) ({ cls := "SharedWindow$Scribe", name := "isIn", desc := "(II)Z" } : Jvm.MethodName)) ∈ lw_all := lw_g (lw_at lw_m3 116 rfl) rfl
theorem q712 : (Jvm.Cond.selects "SharedWindow$Surveyor" ({ cls := "SharedWindow$Scribe", name := "here", desc := "()I" } : Jvm.MethodName) ({ cls := "SharedWindow$Scribe", name := "here", desc := "()I" } : Jvm.MethodName)) ∈ lw_all := lw_g (lw_at lw_m3 123 rfl) rfl
theorem q714 : (Jvm.Cond.methodLink "SharedWindow$Surveyor" (40 : Nat) ({ cls := "SharedWindow$Surveyor", name := "here", desc := "()I" } : Jvm.MethodName)) ∈ lw_all := lw_g (lw_at lw_m3 125 rfl) rfl
theorem q715 : (Jvm.Cond.sameMethod "SharedWindow$Surveyor" "SharedWindow$Scribe" "here" "()I") ∈ lw_all := lw_g (lw_at lw_m3 126 rfl) rfl
theorem q717 : (Jvm.Cond.selects "SharedWindow$Surveyor" ({ cls := "SharedWindow$Surveyor", name := "here", desc := "()I" } : Jvm.MethodName) ({ cls := "SharedWindow$Scribe", name := "here", desc := "()I" } : Jvm.MethodName)) ∈ lw_all := lw_g (lw_at lw_m3 128 rfl) rfl
theorem q718 : (Jvm.Cond.methodLink "SharedWindow$Surveyor" (24 : Nat) ({ cls := "SharedWindow$Surveyor", name := "place", desc := "()I" } : Jvm.MethodName)) ∈ lw_all := lw_g (lw_at lw_m3 129 rfl) rfl
theorem q719 : (Jvm.Cond.sameMethod "SharedWindow$Surveyor" "SharedWindow$Scribe" "place" "()I") ∈ lw_all := lw_g (lw_at lw_m3 130 rfl) rfl
theorem q721 : (Jvm.Cond.selects "SharedWindow$Surveyor" ({ cls := "SharedWindow$Surveyor", name := "place", desc := "()I" } : Jvm.MethodName) ({ cls := "SharedWindow$Scribe", name := "place", desc := "()I" } : Jvm.MethodName)) ∈ lw_all := lw_g (lw_at lw_m3 132 rfl) rfl
theorem q724 : (Jvm.Cond.methodLink "SharedWindow$Surveyor" (36 : Nat) ({ cls := "SharedWindow$Surveyor", name := "bad", desc := "(II)V" } : Jvm.MethodName)) ∈ lw_all := lw_g (lw_at lw_m3 135 rfl) rfl
theorem q725 : (Jvm.Cond.sameMethod "SharedWindow$Surveyor" "SharedWindow$Scribe" "bad" "(II)V") ∈ lw_all := lw_g (lw_at lw_m3 136 rfl) rfl
theorem q727 : (Jvm.Cond.selects "SharedWindow$Surveyor" ({ cls := "SharedWindow$Surveyor", name := "bad", desc := "(II)V" } : Jvm.MethodName) ({ cls := "SharedWindow$Scribe", name := "bad", desc := "(II)V" } : Jvm.MethodName)) ∈ lw_all := lw_g (lw_at lw_m3 138 rfl) rfl
theorem q730 : (Jvm.Cond.methodLink "SharedWindow$Surveyor" (76 : Nat) ({ cls := "SharedWindow$Plan", name := "isHouse", desc := "(I)Z" } : Jvm.MethodName)) ∈ lw_all := lw_g (lw_at lw_m3 141 rfl) rfl
theorem q731 : (Jvm.Cond.methodLink "SharedWindow$Surveyor" (80 : Nat) ({ cls := "SharedWindow$Plan", name := "isThing", desc := "(I)Z" } : Jvm.MethodName)) ∈ lw_all := lw_g (lw_at lw_m3 142 rfl) rfl
theorem q735 : (Jvm.Cond.methodLink "SharedWindow$Surveyor" (43 : Nat) ({ cls := "SharedWindow$Surveyor", name := "goesOn", desc := "()V" } : Jvm.MethodName)) ∈ lw_all := lw_g (lw_at lw_m3 146 rfl) rfl
theorem q736 : (Jvm.Cond.sameMethod "SharedWindow$Surveyor" "SharedWindow$Scribe" "goesOn" "()V") ∈ lw_all := lw_g (lw_at lw_m3 147 rfl) rfl
theorem q738 : (Jvm.Cond.selects "SharedWindow$Surveyor" ({ cls := "SharedWindow$Surveyor", name := "goesOn", desc := "()V" } : Jvm.MethodName) ({ cls := "SharedWindow$Scribe", name := "goesOn", desc := "()V" } : Jvm.MethodName)) ∈ lw_all := lw_g (lw_at lw_m3 149 rfl) rfl
theorem q741 : (Jvm.Cond.methodLink "SharedWindow$Surveyor" (28 : Nat) ({ cls := "SharedWindow$Surveyor", name := "isGood", desc := "()Z" } : Jvm.MethodName)) ∈ lw_all := lw_g (lw_at lw_m3 152 rfl) rfl
theorem q742 : (Jvm.Cond.sameMethod "SharedWindow$Surveyor" "SharedWindow$Scribe" "isGood" "()Z") ∈ lw_all := lw_g (lw_at lw_m3 153 rfl) rfl
theorem q744 : (Jvm.Cond.selects "SharedWindow$Surveyor" ({ cls := "SharedWindow$Surveyor", name := "isGood", desc := "()Z" } : Jvm.MethodName) ({ cls := "SharedWindow$Scribe", name := "isGood", desc := "()Z" } : Jvm.MethodName)) ∈ lw_all := lw_g (lw_at lw_m3 155 rfl) rfl
theorem q747 : (Jvm.Cond.methodLink "SharedWindow$Surveyor" (83 : Nat) ({ cls := "SharedWindow$Surveyor", name := "house", desc := "(I)V" } : Jvm.MethodName)) ∈ lw_all := lw_g (lw_at lw_m3 158 rfl) rfl
theorem q748 : (Jvm.Cond.privateMethod ({ cls := "SharedWindow$Surveyor", name := "house", desc := "(I)V" } : Jvm.MethodName)) ∈ lw_tbl := lw_at lw_m3 159 rfl
theorem q749 : (Jvm.Cond.instanceMethod ({ cls := "SharedWindow$Surveyor", name := "house", desc := "(I)V" } : Jvm.MethodName)) ∈ lw_all := lw_g (lw_at lw_m3 160 rfl) rfl
theorem q750 : (Jvm.Cond.code ({ cls := "SharedWindow$Surveyor", name := "house", desc := "(I)V" } : Jvm.MethodName) prog_17_method_3_code (3 : Nat) (Option.none : Option Jvm.ClassFile.FieldType)) ∈ lw_all := lw_g (lw_at lw_m3 161 rfl) rfl
theorem q751 : (Jvm.Cond.methodLink "SharedWindow$Surveyor" (46 : Nat) ({ cls := "SharedWindow$Surveyor", name := "number", desc := "()I" } : Jvm.MethodName)) ∈ lw_all := lw_g (lw_at lw_m3 162 rfl) rfl
theorem q752 : (Jvm.Cond.privateMethod ({ cls := "SharedWindow$Surveyor", name := "number", desc := "()I" } : Jvm.MethodName)) ∈ lw_tbl := lw_at lw_m3 163 rfl
theorem q753 : (Jvm.Cond.instanceMethod ({ cls := "SharedWindow$Surveyor", name := "number", desc := "()I" } : Jvm.MethodName)) ∈ lw_all := lw_g (lw_at lw_m3 164 rfl) rfl
theorem q754 : (Jvm.Cond.code ({ cls := "SharedWindow$Surveyor", name := "number", desc := "()I" } : Jvm.MethodName) prog_17_method_2_code (3 : Nat) (Option.some Jvm.ClassFile.FieldType.int)) ∈ lw_all := lw_g (lw_at lw_m3 165 rfl) rfl
theorem q755 : (Jvm.Cond.methodLink "SharedWindow$Surveyor" (86 : Nat) ({ cls := "SharedWindow$Surveyor", name := "thing", desc := "(I)V" } : Jvm.MethodName)) ∈ lw_all := lw_g (lw_at lw_m3 166 rfl) rfl
theorem q756 : (Jvm.Cond.privateMethod ({ cls := "SharedWindow$Surveyor", name := "thing", desc := "(I)V" } : Jvm.MethodName)) ∈ lw_tbl := lw_at lw_m3 167 rfl
theorem q757 : (Jvm.Cond.instanceMethod ({ cls := "SharedWindow$Surveyor", name := "thing", desc := "(I)V" } : Jvm.MethodName)) ∈ lw_all := lw_g (lw_at lw_m3 168 rfl) rfl
theorem q758 : (Jvm.Cond.code ({ cls := "SharedWindow$Surveyor", name := "thing", desc := "(I)V" } : Jvm.MethodName) prog_17_method_4_code (5 : Nat) (Option.none : Option Jvm.ClassFile.FieldType)) ∈ lw_all := lw_g (lw_at lw_m3 169 rfl) rfl
theorem q759 : (Jvm.Cond.methodLink "SharedWindow$Surveyor" (57 : Nat) ({ cls := "SharedWindow$Surveyor", name := "must", desc := "(I)V" } : Jvm.MethodName)) ∈ lw_all := lw_g (lw_at lw_m3 170 rfl) rfl
theorem q760 : (Jvm.Cond.sameMethod "SharedWindow$Surveyor" "SharedWindow$Scribe" "must" "(I)V") ∈ lw_all := lw_g (lw_at lw_m3 171 rfl) rfl
theorem q762 : (Jvm.Cond.selects "SharedWindow$Surveyor" ({ cls := "SharedWindow$Surveyor", name := "must", desc := "(I)V" } : Jvm.MethodName) ({ cls := "SharedWindow$Scribe", name := "must", desc := "(I)V" } : Jvm.MethodName)) ∈ lw_all := lw_g (lw_at lw_m3 173 rfl) rfl
theorem q767 : (Jvm.Cond.methodLink "SharedWindow$Surveyor" (92 : Nat) ({ cls := "SharedWindow$Surveyor", name := "isEnd", desc := "()Z" } : Jvm.MethodName)) ∈ lw_all := lw_g (lw_at lw_m3 178 rfl) rfl
theorem q768 : (Jvm.Cond.sameMethod "SharedWindow$Surveyor" "SharedWindow$Scribe" "isEnd" "()Z") ∈ lw_all := lw_g (lw_at lw_m3 179 rfl) rfl
theorem q770 : (Jvm.Cond.selects "SharedWindow$Surveyor" ({ cls := "SharedWindow$Surveyor", name := "isEnd", desc := "()Z" } : Jvm.MethodName) ({ cls := "SharedWindow$Scribe", name := "isEnd", desc := "()Z" } : Jvm.MethodName)) ∈ lw_all := lw_g (lw_at lw_m3 181 rfl) rfl
theorem q773 : (Jvm.Cond.methodLink "SharedWindow$Surveyor" (95 : Nat) ({ cls := "SharedWindow$Surveyor", name := "answer", desc := "(I)I" } : Jvm.MethodName)) ∈ lw_all := lw_g (lw_at lw_m3 184 rfl) rfl
theorem q774 : (Jvm.Cond.sameMethod "SharedWindow$Surveyor" "SharedWindow$Scribe" "answer" "(I)I") ∈ lw_all := lw_g (lw_at lw_m3 185 rfl) rfl
theorem q776 : (Jvm.Cond.selects "SharedWindow$Surveyor" ({ cls := "SharedWindow$Surveyor", name := "answer", desc := "(I)I" } : Jvm.MethodName) ({ cls := "SharedWindow$Scribe", name := "answer", desc := "(I)I" } : Jvm.MethodName)) ∈ lw_all := lw_g (lw_at lw_m3 187 rfl) rfl
theorem q1828 : (Jvm.Cond.selects "SharedWindow$Surveyor" ({ cls := "SharedWindow$Scribe", name := "isGood", desc := "()Z" } : Jvm.MethodName) ({ cls := "SharedWindow$Scribe", name := "isGood", desc := "()Z" } : Jvm.MethodName)) ∈ lw_all := lw_g (lw_at lw_m8 39 rfl) rfl
theorem q1831 : (Jvm.Cond.selects "SharedWindow$Surveyor" ({ cls := "SharedWindow$Scribe", name := "bad", desc := "(II)V" } : Jvm.MethodName) ({ cls := "SharedWindow$Scribe", name := "bad", desc := "(II)V" } : Jvm.MethodName)) ∈ lw_all := lw_g (lw_at lw_m8 42 rfl) rfl
theorem in_X17 : ∀ w ∈ wsX170, w ∈ lw_all := lw_in wsX170 [683, 685, 687, 689, 691, 677, 679, 681] (by decide +kernel) (by decide +kernel)
/-! SharedWindow$Clerk -/
set_option maxRecDepth 100000
def RX18 : String := "SharedWindow$Clerk"
def TX18 : u_T := fun k => match k with
  | 0 => ("SharedWindow$Scribe", "n", "I", true)
  | 1 => ("SharedWindow$Scribe", "at", "I", false)
  | 2 => ("SharedWindow$Scribe", "fault", "I", false)
  | 3 => ("SharedWindow$Scribe", "place", "I", false)
  | 4 => ("SharedWindow$Scribe", "this$0", "LSharedWindow;", true)
  | 5 => ("SharedWindow$Clerk", "row", "[I", true)
  | 6 => ("SharedWindow$Clerk", "places", "[I", true)
  | 7 => ("SharedWindow$Clerk", "many", "I", false)
  | 8 => ("SharedWindow$Clerk", "depth", "I", false)
  | _ => ("SharedWindow$Clerk", "this$0", "LSharedWindow;", true)
def tyX18 : Nat → FieldType := fun k => match k with
  | 0 => .int
  | 1 => .int
  | 2 => .int
  | 3 => .int
  | 4 => .object "SharedWindow"
  | 5 => .array .int
  | 6 => .array .int
  | 7 => .int
  | 8 => .int
  | _ => .object "SharedWindow"
abbrev wsX180 : List Cond := u_ws RX18 TX18 10
-- two fields of one name: no nmX18
theorem tyX18_ok : ∀ k, k < 10 → parseFieldDescriptor (TX18 k).2.2.1 = some (tyX18 k) := by decide +kernel
abbrev cX18_init : ByteArray := prog_3_method_1_code
def yX18_init : MethodName := ⟨RX18, "<init>", "(LSharedWindow;I)V"⟩
def dkwX18_init_1 : List UInt8 := [181, 0, 19, 177]
abbrev dktX18_init_1 : List UInt8 := dkwX18_init_1 ++ []
def dkwX18_init_0 : List UInt8 := [42, 43, 181, 0, 3, 42, 43, 28, 183, 0, 9, 42, 16, 12, 188, 10, 181, 0, 15, 42, 16, 12, 188, 10]
abbrev dktX18_init_0 : List UInt8 := dkwX18_init_0 ++ dktX18_init_1
theorem dksX18_init_0 : cX18_init.data.toList.drop 0 = dktX18_init_0 := by decide +kernel
theorem dksX18_init_1 : cX18_init.data.toList.drop 24 = dktX18_init_1 := dk_seg dksX18_init_0 24 rfl rfl
theorem dX18_init_0 : decode cX18_init 0 = .ok (.aload_n 0, 1) := dk_42 (dk_at dksX18_init_0 0 rfl rfl)
theorem dX18_init_1 : decode cX18_init 1 = .ok (.aload_n 1, 1) := dk_43 (dk_at dksX18_init_0 1 rfl rfl)
theorem dX18_init_2 : decode cX18_init 2 = .ok (.putfield 3, 3) := dk_181 0 3 (dk_at dksX18_init_0 2 rfl rfl)
theorem dX18_init_5 : decode cX18_init 5 = .ok (.aload_n 0, 1) := dk_42 (dk_at dksX18_init_0 5 rfl rfl)
theorem dX18_init_6 : decode cX18_init 6 = .ok (.aload_n 1, 1) := dk_43 (dk_at dksX18_init_0 6 rfl rfl)
theorem dX18_init_7 : decode cX18_init 7 = .ok (.iload_n 2, 1) := dk_28 (dk_at dksX18_init_0 7 rfl rfl)
theorem dX18_init_8 : decode cX18_init 8 = .ok (.invokespecial 9, 3) := dk_183 0 9 (dk_at dksX18_init_0 8 rfl rfl)
theorem dX18_init_11 : decode cX18_init 11 = .ok (.aload_n 0, 1) := dk_42 (dk_at dksX18_init_0 11 rfl rfl)
theorem dX18_init_12 : decode cX18_init 12 = .ok (.bipush 12, 2) := dk_16 12 (dk_at dksX18_init_0 12 rfl rfl)
theorem dX18_init_14 : decode cX18_init 14 = .ok (.newarray .int, 2) := dk_188_10 (dk_at dksX18_init_0 14 rfl rfl)
theorem dX18_init_16 : decode cX18_init 16 = .ok (.putfield 15, 3) := dk_181 0 15 (dk_at dksX18_init_0 16 rfl rfl)
theorem dX18_init_19 : decode cX18_init 19 = .ok (.aload_n 0, 1) := dk_42 (dk_at dksX18_init_0 19 rfl rfl)
theorem dX18_init_20 : decode cX18_init 20 = .ok (.bipush 12, 2) := dk_16 12 (dk_at dksX18_init_0 20 rfl rfl)
theorem dX18_init_22 : decode cX18_init 22 = .ok (.newarray .int, 2) := dk_188_10 (dk_at dksX18_init_0 22 rfl rfl)
theorem dX18_init_24 : decode cX18_init 24 = .ok (.putfield 19, 3) := dk_181 0 19 (dk_at dksX18_init_1 0 rfl rfl)
theorem dX18_init_27 : decode cX18_init 27 = .ok (.return_, 1) := dk_177 (dk_at dksX18_init_1 3 rfl rfl)
abbrev cX18_read : ByteArray := prog_3_method_6_code
def yX18_read : MethodName := ⟨RX18, "read", "()I"⟩
def dkwX18_read_4 : List UInt8 := [180, 0, 52, 182, 0, 77, 172]
abbrev dktX18_read_4 : List UInt8 := dkwX18_read_4 ++ []
def dkwX18_read_3 : List UInt8 := [154, 0, 15, 42, 16, 7, 42, 180, 0, 19, 27, 46, 182, 0, 30, 132, 1, 1, 167, 255, 197, 42, 42]
abbrev dktX18_read_3 : List UInt8 := dkwX18_read_3 ++ dktX18_read_4
def dkwX18_read_2 : List UInt8 := [27, 46, 2, 159, 0, 34, 42, 180, 0, 3, 180, 0, 67, 42, 180, 0, 15, 27, 46, 182, 0, 71]
abbrev dktX18_read_2 : List UInt8 := dkwX18_read_2 ++ dktX18_read_3
def dkwX18_read_1 : List UInt8 := [182, 0, 30, 3, 60, 27, 42, 180, 0, 52, 162, 0, 57, 42, 182, 0, 41, 153, 0, 50, 42, 180, 0, 15]
abbrev dktX18_read_1 : List UInt8 := dkwX18_read_1 ++ dktX18_read_2
def dkwX18_read_0 : List UInt8 := [42, 182, 0, 38, 42, 182, 0, 41, 153, 0, 19, 42, 182, 0, 64, 154, 0, 12, 42, 4, 42, 182, 0, 26]
abbrev dktX18_read_0 : List UInt8 := dkwX18_read_0 ++ dktX18_read_1
theorem dksX18_read_0 : cX18_read.data.toList.drop 0 = dktX18_read_0 := by decide +kernel
theorem dksX18_read_1 : cX18_read.data.toList.drop 24 = dktX18_read_1 := dk_seg dksX18_read_0 24 rfl rfl
theorem dksX18_read_2 : cX18_read.data.toList.drop 48 = dktX18_read_2 := dk_seg dksX18_read_1 24 rfl rfl
theorem dksX18_read_3 : cX18_read.data.toList.drop 70 = dktX18_read_3 := dk_seg dksX18_read_2 22 rfl rfl
theorem dksX18_read_4 : cX18_read.data.toList.drop 93 = dktX18_read_4 := dk_seg dksX18_read_3 23 rfl rfl
theorem dX18_read_0 : decode cX18_read 0 = .ok (.aload_n 0, 1) := dk_42 (dk_at dksX18_read_0 0 rfl rfl)
theorem dX18_read_1 : decode cX18_read 1 = .ok (.invokevirtual 38, 3) := dk_182 0 38 (dk_at dksX18_read_0 1 rfl rfl)
theorem dX18_read_4 : decode cX18_read 4 = .ok (.aload_n 0, 1) := dk_42 (dk_at dksX18_read_0 4 rfl rfl)
theorem dX18_read_5 : decode cX18_read 5 = .ok (.invokevirtual 41, 3) := dk_182 0 41 (dk_at dksX18_read_0 5 rfl rfl)
theorem dX18_read_8 : decode cX18_read 8 = .ok (.ifCond .eq 19, 3) := dk_153 0 19 (dk_at dksX18_read_0 8 rfl rfl)
theorem dX18_read_11 : decode cX18_read 11 = .ok (.aload_n 0, 1) := dk_42 (dk_at dksX18_read_0 11 rfl rfl)
theorem dX18_read_12 : decode cX18_read 12 = .ok (.invokevirtual 64, 3) := dk_182 0 64 (dk_at dksX18_read_0 12 rfl rfl)
theorem dX18_read_15 : decode cX18_read 15 = .ok (.ifCond .ne 12, 3) := dk_154 0 12 (dk_at dksX18_read_0 15 rfl rfl)
theorem dX18_read_18 : decode cX18_read 18 = .ok (.aload_n 0, 1) := dk_42 (dk_at dksX18_read_0 18 rfl rfl)
theorem dX18_read_19 : decode cX18_read 19 = .ok (.iconst 1, 1) := dk_4 (dk_at dksX18_read_0 19 rfl rfl)
theorem dX18_read_20 : decode cX18_read 20 = .ok (.aload_n 0, 1) := dk_42 (dk_at dksX18_read_0 20 rfl rfl)
theorem dX18_read_21 : decode cX18_read 21 = .ok (.invokevirtual 26, 3) := dk_182 0 26 (dk_at dksX18_read_0 21 rfl rfl)
theorem dX18_read_24 : decode cX18_read 24 = .ok (.invokevirtual 30, 3) := dk_182 0 30 (dk_at dksX18_read_1 0 rfl rfl)
theorem dX18_read_27 : decode cX18_read 27 = .ok (.iconst 0, 1) := dk_3 (dk_at dksX18_read_1 3 rfl rfl)
theorem dX18_read_28 : decode cX18_read 28 = .ok (.istore_n 1, 1) := dk_60 (dk_at dksX18_read_1 4 rfl rfl)
theorem dX18_read_29 : decode cX18_read 29 = .ok (.iload_n 1, 1) := dk_27 (dk_at dksX18_read_1 5 rfl rfl)
theorem dX18_read_30 : decode cX18_read 30 = .ok (.aload_n 0, 1) := dk_42 (dk_at dksX18_read_1 6 rfl rfl)
theorem dX18_read_31 : decode cX18_read 31 = .ok (.getfield 52, 3) := dk_180 0 52 (dk_at dksX18_read_1 7 rfl rfl)
theorem dX18_read_34 : decode cX18_read 34 = .ok (.if_icmp .ge 57, 3) := dk_162 0 57 (dk_at dksX18_read_1 10 rfl rfl)
theorem dX18_read_37 : decode cX18_read 37 = .ok (.aload_n 0, 1) := dk_42 (dk_at dksX18_read_1 13 rfl rfl)
theorem dX18_read_38 : decode cX18_read 38 = .ok (.invokevirtual 41, 3) := dk_182 0 41 (dk_at dksX18_read_1 14 rfl rfl)
theorem dX18_read_41 : decode cX18_read 41 = .ok (.ifCond .eq 50, 3) := dk_153 0 50 (dk_at dksX18_read_1 17 rfl rfl)
theorem dX18_read_44 : decode cX18_read 44 = .ok (.aload_n 0, 1) := dk_42 (dk_at dksX18_read_1 20 rfl rfl)
theorem dX18_read_45 : decode cX18_read 45 = .ok (.getfield 15, 3) := dk_180 0 15 (dk_at dksX18_read_1 21 rfl rfl)
theorem dX18_read_48 : decode cX18_read 48 = .ok (.iload_n 1, 1) := dk_27 (dk_at dksX18_read_2 0 rfl rfl)
theorem dX18_read_49 : decode cX18_read 49 = .ok (.iaload, 1) := dk_46 (dk_at dksX18_read_2 1 rfl rfl)
theorem dX18_read_50 : decode cX18_read 50 = .ok (.iconst (-1), 1) := dk_2 (dk_at dksX18_read_2 2 rfl rfl)
theorem dX18_read_51 : decode cX18_read 51 = .ok (.if_icmp .eq 34, 3) := dk_159 0 34 (dk_at dksX18_read_2 3 rfl rfl)
theorem dX18_read_54 : decode cX18_read 54 = .ok (.aload_n 0, 1) := dk_42 (dk_at dksX18_read_2 6 rfl rfl)
theorem dX18_read_55 : decode cX18_read 55 = .ok (.getfield 3, 3) := dk_180 0 3 (dk_at dksX18_read_2 7 rfl rfl)
theorem dX18_read_58 : decode cX18_read 58 = .ok (.getfield 67, 3) := dk_180 0 67 (dk_at dksX18_read_2 10 rfl rfl)
theorem dX18_read_61 : decode cX18_read 61 = .ok (.aload_n 0, 1) := dk_42 (dk_at dksX18_read_2 13 rfl rfl)
theorem dX18_read_62 : decode cX18_read 62 = .ok (.getfield 15, 3) := dk_180 0 15 (dk_at dksX18_read_2 14 rfl rfl)
theorem dX18_read_65 : decode cX18_read 65 = .ok (.iload_n 1, 1) := dk_27 (dk_at dksX18_read_2 17 rfl rfl)
theorem dX18_read_66 : decode cX18_read 66 = .ok (.iaload, 1) := dk_46 (dk_at dksX18_read_2 18 rfl rfl)
theorem dX18_read_67 : decode cX18_read 67 = .ok (.invokevirtual 71, 3) := dk_182 0 71 (dk_at dksX18_read_2 19 rfl rfl)
theorem dX18_read_70 : decode cX18_read 70 = .ok (.ifCond .ne 15, 3) := dk_154 0 15 (dk_at dksX18_read_3 0 rfl rfl)
theorem dX18_read_73 : decode cX18_read 73 = .ok (.aload_n 0, 1) := dk_42 (dk_at dksX18_read_3 3 rfl rfl)
theorem dX18_read_74 : decode cX18_read 74 = .ok (.bipush 7, 2) := dk_16 7 (dk_at dksX18_read_3 4 rfl rfl)
theorem dX18_read_76 : decode cX18_read 76 = .ok (.aload_n 0, 1) := dk_42 (dk_at dksX18_read_3 6 rfl rfl)
theorem dX18_read_77 : decode cX18_read 77 = .ok (.getfield 19, 3) := dk_180 0 19 (dk_at dksX18_read_3 7 rfl rfl)
theorem dX18_read_80 : decode cX18_read 80 = .ok (.iload_n 1, 1) := dk_27 (dk_at dksX18_read_3 10 rfl rfl)
theorem dX18_read_81 : decode cX18_read 81 = .ok (.iaload, 1) := dk_46 (dk_at dksX18_read_3 11 rfl rfl)
theorem dX18_read_82 : decode cX18_read 82 = .ok (.invokevirtual 30, 3) := dk_182 0 30 (dk_at dksX18_read_3 12 rfl rfl)
theorem dX18_read_85 : decode cX18_read 85 = .ok (.iinc 1 1, 3) := dk_132 1 1 (dk_at dksX18_read_3 15 rfl rfl)
theorem dX18_read_88 : decode cX18_read 88 = .ok (.goto (-59), 3) := dk_167 255 197 (dk_at dksX18_read_3 18 rfl rfl)
theorem dX18_read_91 : decode cX18_read 91 = .ok (.aload_n 0, 1) := dk_42 (dk_at dksX18_read_3 21 rfl rfl)
theorem dX18_read_92 : decode cX18_read 92 = .ok (.aload_n 0, 1) := dk_42 (dk_at dksX18_read_3 22 rfl rfl)
theorem dX18_read_93 : decode cX18_read 93 = .ok (.getfield 52, 3) := dk_180 0 52 (dk_at dksX18_read_4 0 rfl rfl)
theorem dX18_read_96 : decode cX18_read 96 = .ok (.invokevirtual 77, 3) := dk_182 0 77 (dk_at dksX18_read_4 3 rfl rfl)
theorem dX18_read_99 : decode cX18_read 99 = .ok (.ireturn, 1) := dk_172 (dk_at dksX18_read_4 6 rfl rfl)
abbrev cX18_all : ByteArray := prog_3_method_5_code
def yX18_all : MethodName := ⟨RX18, "all", "()V"⟩
def dkwX18_all_1 : List UInt8 := [154, 0, 16, 42, 182, 0, 45, 16, 41, 159, 0, 7, 4, 167, 0, 4, 3, 60, 167, 255, 219, 177]
abbrev dktX18_all_1 : List UInt8 := dkwX18_all_1 ++ []
def dkwX18_all_0 : List UInt8 := [42, 182, 0, 41, 60, 27, 153, 0, 39, 42, 182, 0, 61, 42, 182, 0, 41, 153, 0, 23, 42, 182, 0, 64]
abbrev dktX18_all_0 : List UInt8 := dkwX18_all_0 ++ dktX18_all_1
theorem dksX18_all_0 : cX18_all.data.toList.drop 0 = dktX18_all_0 := by decide +kernel
theorem dksX18_all_1 : cX18_all.data.toList.drop 24 = dktX18_all_1 := dk_seg dksX18_all_0 24 rfl rfl
theorem dX18_all_0 : decode cX18_all 0 = .ok (.aload_n 0, 1) := dk_42 (dk_at dksX18_all_0 0 rfl rfl)
theorem dX18_all_1 : decode cX18_all 1 = .ok (.invokevirtual 41, 3) := dk_182 0 41 (dk_at dksX18_all_0 1 rfl rfl)
theorem dX18_all_4 : decode cX18_all 4 = .ok (.istore_n 1, 1) := dk_60 (dk_at dksX18_all_0 4 rfl rfl)
theorem dX18_all_5 : decode cX18_all 5 = .ok (.iload_n 1, 1) := dk_27 (dk_at dksX18_all_0 5 rfl rfl)
theorem dX18_all_6 : decode cX18_all 6 = .ok (.ifCond .eq 39, 3) := dk_153 0 39 (dk_at dksX18_all_0 6 rfl rfl)
theorem dX18_all_9 : decode cX18_all 9 = .ok (.aload_n 0, 1) := dk_42 (dk_at dksX18_all_0 9 rfl rfl)
theorem dX18_all_10 : decode cX18_all 10 = .ok (.invokevirtual 61, 3) := dk_182 0 61 (dk_at dksX18_all_0 10 rfl rfl)
theorem dX18_all_13 : decode cX18_all 13 = .ok (.aload_n 0, 1) := dk_42 (dk_at dksX18_all_0 13 rfl rfl)
theorem dX18_all_14 : decode cX18_all 14 = .ok (.invokevirtual 41, 3) := dk_182 0 41 (dk_at dksX18_all_0 14 rfl rfl)
theorem dX18_all_17 : decode cX18_all 17 = .ok (.ifCond .eq 23, 3) := dk_153 0 23 (dk_at dksX18_all_0 17 rfl rfl)
theorem dX18_all_20 : decode cX18_all 20 = .ok (.aload_n 0, 1) := dk_42 (dk_at dksX18_all_0 20 rfl rfl)
theorem dX18_all_21 : decode cX18_all 21 = .ok (.invokevirtual 64, 3) := dk_182 0 64 (dk_at dksX18_all_0 21 rfl rfl)
theorem dX18_all_24 : decode cX18_all 24 = .ok (.ifCond .ne 16, 3) := dk_154 0 16 (dk_at dksX18_all_1 0 rfl rfl)
theorem dX18_all_27 : decode cX18_all 27 = .ok (.aload_n 0, 1) := dk_42 (dk_at dksX18_all_1 3 rfl rfl)
theorem dX18_all_28 : decode cX18_all 28 = .ok (.invokevirtual 45, 3) := dk_182 0 45 (dk_at dksX18_all_1 4 rfl rfl)
theorem dX18_all_31 : decode cX18_all 31 = .ok (.bipush 41, 2) := dk_16 41 (dk_at dksX18_all_1 7 rfl rfl)
theorem dX18_all_33 : decode cX18_all 33 = .ok (.if_icmp .eq 7, 3) := dk_159 0 7 (dk_at dksX18_all_1 9 rfl rfl)
theorem dX18_all_36 : decode cX18_all 36 = .ok (.iconst 1, 1) := dk_4 (dk_at dksX18_all_1 12 rfl rfl)
theorem dX18_all_37 : decode cX18_all 37 = .ok (.goto 4, 3) := dk_167 0 4 (dk_at dksX18_all_1 13 rfl rfl)
theorem dX18_all_40 : decode cX18_all 40 = .ok (.iconst 0, 1) := dk_3 (dk_at dksX18_all_1 16 rfl rfl)
theorem dX18_all_41 : decode cX18_all 41 = .ok (.istore_n 1, 1) := dk_60 (dk_at dksX18_all_1 17 rfl rfl)
theorem dX18_all_42 : decode cX18_all 42 = .ok (.goto (-37), 3) := dk_167 255 219 (dk_at dksX18_all_1 18 rfl rfl)
theorem dX18_all_45 : decode cX18_all 45 = .ok (.return_, 1) := dk_177 (dk_at dksX18_all_1 21 rfl rfl)
abbrev cX18_one : ByteArray := prog_3_method_4_code
def yX18_one : MethodName := ⟨RX18, "one", "()V"⟩
def dkwX18_one_11 : List UInt8 := [181, 0, 52, 132, 5, 1, 167, 255, 185, 177]
abbrev dktX18_one_11 : List UInt8 := dkwX18_one_11 ++ []
def dkwX18_one_10 : List UInt8 := [180, 0, 52, 42, 180, 0, 19, 29, 21, 5, 21, 4, 112, 96, 46, 79, 42, 89, 180, 0, 52, 4, 96]
abbrev dktX18_one_10 : List UInt8 := dkwX18_one_10 ++ dktX18_one_11
def dkwX18_one_9 : List UInt8 := [42, 180, 0, 52, 42, 180, 0, 15, 29, 21, 5, 21, 4, 112, 96, 46, 79, 42, 180, 0, 19, 42]
abbrev dktX18_one_9 : List UInt8 := dkwX18_one_9 ++ dktX18_one_10
def dkwX18_one_8 : List UInt8 := [21, 4, 54, 5, 42, 182, 0, 41, 153, 0, 70, 21, 5, 21, 4, 28, 104, 162, 0, 61, 42, 180, 0, 15]
abbrev dktX18_one_8 : List UInt8 := dkwX18_one_8 ++ dktX18_one_9
def dkwX18_one_7 : List UInt8 := [182, 0, 41, 153, 0, 21, 29, 21, 4, 28, 104, 96, 16, 12, 164, 0, 10, 42, 16, 6, 27, 182, 0, 30]
abbrev dktX18_one_7 : List UInt8 := dkwX18_one_7 ++ dktX18_one_8
def dkwX18_one_6 : List UInt8 := [42, 89, 180, 0, 52, 4, 96, 181, 0, 52, 42, 182, 0, 34, 42, 180, 0, 52, 29, 100, 54, 4, 42]
abbrev dktX18_one_6 : List UInt8 := dkwX18_one_6 ++ dktX18_one_7
def dkwX18_one_5 : List UInt8 := [167, 0, 10, 42, 182, 0, 45, 16, 97, 100, 79, 42, 180, 0, 19, 42, 180, 0, 52, 42, 182, 0, 26, 79]
abbrev dktX18_one_5 : List UInt8 := dkwX18_one_5 ++ dktX18_one_6
def dkwX18_one_4 : List UInt8 := [182, 0, 30, 167, 0, 59, 42, 180, 0, 15, 42, 180, 0, 52, 42, 182, 0, 45, 16, 45, 160, 0, 7, 2]
abbrev dktX18_one_4 : List UInt8 := dkwX18_one_4 ++ dktX18_one_5
def dkwX18_one_3 : List UInt8 := [182, 0, 26, 182, 0, 30, 167, 0, 80, 42, 180, 0, 52, 28, 96, 16, 12, 164, 0, 13, 42, 16, 6, 27]
abbrev dktX18_one_3 : List UInt8 := dkwX18_one_3 ++ dktX18_one_4
def dkwX18_one_2 : List UInt8 := [16, 40, 160, 0, 10, 42, 182, 0, 55, 167, 0, 99, 42, 182, 0, 58, 154, 0, 15, 42, 4, 42]
abbrev dktX18_one_2 : List UInt8 := dkwX18_one_2 ++ dktX18_one_3
def dkwX18_one_1 : List UInt8 := [167, 0, 4, 4, 61, 28, 4, 164, 0, 7, 42, 182, 0, 34, 42, 180, 0, 52, 62, 42, 182, 0, 45]
abbrev dktX18_one_1 : List UInt8 := dkwX18_one_1 ++ dktX18_one_2
def dkwX18_one_0 : List UInt8 := [42, 182, 0, 26, 60, 42, 16, 50, 16, 57, 182, 0, 48, 153, 0, 13, 42, 182, 0, 45, 16, 48, 100]
abbrev dktX18_one_0 : List UInt8 := dkwX18_one_0 ++ dktX18_one_1
theorem dksX18_one_0 : cX18_one.data.toList.drop 0 = dktX18_one_0 := by decide +kernel
theorem dksX18_one_1 : cX18_one.data.toList.drop 23 = dktX18_one_1 := dk_seg dksX18_one_0 23 rfl rfl
theorem dksX18_one_2 : cX18_one.data.toList.drop 46 = dktX18_one_2 := dk_seg dksX18_one_1 23 rfl rfl
theorem dksX18_one_3 : cX18_one.data.toList.drop 68 = dktX18_one_3 := dk_seg dksX18_one_2 22 rfl rfl
theorem dksX18_one_4 : cX18_one.data.toList.drop 92 = dktX18_one_4 := dk_seg dksX18_one_3 24 rfl rfl
theorem dksX18_one_5 : cX18_one.data.toList.drop 116 = dktX18_one_5 := dk_seg dksX18_one_4 24 rfl rfl
theorem dksX18_one_6 : cX18_one.data.toList.drop 140 = dktX18_one_6 := dk_seg dksX18_one_5 24 rfl rfl
theorem dksX18_one_7 : cX18_one.data.toList.drop 163 = dktX18_one_7 := dk_seg dksX18_one_6 23 rfl rfl
theorem dksX18_one_8 : cX18_one.data.toList.drop 187 = dktX18_one_8 := dk_seg dksX18_one_7 24 rfl rfl
theorem dksX18_one_9 : cX18_one.data.toList.drop 211 = dktX18_one_9 := dk_seg dksX18_one_8 24 rfl rfl
theorem dksX18_one_10 : cX18_one.data.toList.drop 233 = dktX18_one_10 := dk_seg dksX18_one_9 22 rfl rfl
theorem dksX18_one_11 : cX18_one.data.toList.drop 256 = dktX18_one_11 := dk_seg dksX18_one_10 23 rfl rfl
theorem dX18_one_0 : decode cX18_one 0 = .ok (.aload_n 0, 1) := dk_42 (dk_at dksX18_one_0 0 rfl rfl)
theorem dX18_one_1 : decode cX18_one 1 = .ok (.invokevirtual 26, 3) := dk_182 0 26 (dk_at dksX18_one_0 1 rfl rfl)
theorem dX18_one_4 : decode cX18_one 4 = .ok (.istore_n 1, 1) := dk_60 (dk_at dksX18_one_0 4 rfl rfl)
theorem dX18_one_5 : decode cX18_one 5 = .ok (.aload_n 0, 1) := dk_42 (dk_at dksX18_one_0 5 rfl rfl)
theorem dX18_one_6 : decode cX18_one 6 = .ok (.bipush 50, 2) := dk_16 50 (dk_at dksX18_one_0 6 rfl rfl)
theorem dX18_one_8 : decode cX18_one 8 = .ok (.bipush 57, 2) := dk_16 57 (dk_at dksX18_one_0 8 rfl rfl)
theorem dX18_one_10 : decode cX18_one 10 = .ok (.invokevirtual 48, 3) := dk_182 0 48 (dk_at dksX18_one_0 10 rfl rfl)
theorem dX18_one_13 : decode cX18_one 13 = .ok (.ifCond .eq 13, 3) := dk_153 0 13 (dk_at dksX18_one_0 13 rfl rfl)
theorem dX18_one_16 : decode cX18_one 16 = .ok (.aload_n 0, 1) := dk_42 (dk_at dksX18_one_0 16 rfl rfl)
theorem dX18_one_17 : decode cX18_one 17 = .ok (.invokevirtual 45, 3) := dk_182 0 45 (dk_at dksX18_one_0 17 rfl rfl)
theorem dX18_one_20 : decode cX18_one 20 = .ok (.bipush 48, 2) := dk_16 48 (dk_at dksX18_one_0 20 rfl rfl)
theorem dX18_one_22 : decode cX18_one 22 = .ok (.isub, 1) := dk_100 (dk_at dksX18_one_0 22 rfl rfl)
theorem dX18_one_23 : decode cX18_one 23 = .ok (.goto 4, 3) := dk_167 0 4 (dk_at dksX18_one_1 0 rfl rfl)
theorem dX18_one_26 : decode cX18_one 26 = .ok (.iconst 1, 1) := dk_4 (dk_at dksX18_one_1 3 rfl rfl)
theorem dX18_one_27 : decode cX18_one 27 = .ok (.istore_n 2, 1) := dk_61 (dk_at dksX18_one_1 4 rfl rfl)
theorem dX18_one_28 : decode cX18_one 28 = .ok (.iload_n 2, 1) := dk_28 (dk_at dksX18_one_1 5 rfl rfl)
theorem dX18_one_29 : decode cX18_one 29 = .ok (.iconst 1, 1) := dk_4 (dk_at dksX18_one_1 6 rfl rfl)
theorem dX18_one_30 : decode cX18_one 30 = .ok (.if_icmp .le 7, 3) := dk_164 0 7 (dk_at dksX18_one_1 7 rfl rfl)
theorem dX18_one_33 : decode cX18_one 33 = .ok (.aload_n 0, 1) := dk_42 (dk_at dksX18_one_1 10 rfl rfl)
theorem dX18_one_34 : decode cX18_one 34 = .ok (.invokevirtual 34, 3) := dk_182 0 34 (dk_at dksX18_one_1 11 rfl rfl)
theorem dX18_one_37 : decode cX18_one 37 = .ok (.aload_n 0, 1) := dk_42 (dk_at dksX18_one_1 14 rfl rfl)
theorem dX18_one_38 : decode cX18_one 38 = .ok (.getfield 52, 3) := dk_180 0 52 (dk_at dksX18_one_1 15 rfl rfl)
theorem dX18_one_41 : decode cX18_one 41 = .ok (.istore_n 3, 1) := dk_62 (dk_at dksX18_one_1 18 rfl rfl)
theorem dX18_one_42 : decode cX18_one 42 = .ok (.aload_n 0, 1) := dk_42 (dk_at dksX18_one_1 19 rfl rfl)
theorem dX18_one_43 : decode cX18_one 43 = .ok (.invokevirtual 45, 3) := dk_182 0 45 (dk_at dksX18_one_1 20 rfl rfl)
theorem dX18_one_46 : decode cX18_one 46 = .ok (.bipush 40, 2) := dk_16 40 (dk_at dksX18_one_2 0 rfl rfl)
theorem dX18_one_48 : decode cX18_one 48 = .ok (.if_icmp .ne 10, 3) := dk_160 0 10 (dk_at dksX18_one_2 2 rfl rfl)
theorem dX18_one_51 : decode cX18_one 51 = .ok (.aload_n 0, 1) := dk_42 (dk_at dksX18_one_2 5 rfl rfl)
theorem dX18_one_52 : decode cX18_one 52 = .ok (.invokevirtual 55, 3) := dk_182 0 55 (dk_at dksX18_one_2 6 rfl rfl)
theorem dX18_one_55 : decode cX18_one 55 = .ok (.goto 99, 3) := dk_167 0 99 (dk_at dksX18_one_2 9 rfl rfl)
theorem dX18_one_58 : decode cX18_one 58 = .ok (.aload_n 0, 1) := dk_42 (dk_at dksX18_one_2 12 rfl rfl)
theorem dX18_one_59 : decode cX18_one 59 = .ok (.invokevirtual 58, 3) := dk_182 0 58 (dk_at dksX18_one_2 13 rfl rfl)
theorem dX18_one_62 : decode cX18_one 62 = .ok (.ifCond .ne 15, 3) := dk_154 0 15 (dk_at dksX18_one_2 16 rfl rfl)
theorem dX18_one_65 : decode cX18_one 65 = .ok (.aload_n 0, 1) := dk_42 (dk_at dksX18_one_2 19 rfl rfl)
theorem dX18_one_66 : decode cX18_one 66 = .ok (.iconst 1, 1) := dk_4 (dk_at dksX18_one_2 20 rfl rfl)
theorem dX18_one_67 : decode cX18_one 67 = .ok (.aload_n 0, 1) := dk_42 (dk_at dksX18_one_2 21 rfl rfl)
theorem dX18_one_68 : decode cX18_one 68 = .ok (.invokevirtual 26, 3) := dk_182 0 26 (dk_at dksX18_one_3 0 rfl rfl)
theorem dX18_one_71 : decode cX18_one 71 = .ok (.invokevirtual 30, 3) := dk_182 0 30 (dk_at dksX18_one_3 3 rfl rfl)
theorem dX18_one_74 : decode cX18_one 74 = .ok (.goto 80, 3) := dk_167 0 80 (dk_at dksX18_one_3 6 rfl rfl)
theorem dX18_one_77 : decode cX18_one 77 = .ok (.aload_n 0, 1) := dk_42 (dk_at dksX18_one_3 9 rfl rfl)
theorem dX18_one_78 : decode cX18_one 78 = .ok (.getfield 52, 3) := dk_180 0 52 (dk_at dksX18_one_3 10 rfl rfl)
theorem dX18_one_81 : decode cX18_one 81 = .ok (.iload_n 2, 1) := dk_28 (dk_at dksX18_one_3 13 rfl rfl)
theorem dX18_one_82 : decode cX18_one 82 = .ok (.iadd, 1) := dk_96 (dk_at dksX18_one_3 14 rfl rfl)
theorem dX18_one_83 : decode cX18_one 83 = .ok (.bipush 12, 2) := dk_16 12 (dk_at dksX18_one_3 15 rfl rfl)
theorem dX18_one_85 : decode cX18_one 85 = .ok (.if_icmp .le 13, 3) := dk_164 0 13 (dk_at dksX18_one_3 17 rfl rfl)
theorem dX18_one_88 : decode cX18_one 88 = .ok (.aload_n 0, 1) := dk_42 (dk_at dksX18_one_3 20 rfl rfl)
theorem dX18_one_89 : decode cX18_one 89 = .ok (.bipush 6, 2) := dk_16 6 (dk_at dksX18_one_3 21 rfl rfl)
theorem dX18_one_91 : decode cX18_one 91 = .ok (.iload_n 1, 1) := dk_27 (dk_at dksX18_one_3 23 rfl rfl)
theorem dX18_one_92 : decode cX18_one 92 = .ok (.invokevirtual 30, 3) := dk_182 0 30 (dk_at dksX18_one_4 0 rfl rfl)
theorem dX18_one_95 : decode cX18_one 95 = .ok (.goto 59, 3) := dk_167 0 59 (dk_at dksX18_one_4 3 rfl rfl)
theorem dX18_one_98 : decode cX18_one 98 = .ok (.aload_n 0, 1) := dk_42 (dk_at dksX18_one_4 6 rfl rfl)
theorem dX18_one_99 : decode cX18_one 99 = .ok (.getfield 15, 3) := dk_180 0 15 (dk_at dksX18_one_4 7 rfl rfl)
theorem dX18_one_102 : decode cX18_one 102 = .ok (.aload_n 0, 1) := dk_42 (dk_at dksX18_one_4 10 rfl rfl)
theorem dX18_one_103 : decode cX18_one 103 = .ok (.getfield 52, 3) := dk_180 0 52 (dk_at dksX18_one_4 11 rfl rfl)
theorem dX18_one_106 : decode cX18_one 106 = .ok (.aload_n 0, 1) := dk_42 (dk_at dksX18_one_4 14 rfl rfl)
theorem dX18_one_107 : decode cX18_one 107 = .ok (.invokevirtual 45, 3) := dk_182 0 45 (dk_at dksX18_one_4 15 rfl rfl)
theorem dX18_one_110 : decode cX18_one 110 = .ok (.bipush 45, 2) := dk_16 45 (dk_at dksX18_one_4 18 rfl rfl)
theorem dX18_one_112 : decode cX18_one 112 = .ok (.if_icmp .ne 7, 3) := dk_160 0 7 (dk_at dksX18_one_4 20 rfl rfl)
theorem dX18_one_115 : decode cX18_one 115 = .ok (.iconst (-1), 1) := dk_2 (dk_at dksX18_one_4 23 rfl rfl)
theorem dX18_one_116 : decode cX18_one 116 = .ok (.goto 10, 3) := dk_167 0 10 (dk_at dksX18_one_5 0 rfl rfl)
theorem dX18_one_119 : decode cX18_one 119 = .ok (.aload_n 0, 1) := dk_42 (dk_at dksX18_one_5 3 rfl rfl)
theorem dX18_one_120 : decode cX18_one 120 = .ok (.invokevirtual 45, 3) := dk_182 0 45 (dk_at dksX18_one_5 4 rfl rfl)
theorem dX18_one_123 : decode cX18_one 123 = .ok (.bipush 97, 2) := dk_16 97 (dk_at dksX18_one_5 7 rfl rfl)
theorem dX18_one_125 : decode cX18_one 125 = .ok (.isub, 1) := dk_100 (dk_at dksX18_one_5 9 rfl rfl)
theorem dX18_one_126 : decode cX18_one 126 = .ok (.iastore, 1) := dk_79 (dk_at dksX18_one_5 10 rfl rfl)
theorem dX18_one_127 : decode cX18_one 127 = .ok (.aload_n 0, 1) := dk_42 (dk_at dksX18_one_5 11 rfl rfl)
theorem dX18_one_128 : decode cX18_one 128 = .ok (.getfield 19, 3) := dk_180 0 19 (dk_at dksX18_one_5 12 rfl rfl)
theorem dX18_one_131 : decode cX18_one 131 = .ok (.aload_n 0, 1) := dk_42 (dk_at dksX18_one_5 15 rfl rfl)
theorem dX18_one_132 : decode cX18_one 132 = .ok (.getfield 52, 3) := dk_180 0 52 (dk_at dksX18_one_5 16 rfl rfl)
theorem dX18_one_135 : decode cX18_one 135 = .ok (.aload_n 0, 1) := dk_42 (dk_at dksX18_one_5 19 rfl rfl)
theorem dX18_one_136 : decode cX18_one 136 = .ok (.invokevirtual 26, 3) := dk_182 0 26 (dk_at dksX18_one_5 20 rfl rfl)
theorem dX18_one_139 : decode cX18_one 139 = .ok (.iastore, 1) := dk_79 (dk_at dksX18_one_5 23 rfl rfl)
theorem dX18_one_140 : decode cX18_one 140 = .ok (.aload_n 0, 1) := dk_42 (dk_at dksX18_one_6 0 rfl rfl)
theorem dX18_one_141 : decode cX18_one 141 = .ok (.dup, 1) := dk_89 (dk_at dksX18_one_6 1 rfl rfl)
theorem dX18_one_142 : decode cX18_one 142 = .ok (.getfield 52, 3) := dk_180 0 52 (dk_at dksX18_one_6 2 rfl rfl)
theorem dX18_one_145 : decode cX18_one 145 = .ok (.iconst 1, 1) := dk_4 (dk_at dksX18_one_6 5 rfl rfl)
theorem dX18_one_146 : decode cX18_one 146 = .ok (.iadd, 1) := dk_96 (dk_at dksX18_one_6 6 rfl rfl)
theorem dX18_one_147 : decode cX18_one 147 = .ok (.putfield 52, 3) := dk_181 0 52 (dk_at dksX18_one_6 7 rfl rfl)
theorem dX18_one_150 : decode cX18_one 150 = .ok (.aload_n 0, 1) := dk_42 (dk_at dksX18_one_6 10 rfl rfl)
theorem dX18_one_151 : decode cX18_one 151 = .ok (.invokevirtual 34, 3) := dk_182 0 34 (dk_at dksX18_one_6 11 rfl rfl)
theorem dX18_one_154 : decode cX18_one 154 = .ok (.aload_n 0, 1) := dk_42 (dk_at dksX18_one_6 14 rfl rfl)
theorem dX18_one_155 : decode cX18_one 155 = .ok (.getfield 52, 3) := dk_180 0 52 (dk_at dksX18_one_6 15 rfl rfl)
theorem dX18_one_158 : decode cX18_one 158 = .ok (.iload_n 3, 1) := dk_29 (dk_at dksX18_one_6 18 rfl rfl)
theorem dX18_one_159 : decode cX18_one 159 = .ok (.isub, 1) := dk_100 (dk_at dksX18_one_6 19 rfl rfl)
theorem dX18_one_160 : decode cX18_one 160 = .ok (.istore 4, 2) := dk_54 4 (dk_at dksX18_one_6 20 rfl rfl)
theorem dX18_one_162 : decode cX18_one 162 = .ok (.aload_n 0, 1) := dk_42 (dk_at dksX18_one_6 22 rfl rfl)
theorem dX18_one_163 : decode cX18_one 163 = .ok (.invokevirtual 41, 3) := dk_182 0 41 (dk_at dksX18_one_7 0 rfl rfl)
theorem dX18_one_166 : decode cX18_one 166 = .ok (.ifCond .eq 21, 3) := dk_153 0 21 (dk_at dksX18_one_7 3 rfl rfl)
theorem dX18_one_169 : decode cX18_one 169 = .ok (.iload_n 3, 1) := dk_29 (dk_at dksX18_one_7 6 rfl rfl)
theorem dX18_one_170 : decode cX18_one 170 = .ok (.iload 4, 2) := dk_21 4 (dk_at dksX18_one_7 7 rfl rfl)
theorem dX18_one_172 : decode cX18_one 172 = .ok (.iload_n 2, 1) := dk_28 (dk_at dksX18_one_7 9 rfl rfl)
theorem dX18_one_173 : decode cX18_one 173 = .ok (.imul, 1) := dk_104 (dk_at dksX18_one_7 10 rfl rfl)
theorem dX18_one_174 : decode cX18_one 174 = .ok (.iadd, 1) := dk_96 (dk_at dksX18_one_7 11 rfl rfl)
theorem dX18_one_175 : decode cX18_one 175 = .ok (.bipush 12, 2) := dk_16 12 (dk_at dksX18_one_7 12 rfl rfl)
theorem dX18_one_177 : decode cX18_one 177 = .ok (.if_icmp .le 10, 3) := dk_164 0 10 (dk_at dksX18_one_7 14 rfl rfl)
theorem dX18_one_180 : decode cX18_one 180 = .ok (.aload_n 0, 1) := dk_42 (dk_at dksX18_one_7 17 rfl rfl)
theorem dX18_one_181 : decode cX18_one 181 = .ok (.bipush 6, 2) := dk_16 6 (dk_at dksX18_one_7 18 rfl rfl)
theorem dX18_one_183 : decode cX18_one 183 = .ok (.iload_n 1, 1) := dk_27 (dk_at dksX18_one_7 20 rfl rfl)
theorem dX18_one_184 : decode cX18_one 184 = .ok (.invokevirtual 30, 3) := dk_182 0 30 (dk_at dksX18_one_7 21 rfl rfl)
theorem dX18_one_187 : decode cX18_one 187 = .ok (.iload 4, 2) := dk_21 4 (dk_at dksX18_one_8 0 rfl rfl)
theorem dX18_one_189 : decode cX18_one 189 = .ok (.istore 5, 2) := dk_54 5 (dk_at dksX18_one_8 2 rfl rfl)
theorem dX18_one_191 : decode cX18_one 191 = .ok (.aload_n 0, 1) := dk_42 (dk_at dksX18_one_8 4 rfl rfl)
theorem dX18_one_192 : decode cX18_one 192 = .ok (.invokevirtual 41, 3) := dk_182 0 41 (dk_at dksX18_one_8 5 rfl rfl)
theorem dX18_one_195 : decode cX18_one 195 = .ok (.ifCond .eq 70, 3) := dk_153 0 70 (dk_at dksX18_one_8 8 rfl rfl)
theorem dX18_one_198 : decode cX18_one 198 = .ok (.iload 5, 2) := dk_21 5 (dk_at dksX18_one_8 11 rfl rfl)
theorem dX18_one_200 : decode cX18_one 200 = .ok (.iload 4, 2) := dk_21 4 (dk_at dksX18_one_8 13 rfl rfl)
theorem dX18_one_202 : decode cX18_one 202 = .ok (.iload_n 2, 1) := dk_28 (dk_at dksX18_one_8 15 rfl rfl)
theorem dX18_one_203 : decode cX18_one 203 = .ok (.imul, 1) := dk_104 (dk_at dksX18_one_8 16 rfl rfl)
theorem dX18_one_204 : decode cX18_one 204 = .ok (.if_icmp .ge 61, 3) := dk_162 0 61 (dk_at dksX18_one_8 17 rfl rfl)
theorem dX18_one_207 : decode cX18_one 207 = .ok (.aload_n 0, 1) := dk_42 (dk_at dksX18_one_8 20 rfl rfl)
theorem dX18_one_208 : decode cX18_one 208 = .ok (.getfield 15, 3) := dk_180 0 15 (dk_at dksX18_one_8 21 rfl rfl)
theorem dX18_one_211 : decode cX18_one 211 = .ok (.aload_n 0, 1) := dk_42 (dk_at dksX18_one_9 0 rfl rfl)
theorem dX18_one_212 : decode cX18_one 212 = .ok (.getfield 52, 3) := dk_180 0 52 (dk_at dksX18_one_9 1 rfl rfl)
theorem dX18_one_215 : decode cX18_one 215 = .ok (.aload_n 0, 1) := dk_42 (dk_at dksX18_one_9 4 rfl rfl)
theorem dX18_one_216 : decode cX18_one 216 = .ok (.getfield 15, 3) := dk_180 0 15 (dk_at dksX18_one_9 5 rfl rfl)
theorem dX18_one_219 : decode cX18_one 219 = .ok (.iload_n 3, 1) := dk_29 (dk_at dksX18_one_9 8 rfl rfl)
theorem dX18_one_220 : decode cX18_one 220 = .ok (.iload 5, 2) := dk_21 5 (dk_at dksX18_one_9 9 rfl rfl)
theorem dX18_one_222 : decode cX18_one 222 = .ok (.iload 4, 2) := dk_21 4 (dk_at dksX18_one_9 11 rfl rfl)
theorem dX18_one_224 : decode cX18_one 224 = .ok (.irem, 1) := dk_112 (dk_at dksX18_one_9 13 rfl rfl)
theorem dX18_one_225 : decode cX18_one 225 = .ok (.iadd, 1) := dk_96 (dk_at dksX18_one_9 14 rfl rfl)
theorem dX18_one_226 : decode cX18_one 226 = .ok (.iaload, 1) := dk_46 (dk_at dksX18_one_9 15 rfl rfl)
theorem dX18_one_227 : decode cX18_one 227 = .ok (.iastore, 1) := dk_79 (dk_at dksX18_one_9 16 rfl rfl)
theorem dX18_one_228 : decode cX18_one 228 = .ok (.aload_n 0, 1) := dk_42 (dk_at dksX18_one_9 17 rfl rfl)
theorem dX18_one_229 : decode cX18_one 229 = .ok (.getfield 19, 3) := dk_180 0 19 (dk_at dksX18_one_9 18 rfl rfl)
theorem dX18_one_232 : decode cX18_one 232 = .ok (.aload_n 0, 1) := dk_42 (dk_at dksX18_one_9 21 rfl rfl)
theorem dX18_one_233 : decode cX18_one 233 = .ok (.getfield 52, 3) := dk_180 0 52 (dk_at dksX18_one_10 0 rfl rfl)
theorem dX18_one_236 : decode cX18_one 236 = .ok (.aload_n 0, 1) := dk_42 (dk_at dksX18_one_10 3 rfl rfl)
theorem dX18_one_237 : decode cX18_one 237 = .ok (.getfield 19, 3) := dk_180 0 19 (dk_at dksX18_one_10 4 rfl rfl)
theorem dX18_one_240 : decode cX18_one 240 = .ok (.iload_n 3, 1) := dk_29 (dk_at dksX18_one_10 7 rfl rfl)
theorem dX18_one_241 : decode cX18_one 241 = .ok (.iload 5, 2) := dk_21 5 (dk_at dksX18_one_10 8 rfl rfl)
theorem dX18_one_243 : decode cX18_one 243 = .ok (.iload 4, 2) := dk_21 4 (dk_at dksX18_one_10 10 rfl rfl)
theorem dX18_one_245 : decode cX18_one 245 = .ok (.irem, 1) := dk_112 (dk_at dksX18_one_10 12 rfl rfl)
theorem dX18_one_246 : decode cX18_one 246 = .ok (.iadd, 1) := dk_96 (dk_at dksX18_one_10 13 rfl rfl)
theorem dX18_one_247 : decode cX18_one 247 = .ok (.iaload, 1) := dk_46 (dk_at dksX18_one_10 14 rfl rfl)
theorem dX18_one_248 : decode cX18_one 248 = .ok (.iastore, 1) := dk_79 (dk_at dksX18_one_10 15 rfl rfl)
theorem dX18_one_249 : decode cX18_one 249 = .ok (.aload_n 0, 1) := dk_42 (dk_at dksX18_one_10 16 rfl rfl)
theorem dX18_one_250 : decode cX18_one 250 = .ok (.dup, 1) := dk_89 (dk_at dksX18_one_10 17 rfl rfl)
theorem dX18_one_251 : decode cX18_one 251 = .ok (.getfield 52, 3) := dk_180 0 52 (dk_at dksX18_one_10 18 rfl rfl)
theorem dX18_one_254 : decode cX18_one 254 = .ok (.iconst 1, 1) := dk_4 (dk_at dksX18_one_10 21 rfl rfl)
theorem dX18_one_255 : decode cX18_one 255 = .ok (.iadd, 1) := dk_96 (dk_at dksX18_one_10 22 rfl rfl)
theorem dX18_one_256 : decode cX18_one 256 = .ok (.putfield 52, 3) := dk_181 0 52 (dk_at dksX18_one_11 0 rfl rfl)
theorem dX18_one_259 : decode cX18_one 259 = .ok (.iinc 5 1, 3) := dk_132 5 1 (dk_at dksX18_one_11 3 rfl rfl)
theorem dX18_one_262 : decode cX18_one 262 = .ok (.goto (-71), 3) := dk_167 255 185 (dk_at dksX18_one_11 6 rfl rfl)
theorem dX18_one_265 : decode cX18_one 265 = .ok (.return_, 1) := dk_177 (dk_at dksX18_one_11 9 rfl rfl)
abbrev cX18_rounds : ByteArray := prog_3_method_2_code
def yX18_rounds : MethodName := ⟨RX18, "rounds", "()V"⟩
def dkwX18_rounds_3 : List UInt8 := [100, 181, 0, 22, 177]
abbrev dktX18_rounds_3 : List UInt8 := dkwX18_rounds_3 ++ []
def dkwX18_rounds_2 : List UInt8 := [16, 41, 159, 0, 12, 42, 4, 42, 182, 0, 26, 182, 0, 30, 42, 182, 0, 34, 42, 89, 180, 0, 22, 4]
abbrev dktX18_rounds_2 : List UInt8 := dkwX18_rounds_2 ++ dktX18_rounds_3
def dkwX18_rounds_1 : List UInt8 := [180, 0, 22, 4, 96, 181, 0, 22, 42, 182, 0, 38, 42, 182, 0, 41, 153, 0, 21, 42, 182, 0, 45]
abbrev dktX18_rounds_1 : List UInt8 := dkwX18_rounds_1 ++ dktX18_rounds_2
def dkwX18_rounds_0 : List UInt8 := [42, 180, 0, 22, 5, 160, 0, 12, 42, 8, 42, 182, 0, 26, 182, 0, 30, 42, 182, 0, 34, 42, 89]
abbrev dktX18_rounds_0 : List UInt8 := dkwX18_rounds_0 ++ dktX18_rounds_1
theorem dksX18_rounds_0 : cX18_rounds.data.toList.drop 0 = dktX18_rounds_0 := by decide +kernel
theorem dksX18_rounds_1 : cX18_rounds.data.toList.drop 23 = dktX18_rounds_1 := dk_seg dksX18_rounds_0 23 rfl rfl
theorem dksX18_rounds_2 : cX18_rounds.data.toList.drop 46 = dktX18_rounds_2 := dk_seg dksX18_rounds_1 23 rfl rfl
theorem dksX18_rounds_3 : cX18_rounds.data.toList.drop 70 = dktX18_rounds_3 := dk_seg dksX18_rounds_2 24 rfl rfl
theorem dX18_rounds_0 : decode cX18_rounds 0 = .ok (.aload_n 0, 1) := dk_42 (dk_at dksX18_rounds_0 0 rfl rfl)
theorem dX18_rounds_1 : decode cX18_rounds 1 = .ok (.getfield 22, 3) := dk_180 0 22 (dk_at dksX18_rounds_0 1 rfl rfl)
theorem dX18_rounds_4 : decode cX18_rounds 4 = .ok (.iconst 2, 1) := dk_5 (dk_at dksX18_rounds_0 4 rfl rfl)
theorem dX18_rounds_5 : decode cX18_rounds 5 = .ok (.if_icmp .ne 12, 3) := dk_160 0 12 (dk_at dksX18_rounds_0 5 rfl rfl)
theorem dX18_rounds_8 : decode cX18_rounds 8 = .ok (.aload_n 0, 1) := dk_42 (dk_at dksX18_rounds_0 8 rfl rfl)
theorem dX18_rounds_9 : decode cX18_rounds 9 = .ok (.iconst 5, 1) := dk_8 (dk_at dksX18_rounds_0 9 rfl rfl)
theorem dX18_rounds_10 : decode cX18_rounds 10 = .ok (.aload_n 0, 1) := dk_42 (dk_at dksX18_rounds_0 10 rfl rfl)
theorem dX18_rounds_11 : decode cX18_rounds 11 = .ok (.invokevirtual 26, 3) := dk_182 0 26 (dk_at dksX18_rounds_0 11 rfl rfl)
theorem dX18_rounds_14 : decode cX18_rounds 14 = .ok (.invokevirtual 30, 3) := dk_182 0 30 (dk_at dksX18_rounds_0 14 rfl rfl)
theorem dX18_rounds_17 : decode cX18_rounds 17 = .ok (.aload_n 0, 1) := dk_42 (dk_at dksX18_rounds_0 17 rfl rfl)
theorem dX18_rounds_18 : decode cX18_rounds 18 = .ok (.invokevirtual 34, 3) := dk_182 0 34 (dk_at dksX18_rounds_0 18 rfl rfl)
theorem dX18_rounds_21 : decode cX18_rounds 21 = .ok (.aload_n 0, 1) := dk_42 (dk_at dksX18_rounds_0 21 rfl rfl)
theorem dX18_rounds_22 : decode cX18_rounds 22 = .ok (.dup, 1) := dk_89 (dk_at dksX18_rounds_0 22 rfl rfl)
theorem dX18_rounds_23 : decode cX18_rounds 23 = .ok (.getfield 22, 3) := dk_180 0 22 (dk_at dksX18_rounds_1 0 rfl rfl)
theorem dX18_rounds_26 : decode cX18_rounds 26 = .ok (.iconst 1, 1) := dk_4 (dk_at dksX18_rounds_1 3 rfl rfl)
theorem dX18_rounds_27 : decode cX18_rounds 27 = .ok (.iadd, 1) := dk_96 (dk_at dksX18_rounds_1 4 rfl rfl)
theorem dX18_rounds_28 : decode cX18_rounds 28 = .ok (.putfield 22, 3) := dk_181 0 22 (dk_at dksX18_rounds_1 5 rfl rfl)
theorem dX18_rounds_31 : decode cX18_rounds 31 = .ok (.aload_n 0, 1) := dk_42 (dk_at dksX18_rounds_1 8 rfl rfl)
theorem dX18_rounds_32 : decode cX18_rounds 32 = .ok (.invokevirtual 38, 3) := dk_182 0 38 (dk_at dksX18_rounds_1 9 rfl rfl)
theorem dX18_rounds_35 : decode cX18_rounds 35 = .ok (.aload_n 0, 1) := dk_42 (dk_at dksX18_rounds_1 12 rfl rfl)
theorem dX18_rounds_36 : decode cX18_rounds 36 = .ok (.invokevirtual 41, 3) := dk_182 0 41 (dk_at dksX18_rounds_1 13 rfl rfl)
theorem dX18_rounds_39 : decode cX18_rounds 39 = .ok (.ifCond .eq 21, 3) := dk_153 0 21 (dk_at dksX18_rounds_1 16 rfl rfl)
theorem dX18_rounds_42 : decode cX18_rounds 42 = .ok (.aload_n 0, 1) := dk_42 (dk_at dksX18_rounds_1 19 rfl rfl)
theorem dX18_rounds_43 : decode cX18_rounds 43 = .ok (.invokevirtual 45, 3) := dk_182 0 45 (dk_at dksX18_rounds_1 20 rfl rfl)
theorem dX18_rounds_46 : decode cX18_rounds 46 = .ok (.bipush 41, 2) := dk_16 41 (dk_at dksX18_rounds_2 0 rfl rfl)
theorem dX18_rounds_48 : decode cX18_rounds 48 = .ok (.if_icmp .eq 12, 3) := dk_159 0 12 (dk_at dksX18_rounds_2 2 rfl rfl)
theorem dX18_rounds_51 : decode cX18_rounds 51 = .ok (.aload_n 0, 1) := dk_42 (dk_at dksX18_rounds_2 5 rfl rfl)
theorem dX18_rounds_52 : decode cX18_rounds 52 = .ok (.iconst 1, 1) := dk_4 (dk_at dksX18_rounds_2 6 rfl rfl)
theorem dX18_rounds_53 : decode cX18_rounds 53 = .ok (.aload_n 0, 1) := dk_42 (dk_at dksX18_rounds_2 7 rfl rfl)
theorem dX18_rounds_54 : decode cX18_rounds 54 = .ok (.invokevirtual 26, 3) := dk_182 0 26 (dk_at dksX18_rounds_2 8 rfl rfl)
theorem dX18_rounds_57 : decode cX18_rounds 57 = .ok (.invokevirtual 30, 3) := dk_182 0 30 (dk_at dksX18_rounds_2 11 rfl rfl)
theorem dX18_rounds_60 : decode cX18_rounds 60 = .ok (.aload_n 0, 1) := dk_42 (dk_at dksX18_rounds_2 14 rfl rfl)
theorem dX18_rounds_61 : decode cX18_rounds 61 = .ok (.invokevirtual 34, 3) := dk_182 0 34 (dk_at dksX18_rounds_2 15 rfl rfl)
theorem dX18_rounds_64 : decode cX18_rounds 64 = .ok (.aload_n 0, 1) := dk_42 (dk_at dksX18_rounds_2 18 rfl rfl)
theorem dX18_rounds_65 : decode cX18_rounds 65 = .ok (.dup, 1) := dk_89 (dk_at dksX18_rounds_2 19 rfl rfl)
theorem dX18_rounds_66 : decode cX18_rounds 66 = .ok (.getfield 22, 3) := dk_180 0 22 (dk_at dksX18_rounds_2 20 rfl rfl)
theorem dX18_rounds_69 : decode cX18_rounds 69 = .ok (.iconst 1, 1) := dk_4 (dk_at dksX18_rounds_2 23 rfl rfl)
theorem dX18_rounds_70 : decode cX18_rounds 70 = .ok (.isub, 1) := dk_100 (dk_at dksX18_rounds_3 0 rfl rfl)
theorem dX18_rounds_71 : decode cX18_rounds 71 = .ok (.putfield 22, 3) := dk_181 0 22 (dk_at dksX18_rounds_3 1 rfl rfl)
theorem dX18_rounds_74 : decode cX18_rounds 74 = .ok (.return_, 1) := dk_177 (dk_at dksX18_rounds_3 4 rfl rfl)
abbrev cX18_seesOne : ByteArray := prog_3_method_3_code
def yX18_seesOne : MethodName := ⟨RX18, "seesOne", "()Z"⟩
def dkwX18_seesOne_1 : List UInt8 := [3, 172]
abbrev dktX18_seesOne_1 : List UInt8 := dkwX18_seesOne_1 ++ []
def dkwX18_seesOne_0 : List UInt8 := [42, 182, 0, 45, 16, 45, 159, 0, 14, 42, 16, 97, 16, 112, 182, 0, 48, 153, 0, 7, 4, 167, 0, 4]
abbrev dktX18_seesOne_0 : List UInt8 := dkwX18_seesOne_0 ++ dktX18_seesOne_1
theorem dksX18_seesOne_0 : cX18_seesOne.data.toList.drop 0 = dktX18_seesOne_0 := by decide +kernel
theorem dksX18_seesOne_1 : cX18_seesOne.data.toList.drop 24 = dktX18_seesOne_1 := dk_seg dksX18_seesOne_0 24 rfl rfl
theorem dX18_seesOne_0 : decode cX18_seesOne 0 = .ok (.aload_n 0, 1) := dk_42 (dk_at dksX18_seesOne_0 0 rfl rfl)
theorem dX18_seesOne_1 : decode cX18_seesOne 1 = .ok (.invokevirtual 45, 3) := dk_182 0 45 (dk_at dksX18_seesOne_0 1 rfl rfl)
theorem dX18_seesOne_4 : decode cX18_seesOne 4 = .ok (.bipush 45, 2) := dk_16 45 (dk_at dksX18_seesOne_0 4 rfl rfl)
theorem dX18_seesOne_6 : decode cX18_seesOne 6 = .ok (.if_icmp .eq 14, 3) := dk_159 0 14 (dk_at dksX18_seesOne_0 6 rfl rfl)
theorem dX18_seesOne_9 : decode cX18_seesOne 9 = .ok (.aload_n 0, 1) := dk_42 (dk_at dksX18_seesOne_0 9 rfl rfl)
theorem dX18_seesOne_10 : decode cX18_seesOne 10 = .ok (.bipush 97, 2) := dk_16 97 (dk_at dksX18_seesOne_0 10 rfl rfl)
theorem dX18_seesOne_12 : decode cX18_seesOne 12 = .ok (.bipush 112, 2) := dk_16 112 (dk_at dksX18_seesOne_0 12 rfl rfl)
theorem dX18_seesOne_14 : decode cX18_seesOne 14 = .ok (.invokevirtual 48, 3) := dk_182 0 48 (dk_at dksX18_seesOne_0 14 rfl rfl)
theorem dX18_seesOne_17 : decode cX18_seesOne 17 = .ok (.ifCond .eq 7, 3) := dk_153 0 7 (dk_at dksX18_seesOne_0 17 rfl rfl)
theorem dX18_seesOne_20 : decode cX18_seesOne 20 = .ok (.iconst 1, 1) := dk_4 (dk_at dksX18_seesOne_0 20 rfl rfl)
theorem dX18_seesOne_21 : decode cX18_seesOne 21 = .ok (.goto 4, 3) := dk_167 0 4 (dk_at dksX18_seesOne_0 21 rfl rfl)
theorem dX18_seesOne_24 : decode cX18_seesOne 24 = .ok (.iconst 0, 1) := dk_3 (dk_at dksX18_seesOne_1 0 rfl rfl)
theorem dX18_seesOne_25 : decode cX18_seesOne 25 = .ok (.ireturn, 1) := dk_172 (dk_at dksX18_seesOne_1 1 rfl rfl)
theorem q134 : (Jvm.Cond.initialized "SharedWindow$Clerk") ∈ lw_all := lw_g (lw_at lw_m1 25 rfl) rfl
theorem q292 : (Jvm.Cond.fieldLinkNest "SharedWindow$Clerk" (67 : Nat) "SharedWindow" "plan" "LSharedWindow$Plan;" "SharedWindow") ∈ lw_tbl := lw_at lw_m1 183 rfl
theorem q711 : (Jvm.Cond.selects "SharedWindow$Clerk" ({ cls := "SharedWindow$Scribe", name := "here", desc := "()I" } : Jvm.MethodName) ({ cls := "SharedWindow$Scribe", name := "here", desc := "()I" } : Jvm.MethodName)) ∈ lw_all := lw_g (lw_at lw_m3 122 rfl) rfl
theorem q792 : (Jvm.Cond.instantiable "SharedWindow$Clerk" (10 : Nat)) ∈ lw_all := lw_g (lw_at lw_m3 203 rfl) rfl
theorem q794 : (Jvm.Cond.instanceMethod ({ cls := "SharedWindow$Clerk", name := "<init>", desc := "(LSharedWindow;I)V" } : Jvm.MethodName)) ∈ lw_all := lw_g (lw_at lw_m3 205 rfl) rfl
theorem q795 : (Jvm.Cond.code ({ cls := "SharedWindow$Clerk", name := "<init>", desc := "(LSharedWindow;I)V" } : Jvm.MethodName) prog_3_method_1_code (3 : Nat) (Option.none : Option Jvm.ClassFile.FieldType)) ∈ lw_all := lw_g (lw_at lw_m3 206 rfl) rfl
theorem q796 : (Jvm.Cond.methodLink "SharedWindow$Clerk" (9 : Nat) ({ cls := "SharedWindow$Scribe", name := "<init>", desc := "(LSharedWindow;I)V" } : Jvm.MethodName)) ∈ lw_all := lw_g (lw_at lw_m3 207 rfl) rfl
theorem q797 : (Jvm.Cond.fieldLink "SharedWindow$Clerk" (15 : Nat) "SharedWindow$Clerk" "row" "[I") ∈ lw_all := lw_g (lw_at lw_m3 208 rfl) rfl
theorem q799 : (Jvm.Cond.fieldLink "SharedWindow$Clerk" (19 : Nat) "SharedWindow$Clerk" "places" "[I") ∈ lw_all := lw_g (lw_at lw_m3 210 rfl) rfl
theorem q800 : (Jvm.Cond.fieldLink "SharedWindow$Clerk" (52 : Nat) "SharedWindow$Clerk" "many" "I") ∈ lw_all := lw_g (lw_at lw_m3 211 rfl) rfl
theorem q801 : (Jvm.Cond.fieldLink "SharedWindow$Clerk" (22 : Nat) "SharedWindow$Clerk" "depth" "I") ∈ lw_all := lw_g (lw_at lw_m3 212 rfl) rfl
theorem q802 : (Jvm.Cond.fieldLink "SharedWindow$Clerk" (3 : Nat) "SharedWindow$Clerk" "this$0" "LSharedWindow;") ∈ lw_all := lw_g (lw_at lw_m3 213 rfl) rfl
theorem q803 : (Jvm.Cond.laysFinal "SharedWindow$Clerk" "SharedWindow$Clerk" "row" "[I") ∈ lw_all := lw_g (lw_at lw_m3 214 rfl) rfl
theorem q804 : (Jvm.Cond.soleField "SharedWindow$Clerk" "row") ∈ lw_all := lw_g (lw_at lw_m3 215 rfl) rfl
theorem q805 : (Jvm.Cond.laysFinal "SharedWindow$Clerk" "SharedWindow$Clerk" "places" "[I") ∈ lw_all := lw_g (lw_at lw_m3 216 rfl) rfl
theorem q806 : (Jvm.Cond.soleField "SharedWindow$Clerk" "places") ∈ lw_all := lw_g (lw_at lw_m3 217 rfl) rfl
theorem q807 : (Jvm.Cond.lays "SharedWindow$Clerk" "SharedWindow$Clerk" "many" "I") ∈ lw_all := lw_g (lw_at lw_m3 218 rfl) rfl
theorem q808 : (Jvm.Cond.soleField "SharedWindow$Clerk" "many") ∈ lw_all := lw_g (lw_at lw_m3 219 rfl) rfl
theorem q809 : (Jvm.Cond.lays "SharedWindow$Clerk" "SharedWindow$Clerk" "depth" "I") ∈ lw_all := lw_g (lw_at lw_m3 220 rfl) rfl
theorem q810 : (Jvm.Cond.soleField "SharedWindow$Clerk" "depth") ∈ lw_all := lw_g (lw_at lw_m3 221 rfl) rfl
theorem q811 : (Jvm.Cond.laysFinal "SharedWindow$Clerk" "SharedWindow$Clerk" "this$0" "LSharedWindow;") ∈ lw_all := lw_g (lw_at lw_m3 222 rfl) rfl
theorem q812 : (Jvm.Cond.soleField "SharedWindow$Clerk" "this$0") ∈ lw_all := lw_g (lw_at lw_m3 223 rfl) rfl
theorem q813 : (Jvm.Cond.laysFinal "SharedWindow$Clerk" "SharedWindow$Scribe" "n" "I") ∈ lw_all := lw_g (lw_at lw_m3 224 rfl) rfl
theorem q814 : (Jvm.Cond.lays "SharedWindow$Clerk" "SharedWindow$Scribe" "at" "I") ∈ lw_all := lw_g (lw_at lw_m3 225 rfl) rfl
theorem q815 : (Jvm.Cond.lays "SharedWindow$Clerk" "SharedWindow$Scribe" "fault" "I") ∈ lw_all := lw_g (lw_at lw_m3 226 rfl) rfl
theorem q816 : (Jvm.Cond.lays "SharedWindow$Clerk" "SharedWindow$Scribe" "place" "I") ∈ lw_all := lw_g (lw_at lw_m3 227 rfl) rfl
theorem q817 : (Jvm.Cond.laysFinal "SharedWindow$Clerk" "SharedWindow$Scribe" "this$0" "LSharedWindow;") ∈ lw_all := lw_g (lw_at lw_m3 228 rfl) rfl
theorem q818 : (Jvm.Cond.superclass "SharedWindow$Clerk" "SharedWindow$Scribe") ∈ lw_all := lw_g (lw_at lw_m3 229 rfl) rfl
theorem q820 : (Jvm.Cond.instanceMethod ({ cls := "SharedWindow$Clerk", name := "read", desc := "()I" } : Jvm.MethodName)) ∈ lw_all := lw_g (lw_at lw_m3 231 rfl) rfl
theorem q821 : (Jvm.Cond.selects "SharedWindow$Clerk" ({ cls := "SharedWindow$Clerk", name := "read", desc := "()I" } : Jvm.MethodName) ({ cls := "SharedWindow$Clerk", name := "read", desc := "()I" } : Jvm.MethodName)) ∈ lw_all := lw_g (lw_at lw_m3 232 rfl) rfl
theorem q822 : (Jvm.Cond.code ({ cls := "SharedWindow$Clerk", name := "read", desc := "()I" } : Jvm.MethodName) prog_3_method_6_code (2 : Nat) (Option.some Jvm.ClassFile.FieldType.int)) ∈ lw_all := lw_g (lw_at lw_m3 233 rfl) rfl
theorem q823 : (Jvm.Cond.methodLink "SharedWindow$Clerk" (38 : Nat) ({ cls := "SharedWindow$Clerk", name := "all", desc := "()V" } : Jvm.MethodName)) ∈ lw_all := lw_g (lw_at lw_m3 234 rfl) rfl
theorem q824 : (Jvm.Cond.privateMethod ({ cls := "SharedWindow$Clerk", name := "all", desc := "()V" } : Jvm.MethodName)) ∈ lw_tbl := lw_at lw_m3 235 rfl
theorem q825 : (Jvm.Cond.instanceMethod ({ cls := "SharedWindow$Clerk", name := "all", desc := "()V" } : Jvm.MethodName)) ∈ lw_all := lw_g (lw_at lw_m3 236 rfl) rfl
theorem q826 : (Jvm.Cond.code ({ cls := "SharedWindow$Clerk", name := "all", desc := "()V" } : Jvm.MethodName) prog_3_method_5_code (2 : Nat) (Option.none : Option Jvm.ClassFile.FieldType)) ∈ lw_all := lw_g (lw_at lw_m3 237 rfl) rfl
theorem q827 : (Jvm.Cond.methodLink "SharedWindow$Clerk" (41 : Nat) ({ cls := "SharedWindow$Clerk", name := "isGood", desc := "()Z" } : Jvm.MethodName)) ∈ lw_all := lw_g (lw_at lw_m3 238 rfl) rfl
theorem q828 : (Jvm.Cond.sameMethod "SharedWindow$Clerk" "SharedWindow$Scribe" "isGood" "()Z") ∈ lw_all := lw_g (lw_at lw_m3 239 rfl) rfl
theorem q829 : (Jvm.Cond.selects "SharedWindow$Clerk" ({ cls := "SharedWindow$Clerk", name := "isGood", desc := "()Z" } : Jvm.MethodName) ({ cls := "SharedWindow$Scribe", name := "isGood", desc := "()Z" } : Jvm.MethodName)) ∈ lw_all := lw_g (lw_at lw_m4 0 rfl) rfl
theorem q830 : (Jvm.Cond.methodLink "SharedWindow$Clerk" (61 : Nat) ({ cls := "SharedWindow$Clerk", name := "one", desc := "()V" } : Jvm.MethodName)) ∈ lw_all := lw_g (lw_at lw_m4 1 rfl) rfl
theorem q831 : (Jvm.Cond.privateMethod ({ cls := "SharedWindow$Clerk", name := "one", desc := "()V" } : Jvm.MethodName)) ∈ lw_tbl := lw_at lw_m4 2 rfl
theorem q832 : (Jvm.Cond.instanceMethod ({ cls := "SharedWindow$Clerk", name := "one", desc := "()V" } : Jvm.MethodName)) ∈ lw_all := lw_g (lw_at lw_m4 3 rfl) rfl
theorem q833 : (Jvm.Cond.code ({ cls := "SharedWindow$Clerk", name := "one", desc := "()V" } : Jvm.MethodName) prog_3_method_4_code (6 : Nat) (Option.none : Option Jvm.ClassFile.FieldType)) ∈ lw_all := lw_g (lw_at lw_m4 4 rfl) rfl
theorem q834 : (Jvm.Cond.methodLink "SharedWindow$Clerk" (26 : Nat) ({ cls := "SharedWindow$Clerk", name := "place", desc := "()I" } : Jvm.MethodName)) ∈ lw_all := lw_g (lw_at lw_m4 5 rfl) rfl
theorem q835 : (Jvm.Cond.sameMethod "SharedWindow$Clerk" "SharedWindow$Scribe" "place" "()I") ∈ lw_all := lw_g (lw_at lw_m4 6 rfl) rfl
theorem q836 : (Jvm.Cond.selects "SharedWindow$Clerk" ({ cls := "SharedWindow$Clerk", name := "place", desc := "()I" } : Jvm.MethodName) ({ cls := "SharedWindow$Scribe", name := "place", desc := "()I" } : Jvm.MethodName)) ∈ lw_all := lw_g (lw_at lw_m4 7 rfl) rfl
theorem q837 : (Jvm.Cond.methodLink "SharedWindow$Clerk" (48 : Nat) ({ cls := "SharedWindow$Clerk", name := "isIn", desc := "(II)Z" } : Jvm.MethodName)) ∈ lw_all := lw_g (lw_at lw_m4 8 rfl) rfl
theorem q838 : (Jvm.Cond.sameMethod "SharedWindow$Clerk" "SharedWindow$Scribe" "isIn" "(II)Z") ∈ lw_all := lw_g (lw_at lw_m4 9 rfl) rfl
theorem q839 : (Jvm.Cond.selects "SharedWindow$Clerk" ({ cls := "SharedWindow$Clerk", name := "isIn", desc := "(II)Z" } : Jvm.MethodName) ({ cls := "SharedWindow$Scribe", name := "isIn", desc := "(II)Z" } : Jvm.MethodName)) ∈ lw_all := lw_g (lw_at lw_m4 10 rfl) rfl
theorem q840 : (Jvm.Cond.methodLink "SharedWindow$Clerk" (45 : Nat) ({ cls := "SharedWindow$Clerk", name := "here", desc := "()I" } : Jvm.MethodName)) ∈ lw_all := lw_g (lw_at lw_m4 11 rfl) rfl
theorem q841 : (Jvm.Cond.sameMethod "SharedWindow$Clerk" "SharedWindow$Scribe" "here" "()I") ∈ lw_all := lw_g (lw_at lw_m4 12 rfl) rfl
theorem q842 : (Jvm.Cond.selects "SharedWindow$Clerk" ({ cls := "SharedWindow$Clerk", name := "here", desc := "()I" } : Jvm.MethodName) ({ cls := "SharedWindow$Scribe", name := "here", desc := "()I" } : Jvm.MethodName)) ∈ lw_all := lw_g (lw_at lw_m4 13 rfl) rfl
theorem q843 : (Jvm.Cond.methodLink "SharedWindow$Clerk" (34 : Nat) ({ cls := "SharedWindow$Clerk", name := "goesOn", desc := "()V" } : Jvm.MethodName)) ∈ lw_all := lw_g (lw_at lw_m4 14 rfl) rfl
theorem q844 : (Jvm.Cond.sameMethod "SharedWindow$Clerk" "SharedWindow$Scribe" "goesOn" "()V") ∈ lw_all := lw_g (lw_at lw_m4 15 rfl) rfl
theorem q845 : (Jvm.Cond.selects "SharedWindow$Clerk" ({ cls := "SharedWindow$Clerk", name := "goesOn", desc := "()V" } : Jvm.MethodName) ({ cls := "SharedWindow$Scribe", name := "goesOn", desc := "()V" } : Jvm.MethodName)) ∈ lw_all := lw_g (lw_at lw_m4 16 rfl) rfl
theorem q846 : (Jvm.Cond.methodLink "SharedWindow$Clerk" (55 : Nat) ({ cls := "SharedWindow$Clerk", name := "rounds", desc := "()V" } : Jvm.MethodName)) ∈ lw_all := lw_g (lw_at lw_m4 17 rfl) rfl
theorem q847 : (Jvm.Cond.privateMethod ({ cls := "SharedWindow$Clerk", name := "rounds", desc := "()V" } : Jvm.MethodName)) ∈ lw_tbl := lw_at lw_m4 18 rfl
theorem q848 : (Jvm.Cond.instanceMethod ({ cls := "SharedWindow$Clerk", name := "rounds", desc := "()V" } : Jvm.MethodName)) ∈ lw_all := lw_g (lw_at lw_m4 19 rfl) rfl
theorem q849 : (Jvm.Cond.code ({ cls := "SharedWindow$Clerk", name := "rounds", desc := "()V" } : Jvm.MethodName) prog_3_method_2_code (1 : Nat) (Option.none : Option Jvm.ClassFile.FieldType)) ∈ lw_all := lw_g (lw_at lw_m4 20 rfl) rfl
theorem q850 : (Jvm.Cond.methodLink "SharedWindow$Clerk" (30 : Nat) ({ cls := "SharedWindow$Clerk", name := "bad", desc := "(II)V" } : Jvm.MethodName)) ∈ lw_all := lw_g (lw_at lw_m4 21 rfl) rfl
theorem q851 : (Jvm.Cond.sameMethod "SharedWindow$Clerk" "SharedWindow$Scribe" "bad" "(II)V") ∈ lw_all := lw_g (lw_at lw_m4 22 rfl) rfl
theorem q852 : (Jvm.Cond.selects "SharedWindow$Clerk" ({ cls := "SharedWindow$Clerk", name := "bad", desc := "(II)V" } : Jvm.MethodName) ({ cls := "SharedWindow$Scribe", name := "bad", desc := "(II)V" } : Jvm.MethodName)) ∈ lw_all := lw_g (lw_at lw_m4 23 rfl) rfl
theorem q853 : (Jvm.Cond.methodLink "SharedWindow$Clerk" (58 : Nat) ({ cls := "SharedWindow$Clerk", name := "seesOne", desc := "()Z" } : Jvm.MethodName)) ∈ lw_all := lw_g (lw_at lw_m4 24 rfl) rfl
theorem q854 : (Jvm.Cond.privateMethod ({ cls := "SharedWindow$Clerk", name := "seesOne", desc := "()Z" } : Jvm.MethodName)) ∈ lw_tbl := lw_at lw_m4 25 rfl
theorem q855 : (Jvm.Cond.instanceMethod ({ cls := "SharedWindow$Clerk", name := "seesOne", desc := "()Z" } : Jvm.MethodName)) ∈ lw_all := lw_g (lw_at lw_m4 26 rfl) rfl
theorem q856 : (Jvm.Cond.code ({ cls := "SharedWindow$Clerk", name := "seesOne", desc := "()Z" } : Jvm.MethodName) prog_3_method_3_code (1 : Nat) (Option.some Jvm.ClassFile.FieldType.boolean)) ∈ lw_all := lw_g (lw_at lw_m4 27 rfl) rfl
theorem q857 : (Jvm.Cond.methodLink "SharedWindow$Clerk" (64 : Nat) ({ cls := "SharedWindow$Clerk", name := "isEnd", desc := "()Z" } : Jvm.MethodName)) ∈ lw_all := lw_g (lw_at lw_m4 28 rfl) rfl
theorem q858 : (Jvm.Cond.sameMethod "SharedWindow$Clerk" "SharedWindow$Scribe" "isEnd" "()Z") ∈ lw_all := lw_g (lw_at lw_m4 29 rfl) rfl
theorem q859 : (Jvm.Cond.selects "SharedWindow$Clerk" ({ cls := "SharedWindow$Clerk", name := "isEnd", desc := "()Z" } : Jvm.MethodName) ({ cls := "SharedWindow$Scribe", name := "isEnd", desc := "()Z" } : Jvm.MethodName)) ∈ lw_all := lw_g (lw_at lw_m4 30 rfl) rfl
theorem q860 : (Jvm.Cond.methodLink "SharedWindow$Clerk" (71 : Nat) ({ cls := "SharedWindow$Plan", name := "isHouse", desc := "(I)Z" } : Jvm.MethodName)) ∈ lw_all := lw_g (lw_at lw_m4 31 rfl) rfl
theorem q861 : (Jvm.Cond.methodLink "SharedWindow$Clerk" (77 : Nat) ({ cls := "SharedWindow$Clerk", name := "answer", desc := "(I)I" } : Jvm.MethodName)) ∈ lw_all := lw_g (lw_at lw_m4 32 rfl) rfl
theorem q862 : (Jvm.Cond.sameMethod "SharedWindow$Clerk" "SharedWindow$Scribe" "answer" "(I)I") ∈ lw_all := lw_g (lw_at lw_m4 33 rfl) rfl
theorem q863 : (Jvm.Cond.selects "SharedWindow$Clerk" ({ cls := "SharedWindow$Clerk", name := "answer", desc := "(I)I" } : Jvm.MethodName) ({ cls := "SharedWindow$Scribe", name := "answer", desc := "(I)I" } : Jvm.MethodName)) ∈ lw_all := lw_g (lw_at lw_m4 34 rfl) rfl
theorem q1827 : (Jvm.Cond.selects "SharedWindow$Clerk" ({ cls := "SharedWindow$Scribe", name := "isGood", desc := "()Z" } : Jvm.MethodName) ({ cls := "SharedWindow$Scribe", name := "isGood", desc := "()Z" } : Jvm.MethodName)) ∈ lw_all := lw_g (lw_at lw_m8 38 rfl) rfl
theorem q1830 : (Jvm.Cond.selects "SharedWindow$Clerk" ({ cls := "SharedWindow$Scribe", name := "bad", desc := "(II)V" } : Jvm.MethodName) ({ cls := "SharedWindow$Scribe", name := "bad", desc := "(II)V" } : Jvm.MethodName)) ∈ lw_all := lw_g (lw_at lw_m8 41 rfl) rfl
theorem in_X18 : ∀ w ∈ wsX180, w ∈ lw_all := lw_in wsX180 [813, 814, 815, 816, 817, 803, 805, 807, 809, 811] (by decide +kernel) (by decide +kernel)
/-! java/lang/String -/
set_option maxRecDepth 100000
def RJ0 : String := "java/lang/String"
abbrev cJ0_indexOf : ByteArray := prog_24_method_79_code
def yJ0_indexOf : MethodName := ⟨RJ0, "indexOf", "(I)I"⟩
def dkwJ0_indexOf_0 : List UInt8 := [42, 27, 3, 182, 2, 121, 172]
abbrev dktJ0_indexOf_0 : List UInt8 := dkwJ0_indexOf_0 ++ []
theorem dksJ0_indexOf_0 : cJ0_indexOf.data.toList.drop 0 = dktJ0_indexOf_0 := by decide +kernel
theorem dJ0_indexOf_0 : decode cJ0_indexOf 0 = .ok (.aload_n 0, 1) := dk_42 (dk_at dksJ0_indexOf_0 0 rfl rfl)
theorem dJ0_indexOf_1 : decode cJ0_indexOf 1 = .ok (.iload_n 1, 1) := dk_27 (dk_at dksJ0_indexOf_0 1 rfl rfl)
theorem dJ0_indexOf_2 : decode cJ0_indexOf 2 = .ok (.iconst 0, 1) := dk_3 (dk_at dksJ0_indexOf_0 2 rfl rfl)
theorem dJ0_indexOf_3 : decode cJ0_indexOf 3 = .ok (.invokevirtual 633, 3) := dk_182 2 121 (dk_at dksJ0_indexOf_0 3 rfl rfl)
theorem dJ0_indexOf_6 : decode cJ0_indexOf 6 = .ok (.ireturn, 1) := dk_172 (dk_at dksJ0_indexOf_0 6 rfl rfl)
abbrev cJ0_indexOf_2 : ByteArray := prog_24_method_80_code
def yJ0_indexOf_2 : MethodName := ⟨RJ0, "indexOf", "(II)I"⟩
def dkwJ0_indexOf_2_1 : List UInt8 := [180, 0, 9, 27, 28, 42, 182, 1, 249, 184, 2, 128, 172]
abbrev dktJ0_indexOf_2_1 : List UInt8 := dkwJ0_indexOf_2_1 ++ []
def dkwJ0_indexOf_2_0 : List UInt8 := [42, 182, 1, 236, 153, 0, 19, 42, 180, 0, 9, 27, 28, 42, 182, 1, 249, 184, 2, 125, 167, 0, 16, 42]
abbrev dktJ0_indexOf_2_0 : List UInt8 := dkwJ0_indexOf_2_0 ++ dktJ0_indexOf_2_1
theorem dksJ0_indexOf_2_0 : cJ0_indexOf_2.data.toList.drop 0 = dktJ0_indexOf_2_0 := by decide +kernel
theorem dksJ0_indexOf_2_1 : cJ0_indexOf_2.data.toList.drop 24 = dktJ0_indexOf_2_1 := dk_seg dksJ0_indexOf_2_0 24 rfl rfl
theorem dJ0_indexOf_2_0 : decode cJ0_indexOf_2 0 = .ok (.aload_n 0, 1) := dk_42 (dk_at dksJ0_indexOf_2_0 0 rfl rfl)
theorem dJ0_indexOf_2_1 : decode cJ0_indexOf_2 1 = .ok (.invokevirtual 492, 3) := dk_182 1 236 (dk_at dksJ0_indexOf_2_0 1 rfl rfl)
theorem dJ0_indexOf_2_4 : decode cJ0_indexOf_2 4 = .ok (.ifCond .eq 19, 3) := dk_153 0 19 (dk_at dksJ0_indexOf_2_0 4 rfl rfl)
theorem dJ0_indexOf_2_7 : decode cJ0_indexOf_2 7 = .ok (.aload_n 0, 1) := dk_42 (dk_at dksJ0_indexOf_2_0 7 rfl rfl)
theorem dJ0_indexOf_2_8 : decode cJ0_indexOf_2 8 = .ok (.getfield 9, 3) := dk_180 0 9 (dk_at dksJ0_indexOf_2_0 8 rfl rfl)
theorem dJ0_indexOf_2_11 : decode cJ0_indexOf_2 11 = .ok (.iload_n 1, 1) := dk_27 (dk_at dksJ0_indexOf_2_0 11 rfl rfl)
theorem dJ0_indexOf_2_12 : decode cJ0_indexOf_2 12 = .ok (.iload_n 2, 1) := dk_28 (dk_at dksJ0_indexOf_2_0 12 rfl rfl)
theorem dJ0_indexOf_2_13 : decode cJ0_indexOf_2 13 = .ok (.aload_n 0, 1) := dk_42 (dk_at dksJ0_indexOf_2_0 13 rfl rfl)
theorem dJ0_indexOf_2_14 : decode cJ0_indexOf_2 14 = .ok (.invokevirtual 505, 3) := dk_182 1 249 (dk_at dksJ0_indexOf_2_0 14 rfl rfl)
theorem dJ0_indexOf_2_17 : decode cJ0_indexOf_2 17 = .ok (.invokestatic 637, 3) := dk_184 2 125 (dk_at dksJ0_indexOf_2_0 17 rfl rfl)
theorem dJ0_indexOf_2_20 : decode cJ0_indexOf_2 20 = .ok (.goto 16, 3) := dk_167 0 16 (dk_at dksJ0_indexOf_2_0 20 rfl rfl)
theorem dJ0_indexOf_2_23 : decode cJ0_indexOf_2 23 = .ok (.aload_n 0, 1) := dk_42 (dk_at dksJ0_indexOf_2_0 23 rfl rfl)
theorem dJ0_indexOf_2_24 : decode cJ0_indexOf_2 24 = .ok (.getfield 9, 3) := dk_180 0 9 (dk_at dksJ0_indexOf_2_1 0 rfl rfl)
theorem dJ0_indexOf_2_27 : decode cJ0_indexOf_2 27 = .ok (.iload_n 1, 1) := dk_27 (dk_at dksJ0_indexOf_2_1 3 rfl rfl)
theorem dJ0_indexOf_2_28 : decode cJ0_indexOf_2 28 = .ok (.iload_n 2, 1) := dk_28 (dk_at dksJ0_indexOf_2_1 4 rfl rfl)
theorem dJ0_indexOf_2_29 : decode cJ0_indexOf_2 29 = .ok (.aload_n 0, 1) := dk_42 (dk_at dksJ0_indexOf_2_1 5 rfl rfl)
theorem dJ0_indexOf_2_30 : decode cJ0_indexOf_2 30 = .ok (.invokevirtual 505, 3) := dk_182 1 249 (dk_at dksJ0_indexOf_2_1 6 rfl rfl)
theorem dJ0_indexOf_2_33 : decode cJ0_indexOf_2 33 = .ok (.invokestatic 640, 3) := dk_184 2 128 (dk_at dksJ0_indexOf_2_1 9 rfl rfl)
theorem dJ0_indexOf_2_36 : decode cJ0_indexOf_2 36 = .ok (.ireturn, 1) := dk_172 (dk_at dksJ0_indexOf_2_1 12 rfl rfl)
abbrev cJ0_isLatin1 : ByteArray := prog_24_method_154_code
def yJ0_isLatin1 : MethodName := ⟨RJ0, "isLatin1", "()Z"⟩
def dkwJ0_isLatin1_0 : List UInt8 := [178, 0, 38, 153, 0, 14, 42, 180, 0, 15, 154, 0, 7, 4, 167, 0, 4, 3, 172]
abbrev dktJ0_isLatin1_0 : List UInt8 := dkwJ0_isLatin1_0 ++ []
theorem dksJ0_isLatin1_0 : cJ0_isLatin1.data.toList.drop 0 = dktJ0_isLatin1_0 := by decide +kernel
theorem dJ0_isLatin1_0 : decode cJ0_isLatin1 0 = .ok (.getstatic 38, 3) := dk_178 0 38 (dk_at dksJ0_isLatin1_0 0 rfl rfl)
theorem dJ0_isLatin1_3 : decode cJ0_isLatin1 3 = .ok (.ifCond .eq 14, 3) := dk_153 0 14 (dk_at dksJ0_isLatin1_0 3 rfl rfl)
theorem dJ0_isLatin1_6 : decode cJ0_isLatin1 6 = .ok (.aload_n 0, 1) := dk_42 (dk_at dksJ0_isLatin1_0 6 rfl rfl)
theorem dJ0_isLatin1_7 : decode cJ0_isLatin1 7 = .ok (.getfield 15, 3) := dk_180 0 15 (dk_at dksJ0_isLatin1_0 7 rfl rfl)
theorem dJ0_isLatin1_10 : decode cJ0_isLatin1 10 = .ok (.ifCond .ne 7, 3) := dk_154 0 7 (dk_at dksJ0_isLatin1_0 10 rfl rfl)
theorem dJ0_isLatin1_13 : decode cJ0_isLatin1 13 = .ok (.iconst 1, 1) := dk_4 (dk_at dksJ0_isLatin1_0 13 rfl rfl)
theorem dJ0_isLatin1_14 : decode cJ0_isLatin1 14 = .ok (.goto 4, 3) := dk_167 0 4 (dk_at dksJ0_isLatin1_0 14 rfl rfl)
theorem dJ0_isLatin1_17 : decode cJ0_isLatin1 17 = .ok (.iconst 0, 1) := dk_3 (dk_at dksJ0_isLatin1_0 17 rfl rfl)
theorem dJ0_isLatin1_18 : decode cJ0_isLatin1 18 = .ok (.ireturn, 1) := dk_172 (dk_at dksJ0_isLatin1_0 18 rfl rfl)
abbrev cJ0_length : ByteArray := prog_24_method_54_code
def yJ0_length : MethodName := ⟨RJ0, "length", "()I"⟩
def dkwJ0_length_0 : List UInt8 := [42, 180, 0, 9, 190, 42, 182, 1, 79, 122, 172]
abbrev dktJ0_length_0 : List UInt8 := dkwJ0_length_0 ++ []
theorem dksJ0_length_0 : cJ0_length.data.toList.drop 0 = dktJ0_length_0 := by decide +kernel
theorem dJ0_length_0 : decode cJ0_length 0 = .ok (.aload_n 0, 1) := dk_42 (dk_at dksJ0_length_0 0 rfl rfl)
theorem dJ0_length_1 : decode cJ0_length 1 = .ok (.getfield 9, 3) := dk_180 0 9 (dk_at dksJ0_length_0 1 rfl rfl)
theorem dJ0_length_4 : decode cJ0_length 4 = .ok (.arraylength, 1) := dk_190 (dk_at dksJ0_length_0 4 rfl rfl)
theorem dJ0_length_5 : decode cJ0_length 5 = .ok (.aload_n 0, 1) := dk_42 (dk_at dksJ0_length_0 5 rfl rfl)
theorem dJ0_length_6 : decode cJ0_length 6 = .ok (.invokevirtual 335, 3) := dk_182 1 79 (dk_at dksJ0_length_0 6 rfl rfl)
theorem dJ0_length_9 : decode cJ0_length 9 = .ok (.ishr, 1) := dk_122 (dk_at dksJ0_length_0 9 rfl rfl)
theorem dJ0_length_10 : decode cJ0_length 10 = .ok (.ireturn, 1) := dk_172 (dk_at dksJ0_length_0 10 rfl rfl)
abbrev cJ0_coder : ByteArray := prog_24_method_152_code
def yJ0_coder : MethodName := ⟨RJ0, "coder", "()B"⟩
def dkwJ0_coder_0 : List UInt8 := [178, 0, 38, 153, 0, 10, 42, 180, 0, 15, 167, 0, 4, 4, 172]
abbrev dktJ0_coder_0 : List UInt8 := dkwJ0_coder_0 ++ []
theorem dksJ0_coder_0 : cJ0_coder.data.toList.drop 0 = dktJ0_coder_0 := by decide +kernel
theorem dJ0_coder_0 : decode cJ0_coder 0 = .ok (.getstatic 38, 3) := dk_178 0 38 (dk_at dksJ0_coder_0 0 rfl rfl)
theorem dJ0_coder_3 : decode cJ0_coder 3 = .ok (.ifCond .eq 10, 3) := dk_153 0 10 (dk_at dksJ0_coder_0 3 rfl rfl)
theorem dJ0_coder_6 : decode cJ0_coder 6 = .ok (.aload_n 0, 1) := dk_42 (dk_at dksJ0_coder_0 6 rfl rfl)
theorem dJ0_coder_7 : decode cJ0_coder 7 = .ok (.getfield 15, 3) := dk_180 0 15 (dk_at dksJ0_coder_0 7 rfl rfl)
theorem dJ0_coder_10 : decode cJ0_coder 10 = .ok (.goto 4, 3) := dk_167 0 4 (dk_at dksJ0_coder_0 10 rfl rfl)
theorem dJ0_coder_13 : decode cJ0_coder 13 = .ok (.iconst 1, 1) := dk_4 (dk_at dksJ0_coder_0 13 rfl rfl)
theorem dJ0_coder_14 : decode cJ0_coder 14 = .ok (.ireturn, 1) := dk_172 (dk_at dksJ0_coder_0 14 rfl rfl)
abbrev cJ0_checkBoundsBeginEnd : ByteArray := prog_24_method_158_code
def yJ0_checkBoundsBeginEnd : MethodName := ⟨RJ0, "checkBoundsBeginEnd", "(III)V"⟩
def dkwJ0_checkBoundsBeginEnd_0 : List UInt8 := [26, 27, 28, 178, 4, 29, 184, 4, 38, 87, 177]
abbrev dktJ0_checkBoundsBeginEnd_0 : List UInt8 := dkwJ0_checkBoundsBeginEnd_0 ++ []
theorem dksJ0_checkBoundsBeginEnd_0 : cJ0_checkBoundsBeginEnd.data.toList.drop 0 = dktJ0_checkBoundsBeginEnd_0 := by decide +kernel
theorem dJ0_checkBoundsBeginEnd_0 : decode cJ0_checkBoundsBeginEnd 0 = .ok (.iload_n 0, 1) := dk_26 (dk_at dksJ0_checkBoundsBeginEnd_0 0 rfl rfl)
theorem dJ0_checkBoundsBeginEnd_1 : decode cJ0_checkBoundsBeginEnd 1 = .ok (.iload_n 1, 1) := dk_27 (dk_at dksJ0_checkBoundsBeginEnd_0 1 rfl rfl)
theorem dJ0_checkBoundsBeginEnd_2 : decode cJ0_checkBoundsBeginEnd 2 = .ok (.iload_n 2, 1) := dk_28 (dk_at dksJ0_checkBoundsBeginEnd_0 2 rfl rfl)
theorem dJ0_checkBoundsBeginEnd_3 : decode cJ0_checkBoundsBeginEnd 3 = .ok (.getstatic 1053, 3) := dk_178 4 29 (dk_at dksJ0_checkBoundsBeginEnd_0 3 rfl rfl)
theorem dJ0_checkBoundsBeginEnd_6 : decode cJ0_checkBoundsBeginEnd 6 = .ok (.invokestatic 1062, 3) := dk_184 4 38 (dk_at dksJ0_checkBoundsBeginEnd_0 6 rfl rfl)
theorem dJ0_checkBoundsBeginEnd_9 : decode cJ0_checkBoundsBeginEnd 9 = .ok (.pop, 1) := dk_87 (dk_at dksJ0_checkBoundsBeginEnd_0 9 rfl rfl)
theorem dJ0_checkBoundsBeginEnd_10 : decode cJ0_checkBoundsBeginEnd 10 = .ok (.return_, 1) := dk_177 (dk_at dksJ0_checkBoundsBeginEnd_0 10 rfl rfl)
theorem q118 : (Jvm.Cond.initialized "java/lang/String") ∈ lw_all := lw_g (lw_at lw_m1 9 rfl) rfl
theorem q437 : (Jvm.Cond.instanceMethod ({ cls := "java/lang/String", name := "indexOf", desc := "(I)I" } : Jvm.MethodName)) ∈ lw_all := lw_g (lw_at lw_m2 88 rfl) rfl
theorem q438 : (Jvm.Cond.selects "java/lang/String" ({ cls := "java/lang/String", name := "indexOf", desc := "(I)I" } : Jvm.MethodName) ({ cls := "java/lang/String", name := "indexOf", desc := "(I)I" } : Jvm.MethodName)) ∈ lw_all := lw_g (lw_at lw_m2 89 rfl) rfl
theorem q439 : (Jvm.Cond.code ({ cls := "java/lang/String", name := "indexOf", desc := "(I)I" } : Jvm.MethodName) prog_24_method_79_code (2 : Nat) (Option.some Jvm.ClassFile.FieldType.int)) ∈ lw_all := lw_g (lw_at lw_m2 90 rfl) rfl
theorem q440 : (Jvm.Cond.methodLink "java/lang/String" (633 : Nat) ({ cls := "java/lang/String", name := "indexOf", desc := "(II)I" } : Jvm.MethodName)) ∈ lw_all := lw_g (lw_at lw_m2 91 rfl) rfl
theorem q441 : (Jvm.Cond.instanceMethod ({ cls := "java/lang/String", name := "indexOf", desc := "(II)I" } : Jvm.MethodName)) ∈ lw_all := lw_g (lw_at lw_m2 92 rfl) rfl
theorem q442 : (Jvm.Cond.selects "java/lang/String" ({ cls := "java/lang/String", name := "indexOf", desc := "(II)I" } : Jvm.MethodName) ({ cls := "java/lang/String", name := "indexOf", desc := "(II)I" } : Jvm.MethodName)) ∈ lw_all := lw_g (lw_at lw_m2 93 rfl) rfl
theorem q443 : (Jvm.Cond.code ({ cls := "java/lang/String", name := "indexOf", desc := "(II)I" } : Jvm.MethodName) prog_24_method_80_code (3 : Nat) (Option.some Jvm.ClassFile.FieldType.int)) ∈ lw_all := lw_g (lw_at lw_m2 94 rfl) rfl
theorem q444 : (Jvm.Cond.methodLink "java/lang/String" (492 : Nat) ({ cls := "java/lang/String", name := "isLatin1", desc := "()Z" } : Jvm.MethodName)) ∈ lw_all := lw_g (lw_at lw_m2 95 rfl) rfl
theorem q445 : (Jvm.Cond.instanceMethod ({ cls := "java/lang/String", name := "isLatin1", desc := "()Z" } : Jvm.MethodName)) ∈ lw_all := lw_g (lw_at lw_m2 96 rfl) rfl
theorem q446 : (Jvm.Cond.selects "java/lang/String" ({ cls := "java/lang/String", name := "isLatin1", desc := "()Z" } : Jvm.MethodName) ({ cls := "java/lang/String", name := "isLatin1", desc := "()Z" } : Jvm.MethodName)) ∈ lw_all := lw_g (lw_at lw_m2 97 rfl) rfl
theorem q447 : (Jvm.Cond.code ({ cls := "java/lang/String", name := "isLatin1", desc := "()Z" } : Jvm.MethodName) prog_24_method_154_code (1 : Nat) (Option.some Jvm.ClassFile.FieldType.boolean)) ∈ lw_all := lw_g (lw_at lw_m2 98 rfl) rfl
theorem q448 : (Jvm.Cond.fieldLink "java/lang/String" (38 : Nat) "java/lang/String" "COMPACT_STRINGS" "Z") ∈ lw_all := lw_g (lw_at lw_m2 99 rfl) rfl
theorem q449 : (Jvm.Cond.laysStatic "java/lang/String" "COMPACT_STRINGS" "Z") ∈ lw_tbl := lw_at lw_m2 100 rfl
theorem q450 : (Jvm.Cond.methodLink "java/lang/String" (505 : Nat) ({ cls := "java/lang/String", name := "length", desc := "()I" } : Jvm.MethodName)) ∈ lw_all := lw_g (lw_at lw_m2 101 rfl) rfl
theorem q451 : (Jvm.Cond.instanceMethod ({ cls := "java/lang/String", name := "length", desc := "()I" } : Jvm.MethodName)) ∈ lw_all := lw_g (lw_at lw_m2 102 rfl) rfl
theorem q452 : (Jvm.Cond.selects "java/lang/String" ({ cls := "java/lang/String", name := "length", desc := "()I" } : Jvm.MethodName) ({ cls := "java/lang/String", name := "length", desc := "()I" } : Jvm.MethodName)) ∈ lw_all := lw_g (lw_at lw_m2 103 rfl) rfl
theorem q453 : (Jvm.Cond.code ({ cls := "java/lang/String", name := "length", desc := "()I" } : Jvm.MethodName) prog_24_method_54_code (1 : Nat) (Option.some Jvm.ClassFile.FieldType.int)) ∈ lw_all := lw_g (lw_at lw_m2 104 rfl) rfl
theorem q454 : (Jvm.Cond.methodLink "java/lang/String" (335 : Nat) ({ cls := "java/lang/String", name := "coder", desc := "()B" } : Jvm.MethodName)) ∈ lw_all := lw_g (lw_at lw_m2 105 rfl) rfl
theorem q455 : (Jvm.Cond.instanceMethod ({ cls := "java/lang/String", name := "coder", desc := "()B" } : Jvm.MethodName)) ∈ lw_all := lw_g (lw_at lw_m2 106 rfl) rfl
theorem q456 : (Jvm.Cond.selects "java/lang/String" ({ cls := "java/lang/String", name := "coder", desc := "()B" } : Jvm.MethodName) ({ cls := "java/lang/String", name := "coder", desc := "()B" } : Jvm.MethodName)) ∈ lw_all := lw_g (lw_at lw_m2 107 rfl) rfl
theorem q457 : (Jvm.Cond.code ({ cls := "java/lang/String", name := "coder", desc := "()B" } : Jvm.MethodName) prog_24_method_152_code (1 : Nat) (Option.some Jvm.ClassFile.FieldType.byte)) ∈ lw_all := lw_g (lw_at lw_m2 108 rfl) rfl
theorem q458 : (Jvm.Cond.methodLink "java/lang/String" (637 : Nat) ({ cls := "java/lang/StringLatin1", name := "indexOf", desc := "([BIII)I" } : Jvm.MethodName)) ∈ lw_all := lw_g (lw_at lw_m2 109 rfl) rfl
theorem q473 : (Jvm.Cond.methodLink "java/lang/String" (640 : Nat) ({ cls := "java/lang/StringUTF16", name := "indexOf", desc := "([BIII)I" } : Jvm.MethodName)) ∈ lw_all := lw_g (lw_at lw_m2 124 rfl) rfl
theorem q489 : (Jvm.Cond.static ({ cls := "java/lang/String", name := "checkBoundsBeginEnd", desc := "(III)V" } : Jvm.MethodName)) ∈ lw_all := lw_g (lw_at lw_m2 140 rfl) rfl
theorem q490 : (Jvm.Cond.code ({ cls := "java/lang/String", name := "checkBoundsBeginEnd", desc := "(III)V" } : Jvm.MethodName) prog_24_method_158_code (3 : Nat) (Option.none : Option Jvm.ClassFile.FieldType)) ∈ lw_all := lw_g (lw_at lw_m2 141 rfl) rfl
theorem q491 : (Jvm.Cond.fieldLink "java/lang/String" (1053 : Nat) "jdk/internal/util/Preconditions" "SIOOBE_FORMATTER" "Ljava/util/function/BiFunction;") ∈ lw_all := lw_g (lw_at lw_m2 142 rfl) rfl
theorem q493 : (Jvm.Cond.methodLink "java/lang/String" (1062 : Nat) ({ cls := "jdk/internal/util/Preconditions", name := "checkFromToIndex", desc := "(IIILjava/util/function/BiFunction;)I" } : Jvm.MethodName)) ∈ lw_all := lw_g (lw_at lw_m2 144 rfl) rfl
theorem q1838 : (Jvm.Cond.fieldLink "java/lang/String" (15 : Nat) "java/lang/String" "coder" "B") ∈ lw_all := lw_g (lw_at lw_m8 49 rfl) rfl
theorem q1839 : (Jvm.Cond.fieldLink "java/lang/String" (9 : Nat) "java/lang/String" "value" "[B") ∈ lw_all := lw_g (lw_at lw_m8 50 rfl) rfl
/-! java/lang/StringLatin1 -/
set_option maxRecDepth 100000
def RJ1 : String := "java/lang/StringLatin1"
abbrev cJ1_indexOf : ByteArray := prog_25_method_22_code
def yJ1_indexOf : MethodName := ⟨RJ1, "indexOf", "([BIII)I"⟩
def dkwJ1_indexOf_1 : List UInt8 := [161, 0, 5, 2, 172, 42, 27, 28, 29, 184, 0, 95, 172]
abbrev dktJ1_indexOf_1 : List UInt8 := dkwJ1_indexOf_1 ++ []
def dkwJ1_indexOf_0 : List UInt8 := [27, 184, 0, 88, 154, 0, 5, 2, 172, 28, 3, 184, 0, 92, 61, 29, 42, 190, 184, 0, 38, 62, 28, 29]
abbrev dktJ1_indexOf_0 : List UInt8 := dkwJ1_indexOf_0 ++ dktJ1_indexOf_1
theorem dksJ1_indexOf_0 : cJ1_indexOf.data.toList.drop 0 = dktJ1_indexOf_0 := by decide +kernel
theorem dksJ1_indexOf_1 : cJ1_indexOf.data.toList.drop 24 = dktJ1_indexOf_1 := dk_seg dksJ1_indexOf_0 24 rfl rfl
theorem dJ1_indexOf_0 : decode cJ1_indexOf 0 = .ok (.iload_n 1, 1) := dk_27 (dk_at dksJ1_indexOf_0 0 rfl rfl)
theorem dJ1_indexOf_1 : decode cJ1_indexOf 1 = .ok (.invokestatic 88, 3) := dk_184 0 88 (dk_at dksJ1_indexOf_0 1 rfl rfl)
theorem dJ1_indexOf_4 : decode cJ1_indexOf 4 = .ok (.ifCond .ne 5, 3) := dk_154 0 5 (dk_at dksJ1_indexOf_0 4 rfl rfl)
theorem dJ1_indexOf_7 : decode cJ1_indexOf 7 = .ok (.iconst (-1), 1) := dk_2 (dk_at dksJ1_indexOf_0 7 rfl rfl)
theorem dJ1_indexOf_8 : decode cJ1_indexOf 8 = .ok (.ireturn, 1) := dk_172 (dk_at dksJ1_indexOf_0 8 rfl rfl)
theorem dJ1_indexOf_9 : decode cJ1_indexOf 9 = .ok (.iload_n 2, 1) := dk_28 (dk_at dksJ1_indexOf_0 9 rfl rfl)
theorem dJ1_indexOf_10 : decode cJ1_indexOf 10 = .ok (.iconst 0, 1) := dk_3 (dk_at dksJ1_indexOf_0 10 rfl rfl)
theorem dJ1_indexOf_11 : decode cJ1_indexOf 11 = .ok (.invokestatic 92, 3) := dk_184 0 92 (dk_at dksJ1_indexOf_0 11 rfl rfl)
theorem dJ1_indexOf_14 : decode cJ1_indexOf 14 = .ok (.istore_n 2, 1) := dk_61 (dk_at dksJ1_indexOf_0 14 rfl rfl)
theorem dJ1_indexOf_15 : decode cJ1_indexOf 15 = .ok (.iload_n 3, 1) := dk_29 (dk_at dksJ1_indexOf_0 15 rfl rfl)
theorem dJ1_indexOf_16 : decode cJ1_indexOf 16 = .ok (.aload_n 0, 1) := dk_42 (dk_at dksJ1_indexOf_0 16 rfl rfl)
theorem dJ1_indexOf_17 : decode cJ1_indexOf 17 = .ok (.arraylength, 1) := dk_190 (dk_at dksJ1_indexOf_0 17 rfl rfl)
theorem dJ1_indexOf_18 : decode cJ1_indexOf 18 = .ok (.invokestatic 38, 3) := dk_184 0 38 (dk_at dksJ1_indexOf_0 18 rfl rfl)
theorem dJ1_indexOf_21 : decode cJ1_indexOf 21 = .ok (.istore_n 3, 1) := dk_62 (dk_at dksJ1_indexOf_0 21 rfl rfl)
theorem dJ1_indexOf_22 : decode cJ1_indexOf 22 = .ok (.iload_n 2, 1) := dk_28 (dk_at dksJ1_indexOf_0 22 rfl rfl)
theorem dJ1_indexOf_23 : decode cJ1_indexOf 23 = .ok (.iload_n 3, 1) := dk_29 (dk_at dksJ1_indexOf_0 23 rfl rfl)
theorem dJ1_indexOf_24 : decode cJ1_indexOf 24 = .ok (.if_icmp .lt 5, 3) := dk_161 0 5 (dk_at dksJ1_indexOf_1 0 rfl rfl)
theorem dJ1_indexOf_27 : decode cJ1_indexOf 27 = .ok (.iconst (-1), 1) := dk_2 (dk_at dksJ1_indexOf_1 3 rfl rfl)
theorem dJ1_indexOf_28 : decode cJ1_indexOf 28 = .ok (.ireturn, 1) := dk_172 (dk_at dksJ1_indexOf_1 4 rfl rfl)
theorem dJ1_indexOf_29 : decode cJ1_indexOf 29 = .ok (.aload_n 0, 1) := dk_42 (dk_at dksJ1_indexOf_1 5 rfl rfl)
theorem dJ1_indexOf_30 : decode cJ1_indexOf 30 = .ok (.iload_n 1, 1) := dk_27 (dk_at dksJ1_indexOf_1 6 rfl rfl)
theorem dJ1_indexOf_31 : decode cJ1_indexOf 31 = .ok (.iload_n 2, 1) := dk_28 (dk_at dksJ1_indexOf_1 7 rfl rfl)
theorem dJ1_indexOf_32 : decode cJ1_indexOf 32 = .ok (.iload_n 3, 1) := dk_29 (dk_at dksJ1_indexOf_1 8 rfl rfl)
theorem dJ1_indexOf_33 : decode cJ1_indexOf 33 = .ok (.invokestatic 95, 3) := dk_184 0 95 (dk_at dksJ1_indexOf_1 9 rfl rfl)
theorem dJ1_indexOf_36 : decode cJ1_indexOf 36 = .ok (.ireturn, 1) := dk_172 (dk_at dksJ1_indexOf_1 12 rfl rfl)
abbrev cJ1_canEncode : ByteArray := prog_25_method_4_code
def yJ1_canEncode : MethodName := ⟨RJ1, "canEncode", "(I)Z"⟩
def dkwJ1_canEncode_0 : List UInt8 := [26, 155, 0, 14, 26, 17, 0, 255, 163, 0, 7, 4, 167, 0, 4, 3, 172]
abbrev dktJ1_canEncode_0 : List UInt8 := dkwJ1_canEncode_0 ++ []
theorem dksJ1_canEncode_0 : cJ1_canEncode.data.toList.drop 0 = dktJ1_canEncode_0 := by decide +kernel
theorem dJ1_canEncode_0 : decode cJ1_canEncode 0 = .ok (.iload_n 0, 1) := dk_26 (dk_at dksJ1_canEncode_0 0 rfl rfl)
theorem dJ1_canEncode_1 : decode cJ1_canEncode 1 = .ok (.ifCond .lt 14, 3) := dk_155 0 14 (dk_at dksJ1_canEncode_0 1 rfl rfl)
theorem dJ1_canEncode_4 : decode cJ1_canEncode 4 = .ok (.iload_n 0, 1) := dk_26 (dk_at dksJ1_canEncode_0 4 rfl rfl)
theorem dJ1_canEncode_5 : decode cJ1_canEncode 5 = .ok (.sipush 255, 3) := dk_17 0 255 (dk_at dksJ1_canEncode_0 5 rfl rfl)
theorem dJ1_canEncode_8 : decode cJ1_canEncode 8 = .ok (.if_icmp .gt 7, 3) := dk_163 0 7 (dk_at dksJ1_canEncode_0 8 rfl rfl)
theorem dJ1_canEncode_11 : decode cJ1_canEncode 11 = .ok (.iconst 1, 1) := dk_4 (dk_at dksJ1_canEncode_0 11 rfl rfl)
theorem dJ1_canEncode_12 : decode cJ1_canEncode 12 = .ok (.goto 4, 3) := dk_167 0 4 (dk_at dksJ1_canEncode_0 12 rfl rfl)
theorem dJ1_canEncode_15 : decode cJ1_canEncode 15 = .ok (.iconst 0, 1) := dk_3 (dk_at dksJ1_canEncode_0 15 rfl rfl)
theorem dJ1_canEncode_16 : decode cJ1_canEncode 16 = .ok (.ireturn, 1) := dk_172 (dk_at dksJ1_canEncode_0 16 rfl rfl)
abbrev cJ1_indexOfChar : ByteArray := prog_25_method_23_code
def yJ1_indexOfChar : MethodName := ⟨RJ1, "indexOfChar", "([BIII)I"⟩
def dkwJ1_indexOfChar_1 : List UInt8 := [172, 132, 5, 1, 167, 255, 235, 2, 172]
abbrev dktJ1_indexOfChar_1 : List UInt8 := dkwJ1_indexOfChar_1 ++ []
def dkwJ1_indexOfChar_0 : List UInt8 := [27, 145, 54, 4, 28, 54, 5, 21, 5, 29, 162, 0, 21, 42, 21, 5, 51, 21, 4, 160, 0, 6, 21, 5]
abbrev dktJ1_indexOfChar_0 : List UInt8 := dkwJ1_indexOfChar_0 ++ dktJ1_indexOfChar_1
theorem dksJ1_indexOfChar_0 : cJ1_indexOfChar.data.toList.drop 0 = dktJ1_indexOfChar_0 := by decide +kernel
theorem dksJ1_indexOfChar_1 : cJ1_indexOfChar.data.toList.drop 24 = dktJ1_indexOfChar_1 := dk_seg dksJ1_indexOfChar_0 24 rfl rfl
theorem dJ1_indexOfChar_0 : decode cJ1_indexOfChar 0 = .ok (.iload_n 1, 1) := dk_27 (dk_at dksJ1_indexOfChar_0 0 rfl rfl)
theorem dJ1_indexOfChar_1 : decode cJ1_indexOfChar 1 = .ok (.i2b, 1) := dk_145 (dk_at dksJ1_indexOfChar_0 1 rfl rfl)
theorem dJ1_indexOfChar_2 : decode cJ1_indexOfChar 2 = .ok (.istore 4, 2) := dk_54 4 (dk_at dksJ1_indexOfChar_0 2 rfl rfl)
theorem dJ1_indexOfChar_4 : decode cJ1_indexOfChar 4 = .ok (.iload_n 2, 1) := dk_28 (dk_at dksJ1_indexOfChar_0 4 rfl rfl)
theorem dJ1_indexOfChar_5 : decode cJ1_indexOfChar 5 = .ok (.istore 5, 2) := dk_54 5 (dk_at dksJ1_indexOfChar_0 5 rfl rfl)
theorem dJ1_indexOfChar_7 : decode cJ1_indexOfChar 7 = .ok (.iload 5, 2) := dk_21 5 (dk_at dksJ1_indexOfChar_0 7 rfl rfl)
theorem dJ1_indexOfChar_9 : decode cJ1_indexOfChar 9 = .ok (.iload_n 3, 1) := dk_29 (dk_at dksJ1_indexOfChar_0 9 rfl rfl)
theorem dJ1_indexOfChar_10 : decode cJ1_indexOfChar 10 = .ok (.if_icmp .ge 21, 3) := dk_162 0 21 (dk_at dksJ1_indexOfChar_0 10 rfl rfl)
theorem dJ1_indexOfChar_13 : decode cJ1_indexOfChar 13 = .ok (.aload_n 0, 1) := dk_42 (dk_at dksJ1_indexOfChar_0 13 rfl rfl)
theorem dJ1_indexOfChar_14 : decode cJ1_indexOfChar 14 = .ok (.iload 5, 2) := dk_21 5 (dk_at dksJ1_indexOfChar_0 14 rfl rfl)
theorem dJ1_indexOfChar_16 : decode cJ1_indexOfChar 16 = .ok (.baload, 1) := dk_51 (dk_at dksJ1_indexOfChar_0 16 rfl rfl)
theorem dJ1_indexOfChar_17 : decode cJ1_indexOfChar 17 = .ok (.iload 4, 2) := dk_21 4 (dk_at dksJ1_indexOfChar_0 17 rfl rfl)
theorem dJ1_indexOfChar_19 : decode cJ1_indexOfChar 19 = .ok (.if_icmp .ne 6, 3) := dk_160 0 6 (dk_at dksJ1_indexOfChar_0 19 rfl rfl)
theorem dJ1_indexOfChar_22 : decode cJ1_indexOfChar 22 = .ok (.iload 5, 2) := dk_21 5 (dk_at dksJ1_indexOfChar_0 22 rfl rfl)
theorem dJ1_indexOfChar_24 : decode cJ1_indexOfChar 24 = .ok (.ireturn, 1) := dk_172 (dk_at dksJ1_indexOfChar_1 0 rfl rfl)
theorem dJ1_indexOfChar_25 : decode cJ1_indexOfChar 25 = .ok (.iinc 5 1, 3) := dk_132 5 1 (dk_at dksJ1_indexOfChar_1 1 rfl rfl)
theorem dJ1_indexOfChar_28 : decode cJ1_indexOfChar 28 = .ok (.goto (-21), 3) := dk_167 255 235 (dk_at dksJ1_indexOfChar_1 4 rfl rfl)
theorem dJ1_indexOfChar_31 : decode cJ1_indexOfChar 31 = .ok (.iconst (-1), 1) := dk_2 (dk_at dksJ1_indexOfChar_1 7 rfl rfl)
theorem dJ1_indexOfChar_32 : decode cJ1_indexOfChar 32 = .ok (.ireturn, 1) := dk_172 (dk_at dksJ1_indexOfChar_1 8 rfl rfl)
theorem q119 : (Jvm.Cond.initialized "java/lang/StringLatin1") ∈ lw_all := lw_g (lw_at lw_m1 10 rfl) rfl
theorem q459 : (Jvm.Cond.static ({ cls := "java/lang/StringLatin1", name := "indexOf", desc := "([BIII)I" } : Jvm.MethodName)) ∈ lw_all := lw_g (lw_at lw_m2 110 rfl) rfl
theorem q460 : (Jvm.Cond.code ({ cls := "java/lang/StringLatin1", name := "indexOf", desc := "([BIII)I" } : Jvm.MethodName) prog_25_method_22_code (4 : Nat) (Option.some Jvm.ClassFile.FieldType.int)) ∈ lw_all := lw_g (lw_at lw_m2 111 rfl) rfl
theorem q461 : (Jvm.Cond.methodLink "java/lang/StringLatin1" (88 : Nat) ({ cls := "java/lang/StringLatin1", name := "canEncode", desc := "(I)Z" } : Jvm.MethodName)) ∈ lw_all := lw_g (lw_at lw_m2 112 rfl) rfl
theorem q462 : (Jvm.Cond.static ({ cls := "java/lang/StringLatin1", name := "canEncode", desc := "(I)Z" } : Jvm.MethodName)) ∈ lw_all := lw_g (lw_at lw_m2 113 rfl) rfl
theorem q463 : (Jvm.Cond.code ({ cls := "java/lang/StringLatin1", name := "canEncode", desc := "(I)Z" } : Jvm.MethodName) prog_25_method_4_code (1 : Nat) (Option.some Jvm.ClassFile.FieldType.boolean)) ∈ lw_all := lw_g (lw_at lw_m2 114 rfl) rfl
theorem q464 : (Jvm.Cond.methodLink "java/lang/StringLatin1" (92 : Nat) ({ cls := "java/lang/Math", name := "max", desc := "(II)I" } : Jvm.MethodName)) ∈ lw_all := lw_g (lw_at lw_m2 115 rfl) rfl
theorem q467 : (Jvm.Cond.methodLink "java/lang/StringLatin1" (38 : Nat) ({ cls := "java/lang/Math", name := "min", desc := "(II)I" } : Jvm.MethodName)) ∈ lw_all := lw_g (lw_at lw_m2 118 rfl) rfl
theorem q470 : (Jvm.Cond.methodLink "java/lang/StringLatin1" (95 : Nat) ({ cls := "java/lang/StringLatin1", name := "indexOfChar", desc := "([BIII)I" } : Jvm.MethodName)) ∈ lw_all := lw_g (lw_at lw_m2 121 rfl) rfl
theorem q471 : (Jvm.Cond.static ({ cls := "java/lang/StringLatin1", name := "indexOfChar", desc := "([BIII)I" } : Jvm.MethodName)) ∈ lw_all := lw_g (lw_at lw_m2 122 rfl) rfl
theorem q472 : (Jvm.Cond.code ({ cls := "java/lang/StringLatin1", name := "indexOfChar", desc := "([BIII)I" } : Jvm.MethodName) prog_25_method_23_code (6 : Nat) (Option.some Jvm.ClassFile.FieldType.int)) ∈ lw_all := lw_g (lw_at lw_m2 123 rfl) rfl
/-! java/lang/Math -/
set_option maxRecDepth 100000
def RJ2 : String := "java/lang/Math"
abbrev cJ2_max : ByteArray := prog_23_method_65_code
def yJ2_max : MethodName := ⟨RJ2, "max", "(II)I"⟩
def dkwJ2_max_0 : List UInt8 := [26, 27, 161, 0, 7, 26, 167, 0, 4, 27, 172]
abbrev dktJ2_max_0 : List UInt8 := dkwJ2_max_0 ++ []
theorem dksJ2_max_0 : cJ2_max.data.toList.drop 0 = dktJ2_max_0 := by decide +kernel
theorem dJ2_max_0 : decode cJ2_max 0 = .ok (.iload_n 0, 1) := dk_26 (dk_at dksJ2_max_0 0 rfl rfl)
theorem dJ2_max_1 : decode cJ2_max 1 = .ok (.iload_n 1, 1) := dk_27 (dk_at dksJ2_max_0 1 rfl rfl)
theorem dJ2_max_2 : decode cJ2_max 2 = .ok (.if_icmp .lt 7, 3) := dk_161 0 7 (dk_at dksJ2_max_0 2 rfl rfl)
theorem dJ2_max_5 : decode cJ2_max 5 = .ok (.iload_n 0, 1) := dk_26 (dk_at dksJ2_max_0 5 rfl rfl)
theorem dJ2_max_6 : decode cJ2_max 6 = .ok (.goto 4, 3) := dk_167 0 4 (dk_at dksJ2_max_0 6 rfl rfl)
theorem dJ2_max_9 : decode cJ2_max 9 = .ok (.iload_n 1, 1) := dk_27 (dk_at dksJ2_max_0 9 rfl rfl)
theorem dJ2_max_10 : decode cJ2_max 10 = .ok (.ireturn, 1) := dk_172 (dk_at dksJ2_max_0 10 rfl rfl)
abbrev cJ2_min : ByteArray := prog_23_method_69_code
def yJ2_min : MethodName := ⟨RJ2, "min", "(II)I"⟩
def dkwJ2_min_0 : List UInt8 := [26, 27, 163, 0, 7, 26, 167, 0, 4, 27, 172]
abbrev dktJ2_min_0 : List UInt8 := dkwJ2_min_0 ++ []
theorem dksJ2_min_0 : cJ2_min.data.toList.drop 0 = dktJ2_min_0 := by decide +kernel
theorem dJ2_min_0 : decode cJ2_min 0 = .ok (.iload_n 0, 1) := dk_26 (dk_at dksJ2_min_0 0 rfl rfl)
theorem dJ2_min_1 : decode cJ2_min 1 = .ok (.iload_n 1, 1) := dk_27 (dk_at dksJ2_min_0 1 rfl rfl)
theorem dJ2_min_2 : decode cJ2_min 2 = .ok (.if_icmp .gt 7, 3) := dk_163 0 7 (dk_at dksJ2_min_0 2 rfl rfl)
theorem dJ2_min_5 : decode cJ2_min 5 = .ok (.iload_n 0, 1) := dk_26 (dk_at dksJ2_min_0 5 rfl rfl)
theorem dJ2_min_6 : decode cJ2_min 6 = .ok (.goto 4, 3) := dk_167 0 4 (dk_at dksJ2_min_0 6 rfl rfl)
theorem dJ2_min_9 : decode cJ2_min 9 = .ok (.iload_n 1, 1) := dk_27 (dk_at dksJ2_min_0 9 rfl rfl)
theorem dJ2_min_10 : decode cJ2_min 10 = .ok (.ireturn, 1) := dk_172 (dk_at dksJ2_min_0 10 rfl rfl)
abbrev cJ2_floorMod : ByteArray := prog_23_method_50_code
def yJ2_floorMod : MethodName := ⟨RJ2, "floorMod", "(II)I"⟩
def dkwJ2_floorMod_0 : List UInt8 := [26, 27, 112, 61, 26, 27, 130, 156, 0, 11, 28, 153, 0, 7, 28, 27, 96, 172, 28, 172]
abbrev dktJ2_floorMod_0 : List UInt8 := dkwJ2_floorMod_0 ++ []
theorem dksJ2_floorMod_0 : cJ2_floorMod.data.toList.drop 0 = dktJ2_floorMod_0 := by decide +kernel
theorem dJ2_floorMod_0 : decode cJ2_floorMod 0 = .ok (.iload_n 0, 1) := dk_26 (dk_at dksJ2_floorMod_0 0 rfl rfl)
theorem dJ2_floorMod_1 : decode cJ2_floorMod 1 = .ok (.iload_n 1, 1) := dk_27 (dk_at dksJ2_floorMod_0 1 rfl rfl)
theorem dJ2_floorMod_2 : decode cJ2_floorMod 2 = .ok (.irem, 1) := dk_112 (dk_at dksJ2_floorMod_0 2 rfl rfl)
theorem dJ2_floorMod_3 : decode cJ2_floorMod 3 = .ok (.istore_n 2, 1) := dk_61 (dk_at dksJ2_floorMod_0 3 rfl rfl)
theorem dJ2_floorMod_4 : decode cJ2_floorMod 4 = .ok (.iload_n 0, 1) := dk_26 (dk_at dksJ2_floorMod_0 4 rfl rfl)
theorem dJ2_floorMod_5 : decode cJ2_floorMod 5 = .ok (.iload_n 1, 1) := dk_27 (dk_at dksJ2_floorMod_0 5 rfl rfl)
theorem dJ2_floorMod_6 : decode cJ2_floorMod 6 = .ok (.ixor, 1) := dk_130 (dk_at dksJ2_floorMod_0 6 rfl rfl)
theorem dJ2_floorMod_7 : decode cJ2_floorMod 7 = .ok (.ifCond .ge 11, 3) := dk_156 0 11 (dk_at dksJ2_floorMod_0 7 rfl rfl)
theorem dJ2_floorMod_10 : decode cJ2_floorMod 10 = .ok (.iload_n 2, 1) := dk_28 (dk_at dksJ2_floorMod_0 10 rfl rfl)
theorem dJ2_floorMod_11 : decode cJ2_floorMod 11 = .ok (.ifCond .eq 7, 3) := dk_153 0 7 (dk_at dksJ2_floorMod_0 11 rfl rfl)
theorem dJ2_floorMod_14 : decode cJ2_floorMod 14 = .ok (.iload_n 2, 1) := dk_28 (dk_at dksJ2_floorMod_0 14 rfl rfl)
theorem dJ2_floorMod_15 : decode cJ2_floorMod 15 = .ok (.iload_n 1, 1) := dk_27 (dk_at dksJ2_floorMod_0 15 rfl rfl)
theorem dJ2_floorMod_16 : decode cJ2_floorMod 16 = .ok (.iadd, 1) := dk_96 (dk_at dksJ2_floorMod_0 16 rfl rfl)
theorem dJ2_floorMod_17 : decode cJ2_floorMod 17 = .ok (.ireturn, 1) := dk_172 (dk_at dksJ2_floorMod_0 17 rfl rfl)
theorem dJ2_floorMod_18 : decode cJ2_floorMod 18 = .ok (.iload_n 2, 1) := dk_28 (dk_at dksJ2_floorMod_0 18 rfl rfl)
theorem dJ2_floorMod_19 : decode cJ2_floorMod 19 = .ok (.ireturn, 1) := dk_172 (dk_at dksJ2_floorMod_0 19 rfl rfl)
abbrev cJ2_abs : ByteArray := prog_23_method_59_code
def yJ2_abs : MethodName := ⟨RJ2, "abs", "(I)I"⟩
def dkwJ2_abs_0 : List UInt8 := [26, 156, 0, 8, 26, 116, 167, 0, 4, 26, 172]
abbrev dktJ2_abs_0 : List UInt8 := dkwJ2_abs_0 ++ []
theorem dksJ2_abs_0 : cJ2_abs.data.toList.drop 0 = dktJ2_abs_0 := by decide +kernel
theorem dJ2_abs_0 : decode cJ2_abs 0 = .ok (.iload_n 0, 1) := dk_26 (dk_at dksJ2_abs_0 0 rfl rfl)
theorem dJ2_abs_1 : decode cJ2_abs 1 = .ok (.ifCond .ge 8, 3) := dk_156 0 8 (dk_at dksJ2_abs_0 1 rfl rfl)
theorem dJ2_abs_4 : decode cJ2_abs 4 = .ok (.iload_n 0, 1) := dk_26 (dk_at dksJ2_abs_0 4 rfl rfl)
theorem dJ2_abs_5 : decode cJ2_abs 5 = .ok (.ineg, 1) := dk_116 (dk_at dksJ2_abs_0 5 rfl rfl)
theorem dJ2_abs_6 : decode cJ2_abs 6 = .ok (.goto 4, 3) := dk_167 0 4 (dk_at dksJ2_abs_0 6 rfl rfl)
theorem dJ2_abs_9 : decode cJ2_abs 9 = .ok (.iload_n 0, 1) := dk_26 (dk_at dksJ2_abs_0 9 rfl rfl)
theorem dJ2_abs_10 : decode cJ2_abs 10 = .ok (.ireturn, 1) := dk_172 (dk_at dksJ2_abs_0 10 rfl rfl)
theorem q120 : (Jvm.Cond.initialized "java/lang/Math") ∈ lw_all := lw_g (lw_at lw_m1 11 rfl) rfl
theorem q465 : (Jvm.Cond.static ({ cls := "java/lang/Math", name := "max", desc := "(II)I" } : Jvm.MethodName)) ∈ lw_all := lw_g (lw_at lw_m2 116 rfl) rfl
theorem q466 : (Jvm.Cond.code ({ cls := "java/lang/Math", name := "max", desc := "(II)I" } : Jvm.MethodName) prog_23_method_65_code (2 : Nat) (Option.some Jvm.ClassFile.FieldType.int)) ∈ lw_all := lw_g (lw_at lw_m2 117 rfl) rfl
theorem q468 : (Jvm.Cond.static ({ cls := "java/lang/Math", name := "min", desc := "(II)I" } : Jvm.MethodName)) ∈ lw_all := lw_g (lw_at lw_m2 119 rfl) rfl
theorem q469 : (Jvm.Cond.code ({ cls := "java/lang/Math", name := "min", desc := "(II)I" } : Jvm.MethodName) prog_23_method_69_code (2 : Nat) (Option.some Jvm.ClassFile.FieldType.int)) ∈ lw_all := lw_g (lw_at lw_m2 120 rfl) rfl
theorem q903 : (Jvm.Cond.static ({ cls := "java/lang/Math", name := "floorMod", desc := "(II)I" } : Jvm.MethodName)) ∈ lw_all := lw_g (lw_at lw_m4 74 rfl) rfl
theorem q904 : (Jvm.Cond.code ({ cls := "java/lang/Math", name := "floorMod", desc := "(II)I" } : Jvm.MethodName) prog_23_method_50_code (3 : Nat) (Option.some Jvm.ClassFile.FieldType.int)) ∈ lw_all := lw_g (lw_at lw_m4 75 rfl) rfl
theorem q916 : (Jvm.Cond.static ({ cls := "java/lang/Math", name := "abs", desc := "(I)I" } : Jvm.MethodName)) ∈ lw_all := lw_g (lw_at lw_m4 87 rfl) rfl
theorem q917 : (Jvm.Cond.code ({ cls := "java/lang/Math", name := "abs", desc := "(I)I" } : Jvm.MethodName) prog_23_method_59_code (1 : Nat) (Option.some Jvm.ClassFile.FieldType.int)) ∈ lw_all := lw_g (lw_at lw_m4 88 rfl) rfl
/-! java/lang/StringUTF16 -/
set_option maxRecDepth 100000
def RJ3 : String := "java/lang/StringUTF16"
abbrev cJ3_indexOf : ByteArray := prog_26_method_40_code
def yJ3_indexOf : MethodName := ⟨RJ3, "indexOf", "([BIII)I"⟩
def dkwJ3_indexOf_1 : List UInt8 := [18, 227, 162, 0, 11, 42, 27, 28, 29, 184, 0, 228, 172, 42, 27, 28, 29, 184, 0, 232, 172]
abbrev dktJ3_indexOf_1 : List UInt8 := dkwJ3_indexOf_1 ++ []
def dkwJ3_indexOf_0 : List UInt8 := [28, 3, 184, 0, 224, 61, 29, 42, 190, 4, 122, 184, 0, 183, 62, 28, 29, 161, 0, 5, 2, 172, 27]
abbrev dktJ3_indexOf_0 : List UInt8 := dkwJ3_indexOf_0 ++ dktJ3_indexOf_1
theorem dksJ3_indexOf_0 : cJ3_indexOf.data.toList.drop 0 = dktJ3_indexOf_0 := by decide +kernel
theorem dksJ3_indexOf_1 : cJ3_indexOf.data.toList.drop 23 = dktJ3_indexOf_1 := dk_seg dksJ3_indexOf_0 23 rfl rfl
theorem dJ3_indexOf_0 : decode cJ3_indexOf 0 = .ok (.iload_n 2, 1) := dk_28 (dk_at dksJ3_indexOf_0 0 rfl rfl)
theorem dJ3_indexOf_1 : decode cJ3_indexOf 1 = .ok (.iconst 0, 1) := dk_3 (dk_at dksJ3_indexOf_0 1 rfl rfl)
theorem dJ3_indexOf_2 : decode cJ3_indexOf 2 = .ok (.invokestatic 224, 3) := dk_184 0 224 (dk_at dksJ3_indexOf_0 2 rfl rfl)
theorem dJ3_indexOf_5 : decode cJ3_indexOf 5 = .ok (.istore_n 2, 1) := dk_61 (dk_at dksJ3_indexOf_0 5 rfl rfl)
theorem dJ3_indexOf_6 : decode cJ3_indexOf 6 = .ok (.iload_n 3, 1) := dk_29 (dk_at dksJ3_indexOf_0 6 rfl rfl)
theorem dJ3_indexOf_7 : decode cJ3_indexOf 7 = .ok (.aload_n 0, 1) := dk_42 (dk_at dksJ3_indexOf_0 7 rfl rfl)
theorem dJ3_indexOf_8 : decode cJ3_indexOf 8 = .ok (.arraylength, 1) := dk_190 (dk_at dksJ3_indexOf_0 8 rfl rfl)
theorem dJ3_indexOf_9 : decode cJ3_indexOf 9 = .ok (.iconst 1, 1) := dk_4 (dk_at dksJ3_indexOf_0 9 rfl rfl)
theorem dJ3_indexOf_10 : decode cJ3_indexOf 10 = .ok (.ishr, 1) := dk_122 (dk_at dksJ3_indexOf_0 10 rfl rfl)
theorem dJ3_indexOf_11 : decode cJ3_indexOf 11 = .ok (.invokestatic 183, 3) := dk_184 0 183 (dk_at dksJ3_indexOf_0 11 rfl rfl)
theorem dJ3_indexOf_14 : decode cJ3_indexOf 14 = .ok (.istore_n 3, 1) := dk_62 (dk_at dksJ3_indexOf_0 14 rfl rfl)
theorem dJ3_indexOf_15 : decode cJ3_indexOf 15 = .ok (.iload_n 2, 1) := dk_28 (dk_at dksJ3_indexOf_0 15 rfl rfl)
theorem dJ3_indexOf_16 : decode cJ3_indexOf 16 = .ok (.iload_n 3, 1) := dk_29 (dk_at dksJ3_indexOf_0 16 rfl rfl)
theorem dJ3_indexOf_17 : decode cJ3_indexOf 17 = .ok (.if_icmp .lt 5, 3) := dk_161 0 5 (dk_at dksJ3_indexOf_0 17 rfl rfl)
theorem dJ3_indexOf_20 : decode cJ3_indexOf 20 = .ok (.iconst (-1), 1) := dk_2 (dk_at dksJ3_indexOf_0 20 rfl rfl)
theorem dJ3_indexOf_21 : decode cJ3_indexOf 21 = .ok (.ireturn, 1) := dk_172 (dk_at dksJ3_indexOf_0 21 rfl rfl)
theorem dJ3_indexOf_22 : decode cJ3_indexOf 22 = .ok (.iload_n 1, 1) := dk_27 (dk_at dksJ3_indexOf_0 22 rfl rfl)
theorem dJ3_indexOf_23 : decode cJ3_indexOf 23 = .ok (.ldc 227, 2) := dk_18 227 (dk_at dksJ3_indexOf_1 0 rfl rfl)
theorem dJ3_indexOf_25 : decode cJ3_indexOf 25 = .ok (.if_icmp .ge 11, 3) := dk_162 0 11 (dk_at dksJ3_indexOf_1 2 rfl rfl)
theorem dJ3_indexOf_28 : decode cJ3_indexOf 28 = .ok (.aload_n 0, 1) := dk_42 (dk_at dksJ3_indexOf_1 5 rfl rfl)
theorem dJ3_indexOf_29 : decode cJ3_indexOf 29 = .ok (.iload_n 1, 1) := dk_27 (dk_at dksJ3_indexOf_1 6 rfl rfl)
theorem dJ3_indexOf_30 : decode cJ3_indexOf 30 = .ok (.iload_n 2, 1) := dk_28 (dk_at dksJ3_indexOf_1 7 rfl rfl)
theorem dJ3_indexOf_31 : decode cJ3_indexOf 31 = .ok (.iload_n 3, 1) := dk_29 (dk_at dksJ3_indexOf_1 8 rfl rfl)
theorem dJ3_indexOf_32 : decode cJ3_indexOf 32 = .ok (.invokestatic 228, 3) := dk_184 0 228 (dk_at dksJ3_indexOf_1 9 rfl rfl)
theorem dJ3_indexOf_35 : decode cJ3_indexOf 35 = .ok (.ireturn, 1) := dk_172 (dk_at dksJ3_indexOf_1 12 rfl rfl)
theorem dJ3_indexOf_36 : decode cJ3_indexOf 36 = .ok (.aload_n 0, 1) := dk_42 (dk_at dksJ3_indexOf_1 13 rfl rfl)
theorem dJ3_indexOf_37 : decode cJ3_indexOf 37 = .ok (.iload_n 1, 1) := dk_27 (dk_at dksJ3_indexOf_1 14 rfl rfl)
theorem dJ3_indexOf_38 : decode cJ3_indexOf 38 = .ok (.iload_n 2, 1) := dk_28 (dk_at dksJ3_indexOf_1 15 rfl rfl)
theorem dJ3_indexOf_39 : decode cJ3_indexOf 39 = .ok (.iload_n 3, 1) := dk_29 (dk_at dksJ3_indexOf_1 16 rfl rfl)
theorem dJ3_indexOf_40 : decode cJ3_indexOf 40 = .ok (.invokestatic 232, 3) := dk_184 0 232 (dk_at dksJ3_indexOf_1 17 rfl rfl)
theorem dJ3_indexOf_43 : decode cJ3_indexOf 43 = .ok (.ireturn, 1) := dk_172 (dk_at dksJ3_indexOf_1 20 rfl rfl)
abbrev cJ3_indexOfChar : ByteArray := prog_26_method_47_code
def yJ3_indexOfChar : MethodName := ⟨RJ3, "indexOfChar", "([BIII)I"⟩
def dkwJ3_indexOfChar_0 : List UInt8 := [28, 29, 42, 184, 0, 96, 42, 27, 28, 29, 184, 0, 244, 172]
abbrev dktJ3_indexOfChar_0 : List UInt8 := dkwJ3_indexOfChar_0 ++ []
theorem dksJ3_indexOfChar_0 : cJ3_indexOfChar.data.toList.drop 0 = dktJ3_indexOfChar_0 := by decide +kernel
theorem dJ3_indexOfChar_0 : decode cJ3_indexOfChar 0 = .ok (.iload_n 2, 1) := dk_28 (dk_at dksJ3_indexOfChar_0 0 rfl rfl)
theorem dJ3_indexOfChar_1 : decode cJ3_indexOfChar 1 = .ok (.iload_n 3, 1) := dk_29 (dk_at dksJ3_indexOfChar_0 1 rfl rfl)
theorem dJ3_indexOfChar_2 : decode cJ3_indexOfChar 2 = .ok (.aload_n 0, 1) := dk_42 (dk_at dksJ3_indexOfChar_0 2 rfl rfl)
theorem dJ3_indexOfChar_3 : decode cJ3_indexOfChar 3 = .ok (.invokestatic 96, 3) := dk_184 0 96 (dk_at dksJ3_indexOfChar_0 3 rfl rfl)
theorem dJ3_indexOfChar_6 : decode cJ3_indexOfChar 6 = .ok (.aload_n 0, 1) := dk_42 (dk_at dksJ3_indexOfChar_0 6 rfl rfl)
theorem dJ3_indexOfChar_7 : decode cJ3_indexOfChar 7 = .ok (.iload_n 1, 1) := dk_27 (dk_at dksJ3_indexOfChar_0 7 rfl rfl)
theorem dJ3_indexOfChar_8 : decode cJ3_indexOfChar 8 = .ok (.iload_n 2, 1) := dk_28 (dk_at dksJ3_indexOfChar_0 8 rfl rfl)
theorem dJ3_indexOfChar_9 : decode cJ3_indexOfChar 9 = .ok (.iload_n 3, 1) := dk_29 (dk_at dksJ3_indexOfChar_0 9 rfl rfl)
theorem dJ3_indexOfChar_10 : decode cJ3_indexOfChar 10 = .ok (.invokestatic 244, 3) := dk_184 0 244 (dk_at dksJ3_indexOfChar_0 10 rfl rfl)
theorem dJ3_indexOfChar_13 : decode cJ3_indexOfChar 13 = .ok (.ireturn, 1) := dk_172 (dk_at dksJ3_indexOfChar_0 13 rfl rfl)
abbrev cJ3_checkBoundsBeginEnd : ByteArray := prog_26_method_93_code
def yJ3_checkBoundsBeginEnd : MethodName := ⟨RJ3, "checkBoundsBeginEnd", "(II[B)V"⟩
def dkwJ3_checkBoundsBeginEnd_0 : List UInt8 := [26, 27, 44, 184, 0, 48, 184, 0, 241, 177]
abbrev dktJ3_checkBoundsBeginEnd_0 : List UInt8 := dkwJ3_checkBoundsBeginEnd_0 ++ []
theorem dksJ3_checkBoundsBeginEnd_0 : cJ3_checkBoundsBeginEnd.data.toList.drop 0 = dktJ3_checkBoundsBeginEnd_0 := by decide +kernel
theorem dJ3_checkBoundsBeginEnd_0 : decode cJ3_checkBoundsBeginEnd 0 = .ok (.iload_n 0, 1) := dk_26 (dk_at dksJ3_checkBoundsBeginEnd_0 0 rfl rfl)
theorem dJ3_checkBoundsBeginEnd_1 : decode cJ3_checkBoundsBeginEnd 1 = .ok (.iload_n 1, 1) := dk_27 (dk_at dksJ3_checkBoundsBeginEnd_0 1 rfl rfl)
theorem dJ3_checkBoundsBeginEnd_2 : decode cJ3_checkBoundsBeginEnd 2 = .ok (.aload_n 2, 1) := dk_44 (dk_at dksJ3_checkBoundsBeginEnd_0 2 rfl rfl)
theorem dJ3_checkBoundsBeginEnd_3 : decode cJ3_checkBoundsBeginEnd 3 = .ok (.invokestatic 48, 3) := dk_184 0 48 (dk_at dksJ3_checkBoundsBeginEnd_0 3 rfl rfl)
theorem dJ3_checkBoundsBeginEnd_6 : decode cJ3_checkBoundsBeginEnd 6 = .ok (.invokestatic 241, 3) := dk_184 0 241 (dk_at dksJ3_checkBoundsBeginEnd_0 6 rfl rfl)
theorem dJ3_checkBoundsBeginEnd_9 : decode cJ3_checkBoundsBeginEnd 9 = .ok (.return_, 1) := dk_177 (dk_at dksJ3_checkBoundsBeginEnd_0 9 rfl rfl)
abbrev cJ3_length : ByteArray := prog_26_method_6_code
def yJ3_length : MethodName := ⟨RJ3, "length", "([B)I"⟩
def dkwJ3_length_0 : List UInt8 := [42, 190, 4, 122, 172]
abbrev dktJ3_length_0 : List UInt8 := dkwJ3_length_0 ++ []
theorem dksJ3_length_0 : cJ3_length.data.toList.drop 0 = dktJ3_length_0 := by decide +kernel
theorem dJ3_length_0 : decode cJ3_length 0 = .ok (.aload_n 0, 1) := dk_42 (dk_at dksJ3_length_0 0 rfl rfl)
theorem dJ3_length_1 : decode cJ3_length 1 = .ok (.arraylength, 1) := dk_190 (dk_at dksJ3_length_0 1 rfl rfl)
theorem dJ3_length_2 : decode cJ3_length 2 = .ok (.iconst 1, 1) := dk_4 (dk_at dksJ3_length_0 2 rfl rfl)
theorem dJ3_length_3 : decode cJ3_length 3 = .ok (.ishr, 1) := dk_122 (dk_at dksJ3_length_0 3 rfl rfl)
theorem dJ3_length_4 : decode cJ3_length 4 = .ok (.ireturn, 1) := dk_172 (dk_at dksJ3_length_0 4 rfl rfl)
abbrev cJ3_indexOfCharUnsafe : ByteArray := prog_26_method_48_code
def yJ3_indexOfCharUnsafe : MethodName := ⟨RJ3, "indexOfCharUnsafe", "([BIII)I"⟩
def dkwJ3_indexOfCharUnsafe_1 : List UInt8 := [132, 4, 1, 167, 255, 234, 2, 172]
abbrev dktJ3_indexOfCharUnsafe_1 : List UInt8 := dkwJ3_indexOfCharUnsafe_1 ++ []
def dkwJ3_indexOfCharUnsafe_0 : List UInt8 := [28, 54, 4, 21, 4, 29, 162, 0, 22, 42, 21, 4, 184, 0, 71, 27, 160, 0, 6, 21, 4, 172]
abbrev dktJ3_indexOfCharUnsafe_0 : List UInt8 := dkwJ3_indexOfCharUnsafe_0 ++ dktJ3_indexOfCharUnsafe_1
theorem dksJ3_indexOfCharUnsafe_0 : cJ3_indexOfCharUnsafe.data.toList.drop 0 = dktJ3_indexOfCharUnsafe_0 := by decide +kernel
theorem dksJ3_indexOfCharUnsafe_1 : cJ3_indexOfCharUnsafe.data.toList.drop 22 = dktJ3_indexOfCharUnsafe_1 := dk_seg dksJ3_indexOfCharUnsafe_0 22 rfl rfl
theorem dJ3_indexOfCharUnsafe_0 : decode cJ3_indexOfCharUnsafe 0 = .ok (.iload_n 2, 1) := dk_28 (dk_at dksJ3_indexOfCharUnsafe_0 0 rfl rfl)
theorem dJ3_indexOfCharUnsafe_1 : decode cJ3_indexOfCharUnsafe 1 = .ok (.istore 4, 2) := dk_54 4 (dk_at dksJ3_indexOfCharUnsafe_0 1 rfl rfl)
theorem dJ3_indexOfCharUnsafe_3 : decode cJ3_indexOfCharUnsafe 3 = .ok (.iload 4, 2) := dk_21 4 (dk_at dksJ3_indexOfCharUnsafe_0 3 rfl rfl)
theorem dJ3_indexOfCharUnsafe_5 : decode cJ3_indexOfCharUnsafe 5 = .ok (.iload_n 3, 1) := dk_29 (dk_at dksJ3_indexOfCharUnsafe_0 5 rfl rfl)
theorem dJ3_indexOfCharUnsafe_6 : decode cJ3_indexOfCharUnsafe 6 = .ok (.if_icmp .ge 22, 3) := dk_162 0 22 (dk_at dksJ3_indexOfCharUnsafe_0 6 rfl rfl)
theorem dJ3_indexOfCharUnsafe_9 : decode cJ3_indexOfCharUnsafe 9 = .ok (.aload_n 0, 1) := dk_42 (dk_at dksJ3_indexOfCharUnsafe_0 9 rfl rfl)
theorem dJ3_indexOfCharUnsafe_10 : decode cJ3_indexOfCharUnsafe 10 = .ok (.iload 4, 2) := dk_21 4 (dk_at dksJ3_indexOfCharUnsafe_0 10 rfl rfl)
theorem dJ3_indexOfCharUnsafe_12 : decode cJ3_indexOfCharUnsafe 12 = .ok (.invokestatic 71, 3) := dk_184 0 71 (dk_at dksJ3_indexOfCharUnsafe_0 12 rfl rfl)
theorem dJ3_indexOfCharUnsafe_15 : decode cJ3_indexOfCharUnsafe 15 = .ok (.iload_n 1, 1) := dk_27 (dk_at dksJ3_indexOfCharUnsafe_0 15 rfl rfl)
theorem dJ3_indexOfCharUnsafe_16 : decode cJ3_indexOfCharUnsafe 16 = .ok (.if_icmp .ne 6, 3) := dk_160 0 6 (dk_at dksJ3_indexOfCharUnsafe_0 16 rfl rfl)
theorem dJ3_indexOfCharUnsafe_19 : decode cJ3_indexOfCharUnsafe 19 = .ok (.iload 4, 2) := dk_21 4 (dk_at dksJ3_indexOfCharUnsafe_0 19 rfl rfl)
theorem dJ3_indexOfCharUnsafe_21 : decode cJ3_indexOfCharUnsafe 21 = .ok (.ireturn, 1) := dk_172 (dk_at dksJ3_indexOfCharUnsafe_0 21 rfl rfl)
theorem dJ3_indexOfCharUnsafe_22 : decode cJ3_indexOfCharUnsafe 22 = .ok (.iinc 4 1, 3) := dk_132 4 1 (dk_at dksJ3_indexOfCharUnsafe_1 0 rfl rfl)
theorem dJ3_indexOfCharUnsafe_25 : decode cJ3_indexOfCharUnsafe 25 = .ok (.goto (-22), 3) := dk_167 255 234 (dk_at dksJ3_indexOfCharUnsafe_1 3 rfl rfl)
theorem dJ3_indexOfCharUnsafe_28 : decode cJ3_indexOfCharUnsafe 28 = .ok (.iconst (-1), 1) := dk_2 (dk_at dksJ3_indexOfCharUnsafe_1 6 rfl rfl)
theorem dJ3_indexOfCharUnsafe_29 : decode cJ3_indexOfCharUnsafe 29 = .ok (.ireturn, 1) := dk_172 (dk_at dksJ3_indexOfCharUnsafe_1 7 rfl rfl)
abbrev cJ3_getChar : ByteArray := prog_26_method_5_code
def yJ3_getChar : MethodName := ⟨RJ3, "getChar", "([BI)C"⟩
def dkwJ3_getChar_2 : List UInt8 := [51, 17, 0, 255, 126, 178, 0, 63, 120, 128, 146, 172]
abbrev dktJ3_getChar_2 : List UInt8 := dkwJ3_getChar_2 ++ []
def dkwJ3_getChar_1 : List UInt8 := [183, 0, 56, 191, 27, 4, 120, 60, 42, 27, 132, 1, 1, 51, 17, 0, 255, 126, 178, 0, 59, 120, 42, 27]
abbrev dktJ3_getChar_1 : List UInt8 := dkwJ3_getChar_1 ++ dktJ3_getChar_2
def dkwJ3_getChar_0 : List UInt8 := [178, 0, 44, 154, 0, 25, 27, 155, 0, 11, 27, 42, 184, 0, 48, 161, 0, 13, 187, 0, 52, 89, 18, 54]
abbrev dktJ3_getChar_0 : List UInt8 := dkwJ3_getChar_0 ++ dktJ3_getChar_1
theorem dksJ3_getChar_0 : cJ3_getChar.data.toList.drop 0 = dktJ3_getChar_0 := by decide +kernel
theorem dksJ3_getChar_1 : cJ3_getChar.data.toList.drop 24 = dktJ3_getChar_1 := dk_seg dksJ3_getChar_0 24 rfl rfl
theorem dksJ3_getChar_2 : cJ3_getChar.data.toList.drop 48 = dktJ3_getChar_2 := dk_seg dksJ3_getChar_1 24 rfl rfl
theorem dJ3_getChar_0 : decode cJ3_getChar 0 = .ok (.getstatic 44, 3) := dk_178 0 44 (dk_at dksJ3_getChar_0 0 rfl rfl)
theorem dJ3_getChar_3 : decode cJ3_getChar 3 = .ok (.ifCond .ne 25, 3) := dk_154 0 25 (dk_at dksJ3_getChar_0 3 rfl rfl)
theorem dJ3_getChar_6 : decode cJ3_getChar 6 = .ok (.iload_n 1, 1) := dk_27 (dk_at dksJ3_getChar_0 6 rfl rfl)
theorem dJ3_getChar_7 : decode cJ3_getChar 7 = .ok (.ifCond .lt 11, 3) := dk_155 0 11 (dk_at dksJ3_getChar_0 7 rfl rfl)
theorem dJ3_getChar_10 : decode cJ3_getChar 10 = .ok (.iload_n 1, 1) := dk_27 (dk_at dksJ3_getChar_0 10 rfl rfl)
theorem dJ3_getChar_11 : decode cJ3_getChar 11 = .ok (.aload_n 0, 1) := dk_42 (dk_at dksJ3_getChar_0 11 rfl rfl)
theorem dJ3_getChar_12 : decode cJ3_getChar 12 = .ok (.invokestatic 48, 3) := dk_184 0 48 (dk_at dksJ3_getChar_0 12 rfl rfl)
theorem dJ3_getChar_15 : decode cJ3_getChar 15 = .ok (.if_icmp .lt 13, 3) := dk_161 0 13 (dk_at dksJ3_getChar_0 15 rfl rfl)
theorem dJ3_getChar_18 : decode cJ3_getChar 18 = .ok (.new 52, 3) := dk_187 0 52 (dk_at dksJ3_getChar_0 18 rfl rfl)
theorem dJ3_getChar_21 : decode cJ3_getChar 21 = .ok (.dup, 1) := dk_89 (dk_at dksJ3_getChar_0 21 rfl rfl)
theorem dJ3_getChar_22 : decode cJ3_getChar 22 = .ok (.ldc 54, 2) := dk_18 54 (dk_at dksJ3_getChar_0 22 rfl rfl)
theorem dJ3_getChar_24 : decode cJ3_getChar 24 = .ok (.invokespecial 56, 3) := dk_183 0 56 (dk_at dksJ3_getChar_1 0 rfl rfl)
theorem dJ3_getChar_27 : decode cJ3_getChar 27 = .ok (.athrow, 1) := dk_191 (dk_at dksJ3_getChar_1 3 rfl rfl)
theorem dJ3_getChar_28 : decode cJ3_getChar 28 = .ok (.iload_n 1, 1) := dk_27 (dk_at dksJ3_getChar_1 4 rfl rfl)
theorem dJ3_getChar_29 : decode cJ3_getChar 29 = .ok (.iconst 1, 1) := dk_4 (dk_at dksJ3_getChar_1 5 rfl rfl)
theorem dJ3_getChar_30 : decode cJ3_getChar 30 = .ok (.ishl, 1) := dk_120 (dk_at dksJ3_getChar_1 6 rfl rfl)
theorem dJ3_getChar_31 : decode cJ3_getChar 31 = .ok (.istore_n 1, 1) := dk_60 (dk_at dksJ3_getChar_1 7 rfl rfl)
theorem dJ3_getChar_32 : decode cJ3_getChar 32 = .ok (.aload_n 0, 1) := dk_42 (dk_at dksJ3_getChar_1 8 rfl rfl)
theorem dJ3_getChar_33 : decode cJ3_getChar 33 = .ok (.iload_n 1, 1) := dk_27 (dk_at dksJ3_getChar_1 9 rfl rfl)
theorem dJ3_getChar_34 : decode cJ3_getChar 34 = .ok (.iinc 1 1, 3) := dk_132 1 1 (dk_at dksJ3_getChar_1 10 rfl rfl)
theorem dJ3_getChar_37 : decode cJ3_getChar 37 = .ok (.baload, 1) := dk_51 (dk_at dksJ3_getChar_1 13 rfl rfl)
theorem dJ3_getChar_38 : decode cJ3_getChar 38 = .ok (.sipush 255, 3) := dk_17 0 255 (dk_at dksJ3_getChar_1 14 rfl rfl)
theorem dJ3_getChar_41 : decode cJ3_getChar 41 = .ok (.iand, 1) := dk_126 (dk_at dksJ3_getChar_1 17 rfl rfl)
theorem dJ3_getChar_42 : decode cJ3_getChar 42 = .ok (.getstatic 59, 3) := dk_178 0 59 (dk_at dksJ3_getChar_1 18 rfl rfl)
theorem dJ3_getChar_45 : decode cJ3_getChar 45 = .ok (.ishl, 1) := dk_120 (dk_at dksJ3_getChar_1 21 rfl rfl)
theorem dJ3_getChar_46 : decode cJ3_getChar 46 = .ok (.aload_n 0, 1) := dk_42 (dk_at dksJ3_getChar_1 22 rfl rfl)
theorem dJ3_getChar_47 : decode cJ3_getChar 47 = .ok (.iload_n 1, 1) := dk_27 (dk_at dksJ3_getChar_1 23 rfl rfl)
theorem dJ3_getChar_48 : decode cJ3_getChar 48 = .ok (.baload, 1) := dk_51 (dk_at dksJ3_getChar_2 0 rfl rfl)
theorem dJ3_getChar_49 : decode cJ3_getChar 49 = .ok (.sipush 255, 3) := dk_17 0 255 (dk_at dksJ3_getChar_2 1 rfl rfl)
theorem dJ3_getChar_52 : decode cJ3_getChar 52 = .ok (.iand, 1) := dk_126 (dk_at dksJ3_getChar_2 4 rfl rfl)
theorem dJ3_getChar_53 : decode cJ3_getChar 53 = .ok (.getstatic 63, 3) := dk_178 0 63 (dk_at dksJ3_getChar_2 5 rfl rfl)
theorem dJ3_getChar_56 : decode cJ3_getChar 56 = .ok (.ishl, 1) := dk_120 (dk_at dksJ3_getChar_2 8 rfl rfl)
theorem dJ3_getChar_57 : decode cJ3_getChar 57 = .ok (.ior, 1) := dk_128 (dk_at dksJ3_getChar_2 9 rfl rfl)
theorem dJ3_getChar_58 : decode cJ3_getChar 58 = .ok (.i2c, 1) := dk_146 (dk_at dksJ3_getChar_2 10 rfl rfl)
theorem dJ3_getChar_59 : decode cJ3_getChar 59 = .ok (.ireturn, 1) := dk_172 (dk_at dksJ3_getChar_2 11 rfl rfl)
abbrev cJ3_indexOfSupplementary : ByteArray := prog_26_method_49_code
def yJ3_indexOfSupplementary : MethodName := ⟨RJ3, "indexOfSupplementary", "([BIII)I"⟩
def dkwJ3_indexOfSupplementary_3 : List UInt8 := [167, 255, 218, 2, 172]
abbrev dktJ3_indexOfSupplementary_3 : List UInt8 := dkwJ3_indexOfSupplementary_3 ++ []
def dkwJ3_indexOfSupplementary_2 : List UInt8 := [160, 0, 19, 42, 21, 6, 4, 96, 184, 0, 71, 21, 5, 160, 0, 6, 21, 6, 172, 132, 6, 1]
abbrev dktJ3_indexOfSupplementary_2 : List UInt8 := dkwJ3_indexOfSupplementary_2 ++ dktJ3_indexOfSupplementary_3
def dkwJ3_indexOfSupplementary_1 : List UInt8 := [184, 0, 96, 28, 54, 6, 21, 6, 29, 4, 100, 162, 0, 36, 42, 21, 6, 184, 0, 71, 21, 4]
abbrev dktJ3_indexOfSupplementary_1 : List UInt8 := dkwJ3_indexOfSupplementary_1 ++ dktJ3_indexOfSupplementary_2
def dkwJ3_indexOfSupplementary_0 : List UInt8 := [27, 184, 0, 164, 153, 0, 65, 27, 184, 0, 157, 54, 4, 27, 184, 0, 161, 54, 5, 28, 29, 42]
abbrev dktJ3_indexOfSupplementary_0 : List UInt8 := dkwJ3_indexOfSupplementary_0 ++ dktJ3_indexOfSupplementary_1
theorem dksJ3_indexOfSupplementary_0 : cJ3_indexOfSupplementary.data.toList.drop 0 = dktJ3_indexOfSupplementary_0 := by decide +kernel
theorem dksJ3_indexOfSupplementary_1 : cJ3_indexOfSupplementary.data.toList.drop 22 = dktJ3_indexOfSupplementary_1 := dk_seg dksJ3_indexOfSupplementary_0 22 rfl rfl
theorem dksJ3_indexOfSupplementary_2 : cJ3_indexOfSupplementary.data.toList.drop 44 = dktJ3_indexOfSupplementary_2 := dk_seg dksJ3_indexOfSupplementary_1 22 rfl rfl
theorem dksJ3_indexOfSupplementary_3 : cJ3_indexOfSupplementary.data.toList.drop 66 = dktJ3_indexOfSupplementary_3 := dk_seg dksJ3_indexOfSupplementary_2 22 rfl rfl
theorem dJ3_indexOfSupplementary_0 : decode cJ3_indexOfSupplementary 0 = .ok (.iload_n 1, 1) := dk_27 (dk_at dksJ3_indexOfSupplementary_0 0 rfl rfl)
theorem dJ3_indexOfSupplementary_1 : decode cJ3_indexOfSupplementary 1 = .ok (.invokestatic 164, 3) := dk_184 0 164 (dk_at dksJ3_indexOfSupplementary_0 1 rfl rfl)
theorem dJ3_indexOfSupplementary_4 : decode cJ3_indexOfSupplementary 4 = .ok (.ifCond .eq 65, 3) := dk_153 0 65 (dk_at dksJ3_indexOfSupplementary_0 4 rfl rfl)
theorem dJ3_indexOfSupplementary_7 : decode cJ3_indexOfSupplementary 7 = .ok (.iload_n 1, 1) := dk_27 (dk_at dksJ3_indexOfSupplementary_0 7 rfl rfl)
theorem dJ3_indexOfSupplementary_8 : decode cJ3_indexOfSupplementary 8 = .ok (.invokestatic 157, 3) := dk_184 0 157 (dk_at dksJ3_indexOfSupplementary_0 8 rfl rfl)
theorem dJ3_indexOfSupplementary_11 : decode cJ3_indexOfSupplementary 11 = .ok (.istore 4, 2) := dk_54 4 (dk_at dksJ3_indexOfSupplementary_0 11 rfl rfl)
theorem dJ3_indexOfSupplementary_13 : decode cJ3_indexOfSupplementary 13 = .ok (.iload_n 1, 1) := dk_27 (dk_at dksJ3_indexOfSupplementary_0 13 rfl rfl)
theorem dJ3_indexOfSupplementary_14 : decode cJ3_indexOfSupplementary 14 = .ok (.invokestatic 161, 3) := dk_184 0 161 (dk_at dksJ3_indexOfSupplementary_0 14 rfl rfl)
theorem dJ3_indexOfSupplementary_17 : decode cJ3_indexOfSupplementary 17 = .ok (.istore 5, 2) := dk_54 5 (dk_at dksJ3_indexOfSupplementary_0 17 rfl rfl)
theorem dJ3_indexOfSupplementary_19 : decode cJ3_indexOfSupplementary 19 = .ok (.iload_n 2, 1) := dk_28 (dk_at dksJ3_indexOfSupplementary_0 19 rfl rfl)
theorem dJ3_indexOfSupplementary_20 : decode cJ3_indexOfSupplementary 20 = .ok (.iload_n 3, 1) := dk_29 (dk_at dksJ3_indexOfSupplementary_0 20 rfl rfl)
theorem dJ3_indexOfSupplementary_21 : decode cJ3_indexOfSupplementary 21 = .ok (.aload_n 0, 1) := dk_42 (dk_at dksJ3_indexOfSupplementary_0 21 rfl rfl)
theorem dJ3_indexOfSupplementary_22 : decode cJ3_indexOfSupplementary 22 = .ok (.invokestatic 96, 3) := dk_184 0 96 (dk_at dksJ3_indexOfSupplementary_1 0 rfl rfl)
theorem dJ3_indexOfSupplementary_25 : decode cJ3_indexOfSupplementary 25 = .ok (.iload_n 2, 1) := dk_28 (dk_at dksJ3_indexOfSupplementary_1 3 rfl rfl)
theorem dJ3_indexOfSupplementary_26 : decode cJ3_indexOfSupplementary 26 = .ok (.istore 6, 2) := dk_54 6 (dk_at dksJ3_indexOfSupplementary_1 4 rfl rfl)
theorem dJ3_indexOfSupplementary_28 : decode cJ3_indexOfSupplementary 28 = .ok (.iload 6, 2) := dk_21 6 (dk_at dksJ3_indexOfSupplementary_1 6 rfl rfl)
theorem dJ3_indexOfSupplementary_30 : decode cJ3_indexOfSupplementary 30 = .ok (.iload_n 3, 1) := dk_29 (dk_at dksJ3_indexOfSupplementary_1 8 rfl rfl)
theorem dJ3_indexOfSupplementary_31 : decode cJ3_indexOfSupplementary 31 = .ok (.iconst 1, 1) := dk_4 (dk_at dksJ3_indexOfSupplementary_1 9 rfl rfl)
theorem dJ3_indexOfSupplementary_32 : decode cJ3_indexOfSupplementary 32 = .ok (.isub, 1) := dk_100 (dk_at dksJ3_indexOfSupplementary_1 10 rfl rfl)
theorem dJ3_indexOfSupplementary_33 : decode cJ3_indexOfSupplementary 33 = .ok (.if_icmp .ge 36, 3) := dk_162 0 36 (dk_at dksJ3_indexOfSupplementary_1 11 rfl rfl)
theorem dJ3_indexOfSupplementary_36 : decode cJ3_indexOfSupplementary 36 = .ok (.aload_n 0, 1) := dk_42 (dk_at dksJ3_indexOfSupplementary_1 14 rfl rfl)
theorem dJ3_indexOfSupplementary_37 : decode cJ3_indexOfSupplementary 37 = .ok (.iload 6, 2) := dk_21 6 (dk_at dksJ3_indexOfSupplementary_1 15 rfl rfl)
theorem dJ3_indexOfSupplementary_39 : decode cJ3_indexOfSupplementary 39 = .ok (.invokestatic 71, 3) := dk_184 0 71 (dk_at dksJ3_indexOfSupplementary_1 17 rfl rfl)
theorem dJ3_indexOfSupplementary_42 : decode cJ3_indexOfSupplementary 42 = .ok (.iload 4, 2) := dk_21 4 (dk_at dksJ3_indexOfSupplementary_1 20 rfl rfl)
theorem dJ3_indexOfSupplementary_44 : decode cJ3_indexOfSupplementary 44 = .ok (.if_icmp .ne 19, 3) := dk_160 0 19 (dk_at dksJ3_indexOfSupplementary_2 0 rfl rfl)
theorem dJ3_indexOfSupplementary_47 : decode cJ3_indexOfSupplementary 47 = .ok (.aload_n 0, 1) := dk_42 (dk_at dksJ3_indexOfSupplementary_2 3 rfl rfl)
theorem dJ3_indexOfSupplementary_48 : decode cJ3_indexOfSupplementary 48 = .ok (.iload 6, 2) := dk_21 6 (dk_at dksJ3_indexOfSupplementary_2 4 rfl rfl)
theorem dJ3_indexOfSupplementary_50 : decode cJ3_indexOfSupplementary 50 = .ok (.iconst 1, 1) := dk_4 (dk_at dksJ3_indexOfSupplementary_2 6 rfl rfl)
theorem dJ3_indexOfSupplementary_51 : decode cJ3_indexOfSupplementary 51 = .ok (.iadd, 1) := dk_96 (dk_at dksJ3_indexOfSupplementary_2 7 rfl rfl)
theorem dJ3_indexOfSupplementary_52 : decode cJ3_indexOfSupplementary 52 = .ok (.invokestatic 71, 3) := dk_184 0 71 (dk_at dksJ3_indexOfSupplementary_2 8 rfl rfl)
theorem dJ3_indexOfSupplementary_55 : decode cJ3_indexOfSupplementary 55 = .ok (.iload 5, 2) := dk_21 5 (dk_at dksJ3_indexOfSupplementary_2 11 rfl rfl)
theorem dJ3_indexOfSupplementary_57 : decode cJ3_indexOfSupplementary 57 = .ok (.if_icmp .ne 6, 3) := dk_160 0 6 (dk_at dksJ3_indexOfSupplementary_2 13 rfl rfl)
theorem dJ3_indexOfSupplementary_60 : decode cJ3_indexOfSupplementary 60 = .ok (.iload 6, 2) := dk_21 6 (dk_at dksJ3_indexOfSupplementary_2 16 rfl rfl)
theorem dJ3_indexOfSupplementary_62 : decode cJ3_indexOfSupplementary 62 = .ok (.ireturn, 1) := dk_172 (dk_at dksJ3_indexOfSupplementary_2 18 rfl rfl)
theorem dJ3_indexOfSupplementary_63 : decode cJ3_indexOfSupplementary 63 = .ok (.iinc 6 1, 3) := dk_132 6 1 (dk_at dksJ3_indexOfSupplementary_2 19 rfl rfl)
theorem dJ3_indexOfSupplementary_66 : decode cJ3_indexOfSupplementary 66 = .ok (.goto (-38), 3) := dk_167 255 218 (dk_at dksJ3_indexOfSupplementary_3 0 rfl rfl)
theorem dJ3_indexOfSupplementary_69 : decode cJ3_indexOfSupplementary 69 = .ok (.iconst (-1), 1) := dk_2 (dk_at dksJ3_indexOfSupplementary_3 3 rfl rfl)
theorem dJ3_indexOfSupplementary_70 : decode cJ3_indexOfSupplementary 70 = .ok (.ireturn, 1) := dk_172 (dk_at dksJ3_indexOfSupplementary_3 4 rfl rfl)
theorem q121 : (Jvm.Cond.initialized "java/lang/StringUTF16") ∈ lw_all := lw_g (lw_at lw_m1 12 rfl) rfl
theorem q474 : (Jvm.Cond.static ({ cls := "java/lang/StringUTF16", name := "indexOf", desc := "([BIII)I" } : Jvm.MethodName)) ∈ lw_all := lw_g (lw_at lw_m2 125 rfl) rfl
theorem q475 : (Jvm.Cond.code ({ cls := "java/lang/StringUTF16", name := "indexOf", desc := "([BIII)I" } : Jvm.MethodName) prog_26_method_40_code (4 : Nat) (Option.some Jvm.ClassFile.FieldType.int)) ∈ lw_all := lw_g (lw_at lw_m2 126 rfl) rfl
theorem q476 : (Jvm.Cond.methodLink "java/lang/StringUTF16" (224 : Nat) ({ cls := "java/lang/Math", name := "max", desc := "(II)I" } : Jvm.MethodName)) ∈ lw_all := lw_g (lw_at lw_m2 127 rfl) rfl
theorem q477 : (Jvm.Cond.methodLink "java/lang/StringUTF16" (183 : Nat) ({ cls := "java/lang/Math", name := "min", desc := "(II)I" } : Jvm.MethodName)) ∈ lw_all := lw_g (lw_at lw_m2 128 rfl) rfl
theorem q478 : (Jvm.Cond.constant "java/lang/StringUTF16" (227 : Nat) (65536 : Int32)) ∈ lw_all := lw_g (lw_at lw_m2 129 rfl) rfl
theorem q479 : (Jvm.Cond.methodLink "java/lang/StringUTF16" (228 : Nat) ({ cls := "java/lang/StringUTF16", name := "indexOfChar", desc := "([BIII)I" } : Jvm.MethodName)) ∈ lw_all := lw_g (lw_at lw_m2 130 rfl) rfl
theorem q480 : (Jvm.Cond.static ({ cls := "java/lang/StringUTF16", name := "indexOfChar", desc := "([BIII)I" } : Jvm.MethodName)) ∈ lw_all := lw_g (lw_at lw_m2 131 rfl) rfl
theorem q481 : (Jvm.Cond.code ({ cls := "java/lang/StringUTF16", name := "indexOfChar", desc := "([BIII)I" } : Jvm.MethodName) prog_26_method_47_code (4 : Nat) (Option.some Jvm.ClassFile.FieldType.int)) ∈ lw_all := lw_g (lw_at lw_m2 132 rfl) rfl
theorem q482 : (Jvm.Cond.methodLink "java/lang/StringUTF16" (96 : Nat) ({ cls := "java/lang/StringUTF16", name := "checkBoundsBeginEnd", desc := "(II[B)V" } : Jvm.MethodName)) ∈ lw_all := lw_g (lw_at lw_m2 133 rfl) rfl
theorem q483 : (Jvm.Cond.static ({ cls := "java/lang/StringUTF16", name := "checkBoundsBeginEnd", desc := "(II[B)V" } : Jvm.MethodName)) ∈ lw_all := lw_g (lw_at lw_m2 134 rfl) rfl
theorem q484 : (Jvm.Cond.code ({ cls := "java/lang/StringUTF16", name := "checkBoundsBeginEnd", desc := "(II[B)V" } : Jvm.MethodName) prog_26_method_93_code (3 : Nat) (Option.none : Option Jvm.ClassFile.FieldType)) ∈ lw_all := lw_g (lw_at lw_m2 135 rfl) rfl
theorem q485 : (Jvm.Cond.methodLink "java/lang/StringUTF16" (48 : Nat) ({ cls := "java/lang/StringUTF16", name := "length", desc := "([B)I" } : Jvm.MethodName)) ∈ lw_all := lw_g (lw_at lw_m2 136 rfl) rfl
theorem q486 : (Jvm.Cond.static ({ cls := "java/lang/StringUTF16", name := "length", desc := "([B)I" } : Jvm.MethodName)) ∈ lw_all := lw_g (lw_at lw_m2 137 rfl) rfl
theorem q487 : (Jvm.Cond.code ({ cls := "java/lang/StringUTF16", name := "length", desc := "([B)I" } : Jvm.MethodName) prog_26_method_6_code (1 : Nat) (Option.some Jvm.ClassFile.FieldType.int)) ∈ lw_all := lw_g (lw_at lw_m2 138 rfl) rfl
theorem q488 : (Jvm.Cond.methodLink "java/lang/StringUTF16" (241 : Nat) ({ cls := "java/lang/String", name := "checkBoundsBeginEnd", desc := "(III)V" } : Jvm.MethodName)) ∈ lw_all := lw_g (lw_at lw_m2 139 rfl) rfl
theorem q496 : (Jvm.Cond.methodLink "java/lang/StringUTF16" (244 : Nat) ({ cls := "java/lang/StringUTF16", name := "indexOfCharUnsafe", desc := "([BIII)I" } : Jvm.MethodName)) ∈ lw_all := lw_g (lw_at lw_m2 147 rfl) rfl
theorem q497 : (Jvm.Cond.static ({ cls := "java/lang/StringUTF16", name := "indexOfCharUnsafe", desc := "([BIII)I" } : Jvm.MethodName)) ∈ lw_all := lw_g (lw_at lw_m2 148 rfl) rfl
theorem q498 : (Jvm.Cond.code ({ cls := "java/lang/StringUTF16", name := "indexOfCharUnsafe", desc := "([BIII)I" } : Jvm.MethodName) prog_26_method_48_code (5 : Nat) (Option.some Jvm.ClassFile.FieldType.int)) ∈ lw_all := lw_g (lw_at lw_m2 149 rfl) rfl
theorem q499 : (Jvm.Cond.methodLink "java/lang/StringUTF16" (71 : Nat) ({ cls := "java/lang/StringUTF16", name := "getChar", desc := "([BI)C" } : Jvm.MethodName)) ∈ lw_all := lw_g (lw_at lw_m2 150 rfl) rfl
theorem q500 : (Jvm.Cond.static ({ cls := "java/lang/StringUTF16", name := "getChar", desc := "([BI)C" } : Jvm.MethodName)) ∈ lw_all := lw_g (lw_at lw_m2 151 rfl) rfl
theorem q501 : (Jvm.Cond.code ({ cls := "java/lang/StringUTF16", name := "getChar", desc := "([BI)C" } : Jvm.MethodName) prog_26_method_5_code (2 : Nat) (Option.some Jvm.ClassFile.FieldType.char)) ∈ lw_all := lw_g (lw_at lw_m2 152 rfl) rfl
theorem q502 : (Jvm.Cond.fieldLink "java/lang/StringUTF16" (44 : Nat) "java/lang/StringUTF16" "$assertionsDisabled" "Z") ∈ lw_all := lw_g (lw_at lw_m2 153 rfl) rfl
theorem q503 : (Jvm.Cond.laysStatic "java/lang/StringUTF16" "$assertionsDisabled" "Z") ∈ lw_tbl := lw_at lw_m2 154 rfl
theorem q504 : (Jvm.Cond.fieldLink "java/lang/StringUTF16" (59 : Nat) "java/lang/StringUTF16" "HI_BYTE_SHIFT" "I") ∈ lw_all := lw_g (lw_at lw_m2 155 rfl) rfl
theorem q505 : (Jvm.Cond.laysStatic "java/lang/StringUTF16" "HI_BYTE_SHIFT" "I") ∈ lw_tbl := lw_at lw_m2 156 rfl
theorem q506 : (Jvm.Cond.fieldLink "java/lang/StringUTF16" (63 : Nat) "java/lang/StringUTF16" "LO_BYTE_SHIFT" "I") ∈ lw_all := lw_g (lw_at lw_m2 157 rfl) rfl
theorem q507 : (Jvm.Cond.laysStatic "java/lang/StringUTF16" "LO_BYTE_SHIFT" "I") ∈ lw_tbl := lw_at lw_m2 158 rfl
theorem q508 : (Jvm.Cond.methodLink "java/lang/StringUTF16" (232 : Nat) ({ cls := "java/lang/StringUTF16", name := "indexOfSupplementary", desc := "([BIII)I" } : Jvm.MethodName)) ∈ lw_all := lw_g (lw_at lw_m2 159 rfl) rfl
theorem q509 : (Jvm.Cond.static ({ cls := "java/lang/StringUTF16", name := "indexOfSupplementary", desc := "([BIII)I" } : Jvm.MethodName)) ∈ lw_all := lw_g (lw_at lw_m2 160 rfl) rfl
theorem q510 : (Jvm.Cond.code ({ cls := "java/lang/StringUTF16", name := "indexOfSupplementary", desc := "([BIII)I" } : Jvm.MethodName) prog_26_method_49_code (7 : Nat) (Option.some Jvm.ClassFile.FieldType.int)) ∈ lw_all := lw_g (lw_at lw_m2 161 rfl) rfl
theorem q511 : (Jvm.Cond.methodLink "java/lang/StringUTF16" (164 : Nat) ({ cls := "java/lang/Character", name := "isValidCodePoint", desc := "(I)Z" } : Jvm.MethodName)) ∈ lw_all := lw_g (lw_at lw_m2 162 rfl) rfl
theorem q514 : (Jvm.Cond.methodLink "java/lang/StringUTF16" (157 : Nat) ({ cls := "java/lang/Character", name := "highSurrogate", desc := "(I)C" } : Jvm.MethodName)) ∈ lw_all := lw_g (lw_at lw_m2 165 rfl) rfl
theorem q518 : (Jvm.Cond.methodLink "java/lang/StringUTF16" (161 : Nat) ({ cls := "java/lang/Character", name := "lowSurrogate", desc := "(I)C" } : Jvm.MethodName)) ∈ lw_all := lw_g (lw_at lw_m2 169 rfl) rfl
/-! jdk/internal/util/Preconditions -/
set_option maxRecDepth 100000
def RJ4 : String := "jdk/internal/util/Preconditions"
abbrev cJ4_checkFromToIndex : ByteArray := prog_27_method_12_code
def yJ4_checkFromToIndex : MethodName := ⟨RJ4, "checkFromToIndex", "(IIILjava/util/function/BiFunction;)I"⟩
def dkwJ4_checkFromToIndex_0 : List UInt8 := [26, 155, 0, 13, 26, 27, 163, 0, 8, 27, 28, 164, 0, 11, 45, 26, 27, 28, 184, 0, 99, 191, 26, 172]
abbrev dktJ4_checkFromToIndex_0 : List UInt8 := dkwJ4_checkFromToIndex_0 ++ []
theorem dksJ4_checkFromToIndex_0 : cJ4_checkFromToIndex.data.toList.drop 0 = dktJ4_checkFromToIndex_0 := by decide +kernel
theorem dJ4_checkFromToIndex_0 : decode cJ4_checkFromToIndex 0 = .ok (.iload_n 0, 1) := dk_26 (dk_at dksJ4_checkFromToIndex_0 0 rfl rfl)
theorem dJ4_checkFromToIndex_1 : decode cJ4_checkFromToIndex 1 = .ok (.ifCond .lt 13, 3) := dk_155 0 13 (dk_at dksJ4_checkFromToIndex_0 1 rfl rfl)
theorem dJ4_checkFromToIndex_4 : decode cJ4_checkFromToIndex 4 = .ok (.iload_n 0, 1) := dk_26 (dk_at dksJ4_checkFromToIndex_0 4 rfl rfl)
theorem dJ4_checkFromToIndex_5 : decode cJ4_checkFromToIndex 5 = .ok (.iload_n 1, 1) := dk_27 (dk_at dksJ4_checkFromToIndex_0 5 rfl rfl)
theorem dJ4_checkFromToIndex_6 : decode cJ4_checkFromToIndex 6 = .ok (.if_icmp .gt 8, 3) := dk_163 0 8 (dk_at dksJ4_checkFromToIndex_0 6 rfl rfl)
theorem dJ4_checkFromToIndex_9 : decode cJ4_checkFromToIndex 9 = .ok (.iload_n 1, 1) := dk_27 (dk_at dksJ4_checkFromToIndex_0 9 rfl rfl)
theorem dJ4_checkFromToIndex_10 : decode cJ4_checkFromToIndex 10 = .ok (.iload_n 2, 1) := dk_28 (dk_at dksJ4_checkFromToIndex_0 10 rfl rfl)
theorem dJ4_checkFromToIndex_11 : decode cJ4_checkFromToIndex 11 = .ok (.if_icmp .le 11, 3) := dk_164 0 11 (dk_at dksJ4_checkFromToIndex_0 11 rfl rfl)
theorem dJ4_checkFromToIndex_14 : decode cJ4_checkFromToIndex 14 = .ok (.aload_n 3, 1) := dk_45 (dk_at dksJ4_checkFromToIndex_0 14 rfl rfl)
theorem dJ4_checkFromToIndex_15 : decode cJ4_checkFromToIndex 15 = .ok (.iload_n 0, 1) := dk_26 (dk_at dksJ4_checkFromToIndex_0 15 rfl rfl)
theorem dJ4_checkFromToIndex_16 : decode cJ4_checkFromToIndex 16 = .ok (.iload_n 1, 1) := dk_27 (dk_at dksJ4_checkFromToIndex_0 16 rfl rfl)
theorem dJ4_checkFromToIndex_17 : decode cJ4_checkFromToIndex 17 = .ok (.iload_n 2, 1) := dk_28 (dk_at dksJ4_checkFromToIndex_0 17 rfl rfl)
theorem dJ4_checkFromToIndex_18 : decode cJ4_checkFromToIndex 18 = .ok (.invokestatic 99, 3) := dk_184 0 99 (dk_at dksJ4_checkFromToIndex_0 18 rfl rfl)
theorem dJ4_checkFromToIndex_21 : decode cJ4_checkFromToIndex 21 = .ok (.athrow, 1) := dk_191 (dk_at dksJ4_checkFromToIndex_0 21 rfl rfl)
theorem dJ4_checkFromToIndex_22 : decode cJ4_checkFromToIndex 22 = .ok (.iload_n 0, 1) := dk_26 (dk_at dksJ4_checkFromToIndex_0 22 rfl rfl)
theorem dJ4_checkFromToIndex_23 : decode cJ4_checkFromToIndex 23 = .ok (.ireturn, 1) := dk_172 (dk_at dksJ4_checkFromToIndex_0 23 rfl rfl)
theorem q122 : (Jvm.Cond.initialized "jdk/internal/util/Preconditions") ∈ lw_all := lw_g (lw_at lw_m1 13 rfl) rfl
theorem q492 : (Jvm.Cond.laysStatic "jdk/internal/util/Preconditions" "SIOOBE_FORMATTER" "Ljava/util/function/BiFunction;") ∈ lw_tbl := lw_at lw_m2 143 rfl
theorem q494 : (Jvm.Cond.static ({ cls := "jdk/internal/util/Preconditions", name := "checkFromToIndex", desc := "(IIILjava/util/function/BiFunction;)I" } : Jvm.MethodName)) ∈ lw_all := lw_g (lw_at lw_m2 145 rfl) rfl
theorem q495 : (Jvm.Cond.code ({ cls := "jdk/internal/util/Preconditions", name := "checkFromToIndex", desc := "(IIILjava/util/function/BiFunction;)I" } : Jvm.MethodName) prog_27_method_12_code (4 : Nat) (Option.some Jvm.ClassFile.FieldType.int)) ∈ lw_all := lw_g (lw_at lw_m2 146 rfl) rfl
/-! java/lang/Character -/
set_option maxRecDepth 100000
def RJ5 : String := "java/lang/Character"
abbrev cJ5_isValidCodePoint : ByteArray := prog_21_method_11_code
def yJ5_isValidCodePoint : MethodName := ⟨RJ5, "isValidCodePoint", "(I)Z"⟩
def dkwJ5_isValidCodePoint_0 : List UInt8 := [26, 16, 16, 124, 60, 27, 16, 17, 162, 0, 7, 4, 167, 0, 4, 3, 172]
abbrev dktJ5_isValidCodePoint_0 : List UInt8 := dkwJ5_isValidCodePoint_0 ++ []
theorem dksJ5_isValidCodePoint_0 : cJ5_isValidCodePoint.data.toList.drop 0 = dktJ5_isValidCodePoint_0 := by decide +kernel
theorem dJ5_isValidCodePoint_0 : decode cJ5_isValidCodePoint 0 = .ok (.iload_n 0, 1) := dk_26 (dk_at dksJ5_isValidCodePoint_0 0 rfl rfl)
theorem dJ5_isValidCodePoint_1 : decode cJ5_isValidCodePoint 1 = .ok (.bipush 16, 2) := dk_16 16 (dk_at dksJ5_isValidCodePoint_0 1 rfl rfl)
theorem dJ5_isValidCodePoint_3 : decode cJ5_isValidCodePoint 3 = .ok (.iushr, 1) := dk_124 (dk_at dksJ5_isValidCodePoint_0 3 rfl rfl)
theorem dJ5_isValidCodePoint_4 : decode cJ5_isValidCodePoint 4 = .ok (.istore_n 1, 1) := dk_60 (dk_at dksJ5_isValidCodePoint_0 4 rfl rfl)
theorem dJ5_isValidCodePoint_5 : decode cJ5_isValidCodePoint 5 = .ok (.iload_n 1, 1) := dk_27 (dk_at dksJ5_isValidCodePoint_0 5 rfl rfl)
theorem dJ5_isValidCodePoint_6 : decode cJ5_isValidCodePoint 6 = .ok (.bipush 17, 2) := dk_16 17 (dk_at dksJ5_isValidCodePoint_0 6 rfl rfl)
theorem dJ5_isValidCodePoint_8 : decode cJ5_isValidCodePoint 8 = .ok (.if_icmp .ge 7, 3) := dk_162 0 7 (dk_at dksJ5_isValidCodePoint_0 8 rfl rfl)
theorem dJ5_isValidCodePoint_11 : decode cJ5_isValidCodePoint 11 = .ok (.iconst 1, 1) := dk_4 (dk_at dksJ5_isValidCodePoint_0 11 rfl rfl)
theorem dJ5_isValidCodePoint_12 : decode cJ5_isValidCodePoint 12 = .ok (.goto 4, 3) := dk_167 0 4 (dk_at dksJ5_isValidCodePoint_0 12 rfl rfl)
theorem dJ5_isValidCodePoint_15 : decode cJ5_isValidCodePoint 15 = .ok (.iconst 0, 1) := dk_3 (dk_at dksJ5_isValidCodePoint_0 15 rfl rfl)
theorem dJ5_isValidCodePoint_16 : decode cJ5_isValidCodePoint 16 = .ok (.ireturn, 1) := dk_172 (dk_at dksJ5_isValidCodePoint_0 16 rfl rfl)
abbrev cJ5_highSurrogate : ByteArray := prog_21_method_28_code
def yJ5_highSurrogate : MethodName := ⟨RJ5, "highSurrogate", "(I)C"⟩
def dkwJ5_highSurrogate_0 : List UInt8 := [26, 16, 10, 124, 18, 110, 96, 146, 172]
abbrev dktJ5_highSurrogate_0 : List UInt8 := dkwJ5_highSurrogate_0 ++ []
theorem dksJ5_highSurrogate_0 : cJ5_highSurrogate.data.toList.drop 0 = dktJ5_highSurrogate_0 := by decide +kernel
theorem dJ5_highSurrogate_0 : decode cJ5_highSurrogate 0 = .ok (.iload_n 0, 1) := dk_26 (dk_at dksJ5_highSurrogate_0 0 rfl rfl)
theorem dJ5_highSurrogate_1 : decode cJ5_highSurrogate 1 = .ok (.bipush 10, 2) := dk_16 10 (dk_at dksJ5_highSurrogate_0 1 rfl rfl)
theorem dJ5_highSurrogate_3 : decode cJ5_highSurrogate 3 = .ok (.iushr, 1) := dk_124 (dk_at dksJ5_highSurrogate_0 3 rfl rfl)
theorem dJ5_highSurrogate_4 : decode cJ5_highSurrogate 4 = .ok (.ldc 110, 2) := dk_18 110 (dk_at dksJ5_highSurrogate_0 4 rfl rfl)
theorem dJ5_highSurrogate_6 : decode cJ5_highSurrogate 6 = .ok (.iadd, 1) := dk_96 (dk_at dksJ5_highSurrogate_0 6 rfl rfl)
theorem dJ5_highSurrogate_7 : decode cJ5_highSurrogate 7 = .ok (.i2c, 1) := dk_146 (dk_at dksJ5_highSurrogate_0 7 rfl rfl)
theorem dJ5_highSurrogate_8 : decode cJ5_highSurrogate 8 = .ok (.ireturn, 1) := dk_172 (dk_at dksJ5_highSurrogate_0 8 rfl rfl)
abbrev cJ5_lowSurrogate : ByteArray := prog_21_method_29_code
def yJ5_lowSurrogate : MethodName := ⟨RJ5, "lowSurrogate", "(I)C"⟩
def dkwJ5_lowSurrogate_0 : List UInt8 := [26, 17, 3, 255, 126, 18, 76, 96, 146, 172]
abbrev dktJ5_lowSurrogate_0 : List UInt8 := dkwJ5_lowSurrogate_0 ++ []
theorem dksJ5_lowSurrogate_0 : cJ5_lowSurrogate.data.toList.drop 0 = dktJ5_lowSurrogate_0 := by decide +kernel
theorem dJ5_lowSurrogate_0 : decode cJ5_lowSurrogate 0 = .ok (.iload_n 0, 1) := dk_26 (dk_at dksJ5_lowSurrogate_0 0 rfl rfl)
theorem dJ5_lowSurrogate_1 : decode cJ5_lowSurrogate 1 = .ok (.sipush 1023, 3) := dk_17 3 255 (dk_at dksJ5_lowSurrogate_0 1 rfl rfl)
theorem dJ5_lowSurrogate_4 : decode cJ5_lowSurrogate 4 = .ok (.iand, 1) := dk_126 (dk_at dksJ5_lowSurrogate_0 4 rfl rfl)
theorem dJ5_lowSurrogate_5 : decode cJ5_lowSurrogate 5 = .ok (.ldc 76, 2) := dk_18 76 (dk_at dksJ5_lowSurrogate_0 5 rfl rfl)
theorem dJ5_lowSurrogate_7 : decode cJ5_lowSurrogate 7 = .ok (.iadd, 1) := dk_96 (dk_at dksJ5_lowSurrogate_0 7 rfl rfl)
theorem dJ5_lowSurrogate_8 : decode cJ5_lowSurrogate 8 = .ok (.i2c, 1) := dk_146 (dk_at dksJ5_lowSurrogate_0 8 rfl rfl)
theorem dJ5_lowSurrogate_9 : decode cJ5_lowSurrogate 9 = .ok (.ireturn, 1) := dk_172 (dk_at dksJ5_lowSurrogate_0 9 rfl rfl)
theorem q123 : (Jvm.Cond.initialized "java/lang/Character") ∈ lw_all := lw_g (lw_at lw_m1 14 rfl) rfl
theorem q512 : (Jvm.Cond.static ({ cls := "java/lang/Character", name := "isValidCodePoint", desc := "(I)Z" } : Jvm.MethodName)) ∈ lw_all := lw_g (lw_at lw_m2 163 rfl) rfl
theorem q513 : (Jvm.Cond.code ({ cls := "java/lang/Character", name := "isValidCodePoint", desc := "(I)Z" } : Jvm.MethodName) prog_21_method_11_code (2 : Nat) (Option.some Jvm.ClassFile.FieldType.boolean)) ∈ lw_all := lw_g (lw_at lw_m2 164 rfl) rfl
theorem q515 : (Jvm.Cond.static ({ cls := "java/lang/Character", name := "highSurrogate", desc := "(I)C" } : Jvm.MethodName)) ∈ lw_all := lw_g (lw_at lw_m2 166 rfl) rfl
theorem q516 : (Jvm.Cond.code ({ cls := "java/lang/Character", name := "highSurrogate", desc := "(I)C" } : Jvm.MethodName) prog_21_method_28_code (1 : Nat) (Option.some Jvm.ClassFile.FieldType.char)) ∈ lw_all := lw_g (lw_at lw_m2 167 rfl) rfl
theorem q517 : (Jvm.Cond.constant "java/lang/Character" (110 : Nat) (55232 : Int32)) ∈ lw_all := lw_g (lw_at lw_m2 168 rfl) rfl
theorem q519 : (Jvm.Cond.static ({ cls := "java/lang/Character", name := "lowSurrogate", desc := "(I)C" } : Jvm.MethodName)) ∈ lw_all := lw_g (lw_at lw_m2 170 rfl) rfl
theorem q520 : (Jvm.Cond.code ({ cls := "java/lang/Character", name := "lowSurrogate", desc := "(I)C" } : Jvm.MethodName) prog_21_method_29_code (1 : Nat) (Option.some Jvm.ClassFile.FieldType.char)) ∈ lw_all := lw_g (lw_at lw_m2 171 rfl) rfl
theorem q521 : (Jvm.Cond.constant "java/lang/Character" (76 : Nat) (56320 : Int32)) ∈ lw_all := lw_g (lw_at lw_m2 172 rfl) rfl
/-! java/lang/Integer -/
set_option maxRecDepth 100000
def RJ6 : String := "java/lang/Integer"
abbrev cJ6_bitCount : ByteArray := prog_22_method_49_code
def yJ6_bitCount : MethodName := ⟨RJ6, "bitCount", "(I)I"⟩
def dkwJ6_bitCount_2 : List UInt8 := [26, 16, 63, 126, 172]
abbrev dktJ6_bitCount_2 : List UInt8 := dkwJ6_bitCount_2 ++ []
def dkwJ6_bitCount_1 : List UInt8 := [26, 26, 7, 124, 96, 19, 1, 11, 126, 59, 26, 26, 16, 8, 124, 96, 59, 26, 26, 16, 16, 124, 96, 59]
abbrev dktJ6_bitCount_1 : List UInt8 := dkwJ6_bitCount_1 ++ dktJ6_bitCount_2
def dkwJ6_bitCount_0 : List UInt8 := [26, 26, 4, 124, 19, 1, 9, 126, 100, 59, 26, 19, 1, 10, 126, 26, 5, 124, 19, 1, 10, 126, 96, 59]
abbrev dktJ6_bitCount_0 : List UInt8 := dkwJ6_bitCount_0 ++ dktJ6_bitCount_1
theorem dksJ6_bitCount_0 : cJ6_bitCount.data.toList.drop 0 = dktJ6_bitCount_0 := by decide +kernel
theorem dksJ6_bitCount_1 : cJ6_bitCount.data.toList.drop 24 = dktJ6_bitCount_1 := dk_seg dksJ6_bitCount_0 24 rfl rfl
theorem dksJ6_bitCount_2 : cJ6_bitCount.data.toList.drop 48 = dktJ6_bitCount_2 := dk_seg dksJ6_bitCount_1 24 rfl rfl
theorem dJ6_bitCount_0 : decode cJ6_bitCount 0 = .ok (.iload_n 0, 1) := dk_26 (dk_at dksJ6_bitCount_0 0 rfl rfl)
theorem dJ6_bitCount_1 : decode cJ6_bitCount 1 = .ok (.iload_n 0, 1) := dk_26 (dk_at dksJ6_bitCount_0 1 rfl rfl)
theorem dJ6_bitCount_2 : decode cJ6_bitCount 2 = .ok (.iconst 1, 1) := dk_4 (dk_at dksJ6_bitCount_0 2 rfl rfl)
theorem dJ6_bitCount_3 : decode cJ6_bitCount 3 = .ok (.iushr, 1) := dk_124 (dk_at dksJ6_bitCount_0 3 rfl rfl)
theorem dJ6_bitCount_4 : decode cJ6_bitCount 4 = .ok (.ldc_w 265, 3) := dk_19 1 9 (dk_at dksJ6_bitCount_0 4 rfl rfl)
theorem dJ6_bitCount_7 : decode cJ6_bitCount 7 = .ok (.iand, 1) := dk_126 (dk_at dksJ6_bitCount_0 7 rfl rfl)
theorem dJ6_bitCount_8 : decode cJ6_bitCount 8 = .ok (.isub, 1) := dk_100 (dk_at dksJ6_bitCount_0 8 rfl rfl)
theorem dJ6_bitCount_9 : decode cJ6_bitCount 9 = .ok (.istore_n 0, 1) := dk_59 (dk_at dksJ6_bitCount_0 9 rfl rfl)
theorem dJ6_bitCount_10 : decode cJ6_bitCount 10 = .ok (.iload_n 0, 1) := dk_26 (dk_at dksJ6_bitCount_0 10 rfl rfl)
theorem dJ6_bitCount_11 : decode cJ6_bitCount 11 = .ok (.ldc_w 266, 3) := dk_19 1 10 (dk_at dksJ6_bitCount_0 11 rfl rfl)
theorem dJ6_bitCount_14 : decode cJ6_bitCount 14 = .ok (.iand, 1) := dk_126 (dk_at dksJ6_bitCount_0 14 rfl rfl)
theorem dJ6_bitCount_15 : decode cJ6_bitCount 15 = .ok (.iload_n 0, 1) := dk_26 (dk_at dksJ6_bitCount_0 15 rfl rfl)
theorem dJ6_bitCount_16 : decode cJ6_bitCount 16 = .ok (.iconst 2, 1) := dk_5 (dk_at dksJ6_bitCount_0 16 rfl rfl)
theorem dJ6_bitCount_17 : decode cJ6_bitCount 17 = .ok (.iushr, 1) := dk_124 (dk_at dksJ6_bitCount_0 17 rfl rfl)
theorem dJ6_bitCount_18 : decode cJ6_bitCount 18 = .ok (.ldc_w 266, 3) := dk_19 1 10 (dk_at dksJ6_bitCount_0 18 rfl rfl)
theorem dJ6_bitCount_21 : decode cJ6_bitCount 21 = .ok (.iand, 1) := dk_126 (dk_at dksJ6_bitCount_0 21 rfl rfl)
theorem dJ6_bitCount_22 : decode cJ6_bitCount 22 = .ok (.iadd, 1) := dk_96 (dk_at dksJ6_bitCount_0 22 rfl rfl)
theorem dJ6_bitCount_23 : decode cJ6_bitCount 23 = .ok (.istore_n 0, 1) := dk_59 (dk_at dksJ6_bitCount_0 23 rfl rfl)
theorem dJ6_bitCount_24 : decode cJ6_bitCount 24 = .ok (.iload_n 0, 1) := dk_26 (dk_at dksJ6_bitCount_1 0 rfl rfl)
theorem dJ6_bitCount_25 : decode cJ6_bitCount 25 = .ok (.iload_n 0, 1) := dk_26 (dk_at dksJ6_bitCount_1 1 rfl rfl)
theorem dJ6_bitCount_26 : decode cJ6_bitCount 26 = .ok (.iconst 4, 1) := dk_7 (dk_at dksJ6_bitCount_1 2 rfl rfl)
theorem dJ6_bitCount_27 : decode cJ6_bitCount 27 = .ok (.iushr, 1) := dk_124 (dk_at dksJ6_bitCount_1 3 rfl rfl)
theorem dJ6_bitCount_28 : decode cJ6_bitCount 28 = .ok (.iadd, 1) := dk_96 (dk_at dksJ6_bitCount_1 4 rfl rfl)
theorem dJ6_bitCount_29 : decode cJ6_bitCount 29 = .ok (.ldc_w 267, 3) := dk_19 1 11 (dk_at dksJ6_bitCount_1 5 rfl rfl)
theorem dJ6_bitCount_32 : decode cJ6_bitCount 32 = .ok (.iand, 1) := dk_126 (dk_at dksJ6_bitCount_1 8 rfl rfl)
theorem dJ6_bitCount_33 : decode cJ6_bitCount 33 = .ok (.istore_n 0, 1) := dk_59 (dk_at dksJ6_bitCount_1 9 rfl rfl)
theorem dJ6_bitCount_34 : decode cJ6_bitCount 34 = .ok (.iload_n 0, 1) := dk_26 (dk_at dksJ6_bitCount_1 10 rfl rfl)
theorem dJ6_bitCount_35 : decode cJ6_bitCount 35 = .ok (.iload_n 0, 1) := dk_26 (dk_at dksJ6_bitCount_1 11 rfl rfl)
theorem dJ6_bitCount_36 : decode cJ6_bitCount 36 = .ok (.bipush 8, 2) := dk_16 8 (dk_at dksJ6_bitCount_1 12 rfl rfl)
theorem dJ6_bitCount_38 : decode cJ6_bitCount 38 = .ok (.iushr, 1) := dk_124 (dk_at dksJ6_bitCount_1 14 rfl rfl)
theorem dJ6_bitCount_39 : decode cJ6_bitCount 39 = .ok (.iadd, 1) := dk_96 (dk_at dksJ6_bitCount_1 15 rfl rfl)
theorem dJ6_bitCount_40 : decode cJ6_bitCount 40 = .ok (.istore_n 0, 1) := dk_59 (dk_at dksJ6_bitCount_1 16 rfl rfl)
theorem dJ6_bitCount_41 : decode cJ6_bitCount 41 = .ok (.iload_n 0, 1) := dk_26 (dk_at dksJ6_bitCount_1 17 rfl rfl)
theorem dJ6_bitCount_42 : decode cJ6_bitCount 42 = .ok (.iload_n 0, 1) := dk_26 (dk_at dksJ6_bitCount_1 18 rfl rfl)
theorem dJ6_bitCount_43 : decode cJ6_bitCount 43 = .ok (.bipush 16, 2) := dk_16 16 (dk_at dksJ6_bitCount_1 19 rfl rfl)
theorem dJ6_bitCount_45 : decode cJ6_bitCount 45 = .ok (.iushr, 1) := dk_124 (dk_at dksJ6_bitCount_1 21 rfl rfl)
theorem dJ6_bitCount_46 : decode cJ6_bitCount 46 = .ok (.iadd, 1) := dk_96 (dk_at dksJ6_bitCount_1 22 rfl rfl)
theorem dJ6_bitCount_47 : decode cJ6_bitCount 47 = .ok (.istore_n 0, 1) := dk_59 (dk_at dksJ6_bitCount_1 23 rfl rfl)
theorem dJ6_bitCount_48 : decode cJ6_bitCount 48 = .ok (.iload_n 0, 1) := dk_26 (dk_at dksJ6_bitCount_2 0 rfl rfl)
theorem dJ6_bitCount_49 : decode cJ6_bitCount 49 = .ok (.bipush 63, 2) := dk_16 63 (dk_at dksJ6_bitCount_2 1 rfl rfl)
theorem dJ6_bitCount_51 : decode cJ6_bitCount 51 = .ok (.iand, 1) := dk_126 (dk_at dksJ6_bitCount_2 3 rfl rfl)
theorem dJ6_bitCount_52 : decode cJ6_bitCount 52 = .ok (.ireturn, 1) := dk_172 (dk_at dksJ6_bitCount_2 4 rfl rfl)
abbrev cJ6_numberOfTrailingZeros : ByteArray := prog_22_method_48_code
def yJ6_numberOfTrailingZeros : MethodName := ⟨RJ6, "numberOfTrailingZeros", "(I)I"⟩
def dkwJ6_numberOfTrailingZeros_3 : List UInt8 := [5, 124, 59, 27, 26, 4, 124, 96, 172]
abbrev dktJ6_numberOfTrailingZeros_3 : List UInt8 := dkwJ6_numberOfTrailingZeros_3 ++ []
def dkwJ6_numberOfTrailingZeros_2 : List UInt8 := [124, 59, 26, 16, 16, 164, 0, 10, 132, 1, 4, 26, 7, 124, 59, 26, 7, 164, 0, 10, 132, 1, 2, 26]
abbrev dktJ6_numberOfTrailingZeros_2 : List UInt8 := dkwJ6_numberOfTrailingZeros_2 ++ dktJ6_numberOfTrailingZeros_3
def dkwJ6_numberOfTrailingZeros_1 : List UInt8 := [164, 0, 11, 132, 1, 16, 26, 16, 16, 124, 59, 26, 17, 1, 0, 164, 0, 11, 132, 1, 8, 26, 16, 8]
abbrev dktJ6_numberOfTrailingZeros_1 : List UInt8 := dkwJ6_numberOfTrailingZeros_1 ++ dktJ6_numberOfTrailingZeros_2
def dkwJ6_numberOfTrailingZeros_0 : List UInt8 := [26, 2, 130, 26, 4, 100, 126, 59, 26, 157, 0, 8, 26, 16, 32, 126, 172, 4, 60, 26, 19, 1, 8]
abbrev dktJ6_numberOfTrailingZeros_0 : List UInt8 := dkwJ6_numberOfTrailingZeros_0 ++ dktJ6_numberOfTrailingZeros_1
theorem dksJ6_numberOfTrailingZeros_0 : cJ6_numberOfTrailingZeros.data.toList.drop 0 = dktJ6_numberOfTrailingZeros_0 := by decide +kernel
theorem dksJ6_numberOfTrailingZeros_1 : cJ6_numberOfTrailingZeros.data.toList.drop 23 = dktJ6_numberOfTrailingZeros_1 := dk_seg dksJ6_numberOfTrailingZeros_0 23 rfl rfl
theorem dksJ6_numberOfTrailingZeros_2 : cJ6_numberOfTrailingZeros.data.toList.drop 47 = dktJ6_numberOfTrailingZeros_2 := dk_seg dksJ6_numberOfTrailingZeros_1 24 rfl rfl
theorem dksJ6_numberOfTrailingZeros_3 : cJ6_numberOfTrailingZeros.data.toList.drop 71 = dktJ6_numberOfTrailingZeros_3 := dk_seg dksJ6_numberOfTrailingZeros_2 24 rfl rfl
theorem dJ6_numberOfTrailingZeros_0 : decode cJ6_numberOfTrailingZeros 0 = .ok (.iload_n 0, 1) := dk_26 (dk_at dksJ6_numberOfTrailingZeros_0 0 rfl rfl)
theorem dJ6_numberOfTrailingZeros_1 : decode cJ6_numberOfTrailingZeros 1 = .ok (.iconst (-1), 1) := dk_2 (dk_at dksJ6_numberOfTrailingZeros_0 1 rfl rfl)
theorem dJ6_numberOfTrailingZeros_2 : decode cJ6_numberOfTrailingZeros 2 = .ok (.ixor, 1) := dk_130 (dk_at dksJ6_numberOfTrailingZeros_0 2 rfl rfl)
theorem dJ6_numberOfTrailingZeros_3 : decode cJ6_numberOfTrailingZeros 3 = .ok (.iload_n 0, 1) := dk_26 (dk_at dksJ6_numberOfTrailingZeros_0 3 rfl rfl)
theorem dJ6_numberOfTrailingZeros_4 : decode cJ6_numberOfTrailingZeros 4 = .ok (.iconst 1, 1) := dk_4 (dk_at dksJ6_numberOfTrailingZeros_0 4 rfl rfl)
theorem dJ6_numberOfTrailingZeros_5 : decode cJ6_numberOfTrailingZeros 5 = .ok (.isub, 1) := dk_100 (dk_at dksJ6_numberOfTrailingZeros_0 5 rfl rfl)
theorem dJ6_numberOfTrailingZeros_6 : decode cJ6_numberOfTrailingZeros 6 = .ok (.iand, 1) := dk_126 (dk_at dksJ6_numberOfTrailingZeros_0 6 rfl rfl)
theorem dJ6_numberOfTrailingZeros_7 : decode cJ6_numberOfTrailingZeros 7 = .ok (.istore_n 0, 1) := dk_59 (dk_at dksJ6_numberOfTrailingZeros_0 7 rfl rfl)
theorem dJ6_numberOfTrailingZeros_8 : decode cJ6_numberOfTrailingZeros 8 = .ok (.iload_n 0, 1) := dk_26 (dk_at dksJ6_numberOfTrailingZeros_0 8 rfl rfl)
theorem dJ6_numberOfTrailingZeros_9 : decode cJ6_numberOfTrailingZeros 9 = .ok (.ifCond .gt 8, 3) := dk_157 0 8 (dk_at dksJ6_numberOfTrailingZeros_0 9 rfl rfl)
theorem dJ6_numberOfTrailingZeros_12 : decode cJ6_numberOfTrailingZeros 12 = .ok (.iload_n 0, 1) := dk_26 (dk_at dksJ6_numberOfTrailingZeros_0 12 rfl rfl)
theorem dJ6_numberOfTrailingZeros_13 : decode cJ6_numberOfTrailingZeros 13 = .ok (.bipush 32, 2) := dk_16 32 (dk_at dksJ6_numberOfTrailingZeros_0 13 rfl rfl)
theorem dJ6_numberOfTrailingZeros_15 : decode cJ6_numberOfTrailingZeros 15 = .ok (.iand, 1) := dk_126 (dk_at dksJ6_numberOfTrailingZeros_0 15 rfl rfl)
theorem dJ6_numberOfTrailingZeros_16 : decode cJ6_numberOfTrailingZeros 16 = .ok (.ireturn, 1) := dk_172 (dk_at dksJ6_numberOfTrailingZeros_0 16 rfl rfl)
theorem dJ6_numberOfTrailingZeros_17 : decode cJ6_numberOfTrailingZeros 17 = .ok (.iconst 1, 1) := dk_4 (dk_at dksJ6_numberOfTrailingZeros_0 17 rfl rfl)
theorem dJ6_numberOfTrailingZeros_18 : decode cJ6_numberOfTrailingZeros 18 = .ok (.istore_n 1, 1) := dk_60 (dk_at dksJ6_numberOfTrailingZeros_0 18 rfl rfl)
theorem dJ6_numberOfTrailingZeros_19 : decode cJ6_numberOfTrailingZeros 19 = .ok (.iload_n 0, 1) := dk_26 (dk_at dksJ6_numberOfTrailingZeros_0 19 rfl rfl)
theorem dJ6_numberOfTrailingZeros_20 : decode cJ6_numberOfTrailingZeros 20 = .ok (.ldc_w 264, 3) := dk_19 1 8 (dk_at dksJ6_numberOfTrailingZeros_0 20 rfl rfl)
theorem dJ6_numberOfTrailingZeros_23 : decode cJ6_numberOfTrailingZeros 23 = .ok (.if_icmp .le 11, 3) := dk_164 0 11 (dk_at dksJ6_numberOfTrailingZeros_1 0 rfl rfl)
theorem dJ6_numberOfTrailingZeros_26 : decode cJ6_numberOfTrailingZeros 26 = .ok (.iinc 1 16, 3) := dk_132 1 16 (dk_at dksJ6_numberOfTrailingZeros_1 3 rfl rfl)
theorem dJ6_numberOfTrailingZeros_29 : decode cJ6_numberOfTrailingZeros 29 = .ok (.iload_n 0, 1) := dk_26 (dk_at dksJ6_numberOfTrailingZeros_1 6 rfl rfl)
theorem dJ6_numberOfTrailingZeros_30 : decode cJ6_numberOfTrailingZeros 30 = .ok (.bipush 16, 2) := dk_16 16 (dk_at dksJ6_numberOfTrailingZeros_1 7 rfl rfl)
theorem dJ6_numberOfTrailingZeros_32 : decode cJ6_numberOfTrailingZeros 32 = .ok (.iushr, 1) := dk_124 (dk_at dksJ6_numberOfTrailingZeros_1 9 rfl rfl)
theorem dJ6_numberOfTrailingZeros_33 : decode cJ6_numberOfTrailingZeros 33 = .ok (.istore_n 0, 1) := dk_59 (dk_at dksJ6_numberOfTrailingZeros_1 10 rfl rfl)
theorem dJ6_numberOfTrailingZeros_34 : decode cJ6_numberOfTrailingZeros 34 = .ok (.iload_n 0, 1) := dk_26 (dk_at dksJ6_numberOfTrailingZeros_1 11 rfl rfl)
theorem dJ6_numberOfTrailingZeros_35 : decode cJ6_numberOfTrailingZeros 35 = .ok (.sipush 256, 3) := dk_17 1 0 (dk_at dksJ6_numberOfTrailingZeros_1 12 rfl rfl)
theorem dJ6_numberOfTrailingZeros_38 : decode cJ6_numberOfTrailingZeros 38 = .ok (.if_icmp .le 11, 3) := dk_164 0 11 (dk_at dksJ6_numberOfTrailingZeros_1 15 rfl rfl)
theorem dJ6_numberOfTrailingZeros_41 : decode cJ6_numberOfTrailingZeros 41 = .ok (.iinc 1 8, 3) := dk_132 1 8 (dk_at dksJ6_numberOfTrailingZeros_1 18 rfl rfl)
theorem dJ6_numberOfTrailingZeros_44 : decode cJ6_numberOfTrailingZeros 44 = .ok (.iload_n 0, 1) := dk_26 (dk_at dksJ6_numberOfTrailingZeros_1 21 rfl rfl)
theorem dJ6_numberOfTrailingZeros_45 : decode cJ6_numberOfTrailingZeros 45 = .ok (.bipush 8, 2) := dk_16 8 (dk_at dksJ6_numberOfTrailingZeros_1 22 rfl rfl)
theorem dJ6_numberOfTrailingZeros_47 : decode cJ6_numberOfTrailingZeros 47 = .ok (.iushr, 1) := dk_124 (dk_at dksJ6_numberOfTrailingZeros_2 0 rfl rfl)
theorem dJ6_numberOfTrailingZeros_48 : decode cJ6_numberOfTrailingZeros 48 = .ok (.istore_n 0, 1) := dk_59 (dk_at dksJ6_numberOfTrailingZeros_2 1 rfl rfl)
theorem dJ6_numberOfTrailingZeros_49 : decode cJ6_numberOfTrailingZeros 49 = .ok (.iload_n 0, 1) := dk_26 (dk_at dksJ6_numberOfTrailingZeros_2 2 rfl rfl)
theorem dJ6_numberOfTrailingZeros_50 : decode cJ6_numberOfTrailingZeros 50 = .ok (.bipush 16, 2) := dk_16 16 (dk_at dksJ6_numberOfTrailingZeros_2 3 rfl rfl)
theorem dJ6_numberOfTrailingZeros_52 : decode cJ6_numberOfTrailingZeros 52 = .ok (.if_icmp .le 10, 3) := dk_164 0 10 (dk_at dksJ6_numberOfTrailingZeros_2 5 rfl rfl)
theorem dJ6_numberOfTrailingZeros_55 : decode cJ6_numberOfTrailingZeros 55 = .ok (.iinc 1 4, 3) := dk_132 1 4 (dk_at dksJ6_numberOfTrailingZeros_2 8 rfl rfl)
theorem dJ6_numberOfTrailingZeros_58 : decode cJ6_numberOfTrailingZeros 58 = .ok (.iload_n 0, 1) := dk_26 (dk_at dksJ6_numberOfTrailingZeros_2 11 rfl rfl)
theorem dJ6_numberOfTrailingZeros_59 : decode cJ6_numberOfTrailingZeros 59 = .ok (.iconst 4, 1) := dk_7 (dk_at dksJ6_numberOfTrailingZeros_2 12 rfl rfl)
theorem dJ6_numberOfTrailingZeros_60 : decode cJ6_numberOfTrailingZeros 60 = .ok (.iushr, 1) := dk_124 (dk_at dksJ6_numberOfTrailingZeros_2 13 rfl rfl)
theorem dJ6_numberOfTrailingZeros_61 : decode cJ6_numberOfTrailingZeros 61 = .ok (.istore_n 0, 1) := dk_59 (dk_at dksJ6_numberOfTrailingZeros_2 14 rfl rfl)
theorem dJ6_numberOfTrailingZeros_62 : decode cJ6_numberOfTrailingZeros 62 = .ok (.iload_n 0, 1) := dk_26 (dk_at dksJ6_numberOfTrailingZeros_2 15 rfl rfl)
theorem dJ6_numberOfTrailingZeros_63 : decode cJ6_numberOfTrailingZeros 63 = .ok (.iconst 4, 1) := dk_7 (dk_at dksJ6_numberOfTrailingZeros_2 16 rfl rfl)
theorem dJ6_numberOfTrailingZeros_64 : decode cJ6_numberOfTrailingZeros 64 = .ok (.if_icmp .le 10, 3) := dk_164 0 10 (dk_at dksJ6_numberOfTrailingZeros_2 17 rfl rfl)
theorem dJ6_numberOfTrailingZeros_67 : decode cJ6_numberOfTrailingZeros 67 = .ok (.iinc 1 2, 3) := dk_132 1 2 (dk_at dksJ6_numberOfTrailingZeros_2 20 rfl rfl)
theorem dJ6_numberOfTrailingZeros_70 : decode cJ6_numberOfTrailingZeros 70 = .ok (.iload_n 0, 1) := dk_26 (dk_at dksJ6_numberOfTrailingZeros_2 23 rfl rfl)
theorem dJ6_numberOfTrailingZeros_71 : decode cJ6_numberOfTrailingZeros 71 = .ok (.iconst 2, 1) := dk_5 (dk_at dksJ6_numberOfTrailingZeros_3 0 rfl rfl)
theorem dJ6_numberOfTrailingZeros_72 : decode cJ6_numberOfTrailingZeros 72 = .ok (.iushr, 1) := dk_124 (dk_at dksJ6_numberOfTrailingZeros_3 1 rfl rfl)
theorem dJ6_numberOfTrailingZeros_73 : decode cJ6_numberOfTrailingZeros 73 = .ok (.istore_n 0, 1) := dk_59 (dk_at dksJ6_numberOfTrailingZeros_3 2 rfl rfl)
theorem dJ6_numberOfTrailingZeros_74 : decode cJ6_numberOfTrailingZeros 74 = .ok (.iload_n 1, 1) := dk_27 (dk_at dksJ6_numberOfTrailingZeros_3 3 rfl rfl)
theorem dJ6_numberOfTrailingZeros_75 : decode cJ6_numberOfTrailingZeros 75 = .ok (.iload_n 0, 1) := dk_26 (dk_at dksJ6_numberOfTrailingZeros_3 4 rfl rfl)
theorem dJ6_numberOfTrailingZeros_76 : decode cJ6_numberOfTrailingZeros 76 = .ok (.iconst 1, 1) := dk_4 (dk_at dksJ6_numberOfTrailingZeros_3 5 rfl rfl)
theorem dJ6_numberOfTrailingZeros_77 : decode cJ6_numberOfTrailingZeros 77 = .ok (.iushr, 1) := dk_124 (dk_at dksJ6_numberOfTrailingZeros_3 6 rfl rfl)
theorem dJ6_numberOfTrailingZeros_78 : decode cJ6_numberOfTrailingZeros 78 = .ok (.iadd, 1) := dk_96 (dk_at dksJ6_numberOfTrailingZeros_3 7 rfl rfl)
theorem dJ6_numberOfTrailingZeros_79 : decode cJ6_numberOfTrailingZeros 79 = .ok (.ireturn, 1) := dk_172 (dk_at dksJ6_numberOfTrailingZeros_3 8 rfl rfl)
theorem q135 : (Jvm.Cond.initialized "java/lang/Integer") ∈ lw_all := lw_g (lw_at lw_m1 26 rfl) rfl
theorem q906 : (Jvm.Cond.static ({ cls := "java/lang/Integer", name := "bitCount", desc := "(I)I" } : Jvm.MethodName)) ∈ lw_all := lw_g (lw_at lw_m4 77 rfl) rfl
theorem q907 : (Jvm.Cond.code ({ cls := "java/lang/Integer", name := "bitCount", desc := "(I)I" } : Jvm.MethodName) prog_22_method_49_code (1 : Nat) (Option.some Jvm.ClassFile.FieldType.int)) ∈ lw_all := lw_g (lw_at lw_m4 78 rfl) rfl
theorem q908 : (Jvm.Cond.constant "java/lang/Integer" (265 : Nat) (1431655765 : Int32)) ∈ lw_all := lw_g (lw_at lw_m4 79 rfl) rfl
theorem q909 : (Jvm.Cond.constant "java/lang/Integer" (266 : Nat) (858993459 : Int32)) ∈ lw_all := lw_g (lw_at lw_m4 80 rfl) rfl
theorem q910 : (Jvm.Cond.constant "java/lang/Integer" (267 : Nat) (252645135 : Int32)) ∈ lw_all := lw_g (lw_at lw_m4 81 rfl) rfl
theorem q1128 : (Jvm.Cond.static ({ cls := "java/lang/Integer", name := "numberOfTrailingZeros", desc := "(I)I" } : Jvm.MethodName)) ∈ lw_all := lw_g (lw_at lw_m5 59 rfl) rfl
theorem q1129 : (Jvm.Cond.code ({ cls := "java/lang/Integer", name := "numberOfTrailingZeros", desc := "(I)I" } : Jvm.MethodName) prog_22_method_48_code (2 : Nat) (Option.some Jvm.ClassFile.FieldType.int)) ∈ lw_all := lw_g (lw_at lw_m5 60 rfl) rfl
theorem q1130 : (Jvm.Cond.constant "java/lang/Integer" (264 : Nat) (65536 : Int32)) ∈ lw_all := lw_g (lw_at lw_m5 61 rfl) rfl
/-! java/lang/Object -/
set_option maxRecDepth 100000
def RJ7 : String := "java/lang/Object"
abbrev cJ7_init : ByteArray := object_method_1_code
def yJ7_init : MethodName := ⟨RJ7, "<init>", "()V"⟩
theorem dJ7_init_0 : decode cJ7_init 0 = .ok (.return_, 1) := by decide +kernel
theorem q142 : (Jvm.Cond.instanceMethod ({ cls := "java/lang/Object", name := "<init>", desc := "()V" } : Jvm.MethodName)) ∈ lw_all := lw_g (lw_at lw_m1 33 rfl) rfl
theorem q143 : (Jvm.Cond.code ({ cls := "java/lang/Object", name := "<init>", desc := "()V" } : Jvm.MethodName) object_method_1_code (1 : Nat) (Option.none : Option Jvm.ClassFile.FieldType)) ∈ lw_all := lw_g (lw_at lw_m1 34 rfl) rfl
theorem q109 : (Jvm.Cond.initialized "SharedWindowLaw") ∈ lw_all := lw_g (lw_at lw_m1 0 rfl) rfl
set_option maxRecDepth 100000
theorem q136 : (Jvm.Cond.classLink "SharedWindowLaw" (7 : Nat) "SharedWindow") ∈ lw_all := lw_g (lw_at lw_m1 27 rfl) rfl
theorem q138 : (Jvm.Cond.methodLink "SharedWindowLaw" (9 : Nat) ({ cls := "SharedWindow", name := "<init>", desc := "()V" } : Jvm.MethodName)) ∈ lw_all := lw_g (lw_at lw_m1 29 rfl) rfl
theorem q359 : (Jvm.Cond.methodLink "SharedWindowLaw" (13 : Nat) ({ cls := "SharedWindow", name := "turn", desc := "(II)Z" } : Jvm.MethodName)) ∈ lw_all := lw_g (lw_at lw_m2 10 rfl) rfl
theorem q373 : (Jvm.Cond.methodLink "SharedWindowLaw" (18 : Nat) ({ cls := "SharedWindow", name := "feed", desc := "(IIIII)I" } : Jvm.MethodName)) ∈ lw_all := lw_g (lw_at lw_m2 24 rfl) rfl
theorem q381 : (Jvm.Cond.methodLink "SharedWindowLaw" (23 : Nat) ({ cls := "SharedWindow", name := "law", desc := "(I)I" } : Jvm.MethodName)) ∈ lw_all := lw_g (lw_at lw_m2 32 rfl) rfl
theorem q653 : (Jvm.Cond.methodLink "SharedWindowLaw" (28 : Nat) ({ cls := "SharedWindow", name := "terrace", desc := "(I)I" } : Jvm.MethodName)) ∈ lw_all := lw_g (lw_at lw_m3 64 rfl) rfl
theorem q787 : (Jvm.Cond.methodLink "SharedWindowLaw" (32 : Nat) ({ cls := "SharedWindow", name := "rota", desc := "(I)I" } : Jvm.MethodName)) ∈ lw_all := lw_g (lw_at lw_m3 198 rfl) rfl
theorem q864 : (Jvm.Cond.methodLink "SharedWindowLaw" (36 : Nat) ({ cls := "SharedWindow", name := "days", desc := "(I)I" } : Jvm.MethodName)) ∈ lw_all := lw_g (lw_at lw_m4 35 rfl) rfl
theorem q981 : (Jvm.Cond.methodLink "SharedWindowLaw" (40 : Nat) ({ cls := "SharedWindow", name := "tried", desc := "(II)I" } : Jvm.MethodName)) ∈ lw_all := lw_g (lw_at lw_m4 152 rfl) rfl
theorem q996 : (Jvm.Cond.methodLink "SharedWindowLaw" (45 : Nat) ({ cls := "SharedWindow", name := "sees", desc := "(II)I" } : Jvm.MethodName)) ∈ lw_all := lw_g (lw_at lw_m4 167 rfl) rfl
theorem q1001 : (Jvm.Cond.methodLink "SharedWindowLaw" (49 : Nat) ({ cls := "SharedWindow", name := "houseIs", desc := "(II)I" } : Jvm.MethodName)) ∈ lw_all := lw_g (lw_at lw_m4 172 rfl) rfl
theorem q1018 : (Jvm.Cond.methodLink "SharedWindowLaw" (53 : Nat) ({ cls := "SharedWindow", name := "rotaIs", desc := "(I)I" } : Jvm.MethodName)) ∈ lw_all := lw_g (lw_at lw_m4 189 rfl) rfl
theorem q1031 : (Jvm.Cond.methodLink "SharedWindowLaw" (57 : Nat) ({ cls := "SharedWindow", name := "next", desc := "(III)I" } : Jvm.MethodName)) ∈ lw_all := lw_g (lw_at lw_m4 202 rfl) rfl
theorem q1039 : (Jvm.Cond.methodLink "SharedWindowLaw" (62 : Nat) ({ cls := "SharedWindow", name := "light", desc := "(II)I" } : Jvm.MethodName)) ∈ lw_all := lw_g (lw_at lw_m4 210 rfl) rfl
theorem q1043 : (Jvm.Cond.methodLink "SharedWindowLaw" (66 : Nat) ({ cls := "SharedWindow", name := "seers", desc := "(I)I" } : Jvm.MethodName)) ∈ lw_all := lw_g (lw_at lw_m4 214 rfl) rfl
theorem q1047 : (Jvm.Cond.methodLink "SharedWindowLaw" (70 : Nat) ({ cls := "SharedWindow", name := "ifSwapped", desc := "(II)I" } : Jvm.MethodName)) ∈ lw_all := lw_g (lw_at lw_m4 218 rfl) rfl
theorem q1055 : (Jvm.Cond.methodLink "SharedWindowLaw" (74 : Nat) ({ cls := "SharedWindow", name := "spread", desc := "()I" } : Jvm.MethodName)) ∈ lw_all := lw_g (lw_at lw_m4 226 rfl) rfl
theorem q1059 : (Jvm.Cond.methodLink "SharedWindowLaw" (79 : Nat) ({ cls := "SharedWindow", name := "bestBreath", desc := "(II)I" } : Jvm.MethodName)) ∈ lw_all := lw_g (lw_at lw_m4 230 rfl) rfl
theorem q1072 : (Jvm.Cond.methodLink "SharedWindowLaw" (83 : Nat) ({ cls := "SharedWindow", name := "clearest", desc := "(I)I" } : Jvm.MethodName)) ∈ lw_all := lw_g (lw_at lw_m5 3 rfl) rfl
theorem q1080 : (Jvm.Cond.methodLink "SharedWindowLaw" (87 : Nat) ({ cls := "SharedWindow", name := "shortest", desc := "(II)I" } : Jvm.MethodName)) ∈ lw_all := lw_g (lw_at lw_m5 11 rfl) rfl
theorem q1101 : (Jvm.Cond.methodLink "SharedWindowLaw" (91 : Nat) ({ cls := "SharedWindow", name := "whoHad", desc := "(II)I" } : Jvm.MethodName)) ∈ lw_all := lw_g (lw_at lw_m5 32 rfl) rfl
theorem q1106 : (Jvm.Cond.methodLink "SharedWindowLaw" (95 : Nat) ({ cls := "SharedWindow", name := "readers", desc := "(II)I" } : Jvm.MethodName)) ∈ lw_all := lw_g (lw_at lw_m5 37 rfl) rfl
theorem q1107 : (Jvm.Cond.methodLink "SharedWindowLaw" (99 : Nat) ({ cls := "SharedWindow", name := "second", desc := "(I)I" } : Jvm.MethodName)) ∈ lw_all := lw_g (lw_at lw_m5 38 rfl) rfl
theorem q1111 : (Jvm.Cond.methodLink "SharedWindowLaw" (103 : Nat) ({ cls := "SharedWindow", name := "crack", desc := "(II)I" } : Jvm.MethodName)) ∈ lw_all := lw_g (lw_at lw_m5 42 rfl) rfl
theorem q1115 : (Jvm.Cond.methodLink "SharedWindowLaw" (107 : Nat) ({ cls := "SharedWindow", name := "halves", desc := "(I)I" } : Jvm.MethodName)) ∈ lw_all := lw_g (lw_at lw_m5 46 rfl) rfl
theorem q1119 : (Jvm.Cond.methodLink "SharedWindowLaw" (111 : Nat) ({ cls := "SharedWindow", name := "swaps", desc := "(II)I" } : Jvm.MethodName)) ∈ lw_all := lw_g (lw_at lw_m5 50 rfl) rfl
theorem q1139 : (Jvm.Cond.methodLink "SharedWindowLaw" (115 : Nat) ({ cls := "SharedWindow", name := "sale", desc := "(II)I" } : Jvm.MethodName)) ∈ lw_all := lw_g (lw_at lw_m5 70 rfl) rfl
theorem q1147 : (Jvm.Cond.methodLink "SharedWindowLaw" (119 : Nat) ({ cls := "SharedWindow", name := "rotas", desc := "(I)J" } : Jvm.MethodName)) ∈ lw_all := lw_g (lw_at lw_m5 78 rfl) rfl
theorem q1152 : (Jvm.Cond.methodLink "SharedWindowLaw" (124 : Nat) ({ cls := "SharedWindow", name := "panes", desc := "(II)I" } : Jvm.MethodName)) ∈ lw_all := lw_g (lw_at lw_m5 83 rfl) rfl
theorem q1160 : (Jvm.Cond.methodLink "SharedWindowLaw" (128 : Nat) ({ cls := "SharedWindow", name := "keepIt", desc := "(II)I" } : Jvm.MethodName)) ∈ lw_all := lw_g (lw_at lw_m5 91 rfl) rfl
theorem q1168 : (Jvm.Cond.methodLink "SharedWindowLaw" (132 : Nat) ({ cls := "SharedWindow", name := "seed", desc := "(I)Z" } : Jvm.MethodName)) ∈ lw_all := lw_g (lw_at lw_m5 99 rfl) rfl
theorem q1172 : (Jvm.Cond.methodLink "SharedWindowLaw" (137 : Nat) ({ cls := "SharedWindow", name := "keep", desc := "()I" } : Jvm.MethodName)) ∈ lw_all := lw_g (lw_at lw_m5 103 rfl) rfl
theorem q1176 : (Jvm.Cond.methodLink "SharedWindowLaw" (141 : Nat) ({ cls := "SharedWindow", name := "undo", desc := "()Z" } : Jvm.MethodName)) ∈ lw_all := lw_g (lw_at lw_m5 107 rfl) rfl
theorem q1186 : (Jvm.Cond.methodLink "SharedWindowLaw" (146 : Nat) ({ cls := "SharedWindow", name := "check", desc := "(I)I" } : Jvm.MethodName)) ∈ lw_all := lw_g (lw_at lw_m5 117 rfl) rfl
theorem q1190 : (Jvm.Cond.methodLink "SharedWindowLaw" (150 : Nat) ({ cls := "SharedWindow", name := "count", desc := "(I)I" } : Jvm.MethodName)) ∈ lw_all := lw_g (lw_at lw_m5 121 rfl) rfl
theorem q1194 : (Jvm.Cond.classLink "SharedWindowLaw" (10 : Nat) "SharedWindowModel") ∈ lw_all := lw_g (lw_at lw_m5 125 rfl) rfl
theorem q1196 : (Jvm.Cond.methodLink "SharedWindowLaw" (12 : Nat) ({ cls := "SharedWindowModel", name := "<init>", desc := "()V" } : Jvm.MethodName)) ∈ lw_all := lw_g (lw_at lw_m5 127 rfl) rfl
theorem q1385 : (Jvm.Cond.methodLink "SharedWindowLaw" (17 : Nat) ({ cls := "SharedWindowModel", name := "turn", desc := "(II)Z" } : Jvm.MethodName)) ∈ lw_all := lw_g (lw_at lw_m6 76 rfl) rfl
theorem q1402 : (Jvm.Cond.methodLink "SharedWindowLaw" (48 : Nat) ({ cls := "SharedWindowModel", name := "sees", desc := "(II)I" } : Jvm.MethodName)) ∈ lw_all := lw_g (lw_at lw_m6 93 rfl) rfl
theorem q1418 : (Jvm.Cond.methodLink "SharedWindowLaw" (22 : Nat) ({ cls := "SharedWindowModel", name := "feed", desc := "(IIIII)I" } : Jvm.MethodName)) ∈ lw_all := lw_g (lw_at lw_m6 109 rfl) rfl
theorem q1426 : (Jvm.Cond.methodLink "SharedWindowLaw" (27 : Nat) ({ cls := "SharedWindowModel", name := "law", desc := "(I)I" } : Jvm.MethodName)) ∈ lw_all := lw_g (lw_at lw_m6 117 rfl) rfl
theorem q1513 : (Jvm.Cond.methodLink "SharedWindowLaw" (31 : Nat) ({ cls := "SharedWindowModel", name := "terrace", desc := "(I)I" } : Jvm.MethodName)) ∈ lw_all := lw_g (lw_at lw_m6 204 rfl) rfl
theorem q1533 : (Jvm.Cond.methodLink "SharedWindowLaw" (35 : Nat) ({ cls := "SharedWindowModel", name := "rota", desc := "(I)I" } : Jvm.MethodName)) ∈ lw_all := lw_g (lw_at lw_m6 224 rfl) rfl
theorem q1553 : (Jvm.Cond.methodLink "SharedWindowLaw" (39 : Nat) ({ cls := "SharedWindowModel", name := "days", desc := "(I)I" } : Jvm.MethodName)) ∈ lw_all := lw_g (lw_at lw_m7 4 rfl) rfl
theorem q1602 : (Jvm.Cond.methodLink "SharedWindowLaw" (44 : Nat) ({ cls := "SharedWindowModel", name := "tried", desc := "(II)I" } : Jvm.MethodName)) ∈ lw_all := lw_g (lw_at lw_m7 53 rfl) rfl
theorem q1616 : (Jvm.Cond.methodLink "SharedWindowLaw" (52 : Nat) ({ cls := "SharedWindowModel", name := "houseIs", desc := "(II)I" } : Jvm.MethodName)) ∈ lw_all := lw_g (lw_at lw_m7 67 rfl) rfl
theorem q1638 : (Jvm.Cond.methodLink "SharedWindowLaw" (56 : Nat) ({ cls := "SharedWindowModel", name := "rotaIs", desc := "(I)I" } : Jvm.MethodName)) ∈ lw_all := lw_g (lw_at lw_m7 89 rfl) rfl
theorem q1650 : (Jvm.Cond.methodLink "SharedWindowLaw" (61 : Nat) ({ cls := "SharedWindowModel", name := "next", desc := "(III)I" } : Jvm.MethodName)) ∈ lw_all := lw_g (lw_at lw_m7 101 rfl) rfl
theorem q1654 : (Jvm.Cond.methodLink "SharedWindowLaw" (65 : Nat) ({ cls := "SharedWindowModel", name := "light", desc := "(II)I" } : Jvm.MethodName)) ∈ lw_all := lw_g (lw_at lw_m7 105 rfl) rfl
theorem q1662 : (Jvm.Cond.methodLink "SharedWindowLaw" (69 : Nat) ({ cls := "SharedWindowModel", name := "seers", desc := "(I)I" } : Jvm.MethodName)) ∈ lw_all := lw_g (lw_at lw_m7 113 rfl) rfl
theorem q1666 : (Jvm.Cond.methodLink "SharedWindowLaw" (73 : Nat) ({ cls := "SharedWindowModel", name := "ifSwapped", desc := "(II)I" } : Jvm.MethodName)) ∈ lw_all := lw_g (lw_at lw_m7 117 rfl) rfl
theorem q1674 : (Jvm.Cond.methodLink "SharedWindowLaw" (78 : Nat) ({ cls := "SharedWindowModel", name := "spread", desc := "()I" } : Jvm.MethodName)) ∈ lw_all := lw_g (lw_at lw_m7 125 rfl) rfl
theorem q1678 : (Jvm.Cond.methodLink "SharedWindowLaw" (98 : Nat) ({ cls := "SharedWindowModel", name := "readers", desc := "(II)I" } : Jvm.MethodName)) ∈ lw_all := lw_g (lw_at lw_m7 129 rfl) rfl
theorem q1686 : (Jvm.Cond.methodLink "SharedWindowLaw" (82 : Nat) ({ cls := "SharedWindowModel", name := "bestBreath", desc := "(II)I" } : Jvm.MethodName)) ∈ lw_all := lw_g (lw_at lw_m7 137 rfl) rfl
theorem q1694 : (Jvm.Cond.methodLink "SharedWindowLaw" (86 : Nat) ({ cls := "SharedWindowModel", name := "clearest", desc := "(I)I" } : Jvm.MethodName)) ∈ lw_all := lw_g (lw_at lw_m7 145 rfl) rfl
theorem q1702 : (Jvm.Cond.methodLink "SharedWindowLaw" (94 : Nat) ({ cls := "SharedWindowModel", name := "whoHad", desc := "(II)I" } : Jvm.MethodName)) ∈ lw_all := lw_g (lw_at lw_m7 153 rfl) rfl
theorem q1707 : (Jvm.Cond.methodLink "SharedWindowLaw" (90 : Nat) ({ cls := "SharedWindowModel", name := "shortest", desc := "(II)I" } : Jvm.MethodName)) ∈ lw_all := lw_g (lw_at lw_m7 158 rfl) rfl
theorem q1731 : (Jvm.Cond.methodLink "SharedWindowLaw" (102 : Nat) ({ cls := "SharedWindowModel", name := "second", desc := "(I)I" } : Jvm.MethodName)) ∈ lw_all := lw_g (lw_at lw_m7 182 rfl) rfl
theorem q1742 : (Jvm.Cond.methodLink "SharedWindowLaw" (106 : Nat) ({ cls := "SharedWindowModel", name := "crack", desc := "(II)I" } : Jvm.MethodName)) ∈ lw_all := lw_g (lw_at lw_m7 193 rfl) rfl
theorem q1750 : (Jvm.Cond.methodLink "SharedWindowLaw" (110 : Nat) ({ cls := "SharedWindowModel", name := "halves", desc := "(I)I" } : Jvm.MethodName)) ∈ lw_all := lw_g (lw_at lw_m7 201 rfl) rfl
theorem q1758 : (Jvm.Cond.methodLink "SharedWindowLaw" (114 : Nat) ({ cls := "SharedWindowModel", name := "swaps", desc := "(II)I" } : Jvm.MethodName)) ∈ lw_all := lw_g (lw_at lw_m7 209 rfl) rfl
theorem q1774 : (Jvm.Cond.methodLink "SharedWindowLaw" (118 : Nat) ({ cls := "SharedWindowModel", name := "sale", desc := "(II)I" } : Jvm.MethodName)) ∈ lw_all := lw_g (lw_at lw_m7 225 rfl) rfl
theorem q1782 : (Jvm.Cond.methodLink "SharedWindowLaw" (123 : Nat) ({ cls := "SharedWindowModel", name := "rotas", desc := "(I)J" } : Jvm.MethodName)) ∈ lw_all := lw_g (lw_at lw_m7 233 rfl) rfl
theorem q1787 : (Jvm.Cond.methodLink "SharedWindowLaw" (127 : Nat) ({ cls := "SharedWindowModel", name := "panes", desc := "(II)I" } : Jvm.MethodName)) ∈ lw_all := lw_g (lw_at lw_m7 238 rfl) rfl
theorem q1798 : (Jvm.Cond.methodLink "SharedWindowLaw" (131 : Nat) ({ cls := "SharedWindowModel", name := "keepIt", desc := "(II)I" } : Jvm.MethodName)) ∈ lw_all := lw_g (lw_at lw_m8 9 rfl) rfl
theorem q1806 : (Jvm.Cond.methodLink "SharedWindowLaw" (136 : Nat) ({ cls := "SharedWindowModel", name := "seed", desc := "(I)Z" } : Jvm.MethodName)) ∈ lw_all := lw_g (lw_at lw_m8 17 rfl) rfl
theorem q1810 : (Jvm.Cond.methodLink "SharedWindowLaw" (140 : Nat) ({ cls := "SharedWindowModel", name := "keep", desc := "()I" } : Jvm.MethodName)) ∈ lw_all := lw_g (lw_at lw_m8 21 rfl) rfl
theorem q1814 : (Jvm.Cond.methodLink "SharedWindowLaw" (145 : Nat) ({ cls := "SharedWindowModel", name := "undo", desc := "()Z" } : Jvm.MethodName)) ∈ lw_all := lw_g (lw_at lw_m8 25 rfl) rfl
theorem q1818 : (Jvm.Cond.methodLink "SharedWindowLaw" (149 : Nat) ({ cls := "SharedWindowModel", name := "check", desc := "(I)I" } : Jvm.MethodName)) ∈ lw_all := lw_g (lw_at lw_m8 29 rfl) rfl
theorem q1822 : (Jvm.Cond.methodLink "SharedWindowLaw" (153 : Nat) ({ cls := "SharedWindowModel", name := "count", desc := "(I)I" } : Jvm.MethodName)) ∈ lw_all := lw_g (lw_at lw_m8 33 rfl) rfl
theorem q178 : (Jvm.Cond.arrayClass Jvm.ClassFile.FieldType.int) ∈ lw_all := lw_g (lw_at lw_m1 69 rfl) rfl
set_option maxRecDepth 100000
theorem q266 : (Jvm.Cond.arrayOver (Jvm.ClassFile.FieldType.object "SharedWindow$Sum")) ∈ lw_tbl := lw_at lw_m1 157 rfl
theorem q268 : (Jvm.Cond.arrayOver (Jvm.ClassFile.FieldType.object "SharedWindow$Condition")) ∈ lw_tbl := lw_at lw_m1 159 rfl
theorem q287 : (Jvm.Cond.arrayClass Jvm.ClassFile.FieldType.byte) ∈ lw_all := lw_g (lw_at lw_m1 178 rfl) rfl
theorem q289 : (Jvm.Cond.arrayOver (Jvm.ClassFile.FieldType.array Jvm.ClassFile.FieldType.int)) ∈ lw_tbl := lw_at lw_m1 180 rfl
theorem q358 : (Jvm.Cond.arrayClass Jvm.ClassFile.FieldType.long) ∈ lw_all := lw_g (lw_at lw_m2 9 rfl) rfl
