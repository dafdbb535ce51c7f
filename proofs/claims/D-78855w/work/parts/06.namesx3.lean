/-! WheatElevatorModel -/
set_option maxRecDepth 100000
def RX3 : String := "WheatElevatorModel"
def TX3 : u_T := fun k => match k with
  | 0 => ("WheatElevatorModel", "row", "[I", true)
  | 1 => ("WheatElevatorModel", "books", "[J", true)
  | 2 => ("WheatElevatorModel", "saved", "I", false)
  | 3 => ("WheatElevatorModel", "kept", "[Z", true)
  | 4 => ("WheatElevatorModel", "order", "[I", true)
  | 5 => ("WheatElevatorModel", "useful", "I", false)
  | 6 => ("WheatElevatorModel", "units", "[I", true)
  | 7 => ("WheatElevatorModel", "text", "[I", true)
  | 8 => ("WheatElevatorModel", "length", "I", false)
  | 9 => ("WheatElevatorModel", "at", "I", false)
  | 10 => ("WheatElevatorModel", "number", "I", false)
  | 11 => ("WheatElevatorModel", "told", "[I", true)
  | 12 => ("WheatElevatorModel", "done", "I", false)
  | 13 => ("WheatElevatorModel", "goes", "Z", false)
  | _ => ("WheatElevatorModel", "h", "J", false)
def tyX3 : Nat → FieldType := fun k => match k with
  | 0 => .array .int
  | 1 => .array .long
  | 2 => .int
  | 3 => .array .boolean
  | 4 => .array .int
  | 5 => .int
  | 6 => .array .int
  | 7 => .array .int
  | 8 => .int
  | 9 => .int
  | 10 => .int
  | 11 => .array .int
  | 12 => .int
  | 13 => .boolean
  | _ => .long
abbrev wsX30 : List Cond := u_ws RX3 TX3 15
set_option maxRecDepth 100000 in
theorem nmX3 : ∀ a, a < 15 → ∀ b, b < 15 → a ≠ b → (TX3 a).2.1 ≠ (TX3 b).2.1 := by decide +kernel
set_option maxRecDepth 100000 in
theorem tyX3_ok : ∀ k, k < 15 → parseFieldDescriptor (TX3 k).2.2.1 = some (tyX3 k) := by decide +kernel
abbrev cX3_init : ByteArray := prog_10_method_1_code
def yX3_init : MethodName := ⟨RX3, "<init>", "()V"⟩
def dkwX3_init_4 : List UInt8 := [167, 255, 232, 177]
abbrev dktX3_init_4 : List UInt8 := dkwX3_init_4 ++ []
def dkwX3_init_3 : List UInt8 := [7, 162, 0, 25, 42, 180, 0, 7, 16, 6, 27, 96, 16, 100, 16, 20, 27, 104, 100, 79, 132, 1, 1]
abbrev dktX3_init_3 : List UInt8 := dkwX3_init_3 ++ dktX3_init_4
def dkwX3_init_2 : List UInt8 := [188, 10, 181, 0, 27, 42, 8, 188, 10, 181, 0, 30, 42, 180, 0, 7, 4, 17, 3, 232, 79, 3, 60, 27]
abbrev dktX3_init_2 : List UInt8 := dkwX3_init_2 ++ dktX3_init_3
def dkwX3_init_1 : List UInt8 := [188, 4, 181, 0, 17, 42, 16, 8, 188, 10, 181, 0, 21, 42, 16, 8, 188, 10, 181, 0, 24, 42, 16, 120]
abbrev dktX3_init_1 : List UInt8 := dkwX3_init_1 ++ dktX3_init_2
def dkwX3_init_0 : List UInt8 := [42, 183, 0, 1, 42, 17, 4, 16, 188, 10, 181, 0, 7, 42, 16, 48, 188, 11, 181, 0, 13, 42, 5]
abbrev dktX3_init_0 : List UInt8 := dkwX3_init_0 ++ dktX3_init_1
theorem dksX3_init_0 : cX3_init.data.toList.drop 0 = dktX3_init_0 := by decide +kernel
theorem dksX3_init_1 : cX3_init.data.toList.drop 23 = dktX3_init_1 := dk_seg dksX3_init_0 23 rfl rfl
theorem dksX3_init_2 : cX3_init.data.toList.drop 47 = dktX3_init_2 := dk_seg dksX3_init_1 24 rfl rfl
theorem dksX3_init_3 : cX3_init.data.toList.drop 71 = dktX3_init_3 := dk_seg dksX3_init_2 24 rfl rfl
theorem dksX3_init_4 : cX3_init.data.toList.drop 94 = dktX3_init_4 := dk_seg dksX3_init_3 23 rfl rfl
theorem dX3_init_0 : decode cX3_init 0 = .ok (.aload_n 0, 1) := dk_42 (dk_at dksX3_init_0 0 rfl rfl)
theorem dX3_init_1 : decode cX3_init 1 = .ok (.invokespecial 1, 3) := dk_183 0 1 (dk_at dksX3_init_0 1 rfl rfl)
theorem dX3_init_4 : decode cX3_init 4 = .ok (.aload_n 0, 1) := dk_42 (dk_at dksX3_init_0 4 rfl rfl)
theorem dX3_init_5 : decode cX3_init 5 = .ok (.sipush 1040, 3) := dk_17 4 16 (dk_at dksX3_init_0 5 rfl rfl)
theorem dX3_init_8 : decode cX3_init 8 = .ok (.newarray .int, 2) := dk_188_10 (dk_at dksX3_init_0 8 rfl rfl)
theorem dX3_init_10 : decode cX3_init 10 = .ok (.putfield 7, 3) := dk_181 0 7 (dk_at dksX3_init_0 10 rfl rfl)
theorem dX3_init_13 : decode cX3_init 13 = .ok (.aload_n 0, 1) := dk_42 (dk_at dksX3_init_0 13 rfl rfl)
theorem dX3_init_14 : decode cX3_init 14 = .ok (.bipush 48, 2) := dk_16 48 (dk_at dksX3_init_0 14 rfl rfl)
theorem dX3_init_16 : decode cX3_init 16 = .ok (.newarray .long, 2) := dk_188_11 (dk_at dksX3_init_0 16 rfl rfl)
theorem dX3_init_18 : decode cX3_init 18 = .ok (.putfield 13, 3) := dk_181 0 13 (dk_at dksX3_init_0 18 rfl rfl)
theorem dX3_init_21 : decode cX3_init 21 = .ok (.aload_n 0, 1) := dk_42 (dk_at dksX3_init_0 21 rfl rfl)
theorem dX3_init_22 : decode cX3_init 22 = .ok (.iconst 2, 1) := dk_5 (dk_at dksX3_init_0 22 rfl rfl)
theorem dX3_init_23 : decode cX3_init 23 = .ok (.newarray .boolean, 2) := dk_188_4 (dk_at dksX3_init_1 0 rfl rfl)
theorem dX3_init_25 : decode cX3_init 25 = .ok (.putfield 17, 3) := dk_181 0 17 (dk_at dksX3_init_1 2 rfl rfl)
theorem dX3_init_28 : decode cX3_init 28 = .ok (.aload_n 0, 1) := dk_42 (dk_at dksX3_init_1 5 rfl rfl)
theorem dX3_init_29 : decode cX3_init 29 = .ok (.bipush 8, 2) := dk_16 8 (dk_at dksX3_init_1 6 rfl rfl)
theorem dX3_init_31 : decode cX3_init 31 = .ok (.newarray .int, 2) := dk_188_10 (dk_at dksX3_init_1 8 rfl rfl)
theorem dX3_init_33 : decode cX3_init 33 = .ok (.putfield 21, 3) := dk_181 0 21 (dk_at dksX3_init_1 10 rfl rfl)
theorem dX3_init_36 : decode cX3_init 36 = .ok (.aload_n 0, 1) := dk_42 (dk_at dksX3_init_1 13 rfl rfl)
theorem dX3_init_37 : decode cX3_init 37 = .ok (.bipush 8, 2) := dk_16 8 (dk_at dksX3_init_1 14 rfl rfl)
theorem dX3_init_39 : decode cX3_init 39 = .ok (.newarray .int, 2) := dk_188_10 (dk_at dksX3_init_1 16 rfl rfl)
theorem dX3_init_41 : decode cX3_init 41 = .ok (.putfield 24, 3) := dk_181 0 24 (dk_at dksX3_init_1 18 rfl rfl)
theorem dX3_init_44 : decode cX3_init 44 = .ok (.aload_n 0, 1) := dk_42 (dk_at dksX3_init_1 21 rfl rfl)
theorem dX3_init_45 : decode cX3_init 45 = .ok (.bipush 120, 2) := dk_16 120 (dk_at dksX3_init_1 22 rfl rfl)
theorem dX3_init_47 : decode cX3_init 47 = .ok (.newarray .int, 2) := dk_188_10 (dk_at dksX3_init_2 0 rfl rfl)
theorem dX3_init_49 : decode cX3_init 49 = .ok (.putfield 27, 3) := dk_181 0 27 (dk_at dksX3_init_2 2 rfl rfl)
theorem dX3_init_52 : decode cX3_init 52 = .ok (.aload_n 0, 1) := dk_42 (dk_at dksX3_init_2 5 rfl rfl)
theorem dX3_init_53 : decode cX3_init 53 = .ok (.iconst 5, 1) := dk_8 (dk_at dksX3_init_2 6 rfl rfl)
theorem dX3_init_54 : decode cX3_init 54 = .ok (.newarray .int, 2) := dk_188_10 (dk_at dksX3_init_2 7 rfl rfl)
theorem dX3_init_56 : decode cX3_init 56 = .ok (.putfield 30, 3) := dk_181 0 30 (dk_at dksX3_init_2 9 rfl rfl)
theorem dX3_init_59 : decode cX3_init 59 = .ok (.aload_n 0, 1) := dk_42 (dk_at dksX3_init_2 12 rfl rfl)
theorem dX3_init_60 : decode cX3_init 60 = .ok (.getfield 7, 3) := dk_180 0 7 (dk_at dksX3_init_2 13 rfl rfl)
theorem dX3_init_63 : decode cX3_init 63 = .ok (.iconst 1, 1) := dk_4 (dk_at dksX3_init_2 16 rfl rfl)
theorem dX3_init_64 : decode cX3_init 64 = .ok (.sipush 1000, 3) := dk_17 3 232 (dk_at dksX3_init_2 17 rfl rfl)
theorem dX3_init_67 : decode cX3_init 67 = .ok (.iastore, 1) := dk_79 (dk_at dksX3_init_2 20 rfl rfl)
theorem dX3_init_68 : decode cX3_init 68 = .ok (.iconst 0, 1) := dk_3 (dk_at dksX3_init_2 21 rfl rfl)
theorem dX3_init_69 : decode cX3_init 69 = .ok (.istore_n 1, 1) := dk_60 (dk_at dksX3_init_2 22 rfl rfl)
theorem dX3_init_70 : decode cX3_init 70 = .ok (.iload_n 1, 1) := dk_27 (dk_at dksX3_init_2 23 rfl rfl)
theorem dX3_init_71 : decode cX3_init 71 = .ok (.iconst 4, 1) := dk_7 (dk_at dksX3_init_3 0 rfl rfl)
theorem dX3_init_72 : decode cX3_init 72 = .ok (.if_icmp .ge 25, 3) := dk_162 0 25 (dk_at dksX3_init_3 1 rfl rfl)
theorem dX3_init_75 : decode cX3_init 75 = .ok (.aload_n 0, 1) := dk_42 (dk_at dksX3_init_3 4 rfl rfl)
theorem dX3_init_76 : decode cX3_init 76 = .ok (.getfield 7, 3) := dk_180 0 7 (dk_at dksX3_init_3 5 rfl rfl)
theorem dX3_init_79 : decode cX3_init 79 = .ok (.bipush 6, 2) := dk_16 6 (dk_at dksX3_init_3 8 rfl rfl)
theorem dX3_init_81 : decode cX3_init 81 = .ok (.iload_n 1, 1) := dk_27 (dk_at dksX3_init_3 10 rfl rfl)
theorem dX3_init_82 : decode cX3_init 82 = .ok (.iadd, 1) := dk_96 (dk_at dksX3_init_3 11 rfl rfl)
theorem dX3_init_83 : decode cX3_init 83 = .ok (.bipush 100, 2) := dk_16 100 (dk_at dksX3_init_3 12 rfl rfl)
theorem dX3_init_85 : decode cX3_init 85 = .ok (.bipush 20, 2) := dk_16 20 (dk_at dksX3_init_3 14 rfl rfl)
theorem dX3_init_87 : decode cX3_init 87 = .ok (.iload_n 1, 1) := dk_27 (dk_at dksX3_init_3 16 rfl rfl)
theorem dX3_init_88 : decode cX3_init 88 = .ok (.imul, 1) := dk_104 (dk_at dksX3_init_3 17 rfl rfl)
theorem dX3_init_89 : decode cX3_init 89 = .ok (.isub, 1) := dk_100 (dk_at dksX3_init_3 18 rfl rfl)
theorem dX3_init_90 : decode cX3_init 90 = .ok (.iastore, 1) := dk_79 (dk_at dksX3_init_3 19 rfl rfl)
theorem dX3_init_91 : decode cX3_init 91 = .ok (.iinc 1 1, 3) := dk_132 1 1 (dk_at dksX3_init_3 20 rfl rfl)
theorem dX3_init_94 : decode cX3_init 94 = .ok (.goto (-24), 3) := dk_167 255 232 (dk_at dksX3_init_4 0 rfl rfl)
theorem dX3_init_97 : decode cX3_init 97 = .ok (.return_, 1) := dk_177 (dk_at dksX3_init_4 3 rfl rfl)
abbrev cX3_addBin : ByteArray := prog_10_method_17_code
def yX3_addBin : MethodName := ⟨RX3, "addBin", "(I)I"⟩
def dkwX3_addBin_4 : List UInt8 := [79, 28, 172]
abbrev dktX3_addBin_4 : List UInt8 := dkwX3_addBin_4 ++ []
def dkwX3_addBin_3 : List UInt8 := [28, 5, 17, 1, 144, 182, 0, 55, 42, 28, 8, 2, 182, 0, 55, 42, 180, 0, 7, 5, 92, 46, 4, 96]
abbrev dktX3_addBin_3 : List UInt8 := dkwX3_addBin_3 ++ dktX3_addBin_4
def dkwX3_addBin_2 : List UInt8 := [162, 0, 16, 42, 28, 29, 3, 182, 0, 55, 132, 3, 1, 167, 255, 240, 42, 28, 3, 27, 182, 0, 55, 42]
abbrev dktX3_addBin_2 : List UInt8 := dkwX3_addBin_2 ++ dktX3_addBin_3
def dkwX3_addBin_1 : List UInt8 := [160, 0, 6, 16, 251, 172, 42, 182, 0, 52, 42, 180, 0, 7, 5, 46, 61, 3, 62, 29, 16, 9]
abbrev dktX3_addBin_1 : List UInt8 := dkwX3_addBin_1 ++ dktX3_addBin_2
def dkwX3_addBin_0 : List UInt8 := [27, 16, 10, 17, 78, 32, 184, 0, 41, 154, 0, 6, 16, 253, 172, 42, 180, 0, 7, 5, 46, 16, 8]
abbrev dktX3_addBin_0 : List UInt8 := dkwX3_addBin_0 ++ dktX3_addBin_1
theorem dksX3_addBin_0 : cX3_addBin.data.toList.drop 0 = dktX3_addBin_0 := by decide +kernel
theorem dksX3_addBin_1 : cX3_addBin.data.toList.drop 23 = dktX3_addBin_1 := dk_seg dksX3_addBin_0 23 rfl rfl
theorem dksX3_addBin_2 : cX3_addBin.data.toList.drop 45 = dktX3_addBin_2 := dk_seg dksX3_addBin_1 22 rfl rfl
theorem dksX3_addBin_3 : cX3_addBin.data.toList.drop 69 = dktX3_addBin_3 := dk_seg dksX3_addBin_2 24 rfl rfl
theorem dksX3_addBin_4 : cX3_addBin.data.toList.drop 93 = dktX3_addBin_4 := dk_seg dksX3_addBin_3 24 rfl rfl
theorem dX3_addBin_0 : decode cX3_addBin 0 = .ok (.iload_n 1, 1) := dk_27 (dk_at dksX3_addBin_0 0 rfl rfl)
theorem dX3_addBin_1 : decode cX3_addBin 1 = .ok (.bipush 10, 2) := dk_16 10 (dk_at dksX3_addBin_0 1 rfl rfl)
theorem dX3_addBin_3 : decode cX3_addBin 3 = .ok (.sipush 20000, 3) := dk_17 78 32 (dk_at dksX3_addBin_0 3 rfl rfl)
theorem dX3_addBin_6 : decode cX3_addBin 6 = .ok (.invokestatic 41, 3) := dk_184 0 41 (dk_at dksX3_addBin_0 6 rfl rfl)
theorem dX3_addBin_9 : decode cX3_addBin 9 = .ok (.ifCond .ne 6, 3) := dk_154 0 6 (dk_at dksX3_addBin_0 9 rfl rfl)
theorem dX3_addBin_12 : decode cX3_addBin 12 = .ok (.bipush (-3), 2) := dk_16 253 (dk_at dksX3_addBin_0 12 rfl rfl)
theorem dX3_addBin_14 : decode cX3_addBin 14 = .ok (.ireturn, 1) := dk_172 (dk_at dksX3_addBin_0 14 rfl rfl)
theorem dX3_addBin_15 : decode cX3_addBin 15 = .ok (.aload_n 0, 1) := dk_42 (dk_at dksX3_addBin_0 15 rfl rfl)
theorem dX3_addBin_16 : decode cX3_addBin 16 = .ok (.getfield 7, 3) := dk_180 0 7 (dk_at dksX3_addBin_0 16 rfl rfl)
theorem dX3_addBin_19 : decode cX3_addBin 19 = .ok (.iconst 2, 1) := dk_5 (dk_at dksX3_addBin_0 19 rfl rfl)
theorem dX3_addBin_20 : decode cX3_addBin 20 = .ok (.iaload, 1) := dk_46 (dk_at dksX3_addBin_0 20 rfl rfl)
theorem dX3_addBin_21 : decode cX3_addBin 21 = .ok (.bipush 8, 2) := dk_16 8 (dk_at dksX3_addBin_0 21 rfl rfl)
theorem dX3_addBin_23 : decode cX3_addBin 23 = .ok (.if_icmp .ne 6, 3) := dk_160 0 6 (dk_at dksX3_addBin_1 0 rfl rfl)
theorem dX3_addBin_26 : decode cX3_addBin 26 = .ok (.bipush (-5), 2) := dk_16 251 (dk_at dksX3_addBin_1 3 rfl rfl)
theorem dX3_addBin_28 : decode cX3_addBin 28 = .ok (.ireturn, 1) := dk_172 (dk_at dksX3_addBin_1 5 rfl rfl)
theorem dX3_addBin_29 : decode cX3_addBin 29 = .ok (.aload_n 0, 1) := dk_42 (dk_at dksX3_addBin_1 6 rfl rfl)
theorem dX3_addBin_30 : decode cX3_addBin 30 = .ok (.invokevirtual 52, 3) := dk_182 0 52 (dk_at dksX3_addBin_1 7 rfl rfl)
theorem dX3_addBin_33 : decode cX3_addBin 33 = .ok (.aload_n 0, 1) := dk_42 (dk_at dksX3_addBin_1 10 rfl rfl)
theorem dX3_addBin_34 : decode cX3_addBin 34 = .ok (.getfield 7, 3) := dk_180 0 7 (dk_at dksX3_addBin_1 11 rfl rfl)
theorem dX3_addBin_37 : decode cX3_addBin 37 = .ok (.iconst 2, 1) := dk_5 (dk_at dksX3_addBin_1 14 rfl rfl)
theorem dX3_addBin_38 : decode cX3_addBin 38 = .ok (.iaload, 1) := dk_46 (dk_at dksX3_addBin_1 15 rfl rfl)
theorem dX3_addBin_39 : decode cX3_addBin 39 = .ok (.istore_n 2, 1) := dk_61 (dk_at dksX3_addBin_1 16 rfl rfl)
theorem dX3_addBin_40 : decode cX3_addBin 40 = .ok (.iconst 0, 1) := dk_3 (dk_at dksX3_addBin_1 17 rfl rfl)
theorem dX3_addBin_41 : decode cX3_addBin 41 = .ok (.istore_n 3, 1) := dk_62 (dk_at dksX3_addBin_1 18 rfl rfl)
theorem dX3_addBin_42 : decode cX3_addBin 42 = .ok (.iload_n 3, 1) := dk_29 (dk_at dksX3_addBin_1 19 rfl rfl)
theorem dX3_addBin_43 : decode cX3_addBin 43 = .ok (.bipush 9, 2) := dk_16 9 (dk_at dksX3_addBin_1 20 rfl rfl)
theorem dX3_addBin_45 : decode cX3_addBin 45 = .ok (.if_icmp .ge 16, 3) := dk_162 0 16 (dk_at dksX3_addBin_2 0 rfl rfl)
theorem dX3_addBin_48 : decode cX3_addBin 48 = .ok (.aload_n 0, 1) := dk_42 (dk_at dksX3_addBin_2 3 rfl rfl)
theorem dX3_addBin_49 : decode cX3_addBin 49 = .ok (.iload_n 2, 1) := dk_28 (dk_at dksX3_addBin_2 4 rfl rfl)
theorem dX3_addBin_50 : decode cX3_addBin 50 = .ok (.iload_n 3, 1) := dk_29 (dk_at dksX3_addBin_2 5 rfl rfl)
theorem dX3_addBin_51 : decode cX3_addBin 51 = .ok (.iconst 0, 1) := dk_3 (dk_at dksX3_addBin_2 6 rfl rfl)
theorem dX3_addBin_52 : decode cX3_addBin 52 = .ok (.invokevirtual 55, 3) := dk_182 0 55 (dk_at dksX3_addBin_2 7 rfl rfl)
theorem dX3_addBin_55 : decode cX3_addBin 55 = .ok (.iinc 3 1, 3) := dk_132 3 1 (dk_at dksX3_addBin_2 10 rfl rfl)
theorem dX3_addBin_58 : decode cX3_addBin 58 = .ok (.goto (-16), 3) := dk_167 255 240 (dk_at dksX3_addBin_2 13 rfl rfl)
theorem dX3_addBin_61 : decode cX3_addBin 61 = .ok (.aload_n 0, 1) := dk_42 (dk_at dksX3_addBin_2 16 rfl rfl)
theorem dX3_addBin_62 : decode cX3_addBin 62 = .ok (.iload_n 2, 1) := dk_28 (dk_at dksX3_addBin_2 17 rfl rfl)
theorem dX3_addBin_63 : decode cX3_addBin 63 = .ok (.iconst 0, 1) := dk_3 (dk_at dksX3_addBin_2 18 rfl rfl)
theorem dX3_addBin_64 : decode cX3_addBin 64 = .ok (.iload_n 1, 1) := dk_27 (dk_at dksX3_addBin_2 19 rfl rfl)
theorem dX3_addBin_65 : decode cX3_addBin 65 = .ok (.invokevirtual 55, 3) := dk_182 0 55 (dk_at dksX3_addBin_2 20 rfl rfl)
theorem dX3_addBin_68 : decode cX3_addBin 68 = .ok (.aload_n 0, 1) := dk_42 (dk_at dksX3_addBin_2 23 rfl rfl)
theorem dX3_addBin_69 : decode cX3_addBin 69 = .ok (.iload_n 2, 1) := dk_28 (dk_at dksX3_addBin_3 0 rfl rfl)
theorem dX3_addBin_70 : decode cX3_addBin 70 = .ok (.iconst 2, 1) := dk_5 (dk_at dksX3_addBin_3 1 rfl rfl)
theorem dX3_addBin_71 : decode cX3_addBin 71 = .ok (.sipush 400, 3) := dk_17 1 144 (dk_at dksX3_addBin_3 2 rfl rfl)
theorem dX3_addBin_74 : decode cX3_addBin 74 = .ok (.invokevirtual 55, 3) := dk_182 0 55 (dk_at dksX3_addBin_3 5 rfl rfl)
theorem dX3_addBin_77 : decode cX3_addBin 77 = .ok (.aload_n 0, 1) := dk_42 (dk_at dksX3_addBin_3 8 rfl rfl)
theorem dX3_addBin_78 : decode cX3_addBin 78 = .ok (.iload_n 2, 1) := dk_28 (dk_at dksX3_addBin_3 9 rfl rfl)
theorem dX3_addBin_79 : decode cX3_addBin 79 = .ok (.iconst 5, 1) := dk_8 (dk_at dksX3_addBin_3 10 rfl rfl)
theorem dX3_addBin_80 : decode cX3_addBin 80 = .ok (.iconst (-1), 1) := dk_2 (dk_at dksX3_addBin_3 11 rfl rfl)
theorem dX3_addBin_81 : decode cX3_addBin 81 = .ok (.invokevirtual 55, 3) := dk_182 0 55 (dk_at dksX3_addBin_3 12 rfl rfl)
theorem dX3_addBin_84 : decode cX3_addBin 84 = .ok (.aload_n 0, 1) := dk_42 (dk_at dksX3_addBin_3 15 rfl rfl)
theorem dX3_addBin_85 : decode cX3_addBin 85 = .ok (.getfield 7, 3) := dk_180 0 7 (dk_at dksX3_addBin_3 16 rfl rfl)
theorem dX3_addBin_88 : decode cX3_addBin 88 = .ok (.iconst 2, 1) := dk_5 (dk_at dksX3_addBin_3 19 rfl rfl)
theorem dX3_addBin_89 : decode cX3_addBin 89 = .ok (.dup2, 1) := dk_92 (dk_at dksX3_addBin_3 20 rfl rfl)
theorem dX3_addBin_90 : decode cX3_addBin 90 = .ok (.iaload, 1) := dk_46 (dk_at dksX3_addBin_3 21 rfl rfl)
theorem dX3_addBin_91 : decode cX3_addBin 91 = .ok (.iconst 1, 1) := dk_4 (dk_at dksX3_addBin_3 22 rfl rfl)
theorem dX3_addBin_92 : decode cX3_addBin 92 = .ok (.iadd, 1) := dk_96 (dk_at dksX3_addBin_3 23 rfl rfl)
theorem dX3_addBin_93 : decode cX3_addBin 93 = .ok (.iastore, 1) := dk_79 (dk_at dksX3_addBin_4 0 rfl rfl)
theorem dX3_addBin_94 : decode cX3_addBin 94 = .ok (.iload_n 2, 1) := dk_28 (dk_at dksX3_addBin_4 1 rfl rfl)
theorem dX3_addBin_95 : decode cX3_addBin 95 = .ok (.ireturn, 1) := dk_172 (dk_at dksX3_addBin_4 2 rfl rfl)
abbrev cX3_in : ByteArray := prog_10_method_2_code
def yX3_in : MethodName := ⟨RX3, "in", "(III)Z"⟩
def dkwX3_in_0 : List UInt8 := [26, 27, 161, 0, 12, 26, 28, 163, 0, 7, 4, 167, 0, 4, 3, 172]
abbrev dktX3_in_0 : List UInt8 := dkwX3_in_0 ++ []
theorem dksX3_in_0 : cX3_in.data.toList.drop 0 = dktX3_in_0 := by decide +kernel
theorem dX3_in_0 : decode cX3_in 0 = .ok (.iload_n 0, 1) := dk_26 (dk_at dksX3_in_0 0 rfl rfl)
theorem dX3_in_1 : decode cX3_in 1 = .ok (.iload_n 1, 1) := dk_27 (dk_at dksX3_in_0 1 rfl rfl)
theorem dX3_in_2 : decode cX3_in 2 = .ok (.if_icmp .lt 12, 3) := dk_161 0 12 (dk_at dksX3_in_0 2 rfl rfl)
theorem dX3_in_5 : decode cX3_in 5 = .ok (.iload_n 0, 1) := dk_26 (dk_at dksX3_in_0 5 rfl rfl)
theorem dX3_in_6 : decode cX3_in 6 = .ok (.iload_n 2, 1) := dk_28 (dk_at dksX3_in_0 6 rfl rfl)
theorem dX3_in_7 : decode cX3_in 7 = .ok (.if_icmp .gt 7, 3) := dk_163 0 7 (dk_at dksX3_in_0 7 rfl rfl)
theorem dX3_in_10 : decode cX3_in 10 = .ok (.iconst 1, 1) := dk_4 (dk_at dksX3_in_0 10 rfl rfl)
theorem dX3_in_11 : decode cX3_in 11 = .ok (.goto 4, 3) := dk_167 0 4 (dk_at dksX3_in_0 11 rfl rfl)
theorem dX3_in_14 : decode cX3_in 14 = .ok (.iconst 0, 1) := dk_3 (dk_at dksX3_in_0 14 rfl rfl)
theorem dX3_in_15 : decode cX3_in 15 = .ok (.ireturn, 1) := dk_172 (dk_at dksX3_in_0 15 rfl rfl)
abbrev cX3_saves : ByteArray := prog_10_method_4_code
def yX3_saves : MethodName := ⟨RX3, "saves", "()V"⟩
def dkwX3_saves_2 : List UInt8 := [100, 181, 0, 33, 42, 89, 180, 0, 33, 4, 96, 181, 0, 33, 42, 3, 42, 180, 0, 33, 182, 0, 37, 177]
abbrev dktX3_saves_2 : List UInt8 := dkwX3_saves_2 ++ []
def dkwX3_saves_1 : List UInt8 := [132, 1, 1, 167, 255, 232, 42, 89, 180, 0, 33, 42, 180, 0, 33, 8, 160, 0, 7, 4, 167, 0, 4, 3]
abbrev dktX3_saves_1 : List UInt8 := dkwX3_saves_1 ++ dktX3_saves_2
def dkwX3_saves_0 : List UInt8 := [4, 60, 27, 8, 162, 0, 25, 42, 180, 0, 33, 8, 160, 0, 17, 42, 27, 4, 96, 27, 182, 0, 37]
abbrev dktX3_saves_0 : List UInt8 := dkwX3_saves_0 ++ dktX3_saves_1
theorem dksX3_saves_0 : cX3_saves.data.toList.drop 0 = dktX3_saves_0 := by decide +kernel
theorem dksX3_saves_1 : cX3_saves.data.toList.drop 23 = dktX3_saves_1 := dk_seg dksX3_saves_0 23 rfl rfl
theorem dksX3_saves_2 : cX3_saves.data.toList.drop 47 = dktX3_saves_2 := dk_seg dksX3_saves_1 24 rfl rfl
theorem dX3_saves_0 : decode cX3_saves 0 = .ok (.iconst 1, 1) := dk_4 (dk_at dksX3_saves_0 0 rfl rfl)
theorem dX3_saves_1 : decode cX3_saves 1 = .ok (.istore_n 1, 1) := dk_60 (dk_at dksX3_saves_0 1 rfl rfl)
theorem dX3_saves_2 : decode cX3_saves 2 = .ok (.iload_n 1, 1) := dk_27 (dk_at dksX3_saves_0 2 rfl rfl)
theorem dX3_saves_3 : decode cX3_saves 3 = .ok (.iconst 5, 1) := dk_8 (dk_at dksX3_saves_0 3 rfl rfl)
theorem dX3_saves_4 : decode cX3_saves 4 = .ok (.if_icmp .ge 25, 3) := dk_162 0 25 (dk_at dksX3_saves_0 4 rfl rfl)
theorem dX3_saves_7 : decode cX3_saves 7 = .ok (.aload_n 0, 1) := dk_42 (dk_at dksX3_saves_0 7 rfl rfl)
theorem dX3_saves_8 : decode cX3_saves 8 = .ok (.getfield 33, 3) := dk_180 0 33 (dk_at dksX3_saves_0 8 rfl rfl)
theorem dX3_saves_11 : decode cX3_saves 11 = .ok (.iconst 5, 1) := dk_8 (dk_at dksX3_saves_0 11 rfl rfl)
theorem dX3_saves_12 : decode cX3_saves 12 = .ok (.if_icmp .ne 17, 3) := dk_160 0 17 (dk_at dksX3_saves_0 12 rfl rfl)
theorem dX3_saves_15 : decode cX3_saves 15 = .ok (.aload_n 0, 1) := dk_42 (dk_at dksX3_saves_0 15 rfl rfl)
theorem dX3_saves_16 : decode cX3_saves 16 = .ok (.iload_n 1, 1) := dk_27 (dk_at dksX3_saves_0 16 rfl rfl)
theorem dX3_saves_17 : decode cX3_saves 17 = .ok (.iconst 1, 1) := dk_4 (dk_at dksX3_saves_0 17 rfl rfl)
theorem dX3_saves_18 : decode cX3_saves 18 = .ok (.iadd, 1) := dk_96 (dk_at dksX3_saves_0 18 rfl rfl)
theorem dX3_saves_19 : decode cX3_saves 19 = .ok (.iload_n 1, 1) := dk_27 (dk_at dksX3_saves_0 19 rfl rfl)
theorem dX3_saves_20 : decode cX3_saves 20 = .ok (.invokevirtual 37, 3) := dk_182 0 37 (dk_at dksX3_saves_0 20 rfl rfl)
theorem dX3_saves_23 : decode cX3_saves 23 = .ok (.iinc 1 1, 3) := dk_132 1 1 (dk_at dksX3_saves_1 0 rfl rfl)
theorem dX3_saves_26 : decode cX3_saves 26 = .ok (.goto (-24), 3) := dk_167 255 232 (dk_at dksX3_saves_1 3 rfl rfl)
theorem dX3_saves_29 : decode cX3_saves 29 = .ok (.aload_n 0, 1) := dk_42 (dk_at dksX3_saves_1 6 rfl rfl)
theorem dX3_saves_30 : decode cX3_saves 30 = .ok (.dup, 1) := dk_89 (dk_at dksX3_saves_1 7 rfl rfl)
theorem dX3_saves_31 : decode cX3_saves 31 = .ok (.getfield 33, 3) := dk_180 0 33 (dk_at dksX3_saves_1 8 rfl rfl)
theorem dX3_saves_34 : decode cX3_saves 34 = .ok (.aload_n 0, 1) := dk_42 (dk_at dksX3_saves_1 11 rfl rfl)
theorem dX3_saves_35 : decode cX3_saves 35 = .ok (.getfield 33, 3) := dk_180 0 33 (dk_at dksX3_saves_1 12 rfl rfl)
theorem dX3_saves_38 : decode cX3_saves 38 = .ok (.iconst 5, 1) := dk_8 (dk_at dksX3_saves_1 15 rfl rfl)
theorem dX3_saves_39 : decode cX3_saves 39 = .ok (.if_icmp .ne 7, 3) := dk_160 0 7 (dk_at dksX3_saves_1 16 rfl rfl)
theorem dX3_saves_42 : decode cX3_saves 42 = .ok (.iconst 1, 1) := dk_4 (dk_at dksX3_saves_1 19 rfl rfl)
theorem dX3_saves_43 : decode cX3_saves 43 = .ok (.goto 4, 3) := dk_167 0 4 (dk_at dksX3_saves_1 20 rfl rfl)
theorem dX3_saves_46 : decode cX3_saves 46 = .ok (.iconst 0, 1) := dk_3 (dk_at dksX3_saves_1 23 rfl rfl)
theorem dX3_saves_47 : decode cX3_saves 47 = .ok (.isub, 1) := dk_100 (dk_at dksX3_saves_2 0 rfl rfl)
theorem dX3_saves_48 : decode cX3_saves 48 = .ok (.putfield 33, 3) := dk_181 0 33 (dk_at dksX3_saves_2 1 rfl rfl)
theorem dX3_saves_51 : decode cX3_saves 51 = .ok (.aload_n 0, 1) := dk_42 (dk_at dksX3_saves_2 4 rfl rfl)
theorem dX3_saves_52 : decode cX3_saves 52 = .ok (.dup, 1) := dk_89 (dk_at dksX3_saves_2 5 rfl rfl)
theorem dX3_saves_53 : decode cX3_saves 53 = .ok (.getfield 33, 3) := dk_180 0 33 (dk_at dksX3_saves_2 6 rfl rfl)
theorem dX3_saves_56 : decode cX3_saves 56 = .ok (.iconst 1, 1) := dk_4 (dk_at dksX3_saves_2 9 rfl rfl)
theorem dX3_saves_57 : decode cX3_saves 57 = .ok (.iadd, 1) := dk_96 (dk_at dksX3_saves_2 10 rfl rfl)
theorem dX3_saves_58 : decode cX3_saves 58 = .ok (.putfield 33, 3) := dk_181 0 33 (dk_at dksX3_saves_2 11 rfl rfl)
theorem dX3_saves_61 : decode cX3_saves 61 = .ok (.aload_n 0, 1) := dk_42 (dk_at dksX3_saves_2 14 rfl rfl)
theorem dX3_saves_62 : decode cX3_saves 62 = .ok (.iconst 0, 1) := dk_3 (dk_at dksX3_saves_2 15 rfl rfl)
theorem dX3_saves_63 : decode cX3_saves 63 = .ok (.aload_n 0, 1) := dk_42 (dk_at dksX3_saves_2 16 rfl rfl)
theorem dX3_saves_64 : decode cX3_saves 64 = .ok (.getfield 33, 3) := dk_180 0 33 (dk_at dksX3_saves_2 17 rfl rfl)
theorem dX3_saves_67 : decode cX3_saves 67 = .ok (.invokevirtual 37, 3) := dk_182 0 37 (dk_at dksX3_saves_2 20 rfl rfl)
theorem dX3_saves_70 : decode cX3_saves 70 = .ok (.return_, 1) := dk_177 (dk_at dksX3_saves_2 23 rfl rfl)
abbrev cX3_copies : ByteArray := prog_10_method_3_code
def yX3_copies : MethodName := ⟨RX3, "copies", "(II)V"⟩
def dkwX3_copies_3 : List UInt8 := [167, 255, 225, 177]
abbrev dktX3_copies_3 : List UInt8 := dkwX3_copies_3 ++ []
def dkwX3_copies_2 : List UInt8 := [180, 0, 13, 16, 6, 28, 104, 29, 96, 42, 180, 0, 13, 16, 6, 27, 104, 29, 96, 47, 80, 132, 3, 1]
abbrev dktX3_copies_2 : List UInt8 := dkwX3_copies_2 ++ dktX3_copies_3
def dkwX3_copies_1 : List UInt8 := [17, 0, 130, 27, 104, 29, 96, 46, 79, 132, 3, 1, 167, 255, 222, 3, 62, 29, 16, 6, 162, 0, 31, 42]
abbrev dktX3_copies_1 : List UInt8 := dkwX3_copies_1 ++ dktX3_copies_2
def dkwX3_copies_0 : List UInt8 := [3, 62, 29, 17, 0, 130, 162, 0, 33, 42, 180, 0, 7, 17, 0, 130, 28, 104, 29, 96, 42, 180, 0, 7]
abbrev dktX3_copies_0 : List UInt8 := dkwX3_copies_0 ++ dktX3_copies_1
theorem dksX3_copies_0 : cX3_copies.data.toList.drop 0 = dktX3_copies_0 := by decide +kernel
theorem dksX3_copies_1 : cX3_copies.data.toList.drop 24 = dktX3_copies_1 := dk_seg dksX3_copies_0 24 rfl rfl
theorem dksX3_copies_2 : cX3_copies.data.toList.drop 48 = dktX3_copies_2 := dk_seg dksX3_copies_1 24 rfl rfl
theorem dksX3_copies_3 : cX3_copies.data.toList.drop 72 = dktX3_copies_3 := dk_seg dksX3_copies_2 24 rfl rfl
theorem dX3_copies_0 : decode cX3_copies 0 = .ok (.iconst 0, 1) := dk_3 (dk_at dksX3_copies_0 0 rfl rfl)
theorem dX3_copies_1 : decode cX3_copies 1 = .ok (.istore_n 3, 1) := dk_62 (dk_at dksX3_copies_0 1 rfl rfl)
theorem dX3_copies_2 : decode cX3_copies 2 = .ok (.iload_n 3, 1) := dk_29 (dk_at dksX3_copies_0 2 rfl rfl)
theorem dX3_copies_3 : decode cX3_copies 3 = .ok (.sipush 130, 3) := dk_17 0 130 (dk_at dksX3_copies_0 3 rfl rfl)
theorem dX3_copies_6 : decode cX3_copies 6 = .ok (.if_icmp .ge 33, 3) := dk_162 0 33 (dk_at dksX3_copies_0 6 rfl rfl)
theorem dX3_copies_9 : decode cX3_copies 9 = .ok (.aload_n 0, 1) := dk_42 (dk_at dksX3_copies_0 9 rfl rfl)
theorem dX3_copies_10 : decode cX3_copies 10 = .ok (.getfield 7, 3) := dk_180 0 7 (dk_at dksX3_copies_0 10 rfl rfl)
theorem dX3_copies_13 : decode cX3_copies 13 = .ok (.sipush 130, 3) := dk_17 0 130 (dk_at dksX3_copies_0 13 rfl rfl)
theorem dX3_copies_16 : decode cX3_copies 16 = .ok (.iload_n 2, 1) := dk_28 (dk_at dksX3_copies_0 16 rfl rfl)
theorem dX3_copies_17 : decode cX3_copies 17 = .ok (.imul, 1) := dk_104 (dk_at dksX3_copies_0 17 rfl rfl)
theorem dX3_copies_18 : decode cX3_copies 18 = .ok (.iload_n 3, 1) := dk_29 (dk_at dksX3_copies_0 18 rfl rfl)
theorem dX3_copies_19 : decode cX3_copies 19 = .ok (.iadd, 1) := dk_96 (dk_at dksX3_copies_0 19 rfl rfl)
theorem dX3_copies_20 : decode cX3_copies 20 = .ok (.aload_n 0, 1) := dk_42 (dk_at dksX3_copies_0 20 rfl rfl)
theorem dX3_copies_21 : decode cX3_copies 21 = .ok (.getfield 7, 3) := dk_180 0 7 (dk_at dksX3_copies_0 21 rfl rfl)
theorem dX3_copies_24 : decode cX3_copies 24 = .ok (.sipush 130, 3) := dk_17 0 130 (dk_at dksX3_copies_1 0 rfl rfl)
theorem dX3_copies_27 : decode cX3_copies 27 = .ok (.iload_n 1, 1) := dk_27 (dk_at dksX3_copies_1 3 rfl rfl)
theorem dX3_copies_28 : decode cX3_copies 28 = .ok (.imul, 1) := dk_104 (dk_at dksX3_copies_1 4 rfl rfl)
theorem dX3_copies_29 : decode cX3_copies 29 = .ok (.iload_n 3, 1) := dk_29 (dk_at dksX3_copies_1 5 rfl rfl)
theorem dX3_copies_30 : decode cX3_copies 30 = .ok (.iadd, 1) := dk_96 (dk_at dksX3_copies_1 6 rfl rfl)
theorem dX3_copies_31 : decode cX3_copies 31 = .ok (.iaload, 1) := dk_46 (dk_at dksX3_copies_1 7 rfl rfl)
theorem dX3_copies_32 : decode cX3_copies 32 = .ok (.iastore, 1) := dk_79 (dk_at dksX3_copies_1 8 rfl rfl)
theorem dX3_copies_33 : decode cX3_copies 33 = .ok (.iinc 3 1, 3) := dk_132 3 1 (dk_at dksX3_copies_1 9 rfl rfl)
theorem dX3_copies_36 : decode cX3_copies 36 = .ok (.goto (-34), 3) := dk_167 255 222 (dk_at dksX3_copies_1 12 rfl rfl)
theorem dX3_copies_39 : decode cX3_copies 39 = .ok (.iconst 0, 1) := dk_3 (dk_at dksX3_copies_1 15 rfl rfl)
theorem dX3_copies_40 : decode cX3_copies 40 = .ok (.istore_n 3, 1) := dk_62 (dk_at dksX3_copies_1 16 rfl rfl)
theorem dX3_copies_41 : decode cX3_copies 41 = .ok (.iload_n 3, 1) := dk_29 (dk_at dksX3_copies_1 17 rfl rfl)
theorem dX3_copies_42 : decode cX3_copies 42 = .ok (.bipush 6, 2) := dk_16 6 (dk_at dksX3_copies_1 18 rfl rfl)
theorem dX3_copies_44 : decode cX3_copies 44 = .ok (.if_icmp .ge 31, 3) := dk_162 0 31 (dk_at dksX3_copies_1 20 rfl rfl)
theorem dX3_copies_47 : decode cX3_copies 47 = .ok (.aload_n 0, 1) := dk_42 (dk_at dksX3_copies_1 23 rfl rfl)
theorem dX3_copies_48 : decode cX3_copies 48 = .ok (.getfield 13, 3) := dk_180 0 13 (dk_at dksX3_copies_2 0 rfl rfl)
theorem dX3_copies_51 : decode cX3_copies 51 = .ok (.bipush 6, 2) := dk_16 6 (dk_at dksX3_copies_2 3 rfl rfl)
theorem dX3_copies_53 : decode cX3_copies 53 = .ok (.iload_n 2, 1) := dk_28 (dk_at dksX3_copies_2 5 rfl rfl)
theorem dX3_copies_54 : decode cX3_copies 54 = .ok (.imul, 1) := dk_104 (dk_at dksX3_copies_2 6 rfl rfl)
theorem dX3_copies_55 : decode cX3_copies 55 = .ok (.iload_n 3, 1) := dk_29 (dk_at dksX3_copies_2 7 rfl rfl)
theorem dX3_copies_56 : decode cX3_copies 56 = .ok (.iadd, 1) := dk_96 (dk_at dksX3_copies_2 8 rfl rfl)
theorem dX3_copies_57 : decode cX3_copies 57 = .ok (.aload_n 0, 1) := dk_42 (dk_at dksX3_copies_2 9 rfl rfl)
theorem dX3_copies_58 : decode cX3_copies 58 = .ok (.getfield 13, 3) := dk_180 0 13 (dk_at dksX3_copies_2 10 rfl rfl)
theorem dX3_copies_61 : decode cX3_copies 61 = .ok (.bipush 6, 2) := dk_16 6 (dk_at dksX3_copies_2 13 rfl rfl)
theorem dX3_copies_63 : decode cX3_copies 63 = .ok (.iload_n 1, 1) := dk_27 (dk_at dksX3_copies_2 15 rfl rfl)
theorem dX3_copies_64 : decode cX3_copies 64 = .ok (.imul, 1) := dk_104 (dk_at dksX3_copies_2 16 rfl rfl)
theorem dX3_copies_65 : decode cX3_copies 65 = .ok (.iload_n 3, 1) := dk_29 (dk_at dksX3_copies_2 17 rfl rfl)
theorem dX3_copies_66 : decode cX3_copies 66 = .ok (.iadd, 1) := dk_96 (dk_at dksX3_copies_2 18 rfl rfl)
theorem dX3_copies_67 : decode cX3_copies 67 = .ok (.laload, 1) := dk_47 (dk_at dksX3_copies_2 19 rfl rfl)
theorem dX3_copies_68 : decode cX3_copies 68 = .ok (.lastore, 1) := dk_80 (dk_at dksX3_copies_2 20 rfl rfl)
theorem dX3_copies_69 : decode cX3_copies 69 = .ok (.iinc 3 1, 3) := dk_132 3 1 (dk_at dksX3_copies_2 21 rfl rfl)
theorem dX3_copies_72 : decode cX3_copies 72 = .ok (.goto (-31), 3) := dk_167 255 225 (dk_at dksX3_copies_3 0 rfl rfl)
theorem dX3_copies_75 : decode cX3_copies 75 = .ok (.return_, 1) := dk_177 (dk_at dksX3_copies_3 3 rfl rfl)
abbrev cX3_sets : ByteArray := prog_10_method_6_code
def yX3_sets : MethodName := ⟨RX3, "sets", "(III)V"⟩
def dkwX3_sets_0 : List UInt8 := [42, 180, 0, 7, 16, 10, 16, 9, 27, 104, 96, 28, 96, 29, 79, 177]
abbrev dktX3_sets_0 : List UInt8 := dkwX3_sets_0 ++ []
theorem dksX3_sets_0 : cX3_sets.data.toList.drop 0 = dktX3_sets_0 := by decide +kernel
theorem dX3_sets_0 : decode cX3_sets 0 = .ok (.aload_n 0, 1) := dk_42 (dk_at dksX3_sets_0 0 rfl rfl)
theorem dX3_sets_1 : decode cX3_sets 1 = .ok (.getfield 7, 3) := dk_180 0 7 (dk_at dksX3_sets_0 1 rfl rfl)
theorem dX3_sets_4 : decode cX3_sets 4 = .ok (.bipush 10, 2) := dk_16 10 (dk_at dksX3_sets_0 4 rfl rfl)
theorem dX3_sets_6 : decode cX3_sets 6 = .ok (.bipush 9, 2) := dk_16 9 (dk_at dksX3_sets_0 6 rfl rfl)
theorem dX3_sets_8 : decode cX3_sets 8 = .ok (.iload_n 1, 1) := dk_27 (dk_at dksX3_sets_0 8 rfl rfl)
theorem dX3_sets_9 : decode cX3_sets 9 = .ok (.imul, 1) := dk_104 (dk_at dksX3_sets_0 9 rfl rfl)
theorem dX3_sets_10 : decode cX3_sets 10 = .ok (.iadd, 1) := dk_96 (dk_at dksX3_sets_0 10 rfl rfl)
theorem dX3_sets_11 : decode cX3_sets 11 = .ok (.iload_n 2, 1) := dk_28 (dk_at dksX3_sets_0 11 rfl rfl)
theorem dX3_sets_12 : decode cX3_sets 12 = .ok (.iadd, 1) := dk_96 (dk_at dksX3_sets_0 12 rfl rfl)
theorem dX3_sets_13 : decode cX3_sets 13 = .ok (.iload_n 3, 1) := dk_29 (dk_at dksX3_sets_0 13 rfl rfl)
theorem dX3_sets_14 : decode cX3_sets 14 = .ok (.iastore, 1) := dk_79 (dk_at dksX3_sets_0 14 rfl rfl)
theorem dX3_sets_15 : decode cX3_sets 15 = .ok (.return_, 1) := dk_177 (dk_at dksX3_sets_0 15 rfl rfl)
abbrev cX3_setBand : ByteArray := prog_10_method_18_code
def yX3_setBand : MethodName := ⟨RX3, "setBand", "(III)I"⟩
def dkwX3_setBand_2 : List UInt8 := [42, 27, 4, 28, 182, 0, 55, 42, 27, 5, 29, 182, 0, 55, 21, 4, 172]
abbrev dktX3_setBand_2 : List UInt8 := dkwX3_setBand_2 ++ []
def dkwX3_setBand_1 : List UInt8 := [17, 1, 144, 184, 0, 41, 154, 0, 6, 16, 253, 172, 42, 182, 0, 52, 42, 27, 4, 182, 0, 45, 54, 4]
abbrev dktX3_setBand_1 : List UInt8 := dkwX3_setBand_1 ++ dktX3_setBand_2
def dkwX3_setBand_0 : List UInt8 := [42, 27, 182, 0, 59, 154, 0, 6, 16, 254, 172, 28, 3, 17, 1, 144, 184, 0, 41, 153, 0, 14, 29, 28]
abbrev dktX3_setBand_0 : List UInt8 := dkwX3_setBand_0 ++ dktX3_setBand_1
theorem dksX3_setBand_0 : cX3_setBand.data.toList.drop 0 = dktX3_setBand_0 := by decide +kernel
theorem dksX3_setBand_1 : cX3_setBand.data.toList.drop 24 = dktX3_setBand_1 := dk_seg dksX3_setBand_0 24 rfl rfl
theorem dksX3_setBand_2 : cX3_setBand.data.toList.drop 48 = dktX3_setBand_2 := dk_seg dksX3_setBand_1 24 rfl rfl
theorem dX3_setBand_0 : decode cX3_setBand 0 = .ok (.aload_n 0, 1) := dk_42 (dk_at dksX3_setBand_0 0 rfl rfl)
theorem dX3_setBand_1 : decode cX3_setBand 1 = .ok (.iload_n 1, 1) := dk_27 (dk_at dksX3_setBand_0 1 rfl rfl)
theorem dX3_setBand_2 : decode cX3_setBand 2 = .ok (.invokevirtual 59, 3) := dk_182 0 59 (dk_at dksX3_setBand_0 2 rfl rfl)
theorem dX3_setBand_5 : decode cX3_setBand 5 = .ok (.ifCond .ne 6, 3) := dk_154 0 6 (dk_at dksX3_setBand_0 5 rfl rfl)
theorem dX3_setBand_8 : decode cX3_setBand 8 = .ok (.bipush (-2), 2) := dk_16 254 (dk_at dksX3_setBand_0 8 rfl rfl)
theorem dX3_setBand_10 : decode cX3_setBand 10 = .ok (.ireturn, 1) := dk_172 (dk_at dksX3_setBand_0 10 rfl rfl)
theorem dX3_setBand_11 : decode cX3_setBand 11 = .ok (.iload_n 2, 1) := dk_28 (dk_at dksX3_setBand_0 11 rfl rfl)
theorem dX3_setBand_12 : decode cX3_setBand 12 = .ok (.iconst 0, 1) := dk_3 (dk_at dksX3_setBand_0 12 rfl rfl)
theorem dX3_setBand_13 : decode cX3_setBand 13 = .ok (.sipush 400, 3) := dk_17 1 144 (dk_at dksX3_setBand_0 13 rfl rfl)
theorem dX3_setBand_16 : decode cX3_setBand 16 = .ok (.invokestatic 41, 3) := dk_184 0 41 (dk_at dksX3_setBand_0 16 rfl rfl)
theorem dX3_setBand_19 : decode cX3_setBand 19 = .ok (.ifCond .eq 14, 3) := dk_153 0 14 (dk_at dksX3_setBand_0 19 rfl rfl)
theorem dX3_setBand_22 : decode cX3_setBand 22 = .ok (.iload_n 3, 1) := dk_29 (dk_at dksX3_setBand_0 22 rfl rfl)
theorem dX3_setBand_23 : decode cX3_setBand 23 = .ok (.iload_n 2, 1) := dk_28 (dk_at dksX3_setBand_0 23 rfl rfl)
theorem dX3_setBand_24 : decode cX3_setBand 24 = .ok (.sipush 400, 3) := dk_17 1 144 (dk_at dksX3_setBand_1 0 rfl rfl)
theorem dX3_setBand_27 : decode cX3_setBand 27 = .ok (.invokestatic 41, 3) := dk_184 0 41 (dk_at dksX3_setBand_1 3 rfl rfl)
theorem dX3_setBand_30 : decode cX3_setBand 30 = .ok (.ifCond .ne 6, 3) := dk_154 0 6 (dk_at dksX3_setBand_1 6 rfl rfl)
theorem dX3_setBand_33 : decode cX3_setBand 33 = .ok (.bipush (-3), 2) := dk_16 253 (dk_at dksX3_setBand_1 9 rfl rfl)
theorem dX3_setBand_35 : decode cX3_setBand 35 = .ok (.ireturn, 1) := dk_172 (dk_at dksX3_setBand_1 11 rfl rfl)
theorem dX3_setBand_36 : decode cX3_setBand 36 = .ok (.aload_n 0, 1) := dk_42 (dk_at dksX3_setBand_1 12 rfl rfl)
theorem dX3_setBand_37 : decode cX3_setBand 37 = .ok (.invokevirtual 52, 3) := dk_182 0 52 (dk_at dksX3_setBand_1 13 rfl rfl)
theorem dX3_setBand_40 : decode cX3_setBand 40 = .ok (.aload_n 0, 1) := dk_42 (dk_at dksX3_setBand_1 16 rfl rfl)
theorem dX3_setBand_41 : decode cX3_setBand 41 = .ok (.iload_n 1, 1) := dk_27 (dk_at dksX3_setBand_1 17 rfl rfl)
theorem dX3_setBand_42 : decode cX3_setBand 42 = .ok (.iconst 1, 1) := dk_4 (dk_at dksX3_setBand_1 18 rfl rfl)
theorem dX3_setBand_43 : decode cX3_setBand 43 = .ok (.invokevirtual 45, 3) := dk_182 0 45 (dk_at dksX3_setBand_1 19 rfl rfl)
theorem dX3_setBand_46 : decode cX3_setBand 46 = .ok (.istore 4, 2) := dk_54 4 (dk_at dksX3_setBand_1 22 rfl rfl)
theorem dX3_setBand_48 : decode cX3_setBand 48 = .ok (.aload_n 0, 1) := dk_42 (dk_at dksX3_setBand_2 0 rfl rfl)
theorem dX3_setBand_49 : decode cX3_setBand 49 = .ok (.iload_n 1, 1) := dk_27 (dk_at dksX3_setBand_2 1 rfl rfl)
theorem dX3_setBand_50 : decode cX3_setBand 50 = .ok (.iconst 1, 1) := dk_4 (dk_at dksX3_setBand_2 2 rfl rfl)
theorem dX3_setBand_51 : decode cX3_setBand 51 = .ok (.iload_n 2, 1) := dk_28 (dk_at dksX3_setBand_2 3 rfl rfl)
theorem dX3_setBand_52 : decode cX3_setBand 52 = .ok (.invokevirtual 55, 3) := dk_182 0 55 (dk_at dksX3_setBand_2 4 rfl rfl)
theorem dX3_setBand_55 : decode cX3_setBand 55 = .ok (.aload_n 0, 1) := dk_42 (dk_at dksX3_setBand_2 7 rfl rfl)
theorem dX3_setBand_56 : decode cX3_setBand 56 = .ok (.iload_n 1, 1) := dk_27 (dk_at dksX3_setBand_2 8 rfl rfl)
theorem dX3_setBand_57 : decode cX3_setBand 57 = .ok (.iconst 2, 1) := dk_5 (dk_at dksX3_setBand_2 9 rfl rfl)
theorem dX3_setBand_58 : decode cX3_setBand 58 = .ok (.iload_n 3, 1) := dk_29 (dk_at dksX3_setBand_2 10 rfl rfl)
theorem dX3_setBand_59 : decode cX3_setBand 59 = .ok (.invokevirtual 55, 3) := dk_182 0 55 (dk_at dksX3_setBand_2 11 rfl rfl)
theorem dX3_setBand_62 : decode cX3_setBand 62 = .ok (.iload 4, 2) := dk_21 4 (dk_at dksX3_setBand_2 14 rfl rfl)
theorem dX3_setBand_64 : decode cX3_setBand 64 = .ok (.ireturn, 1) := dk_172 (dk_at dksX3_setBand_2 16 rfl rfl)
abbrev cX3_isBin : ByteArray := prog_10_method_9_code
def yX3_isBin : MethodName := ⟨RX3, "isBin", "(I)Z"⟩
def dkwX3_isBin_0 : List UInt8 := [27, 3, 42, 180, 0, 7, 5, 46, 4, 100, 184, 0, 41, 172]
abbrev dktX3_isBin_0 : List UInt8 := dkwX3_isBin_0 ++ []
theorem dksX3_isBin_0 : cX3_isBin.data.toList.drop 0 = dktX3_isBin_0 := by decide +kernel
theorem dX3_isBin_0 : decode cX3_isBin 0 = .ok (.iload_n 1, 1) := dk_27 (dk_at dksX3_isBin_0 0 rfl rfl)
theorem dX3_isBin_1 : decode cX3_isBin 1 = .ok (.iconst 0, 1) := dk_3 (dk_at dksX3_isBin_0 1 rfl rfl)
theorem dX3_isBin_2 : decode cX3_isBin 2 = .ok (.aload_n 0, 1) := dk_42 (dk_at dksX3_isBin_0 2 rfl rfl)
theorem dX3_isBin_3 : decode cX3_isBin 3 = .ok (.getfield 7, 3) := dk_180 0 7 (dk_at dksX3_isBin_0 3 rfl rfl)
theorem dX3_isBin_6 : decode cX3_isBin 6 = .ok (.iconst 2, 1) := dk_5 (dk_at dksX3_isBin_0 6 rfl rfl)
theorem dX3_isBin_7 : decode cX3_isBin 7 = .ok (.iaload, 1) := dk_46 (dk_at dksX3_isBin_0 7 rfl rfl)
theorem dX3_isBin_8 : decode cX3_isBin 8 = .ok (.iconst 1, 1) := dk_4 (dk_at dksX3_isBin_0 8 rfl rfl)
theorem dX3_isBin_9 : decode cX3_isBin 9 = .ok (.isub, 1) := dk_100 (dk_at dksX3_isBin_0 9 rfl rfl)
theorem dX3_isBin_10 : decode cX3_isBin 10 = .ok (.invokestatic 41, 3) := dk_184 0 41 (dk_at dksX3_isBin_0 10 rfl rfl)
theorem dX3_isBin_13 : decode cX3_isBin 13 = .ok (.ireturn, 1) := dk_172 (dk_at dksX3_isBin_0 13 rfl rfl)
abbrev cX3_of : ByteArray := prog_10_method_5_code
def yX3_of : MethodName := ⟨RX3, "of", "(II)I"⟩
def dkwX3_of_0 : List UInt8 := [42, 180, 0, 7, 16, 10, 16, 9, 27, 104, 96, 28, 96, 46, 172]
abbrev dktX3_of_0 : List UInt8 := dkwX3_of_0 ++ []
theorem dksX3_of_0 : cX3_of.data.toList.drop 0 = dktX3_of_0 := by decide +kernel
theorem dX3_of_0 : decode cX3_of 0 = .ok (.aload_n 0, 1) := dk_42 (dk_at dksX3_of_0 0 rfl rfl)
theorem dX3_of_1 : decode cX3_of 1 = .ok (.getfield 7, 3) := dk_180 0 7 (dk_at dksX3_of_0 1 rfl rfl)
theorem dX3_of_4 : decode cX3_of 4 = .ok (.bipush 10, 2) := dk_16 10 (dk_at dksX3_of_0 4 rfl rfl)
theorem dX3_of_6 : decode cX3_of 6 = .ok (.bipush 9, 2) := dk_16 9 (dk_at dksX3_of_0 6 rfl rfl)
theorem dX3_of_8 : decode cX3_of 8 = .ok (.iload_n 1, 1) := dk_27 (dk_at dksX3_of_0 8 rfl rfl)
theorem dX3_of_9 : decode cX3_of 9 = .ok (.imul, 1) := dk_104 (dk_at dksX3_of_0 9 rfl rfl)
theorem dX3_of_10 : decode cX3_of 10 = .ok (.iadd, 1) := dk_96 (dk_at dksX3_of_0 10 rfl rfl)
theorem dX3_of_11 : decode cX3_of 11 = .ok (.iload_n 2, 1) := dk_28 (dk_at dksX3_of_0 11 rfl rfl)
theorem dX3_of_12 : decode cX3_of 12 = .ok (.iadd, 1) := dk_96 (dk_at dksX3_of_0 12 rfl rfl)
theorem dX3_of_13 : decode cX3_of 13 = .ok (.iaload, 1) := dk_46 (dk_at dksX3_of_0 13 rfl rfl)
theorem dX3_of_14 : decode cX3_of 14 = .ok (.ireturn, 1) := dk_172 (dk_at dksX3_of_0 14 rfl rfl)
abbrev cX3_addLeg : ByteArray := prog_10_method_19_code
def yX3_addLeg : MethodName := ⟨RX3, "addLeg", "(I)I"⟩
def dkwX3_addLeg_3 : List UInt8 := [28, 6, 96, 3, 79, 42, 180, 0, 7, 6, 92, 46, 4, 96, 79, 42, 180, 0, 7, 6, 46, 4, 100, 172]
abbrev dktX3_addLeg_3 : List UInt8 := dkwX3_addLeg_3 ++ []
def dkwX3_addLeg_2 : List UInt8 := [27, 79, 42, 180, 0, 7, 28, 4, 96, 3, 79, 42, 180, 0, 7, 28, 5, 96, 3, 79, 42, 180, 0, 7]
abbrev dktX3_addLeg_2 : List UInt8 := dkwX3_addLeg_2 ++ dktX3_addLeg_3
def dkwX3_addLeg_1 : List UInt8 := [16, 251, 172, 42, 182, 0, 52, 16, 82, 7, 42, 180, 0, 7, 6, 46, 104, 96, 61, 42, 180, 0, 7, 28]
abbrev dktX3_addLeg_1 : List UInt8 := dkwX3_addLeg_1 ++ dktX3_addLeg_2
def dkwX3_addLeg_0 : List UInt8 := [27, 4, 17, 1, 244, 184, 0, 41, 154, 0, 6, 16, 253, 172, 42, 180, 0, 7, 6, 46, 6, 160, 0, 6]
abbrev dktX3_addLeg_0 : List UInt8 := dkwX3_addLeg_0 ++ dktX3_addLeg_1
theorem dksX3_addLeg_0 : cX3_addLeg.data.toList.drop 0 = dktX3_addLeg_0 := by decide +kernel
theorem dksX3_addLeg_1 : cX3_addLeg.data.toList.drop 24 = dktX3_addLeg_1 := dk_seg dksX3_addLeg_0 24 rfl rfl
theorem dksX3_addLeg_2 : cX3_addLeg.data.toList.drop 48 = dktX3_addLeg_2 := dk_seg dksX3_addLeg_1 24 rfl rfl
theorem dksX3_addLeg_3 : cX3_addLeg.data.toList.drop 72 = dktX3_addLeg_3 := dk_seg dksX3_addLeg_2 24 rfl rfl
theorem dX3_addLeg_0 : decode cX3_addLeg 0 = .ok (.iload_n 1, 1) := dk_27 (dk_at dksX3_addLeg_0 0 rfl rfl)
theorem dX3_addLeg_1 : decode cX3_addLeg 1 = .ok (.iconst 1, 1) := dk_4 (dk_at dksX3_addLeg_0 1 rfl rfl)
theorem dX3_addLeg_2 : decode cX3_addLeg 2 = .ok (.sipush 500, 3) := dk_17 1 244 (dk_at dksX3_addLeg_0 2 rfl rfl)
theorem dX3_addLeg_5 : decode cX3_addLeg 5 = .ok (.invokestatic 41, 3) := dk_184 0 41 (dk_at dksX3_addLeg_0 5 rfl rfl)
theorem dX3_addLeg_8 : decode cX3_addLeg 8 = .ok (.ifCond .ne 6, 3) := dk_154 0 6 (dk_at dksX3_addLeg_0 8 rfl rfl)
theorem dX3_addLeg_11 : decode cX3_addLeg 11 = .ok (.bipush (-3), 2) := dk_16 253 (dk_at dksX3_addLeg_0 11 rfl rfl)
theorem dX3_addLeg_13 : decode cX3_addLeg 13 = .ok (.ireturn, 1) := dk_172 (dk_at dksX3_addLeg_0 13 rfl rfl)
theorem dX3_addLeg_14 : decode cX3_addLeg 14 = .ok (.aload_n 0, 1) := dk_42 (dk_at dksX3_addLeg_0 14 rfl rfl)
theorem dX3_addLeg_15 : decode cX3_addLeg 15 = .ok (.getfield 7, 3) := dk_180 0 7 (dk_at dksX3_addLeg_0 15 rfl rfl)
theorem dX3_addLeg_18 : decode cX3_addLeg 18 = .ok (.iconst 3, 1) := dk_6 (dk_at dksX3_addLeg_0 18 rfl rfl)
theorem dX3_addLeg_19 : decode cX3_addLeg 19 = .ok (.iaload, 1) := dk_46 (dk_at dksX3_addLeg_0 19 rfl rfl)
theorem dX3_addLeg_20 : decode cX3_addLeg 20 = .ok (.iconst 3, 1) := dk_6 (dk_at dksX3_addLeg_0 20 rfl rfl)
theorem dX3_addLeg_21 : decode cX3_addLeg 21 = .ok (.if_icmp .ne 6, 3) := dk_160 0 6 (dk_at dksX3_addLeg_0 21 rfl rfl)
theorem dX3_addLeg_24 : decode cX3_addLeg 24 = .ok (.bipush (-5), 2) := dk_16 251 (dk_at dksX3_addLeg_1 0 rfl rfl)
theorem dX3_addLeg_26 : decode cX3_addLeg 26 = .ok (.ireturn, 1) := dk_172 (dk_at dksX3_addLeg_1 2 rfl rfl)
theorem dX3_addLeg_27 : decode cX3_addLeg 27 = .ok (.aload_n 0, 1) := dk_42 (dk_at dksX3_addLeg_1 3 rfl rfl)
theorem dX3_addLeg_28 : decode cX3_addLeg 28 = .ok (.invokevirtual 52, 3) := dk_182 0 52 (dk_at dksX3_addLeg_1 4 rfl rfl)
theorem dX3_addLeg_31 : decode cX3_addLeg 31 = .ok (.bipush 82, 2) := dk_16 82 (dk_at dksX3_addLeg_1 7 rfl rfl)
theorem dX3_addLeg_33 : decode cX3_addLeg 33 = .ok (.iconst 4, 1) := dk_7 (dk_at dksX3_addLeg_1 9 rfl rfl)
theorem dX3_addLeg_34 : decode cX3_addLeg 34 = .ok (.aload_n 0, 1) := dk_42 (dk_at dksX3_addLeg_1 10 rfl rfl)
theorem dX3_addLeg_35 : decode cX3_addLeg 35 = .ok (.getfield 7, 3) := dk_180 0 7 (dk_at dksX3_addLeg_1 11 rfl rfl)
theorem dX3_addLeg_38 : decode cX3_addLeg 38 = .ok (.iconst 3, 1) := dk_6 (dk_at dksX3_addLeg_1 14 rfl rfl)
theorem dX3_addLeg_39 : decode cX3_addLeg 39 = .ok (.iaload, 1) := dk_46 (dk_at dksX3_addLeg_1 15 rfl rfl)
theorem dX3_addLeg_40 : decode cX3_addLeg 40 = .ok (.imul, 1) := dk_104 (dk_at dksX3_addLeg_1 16 rfl rfl)
theorem dX3_addLeg_41 : decode cX3_addLeg 41 = .ok (.iadd, 1) := dk_96 (dk_at dksX3_addLeg_1 17 rfl rfl)
theorem dX3_addLeg_42 : decode cX3_addLeg 42 = .ok (.istore_n 2, 1) := dk_61 (dk_at dksX3_addLeg_1 18 rfl rfl)
theorem dX3_addLeg_43 : decode cX3_addLeg 43 = .ok (.aload_n 0, 1) := dk_42 (dk_at dksX3_addLeg_1 19 rfl rfl)
theorem dX3_addLeg_44 : decode cX3_addLeg 44 = .ok (.getfield 7, 3) := dk_180 0 7 (dk_at dksX3_addLeg_1 20 rfl rfl)
theorem dX3_addLeg_47 : decode cX3_addLeg 47 = .ok (.iload_n 2, 1) := dk_28 (dk_at dksX3_addLeg_1 23 rfl rfl)
theorem dX3_addLeg_48 : decode cX3_addLeg 48 = .ok (.iload_n 1, 1) := dk_27 (dk_at dksX3_addLeg_2 0 rfl rfl)
theorem dX3_addLeg_49 : decode cX3_addLeg 49 = .ok (.iastore, 1) := dk_79 (dk_at dksX3_addLeg_2 1 rfl rfl)
theorem dX3_addLeg_50 : decode cX3_addLeg 50 = .ok (.aload_n 0, 1) := dk_42 (dk_at dksX3_addLeg_2 2 rfl rfl)
theorem dX3_addLeg_51 : decode cX3_addLeg 51 = .ok (.getfield 7, 3) := dk_180 0 7 (dk_at dksX3_addLeg_2 3 rfl rfl)
theorem dX3_addLeg_54 : decode cX3_addLeg 54 = .ok (.iload_n 2, 1) := dk_28 (dk_at dksX3_addLeg_2 6 rfl rfl)
theorem dX3_addLeg_55 : decode cX3_addLeg 55 = .ok (.iconst 1, 1) := dk_4 (dk_at dksX3_addLeg_2 7 rfl rfl)
theorem dX3_addLeg_56 : decode cX3_addLeg 56 = .ok (.iadd, 1) := dk_96 (dk_at dksX3_addLeg_2 8 rfl rfl)
theorem dX3_addLeg_57 : decode cX3_addLeg 57 = .ok (.iconst 0, 1) := dk_3 (dk_at dksX3_addLeg_2 9 rfl rfl)
theorem dX3_addLeg_58 : decode cX3_addLeg 58 = .ok (.iastore, 1) := dk_79 (dk_at dksX3_addLeg_2 10 rfl rfl)
theorem dX3_addLeg_59 : decode cX3_addLeg 59 = .ok (.aload_n 0, 1) := dk_42 (dk_at dksX3_addLeg_2 11 rfl rfl)
theorem dX3_addLeg_60 : decode cX3_addLeg 60 = .ok (.getfield 7, 3) := dk_180 0 7 (dk_at dksX3_addLeg_2 12 rfl rfl)
theorem dX3_addLeg_63 : decode cX3_addLeg 63 = .ok (.iload_n 2, 1) := dk_28 (dk_at dksX3_addLeg_2 15 rfl rfl)
theorem dX3_addLeg_64 : decode cX3_addLeg 64 = .ok (.iconst 2, 1) := dk_5 (dk_at dksX3_addLeg_2 16 rfl rfl)
theorem dX3_addLeg_65 : decode cX3_addLeg 65 = .ok (.iadd, 1) := dk_96 (dk_at dksX3_addLeg_2 17 rfl rfl)
theorem dX3_addLeg_66 : decode cX3_addLeg 66 = .ok (.iconst 0, 1) := dk_3 (dk_at dksX3_addLeg_2 18 rfl rfl)
theorem dX3_addLeg_67 : decode cX3_addLeg 67 = .ok (.iastore, 1) := dk_79 (dk_at dksX3_addLeg_2 19 rfl rfl)
theorem dX3_addLeg_68 : decode cX3_addLeg 68 = .ok (.aload_n 0, 1) := dk_42 (dk_at dksX3_addLeg_2 20 rfl rfl)
theorem dX3_addLeg_69 : decode cX3_addLeg 69 = .ok (.getfield 7, 3) := dk_180 0 7 (dk_at dksX3_addLeg_2 21 rfl rfl)
theorem dX3_addLeg_72 : decode cX3_addLeg 72 = .ok (.iload_n 2, 1) := dk_28 (dk_at dksX3_addLeg_3 0 rfl rfl)
theorem dX3_addLeg_73 : decode cX3_addLeg 73 = .ok (.iconst 3, 1) := dk_6 (dk_at dksX3_addLeg_3 1 rfl rfl)
theorem dX3_addLeg_74 : decode cX3_addLeg 74 = .ok (.iadd, 1) := dk_96 (dk_at dksX3_addLeg_3 2 rfl rfl)
theorem dX3_addLeg_75 : decode cX3_addLeg 75 = .ok (.iconst 0, 1) := dk_3 (dk_at dksX3_addLeg_3 3 rfl rfl)
theorem dX3_addLeg_76 : decode cX3_addLeg 76 = .ok (.iastore, 1) := dk_79 (dk_at dksX3_addLeg_3 4 rfl rfl)
theorem dX3_addLeg_77 : decode cX3_addLeg 77 = .ok (.aload_n 0, 1) := dk_42 (dk_at dksX3_addLeg_3 5 rfl rfl)
theorem dX3_addLeg_78 : decode cX3_addLeg 78 = .ok (.getfield 7, 3) := dk_180 0 7 (dk_at dksX3_addLeg_3 6 rfl rfl)
theorem dX3_addLeg_81 : decode cX3_addLeg 81 = .ok (.iconst 3, 1) := dk_6 (dk_at dksX3_addLeg_3 9 rfl rfl)
theorem dX3_addLeg_82 : decode cX3_addLeg 82 = .ok (.dup2, 1) := dk_92 (dk_at dksX3_addLeg_3 10 rfl rfl)
theorem dX3_addLeg_83 : decode cX3_addLeg 83 = .ok (.iaload, 1) := dk_46 (dk_at dksX3_addLeg_3 11 rfl rfl)
theorem dX3_addLeg_84 : decode cX3_addLeg 84 = .ok (.iconst 1, 1) := dk_4 (dk_at dksX3_addLeg_3 12 rfl rfl)
theorem dX3_addLeg_85 : decode cX3_addLeg 85 = .ok (.iadd, 1) := dk_96 (dk_at dksX3_addLeg_3 13 rfl rfl)
theorem dX3_addLeg_86 : decode cX3_addLeg 86 = .ok (.iastore, 1) := dk_79 (dk_at dksX3_addLeg_3 14 rfl rfl)
theorem dX3_addLeg_87 : decode cX3_addLeg 87 = .ok (.aload_n 0, 1) := dk_42 (dk_at dksX3_addLeg_3 15 rfl rfl)
theorem dX3_addLeg_88 : decode cX3_addLeg 88 = .ok (.getfield 7, 3) := dk_180 0 7 (dk_at dksX3_addLeg_3 16 rfl rfl)
theorem dX3_addLeg_91 : decode cX3_addLeg 91 = .ok (.iconst 3, 1) := dk_6 (dk_at dksX3_addLeg_3 19 rfl rfl)
theorem dX3_addLeg_92 : decode cX3_addLeg 92 = .ok (.iaload, 1) := dk_46 (dk_at dksX3_addLeg_3 20 rfl rfl)
theorem dX3_addLeg_93 : decode cX3_addLeg 93 = .ok (.iconst 1, 1) := dk_4 (dk_at dksX3_addLeg_3 21 rfl rfl)
theorem dX3_addLeg_94 : decode cX3_addLeg 94 = .ok (.isub, 1) := dk_100 (dk_at dksX3_addLeg_3 22 rfl rfl)
theorem dX3_addLeg_95 : decode cX3_addLeg 95 = .ok (.ireturn, 1) := dk_172 (dk_at dksX3_addLeg_3 23 rfl rfl)
abbrev cX3_setSpeed : ByteArray := prog_10_method_20_code
def yX3_setSpeed : MethodName := ⟨RX3, "setSpeed", "(II)I"⟩
def dkwX3_setSpeed_2 : List UInt8 := [29, 172]
abbrev dktX3_setSpeed_2 : List UInt8 := dkwX3_setSpeed_2 ++ []
def dkwX3_setSpeed_1 : List UInt8 := [172, 42, 182, 0, 52, 42, 27, 3, 182, 0, 49, 62, 42, 180, 0, 7, 16, 82, 7, 27, 104, 96, 28, 79]
abbrev dktX3_setSpeed_1 : List UInt8 := dkwX3_setSpeed_1 ++ dktX3_setSpeed_2
def dkwX3_setSpeed_0 : List UInt8 := [42, 27, 182, 0, 63, 154, 0, 6, 16, 254, 172, 28, 4, 17, 1, 244, 184, 0, 41, 154, 0, 6, 16, 253]
abbrev dktX3_setSpeed_0 : List UInt8 := dkwX3_setSpeed_0 ++ dktX3_setSpeed_1
theorem dksX3_setSpeed_0 : cX3_setSpeed.data.toList.drop 0 = dktX3_setSpeed_0 := by decide +kernel
theorem dksX3_setSpeed_1 : cX3_setSpeed.data.toList.drop 24 = dktX3_setSpeed_1 := dk_seg dksX3_setSpeed_0 24 rfl rfl
theorem dksX3_setSpeed_2 : cX3_setSpeed.data.toList.drop 48 = dktX3_setSpeed_2 := dk_seg dksX3_setSpeed_1 24 rfl rfl
theorem dX3_setSpeed_0 : decode cX3_setSpeed 0 = .ok (.aload_n 0, 1) := dk_42 (dk_at dksX3_setSpeed_0 0 rfl rfl)
theorem dX3_setSpeed_1 : decode cX3_setSpeed 1 = .ok (.iload_n 1, 1) := dk_27 (dk_at dksX3_setSpeed_0 1 rfl rfl)
theorem dX3_setSpeed_2 : decode cX3_setSpeed 2 = .ok (.invokevirtual 63, 3) := dk_182 0 63 (dk_at dksX3_setSpeed_0 2 rfl rfl)
theorem dX3_setSpeed_5 : decode cX3_setSpeed 5 = .ok (.ifCond .ne 6, 3) := dk_154 0 6 (dk_at dksX3_setSpeed_0 5 rfl rfl)
theorem dX3_setSpeed_8 : decode cX3_setSpeed 8 = .ok (.bipush (-2), 2) := dk_16 254 (dk_at dksX3_setSpeed_0 8 rfl rfl)
theorem dX3_setSpeed_10 : decode cX3_setSpeed 10 = .ok (.ireturn, 1) := dk_172 (dk_at dksX3_setSpeed_0 10 rfl rfl)
theorem dX3_setSpeed_11 : decode cX3_setSpeed 11 = .ok (.iload_n 2, 1) := dk_28 (dk_at dksX3_setSpeed_0 11 rfl rfl)
theorem dX3_setSpeed_12 : decode cX3_setSpeed 12 = .ok (.iconst 1, 1) := dk_4 (dk_at dksX3_setSpeed_0 12 rfl rfl)
theorem dX3_setSpeed_13 : decode cX3_setSpeed 13 = .ok (.sipush 500, 3) := dk_17 1 244 (dk_at dksX3_setSpeed_0 13 rfl rfl)
theorem dX3_setSpeed_16 : decode cX3_setSpeed 16 = .ok (.invokestatic 41, 3) := dk_184 0 41 (dk_at dksX3_setSpeed_0 16 rfl rfl)
theorem dX3_setSpeed_19 : decode cX3_setSpeed 19 = .ok (.ifCond .ne 6, 3) := dk_154 0 6 (dk_at dksX3_setSpeed_0 19 rfl rfl)
theorem dX3_setSpeed_22 : decode cX3_setSpeed 22 = .ok (.bipush (-3), 2) := dk_16 253 (dk_at dksX3_setSpeed_0 22 rfl rfl)
theorem dX3_setSpeed_24 : decode cX3_setSpeed 24 = .ok (.ireturn, 1) := dk_172 (dk_at dksX3_setSpeed_1 0 rfl rfl)
theorem dX3_setSpeed_25 : decode cX3_setSpeed 25 = .ok (.aload_n 0, 1) := dk_42 (dk_at dksX3_setSpeed_1 1 rfl rfl)
theorem dX3_setSpeed_26 : decode cX3_setSpeed 26 = .ok (.invokevirtual 52, 3) := dk_182 0 52 (dk_at dksX3_setSpeed_1 2 rfl rfl)
theorem dX3_setSpeed_29 : decode cX3_setSpeed 29 = .ok (.aload_n 0, 1) := dk_42 (dk_at dksX3_setSpeed_1 5 rfl rfl)
theorem dX3_setSpeed_30 : decode cX3_setSpeed 30 = .ok (.iload_n 1, 1) := dk_27 (dk_at dksX3_setSpeed_1 6 rfl rfl)
theorem dX3_setSpeed_31 : decode cX3_setSpeed 31 = .ok (.iconst 0, 1) := dk_3 (dk_at dksX3_setSpeed_1 7 rfl rfl)
theorem dX3_setSpeed_32 : decode cX3_setSpeed 32 = .ok (.invokevirtual 49, 3) := dk_182 0 49 (dk_at dksX3_setSpeed_1 8 rfl rfl)
theorem dX3_setSpeed_35 : decode cX3_setSpeed 35 = .ok (.istore_n 3, 1) := dk_62 (dk_at dksX3_setSpeed_1 11 rfl rfl)
theorem dX3_setSpeed_36 : decode cX3_setSpeed 36 = .ok (.aload_n 0, 1) := dk_42 (dk_at dksX3_setSpeed_1 12 rfl rfl)
theorem dX3_setSpeed_37 : decode cX3_setSpeed 37 = .ok (.getfield 7, 3) := dk_180 0 7 (dk_at dksX3_setSpeed_1 13 rfl rfl)
theorem dX3_setSpeed_40 : decode cX3_setSpeed 40 = .ok (.bipush 82, 2) := dk_16 82 (dk_at dksX3_setSpeed_1 16 rfl rfl)
theorem dX3_setSpeed_42 : decode cX3_setSpeed 42 = .ok (.iconst 4, 1) := dk_7 (dk_at dksX3_setSpeed_1 18 rfl rfl)
theorem dX3_setSpeed_43 : decode cX3_setSpeed 43 = .ok (.iload_n 1, 1) := dk_27 (dk_at dksX3_setSpeed_1 19 rfl rfl)
theorem dX3_setSpeed_44 : decode cX3_setSpeed 44 = .ok (.imul, 1) := dk_104 (dk_at dksX3_setSpeed_1 20 rfl rfl)
theorem dX3_setSpeed_45 : decode cX3_setSpeed 45 = .ok (.iadd, 1) := dk_96 (dk_at dksX3_setSpeed_1 21 rfl rfl)
theorem dX3_setSpeed_46 : decode cX3_setSpeed 46 = .ok (.iload_n 2, 1) := dk_28 (dk_at dksX3_setSpeed_1 22 rfl rfl)
theorem dX3_setSpeed_47 : decode cX3_setSpeed 47 = .ok (.iastore, 1) := dk_79 (dk_at dksX3_setSpeed_1 23 rfl rfl)
theorem dX3_setSpeed_48 : decode cX3_setSpeed 48 = .ok (.iload_n 3, 1) := dk_29 (dk_at dksX3_setSpeed_2 0 rfl rfl)
theorem dX3_setSpeed_49 : decode cX3_setSpeed 49 = .ok (.ireturn, 1) := dk_172 (dk_at dksX3_setSpeed_2 1 rfl rfl)
abbrev cX3_isLeg : ByteArray := prog_10_method_10_code
def yX3_isLeg : MethodName := ⟨RX3, "isLeg", "(I)Z"⟩
def dkwX3_isLeg_0 : List UInt8 := [27, 3, 42, 180, 0, 7, 6, 46, 4, 100, 184, 0, 41, 172]
abbrev dktX3_isLeg_0 : List UInt8 := dkwX3_isLeg_0 ++ []
theorem dksX3_isLeg_0 : cX3_isLeg.data.toList.drop 0 = dktX3_isLeg_0 := by decide +kernel
theorem dX3_isLeg_0 : decode cX3_isLeg 0 = .ok (.iload_n 1, 1) := dk_27 (dk_at dksX3_isLeg_0 0 rfl rfl)
theorem dX3_isLeg_1 : decode cX3_isLeg 1 = .ok (.iconst 0, 1) := dk_3 (dk_at dksX3_isLeg_0 1 rfl rfl)
theorem dX3_isLeg_2 : decode cX3_isLeg 2 = .ok (.aload_n 0, 1) := dk_42 (dk_at dksX3_isLeg_0 2 rfl rfl)
theorem dX3_isLeg_3 : decode cX3_isLeg 3 = .ok (.getfield 7, 3) := dk_180 0 7 (dk_at dksX3_isLeg_0 3 rfl rfl)
theorem dX3_isLeg_6 : decode cX3_isLeg 6 = .ok (.iconst 3, 1) := dk_6 (dk_at dksX3_isLeg_0 6 rfl rfl)
theorem dX3_isLeg_7 : decode cX3_isLeg 7 = .ok (.iaload, 1) := dk_46 (dk_at dksX3_isLeg_0 7 rfl rfl)
theorem dX3_isLeg_8 : decode cX3_isLeg 8 = .ok (.iconst 1, 1) := dk_4 (dk_at dksX3_isLeg_0 8 rfl rfl)
theorem dX3_isLeg_9 : decode cX3_isLeg 9 = .ok (.isub, 1) := dk_100 (dk_at dksX3_isLeg_0 9 rfl rfl)
theorem dX3_isLeg_10 : decode cX3_isLeg 10 = .ok (.invokestatic 41, 3) := dk_184 0 41 (dk_at dksX3_isLeg_0 10 rfl rfl)
theorem dX3_isLeg_13 : decode cX3_isLeg 13 = .ok (.ireturn, 1) := dk_172 (dk_at dksX3_isLeg_0 13 rfl rfl)
abbrev cX3_ofLeg : ByteArray := prog_10_method_7_code
def yX3_ofLeg : MethodName := ⟨RX3, "ofLeg", "(II)I"⟩
def dkwX3_ofLeg_0 : List UInt8 := [42, 180, 0, 7, 16, 82, 7, 27, 104, 96, 28, 96, 46, 172]
abbrev dktX3_ofLeg_0 : List UInt8 := dkwX3_ofLeg_0 ++ []
theorem dksX3_ofLeg_0 : cX3_ofLeg.data.toList.drop 0 = dktX3_ofLeg_0 := by decide +kernel
theorem dX3_ofLeg_0 : decode cX3_ofLeg 0 = .ok (.aload_n 0, 1) := dk_42 (dk_at dksX3_ofLeg_0 0 rfl rfl)
theorem dX3_ofLeg_1 : decode cX3_ofLeg 1 = .ok (.getfield 7, 3) := dk_180 0 7 (dk_at dksX3_ofLeg_0 1 rfl rfl)
theorem dX3_ofLeg_4 : decode cX3_ofLeg 4 = .ok (.bipush 82, 2) := dk_16 82 (dk_at dksX3_ofLeg_0 4 rfl rfl)
theorem dX3_ofLeg_6 : decode cX3_ofLeg 6 = .ok (.iconst 4, 1) := dk_7 (dk_at dksX3_ofLeg_0 6 rfl rfl)
theorem dX3_ofLeg_7 : decode cX3_ofLeg 7 = .ok (.iload_n 1, 1) := dk_27 (dk_at dksX3_ofLeg_0 7 rfl rfl)
theorem dX3_ofLeg_8 : decode cX3_ofLeg 8 = .ok (.imul, 1) := dk_104 (dk_at dksX3_ofLeg_0 8 rfl rfl)
theorem dX3_ofLeg_9 : decode cX3_ofLeg 9 = .ok (.iadd, 1) := dk_96 (dk_at dksX3_ofLeg_0 9 rfl rfl)
theorem dX3_ofLeg_10 : decode cX3_ofLeg 10 = .ok (.iload_n 2, 1) := dk_28 (dk_at dksX3_ofLeg_0 10 rfl rfl)
theorem dX3_ofLeg_11 : decode cX3_ofLeg 11 = .ok (.iadd, 1) := dk_96 (dk_at dksX3_ofLeg_0 11 rfl rfl)
theorem dX3_ofLeg_12 : decode cX3_ofLeg 12 = .ok (.iaload, 1) := dk_46 (dk_at dksX3_ofLeg_0 12 rfl rfl)
theorem dX3_ofLeg_13 : decode cX3_ofLeg 13 = .ok (.ireturn, 1) := dk_172 (dk_at dksX3_ofLeg_0 13 rfl rfl)
abbrev cX3_spout : ByteArray := prog_10_method_21_code
def yX3_spout : MethodName := ⟨RX3, "spout", "(II)I"⟩
def dkwX3_spout_2 : List UInt8 := [153, 0, 7, 4, 167, 0, 4, 3, 172]
abbrev dktX3_spout_2 : List UInt8 := dkwX3_spout_2 ++ []
def dkwX3_spout_1 : List UInt8 := [180, 0, 7, 16, 82, 7, 27, 104, 96, 4, 96, 92, 46, 4, 28, 120, 130, 79, 42, 27, 28, 182, 0, 66]
abbrev dktX3_spout_1 : List UInt8 := dkwX3_spout_1 ++ dktX3_spout_2
def dkwX3_spout_0 : List UInt8 := [42, 27, 182, 0, 63, 153, 0, 11, 42, 28, 182, 0, 59, 154, 0, 6, 16, 254, 172, 42, 182, 0, 52, 42]
abbrev dktX3_spout_0 : List UInt8 := dkwX3_spout_0 ++ dktX3_spout_1
theorem dksX3_spout_0 : cX3_spout.data.toList.drop 0 = dktX3_spout_0 := by decide +kernel
theorem dksX3_spout_1 : cX3_spout.data.toList.drop 24 = dktX3_spout_1 := dk_seg dksX3_spout_0 24 rfl rfl
theorem dksX3_spout_2 : cX3_spout.data.toList.drop 48 = dktX3_spout_2 := dk_seg dksX3_spout_1 24 rfl rfl
theorem dX3_spout_0 : decode cX3_spout 0 = .ok (.aload_n 0, 1) := dk_42 (dk_at dksX3_spout_0 0 rfl rfl)
theorem dX3_spout_1 : decode cX3_spout 1 = .ok (.iload_n 1, 1) := dk_27 (dk_at dksX3_spout_0 1 rfl rfl)
theorem dX3_spout_2 : decode cX3_spout 2 = .ok (.invokevirtual 63, 3) := dk_182 0 63 (dk_at dksX3_spout_0 2 rfl rfl)
theorem dX3_spout_5 : decode cX3_spout 5 = .ok (.ifCond .eq 11, 3) := dk_153 0 11 (dk_at dksX3_spout_0 5 rfl rfl)
theorem dX3_spout_8 : decode cX3_spout 8 = .ok (.aload_n 0, 1) := dk_42 (dk_at dksX3_spout_0 8 rfl rfl)
theorem dX3_spout_9 : decode cX3_spout 9 = .ok (.iload_n 2, 1) := dk_28 (dk_at dksX3_spout_0 9 rfl rfl)
theorem dX3_spout_10 : decode cX3_spout 10 = .ok (.invokevirtual 59, 3) := dk_182 0 59 (dk_at dksX3_spout_0 10 rfl rfl)
theorem dX3_spout_13 : decode cX3_spout 13 = .ok (.ifCond .ne 6, 3) := dk_154 0 6 (dk_at dksX3_spout_0 13 rfl rfl)
theorem dX3_spout_16 : decode cX3_spout 16 = .ok (.bipush (-2), 2) := dk_16 254 (dk_at dksX3_spout_0 16 rfl rfl)
theorem dX3_spout_18 : decode cX3_spout 18 = .ok (.ireturn, 1) := dk_172 (dk_at dksX3_spout_0 18 rfl rfl)
theorem dX3_spout_19 : decode cX3_spout 19 = .ok (.aload_n 0, 1) := dk_42 (dk_at dksX3_spout_0 19 rfl rfl)
theorem dX3_spout_20 : decode cX3_spout 20 = .ok (.invokevirtual 52, 3) := dk_182 0 52 (dk_at dksX3_spout_0 20 rfl rfl)
theorem dX3_spout_23 : decode cX3_spout 23 = .ok (.aload_n 0, 1) := dk_42 (dk_at dksX3_spout_0 23 rfl rfl)
theorem dX3_spout_24 : decode cX3_spout 24 = .ok (.getfield 7, 3) := dk_180 0 7 (dk_at dksX3_spout_1 0 rfl rfl)
theorem dX3_spout_27 : decode cX3_spout 27 = .ok (.bipush 82, 2) := dk_16 82 (dk_at dksX3_spout_1 3 rfl rfl)
theorem dX3_spout_29 : decode cX3_spout 29 = .ok (.iconst 4, 1) := dk_7 (dk_at dksX3_spout_1 5 rfl rfl)
theorem dX3_spout_30 : decode cX3_spout 30 = .ok (.iload_n 1, 1) := dk_27 (dk_at dksX3_spout_1 6 rfl rfl)
theorem dX3_spout_31 : decode cX3_spout 31 = .ok (.imul, 1) := dk_104 (dk_at dksX3_spout_1 7 rfl rfl)
theorem dX3_spout_32 : decode cX3_spout 32 = .ok (.iadd, 1) := dk_96 (dk_at dksX3_spout_1 8 rfl rfl)
theorem dX3_spout_33 : decode cX3_spout 33 = .ok (.iconst 1, 1) := dk_4 (dk_at dksX3_spout_1 9 rfl rfl)
theorem dX3_spout_34 : decode cX3_spout 34 = .ok (.iadd, 1) := dk_96 (dk_at dksX3_spout_1 10 rfl rfl)
theorem dX3_spout_35 : decode cX3_spout 35 = .ok (.dup2, 1) := dk_92 (dk_at dksX3_spout_1 11 rfl rfl)
theorem dX3_spout_36 : decode cX3_spout 36 = .ok (.iaload, 1) := dk_46 (dk_at dksX3_spout_1 12 rfl rfl)
theorem dX3_spout_37 : decode cX3_spout 37 = .ok (.iconst 1, 1) := dk_4 (dk_at dksX3_spout_1 13 rfl rfl)
theorem dX3_spout_38 : decode cX3_spout 38 = .ok (.iload_n 2, 1) := dk_28 (dk_at dksX3_spout_1 14 rfl rfl)
theorem dX3_spout_39 : decode cX3_spout 39 = .ok (.ishl, 1) := dk_120 (dk_at dksX3_spout_1 15 rfl rfl)
theorem dX3_spout_40 : decode cX3_spout 40 = .ok (.ixor, 1) := dk_130 (dk_at dksX3_spout_1 16 rfl rfl)
theorem dX3_spout_41 : decode cX3_spout 41 = .ok (.iastore, 1) := dk_79 (dk_at dksX3_spout_1 17 rfl rfl)
theorem dX3_spout_42 : decode cX3_spout 42 = .ok (.aload_n 0, 1) := dk_42 (dk_at dksX3_spout_1 18 rfl rfl)
theorem dX3_spout_43 : decode cX3_spout 43 = .ok (.iload_n 1, 1) := dk_27 (dk_at dksX3_spout_1 19 rfl rfl)
theorem dX3_spout_44 : decode cX3_spout 44 = .ok (.iload_n 2, 1) := dk_28 (dk_at dksX3_spout_1 20 rfl rfl)
theorem dX3_spout_45 : decode cX3_spout 45 = .ok (.invokevirtual 66, 3) := dk_182 0 66 (dk_at dksX3_spout_1 21 rfl rfl)
theorem dX3_spout_48 : decode cX3_spout 48 = .ok (.ifCond .eq 7, 3) := dk_153 0 7 (dk_at dksX3_spout_2 0 rfl rfl)
theorem dX3_spout_51 : decode cX3_spout 51 = .ok (.iconst 1, 1) := dk_4 (dk_at dksX3_spout_2 3 rfl rfl)
theorem dX3_spout_52 : decode cX3_spout 52 = .ok (.goto 4, 3) := dk_167 0 4 (dk_at dksX3_spout_2 4 rfl rfl)
theorem dX3_spout_55 : decode cX3_spout 55 = .ok (.iconst 0, 1) := dk_3 (dk_at dksX3_spout_2 7 rfl rfl)
theorem dX3_spout_56 : decode cX3_spout 56 = .ok (.ireturn, 1) := dk_172 (dk_at dksX3_spout_2 8 rfl rfl)
abbrev cX3_leads : ByteArray := prog_10_method_16_code
def yX3_leads : MethodName := ⟨RX3, "leads", "(II)Z"⟩
def dkwX3_leads_0 : List UInt8 := [42, 27, 4, 182, 0, 49, 28, 122, 4, 126, 4, 160, 0, 7, 4, 167, 0, 4, 3, 172]
abbrev dktX3_leads_0 : List UInt8 := dkwX3_leads_0 ++ []
theorem dksX3_leads_0 : cX3_leads.data.toList.drop 0 = dktX3_leads_0 := by decide +kernel
theorem dX3_leads_0 : decode cX3_leads 0 = .ok (.aload_n 0, 1) := dk_42 (dk_at dksX3_leads_0 0 rfl rfl)
theorem dX3_leads_1 : decode cX3_leads 1 = .ok (.iload_n 1, 1) := dk_27 (dk_at dksX3_leads_0 1 rfl rfl)
theorem dX3_leads_2 : decode cX3_leads 2 = .ok (.iconst 1, 1) := dk_4 (dk_at dksX3_leads_0 2 rfl rfl)
theorem dX3_leads_3 : decode cX3_leads 3 = .ok (.invokevirtual 49, 3) := dk_182 0 49 (dk_at dksX3_leads_0 3 rfl rfl)
theorem dX3_leads_6 : decode cX3_leads 6 = .ok (.iload_n 2, 1) := dk_28 (dk_at dksX3_leads_0 6 rfl rfl)
theorem dX3_leads_7 : decode cX3_leads 7 = .ok (.ishr, 1) := dk_122 (dk_at dksX3_leads_0 7 rfl rfl)
theorem dX3_leads_8 : decode cX3_leads 8 = .ok (.iconst 1, 1) := dk_4 (dk_at dksX3_leads_0 8 rfl rfl)
theorem dX3_leads_9 : decode cX3_leads 9 = .ok (.iand, 1) := dk_126 (dk_at dksX3_leads_0 9 rfl rfl)
theorem dX3_leads_10 : decode cX3_leads 10 = .ok (.iconst 1, 1) := dk_4 (dk_at dksX3_leads_0 10 rfl rfl)
theorem dX3_leads_11 : decode cX3_leads 11 = .ok (.if_icmp .ne 7, 3) := dk_160 0 7 (dk_at dksX3_leads_0 11 rfl rfl)
theorem dX3_leads_14 : decode cX3_leads 14 = .ok (.iconst 1, 1) := dk_4 (dk_at dksX3_leads_0 14 rfl rfl)
theorem dX3_leads_15 : decode cX3_leads 15 = .ok (.goto 4, 3) := dk_167 0 4 (dk_at dksX3_leads_0 15 rfl rfl)
theorem dX3_leads_18 : decode cX3_leads 18 = .ok (.iconst 0, 1) := dk_3 (dk_at dksX3_leads_0 18 rfl rfl)
theorem dX3_leads_19 : decode cX3_leads 19 = .ok (.ireturn, 1) := dk_172 (dk_at dksX3_leads_0 19 rfl rfl)
abbrev cX3_setPrice : ByteArray := prog_10_method_22_code
def yX3_setPrice : MethodName := ⟨RX3, "setPrice", "(II)I"⟩
def dkwX3_setPrice_2 : List UInt8 := [29, 172]
abbrev dktX3_setPrice_2 : List UInt8 := dkwX3_setPrice_2 ++ []
def dkwX3_setPrice_1 : List UInt8 := [42, 182, 0, 52, 42, 180, 0, 7, 16, 6, 27, 96, 46, 62, 42, 180, 0, 7, 16, 6, 27, 96, 28, 79]
abbrev dktX3_setPrice_1 : List UInt8 := dkwX3_setPrice_1 ++ dktX3_setPrice_2
def dkwX3_setPrice_0 : List UInt8 := [27, 184, 0, 70, 154, 0, 6, 16, 254, 172, 28, 4, 17, 3, 232, 184, 0, 41, 154, 0, 6, 16, 253, 172]
abbrev dktX3_setPrice_0 : List UInt8 := dkwX3_setPrice_0 ++ dktX3_setPrice_1
theorem dksX3_setPrice_0 : cX3_setPrice.data.toList.drop 0 = dktX3_setPrice_0 := by decide +kernel
theorem dksX3_setPrice_1 : cX3_setPrice.data.toList.drop 24 = dktX3_setPrice_1 := dk_seg dksX3_setPrice_0 24 rfl rfl
theorem dksX3_setPrice_2 : cX3_setPrice.data.toList.drop 48 = dktX3_setPrice_2 := dk_seg dksX3_setPrice_1 24 rfl rfl
theorem dX3_setPrice_0 : decode cX3_setPrice 0 = .ok (.iload_n 1, 1) := dk_27 (dk_at dksX3_setPrice_0 0 rfl rfl)
theorem dX3_setPrice_1 : decode cX3_setPrice 1 = .ok (.invokestatic 70, 3) := dk_184 0 70 (dk_at dksX3_setPrice_0 1 rfl rfl)
theorem dX3_setPrice_4 : decode cX3_setPrice 4 = .ok (.ifCond .ne 6, 3) := dk_154 0 6 (dk_at dksX3_setPrice_0 4 rfl rfl)
theorem dX3_setPrice_7 : decode cX3_setPrice 7 = .ok (.bipush (-2), 2) := dk_16 254 (dk_at dksX3_setPrice_0 7 rfl rfl)
theorem dX3_setPrice_9 : decode cX3_setPrice 9 = .ok (.ireturn, 1) := dk_172 (dk_at dksX3_setPrice_0 9 rfl rfl)
theorem dX3_setPrice_10 : decode cX3_setPrice 10 = .ok (.iload_n 2, 1) := dk_28 (dk_at dksX3_setPrice_0 10 rfl rfl)
theorem dX3_setPrice_11 : decode cX3_setPrice 11 = .ok (.iconst 1, 1) := dk_4 (dk_at dksX3_setPrice_0 11 rfl rfl)
theorem dX3_setPrice_12 : decode cX3_setPrice 12 = .ok (.sipush 1000, 3) := dk_17 3 232 (dk_at dksX3_setPrice_0 12 rfl rfl)
theorem dX3_setPrice_15 : decode cX3_setPrice 15 = .ok (.invokestatic 41, 3) := dk_184 0 41 (dk_at dksX3_setPrice_0 15 rfl rfl)
theorem dX3_setPrice_18 : decode cX3_setPrice 18 = .ok (.ifCond .ne 6, 3) := dk_154 0 6 (dk_at dksX3_setPrice_0 18 rfl rfl)
theorem dX3_setPrice_21 : decode cX3_setPrice 21 = .ok (.bipush (-3), 2) := dk_16 253 (dk_at dksX3_setPrice_0 21 rfl rfl)
theorem dX3_setPrice_23 : decode cX3_setPrice 23 = .ok (.ireturn, 1) := dk_172 (dk_at dksX3_setPrice_0 23 rfl rfl)
theorem dX3_setPrice_24 : decode cX3_setPrice 24 = .ok (.aload_n 0, 1) := dk_42 (dk_at dksX3_setPrice_1 0 rfl rfl)
theorem dX3_setPrice_25 : decode cX3_setPrice 25 = .ok (.invokevirtual 52, 3) := dk_182 0 52 (dk_at dksX3_setPrice_1 1 rfl rfl)
theorem dX3_setPrice_28 : decode cX3_setPrice 28 = .ok (.aload_n 0, 1) := dk_42 (dk_at dksX3_setPrice_1 4 rfl rfl)
theorem dX3_setPrice_29 : decode cX3_setPrice 29 = .ok (.getfield 7, 3) := dk_180 0 7 (dk_at dksX3_setPrice_1 5 rfl rfl)
theorem dX3_setPrice_32 : decode cX3_setPrice 32 = .ok (.bipush 6, 2) := dk_16 6 (dk_at dksX3_setPrice_1 8 rfl rfl)
theorem dX3_setPrice_34 : decode cX3_setPrice 34 = .ok (.iload_n 1, 1) := dk_27 (dk_at dksX3_setPrice_1 10 rfl rfl)
theorem dX3_setPrice_35 : decode cX3_setPrice 35 = .ok (.iadd, 1) := dk_96 (dk_at dksX3_setPrice_1 11 rfl rfl)
theorem dX3_setPrice_36 : decode cX3_setPrice 36 = .ok (.iaload, 1) := dk_46 (dk_at dksX3_setPrice_1 12 rfl rfl)
theorem dX3_setPrice_37 : decode cX3_setPrice 37 = .ok (.istore_n 3, 1) := dk_62 (dk_at dksX3_setPrice_1 13 rfl rfl)
theorem dX3_setPrice_38 : decode cX3_setPrice 38 = .ok (.aload_n 0, 1) := dk_42 (dk_at dksX3_setPrice_1 14 rfl rfl)
theorem dX3_setPrice_39 : decode cX3_setPrice 39 = .ok (.getfield 7, 3) := dk_180 0 7 (dk_at dksX3_setPrice_1 15 rfl rfl)
theorem dX3_setPrice_42 : decode cX3_setPrice 42 = .ok (.bipush 6, 2) := dk_16 6 (dk_at dksX3_setPrice_1 18 rfl rfl)
theorem dX3_setPrice_44 : decode cX3_setPrice 44 = .ok (.iload_n 1, 1) := dk_27 (dk_at dksX3_setPrice_1 20 rfl rfl)
theorem dX3_setPrice_45 : decode cX3_setPrice 45 = .ok (.iadd, 1) := dk_96 (dk_at dksX3_setPrice_1 21 rfl rfl)
theorem dX3_setPrice_46 : decode cX3_setPrice 46 = .ok (.iload_n 2, 1) := dk_28 (dk_at dksX3_setPrice_1 22 rfl rfl)
theorem dX3_setPrice_47 : decode cX3_setPrice 47 = .ok (.iastore, 1) := dk_79 (dk_at dksX3_setPrice_1 23 rfl rfl)
theorem dX3_setPrice_48 : decode cX3_setPrice 48 = .ok (.iload_n 3, 1) := dk_29 (dk_at dksX3_setPrice_2 0 rfl rfl)
theorem dX3_setPrice_49 : decode cX3_setPrice 49 = .ok (.ireturn, 1) := dk_172 (dk_at dksX3_setPrice_2 1 rfl rfl)
abbrev cX3_isClass : ByteArray := prog_10_method_12_code
def yX3_isClass : MethodName := ⟨RX3, "isClass", "(I)Z"⟩
def dkwX3_isClass_0 : List UInt8 := [26, 3, 6, 184, 0, 41, 172]
abbrev dktX3_isClass_0 : List UInt8 := dkwX3_isClass_0 ++ []
theorem dksX3_isClass_0 : cX3_isClass.data.toList.drop 0 = dktX3_isClass_0 := by decide +kernel
theorem dX3_isClass_0 : decode cX3_isClass 0 = .ok (.iload_n 0, 1) := dk_26 (dk_at dksX3_isClass_0 0 rfl rfl)
theorem dX3_isClass_1 : decode cX3_isClass 1 = .ok (.iconst 0, 1) := dk_3 (dk_at dksX3_isClass_0 1 rfl rfl)
theorem dX3_isClass_2 : decode cX3_isClass 2 = .ok (.iconst 3, 1) := dk_6 (dk_at dksX3_isClass_0 2 rfl rfl)
theorem dX3_isClass_3 : decode cX3_isClass 3 = .ok (.invokestatic 41, 3) := dk_184 0 41 (dk_at dksX3_isClass_0 3 rfl rfl)
theorem dX3_isClass_6 : decode cX3_isClass 6 = .ok (.ireturn, 1) := dk_172 (dk_at dksX3_isClass_0 6 rfl rfl)
abbrev cX3_setDustLimit : ByteArray := prog_10_method_23_code
def yX3_setDustLimit : MethodName := ⟨RX3, "setDustLimit", "(I)I"⟩
def dkwX3_setDustLimit_1 : List UInt8 := [46, 61, 42, 180, 0, 7, 4, 27, 79, 28, 172]
abbrev dktX3_setDustLimit_1 : List UInt8 := dkwX3_setDustLimit_1 ++ []
def dkwX3_setDustLimit_0 : List UInt8 := [27, 16, 100, 17, 39, 16, 184, 0, 41, 154, 0, 6, 16, 253, 172, 42, 182, 0, 52, 42, 180, 0, 7, 4]
abbrev dktX3_setDustLimit_0 : List UInt8 := dkwX3_setDustLimit_0 ++ dktX3_setDustLimit_1
theorem dksX3_setDustLimit_0 : cX3_setDustLimit.data.toList.drop 0 = dktX3_setDustLimit_0 := by decide +kernel
theorem dksX3_setDustLimit_1 : cX3_setDustLimit.data.toList.drop 24 = dktX3_setDustLimit_1 := dk_seg dksX3_setDustLimit_0 24 rfl rfl
theorem dX3_setDustLimit_0 : decode cX3_setDustLimit 0 = .ok (.iload_n 1, 1) := dk_27 (dk_at dksX3_setDustLimit_0 0 rfl rfl)
theorem dX3_setDustLimit_1 : decode cX3_setDustLimit 1 = .ok (.bipush 100, 2) := dk_16 100 (dk_at dksX3_setDustLimit_0 1 rfl rfl)
theorem dX3_setDustLimit_3 : decode cX3_setDustLimit 3 = .ok (.sipush 10000, 3) := dk_17 39 16 (dk_at dksX3_setDustLimit_0 3 rfl rfl)
theorem dX3_setDustLimit_6 : decode cX3_setDustLimit 6 = .ok (.invokestatic 41, 3) := dk_184 0 41 (dk_at dksX3_setDustLimit_0 6 rfl rfl)
theorem dX3_setDustLimit_9 : decode cX3_setDustLimit 9 = .ok (.ifCond .ne 6, 3) := dk_154 0 6 (dk_at dksX3_setDustLimit_0 9 rfl rfl)
theorem dX3_setDustLimit_12 : decode cX3_setDustLimit 12 = .ok (.bipush (-3), 2) := dk_16 253 (dk_at dksX3_setDustLimit_0 12 rfl rfl)
theorem dX3_setDustLimit_14 : decode cX3_setDustLimit 14 = .ok (.ireturn, 1) := dk_172 (dk_at dksX3_setDustLimit_0 14 rfl rfl)
theorem dX3_setDustLimit_15 : decode cX3_setDustLimit 15 = .ok (.aload_n 0, 1) := dk_42 (dk_at dksX3_setDustLimit_0 15 rfl rfl)
theorem dX3_setDustLimit_16 : decode cX3_setDustLimit 16 = .ok (.invokevirtual 52, 3) := dk_182 0 52 (dk_at dksX3_setDustLimit_0 16 rfl rfl)
theorem dX3_setDustLimit_19 : decode cX3_setDustLimit 19 = .ok (.aload_n 0, 1) := dk_42 (dk_at dksX3_setDustLimit_0 19 rfl rfl)
theorem dX3_setDustLimit_20 : decode cX3_setDustLimit 20 = .ok (.getfield 7, 3) := dk_180 0 7 (dk_at dksX3_setDustLimit_0 20 rfl rfl)
theorem dX3_setDustLimit_23 : decode cX3_setDustLimit 23 = .ok (.iconst 1, 1) := dk_4 (dk_at dksX3_setDustLimit_0 23 rfl rfl)
theorem dX3_setDustLimit_24 : decode cX3_setDustLimit 24 = .ok (.iaload, 1) := dk_46 (dk_at dksX3_setDustLimit_1 0 rfl rfl)
theorem dX3_setDustLimit_25 : decode cX3_setDustLimit 25 = .ok (.istore_n 2, 1) := dk_61 (dk_at dksX3_setDustLimit_1 1 rfl rfl)
theorem dX3_setDustLimit_26 : decode cX3_setDustLimit 26 = .ok (.aload_n 0, 1) := dk_42 (dk_at dksX3_setDustLimit_1 2 rfl rfl)
theorem dX3_setDustLimit_27 : decode cX3_setDustLimit 27 = .ok (.getfield 7, 3) := dk_180 0 7 (dk_at dksX3_setDustLimit_1 3 rfl rfl)
theorem dX3_setDustLimit_30 : decode cX3_setDustLimit 30 = .ok (.iconst 1, 1) := dk_4 (dk_at dksX3_setDustLimit_1 6 rfl rfl)
theorem dX3_setDustLimit_31 : decode cX3_setDustLimit 31 = .ok (.iload_n 1, 1) := dk_27 (dk_at dksX3_setDustLimit_1 7 rfl rfl)
theorem dX3_setDustLimit_32 : decode cX3_setDustLimit 32 = .ok (.iastore, 1) := dk_79 (dk_at dksX3_setDustLimit_1 8 rfl rfl)
theorem dX3_setDustLimit_33 : decode cX3_setDustLimit 33 = .ok (.iload_n 2, 1) := dk_28 (dk_at dksX3_setDustLimit_1 9 rfl rfl)
theorem dX3_setDustLimit_34 : decode cX3_setDustLimit 34 = .ok (.ireturn, 1) := dk_172 (dk_at dksX3_setDustLimit_1 10 rfl rfl)
abbrev cX3_count : ByteArray := prog_10_method_24_code
def yX3_count : MethodName := ⟨RX3, "count", "(I)I"⟩
def dkwX3_count_8 : List UInt8 := [172, 21, 4, 172]
abbrev dktX3_count_8 : List UInt8 := dkwX3_count_8 ++ []
def dkwX3_count_7 : List UInt8 := [42, 180, 0, 7, 3, 46, 172, 42, 180, 0, 7, 4, 46, 172, 28, 172, 29, 172, 42, 180, 0, 7, 8, 46]
abbrev dktX3_count_7 : List UInt8 := dkwX3_count_7 ++ dktX3_count_8
def dkwX3_count_6 : List UInt8 := [42, 180, 0, 7, 5, 46, 172, 42, 180, 0, 7, 6, 46, 172, 42, 180, 0, 7, 7, 46, 172, 21, 5, 172]
abbrev dktX3_count_6 : List UInt8 := dkwX3_count_6 ++ dktX3_count_7
def dkwX3_count_5 : List UInt8 := [170, 0, 0, 0, 98, 0, 0, 0, 0, 0, 0, 0, 8, 0, 0, 0, 49, 0, 0, 0, 56, 0, 0, 0, 63, 0, 0, 0, 70, 0, 0, 0, 73, 0, 0, 0, 80, 0, 0, 0, 87, 0, 0, 0, 89, 0, 0, 0, 91]
abbrev dktX3_count_5 : List UInt8 := dkwX3_count_5 ++ dktX3_count_6
def dkwX3_count_4 : List UInt8 := [21, 5, 42, 21, 6, 7, 182, 0, 76, 96, 54, 5, 132, 6, 1, 167, 255, 230, 27]
abbrev dktX3_count_4 : List UInt8 := dkwX3_count_4 ++ dktX3_count_5
def dkwX3_count_3 : List UInt8 := [3, 96, 54, 4, 132, 6, 1, 167, 255, 203, 3, 54, 6, 21, 6, 42, 180, 0, 7, 7, 46, 162, 0, 21]
abbrev dktX3_count_3 : List UInt8 := dkwX3_count_3 ++ dktX3_count_4
def dkwX3_count_2 : List UInt8 := [42, 21, 6, 7, 182, 0, 45, 96, 62, 21, 4, 42, 21, 6, 182, 0, 73, 153, 0, 7, 4, 167, 0, 4]
abbrev dktX3_count_2 : List UInt8 := dkwX3_count_2 ++ dktX3_count_3
def dkwX3_count_1 : List UInt8 := [54, 6, 21, 6, 42, 180, 0, 7, 5, 46, 162, 0, 48, 28, 42, 21, 6, 6, 182, 0, 45, 96, 61, 29]
abbrev dktX3_count_1 : List UInt8 := dkwX3_count_1 ++ dktX3_count_2
def dkwX3_count_0 : List UInt8 := [27, 3, 16, 9, 184, 0, 41, 154, 0, 6, 16, 253, 172, 3, 61, 3, 62, 3, 54, 4, 3, 54, 5, 3]
abbrev dktX3_count_0 : List UInt8 := dkwX3_count_0 ++ dktX3_count_1
theorem dksX3_count_0 : cX3_count.data.toList.drop 0 = dktX3_count_0 := by decide +kernel
theorem dksX3_count_1 : cX3_count.data.toList.drop 24 = dktX3_count_1 := dk_seg dksX3_count_0 24 rfl rfl
theorem dksX3_count_2 : cX3_count.data.toList.drop 48 = dktX3_count_2 := dk_seg dksX3_count_1 24 rfl rfl
theorem dksX3_count_3 : cX3_count.data.toList.drop 72 = dktX3_count_3 := dk_seg dksX3_count_2 24 rfl rfl
theorem dksX3_count_4 : cX3_count.data.toList.drop 96 = dktX3_count_4 := dk_seg dksX3_count_3 24 rfl rfl
theorem dksX3_count_5 : cX3_count.data.toList.drop 115 = dktX3_count_5 := dk_seg dksX3_count_4 19 rfl rfl
theorem dksX3_count_6 : cX3_count.data.toList.drop 164 = dktX3_count_6 := dk_seg dksX3_count_5 49 rfl rfl
theorem dksX3_count_7 : cX3_count.data.toList.drop 188 = dktX3_count_7 := dk_seg dksX3_count_6 24 rfl rfl
theorem dksX3_count_8 : cX3_count.data.toList.drop 212 = dktX3_count_8 := dk_seg dksX3_count_7 24 rfl rfl
theorem dX3_count_0 : decode cX3_count 0 = .ok (.iload_n 1, 1) := dk_27 (dk_at dksX3_count_0 0 rfl rfl)
theorem dX3_count_1 : decode cX3_count 1 = .ok (.iconst 0, 1) := dk_3 (dk_at dksX3_count_0 1 rfl rfl)
theorem dX3_count_2 : decode cX3_count 2 = .ok (.bipush 9, 2) := dk_16 9 (dk_at dksX3_count_0 2 rfl rfl)
theorem dX3_count_4 : decode cX3_count 4 = .ok (.invokestatic 41, 3) := dk_184 0 41 (dk_at dksX3_count_0 4 rfl rfl)
theorem dX3_count_7 : decode cX3_count 7 = .ok (.ifCond .ne 6, 3) := dk_154 0 6 (dk_at dksX3_count_0 7 rfl rfl)
theorem dX3_count_10 : decode cX3_count 10 = .ok (.bipush (-3), 2) := dk_16 253 (dk_at dksX3_count_0 10 rfl rfl)
theorem dX3_count_12 : decode cX3_count 12 = .ok (.ireturn, 1) := dk_172 (dk_at dksX3_count_0 12 rfl rfl)
theorem dX3_count_13 : decode cX3_count 13 = .ok (.iconst 0, 1) := dk_3 (dk_at dksX3_count_0 13 rfl rfl)
theorem dX3_count_14 : decode cX3_count 14 = .ok (.istore_n 2, 1) := dk_61 (dk_at dksX3_count_0 14 rfl rfl)
theorem dX3_count_15 : decode cX3_count 15 = .ok (.iconst 0, 1) := dk_3 (dk_at dksX3_count_0 15 rfl rfl)
theorem dX3_count_16 : decode cX3_count 16 = .ok (.istore_n 3, 1) := dk_62 (dk_at dksX3_count_0 16 rfl rfl)
theorem dX3_count_17 : decode cX3_count 17 = .ok (.iconst 0, 1) := dk_3 (dk_at dksX3_count_0 17 rfl rfl)
theorem dX3_count_18 : decode cX3_count 18 = .ok (.istore 4, 2) := dk_54 4 (dk_at dksX3_count_0 18 rfl rfl)
theorem dX3_count_20 : decode cX3_count 20 = .ok (.iconst 0, 1) := dk_3 (dk_at dksX3_count_0 20 rfl rfl)
theorem dX3_count_21 : decode cX3_count 21 = .ok (.istore 5, 2) := dk_54 5 (dk_at dksX3_count_0 21 rfl rfl)
theorem dX3_count_23 : decode cX3_count 23 = .ok (.iconst 0, 1) := dk_3 (dk_at dksX3_count_0 23 rfl rfl)
theorem dX3_count_24 : decode cX3_count 24 = .ok (.istore 6, 2) := dk_54 6 (dk_at dksX3_count_1 0 rfl rfl)
theorem dX3_count_26 : decode cX3_count 26 = .ok (.iload 6, 2) := dk_21 6 (dk_at dksX3_count_1 2 rfl rfl)
theorem dX3_count_28 : decode cX3_count 28 = .ok (.aload_n 0, 1) := dk_42 (dk_at dksX3_count_1 4 rfl rfl)
theorem dX3_count_29 : decode cX3_count 29 = .ok (.getfield 7, 3) := dk_180 0 7 (dk_at dksX3_count_1 5 rfl rfl)
theorem dX3_count_32 : decode cX3_count 32 = .ok (.iconst 2, 1) := dk_5 (dk_at dksX3_count_1 8 rfl rfl)
theorem dX3_count_33 : decode cX3_count 33 = .ok (.iaload, 1) := dk_46 (dk_at dksX3_count_1 9 rfl rfl)
theorem dX3_count_34 : decode cX3_count 34 = .ok (.if_icmp .ge 48, 3) := dk_162 0 48 (dk_at dksX3_count_1 10 rfl rfl)
theorem dX3_count_37 : decode cX3_count 37 = .ok (.iload_n 2, 1) := dk_28 (dk_at dksX3_count_1 13 rfl rfl)
theorem dX3_count_38 : decode cX3_count 38 = .ok (.aload_n 0, 1) := dk_42 (dk_at dksX3_count_1 14 rfl rfl)
theorem dX3_count_39 : decode cX3_count 39 = .ok (.iload 6, 2) := dk_21 6 (dk_at dksX3_count_1 15 rfl rfl)
theorem dX3_count_41 : decode cX3_count 41 = .ok (.iconst 3, 1) := dk_6 (dk_at dksX3_count_1 17 rfl rfl)
theorem dX3_count_42 : decode cX3_count 42 = .ok (.invokevirtual 45, 3) := dk_182 0 45 (dk_at dksX3_count_1 18 rfl rfl)
theorem dX3_count_45 : decode cX3_count 45 = .ok (.iadd, 1) := dk_96 (dk_at dksX3_count_1 21 rfl rfl)
theorem dX3_count_46 : decode cX3_count 46 = .ok (.istore_n 2, 1) := dk_61 (dk_at dksX3_count_1 22 rfl rfl)
theorem dX3_count_47 : decode cX3_count 47 = .ok (.iload_n 3, 1) := dk_29 (dk_at dksX3_count_1 23 rfl rfl)
theorem dX3_count_48 : decode cX3_count 48 = .ok (.aload_n 0, 1) := dk_42 (dk_at dksX3_count_2 0 rfl rfl)
theorem dX3_count_49 : decode cX3_count 49 = .ok (.iload 6, 2) := dk_21 6 (dk_at dksX3_count_2 1 rfl rfl)
theorem dX3_count_51 : decode cX3_count 51 = .ok (.iconst 4, 1) := dk_7 (dk_at dksX3_count_2 3 rfl rfl)
theorem dX3_count_52 : decode cX3_count 52 = .ok (.invokevirtual 45, 3) := dk_182 0 45 (dk_at dksX3_count_2 4 rfl rfl)
theorem dX3_count_55 : decode cX3_count 55 = .ok (.iadd, 1) := dk_96 (dk_at dksX3_count_2 7 rfl rfl)
theorem dX3_count_56 : decode cX3_count 56 = .ok (.istore_n 3, 1) := dk_62 (dk_at dksX3_count_2 8 rfl rfl)
theorem dX3_count_57 : decode cX3_count 57 = .ok (.iload 4, 2) := dk_21 4 (dk_at dksX3_count_2 9 rfl rfl)
theorem dX3_count_59 : decode cX3_count 59 = .ok (.aload_n 0, 1) := dk_42 (dk_at dksX3_count_2 11 rfl rfl)
theorem dX3_count_60 : decode cX3_count 60 = .ok (.iload 6, 2) := dk_21 6 (dk_at dksX3_count_2 12 rfl rfl)
theorem dX3_count_62 : decode cX3_count 62 = .ok (.invokevirtual 73, 3) := dk_182 0 73 (dk_at dksX3_count_2 14 rfl rfl)
theorem dX3_count_65 : decode cX3_count 65 = .ok (.ifCond .eq 7, 3) := dk_153 0 7 (dk_at dksX3_count_2 17 rfl rfl)
theorem dX3_count_68 : decode cX3_count 68 = .ok (.iconst 1, 1) := dk_4 (dk_at dksX3_count_2 20 rfl rfl)
theorem dX3_count_69 : decode cX3_count 69 = .ok (.goto 4, 3) := dk_167 0 4 (dk_at dksX3_count_2 21 rfl rfl)
theorem dX3_count_72 : decode cX3_count 72 = .ok (.iconst 0, 1) := dk_3 (dk_at dksX3_count_3 0 rfl rfl)
theorem dX3_count_73 : decode cX3_count 73 = .ok (.iadd, 1) := dk_96 (dk_at dksX3_count_3 1 rfl rfl)
theorem dX3_count_74 : decode cX3_count 74 = .ok (.istore 4, 2) := dk_54 4 (dk_at dksX3_count_3 2 rfl rfl)
theorem dX3_count_76 : decode cX3_count 76 = .ok (.iinc 6 1, 3) := dk_132 6 1 (dk_at dksX3_count_3 4 rfl rfl)
theorem dX3_count_79 : decode cX3_count 79 = .ok (.goto (-53), 3) := dk_167 255 203 (dk_at dksX3_count_3 7 rfl rfl)
theorem dX3_count_82 : decode cX3_count 82 = .ok (.iconst 0, 1) := dk_3 (dk_at dksX3_count_3 10 rfl rfl)
theorem dX3_count_83 : decode cX3_count 83 = .ok (.istore 6, 2) := dk_54 6 (dk_at dksX3_count_3 11 rfl rfl)
theorem dX3_count_85 : decode cX3_count 85 = .ok (.iload 6, 2) := dk_21 6 (dk_at dksX3_count_3 13 rfl rfl)
theorem dX3_count_87 : decode cX3_count 87 = .ok (.aload_n 0, 1) := dk_42 (dk_at dksX3_count_3 15 rfl rfl)
theorem dX3_count_88 : decode cX3_count 88 = .ok (.getfield 7, 3) := dk_180 0 7 (dk_at dksX3_count_3 16 rfl rfl)
theorem dX3_count_91 : decode cX3_count 91 = .ok (.iconst 4, 1) := dk_7 (dk_at dksX3_count_3 19 rfl rfl)
theorem dX3_count_92 : decode cX3_count 92 = .ok (.iaload, 1) := dk_46 (dk_at dksX3_count_3 20 rfl rfl)
theorem dX3_count_93 : decode cX3_count 93 = .ok (.if_icmp .ge 21, 3) := dk_162 0 21 (dk_at dksX3_count_3 21 rfl rfl)
theorem dX3_count_96 : decode cX3_count 96 = .ok (.iload 5, 2) := dk_21 5 (dk_at dksX3_count_4 0 rfl rfl)
theorem dX3_count_98 : decode cX3_count 98 = .ok (.aload_n 0, 1) := dk_42 (dk_at dksX3_count_4 2 rfl rfl)
theorem dX3_count_99 : decode cX3_count 99 = .ok (.iload 6, 2) := dk_21 6 (dk_at dksX3_count_4 3 rfl rfl)
theorem dX3_count_101 : decode cX3_count 101 = .ok (.iconst 4, 1) := dk_7 (dk_at dksX3_count_4 5 rfl rfl)
theorem dX3_count_102 : decode cX3_count 102 = .ok (.invokevirtual 76, 3) := dk_182 0 76 (dk_at dksX3_count_4 6 rfl rfl)
theorem dX3_count_105 : decode cX3_count 105 = .ok (.iadd, 1) := dk_96 (dk_at dksX3_count_4 9 rfl rfl)
theorem dX3_count_106 : decode cX3_count 106 = .ok (.istore 5, 2) := dk_54 5 (dk_at dksX3_count_4 10 rfl rfl)
theorem dX3_count_108 : decode cX3_count 108 = .ok (.iinc 6 1, 3) := dk_132 6 1 (dk_at dksX3_count_4 12 rfl rfl)
theorem dX3_count_111 : decode cX3_count 111 = .ok (.goto (-26), 3) := dk_167 255 230 (dk_at dksX3_count_4 15 rfl rfl)
theorem dX3_count_114 : decode cX3_count 114 = .ok (.iload_n 1, 1) := dk_27 (dk_at dksX3_count_4 18 rfl rfl)
theorem dX3_count_115 : decode cX3_count 115 = .ok (.tableswitch 98 0 8 #[49, 56, 63, 70, 73, 80, 87, 89, 91], 49) := by decide +kernel
theorem dX3_count_164 : decode cX3_count 164 = .ok (.aload_n 0, 1) := dk_42 (dk_at dksX3_count_6 0 rfl rfl)
theorem dX3_count_165 : decode cX3_count 165 = .ok (.getfield 7, 3) := dk_180 0 7 (dk_at dksX3_count_6 1 rfl rfl)
theorem dX3_count_168 : decode cX3_count 168 = .ok (.iconst 2, 1) := dk_5 (dk_at dksX3_count_6 4 rfl rfl)
theorem dX3_count_169 : decode cX3_count 169 = .ok (.iaload, 1) := dk_46 (dk_at dksX3_count_6 5 rfl rfl)
theorem dX3_count_170 : decode cX3_count 170 = .ok (.ireturn, 1) := dk_172 (dk_at dksX3_count_6 6 rfl rfl)
theorem dX3_count_171 : decode cX3_count 171 = .ok (.aload_n 0, 1) := dk_42 (dk_at dksX3_count_6 7 rfl rfl)
theorem dX3_count_172 : decode cX3_count 172 = .ok (.getfield 7, 3) := dk_180 0 7 (dk_at dksX3_count_6 8 rfl rfl)
theorem dX3_count_175 : decode cX3_count 175 = .ok (.iconst 3, 1) := dk_6 (dk_at dksX3_count_6 11 rfl rfl)
theorem dX3_count_176 : decode cX3_count 176 = .ok (.iaload, 1) := dk_46 (dk_at dksX3_count_6 12 rfl rfl)
theorem dX3_count_177 : decode cX3_count 177 = .ok (.ireturn, 1) := dk_172 (dk_at dksX3_count_6 13 rfl rfl)
theorem dX3_count_178 : decode cX3_count 178 = .ok (.aload_n 0, 1) := dk_42 (dk_at dksX3_count_6 14 rfl rfl)
theorem dX3_count_179 : decode cX3_count 179 = .ok (.getfield 7, 3) := dk_180 0 7 (dk_at dksX3_count_6 15 rfl rfl)
theorem dX3_count_182 : decode cX3_count 182 = .ok (.iconst 4, 1) := dk_7 (dk_at dksX3_count_6 18 rfl rfl)
theorem dX3_count_183 : decode cX3_count 183 = .ok (.iaload, 1) := dk_46 (dk_at dksX3_count_6 19 rfl rfl)
theorem dX3_count_184 : decode cX3_count 184 = .ok (.ireturn, 1) := dk_172 (dk_at dksX3_count_6 20 rfl rfl)
theorem dX3_count_185 : decode cX3_count 185 = .ok (.iload 5, 2) := dk_21 5 (dk_at dksX3_count_6 21 rfl rfl)
theorem dX3_count_187 : decode cX3_count 187 = .ok (.ireturn, 1) := dk_172 (dk_at dksX3_count_6 23 rfl rfl)
theorem dX3_count_188 : decode cX3_count 188 = .ok (.aload_n 0, 1) := dk_42 (dk_at dksX3_count_7 0 rfl rfl)
theorem dX3_count_189 : decode cX3_count 189 = .ok (.getfield 7, 3) := dk_180 0 7 (dk_at dksX3_count_7 1 rfl rfl)
theorem dX3_count_192 : decode cX3_count 192 = .ok (.iconst 0, 1) := dk_3 (dk_at dksX3_count_7 4 rfl rfl)
theorem dX3_count_193 : decode cX3_count 193 = .ok (.iaload, 1) := dk_46 (dk_at dksX3_count_7 5 rfl rfl)
theorem dX3_count_194 : decode cX3_count 194 = .ok (.ireturn, 1) := dk_172 (dk_at dksX3_count_7 6 rfl rfl)
theorem dX3_count_195 : decode cX3_count 195 = .ok (.aload_n 0, 1) := dk_42 (dk_at dksX3_count_7 7 rfl rfl)
theorem dX3_count_196 : decode cX3_count 196 = .ok (.getfield 7, 3) := dk_180 0 7 (dk_at dksX3_count_7 8 rfl rfl)
theorem dX3_count_199 : decode cX3_count 199 = .ok (.iconst 1, 1) := dk_4 (dk_at dksX3_count_7 11 rfl rfl)
theorem dX3_count_200 : decode cX3_count 200 = .ok (.iaload, 1) := dk_46 (dk_at dksX3_count_7 12 rfl rfl)
theorem dX3_count_201 : decode cX3_count 201 = .ok (.ireturn, 1) := dk_172 (dk_at dksX3_count_7 13 rfl rfl)
theorem dX3_count_202 : decode cX3_count 202 = .ok (.iload_n 2, 1) := dk_28 (dk_at dksX3_count_7 14 rfl rfl)
theorem dX3_count_203 : decode cX3_count 203 = .ok (.ireturn, 1) := dk_172 (dk_at dksX3_count_7 15 rfl rfl)
theorem dX3_count_204 : decode cX3_count 204 = .ok (.iload_n 3, 1) := dk_29 (dk_at dksX3_count_7 16 rfl rfl)
theorem dX3_count_205 : decode cX3_count 205 = .ok (.ireturn, 1) := dk_172 (dk_at dksX3_count_7 17 rfl rfl)
theorem dX3_count_206 : decode cX3_count 206 = .ok (.aload_n 0, 1) := dk_42 (dk_at dksX3_count_7 18 rfl rfl)
theorem dX3_count_207 : decode cX3_count 207 = .ok (.getfield 7, 3) := dk_180 0 7 (dk_at dksX3_count_7 19 rfl rfl)
theorem dX3_count_210 : decode cX3_count 210 = .ok (.iconst 5, 1) := dk_8 (dk_at dksX3_count_7 22 rfl rfl)
theorem dX3_count_211 : decode cX3_count 211 = .ok (.iaload, 1) := dk_46 (dk_at dksX3_count_7 23 rfl rfl)
theorem dX3_count_212 : decode cX3_count 212 = .ok (.ireturn, 1) := dk_172 (dk_at dksX3_count_8 0 rfl rfl)
theorem dX3_count_213 : decode cX3_count 213 = .ok (.iload 4, 2) := dk_21 4 (dk_at dksX3_count_8 1 rfl rfl)
theorem dX3_count_215 : decode cX3_count 215 = .ok (.ireturn, 1) := dk_172 (dk_at dksX3_count_8 3 rfl rfl)
abbrev cX3_isSpoilt : ByteArray := prog_10_method_14_code
def yX3_isSpoilt : MethodName := ⟨RX3, "isSpoilt", "(I)Z"⟩
def dkwX3_isSpoilt_0 : List UInt8 := [42, 27, 16, 6, 182, 0, 45, 17, 39, 16, 160, 0, 7, 4, 167, 0, 4, 3, 172]
abbrev dktX3_isSpoilt_0 : List UInt8 := dkwX3_isSpoilt_0 ++ []
theorem dksX3_isSpoilt_0 : cX3_isSpoilt.data.toList.drop 0 = dktX3_isSpoilt_0 := by decide +kernel
theorem dX3_isSpoilt_0 : decode cX3_isSpoilt 0 = .ok (.aload_n 0, 1) := dk_42 (dk_at dksX3_isSpoilt_0 0 rfl rfl)
theorem dX3_isSpoilt_1 : decode cX3_isSpoilt 1 = .ok (.iload_n 1, 1) := dk_27 (dk_at dksX3_isSpoilt_0 1 rfl rfl)
theorem dX3_isSpoilt_2 : decode cX3_isSpoilt 2 = .ok (.bipush 6, 2) := dk_16 6 (dk_at dksX3_isSpoilt_0 2 rfl rfl)
theorem dX3_isSpoilt_4 : decode cX3_isSpoilt 4 = .ok (.invokevirtual 45, 3) := dk_182 0 45 (dk_at dksX3_isSpoilt_0 4 rfl rfl)
theorem dX3_isSpoilt_7 : decode cX3_isSpoilt 7 = .ok (.sipush 10000, 3) := dk_17 39 16 (dk_at dksX3_isSpoilt_0 7 rfl rfl)
theorem dX3_isSpoilt_10 : decode cX3_isSpoilt 10 = .ok (.if_icmp .ne 7, 3) := dk_160 0 7 (dk_at dksX3_isSpoilt_0 10 rfl rfl)
theorem dX3_isSpoilt_13 : decode cX3_isSpoilt 13 = .ok (.iconst 1, 1) := dk_4 (dk_at dksX3_isSpoilt_0 13 rfl rfl)
theorem dX3_isSpoilt_14 : decode cX3_isSpoilt 14 = .ok (.goto 4, 3) := dk_167 0 4 (dk_at dksX3_isSpoilt_0 14 rfl rfl)
theorem dX3_isSpoilt_17 : decode cX3_isSpoilt 17 = .ok (.iconst 0, 1) := dk_3 (dk_at dksX3_isSpoilt_0 17 rfl rfl)
theorem dX3_isSpoilt_18 : decode cX3_isSpoilt 18 = .ok (.ireturn, 1) := dk_172 (dk_at dksX3_isSpoilt_0 18 rfl rfl)
abbrev cX3_ofContract : ByteArray := prog_10_method_8_code
def yX3_ofContract : MethodName := ⟨RX3, "ofContract", "(II)I"⟩
def dkwX3_ofContract_0 : List UInt8 := [42, 180, 0, 7, 16, 94, 16, 6, 27, 104, 96, 28, 96, 46, 172]
abbrev dktX3_ofContract_0 : List UInt8 := dkwX3_ofContract_0 ++ []
theorem dksX3_ofContract_0 : cX3_ofContract.data.toList.drop 0 = dktX3_ofContract_0 := by decide +kernel
theorem dX3_ofContract_0 : decode cX3_ofContract 0 = .ok (.aload_n 0, 1) := dk_42 (dk_at dksX3_ofContract_0 0 rfl rfl)
theorem dX3_ofContract_1 : decode cX3_ofContract 1 = .ok (.getfield 7, 3) := dk_180 0 7 (dk_at dksX3_ofContract_0 1 rfl rfl)
theorem dX3_ofContract_4 : decode cX3_ofContract 4 = .ok (.bipush 94, 2) := dk_16 94 (dk_at dksX3_ofContract_0 4 rfl rfl)
theorem dX3_ofContract_6 : decode cX3_ofContract 6 = .ok (.bipush 6, 2) := dk_16 6 (dk_at dksX3_ofContract_0 6 rfl rfl)
theorem dX3_ofContract_8 : decode cX3_ofContract 8 = .ok (.iload_n 1, 1) := dk_27 (dk_at dksX3_ofContract_0 8 rfl rfl)
theorem dX3_ofContract_9 : decode cX3_ofContract 9 = .ok (.imul, 1) := dk_104 (dk_at dksX3_ofContract_0 9 rfl rfl)
theorem dX3_ofContract_10 : decode cX3_ofContract 10 = .ok (.iadd, 1) := dk_96 (dk_at dksX3_ofContract_0 10 rfl rfl)
theorem dX3_ofContract_11 : decode cX3_ofContract 11 = .ok (.iload_n 2, 1) := dk_28 (dk_at dksX3_ofContract_0 11 rfl rfl)
theorem dX3_ofContract_12 : decode cX3_ofContract 12 = .ok (.iadd, 1) := dk_96 (dk_at dksX3_ofContract_0 12 rfl rfl)
theorem dX3_ofContract_13 : decode cX3_ofContract 13 = .ok (.iaload, 1) := dk_46 (dk_at dksX3_ofContract_0 13 rfl rfl)
theorem dX3_ofContract_14 : decode cX3_ofContract 14 = .ok (.ireturn, 1) := dk_172 (dk_at dksX3_ofContract_0 14 rfl rfl)
abbrev cX3_bin : ByteArray := prog_10_method_26_code
def yX3_bin : MethodName := ⟨RX3, "bin", "(II)I"⟩
def dkwX3_bin_1 : List UInt8 := [182, 0, 83, 167, 0, 5, 16, 253, 172]
abbrev dktX3_bin_1 : List UInt8 := dkwX3_bin_1 ++ []
def dkwX3_bin_0 : List UInt8 := [42, 27, 182, 0, 59, 154, 0, 6, 16, 254, 172, 28, 3, 16, 9, 184, 0, 41, 153, 0, 12, 42, 27, 28]
abbrev dktX3_bin_0 : List UInt8 := dkwX3_bin_0 ++ dktX3_bin_1
theorem dksX3_bin_0 : cX3_bin.data.toList.drop 0 = dktX3_bin_0 := by decide +kernel
theorem dksX3_bin_1 : cX3_bin.data.toList.drop 24 = dktX3_bin_1 := dk_seg dksX3_bin_0 24 rfl rfl
theorem dX3_bin_0 : decode cX3_bin 0 = .ok (.aload_n 0, 1) := dk_42 (dk_at dksX3_bin_0 0 rfl rfl)
theorem dX3_bin_1 : decode cX3_bin 1 = .ok (.iload_n 1, 1) := dk_27 (dk_at dksX3_bin_0 1 rfl rfl)
theorem dX3_bin_2 : decode cX3_bin 2 = .ok (.invokevirtual 59, 3) := dk_182 0 59 (dk_at dksX3_bin_0 2 rfl rfl)
theorem dX3_bin_5 : decode cX3_bin 5 = .ok (.ifCond .ne 6, 3) := dk_154 0 6 (dk_at dksX3_bin_0 5 rfl rfl)
theorem dX3_bin_8 : decode cX3_bin 8 = .ok (.bipush (-2), 2) := dk_16 254 (dk_at dksX3_bin_0 8 rfl rfl)
theorem dX3_bin_10 : decode cX3_bin 10 = .ok (.ireturn, 1) := dk_172 (dk_at dksX3_bin_0 10 rfl rfl)
theorem dX3_bin_11 : decode cX3_bin 11 = .ok (.iload_n 2, 1) := dk_28 (dk_at dksX3_bin_0 11 rfl rfl)
theorem dX3_bin_12 : decode cX3_bin 12 = .ok (.iconst 0, 1) := dk_3 (dk_at dksX3_bin_0 12 rfl rfl)
theorem dX3_bin_13 : decode cX3_bin 13 = .ok (.bipush 9, 2) := dk_16 9 (dk_at dksX3_bin_0 13 rfl rfl)
theorem dX3_bin_15 : decode cX3_bin 15 = .ok (.invokestatic 41, 3) := dk_184 0 41 (dk_at dksX3_bin_0 15 rfl rfl)
theorem dX3_bin_18 : decode cX3_bin 18 = .ok (.ifCond .eq 12, 3) := dk_153 0 12 (dk_at dksX3_bin_0 18 rfl rfl)
theorem dX3_bin_21 : decode cX3_bin 21 = .ok (.aload_n 0, 1) := dk_42 (dk_at dksX3_bin_0 21 rfl rfl)
theorem dX3_bin_22 : decode cX3_bin 22 = .ok (.iload_n 1, 1) := dk_27 (dk_at dksX3_bin_0 22 rfl rfl)
theorem dX3_bin_23 : decode cX3_bin 23 = .ok (.iload_n 2, 1) := dk_28 (dk_at dksX3_bin_0 23 rfl rfl)
theorem dX3_bin_24 : decode cX3_bin 24 = .ok (.invokevirtual 83, 3) := dk_182 0 83 (dk_at dksX3_bin_1 0 rfl rfl)
theorem dX3_bin_27 : decode cX3_bin 27 = .ok (.goto 5, 3) := dk_167 0 5 (dk_at dksX3_bin_1 3 rfl rfl)
theorem dX3_bin_30 : decode cX3_bin 30 = .ok (.bipush (-3), 2) := dk_16 253 (dk_at dksX3_bin_1 6 rfl rfl)
theorem dX3_bin_32 : decode cX3_bin 32 = .ok (.ireturn, 1) := dk_172 (dk_at dksX3_bin_1 8 rfl rfl)
abbrev cX3_property : ByteArray := prog_10_method_25_code
def yX3_property : MethodName := ⟨RX3, "property", "(II)I"⟩
def dkwX3_property_1 : List UInt8 := [182, 0, 79, 167, 0, 11, 42, 27, 28, 4, 100, 182, 0, 45, 172]
abbrev dktX3_property_1 : List UInt8 := dkwX3_property_1 ++ []
def dkwX3_property_0 : List UInt8 := [28, 16, 6, 162, 0, 12, 42, 27, 28, 182, 0, 45, 167, 0, 25, 28, 16, 6, 160, 0, 11, 42, 27]
abbrev dktX3_property_0 : List UInt8 := dkwX3_property_0 ++ dktX3_property_1
theorem dksX3_property_0 : cX3_property.data.toList.drop 0 = dktX3_property_0 := by decide +kernel
theorem dksX3_property_1 : cX3_property.data.toList.drop 23 = dktX3_property_1 := dk_seg dksX3_property_0 23 rfl rfl
theorem dX3_property_0 : decode cX3_property 0 = .ok (.iload_n 2, 1) := dk_28 (dk_at dksX3_property_0 0 rfl rfl)
theorem dX3_property_1 : decode cX3_property 1 = .ok (.bipush 6, 2) := dk_16 6 (dk_at dksX3_property_0 1 rfl rfl)
theorem dX3_property_3 : decode cX3_property 3 = .ok (.if_icmp .ge 12, 3) := dk_162 0 12 (dk_at dksX3_property_0 3 rfl rfl)
theorem dX3_property_6 : decode cX3_property 6 = .ok (.aload_n 0, 1) := dk_42 (dk_at dksX3_property_0 6 rfl rfl)
theorem dX3_property_7 : decode cX3_property 7 = .ok (.iload_n 1, 1) := dk_27 (dk_at dksX3_property_0 7 rfl rfl)
theorem dX3_property_8 : decode cX3_property 8 = .ok (.iload_n 2, 1) := dk_28 (dk_at dksX3_property_0 8 rfl rfl)
theorem dX3_property_9 : decode cX3_property 9 = .ok (.invokevirtual 45, 3) := dk_182 0 45 (dk_at dksX3_property_0 9 rfl rfl)
theorem dX3_property_12 : decode cX3_property 12 = .ok (.goto 25, 3) := dk_167 0 25 (dk_at dksX3_property_0 12 rfl rfl)
theorem dX3_property_15 : decode cX3_property 15 = .ok (.iload_n 2, 1) := dk_28 (dk_at dksX3_property_0 15 rfl rfl)
theorem dX3_property_16 : decode cX3_property 16 = .ok (.bipush 6, 2) := dk_16 6 (dk_at dksX3_property_0 16 rfl rfl)
theorem dX3_property_18 : decode cX3_property 18 = .ok (.if_icmp .ne 11, 3) := dk_160 0 11 (dk_at dksX3_property_0 18 rfl rfl)
theorem dX3_property_21 : decode cX3_property 21 = .ok (.aload_n 0, 1) := dk_42 (dk_at dksX3_property_0 21 rfl rfl)
theorem dX3_property_22 : decode cX3_property 22 = .ok (.iload_n 1, 1) := dk_27 (dk_at dksX3_property_0 22 rfl rfl)
theorem dX3_property_23 : decode cX3_property 23 = .ok (.invokevirtual 79, 3) := dk_182 0 79 (dk_at dksX3_property_1 0 rfl rfl)
theorem dX3_property_26 : decode cX3_property 26 = .ok (.goto 11, 3) := dk_167 0 11 (dk_at dksX3_property_1 3 rfl rfl)
theorem dX3_property_29 : decode cX3_property 29 = .ok (.aload_n 0, 1) := dk_42 (dk_at dksX3_property_1 6 rfl rfl)
theorem dX3_property_30 : decode cX3_property 30 = .ok (.iload_n 1, 1) := dk_27 (dk_at dksX3_property_1 7 rfl rfl)
theorem dX3_property_31 : decode cX3_property 31 = .ok (.iload_n 2, 1) := dk_28 (dk_at dksX3_property_1 8 rfl rfl)
theorem dX3_property_32 : decode cX3_property 32 = .ok (.iconst 1, 1) := dk_4 (dk_at dksX3_property_1 9 rfl rfl)
theorem dX3_property_33 : decode cX3_property 33 = .ok (.isub, 1) := dk_100 (dk_at dksX3_property_1 10 rfl rfl)
theorem dX3_property_34 : decode cX3_property 34 = .ok (.invokevirtual 45, 3) := dk_182 0 45 (dk_at dksX3_property_1 11 rfl rfl)
theorem dX3_property_37 : decode cX3_property 37 = .ok (.ireturn, 1) := dk_172 (dk_at dksX3_property_1 14 rfl rfl)
abbrev cX3_moisture : ByteArray := prog_10_method_13_code
def yX3_moisture : MethodName := ⟨RX3, "moisture", "(I)I"⟩
def dkwX3_moisture_1 : List UInt8 := [182, 0, 45, 108, 172]
abbrev dktX3_moisture_1 : List UInt8 := dkwX3_moisture_1 ++ []
def dkwX3_moisture_0 : List UInt8 := [42, 27, 6, 182, 0, 45, 154, 0, 7, 2, 167, 0, 16, 42, 27, 7, 182, 0, 45, 42, 27, 6]
abbrev dktX3_moisture_0 : List UInt8 := dkwX3_moisture_0 ++ dktX3_moisture_1
theorem dksX3_moisture_0 : cX3_moisture.data.toList.drop 0 = dktX3_moisture_0 := by decide +kernel
theorem dksX3_moisture_1 : cX3_moisture.data.toList.drop 22 = dktX3_moisture_1 := dk_seg dksX3_moisture_0 22 rfl rfl
theorem dX3_moisture_0 : decode cX3_moisture 0 = .ok (.aload_n 0, 1) := dk_42 (dk_at dksX3_moisture_0 0 rfl rfl)
theorem dX3_moisture_1 : decode cX3_moisture 1 = .ok (.iload_n 1, 1) := dk_27 (dk_at dksX3_moisture_0 1 rfl rfl)
theorem dX3_moisture_2 : decode cX3_moisture 2 = .ok (.iconst 3, 1) := dk_6 (dk_at dksX3_moisture_0 2 rfl rfl)
theorem dX3_moisture_3 : decode cX3_moisture 3 = .ok (.invokevirtual 45, 3) := dk_182 0 45 (dk_at dksX3_moisture_0 3 rfl rfl)
theorem dX3_moisture_6 : decode cX3_moisture 6 = .ok (.ifCond .ne 7, 3) := dk_154 0 7 (dk_at dksX3_moisture_0 6 rfl rfl)
theorem dX3_moisture_9 : decode cX3_moisture 9 = .ok (.iconst (-1), 1) := dk_2 (dk_at dksX3_moisture_0 9 rfl rfl)
theorem dX3_moisture_10 : decode cX3_moisture 10 = .ok (.goto 16, 3) := dk_167 0 16 (dk_at dksX3_moisture_0 10 rfl rfl)
theorem dX3_moisture_13 : decode cX3_moisture 13 = .ok (.aload_n 0, 1) := dk_42 (dk_at dksX3_moisture_0 13 rfl rfl)
theorem dX3_moisture_14 : decode cX3_moisture 14 = .ok (.iload_n 1, 1) := dk_27 (dk_at dksX3_moisture_0 14 rfl rfl)
theorem dX3_moisture_15 : decode cX3_moisture 15 = .ok (.iconst 4, 1) := dk_7 (dk_at dksX3_moisture_0 15 rfl rfl)
theorem dX3_moisture_16 : decode cX3_moisture 16 = .ok (.invokevirtual 45, 3) := dk_182 0 45 (dk_at dksX3_moisture_0 16 rfl rfl)
theorem dX3_moisture_19 : decode cX3_moisture 19 = .ok (.aload_n 0, 1) := dk_42 (dk_at dksX3_moisture_0 19 rfl rfl)
theorem dX3_moisture_20 : decode cX3_moisture 20 = .ok (.iload_n 1, 1) := dk_27 (dk_at dksX3_moisture_0 20 rfl rfl)
theorem dX3_moisture_21 : decode cX3_moisture 21 = .ok (.iconst 3, 1) := dk_6 (dk_at dksX3_moisture_0 21 rfl rfl)
theorem dX3_moisture_22 : decode cX3_moisture 22 = .ok (.invokevirtual 45, 3) := dk_182 0 45 (dk_at dksX3_moisture_1 0 rfl rfl)
theorem dX3_moisture_25 : decode cX3_moisture 25 = .ok (.idiv, 1) := dk_108 (dk_at dksX3_moisture_1 3 rfl rfl)
theorem dX3_moisture_26 : decode cX3_moisture 26 = .ok (.ireturn, 1) := dk_172 (dk_at dksX3_moisture_1 4 rfl rfl)
abbrev cX3_leg : ByteArray := prog_10_method_28_code
def yX3_leg : MethodName := ⟨RX3, "leg", "(II)I"⟩
def dkwX3_leg_1 : List UInt8 := [182, 0, 89, 167, 0, 5, 16, 253, 172]
abbrev dktX3_leg_1 : List UInt8 := dkwX3_leg_1 ++ []
def dkwX3_leg_0 : List UInt8 := [42, 27, 182, 0, 63, 154, 0, 6, 16, 254, 172, 28, 3, 7, 184, 0, 41, 153, 0, 12, 42, 27, 28]
abbrev dktX3_leg_0 : List UInt8 := dkwX3_leg_0 ++ dktX3_leg_1
theorem dksX3_leg_0 : cX3_leg.data.toList.drop 0 = dktX3_leg_0 := by decide +kernel
theorem dksX3_leg_1 : cX3_leg.data.toList.drop 23 = dktX3_leg_1 := dk_seg dksX3_leg_0 23 rfl rfl
theorem dX3_leg_0 : decode cX3_leg 0 = .ok (.aload_n 0, 1) := dk_42 (dk_at dksX3_leg_0 0 rfl rfl)
theorem dX3_leg_1 : decode cX3_leg 1 = .ok (.iload_n 1, 1) := dk_27 (dk_at dksX3_leg_0 1 rfl rfl)
theorem dX3_leg_2 : decode cX3_leg 2 = .ok (.invokevirtual 63, 3) := dk_182 0 63 (dk_at dksX3_leg_0 2 rfl rfl)
theorem dX3_leg_5 : decode cX3_leg 5 = .ok (.ifCond .ne 6, 3) := dk_154 0 6 (dk_at dksX3_leg_0 5 rfl rfl)
theorem dX3_leg_8 : decode cX3_leg 8 = .ok (.bipush (-2), 2) := dk_16 254 (dk_at dksX3_leg_0 8 rfl rfl)
theorem dX3_leg_10 : decode cX3_leg 10 = .ok (.ireturn, 1) := dk_172 (dk_at dksX3_leg_0 10 rfl rfl)
theorem dX3_leg_11 : decode cX3_leg 11 = .ok (.iload_n 2, 1) := dk_28 (dk_at dksX3_leg_0 11 rfl rfl)
theorem dX3_leg_12 : decode cX3_leg 12 = .ok (.iconst 0, 1) := dk_3 (dk_at dksX3_leg_0 12 rfl rfl)
theorem dX3_leg_13 : decode cX3_leg 13 = .ok (.iconst 4, 1) := dk_7 (dk_at dksX3_leg_0 13 rfl rfl)
theorem dX3_leg_14 : decode cX3_leg 14 = .ok (.invokestatic 41, 3) := dk_184 0 41 (dk_at dksX3_leg_0 14 rfl rfl)
theorem dX3_leg_17 : decode cX3_leg 17 = .ok (.ifCond .eq 12, 3) := dk_153 0 12 (dk_at dksX3_leg_0 17 rfl rfl)
theorem dX3_leg_20 : decode cX3_leg 20 = .ok (.aload_n 0, 1) := dk_42 (dk_at dksX3_leg_0 20 rfl rfl)
theorem dX3_leg_21 : decode cX3_leg 21 = .ok (.iload_n 1, 1) := dk_27 (dk_at dksX3_leg_0 21 rfl rfl)
theorem dX3_leg_22 : decode cX3_leg 22 = .ok (.iload_n 2, 1) := dk_28 (dk_at dksX3_leg_0 22 rfl rfl)
theorem dX3_leg_23 : decode cX3_leg 23 = .ok (.invokevirtual 89, 3) := dk_182 0 89 (dk_at dksX3_leg_1 0 rfl rfl)
theorem dX3_leg_26 : decode cX3_leg 26 = .ok (.goto 5, 3) := dk_167 0 5 (dk_at dksX3_leg_1 3 rfl rfl)
theorem dX3_leg_29 : decode cX3_leg 29 = .ok (.bipush (-3), 2) := dk_16 253 (dk_at dksX3_leg_1 6 rfl rfl)
theorem dX3_leg_31 : decode cX3_leg 31 = .ok (.ireturn, 1) := dk_172 (dk_at dksX3_leg_1 8 rfl rfl)
abbrev cX3_legProperty : ByteArray := prog_10_method_27_code
def yX3_legProperty : MethodName := ⟨RX3, "legProperty", "(II)I"⟩
def dkwX3_legProperty_1 : List UInt8 := [153, 0, 7, 4, 167, 0, 13, 3, 167, 0, 9, 42, 27, 6, 182, 0, 49, 172]
abbrev dktX3_legProperty_1 : List UInt8 := dkwX3_legProperty_1 ++ []
def dkwX3_legProperty_0 : List UInt8 := [28, 6, 162, 0, 12, 42, 27, 28, 182, 0, 49, 167, 0, 30, 28, 6, 160, 0, 19, 42, 27, 182, 0, 86]
abbrev dktX3_legProperty_0 : List UInt8 := dkwX3_legProperty_0 ++ dktX3_legProperty_1
theorem dksX3_legProperty_0 : cX3_legProperty.data.toList.drop 0 = dktX3_legProperty_0 := by decide +kernel
theorem dksX3_legProperty_1 : cX3_legProperty.data.toList.drop 24 = dktX3_legProperty_1 := dk_seg dksX3_legProperty_0 24 rfl rfl
theorem dX3_legProperty_0 : decode cX3_legProperty 0 = .ok (.iload_n 2, 1) := dk_28 (dk_at dksX3_legProperty_0 0 rfl rfl)
theorem dX3_legProperty_1 : decode cX3_legProperty 1 = .ok (.iconst 3, 1) := dk_6 (dk_at dksX3_legProperty_0 1 rfl rfl)
theorem dX3_legProperty_2 : decode cX3_legProperty 2 = .ok (.if_icmp .ge 12, 3) := dk_162 0 12 (dk_at dksX3_legProperty_0 2 rfl rfl)
theorem dX3_legProperty_5 : decode cX3_legProperty 5 = .ok (.aload_n 0, 1) := dk_42 (dk_at dksX3_legProperty_0 5 rfl rfl)
theorem dX3_legProperty_6 : decode cX3_legProperty 6 = .ok (.iload_n 1, 1) := dk_27 (dk_at dksX3_legProperty_0 6 rfl rfl)
theorem dX3_legProperty_7 : decode cX3_legProperty 7 = .ok (.iload_n 2, 1) := dk_28 (dk_at dksX3_legProperty_0 7 rfl rfl)
theorem dX3_legProperty_8 : decode cX3_legProperty 8 = .ok (.invokevirtual 49, 3) := dk_182 0 49 (dk_at dksX3_legProperty_0 8 rfl rfl)
theorem dX3_legProperty_11 : decode cX3_legProperty 11 = .ok (.goto 30, 3) := dk_167 0 30 (dk_at dksX3_legProperty_0 11 rfl rfl)
theorem dX3_legProperty_14 : decode cX3_legProperty 14 = .ok (.iload_n 2, 1) := dk_28 (dk_at dksX3_legProperty_0 14 rfl rfl)
theorem dX3_legProperty_15 : decode cX3_legProperty 15 = .ok (.iconst 3, 1) := dk_6 (dk_at dksX3_legProperty_0 15 rfl rfl)
theorem dX3_legProperty_16 : decode cX3_legProperty 16 = .ok (.if_icmp .ne 19, 3) := dk_160 0 19 (dk_at dksX3_legProperty_0 16 rfl rfl)
theorem dX3_legProperty_19 : decode cX3_legProperty 19 = .ok (.aload_n 0, 1) := dk_42 (dk_at dksX3_legProperty_0 19 rfl rfl)
theorem dX3_legProperty_20 : decode cX3_legProperty 20 = .ok (.iload_n 1, 1) := dk_27 (dk_at dksX3_legProperty_0 20 rfl rfl)
theorem dX3_legProperty_21 : decode cX3_legProperty 21 = .ok (.invokevirtual 86, 3) := dk_182 0 86 (dk_at dksX3_legProperty_0 21 rfl rfl)
theorem dX3_legProperty_24 : decode cX3_legProperty 24 = .ok (.ifCond .eq 7, 3) := dk_153 0 7 (dk_at dksX3_legProperty_1 0 rfl rfl)
theorem dX3_legProperty_27 : decode cX3_legProperty 27 = .ok (.iconst 1, 1) := dk_4 (dk_at dksX3_legProperty_1 3 rfl rfl)
theorem dX3_legProperty_28 : decode cX3_legProperty 28 = .ok (.goto 13, 3) := dk_167 0 13 (dk_at dksX3_legProperty_1 4 rfl rfl)
theorem dX3_legProperty_31 : decode cX3_legProperty 31 = .ok (.iconst 0, 1) := dk_3 (dk_at dksX3_legProperty_1 7 rfl rfl)
theorem dX3_legProperty_32 : decode cX3_legProperty 32 = .ok (.goto 9, 3) := dk_167 0 9 (dk_at dksX3_legProperty_1 8 rfl rfl)
theorem dX3_legProperty_35 : decode cX3_legProperty 35 = .ok (.aload_n 0, 1) := dk_42 (dk_at dksX3_legProperty_1 11 rfl rfl)
theorem dX3_legProperty_36 : decode cX3_legProperty 36 = .ok (.iload_n 1, 1) := dk_27 (dk_at dksX3_legProperty_1 12 rfl rfl)
theorem dX3_legProperty_37 : decode cX3_legProperty 37 = .ok (.iconst 3, 1) := dk_6 (dk_at dksX3_legProperty_1 13 rfl rfl)
theorem dX3_legProperty_38 : decode cX3_legProperty 38 = .ok (.invokevirtual 49, 3) := dk_182 0 49 (dk_at dksX3_legProperty_1 14 rfl rfl)
theorem dX3_legProperty_41 : decode cX3_legProperty 41 = .ok (.ireturn, 1) := dk_172 (dk_at dksX3_legProperty_1 17 rfl rfl)
abbrev cX3_stands : ByteArray := prog_10_method_15_code
def yX3_stands : MethodName := ⟨RX3, "stands", "(I)Z"⟩
def dkwX3_stands_0 : List UInt8 := [42, 27, 5, 182, 0, 49, 42, 180, 0, 7, 4, 46, 161, 0, 7, 4, 167, 0, 4, 3, 172]
abbrev dktX3_stands_0 : List UInt8 := dkwX3_stands_0 ++ []
theorem dksX3_stands_0 : cX3_stands.data.toList.drop 0 = dktX3_stands_0 := by decide +kernel
theorem dX3_stands_0 : decode cX3_stands 0 = .ok (.aload_n 0, 1) := dk_42 (dk_at dksX3_stands_0 0 rfl rfl)
theorem dX3_stands_1 : decode cX3_stands 1 = .ok (.iload_n 1, 1) := dk_27 (dk_at dksX3_stands_0 1 rfl rfl)
theorem dX3_stands_2 : decode cX3_stands 2 = .ok (.iconst 2, 1) := dk_5 (dk_at dksX3_stands_0 2 rfl rfl)
theorem dX3_stands_3 : decode cX3_stands 3 = .ok (.invokevirtual 49, 3) := dk_182 0 49 (dk_at dksX3_stands_0 3 rfl rfl)
theorem dX3_stands_6 : decode cX3_stands 6 = .ok (.aload_n 0, 1) := dk_42 (dk_at dksX3_stands_0 6 rfl rfl)
theorem dX3_stands_7 : decode cX3_stands 7 = .ok (.getfield 7, 3) := dk_180 0 7 (dk_at dksX3_stands_0 7 rfl rfl)
theorem dX3_stands_10 : decode cX3_stands 10 = .ok (.iconst 1, 1) := dk_4 (dk_at dksX3_stands_0 10 rfl rfl)
theorem dX3_stands_11 : decode cX3_stands 11 = .ok (.iaload, 1) := dk_46 (dk_at dksX3_stands_0 11 rfl rfl)
theorem dX3_stands_12 : decode cX3_stands 12 = .ok (.if_icmp .lt 7, 3) := dk_161 0 7 (dk_at dksX3_stands_0 12 rfl rfl)
theorem dX3_stands_15 : decode cX3_stands 15 = .ok (.iconst 1, 1) := dk_4 (dk_at dksX3_stands_0 15 rfl rfl)
theorem dX3_stands_16 : decode cX3_stands 16 = .ok (.goto 4, 3) := dk_167 0 4 (dk_at dksX3_stands_0 16 rfl rfl)
theorem dX3_stands_19 : decode cX3_stands 19 = .ok (.iconst 0, 1) := dk_3 (dk_at dksX3_stands_0 19 rfl rfl)
theorem dX3_stands_20 : decode cX3_stands 20 = .ok (.ireturn, 1) := dk_172 (dk_at dksX3_stands_0 20 rfl rfl)
abbrev cX3_price : ByteArray := prog_10_method_29_code
def yX3_price : MethodName := ⟨RX3, "price", "(I)I"⟩
def dkwX3_price_0 : List UInt8 := [27, 184, 0, 70, 153, 0, 15, 42, 180, 0, 7, 16, 6, 27, 96, 46, 167, 0, 5, 16, 254, 172]
abbrev dktX3_price_0 : List UInt8 := dkwX3_price_0 ++ []
theorem dksX3_price_0 : cX3_price.data.toList.drop 0 = dktX3_price_0 := by decide +kernel
theorem dX3_price_0 : decode cX3_price 0 = .ok (.iload_n 1, 1) := dk_27 (dk_at dksX3_price_0 0 rfl rfl)
theorem dX3_price_1 : decode cX3_price 1 = .ok (.invokestatic 70, 3) := dk_184 0 70 (dk_at dksX3_price_0 1 rfl rfl)
theorem dX3_price_4 : decode cX3_price 4 = .ok (.ifCond .eq 15, 3) := dk_153 0 15 (dk_at dksX3_price_0 4 rfl rfl)
theorem dX3_price_7 : decode cX3_price 7 = .ok (.aload_n 0, 1) := dk_42 (dk_at dksX3_price_0 7 rfl rfl)
theorem dX3_price_8 : decode cX3_price 8 = .ok (.getfield 7, 3) := dk_180 0 7 (dk_at dksX3_price_0 8 rfl rfl)
theorem dX3_price_11 : decode cX3_price 11 = .ok (.bipush 6, 2) := dk_16 6 (dk_at dksX3_price_0 11 rfl rfl)
theorem dX3_price_13 : decode cX3_price 13 = .ok (.iload_n 1, 1) := dk_27 (dk_at dksX3_price_0 13 rfl rfl)
theorem dX3_price_14 : decode cX3_price 14 = .ok (.iadd, 1) := dk_96 (dk_at dksX3_price_0 14 rfl rfl)
theorem dX3_price_15 : decode cX3_price 15 = .ok (.iaload, 1) := dk_46 (dk_at dksX3_price_0 15 rfl rfl)
theorem dX3_price_16 : decode cX3_price 16 = .ok (.goto 5, 3) := dk_167 0 5 (dk_at dksX3_price_0 16 rfl rfl)
theorem dX3_price_19 : decode cX3_price 19 = .ok (.bipush (-2), 2) := dk_16 254 (dk_at dksX3_price_0 19 rfl rfl)
theorem dX3_price_21 : decode cX3_price 21 = .ok (.ireturn, 1) := dk_172 (dk_at dksX3_price_0 21 rfl rfl)
abbrev cX3_book : ByteArray := prog_10_method_30_code
def yX3_book : MethodName := ⟨RX3, "book", "(I)J"⟩
def dkwX3_book_2 : List UInt8 := [101, 173]
abbrev dktX3_book_2 : List UInt8 := dkwX3_book_2 ++ []
def dkwX3_book_1 : List UInt8 := [27, 47, 167, 0, 23, 42, 180, 0, 13, 7, 47, 42, 180, 0, 13, 6, 47, 101, 42, 180, 0, 13, 8, 47]
abbrev dktX3_book_1 : List UInt8 := dkwX3_book_1 ++ dktX3_book_2
def dkwX3_book_0 : List UInt8 := [27, 3, 16, 6, 184, 0, 41, 154, 0, 7, 20, 0, 92, 173, 27, 16, 6, 162, 0, 12, 42, 180, 0, 13]
abbrev dktX3_book_0 : List UInt8 := dkwX3_book_0 ++ dktX3_book_1
theorem dksX3_book_0 : cX3_book.data.toList.drop 0 = dktX3_book_0 := by decide +kernel
theorem dksX3_book_1 : cX3_book.data.toList.drop 24 = dktX3_book_1 := dk_seg dksX3_book_0 24 rfl rfl
theorem dksX3_book_2 : cX3_book.data.toList.drop 48 = dktX3_book_2 := dk_seg dksX3_book_1 24 rfl rfl
theorem dX3_book_0 : decode cX3_book 0 = .ok (.iload_n 1, 1) := dk_27 (dk_at dksX3_book_0 0 rfl rfl)
theorem dX3_book_1 : decode cX3_book 1 = .ok (.iconst 0, 1) := dk_3 (dk_at dksX3_book_0 1 rfl rfl)
theorem dX3_book_2 : decode cX3_book 2 = .ok (.bipush 6, 2) := dk_16 6 (dk_at dksX3_book_0 2 rfl rfl)
theorem dX3_book_4 : decode cX3_book 4 = .ok (.invokestatic 41, 3) := dk_184 0 41 (dk_at dksX3_book_0 4 rfl rfl)
theorem dX3_book_7 : decode cX3_book 7 = .ok (.ifCond .ne 7, 3) := dk_154 0 7 (dk_at dksX3_book_0 7 rfl rfl)
theorem dX3_book_10 : decode cX3_book 10 = .ok (.ldc2_w 92, 3) := dk_20 0 92 (dk_at dksX3_book_0 10 rfl rfl)
theorem dX3_book_13 : decode cX3_book 13 = .ok (.lreturn, 1) := dk_173 (dk_at dksX3_book_0 13 rfl rfl)
theorem dX3_book_14 : decode cX3_book 14 = .ok (.iload_n 1, 1) := dk_27 (dk_at dksX3_book_0 14 rfl rfl)
theorem dX3_book_15 : decode cX3_book 15 = .ok (.bipush 6, 2) := dk_16 6 (dk_at dksX3_book_0 15 rfl rfl)
theorem dX3_book_17 : decode cX3_book 17 = .ok (.if_icmp .ge 12, 3) := dk_162 0 12 (dk_at dksX3_book_0 17 rfl rfl)
theorem dX3_book_20 : decode cX3_book 20 = .ok (.aload_n 0, 1) := dk_42 (dk_at dksX3_book_0 20 rfl rfl)
theorem dX3_book_21 : decode cX3_book 21 = .ok (.getfield 13, 3) := dk_180 0 13 (dk_at dksX3_book_0 21 rfl rfl)
theorem dX3_book_24 : decode cX3_book 24 = .ok (.iload_n 1, 1) := dk_27 (dk_at dksX3_book_1 0 rfl rfl)
theorem dX3_book_25 : decode cX3_book 25 = .ok (.laload, 1) := dk_47 (dk_at dksX3_book_1 1 rfl rfl)
theorem dX3_book_26 : decode cX3_book 26 = .ok (.goto 23, 3) := dk_167 0 23 (dk_at dksX3_book_1 2 rfl rfl)
theorem dX3_book_29 : decode cX3_book 29 = .ok (.aload_n 0, 1) := dk_42 (dk_at dksX3_book_1 5 rfl rfl)
theorem dX3_book_30 : decode cX3_book 30 = .ok (.getfield 13, 3) := dk_180 0 13 (dk_at dksX3_book_1 6 rfl rfl)
theorem dX3_book_33 : decode cX3_book 33 = .ok (.iconst 4, 1) := dk_7 (dk_at dksX3_book_1 9 rfl rfl)
theorem dX3_book_34 : decode cX3_book 34 = .ok (.laload, 1) := dk_47 (dk_at dksX3_book_1 10 rfl rfl)
theorem dX3_book_35 : decode cX3_book 35 = .ok (.aload_n 0, 1) := dk_42 (dk_at dksX3_book_1 11 rfl rfl)
theorem dX3_book_36 : decode cX3_book 36 = .ok (.getfield 13, 3) := dk_180 0 13 (dk_at dksX3_book_1 12 rfl rfl)
theorem dX3_book_39 : decode cX3_book 39 = .ok (.iconst 3, 1) := dk_6 (dk_at dksX3_book_1 15 rfl rfl)
theorem dX3_book_40 : decode cX3_book 40 = .ok (.laload, 1) := dk_47 (dk_at dksX3_book_1 16 rfl rfl)
theorem dX3_book_41 : decode cX3_book 41 = .ok (.lsub, 1) := dk_101 (dk_at dksX3_book_1 17 rfl rfl)
theorem dX3_book_42 : decode cX3_book 42 = .ok (.aload_n 0, 1) := dk_42 (dk_at dksX3_book_1 18 rfl rfl)
theorem dX3_book_43 : decode cX3_book 43 = .ok (.getfield 13, 3) := dk_180 0 13 (dk_at dksX3_book_1 19 rfl rfl)
theorem dX3_book_46 : decode cX3_book 46 = .ok (.iconst 5, 1) := dk_8 (dk_at dksX3_book_1 22 rfl rfl)
theorem dX3_book_47 : decode cX3_book 47 = .ok (.laload, 1) := dk_47 (dk_at dksX3_book_1 23 rfl rfl)
theorem dX3_book_48 : decode cX3_book 48 = .ok (.lsub, 1) := dk_101 (dk_at dksX3_book_2 0 rfl rfl)
theorem dX3_book_49 : decode cX3_book 49 = .ok (.lreturn, 1) := dk_173 (dk_at dksX3_book_2 1 rfl rfl)
abbrev cX3_audit : ByteArray := prog_10_method_31_code
def yX3_audit : MethodName := ⟨RX3, "audit", "()I"⟩
def dkwX3_audit_4 : List UInt8 := [154, 0, 7, 4, 167, 0, 4, 3, 172]
abbrev dktX3_audit_4 : List UInt8 := dkwX3_audit_4 ++ []
def dkwX3_audit_3 : List UInt8 := [180, 0, 13, 3, 47, 42, 180, 0, 13, 4, 47, 101, 42, 180, 0, 13, 5, 47, 101, 28, 133, 148]
abbrev dktX3_audit_3 : List UInt8 := dkwX3_audit_3 ++ dktX3_audit_4
def dkwX3_audit_2 : List UInt8 := [3, 60, 28, 42, 29, 6, 182, 0, 45, 96, 61, 132, 3, 1, 167, 255, 200, 27, 153, 0, 33, 42]
abbrev dktX3_audit_2 : List UInt8 := dkwX3_audit_2 ++ dktX3_audit_3
def dkwX3_audit_1 : List UInt8 := [182, 0, 45, 42, 29, 16, 8, 182, 0, 45, 100, 42, 29, 6, 182, 0, 45, 160, 0, 7, 4, 167, 0, 4]
abbrev dktX3_audit_1 : List UInt8 := dkwX3_audit_1 ++ dktX3_audit_2
def dkwX3_audit_0 : List UInt8 := [4, 60, 3, 61, 3, 62, 29, 42, 180, 0, 7, 5, 46, 162, 0, 52, 27, 153, 0, 31, 42, 29, 16, 7]
abbrev dktX3_audit_0 : List UInt8 := dkwX3_audit_0 ++ dktX3_audit_1
theorem dksX3_audit_0 : cX3_audit.data.toList.drop 0 = dktX3_audit_0 := by decide +kernel
theorem dksX3_audit_1 : cX3_audit.data.toList.drop 24 = dktX3_audit_1 := dk_seg dksX3_audit_0 24 rfl rfl
theorem dksX3_audit_2 : cX3_audit.data.toList.drop 48 = dktX3_audit_2 := dk_seg dksX3_audit_1 24 rfl rfl
theorem dksX3_audit_3 : cX3_audit.data.toList.drop 70 = dktX3_audit_3 := dk_seg dksX3_audit_2 22 rfl rfl
theorem dksX3_audit_4 : cX3_audit.data.toList.drop 92 = dktX3_audit_4 := dk_seg dksX3_audit_3 22 rfl rfl
theorem dX3_audit_0 : decode cX3_audit 0 = .ok (.iconst 1, 1) := dk_4 (dk_at dksX3_audit_0 0 rfl rfl)
theorem dX3_audit_1 : decode cX3_audit 1 = .ok (.istore_n 1, 1) := dk_60 (dk_at dksX3_audit_0 1 rfl rfl)
theorem dX3_audit_2 : decode cX3_audit 2 = .ok (.iconst 0, 1) := dk_3 (dk_at dksX3_audit_0 2 rfl rfl)
theorem dX3_audit_3 : decode cX3_audit 3 = .ok (.istore_n 2, 1) := dk_61 (dk_at dksX3_audit_0 3 rfl rfl)
theorem dX3_audit_4 : decode cX3_audit 4 = .ok (.iconst 0, 1) := dk_3 (dk_at dksX3_audit_0 4 rfl rfl)
theorem dX3_audit_5 : decode cX3_audit 5 = .ok (.istore_n 3, 1) := dk_62 (dk_at dksX3_audit_0 5 rfl rfl)
theorem dX3_audit_6 : decode cX3_audit 6 = .ok (.iload_n 3, 1) := dk_29 (dk_at dksX3_audit_0 6 rfl rfl)
theorem dX3_audit_7 : decode cX3_audit 7 = .ok (.aload_n 0, 1) := dk_42 (dk_at dksX3_audit_0 7 rfl rfl)
theorem dX3_audit_8 : decode cX3_audit 8 = .ok (.getfield 7, 3) := dk_180 0 7 (dk_at dksX3_audit_0 8 rfl rfl)
theorem dX3_audit_11 : decode cX3_audit 11 = .ok (.iconst 2, 1) := dk_5 (dk_at dksX3_audit_0 11 rfl rfl)
theorem dX3_audit_12 : decode cX3_audit 12 = .ok (.iaload, 1) := dk_46 (dk_at dksX3_audit_0 12 rfl rfl)
theorem dX3_audit_13 : decode cX3_audit 13 = .ok (.if_icmp .ge 52, 3) := dk_162 0 52 (dk_at dksX3_audit_0 13 rfl rfl)
theorem dX3_audit_16 : decode cX3_audit 16 = .ok (.iload_n 1, 1) := dk_27 (dk_at dksX3_audit_0 16 rfl rfl)
theorem dX3_audit_17 : decode cX3_audit 17 = .ok (.ifCond .eq 31, 3) := dk_153 0 31 (dk_at dksX3_audit_0 17 rfl rfl)
theorem dX3_audit_20 : decode cX3_audit 20 = .ok (.aload_n 0, 1) := dk_42 (dk_at dksX3_audit_0 20 rfl rfl)
theorem dX3_audit_21 : decode cX3_audit 21 = .ok (.iload_n 3, 1) := dk_29 (dk_at dksX3_audit_0 21 rfl rfl)
theorem dX3_audit_22 : decode cX3_audit 22 = .ok (.bipush 7, 2) := dk_16 7 (dk_at dksX3_audit_0 22 rfl rfl)
theorem dX3_audit_24 : decode cX3_audit 24 = .ok (.invokevirtual 45, 3) := dk_182 0 45 (dk_at dksX3_audit_1 0 rfl rfl)
theorem dX3_audit_27 : decode cX3_audit 27 = .ok (.aload_n 0, 1) := dk_42 (dk_at dksX3_audit_1 3 rfl rfl)
theorem dX3_audit_28 : decode cX3_audit 28 = .ok (.iload_n 3, 1) := dk_29 (dk_at dksX3_audit_1 4 rfl rfl)
theorem dX3_audit_29 : decode cX3_audit 29 = .ok (.bipush 8, 2) := dk_16 8 (dk_at dksX3_audit_1 5 rfl rfl)
theorem dX3_audit_31 : decode cX3_audit 31 = .ok (.invokevirtual 45, 3) := dk_182 0 45 (dk_at dksX3_audit_1 7 rfl rfl)
theorem dX3_audit_34 : decode cX3_audit 34 = .ok (.isub, 1) := dk_100 (dk_at dksX3_audit_1 10 rfl rfl)
theorem dX3_audit_35 : decode cX3_audit 35 = .ok (.aload_n 0, 1) := dk_42 (dk_at dksX3_audit_1 11 rfl rfl)
theorem dX3_audit_36 : decode cX3_audit 36 = .ok (.iload_n 3, 1) := dk_29 (dk_at dksX3_audit_1 12 rfl rfl)
theorem dX3_audit_37 : decode cX3_audit 37 = .ok (.iconst 3, 1) := dk_6 (dk_at dksX3_audit_1 13 rfl rfl)
theorem dX3_audit_38 : decode cX3_audit 38 = .ok (.invokevirtual 45, 3) := dk_182 0 45 (dk_at dksX3_audit_1 14 rfl rfl)
theorem dX3_audit_41 : decode cX3_audit 41 = .ok (.if_icmp .ne 7, 3) := dk_160 0 7 (dk_at dksX3_audit_1 17 rfl rfl)
theorem dX3_audit_44 : decode cX3_audit 44 = .ok (.iconst 1, 1) := dk_4 (dk_at dksX3_audit_1 20 rfl rfl)
theorem dX3_audit_45 : decode cX3_audit 45 = .ok (.goto 4, 3) := dk_167 0 4 (dk_at dksX3_audit_1 21 rfl rfl)
theorem dX3_audit_48 : decode cX3_audit 48 = .ok (.iconst 0, 1) := dk_3 (dk_at dksX3_audit_2 0 rfl rfl)
theorem dX3_audit_49 : decode cX3_audit 49 = .ok (.istore_n 1, 1) := dk_60 (dk_at dksX3_audit_2 1 rfl rfl)
theorem dX3_audit_50 : decode cX3_audit 50 = .ok (.iload_n 2, 1) := dk_28 (dk_at dksX3_audit_2 2 rfl rfl)
theorem dX3_audit_51 : decode cX3_audit 51 = .ok (.aload_n 0, 1) := dk_42 (dk_at dksX3_audit_2 3 rfl rfl)
theorem dX3_audit_52 : decode cX3_audit 52 = .ok (.iload_n 3, 1) := dk_29 (dk_at dksX3_audit_2 4 rfl rfl)
theorem dX3_audit_53 : decode cX3_audit 53 = .ok (.iconst 3, 1) := dk_6 (dk_at dksX3_audit_2 5 rfl rfl)
theorem dX3_audit_54 : decode cX3_audit 54 = .ok (.invokevirtual 45, 3) := dk_182 0 45 (dk_at dksX3_audit_2 6 rfl rfl)
theorem dX3_audit_57 : decode cX3_audit 57 = .ok (.iadd, 1) := dk_96 (dk_at dksX3_audit_2 9 rfl rfl)
theorem dX3_audit_58 : decode cX3_audit 58 = .ok (.istore_n 2, 1) := dk_61 (dk_at dksX3_audit_2 10 rfl rfl)
theorem dX3_audit_59 : decode cX3_audit 59 = .ok (.iinc 3 1, 3) := dk_132 3 1 (dk_at dksX3_audit_2 11 rfl rfl)
theorem dX3_audit_62 : decode cX3_audit 62 = .ok (.goto (-56), 3) := dk_167 255 200 (dk_at dksX3_audit_2 14 rfl rfl)
theorem dX3_audit_65 : decode cX3_audit 65 = .ok (.iload_n 1, 1) := dk_27 (dk_at dksX3_audit_2 17 rfl rfl)
theorem dX3_audit_66 : decode cX3_audit 66 = .ok (.ifCond .eq 33, 3) := dk_153 0 33 (dk_at dksX3_audit_2 18 rfl rfl)
theorem dX3_audit_69 : decode cX3_audit 69 = .ok (.aload_n 0, 1) := dk_42 (dk_at dksX3_audit_2 21 rfl rfl)
theorem dX3_audit_70 : decode cX3_audit 70 = .ok (.getfield 13, 3) := dk_180 0 13 (dk_at dksX3_audit_3 0 rfl rfl)
theorem dX3_audit_73 : decode cX3_audit 73 = .ok (.iconst 0, 1) := dk_3 (dk_at dksX3_audit_3 3 rfl rfl)
theorem dX3_audit_74 : decode cX3_audit 74 = .ok (.laload, 1) := dk_47 (dk_at dksX3_audit_3 4 rfl rfl)
theorem dX3_audit_75 : decode cX3_audit 75 = .ok (.aload_n 0, 1) := dk_42 (dk_at dksX3_audit_3 5 rfl rfl)
theorem dX3_audit_76 : decode cX3_audit 76 = .ok (.getfield 13, 3) := dk_180 0 13 (dk_at dksX3_audit_3 6 rfl rfl)
theorem dX3_audit_79 : decode cX3_audit 79 = .ok (.iconst 1, 1) := dk_4 (dk_at dksX3_audit_3 9 rfl rfl)
theorem dX3_audit_80 : decode cX3_audit 80 = .ok (.laload, 1) := dk_47 (dk_at dksX3_audit_3 10 rfl rfl)
theorem dX3_audit_81 : decode cX3_audit 81 = .ok (.lsub, 1) := dk_101 (dk_at dksX3_audit_3 11 rfl rfl)
theorem dX3_audit_82 : decode cX3_audit 82 = .ok (.aload_n 0, 1) := dk_42 (dk_at dksX3_audit_3 12 rfl rfl)
theorem dX3_audit_83 : decode cX3_audit 83 = .ok (.getfield 13, 3) := dk_180 0 13 (dk_at dksX3_audit_3 13 rfl rfl)
theorem dX3_audit_86 : decode cX3_audit 86 = .ok (.iconst 2, 1) := dk_5 (dk_at dksX3_audit_3 16 rfl rfl)
theorem dX3_audit_87 : decode cX3_audit 87 = .ok (.laload, 1) := dk_47 (dk_at dksX3_audit_3 17 rfl rfl)
theorem dX3_audit_88 : decode cX3_audit 88 = .ok (.lsub, 1) := dk_101 (dk_at dksX3_audit_3 18 rfl rfl)
theorem dX3_audit_89 : decode cX3_audit 89 = .ok (.iload_n 2, 1) := dk_28 (dk_at dksX3_audit_3 19 rfl rfl)
theorem dX3_audit_90 : decode cX3_audit 90 = .ok (.i2l, 1) := dk_133 (dk_at dksX3_audit_3 20 rfl rfl)
theorem dX3_audit_91 : decode cX3_audit 91 = .ok (.lcmp, 1) := dk_148 (dk_at dksX3_audit_3 21 rfl rfl)
theorem dX3_audit_92 : decode cX3_audit 92 = .ok (.ifCond .ne 7, 3) := dk_154 0 7 (dk_at dksX3_audit_4 0 rfl rfl)
theorem dX3_audit_95 : decode cX3_audit 95 = .ok (.iconst 1, 1) := dk_4 (dk_at dksX3_audit_4 3 rfl rfl)
theorem dX3_audit_96 : decode cX3_audit 96 = .ok (.goto 4, 3) := dk_167 0 4 (dk_at dksX3_audit_4 4 rfl rfl)
theorem dX3_audit_99 : decode cX3_audit 99 = .ok (.iconst 0, 1) := dk_3 (dk_at dksX3_audit_4 7 rfl rfl)
theorem dX3_audit_100 : decode cX3_audit 100 = .ok (.ireturn, 1) := dk_172 (dk_at dksX3_audit_4 8 rfl rfl)
abbrev cX3_receive : ByteArray := prog_10_method_44_code
def yX3_receive : MethodName := ⟨RX3, "receive", "(IIIII)I"⟩
def dkwX3_receive_1 : List UInt8 := [182, 0, 52, 42, 27, 28, 29, 21, 4, 21, 5, 182, 0, 133, 172]
abbrev dktX3_receive_1 : List UInt8 := dkwX3_receive_1 ++ []
def dkwX3_receive_0 : List UInt8 := [42, 27, 28, 29, 21, 4, 21, 5, 182, 0, 129, 54, 6, 21, 6, 153, 0, 6, 21, 6, 172, 42]
abbrev dktX3_receive_0 : List UInt8 := dkwX3_receive_0 ++ dktX3_receive_1
theorem dksX3_receive_0 : cX3_receive.data.toList.drop 0 = dktX3_receive_0 := by decide +kernel
theorem dksX3_receive_1 : cX3_receive.data.toList.drop 22 = dktX3_receive_1 := dk_seg dksX3_receive_0 22 rfl rfl
theorem dX3_receive_0 : decode cX3_receive 0 = .ok (.aload_n 0, 1) := dk_42 (dk_at dksX3_receive_0 0 rfl rfl)
theorem dX3_receive_1 : decode cX3_receive 1 = .ok (.iload_n 1, 1) := dk_27 (dk_at dksX3_receive_0 1 rfl rfl)
theorem dX3_receive_2 : decode cX3_receive 2 = .ok (.iload_n 2, 1) := dk_28 (dk_at dksX3_receive_0 2 rfl rfl)
theorem dX3_receive_3 : decode cX3_receive 3 = .ok (.iload_n 3, 1) := dk_29 (dk_at dksX3_receive_0 3 rfl rfl)
theorem dX3_receive_4 : decode cX3_receive 4 = .ok (.iload 4, 2) := dk_21 4 (dk_at dksX3_receive_0 4 rfl rfl)
theorem dX3_receive_6 : decode cX3_receive 6 = .ok (.iload 5, 2) := dk_21 5 (dk_at dksX3_receive_0 6 rfl rfl)
theorem dX3_receive_8 : decode cX3_receive 8 = .ok (.invokevirtual 129, 3) := dk_182 0 129 (dk_at dksX3_receive_0 8 rfl rfl)
theorem dX3_receive_11 : decode cX3_receive 11 = .ok (.istore 6, 2) := dk_54 6 (dk_at dksX3_receive_0 11 rfl rfl)
theorem dX3_receive_13 : decode cX3_receive 13 = .ok (.iload 6, 2) := dk_21 6 (dk_at dksX3_receive_0 13 rfl rfl)
theorem dX3_receive_15 : decode cX3_receive 15 = .ok (.ifCond .eq 6, 3) := dk_153 0 6 (dk_at dksX3_receive_0 15 rfl rfl)
theorem dX3_receive_18 : decode cX3_receive 18 = .ok (.iload 6, 2) := dk_21 6 (dk_at dksX3_receive_0 18 rfl rfl)
theorem dX3_receive_20 : decode cX3_receive 20 = .ok (.ireturn, 1) := dk_172 (dk_at dksX3_receive_0 20 rfl rfl)
theorem dX3_receive_21 : decode cX3_receive 21 = .ok (.aload_n 0, 1) := dk_42 (dk_at dksX3_receive_0 21 rfl rfl)
theorem dX3_receive_22 : decode cX3_receive 22 = .ok (.invokevirtual 52, 3) := dk_182 0 52 (dk_at dksX3_receive_1 0 rfl rfl)
theorem dX3_receive_25 : decode cX3_receive 25 = .ok (.aload_n 0, 1) := dk_42 (dk_at dksX3_receive_1 3 rfl rfl)
theorem dX3_receive_26 : decode cX3_receive 26 = .ok (.iload_n 1, 1) := dk_27 (dk_at dksX3_receive_1 4 rfl rfl)
theorem dX3_receive_27 : decode cX3_receive 27 = .ok (.iload_n 2, 1) := dk_28 (dk_at dksX3_receive_1 5 rfl rfl)
theorem dX3_receive_28 : decode cX3_receive 28 = .ok (.iload_n 3, 1) := dk_29 (dk_at dksX3_receive_1 6 rfl rfl)
theorem dX3_receive_29 : decode cX3_receive 29 = .ok (.iload 4, 2) := dk_21 4 (dk_at dksX3_receive_1 7 rfl rfl)
theorem dX3_receive_31 : decode cX3_receive 31 = .ok (.iload 5, 2) := dk_21 5 (dk_at dksX3_receive_1 9 rfl rfl)
theorem dX3_receive_33 : decode cX3_receive 33 = .ok (.invokevirtual 133, 3) := dk_182 0 133 (dk_at dksX3_receive_1 11 rfl rfl)
theorem dX3_receive_36 : decode cX3_receive 36 = .ok (.ireturn, 1) := dk_172 (dk_at dksX3_receive_1 14 rfl rfl)
abbrev cX3_cannotReceive : ByteArray := prog_10_method_42_code
def yX3_cannotReceive : MethodName := ⟨RX3, "cannotReceive", "(IIIII)I"⟩
def dkwX3_cannotReceive_4 : List UInt8 := [172]
abbrev dktX3_cannotReceive_4 : List UInt8 := dkwX3_cannotReceive_4 ++ []
def dkwX3_cannotReceive_3 : List UInt8 := [46, 21, 4, 42, 27, 3, 182, 0, 49, 184, 0, 113, 96, 18, 116, 164, 0, 8, 16, 251, 167, 0, 4, 3]
abbrev dktX3_cannotReceive_3 : List UInt8 := dkwX3_cannotReceive_3 ++ dktX3_cannotReceive_4
def dkwX3_cannotReceive_2 : List UInt8 := [21, 5, 182, 0, 106, 54, 6, 21, 6, 158, 0, 10, 42, 21, 6, 182, 0, 110, 172, 42, 180, 0, 7, 3]
abbrev dktX3_cannotReceive_2 : List UInt8 := dkwX3_cannotReceive_2 ++ dktX3_cannotReceive_3
def dkwX3_cannotReceive_1 : List UInt8 := [16, 254, 172, 21, 4, 21, 5, 184, 0, 103, 154, 0, 6, 16, 253, 172, 42, 27, 2, 28, 29, 21, 4]
abbrev dktX3_cannotReceive_1 : List UInt8 := dkwX3_cannotReceive_1 ++ dktX3_cannotReceive_2
def dkwX3_cannotReceive_0 : List UInt8 := [42, 27, 182, 0, 63, 153, 0, 18, 42, 28, 182, 0, 59, 153, 0, 10, 29, 184, 0, 70, 154, 0, 6]
abbrev dktX3_cannotReceive_0 : List UInt8 := dkwX3_cannotReceive_0 ++ dktX3_cannotReceive_1
theorem dksX3_cannotReceive_0 : cX3_cannotReceive.data.toList.drop 0 = dktX3_cannotReceive_0 := by decide +kernel
theorem dksX3_cannotReceive_1 : cX3_cannotReceive.data.toList.drop 23 = dktX3_cannotReceive_1 := dk_seg dksX3_cannotReceive_0 23 rfl rfl
theorem dksX3_cannotReceive_2 : cX3_cannotReceive.data.toList.drop 46 = dktX3_cannotReceive_2 := dk_seg dksX3_cannotReceive_1 23 rfl rfl
theorem dksX3_cannotReceive_3 : cX3_cannotReceive.data.toList.drop 70 = dktX3_cannotReceive_3 := dk_seg dksX3_cannotReceive_2 24 rfl rfl
theorem dksX3_cannotReceive_4 : cX3_cannotReceive.data.toList.drop 94 = dktX3_cannotReceive_4 := dk_seg dksX3_cannotReceive_3 24 rfl rfl
theorem dX3_cannotReceive_0 : decode cX3_cannotReceive 0 = .ok (.aload_n 0, 1) := dk_42 (dk_at dksX3_cannotReceive_0 0 rfl rfl)
theorem dX3_cannotReceive_1 : decode cX3_cannotReceive 1 = .ok (.iload_n 1, 1) := dk_27 (dk_at dksX3_cannotReceive_0 1 rfl rfl)
theorem dX3_cannotReceive_2 : decode cX3_cannotReceive 2 = .ok (.invokevirtual 63, 3) := dk_182 0 63 (dk_at dksX3_cannotReceive_0 2 rfl rfl)
theorem dX3_cannotReceive_5 : decode cX3_cannotReceive 5 = .ok (.ifCond .eq 18, 3) := dk_153 0 18 (dk_at dksX3_cannotReceive_0 5 rfl rfl)
theorem dX3_cannotReceive_8 : decode cX3_cannotReceive 8 = .ok (.aload_n 0, 1) := dk_42 (dk_at dksX3_cannotReceive_0 8 rfl rfl)
theorem dX3_cannotReceive_9 : decode cX3_cannotReceive 9 = .ok (.iload_n 2, 1) := dk_28 (dk_at dksX3_cannotReceive_0 9 rfl rfl)
theorem dX3_cannotReceive_10 : decode cX3_cannotReceive 10 = .ok (.invokevirtual 59, 3) := dk_182 0 59 (dk_at dksX3_cannotReceive_0 10 rfl rfl)
theorem dX3_cannotReceive_13 : decode cX3_cannotReceive 13 = .ok (.ifCond .eq 10, 3) := dk_153 0 10 (dk_at dksX3_cannotReceive_0 13 rfl rfl)
theorem dX3_cannotReceive_16 : decode cX3_cannotReceive 16 = .ok (.iload_n 3, 1) := dk_29 (dk_at dksX3_cannotReceive_0 16 rfl rfl)
theorem dX3_cannotReceive_17 : decode cX3_cannotReceive 17 = .ok (.invokestatic 70, 3) := dk_184 0 70 (dk_at dksX3_cannotReceive_0 17 rfl rfl)
theorem dX3_cannotReceive_20 : decode cX3_cannotReceive 20 = .ok (.ifCond .ne 6, 3) := dk_154 0 6 (dk_at dksX3_cannotReceive_0 20 rfl rfl)
theorem dX3_cannotReceive_23 : decode cX3_cannotReceive 23 = .ok (.bipush (-2), 2) := dk_16 254 (dk_at dksX3_cannotReceive_1 0 rfl rfl)
theorem dX3_cannotReceive_25 : decode cX3_cannotReceive 25 = .ok (.ireturn, 1) := dk_172 (dk_at dksX3_cannotReceive_1 2 rfl rfl)
theorem dX3_cannotReceive_26 : decode cX3_cannotReceive 26 = .ok (.iload 4, 2) := dk_21 4 (dk_at dksX3_cannotReceive_1 3 rfl rfl)
theorem dX3_cannotReceive_28 : decode cX3_cannotReceive 28 = .ok (.iload 5, 2) := dk_21 5 (dk_at dksX3_cannotReceive_1 5 rfl rfl)
theorem dX3_cannotReceive_30 : decode cX3_cannotReceive 30 = .ok (.invokestatic 103, 3) := dk_184 0 103 (dk_at dksX3_cannotReceive_1 7 rfl rfl)
theorem dX3_cannotReceive_33 : decode cX3_cannotReceive 33 = .ok (.ifCond .ne 6, 3) := dk_154 0 6 (dk_at dksX3_cannotReceive_1 10 rfl rfl)
theorem dX3_cannotReceive_36 : decode cX3_cannotReceive 36 = .ok (.bipush (-3), 2) := dk_16 253 (dk_at dksX3_cannotReceive_1 13 rfl rfl)
theorem dX3_cannotReceive_38 : decode cX3_cannotReceive 38 = .ok (.ireturn, 1) := dk_172 (dk_at dksX3_cannotReceive_1 15 rfl rfl)
theorem dX3_cannotReceive_39 : decode cX3_cannotReceive 39 = .ok (.aload_n 0, 1) := dk_42 (dk_at dksX3_cannotReceive_1 16 rfl rfl)
theorem dX3_cannotReceive_40 : decode cX3_cannotReceive 40 = .ok (.iload_n 1, 1) := dk_27 (dk_at dksX3_cannotReceive_1 17 rfl rfl)
theorem dX3_cannotReceive_41 : decode cX3_cannotReceive 41 = .ok (.iconst (-1), 1) := dk_2 (dk_at dksX3_cannotReceive_1 18 rfl rfl)
theorem dX3_cannotReceive_42 : decode cX3_cannotReceive 42 = .ok (.iload_n 2, 1) := dk_28 (dk_at dksX3_cannotReceive_1 19 rfl rfl)
theorem dX3_cannotReceive_43 : decode cX3_cannotReceive 43 = .ok (.iload_n 3, 1) := dk_29 (dk_at dksX3_cannotReceive_1 20 rfl rfl)
theorem dX3_cannotReceive_44 : decode cX3_cannotReceive 44 = .ok (.iload 4, 2) := dk_21 4 (dk_at dksX3_cannotReceive_1 21 rfl rfl)
theorem dX3_cannotReceive_46 : decode cX3_cannotReceive 46 = .ok (.iload 5, 2) := dk_21 5 (dk_at dksX3_cannotReceive_2 0 rfl rfl)
theorem dX3_cannotReceive_48 : decode cX3_cannotReceive 48 = .ok (.invokevirtual 106, 3) := dk_182 0 106 (dk_at dksX3_cannotReceive_2 2 rfl rfl)
theorem dX3_cannotReceive_51 : decode cX3_cannotReceive 51 = .ok (.istore 6, 2) := dk_54 6 (dk_at dksX3_cannotReceive_2 5 rfl rfl)
theorem dX3_cannotReceive_53 : decode cX3_cannotReceive 53 = .ok (.iload 6, 2) := dk_21 6 (dk_at dksX3_cannotReceive_2 7 rfl rfl)
theorem dX3_cannotReceive_55 : decode cX3_cannotReceive 55 = .ok (.ifCond .le 10, 3) := dk_158 0 10 (dk_at dksX3_cannotReceive_2 9 rfl rfl)
theorem dX3_cannotReceive_58 : decode cX3_cannotReceive 58 = .ok (.aload_n 0, 1) := dk_42 (dk_at dksX3_cannotReceive_2 12 rfl rfl)
theorem dX3_cannotReceive_59 : decode cX3_cannotReceive 59 = .ok (.iload 6, 2) := dk_21 6 (dk_at dksX3_cannotReceive_2 13 rfl rfl)
theorem dX3_cannotReceive_61 : decode cX3_cannotReceive 61 = .ok (.invokevirtual 110, 3) := dk_182 0 110 (dk_at dksX3_cannotReceive_2 15 rfl rfl)
theorem dX3_cannotReceive_64 : decode cX3_cannotReceive 64 = .ok (.ireturn, 1) := dk_172 (dk_at dksX3_cannotReceive_2 18 rfl rfl)
theorem dX3_cannotReceive_65 : decode cX3_cannotReceive 65 = .ok (.aload_n 0, 1) := dk_42 (dk_at dksX3_cannotReceive_2 19 rfl rfl)
theorem dX3_cannotReceive_66 : decode cX3_cannotReceive 66 = .ok (.getfield 7, 3) := dk_180 0 7 (dk_at dksX3_cannotReceive_2 20 rfl rfl)
theorem dX3_cannotReceive_69 : decode cX3_cannotReceive 69 = .ok (.iconst 0, 1) := dk_3 (dk_at dksX3_cannotReceive_2 23 rfl rfl)
theorem dX3_cannotReceive_70 : decode cX3_cannotReceive 70 = .ok (.iaload, 1) := dk_46 (dk_at dksX3_cannotReceive_3 0 rfl rfl)
theorem dX3_cannotReceive_71 : decode cX3_cannotReceive 71 = .ok (.iload 4, 2) := dk_21 4 (dk_at dksX3_cannotReceive_3 1 rfl rfl)
theorem dX3_cannotReceive_73 : decode cX3_cannotReceive 73 = .ok (.aload_n 0, 1) := dk_42 (dk_at dksX3_cannotReceive_3 3 rfl rfl)
theorem dX3_cannotReceive_74 : decode cX3_cannotReceive 74 = .ok (.iload_n 1, 1) := dk_27 (dk_at dksX3_cannotReceive_3 4 rfl rfl)
theorem dX3_cannotReceive_75 : decode cX3_cannotReceive 75 = .ok (.iconst 0, 1) := dk_3 (dk_at dksX3_cannotReceive_3 5 rfl rfl)
theorem dX3_cannotReceive_76 : decode cX3_cannotReceive 76 = .ok (.invokevirtual 49, 3) := dk_182 0 49 (dk_at dksX3_cannotReceive_3 6 rfl rfl)
theorem dX3_cannotReceive_79 : decode cX3_cannotReceive 79 = .ok (.invokestatic 113, 3) := dk_184 0 113 (dk_at dksX3_cannotReceive_3 9 rfl rfl)
theorem dX3_cannotReceive_82 : decode cX3_cannotReceive 82 = .ok (.iadd, 1) := dk_96 (dk_at dksX3_cannotReceive_3 12 rfl rfl)
theorem dX3_cannotReceive_83 : decode cX3_cannotReceive 83 = .ok (.ldc 116, 2) := dk_18 116 (dk_at dksX3_cannotReceive_3 13 rfl rfl)
theorem dX3_cannotReceive_85 : decode cX3_cannotReceive 85 = .ok (.if_icmp .le 8, 3) := dk_164 0 8 (dk_at dksX3_cannotReceive_3 15 rfl rfl)
theorem dX3_cannotReceive_88 : decode cX3_cannotReceive 88 = .ok (.bipush (-5), 2) := dk_16 251 (dk_at dksX3_cannotReceive_3 18 rfl rfl)
theorem dX3_cannotReceive_90 : decode cX3_cannotReceive 90 = .ok (.goto 4, 3) := dk_167 0 4 (dk_at dksX3_cannotReceive_3 20 rfl rfl)
theorem dX3_cannotReceive_93 : decode cX3_cannotReceive 93 = .ok (.iconst 0, 1) := dk_3 (dk_at dksX3_cannotReceive_3 23 rfl rfl)
theorem dX3_cannotReceive_94 : decode cX3_cannotReceive 94 = .ok (.ireturn, 1) := dk_172 (dk_at dksX3_cannotReceive_4 0 rfl rfl)
abbrev cX3_isTruck : ByteArray := prog_10_method_41_code
def yX3_isTruck : MethodName := ⟨RX3, "isTruck", "(II)Z"⟩
def dkwX3_isTruck_1 : List UInt8 := [167, 0, 4, 3, 172]
abbrev dktX3_isTruck_1 : List UInt8 := dkwX3_isTruck_1 ++ []
def dkwX3_isTruck_0 : List UInt8 := [26, 4, 17, 19, 136, 184, 0, 41, 153, 0, 19, 27, 16, 50, 17, 1, 144, 184, 0, 41, 153, 0, 7, 4]
abbrev dktX3_isTruck_0 : List UInt8 := dkwX3_isTruck_0 ++ dktX3_isTruck_1
theorem dksX3_isTruck_0 : cX3_isTruck.data.toList.drop 0 = dktX3_isTruck_0 := by decide +kernel
theorem dksX3_isTruck_1 : cX3_isTruck.data.toList.drop 24 = dktX3_isTruck_1 := dk_seg dksX3_isTruck_0 24 rfl rfl
theorem dX3_isTruck_0 : decode cX3_isTruck 0 = .ok (.iload_n 0, 1) := dk_26 (dk_at dksX3_isTruck_0 0 rfl rfl)
theorem dX3_isTruck_1 : decode cX3_isTruck 1 = .ok (.iconst 1, 1) := dk_4 (dk_at dksX3_isTruck_0 1 rfl rfl)
theorem dX3_isTruck_2 : decode cX3_isTruck 2 = .ok (.sipush 5000, 3) := dk_17 19 136 (dk_at dksX3_isTruck_0 2 rfl rfl)
theorem dX3_isTruck_5 : decode cX3_isTruck 5 = .ok (.invokestatic 41, 3) := dk_184 0 41 (dk_at dksX3_isTruck_0 5 rfl rfl)
theorem dX3_isTruck_8 : decode cX3_isTruck 8 = .ok (.ifCond .eq 19, 3) := dk_153 0 19 (dk_at dksX3_isTruck_0 8 rfl rfl)
theorem dX3_isTruck_11 : decode cX3_isTruck 11 = .ok (.iload_n 1, 1) := dk_27 (dk_at dksX3_isTruck_0 11 rfl rfl)
theorem dX3_isTruck_12 : decode cX3_isTruck 12 = .ok (.bipush 50, 2) := dk_16 50 (dk_at dksX3_isTruck_0 12 rfl rfl)
theorem dX3_isTruck_14 : decode cX3_isTruck 14 = .ok (.sipush 400, 3) := dk_17 1 144 (dk_at dksX3_isTruck_0 14 rfl rfl)
theorem dX3_isTruck_17 : decode cX3_isTruck 17 = .ok (.invokestatic 41, 3) := dk_184 0 41 (dk_at dksX3_isTruck_0 17 rfl rfl)
theorem dX3_isTruck_20 : decode cX3_isTruck 20 = .ok (.ifCond .eq 7, 3) := dk_153 0 7 (dk_at dksX3_isTruck_0 20 rfl rfl)
theorem dX3_isTruck_23 : decode cX3_isTruck 23 = .ok (.iconst 1, 1) := dk_4 (dk_at dksX3_isTruck_0 23 rfl rfl)
theorem dX3_isTruck_24 : decode cX3_isTruck 24 = .ok (.goto 4, 3) := dk_167 0 4 (dk_at dksX3_isTruck_1 0 rfl rfl)
theorem dX3_isTruck_27 : decode cX3_isTruck 27 = .ok (.iconst 0, 1) := dk_3 (dk_at dksX3_isTruck_1 3 rfl rfl)
theorem dX3_isTruck_28 : decode cX3_isTruck 28 = .ok (.ireturn, 1) := dk_172 (dk_at dksX3_isTruck_1 4 rfl rfl)
abbrev cX3_against : ByteArray := prog_10_method_39_code
def yX3_against : MethodName := ⟨RX3, "against", "(IIIIII)I"⟩
def dkwX3_against_4 : List UInt8 := [164, 0, 5, 8, 172, 42, 29, 182, 0, 73, 153, 0, 8, 16, 6, 167, 0, 4, 3, 172]
abbrev dktX3_against_4 : List UInt8 := dkwX3_against_4 ++ []
def dkwX3_against_3 : List UInt8 := [184, 0, 41, 154, 0, 5, 7, 172, 21, 5, 42, 29, 3, 182, 0, 45, 42, 29, 6, 182, 0, 45, 100]
abbrev dktX3_against_3 : List UInt8 := dkwX3_against_3 ++ dktX3_against_4
def dkwX3_against_2 : List UInt8 := [182, 0, 45, 21, 4, 159, 0, 5, 6, 172, 21, 6, 42, 29, 4, 182, 0, 45, 42, 29, 5, 182, 0, 45]
abbrev dktX3_against_2 : List UInt8 := dkwX3_against_2 ++ dktX3_against_3
def dkwX3_against_1 : List UInt8 := [42, 27, 28, 182, 0, 66, 154, 0, 5, 5, 172, 42, 29, 6, 182, 0, 45, 158, 0, 16, 42, 29, 8]
abbrev dktX3_against_1 : List UInt8 := dkwX3_against_1 ++ dktX3_against_2
def dkwX3_against_0 : List UInt8 := [42, 27, 182, 0, 86, 153, 0, 5, 4, 172, 42, 27, 29, 182, 0, 66, 153, 0, 17, 28, 2, 159, 0, 14]
abbrev dktX3_against_0 : List UInt8 := dkwX3_against_0 ++ dktX3_against_1
theorem dksX3_against_0 : cX3_against.data.toList.drop 0 = dktX3_against_0 := by decide +kernel
theorem dksX3_against_1 : cX3_against.data.toList.drop 24 = dktX3_against_1 := dk_seg dksX3_against_0 24 rfl rfl
theorem dksX3_against_2 : cX3_against.data.toList.drop 47 = dktX3_against_2 := dk_seg dksX3_against_1 23 rfl rfl
theorem dksX3_against_3 : cX3_against.data.toList.drop 71 = dktX3_against_3 := dk_seg dksX3_against_2 24 rfl rfl
theorem dksX3_against_4 : cX3_against.data.toList.drop 94 = dktX3_against_4 := dk_seg dksX3_against_3 23 rfl rfl
theorem dX3_against_0 : decode cX3_against 0 = .ok (.aload_n 0, 1) := dk_42 (dk_at dksX3_against_0 0 rfl rfl)
theorem dX3_against_1 : decode cX3_against 1 = .ok (.iload_n 1, 1) := dk_27 (dk_at dksX3_against_0 1 rfl rfl)
theorem dX3_against_2 : decode cX3_against 2 = .ok (.invokevirtual 86, 3) := dk_182 0 86 (dk_at dksX3_against_0 2 rfl rfl)
theorem dX3_against_5 : decode cX3_against 5 = .ok (.ifCond .eq 5, 3) := dk_153 0 5 (dk_at dksX3_against_0 5 rfl rfl)
theorem dX3_against_8 : decode cX3_against 8 = .ok (.iconst 1, 1) := dk_4 (dk_at dksX3_against_0 8 rfl rfl)
theorem dX3_against_9 : decode cX3_against 9 = .ok (.ireturn, 1) := dk_172 (dk_at dksX3_against_0 9 rfl rfl)
theorem dX3_against_10 : decode cX3_against 10 = .ok (.aload_n 0, 1) := dk_42 (dk_at dksX3_against_0 10 rfl rfl)
theorem dX3_against_11 : decode cX3_against 11 = .ok (.iload_n 1, 1) := dk_27 (dk_at dksX3_against_0 11 rfl rfl)
theorem dX3_against_12 : decode cX3_against 12 = .ok (.iload_n 3, 1) := dk_29 (dk_at dksX3_against_0 12 rfl rfl)
theorem dX3_against_13 : decode cX3_against 13 = .ok (.invokevirtual 66, 3) := dk_182 0 66 (dk_at dksX3_against_0 13 rfl rfl)
theorem dX3_against_16 : decode cX3_against 16 = .ok (.ifCond .eq 17, 3) := dk_153 0 17 (dk_at dksX3_against_0 16 rfl rfl)
theorem dX3_against_19 : decode cX3_against 19 = .ok (.iload_n 2, 1) := dk_28 (dk_at dksX3_against_0 19 rfl rfl)
theorem dX3_against_20 : decode cX3_against 20 = .ok (.iconst (-1), 1) := dk_2 (dk_at dksX3_against_0 20 rfl rfl)
theorem dX3_against_21 : decode cX3_against 21 = .ok (.if_icmp .eq 14, 3) := dk_159 0 14 (dk_at dksX3_against_0 21 rfl rfl)
theorem dX3_against_24 : decode cX3_against 24 = .ok (.aload_n 0, 1) := dk_42 (dk_at dksX3_against_1 0 rfl rfl)
theorem dX3_against_25 : decode cX3_against 25 = .ok (.iload_n 1, 1) := dk_27 (dk_at dksX3_against_1 1 rfl rfl)
theorem dX3_against_26 : decode cX3_against 26 = .ok (.iload_n 2, 1) := dk_28 (dk_at dksX3_against_1 2 rfl rfl)
theorem dX3_against_27 : decode cX3_against 27 = .ok (.invokevirtual 66, 3) := dk_182 0 66 (dk_at dksX3_against_1 3 rfl rfl)
theorem dX3_against_30 : decode cX3_against 30 = .ok (.ifCond .ne 5, 3) := dk_154 0 5 (dk_at dksX3_against_1 6 rfl rfl)
theorem dX3_against_33 : decode cX3_against 33 = .ok (.iconst 2, 1) := dk_5 (dk_at dksX3_against_1 9 rfl rfl)
theorem dX3_against_34 : decode cX3_against 34 = .ok (.ireturn, 1) := dk_172 (dk_at dksX3_against_1 10 rfl rfl)
theorem dX3_against_35 : decode cX3_against 35 = .ok (.aload_n 0, 1) := dk_42 (dk_at dksX3_against_1 11 rfl rfl)
theorem dX3_against_36 : decode cX3_against 36 = .ok (.iload_n 3, 1) := dk_29 (dk_at dksX3_against_1 12 rfl rfl)
theorem dX3_against_37 : decode cX3_against 37 = .ok (.iconst 3, 1) := dk_6 (dk_at dksX3_against_1 13 rfl rfl)
theorem dX3_against_38 : decode cX3_against 38 = .ok (.invokevirtual 45, 3) := dk_182 0 45 (dk_at dksX3_against_1 14 rfl rfl)
theorem dX3_against_41 : decode cX3_against 41 = .ok (.ifCond .le 16, 3) := dk_158 0 16 (dk_at dksX3_against_1 17 rfl rfl)
theorem dX3_against_44 : decode cX3_against 44 = .ok (.aload_n 0, 1) := dk_42 (dk_at dksX3_against_1 20 rfl rfl)
theorem dX3_against_45 : decode cX3_against 45 = .ok (.iload_n 3, 1) := dk_29 (dk_at dksX3_against_1 21 rfl rfl)
theorem dX3_against_46 : decode cX3_against 46 = .ok (.iconst 5, 1) := dk_8 (dk_at dksX3_against_1 22 rfl rfl)
theorem dX3_against_47 : decode cX3_against 47 = .ok (.invokevirtual 45, 3) := dk_182 0 45 (dk_at dksX3_against_2 0 rfl rfl)
theorem dX3_against_50 : decode cX3_against 50 = .ok (.iload 4, 2) := dk_21 4 (dk_at dksX3_against_2 3 rfl rfl)
theorem dX3_against_52 : decode cX3_against 52 = .ok (.if_icmp .eq 5, 3) := dk_159 0 5 (dk_at dksX3_against_2 5 rfl rfl)
theorem dX3_against_55 : decode cX3_against 55 = .ok (.iconst 3, 1) := dk_6 (dk_at dksX3_against_2 8 rfl rfl)
theorem dX3_against_56 : decode cX3_against 56 = .ok (.ireturn, 1) := dk_172 (dk_at dksX3_against_2 9 rfl rfl)
theorem dX3_against_57 : decode cX3_against 57 = .ok (.iload 6, 2) := dk_21 6 (dk_at dksX3_against_2 10 rfl rfl)
theorem dX3_against_59 : decode cX3_against 59 = .ok (.aload_n 0, 1) := dk_42 (dk_at dksX3_against_2 12 rfl rfl)
theorem dX3_against_60 : decode cX3_against 60 = .ok (.iload_n 3, 1) := dk_29 (dk_at dksX3_against_2 13 rfl rfl)
theorem dX3_against_61 : decode cX3_against 61 = .ok (.iconst 1, 1) := dk_4 (dk_at dksX3_against_2 14 rfl rfl)
theorem dX3_against_62 : decode cX3_against 62 = .ok (.invokevirtual 45, 3) := dk_182 0 45 (dk_at dksX3_against_2 15 rfl rfl)
theorem dX3_against_65 : decode cX3_against 65 = .ok (.aload_n 0, 1) := dk_42 (dk_at dksX3_against_2 18 rfl rfl)
theorem dX3_against_66 : decode cX3_against 66 = .ok (.iload_n 3, 1) := dk_29 (dk_at dksX3_against_2 19 rfl rfl)
theorem dX3_against_67 : decode cX3_against 67 = .ok (.iconst 2, 1) := dk_5 (dk_at dksX3_against_2 20 rfl rfl)
theorem dX3_against_68 : decode cX3_against 68 = .ok (.invokevirtual 45, 3) := dk_182 0 45 (dk_at dksX3_against_2 21 rfl rfl)
theorem dX3_against_71 : decode cX3_against 71 = .ok (.invokestatic 41, 3) := dk_184 0 41 (dk_at dksX3_against_3 0 rfl rfl)
theorem dX3_against_74 : decode cX3_against 74 = .ok (.ifCond .ne 5, 3) := dk_154 0 5 (dk_at dksX3_against_3 3 rfl rfl)
theorem dX3_against_77 : decode cX3_against 77 = .ok (.iconst 4, 1) := dk_7 (dk_at dksX3_against_3 6 rfl rfl)
theorem dX3_against_78 : decode cX3_against 78 = .ok (.ireturn, 1) := dk_172 (dk_at dksX3_against_3 7 rfl rfl)
theorem dX3_against_79 : decode cX3_against 79 = .ok (.iload 5, 2) := dk_21 5 (dk_at dksX3_against_3 8 rfl rfl)
theorem dX3_against_81 : decode cX3_against 81 = .ok (.aload_n 0, 1) := dk_42 (dk_at dksX3_against_3 10 rfl rfl)
theorem dX3_against_82 : decode cX3_against 82 = .ok (.iload_n 3, 1) := dk_29 (dk_at dksX3_against_3 11 rfl rfl)
theorem dX3_against_83 : decode cX3_against 83 = .ok (.iconst 0, 1) := dk_3 (dk_at dksX3_against_3 12 rfl rfl)
theorem dX3_against_84 : decode cX3_against 84 = .ok (.invokevirtual 45, 3) := dk_182 0 45 (dk_at dksX3_against_3 13 rfl rfl)
theorem dX3_against_87 : decode cX3_against 87 = .ok (.aload_n 0, 1) := dk_42 (dk_at dksX3_against_3 16 rfl rfl)
theorem dX3_against_88 : decode cX3_against 88 = .ok (.iload_n 3, 1) := dk_29 (dk_at dksX3_against_3 17 rfl rfl)
theorem dX3_against_89 : decode cX3_against 89 = .ok (.iconst 3, 1) := dk_6 (dk_at dksX3_against_3 18 rfl rfl)
theorem dX3_against_90 : decode cX3_against 90 = .ok (.invokevirtual 45, 3) := dk_182 0 45 (dk_at dksX3_against_3 19 rfl rfl)
theorem dX3_against_93 : decode cX3_against 93 = .ok (.isub, 1) := dk_100 (dk_at dksX3_against_3 22 rfl rfl)
theorem dX3_against_94 : decode cX3_against 94 = .ok (.if_icmp .le 5, 3) := dk_164 0 5 (dk_at dksX3_against_4 0 rfl rfl)
theorem dX3_against_97 : decode cX3_against 97 = .ok (.iconst 5, 1) := dk_8 (dk_at dksX3_against_4 3 rfl rfl)
theorem dX3_against_98 : decode cX3_against 98 = .ok (.ireturn, 1) := dk_172 (dk_at dksX3_against_4 4 rfl rfl)
theorem dX3_against_99 : decode cX3_against 99 = .ok (.aload_n 0, 1) := dk_42 (dk_at dksX3_against_4 5 rfl rfl)
theorem dX3_against_100 : decode cX3_against 100 = .ok (.iload_n 3, 1) := dk_29 (dk_at dksX3_against_4 6 rfl rfl)
theorem dX3_against_101 : decode cX3_against 101 = .ok (.invokevirtual 73, 3) := dk_182 0 73 (dk_at dksX3_against_4 7 rfl rfl)
theorem dX3_against_104 : decode cX3_against 104 = .ok (.ifCond .eq 8, 3) := dk_153 0 8 (dk_at dksX3_against_4 10 rfl rfl)
theorem dX3_against_107 : decode cX3_against 107 = .ok (.bipush 6, 2) := dk_16 6 (dk_at dksX3_against_4 13 rfl rfl)
theorem dX3_against_109 : decode cX3_against 109 = .ok (.goto 4, 3) := dk_167 0 4 (dk_at dksX3_against_4 15 rfl rfl)
theorem dX3_against_112 : decode cX3_against 112 = .ok (.iconst 0, 1) := dk_3 (dk_at dksX3_against_4 18 rfl rfl)
theorem dX3_against_113 : decode cX3_against 113 = .ok (.ireturn, 1) := dk_172 (dk_at dksX3_against_4 19 rfl rfl)
abbrev cX3_refuses : ByteArray := prog_10_method_40_code
def yX3_refuses : MethodName := ⟨RX3, "refuses", "(I)I"⟩
def dkwX3_refuses_0 : List UInt8 := [42, 180, 0, 7, 8, 27, 79, 16, 252, 172]
abbrev dktX3_refuses_0 : List UInt8 := dkwX3_refuses_0 ++ []
theorem dksX3_refuses_0 : cX3_refuses.data.toList.drop 0 = dktX3_refuses_0 := by decide +kernel
theorem dX3_refuses_0 : decode cX3_refuses 0 = .ok (.aload_n 0, 1) := dk_42 (dk_at dksX3_refuses_0 0 rfl rfl)
theorem dX3_refuses_1 : decode cX3_refuses 1 = .ok (.getfield 7, 3) := dk_180 0 7 (dk_at dksX3_refuses_0 1 rfl rfl)
theorem dX3_refuses_4 : decode cX3_refuses 4 = .ok (.iconst 5, 1) := dk_8 (dk_at dksX3_refuses_0 4 rfl rfl)
theorem dX3_refuses_5 : decode cX3_refuses 5 = .ok (.iload_n 1, 1) := dk_27 (dk_at dksX3_refuses_0 5 rfl rfl)
theorem dX3_refuses_6 : decode cX3_refuses 6 = .ok (.iastore, 1) := dk_79 (dk_at dksX3_refuses_0 6 rfl rfl)
theorem dX3_refuses_7 : decode cX3_refuses 7 = .ok (.bipush (-4), 2) := dk_16 252 (dk_at dksX3_refuses_0 7 rfl rfl)
theorem dX3_refuses_9 : decode cX3_refuses 9 = .ok (.ireturn, 1) := dk_172 (dk_at dksX3_refuses_0 9 rfl rfl)
abbrev cX3_minutes : ByteArray := prog_10_method_33_code
def yX3_minutes : MethodName := ⟨RX3, "minutes", "(II)I"⟩
def dkwX3_minutes_0 : List UInt8 := [26, 27, 96, 4, 100, 27, 108, 172]
abbrev dktX3_minutes_0 : List UInt8 := dkwX3_minutes_0 ++ []
theorem dksX3_minutes_0 : cX3_minutes.data.toList.drop 0 = dktX3_minutes_0 := by decide +kernel
theorem dX3_minutes_0 : decode cX3_minutes 0 = .ok (.iload_n 0, 1) := dk_26 (dk_at dksX3_minutes_0 0 rfl rfl)
theorem dX3_minutes_1 : decode cX3_minutes 1 = .ok (.iload_n 1, 1) := dk_27 (dk_at dksX3_minutes_0 1 rfl rfl)
theorem dX3_minutes_2 : decode cX3_minutes 2 = .ok (.iadd, 1) := dk_96 (dk_at dksX3_minutes_0 2 rfl rfl)
theorem dX3_minutes_3 : decode cX3_minutes 3 = .ok (.iconst 1, 1) := dk_4 (dk_at dksX3_minutes_0 3 rfl rfl)
theorem dX3_minutes_4 : decode cX3_minutes 4 = .ok (.isub, 1) := dk_100 (dk_at dksX3_minutes_0 4 rfl rfl)
theorem dX3_minutes_5 : decode cX3_minutes 5 = .ok (.iload_n 1, 1) := dk_27 (dk_at dksX3_minutes_0 5 rfl rfl)
theorem dX3_minutes_6 : decode cX3_minutes 6 = .ok (.idiv, 1) := dk_108 (dk_at dksX3_minutes_0 6 rfl rfl)
theorem dX3_minutes_7 : decode cX3_minutes 7 = .ok (.ireturn, 1) := dk_172 (dk_at dksX3_minutes_0 7 rfl rfl)
abbrev cX3_receives : ByteArray := prog_10_method_43_code
def yX3_receives : MethodName := ⟨RX3, "receives", "(IIIII)I"⟩
def dkwX3_receives_4 : List UInt8 := [92, 47, 21, 4, 133, 97, 80, 42, 180, 0, 13, 6, 92, 47, 21, 7, 133, 97, 80, 21, 7, 172]
abbrev dktX3_receives_4 : List UInt8 := dkwX3_receives_4 ++ []
def dkwX3_receives_3 : List UInt8 := [133, 105, 17, 3, 232, 5, 21, 6, 104, 100, 133, 105, 20, 0, 127, 109, 136, 54, 7, 42, 180, 0, 13, 3]
abbrev dktX3_receives_3 : List UInt8 := dkwX3_receives_3 ++ dktX3_receives_4
def dkwX3_receives_2 : List UInt8 := [21, 5, 17, 0, 140, 100, 167, 0, 4, 3, 54, 6, 21, 4, 133, 42, 180, 0, 7, 16, 6, 29, 96, 46]
abbrev dktX3_receives_2 : List UInt8 := dkwX3_receives_2 ++ dktX3_receives_3
def dkwX3_receives_1 : List UInt8 := [104, 182, 0, 120, 42, 27, 21, 4, 21, 4, 21, 5, 104, 182, 0, 124, 21, 5, 17, 0, 140, 164, 0, 12]
abbrev dktX3_receives_1 : List UInt8 := dkwX3_receives_1 ++ dktX3_receives_2
def dkwX3_receives_0 : List UInt8 := [42, 21, 4, 42, 27, 3, 182, 0, 49, 184, 0, 113, 182, 0, 117, 42, 28, 29, 21, 4, 21, 4, 21, 5]
abbrev dktX3_receives_0 : List UInt8 := dkwX3_receives_0 ++ dktX3_receives_1
theorem dksX3_receives_0 : cX3_receives.data.toList.drop 0 = dktX3_receives_0 := by decide +kernel
theorem dksX3_receives_1 : cX3_receives.data.toList.drop 24 = dktX3_receives_1 := dk_seg dksX3_receives_0 24 rfl rfl
theorem dksX3_receives_2 : cX3_receives.data.toList.drop 48 = dktX3_receives_2 := dk_seg dksX3_receives_1 24 rfl rfl
theorem dksX3_receives_3 : cX3_receives.data.toList.drop 72 = dktX3_receives_3 := dk_seg dksX3_receives_2 24 rfl rfl
theorem dksX3_receives_4 : cX3_receives.data.toList.drop 96 = dktX3_receives_4 := dk_seg dksX3_receives_3 24 rfl rfl
theorem dX3_receives_0 : decode cX3_receives 0 = .ok (.aload_n 0, 1) := dk_42 (dk_at dksX3_receives_0 0 rfl rfl)
theorem dX3_receives_1 : decode cX3_receives 1 = .ok (.iload 4, 2) := dk_21 4 (dk_at dksX3_receives_0 1 rfl rfl)
theorem dX3_receives_3 : decode cX3_receives 3 = .ok (.aload_n 0, 1) := dk_42 (dk_at dksX3_receives_0 3 rfl rfl)
theorem dX3_receives_4 : decode cX3_receives 4 = .ok (.iload_n 1, 1) := dk_27 (dk_at dksX3_receives_0 4 rfl rfl)
theorem dX3_receives_5 : decode cX3_receives 5 = .ok (.iconst 0, 1) := dk_3 (dk_at dksX3_receives_0 5 rfl rfl)
theorem dX3_receives_6 : decode cX3_receives 6 = .ok (.invokevirtual 49, 3) := dk_182 0 49 (dk_at dksX3_receives_0 6 rfl rfl)
theorem dX3_receives_9 : decode cX3_receives 9 = .ok (.invokestatic 113, 3) := dk_184 0 113 (dk_at dksX3_receives_0 9 rfl rfl)
theorem dX3_receives_12 : decode cX3_receives 12 = .ok (.invokevirtual 117, 3) := dk_182 0 117 (dk_at dksX3_receives_0 12 rfl rfl)
theorem dX3_receives_15 : decode cX3_receives 15 = .ok (.aload_n 0, 1) := dk_42 (dk_at dksX3_receives_0 15 rfl rfl)
theorem dX3_receives_16 : decode cX3_receives 16 = .ok (.iload_n 2, 1) := dk_28 (dk_at dksX3_receives_0 16 rfl rfl)
theorem dX3_receives_17 : decode cX3_receives 17 = .ok (.iload_n 3, 1) := dk_29 (dk_at dksX3_receives_0 17 rfl rfl)
theorem dX3_receives_18 : decode cX3_receives 18 = .ok (.iload 4, 2) := dk_21 4 (dk_at dksX3_receives_0 18 rfl rfl)
theorem dX3_receives_20 : decode cX3_receives 20 = .ok (.iload 4, 2) := dk_21 4 (dk_at dksX3_receives_0 20 rfl rfl)
theorem dX3_receives_22 : decode cX3_receives 22 = .ok (.iload 5, 2) := dk_21 5 (dk_at dksX3_receives_0 22 rfl rfl)
theorem dX3_receives_24 : decode cX3_receives 24 = .ok (.imul, 1) := dk_104 (dk_at dksX3_receives_1 0 rfl rfl)
theorem dX3_receives_25 : decode cX3_receives 25 = .ok (.invokevirtual 120, 3) := dk_182 0 120 (dk_at dksX3_receives_1 1 rfl rfl)
theorem dX3_receives_28 : decode cX3_receives 28 = .ok (.aload_n 0, 1) := dk_42 (dk_at dksX3_receives_1 4 rfl rfl)
theorem dX3_receives_29 : decode cX3_receives 29 = .ok (.iload_n 1, 1) := dk_27 (dk_at dksX3_receives_1 5 rfl rfl)
theorem dX3_receives_30 : decode cX3_receives 30 = .ok (.iload 4, 2) := dk_21 4 (dk_at dksX3_receives_1 6 rfl rfl)
theorem dX3_receives_32 : decode cX3_receives 32 = .ok (.iload 4, 2) := dk_21 4 (dk_at dksX3_receives_1 8 rfl rfl)
theorem dX3_receives_34 : decode cX3_receives 34 = .ok (.iload 5, 2) := dk_21 5 (dk_at dksX3_receives_1 10 rfl rfl)
theorem dX3_receives_36 : decode cX3_receives 36 = .ok (.imul, 1) := dk_104 (dk_at dksX3_receives_1 12 rfl rfl)
theorem dX3_receives_37 : decode cX3_receives 37 = .ok (.invokevirtual 124, 3) := dk_182 0 124 (dk_at dksX3_receives_1 13 rfl rfl)
theorem dX3_receives_40 : decode cX3_receives 40 = .ok (.iload 5, 2) := dk_21 5 (dk_at dksX3_receives_1 16 rfl rfl)
theorem dX3_receives_42 : decode cX3_receives 42 = .ok (.sipush 140, 3) := dk_17 0 140 (dk_at dksX3_receives_1 18 rfl rfl)
theorem dX3_receives_45 : decode cX3_receives 45 = .ok (.if_icmp .le 12, 3) := dk_164 0 12 (dk_at dksX3_receives_1 21 rfl rfl)
theorem dX3_receives_48 : decode cX3_receives 48 = .ok (.iload 5, 2) := dk_21 5 (dk_at dksX3_receives_2 0 rfl rfl)
theorem dX3_receives_50 : decode cX3_receives 50 = .ok (.sipush 140, 3) := dk_17 0 140 (dk_at dksX3_receives_2 2 rfl rfl)
theorem dX3_receives_53 : decode cX3_receives 53 = .ok (.isub, 1) := dk_100 (dk_at dksX3_receives_2 5 rfl rfl)
theorem dX3_receives_54 : decode cX3_receives 54 = .ok (.goto 4, 3) := dk_167 0 4 (dk_at dksX3_receives_2 6 rfl rfl)
theorem dX3_receives_57 : decode cX3_receives 57 = .ok (.iconst 0, 1) := dk_3 (dk_at dksX3_receives_2 9 rfl rfl)
theorem dX3_receives_58 : decode cX3_receives 58 = .ok (.istore 6, 2) := dk_54 6 (dk_at dksX3_receives_2 10 rfl rfl)
theorem dX3_receives_60 : decode cX3_receives 60 = .ok (.iload 4, 2) := dk_21 4 (dk_at dksX3_receives_2 12 rfl rfl)
theorem dX3_receives_62 : decode cX3_receives 62 = .ok (.i2l, 1) := dk_133 (dk_at dksX3_receives_2 14 rfl rfl)
theorem dX3_receives_63 : decode cX3_receives 63 = .ok (.aload_n 0, 1) := dk_42 (dk_at dksX3_receives_2 15 rfl rfl)
theorem dX3_receives_64 : decode cX3_receives 64 = .ok (.getfield 7, 3) := dk_180 0 7 (dk_at dksX3_receives_2 16 rfl rfl)
theorem dX3_receives_67 : decode cX3_receives 67 = .ok (.bipush 6, 2) := dk_16 6 (dk_at dksX3_receives_2 19 rfl rfl)
theorem dX3_receives_69 : decode cX3_receives 69 = .ok (.iload_n 3, 1) := dk_29 (dk_at dksX3_receives_2 21 rfl rfl)
theorem dX3_receives_70 : decode cX3_receives 70 = .ok (.iadd, 1) := dk_96 (dk_at dksX3_receives_2 22 rfl rfl)
theorem dX3_receives_71 : decode cX3_receives 71 = .ok (.iaload, 1) := dk_46 (dk_at dksX3_receives_2 23 rfl rfl)
theorem dX3_receives_72 : decode cX3_receives 72 = .ok (.i2l, 1) := dk_133 (dk_at dksX3_receives_3 0 rfl rfl)
theorem dX3_receives_73 : decode cX3_receives 73 = .ok (.lmul, 1) := dk_105 (dk_at dksX3_receives_3 1 rfl rfl)
theorem dX3_receives_74 : decode cX3_receives 74 = .ok (.sipush 1000, 3) := dk_17 3 232 (dk_at dksX3_receives_3 2 rfl rfl)
theorem dX3_receives_77 : decode cX3_receives 77 = .ok (.iconst 2, 1) := dk_5 (dk_at dksX3_receives_3 5 rfl rfl)
theorem dX3_receives_78 : decode cX3_receives 78 = .ok (.iload 6, 2) := dk_21 6 (dk_at dksX3_receives_3 6 rfl rfl)
theorem dX3_receives_80 : decode cX3_receives 80 = .ok (.imul, 1) := dk_104 (dk_at dksX3_receives_3 8 rfl rfl)
theorem dX3_receives_81 : decode cX3_receives 81 = .ok (.isub, 1) := dk_100 (dk_at dksX3_receives_3 9 rfl rfl)
theorem dX3_receives_82 : decode cX3_receives 82 = .ok (.i2l, 1) := dk_133 (dk_at dksX3_receives_3 10 rfl rfl)
theorem dX3_receives_83 : decode cX3_receives 83 = .ok (.lmul, 1) := dk_105 (dk_at dksX3_receives_3 11 rfl rfl)
theorem dX3_receives_84 : decode cX3_receives 84 = .ok (.ldc2_w 127, 3) := dk_20 0 127 (dk_at dksX3_receives_3 12 rfl rfl)
theorem dX3_receives_87 : decode cX3_receives 87 = .ok (.ldiv, 1) := dk_109 (dk_at dksX3_receives_3 15 rfl rfl)
theorem dX3_receives_88 : decode cX3_receives 88 = .ok (.l2i, 1) := dk_136 (dk_at dksX3_receives_3 16 rfl rfl)
theorem dX3_receives_89 : decode cX3_receives 89 = .ok (.istore 7, 2) := dk_54 7 (dk_at dksX3_receives_3 17 rfl rfl)
theorem dX3_receives_91 : decode cX3_receives 91 = .ok (.aload_n 0, 1) := dk_42 (dk_at dksX3_receives_3 19 rfl rfl)
theorem dX3_receives_92 : decode cX3_receives 92 = .ok (.getfield 13, 3) := dk_180 0 13 (dk_at dksX3_receives_3 20 rfl rfl)
theorem dX3_receives_95 : decode cX3_receives 95 = .ok (.iconst 0, 1) := dk_3 (dk_at dksX3_receives_3 23 rfl rfl)
theorem dX3_receives_96 : decode cX3_receives 96 = .ok (.dup2, 1) := dk_92 (dk_at dksX3_receives_4 0 rfl rfl)
theorem dX3_receives_97 : decode cX3_receives 97 = .ok (.laload, 1) := dk_47 (dk_at dksX3_receives_4 1 rfl rfl)
theorem dX3_receives_98 : decode cX3_receives 98 = .ok (.iload 4, 2) := dk_21 4 (dk_at dksX3_receives_4 2 rfl rfl)
theorem dX3_receives_100 : decode cX3_receives 100 = .ok (.i2l, 1) := dk_133 (dk_at dksX3_receives_4 4 rfl rfl)
theorem dX3_receives_101 : decode cX3_receives 101 = .ok (.ladd, 1) := dk_97 (dk_at dksX3_receives_4 5 rfl rfl)
theorem dX3_receives_102 : decode cX3_receives 102 = .ok (.lastore, 1) := dk_80 (dk_at dksX3_receives_4 6 rfl rfl)
theorem dX3_receives_103 : decode cX3_receives 103 = .ok (.aload_n 0, 1) := dk_42 (dk_at dksX3_receives_4 7 rfl rfl)
theorem dX3_receives_104 : decode cX3_receives 104 = .ok (.getfield 13, 3) := dk_180 0 13 (dk_at dksX3_receives_4 8 rfl rfl)
theorem dX3_receives_107 : decode cX3_receives 107 = .ok (.iconst 3, 1) := dk_6 (dk_at dksX3_receives_4 11 rfl rfl)
theorem dX3_receives_108 : decode cX3_receives 108 = .ok (.dup2, 1) := dk_92 (dk_at dksX3_receives_4 12 rfl rfl)
theorem dX3_receives_109 : decode cX3_receives 109 = .ok (.laload, 1) := dk_47 (dk_at dksX3_receives_4 13 rfl rfl)
theorem dX3_receives_110 : decode cX3_receives 110 = .ok (.iload 7, 2) := dk_21 7 (dk_at dksX3_receives_4 14 rfl rfl)
theorem dX3_receives_112 : decode cX3_receives 112 = .ok (.i2l, 1) := dk_133 (dk_at dksX3_receives_4 16 rfl rfl)
theorem dX3_receives_113 : decode cX3_receives 113 = .ok (.ladd, 1) := dk_97 (dk_at dksX3_receives_4 17 rfl rfl)
theorem dX3_receives_114 : decode cX3_receives 114 = .ok (.lastore, 1) := dk_80 (dk_at dksX3_receives_4 18 rfl rfl)
theorem dX3_receives_115 : decode cX3_receives 115 = .ok (.iload 7, 2) := dk_21 7 (dk_at dksX3_receives_4 19 rfl rfl)
theorem dX3_receives_117 : decode cX3_receives 117 = .ok (.ireturn, 1) := dk_172 (dk_at dksX3_receives_4 21 rfl rfl)
abbrev cX3_passes : ByteArray := prog_10_method_32_code
def yX3_passes : MethodName := ⟨RX3, "passes", "(I)V"⟩
def dkwX3_passes_5 : List UInt8 := [167, 255, 142, 42, 180, 0, 7, 3, 92, 46, 27, 96, 79, 177]
abbrev dktX3_passes_5 : List UInt8 := dkwX3_passes_5 ++ []
def dkwX3_passes_4 : List UInt8 := [54, 4, 42, 28, 16, 6, 21, 4, 156, 0, 7, 3, 167, 0, 5, 21, 4, 182, 0, 55, 132, 2, 1]
abbrev dktX3_passes_4 : List UInt8 := dkwX3_passes_4 ++ dktX3_passes_5
def dkwX3_passes_3 : List UInt8 := [159, 0, 43, 42, 28, 182, 0, 73, 154, 0, 35, 42, 28, 16, 6, 182, 0, 45, 27, 16, 20, 104, 100]
abbrev dktX3_passes_3 : List UInt8 := dkwX3_passes_3 ++ dktX3_passes_4
def dkwX3_passes_2 : List UInt8 := [21, 4, 17, 39, 16, 164, 0, 9, 17, 39, 16, 167, 0, 5, 21, 4, 182, 0, 55, 167, 0, 48, 29, 2]
abbrev dktX3_passes_2 : List UInt8 := dkwX3_passes_2 ++ dktX3_passes_3
def dkwX3_passes_1 : List UInt8 := [164, 0, 46, 42, 28, 16, 6, 182, 0, 45, 27, 29, 17, 0, 150, 100, 104, 96, 54, 4, 42, 28, 16, 6]
abbrev dktX3_passes_1 : List UInt8 := dkwX3_passes_1 ++ dktX3_passes_2
def dkwX3_passes_0 : List UInt8 := [3, 61, 28, 42, 180, 0, 7, 5, 46, 162, 0, 110, 42, 28, 182, 0, 79, 62, 29, 17, 0, 150]
abbrev dktX3_passes_0 : List UInt8 := dkwX3_passes_0 ++ dktX3_passes_1
theorem dksX3_passes_0 : cX3_passes.data.toList.drop 0 = dktX3_passes_0 := by decide +kernel
theorem dksX3_passes_1 : cX3_passes.data.toList.drop 22 = dktX3_passes_1 := dk_seg dksX3_passes_0 22 rfl rfl
theorem dksX3_passes_2 : cX3_passes.data.toList.drop 46 = dktX3_passes_2 := dk_seg dksX3_passes_1 24 rfl rfl
theorem dksX3_passes_3 : cX3_passes.data.toList.drop 70 = dktX3_passes_3 := dk_seg dksX3_passes_2 24 rfl rfl
theorem dksX3_passes_4 : cX3_passes.data.toList.drop 93 = dktX3_passes_4 := dk_seg dksX3_passes_3 23 rfl rfl
theorem dksX3_passes_5 : cX3_passes.data.toList.drop 116 = dktX3_passes_5 := dk_seg dksX3_passes_4 23 rfl rfl
theorem dX3_passes_0 : decode cX3_passes 0 = .ok (.iconst 0, 1) := dk_3 (dk_at dksX3_passes_0 0 rfl rfl)
theorem dX3_passes_1 : decode cX3_passes 1 = .ok (.istore_n 2, 1) := dk_61 (dk_at dksX3_passes_0 1 rfl rfl)
theorem dX3_passes_2 : decode cX3_passes 2 = .ok (.iload_n 2, 1) := dk_28 (dk_at dksX3_passes_0 2 rfl rfl)
theorem dX3_passes_3 : decode cX3_passes 3 = .ok (.aload_n 0, 1) := dk_42 (dk_at dksX3_passes_0 3 rfl rfl)
theorem dX3_passes_4 : decode cX3_passes 4 = .ok (.getfield 7, 3) := dk_180 0 7 (dk_at dksX3_passes_0 4 rfl rfl)
theorem dX3_passes_7 : decode cX3_passes 7 = .ok (.iconst 2, 1) := dk_5 (dk_at dksX3_passes_0 7 rfl rfl)
theorem dX3_passes_8 : decode cX3_passes 8 = .ok (.iaload, 1) := dk_46 (dk_at dksX3_passes_0 8 rfl rfl)
theorem dX3_passes_9 : decode cX3_passes 9 = .ok (.if_icmp .ge 110, 3) := dk_162 0 110 (dk_at dksX3_passes_0 9 rfl rfl)
theorem dX3_passes_12 : decode cX3_passes 12 = .ok (.aload_n 0, 1) := dk_42 (dk_at dksX3_passes_0 12 rfl rfl)
theorem dX3_passes_13 : decode cX3_passes 13 = .ok (.iload_n 2, 1) := dk_28 (dk_at dksX3_passes_0 13 rfl rfl)
theorem dX3_passes_14 : decode cX3_passes 14 = .ok (.invokevirtual 79, 3) := dk_182 0 79 (dk_at dksX3_passes_0 14 rfl rfl)
theorem dX3_passes_17 : decode cX3_passes 17 = .ok (.istore_n 3, 1) := dk_62 (dk_at dksX3_passes_0 17 rfl rfl)
theorem dX3_passes_18 : decode cX3_passes 18 = .ok (.iload_n 3, 1) := dk_29 (dk_at dksX3_passes_0 18 rfl rfl)
theorem dX3_passes_19 : decode cX3_passes 19 = .ok (.sipush 150, 3) := dk_17 0 150 (dk_at dksX3_passes_0 19 rfl rfl)
theorem dX3_passes_22 : decode cX3_passes 22 = .ok (.if_icmp .le 46, 3) := dk_164 0 46 (dk_at dksX3_passes_1 0 rfl rfl)
theorem dX3_passes_25 : decode cX3_passes 25 = .ok (.aload_n 0, 1) := dk_42 (dk_at dksX3_passes_1 3 rfl rfl)
theorem dX3_passes_26 : decode cX3_passes 26 = .ok (.iload_n 2, 1) := dk_28 (dk_at dksX3_passes_1 4 rfl rfl)
theorem dX3_passes_27 : decode cX3_passes 27 = .ok (.bipush 6, 2) := dk_16 6 (dk_at dksX3_passes_1 5 rfl rfl)
theorem dX3_passes_29 : decode cX3_passes 29 = .ok (.invokevirtual 45, 3) := dk_182 0 45 (dk_at dksX3_passes_1 7 rfl rfl)
theorem dX3_passes_32 : decode cX3_passes 32 = .ok (.iload_n 1, 1) := dk_27 (dk_at dksX3_passes_1 10 rfl rfl)
theorem dX3_passes_33 : decode cX3_passes 33 = .ok (.iload_n 3, 1) := dk_29 (dk_at dksX3_passes_1 11 rfl rfl)
theorem dX3_passes_34 : decode cX3_passes 34 = .ok (.sipush 150, 3) := dk_17 0 150 (dk_at dksX3_passes_1 12 rfl rfl)
theorem dX3_passes_37 : decode cX3_passes 37 = .ok (.isub, 1) := dk_100 (dk_at dksX3_passes_1 15 rfl rfl)
theorem dX3_passes_38 : decode cX3_passes 38 = .ok (.imul, 1) := dk_104 (dk_at dksX3_passes_1 16 rfl rfl)
theorem dX3_passes_39 : decode cX3_passes 39 = .ok (.iadd, 1) := dk_96 (dk_at dksX3_passes_1 17 rfl rfl)
theorem dX3_passes_40 : decode cX3_passes 40 = .ok (.istore 4, 2) := dk_54 4 (dk_at dksX3_passes_1 18 rfl rfl)
theorem dX3_passes_42 : decode cX3_passes 42 = .ok (.aload_n 0, 1) := dk_42 (dk_at dksX3_passes_1 20 rfl rfl)
theorem dX3_passes_43 : decode cX3_passes 43 = .ok (.iload_n 2, 1) := dk_28 (dk_at dksX3_passes_1 21 rfl rfl)
theorem dX3_passes_44 : decode cX3_passes 44 = .ok (.bipush 6, 2) := dk_16 6 (dk_at dksX3_passes_1 22 rfl rfl)
theorem dX3_passes_46 : decode cX3_passes 46 = .ok (.iload 4, 2) := dk_21 4 (dk_at dksX3_passes_2 0 rfl rfl)
theorem dX3_passes_48 : decode cX3_passes 48 = .ok (.sipush 10000, 3) := dk_17 39 16 (dk_at dksX3_passes_2 2 rfl rfl)
theorem dX3_passes_51 : decode cX3_passes 51 = .ok (.if_icmp .le 9, 3) := dk_164 0 9 (dk_at dksX3_passes_2 5 rfl rfl)
theorem dX3_passes_54 : decode cX3_passes 54 = .ok (.sipush 10000, 3) := dk_17 39 16 (dk_at dksX3_passes_2 8 rfl rfl)
theorem dX3_passes_57 : decode cX3_passes 57 = .ok (.goto 5, 3) := dk_167 0 5 (dk_at dksX3_passes_2 11 rfl rfl)
theorem dX3_passes_60 : decode cX3_passes 60 = .ok (.iload 4, 2) := dk_21 4 (dk_at dksX3_passes_2 14 rfl rfl)
theorem dX3_passes_62 : decode cX3_passes 62 = .ok (.invokevirtual 55, 3) := dk_182 0 55 (dk_at dksX3_passes_2 16 rfl rfl)
theorem dX3_passes_65 : decode cX3_passes 65 = .ok (.goto 48, 3) := dk_167 0 48 (dk_at dksX3_passes_2 19 rfl rfl)
theorem dX3_passes_68 : decode cX3_passes 68 = .ok (.iload_n 3, 1) := dk_29 (dk_at dksX3_passes_2 22 rfl rfl)
theorem dX3_passes_69 : decode cX3_passes 69 = .ok (.iconst (-1), 1) := dk_2 (dk_at dksX3_passes_2 23 rfl rfl)
theorem dX3_passes_70 : decode cX3_passes 70 = .ok (.if_icmp .eq 43, 3) := dk_159 0 43 (dk_at dksX3_passes_3 0 rfl rfl)
theorem dX3_passes_73 : decode cX3_passes 73 = .ok (.aload_n 0, 1) := dk_42 (dk_at dksX3_passes_3 3 rfl rfl)
theorem dX3_passes_74 : decode cX3_passes 74 = .ok (.iload_n 2, 1) := dk_28 (dk_at dksX3_passes_3 4 rfl rfl)
theorem dX3_passes_75 : decode cX3_passes 75 = .ok (.invokevirtual 73, 3) := dk_182 0 73 (dk_at dksX3_passes_3 5 rfl rfl)
theorem dX3_passes_78 : decode cX3_passes 78 = .ok (.ifCond .ne 35, 3) := dk_154 0 35 (dk_at dksX3_passes_3 8 rfl rfl)
theorem dX3_passes_81 : decode cX3_passes 81 = .ok (.aload_n 0, 1) := dk_42 (dk_at dksX3_passes_3 11 rfl rfl)
theorem dX3_passes_82 : decode cX3_passes 82 = .ok (.iload_n 2, 1) := dk_28 (dk_at dksX3_passes_3 12 rfl rfl)
theorem dX3_passes_83 : decode cX3_passes 83 = .ok (.bipush 6, 2) := dk_16 6 (dk_at dksX3_passes_3 13 rfl rfl)
theorem dX3_passes_85 : decode cX3_passes 85 = .ok (.invokevirtual 45, 3) := dk_182 0 45 (dk_at dksX3_passes_3 15 rfl rfl)
theorem dX3_passes_88 : decode cX3_passes 88 = .ok (.iload_n 1, 1) := dk_27 (dk_at dksX3_passes_3 18 rfl rfl)
theorem dX3_passes_89 : decode cX3_passes 89 = .ok (.bipush 20, 2) := dk_16 20 (dk_at dksX3_passes_3 19 rfl rfl)
theorem dX3_passes_91 : decode cX3_passes 91 = .ok (.imul, 1) := dk_104 (dk_at dksX3_passes_3 21 rfl rfl)
theorem dX3_passes_92 : decode cX3_passes 92 = .ok (.isub, 1) := dk_100 (dk_at dksX3_passes_3 22 rfl rfl)
theorem dX3_passes_93 : decode cX3_passes 93 = .ok (.istore 4, 2) := dk_54 4 (dk_at dksX3_passes_4 0 rfl rfl)
theorem dX3_passes_95 : decode cX3_passes 95 = .ok (.aload_n 0, 1) := dk_42 (dk_at dksX3_passes_4 2 rfl rfl)
theorem dX3_passes_96 : decode cX3_passes 96 = .ok (.iload_n 2, 1) := dk_28 (dk_at dksX3_passes_4 3 rfl rfl)
theorem dX3_passes_97 : decode cX3_passes 97 = .ok (.bipush 6, 2) := dk_16 6 (dk_at dksX3_passes_4 4 rfl rfl)
theorem dX3_passes_99 : decode cX3_passes 99 = .ok (.iload 4, 2) := dk_21 4 (dk_at dksX3_passes_4 6 rfl rfl)
theorem dX3_passes_101 : decode cX3_passes 101 = .ok (.ifCond .ge 7, 3) := dk_156 0 7 (dk_at dksX3_passes_4 8 rfl rfl)
theorem dX3_passes_104 : decode cX3_passes 104 = .ok (.iconst 0, 1) := dk_3 (dk_at dksX3_passes_4 11 rfl rfl)
theorem dX3_passes_105 : decode cX3_passes 105 = .ok (.goto 5, 3) := dk_167 0 5 (dk_at dksX3_passes_4 12 rfl rfl)
theorem dX3_passes_108 : decode cX3_passes 108 = .ok (.iload 4, 2) := dk_21 4 (dk_at dksX3_passes_4 15 rfl rfl)
theorem dX3_passes_110 : decode cX3_passes 110 = .ok (.invokevirtual 55, 3) := dk_182 0 55 (dk_at dksX3_passes_4 17 rfl rfl)
theorem dX3_passes_113 : decode cX3_passes 113 = .ok (.iinc 2 1, 3) := dk_132 2 1 (dk_at dksX3_passes_4 20 rfl rfl)
theorem dX3_passes_116 : decode cX3_passes 116 = .ok (.goto (-114), 3) := dk_167 255 142 (dk_at dksX3_passes_5 0 rfl rfl)
theorem dX3_passes_119 : decode cX3_passes 119 = .ok (.aload_n 0, 1) := dk_42 (dk_at dksX3_passes_5 3 rfl rfl)
theorem dX3_passes_120 : decode cX3_passes 120 = .ok (.getfield 7, 3) := dk_180 0 7 (dk_at dksX3_passes_5 4 rfl rfl)
theorem dX3_passes_123 : decode cX3_passes 123 = .ok (.iconst 0, 1) := dk_3 (dk_at dksX3_passes_5 7 rfl rfl)
theorem dX3_passes_124 : decode cX3_passes 124 = .ok (.dup2, 1) := dk_92 (dk_at dksX3_passes_5 8 rfl rfl)
theorem dX3_passes_125 : decode cX3_passes 125 = .ok (.iaload, 1) := dk_46 (dk_at dksX3_passes_5 9 rfl rfl)
theorem dX3_passes_126 : decode cX3_passes 126 = .ok (.iload_n 1, 1) := dk_27 (dk_at dksX3_passes_5 10 rfl rfl)
theorem dX3_passes_127 : decode cX3_passes 127 = .ok (.iadd, 1) := dk_96 (dk_at dksX3_passes_5 11 rfl rfl)
theorem dX3_passes_128 : decode cX3_passes 128 = .ok (.iastore, 1) := dk_79 (dk_at dksX3_passes_5 12 rfl rfl)
theorem dX3_passes_129 : decode cX3_passes 129 = .ok (.return_, 1) := dk_177 (dk_at dksX3_passes_5 13 rfl rfl)
abbrev cX3_brings : ByteArray := prog_10_method_38_code
def yX3_brings : MethodName := ⟨RX3, "brings", "(IIII)V"⟩
def dkwX3_brings_2 : List UInt8 := [29, 96, 182, 0, 55, 177]
abbrev dktX3_brings_2 : List UInt8 := dkwX3_brings_2 ++ []
def dkwX3_brings_1 : List UInt8 := [21, 4, 96, 182, 0, 55, 42, 27, 8, 28, 182, 0, 55, 42, 27, 16, 7, 42, 27, 16, 7, 182, 0, 45]
abbrev dktX3_brings_1 : List UInt8 := dkwX3_brings_1 ++ dktX3_brings_2
def dkwX3_brings_0 : List UInt8 := [42, 27, 6, 42, 27, 6, 182, 0, 45, 29, 96, 182, 0, 55, 42, 27, 7, 42, 27, 7, 182, 0, 45]
abbrev dktX3_brings_0 : List UInt8 := dkwX3_brings_0 ++ dktX3_brings_1
theorem dksX3_brings_0 : cX3_brings.data.toList.drop 0 = dktX3_brings_0 := by decide +kernel
theorem dksX3_brings_1 : cX3_brings.data.toList.drop 23 = dktX3_brings_1 := dk_seg dksX3_brings_0 23 rfl rfl
theorem dksX3_brings_2 : cX3_brings.data.toList.drop 47 = dktX3_brings_2 := dk_seg dksX3_brings_1 24 rfl rfl
theorem dX3_brings_0 : decode cX3_brings 0 = .ok (.aload_n 0, 1) := dk_42 (dk_at dksX3_brings_0 0 rfl rfl)
theorem dX3_brings_1 : decode cX3_brings 1 = .ok (.iload_n 1, 1) := dk_27 (dk_at dksX3_brings_0 1 rfl rfl)
theorem dX3_brings_2 : decode cX3_brings 2 = .ok (.iconst 3, 1) := dk_6 (dk_at dksX3_brings_0 2 rfl rfl)
theorem dX3_brings_3 : decode cX3_brings 3 = .ok (.aload_n 0, 1) := dk_42 (dk_at dksX3_brings_0 3 rfl rfl)
theorem dX3_brings_4 : decode cX3_brings 4 = .ok (.iload_n 1, 1) := dk_27 (dk_at dksX3_brings_0 4 rfl rfl)
theorem dX3_brings_5 : decode cX3_brings 5 = .ok (.iconst 3, 1) := dk_6 (dk_at dksX3_brings_0 5 rfl rfl)
theorem dX3_brings_6 : decode cX3_brings 6 = .ok (.invokevirtual 45, 3) := dk_182 0 45 (dk_at dksX3_brings_0 6 rfl rfl)
theorem dX3_brings_9 : decode cX3_brings 9 = .ok (.iload_n 3, 1) := dk_29 (dk_at dksX3_brings_0 9 rfl rfl)
theorem dX3_brings_10 : decode cX3_brings 10 = .ok (.iadd, 1) := dk_96 (dk_at dksX3_brings_0 10 rfl rfl)
theorem dX3_brings_11 : decode cX3_brings 11 = .ok (.invokevirtual 55, 3) := dk_182 0 55 (dk_at dksX3_brings_0 11 rfl rfl)
theorem dX3_brings_14 : decode cX3_brings 14 = .ok (.aload_n 0, 1) := dk_42 (dk_at dksX3_brings_0 14 rfl rfl)
theorem dX3_brings_15 : decode cX3_brings 15 = .ok (.iload_n 1, 1) := dk_27 (dk_at dksX3_brings_0 15 rfl rfl)
theorem dX3_brings_16 : decode cX3_brings 16 = .ok (.iconst 4, 1) := dk_7 (dk_at dksX3_brings_0 16 rfl rfl)
theorem dX3_brings_17 : decode cX3_brings 17 = .ok (.aload_n 0, 1) := dk_42 (dk_at dksX3_brings_0 17 rfl rfl)
theorem dX3_brings_18 : decode cX3_brings 18 = .ok (.iload_n 1, 1) := dk_27 (dk_at dksX3_brings_0 18 rfl rfl)
theorem dX3_brings_19 : decode cX3_brings 19 = .ok (.iconst 4, 1) := dk_7 (dk_at dksX3_brings_0 19 rfl rfl)
theorem dX3_brings_20 : decode cX3_brings 20 = .ok (.invokevirtual 45, 3) := dk_182 0 45 (dk_at dksX3_brings_0 20 rfl rfl)
theorem dX3_brings_23 : decode cX3_brings 23 = .ok (.iload 4, 2) := dk_21 4 (dk_at dksX3_brings_1 0 rfl rfl)
theorem dX3_brings_25 : decode cX3_brings 25 = .ok (.iadd, 1) := dk_96 (dk_at dksX3_brings_1 2 rfl rfl)
theorem dX3_brings_26 : decode cX3_brings 26 = .ok (.invokevirtual 55, 3) := dk_182 0 55 (dk_at dksX3_brings_1 3 rfl rfl)
theorem dX3_brings_29 : decode cX3_brings 29 = .ok (.aload_n 0, 1) := dk_42 (dk_at dksX3_brings_1 6 rfl rfl)
theorem dX3_brings_30 : decode cX3_brings 30 = .ok (.iload_n 1, 1) := dk_27 (dk_at dksX3_brings_1 7 rfl rfl)
theorem dX3_brings_31 : decode cX3_brings 31 = .ok (.iconst 5, 1) := dk_8 (dk_at dksX3_brings_1 8 rfl rfl)
theorem dX3_brings_32 : decode cX3_brings 32 = .ok (.iload_n 2, 1) := dk_28 (dk_at dksX3_brings_1 9 rfl rfl)
theorem dX3_brings_33 : decode cX3_brings 33 = .ok (.invokevirtual 55, 3) := dk_182 0 55 (dk_at dksX3_brings_1 10 rfl rfl)
theorem dX3_brings_36 : decode cX3_brings 36 = .ok (.aload_n 0, 1) := dk_42 (dk_at dksX3_brings_1 13 rfl rfl)
theorem dX3_brings_37 : decode cX3_brings 37 = .ok (.iload_n 1, 1) := dk_27 (dk_at dksX3_brings_1 14 rfl rfl)
theorem dX3_brings_38 : decode cX3_brings 38 = .ok (.bipush 7, 2) := dk_16 7 (dk_at dksX3_brings_1 15 rfl rfl)
theorem dX3_brings_40 : decode cX3_brings 40 = .ok (.aload_n 0, 1) := dk_42 (dk_at dksX3_brings_1 17 rfl rfl)
theorem dX3_brings_41 : decode cX3_brings 41 = .ok (.iload_n 1, 1) := dk_27 (dk_at dksX3_brings_1 18 rfl rfl)
theorem dX3_brings_42 : decode cX3_brings 42 = .ok (.bipush 7, 2) := dk_16 7 (dk_at dksX3_brings_1 19 rfl rfl)
theorem dX3_brings_44 : decode cX3_brings 44 = .ok (.invokevirtual 45, 3) := dk_182 0 45 (dk_at dksX3_brings_1 21 rfl rfl)
theorem dX3_brings_47 : decode cX3_brings 47 = .ok (.iload_n 3, 1) := dk_29 (dk_at dksX3_brings_2 0 rfl rfl)
theorem dX3_brings_48 : decode cX3_brings 48 = .ok (.iadd, 1) := dk_96 (dk_at dksX3_brings_2 1 rfl rfl)
theorem dX3_brings_49 : decode cX3_brings 49 = .ok (.invokevirtual 55, 3) := dk_182 0 55 (dk_at dksX3_brings_2 2 rfl rfl)
theorem dX3_brings_52 : decode cX3_brings 52 = .ok (.return_, 1) := dk_177 (dk_at dksX3_brings_2 5 rfl rfl)
abbrev cX3_dusts : ByteArray := prog_10_method_35_code
def yX3_dusts : MethodName := ⟨RX3, "dusts", "(III)V"⟩
def dkwX3_dusts_2 : List UInt8 := [104, 96, 6, 96, 92, 46, 28, 96, 79, 177]
abbrev dktX3_dusts_2 : List UInt8 := dkwX3_dusts_2 ++ []
def dkwX3_dusts_1 : List UInt8 := [17, 1, 144, 29, 28, 108, 100, 133, 105, 20, 0, 94, 109, 136, 96, 79, 42, 180, 0, 7, 16, 82, 7, 27]
abbrev dktX3_dusts_1 : List UInt8 := dkwX3_dusts_1 ++ dktX3_dusts_2
def dkwX3_dusts_0 : List UInt8 := [42, 180, 0, 7, 16, 82, 7, 27, 104, 96, 5, 96, 92, 46, 28, 133, 42, 27, 3, 182, 0, 49, 133, 105]
abbrev dktX3_dusts_0 : List UInt8 := dkwX3_dusts_0 ++ dktX3_dusts_1
theorem dksX3_dusts_0 : cX3_dusts.data.toList.drop 0 = dktX3_dusts_0 := by decide +kernel
theorem dksX3_dusts_1 : cX3_dusts.data.toList.drop 24 = dktX3_dusts_1 := dk_seg dksX3_dusts_0 24 rfl rfl
theorem dksX3_dusts_2 : cX3_dusts.data.toList.drop 48 = dktX3_dusts_2 := dk_seg dksX3_dusts_1 24 rfl rfl
theorem dX3_dusts_0 : decode cX3_dusts 0 = .ok (.aload_n 0, 1) := dk_42 (dk_at dksX3_dusts_0 0 rfl rfl)
theorem dX3_dusts_1 : decode cX3_dusts 1 = .ok (.getfield 7, 3) := dk_180 0 7 (dk_at dksX3_dusts_0 1 rfl rfl)
theorem dX3_dusts_4 : decode cX3_dusts 4 = .ok (.bipush 82, 2) := dk_16 82 (dk_at dksX3_dusts_0 4 rfl rfl)
theorem dX3_dusts_6 : decode cX3_dusts 6 = .ok (.iconst 4, 1) := dk_7 (dk_at dksX3_dusts_0 6 rfl rfl)
theorem dX3_dusts_7 : decode cX3_dusts 7 = .ok (.iload_n 1, 1) := dk_27 (dk_at dksX3_dusts_0 7 rfl rfl)
theorem dX3_dusts_8 : decode cX3_dusts 8 = .ok (.imul, 1) := dk_104 (dk_at dksX3_dusts_0 8 rfl rfl)
theorem dX3_dusts_9 : decode cX3_dusts 9 = .ok (.iadd, 1) := dk_96 (dk_at dksX3_dusts_0 9 rfl rfl)
theorem dX3_dusts_10 : decode cX3_dusts 10 = .ok (.iconst 2, 1) := dk_5 (dk_at dksX3_dusts_0 10 rfl rfl)
theorem dX3_dusts_11 : decode cX3_dusts 11 = .ok (.iadd, 1) := dk_96 (dk_at dksX3_dusts_0 11 rfl rfl)
theorem dX3_dusts_12 : decode cX3_dusts 12 = .ok (.dup2, 1) := dk_92 (dk_at dksX3_dusts_0 12 rfl rfl)
theorem dX3_dusts_13 : decode cX3_dusts 13 = .ok (.iaload, 1) := dk_46 (dk_at dksX3_dusts_0 13 rfl rfl)
theorem dX3_dusts_14 : decode cX3_dusts 14 = .ok (.iload_n 2, 1) := dk_28 (dk_at dksX3_dusts_0 14 rfl rfl)
theorem dX3_dusts_15 : decode cX3_dusts 15 = .ok (.i2l, 1) := dk_133 (dk_at dksX3_dusts_0 15 rfl rfl)
theorem dX3_dusts_16 : decode cX3_dusts 16 = .ok (.aload_n 0, 1) := dk_42 (dk_at dksX3_dusts_0 16 rfl rfl)
theorem dX3_dusts_17 : decode cX3_dusts 17 = .ok (.iload_n 1, 1) := dk_27 (dk_at dksX3_dusts_0 17 rfl rfl)
theorem dX3_dusts_18 : decode cX3_dusts 18 = .ok (.iconst 0, 1) := dk_3 (dk_at dksX3_dusts_0 18 rfl rfl)
theorem dX3_dusts_19 : decode cX3_dusts 19 = .ok (.invokevirtual 49, 3) := dk_182 0 49 (dk_at dksX3_dusts_0 19 rfl rfl)
theorem dX3_dusts_22 : decode cX3_dusts 22 = .ok (.i2l, 1) := dk_133 (dk_at dksX3_dusts_0 22 rfl rfl)
theorem dX3_dusts_23 : decode cX3_dusts 23 = .ok (.lmul, 1) := dk_105 (dk_at dksX3_dusts_0 23 rfl rfl)
theorem dX3_dusts_24 : decode cX3_dusts 24 = .ok (.sipush 400, 3) := dk_17 1 144 (dk_at dksX3_dusts_1 0 rfl rfl)
theorem dX3_dusts_27 : decode cX3_dusts 27 = .ok (.iload_n 3, 1) := dk_29 (dk_at dksX3_dusts_1 3 rfl rfl)
theorem dX3_dusts_28 : decode cX3_dusts 28 = .ok (.iload_n 2, 1) := dk_28 (dk_at dksX3_dusts_1 4 rfl rfl)
theorem dX3_dusts_29 : decode cX3_dusts 29 = .ok (.idiv, 1) := dk_108 (dk_at dksX3_dusts_1 5 rfl rfl)
theorem dX3_dusts_30 : decode cX3_dusts 30 = .ok (.isub, 1) := dk_100 (dk_at dksX3_dusts_1 6 rfl rfl)
theorem dX3_dusts_31 : decode cX3_dusts 31 = .ok (.i2l, 1) := dk_133 (dk_at dksX3_dusts_1 7 rfl rfl)
theorem dX3_dusts_32 : decode cX3_dusts 32 = .ok (.lmul, 1) := dk_105 (dk_at dksX3_dusts_1 8 rfl rfl)
theorem dX3_dusts_33 : decode cX3_dusts 33 = .ok (.ldc2_w 94, 3) := dk_20 0 94 (dk_at dksX3_dusts_1 9 rfl rfl)
theorem dX3_dusts_36 : decode cX3_dusts 36 = .ok (.ldiv, 1) := dk_109 (dk_at dksX3_dusts_1 12 rfl rfl)
theorem dX3_dusts_37 : decode cX3_dusts 37 = .ok (.l2i, 1) := dk_136 (dk_at dksX3_dusts_1 13 rfl rfl)
theorem dX3_dusts_38 : decode cX3_dusts 38 = .ok (.iadd, 1) := dk_96 (dk_at dksX3_dusts_1 14 rfl rfl)
theorem dX3_dusts_39 : decode cX3_dusts 39 = .ok (.iastore, 1) := dk_79 (dk_at dksX3_dusts_1 15 rfl rfl)
theorem dX3_dusts_40 : decode cX3_dusts 40 = .ok (.aload_n 0, 1) := dk_42 (dk_at dksX3_dusts_1 16 rfl rfl)
theorem dX3_dusts_41 : decode cX3_dusts 41 = .ok (.getfield 7, 3) := dk_180 0 7 (dk_at dksX3_dusts_1 17 rfl rfl)
theorem dX3_dusts_44 : decode cX3_dusts 44 = .ok (.bipush 82, 2) := dk_16 82 (dk_at dksX3_dusts_1 20 rfl rfl)
theorem dX3_dusts_46 : decode cX3_dusts 46 = .ok (.iconst 4, 1) := dk_7 (dk_at dksX3_dusts_1 22 rfl rfl)
theorem dX3_dusts_47 : decode cX3_dusts 47 = .ok (.iload_n 1, 1) := dk_27 (dk_at dksX3_dusts_1 23 rfl rfl)
theorem dX3_dusts_48 : decode cX3_dusts 48 = .ok (.imul, 1) := dk_104 (dk_at dksX3_dusts_2 0 rfl rfl)
theorem dX3_dusts_49 : decode cX3_dusts 49 = .ok (.iadd, 1) := dk_96 (dk_at dksX3_dusts_2 1 rfl rfl)
theorem dX3_dusts_50 : decode cX3_dusts 50 = .ok (.iconst 3, 1) := dk_6 (dk_at dksX3_dusts_2 2 rfl rfl)
theorem dX3_dusts_51 : decode cX3_dusts 51 = .ok (.iadd, 1) := dk_96 (dk_at dksX3_dusts_2 3 rfl rfl)
theorem dX3_dusts_52 : decode cX3_dusts 52 = .ok (.dup2, 1) := dk_92 (dk_at dksX3_dusts_2 4 rfl rfl)
theorem dX3_dusts_53 : decode cX3_dusts 53 = .ok (.iaload, 1) := dk_46 (dk_at dksX3_dusts_2 5 rfl rfl)
theorem dX3_dusts_54 : decode cX3_dusts 54 = .ok (.iload_n 2, 1) := dk_28 (dk_at dksX3_dusts_2 6 rfl rfl)
theorem dX3_dusts_55 : decode cX3_dusts 55 = .ok (.iadd, 1) := dk_96 (dk_at dksX3_dusts_2 7 rfl rfl)
theorem dX3_dusts_56 : decode cX3_dusts 56 = .ok (.iastore, 1) := dk_79 (dk_at dksX3_dusts_2 8 rfl rfl)
theorem dX3_dusts_57 : decode cX3_dusts 57 = .ok (.return_, 1) := dk_177 (dk_at dksX3_dusts_2 9 rfl rfl)
abbrev cX3_move : ByteArray := prog_10_method_49_code
def yX3_move : MethodName := ⟨RX3, "move", "(IIII)I"⟩
def dkwX3_move_1 : List UInt8 := [27, 28, 29, 21, 4, 182, 0, 149, 172]
abbrev dktX3_move_1 : List UInt8 := dkwX3_move_1 ++ []
def dkwX3_move_0 : List UInt8 := [42, 27, 28, 29, 21, 4, 182, 0, 146, 54, 5, 21, 5, 153, 0, 6, 21, 5, 172, 42, 182, 0, 52, 42]
abbrev dktX3_move_0 : List UInt8 := dkwX3_move_0 ++ dktX3_move_1
theorem dksX3_move_0 : cX3_move.data.toList.drop 0 = dktX3_move_0 := by decide +kernel
theorem dksX3_move_1 : cX3_move.data.toList.drop 24 = dktX3_move_1 := dk_seg dksX3_move_0 24 rfl rfl
theorem dX3_move_0 : decode cX3_move 0 = .ok (.aload_n 0, 1) := dk_42 (dk_at dksX3_move_0 0 rfl rfl)
theorem dX3_move_1 : decode cX3_move 1 = .ok (.iload_n 1, 1) := dk_27 (dk_at dksX3_move_0 1 rfl rfl)
theorem dX3_move_2 : decode cX3_move 2 = .ok (.iload_n 2, 1) := dk_28 (dk_at dksX3_move_0 2 rfl rfl)
theorem dX3_move_3 : decode cX3_move 3 = .ok (.iload_n 3, 1) := dk_29 (dk_at dksX3_move_0 3 rfl rfl)
theorem dX3_move_4 : decode cX3_move 4 = .ok (.iload 4, 2) := dk_21 4 (dk_at dksX3_move_0 4 rfl rfl)
theorem dX3_move_6 : decode cX3_move 6 = .ok (.invokevirtual 146, 3) := dk_182 0 146 (dk_at dksX3_move_0 6 rfl rfl)
theorem dX3_move_9 : decode cX3_move 9 = .ok (.istore 5, 2) := dk_54 5 (dk_at dksX3_move_0 9 rfl rfl)
theorem dX3_move_11 : decode cX3_move 11 = .ok (.iload 5, 2) := dk_21 5 (dk_at dksX3_move_0 11 rfl rfl)
theorem dX3_move_13 : decode cX3_move 13 = .ok (.ifCond .eq 6, 3) := dk_153 0 6 (dk_at dksX3_move_0 13 rfl rfl)
theorem dX3_move_16 : decode cX3_move 16 = .ok (.iload 5, 2) := dk_21 5 (dk_at dksX3_move_0 16 rfl rfl)
theorem dX3_move_18 : decode cX3_move 18 = .ok (.ireturn, 1) := dk_172 (dk_at dksX3_move_0 18 rfl rfl)
theorem dX3_move_19 : decode cX3_move 19 = .ok (.aload_n 0, 1) := dk_42 (dk_at dksX3_move_0 19 rfl rfl)
theorem dX3_move_20 : decode cX3_move 20 = .ok (.invokevirtual 52, 3) := dk_182 0 52 (dk_at dksX3_move_0 20 rfl rfl)
theorem dX3_move_23 : decode cX3_move 23 = .ok (.aload_n 0, 1) := dk_42 (dk_at dksX3_move_0 23 rfl rfl)
theorem dX3_move_24 : decode cX3_move 24 = .ok (.iload_n 1, 1) := dk_27 (dk_at dksX3_move_1 0 rfl rfl)
theorem dX3_move_25 : decode cX3_move 25 = .ok (.iload_n 2, 1) := dk_28 (dk_at dksX3_move_1 1 rfl rfl)
theorem dX3_move_26 : decode cX3_move 26 = .ok (.iload_n 3, 1) := dk_29 (dk_at dksX3_move_1 2 rfl rfl)
theorem dX3_move_27 : decode cX3_move 27 = .ok (.iload 4, 2) := dk_21 4 (dk_at dksX3_move_1 3 rfl rfl)
theorem dX3_move_29 : decode cX3_move 29 = .ok (.invokevirtual 149, 3) := dk_182 0 149 (dk_at dksX3_move_1 5 rfl rfl)
theorem dX3_move_32 : decode cX3_move 32 = .ok (.ireturn, 1) := dk_172 (dk_at dksX3_move_1 8 rfl rfl)
abbrev cX3_cannotMove : ByteArray := prog_10_method_47_code
def yX3_cannotMove : MethodName := ⟨RX3, "cannotMove", "(IIII)I"⟩
def dkwX3_cannotMove_3 : List UInt8 := [172]
abbrev dktX3_cannotMove_3 : List UInt8 := dkwX3_cannotMove_3 ++ []
def dkwX3_cannotMove_2 : List UInt8 := [46, 21, 4, 42, 27, 3, 182, 0, 49, 184, 0, 113, 96, 18, 116, 164, 0, 8, 16, 251, 167, 0, 4, 3]
abbrev dktX3_cannotMove_2 : List UInt8 := dkwX3_cannotMove_2 ++ dktX3_cannotMove_3
def dkwX3_cannotMove_1 : List UInt8 := [21, 4, 182, 0, 140, 54, 6, 21, 6, 158, 0, 10, 42, 21, 6, 182, 0, 110, 172, 42, 180, 0, 7, 3]
abbrev dktX3_cannotMove_1 : List UInt8 := dkwX3_cannotMove_1 ++ dktX3_cannotMove_2
def dkwX3_cannotMove_0 : List UInt8 := [42, 27, 28, 29, 21, 4, 182, 0, 136, 54, 5, 21, 5, 153, 0, 6, 21, 5, 172, 42, 27, 28, 29]
abbrev dktX3_cannotMove_0 : List UInt8 := dkwX3_cannotMove_0 ++ dktX3_cannotMove_1
theorem dksX3_cannotMove_0 : cX3_cannotMove.data.toList.drop 0 = dktX3_cannotMove_0 := by decide +kernel
theorem dksX3_cannotMove_1 : cX3_cannotMove.data.toList.drop 23 = dktX3_cannotMove_1 := dk_seg dksX3_cannotMove_0 23 rfl rfl
theorem dksX3_cannotMove_2 : cX3_cannotMove.data.toList.drop 47 = dktX3_cannotMove_2 := dk_seg dksX3_cannotMove_1 24 rfl rfl
theorem dksX3_cannotMove_3 : cX3_cannotMove.data.toList.drop 71 = dktX3_cannotMove_3 := dk_seg dksX3_cannotMove_2 24 rfl rfl
theorem dX3_cannotMove_0 : decode cX3_cannotMove 0 = .ok (.aload_n 0, 1) := dk_42 (dk_at dksX3_cannotMove_0 0 rfl rfl)
theorem dX3_cannotMove_1 : decode cX3_cannotMove 1 = .ok (.iload_n 1, 1) := dk_27 (dk_at dksX3_cannotMove_0 1 rfl rfl)
theorem dX3_cannotMove_2 : decode cX3_cannotMove 2 = .ok (.iload_n 2, 1) := dk_28 (dk_at dksX3_cannotMove_0 2 rfl rfl)
theorem dX3_cannotMove_3 : decode cX3_cannotMove 3 = .ok (.iload_n 3, 1) := dk_29 (dk_at dksX3_cannotMove_0 3 rfl rfl)
theorem dX3_cannotMove_4 : decode cX3_cannotMove 4 = .ok (.iload 4, 2) := dk_21 4 (dk_at dksX3_cannotMove_0 4 rfl rfl)
theorem dX3_cannotMove_6 : decode cX3_cannotMove 6 = .ok (.invokevirtual 136, 3) := dk_182 0 136 (dk_at dksX3_cannotMove_0 6 rfl rfl)
theorem dX3_cannotMove_9 : decode cX3_cannotMove 9 = .ok (.istore 5, 2) := dk_54 5 (dk_at dksX3_cannotMove_0 9 rfl rfl)
theorem dX3_cannotMove_11 : decode cX3_cannotMove 11 = .ok (.iload 5, 2) := dk_21 5 (dk_at dksX3_cannotMove_0 11 rfl rfl)
theorem dX3_cannotMove_13 : decode cX3_cannotMove 13 = .ok (.ifCond .eq 6, 3) := dk_153 0 6 (dk_at dksX3_cannotMove_0 13 rfl rfl)
theorem dX3_cannotMove_16 : decode cX3_cannotMove 16 = .ok (.iload 5, 2) := dk_21 5 (dk_at dksX3_cannotMove_0 16 rfl rfl)
theorem dX3_cannotMove_18 : decode cX3_cannotMove 18 = .ok (.ireturn, 1) := dk_172 (dk_at dksX3_cannotMove_0 18 rfl rfl)
theorem dX3_cannotMove_19 : decode cX3_cannotMove 19 = .ok (.aload_n 0, 1) := dk_42 (dk_at dksX3_cannotMove_0 19 rfl rfl)
theorem dX3_cannotMove_20 : decode cX3_cannotMove 20 = .ok (.iload_n 1, 1) := dk_27 (dk_at dksX3_cannotMove_0 20 rfl rfl)
theorem dX3_cannotMove_21 : decode cX3_cannotMove 21 = .ok (.iload_n 2, 1) := dk_28 (dk_at dksX3_cannotMove_0 21 rfl rfl)
theorem dX3_cannotMove_22 : decode cX3_cannotMove 22 = .ok (.iload_n 3, 1) := dk_29 (dk_at dksX3_cannotMove_0 22 rfl rfl)
theorem dX3_cannotMove_23 : decode cX3_cannotMove 23 = .ok (.iload 4, 2) := dk_21 4 (dk_at dksX3_cannotMove_1 0 rfl rfl)
theorem dX3_cannotMove_25 : decode cX3_cannotMove 25 = .ok (.invokevirtual 140, 3) := dk_182 0 140 (dk_at dksX3_cannotMove_1 2 rfl rfl)
theorem dX3_cannotMove_28 : decode cX3_cannotMove 28 = .ok (.istore 6, 2) := dk_54 6 (dk_at dksX3_cannotMove_1 5 rfl rfl)
theorem dX3_cannotMove_30 : decode cX3_cannotMove 30 = .ok (.iload 6, 2) := dk_21 6 (dk_at dksX3_cannotMove_1 7 rfl rfl)
theorem dX3_cannotMove_32 : decode cX3_cannotMove 32 = .ok (.ifCond .le 10, 3) := dk_158 0 10 (dk_at dksX3_cannotMove_1 9 rfl rfl)
theorem dX3_cannotMove_35 : decode cX3_cannotMove 35 = .ok (.aload_n 0, 1) := dk_42 (dk_at dksX3_cannotMove_1 12 rfl rfl)
theorem dX3_cannotMove_36 : decode cX3_cannotMove 36 = .ok (.iload 6, 2) := dk_21 6 (dk_at dksX3_cannotMove_1 13 rfl rfl)
theorem dX3_cannotMove_38 : decode cX3_cannotMove 38 = .ok (.invokevirtual 110, 3) := dk_182 0 110 (dk_at dksX3_cannotMove_1 15 rfl rfl)
theorem dX3_cannotMove_41 : decode cX3_cannotMove 41 = .ok (.ireturn, 1) := dk_172 (dk_at dksX3_cannotMove_1 18 rfl rfl)
theorem dX3_cannotMove_42 : decode cX3_cannotMove 42 = .ok (.aload_n 0, 1) := dk_42 (dk_at dksX3_cannotMove_1 19 rfl rfl)
theorem dX3_cannotMove_43 : decode cX3_cannotMove 43 = .ok (.getfield 7, 3) := dk_180 0 7 (dk_at dksX3_cannotMove_1 20 rfl rfl)
theorem dX3_cannotMove_46 : decode cX3_cannotMove 46 = .ok (.iconst 0, 1) := dk_3 (dk_at dksX3_cannotMove_1 23 rfl rfl)
theorem dX3_cannotMove_47 : decode cX3_cannotMove 47 = .ok (.iaload, 1) := dk_46 (dk_at dksX3_cannotMove_2 0 rfl rfl)
theorem dX3_cannotMove_48 : decode cX3_cannotMove 48 = .ok (.iload 4, 2) := dk_21 4 (dk_at dksX3_cannotMove_2 1 rfl rfl)
theorem dX3_cannotMove_50 : decode cX3_cannotMove 50 = .ok (.aload_n 0, 1) := dk_42 (dk_at dksX3_cannotMove_2 3 rfl rfl)
theorem dX3_cannotMove_51 : decode cX3_cannotMove 51 = .ok (.iload_n 1, 1) := dk_27 (dk_at dksX3_cannotMove_2 4 rfl rfl)
theorem dX3_cannotMove_52 : decode cX3_cannotMove 52 = .ok (.iconst 0, 1) := dk_3 (dk_at dksX3_cannotMove_2 5 rfl rfl)
theorem dX3_cannotMove_53 : decode cX3_cannotMove 53 = .ok (.invokevirtual 49, 3) := dk_182 0 49 (dk_at dksX3_cannotMove_2 6 rfl rfl)
theorem dX3_cannotMove_56 : decode cX3_cannotMove 56 = .ok (.invokestatic 113, 3) := dk_184 0 113 (dk_at dksX3_cannotMove_2 9 rfl rfl)
theorem dX3_cannotMove_59 : decode cX3_cannotMove 59 = .ok (.iadd, 1) := dk_96 (dk_at dksX3_cannotMove_2 12 rfl rfl)
theorem dX3_cannotMove_60 : decode cX3_cannotMove 60 = .ok (.ldc 116, 2) := dk_18 116 (dk_at dksX3_cannotMove_2 13 rfl rfl)
theorem dX3_cannotMove_62 : decode cX3_cannotMove 62 = .ok (.if_icmp .le 8, 3) := dk_164 0 8 (dk_at dksX3_cannotMove_2 15 rfl rfl)
theorem dX3_cannotMove_65 : decode cX3_cannotMove 65 = .ok (.bipush (-5), 2) := dk_16 251 (dk_at dksX3_cannotMove_2 18 rfl rfl)
theorem dX3_cannotMove_67 : decode cX3_cannotMove 67 = .ok (.goto 4, 3) := dk_167 0 4 (dk_at dksX3_cannotMove_2 20 rfl rfl)
theorem dX3_cannotMove_70 : decode cX3_cannotMove 70 = .ok (.iconst 0, 1) := dk_3 (dk_at dksX3_cannotMove_2 23 rfl rfl)
theorem dX3_cannotMove_71 : decode cX3_cannotMove 71 = .ok (.ireturn, 1) := dk_172 (dk_at dksX3_cannotMove_3 0 rfl rfl)
abbrev cX3_isNoMove : ByteArray := prog_10_method_46_code
def yX3_isNoMove : MethodName := ⟨RX3, "isNoMove", "(IIII)I"⟩
def dkwX3_isNoMove_2 : List UInt8 := [167, 0, 4, 3, 172]
abbrev dktX3_isNoMove_2 : List UInt8 := dkwX3_isNoMove_2 ++ []
def dkwX3_isNoMove_1 : List UInt8 := [16, 254, 172, 28, 29, 159, 0, 15, 21, 4, 4, 17, 78, 32, 184, 0, 41, 154, 0, 8, 16, 253]
abbrev dktX3_isNoMove_1 : List UInt8 := dkwX3_isNoMove_1 ++ dktX3_isNoMove_2
def dkwX3_isNoMove_0 : List UInt8 := [42, 27, 182, 0, 63, 153, 0, 19, 42, 28, 182, 0, 59, 153, 0, 11, 42, 29, 182, 0, 59, 154, 0, 6]
abbrev dktX3_isNoMove_0 : List UInt8 := dkwX3_isNoMove_0 ++ dktX3_isNoMove_1
theorem dksX3_isNoMove_0 : cX3_isNoMove.data.toList.drop 0 = dktX3_isNoMove_0 := by decide +kernel
theorem dksX3_isNoMove_1 : cX3_isNoMove.data.toList.drop 24 = dktX3_isNoMove_1 := dk_seg dksX3_isNoMove_0 24 rfl rfl
theorem dksX3_isNoMove_2 : cX3_isNoMove.data.toList.drop 46 = dktX3_isNoMove_2 := dk_seg dksX3_isNoMove_1 22 rfl rfl
theorem dX3_isNoMove_0 : decode cX3_isNoMove 0 = .ok (.aload_n 0, 1) := dk_42 (dk_at dksX3_isNoMove_0 0 rfl rfl)
theorem dX3_isNoMove_1 : decode cX3_isNoMove 1 = .ok (.iload_n 1, 1) := dk_27 (dk_at dksX3_isNoMove_0 1 rfl rfl)
theorem dX3_isNoMove_2 : decode cX3_isNoMove 2 = .ok (.invokevirtual 63, 3) := dk_182 0 63 (dk_at dksX3_isNoMove_0 2 rfl rfl)
theorem dX3_isNoMove_5 : decode cX3_isNoMove 5 = .ok (.ifCond .eq 19, 3) := dk_153 0 19 (dk_at dksX3_isNoMove_0 5 rfl rfl)
theorem dX3_isNoMove_8 : decode cX3_isNoMove 8 = .ok (.aload_n 0, 1) := dk_42 (dk_at dksX3_isNoMove_0 8 rfl rfl)
theorem dX3_isNoMove_9 : decode cX3_isNoMove 9 = .ok (.iload_n 2, 1) := dk_28 (dk_at dksX3_isNoMove_0 9 rfl rfl)
theorem dX3_isNoMove_10 : decode cX3_isNoMove 10 = .ok (.invokevirtual 59, 3) := dk_182 0 59 (dk_at dksX3_isNoMove_0 10 rfl rfl)
theorem dX3_isNoMove_13 : decode cX3_isNoMove 13 = .ok (.ifCond .eq 11, 3) := dk_153 0 11 (dk_at dksX3_isNoMove_0 13 rfl rfl)
theorem dX3_isNoMove_16 : decode cX3_isNoMove 16 = .ok (.aload_n 0, 1) := dk_42 (dk_at dksX3_isNoMove_0 16 rfl rfl)
theorem dX3_isNoMove_17 : decode cX3_isNoMove 17 = .ok (.iload_n 3, 1) := dk_29 (dk_at dksX3_isNoMove_0 17 rfl rfl)
theorem dX3_isNoMove_18 : decode cX3_isNoMove 18 = .ok (.invokevirtual 59, 3) := dk_182 0 59 (dk_at dksX3_isNoMove_0 18 rfl rfl)
theorem dX3_isNoMove_21 : decode cX3_isNoMove 21 = .ok (.ifCond .ne 6, 3) := dk_154 0 6 (dk_at dksX3_isNoMove_0 21 rfl rfl)
theorem dX3_isNoMove_24 : decode cX3_isNoMove 24 = .ok (.bipush (-2), 2) := dk_16 254 (dk_at dksX3_isNoMove_1 0 rfl rfl)
theorem dX3_isNoMove_26 : decode cX3_isNoMove 26 = .ok (.ireturn, 1) := dk_172 (dk_at dksX3_isNoMove_1 2 rfl rfl)
theorem dX3_isNoMove_27 : decode cX3_isNoMove 27 = .ok (.iload_n 2, 1) := dk_28 (dk_at dksX3_isNoMove_1 3 rfl rfl)
theorem dX3_isNoMove_28 : decode cX3_isNoMove 28 = .ok (.iload_n 3, 1) := dk_29 (dk_at dksX3_isNoMove_1 4 rfl rfl)
theorem dX3_isNoMove_29 : decode cX3_isNoMove 29 = .ok (.if_icmp .eq 15, 3) := dk_159 0 15 (dk_at dksX3_isNoMove_1 5 rfl rfl)
theorem dX3_isNoMove_32 : decode cX3_isNoMove 32 = .ok (.iload 4, 2) := dk_21 4 (dk_at dksX3_isNoMove_1 8 rfl rfl)
theorem dX3_isNoMove_34 : decode cX3_isNoMove 34 = .ok (.iconst 1, 1) := dk_4 (dk_at dksX3_isNoMove_1 10 rfl rfl)
theorem dX3_isNoMove_35 : decode cX3_isNoMove 35 = .ok (.sipush 20000, 3) := dk_17 78 32 (dk_at dksX3_isNoMove_1 11 rfl rfl)
theorem dX3_isNoMove_38 : decode cX3_isNoMove 38 = .ok (.invokestatic 41, 3) := dk_184 0 41 (dk_at dksX3_isNoMove_1 14 rfl rfl)
theorem dX3_isNoMove_41 : decode cX3_isNoMove 41 = .ok (.ifCond .ne 8, 3) := dk_154 0 8 (dk_at dksX3_isNoMove_1 17 rfl rfl)
theorem dX3_isNoMove_44 : decode cX3_isNoMove 44 = .ok (.bipush (-3), 2) := dk_16 253 (dk_at dksX3_isNoMove_1 20 rfl rfl)
theorem dX3_isNoMove_46 : decode cX3_isNoMove 46 = .ok (.goto 4, 3) := dk_167 0 4 (dk_at dksX3_isNoMove_2 0 rfl rfl)
theorem dX3_isNoMove_49 : decode cX3_isNoMove 49 = .ok (.iconst 0, 1) := dk_3 (dk_at dksX3_isNoMove_2 3 rfl rfl)
theorem dX3_isNoMove_50 : decode cX3_isNoMove 50 = .ok (.ireturn, 1) := dk_172 (dk_at dksX3_isNoMove_2 4 rfl rfl)
abbrev cX3_whyNotMove : ByteArray := prog_10_method_45_code
def yX3_whyNotMove : MethodName := ⟨RX3, "whyNotMove", "(IIII)I"⟩
def dkwX3_whyNotMove_1 : List UInt8 := [21, 4, 42, 28, 21, 4, 182, 0, 96, 21, 4, 108, 182, 0, 106, 172]
abbrev dktX3_whyNotMove_1 : List UInt8 := dkwX3_whyNotMove_1 ++ []
def dkwX3_whyNotMove_0 : List UInt8 := [42, 28, 6, 182, 0, 45, 21, 4, 162, 0, 6, 16, 7, 172, 42, 27, 28, 29, 42, 28, 8, 182, 0, 45]
abbrev dktX3_whyNotMove_0 : List UInt8 := dkwX3_whyNotMove_0 ++ dktX3_whyNotMove_1
theorem dksX3_whyNotMove_0 : cX3_whyNotMove.data.toList.drop 0 = dktX3_whyNotMove_0 := by decide +kernel
theorem dksX3_whyNotMove_1 : cX3_whyNotMove.data.toList.drop 24 = dktX3_whyNotMove_1 := dk_seg dksX3_whyNotMove_0 24 rfl rfl
theorem dX3_whyNotMove_0 : decode cX3_whyNotMove 0 = .ok (.aload_n 0, 1) := dk_42 (dk_at dksX3_whyNotMove_0 0 rfl rfl)
theorem dX3_whyNotMove_1 : decode cX3_whyNotMove 1 = .ok (.iload_n 2, 1) := dk_28 (dk_at dksX3_whyNotMove_0 1 rfl rfl)
theorem dX3_whyNotMove_2 : decode cX3_whyNotMove 2 = .ok (.iconst 3, 1) := dk_6 (dk_at dksX3_whyNotMove_0 2 rfl rfl)
theorem dX3_whyNotMove_3 : decode cX3_whyNotMove 3 = .ok (.invokevirtual 45, 3) := dk_182 0 45 (dk_at dksX3_whyNotMove_0 3 rfl rfl)
theorem dX3_whyNotMove_6 : decode cX3_whyNotMove 6 = .ok (.iload 4, 2) := dk_21 4 (dk_at dksX3_whyNotMove_0 6 rfl rfl)
theorem dX3_whyNotMove_8 : decode cX3_whyNotMove 8 = .ok (.if_icmp .ge 6, 3) := dk_162 0 6 (dk_at dksX3_whyNotMove_0 8 rfl rfl)
theorem dX3_whyNotMove_11 : decode cX3_whyNotMove 11 = .ok (.bipush 7, 2) := dk_16 7 (dk_at dksX3_whyNotMove_0 11 rfl rfl)
theorem dX3_whyNotMove_13 : decode cX3_whyNotMove 13 = .ok (.ireturn, 1) := dk_172 (dk_at dksX3_whyNotMove_0 13 rfl rfl)
theorem dX3_whyNotMove_14 : decode cX3_whyNotMove 14 = .ok (.aload_n 0, 1) := dk_42 (dk_at dksX3_whyNotMove_0 14 rfl rfl)
theorem dX3_whyNotMove_15 : decode cX3_whyNotMove 15 = .ok (.iload_n 1, 1) := dk_27 (dk_at dksX3_whyNotMove_0 15 rfl rfl)
theorem dX3_whyNotMove_16 : decode cX3_whyNotMove 16 = .ok (.iload_n 2, 1) := dk_28 (dk_at dksX3_whyNotMove_0 16 rfl rfl)
theorem dX3_whyNotMove_17 : decode cX3_whyNotMove 17 = .ok (.iload_n 3, 1) := dk_29 (dk_at dksX3_whyNotMove_0 17 rfl rfl)
theorem dX3_whyNotMove_18 : decode cX3_whyNotMove 18 = .ok (.aload_n 0, 1) := dk_42 (dk_at dksX3_whyNotMove_0 18 rfl rfl)
theorem dX3_whyNotMove_19 : decode cX3_whyNotMove 19 = .ok (.iload_n 2, 1) := dk_28 (dk_at dksX3_whyNotMove_0 19 rfl rfl)
theorem dX3_whyNotMove_20 : decode cX3_whyNotMove 20 = .ok (.iconst 5, 1) := dk_8 (dk_at dksX3_whyNotMove_0 20 rfl rfl)
theorem dX3_whyNotMove_21 : decode cX3_whyNotMove 21 = .ok (.invokevirtual 45, 3) := dk_182 0 45 (dk_at dksX3_whyNotMove_0 21 rfl rfl)
theorem dX3_whyNotMove_24 : decode cX3_whyNotMove 24 = .ok (.iload 4, 2) := dk_21 4 (dk_at dksX3_whyNotMove_1 0 rfl rfl)
theorem dX3_whyNotMove_26 : decode cX3_whyNotMove 26 = .ok (.aload_n 0, 1) := dk_42 (dk_at dksX3_whyNotMove_1 2 rfl rfl)
theorem dX3_whyNotMove_27 : decode cX3_whyNotMove 27 = .ok (.iload_n 2, 1) := dk_28 (dk_at dksX3_whyNotMove_1 3 rfl rfl)
theorem dX3_whyNotMove_28 : decode cX3_whyNotMove 28 = .ok (.iload 4, 2) := dk_21 4 (dk_at dksX3_whyNotMove_1 4 rfl rfl)
theorem dX3_whyNotMove_30 : decode cX3_whyNotMove 30 = .ok (.invokevirtual 96, 3) := dk_182 0 96 (dk_at dksX3_whyNotMove_1 6 rfl rfl)
theorem dX3_whyNotMove_33 : decode cX3_whyNotMove 33 = .ok (.iload 4, 2) := dk_21 4 (dk_at dksX3_whyNotMove_1 9 rfl rfl)
theorem dX3_whyNotMove_35 : decode cX3_whyNotMove 35 = .ok (.idiv, 1) := dk_108 (dk_at dksX3_whyNotMove_1 11 rfl rfl)
theorem dX3_whyNotMove_36 : decode cX3_whyNotMove 36 = .ok (.invokevirtual 106, 3) := dk_182 0 106 (dk_at dksX3_whyNotMove_1 12 rfl rfl)
theorem dX3_whyNotMove_39 : decode cX3_whyNotMove 39 = .ok (.ireturn, 1) := dk_172 (dk_at dksX3_whyNotMove_1 15 rfl rfl)
abbrev cX3_share : ByteArray := prog_10_method_34_code
def yX3_share : MethodName := ⟨RX3, "share", "(II)I"⟩
def dkwX3_share_1 : List UInt8 := [182, 0, 45, 133, 28, 133, 105, 42, 27, 6, 182, 0, 45, 133, 109, 136, 172]
abbrev dktX3_share_1 : List UInt8 := dkwX3_share_1 ++ []
def dkwX3_share_0 : List UInt8 := [28, 42, 27, 6, 182, 0, 45, 160, 0, 12, 42, 27, 7, 182, 0, 45, 167, 0, 22, 42, 27, 7]
abbrev dktX3_share_0 : List UInt8 := dkwX3_share_0 ++ dktX3_share_1
theorem dksX3_share_0 : cX3_share.data.toList.drop 0 = dktX3_share_0 := by decide +kernel
theorem dksX3_share_1 : cX3_share.data.toList.drop 22 = dktX3_share_1 := dk_seg dksX3_share_0 22 rfl rfl
theorem dX3_share_0 : decode cX3_share 0 = .ok (.iload_n 2, 1) := dk_28 (dk_at dksX3_share_0 0 rfl rfl)
theorem dX3_share_1 : decode cX3_share 1 = .ok (.aload_n 0, 1) := dk_42 (dk_at dksX3_share_0 1 rfl rfl)
theorem dX3_share_2 : decode cX3_share 2 = .ok (.iload_n 1, 1) := dk_27 (dk_at dksX3_share_0 2 rfl rfl)
theorem dX3_share_3 : decode cX3_share 3 = .ok (.iconst 3, 1) := dk_6 (dk_at dksX3_share_0 3 rfl rfl)
theorem dX3_share_4 : decode cX3_share 4 = .ok (.invokevirtual 45, 3) := dk_182 0 45 (dk_at dksX3_share_0 4 rfl rfl)
theorem dX3_share_7 : decode cX3_share 7 = .ok (.if_icmp .ne 12, 3) := dk_160 0 12 (dk_at dksX3_share_0 7 rfl rfl)
theorem dX3_share_10 : decode cX3_share 10 = .ok (.aload_n 0, 1) := dk_42 (dk_at dksX3_share_0 10 rfl rfl)
theorem dX3_share_11 : decode cX3_share 11 = .ok (.iload_n 1, 1) := dk_27 (dk_at dksX3_share_0 11 rfl rfl)
theorem dX3_share_12 : decode cX3_share 12 = .ok (.iconst 4, 1) := dk_7 (dk_at dksX3_share_0 12 rfl rfl)
theorem dX3_share_13 : decode cX3_share 13 = .ok (.invokevirtual 45, 3) := dk_182 0 45 (dk_at dksX3_share_0 13 rfl rfl)
theorem dX3_share_16 : decode cX3_share 16 = .ok (.goto 22, 3) := dk_167 0 22 (dk_at dksX3_share_0 16 rfl rfl)
theorem dX3_share_19 : decode cX3_share 19 = .ok (.aload_n 0, 1) := dk_42 (dk_at dksX3_share_0 19 rfl rfl)
theorem dX3_share_20 : decode cX3_share 20 = .ok (.iload_n 1, 1) := dk_27 (dk_at dksX3_share_0 20 rfl rfl)
theorem dX3_share_21 : decode cX3_share 21 = .ok (.iconst 4, 1) := dk_7 (dk_at dksX3_share_0 21 rfl rfl)
theorem dX3_share_22 : decode cX3_share 22 = .ok (.invokevirtual 45, 3) := dk_182 0 45 (dk_at dksX3_share_1 0 rfl rfl)
theorem dX3_share_25 : decode cX3_share 25 = .ok (.i2l, 1) := dk_133 (dk_at dksX3_share_1 3 rfl rfl)
theorem dX3_share_26 : decode cX3_share 26 = .ok (.iload_n 2, 1) := dk_28 (dk_at dksX3_share_1 4 rfl rfl)
theorem dX3_share_27 : decode cX3_share 27 = .ok (.i2l, 1) := dk_133 (dk_at dksX3_share_1 5 rfl rfl)
theorem dX3_share_28 : decode cX3_share 28 = .ok (.lmul, 1) := dk_105 (dk_at dksX3_share_1 6 rfl rfl)
theorem dX3_share_29 : decode cX3_share 29 = .ok (.aload_n 0, 1) := dk_42 (dk_at dksX3_share_1 7 rfl rfl)
theorem dX3_share_30 : decode cX3_share 30 = .ok (.iload_n 1, 1) := dk_27 (dk_at dksX3_share_1 8 rfl rfl)
theorem dX3_share_31 : decode cX3_share 31 = .ok (.iconst 3, 1) := dk_6 (dk_at dksX3_share_1 9 rfl rfl)
theorem dX3_share_32 : decode cX3_share 32 = .ok (.invokevirtual 45, 3) := dk_182 0 45 (dk_at dksX3_share_1 10 rfl rfl)
theorem dX3_share_35 : decode cX3_share 35 = .ok (.i2l, 1) := dk_133 (dk_at dksX3_share_1 13 rfl rfl)
theorem dX3_share_36 : decode cX3_share 36 = .ok (.ldiv, 1) := dk_109 (dk_at dksX3_share_1 14 rfl rfl)
theorem dX3_share_37 : decode cX3_share 37 = .ok (.l2i, 1) := dk_136 (dk_at dksX3_share_1 15 rfl rfl)
theorem dX3_share_38 : decode cX3_share 38 = .ok (.ireturn, 1) := dk_172 (dk_at dksX3_share_1 16 rfl rfl)
abbrev cX3_moves : ByteArray := prog_10_method_48_code
def yX3_moves : MethodName := ⟨RX3, "moves", "(IIII)I"⟩
def dkwX3_moves_2 : List UInt8 := [21, 6, 182, 0, 124, 21, 6, 172]
abbrev dktX3_moves_2 : List UInt8 := dkwX3_moves_2 ++ []
def dkwX3_moves_1 : List UInt8 := [28, 21, 4, 182, 0, 143, 54, 6, 42, 29, 21, 5, 21, 4, 21, 6, 182, 0, 120, 42, 27, 21, 4]
abbrev dktX3_moves_1 : List UInt8 := dkwX3_moves_1 ++ dktX3_moves_2
def dkwX3_moves_0 : List UInt8 := [42, 21, 4, 42, 27, 3, 182, 0, 49, 184, 0, 113, 182, 0, 117, 42, 28, 8, 182, 0, 45, 54, 5, 42]
abbrev dktX3_moves_0 : List UInt8 := dkwX3_moves_0 ++ dktX3_moves_1
theorem dksX3_moves_0 : cX3_moves.data.toList.drop 0 = dktX3_moves_0 := by decide +kernel
theorem dksX3_moves_1 : cX3_moves.data.toList.drop 24 = dktX3_moves_1 := dk_seg dksX3_moves_0 24 rfl rfl
theorem dksX3_moves_2 : cX3_moves.data.toList.drop 47 = dktX3_moves_2 := dk_seg dksX3_moves_1 23 rfl rfl
theorem dX3_moves_0 : decode cX3_moves 0 = .ok (.aload_n 0, 1) := dk_42 (dk_at dksX3_moves_0 0 rfl rfl)
theorem dX3_moves_1 : decode cX3_moves 1 = .ok (.iload 4, 2) := dk_21 4 (dk_at dksX3_moves_0 1 rfl rfl)
theorem dX3_moves_3 : decode cX3_moves 3 = .ok (.aload_n 0, 1) := dk_42 (dk_at dksX3_moves_0 3 rfl rfl)
theorem dX3_moves_4 : decode cX3_moves 4 = .ok (.iload_n 1, 1) := dk_27 (dk_at dksX3_moves_0 4 rfl rfl)
theorem dX3_moves_5 : decode cX3_moves 5 = .ok (.iconst 0, 1) := dk_3 (dk_at dksX3_moves_0 5 rfl rfl)
theorem dX3_moves_6 : decode cX3_moves 6 = .ok (.invokevirtual 49, 3) := dk_182 0 49 (dk_at dksX3_moves_0 6 rfl rfl)
theorem dX3_moves_9 : decode cX3_moves 9 = .ok (.invokestatic 113, 3) := dk_184 0 113 (dk_at dksX3_moves_0 9 rfl rfl)
theorem dX3_moves_12 : decode cX3_moves 12 = .ok (.invokevirtual 117, 3) := dk_182 0 117 (dk_at dksX3_moves_0 12 rfl rfl)
theorem dX3_moves_15 : decode cX3_moves 15 = .ok (.aload_n 0, 1) := dk_42 (dk_at dksX3_moves_0 15 rfl rfl)
theorem dX3_moves_16 : decode cX3_moves 16 = .ok (.iload_n 2, 1) := dk_28 (dk_at dksX3_moves_0 16 rfl rfl)
theorem dX3_moves_17 : decode cX3_moves 17 = .ok (.iconst 5, 1) := dk_8 (dk_at dksX3_moves_0 17 rfl rfl)
theorem dX3_moves_18 : decode cX3_moves 18 = .ok (.invokevirtual 45, 3) := dk_182 0 45 (dk_at dksX3_moves_0 18 rfl rfl)
theorem dX3_moves_21 : decode cX3_moves 21 = .ok (.istore 5, 2) := dk_54 5 (dk_at dksX3_moves_0 21 rfl rfl)
theorem dX3_moves_23 : decode cX3_moves 23 = .ok (.aload_n 0, 1) := dk_42 (dk_at dksX3_moves_0 23 rfl rfl)
theorem dX3_moves_24 : decode cX3_moves 24 = .ok (.iload_n 2, 1) := dk_28 (dk_at dksX3_moves_1 0 rfl rfl)
theorem dX3_moves_25 : decode cX3_moves 25 = .ok (.iload 4, 2) := dk_21 4 (dk_at dksX3_moves_1 1 rfl rfl)
theorem dX3_moves_27 : decode cX3_moves 27 = .ok (.invokevirtual 143, 3) := dk_182 0 143 (dk_at dksX3_moves_1 3 rfl rfl)
theorem dX3_moves_30 : decode cX3_moves 30 = .ok (.istore 6, 2) := dk_54 6 (dk_at dksX3_moves_1 6 rfl rfl)
theorem dX3_moves_32 : decode cX3_moves 32 = .ok (.aload_n 0, 1) := dk_42 (dk_at dksX3_moves_1 8 rfl rfl)
theorem dX3_moves_33 : decode cX3_moves 33 = .ok (.iload_n 3, 1) := dk_29 (dk_at dksX3_moves_1 9 rfl rfl)
theorem dX3_moves_34 : decode cX3_moves 34 = .ok (.iload 5, 2) := dk_21 5 (dk_at dksX3_moves_1 10 rfl rfl)
theorem dX3_moves_36 : decode cX3_moves 36 = .ok (.iload 4, 2) := dk_21 4 (dk_at dksX3_moves_1 12 rfl rfl)
theorem dX3_moves_38 : decode cX3_moves 38 = .ok (.iload 6, 2) := dk_21 6 (dk_at dksX3_moves_1 14 rfl rfl)
theorem dX3_moves_40 : decode cX3_moves 40 = .ok (.invokevirtual 120, 3) := dk_182 0 120 (dk_at dksX3_moves_1 16 rfl rfl)
theorem dX3_moves_43 : decode cX3_moves 43 = .ok (.aload_n 0, 1) := dk_42 (dk_at dksX3_moves_1 19 rfl rfl)
theorem dX3_moves_44 : decode cX3_moves 44 = .ok (.iload_n 1, 1) := dk_27 (dk_at dksX3_moves_1 20 rfl rfl)
theorem dX3_moves_45 : decode cX3_moves 45 = .ok (.iload 4, 2) := dk_21 4 (dk_at dksX3_moves_1 21 rfl rfl)
theorem dX3_moves_47 : decode cX3_moves 47 = .ok (.iload 6, 2) := dk_21 6 (dk_at dksX3_moves_2 0 rfl rfl)
theorem dX3_moves_49 : decode cX3_moves 49 = .ok (.invokevirtual 124, 3) := dk_182 0 124 (dk_at dksX3_moves_2 2 rfl rfl)
theorem dX3_moves_52 : decode cX3_moves 52 = .ok (.iload 6, 2) := dk_21 6 (dk_at dksX3_moves_2 5 rfl rfl)
theorem dX3_moves_54 : decode cX3_moves 54 = .ok (.ireturn, 1) := dk_172 (dk_at dksX3_moves_2 7 rfl rfl)
abbrev cX3_takes : ByteArray := prog_10_method_37_code
def yX3_takes : MethodName := ⟨RX3, "takes", "(II)I"⟩
def dkwX3_takes_2 : List UInt8 := [182, 0, 55, 42, 27, 6, 182, 0, 45, 154, 0, 8, 42, 27, 182, 0, 99, 29, 172]
abbrev dktX3_takes_2 : List UInt8 := dkwX3_takes_2 ++ []
def dkwX3_takes_1 : List UInt8 := [42, 27, 7, 182, 0, 45, 29, 100, 182, 0, 55, 42, 27, 16, 8, 42, 27, 16, 8, 182, 0, 45, 28, 96]
abbrev dktX3_takes_1 : List UInt8 := dkwX3_takes_1 ++ dktX3_takes_2
def dkwX3_takes_0 : List UInt8 := [42, 27, 28, 182, 0, 96, 62, 42, 27, 6, 42, 27, 6, 182, 0, 45, 28, 100, 182, 0, 55, 42, 27, 7]
abbrev dktX3_takes_0 : List UInt8 := dkwX3_takes_0 ++ dktX3_takes_1
theorem dksX3_takes_0 : cX3_takes.data.toList.drop 0 = dktX3_takes_0 := by decide +kernel
theorem dksX3_takes_1 : cX3_takes.data.toList.drop 24 = dktX3_takes_1 := dk_seg dksX3_takes_0 24 rfl rfl
theorem dksX3_takes_2 : cX3_takes.data.toList.drop 48 = dktX3_takes_2 := dk_seg dksX3_takes_1 24 rfl rfl
theorem dX3_takes_0 : decode cX3_takes 0 = .ok (.aload_n 0, 1) := dk_42 (dk_at dksX3_takes_0 0 rfl rfl)
theorem dX3_takes_1 : decode cX3_takes 1 = .ok (.iload_n 1, 1) := dk_27 (dk_at dksX3_takes_0 1 rfl rfl)
theorem dX3_takes_2 : decode cX3_takes 2 = .ok (.iload_n 2, 1) := dk_28 (dk_at dksX3_takes_0 2 rfl rfl)
theorem dX3_takes_3 : decode cX3_takes 3 = .ok (.invokevirtual 96, 3) := dk_182 0 96 (dk_at dksX3_takes_0 3 rfl rfl)
theorem dX3_takes_6 : decode cX3_takes 6 = .ok (.istore_n 3, 1) := dk_62 (dk_at dksX3_takes_0 6 rfl rfl)
theorem dX3_takes_7 : decode cX3_takes 7 = .ok (.aload_n 0, 1) := dk_42 (dk_at dksX3_takes_0 7 rfl rfl)
theorem dX3_takes_8 : decode cX3_takes 8 = .ok (.iload_n 1, 1) := dk_27 (dk_at dksX3_takes_0 8 rfl rfl)
theorem dX3_takes_9 : decode cX3_takes 9 = .ok (.iconst 3, 1) := dk_6 (dk_at dksX3_takes_0 9 rfl rfl)
theorem dX3_takes_10 : decode cX3_takes 10 = .ok (.aload_n 0, 1) := dk_42 (dk_at dksX3_takes_0 10 rfl rfl)
theorem dX3_takes_11 : decode cX3_takes 11 = .ok (.iload_n 1, 1) := dk_27 (dk_at dksX3_takes_0 11 rfl rfl)
theorem dX3_takes_12 : decode cX3_takes 12 = .ok (.iconst 3, 1) := dk_6 (dk_at dksX3_takes_0 12 rfl rfl)
theorem dX3_takes_13 : decode cX3_takes 13 = .ok (.invokevirtual 45, 3) := dk_182 0 45 (dk_at dksX3_takes_0 13 rfl rfl)
theorem dX3_takes_16 : decode cX3_takes 16 = .ok (.iload_n 2, 1) := dk_28 (dk_at dksX3_takes_0 16 rfl rfl)
theorem dX3_takes_17 : decode cX3_takes 17 = .ok (.isub, 1) := dk_100 (dk_at dksX3_takes_0 17 rfl rfl)
theorem dX3_takes_18 : decode cX3_takes 18 = .ok (.invokevirtual 55, 3) := dk_182 0 55 (dk_at dksX3_takes_0 18 rfl rfl)
theorem dX3_takes_21 : decode cX3_takes 21 = .ok (.aload_n 0, 1) := dk_42 (dk_at dksX3_takes_0 21 rfl rfl)
theorem dX3_takes_22 : decode cX3_takes 22 = .ok (.iload_n 1, 1) := dk_27 (dk_at dksX3_takes_0 22 rfl rfl)
theorem dX3_takes_23 : decode cX3_takes 23 = .ok (.iconst 4, 1) := dk_7 (dk_at dksX3_takes_0 23 rfl rfl)
theorem dX3_takes_24 : decode cX3_takes 24 = .ok (.aload_n 0, 1) := dk_42 (dk_at dksX3_takes_1 0 rfl rfl)
theorem dX3_takes_25 : decode cX3_takes 25 = .ok (.iload_n 1, 1) := dk_27 (dk_at dksX3_takes_1 1 rfl rfl)
theorem dX3_takes_26 : decode cX3_takes 26 = .ok (.iconst 4, 1) := dk_7 (dk_at dksX3_takes_1 2 rfl rfl)
theorem dX3_takes_27 : decode cX3_takes 27 = .ok (.invokevirtual 45, 3) := dk_182 0 45 (dk_at dksX3_takes_1 3 rfl rfl)
theorem dX3_takes_30 : decode cX3_takes 30 = .ok (.iload_n 3, 1) := dk_29 (dk_at dksX3_takes_1 6 rfl rfl)
theorem dX3_takes_31 : decode cX3_takes 31 = .ok (.isub, 1) := dk_100 (dk_at dksX3_takes_1 7 rfl rfl)
theorem dX3_takes_32 : decode cX3_takes 32 = .ok (.invokevirtual 55, 3) := dk_182 0 55 (dk_at dksX3_takes_1 8 rfl rfl)
theorem dX3_takes_35 : decode cX3_takes 35 = .ok (.aload_n 0, 1) := dk_42 (dk_at dksX3_takes_1 11 rfl rfl)
theorem dX3_takes_36 : decode cX3_takes 36 = .ok (.iload_n 1, 1) := dk_27 (dk_at dksX3_takes_1 12 rfl rfl)
theorem dX3_takes_37 : decode cX3_takes 37 = .ok (.bipush 8, 2) := dk_16 8 (dk_at dksX3_takes_1 13 rfl rfl)
theorem dX3_takes_39 : decode cX3_takes 39 = .ok (.aload_n 0, 1) := dk_42 (dk_at dksX3_takes_1 15 rfl rfl)
theorem dX3_takes_40 : decode cX3_takes 40 = .ok (.iload_n 1, 1) := dk_27 (dk_at dksX3_takes_1 16 rfl rfl)
theorem dX3_takes_41 : decode cX3_takes 41 = .ok (.bipush 8, 2) := dk_16 8 (dk_at dksX3_takes_1 17 rfl rfl)
theorem dX3_takes_43 : decode cX3_takes 43 = .ok (.invokevirtual 45, 3) := dk_182 0 45 (dk_at dksX3_takes_1 19 rfl rfl)
theorem dX3_takes_46 : decode cX3_takes 46 = .ok (.iload_n 2, 1) := dk_28 (dk_at dksX3_takes_1 22 rfl rfl)
theorem dX3_takes_47 : decode cX3_takes 47 = .ok (.iadd, 1) := dk_96 (dk_at dksX3_takes_1 23 rfl rfl)
theorem dX3_takes_48 : decode cX3_takes 48 = .ok (.invokevirtual 55, 3) := dk_182 0 55 (dk_at dksX3_takes_2 0 rfl rfl)
theorem dX3_takes_51 : decode cX3_takes 51 = .ok (.aload_n 0, 1) := dk_42 (dk_at dksX3_takes_2 3 rfl rfl)
theorem dX3_takes_52 : decode cX3_takes 52 = .ok (.iload_n 1, 1) := dk_27 (dk_at dksX3_takes_2 4 rfl rfl)
theorem dX3_takes_53 : decode cX3_takes 53 = .ok (.iconst 3, 1) := dk_6 (dk_at dksX3_takes_2 5 rfl rfl)
theorem dX3_takes_54 : decode cX3_takes 54 = .ok (.invokevirtual 45, 3) := dk_182 0 45 (dk_at dksX3_takes_2 6 rfl rfl)
theorem dX3_takes_57 : decode cX3_takes 57 = .ok (.ifCond .ne 8, 3) := dk_154 0 8 (dk_at dksX3_takes_2 9 rfl rfl)
theorem dX3_takes_60 : decode cX3_takes 60 = .ok (.aload_n 0, 1) := dk_42 (dk_at dksX3_takes_2 12 rfl rfl)
theorem dX3_takes_61 : decode cX3_takes 61 = .ok (.iload_n 1, 1) := dk_27 (dk_at dksX3_takes_2 13 rfl rfl)
theorem dX3_takes_62 : decode cX3_takes 62 = .ok (.invokevirtual 99, 3) := dk_182 0 99 (dk_at dksX3_takes_2 14 rfl rfl)
theorem dX3_takes_65 : decode cX3_takes 65 = .ok (.iload_n 3, 1) := dk_29 (dk_at dksX3_takes_2 17 rfl rfl)
theorem dX3_takes_66 : decode cX3_takes 66 = .ok (.ireturn, 1) := dk_172 (dk_at dksX3_takes_2 18 rfl rfl)
abbrev cX3_empties : ByteArray := prog_10_method_36_code
def yX3_empties : MethodName := ⟨RX3, "empties", "(I)V"⟩
def dkwX3_empties_0 : List UInt8 := [42, 27, 7, 3, 182, 0, 55, 42, 27, 8, 2, 182, 0, 55, 42, 27, 16, 6, 3, 182, 0, 55, 177]
abbrev dktX3_empties_0 : List UInt8 := dkwX3_empties_0 ++ []
theorem dksX3_empties_0 : cX3_empties.data.toList.drop 0 = dktX3_empties_0 := by decide +kernel
theorem dX3_empties_0 : decode cX3_empties 0 = .ok (.aload_n 0, 1) := dk_42 (dk_at dksX3_empties_0 0 rfl rfl)
theorem dX3_empties_1 : decode cX3_empties 1 = .ok (.iload_n 1, 1) := dk_27 (dk_at dksX3_empties_0 1 rfl rfl)
theorem dX3_empties_2 : decode cX3_empties 2 = .ok (.iconst 4, 1) := dk_7 (dk_at dksX3_empties_0 2 rfl rfl)
theorem dX3_empties_3 : decode cX3_empties 3 = .ok (.iconst 0, 1) := dk_3 (dk_at dksX3_empties_0 3 rfl rfl)
theorem dX3_empties_4 : decode cX3_empties 4 = .ok (.invokevirtual 55, 3) := dk_182 0 55 (dk_at dksX3_empties_0 4 rfl rfl)
theorem dX3_empties_7 : decode cX3_empties 7 = .ok (.aload_n 0, 1) := dk_42 (dk_at dksX3_empties_0 7 rfl rfl)
theorem dX3_empties_8 : decode cX3_empties 8 = .ok (.iload_n 1, 1) := dk_27 (dk_at dksX3_empties_0 8 rfl rfl)
theorem dX3_empties_9 : decode cX3_empties 9 = .ok (.iconst 5, 1) := dk_8 (dk_at dksX3_empties_0 9 rfl rfl)
theorem dX3_empties_10 : decode cX3_empties 10 = .ok (.iconst (-1), 1) := dk_2 (dk_at dksX3_empties_0 10 rfl rfl)
theorem dX3_empties_11 : decode cX3_empties 11 = .ok (.invokevirtual 55, 3) := dk_182 0 55 (dk_at dksX3_empties_0 11 rfl rfl)
theorem dX3_empties_14 : decode cX3_empties 14 = .ok (.aload_n 0, 1) := dk_42 (dk_at dksX3_empties_0 14 rfl rfl)
theorem dX3_empties_15 : decode cX3_empties 15 = .ok (.iload_n 1, 1) := dk_27 (dk_at dksX3_empties_0 15 rfl rfl)
theorem dX3_empties_16 : decode cX3_empties 16 = .ok (.bipush 6, 2) := dk_16 6 (dk_at dksX3_empties_0 16 rfl rfl)
theorem dX3_empties_18 : decode cX3_empties 18 = .ok (.iconst 0, 1) := dk_3 (dk_at dksX3_empties_0 18 rfl rfl)
theorem dX3_empties_19 : decode cX3_empties 19 = .ok (.invokevirtual 55, 3) := dk_182 0 55 (dk_at dksX3_empties_0 19 rfl rfl)
theorem dX3_empties_22 : decode cX3_empties 22 = .ok (.return_, 1) := dk_177 (dk_at dksX3_empties_0 22 rfl rfl)
abbrev cX3_whyNot : ByteArray := prog_10_method_50_code
def yX3_whyNot : MethodName := ⟨RX3, "whyNot", "(IIII)I"⟩
def dkwX3_whyNot_1 : List UInt8 := [29, 21, 4, 182, 0, 140, 172]
abbrev dktX3_whyNot_1 : List UInt8 := dkwX3_whyNot_1 ++ []
def dkwX3_whyNot_0 : List UInt8 := [42, 27, 28, 29, 21, 4, 182, 0, 136, 54, 5, 21, 5, 153, 0, 8, 21, 5, 167, 0, 12, 42, 27, 28]
abbrev dktX3_whyNot_0 : List UInt8 := dkwX3_whyNot_0 ++ dktX3_whyNot_1
theorem dksX3_whyNot_0 : cX3_whyNot.data.toList.drop 0 = dktX3_whyNot_0 := by decide +kernel
theorem dksX3_whyNot_1 : cX3_whyNot.data.toList.drop 24 = dktX3_whyNot_1 := dk_seg dksX3_whyNot_0 24 rfl rfl
theorem dX3_whyNot_0 : decode cX3_whyNot 0 = .ok (.aload_n 0, 1) := dk_42 (dk_at dksX3_whyNot_0 0 rfl rfl)
theorem dX3_whyNot_1 : decode cX3_whyNot 1 = .ok (.iload_n 1, 1) := dk_27 (dk_at dksX3_whyNot_0 1 rfl rfl)
theorem dX3_whyNot_2 : decode cX3_whyNot 2 = .ok (.iload_n 2, 1) := dk_28 (dk_at dksX3_whyNot_0 2 rfl rfl)
theorem dX3_whyNot_3 : decode cX3_whyNot 3 = .ok (.iload_n 3, 1) := dk_29 (dk_at dksX3_whyNot_0 3 rfl rfl)
theorem dX3_whyNot_4 : decode cX3_whyNot 4 = .ok (.iload 4, 2) := dk_21 4 (dk_at dksX3_whyNot_0 4 rfl rfl)
theorem dX3_whyNot_6 : decode cX3_whyNot 6 = .ok (.invokevirtual 136, 3) := dk_182 0 136 (dk_at dksX3_whyNot_0 6 rfl rfl)
theorem dX3_whyNot_9 : decode cX3_whyNot 9 = .ok (.istore 5, 2) := dk_54 5 (dk_at dksX3_whyNot_0 9 rfl rfl)
theorem dX3_whyNot_11 : decode cX3_whyNot 11 = .ok (.iload 5, 2) := dk_21 5 (dk_at dksX3_whyNot_0 11 rfl rfl)
theorem dX3_whyNot_13 : decode cX3_whyNot 13 = .ok (.ifCond .eq 8, 3) := dk_153 0 8 (dk_at dksX3_whyNot_0 13 rfl rfl)
theorem dX3_whyNot_16 : decode cX3_whyNot 16 = .ok (.iload 5, 2) := dk_21 5 (dk_at dksX3_whyNot_0 16 rfl rfl)
theorem dX3_whyNot_18 : decode cX3_whyNot 18 = .ok (.goto 12, 3) := dk_167 0 12 (dk_at dksX3_whyNot_0 18 rfl rfl)
theorem dX3_whyNot_21 : decode cX3_whyNot 21 = .ok (.aload_n 0, 1) := dk_42 (dk_at dksX3_whyNot_0 21 rfl rfl)
theorem dX3_whyNot_22 : decode cX3_whyNot 22 = .ok (.iload_n 1, 1) := dk_27 (dk_at dksX3_whyNot_0 22 rfl rfl)
theorem dX3_whyNot_23 : decode cX3_whyNot 23 = .ok (.iload_n 2, 1) := dk_28 (dk_at dksX3_whyNot_0 23 rfl rfl)
theorem dX3_whyNot_24 : decode cX3_whyNot 24 = .ok (.iload_n 3, 1) := dk_29 (dk_at dksX3_whyNot_1 0 rfl rfl)
theorem dX3_whyNot_25 : decode cX3_whyNot 25 = .ok (.iload 4, 2) := dk_21 4 (dk_at dksX3_whyNot_1 1 rfl rfl)
theorem dX3_whyNot_27 : decode cX3_whyNot 27 = .ok (.invokevirtual 140, 3) := dk_182 0 140 (dk_at dksX3_whyNot_1 3 rfl rfl)
theorem dX3_whyNot_30 : decode cX3_whyNot 30 = .ok (.ireturn, 1) := dk_172 (dk_at dksX3_whyNot_1 6 rfl rfl)
abbrev cX3_clean : ByteArray := prog_10_method_53_code
def yX3_clean : MethodName := ⟨RX3, "clean", "(II)I"⟩
def dkwX3_clean_0 : List UInt8 := [42, 27, 28, 182, 0, 152, 62, 29, 153, 0, 5, 29, 172, 42, 182, 0, 52, 42, 27, 28, 182, 0, 155, 172]
abbrev dktX3_clean_0 : List UInt8 := dkwX3_clean_0 ++ []
theorem dksX3_clean_0 : cX3_clean.data.toList.drop 0 = dktX3_clean_0 := by decide +kernel
theorem dX3_clean_0 : decode cX3_clean 0 = .ok (.aload_n 0, 1) := dk_42 (dk_at dksX3_clean_0 0 rfl rfl)
theorem dX3_clean_1 : decode cX3_clean 1 = .ok (.iload_n 1, 1) := dk_27 (dk_at dksX3_clean_0 1 rfl rfl)
theorem dX3_clean_2 : decode cX3_clean 2 = .ok (.iload_n 2, 1) := dk_28 (dk_at dksX3_clean_0 2 rfl rfl)
theorem dX3_clean_3 : decode cX3_clean 3 = .ok (.invokevirtual 152, 3) := dk_182 0 152 (dk_at dksX3_clean_0 3 rfl rfl)
theorem dX3_clean_6 : decode cX3_clean 6 = .ok (.istore_n 3, 1) := dk_62 (dk_at dksX3_clean_0 6 rfl rfl)
theorem dX3_clean_7 : decode cX3_clean 7 = .ok (.iload_n 3, 1) := dk_29 (dk_at dksX3_clean_0 7 rfl rfl)
theorem dX3_clean_8 : decode cX3_clean 8 = .ok (.ifCond .eq 5, 3) := dk_153 0 5 (dk_at dksX3_clean_0 8 rfl rfl)
theorem dX3_clean_11 : decode cX3_clean 11 = .ok (.iload_n 3, 1) := dk_29 (dk_at dksX3_clean_0 11 rfl rfl)
theorem dX3_clean_12 : decode cX3_clean 12 = .ok (.ireturn, 1) := dk_172 (dk_at dksX3_clean_0 12 rfl rfl)
theorem dX3_clean_13 : decode cX3_clean 13 = .ok (.aload_n 0, 1) := dk_42 (dk_at dksX3_clean_0 13 rfl rfl)
theorem dX3_clean_14 : decode cX3_clean 14 = .ok (.invokevirtual 52, 3) := dk_182 0 52 (dk_at dksX3_clean_0 14 rfl rfl)
theorem dX3_clean_17 : decode cX3_clean 17 = .ok (.aload_n 0, 1) := dk_42 (dk_at dksX3_clean_0 17 rfl rfl)
theorem dX3_clean_18 : decode cX3_clean 18 = .ok (.iload_n 1, 1) := dk_27 (dk_at dksX3_clean_0 18 rfl rfl)
theorem dX3_clean_19 : decode cX3_clean 19 = .ok (.iload_n 2, 1) := dk_28 (dk_at dksX3_clean_0 19 rfl rfl)
theorem dX3_clean_20 : decode cX3_clean 20 = .ok (.invokevirtual 155, 3) := dk_182 0 155 (dk_at dksX3_clean_0 20 rfl rfl)
theorem dX3_clean_23 : decode cX3_clean 23 = .ok (.ireturn, 1) := dk_172 (dk_at dksX3_clean_0 23 rfl rfl)
abbrev cX3_cannotClean : ByteArray := prog_10_method_51_code
def yX3_cannotClean : MethodName := ⟨RX3, "cannotClean", "(II)I"⟩
def dkwX3_cannotClean_1 : List UInt8 := [172, 42, 180, 0, 7, 3, 46, 28, 96, 18, 116, 164, 0, 8, 16, 251, 167, 0, 4, 3, 172]
abbrev dktX3_cannotClean_1 : List UInt8 := dkwX3_cannotClean_1 ++ []
def dkwX3_cannotClean_0 : List UInt8 := [42, 27, 182, 0, 63, 154, 0, 6, 16, 254, 172, 28, 4, 17, 3, 232, 184, 0, 41, 154, 0, 6, 16, 253]
abbrev dktX3_cannotClean_0 : List UInt8 := dkwX3_cannotClean_0 ++ dktX3_cannotClean_1
theorem dksX3_cannotClean_0 : cX3_cannotClean.data.toList.drop 0 = dktX3_cannotClean_0 := by decide +kernel
theorem dksX3_cannotClean_1 : cX3_cannotClean.data.toList.drop 24 = dktX3_cannotClean_1 := dk_seg dksX3_cannotClean_0 24 rfl rfl
theorem dX3_cannotClean_0 : decode cX3_cannotClean 0 = .ok (.aload_n 0, 1) := dk_42 (dk_at dksX3_cannotClean_0 0 rfl rfl)
theorem dX3_cannotClean_1 : decode cX3_cannotClean 1 = .ok (.iload_n 1, 1) := dk_27 (dk_at dksX3_cannotClean_0 1 rfl rfl)
theorem dX3_cannotClean_2 : decode cX3_cannotClean 2 = .ok (.invokevirtual 63, 3) := dk_182 0 63 (dk_at dksX3_cannotClean_0 2 rfl rfl)
theorem dX3_cannotClean_5 : decode cX3_cannotClean 5 = .ok (.ifCond .ne 6, 3) := dk_154 0 6 (dk_at dksX3_cannotClean_0 5 rfl rfl)
theorem dX3_cannotClean_8 : decode cX3_cannotClean 8 = .ok (.bipush (-2), 2) := dk_16 254 (dk_at dksX3_cannotClean_0 8 rfl rfl)
theorem dX3_cannotClean_10 : decode cX3_cannotClean 10 = .ok (.ireturn, 1) := dk_172 (dk_at dksX3_cannotClean_0 10 rfl rfl)
theorem dX3_cannotClean_11 : decode cX3_cannotClean 11 = .ok (.iload_n 2, 1) := dk_28 (dk_at dksX3_cannotClean_0 11 rfl rfl)
theorem dX3_cannotClean_12 : decode cX3_cannotClean 12 = .ok (.iconst 1, 1) := dk_4 (dk_at dksX3_cannotClean_0 12 rfl rfl)
theorem dX3_cannotClean_13 : decode cX3_cannotClean 13 = .ok (.sipush 1000, 3) := dk_17 3 232 (dk_at dksX3_cannotClean_0 13 rfl rfl)
theorem dX3_cannotClean_16 : decode cX3_cannotClean 16 = .ok (.invokestatic 41, 3) := dk_184 0 41 (dk_at dksX3_cannotClean_0 16 rfl rfl)
theorem dX3_cannotClean_19 : decode cX3_cannotClean 19 = .ok (.ifCond .ne 6, 3) := dk_154 0 6 (dk_at dksX3_cannotClean_0 19 rfl rfl)
theorem dX3_cannotClean_22 : decode cX3_cannotClean 22 = .ok (.bipush (-3), 2) := dk_16 253 (dk_at dksX3_cannotClean_0 22 rfl rfl)
theorem dX3_cannotClean_24 : decode cX3_cannotClean 24 = .ok (.ireturn, 1) := dk_172 (dk_at dksX3_cannotClean_1 0 rfl rfl)
theorem dX3_cannotClean_25 : decode cX3_cannotClean 25 = .ok (.aload_n 0, 1) := dk_42 (dk_at dksX3_cannotClean_1 1 rfl rfl)
theorem dX3_cannotClean_26 : decode cX3_cannotClean 26 = .ok (.getfield 7, 3) := dk_180 0 7 (dk_at dksX3_cannotClean_1 2 rfl rfl)
theorem dX3_cannotClean_29 : decode cX3_cannotClean 29 = .ok (.iconst 0, 1) := dk_3 (dk_at dksX3_cannotClean_1 5 rfl rfl)
theorem dX3_cannotClean_30 : decode cX3_cannotClean 30 = .ok (.iaload, 1) := dk_46 (dk_at dksX3_cannotClean_1 6 rfl rfl)
theorem dX3_cannotClean_31 : decode cX3_cannotClean 31 = .ok (.iload_n 2, 1) := dk_28 (dk_at dksX3_cannotClean_1 7 rfl rfl)
theorem dX3_cannotClean_32 : decode cX3_cannotClean 32 = .ok (.iadd, 1) := dk_96 (dk_at dksX3_cannotClean_1 8 rfl rfl)
theorem dX3_cannotClean_33 : decode cX3_cannotClean 33 = .ok (.ldc 116, 2) := dk_18 116 (dk_at dksX3_cannotClean_1 9 rfl rfl)
theorem dX3_cannotClean_35 : decode cX3_cannotClean 35 = .ok (.if_icmp .le 8, 3) := dk_164 0 8 (dk_at dksX3_cannotClean_1 11 rfl rfl)
theorem dX3_cannotClean_38 : decode cX3_cannotClean 38 = .ok (.bipush (-5), 2) := dk_16 251 (dk_at dksX3_cannotClean_1 14 rfl rfl)
theorem dX3_cannotClean_40 : decode cX3_cannotClean 40 = .ok (.goto 4, 3) := dk_167 0 4 (dk_at dksX3_cannotClean_1 16 rfl rfl)
theorem dX3_cannotClean_43 : decode cX3_cannotClean 43 = .ok (.iconst 0, 1) := dk_3 (dk_at dksX3_cannotClean_1 19 rfl rfl)
theorem dX3_cannotClean_44 : decode cX3_cannotClean 44 = .ok (.ireturn, 1) := dk_172 (dk_at dksX3_cannotClean_1 20 rfl rfl)
abbrev cX3_cleans : ByteArray := prog_10_method_52_code
def yX3_cleans : MethodName := ⟨RX3, "cleans", "(II)I"⟩
def dkwX3_cleans_1 : List UInt8 := [27, 104, 96, 5, 96, 29, 156, 0, 7, 3, 167, 0, 4, 29, 79, 42, 27, 5, 182, 0, 49, 172]
abbrev dktX3_cleans_1 : List UInt8 := dkwX3_cleans_1 ++ []
def dkwX3_cleans_0 : List UInt8 := [42, 28, 182, 0, 117, 42, 27, 5, 182, 0, 49, 16, 50, 28, 104, 100, 62, 42, 180, 0, 7, 16, 82, 7]
abbrev dktX3_cleans_0 : List UInt8 := dkwX3_cleans_0 ++ dktX3_cleans_1
theorem dksX3_cleans_0 : cX3_cleans.data.toList.drop 0 = dktX3_cleans_0 := by decide +kernel
theorem dksX3_cleans_1 : cX3_cleans.data.toList.drop 24 = dktX3_cleans_1 := dk_seg dksX3_cleans_0 24 rfl rfl
theorem dX3_cleans_0 : decode cX3_cleans 0 = .ok (.aload_n 0, 1) := dk_42 (dk_at dksX3_cleans_0 0 rfl rfl)
theorem dX3_cleans_1 : decode cX3_cleans 1 = .ok (.iload_n 2, 1) := dk_28 (dk_at dksX3_cleans_0 1 rfl rfl)
theorem dX3_cleans_2 : decode cX3_cleans 2 = .ok (.invokevirtual 117, 3) := dk_182 0 117 (dk_at dksX3_cleans_0 2 rfl rfl)
theorem dX3_cleans_5 : decode cX3_cleans 5 = .ok (.aload_n 0, 1) := dk_42 (dk_at dksX3_cleans_0 5 rfl rfl)
theorem dX3_cleans_6 : decode cX3_cleans 6 = .ok (.iload_n 1, 1) := dk_27 (dk_at dksX3_cleans_0 6 rfl rfl)
theorem dX3_cleans_7 : decode cX3_cleans 7 = .ok (.iconst 2, 1) := dk_5 (dk_at dksX3_cleans_0 7 rfl rfl)
theorem dX3_cleans_8 : decode cX3_cleans 8 = .ok (.invokevirtual 49, 3) := dk_182 0 49 (dk_at dksX3_cleans_0 8 rfl rfl)
theorem dX3_cleans_11 : decode cX3_cleans 11 = .ok (.bipush 50, 2) := dk_16 50 (dk_at dksX3_cleans_0 11 rfl rfl)
theorem dX3_cleans_13 : decode cX3_cleans 13 = .ok (.iload_n 2, 1) := dk_28 (dk_at dksX3_cleans_0 13 rfl rfl)
theorem dX3_cleans_14 : decode cX3_cleans 14 = .ok (.imul, 1) := dk_104 (dk_at dksX3_cleans_0 14 rfl rfl)
theorem dX3_cleans_15 : decode cX3_cleans 15 = .ok (.isub, 1) := dk_100 (dk_at dksX3_cleans_0 15 rfl rfl)
theorem dX3_cleans_16 : decode cX3_cleans 16 = .ok (.istore_n 3, 1) := dk_62 (dk_at dksX3_cleans_0 16 rfl rfl)
theorem dX3_cleans_17 : decode cX3_cleans 17 = .ok (.aload_n 0, 1) := dk_42 (dk_at dksX3_cleans_0 17 rfl rfl)
theorem dX3_cleans_18 : decode cX3_cleans 18 = .ok (.getfield 7, 3) := dk_180 0 7 (dk_at dksX3_cleans_0 18 rfl rfl)
theorem dX3_cleans_21 : decode cX3_cleans 21 = .ok (.bipush 82, 2) := dk_16 82 (dk_at dksX3_cleans_0 21 rfl rfl)
theorem dX3_cleans_23 : decode cX3_cleans 23 = .ok (.iconst 4, 1) := dk_7 (dk_at dksX3_cleans_0 23 rfl rfl)
theorem dX3_cleans_24 : decode cX3_cleans 24 = .ok (.iload_n 1, 1) := dk_27 (dk_at dksX3_cleans_1 0 rfl rfl)
theorem dX3_cleans_25 : decode cX3_cleans 25 = .ok (.imul, 1) := dk_104 (dk_at dksX3_cleans_1 1 rfl rfl)
theorem dX3_cleans_26 : decode cX3_cleans 26 = .ok (.iadd, 1) := dk_96 (dk_at dksX3_cleans_1 2 rfl rfl)
theorem dX3_cleans_27 : decode cX3_cleans 27 = .ok (.iconst 2, 1) := dk_5 (dk_at dksX3_cleans_1 3 rfl rfl)
theorem dX3_cleans_28 : decode cX3_cleans 28 = .ok (.iadd, 1) := dk_96 (dk_at dksX3_cleans_1 4 rfl rfl)
theorem dX3_cleans_29 : decode cX3_cleans 29 = .ok (.iload_n 3, 1) := dk_29 (dk_at dksX3_cleans_1 5 rfl rfl)
theorem dX3_cleans_30 : decode cX3_cleans 30 = .ok (.ifCond .ge 7, 3) := dk_156 0 7 (dk_at dksX3_cleans_1 6 rfl rfl)
theorem dX3_cleans_33 : decode cX3_cleans 33 = .ok (.iconst 0, 1) := dk_3 (dk_at dksX3_cleans_1 9 rfl rfl)
theorem dX3_cleans_34 : decode cX3_cleans 34 = .ok (.goto 4, 3) := dk_167 0 4 (dk_at dksX3_cleans_1 10 rfl rfl)
theorem dX3_cleans_37 : decode cX3_cleans 37 = .ok (.iload_n 3, 1) := dk_29 (dk_at dksX3_cleans_1 13 rfl rfl)
theorem dX3_cleans_38 : decode cX3_cleans 38 = .ok (.iastore, 1) := dk_79 (dk_at dksX3_cleans_1 14 rfl rfl)
theorem dX3_cleans_39 : decode cX3_cleans 39 = .ok (.aload_n 0, 1) := dk_42 (dk_at dksX3_cleans_1 15 rfl rfl)
theorem dX3_cleans_40 : decode cX3_cleans 40 = .ok (.iload_n 1, 1) := dk_27 (dk_at dksX3_cleans_1 16 rfl rfl)
theorem dX3_cleans_41 : decode cX3_cleans 41 = .ok (.iconst 2, 1) := dk_5 (dk_at dksX3_cleans_1 17 rfl rfl)
theorem dX3_cleans_42 : decode cX3_cleans 42 = .ok (.invokevirtual 49, 3) := dk_182 0 49 (dk_at dksX3_cleans_1 18 rfl rfl)
theorem dX3_cleans_45 : decode cX3_cleans 45 = .ok (.ireturn, 1) := dk_172 (dk_at dksX3_cleans_1 21 rfl rfl)
abbrev cX3_pass : ByteArray := prog_10_method_54_code
def yX3_pass : MethodName := ⟨RX3, "pass", "(I)I"⟩
def dkwX3_pass_1 : List UInt8 := [164, 0, 6, 16, 251, 172, 42, 182, 0, 52, 42, 27, 182, 0, 117, 42, 180, 0, 7, 3, 46, 172]
abbrev dktX3_pass_1 : List UInt8 := dkwX3_pass_1 ++ []
def dkwX3_pass_0 : List UInt8 := [27, 4, 17, 39, 16, 184, 0, 41, 154, 0, 6, 16, 253, 172, 42, 180, 0, 7, 3, 46, 27, 96, 18, 116]
abbrev dktX3_pass_0 : List UInt8 := dkwX3_pass_0 ++ dktX3_pass_1
theorem dksX3_pass_0 : cX3_pass.data.toList.drop 0 = dktX3_pass_0 := by decide +kernel
theorem dksX3_pass_1 : cX3_pass.data.toList.drop 24 = dktX3_pass_1 := dk_seg dksX3_pass_0 24 rfl rfl
theorem dX3_pass_0 : decode cX3_pass 0 = .ok (.iload_n 1, 1) := dk_27 (dk_at dksX3_pass_0 0 rfl rfl)
theorem dX3_pass_1 : decode cX3_pass 1 = .ok (.iconst 1, 1) := dk_4 (dk_at dksX3_pass_0 1 rfl rfl)
theorem dX3_pass_2 : decode cX3_pass 2 = .ok (.sipush 10000, 3) := dk_17 39 16 (dk_at dksX3_pass_0 2 rfl rfl)
theorem dX3_pass_5 : decode cX3_pass 5 = .ok (.invokestatic 41, 3) := dk_184 0 41 (dk_at dksX3_pass_0 5 rfl rfl)
theorem dX3_pass_8 : decode cX3_pass 8 = .ok (.ifCond .ne 6, 3) := dk_154 0 6 (dk_at dksX3_pass_0 8 rfl rfl)
theorem dX3_pass_11 : decode cX3_pass 11 = .ok (.bipush (-3), 2) := dk_16 253 (dk_at dksX3_pass_0 11 rfl rfl)
theorem dX3_pass_13 : decode cX3_pass 13 = .ok (.ireturn, 1) := dk_172 (dk_at dksX3_pass_0 13 rfl rfl)
theorem dX3_pass_14 : decode cX3_pass 14 = .ok (.aload_n 0, 1) := dk_42 (dk_at dksX3_pass_0 14 rfl rfl)
theorem dX3_pass_15 : decode cX3_pass 15 = .ok (.getfield 7, 3) := dk_180 0 7 (dk_at dksX3_pass_0 15 rfl rfl)
theorem dX3_pass_18 : decode cX3_pass 18 = .ok (.iconst 0, 1) := dk_3 (dk_at dksX3_pass_0 18 rfl rfl)
theorem dX3_pass_19 : decode cX3_pass 19 = .ok (.iaload, 1) := dk_46 (dk_at dksX3_pass_0 19 rfl rfl)
theorem dX3_pass_20 : decode cX3_pass 20 = .ok (.iload_n 1, 1) := dk_27 (dk_at dksX3_pass_0 20 rfl rfl)
theorem dX3_pass_21 : decode cX3_pass 21 = .ok (.iadd, 1) := dk_96 (dk_at dksX3_pass_0 21 rfl rfl)
theorem dX3_pass_22 : decode cX3_pass 22 = .ok (.ldc 116, 2) := dk_18 116 (dk_at dksX3_pass_0 22 rfl rfl)
theorem dX3_pass_24 : decode cX3_pass 24 = .ok (.if_icmp .le 6, 3) := dk_164 0 6 (dk_at dksX3_pass_1 0 rfl rfl)
theorem dX3_pass_27 : decode cX3_pass 27 = .ok (.bipush (-5), 2) := dk_16 251 (dk_at dksX3_pass_1 3 rfl rfl)
theorem dX3_pass_29 : decode cX3_pass 29 = .ok (.ireturn, 1) := dk_172 (dk_at dksX3_pass_1 5 rfl rfl)
theorem dX3_pass_30 : decode cX3_pass 30 = .ok (.aload_n 0, 1) := dk_42 (dk_at dksX3_pass_1 6 rfl rfl)
theorem dX3_pass_31 : decode cX3_pass 31 = .ok (.invokevirtual 52, 3) := dk_182 0 52 (dk_at dksX3_pass_1 7 rfl rfl)
theorem dX3_pass_34 : decode cX3_pass 34 = .ok (.aload_n 0, 1) := dk_42 (dk_at dksX3_pass_1 10 rfl rfl)
theorem dX3_pass_35 : decode cX3_pass 35 = .ok (.iload_n 1, 1) := dk_27 (dk_at dksX3_pass_1 11 rfl rfl)
theorem dX3_pass_36 : decode cX3_pass 36 = .ok (.invokevirtual 117, 3) := dk_182 0 117 (dk_at dksX3_pass_1 12 rfl rfl)
theorem dX3_pass_39 : decode cX3_pass 39 = .ok (.aload_n 0, 1) := dk_42 (dk_at dksX3_pass_1 15 rfl rfl)
theorem dX3_pass_40 : decode cX3_pass 40 = .ok (.getfield 7, 3) := dk_180 0 7 (dk_at dksX3_pass_1 16 rfl rfl)
theorem dX3_pass_43 : decode cX3_pass 43 = .ok (.iconst 0, 1) := dk_3 (dk_at dksX3_pass_1 19 rfl rfl)
theorem dX3_pass_44 : decode cX3_pass 44 = .ok (.iaload, 1) := dk_46 (dk_at dksX3_pass_1 20 rfl rfl)
theorem dX3_pass_45 : decode cX3_pass 45 = .ok (.ireturn, 1) := dk_172 (dk_at dksX3_pass_1 21 rfl rfl)
abbrev cX3_dry : ByteArray := prog_10_method_57_code
def yX3_dry : MethodName := ⟨RX3, "dry", "(II)I"⟩
def dkwX3_dry_0 : List UInt8 := [42, 27, 28, 182, 0, 160, 62, 29, 153, 0, 5, 29, 172, 42, 182, 0, 52, 42, 27, 28, 182, 0, 163, 172]
abbrev dktX3_dry_0 : List UInt8 := dkwX3_dry_0 ++ []
theorem dksX3_dry_0 : cX3_dry.data.toList.drop 0 = dktX3_dry_0 := by decide +kernel
theorem dX3_dry_0 : decode cX3_dry 0 = .ok (.aload_n 0, 1) := dk_42 (dk_at dksX3_dry_0 0 rfl rfl)
theorem dX3_dry_1 : decode cX3_dry 1 = .ok (.iload_n 1, 1) := dk_27 (dk_at dksX3_dry_0 1 rfl rfl)
theorem dX3_dry_2 : decode cX3_dry 2 = .ok (.iload_n 2, 1) := dk_28 (dk_at dksX3_dry_0 2 rfl rfl)
theorem dX3_dry_3 : decode cX3_dry 3 = .ok (.invokevirtual 160, 3) := dk_182 0 160 (dk_at dksX3_dry_0 3 rfl rfl)
theorem dX3_dry_6 : decode cX3_dry 6 = .ok (.istore_n 3, 1) := dk_62 (dk_at dksX3_dry_0 6 rfl rfl)
theorem dX3_dry_7 : decode cX3_dry 7 = .ok (.iload_n 3, 1) := dk_29 (dk_at dksX3_dry_0 7 rfl rfl)
theorem dX3_dry_8 : decode cX3_dry 8 = .ok (.ifCond .eq 5, 3) := dk_153 0 5 (dk_at dksX3_dry_0 8 rfl rfl)
theorem dX3_dry_11 : decode cX3_dry 11 = .ok (.iload_n 3, 1) := dk_29 (dk_at dksX3_dry_0 11 rfl rfl)
theorem dX3_dry_12 : decode cX3_dry 12 = .ok (.ireturn, 1) := dk_172 (dk_at dksX3_dry_0 12 rfl rfl)
theorem dX3_dry_13 : decode cX3_dry 13 = .ok (.aload_n 0, 1) := dk_42 (dk_at dksX3_dry_0 13 rfl rfl)
theorem dX3_dry_14 : decode cX3_dry 14 = .ok (.invokevirtual 52, 3) := dk_182 0 52 (dk_at dksX3_dry_0 14 rfl rfl)
theorem dX3_dry_17 : decode cX3_dry 17 = .ok (.aload_n 0, 1) := dk_42 (dk_at dksX3_dry_0 17 rfl rfl)
theorem dX3_dry_18 : decode cX3_dry 18 = .ok (.iload_n 1, 1) := dk_27 (dk_at dksX3_dry_0 18 rfl rfl)
theorem dX3_dry_19 : decode cX3_dry 19 = .ok (.iload_n 2, 1) := dk_28 (dk_at dksX3_dry_0 19 rfl rfl)
theorem dX3_dry_20 : decode cX3_dry 20 = .ok (.invokevirtual 163, 3) := dk_182 0 163 (dk_at dksX3_dry_0 20 rfl rfl)
theorem dX3_dry_23 : decode cX3_dry 23 = .ok (.ireturn, 1) := dk_172 (dk_at dksX3_dry_0 23 rfl rfl)
abbrev cX3_cannotDry : ByteArray := prog_10_method_55_code
def yX3_cannotDry : MethodName := ⟨RX3, "cannotDry", "(II)I"⟩
def dkwX3_cannotDry_2 : List UInt8 := [18, 116, 164, 0, 8, 16, 251, 167, 0, 4, 3, 172]
abbrev dktX3_cannotDry_2 : List UInt8 := dkwX3_cannotDry_2 ++ []
def dkwX3_cannotDry_1 : List UInt8 := [172, 42, 27, 6, 182, 0, 45, 154, 0, 6, 16, 252, 172, 42, 180, 0, 7, 3, 46, 16, 10, 28, 104, 96]
abbrev dktX3_cannotDry_1 : List UInt8 := dkwX3_cannotDry_1 ++ dktX3_cannotDry_2
def dkwX3_cannotDry_0 : List UInt8 := [42, 27, 182, 0, 59, 154, 0, 6, 16, 254, 172, 28, 4, 17, 0, 200, 184, 0, 41, 154, 0, 6, 16, 253]
abbrev dktX3_cannotDry_0 : List UInt8 := dkwX3_cannotDry_0 ++ dktX3_cannotDry_1
theorem dksX3_cannotDry_0 : cX3_cannotDry.data.toList.drop 0 = dktX3_cannotDry_0 := by decide +kernel
theorem dksX3_cannotDry_1 : cX3_cannotDry.data.toList.drop 24 = dktX3_cannotDry_1 := dk_seg dksX3_cannotDry_0 24 rfl rfl
theorem dksX3_cannotDry_2 : cX3_cannotDry.data.toList.drop 48 = dktX3_cannotDry_2 := dk_seg dksX3_cannotDry_1 24 rfl rfl
theorem dX3_cannotDry_0 : decode cX3_cannotDry 0 = .ok (.aload_n 0, 1) := dk_42 (dk_at dksX3_cannotDry_0 0 rfl rfl)
theorem dX3_cannotDry_1 : decode cX3_cannotDry 1 = .ok (.iload_n 1, 1) := dk_27 (dk_at dksX3_cannotDry_0 1 rfl rfl)
theorem dX3_cannotDry_2 : decode cX3_cannotDry 2 = .ok (.invokevirtual 59, 3) := dk_182 0 59 (dk_at dksX3_cannotDry_0 2 rfl rfl)
theorem dX3_cannotDry_5 : decode cX3_cannotDry 5 = .ok (.ifCond .ne 6, 3) := dk_154 0 6 (dk_at dksX3_cannotDry_0 5 rfl rfl)
theorem dX3_cannotDry_8 : decode cX3_cannotDry 8 = .ok (.bipush (-2), 2) := dk_16 254 (dk_at dksX3_cannotDry_0 8 rfl rfl)
theorem dX3_cannotDry_10 : decode cX3_cannotDry 10 = .ok (.ireturn, 1) := dk_172 (dk_at dksX3_cannotDry_0 10 rfl rfl)
theorem dX3_cannotDry_11 : decode cX3_cannotDry 11 = .ok (.iload_n 2, 1) := dk_28 (dk_at dksX3_cannotDry_0 11 rfl rfl)
theorem dX3_cannotDry_12 : decode cX3_cannotDry 12 = .ok (.iconst 1, 1) := dk_4 (dk_at dksX3_cannotDry_0 12 rfl rfl)
theorem dX3_cannotDry_13 : decode cX3_cannotDry 13 = .ok (.sipush 200, 3) := dk_17 0 200 (dk_at dksX3_cannotDry_0 13 rfl rfl)
theorem dX3_cannotDry_16 : decode cX3_cannotDry 16 = .ok (.invokestatic 41, 3) := dk_184 0 41 (dk_at dksX3_cannotDry_0 16 rfl rfl)
theorem dX3_cannotDry_19 : decode cX3_cannotDry 19 = .ok (.ifCond .ne 6, 3) := dk_154 0 6 (dk_at dksX3_cannotDry_0 19 rfl rfl)
theorem dX3_cannotDry_22 : decode cX3_cannotDry 22 = .ok (.bipush (-3), 2) := dk_16 253 (dk_at dksX3_cannotDry_0 22 rfl rfl)
theorem dX3_cannotDry_24 : decode cX3_cannotDry 24 = .ok (.ireturn, 1) := dk_172 (dk_at dksX3_cannotDry_1 0 rfl rfl)
theorem dX3_cannotDry_25 : decode cX3_cannotDry 25 = .ok (.aload_n 0, 1) := dk_42 (dk_at dksX3_cannotDry_1 1 rfl rfl)
theorem dX3_cannotDry_26 : decode cX3_cannotDry 26 = .ok (.iload_n 1, 1) := dk_27 (dk_at dksX3_cannotDry_1 2 rfl rfl)
theorem dX3_cannotDry_27 : decode cX3_cannotDry 27 = .ok (.iconst 3, 1) := dk_6 (dk_at dksX3_cannotDry_1 3 rfl rfl)
theorem dX3_cannotDry_28 : decode cX3_cannotDry 28 = .ok (.invokevirtual 45, 3) := dk_182 0 45 (dk_at dksX3_cannotDry_1 4 rfl rfl)
theorem dX3_cannotDry_31 : decode cX3_cannotDry 31 = .ok (.ifCond .ne 6, 3) := dk_154 0 6 (dk_at dksX3_cannotDry_1 7 rfl rfl)
theorem dX3_cannotDry_34 : decode cX3_cannotDry 34 = .ok (.bipush (-4), 2) := dk_16 252 (dk_at dksX3_cannotDry_1 10 rfl rfl)
theorem dX3_cannotDry_36 : decode cX3_cannotDry 36 = .ok (.ireturn, 1) := dk_172 (dk_at dksX3_cannotDry_1 12 rfl rfl)
theorem dX3_cannotDry_37 : decode cX3_cannotDry 37 = .ok (.aload_n 0, 1) := dk_42 (dk_at dksX3_cannotDry_1 13 rfl rfl)
theorem dX3_cannotDry_38 : decode cX3_cannotDry 38 = .ok (.getfield 7, 3) := dk_180 0 7 (dk_at dksX3_cannotDry_1 14 rfl rfl)
theorem dX3_cannotDry_41 : decode cX3_cannotDry 41 = .ok (.iconst 0, 1) := dk_3 (dk_at dksX3_cannotDry_1 17 rfl rfl)
theorem dX3_cannotDry_42 : decode cX3_cannotDry 42 = .ok (.iaload, 1) := dk_46 (dk_at dksX3_cannotDry_1 18 rfl rfl)
theorem dX3_cannotDry_43 : decode cX3_cannotDry 43 = .ok (.bipush 10, 2) := dk_16 10 (dk_at dksX3_cannotDry_1 19 rfl rfl)
theorem dX3_cannotDry_45 : decode cX3_cannotDry 45 = .ok (.iload_n 2, 1) := dk_28 (dk_at dksX3_cannotDry_1 21 rfl rfl)
theorem dX3_cannotDry_46 : decode cX3_cannotDry 46 = .ok (.imul, 1) := dk_104 (dk_at dksX3_cannotDry_1 22 rfl rfl)
theorem dX3_cannotDry_47 : decode cX3_cannotDry 47 = .ok (.iadd, 1) := dk_96 (dk_at dksX3_cannotDry_1 23 rfl rfl)
theorem dX3_cannotDry_48 : decode cX3_cannotDry 48 = .ok (.ldc 116, 2) := dk_18 116 (dk_at dksX3_cannotDry_2 0 rfl rfl)
theorem dX3_cannotDry_50 : decode cX3_cannotDry 50 = .ok (.if_icmp .le 8, 3) := dk_164 0 8 (dk_at dksX3_cannotDry_2 2 rfl rfl)
theorem dX3_cannotDry_53 : decode cX3_cannotDry 53 = .ok (.bipush (-5), 2) := dk_16 251 (dk_at dksX3_cannotDry_2 5 rfl rfl)
theorem dX3_cannotDry_55 : decode cX3_cannotDry 55 = .ok (.goto 4, 3) := dk_167 0 4 (dk_at dksX3_cannotDry_2 7 rfl rfl)
theorem dX3_cannotDry_58 : decode cX3_cannotDry 58 = .ok (.iconst 0, 1) := dk_3 (dk_at dksX3_cannotDry_2 10 rfl rfl)
theorem dX3_cannotDry_59 : decode cX3_cannotDry 59 = .ok (.ireturn, 1) := dk_172 (dk_at dksX3_cannotDry_2 11 rfl rfl)
abbrev cX3_dries : ByteArray := prog_10_method_56_code
def yX3_dries : MethodName := ⟨RX3, "dries", "(II)I"⟩
def dkwX3_dries_6 : List UInt8 := [132, 3, 1, 167, 255, 114, 29, 172]
abbrev dktX3_dries_6 : List UInt8 := dkwX3_dries_6 ++ []
def dkwX3_dries_5 : List UInt8 := [180, 0, 13, 5, 92, 47, 21, 5, 133, 97, 80, 42, 180, 0, 13, 8, 92, 47, 20, 0, 158, 97, 80]
abbrev dktX3_dries_5 : List UInt8 := dkwX3_dries_5 ++ dktX3_dries_6
def dkwX3_dries_4 : List UInt8 := [100, 182, 0, 55, 42, 27, 16, 8, 42, 27, 16, 8, 182, 0, 45, 21, 5, 96, 182, 0, 55, 42]
abbrev dktX3_dries_4 : List UInt8 := dkwX3_dries_4 ++ dktX3_dries_5
def dkwX3_dries_3 : List UInt8 := [7, 42, 27, 7, 182, 0, 45, 21, 4, 100, 182, 0, 55, 42, 27, 6, 42, 27, 6, 182, 0, 45, 21, 5]
abbrev dktX3_dries_3 : List UInt8 := dkwX3_dries_3 ++ dktX3_dries_4
def dkwX3_dries_2 : List UInt8 := [162, 0, 12, 21, 4, 17, 3, 232, 108, 167, 0, 11, 42, 27, 6, 182, 0, 45, 4, 100, 54, 5, 42, 27]
abbrev dktX3_dries_2 : List UInt8 := dkwX3_dries_2 ++ dktX3_dries_3
def dkwX3_dries_1 : List UInt8 := [27, 7, 182, 0, 45, 16, 20, 108, 54, 4, 21, 4, 17, 3, 232, 108, 42, 27, 6, 182, 0, 45, 4, 100]
abbrev dktX3_dries_1 : List UInt8 := dkwX3_dries_1 ++ dktX3_dries_2
def dkwX3_dries_0 : List UInt8 := [3, 62, 29, 28, 162, 0, 143, 42, 27, 182, 0, 79, 16, 50, 164, 0, 133, 42, 16, 10, 182, 0, 117, 42]
abbrev dktX3_dries_0 : List UInt8 := dkwX3_dries_0 ++ dktX3_dries_1
theorem dksX3_dries_0 : cX3_dries.data.toList.drop 0 = dktX3_dries_0 := by decide +kernel
theorem dksX3_dries_1 : cX3_dries.data.toList.drop 24 = dktX3_dries_1 := dk_seg dksX3_dries_0 24 rfl rfl
theorem dksX3_dries_2 : cX3_dries.data.toList.drop 48 = dktX3_dries_2 := dk_seg dksX3_dries_1 24 rfl rfl
theorem dksX3_dries_3 : cX3_dries.data.toList.drop 72 = dktX3_dries_3 := dk_seg dksX3_dries_2 24 rfl rfl
theorem dksX3_dries_4 : cX3_dries.data.toList.drop 96 = dktX3_dries_4 := dk_seg dksX3_dries_3 24 rfl rfl
theorem dksX3_dries_5 : cX3_dries.data.toList.drop 118 = dktX3_dries_5 := dk_seg dksX3_dries_4 22 rfl rfl
theorem dksX3_dries_6 : cX3_dries.data.toList.drop 141 = dktX3_dries_6 := dk_seg dksX3_dries_5 23 rfl rfl
theorem dX3_dries_0 : decode cX3_dries 0 = .ok (.iconst 0, 1) := dk_3 (dk_at dksX3_dries_0 0 rfl rfl)
theorem dX3_dries_1 : decode cX3_dries 1 = .ok (.istore_n 3, 1) := dk_62 (dk_at dksX3_dries_0 1 rfl rfl)
theorem dX3_dries_2 : decode cX3_dries 2 = .ok (.iload_n 3, 1) := dk_29 (dk_at dksX3_dries_0 2 rfl rfl)
theorem dX3_dries_3 : decode cX3_dries 3 = .ok (.iload_n 2, 1) := dk_28 (dk_at dksX3_dries_0 3 rfl rfl)
theorem dX3_dries_4 : decode cX3_dries 4 = .ok (.if_icmp .ge 143, 3) := dk_162 0 143 (dk_at dksX3_dries_0 4 rfl rfl)
theorem dX3_dries_7 : decode cX3_dries 7 = .ok (.aload_n 0, 1) := dk_42 (dk_at dksX3_dries_0 7 rfl rfl)
theorem dX3_dries_8 : decode cX3_dries 8 = .ok (.iload_n 1, 1) := dk_27 (dk_at dksX3_dries_0 8 rfl rfl)
theorem dX3_dries_9 : decode cX3_dries 9 = .ok (.invokevirtual 79, 3) := dk_182 0 79 (dk_at dksX3_dries_0 9 rfl rfl)
theorem dX3_dries_12 : decode cX3_dries 12 = .ok (.bipush 50, 2) := dk_16 50 (dk_at dksX3_dries_0 12 rfl rfl)
theorem dX3_dries_14 : decode cX3_dries 14 = .ok (.if_icmp .le 133, 3) := dk_164 0 133 (dk_at dksX3_dries_0 14 rfl rfl)
theorem dX3_dries_17 : decode cX3_dries 17 = .ok (.aload_n 0, 1) := dk_42 (dk_at dksX3_dries_0 17 rfl rfl)
theorem dX3_dries_18 : decode cX3_dries 18 = .ok (.bipush 10, 2) := dk_16 10 (dk_at dksX3_dries_0 18 rfl rfl)
theorem dX3_dries_20 : decode cX3_dries 20 = .ok (.invokevirtual 117, 3) := dk_182 0 117 (dk_at dksX3_dries_0 20 rfl rfl)
theorem dX3_dries_23 : decode cX3_dries 23 = .ok (.aload_n 0, 1) := dk_42 (dk_at dksX3_dries_0 23 rfl rfl)
theorem dX3_dries_24 : decode cX3_dries 24 = .ok (.iload_n 1, 1) := dk_27 (dk_at dksX3_dries_1 0 rfl rfl)
theorem dX3_dries_25 : decode cX3_dries 25 = .ok (.iconst 4, 1) := dk_7 (dk_at dksX3_dries_1 1 rfl rfl)
theorem dX3_dries_26 : decode cX3_dries 26 = .ok (.invokevirtual 45, 3) := dk_182 0 45 (dk_at dksX3_dries_1 2 rfl rfl)
theorem dX3_dries_29 : decode cX3_dries 29 = .ok (.bipush 20, 2) := dk_16 20 (dk_at dksX3_dries_1 5 rfl rfl)
theorem dX3_dries_31 : decode cX3_dries 31 = .ok (.idiv, 1) := dk_108 (dk_at dksX3_dries_1 7 rfl rfl)
theorem dX3_dries_32 : decode cX3_dries 32 = .ok (.istore 4, 2) := dk_54 4 (dk_at dksX3_dries_1 8 rfl rfl)
theorem dX3_dries_34 : decode cX3_dries 34 = .ok (.iload 4, 2) := dk_21 4 (dk_at dksX3_dries_1 10 rfl rfl)
theorem dX3_dries_36 : decode cX3_dries 36 = .ok (.sipush 1000, 3) := dk_17 3 232 (dk_at dksX3_dries_1 12 rfl rfl)
theorem dX3_dries_39 : decode cX3_dries 39 = .ok (.idiv, 1) := dk_108 (dk_at dksX3_dries_1 15 rfl rfl)
theorem dX3_dries_40 : decode cX3_dries 40 = .ok (.aload_n 0, 1) := dk_42 (dk_at dksX3_dries_1 16 rfl rfl)
theorem dX3_dries_41 : decode cX3_dries 41 = .ok (.iload_n 1, 1) := dk_27 (dk_at dksX3_dries_1 17 rfl rfl)
theorem dX3_dries_42 : decode cX3_dries 42 = .ok (.iconst 3, 1) := dk_6 (dk_at dksX3_dries_1 18 rfl rfl)
theorem dX3_dries_43 : decode cX3_dries 43 = .ok (.invokevirtual 45, 3) := dk_182 0 45 (dk_at dksX3_dries_1 19 rfl rfl)
theorem dX3_dries_46 : decode cX3_dries 46 = .ok (.iconst 1, 1) := dk_4 (dk_at dksX3_dries_1 22 rfl rfl)
theorem dX3_dries_47 : decode cX3_dries 47 = .ok (.isub, 1) := dk_100 (dk_at dksX3_dries_1 23 rfl rfl)
theorem dX3_dries_48 : decode cX3_dries 48 = .ok (.if_icmp .ge 12, 3) := dk_162 0 12 (dk_at dksX3_dries_2 0 rfl rfl)
theorem dX3_dries_51 : decode cX3_dries 51 = .ok (.iload 4, 2) := dk_21 4 (dk_at dksX3_dries_2 3 rfl rfl)
theorem dX3_dries_53 : decode cX3_dries 53 = .ok (.sipush 1000, 3) := dk_17 3 232 (dk_at dksX3_dries_2 5 rfl rfl)
theorem dX3_dries_56 : decode cX3_dries 56 = .ok (.idiv, 1) := dk_108 (dk_at dksX3_dries_2 8 rfl rfl)
theorem dX3_dries_57 : decode cX3_dries 57 = .ok (.goto 11, 3) := dk_167 0 11 (dk_at dksX3_dries_2 9 rfl rfl)
theorem dX3_dries_60 : decode cX3_dries 60 = .ok (.aload_n 0, 1) := dk_42 (dk_at dksX3_dries_2 12 rfl rfl)
theorem dX3_dries_61 : decode cX3_dries 61 = .ok (.iload_n 1, 1) := dk_27 (dk_at dksX3_dries_2 13 rfl rfl)
theorem dX3_dries_62 : decode cX3_dries 62 = .ok (.iconst 3, 1) := dk_6 (dk_at dksX3_dries_2 14 rfl rfl)
theorem dX3_dries_63 : decode cX3_dries 63 = .ok (.invokevirtual 45, 3) := dk_182 0 45 (dk_at dksX3_dries_2 15 rfl rfl)
theorem dX3_dries_66 : decode cX3_dries 66 = .ok (.iconst 1, 1) := dk_4 (dk_at dksX3_dries_2 18 rfl rfl)
theorem dX3_dries_67 : decode cX3_dries 67 = .ok (.isub, 1) := dk_100 (dk_at dksX3_dries_2 19 rfl rfl)
theorem dX3_dries_68 : decode cX3_dries 68 = .ok (.istore 5, 2) := dk_54 5 (dk_at dksX3_dries_2 20 rfl rfl)
theorem dX3_dries_70 : decode cX3_dries 70 = .ok (.aload_n 0, 1) := dk_42 (dk_at dksX3_dries_2 22 rfl rfl)
theorem dX3_dries_71 : decode cX3_dries 71 = .ok (.iload_n 1, 1) := dk_27 (dk_at dksX3_dries_2 23 rfl rfl)
theorem dX3_dries_72 : decode cX3_dries 72 = .ok (.iconst 4, 1) := dk_7 (dk_at dksX3_dries_3 0 rfl rfl)
theorem dX3_dries_73 : decode cX3_dries 73 = .ok (.aload_n 0, 1) := dk_42 (dk_at dksX3_dries_3 1 rfl rfl)
theorem dX3_dries_74 : decode cX3_dries 74 = .ok (.iload_n 1, 1) := dk_27 (dk_at dksX3_dries_3 2 rfl rfl)
theorem dX3_dries_75 : decode cX3_dries 75 = .ok (.iconst 4, 1) := dk_7 (dk_at dksX3_dries_3 3 rfl rfl)
theorem dX3_dries_76 : decode cX3_dries 76 = .ok (.invokevirtual 45, 3) := dk_182 0 45 (dk_at dksX3_dries_3 4 rfl rfl)
theorem dX3_dries_79 : decode cX3_dries 79 = .ok (.iload 4, 2) := dk_21 4 (dk_at dksX3_dries_3 7 rfl rfl)
theorem dX3_dries_81 : decode cX3_dries 81 = .ok (.isub, 1) := dk_100 (dk_at dksX3_dries_3 9 rfl rfl)
theorem dX3_dries_82 : decode cX3_dries 82 = .ok (.invokevirtual 55, 3) := dk_182 0 55 (dk_at dksX3_dries_3 10 rfl rfl)
theorem dX3_dries_85 : decode cX3_dries 85 = .ok (.aload_n 0, 1) := dk_42 (dk_at dksX3_dries_3 13 rfl rfl)
theorem dX3_dries_86 : decode cX3_dries 86 = .ok (.iload_n 1, 1) := dk_27 (dk_at dksX3_dries_3 14 rfl rfl)
theorem dX3_dries_87 : decode cX3_dries 87 = .ok (.iconst 3, 1) := dk_6 (dk_at dksX3_dries_3 15 rfl rfl)
theorem dX3_dries_88 : decode cX3_dries 88 = .ok (.aload_n 0, 1) := dk_42 (dk_at dksX3_dries_3 16 rfl rfl)
theorem dX3_dries_89 : decode cX3_dries 89 = .ok (.iload_n 1, 1) := dk_27 (dk_at dksX3_dries_3 17 rfl rfl)
theorem dX3_dries_90 : decode cX3_dries 90 = .ok (.iconst 3, 1) := dk_6 (dk_at dksX3_dries_3 18 rfl rfl)
theorem dX3_dries_91 : decode cX3_dries 91 = .ok (.invokevirtual 45, 3) := dk_182 0 45 (dk_at dksX3_dries_3 19 rfl rfl)
theorem dX3_dries_94 : decode cX3_dries 94 = .ok (.iload 5, 2) := dk_21 5 (dk_at dksX3_dries_3 22 rfl rfl)
theorem dX3_dries_96 : decode cX3_dries 96 = .ok (.isub, 1) := dk_100 (dk_at dksX3_dries_4 0 rfl rfl)
theorem dX3_dries_97 : decode cX3_dries 97 = .ok (.invokevirtual 55, 3) := dk_182 0 55 (dk_at dksX3_dries_4 1 rfl rfl)
theorem dX3_dries_100 : decode cX3_dries 100 = .ok (.aload_n 0, 1) := dk_42 (dk_at dksX3_dries_4 4 rfl rfl)
theorem dX3_dries_101 : decode cX3_dries 101 = .ok (.iload_n 1, 1) := dk_27 (dk_at dksX3_dries_4 5 rfl rfl)
theorem dX3_dries_102 : decode cX3_dries 102 = .ok (.bipush 8, 2) := dk_16 8 (dk_at dksX3_dries_4 6 rfl rfl)
theorem dX3_dries_104 : decode cX3_dries 104 = .ok (.aload_n 0, 1) := dk_42 (dk_at dksX3_dries_4 8 rfl rfl)
theorem dX3_dries_105 : decode cX3_dries 105 = .ok (.iload_n 1, 1) := dk_27 (dk_at dksX3_dries_4 9 rfl rfl)
theorem dX3_dries_106 : decode cX3_dries 106 = .ok (.bipush 8, 2) := dk_16 8 (dk_at dksX3_dries_4 10 rfl rfl)
theorem dX3_dries_108 : decode cX3_dries 108 = .ok (.invokevirtual 45, 3) := dk_182 0 45 (dk_at dksX3_dries_4 12 rfl rfl)
theorem dX3_dries_111 : decode cX3_dries 111 = .ok (.iload 5, 2) := dk_21 5 (dk_at dksX3_dries_4 15 rfl rfl)
theorem dX3_dries_113 : decode cX3_dries 113 = .ok (.iadd, 1) := dk_96 (dk_at dksX3_dries_4 17 rfl rfl)
theorem dX3_dries_114 : decode cX3_dries 114 = .ok (.invokevirtual 55, 3) := dk_182 0 55 (dk_at dksX3_dries_4 18 rfl rfl)
theorem dX3_dries_117 : decode cX3_dries 117 = .ok (.aload_n 0, 1) := dk_42 (dk_at dksX3_dries_4 21 rfl rfl)
theorem dX3_dries_118 : decode cX3_dries 118 = .ok (.getfield 13, 3) := dk_180 0 13 (dk_at dksX3_dries_5 0 rfl rfl)
theorem dX3_dries_121 : decode cX3_dries 121 = .ok (.iconst 2, 1) := dk_5 (dk_at dksX3_dries_5 3 rfl rfl)
theorem dX3_dries_122 : decode cX3_dries 122 = .ok (.dup2, 1) := dk_92 (dk_at dksX3_dries_5 4 rfl rfl)
theorem dX3_dries_123 : decode cX3_dries 123 = .ok (.laload, 1) := dk_47 (dk_at dksX3_dries_5 5 rfl rfl)
theorem dX3_dries_124 : decode cX3_dries 124 = .ok (.iload 5, 2) := dk_21 5 (dk_at dksX3_dries_5 6 rfl rfl)
theorem dX3_dries_126 : decode cX3_dries 126 = .ok (.i2l, 1) := dk_133 (dk_at dksX3_dries_5 8 rfl rfl)
theorem dX3_dries_127 : decode cX3_dries 127 = .ok (.ladd, 1) := dk_97 (dk_at dksX3_dries_5 9 rfl rfl)
theorem dX3_dries_128 : decode cX3_dries 128 = .ok (.lastore, 1) := dk_80 (dk_at dksX3_dries_5 10 rfl rfl)
theorem dX3_dries_129 : decode cX3_dries 129 = .ok (.aload_n 0, 1) := dk_42 (dk_at dksX3_dries_5 11 rfl rfl)
theorem dX3_dries_130 : decode cX3_dries 130 = .ok (.getfield 13, 3) := dk_180 0 13 (dk_at dksX3_dries_5 12 rfl rfl)
theorem dX3_dries_133 : decode cX3_dries 133 = .ok (.iconst 5, 1) := dk_8 (dk_at dksX3_dries_5 15 rfl rfl)
theorem dX3_dries_134 : decode cX3_dries 134 = .ok (.dup2, 1) := dk_92 (dk_at dksX3_dries_5 16 rfl rfl)
theorem dX3_dries_135 : decode cX3_dries 135 = .ok (.laload, 1) := dk_47 (dk_at dksX3_dries_5 17 rfl rfl)
theorem dX3_dries_136 : decode cX3_dries 136 = .ok (.ldc2_w 158, 3) := dk_20 0 158 (dk_at dksX3_dries_5 18 rfl rfl)
theorem dX3_dries_139 : decode cX3_dries 139 = .ok (.ladd, 1) := dk_97 (dk_at dksX3_dries_5 21 rfl rfl)
theorem dX3_dries_140 : decode cX3_dries 140 = .ok (.lastore, 1) := dk_80 (dk_at dksX3_dries_5 22 rfl rfl)
theorem dX3_dries_141 : decode cX3_dries 141 = .ok (.iinc 3 1, 3) := dk_132 3 1 (dk_at dksX3_dries_6 0 rfl rfl)
theorem dX3_dries_144 : decode cX3_dries 144 = .ok (.goto (-142), 3) := dk_167 255 114 (dk_at dksX3_dries_6 3 rfl rfl)
theorem dX3_dries_147 : decode cX3_dries 147 = .ok (.iload_n 3, 1) := dk_29 (dk_at dksX3_dries_6 6 rfl rfl)
theorem dX3_dries_148 : decode cX3_dries 148 = .ok (.ireturn, 1) := dk_172 (dk_at dksX3_dries_6 7 rfl rfl)
abbrev cX3_dump : ByteArray := prog_10_method_58_code
def yX3_dump : MethodName := ⟨RX3, "dump", "(I)I"⟩
def dkwX3_dump_2 : List UInt8 := [182, 0, 99, 42, 180, 0, 13, 5, 92, 47, 28, 133, 97, 80, 28, 172]
abbrev dktX3_dump_2 : List UInt8 := dkwX3_dump_2 ++ []
def dkwX3_dump_1 : List UInt8 := [16, 8, 42, 27, 16, 8, 182, 0, 45, 28, 96, 182, 0, 55, 42, 27, 6, 3, 182, 0, 55, 42, 27]
abbrev dktX3_dump_1 : List UInt8 := dkwX3_dump_1 ++ dktX3_dump_2
def dkwX3_dump_0 : List UInt8 := [42, 27, 182, 0, 59, 154, 0, 6, 16, 254, 172, 42, 182, 0, 52, 42, 27, 6, 182, 0, 45, 61, 42, 27]
abbrev dktX3_dump_0 : List UInt8 := dkwX3_dump_0 ++ dktX3_dump_1
theorem dksX3_dump_0 : cX3_dump.data.toList.drop 0 = dktX3_dump_0 := by decide +kernel
theorem dksX3_dump_1 : cX3_dump.data.toList.drop 24 = dktX3_dump_1 := dk_seg dksX3_dump_0 24 rfl rfl
theorem dksX3_dump_2 : cX3_dump.data.toList.drop 47 = dktX3_dump_2 := dk_seg dksX3_dump_1 23 rfl rfl
theorem dX3_dump_0 : decode cX3_dump 0 = .ok (.aload_n 0, 1) := dk_42 (dk_at dksX3_dump_0 0 rfl rfl)
theorem dX3_dump_1 : decode cX3_dump 1 = .ok (.iload_n 1, 1) := dk_27 (dk_at dksX3_dump_0 1 rfl rfl)
theorem dX3_dump_2 : decode cX3_dump 2 = .ok (.invokevirtual 59, 3) := dk_182 0 59 (dk_at dksX3_dump_0 2 rfl rfl)
theorem dX3_dump_5 : decode cX3_dump 5 = .ok (.ifCond .ne 6, 3) := dk_154 0 6 (dk_at dksX3_dump_0 5 rfl rfl)
theorem dX3_dump_8 : decode cX3_dump 8 = .ok (.bipush (-2), 2) := dk_16 254 (dk_at dksX3_dump_0 8 rfl rfl)
theorem dX3_dump_10 : decode cX3_dump 10 = .ok (.ireturn, 1) := dk_172 (dk_at dksX3_dump_0 10 rfl rfl)
theorem dX3_dump_11 : decode cX3_dump 11 = .ok (.aload_n 0, 1) := dk_42 (dk_at dksX3_dump_0 11 rfl rfl)
theorem dX3_dump_12 : decode cX3_dump 12 = .ok (.invokevirtual 52, 3) := dk_182 0 52 (dk_at dksX3_dump_0 12 rfl rfl)
theorem dX3_dump_15 : decode cX3_dump 15 = .ok (.aload_n 0, 1) := dk_42 (dk_at dksX3_dump_0 15 rfl rfl)
theorem dX3_dump_16 : decode cX3_dump 16 = .ok (.iload_n 1, 1) := dk_27 (dk_at dksX3_dump_0 16 rfl rfl)
theorem dX3_dump_17 : decode cX3_dump 17 = .ok (.iconst 3, 1) := dk_6 (dk_at dksX3_dump_0 17 rfl rfl)
theorem dX3_dump_18 : decode cX3_dump 18 = .ok (.invokevirtual 45, 3) := dk_182 0 45 (dk_at dksX3_dump_0 18 rfl rfl)
theorem dX3_dump_21 : decode cX3_dump 21 = .ok (.istore_n 2, 1) := dk_61 (dk_at dksX3_dump_0 21 rfl rfl)
theorem dX3_dump_22 : decode cX3_dump 22 = .ok (.aload_n 0, 1) := dk_42 (dk_at dksX3_dump_0 22 rfl rfl)
theorem dX3_dump_23 : decode cX3_dump 23 = .ok (.iload_n 1, 1) := dk_27 (dk_at dksX3_dump_0 23 rfl rfl)
theorem dX3_dump_24 : decode cX3_dump 24 = .ok (.bipush 8, 2) := dk_16 8 (dk_at dksX3_dump_1 0 rfl rfl)
theorem dX3_dump_26 : decode cX3_dump 26 = .ok (.aload_n 0, 1) := dk_42 (dk_at dksX3_dump_1 2 rfl rfl)
theorem dX3_dump_27 : decode cX3_dump 27 = .ok (.iload_n 1, 1) := dk_27 (dk_at dksX3_dump_1 3 rfl rfl)
theorem dX3_dump_28 : decode cX3_dump 28 = .ok (.bipush 8, 2) := dk_16 8 (dk_at dksX3_dump_1 4 rfl rfl)
theorem dX3_dump_30 : decode cX3_dump 30 = .ok (.invokevirtual 45, 3) := dk_182 0 45 (dk_at dksX3_dump_1 6 rfl rfl)
theorem dX3_dump_33 : decode cX3_dump 33 = .ok (.iload_n 2, 1) := dk_28 (dk_at dksX3_dump_1 9 rfl rfl)
theorem dX3_dump_34 : decode cX3_dump 34 = .ok (.iadd, 1) := dk_96 (dk_at dksX3_dump_1 10 rfl rfl)
theorem dX3_dump_35 : decode cX3_dump 35 = .ok (.invokevirtual 55, 3) := dk_182 0 55 (dk_at dksX3_dump_1 11 rfl rfl)
theorem dX3_dump_38 : decode cX3_dump 38 = .ok (.aload_n 0, 1) := dk_42 (dk_at dksX3_dump_1 14 rfl rfl)
theorem dX3_dump_39 : decode cX3_dump 39 = .ok (.iload_n 1, 1) := dk_27 (dk_at dksX3_dump_1 15 rfl rfl)
theorem dX3_dump_40 : decode cX3_dump 40 = .ok (.iconst 3, 1) := dk_6 (dk_at dksX3_dump_1 16 rfl rfl)
theorem dX3_dump_41 : decode cX3_dump 41 = .ok (.iconst 0, 1) := dk_3 (dk_at dksX3_dump_1 17 rfl rfl)
theorem dX3_dump_42 : decode cX3_dump 42 = .ok (.invokevirtual 55, 3) := dk_182 0 55 (dk_at dksX3_dump_1 18 rfl rfl)
theorem dX3_dump_45 : decode cX3_dump 45 = .ok (.aload_n 0, 1) := dk_42 (dk_at dksX3_dump_1 21 rfl rfl)
theorem dX3_dump_46 : decode cX3_dump 46 = .ok (.iload_n 1, 1) := dk_27 (dk_at dksX3_dump_1 22 rfl rfl)
theorem dX3_dump_47 : decode cX3_dump 47 = .ok (.invokevirtual 99, 3) := dk_182 0 99 (dk_at dksX3_dump_2 0 rfl rfl)
theorem dX3_dump_50 : decode cX3_dump 50 = .ok (.aload_n 0, 1) := dk_42 (dk_at dksX3_dump_2 3 rfl rfl)
theorem dX3_dump_51 : decode cX3_dump 51 = .ok (.getfield 13, 3) := dk_180 0 13 (dk_at dksX3_dump_2 4 rfl rfl)
theorem dX3_dump_54 : decode cX3_dump 54 = .ok (.iconst 2, 1) := dk_5 (dk_at dksX3_dump_2 7 rfl rfl)
theorem dX3_dump_55 : decode cX3_dump 55 = .ok (.dup2, 1) := dk_92 (dk_at dksX3_dump_2 8 rfl rfl)
theorem dX3_dump_56 : decode cX3_dump 56 = .ok (.laload, 1) := dk_47 (dk_at dksX3_dump_2 9 rfl rfl)
theorem dX3_dump_57 : decode cX3_dump 57 = .ok (.iload_n 2, 1) := dk_28 (dk_at dksX3_dump_2 10 rfl rfl)
theorem dX3_dump_58 : decode cX3_dump 58 = .ok (.i2l, 1) := dk_133 (dk_at dksX3_dump_2 11 rfl rfl)
theorem dX3_dump_59 : decode cX3_dump 59 = .ok (.ladd, 1) := dk_97 (dk_at dksX3_dump_2 12 rfl rfl)
theorem dX3_dump_60 : decode cX3_dump 60 = .ok (.lastore, 1) := dk_80 (dk_at dksX3_dump_2 13 rfl rfl)
theorem dX3_dump_61 : decode cX3_dump 61 = .ok (.iload_n 2, 1) := dk_28 (dk_at dksX3_dump_2 14 rfl rfl)
theorem dX3_dump_62 : decode cX3_dump 62 = .ok (.ireturn, 1) := dk_172 (dk_at dksX3_dump_2 15 rfl rfl)
abbrev cX3_addContract : ByteArray := prog_10_method_59_code
def yX3_addContract : MethodName := ⟨RX3, "addContract", "(IIII)I"⟩
def dkwX3_addContract_6 : List UInt8 := [7, 92, 46, 4, 96, 79, 42, 180, 0, 7, 7, 46, 4, 100, 172]
abbrev dktX3_addContract_6 : List UInt8 := dkwX3_addContract_6 ++ []
def dkwX3_addContract_5 : List UInt8 := [42, 180, 0, 7, 21, 5, 7, 96, 4, 79, 42, 180, 0, 7, 21, 5, 8, 96, 2, 79, 42, 180, 0, 7]
abbrev dktX3_addContract_5 : List UInt8 := dkwX3_addContract_5 ++ dktX3_addContract_6
def dkwX3_addContract_4 : List UInt8 := [96, 28, 79, 42, 180, 0, 7, 21, 5, 5, 96, 29, 79, 42, 180, 0, 7, 21, 5, 6, 96, 21, 4, 79]
abbrev dktX3_addContract_4 : List UInt8 := dkwX3_addContract_4 ++ dktX3_addContract_5
def dkwX3_addContract_3 : List UInt8 := [180, 0, 7, 7, 46, 104, 96, 54, 5, 42, 180, 0, 7, 21, 5, 27, 79, 42, 180, 0, 7, 21, 5, 4]
abbrev dktX3_addContract_3 : List UInt8 := dkwX3_addContract_3 ++ dktX3_addContract_4
def dkwX3_addContract_2 : List UInt8 := [42, 180, 0, 7, 7, 46, 16, 6, 160, 0, 6, 16, 251, 172, 42, 182, 0, 52, 16, 94, 16, 6, 42]
abbrev dktX3_addContract_2 : List UInt8 := dkwX3_addContract_2 ++ dktX3_addContract_3
def dkwX3_addContract_1 : List UInt8 := [17, 1, 144, 184, 0, 41, 153, 0, 15, 21, 4, 4, 17, 7, 208, 184, 0, 41, 154, 0, 6, 16, 253, 172]
abbrev dktX3_addContract_1 : List UInt8 := dkwX3_addContract_1 ++ dktX3_addContract_2
def dkwX3_addContract_0 : List UInt8 := [27, 184, 0, 70, 154, 0, 6, 16, 254, 172, 28, 4, 17, 78, 32, 184, 0, 41, 153, 0, 27, 29, 16, 50]
abbrev dktX3_addContract_0 : List UInt8 := dkwX3_addContract_0 ++ dktX3_addContract_1
theorem dksX3_addContract_0 : cX3_addContract.data.toList.drop 0 = dktX3_addContract_0 := by decide +kernel
theorem dksX3_addContract_1 : cX3_addContract.data.toList.drop 24 = dktX3_addContract_1 := dk_seg dksX3_addContract_0 24 rfl rfl
theorem dksX3_addContract_2 : cX3_addContract.data.toList.drop 48 = dktX3_addContract_2 := dk_seg dksX3_addContract_1 24 rfl rfl
theorem dksX3_addContract_3 : cX3_addContract.data.toList.drop 71 = dktX3_addContract_3 := dk_seg dksX3_addContract_2 23 rfl rfl
theorem dksX3_addContract_4 : cX3_addContract.data.toList.drop 95 = dktX3_addContract_4 := dk_seg dksX3_addContract_3 24 rfl rfl
theorem dksX3_addContract_5 : cX3_addContract.data.toList.drop 119 = dktX3_addContract_5 := dk_seg dksX3_addContract_4 24 rfl rfl
theorem dksX3_addContract_6 : cX3_addContract.data.toList.drop 143 = dktX3_addContract_6 := dk_seg dksX3_addContract_5 24 rfl rfl
theorem dX3_addContract_0 : decode cX3_addContract 0 = .ok (.iload_n 1, 1) := dk_27 (dk_at dksX3_addContract_0 0 rfl rfl)
theorem dX3_addContract_1 : decode cX3_addContract 1 = .ok (.invokestatic 70, 3) := dk_184 0 70 (dk_at dksX3_addContract_0 1 rfl rfl)
theorem dX3_addContract_4 : decode cX3_addContract 4 = .ok (.ifCond .ne 6, 3) := dk_154 0 6 (dk_at dksX3_addContract_0 4 rfl rfl)
theorem dX3_addContract_7 : decode cX3_addContract 7 = .ok (.bipush (-2), 2) := dk_16 254 (dk_at dksX3_addContract_0 7 rfl rfl)
theorem dX3_addContract_9 : decode cX3_addContract 9 = .ok (.ireturn, 1) := dk_172 (dk_at dksX3_addContract_0 9 rfl rfl)
theorem dX3_addContract_10 : decode cX3_addContract 10 = .ok (.iload_n 2, 1) := dk_28 (dk_at dksX3_addContract_0 10 rfl rfl)
theorem dX3_addContract_11 : decode cX3_addContract 11 = .ok (.iconst 1, 1) := dk_4 (dk_at dksX3_addContract_0 11 rfl rfl)
theorem dX3_addContract_12 : decode cX3_addContract 12 = .ok (.sipush 20000, 3) := dk_17 78 32 (dk_at dksX3_addContract_0 12 rfl rfl)
theorem dX3_addContract_15 : decode cX3_addContract 15 = .ok (.invokestatic 41, 3) := dk_184 0 41 (dk_at dksX3_addContract_0 15 rfl rfl)
theorem dX3_addContract_18 : decode cX3_addContract 18 = .ok (.ifCond .eq 27, 3) := dk_153 0 27 (dk_at dksX3_addContract_0 18 rfl rfl)
theorem dX3_addContract_21 : decode cX3_addContract 21 = .ok (.iload_n 3, 1) := dk_29 (dk_at dksX3_addContract_0 21 rfl rfl)
theorem dX3_addContract_22 : decode cX3_addContract 22 = .ok (.bipush 50, 2) := dk_16 50 (dk_at dksX3_addContract_0 22 rfl rfl)
theorem dX3_addContract_24 : decode cX3_addContract 24 = .ok (.sipush 400, 3) := dk_17 1 144 (dk_at dksX3_addContract_1 0 rfl rfl)
theorem dX3_addContract_27 : decode cX3_addContract 27 = .ok (.invokestatic 41, 3) := dk_184 0 41 (dk_at dksX3_addContract_1 3 rfl rfl)
theorem dX3_addContract_30 : decode cX3_addContract 30 = .ok (.ifCond .eq 15, 3) := dk_153 0 15 (dk_at dksX3_addContract_1 6 rfl rfl)
theorem dX3_addContract_33 : decode cX3_addContract 33 = .ok (.iload 4, 2) := dk_21 4 (dk_at dksX3_addContract_1 9 rfl rfl)
theorem dX3_addContract_35 : decode cX3_addContract 35 = .ok (.iconst 1, 1) := dk_4 (dk_at dksX3_addContract_1 11 rfl rfl)
theorem dX3_addContract_36 : decode cX3_addContract 36 = .ok (.sipush 2000, 3) := dk_17 7 208 (dk_at dksX3_addContract_1 12 rfl rfl)
theorem dX3_addContract_39 : decode cX3_addContract 39 = .ok (.invokestatic 41, 3) := dk_184 0 41 (dk_at dksX3_addContract_1 15 rfl rfl)
theorem dX3_addContract_42 : decode cX3_addContract 42 = .ok (.ifCond .ne 6, 3) := dk_154 0 6 (dk_at dksX3_addContract_1 18 rfl rfl)
theorem dX3_addContract_45 : decode cX3_addContract 45 = .ok (.bipush (-3), 2) := dk_16 253 (dk_at dksX3_addContract_1 21 rfl rfl)
theorem dX3_addContract_47 : decode cX3_addContract 47 = .ok (.ireturn, 1) := dk_172 (dk_at dksX3_addContract_1 23 rfl rfl)
theorem dX3_addContract_48 : decode cX3_addContract 48 = .ok (.aload_n 0, 1) := dk_42 (dk_at dksX3_addContract_2 0 rfl rfl)
theorem dX3_addContract_49 : decode cX3_addContract 49 = .ok (.getfield 7, 3) := dk_180 0 7 (dk_at dksX3_addContract_2 1 rfl rfl)
theorem dX3_addContract_52 : decode cX3_addContract 52 = .ok (.iconst 4, 1) := dk_7 (dk_at dksX3_addContract_2 4 rfl rfl)
theorem dX3_addContract_53 : decode cX3_addContract 53 = .ok (.iaload, 1) := dk_46 (dk_at dksX3_addContract_2 5 rfl rfl)
theorem dX3_addContract_54 : decode cX3_addContract 54 = .ok (.bipush 6, 2) := dk_16 6 (dk_at dksX3_addContract_2 6 rfl rfl)
theorem dX3_addContract_56 : decode cX3_addContract 56 = .ok (.if_icmp .ne 6, 3) := dk_160 0 6 (dk_at dksX3_addContract_2 8 rfl rfl)
theorem dX3_addContract_59 : decode cX3_addContract 59 = .ok (.bipush (-5), 2) := dk_16 251 (dk_at dksX3_addContract_2 11 rfl rfl)
theorem dX3_addContract_61 : decode cX3_addContract 61 = .ok (.ireturn, 1) := dk_172 (dk_at dksX3_addContract_2 13 rfl rfl)
theorem dX3_addContract_62 : decode cX3_addContract 62 = .ok (.aload_n 0, 1) := dk_42 (dk_at dksX3_addContract_2 14 rfl rfl)
theorem dX3_addContract_63 : decode cX3_addContract 63 = .ok (.invokevirtual 52, 3) := dk_182 0 52 (dk_at dksX3_addContract_2 15 rfl rfl)
theorem dX3_addContract_66 : decode cX3_addContract 66 = .ok (.bipush 94, 2) := dk_16 94 (dk_at dksX3_addContract_2 18 rfl rfl)
theorem dX3_addContract_68 : decode cX3_addContract 68 = .ok (.bipush 6, 2) := dk_16 6 (dk_at dksX3_addContract_2 20 rfl rfl)
theorem dX3_addContract_70 : decode cX3_addContract 70 = .ok (.aload_n 0, 1) := dk_42 (dk_at dksX3_addContract_2 22 rfl rfl)
theorem dX3_addContract_71 : decode cX3_addContract 71 = .ok (.getfield 7, 3) := dk_180 0 7 (dk_at dksX3_addContract_3 0 rfl rfl)
theorem dX3_addContract_74 : decode cX3_addContract 74 = .ok (.iconst 4, 1) := dk_7 (dk_at dksX3_addContract_3 3 rfl rfl)
theorem dX3_addContract_75 : decode cX3_addContract 75 = .ok (.iaload, 1) := dk_46 (dk_at dksX3_addContract_3 4 rfl rfl)
theorem dX3_addContract_76 : decode cX3_addContract 76 = .ok (.imul, 1) := dk_104 (dk_at dksX3_addContract_3 5 rfl rfl)
theorem dX3_addContract_77 : decode cX3_addContract 77 = .ok (.iadd, 1) := dk_96 (dk_at dksX3_addContract_3 6 rfl rfl)
theorem dX3_addContract_78 : decode cX3_addContract 78 = .ok (.istore 5, 2) := dk_54 5 (dk_at dksX3_addContract_3 7 rfl rfl)
theorem dX3_addContract_80 : decode cX3_addContract 80 = .ok (.aload_n 0, 1) := dk_42 (dk_at dksX3_addContract_3 9 rfl rfl)
theorem dX3_addContract_81 : decode cX3_addContract 81 = .ok (.getfield 7, 3) := dk_180 0 7 (dk_at dksX3_addContract_3 10 rfl rfl)
theorem dX3_addContract_84 : decode cX3_addContract 84 = .ok (.iload 5, 2) := dk_21 5 (dk_at dksX3_addContract_3 13 rfl rfl)
theorem dX3_addContract_86 : decode cX3_addContract 86 = .ok (.iload_n 1, 1) := dk_27 (dk_at dksX3_addContract_3 15 rfl rfl)
theorem dX3_addContract_87 : decode cX3_addContract 87 = .ok (.iastore, 1) := dk_79 (dk_at dksX3_addContract_3 16 rfl rfl)
theorem dX3_addContract_88 : decode cX3_addContract 88 = .ok (.aload_n 0, 1) := dk_42 (dk_at dksX3_addContract_3 17 rfl rfl)
theorem dX3_addContract_89 : decode cX3_addContract 89 = .ok (.getfield 7, 3) := dk_180 0 7 (dk_at dksX3_addContract_3 18 rfl rfl)
theorem dX3_addContract_92 : decode cX3_addContract 92 = .ok (.iload 5, 2) := dk_21 5 (dk_at dksX3_addContract_3 21 rfl rfl)
theorem dX3_addContract_94 : decode cX3_addContract 94 = .ok (.iconst 1, 1) := dk_4 (dk_at dksX3_addContract_3 23 rfl rfl)
theorem dX3_addContract_95 : decode cX3_addContract 95 = .ok (.iadd, 1) := dk_96 (dk_at dksX3_addContract_4 0 rfl rfl)
theorem dX3_addContract_96 : decode cX3_addContract 96 = .ok (.iload_n 2, 1) := dk_28 (dk_at dksX3_addContract_4 1 rfl rfl)
theorem dX3_addContract_97 : decode cX3_addContract 97 = .ok (.iastore, 1) := dk_79 (dk_at dksX3_addContract_4 2 rfl rfl)
theorem dX3_addContract_98 : decode cX3_addContract 98 = .ok (.aload_n 0, 1) := dk_42 (dk_at dksX3_addContract_4 3 rfl rfl)
theorem dX3_addContract_99 : decode cX3_addContract 99 = .ok (.getfield 7, 3) := dk_180 0 7 (dk_at dksX3_addContract_4 4 rfl rfl)
theorem dX3_addContract_102 : decode cX3_addContract 102 = .ok (.iload 5, 2) := dk_21 5 (dk_at dksX3_addContract_4 7 rfl rfl)
theorem dX3_addContract_104 : decode cX3_addContract 104 = .ok (.iconst 2, 1) := dk_5 (dk_at dksX3_addContract_4 9 rfl rfl)
theorem dX3_addContract_105 : decode cX3_addContract 105 = .ok (.iadd, 1) := dk_96 (dk_at dksX3_addContract_4 10 rfl rfl)
theorem dX3_addContract_106 : decode cX3_addContract 106 = .ok (.iload_n 3, 1) := dk_29 (dk_at dksX3_addContract_4 11 rfl rfl)
theorem dX3_addContract_107 : decode cX3_addContract 107 = .ok (.iastore, 1) := dk_79 (dk_at dksX3_addContract_4 12 rfl rfl)
theorem dX3_addContract_108 : decode cX3_addContract 108 = .ok (.aload_n 0, 1) := dk_42 (dk_at dksX3_addContract_4 13 rfl rfl)
theorem dX3_addContract_109 : decode cX3_addContract 109 = .ok (.getfield 7, 3) := dk_180 0 7 (dk_at dksX3_addContract_4 14 rfl rfl)
theorem dX3_addContract_112 : decode cX3_addContract 112 = .ok (.iload 5, 2) := dk_21 5 (dk_at dksX3_addContract_4 17 rfl rfl)
theorem dX3_addContract_114 : decode cX3_addContract 114 = .ok (.iconst 3, 1) := dk_6 (dk_at dksX3_addContract_4 19 rfl rfl)
theorem dX3_addContract_115 : decode cX3_addContract 115 = .ok (.iadd, 1) := dk_96 (dk_at dksX3_addContract_4 20 rfl rfl)
theorem dX3_addContract_116 : decode cX3_addContract 116 = .ok (.iload 4, 2) := dk_21 4 (dk_at dksX3_addContract_4 21 rfl rfl)
theorem dX3_addContract_118 : decode cX3_addContract 118 = .ok (.iastore, 1) := dk_79 (dk_at dksX3_addContract_4 23 rfl rfl)
theorem dX3_addContract_119 : decode cX3_addContract 119 = .ok (.aload_n 0, 1) := dk_42 (dk_at dksX3_addContract_5 0 rfl rfl)
theorem dX3_addContract_120 : decode cX3_addContract 120 = .ok (.getfield 7, 3) := dk_180 0 7 (dk_at dksX3_addContract_5 1 rfl rfl)
theorem dX3_addContract_123 : decode cX3_addContract 123 = .ok (.iload 5, 2) := dk_21 5 (dk_at dksX3_addContract_5 4 rfl rfl)
theorem dX3_addContract_125 : decode cX3_addContract 125 = .ok (.iconst 4, 1) := dk_7 (dk_at dksX3_addContract_5 6 rfl rfl)
theorem dX3_addContract_126 : decode cX3_addContract 126 = .ok (.iadd, 1) := dk_96 (dk_at dksX3_addContract_5 7 rfl rfl)
theorem dX3_addContract_127 : decode cX3_addContract 127 = .ok (.iconst 1, 1) := dk_4 (dk_at dksX3_addContract_5 8 rfl rfl)
theorem dX3_addContract_128 : decode cX3_addContract 128 = .ok (.iastore, 1) := dk_79 (dk_at dksX3_addContract_5 9 rfl rfl)
theorem dX3_addContract_129 : decode cX3_addContract 129 = .ok (.aload_n 0, 1) := dk_42 (dk_at dksX3_addContract_5 10 rfl rfl)
theorem dX3_addContract_130 : decode cX3_addContract 130 = .ok (.getfield 7, 3) := dk_180 0 7 (dk_at dksX3_addContract_5 11 rfl rfl)
theorem dX3_addContract_133 : decode cX3_addContract 133 = .ok (.iload 5, 2) := dk_21 5 (dk_at dksX3_addContract_5 14 rfl rfl)
theorem dX3_addContract_135 : decode cX3_addContract 135 = .ok (.iconst 5, 1) := dk_8 (dk_at dksX3_addContract_5 16 rfl rfl)
theorem dX3_addContract_136 : decode cX3_addContract 136 = .ok (.iadd, 1) := dk_96 (dk_at dksX3_addContract_5 17 rfl rfl)
theorem dX3_addContract_137 : decode cX3_addContract 137 = .ok (.iconst (-1), 1) := dk_2 (dk_at dksX3_addContract_5 18 rfl rfl)
theorem dX3_addContract_138 : decode cX3_addContract 138 = .ok (.iastore, 1) := dk_79 (dk_at dksX3_addContract_5 19 rfl rfl)
theorem dX3_addContract_139 : decode cX3_addContract 139 = .ok (.aload_n 0, 1) := dk_42 (dk_at dksX3_addContract_5 20 rfl rfl)
theorem dX3_addContract_140 : decode cX3_addContract 140 = .ok (.getfield 7, 3) := dk_180 0 7 (dk_at dksX3_addContract_5 21 rfl rfl)
theorem dX3_addContract_143 : decode cX3_addContract 143 = .ok (.iconst 4, 1) := dk_7 (dk_at dksX3_addContract_6 0 rfl rfl)
theorem dX3_addContract_144 : decode cX3_addContract 144 = .ok (.dup2, 1) := dk_92 (dk_at dksX3_addContract_6 1 rfl rfl)
theorem dX3_addContract_145 : decode cX3_addContract 145 = .ok (.iaload, 1) := dk_46 (dk_at dksX3_addContract_6 2 rfl rfl)
theorem dX3_addContract_146 : decode cX3_addContract 146 = .ok (.iconst 1, 1) := dk_4 (dk_at dksX3_addContract_6 3 rfl rfl)
theorem dX3_addContract_147 : decode cX3_addContract 147 = .ok (.iadd, 1) := dk_96 (dk_at dksX3_addContract_6 4 rfl rfl)
theorem dX3_addContract_148 : decode cX3_addContract 148 = .ok (.iastore, 1) := dk_79 (dk_at dksX3_addContract_6 5 rfl rfl)
theorem dX3_addContract_149 : decode cX3_addContract 149 = .ok (.aload_n 0, 1) := dk_42 (dk_at dksX3_addContract_6 6 rfl rfl)
theorem dX3_addContract_150 : decode cX3_addContract 150 = .ok (.getfield 7, 3) := dk_180 0 7 (dk_at dksX3_addContract_6 7 rfl rfl)
theorem dX3_addContract_153 : decode cX3_addContract 153 = .ok (.iconst 4, 1) := dk_7 (dk_at dksX3_addContract_6 10 rfl rfl)
theorem dX3_addContract_154 : decode cX3_addContract 154 = .ok (.iaload, 1) := dk_46 (dk_at dksX3_addContract_6 11 rfl rfl)
theorem dX3_addContract_155 : decode cX3_addContract 155 = .ok (.iconst 1, 1) := dk_4 (dk_at dksX3_addContract_6 12 rfl rfl)
theorem dX3_addContract_156 : decode cX3_addContract 156 = .ok (.isub, 1) := dk_100 (dk_at dksX3_addContract_6 13 rfl rfl)
theorem dX3_addContract_157 : decode cX3_addContract 157 = .ok (.ireturn, 1) := dk_172 (dk_at dksX3_addContract_6 14 rfl rfl)
abbrev cX3_contract : ByteArray := prog_10_method_60_code
def yX3_contract : MethodName := ⟨RX3, "contract", "(II)I"⟩
def dkwX3_contract_1 : List UInt8 := [182, 0, 76, 167, 0, 5, 16, 253, 172]
abbrev dktX3_contract_1 : List UInt8 := dkwX3_contract_1 ++ []
def dkwX3_contract_0 : List UInt8 := [42, 27, 182, 0, 166, 154, 0, 6, 16, 254, 172, 28, 3, 8, 184, 0, 41, 153, 0, 12, 42, 27, 28]
abbrev dktX3_contract_0 : List UInt8 := dkwX3_contract_0 ++ dktX3_contract_1
theorem dksX3_contract_0 : cX3_contract.data.toList.drop 0 = dktX3_contract_0 := by decide +kernel
theorem dksX3_contract_1 : cX3_contract.data.toList.drop 23 = dktX3_contract_1 := dk_seg dksX3_contract_0 23 rfl rfl
theorem dX3_contract_0 : decode cX3_contract 0 = .ok (.aload_n 0, 1) := dk_42 (dk_at dksX3_contract_0 0 rfl rfl)
theorem dX3_contract_1 : decode cX3_contract 1 = .ok (.iload_n 1, 1) := dk_27 (dk_at dksX3_contract_0 1 rfl rfl)
theorem dX3_contract_2 : decode cX3_contract 2 = .ok (.invokevirtual 166, 3) := dk_182 0 166 (dk_at dksX3_contract_0 2 rfl rfl)
theorem dX3_contract_5 : decode cX3_contract 5 = .ok (.ifCond .ne 6, 3) := dk_154 0 6 (dk_at dksX3_contract_0 5 rfl rfl)
theorem dX3_contract_8 : decode cX3_contract 8 = .ok (.bipush (-2), 2) := dk_16 254 (dk_at dksX3_contract_0 8 rfl rfl)
theorem dX3_contract_10 : decode cX3_contract 10 = .ok (.ireturn, 1) := dk_172 (dk_at dksX3_contract_0 10 rfl rfl)
theorem dX3_contract_11 : decode cX3_contract 11 = .ok (.iload_n 2, 1) := dk_28 (dk_at dksX3_contract_0 11 rfl rfl)
theorem dX3_contract_12 : decode cX3_contract 12 = .ok (.iconst 0, 1) := dk_3 (dk_at dksX3_contract_0 12 rfl rfl)
theorem dX3_contract_13 : decode cX3_contract 13 = .ok (.iconst 5, 1) := dk_8 (dk_at dksX3_contract_0 13 rfl rfl)
theorem dX3_contract_14 : decode cX3_contract 14 = .ok (.invokestatic 41, 3) := dk_184 0 41 (dk_at dksX3_contract_0 14 rfl rfl)
theorem dX3_contract_17 : decode cX3_contract 17 = .ok (.ifCond .eq 12, 3) := dk_153 0 12 (dk_at dksX3_contract_0 17 rfl rfl)
theorem dX3_contract_20 : decode cX3_contract 20 = .ok (.aload_n 0, 1) := dk_42 (dk_at dksX3_contract_0 20 rfl rfl)
theorem dX3_contract_21 : decode cX3_contract 21 = .ok (.iload_n 1, 1) := dk_27 (dk_at dksX3_contract_0 21 rfl rfl)
theorem dX3_contract_22 : decode cX3_contract 22 = .ok (.iload_n 2, 1) := dk_28 (dk_at dksX3_contract_0 22 rfl rfl)
theorem dX3_contract_23 : decode cX3_contract 23 = .ok (.invokevirtual 76, 3) := dk_182 0 76 (dk_at dksX3_contract_1 0 rfl rfl)
theorem dX3_contract_26 : decode cX3_contract 26 = .ok (.goto 5, 3) := dk_167 0 5 (dk_at dksX3_contract_1 3 rfl rfl)
theorem dX3_contract_29 : decode cX3_contract 29 = .ok (.bipush (-3), 2) := dk_16 253 (dk_at dksX3_contract_1 6 rfl rfl)
theorem dX3_contract_31 : decode cX3_contract 31 = .ok (.ireturn, 1) := dk_172 (dk_at dksX3_contract_1 8 rfl rfl)
abbrev cX3_isContract : ByteArray := prog_10_method_11_code
def yX3_isContract : MethodName := ⟨RX3, "isContract", "(I)Z"⟩
def dkwX3_isContract_0 : List UInt8 := [27, 3, 42, 180, 0, 7, 7, 46, 4, 100, 184, 0, 41, 172]
abbrev dktX3_isContract_0 : List UInt8 := dkwX3_isContract_0 ++ []
theorem dksX3_isContract_0 : cX3_isContract.data.toList.drop 0 = dktX3_isContract_0 := by decide +kernel
theorem dX3_isContract_0 : decode cX3_isContract 0 = .ok (.iload_n 1, 1) := dk_27 (dk_at dksX3_isContract_0 0 rfl rfl)
theorem dX3_isContract_1 : decode cX3_isContract 1 = .ok (.iconst 0, 1) := dk_3 (dk_at dksX3_isContract_0 1 rfl rfl)
theorem dX3_isContract_2 : decode cX3_isContract 2 = .ok (.aload_n 0, 1) := dk_42 (dk_at dksX3_isContract_0 2 rfl rfl)
theorem dX3_isContract_3 : decode cX3_isContract 3 = .ok (.getfield 7, 3) := dk_180 0 7 (dk_at dksX3_isContract_0 3 rfl rfl)
theorem dX3_isContract_6 : decode cX3_isContract 6 = .ok (.iconst 4, 1) := dk_7 (dk_at dksX3_isContract_0 6 rfl rfl)
theorem dX3_isContract_7 : decode cX3_isContract 7 = .ok (.iaload, 1) := dk_46 (dk_at dksX3_isContract_0 7 rfl rfl)
theorem dX3_isContract_8 : decode cX3_isContract 8 = .ok (.iconst 1, 1) := dk_4 (dk_at dksX3_isContract_0 8 rfl rfl)
theorem dX3_isContract_9 : decode cX3_isContract 9 = .ok (.isub, 1) := dk_100 (dk_at dksX3_isContract_0 9 rfl rfl)
theorem dX3_isContract_10 : decode cX3_isContract 10 = .ok (.invokestatic 41, 3) := dk_184 0 41 (dk_at dksX3_isContract_0 10 rfl rfl)
theorem dX3_isContract_13 : decode cX3_isContract 13 = .ok (.ireturn, 1) := dk_172 (dk_at dksX3_isContract_0 13 rfl rfl)
abbrev cX3_blend : ByteArray := prog_10_method_66_code
def yX3_blend : MethodName := ⟨RX3, "blend", "(II)I"⟩
def dkwX3_blend_1 : List UInt8 := [182, 0, 181, 158, 0, 7, 2, 167, 0, 9, 42, 27, 28, 182, 0, 184, 172]
abbrev dktX3_blend_1 : List UInt8 := dkwX3_blend_1 ++ []
def dkwX3_blend_0 : List UInt8 := [42, 27, 182, 0, 166, 153, 0, 11, 42, 28, 182, 0, 63, 154, 0, 6, 16, 254, 172, 42, 27, 28]
abbrev dktX3_blend_0 : List UInt8 := dkwX3_blend_0 ++ dktX3_blend_1
theorem dksX3_blend_0 : cX3_blend.data.toList.drop 0 = dktX3_blend_0 := by decide +kernel
theorem dksX3_blend_1 : cX3_blend.data.toList.drop 22 = dktX3_blend_1 := dk_seg dksX3_blend_0 22 rfl rfl
theorem dX3_blend_0 : decode cX3_blend 0 = .ok (.aload_n 0, 1) := dk_42 (dk_at dksX3_blend_0 0 rfl rfl)
theorem dX3_blend_1 : decode cX3_blend 1 = .ok (.iload_n 1, 1) := dk_27 (dk_at dksX3_blend_0 1 rfl rfl)
theorem dX3_blend_2 : decode cX3_blend 2 = .ok (.invokevirtual 166, 3) := dk_182 0 166 (dk_at dksX3_blend_0 2 rfl rfl)
theorem dX3_blend_5 : decode cX3_blend 5 = .ok (.ifCond .eq 11, 3) := dk_153 0 11 (dk_at dksX3_blend_0 5 rfl rfl)
theorem dX3_blend_8 : decode cX3_blend 8 = .ok (.aload_n 0, 1) := dk_42 (dk_at dksX3_blend_0 8 rfl rfl)
theorem dX3_blend_9 : decode cX3_blend 9 = .ok (.iload_n 2, 1) := dk_28 (dk_at dksX3_blend_0 9 rfl rfl)
theorem dX3_blend_10 : decode cX3_blend 10 = .ok (.invokevirtual 63, 3) := dk_182 0 63 (dk_at dksX3_blend_0 10 rfl rfl)
theorem dX3_blend_13 : decode cX3_blend 13 = .ok (.ifCond .ne 6, 3) := dk_154 0 6 (dk_at dksX3_blend_0 13 rfl rfl)
theorem dX3_blend_16 : decode cX3_blend 16 = .ok (.bipush (-2), 2) := dk_16 254 (dk_at dksX3_blend_0 16 rfl rfl)
theorem dX3_blend_18 : decode cX3_blend 18 = .ok (.ireturn, 1) := dk_172 (dk_at dksX3_blend_0 18 rfl rfl)
theorem dX3_blend_19 : decode cX3_blend 19 = .ok (.aload_n 0, 1) := dk_42 (dk_at dksX3_blend_0 19 rfl rfl)
theorem dX3_blend_20 : decode cX3_blend 20 = .ok (.iload_n 1, 1) := dk_27 (dk_at dksX3_blend_0 20 rfl rfl)
theorem dX3_blend_21 : decode cX3_blend 21 = .ok (.iload_n 2, 1) := dk_28 (dk_at dksX3_blend_0 21 rfl rfl)
theorem dX3_blend_22 : decode cX3_blend 22 = .ok (.invokevirtual 181, 3) := dk_182 0 181 (dk_at dksX3_blend_1 0 rfl rfl)
theorem dX3_blend_25 : decode cX3_blend 25 = .ok (.ifCond .le 7, 3) := dk_158 0 7 (dk_at dksX3_blend_1 3 rfl rfl)
theorem dX3_blend_28 : decode cX3_blend 28 = .ok (.iconst (-1), 1) := dk_2 (dk_at dksX3_blend_1 6 rfl rfl)
theorem dX3_blend_29 : decode cX3_blend 29 = .ok (.goto 9, 3) := dk_167 0 9 (dk_at dksX3_blend_1 7 rfl rfl)
theorem dX3_blend_32 : decode cX3_blend 32 = .ok (.aload_n 0, 1) := dk_42 (dk_at dksX3_blend_1 10 rfl rfl)
theorem dX3_blend_33 : decode cX3_blend 33 = .ok (.iload_n 1, 1) := dk_27 (dk_at dksX3_blend_1 11 rfl rfl)
theorem dX3_blend_34 : decode cX3_blend 34 = .ok (.iload_n 2, 1) := dk_28 (dk_at dksX3_blend_1 12 rfl rfl)
theorem dX3_blend_35 : decode cX3_blend 35 = .ok (.invokevirtual 184, 3) := dk_182 0 184 (dk_at dksX3_blend_1 13 rfl rfl)
theorem dX3_blend_38 : decode cX3_blend 38 = .ok (.ireturn, 1) := dk_172 (dk_at dksX3_blend_1 16 rfl rfl)
abbrev cX3_noBlend : ByteArray := prog_10_method_64_code
def yX3_noBlend : MethodName := ⟨RX3, "noBlend", "(II)I"⟩
def dkwX3_noBlend_2 : List UInt8 := [164, 0, 8, 16, 8, 167, 0, 4, 3, 172]
abbrev dktX3_noBlend_2 : List UInt8 := dkwX3_noBlend_2 ++ []
def dkwX3_noBlend_1 : List UInt8 := [162, 0, 6, 16, 7, 172, 42, 3, 42, 27, 4, 182, 0, 76, 182, 0, 178, 42, 27, 5, 182, 0, 76]
abbrev dktX3_noBlend_1 : List UInt8 := dkwX3_noBlend_1 ++ dktX3_noBlend_2
def dkwX3_noBlend_0 : List UInt8 := [42, 28, 182, 0, 86, 153, 0, 5, 4, 172, 42, 27, 28, 182, 0, 175, 42, 27, 4, 182, 0, 76]
abbrev dktX3_noBlend_0 : List UInt8 := dkwX3_noBlend_0 ++ dktX3_noBlend_1
theorem dksX3_noBlend_0 : cX3_noBlend.data.toList.drop 0 = dktX3_noBlend_0 := by decide +kernel
theorem dksX3_noBlend_1 : cX3_noBlend.data.toList.drop 22 = dktX3_noBlend_1 := dk_seg dksX3_noBlend_0 22 rfl rfl
theorem dksX3_noBlend_2 : cX3_noBlend.data.toList.drop 45 = dktX3_noBlend_2 := dk_seg dksX3_noBlend_1 23 rfl rfl
theorem dX3_noBlend_0 : decode cX3_noBlend 0 = .ok (.aload_n 0, 1) := dk_42 (dk_at dksX3_noBlend_0 0 rfl rfl)
theorem dX3_noBlend_1 : decode cX3_noBlend 1 = .ok (.iload_n 2, 1) := dk_28 (dk_at dksX3_noBlend_0 1 rfl rfl)
theorem dX3_noBlend_2 : decode cX3_noBlend 2 = .ok (.invokevirtual 86, 3) := dk_182 0 86 (dk_at dksX3_noBlend_0 2 rfl rfl)
theorem dX3_noBlend_5 : decode cX3_noBlend 5 = .ok (.ifCond .eq 5, 3) := dk_153 0 5 (dk_at dksX3_noBlend_0 5 rfl rfl)
theorem dX3_noBlend_8 : decode cX3_noBlend 8 = .ok (.iconst 1, 1) := dk_4 (dk_at dksX3_noBlend_0 8 rfl rfl)
theorem dX3_noBlend_9 : decode cX3_noBlend 9 = .ok (.ireturn, 1) := dk_172 (dk_at dksX3_noBlend_0 9 rfl rfl)
theorem dX3_noBlend_10 : decode cX3_noBlend 10 = .ok (.aload_n 0, 1) := dk_42 (dk_at dksX3_noBlend_0 10 rfl rfl)
theorem dX3_noBlend_11 : decode cX3_noBlend 11 = .ok (.iload_n 1, 1) := dk_27 (dk_at dksX3_noBlend_0 11 rfl rfl)
theorem dX3_noBlend_12 : decode cX3_noBlend 12 = .ok (.iload_n 2, 1) := dk_28 (dk_at dksX3_noBlend_0 12 rfl rfl)
theorem dX3_noBlend_13 : decode cX3_noBlend 13 = .ok (.invokevirtual 175, 3) := dk_182 0 175 (dk_at dksX3_noBlend_0 13 rfl rfl)
theorem dX3_noBlend_16 : decode cX3_noBlend 16 = .ok (.aload_n 0, 1) := dk_42 (dk_at dksX3_noBlend_0 16 rfl rfl)
theorem dX3_noBlend_17 : decode cX3_noBlend 17 = .ok (.iload_n 1, 1) := dk_27 (dk_at dksX3_noBlend_0 17 rfl rfl)
theorem dX3_noBlend_18 : decode cX3_noBlend 18 = .ok (.iconst 1, 1) := dk_4 (dk_at dksX3_noBlend_0 18 rfl rfl)
theorem dX3_noBlend_19 : decode cX3_noBlend 19 = .ok (.invokevirtual 76, 3) := dk_182 0 76 (dk_at dksX3_noBlend_0 19 rfl rfl)
theorem dX3_noBlend_22 : decode cX3_noBlend 22 = .ok (.if_icmp .ge 6, 3) := dk_162 0 6 (dk_at dksX3_noBlend_1 0 rfl rfl)
theorem dX3_noBlend_25 : decode cX3_noBlend 25 = .ok (.bipush 7, 2) := dk_16 7 (dk_at dksX3_noBlend_1 3 rfl rfl)
theorem dX3_noBlend_27 : decode cX3_noBlend 27 = .ok (.ireturn, 1) := dk_172 (dk_at dksX3_noBlend_1 5 rfl rfl)
theorem dX3_noBlend_28 : decode cX3_noBlend 28 = .ok (.aload_n 0, 1) := dk_42 (dk_at dksX3_noBlend_1 6 rfl rfl)
theorem dX3_noBlend_29 : decode cX3_noBlend 29 = .ok (.iconst 0, 1) := dk_3 (dk_at dksX3_noBlend_1 7 rfl rfl)
theorem dX3_noBlend_30 : decode cX3_noBlend 30 = .ok (.aload_n 0, 1) := dk_42 (dk_at dksX3_noBlend_1 8 rfl rfl)
theorem dX3_noBlend_31 : decode cX3_noBlend 31 = .ok (.iload_n 1, 1) := dk_27 (dk_at dksX3_noBlend_1 9 rfl rfl)
theorem dX3_noBlend_32 : decode cX3_noBlend 32 = .ok (.iconst 1, 1) := dk_4 (dk_at dksX3_noBlend_1 10 rfl rfl)
theorem dX3_noBlend_33 : decode cX3_noBlend 33 = .ok (.invokevirtual 76, 3) := dk_182 0 76 (dk_at dksX3_noBlend_1 11 rfl rfl)
theorem dX3_noBlend_36 : decode cX3_noBlend 36 = .ok (.invokevirtual 178, 3) := dk_182 0 178 (dk_at dksX3_noBlend_1 14 rfl rfl)
theorem dX3_noBlend_39 : decode cX3_noBlend 39 = .ok (.aload_n 0, 1) := dk_42 (dk_at dksX3_noBlend_1 17 rfl rfl)
theorem dX3_noBlend_40 : decode cX3_noBlend 40 = .ok (.iload_n 1, 1) := dk_27 (dk_at dksX3_noBlend_1 18 rfl rfl)
theorem dX3_noBlend_41 : decode cX3_noBlend 41 = .ok (.iconst 2, 1) := dk_5 (dk_at dksX3_noBlend_1 19 rfl rfl)
theorem dX3_noBlend_42 : decode cX3_noBlend 42 = .ok (.invokevirtual 76, 3) := dk_182 0 76 (dk_at dksX3_noBlend_1 20 rfl rfl)
theorem dX3_noBlend_45 : decode cX3_noBlend 45 = .ok (.if_icmp .le 8, 3) := dk_164 0 8 (dk_at dksX3_noBlend_2 0 rfl rfl)
theorem dX3_noBlend_48 : decode cX3_noBlend 48 = .ok (.bipush 8, 2) := dk_16 8 (dk_at dksX3_noBlend_2 3 rfl rfl)
theorem dX3_noBlend_50 : decode cX3_noBlend 50 = .ok (.goto 4, 3) := dk_167 0 4 (dk_at dksX3_noBlend_2 5 rfl rfl)
theorem dX3_noBlend_53 : decode cX3_noBlend 53 = .ok (.iconst 0, 1) := dk_3 (dk_at dksX3_noBlend_2 8 rfl rfl)
theorem dX3_noBlend_54 : decode cX3_noBlend 54 = .ok (.ireturn, 1) := dk_172 (dk_at dksX3_noBlend_2 9 rfl rfl)
abbrev cX3_finds : ByteArray := prog_10_method_62_code
def yX3_finds : MethodName := ⟨RX3, "finds", "(II)I"⟩
def dkwX3_finds_6 : List UInt8 := [182, 0, 45, 96, 62, 132, 4, 1, 167, 255, 117, 29, 172]
abbrev dktX3_finds_6 : List UInt8 := dkwX3_finds_6 ++ []
def dkwX3_finds_5 : List UInt8 := [180, 0, 21, 21, 5, 21, 4, 79, 42, 89, 180, 0, 169, 4, 96, 181, 0, 169, 29, 42, 21, 4, 6]
abbrev dktX3_finds_5 : List UInt8 := dkwX3_finds_5 ++ dktX3_finds_6
def dkwX3_finds_4 : List UInt8 := [180, 0, 21, 21, 5, 42, 180, 0, 21, 21, 5, 4, 100, 46, 79, 132, 5, 255, 167, 255, 214, 42]
abbrev dktX3_finds_4 : List UInt8 := dkwX3_finds_4 ++ dktX3_finds_5
def dkwX3_finds_3 : List UInt8 := [21, 5, 158, 0, 43, 42, 21, 4, 42, 180, 0, 21, 21, 5, 4, 100, 46, 182, 0, 172, 153, 0, 25, 42]
abbrev dktX3_finds_3 : List UInt8 := dkwX3_finds_3 ++ dktX3_finds_4
def dkwX3_finds_2 : List UInt8 := [21, 4, 182, 0, 73, 154, 0, 93, 42, 28, 21, 4, 182, 0, 66, 153, 0, 83, 42, 180, 0, 169, 54, 5]
abbrev dktX3_finds_2 : List UInt8 := dkwX3_finds_2 ++ dktX3_finds_3
def dkwX3_finds_1 : List UInt8 := [6, 182, 0, 45, 158, 0, 118, 42, 21, 4, 8, 182, 0, 45, 42, 27, 3, 182, 0, 76, 160, 0, 102, 42]
abbrev dktX3_finds_1 : List UInt8 := dkwX3_finds_1 ++ dktX3_finds_2
def dkwX3_finds_0 : List UInt8 := [42, 3, 181, 0, 169, 3, 62, 3, 54, 4, 21, 4, 42, 180, 0, 7, 5, 46, 162, 0, 134, 42, 21, 4]
abbrev dktX3_finds_0 : List UInt8 := dkwX3_finds_0 ++ dktX3_finds_1
theorem dksX3_finds_0 : cX3_finds.data.toList.drop 0 = dktX3_finds_0 := by decide +kernel
theorem dksX3_finds_1 : cX3_finds.data.toList.drop 24 = dktX3_finds_1 := dk_seg dksX3_finds_0 24 rfl rfl
theorem dksX3_finds_2 : cX3_finds.data.toList.drop 48 = dktX3_finds_2 := dk_seg dksX3_finds_1 24 rfl rfl
theorem dksX3_finds_3 : cX3_finds.data.toList.drop 72 = dktX3_finds_3 := dk_seg dksX3_finds_2 24 rfl rfl
theorem dksX3_finds_4 : cX3_finds.data.toList.drop 96 = dktX3_finds_4 := dk_seg dksX3_finds_3 24 rfl rfl
theorem dksX3_finds_5 : cX3_finds.data.toList.drop 118 = dktX3_finds_5 := dk_seg dksX3_finds_4 22 rfl rfl
theorem dksX3_finds_6 : cX3_finds.data.toList.drop 141 = dktX3_finds_6 := dk_seg dksX3_finds_5 23 rfl rfl
theorem dX3_finds_0 : decode cX3_finds 0 = .ok (.aload_n 0, 1) := dk_42 (dk_at dksX3_finds_0 0 rfl rfl)
theorem dX3_finds_1 : decode cX3_finds 1 = .ok (.iconst 0, 1) := dk_3 (dk_at dksX3_finds_0 1 rfl rfl)
theorem dX3_finds_2 : decode cX3_finds 2 = .ok (.putfield 169, 3) := dk_181 0 169 (dk_at dksX3_finds_0 2 rfl rfl)
theorem dX3_finds_5 : decode cX3_finds 5 = .ok (.iconst 0, 1) := dk_3 (dk_at dksX3_finds_0 5 rfl rfl)
theorem dX3_finds_6 : decode cX3_finds 6 = .ok (.istore_n 3, 1) := dk_62 (dk_at dksX3_finds_0 6 rfl rfl)
theorem dX3_finds_7 : decode cX3_finds 7 = .ok (.iconst 0, 1) := dk_3 (dk_at dksX3_finds_0 7 rfl rfl)
theorem dX3_finds_8 : decode cX3_finds 8 = .ok (.istore 4, 2) := dk_54 4 (dk_at dksX3_finds_0 8 rfl rfl)
theorem dX3_finds_10 : decode cX3_finds 10 = .ok (.iload 4, 2) := dk_21 4 (dk_at dksX3_finds_0 10 rfl rfl)
theorem dX3_finds_12 : decode cX3_finds 12 = .ok (.aload_n 0, 1) := dk_42 (dk_at dksX3_finds_0 12 rfl rfl)
theorem dX3_finds_13 : decode cX3_finds 13 = .ok (.getfield 7, 3) := dk_180 0 7 (dk_at dksX3_finds_0 13 rfl rfl)
theorem dX3_finds_16 : decode cX3_finds 16 = .ok (.iconst 2, 1) := dk_5 (dk_at dksX3_finds_0 16 rfl rfl)
theorem dX3_finds_17 : decode cX3_finds 17 = .ok (.iaload, 1) := dk_46 (dk_at dksX3_finds_0 17 rfl rfl)
theorem dX3_finds_18 : decode cX3_finds 18 = .ok (.if_icmp .ge 134, 3) := dk_162 0 134 (dk_at dksX3_finds_0 18 rfl rfl)
theorem dX3_finds_21 : decode cX3_finds 21 = .ok (.aload_n 0, 1) := dk_42 (dk_at dksX3_finds_0 21 rfl rfl)
theorem dX3_finds_22 : decode cX3_finds 22 = .ok (.iload 4, 2) := dk_21 4 (dk_at dksX3_finds_0 22 rfl rfl)
theorem dX3_finds_24 : decode cX3_finds 24 = .ok (.iconst 3, 1) := dk_6 (dk_at dksX3_finds_1 0 rfl rfl)
theorem dX3_finds_25 : decode cX3_finds 25 = .ok (.invokevirtual 45, 3) := dk_182 0 45 (dk_at dksX3_finds_1 1 rfl rfl)
theorem dX3_finds_28 : decode cX3_finds 28 = .ok (.ifCond .le 118, 3) := dk_158 0 118 (dk_at dksX3_finds_1 4 rfl rfl)
theorem dX3_finds_31 : decode cX3_finds 31 = .ok (.aload_n 0, 1) := dk_42 (dk_at dksX3_finds_1 7 rfl rfl)
theorem dX3_finds_32 : decode cX3_finds 32 = .ok (.iload 4, 2) := dk_21 4 (dk_at dksX3_finds_1 8 rfl rfl)
theorem dX3_finds_34 : decode cX3_finds 34 = .ok (.iconst 5, 1) := dk_8 (dk_at dksX3_finds_1 10 rfl rfl)
theorem dX3_finds_35 : decode cX3_finds 35 = .ok (.invokevirtual 45, 3) := dk_182 0 45 (dk_at dksX3_finds_1 11 rfl rfl)
theorem dX3_finds_38 : decode cX3_finds 38 = .ok (.aload_n 0, 1) := dk_42 (dk_at dksX3_finds_1 14 rfl rfl)
theorem dX3_finds_39 : decode cX3_finds 39 = .ok (.iload_n 1, 1) := dk_27 (dk_at dksX3_finds_1 15 rfl rfl)
theorem dX3_finds_40 : decode cX3_finds 40 = .ok (.iconst 0, 1) := dk_3 (dk_at dksX3_finds_1 16 rfl rfl)
theorem dX3_finds_41 : decode cX3_finds 41 = .ok (.invokevirtual 76, 3) := dk_182 0 76 (dk_at dksX3_finds_1 17 rfl rfl)
theorem dX3_finds_44 : decode cX3_finds 44 = .ok (.if_icmp .ne 102, 3) := dk_160 0 102 (dk_at dksX3_finds_1 20 rfl rfl)
theorem dX3_finds_47 : decode cX3_finds 47 = .ok (.aload_n 0, 1) := dk_42 (dk_at dksX3_finds_1 23 rfl rfl)
theorem dX3_finds_48 : decode cX3_finds 48 = .ok (.iload 4, 2) := dk_21 4 (dk_at dksX3_finds_2 0 rfl rfl)
theorem dX3_finds_50 : decode cX3_finds 50 = .ok (.invokevirtual 73, 3) := dk_182 0 73 (dk_at dksX3_finds_2 2 rfl rfl)
theorem dX3_finds_53 : decode cX3_finds 53 = .ok (.ifCond .ne 93, 3) := dk_154 0 93 (dk_at dksX3_finds_2 5 rfl rfl)
theorem dX3_finds_56 : decode cX3_finds 56 = .ok (.aload_n 0, 1) := dk_42 (dk_at dksX3_finds_2 8 rfl rfl)
theorem dX3_finds_57 : decode cX3_finds 57 = .ok (.iload_n 2, 1) := dk_28 (dk_at dksX3_finds_2 9 rfl rfl)
theorem dX3_finds_58 : decode cX3_finds 58 = .ok (.iload 4, 2) := dk_21 4 (dk_at dksX3_finds_2 10 rfl rfl)
theorem dX3_finds_60 : decode cX3_finds 60 = .ok (.invokevirtual 66, 3) := dk_182 0 66 (dk_at dksX3_finds_2 12 rfl rfl)
theorem dX3_finds_63 : decode cX3_finds 63 = .ok (.ifCond .eq 83, 3) := dk_153 0 83 (dk_at dksX3_finds_2 15 rfl rfl)
theorem dX3_finds_66 : decode cX3_finds 66 = .ok (.aload_n 0, 1) := dk_42 (dk_at dksX3_finds_2 18 rfl rfl)
theorem dX3_finds_67 : decode cX3_finds 67 = .ok (.getfield 169, 3) := dk_180 0 169 (dk_at dksX3_finds_2 19 rfl rfl)
theorem dX3_finds_70 : decode cX3_finds 70 = .ok (.istore 5, 2) := dk_54 5 (dk_at dksX3_finds_2 22 rfl rfl)
theorem dX3_finds_72 : decode cX3_finds 72 = .ok (.iload 5, 2) := dk_21 5 (dk_at dksX3_finds_3 0 rfl rfl)
theorem dX3_finds_74 : decode cX3_finds 74 = .ok (.ifCond .le 43, 3) := dk_158 0 43 (dk_at dksX3_finds_3 2 rfl rfl)
theorem dX3_finds_77 : decode cX3_finds 77 = .ok (.aload_n 0, 1) := dk_42 (dk_at dksX3_finds_3 5 rfl rfl)
theorem dX3_finds_78 : decode cX3_finds 78 = .ok (.iload 4, 2) := dk_21 4 (dk_at dksX3_finds_3 6 rfl rfl)
theorem dX3_finds_80 : decode cX3_finds 80 = .ok (.aload_n 0, 1) := dk_42 (dk_at dksX3_finds_3 8 rfl rfl)
theorem dX3_finds_81 : decode cX3_finds 81 = .ok (.getfield 21, 3) := dk_180 0 21 (dk_at dksX3_finds_3 9 rfl rfl)
theorem dX3_finds_84 : decode cX3_finds 84 = .ok (.iload 5, 2) := dk_21 5 (dk_at dksX3_finds_3 12 rfl rfl)
theorem dX3_finds_86 : decode cX3_finds 86 = .ok (.iconst 1, 1) := dk_4 (dk_at dksX3_finds_3 14 rfl rfl)
theorem dX3_finds_87 : decode cX3_finds 87 = .ok (.isub, 1) := dk_100 (dk_at dksX3_finds_3 15 rfl rfl)
theorem dX3_finds_88 : decode cX3_finds 88 = .ok (.iaload, 1) := dk_46 (dk_at dksX3_finds_3 16 rfl rfl)
theorem dX3_finds_89 : decode cX3_finds 89 = .ok (.invokevirtual 172, 3) := dk_182 0 172 (dk_at dksX3_finds_3 17 rfl rfl)
theorem dX3_finds_92 : decode cX3_finds 92 = .ok (.ifCond .eq 25, 3) := dk_153 0 25 (dk_at dksX3_finds_3 20 rfl rfl)
theorem dX3_finds_95 : decode cX3_finds 95 = .ok (.aload_n 0, 1) := dk_42 (dk_at dksX3_finds_3 23 rfl rfl)
theorem dX3_finds_96 : decode cX3_finds 96 = .ok (.getfield 21, 3) := dk_180 0 21 (dk_at dksX3_finds_4 0 rfl rfl)
theorem dX3_finds_99 : decode cX3_finds 99 = .ok (.iload 5, 2) := dk_21 5 (dk_at dksX3_finds_4 3 rfl rfl)
theorem dX3_finds_101 : decode cX3_finds 101 = .ok (.aload_n 0, 1) := dk_42 (dk_at dksX3_finds_4 5 rfl rfl)
theorem dX3_finds_102 : decode cX3_finds 102 = .ok (.getfield 21, 3) := dk_180 0 21 (dk_at dksX3_finds_4 6 rfl rfl)
theorem dX3_finds_105 : decode cX3_finds 105 = .ok (.iload 5, 2) := dk_21 5 (dk_at dksX3_finds_4 9 rfl rfl)
theorem dX3_finds_107 : decode cX3_finds 107 = .ok (.iconst 1, 1) := dk_4 (dk_at dksX3_finds_4 11 rfl rfl)
theorem dX3_finds_108 : decode cX3_finds 108 = .ok (.isub, 1) := dk_100 (dk_at dksX3_finds_4 12 rfl rfl)
theorem dX3_finds_109 : decode cX3_finds 109 = .ok (.iaload, 1) := dk_46 (dk_at dksX3_finds_4 13 rfl rfl)
theorem dX3_finds_110 : decode cX3_finds 110 = .ok (.iastore, 1) := dk_79 (dk_at dksX3_finds_4 14 rfl rfl)
theorem dX3_finds_111 : decode cX3_finds 111 = .ok (.iinc 5 (-1), 3) := dk_132 5 255 (dk_at dksX3_finds_4 15 rfl rfl)
theorem dX3_finds_114 : decode cX3_finds 114 = .ok (.goto (-42), 3) := dk_167 255 214 (dk_at dksX3_finds_4 18 rfl rfl)
theorem dX3_finds_117 : decode cX3_finds 117 = .ok (.aload_n 0, 1) := dk_42 (dk_at dksX3_finds_4 21 rfl rfl)
theorem dX3_finds_118 : decode cX3_finds 118 = .ok (.getfield 21, 3) := dk_180 0 21 (dk_at dksX3_finds_5 0 rfl rfl)
theorem dX3_finds_121 : decode cX3_finds 121 = .ok (.iload 5, 2) := dk_21 5 (dk_at dksX3_finds_5 3 rfl rfl)
theorem dX3_finds_123 : decode cX3_finds 123 = .ok (.iload 4, 2) := dk_21 4 (dk_at dksX3_finds_5 5 rfl rfl)
theorem dX3_finds_125 : decode cX3_finds 125 = .ok (.iastore, 1) := dk_79 (dk_at dksX3_finds_5 7 rfl rfl)
theorem dX3_finds_126 : decode cX3_finds 126 = .ok (.aload_n 0, 1) := dk_42 (dk_at dksX3_finds_5 8 rfl rfl)
theorem dX3_finds_127 : decode cX3_finds 127 = .ok (.dup, 1) := dk_89 (dk_at dksX3_finds_5 9 rfl rfl)
theorem dX3_finds_128 : decode cX3_finds 128 = .ok (.getfield 169, 3) := dk_180 0 169 (dk_at dksX3_finds_5 10 rfl rfl)
theorem dX3_finds_131 : decode cX3_finds 131 = .ok (.iconst 1, 1) := dk_4 (dk_at dksX3_finds_5 13 rfl rfl)
theorem dX3_finds_132 : decode cX3_finds 132 = .ok (.iadd, 1) := dk_96 (dk_at dksX3_finds_5 14 rfl rfl)
theorem dX3_finds_133 : decode cX3_finds 133 = .ok (.putfield 169, 3) := dk_181 0 169 (dk_at dksX3_finds_5 15 rfl rfl)
theorem dX3_finds_136 : decode cX3_finds 136 = .ok (.iload_n 3, 1) := dk_29 (dk_at dksX3_finds_5 18 rfl rfl)
theorem dX3_finds_137 : decode cX3_finds 137 = .ok (.aload_n 0, 1) := dk_42 (dk_at dksX3_finds_5 19 rfl rfl)
theorem dX3_finds_138 : decode cX3_finds 138 = .ok (.iload 4, 2) := dk_21 4 (dk_at dksX3_finds_5 20 rfl rfl)
theorem dX3_finds_140 : decode cX3_finds 140 = .ok (.iconst 3, 1) := dk_6 (dk_at dksX3_finds_5 22 rfl rfl)
theorem dX3_finds_141 : decode cX3_finds 141 = .ok (.invokevirtual 45, 3) := dk_182 0 45 (dk_at dksX3_finds_6 0 rfl rfl)
theorem dX3_finds_144 : decode cX3_finds 144 = .ok (.iadd, 1) := dk_96 (dk_at dksX3_finds_6 3 rfl rfl)
theorem dX3_finds_145 : decode cX3_finds 145 = .ok (.istore_n 3, 1) := dk_62 (dk_at dksX3_finds_6 4 rfl rfl)
theorem dX3_finds_146 : decode cX3_finds 146 = .ok (.iinc 4 1, 3) := dk_132 4 1 (dk_at dksX3_finds_6 5 rfl rfl)
theorem dX3_finds_149 : decode cX3_finds 149 = .ok (.goto (-139), 3) := dk_167 255 117 (dk_at dksX3_finds_6 8 rfl rfl)
theorem dX3_finds_152 : decode cX3_finds 152 = .ok (.iload_n 3, 1) := dk_29 (dk_at dksX3_finds_6 11 rfl rfl)
theorem dX3_finds_153 : decode cX3_finds 153 = .ok (.ireturn, 1) := dk_172 (dk_at dksX3_finds_6 12 rfl rfl)
abbrev cX3_isDamper : ByteArray := prog_10_method_61_code
def yX3_isDamper : MethodName := ⟨RX3, "isDamper", "(II)Z"⟩
def dkwX3_isDamper_1 : List UInt8 := [160, 0, 12, 27, 28, 162, 0, 7, 4, 167, 0, 4, 3, 172]
abbrev dktX3_isDamper_1 : List UInt8 := dkwX3_isDamper_1 ++ []
def dkwX3_isDamper_0 : List UInt8 := [42, 27, 182, 0, 79, 42, 28, 182, 0, 79, 163, 0, 21, 42, 27, 182, 0, 79, 42, 28, 182, 0, 79]
abbrev dktX3_isDamper_0 : List UInt8 := dkwX3_isDamper_0 ++ dktX3_isDamper_1
theorem dksX3_isDamper_0 : cX3_isDamper.data.toList.drop 0 = dktX3_isDamper_0 := by decide +kernel
theorem dksX3_isDamper_1 : cX3_isDamper.data.toList.drop 23 = dktX3_isDamper_1 := dk_seg dksX3_isDamper_0 23 rfl rfl
theorem dX3_isDamper_0 : decode cX3_isDamper 0 = .ok (.aload_n 0, 1) := dk_42 (dk_at dksX3_isDamper_0 0 rfl rfl)
theorem dX3_isDamper_1 : decode cX3_isDamper 1 = .ok (.iload_n 1, 1) := dk_27 (dk_at dksX3_isDamper_0 1 rfl rfl)
theorem dX3_isDamper_2 : decode cX3_isDamper 2 = .ok (.invokevirtual 79, 3) := dk_182 0 79 (dk_at dksX3_isDamper_0 2 rfl rfl)
theorem dX3_isDamper_5 : decode cX3_isDamper 5 = .ok (.aload_n 0, 1) := dk_42 (dk_at dksX3_isDamper_0 5 rfl rfl)
theorem dX3_isDamper_6 : decode cX3_isDamper 6 = .ok (.iload_n 2, 1) := dk_28 (dk_at dksX3_isDamper_0 6 rfl rfl)
theorem dX3_isDamper_7 : decode cX3_isDamper 7 = .ok (.invokevirtual 79, 3) := dk_182 0 79 (dk_at dksX3_isDamper_0 7 rfl rfl)
theorem dX3_isDamper_10 : decode cX3_isDamper 10 = .ok (.if_icmp .gt 21, 3) := dk_163 0 21 (dk_at dksX3_isDamper_0 10 rfl rfl)
theorem dX3_isDamper_13 : decode cX3_isDamper 13 = .ok (.aload_n 0, 1) := dk_42 (dk_at dksX3_isDamper_0 13 rfl rfl)
theorem dX3_isDamper_14 : decode cX3_isDamper 14 = .ok (.iload_n 1, 1) := dk_27 (dk_at dksX3_isDamper_0 14 rfl rfl)
theorem dX3_isDamper_15 : decode cX3_isDamper 15 = .ok (.invokevirtual 79, 3) := dk_182 0 79 (dk_at dksX3_isDamper_0 15 rfl rfl)
theorem dX3_isDamper_18 : decode cX3_isDamper 18 = .ok (.aload_n 0, 1) := dk_42 (dk_at dksX3_isDamper_0 18 rfl rfl)
theorem dX3_isDamper_19 : decode cX3_isDamper 19 = .ok (.iload_n 2, 1) := dk_28 (dk_at dksX3_isDamper_0 19 rfl rfl)
theorem dX3_isDamper_20 : decode cX3_isDamper 20 = .ok (.invokevirtual 79, 3) := dk_182 0 79 (dk_at dksX3_isDamper_0 20 rfl rfl)
theorem dX3_isDamper_23 : decode cX3_isDamper 23 = .ok (.if_icmp .ne 12, 3) := dk_160 0 12 (dk_at dksX3_isDamper_1 0 rfl rfl)
theorem dX3_isDamper_26 : decode cX3_isDamper 26 = .ok (.iload_n 1, 1) := dk_27 (dk_at dksX3_isDamper_1 3 rfl rfl)
theorem dX3_isDamper_27 : decode cX3_isDamper 27 = .ok (.iload_n 2, 1) := dk_28 (dk_at dksX3_isDamper_1 4 rfl rfl)
theorem dX3_isDamper_28 : decode cX3_isDamper 28 = .ok (.if_icmp .ge 7, 3) := dk_162 0 7 (dk_at dksX3_isDamper_1 5 rfl rfl)
theorem dX3_isDamper_31 : decode cX3_isDamper 31 = .ok (.iconst 1, 1) := dk_4 (dk_at dksX3_isDamper_1 8 rfl rfl)
theorem dX3_isDamper_32 : decode cX3_isDamper 32 = .ok (.goto 4, 3) := dk_167 0 4 (dk_at dksX3_isDamper_1 9 rfl rfl)
theorem dX3_isDamper_35 : decode cX3_isDamper 35 = .ok (.iconst 0, 1) := dk_3 (dk_at dksX3_isDamper_1 12 rfl rfl)
theorem dX3_isDamper_36 : decode cX3_isDamper 36 = .ok (.ireturn, 1) := dk_172 (dk_at dksX3_isDamper_1 13 rfl rfl)
abbrev cX3_mixes : ByteArray := prog_10_method_63_code
def yX3_mixes : MethodName := ⟨RX3, "mixes", "(II)I"⟩
def dkwX3_mixes_10 : List UInt8 := [97, 10, 101, 27, 28, 96, 133, 109, 136, 172]
abbrev dktX3_mixes_10 : List UInt8 := dkwX3_mixes_10 ++ []
def dkwX3_mixes_9 : List UInt8 := [21, 6, 46, 182, 0, 79, 133, 105, 97, 55, 4, 132, 6, 1, 167, 255, 213, 22, 4, 27, 133, 97, 28, 133]
abbrev dktX3_mixes_9 : List UInt8 := dkwX3_mixes_9 ++ dktX3_mixes_10
def dkwX3_mixes_8 : List UInt8 := [162, 0, 40, 22, 4, 42, 180, 0, 24, 42, 180, 0, 21, 21, 6, 46, 46, 133, 42, 42, 180, 0, 21]
abbrev dktX3_mixes_8 : List UInt8 := dkwX3_mixes_8 ++ dktX3_mixes_9
def dkwX3_mixes_7 : List UInt8 := [21, 5, 100, 62, 132, 4, 255, 167, 255, 192, 9, 55, 4, 3, 54, 6, 21, 6, 42, 180, 0, 169]
abbrev dktX3_mixes_7 : List UInt8 := dkwX3_mixes_7 ++ dktX3_mixes_8
def dkwX3_mixes_6 : List UInt8 := [182, 0, 45, 54, 5, 42, 180, 0, 24, 42, 180, 0, 21, 21, 4, 46, 92, 46, 21, 5, 96, 79, 29]
abbrev dktX3_mixes_6 : List UInt8 := dkwX3_mixes_6 ++ dktX3_mixes_7
def dkwX3_mixes_5 : List UInt8 := [21, 4, 46, 6, 182, 0, 45, 162, 0, 7, 29, 167, 0, 15, 42, 42, 180, 0, 21, 21, 4, 46, 6]
abbrev dktX3_mixes_5 : List UInt8 := dkwX3_mixes_5 ++ dktX3_mixes_6
def dkwX3_mixes_4 : List UInt8 := [167, 255, 188, 28, 62, 42, 180, 0, 169, 4, 100, 54, 4, 21, 4, 155, 0, 65, 29, 42, 42, 180, 0, 21]
abbrev dktX3_mixes_4 : List UInt8 := dkwX3_mixes_4 ++ dktX3_mixes_5
def dkwX3_mixes_3 : List UInt8 := [180, 0, 24, 42, 180, 0, 21, 21, 4, 46, 92, 46, 21, 5, 96, 79, 29, 21, 5, 100, 62, 132, 4, 1]
abbrev dktX3_mixes_3 : List UInt8 := dkwX3_mixes_3 ++ dktX3_mixes_4
def dkwX3_mixes_2 : List UInt8 := [162, 0, 7, 29, 167, 0, 15, 42, 42, 180, 0, 21, 21, 4, 46, 6, 182, 0, 45, 54, 5, 42]
abbrev dktX3_mixes_2 : List UInt8 := dkwX3_mixes_2 ++ dktX3_mixes_3
def dkwX3_mixes_1 : List UInt8 := [54, 4, 21, 4, 42, 180, 0, 169, 162, 0, 65, 29, 42, 42, 180, 0, 21, 21, 4, 46, 6, 182, 0, 45]
abbrev dktX3_mixes_1 : List UInt8 := dkwX3_mixes_1 ++ dktX3_mixes_2
def dkwX3_mixes_0 : List UInt8 := [3, 62, 29, 16, 8, 162, 0, 16, 42, 180, 0, 24, 29, 3, 79, 132, 3, 1, 167, 255, 240, 27, 62, 3]
abbrev dktX3_mixes_0 : List UInt8 := dkwX3_mixes_0 ++ dktX3_mixes_1
theorem dksX3_mixes_0 : cX3_mixes.data.toList.drop 0 = dktX3_mixes_0 := by decide +kernel
theorem dksX3_mixes_1 : cX3_mixes.data.toList.drop 24 = dktX3_mixes_1 := dk_seg dksX3_mixes_0 24 rfl rfl
theorem dksX3_mixes_2 : cX3_mixes.data.toList.drop 48 = dktX3_mixes_2 := dk_seg dksX3_mixes_1 24 rfl rfl
theorem dksX3_mixes_3 : cX3_mixes.data.toList.drop 70 = dktX3_mixes_3 := dk_seg dksX3_mixes_2 22 rfl rfl
theorem dksX3_mixes_4 : cX3_mixes.data.toList.drop 94 = dktX3_mixes_4 := dk_seg dksX3_mixes_3 24 rfl rfl
theorem dksX3_mixes_5 : cX3_mixes.data.toList.drop 118 = dktX3_mixes_5 := dk_seg dksX3_mixes_4 24 rfl rfl
theorem dksX3_mixes_6 : cX3_mixes.data.toList.drop 141 = dktX3_mixes_6 := dk_seg dksX3_mixes_5 23 rfl rfl
theorem dksX3_mixes_7 : cX3_mixes.data.toList.drop 164 = dktX3_mixes_7 := dk_seg dksX3_mixes_6 23 rfl rfl
theorem dksX3_mixes_8 : cX3_mixes.data.toList.drop 186 = dktX3_mixes_8 := dk_seg dksX3_mixes_7 22 rfl rfl
theorem dksX3_mixes_9 : cX3_mixes.data.toList.drop 209 = dktX3_mixes_9 := dk_seg dksX3_mixes_8 23 rfl rfl
theorem dksX3_mixes_10 : cX3_mixes.data.toList.drop 233 = dktX3_mixes_10 := dk_seg dksX3_mixes_9 24 rfl rfl
theorem dX3_mixes_0 : decode cX3_mixes 0 = .ok (.iconst 0, 1) := dk_3 (dk_at dksX3_mixes_0 0 rfl rfl)
theorem dX3_mixes_1 : decode cX3_mixes 1 = .ok (.istore_n 3, 1) := dk_62 (dk_at dksX3_mixes_0 1 rfl rfl)
theorem dX3_mixes_2 : decode cX3_mixes 2 = .ok (.iload_n 3, 1) := dk_29 (dk_at dksX3_mixes_0 2 rfl rfl)
theorem dX3_mixes_3 : decode cX3_mixes 3 = .ok (.bipush 8, 2) := dk_16 8 (dk_at dksX3_mixes_0 3 rfl rfl)
theorem dX3_mixes_5 : decode cX3_mixes 5 = .ok (.if_icmp .ge 16, 3) := dk_162 0 16 (dk_at dksX3_mixes_0 5 rfl rfl)
theorem dX3_mixes_8 : decode cX3_mixes 8 = .ok (.aload_n 0, 1) := dk_42 (dk_at dksX3_mixes_0 8 rfl rfl)
theorem dX3_mixes_9 : decode cX3_mixes 9 = .ok (.getfield 24, 3) := dk_180 0 24 (dk_at dksX3_mixes_0 9 rfl rfl)
theorem dX3_mixes_12 : decode cX3_mixes 12 = .ok (.iload_n 3, 1) := dk_29 (dk_at dksX3_mixes_0 12 rfl rfl)
theorem dX3_mixes_13 : decode cX3_mixes 13 = .ok (.iconst 0, 1) := dk_3 (dk_at dksX3_mixes_0 13 rfl rfl)
theorem dX3_mixes_14 : decode cX3_mixes 14 = .ok (.iastore, 1) := dk_79 (dk_at dksX3_mixes_0 14 rfl rfl)
theorem dX3_mixes_15 : decode cX3_mixes 15 = .ok (.iinc 3 1, 3) := dk_132 3 1 (dk_at dksX3_mixes_0 15 rfl rfl)
theorem dX3_mixes_18 : decode cX3_mixes 18 = .ok (.goto (-16), 3) := dk_167 255 240 (dk_at dksX3_mixes_0 18 rfl rfl)
theorem dX3_mixes_21 : decode cX3_mixes 21 = .ok (.iload_n 1, 1) := dk_27 (dk_at dksX3_mixes_0 21 rfl rfl)
theorem dX3_mixes_22 : decode cX3_mixes 22 = .ok (.istore_n 3, 1) := dk_62 (dk_at dksX3_mixes_0 22 rfl rfl)
theorem dX3_mixes_23 : decode cX3_mixes 23 = .ok (.iconst 0, 1) := dk_3 (dk_at dksX3_mixes_0 23 rfl rfl)
theorem dX3_mixes_24 : decode cX3_mixes 24 = .ok (.istore 4, 2) := dk_54 4 (dk_at dksX3_mixes_1 0 rfl rfl)
theorem dX3_mixes_26 : decode cX3_mixes 26 = .ok (.iload 4, 2) := dk_21 4 (dk_at dksX3_mixes_1 2 rfl rfl)
theorem dX3_mixes_28 : decode cX3_mixes 28 = .ok (.aload_n 0, 1) := dk_42 (dk_at dksX3_mixes_1 4 rfl rfl)
theorem dX3_mixes_29 : decode cX3_mixes 29 = .ok (.getfield 169, 3) := dk_180 0 169 (dk_at dksX3_mixes_1 5 rfl rfl)
theorem dX3_mixes_32 : decode cX3_mixes 32 = .ok (.if_icmp .ge 65, 3) := dk_162 0 65 (dk_at dksX3_mixes_1 8 rfl rfl)
theorem dX3_mixes_35 : decode cX3_mixes 35 = .ok (.iload_n 3, 1) := dk_29 (dk_at dksX3_mixes_1 11 rfl rfl)
theorem dX3_mixes_36 : decode cX3_mixes 36 = .ok (.aload_n 0, 1) := dk_42 (dk_at dksX3_mixes_1 12 rfl rfl)
theorem dX3_mixes_37 : decode cX3_mixes 37 = .ok (.aload_n 0, 1) := dk_42 (dk_at dksX3_mixes_1 13 rfl rfl)
theorem dX3_mixes_38 : decode cX3_mixes 38 = .ok (.getfield 21, 3) := dk_180 0 21 (dk_at dksX3_mixes_1 14 rfl rfl)
theorem dX3_mixes_41 : decode cX3_mixes 41 = .ok (.iload 4, 2) := dk_21 4 (dk_at dksX3_mixes_1 17 rfl rfl)
theorem dX3_mixes_43 : decode cX3_mixes 43 = .ok (.iaload, 1) := dk_46 (dk_at dksX3_mixes_1 19 rfl rfl)
theorem dX3_mixes_44 : decode cX3_mixes 44 = .ok (.iconst 3, 1) := dk_6 (dk_at dksX3_mixes_1 20 rfl rfl)
theorem dX3_mixes_45 : decode cX3_mixes 45 = .ok (.invokevirtual 45, 3) := dk_182 0 45 (dk_at dksX3_mixes_1 21 rfl rfl)
theorem dX3_mixes_48 : decode cX3_mixes 48 = .ok (.if_icmp .ge 7, 3) := dk_162 0 7 (dk_at dksX3_mixes_2 0 rfl rfl)
theorem dX3_mixes_51 : decode cX3_mixes 51 = .ok (.iload_n 3, 1) := dk_29 (dk_at dksX3_mixes_2 3 rfl rfl)
theorem dX3_mixes_52 : decode cX3_mixes 52 = .ok (.goto 15, 3) := dk_167 0 15 (dk_at dksX3_mixes_2 4 rfl rfl)
theorem dX3_mixes_55 : decode cX3_mixes 55 = .ok (.aload_n 0, 1) := dk_42 (dk_at dksX3_mixes_2 7 rfl rfl)
theorem dX3_mixes_56 : decode cX3_mixes 56 = .ok (.aload_n 0, 1) := dk_42 (dk_at dksX3_mixes_2 8 rfl rfl)
theorem dX3_mixes_57 : decode cX3_mixes 57 = .ok (.getfield 21, 3) := dk_180 0 21 (dk_at dksX3_mixes_2 9 rfl rfl)
theorem dX3_mixes_60 : decode cX3_mixes 60 = .ok (.iload 4, 2) := dk_21 4 (dk_at dksX3_mixes_2 12 rfl rfl)
theorem dX3_mixes_62 : decode cX3_mixes 62 = .ok (.iaload, 1) := dk_46 (dk_at dksX3_mixes_2 14 rfl rfl)
theorem dX3_mixes_63 : decode cX3_mixes 63 = .ok (.iconst 3, 1) := dk_6 (dk_at dksX3_mixes_2 15 rfl rfl)
theorem dX3_mixes_64 : decode cX3_mixes 64 = .ok (.invokevirtual 45, 3) := dk_182 0 45 (dk_at dksX3_mixes_2 16 rfl rfl)
theorem dX3_mixes_67 : decode cX3_mixes 67 = .ok (.istore 5, 2) := dk_54 5 (dk_at dksX3_mixes_2 19 rfl rfl)
theorem dX3_mixes_69 : decode cX3_mixes 69 = .ok (.aload_n 0, 1) := dk_42 (dk_at dksX3_mixes_2 21 rfl rfl)
theorem dX3_mixes_70 : decode cX3_mixes 70 = .ok (.getfield 24, 3) := dk_180 0 24 (dk_at dksX3_mixes_3 0 rfl rfl)
theorem dX3_mixes_73 : decode cX3_mixes 73 = .ok (.aload_n 0, 1) := dk_42 (dk_at dksX3_mixes_3 3 rfl rfl)
theorem dX3_mixes_74 : decode cX3_mixes 74 = .ok (.getfield 21, 3) := dk_180 0 21 (dk_at dksX3_mixes_3 4 rfl rfl)
theorem dX3_mixes_77 : decode cX3_mixes 77 = .ok (.iload 4, 2) := dk_21 4 (dk_at dksX3_mixes_3 7 rfl rfl)
theorem dX3_mixes_79 : decode cX3_mixes 79 = .ok (.iaload, 1) := dk_46 (dk_at dksX3_mixes_3 9 rfl rfl)
theorem dX3_mixes_80 : decode cX3_mixes 80 = .ok (.dup2, 1) := dk_92 (dk_at dksX3_mixes_3 10 rfl rfl)
theorem dX3_mixes_81 : decode cX3_mixes 81 = .ok (.iaload, 1) := dk_46 (dk_at dksX3_mixes_3 11 rfl rfl)
theorem dX3_mixes_82 : decode cX3_mixes 82 = .ok (.iload 5, 2) := dk_21 5 (dk_at dksX3_mixes_3 12 rfl rfl)
theorem dX3_mixes_84 : decode cX3_mixes 84 = .ok (.iadd, 1) := dk_96 (dk_at dksX3_mixes_3 14 rfl rfl)
theorem dX3_mixes_85 : decode cX3_mixes 85 = .ok (.iastore, 1) := dk_79 (dk_at dksX3_mixes_3 15 rfl rfl)
theorem dX3_mixes_86 : decode cX3_mixes 86 = .ok (.iload_n 3, 1) := dk_29 (dk_at dksX3_mixes_3 16 rfl rfl)
theorem dX3_mixes_87 : decode cX3_mixes 87 = .ok (.iload 5, 2) := dk_21 5 (dk_at dksX3_mixes_3 17 rfl rfl)
theorem dX3_mixes_89 : decode cX3_mixes 89 = .ok (.isub, 1) := dk_100 (dk_at dksX3_mixes_3 19 rfl rfl)
theorem dX3_mixes_90 : decode cX3_mixes 90 = .ok (.istore_n 3, 1) := dk_62 (dk_at dksX3_mixes_3 20 rfl rfl)
theorem dX3_mixes_91 : decode cX3_mixes 91 = .ok (.iinc 4 1, 3) := dk_132 4 1 (dk_at dksX3_mixes_3 21 rfl rfl)
theorem dX3_mixes_94 : decode cX3_mixes 94 = .ok (.goto (-68), 3) := dk_167 255 188 (dk_at dksX3_mixes_4 0 rfl rfl)
theorem dX3_mixes_97 : decode cX3_mixes 97 = .ok (.iload_n 2, 1) := dk_28 (dk_at dksX3_mixes_4 3 rfl rfl)
theorem dX3_mixes_98 : decode cX3_mixes 98 = .ok (.istore_n 3, 1) := dk_62 (dk_at dksX3_mixes_4 4 rfl rfl)
theorem dX3_mixes_99 : decode cX3_mixes 99 = .ok (.aload_n 0, 1) := dk_42 (dk_at dksX3_mixes_4 5 rfl rfl)
theorem dX3_mixes_100 : decode cX3_mixes 100 = .ok (.getfield 169, 3) := dk_180 0 169 (dk_at dksX3_mixes_4 6 rfl rfl)
theorem dX3_mixes_103 : decode cX3_mixes 103 = .ok (.iconst 1, 1) := dk_4 (dk_at dksX3_mixes_4 9 rfl rfl)
theorem dX3_mixes_104 : decode cX3_mixes 104 = .ok (.isub, 1) := dk_100 (dk_at dksX3_mixes_4 10 rfl rfl)
theorem dX3_mixes_105 : decode cX3_mixes 105 = .ok (.istore 4, 2) := dk_54 4 (dk_at dksX3_mixes_4 11 rfl rfl)
theorem dX3_mixes_107 : decode cX3_mixes 107 = .ok (.iload 4, 2) := dk_21 4 (dk_at dksX3_mixes_4 13 rfl rfl)
theorem dX3_mixes_109 : decode cX3_mixes 109 = .ok (.ifCond .lt 65, 3) := dk_155 0 65 (dk_at dksX3_mixes_4 15 rfl rfl)
theorem dX3_mixes_112 : decode cX3_mixes 112 = .ok (.iload_n 3, 1) := dk_29 (dk_at dksX3_mixes_4 18 rfl rfl)
theorem dX3_mixes_113 : decode cX3_mixes 113 = .ok (.aload_n 0, 1) := dk_42 (dk_at dksX3_mixes_4 19 rfl rfl)
theorem dX3_mixes_114 : decode cX3_mixes 114 = .ok (.aload_n 0, 1) := dk_42 (dk_at dksX3_mixes_4 20 rfl rfl)
theorem dX3_mixes_115 : decode cX3_mixes 115 = .ok (.getfield 21, 3) := dk_180 0 21 (dk_at dksX3_mixes_4 21 rfl rfl)
theorem dX3_mixes_118 : decode cX3_mixes 118 = .ok (.iload 4, 2) := dk_21 4 (dk_at dksX3_mixes_5 0 rfl rfl)
theorem dX3_mixes_120 : decode cX3_mixes 120 = .ok (.iaload, 1) := dk_46 (dk_at dksX3_mixes_5 2 rfl rfl)
theorem dX3_mixes_121 : decode cX3_mixes 121 = .ok (.iconst 3, 1) := dk_6 (dk_at dksX3_mixes_5 3 rfl rfl)
theorem dX3_mixes_122 : decode cX3_mixes 122 = .ok (.invokevirtual 45, 3) := dk_182 0 45 (dk_at dksX3_mixes_5 4 rfl rfl)
theorem dX3_mixes_125 : decode cX3_mixes 125 = .ok (.if_icmp .ge 7, 3) := dk_162 0 7 (dk_at dksX3_mixes_5 7 rfl rfl)
theorem dX3_mixes_128 : decode cX3_mixes 128 = .ok (.iload_n 3, 1) := dk_29 (dk_at dksX3_mixes_5 10 rfl rfl)
theorem dX3_mixes_129 : decode cX3_mixes 129 = .ok (.goto 15, 3) := dk_167 0 15 (dk_at dksX3_mixes_5 11 rfl rfl)
theorem dX3_mixes_132 : decode cX3_mixes 132 = .ok (.aload_n 0, 1) := dk_42 (dk_at dksX3_mixes_5 14 rfl rfl)
theorem dX3_mixes_133 : decode cX3_mixes 133 = .ok (.aload_n 0, 1) := dk_42 (dk_at dksX3_mixes_5 15 rfl rfl)
theorem dX3_mixes_134 : decode cX3_mixes 134 = .ok (.getfield 21, 3) := dk_180 0 21 (dk_at dksX3_mixes_5 16 rfl rfl)
theorem dX3_mixes_137 : decode cX3_mixes 137 = .ok (.iload 4, 2) := dk_21 4 (dk_at dksX3_mixes_5 19 rfl rfl)
theorem dX3_mixes_139 : decode cX3_mixes 139 = .ok (.iaload, 1) := dk_46 (dk_at dksX3_mixes_5 21 rfl rfl)
theorem dX3_mixes_140 : decode cX3_mixes 140 = .ok (.iconst 3, 1) := dk_6 (dk_at dksX3_mixes_5 22 rfl rfl)
theorem dX3_mixes_141 : decode cX3_mixes 141 = .ok (.invokevirtual 45, 3) := dk_182 0 45 (dk_at dksX3_mixes_6 0 rfl rfl)
theorem dX3_mixes_144 : decode cX3_mixes 144 = .ok (.istore 5, 2) := dk_54 5 (dk_at dksX3_mixes_6 3 rfl rfl)
theorem dX3_mixes_146 : decode cX3_mixes 146 = .ok (.aload_n 0, 1) := dk_42 (dk_at dksX3_mixes_6 5 rfl rfl)
theorem dX3_mixes_147 : decode cX3_mixes 147 = .ok (.getfield 24, 3) := dk_180 0 24 (dk_at dksX3_mixes_6 6 rfl rfl)
theorem dX3_mixes_150 : decode cX3_mixes 150 = .ok (.aload_n 0, 1) := dk_42 (dk_at dksX3_mixes_6 9 rfl rfl)
theorem dX3_mixes_151 : decode cX3_mixes 151 = .ok (.getfield 21, 3) := dk_180 0 21 (dk_at dksX3_mixes_6 10 rfl rfl)
theorem dX3_mixes_154 : decode cX3_mixes 154 = .ok (.iload 4, 2) := dk_21 4 (dk_at dksX3_mixes_6 13 rfl rfl)
theorem dX3_mixes_156 : decode cX3_mixes 156 = .ok (.iaload, 1) := dk_46 (dk_at dksX3_mixes_6 15 rfl rfl)
theorem dX3_mixes_157 : decode cX3_mixes 157 = .ok (.dup2, 1) := dk_92 (dk_at dksX3_mixes_6 16 rfl rfl)
theorem dX3_mixes_158 : decode cX3_mixes 158 = .ok (.iaload, 1) := dk_46 (dk_at dksX3_mixes_6 17 rfl rfl)
theorem dX3_mixes_159 : decode cX3_mixes 159 = .ok (.iload 5, 2) := dk_21 5 (dk_at dksX3_mixes_6 18 rfl rfl)
theorem dX3_mixes_161 : decode cX3_mixes 161 = .ok (.iadd, 1) := dk_96 (dk_at dksX3_mixes_6 20 rfl rfl)
theorem dX3_mixes_162 : decode cX3_mixes 162 = .ok (.iastore, 1) := dk_79 (dk_at dksX3_mixes_6 21 rfl rfl)
theorem dX3_mixes_163 : decode cX3_mixes 163 = .ok (.iload_n 3, 1) := dk_29 (dk_at dksX3_mixes_6 22 rfl rfl)
theorem dX3_mixes_164 : decode cX3_mixes 164 = .ok (.iload 5, 2) := dk_21 5 (dk_at dksX3_mixes_7 0 rfl rfl)
theorem dX3_mixes_166 : decode cX3_mixes 166 = .ok (.isub, 1) := dk_100 (dk_at dksX3_mixes_7 2 rfl rfl)
theorem dX3_mixes_167 : decode cX3_mixes 167 = .ok (.istore_n 3, 1) := dk_62 (dk_at dksX3_mixes_7 3 rfl rfl)
theorem dX3_mixes_168 : decode cX3_mixes 168 = .ok (.iinc 4 (-1), 3) := dk_132 4 255 (dk_at dksX3_mixes_7 4 rfl rfl)
theorem dX3_mixes_171 : decode cX3_mixes 171 = .ok (.goto (-64), 3) := dk_167 255 192 (dk_at dksX3_mixes_7 7 rfl rfl)
theorem dX3_mixes_174 : decode cX3_mixes 174 = .ok (.lconst 0, 1) := dk_9 (dk_at dksX3_mixes_7 10 rfl rfl)
theorem dX3_mixes_175 : decode cX3_mixes 175 = .ok (.lstore 4, 2) := dk_55 4 (dk_at dksX3_mixes_7 11 rfl rfl)
theorem dX3_mixes_177 : decode cX3_mixes 177 = .ok (.iconst 0, 1) := dk_3 (dk_at dksX3_mixes_7 13 rfl rfl)
theorem dX3_mixes_178 : decode cX3_mixes 178 = .ok (.istore 6, 2) := dk_54 6 (dk_at dksX3_mixes_7 14 rfl rfl)
theorem dX3_mixes_180 : decode cX3_mixes 180 = .ok (.iload 6, 2) := dk_21 6 (dk_at dksX3_mixes_7 16 rfl rfl)
theorem dX3_mixes_182 : decode cX3_mixes 182 = .ok (.aload_n 0, 1) := dk_42 (dk_at dksX3_mixes_7 18 rfl rfl)
theorem dX3_mixes_183 : decode cX3_mixes 183 = .ok (.getfield 169, 3) := dk_180 0 169 (dk_at dksX3_mixes_7 19 rfl rfl)
theorem dX3_mixes_186 : decode cX3_mixes 186 = .ok (.if_icmp .ge 40, 3) := dk_162 0 40 (dk_at dksX3_mixes_8 0 rfl rfl)
theorem dX3_mixes_189 : decode cX3_mixes 189 = .ok (.lload 4, 2) := dk_22 4 (dk_at dksX3_mixes_8 3 rfl rfl)
theorem dX3_mixes_191 : decode cX3_mixes 191 = .ok (.aload_n 0, 1) := dk_42 (dk_at dksX3_mixes_8 5 rfl rfl)
theorem dX3_mixes_192 : decode cX3_mixes 192 = .ok (.getfield 24, 3) := dk_180 0 24 (dk_at dksX3_mixes_8 6 rfl rfl)
theorem dX3_mixes_195 : decode cX3_mixes 195 = .ok (.aload_n 0, 1) := dk_42 (dk_at dksX3_mixes_8 9 rfl rfl)
theorem dX3_mixes_196 : decode cX3_mixes 196 = .ok (.getfield 21, 3) := dk_180 0 21 (dk_at dksX3_mixes_8 10 rfl rfl)
theorem dX3_mixes_199 : decode cX3_mixes 199 = .ok (.iload 6, 2) := dk_21 6 (dk_at dksX3_mixes_8 13 rfl rfl)
theorem dX3_mixes_201 : decode cX3_mixes 201 = .ok (.iaload, 1) := dk_46 (dk_at dksX3_mixes_8 15 rfl rfl)
theorem dX3_mixes_202 : decode cX3_mixes 202 = .ok (.iaload, 1) := dk_46 (dk_at dksX3_mixes_8 16 rfl rfl)
theorem dX3_mixes_203 : decode cX3_mixes 203 = .ok (.i2l, 1) := dk_133 (dk_at dksX3_mixes_8 17 rfl rfl)
theorem dX3_mixes_204 : decode cX3_mixes 204 = .ok (.aload_n 0, 1) := dk_42 (dk_at dksX3_mixes_8 18 rfl rfl)
theorem dX3_mixes_205 : decode cX3_mixes 205 = .ok (.aload_n 0, 1) := dk_42 (dk_at dksX3_mixes_8 19 rfl rfl)
theorem dX3_mixes_206 : decode cX3_mixes 206 = .ok (.getfield 21, 3) := dk_180 0 21 (dk_at dksX3_mixes_8 20 rfl rfl)
theorem dX3_mixes_209 : decode cX3_mixes 209 = .ok (.iload 6, 2) := dk_21 6 (dk_at dksX3_mixes_9 0 rfl rfl)
theorem dX3_mixes_211 : decode cX3_mixes 211 = .ok (.iaload, 1) := dk_46 (dk_at dksX3_mixes_9 2 rfl rfl)
theorem dX3_mixes_212 : decode cX3_mixes 212 = .ok (.invokevirtual 79, 3) := dk_182 0 79 (dk_at dksX3_mixes_9 3 rfl rfl)
theorem dX3_mixes_215 : decode cX3_mixes 215 = .ok (.i2l, 1) := dk_133 (dk_at dksX3_mixes_9 6 rfl rfl)
theorem dX3_mixes_216 : decode cX3_mixes 216 = .ok (.lmul, 1) := dk_105 (dk_at dksX3_mixes_9 7 rfl rfl)
theorem dX3_mixes_217 : decode cX3_mixes 217 = .ok (.ladd, 1) := dk_97 (dk_at dksX3_mixes_9 8 rfl rfl)
theorem dX3_mixes_218 : decode cX3_mixes 218 = .ok (.lstore 4, 2) := dk_55 4 (dk_at dksX3_mixes_9 9 rfl rfl)
theorem dX3_mixes_220 : decode cX3_mixes 220 = .ok (.iinc 6 1, 3) := dk_132 6 1 (dk_at dksX3_mixes_9 11 rfl rfl)
theorem dX3_mixes_223 : decode cX3_mixes 223 = .ok (.goto (-43), 3) := dk_167 255 213 (dk_at dksX3_mixes_9 14 rfl rfl)
theorem dX3_mixes_226 : decode cX3_mixes 226 = .ok (.lload 4, 2) := dk_22 4 (dk_at dksX3_mixes_9 17 rfl rfl)
theorem dX3_mixes_228 : decode cX3_mixes 228 = .ok (.iload_n 1, 1) := dk_27 (dk_at dksX3_mixes_9 19 rfl rfl)
theorem dX3_mixes_229 : decode cX3_mixes 229 = .ok (.i2l, 1) := dk_133 (dk_at dksX3_mixes_9 20 rfl rfl)
theorem dX3_mixes_230 : decode cX3_mixes 230 = .ok (.ladd, 1) := dk_97 (dk_at dksX3_mixes_9 21 rfl rfl)
theorem dX3_mixes_231 : decode cX3_mixes 231 = .ok (.iload_n 2, 1) := dk_28 (dk_at dksX3_mixes_9 22 rfl rfl)
theorem dX3_mixes_232 : decode cX3_mixes 232 = .ok (.i2l, 1) := dk_133 (dk_at dksX3_mixes_9 23 rfl rfl)
theorem dX3_mixes_233 : decode cX3_mixes 233 = .ok (.ladd, 1) := dk_97 (dk_at dksX3_mixes_10 0 rfl rfl)
theorem dX3_mixes_234 : decode cX3_mixes 234 = .ok (.lconst 1, 1) := dk_10 (dk_at dksX3_mixes_10 1 rfl rfl)
theorem dX3_mixes_235 : decode cX3_mixes 235 = .ok (.lsub, 1) := dk_101 (dk_at dksX3_mixes_10 2 rfl rfl)
theorem dX3_mixes_236 : decode cX3_mixes 236 = .ok (.iload_n 1, 1) := dk_27 (dk_at dksX3_mixes_10 3 rfl rfl)
theorem dX3_mixes_237 : decode cX3_mixes 237 = .ok (.iload_n 2, 1) := dk_28 (dk_at dksX3_mixes_10 4 rfl rfl)
theorem dX3_mixes_238 : decode cX3_mixes 238 = .ok (.iadd, 1) := dk_96 (dk_at dksX3_mixes_10 5 rfl rfl)
theorem dX3_mixes_239 : decode cX3_mixes 239 = .ok (.i2l, 1) := dk_133 (dk_at dksX3_mixes_10 6 rfl rfl)
theorem dX3_mixes_240 : decode cX3_mixes 240 = .ok (.ldiv, 1) := dk_109 (dk_at dksX3_mixes_10 7 rfl rfl)
theorem dX3_mixes_241 : decode cX3_mixes 241 = .ok (.l2i, 1) := dk_136 (dk_at dksX3_mixes_10 8 rfl rfl)
theorem dX3_mixes_242 : decode cX3_mixes 242 = .ok (.ireturn, 1) := dk_172 (dk_at dksX3_mixes_10 9 rfl rfl)
abbrev cX3_best : ByteArray := prog_10_method_65_code
def yX3_best : MethodName := ⟨RX3, "best", "(II)I"⟩
def dkwX3_best_3 : List UInt8 := [54, 6, 167, 255, 207, 21, 5, 172]
abbrev dktX3_best_3 : List UInt8 := dkwX3_best_3 ++ []
def dkwX3_best_2 : List UInt8 := [21, 7, 100, 182, 0, 178, 42, 27, 5, 182, 0, 76, 163, 0, 10, 21, 7, 54, 5, 167, 0, 7, 21, 7]
abbrev dktX3_best_2 : List UInt8 := dkwX3_best_2 ++ dktX3_best_3
def dkwX3_best_1 : List UInt8 := [21, 6, 21, 5, 100, 4, 164, 0, 46, 21, 5, 21, 6, 96, 5, 108, 54, 7, 42, 21, 7, 21, 4]
abbrev dktX3_best_1 : List UInt8 := dkwX3_best_1 ++ dktX3_best_2
def dkwX3_best_0 : List UInt8 := [42, 27, 28, 182, 0, 175, 62, 42, 27, 4, 182, 0, 76, 54, 4, 3, 54, 5, 21, 4, 4, 96, 54, 6]
abbrev dktX3_best_0 : List UInt8 := dkwX3_best_0 ++ dktX3_best_1
theorem dksX3_best_0 : cX3_best.data.toList.drop 0 = dktX3_best_0 := by decide +kernel
theorem dksX3_best_1 : cX3_best.data.toList.drop 24 = dktX3_best_1 := dk_seg dksX3_best_0 24 rfl rfl
theorem dksX3_best_2 : cX3_best.data.toList.drop 47 = dktX3_best_2 := dk_seg dksX3_best_1 23 rfl rfl
theorem dksX3_best_3 : cX3_best.data.toList.drop 71 = dktX3_best_3 := dk_seg dksX3_best_2 24 rfl rfl
theorem dX3_best_0 : decode cX3_best 0 = .ok (.aload_n 0, 1) := dk_42 (dk_at dksX3_best_0 0 rfl rfl)
theorem dX3_best_1 : decode cX3_best 1 = .ok (.iload_n 1, 1) := dk_27 (dk_at dksX3_best_0 1 rfl rfl)
theorem dX3_best_2 : decode cX3_best 2 = .ok (.iload_n 2, 1) := dk_28 (dk_at dksX3_best_0 2 rfl rfl)
theorem dX3_best_3 : decode cX3_best 3 = .ok (.invokevirtual 175, 3) := dk_182 0 175 (dk_at dksX3_best_0 3 rfl rfl)
theorem dX3_best_6 : decode cX3_best 6 = .ok (.istore_n 3, 1) := dk_62 (dk_at dksX3_best_0 6 rfl rfl)
theorem dX3_best_7 : decode cX3_best 7 = .ok (.aload_n 0, 1) := dk_42 (dk_at dksX3_best_0 7 rfl rfl)
theorem dX3_best_8 : decode cX3_best 8 = .ok (.iload_n 1, 1) := dk_27 (dk_at dksX3_best_0 8 rfl rfl)
theorem dX3_best_9 : decode cX3_best 9 = .ok (.iconst 1, 1) := dk_4 (dk_at dksX3_best_0 9 rfl rfl)
theorem dX3_best_10 : decode cX3_best 10 = .ok (.invokevirtual 76, 3) := dk_182 0 76 (dk_at dksX3_best_0 10 rfl rfl)
theorem dX3_best_13 : decode cX3_best 13 = .ok (.istore 4, 2) := dk_54 4 (dk_at dksX3_best_0 13 rfl rfl)
theorem dX3_best_15 : decode cX3_best 15 = .ok (.iconst 0, 1) := dk_3 (dk_at dksX3_best_0 15 rfl rfl)
theorem dX3_best_16 : decode cX3_best 16 = .ok (.istore 5, 2) := dk_54 5 (dk_at dksX3_best_0 16 rfl rfl)
theorem dX3_best_18 : decode cX3_best 18 = .ok (.iload 4, 2) := dk_21 4 (dk_at dksX3_best_0 18 rfl rfl)
theorem dX3_best_20 : decode cX3_best 20 = .ok (.iconst 1, 1) := dk_4 (dk_at dksX3_best_0 20 rfl rfl)
theorem dX3_best_21 : decode cX3_best 21 = .ok (.iadd, 1) := dk_96 (dk_at dksX3_best_0 21 rfl rfl)
theorem dX3_best_22 : decode cX3_best 22 = .ok (.istore 6, 2) := dk_54 6 (dk_at dksX3_best_0 22 rfl rfl)
theorem dX3_best_24 : decode cX3_best 24 = .ok (.iload 6, 2) := dk_21 6 (dk_at dksX3_best_1 0 rfl rfl)
theorem dX3_best_26 : decode cX3_best 26 = .ok (.iload 5, 2) := dk_21 5 (dk_at dksX3_best_1 2 rfl rfl)
theorem dX3_best_28 : decode cX3_best 28 = .ok (.isub, 1) := dk_100 (dk_at dksX3_best_1 4 rfl rfl)
theorem dX3_best_29 : decode cX3_best 29 = .ok (.iconst 1, 1) := dk_4 (dk_at dksX3_best_1 5 rfl rfl)
theorem dX3_best_30 : decode cX3_best 30 = .ok (.if_icmp .le 46, 3) := dk_164 0 46 (dk_at dksX3_best_1 6 rfl rfl)
theorem dX3_best_33 : decode cX3_best 33 = .ok (.iload 5, 2) := dk_21 5 (dk_at dksX3_best_1 9 rfl rfl)
theorem dX3_best_35 : decode cX3_best 35 = .ok (.iload 6, 2) := dk_21 6 (dk_at dksX3_best_1 11 rfl rfl)
theorem dX3_best_37 : decode cX3_best 37 = .ok (.iadd, 1) := dk_96 (dk_at dksX3_best_1 13 rfl rfl)
theorem dX3_best_38 : decode cX3_best 38 = .ok (.iconst 2, 1) := dk_5 (dk_at dksX3_best_1 14 rfl rfl)
theorem dX3_best_39 : decode cX3_best 39 = .ok (.idiv, 1) := dk_108 (dk_at dksX3_best_1 15 rfl rfl)
theorem dX3_best_40 : decode cX3_best 40 = .ok (.istore 7, 2) := dk_54 7 (dk_at dksX3_best_1 16 rfl rfl)
theorem dX3_best_42 : decode cX3_best 42 = .ok (.aload_n 0, 1) := dk_42 (dk_at dksX3_best_1 18 rfl rfl)
theorem dX3_best_43 : decode cX3_best 43 = .ok (.iload 7, 2) := dk_21 7 (dk_at dksX3_best_1 19 rfl rfl)
theorem dX3_best_45 : decode cX3_best 45 = .ok (.iload 4, 2) := dk_21 4 (dk_at dksX3_best_1 21 rfl rfl)
theorem dX3_best_47 : decode cX3_best 47 = .ok (.iload 7, 2) := dk_21 7 (dk_at dksX3_best_2 0 rfl rfl)
theorem dX3_best_49 : decode cX3_best 49 = .ok (.isub, 1) := dk_100 (dk_at dksX3_best_2 2 rfl rfl)
theorem dX3_best_50 : decode cX3_best 50 = .ok (.invokevirtual 178, 3) := dk_182 0 178 (dk_at dksX3_best_2 3 rfl rfl)
theorem dX3_best_53 : decode cX3_best 53 = .ok (.aload_n 0, 1) := dk_42 (dk_at dksX3_best_2 6 rfl rfl)
theorem dX3_best_54 : decode cX3_best 54 = .ok (.iload_n 1, 1) := dk_27 (dk_at dksX3_best_2 7 rfl rfl)
theorem dX3_best_55 : decode cX3_best 55 = .ok (.iconst 2, 1) := dk_5 (dk_at dksX3_best_2 8 rfl rfl)
theorem dX3_best_56 : decode cX3_best 56 = .ok (.invokevirtual 76, 3) := dk_182 0 76 (dk_at dksX3_best_2 9 rfl rfl)
theorem dX3_best_59 : decode cX3_best 59 = .ok (.if_icmp .gt 10, 3) := dk_163 0 10 (dk_at dksX3_best_2 12 rfl rfl)
theorem dX3_best_62 : decode cX3_best 62 = .ok (.iload 7, 2) := dk_21 7 (dk_at dksX3_best_2 15 rfl rfl)
theorem dX3_best_64 : decode cX3_best 64 = .ok (.istore 5, 2) := dk_54 5 (dk_at dksX3_best_2 17 rfl rfl)
theorem dX3_best_66 : decode cX3_best 66 = .ok (.goto 7, 3) := dk_167 0 7 (dk_at dksX3_best_2 19 rfl rfl)
theorem dX3_best_69 : decode cX3_best 69 = .ok (.iload 7, 2) := dk_21 7 (dk_at dksX3_best_2 22 rfl rfl)
theorem dX3_best_71 : decode cX3_best 71 = .ok (.istore 6, 2) := dk_54 6 (dk_at dksX3_best_3 0 rfl rfl)
theorem dX3_best_73 : decode cX3_best 73 = .ok (.goto (-49), 3) := dk_167 255 207 (dk_at dksX3_best_3 2 rfl rfl)
theorem dX3_best_76 : decode cX3_best 76 = .ok (.iload 5, 2) := dk_21 5 (dk_at dksX3_best_3 5 rfl rfl)
theorem dX3_best_78 : decode cX3_best 78 = .ok (.ireturn, 1) := dk_172 (dk_at dksX3_best_3 7 rfl rfl)
abbrev cX3_whyNoBlend : ByteArray := prog_10_method_67_code
def yX3_whyNoBlend : MethodName := ⟨RX3, "whyNoBlend", "(II)I"⟩
def dkwX3_whyNoBlend_1 : List UInt8 := [167, 0, 5, 16, 254, 172]
abbrev dktX3_whyNoBlend_1 : List UInt8 := dkwX3_whyNoBlend_1 ++ []
def dkwX3_whyNoBlend_0 : List UInt8 := [42, 27, 182, 0, 166, 153, 0, 20, 42, 28, 182, 0, 63, 153, 0, 12, 42, 27, 28, 182, 0, 181]
abbrev dktX3_whyNoBlend_0 : List UInt8 := dkwX3_whyNoBlend_0 ++ dktX3_whyNoBlend_1
theorem dksX3_whyNoBlend_0 : cX3_whyNoBlend.data.toList.drop 0 = dktX3_whyNoBlend_0 := by decide +kernel
theorem dksX3_whyNoBlend_1 : cX3_whyNoBlend.data.toList.drop 22 = dktX3_whyNoBlend_1 := dk_seg dksX3_whyNoBlend_0 22 rfl rfl
theorem dX3_whyNoBlend_0 : decode cX3_whyNoBlend 0 = .ok (.aload_n 0, 1) := dk_42 (dk_at dksX3_whyNoBlend_0 0 rfl rfl)
theorem dX3_whyNoBlend_1 : decode cX3_whyNoBlend 1 = .ok (.iload_n 1, 1) := dk_27 (dk_at dksX3_whyNoBlend_0 1 rfl rfl)
theorem dX3_whyNoBlend_2 : decode cX3_whyNoBlend 2 = .ok (.invokevirtual 166, 3) := dk_182 0 166 (dk_at dksX3_whyNoBlend_0 2 rfl rfl)
theorem dX3_whyNoBlend_5 : decode cX3_whyNoBlend 5 = .ok (.ifCond .eq 20, 3) := dk_153 0 20 (dk_at dksX3_whyNoBlend_0 5 rfl rfl)
theorem dX3_whyNoBlend_8 : decode cX3_whyNoBlend 8 = .ok (.aload_n 0, 1) := dk_42 (dk_at dksX3_whyNoBlend_0 8 rfl rfl)
theorem dX3_whyNoBlend_9 : decode cX3_whyNoBlend 9 = .ok (.iload_n 2, 1) := dk_28 (dk_at dksX3_whyNoBlend_0 9 rfl rfl)
theorem dX3_whyNoBlend_10 : decode cX3_whyNoBlend 10 = .ok (.invokevirtual 63, 3) := dk_182 0 63 (dk_at dksX3_whyNoBlend_0 10 rfl rfl)
theorem dX3_whyNoBlend_13 : decode cX3_whyNoBlend 13 = .ok (.ifCond .eq 12, 3) := dk_153 0 12 (dk_at dksX3_whyNoBlend_0 13 rfl rfl)
theorem dX3_whyNoBlend_16 : decode cX3_whyNoBlend 16 = .ok (.aload_n 0, 1) := dk_42 (dk_at dksX3_whyNoBlend_0 16 rfl rfl)
theorem dX3_whyNoBlend_17 : decode cX3_whyNoBlend 17 = .ok (.iload_n 1, 1) := dk_27 (dk_at dksX3_whyNoBlend_0 17 rfl rfl)
theorem dX3_whyNoBlend_18 : decode cX3_whyNoBlend 18 = .ok (.iload_n 2, 1) := dk_28 (dk_at dksX3_whyNoBlend_0 18 rfl rfl)
theorem dX3_whyNoBlend_19 : decode cX3_whyNoBlend 19 = .ok (.invokevirtual 181, 3) := dk_182 0 181 (dk_at dksX3_whyNoBlend_0 19 rfl rfl)
theorem dX3_whyNoBlend_22 : decode cX3_whyNoBlend 22 = .ok (.goto 5, 3) := dk_167 0 5 (dk_at dksX3_whyNoBlend_1 0 rfl rfl)
theorem dX3_whyNoBlend_25 : decode cX3_whyNoBlend 25 = .ok (.bipush (-2), 2) := dk_16 254 (dk_at dksX3_whyNoBlend_1 3 rfl rfl)
theorem dX3_whyNoBlend_27 : decode cX3_whyNoBlend 27 = .ok (.ireturn, 1) := dk_172 (dk_at dksX3_whyNoBlend_1 5 rfl rfl)
abbrev cX3_fromBin : ByteArray := prog_10_method_68_code
def yX3_fromBin : MethodName := ⟨RX3, "fromBin", "(III)I"⟩
def dkwX3_fromBin_2 : List UInt8 := [21, 4, 42, 27, 4, 182, 0, 76, 21, 4, 100, 182, 0, 178, 54, 5, 42, 180, 0, 24, 29, 46, 172]
abbrev dktX3_fromBin_2 : List UInt8 := dkwX3_fromBin_2 ++ []
def dkwX3_fromBin_1 : List UInt8 := [16, 254, 172, 42, 27, 28, 182, 0, 181, 158, 0, 5, 2, 172, 42, 27, 28, 182, 0, 184, 54, 4, 42]
abbrev dktX3_fromBin_1 : List UInt8 := dkwX3_fromBin_1 ++ dktX3_fromBin_2
def dkwX3_fromBin_0 : List UInt8 := [42, 27, 182, 0, 166, 153, 0, 19, 42, 28, 182, 0, 63, 153, 0, 11, 42, 29, 182, 0, 59, 154, 0, 6]
abbrev dktX3_fromBin_0 : List UInt8 := dkwX3_fromBin_0 ++ dktX3_fromBin_1
theorem dksX3_fromBin_0 : cX3_fromBin.data.toList.drop 0 = dktX3_fromBin_0 := by decide +kernel
theorem dksX3_fromBin_1 : cX3_fromBin.data.toList.drop 24 = dktX3_fromBin_1 := dk_seg dksX3_fromBin_0 24 rfl rfl
theorem dksX3_fromBin_2 : cX3_fromBin.data.toList.drop 47 = dktX3_fromBin_2 := dk_seg dksX3_fromBin_1 23 rfl rfl
theorem dX3_fromBin_0 : decode cX3_fromBin 0 = .ok (.aload_n 0, 1) := dk_42 (dk_at dksX3_fromBin_0 0 rfl rfl)
theorem dX3_fromBin_1 : decode cX3_fromBin 1 = .ok (.iload_n 1, 1) := dk_27 (dk_at dksX3_fromBin_0 1 rfl rfl)
theorem dX3_fromBin_2 : decode cX3_fromBin 2 = .ok (.invokevirtual 166, 3) := dk_182 0 166 (dk_at dksX3_fromBin_0 2 rfl rfl)
theorem dX3_fromBin_5 : decode cX3_fromBin 5 = .ok (.ifCond .eq 19, 3) := dk_153 0 19 (dk_at dksX3_fromBin_0 5 rfl rfl)
theorem dX3_fromBin_8 : decode cX3_fromBin 8 = .ok (.aload_n 0, 1) := dk_42 (dk_at dksX3_fromBin_0 8 rfl rfl)
theorem dX3_fromBin_9 : decode cX3_fromBin 9 = .ok (.iload_n 2, 1) := dk_28 (dk_at dksX3_fromBin_0 9 rfl rfl)
theorem dX3_fromBin_10 : decode cX3_fromBin 10 = .ok (.invokevirtual 63, 3) := dk_182 0 63 (dk_at dksX3_fromBin_0 10 rfl rfl)
theorem dX3_fromBin_13 : decode cX3_fromBin 13 = .ok (.ifCond .eq 11, 3) := dk_153 0 11 (dk_at dksX3_fromBin_0 13 rfl rfl)
theorem dX3_fromBin_16 : decode cX3_fromBin 16 = .ok (.aload_n 0, 1) := dk_42 (dk_at dksX3_fromBin_0 16 rfl rfl)
theorem dX3_fromBin_17 : decode cX3_fromBin 17 = .ok (.iload_n 3, 1) := dk_29 (dk_at dksX3_fromBin_0 17 rfl rfl)
theorem dX3_fromBin_18 : decode cX3_fromBin 18 = .ok (.invokevirtual 59, 3) := dk_182 0 59 (dk_at dksX3_fromBin_0 18 rfl rfl)
theorem dX3_fromBin_21 : decode cX3_fromBin 21 = .ok (.ifCond .ne 6, 3) := dk_154 0 6 (dk_at dksX3_fromBin_0 21 rfl rfl)
theorem dX3_fromBin_24 : decode cX3_fromBin 24 = .ok (.bipush (-2), 2) := dk_16 254 (dk_at dksX3_fromBin_1 0 rfl rfl)
theorem dX3_fromBin_26 : decode cX3_fromBin 26 = .ok (.ireturn, 1) := dk_172 (dk_at dksX3_fromBin_1 2 rfl rfl)
theorem dX3_fromBin_27 : decode cX3_fromBin 27 = .ok (.aload_n 0, 1) := dk_42 (dk_at dksX3_fromBin_1 3 rfl rfl)
theorem dX3_fromBin_28 : decode cX3_fromBin 28 = .ok (.iload_n 1, 1) := dk_27 (dk_at dksX3_fromBin_1 4 rfl rfl)
theorem dX3_fromBin_29 : decode cX3_fromBin 29 = .ok (.iload_n 2, 1) := dk_28 (dk_at dksX3_fromBin_1 5 rfl rfl)
theorem dX3_fromBin_30 : decode cX3_fromBin 30 = .ok (.invokevirtual 181, 3) := dk_182 0 181 (dk_at dksX3_fromBin_1 6 rfl rfl)
theorem dX3_fromBin_33 : decode cX3_fromBin 33 = .ok (.ifCond .le 5, 3) := dk_158 0 5 (dk_at dksX3_fromBin_1 9 rfl rfl)
theorem dX3_fromBin_36 : decode cX3_fromBin 36 = .ok (.iconst (-1), 1) := dk_2 (dk_at dksX3_fromBin_1 12 rfl rfl)
theorem dX3_fromBin_37 : decode cX3_fromBin 37 = .ok (.ireturn, 1) := dk_172 (dk_at dksX3_fromBin_1 13 rfl rfl)
theorem dX3_fromBin_38 : decode cX3_fromBin 38 = .ok (.aload_n 0, 1) := dk_42 (dk_at dksX3_fromBin_1 14 rfl rfl)
theorem dX3_fromBin_39 : decode cX3_fromBin 39 = .ok (.iload_n 1, 1) := dk_27 (dk_at dksX3_fromBin_1 15 rfl rfl)
theorem dX3_fromBin_40 : decode cX3_fromBin 40 = .ok (.iload_n 2, 1) := dk_28 (dk_at dksX3_fromBin_1 16 rfl rfl)
theorem dX3_fromBin_41 : decode cX3_fromBin 41 = .ok (.invokevirtual 184, 3) := dk_182 0 184 (dk_at dksX3_fromBin_1 17 rfl rfl)
theorem dX3_fromBin_44 : decode cX3_fromBin 44 = .ok (.istore 4, 2) := dk_54 4 (dk_at dksX3_fromBin_1 20 rfl rfl)
theorem dX3_fromBin_46 : decode cX3_fromBin 46 = .ok (.aload_n 0, 1) := dk_42 (dk_at dksX3_fromBin_1 22 rfl rfl)
theorem dX3_fromBin_47 : decode cX3_fromBin 47 = .ok (.iload 4, 2) := dk_21 4 (dk_at dksX3_fromBin_2 0 rfl rfl)
theorem dX3_fromBin_49 : decode cX3_fromBin 49 = .ok (.aload_n 0, 1) := dk_42 (dk_at dksX3_fromBin_2 2 rfl rfl)
theorem dX3_fromBin_50 : decode cX3_fromBin 50 = .ok (.iload_n 1, 1) := dk_27 (dk_at dksX3_fromBin_2 3 rfl rfl)
theorem dX3_fromBin_51 : decode cX3_fromBin 51 = .ok (.iconst 1, 1) := dk_4 (dk_at dksX3_fromBin_2 4 rfl rfl)
theorem dX3_fromBin_52 : decode cX3_fromBin 52 = .ok (.invokevirtual 76, 3) := dk_182 0 76 (dk_at dksX3_fromBin_2 5 rfl rfl)
theorem dX3_fromBin_55 : decode cX3_fromBin 55 = .ok (.iload 4, 2) := dk_21 4 (dk_at dksX3_fromBin_2 8 rfl rfl)
theorem dX3_fromBin_57 : decode cX3_fromBin 57 = .ok (.isub, 1) := dk_100 (dk_at dksX3_fromBin_2 10 rfl rfl)
theorem dX3_fromBin_58 : decode cX3_fromBin 58 = .ok (.invokevirtual 178, 3) := dk_182 0 178 (dk_at dksX3_fromBin_2 11 rfl rfl)
theorem dX3_fromBin_61 : decode cX3_fromBin 61 = .ok (.istore 5, 2) := dk_54 5 (dk_at dksX3_fromBin_2 14 rfl rfl)
theorem dX3_fromBin_63 : decode cX3_fromBin 63 = .ok (.aload_n 0, 1) := dk_42 (dk_at dksX3_fromBin_2 16 rfl rfl)
theorem dX3_fromBin_64 : decode cX3_fromBin 64 = .ok (.getfield 24, 3) := dk_180 0 24 (dk_at dksX3_fromBin_2 17 rfl rfl)
theorem dX3_fromBin_67 : decode cX3_fromBin 67 = .ok (.iload_n 3, 1) := dk_29 (dk_at dksX3_fromBin_2 20 rfl rfl)
theorem dX3_fromBin_68 : decode cX3_fromBin 68 = .ok (.iaload, 1) := dk_46 (dk_at dksX3_fromBin_2 21 rfl rfl)
theorem dX3_fromBin_69 : decode cX3_fromBin 69 = .ok (.ireturn, 1) := dk_172 (dk_at dksX3_fromBin_2 22 rfl rfl)
abbrev cX3_blendMoisture : ByteArray := prog_10_method_69_code
def yX3_blendMoisture : MethodName := ⟨RX3, "blendMoisture", "(II)I"⟩
def dkwX3_blendMoisture_2 : List UInt8 := [100, 182, 0, 178, 172]
abbrev dktX3_blendMoisture_2 : List UInt8 := dkwX3_blendMoisture_2 ++ []
def dkwX3_blendMoisture_1 : List UInt8 := [182, 0, 181, 158, 0, 5, 2, 172, 42, 27, 28, 182, 0, 184, 62, 42, 29, 42, 27, 4, 182, 0, 76, 29]
abbrev dktX3_blendMoisture_1 : List UInt8 := dkwX3_blendMoisture_1 ++ dktX3_blendMoisture_2
def dkwX3_blendMoisture_0 : List UInt8 := [42, 27, 182, 0, 166, 153, 0, 11, 42, 28, 182, 0, 63, 154, 0, 6, 16, 254, 172, 42, 27, 28]
abbrev dktX3_blendMoisture_0 : List UInt8 := dkwX3_blendMoisture_0 ++ dktX3_blendMoisture_1
theorem dksX3_blendMoisture_0 : cX3_blendMoisture.data.toList.drop 0 = dktX3_blendMoisture_0 := by decide +kernel
theorem dksX3_blendMoisture_1 : cX3_blendMoisture.data.toList.drop 22 = dktX3_blendMoisture_1 := dk_seg dksX3_blendMoisture_0 22 rfl rfl
theorem dksX3_blendMoisture_2 : cX3_blendMoisture.data.toList.drop 46 = dktX3_blendMoisture_2 := dk_seg dksX3_blendMoisture_1 24 rfl rfl
theorem dX3_blendMoisture_0 : decode cX3_blendMoisture 0 = .ok (.aload_n 0, 1) := dk_42 (dk_at dksX3_blendMoisture_0 0 rfl rfl)
theorem dX3_blendMoisture_1 : decode cX3_blendMoisture 1 = .ok (.iload_n 1, 1) := dk_27 (dk_at dksX3_blendMoisture_0 1 rfl rfl)
theorem dX3_blendMoisture_2 : decode cX3_blendMoisture 2 = .ok (.invokevirtual 166, 3) := dk_182 0 166 (dk_at dksX3_blendMoisture_0 2 rfl rfl)
theorem dX3_blendMoisture_5 : decode cX3_blendMoisture 5 = .ok (.ifCond .eq 11, 3) := dk_153 0 11 (dk_at dksX3_blendMoisture_0 5 rfl rfl)
theorem dX3_blendMoisture_8 : decode cX3_blendMoisture 8 = .ok (.aload_n 0, 1) := dk_42 (dk_at dksX3_blendMoisture_0 8 rfl rfl)
theorem dX3_blendMoisture_9 : decode cX3_blendMoisture 9 = .ok (.iload_n 2, 1) := dk_28 (dk_at dksX3_blendMoisture_0 9 rfl rfl)
theorem dX3_blendMoisture_10 : decode cX3_blendMoisture 10 = .ok (.invokevirtual 63, 3) := dk_182 0 63 (dk_at dksX3_blendMoisture_0 10 rfl rfl)
theorem dX3_blendMoisture_13 : decode cX3_blendMoisture 13 = .ok (.ifCond .ne 6, 3) := dk_154 0 6 (dk_at dksX3_blendMoisture_0 13 rfl rfl)
theorem dX3_blendMoisture_16 : decode cX3_blendMoisture 16 = .ok (.bipush (-2), 2) := dk_16 254 (dk_at dksX3_blendMoisture_0 16 rfl rfl)
theorem dX3_blendMoisture_18 : decode cX3_blendMoisture 18 = .ok (.ireturn, 1) := dk_172 (dk_at dksX3_blendMoisture_0 18 rfl rfl)
theorem dX3_blendMoisture_19 : decode cX3_blendMoisture 19 = .ok (.aload_n 0, 1) := dk_42 (dk_at dksX3_blendMoisture_0 19 rfl rfl)
theorem dX3_blendMoisture_20 : decode cX3_blendMoisture 20 = .ok (.iload_n 1, 1) := dk_27 (dk_at dksX3_blendMoisture_0 20 rfl rfl)
theorem dX3_blendMoisture_21 : decode cX3_blendMoisture 21 = .ok (.iload_n 2, 1) := dk_28 (dk_at dksX3_blendMoisture_0 21 rfl rfl)
theorem dX3_blendMoisture_22 : decode cX3_blendMoisture 22 = .ok (.invokevirtual 181, 3) := dk_182 0 181 (dk_at dksX3_blendMoisture_1 0 rfl rfl)
theorem dX3_blendMoisture_25 : decode cX3_blendMoisture 25 = .ok (.ifCond .le 5, 3) := dk_158 0 5 (dk_at dksX3_blendMoisture_1 3 rfl rfl)
theorem dX3_blendMoisture_28 : decode cX3_blendMoisture 28 = .ok (.iconst (-1), 1) := dk_2 (dk_at dksX3_blendMoisture_1 6 rfl rfl)
theorem dX3_blendMoisture_29 : decode cX3_blendMoisture 29 = .ok (.ireturn, 1) := dk_172 (dk_at dksX3_blendMoisture_1 7 rfl rfl)
theorem dX3_blendMoisture_30 : decode cX3_blendMoisture 30 = .ok (.aload_n 0, 1) := dk_42 (dk_at dksX3_blendMoisture_1 8 rfl rfl)
theorem dX3_blendMoisture_31 : decode cX3_blendMoisture 31 = .ok (.iload_n 1, 1) := dk_27 (dk_at dksX3_blendMoisture_1 9 rfl rfl)
theorem dX3_blendMoisture_32 : decode cX3_blendMoisture 32 = .ok (.iload_n 2, 1) := dk_28 (dk_at dksX3_blendMoisture_1 10 rfl rfl)
theorem dX3_blendMoisture_33 : decode cX3_blendMoisture 33 = .ok (.invokevirtual 184, 3) := dk_182 0 184 (dk_at dksX3_blendMoisture_1 11 rfl rfl)
theorem dX3_blendMoisture_36 : decode cX3_blendMoisture 36 = .ok (.istore_n 3, 1) := dk_62 (dk_at dksX3_blendMoisture_1 14 rfl rfl)
theorem dX3_blendMoisture_37 : decode cX3_blendMoisture 37 = .ok (.aload_n 0, 1) := dk_42 (dk_at dksX3_blendMoisture_1 15 rfl rfl)
theorem dX3_blendMoisture_38 : decode cX3_blendMoisture 38 = .ok (.iload_n 3, 1) := dk_29 (dk_at dksX3_blendMoisture_1 16 rfl rfl)
theorem dX3_blendMoisture_39 : decode cX3_blendMoisture 39 = .ok (.aload_n 0, 1) := dk_42 (dk_at dksX3_blendMoisture_1 17 rfl rfl)
theorem dX3_blendMoisture_40 : decode cX3_blendMoisture 40 = .ok (.iload_n 1, 1) := dk_27 (dk_at dksX3_blendMoisture_1 18 rfl rfl)
theorem dX3_blendMoisture_41 : decode cX3_blendMoisture 41 = .ok (.iconst 1, 1) := dk_4 (dk_at dksX3_blendMoisture_1 19 rfl rfl)
theorem dX3_blendMoisture_42 : decode cX3_blendMoisture 42 = .ok (.invokevirtual 76, 3) := dk_182 0 76 (dk_at dksX3_blendMoisture_1 20 rfl rfl)
theorem dX3_blendMoisture_45 : decode cX3_blendMoisture 45 = .ok (.iload_n 3, 1) := dk_29 (dk_at dksX3_blendMoisture_1 23 rfl rfl)
theorem dX3_blendMoisture_46 : decode cX3_blendMoisture 46 = .ok (.isub, 1) := dk_100 (dk_at dksX3_blendMoisture_2 0 rfl rfl)
theorem dX3_blendMoisture_47 : decode cX3_blendMoisture 47 = .ok (.invokevirtual 178, 3) := dk_182 0 178 (dk_at dksX3_blendMoisture_2 1 rfl rfl)
theorem dX3_blendMoisture_50 : decode cX3_blendMoisture 50 = .ok (.ireturn, 1) := dk_172 (dk_at dksX3_blendMoisture_2 4 rfl rfl)
abbrev cX3_load : ByteArray := prog_10_method_70_code
def yX3_load : MethodName := ⟨RX3, "load", "(II)I"⟩
def dkwX3_load_12 : List UInt8 := [16, 6, 27, 104, 96, 8, 96, 21, 5, 79, 21, 7, 172]
abbrev dktX3_load_12 : List UInt8 := dkwX3_load_12 ++ []
def dkwX3_load_11 : List UInt8 := [133, 97, 80, 42, 180, 0, 7, 16, 94, 16, 6, 27, 104, 96, 7, 96, 3, 79, 42, 180, 0, 7, 16, 94]
abbrev dktX3_load_11 : List UInt8 := dkwX3_load_11 ++ dktX3_load_12
def dkwX3_load_10 : List UInt8 := [180, 0, 13, 4, 92, 47, 42, 27, 4, 182, 0, 76, 133, 97, 80, 42, 180, 0, 13, 7, 92, 47, 21, 7]
abbrev dktX3_load_10 : List UInt8 := dkwX3_load_10 ++ dktX3_load_11
def dkwX3_load_9 : List UInt8 := [132, 7, 1, 167, 255, 187, 42, 27, 4, 182, 0, 76, 42, 27, 6, 182, 0, 76, 104, 54, 7, 42]
abbrev dktX3_load_9 : List UInt8 := dkwX3_load_9 ++ dktX3_load_10
def dkwX3_load_8 : List UInt8 := [180, 0, 24, 21, 7, 46, 42, 21, 7, 42, 180, 0, 24, 21, 7, 46, 182, 0, 143, 182, 0, 124]
abbrev dktX3_load_8 : List UInt8 := dkwX3_load_8 ++ dktX3_load_9
def dkwX3_load_7 : List UInt8 := [42, 42, 180, 0, 24, 21, 7, 46, 42, 28, 3, 182, 0, 49, 184, 0, 113, 182, 0, 117, 42, 28, 42]
abbrev dktX3_load_7 : List UInt8 := dkwX3_load_7 ++ dktX3_load_8
def dkwX3_load_6 : List UInt8 := [3, 54, 7, 21, 7, 42, 180, 0, 7, 5, 46, 162, 0, 64, 42, 180, 0, 24, 21, 7, 46, 158, 0, 48]
abbrev dktX3_load_6 : List UInt8 := dkwX3_load_6 ++ dktX3_load_7
def dkwX3_load_5 : List UInt8 := [167, 255, 221, 42, 180, 0, 7, 3, 46, 21, 6, 96, 18, 116, 164, 0, 6, 16, 251, 172, 42, 182, 0, 52]
abbrev dktX3_load_5 : List UInt8 := dkwX3_load_5 ++ dktX3_load_6
def dkwX3_load_4 : List UInt8 := [42, 180, 0, 24, 21, 7, 46, 42, 28, 3, 182, 0, 49, 184, 0, 113, 96, 54, 6, 132, 7, 1]
abbrev dktX3_load_4 : List UInt8 := dkwX3_load_4 ++ dktX3_load_5
def dkwX3_load_3 : List UInt8 := [182, 0, 178, 54, 5, 3, 54, 6, 3, 54, 7, 21, 7, 42, 180, 0, 7, 5, 46, 162, 0, 30, 21, 6]
abbrev dktX3_load_3 : List UInt8 := dkwX3_load_3 ++ dktX3_load_4
def dkwX3_load_2 : List UInt8 := [182, 0, 110, 172, 42, 27, 28, 182, 0, 184, 54, 4, 42, 21, 4, 42, 27, 4, 182, 0, 76, 21, 4, 100]
abbrev dktX3_load_2 : List UInt8 := dkwX3_load_2 ++ dktX3_load_3
def dkwX3_load_1 : List UInt8 := [182, 0, 76, 154, 0, 6, 16, 252, 172, 42, 27, 28, 182, 0, 181, 62, 29, 158, 0, 9, 42, 29]
abbrev dktX3_load_1 : List UInt8 := dkwX3_load_1 ++ dktX3_load_2
def dkwX3_load_0 : List UInt8 := [42, 27, 182, 0, 166, 153, 0, 11, 42, 28, 182, 0, 63, 154, 0, 6, 16, 254, 172, 42, 27, 7]
abbrev dktX3_load_0 : List UInt8 := dkwX3_load_0 ++ dktX3_load_1
theorem dksX3_load_0 : cX3_load.data.toList.drop 0 = dktX3_load_0 := by decide +kernel
theorem dksX3_load_1 : cX3_load.data.toList.drop 22 = dktX3_load_1 := dk_seg dksX3_load_0 22 rfl rfl
theorem dksX3_load_2 : cX3_load.data.toList.drop 44 = dktX3_load_2 := dk_seg dksX3_load_1 22 rfl rfl
theorem dksX3_load_3 : cX3_load.data.toList.drop 68 = dktX3_load_3 := dk_seg dksX3_load_2 24 rfl rfl
theorem dksX3_load_4 : cX3_load.data.toList.drop 92 = dktX3_load_4 := dk_seg dksX3_load_3 24 rfl rfl
theorem dksX3_load_5 : cX3_load.data.toList.drop 114 = dktX3_load_5 := dk_seg dksX3_load_4 22 rfl rfl
theorem dksX3_load_6 : cX3_load.data.toList.drop 138 = dktX3_load_6 := dk_seg dksX3_load_5 24 rfl rfl
theorem dksX3_load_7 : cX3_load.data.toList.drop 162 = dktX3_load_7 := dk_seg dksX3_load_6 24 rfl rfl
theorem dksX3_load_8 : cX3_load.data.toList.drop 185 = dktX3_load_8 := dk_seg dksX3_load_7 23 rfl rfl
theorem dksX3_load_9 : cX3_load.data.toList.drop 207 = dktX3_load_9 := dk_seg dksX3_load_8 22 rfl rfl
theorem dksX3_load_10 : cX3_load.data.toList.drop 229 = dktX3_load_10 := dk_seg dksX3_load_9 22 rfl rfl
theorem dksX3_load_11 : cX3_load.data.toList.drop 253 = dktX3_load_11 := dk_seg dksX3_load_10 24 rfl rfl
theorem dksX3_load_12 : cX3_load.data.toList.drop 277 = dktX3_load_12 := dk_seg dksX3_load_11 24 rfl rfl
theorem dX3_load_0 : decode cX3_load 0 = .ok (.aload_n 0, 1) := dk_42 (dk_at dksX3_load_0 0 rfl rfl)
theorem dX3_load_1 : decode cX3_load 1 = .ok (.iload_n 1, 1) := dk_27 (dk_at dksX3_load_0 1 rfl rfl)
theorem dX3_load_2 : decode cX3_load 2 = .ok (.invokevirtual 166, 3) := dk_182 0 166 (dk_at dksX3_load_0 2 rfl rfl)
theorem dX3_load_5 : decode cX3_load 5 = .ok (.ifCond .eq 11, 3) := dk_153 0 11 (dk_at dksX3_load_0 5 rfl rfl)
theorem dX3_load_8 : decode cX3_load 8 = .ok (.aload_n 0, 1) := dk_42 (dk_at dksX3_load_0 8 rfl rfl)
theorem dX3_load_9 : decode cX3_load 9 = .ok (.iload_n 2, 1) := dk_28 (dk_at dksX3_load_0 9 rfl rfl)
theorem dX3_load_10 : decode cX3_load 10 = .ok (.invokevirtual 63, 3) := dk_182 0 63 (dk_at dksX3_load_0 10 rfl rfl)
theorem dX3_load_13 : decode cX3_load 13 = .ok (.ifCond .ne 6, 3) := dk_154 0 6 (dk_at dksX3_load_0 13 rfl rfl)
theorem dX3_load_16 : decode cX3_load 16 = .ok (.bipush (-2), 2) := dk_16 254 (dk_at dksX3_load_0 16 rfl rfl)
theorem dX3_load_18 : decode cX3_load 18 = .ok (.ireturn, 1) := dk_172 (dk_at dksX3_load_0 18 rfl rfl)
theorem dX3_load_19 : decode cX3_load 19 = .ok (.aload_n 0, 1) := dk_42 (dk_at dksX3_load_0 19 rfl rfl)
theorem dX3_load_20 : decode cX3_load 20 = .ok (.iload_n 1, 1) := dk_27 (dk_at dksX3_load_0 20 rfl rfl)
theorem dX3_load_21 : decode cX3_load 21 = .ok (.iconst 4, 1) := dk_7 (dk_at dksX3_load_0 21 rfl rfl)
theorem dX3_load_22 : decode cX3_load 22 = .ok (.invokevirtual 76, 3) := dk_182 0 76 (dk_at dksX3_load_1 0 rfl rfl)
theorem dX3_load_25 : decode cX3_load 25 = .ok (.ifCond .ne 6, 3) := dk_154 0 6 (dk_at dksX3_load_1 3 rfl rfl)
theorem dX3_load_28 : decode cX3_load 28 = .ok (.bipush (-4), 2) := dk_16 252 (dk_at dksX3_load_1 6 rfl rfl)
theorem dX3_load_30 : decode cX3_load 30 = .ok (.ireturn, 1) := dk_172 (dk_at dksX3_load_1 8 rfl rfl)
theorem dX3_load_31 : decode cX3_load 31 = .ok (.aload_n 0, 1) := dk_42 (dk_at dksX3_load_1 9 rfl rfl)
theorem dX3_load_32 : decode cX3_load 32 = .ok (.iload_n 1, 1) := dk_27 (dk_at dksX3_load_1 10 rfl rfl)
theorem dX3_load_33 : decode cX3_load 33 = .ok (.iload_n 2, 1) := dk_28 (dk_at dksX3_load_1 11 rfl rfl)
theorem dX3_load_34 : decode cX3_load 34 = .ok (.invokevirtual 181, 3) := dk_182 0 181 (dk_at dksX3_load_1 12 rfl rfl)
theorem dX3_load_37 : decode cX3_load 37 = .ok (.istore_n 3, 1) := dk_62 (dk_at dksX3_load_1 15 rfl rfl)
theorem dX3_load_38 : decode cX3_load 38 = .ok (.iload_n 3, 1) := dk_29 (dk_at dksX3_load_1 16 rfl rfl)
theorem dX3_load_39 : decode cX3_load 39 = .ok (.ifCond .le 9, 3) := dk_158 0 9 (dk_at dksX3_load_1 17 rfl rfl)
theorem dX3_load_42 : decode cX3_load 42 = .ok (.aload_n 0, 1) := dk_42 (dk_at dksX3_load_1 20 rfl rfl)
theorem dX3_load_43 : decode cX3_load 43 = .ok (.iload_n 3, 1) := dk_29 (dk_at dksX3_load_1 21 rfl rfl)
theorem dX3_load_44 : decode cX3_load 44 = .ok (.invokevirtual 110, 3) := dk_182 0 110 (dk_at dksX3_load_2 0 rfl rfl)
theorem dX3_load_47 : decode cX3_load 47 = .ok (.ireturn, 1) := dk_172 (dk_at dksX3_load_2 3 rfl rfl)
theorem dX3_load_48 : decode cX3_load 48 = .ok (.aload_n 0, 1) := dk_42 (dk_at dksX3_load_2 4 rfl rfl)
theorem dX3_load_49 : decode cX3_load 49 = .ok (.iload_n 1, 1) := dk_27 (dk_at dksX3_load_2 5 rfl rfl)
theorem dX3_load_50 : decode cX3_load 50 = .ok (.iload_n 2, 1) := dk_28 (dk_at dksX3_load_2 6 rfl rfl)
theorem dX3_load_51 : decode cX3_load 51 = .ok (.invokevirtual 184, 3) := dk_182 0 184 (dk_at dksX3_load_2 7 rfl rfl)
theorem dX3_load_54 : decode cX3_load 54 = .ok (.istore 4, 2) := dk_54 4 (dk_at dksX3_load_2 10 rfl rfl)
theorem dX3_load_56 : decode cX3_load 56 = .ok (.aload_n 0, 1) := dk_42 (dk_at dksX3_load_2 12 rfl rfl)
theorem dX3_load_57 : decode cX3_load 57 = .ok (.iload 4, 2) := dk_21 4 (dk_at dksX3_load_2 13 rfl rfl)
theorem dX3_load_59 : decode cX3_load 59 = .ok (.aload_n 0, 1) := dk_42 (dk_at dksX3_load_2 15 rfl rfl)
theorem dX3_load_60 : decode cX3_load 60 = .ok (.iload_n 1, 1) := dk_27 (dk_at dksX3_load_2 16 rfl rfl)
theorem dX3_load_61 : decode cX3_load 61 = .ok (.iconst 1, 1) := dk_4 (dk_at dksX3_load_2 17 rfl rfl)
theorem dX3_load_62 : decode cX3_load 62 = .ok (.invokevirtual 76, 3) := dk_182 0 76 (dk_at dksX3_load_2 18 rfl rfl)
theorem dX3_load_65 : decode cX3_load 65 = .ok (.iload 4, 2) := dk_21 4 (dk_at dksX3_load_2 21 rfl rfl)
theorem dX3_load_67 : decode cX3_load 67 = .ok (.isub, 1) := dk_100 (dk_at dksX3_load_2 23 rfl rfl)
theorem dX3_load_68 : decode cX3_load 68 = .ok (.invokevirtual 178, 3) := dk_182 0 178 (dk_at dksX3_load_3 0 rfl rfl)
theorem dX3_load_71 : decode cX3_load 71 = .ok (.istore 5, 2) := dk_54 5 (dk_at dksX3_load_3 3 rfl rfl)
theorem dX3_load_73 : decode cX3_load 73 = .ok (.iconst 0, 1) := dk_3 (dk_at dksX3_load_3 5 rfl rfl)
theorem dX3_load_74 : decode cX3_load 74 = .ok (.istore 6, 2) := dk_54 6 (dk_at dksX3_load_3 6 rfl rfl)
theorem dX3_load_76 : decode cX3_load 76 = .ok (.iconst 0, 1) := dk_3 (dk_at dksX3_load_3 8 rfl rfl)
theorem dX3_load_77 : decode cX3_load 77 = .ok (.istore 7, 2) := dk_54 7 (dk_at dksX3_load_3 9 rfl rfl)
theorem dX3_load_79 : decode cX3_load 79 = .ok (.iload 7, 2) := dk_21 7 (dk_at dksX3_load_3 11 rfl rfl)
theorem dX3_load_81 : decode cX3_load 81 = .ok (.aload_n 0, 1) := dk_42 (dk_at dksX3_load_3 13 rfl rfl)
theorem dX3_load_82 : decode cX3_load 82 = .ok (.getfield 7, 3) := dk_180 0 7 (dk_at dksX3_load_3 14 rfl rfl)
theorem dX3_load_85 : decode cX3_load 85 = .ok (.iconst 2, 1) := dk_5 (dk_at dksX3_load_3 17 rfl rfl)
theorem dX3_load_86 : decode cX3_load 86 = .ok (.iaload, 1) := dk_46 (dk_at dksX3_load_3 18 rfl rfl)
theorem dX3_load_87 : decode cX3_load 87 = .ok (.if_icmp .ge 30, 3) := dk_162 0 30 (dk_at dksX3_load_3 19 rfl rfl)
theorem dX3_load_90 : decode cX3_load 90 = .ok (.iload 6, 2) := dk_21 6 (dk_at dksX3_load_3 22 rfl rfl)
theorem dX3_load_92 : decode cX3_load 92 = .ok (.aload_n 0, 1) := dk_42 (dk_at dksX3_load_4 0 rfl rfl)
theorem dX3_load_93 : decode cX3_load 93 = .ok (.getfield 24, 3) := dk_180 0 24 (dk_at dksX3_load_4 1 rfl rfl)
theorem dX3_load_96 : decode cX3_load 96 = .ok (.iload 7, 2) := dk_21 7 (dk_at dksX3_load_4 4 rfl rfl)
theorem dX3_load_98 : decode cX3_load 98 = .ok (.iaload, 1) := dk_46 (dk_at dksX3_load_4 6 rfl rfl)
theorem dX3_load_99 : decode cX3_load 99 = .ok (.aload_n 0, 1) := dk_42 (dk_at dksX3_load_4 7 rfl rfl)
theorem dX3_load_100 : decode cX3_load 100 = .ok (.iload_n 2, 1) := dk_28 (dk_at dksX3_load_4 8 rfl rfl)
theorem dX3_load_101 : decode cX3_load 101 = .ok (.iconst 0, 1) := dk_3 (dk_at dksX3_load_4 9 rfl rfl)
theorem dX3_load_102 : decode cX3_load 102 = .ok (.invokevirtual 49, 3) := dk_182 0 49 (dk_at dksX3_load_4 10 rfl rfl)
theorem dX3_load_105 : decode cX3_load 105 = .ok (.invokestatic 113, 3) := dk_184 0 113 (dk_at dksX3_load_4 13 rfl rfl)
theorem dX3_load_108 : decode cX3_load 108 = .ok (.iadd, 1) := dk_96 (dk_at dksX3_load_4 16 rfl rfl)
theorem dX3_load_109 : decode cX3_load 109 = .ok (.istore 6, 2) := dk_54 6 (dk_at dksX3_load_4 17 rfl rfl)
theorem dX3_load_111 : decode cX3_load 111 = .ok (.iinc 7 1, 3) := dk_132 7 1 (dk_at dksX3_load_4 19 rfl rfl)
theorem dX3_load_114 : decode cX3_load 114 = .ok (.goto (-35), 3) := dk_167 255 221 (dk_at dksX3_load_5 0 rfl rfl)
theorem dX3_load_117 : decode cX3_load 117 = .ok (.aload_n 0, 1) := dk_42 (dk_at dksX3_load_5 3 rfl rfl)
theorem dX3_load_118 : decode cX3_load 118 = .ok (.getfield 7, 3) := dk_180 0 7 (dk_at dksX3_load_5 4 rfl rfl)
theorem dX3_load_121 : decode cX3_load 121 = .ok (.iconst 0, 1) := dk_3 (dk_at dksX3_load_5 7 rfl rfl)
theorem dX3_load_122 : decode cX3_load 122 = .ok (.iaload, 1) := dk_46 (dk_at dksX3_load_5 8 rfl rfl)
theorem dX3_load_123 : decode cX3_load 123 = .ok (.iload 6, 2) := dk_21 6 (dk_at dksX3_load_5 9 rfl rfl)
theorem dX3_load_125 : decode cX3_load 125 = .ok (.iadd, 1) := dk_96 (dk_at dksX3_load_5 11 rfl rfl)
theorem dX3_load_126 : decode cX3_load 126 = .ok (.ldc 116, 2) := dk_18 116 (dk_at dksX3_load_5 12 rfl rfl)
theorem dX3_load_128 : decode cX3_load 128 = .ok (.if_icmp .le 6, 3) := dk_164 0 6 (dk_at dksX3_load_5 14 rfl rfl)
theorem dX3_load_131 : decode cX3_load 131 = .ok (.bipush (-5), 2) := dk_16 251 (dk_at dksX3_load_5 17 rfl rfl)
theorem dX3_load_133 : decode cX3_load 133 = .ok (.ireturn, 1) := dk_172 (dk_at dksX3_load_5 19 rfl rfl)
theorem dX3_load_134 : decode cX3_load 134 = .ok (.aload_n 0, 1) := dk_42 (dk_at dksX3_load_5 20 rfl rfl)
theorem dX3_load_135 : decode cX3_load 135 = .ok (.invokevirtual 52, 3) := dk_182 0 52 (dk_at dksX3_load_5 21 rfl rfl)
theorem dX3_load_138 : decode cX3_load 138 = .ok (.iconst 0, 1) := dk_3 (dk_at dksX3_load_6 0 rfl rfl)
theorem dX3_load_139 : decode cX3_load 139 = .ok (.istore 7, 2) := dk_54 7 (dk_at dksX3_load_6 1 rfl rfl)
theorem dX3_load_141 : decode cX3_load 141 = .ok (.iload 7, 2) := dk_21 7 (dk_at dksX3_load_6 3 rfl rfl)
theorem dX3_load_143 : decode cX3_load 143 = .ok (.aload_n 0, 1) := dk_42 (dk_at dksX3_load_6 5 rfl rfl)
theorem dX3_load_144 : decode cX3_load 144 = .ok (.getfield 7, 3) := dk_180 0 7 (dk_at dksX3_load_6 6 rfl rfl)
theorem dX3_load_147 : decode cX3_load 147 = .ok (.iconst 2, 1) := dk_5 (dk_at dksX3_load_6 9 rfl rfl)
theorem dX3_load_148 : decode cX3_load 148 = .ok (.iaload, 1) := dk_46 (dk_at dksX3_load_6 10 rfl rfl)
theorem dX3_load_149 : decode cX3_load 149 = .ok (.if_icmp .ge 64, 3) := dk_162 0 64 (dk_at dksX3_load_6 11 rfl rfl)
theorem dX3_load_152 : decode cX3_load 152 = .ok (.aload_n 0, 1) := dk_42 (dk_at dksX3_load_6 14 rfl rfl)
theorem dX3_load_153 : decode cX3_load 153 = .ok (.getfield 24, 3) := dk_180 0 24 (dk_at dksX3_load_6 15 rfl rfl)
theorem dX3_load_156 : decode cX3_load 156 = .ok (.iload 7, 2) := dk_21 7 (dk_at dksX3_load_6 18 rfl rfl)
theorem dX3_load_158 : decode cX3_load 158 = .ok (.iaload, 1) := dk_46 (dk_at dksX3_load_6 20 rfl rfl)
theorem dX3_load_159 : decode cX3_load 159 = .ok (.ifCond .le 48, 3) := dk_158 0 48 (dk_at dksX3_load_6 21 rfl rfl)
theorem dX3_load_162 : decode cX3_load 162 = .ok (.aload_n 0, 1) := dk_42 (dk_at dksX3_load_7 0 rfl rfl)
theorem dX3_load_163 : decode cX3_load 163 = .ok (.aload_n 0, 1) := dk_42 (dk_at dksX3_load_7 1 rfl rfl)
theorem dX3_load_164 : decode cX3_load 164 = .ok (.getfield 24, 3) := dk_180 0 24 (dk_at dksX3_load_7 2 rfl rfl)
theorem dX3_load_167 : decode cX3_load 167 = .ok (.iload 7, 2) := dk_21 7 (dk_at dksX3_load_7 5 rfl rfl)
theorem dX3_load_169 : decode cX3_load 169 = .ok (.iaload, 1) := dk_46 (dk_at dksX3_load_7 7 rfl rfl)
theorem dX3_load_170 : decode cX3_load 170 = .ok (.aload_n 0, 1) := dk_42 (dk_at dksX3_load_7 8 rfl rfl)
theorem dX3_load_171 : decode cX3_load 171 = .ok (.iload_n 2, 1) := dk_28 (dk_at dksX3_load_7 9 rfl rfl)
theorem dX3_load_172 : decode cX3_load 172 = .ok (.iconst 0, 1) := dk_3 (dk_at dksX3_load_7 10 rfl rfl)
theorem dX3_load_173 : decode cX3_load 173 = .ok (.invokevirtual 49, 3) := dk_182 0 49 (dk_at dksX3_load_7 11 rfl rfl)
theorem dX3_load_176 : decode cX3_load 176 = .ok (.invokestatic 113, 3) := dk_184 0 113 (dk_at dksX3_load_7 14 rfl rfl)
theorem dX3_load_179 : decode cX3_load 179 = .ok (.invokevirtual 117, 3) := dk_182 0 117 (dk_at dksX3_load_7 17 rfl rfl)
theorem dX3_load_182 : decode cX3_load 182 = .ok (.aload_n 0, 1) := dk_42 (dk_at dksX3_load_7 20 rfl rfl)
theorem dX3_load_183 : decode cX3_load 183 = .ok (.iload_n 2, 1) := dk_28 (dk_at dksX3_load_7 21 rfl rfl)
theorem dX3_load_184 : decode cX3_load 184 = .ok (.aload_n 0, 1) := dk_42 (dk_at dksX3_load_7 22 rfl rfl)
theorem dX3_load_185 : decode cX3_load 185 = .ok (.getfield 24, 3) := dk_180 0 24 (dk_at dksX3_load_8 0 rfl rfl)
theorem dX3_load_188 : decode cX3_load 188 = .ok (.iload 7, 2) := dk_21 7 (dk_at dksX3_load_8 3 rfl rfl)
theorem dX3_load_190 : decode cX3_load 190 = .ok (.iaload, 1) := dk_46 (dk_at dksX3_load_8 5 rfl rfl)
theorem dX3_load_191 : decode cX3_load 191 = .ok (.aload_n 0, 1) := dk_42 (dk_at dksX3_load_8 6 rfl rfl)
theorem dX3_load_192 : decode cX3_load 192 = .ok (.iload 7, 2) := dk_21 7 (dk_at dksX3_load_8 7 rfl rfl)
theorem dX3_load_194 : decode cX3_load 194 = .ok (.aload_n 0, 1) := dk_42 (dk_at dksX3_load_8 9 rfl rfl)
theorem dX3_load_195 : decode cX3_load 195 = .ok (.getfield 24, 3) := dk_180 0 24 (dk_at dksX3_load_8 10 rfl rfl)
theorem dX3_load_198 : decode cX3_load 198 = .ok (.iload 7, 2) := dk_21 7 (dk_at dksX3_load_8 13 rfl rfl)
theorem dX3_load_200 : decode cX3_load 200 = .ok (.iaload, 1) := dk_46 (dk_at dksX3_load_8 15 rfl rfl)
theorem dX3_load_201 : decode cX3_load 201 = .ok (.invokevirtual 143, 3) := dk_182 0 143 (dk_at dksX3_load_8 16 rfl rfl)
theorem dX3_load_204 : decode cX3_load 204 = .ok (.invokevirtual 124, 3) := dk_182 0 124 (dk_at dksX3_load_8 19 rfl rfl)
theorem dX3_load_207 : decode cX3_load 207 = .ok (.iinc 7 1, 3) := dk_132 7 1 (dk_at dksX3_load_9 0 rfl rfl)
theorem dX3_load_210 : decode cX3_load 210 = .ok (.goto (-69), 3) := dk_167 255 187 (dk_at dksX3_load_9 3 rfl rfl)
theorem dX3_load_213 : decode cX3_load 213 = .ok (.aload_n 0, 1) := dk_42 (dk_at dksX3_load_9 6 rfl rfl)
theorem dX3_load_214 : decode cX3_load 214 = .ok (.iload_n 1, 1) := dk_27 (dk_at dksX3_load_9 7 rfl rfl)
theorem dX3_load_215 : decode cX3_load 215 = .ok (.iconst 1, 1) := dk_4 (dk_at dksX3_load_9 8 rfl rfl)
theorem dX3_load_216 : decode cX3_load 216 = .ok (.invokevirtual 76, 3) := dk_182 0 76 (dk_at dksX3_load_9 9 rfl rfl)
theorem dX3_load_219 : decode cX3_load 219 = .ok (.aload_n 0, 1) := dk_42 (dk_at dksX3_load_9 12 rfl rfl)
theorem dX3_load_220 : decode cX3_load 220 = .ok (.iload_n 1, 1) := dk_27 (dk_at dksX3_load_9 13 rfl rfl)
theorem dX3_load_221 : decode cX3_load 221 = .ok (.iconst 3, 1) := dk_6 (dk_at dksX3_load_9 14 rfl rfl)
theorem dX3_load_222 : decode cX3_load 222 = .ok (.invokevirtual 76, 3) := dk_182 0 76 (dk_at dksX3_load_9 15 rfl rfl)
theorem dX3_load_225 : decode cX3_load 225 = .ok (.imul, 1) := dk_104 (dk_at dksX3_load_9 18 rfl rfl)
theorem dX3_load_226 : decode cX3_load 226 = .ok (.istore 7, 2) := dk_54 7 (dk_at dksX3_load_9 19 rfl rfl)
theorem dX3_load_228 : decode cX3_load 228 = .ok (.aload_n 0, 1) := dk_42 (dk_at dksX3_load_9 21 rfl rfl)
theorem dX3_load_229 : decode cX3_load 229 = .ok (.getfield 13, 3) := dk_180 0 13 (dk_at dksX3_load_10 0 rfl rfl)
theorem dX3_load_232 : decode cX3_load 232 = .ok (.iconst 1, 1) := dk_4 (dk_at dksX3_load_10 3 rfl rfl)
theorem dX3_load_233 : decode cX3_load 233 = .ok (.dup2, 1) := dk_92 (dk_at dksX3_load_10 4 rfl rfl)
theorem dX3_load_234 : decode cX3_load 234 = .ok (.laload, 1) := dk_47 (dk_at dksX3_load_10 5 rfl rfl)
theorem dX3_load_235 : decode cX3_load 235 = .ok (.aload_n 0, 1) := dk_42 (dk_at dksX3_load_10 6 rfl rfl)
theorem dX3_load_236 : decode cX3_load 236 = .ok (.iload_n 1, 1) := dk_27 (dk_at dksX3_load_10 7 rfl rfl)
theorem dX3_load_237 : decode cX3_load 237 = .ok (.iconst 1, 1) := dk_4 (dk_at dksX3_load_10 8 rfl rfl)
theorem dX3_load_238 : decode cX3_load 238 = .ok (.invokevirtual 76, 3) := dk_182 0 76 (dk_at dksX3_load_10 9 rfl rfl)
theorem dX3_load_241 : decode cX3_load 241 = .ok (.i2l, 1) := dk_133 (dk_at dksX3_load_10 12 rfl rfl)
theorem dX3_load_242 : decode cX3_load 242 = .ok (.ladd, 1) := dk_97 (dk_at dksX3_load_10 13 rfl rfl)
theorem dX3_load_243 : decode cX3_load 243 = .ok (.lastore, 1) := dk_80 (dk_at dksX3_load_10 14 rfl rfl)
theorem dX3_load_244 : decode cX3_load 244 = .ok (.aload_n 0, 1) := dk_42 (dk_at dksX3_load_10 15 rfl rfl)
theorem dX3_load_245 : decode cX3_load 245 = .ok (.getfield 13, 3) := dk_180 0 13 (dk_at dksX3_load_10 16 rfl rfl)
theorem dX3_load_248 : decode cX3_load 248 = .ok (.iconst 4, 1) := dk_7 (dk_at dksX3_load_10 19 rfl rfl)
theorem dX3_load_249 : decode cX3_load 249 = .ok (.dup2, 1) := dk_92 (dk_at dksX3_load_10 20 rfl rfl)
theorem dX3_load_250 : decode cX3_load 250 = .ok (.laload, 1) := dk_47 (dk_at dksX3_load_10 21 rfl rfl)
theorem dX3_load_251 : decode cX3_load 251 = .ok (.iload 7, 2) := dk_21 7 (dk_at dksX3_load_10 22 rfl rfl)
theorem dX3_load_253 : decode cX3_load 253 = .ok (.i2l, 1) := dk_133 (dk_at dksX3_load_11 0 rfl rfl)
theorem dX3_load_254 : decode cX3_load 254 = .ok (.ladd, 1) := dk_97 (dk_at dksX3_load_11 1 rfl rfl)
theorem dX3_load_255 : decode cX3_load 255 = .ok (.lastore, 1) := dk_80 (dk_at dksX3_load_11 2 rfl rfl)
theorem dX3_load_256 : decode cX3_load 256 = .ok (.aload_n 0, 1) := dk_42 (dk_at dksX3_load_11 3 rfl rfl)
theorem dX3_load_257 : decode cX3_load 257 = .ok (.getfield 7, 3) := dk_180 0 7 (dk_at dksX3_load_11 4 rfl rfl)
theorem dX3_load_260 : decode cX3_load 260 = .ok (.bipush 94, 2) := dk_16 94 (dk_at dksX3_load_11 7 rfl rfl)
theorem dX3_load_262 : decode cX3_load 262 = .ok (.bipush 6, 2) := dk_16 6 (dk_at dksX3_load_11 9 rfl rfl)
theorem dX3_load_264 : decode cX3_load 264 = .ok (.iload_n 1, 1) := dk_27 (dk_at dksX3_load_11 11 rfl rfl)
theorem dX3_load_265 : decode cX3_load 265 = .ok (.imul, 1) := dk_104 (dk_at dksX3_load_11 12 rfl rfl)
theorem dX3_load_266 : decode cX3_load 266 = .ok (.iadd, 1) := dk_96 (dk_at dksX3_load_11 13 rfl rfl)
theorem dX3_load_267 : decode cX3_load 267 = .ok (.iconst 4, 1) := dk_7 (dk_at dksX3_load_11 14 rfl rfl)
theorem dX3_load_268 : decode cX3_load 268 = .ok (.iadd, 1) := dk_96 (dk_at dksX3_load_11 15 rfl rfl)
theorem dX3_load_269 : decode cX3_load 269 = .ok (.iconst 0, 1) := dk_3 (dk_at dksX3_load_11 16 rfl rfl)
theorem dX3_load_270 : decode cX3_load 270 = .ok (.iastore, 1) := dk_79 (dk_at dksX3_load_11 17 rfl rfl)
theorem dX3_load_271 : decode cX3_load 271 = .ok (.aload_n 0, 1) := dk_42 (dk_at dksX3_load_11 18 rfl rfl)
theorem dX3_load_272 : decode cX3_load 272 = .ok (.getfield 7, 3) := dk_180 0 7 (dk_at dksX3_load_11 19 rfl rfl)
theorem dX3_load_275 : decode cX3_load 275 = .ok (.bipush 94, 2) := dk_16 94 (dk_at dksX3_load_11 22 rfl rfl)
theorem dX3_load_277 : decode cX3_load 277 = .ok (.bipush 6, 2) := dk_16 6 (dk_at dksX3_load_12 0 rfl rfl)
theorem dX3_load_279 : decode cX3_load 279 = .ok (.iload_n 1, 1) := dk_27 (dk_at dksX3_load_12 2 rfl rfl)
theorem dX3_load_280 : decode cX3_load 280 = .ok (.imul, 1) := dk_104 (dk_at dksX3_load_12 3 rfl rfl)
theorem dX3_load_281 : decode cX3_load 281 = .ok (.iadd, 1) := dk_96 (dk_at dksX3_load_12 4 rfl rfl)
theorem dX3_load_282 : decode cX3_load 282 = .ok (.iconst 5, 1) := dk_8 (dk_at dksX3_load_12 5 rfl rfl)
theorem dX3_load_283 : decode cX3_load 283 = .ok (.iadd, 1) := dk_96 (dk_at dksX3_load_12 6 rfl rfl)
theorem dX3_load_284 : decode cX3_load 284 = .ok (.iload 5, 2) := dk_21 5 (dk_at dksX3_load_12 7 rfl rfl)
theorem dX3_load_286 : decode cX3_load 286 = .ok (.iastore, 1) := dk_79 (dk_at dksX3_load_12 9 rfl rfl)
theorem dX3_load_287 : decode cX3_load 287 = .ok (.iload 7, 2) := dk_21 7 (dk_at dksX3_load_12 10 rfl rfl)
theorem dX3_load_289 : decode cX3_load 289 = .ok (.ireturn, 1) := dk_172 (dk_at dksX3_load_12 12 rfl rfl)
abbrev cX3_spoilsIn : ByteArray := prog_10_method_71_code
def yX3_spoilsIn : MethodName := ⟨RX3, "spoilsIn", "(I)I"⟩
def dkwX3_spoilsIn_2 : List UInt8 := [96, 4, 100, 28, 108, 167, 0, 4, 2, 172]
abbrev dktX3_spoilsIn_2 : List UInt8 := dkwX3_spoilsIn_2 ++ []
def dkwX3_spoilsIn_1 : List UInt8 := [182, 0, 79, 17, 0, 150, 100, 61, 28, 158, 0, 23, 17, 39, 16, 42, 27, 16, 6, 182, 0, 45, 100, 28]
abbrev dktX3_spoilsIn_1 : List UInt8 := dkwX3_spoilsIn_1 ++ dktX3_spoilsIn_2
def dkwX3_spoilsIn_0 : List UInt8 := [42, 27, 182, 0, 59, 154, 0, 6, 16, 254, 172, 42, 27, 182, 0, 73, 153, 0, 5, 3, 172, 42, 27]
abbrev dktX3_spoilsIn_0 : List UInt8 := dkwX3_spoilsIn_0 ++ dktX3_spoilsIn_1
theorem dksX3_spoilsIn_0 : cX3_spoilsIn.data.toList.drop 0 = dktX3_spoilsIn_0 := by decide +kernel
theorem dksX3_spoilsIn_1 : cX3_spoilsIn.data.toList.drop 23 = dktX3_spoilsIn_1 := dk_seg dksX3_spoilsIn_0 23 rfl rfl
theorem dksX3_spoilsIn_2 : cX3_spoilsIn.data.toList.drop 47 = dktX3_spoilsIn_2 := dk_seg dksX3_spoilsIn_1 24 rfl rfl
theorem dX3_spoilsIn_0 : decode cX3_spoilsIn 0 = .ok (.aload_n 0, 1) := dk_42 (dk_at dksX3_spoilsIn_0 0 rfl rfl)
theorem dX3_spoilsIn_1 : decode cX3_spoilsIn 1 = .ok (.iload_n 1, 1) := dk_27 (dk_at dksX3_spoilsIn_0 1 rfl rfl)
theorem dX3_spoilsIn_2 : decode cX3_spoilsIn 2 = .ok (.invokevirtual 59, 3) := dk_182 0 59 (dk_at dksX3_spoilsIn_0 2 rfl rfl)
theorem dX3_spoilsIn_5 : decode cX3_spoilsIn 5 = .ok (.ifCond .ne 6, 3) := dk_154 0 6 (dk_at dksX3_spoilsIn_0 5 rfl rfl)
theorem dX3_spoilsIn_8 : decode cX3_spoilsIn 8 = .ok (.bipush (-2), 2) := dk_16 254 (dk_at dksX3_spoilsIn_0 8 rfl rfl)
theorem dX3_spoilsIn_10 : decode cX3_spoilsIn 10 = .ok (.ireturn, 1) := dk_172 (dk_at dksX3_spoilsIn_0 10 rfl rfl)
theorem dX3_spoilsIn_11 : decode cX3_spoilsIn 11 = .ok (.aload_n 0, 1) := dk_42 (dk_at dksX3_spoilsIn_0 11 rfl rfl)
theorem dX3_spoilsIn_12 : decode cX3_spoilsIn 12 = .ok (.iload_n 1, 1) := dk_27 (dk_at dksX3_spoilsIn_0 12 rfl rfl)
theorem dX3_spoilsIn_13 : decode cX3_spoilsIn 13 = .ok (.invokevirtual 73, 3) := dk_182 0 73 (dk_at dksX3_spoilsIn_0 13 rfl rfl)
theorem dX3_spoilsIn_16 : decode cX3_spoilsIn 16 = .ok (.ifCond .eq 5, 3) := dk_153 0 5 (dk_at dksX3_spoilsIn_0 16 rfl rfl)
theorem dX3_spoilsIn_19 : decode cX3_spoilsIn 19 = .ok (.iconst 0, 1) := dk_3 (dk_at dksX3_spoilsIn_0 19 rfl rfl)
theorem dX3_spoilsIn_20 : decode cX3_spoilsIn 20 = .ok (.ireturn, 1) := dk_172 (dk_at dksX3_spoilsIn_0 20 rfl rfl)
theorem dX3_spoilsIn_21 : decode cX3_spoilsIn 21 = .ok (.aload_n 0, 1) := dk_42 (dk_at dksX3_spoilsIn_0 21 rfl rfl)
theorem dX3_spoilsIn_22 : decode cX3_spoilsIn 22 = .ok (.iload_n 1, 1) := dk_27 (dk_at dksX3_spoilsIn_0 22 rfl rfl)
theorem dX3_spoilsIn_23 : decode cX3_spoilsIn 23 = .ok (.invokevirtual 79, 3) := dk_182 0 79 (dk_at dksX3_spoilsIn_1 0 rfl rfl)
theorem dX3_spoilsIn_26 : decode cX3_spoilsIn 26 = .ok (.sipush 150, 3) := dk_17 0 150 (dk_at dksX3_spoilsIn_1 3 rfl rfl)
theorem dX3_spoilsIn_29 : decode cX3_spoilsIn 29 = .ok (.isub, 1) := dk_100 (dk_at dksX3_spoilsIn_1 6 rfl rfl)
theorem dX3_spoilsIn_30 : decode cX3_spoilsIn 30 = .ok (.istore_n 2, 1) := dk_61 (dk_at dksX3_spoilsIn_1 7 rfl rfl)
theorem dX3_spoilsIn_31 : decode cX3_spoilsIn 31 = .ok (.iload_n 2, 1) := dk_28 (dk_at dksX3_spoilsIn_1 8 rfl rfl)
theorem dX3_spoilsIn_32 : decode cX3_spoilsIn 32 = .ok (.ifCond .le 23, 3) := dk_158 0 23 (dk_at dksX3_spoilsIn_1 9 rfl rfl)
theorem dX3_spoilsIn_35 : decode cX3_spoilsIn 35 = .ok (.sipush 10000, 3) := dk_17 39 16 (dk_at dksX3_spoilsIn_1 12 rfl rfl)
theorem dX3_spoilsIn_38 : decode cX3_spoilsIn 38 = .ok (.aload_n 0, 1) := dk_42 (dk_at dksX3_spoilsIn_1 15 rfl rfl)
theorem dX3_spoilsIn_39 : decode cX3_spoilsIn 39 = .ok (.iload_n 1, 1) := dk_27 (dk_at dksX3_spoilsIn_1 16 rfl rfl)
theorem dX3_spoilsIn_40 : decode cX3_spoilsIn 40 = .ok (.bipush 6, 2) := dk_16 6 (dk_at dksX3_spoilsIn_1 17 rfl rfl)
theorem dX3_spoilsIn_42 : decode cX3_spoilsIn 42 = .ok (.invokevirtual 45, 3) := dk_182 0 45 (dk_at dksX3_spoilsIn_1 19 rfl rfl)
theorem dX3_spoilsIn_45 : decode cX3_spoilsIn 45 = .ok (.isub, 1) := dk_100 (dk_at dksX3_spoilsIn_1 22 rfl rfl)
theorem dX3_spoilsIn_46 : decode cX3_spoilsIn 46 = .ok (.iload_n 2, 1) := dk_28 (dk_at dksX3_spoilsIn_1 23 rfl rfl)
theorem dX3_spoilsIn_47 : decode cX3_spoilsIn 47 = .ok (.iadd, 1) := dk_96 (dk_at dksX3_spoilsIn_2 0 rfl rfl)
theorem dX3_spoilsIn_48 : decode cX3_spoilsIn 48 = .ok (.iconst 1, 1) := dk_4 (dk_at dksX3_spoilsIn_2 1 rfl rfl)
theorem dX3_spoilsIn_49 : decode cX3_spoilsIn 49 = .ok (.isub, 1) := dk_100 (dk_at dksX3_spoilsIn_2 2 rfl rfl)
theorem dX3_spoilsIn_50 : decode cX3_spoilsIn 50 = .ok (.iload_n 2, 1) := dk_28 (dk_at dksX3_spoilsIn_2 3 rfl rfl)
theorem dX3_spoilsIn_51 : decode cX3_spoilsIn 51 = .ok (.idiv, 1) := dk_108 (dk_at dksX3_spoilsIn_2 4 rfl rfl)
theorem dX3_spoilsIn_52 : decode cX3_spoilsIn 52 = .ok (.goto 4, 3) := dk_167 0 4 (dk_at dksX3_spoilsIn_2 5 rfl rfl)
theorem dX3_spoilsIn_55 : decode cX3_spoilsIn 55 = .ok (.iconst (-1), 1) := dk_2 (dk_at dksX3_spoilsIn_2 8 rfl rfl)
theorem dX3_spoilsIn_56 : decode cX3_spoilsIn 56 = .ok (.ireturn, 1) := dk_172 (dk_at dksX3_spoilsIn_2 9 rfl rfl)
abbrev cX3_stepsTo : ByteArray := prog_10_method_72_code
def yX3_stepsTo : MethodName := ⟨RX3, "stepsTo", "(II)I"⟩
def dkwX3_stepsTo_5 : List UInt8 := [17, 0, 200, 163, 0, 8, 21, 5, 167, 0, 4, 2, 172]
abbrev dktX3_stepsTo_5 : List UInt8 := dkwX3_stepsTo_5 ++ []
def dkwX3_stepsTo_4 : List UInt8 := [17, 3, 232, 108, 167, 0, 6, 29, 4, 100, 100, 62, 132, 5, 1, 167, 255, 192, 29, 158, 0, 16, 21, 5]
abbrev dktX3_stepsTo_4 : List UInt8 := dkwX3_stepsTo_4 ++ dktX3_stepsTo_5
def dkwX3_stepsTo_3 : List UInt8 := [54, 6, 21, 4, 21, 6, 100, 54, 4, 29, 21, 6, 17, 3, 232, 108, 29, 4, 100, 162, 0, 12, 21, 6]
abbrev dktX3_stepsTo_3 : List UInt8 := dkwX3_stepsTo_3 ++ dktX3_stepsTo_4
def dkwX3_stepsTo_2 : List UInt8 := [158, 0, 66, 21, 5, 17, 0, 200, 163, 0, 58, 21, 4, 29, 108, 28, 164, 0, 50, 21, 4, 16, 20, 108]
abbrev dktX3_stepsTo_2 : List UInt8 := dkwX3_stepsTo_2 ++ dktX3_stepsTo_3
def dkwX3_stepsTo_1 : List UInt8 := [16, 253, 172, 42, 27, 6, 182, 0, 45, 62, 42, 27, 7, 182, 0, 45, 54, 4, 3, 54, 5, 29]
abbrev dktX3_stepsTo_1 : List UInt8 := dkwX3_stepsTo_1 ++ dktX3_stepsTo_2
def dkwX3_stepsTo_0 : List UInt8 := [42, 27, 182, 0, 59, 154, 0, 6, 16, 254, 172, 28, 16, 50, 17, 1, 144, 184, 0, 41, 154, 0, 6]
abbrev dktX3_stepsTo_0 : List UInt8 := dkwX3_stepsTo_0 ++ dktX3_stepsTo_1
theorem dksX3_stepsTo_0 : cX3_stepsTo.data.toList.drop 0 = dktX3_stepsTo_0 := by decide +kernel
theorem dksX3_stepsTo_1 : cX3_stepsTo.data.toList.drop 23 = dktX3_stepsTo_1 := dk_seg dksX3_stepsTo_0 23 rfl rfl
theorem dksX3_stepsTo_2 : cX3_stepsTo.data.toList.drop 45 = dktX3_stepsTo_2 := dk_seg dksX3_stepsTo_1 22 rfl rfl
theorem dksX3_stepsTo_3 : cX3_stepsTo.data.toList.drop 69 = dktX3_stepsTo_3 := dk_seg dksX3_stepsTo_2 24 rfl rfl
theorem dksX3_stepsTo_4 : cX3_stepsTo.data.toList.drop 93 = dktX3_stepsTo_4 := dk_seg dksX3_stepsTo_3 24 rfl rfl
theorem dksX3_stepsTo_5 : cX3_stepsTo.data.toList.drop 117 = dktX3_stepsTo_5 := dk_seg dksX3_stepsTo_4 24 rfl rfl
theorem dX3_stepsTo_0 : decode cX3_stepsTo 0 = .ok (.aload_n 0, 1) := dk_42 (dk_at dksX3_stepsTo_0 0 rfl rfl)
theorem dX3_stepsTo_1 : decode cX3_stepsTo 1 = .ok (.iload_n 1, 1) := dk_27 (dk_at dksX3_stepsTo_0 1 rfl rfl)
theorem dX3_stepsTo_2 : decode cX3_stepsTo 2 = .ok (.invokevirtual 59, 3) := dk_182 0 59 (dk_at dksX3_stepsTo_0 2 rfl rfl)
theorem dX3_stepsTo_5 : decode cX3_stepsTo 5 = .ok (.ifCond .ne 6, 3) := dk_154 0 6 (dk_at dksX3_stepsTo_0 5 rfl rfl)
theorem dX3_stepsTo_8 : decode cX3_stepsTo 8 = .ok (.bipush (-2), 2) := dk_16 254 (dk_at dksX3_stepsTo_0 8 rfl rfl)
theorem dX3_stepsTo_10 : decode cX3_stepsTo 10 = .ok (.ireturn, 1) := dk_172 (dk_at dksX3_stepsTo_0 10 rfl rfl)
theorem dX3_stepsTo_11 : decode cX3_stepsTo 11 = .ok (.iload_n 2, 1) := dk_28 (dk_at dksX3_stepsTo_0 11 rfl rfl)
theorem dX3_stepsTo_12 : decode cX3_stepsTo 12 = .ok (.bipush 50, 2) := dk_16 50 (dk_at dksX3_stepsTo_0 12 rfl rfl)
theorem dX3_stepsTo_14 : decode cX3_stepsTo 14 = .ok (.sipush 400, 3) := dk_17 1 144 (dk_at dksX3_stepsTo_0 14 rfl rfl)
theorem dX3_stepsTo_17 : decode cX3_stepsTo 17 = .ok (.invokestatic 41, 3) := dk_184 0 41 (dk_at dksX3_stepsTo_0 17 rfl rfl)
theorem dX3_stepsTo_20 : decode cX3_stepsTo 20 = .ok (.ifCond .ne 6, 3) := dk_154 0 6 (dk_at dksX3_stepsTo_0 20 rfl rfl)
theorem dX3_stepsTo_23 : decode cX3_stepsTo 23 = .ok (.bipush (-3), 2) := dk_16 253 (dk_at dksX3_stepsTo_1 0 rfl rfl)
theorem dX3_stepsTo_25 : decode cX3_stepsTo 25 = .ok (.ireturn, 1) := dk_172 (dk_at dksX3_stepsTo_1 2 rfl rfl)
theorem dX3_stepsTo_26 : decode cX3_stepsTo 26 = .ok (.aload_n 0, 1) := dk_42 (dk_at dksX3_stepsTo_1 3 rfl rfl)
theorem dX3_stepsTo_27 : decode cX3_stepsTo 27 = .ok (.iload_n 1, 1) := dk_27 (dk_at dksX3_stepsTo_1 4 rfl rfl)
theorem dX3_stepsTo_28 : decode cX3_stepsTo 28 = .ok (.iconst 3, 1) := dk_6 (dk_at dksX3_stepsTo_1 5 rfl rfl)
theorem dX3_stepsTo_29 : decode cX3_stepsTo 29 = .ok (.invokevirtual 45, 3) := dk_182 0 45 (dk_at dksX3_stepsTo_1 6 rfl rfl)
theorem dX3_stepsTo_32 : decode cX3_stepsTo 32 = .ok (.istore_n 3, 1) := dk_62 (dk_at dksX3_stepsTo_1 9 rfl rfl)
theorem dX3_stepsTo_33 : decode cX3_stepsTo 33 = .ok (.aload_n 0, 1) := dk_42 (dk_at dksX3_stepsTo_1 10 rfl rfl)
theorem dX3_stepsTo_34 : decode cX3_stepsTo 34 = .ok (.iload_n 1, 1) := dk_27 (dk_at dksX3_stepsTo_1 11 rfl rfl)
theorem dX3_stepsTo_35 : decode cX3_stepsTo 35 = .ok (.iconst 4, 1) := dk_7 (dk_at dksX3_stepsTo_1 12 rfl rfl)
theorem dX3_stepsTo_36 : decode cX3_stepsTo 36 = .ok (.invokevirtual 45, 3) := dk_182 0 45 (dk_at dksX3_stepsTo_1 13 rfl rfl)
theorem dX3_stepsTo_39 : decode cX3_stepsTo 39 = .ok (.istore 4, 2) := dk_54 4 (dk_at dksX3_stepsTo_1 16 rfl rfl)
theorem dX3_stepsTo_41 : decode cX3_stepsTo 41 = .ok (.iconst 0, 1) := dk_3 (dk_at dksX3_stepsTo_1 18 rfl rfl)
theorem dX3_stepsTo_42 : decode cX3_stepsTo 42 = .ok (.istore 5, 2) := dk_54 5 (dk_at dksX3_stepsTo_1 19 rfl rfl)
theorem dX3_stepsTo_44 : decode cX3_stepsTo 44 = .ok (.iload_n 3, 1) := dk_29 (dk_at dksX3_stepsTo_1 21 rfl rfl)
theorem dX3_stepsTo_45 : decode cX3_stepsTo 45 = .ok (.ifCond .le 66, 3) := dk_158 0 66 (dk_at dksX3_stepsTo_2 0 rfl rfl)
theorem dX3_stepsTo_48 : decode cX3_stepsTo 48 = .ok (.iload 5, 2) := dk_21 5 (dk_at dksX3_stepsTo_2 3 rfl rfl)
theorem dX3_stepsTo_50 : decode cX3_stepsTo 50 = .ok (.sipush 200, 3) := dk_17 0 200 (dk_at dksX3_stepsTo_2 5 rfl rfl)
theorem dX3_stepsTo_53 : decode cX3_stepsTo 53 = .ok (.if_icmp .gt 58, 3) := dk_163 0 58 (dk_at dksX3_stepsTo_2 8 rfl rfl)
theorem dX3_stepsTo_56 : decode cX3_stepsTo 56 = .ok (.iload 4, 2) := dk_21 4 (dk_at dksX3_stepsTo_2 11 rfl rfl)
theorem dX3_stepsTo_58 : decode cX3_stepsTo 58 = .ok (.iload_n 3, 1) := dk_29 (dk_at dksX3_stepsTo_2 13 rfl rfl)
theorem dX3_stepsTo_59 : decode cX3_stepsTo 59 = .ok (.idiv, 1) := dk_108 (dk_at dksX3_stepsTo_2 14 rfl rfl)
theorem dX3_stepsTo_60 : decode cX3_stepsTo 60 = .ok (.iload_n 2, 1) := dk_28 (dk_at dksX3_stepsTo_2 15 rfl rfl)
theorem dX3_stepsTo_61 : decode cX3_stepsTo 61 = .ok (.if_icmp .le 50, 3) := dk_164 0 50 (dk_at dksX3_stepsTo_2 16 rfl rfl)
theorem dX3_stepsTo_64 : decode cX3_stepsTo 64 = .ok (.iload 4, 2) := dk_21 4 (dk_at dksX3_stepsTo_2 19 rfl rfl)
theorem dX3_stepsTo_66 : decode cX3_stepsTo 66 = .ok (.bipush 20, 2) := dk_16 20 (dk_at dksX3_stepsTo_2 21 rfl rfl)
theorem dX3_stepsTo_68 : decode cX3_stepsTo 68 = .ok (.idiv, 1) := dk_108 (dk_at dksX3_stepsTo_2 23 rfl rfl)
theorem dX3_stepsTo_69 : decode cX3_stepsTo 69 = .ok (.istore 6, 2) := dk_54 6 (dk_at dksX3_stepsTo_3 0 rfl rfl)
theorem dX3_stepsTo_71 : decode cX3_stepsTo 71 = .ok (.iload 4, 2) := dk_21 4 (dk_at dksX3_stepsTo_3 2 rfl rfl)
theorem dX3_stepsTo_73 : decode cX3_stepsTo 73 = .ok (.iload 6, 2) := dk_21 6 (dk_at dksX3_stepsTo_3 4 rfl rfl)
theorem dX3_stepsTo_75 : decode cX3_stepsTo 75 = .ok (.isub, 1) := dk_100 (dk_at dksX3_stepsTo_3 6 rfl rfl)
theorem dX3_stepsTo_76 : decode cX3_stepsTo 76 = .ok (.istore 4, 2) := dk_54 4 (dk_at dksX3_stepsTo_3 7 rfl rfl)
theorem dX3_stepsTo_78 : decode cX3_stepsTo 78 = .ok (.iload_n 3, 1) := dk_29 (dk_at dksX3_stepsTo_3 9 rfl rfl)
theorem dX3_stepsTo_79 : decode cX3_stepsTo 79 = .ok (.iload 6, 2) := dk_21 6 (dk_at dksX3_stepsTo_3 10 rfl rfl)
theorem dX3_stepsTo_81 : decode cX3_stepsTo 81 = .ok (.sipush 1000, 3) := dk_17 3 232 (dk_at dksX3_stepsTo_3 12 rfl rfl)
theorem dX3_stepsTo_84 : decode cX3_stepsTo 84 = .ok (.idiv, 1) := dk_108 (dk_at dksX3_stepsTo_3 15 rfl rfl)
theorem dX3_stepsTo_85 : decode cX3_stepsTo 85 = .ok (.iload_n 3, 1) := dk_29 (dk_at dksX3_stepsTo_3 16 rfl rfl)
theorem dX3_stepsTo_86 : decode cX3_stepsTo 86 = .ok (.iconst 1, 1) := dk_4 (dk_at dksX3_stepsTo_3 17 rfl rfl)
theorem dX3_stepsTo_87 : decode cX3_stepsTo 87 = .ok (.isub, 1) := dk_100 (dk_at dksX3_stepsTo_3 18 rfl rfl)
theorem dX3_stepsTo_88 : decode cX3_stepsTo 88 = .ok (.if_icmp .ge 12, 3) := dk_162 0 12 (dk_at dksX3_stepsTo_3 19 rfl rfl)
theorem dX3_stepsTo_91 : decode cX3_stepsTo 91 = .ok (.iload 6, 2) := dk_21 6 (dk_at dksX3_stepsTo_3 22 rfl rfl)
theorem dX3_stepsTo_93 : decode cX3_stepsTo 93 = .ok (.sipush 1000, 3) := dk_17 3 232 (dk_at dksX3_stepsTo_4 0 rfl rfl)
theorem dX3_stepsTo_96 : decode cX3_stepsTo 96 = .ok (.idiv, 1) := dk_108 (dk_at dksX3_stepsTo_4 3 rfl rfl)
theorem dX3_stepsTo_97 : decode cX3_stepsTo 97 = .ok (.goto 6, 3) := dk_167 0 6 (dk_at dksX3_stepsTo_4 4 rfl rfl)
theorem dX3_stepsTo_100 : decode cX3_stepsTo 100 = .ok (.iload_n 3, 1) := dk_29 (dk_at dksX3_stepsTo_4 7 rfl rfl)
theorem dX3_stepsTo_101 : decode cX3_stepsTo 101 = .ok (.iconst 1, 1) := dk_4 (dk_at dksX3_stepsTo_4 8 rfl rfl)
theorem dX3_stepsTo_102 : decode cX3_stepsTo 102 = .ok (.isub, 1) := dk_100 (dk_at dksX3_stepsTo_4 9 rfl rfl)
theorem dX3_stepsTo_103 : decode cX3_stepsTo 103 = .ok (.isub, 1) := dk_100 (dk_at dksX3_stepsTo_4 10 rfl rfl)
theorem dX3_stepsTo_104 : decode cX3_stepsTo 104 = .ok (.istore_n 3, 1) := dk_62 (dk_at dksX3_stepsTo_4 11 rfl rfl)
theorem dX3_stepsTo_105 : decode cX3_stepsTo 105 = .ok (.iinc 5 1, 3) := dk_132 5 1 (dk_at dksX3_stepsTo_4 12 rfl rfl)
theorem dX3_stepsTo_108 : decode cX3_stepsTo 108 = .ok (.goto (-64), 3) := dk_167 255 192 (dk_at dksX3_stepsTo_4 15 rfl rfl)
theorem dX3_stepsTo_111 : decode cX3_stepsTo 111 = .ok (.iload_n 3, 1) := dk_29 (dk_at dksX3_stepsTo_4 18 rfl rfl)
theorem dX3_stepsTo_112 : decode cX3_stepsTo 112 = .ok (.ifCond .le 16, 3) := dk_158 0 16 (dk_at dksX3_stepsTo_4 19 rfl rfl)
theorem dX3_stepsTo_115 : decode cX3_stepsTo 115 = .ok (.iload 5, 2) := dk_21 5 (dk_at dksX3_stepsTo_4 22 rfl rfl)
theorem dX3_stepsTo_117 : decode cX3_stepsTo 117 = .ok (.sipush 200, 3) := dk_17 0 200 (dk_at dksX3_stepsTo_5 0 rfl rfl)
theorem dX3_stepsTo_120 : decode cX3_stepsTo 120 = .ok (.if_icmp .gt 8, 3) := dk_163 0 8 (dk_at dksX3_stepsTo_5 3 rfl rfl)
theorem dX3_stepsTo_123 : decode cX3_stepsTo 123 = .ok (.iload 5, 2) := dk_21 5 (dk_at dksX3_stepsTo_5 6 rfl rfl)
theorem dX3_stepsTo_125 : decode cX3_stepsTo 125 = .ok (.goto 4, 3) := dk_167 0 4 (dk_at dksX3_stepsTo_5 8 rfl rfl)
theorem dX3_stepsTo_128 : decode cX3_stepsTo 128 = .ok (.iconst (-1), 1) := dk_2 (dk_at dksX3_stepsTo_5 11 rfl rfl)
theorem dX3_stepsTo_129 : decode cX3_stepsTo 129 = .ok (.ireturn, 1) := dk_172 (dk_at dksX3_stepsTo_5 12 rfl rfl)
abbrev cX3_bestLeg : ByteArray := prog_10_method_73_code
def yX3_bestLeg : MethodName := ⟨RX3, "bestLeg", "(IIII)I"⟩
def dkwX3_bestLeg_5 : List UInt8 := [167, 255, 181, 21, 5, 172]
abbrev dktX3_bestLeg_5 : List UInt8 := dkwX3_bestLeg_5 ++ []
def dkwX3_bestLeg_4 : List UInt8 := [3, 182, 0, 49, 184, 0, 113, 163, 0, 8, 21, 6, 167, 0, 5, 21, 5, 54, 5, 132, 6, 255]
abbrev dktX3_bestLeg_4 : List UInt8 := dkwX3_bestLeg_4 ++ dktX3_bestLeg_5
def dkwX3_bestLeg_3 : List UInt8 := [153, 0, 39, 21, 5, 2, 159, 0, 28, 29, 42, 21, 6, 3, 182, 0, 49, 184, 0, 113, 29, 42, 21, 5]
abbrev dktX3_bestLeg_3 : List UInt8 := dkwX3_bestLeg_3 ++ dktX3_bestLeg_4
def dkwX3_bestLeg_2 : List UInt8 := [42, 21, 6, 2, 27, 28, 29, 21, 4, 182, 0, 106, 154, 0, 7, 4, 167, 0, 4, 3, 54, 7, 21, 7]
abbrev dktX3_bestLeg_2 : List UInt8 := dkwX3_bestLeg_2 ++ dktX3_bestLeg_3
def dkwX3_bestLeg_1 : List UInt8 := [154, 0, 6, 16, 253, 172, 2, 54, 5, 42, 180, 0, 7, 6, 46, 4, 100, 54, 6, 21, 6, 155, 0, 76]
abbrev dktX3_bestLeg_1 : List UInt8 := dkwX3_bestLeg_1 ++ dktX3_bestLeg_2
def dkwX3_bestLeg_0 : List UInt8 := [42, 27, 182, 0, 59, 153, 0, 10, 28, 184, 0, 70, 154, 0, 6, 16, 254, 172, 29, 21, 4, 184, 0, 103]
abbrev dktX3_bestLeg_0 : List UInt8 := dkwX3_bestLeg_0 ++ dktX3_bestLeg_1
theorem dksX3_bestLeg_0 : cX3_bestLeg.data.toList.drop 0 = dktX3_bestLeg_0 := by decide +kernel
theorem dksX3_bestLeg_1 : cX3_bestLeg.data.toList.drop 24 = dktX3_bestLeg_1 := dk_seg dksX3_bestLeg_0 24 rfl rfl
theorem dksX3_bestLeg_2 : cX3_bestLeg.data.toList.drop 48 = dktX3_bestLeg_2 := dk_seg dksX3_bestLeg_1 24 rfl rfl
theorem dksX3_bestLeg_3 : cX3_bestLeg.data.toList.drop 72 = dktX3_bestLeg_3 := dk_seg dksX3_bestLeg_2 24 rfl rfl
theorem dksX3_bestLeg_4 : cX3_bestLeg.data.toList.drop 96 = dktX3_bestLeg_4 := dk_seg dksX3_bestLeg_3 24 rfl rfl
theorem dksX3_bestLeg_5 : cX3_bestLeg.data.toList.drop 118 = dktX3_bestLeg_5 := dk_seg dksX3_bestLeg_4 22 rfl rfl
theorem dX3_bestLeg_0 : decode cX3_bestLeg 0 = .ok (.aload_n 0, 1) := dk_42 (dk_at dksX3_bestLeg_0 0 rfl rfl)
theorem dX3_bestLeg_1 : decode cX3_bestLeg 1 = .ok (.iload_n 1, 1) := dk_27 (dk_at dksX3_bestLeg_0 1 rfl rfl)
theorem dX3_bestLeg_2 : decode cX3_bestLeg 2 = .ok (.invokevirtual 59, 3) := dk_182 0 59 (dk_at dksX3_bestLeg_0 2 rfl rfl)
theorem dX3_bestLeg_5 : decode cX3_bestLeg 5 = .ok (.ifCond .eq 10, 3) := dk_153 0 10 (dk_at dksX3_bestLeg_0 5 rfl rfl)
theorem dX3_bestLeg_8 : decode cX3_bestLeg 8 = .ok (.iload_n 2, 1) := dk_28 (dk_at dksX3_bestLeg_0 8 rfl rfl)
theorem dX3_bestLeg_9 : decode cX3_bestLeg 9 = .ok (.invokestatic 70, 3) := dk_184 0 70 (dk_at dksX3_bestLeg_0 9 rfl rfl)
theorem dX3_bestLeg_12 : decode cX3_bestLeg 12 = .ok (.ifCond .ne 6, 3) := dk_154 0 6 (dk_at dksX3_bestLeg_0 12 rfl rfl)
theorem dX3_bestLeg_15 : decode cX3_bestLeg 15 = .ok (.bipush (-2), 2) := dk_16 254 (dk_at dksX3_bestLeg_0 15 rfl rfl)
theorem dX3_bestLeg_17 : decode cX3_bestLeg 17 = .ok (.ireturn, 1) := dk_172 (dk_at dksX3_bestLeg_0 17 rfl rfl)
theorem dX3_bestLeg_18 : decode cX3_bestLeg 18 = .ok (.iload_n 3, 1) := dk_29 (dk_at dksX3_bestLeg_0 18 rfl rfl)
theorem dX3_bestLeg_19 : decode cX3_bestLeg 19 = .ok (.iload 4, 2) := dk_21 4 (dk_at dksX3_bestLeg_0 19 rfl rfl)
theorem dX3_bestLeg_21 : decode cX3_bestLeg 21 = .ok (.invokestatic 103, 3) := dk_184 0 103 (dk_at dksX3_bestLeg_0 21 rfl rfl)
theorem dX3_bestLeg_24 : decode cX3_bestLeg 24 = .ok (.ifCond .ne 6, 3) := dk_154 0 6 (dk_at dksX3_bestLeg_1 0 rfl rfl)
theorem dX3_bestLeg_27 : decode cX3_bestLeg 27 = .ok (.bipush (-3), 2) := dk_16 253 (dk_at dksX3_bestLeg_1 3 rfl rfl)
theorem dX3_bestLeg_29 : decode cX3_bestLeg 29 = .ok (.ireturn, 1) := dk_172 (dk_at dksX3_bestLeg_1 5 rfl rfl)
theorem dX3_bestLeg_30 : decode cX3_bestLeg 30 = .ok (.iconst (-1), 1) := dk_2 (dk_at dksX3_bestLeg_1 6 rfl rfl)
theorem dX3_bestLeg_31 : decode cX3_bestLeg 31 = .ok (.istore 5, 2) := dk_54 5 (dk_at dksX3_bestLeg_1 7 rfl rfl)
theorem dX3_bestLeg_33 : decode cX3_bestLeg 33 = .ok (.aload_n 0, 1) := dk_42 (dk_at dksX3_bestLeg_1 9 rfl rfl)
theorem dX3_bestLeg_34 : decode cX3_bestLeg 34 = .ok (.getfield 7, 3) := dk_180 0 7 (dk_at dksX3_bestLeg_1 10 rfl rfl)
theorem dX3_bestLeg_37 : decode cX3_bestLeg 37 = .ok (.iconst 3, 1) := dk_6 (dk_at dksX3_bestLeg_1 13 rfl rfl)
theorem dX3_bestLeg_38 : decode cX3_bestLeg 38 = .ok (.iaload, 1) := dk_46 (dk_at dksX3_bestLeg_1 14 rfl rfl)
theorem dX3_bestLeg_39 : decode cX3_bestLeg 39 = .ok (.iconst 1, 1) := dk_4 (dk_at dksX3_bestLeg_1 15 rfl rfl)
theorem dX3_bestLeg_40 : decode cX3_bestLeg 40 = .ok (.isub, 1) := dk_100 (dk_at dksX3_bestLeg_1 16 rfl rfl)
theorem dX3_bestLeg_41 : decode cX3_bestLeg 41 = .ok (.istore 6, 2) := dk_54 6 (dk_at dksX3_bestLeg_1 17 rfl rfl)
theorem dX3_bestLeg_43 : decode cX3_bestLeg 43 = .ok (.iload 6, 2) := dk_21 6 (dk_at dksX3_bestLeg_1 19 rfl rfl)
theorem dX3_bestLeg_45 : decode cX3_bestLeg 45 = .ok (.ifCond .lt 76, 3) := dk_155 0 76 (dk_at dksX3_bestLeg_1 21 rfl rfl)
theorem dX3_bestLeg_48 : decode cX3_bestLeg 48 = .ok (.aload_n 0, 1) := dk_42 (dk_at dksX3_bestLeg_2 0 rfl rfl)
theorem dX3_bestLeg_49 : decode cX3_bestLeg 49 = .ok (.iload 6, 2) := dk_21 6 (dk_at dksX3_bestLeg_2 1 rfl rfl)
theorem dX3_bestLeg_51 : decode cX3_bestLeg 51 = .ok (.iconst (-1), 1) := dk_2 (dk_at dksX3_bestLeg_2 3 rfl rfl)
theorem dX3_bestLeg_52 : decode cX3_bestLeg 52 = .ok (.iload_n 1, 1) := dk_27 (dk_at dksX3_bestLeg_2 4 rfl rfl)
theorem dX3_bestLeg_53 : decode cX3_bestLeg 53 = .ok (.iload_n 2, 1) := dk_28 (dk_at dksX3_bestLeg_2 5 rfl rfl)
theorem dX3_bestLeg_54 : decode cX3_bestLeg 54 = .ok (.iload_n 3, 1) := dk_29 (dk_at dksX3_bestLeg_2 6 rfl rfl)
theorem dX3_bestLeg_55 : decode cX3_bestLeg 55 = .ok (.iload 4, 2) := dk_21 4 (dk_at dksX3_bestLeg_2 7 rfl rfl)
theorem dX3_bestLeg_57 : decode cX3_bestLeg 57 = .ok (.invokevirtual 106, 3) := dk_182 0 106 (dk_at dksX3_bestLeg_2 9 rfl rfl)
theorem dX3_bestLeg_60 : decode cX3_bestLeg 60 = .ok (.ifCond .ne 7, 3) := dk_154 0 7 (dk_at dksX3_bestLeg_2 12 rfl rfl)
theorem dX3_bestLeg_63 : decode cX3_bestLeg 63 = .ok (.iconst 1, 1) := dk_4 (dk_at dksX3_bestLeg_2 15 rfl rfl)
theorem dX3_bestLeg_64 : decode cX3_bestLeg 64 = .ok (.goto 4, 3) := dk_167 0 4 (dk_at dksX3_bestLeg_2 16 rfl rfl)
theorem dX3_bestLeg_67 : decode cX3_bestLeg 67 = .ok (.iconst 0, 1) := dk_3 (dk_at dksX3_bestLeg_2 19 rfl rfl)
theorem dX3_bestLeg_68 : decode cX3_bestLeg 68 = .ok (.istore 7, 2) := dk_54 7 (dk_at dksX3_bestLeg_2 20 rfl rfl)
theorem dX3_bestLeg_70 : decode cX3_bestLeg 70 = .ok (.iload 7, 2) := dk_21 7 (dk_at dksX3_bestLeg_2 22 rfl rfl)
theorem dX3_bestLeg_72 : decode cX3_bestLeg 72 = .ok (.ifCond .eq 39, 3) := dk_153 0 39 (dk_at dksX3_bestLeg_3 0 rfl rfl)
theorem dX3_bestLeg_75 : decode cX3_bestLeg 75 = .ok (.iload 5, 2) := dk_21 5 (dk_at dksX3_bestLeg_3 3 rfl rfl)
theorem dX3_bestLeg_77 : decode cX3_bestLeg 77 = .ok (.iconst (-1), 1) := dk_2 (dk_at dksX3_bestLeg_3 5 rfl rfl)
theorem dX3_bestLeg_78 : decode cX3_bestLeg 78 = .ok (.if_icmp .eq 28, 3) := dk_159 0 28 (dk_at dksX3_bestLeg_3 6 rfl rfl)
theorem dX3_bestLeg_81 : decode cX3_bestLeg 81 = .ok (.iload_n 3, 1) := dk_29 (dk_at dksX3_bestLeg_3 9 rfl rfl)
theorem dX3_bestLeg_82 : decode cX3_bestLeg 82 = .ok (.aload_n 0, 1) := dk_42 (dk_at dksX3_bestLeg_3 10 rfl rfl)
theorem dX3_bestLeg_83 : decode cX3_bestLeg 83 = .ok (.iload 6, 2) := dk_21 6 (dk_at dksX3_bestLeg_3 11 rfl rfl)
theorem dX3_bestLeg_85 : decode cX3_bestLeg 85 = .ok (.iconst 0, 1) := dk_3 (dk_at dksX3_bestLeg_3 13 rfl rfl)
theorem dX3_bestLeg_86 : decode cX3_bestLeg 86 = .ok (.invokevirtual 49, 3) := dk_182 0 49 (dk_at dksX3_bestLeg_3 14 rfl rfl)
theorem dX3_bestLeg_89 : decode cX3_bestLeg 89 = .ok (.invokestatic 113, 3) := dk_184 0 113 (dk_at dksX3_bestLeg_3 17 rfl rfl)
theorem dX3_bestLeg_92 : decode cX3_bestLeg 92 = .ok (.iload_n 3, 1) := dk_29 (dk_at dksX3_bestLeg_3 20 rfl rfl)
theorem dX3_bestLeg_93 : decode cX3_bestLeg 93 = .ok (.aload_n 0, 1) := dk_42 (dk_at dksX3_bestLeg_3 21 rfl rfl)
theorem dX3_bestLeg_94 : decode cX3_bestLeg 94 = .ok (.iload 5, 2) := dk_21 5 (dk_at dksX3_bestLeg_3 22 rfl rfl)
theorem dX3_bestLeg_96 : decode cX3_bestLeg 96 = .ok (.iconst 0, 1) := dk_3 (dk_at dksX3_bestLeg_4 0 rfl rfl)
theorem dX3_bestLeg_97 : decode cX3_bestLeg 97 = .ok (.invokevirtual 49, 3) := dk_182 0 49 (dk_at dksX3_bestLeg_4 1 rfl rfl)
theorem dX3_bestLeg_100 : decode cX3_bestLeg 100 = .ok (.invokestatic 113, 3) := dk_184 0 113 (dk_at dksX3_bestLeg_4 4 rfl rfl)
theorem dX3_bestLeg_103 : decode cX3_bestLeg 103 = .ok (.if_icmp .gt 8, 3) := dk_163 0 8 (dk_at dksX3_bestLeg_4 7 rfl rfl)
theorem dX3_bestLeg_106 : decode cX3_bestLeg 106 = .ok (.iload 6, 2) := dk_21 6 (dk_at dksX3_bestLeg_4 10 rfl rfl)
theorem dX3_bestLeg_108 : decode cX3_bestLeg 108 = .ok (.goto 5, 3) := dk_167 0 5 (dk_at dksX3_bestLeg_4 12 rfl rfl)
theorem dX3_bestLeg_111 : decode cX3_bestLeg 111 = .ok (.iload 5, 2) := dk_21 5 (dk_at dksX3_bestLeg_4 15 rfl rfl)
theorem dX3_bestLeg_113 : decode cX3_bestLeg 113 = .ok (.istore 5, 2) := dk_54 5 (dk_at dksX3_bestLeg_4 17 rfl rfl)
theorem dX3_bestLeg_115 : decode cX3_bestLeg 115 = .ok (.iinc 6 (-1), 3) := dk_132 6 255 (dk_at dksX3_bestLeg_4 19 rfl rfl)
theorem dX3_bestLeg_118 : decode cX3_bestLeg 118 = .ok (.goto (-75), 3) := dk_167 255 181 (dk_at dksX3_bestLeg_5 0 rfl rfl)
theorem dX3_bestLeg_121 : decode cX3_bestLeg 121 = .ok (.iload 5, 2) := dk_21 5 (dk_at dksX3_bestLeg_5 3 rfl rfl)
theorem dX3_bestLeg_123 : decode cX3_bestLeg 123 = .ok (.ireturn, 1) := dk_172 (dk_at dksX3_bestLeg_5 5 rfl rfl)
abbrev cX3_bestBin : ByteArray := prog_10_method_74_code
def yX3_bestBin : MethodName := ⟨RX3, "bestBin", "(IIII)I"⟩
def dkwX3_bestBin_5 : List UInt8 := [21, 9, 153, 0, 8, 21, 8, 167, 0, 5, 21, 6, 54, 6, 132, 7, 1, 167, 255, 162, 21, 5, 172]
abbrev dktX3_bestBin_5 : List UInt8 := dkwX3_bestBin_5 ++ []
def dkwX3_bestBin_4 : List UInt8 := [162, 0, 7, 4, 167, 0, 4, 3, 54, 9, 21, 9, 153, 0, 8, 21, 7, 167, 0, 5, 21, 5, 54, 5]
abbrev dktX3_bestBin_4 : List UInt8 := dkwX3_bestBin_4 ++ dktX3_bestBin_5
def dkwX3_bestBin_3 : List UInt8 := [21, 7, 28, 29, 21, 4, 182, 0, 106, 154, 0, 20, 21, 5, 2, 159, 0, 10, 21, 8, 21, 6]
abbrev dktX3_bestBin_3 : List UInt8 := dkwX3_bestBin_3 ++ dktX3_bestBin_4
def dkwX3_bestBin_2 : List UInt8 := [162, 0, 89, 42, 21, 7, 3, 182, 0, 45, 42, 21, 7, 6, 182, 0, 45, 100, 54, 8, 42, 27, 2]
abbrev dktX3_bestBin_2 : List UInt8 := dkwX3_bestBin_2 ++ dktX3_bestBin_3
def dkwX3_bestBin_1 : List UInt8 := [154, 0, 6, 16, 253, 172, 2, 54, 5, 3, 54, 6, 3, 54, 7, 21, 7, 42, 180, 0, 7, 5, 46]
abbrev dktX3_bestBin_1 : List UInt8 := dkwX3_bestBin_1 ++ dktX3_bestBin_2
def dkwX3_bestBin_0 : List UInt8 := [42, 27, 182, 0, 63, 153, 0, 10, 28, 184, 0, 70, 154, 0, 6, 16, 254, 172, 29, 21, 4, 184, 0, 103]
abbrev dktX3_bestBin_0 : List UInt8 := dkwX3_bestBin_0 ++ dktX3_bestBin_1
theorem dksX3_bestBin_0 : cX3_bestBin.data.toList.drop 0 = dktX3_bestBin_0 := by decide +kernel
theorem dksX3_bestBin_1 : cX3_bestBin.data.toList.drop 24 = dktX3_bestBin_1 := dk_seg dksX3_bestBin_0 24 rfl rfl
theorem dksX3_bestBin_2 : cX3_bestBin.data.toList.drop 47 = dktX3_bestBin_2 := dk_seg dksX3_bestBin_1 23 rfl rfl
theorem dksX3_bestBin_3 : cX3_bestBin.data.toList.drop 70 = dktX3_bestBin_3 := dk_seg dksX3_bestBin_2 23 rfl rfl
theorem dksX3_bestBin_4 : cX3_bestBin.data.toList.drop 92 = dktX3_bestBin_4 := dk_seg dksX3_bestBin_3 22 rfl rfl
theorem dksX3_bestBin_5 : cX3_bestBin.data.toList.drop 116 = dktX3_bestBin_5 := dk_seg dksX3_bestBin_4 24 rfl rfl
theorem dX3_bestBin_0 : decode cX3_bestBin 0 = .ok (.aload_n 0, 1) := dk_42 (dk_at dksX3_bestBin_0 0 rfl rfl)
theorem dX3_bestBin_1 : decode cX3_bestBin 1 = .ok (.iload_n 1, 1) := dk_27 (dk_at dksX3_bestBin_0 1 rfl rfl)
theorem dX3_bestBin_2 : decode cX3_bestBin 2 = .ok (.invokevirtual 63, 3) := dk_182 0 63 (dk_at dksX3_bestBin_0 2 rfl rfl)
theorem dX3_bestBin_5 : decode cX3_bestBin 5 = .ok (.ifCond .eq 10, 3) := dk_153 0 10 (dk_at dksX3_bestBin_0 5 rfl rfl)
theorem dX3_bestBin_8 : decode cX3_bestBin 8 = .ok (.iload_n 2, 1) := dk_28 (dk_at dksX3_bestBin_0 8 rfl rfl)
theorem dX3_bestBin_9 : decode cX3_bestBin 9 = .ok (.invokestatic 70, 3) := dk_184 0 70 (dk_at dksX3_bestBin_0 9 rfl rfl)
theorem dX3_bestBin_12 : decode cX3_bestBin 12 = .ok (.ifCond .ne 6, 3) := dk_154 0 6 (dk_at dksX3_bestBin_0 12 rfl rfl)
theorem dX3_bestBin_15 : decode cX3_bestBin 15 = .ok (.bipush (-2), 2) := dk_16 254 (dk_at dksX3_bestBin_0 15 rfl rfl)
theorem dX3_bestBin_17 : decode cX3_bestBin 17 = .ok (.ireturn, 1) := dk_172 (dk_at dksX3_bestBin_0 17 rfl rfl)
theorem dX3_bestBin_18 : decode cX3_bestBin 18 = .ok (.iload_n 3, 1) := dk_29 (dk_at dksX3_bestBin_0 18 rfl rfl)
theorem dX3_bestBin_19 : decode cX3_bestBin 19 = .ok (.iload 4, 2) := dk_21 4 (dk_at dksX3_bestBin_0 19 rfl rfl)
theorem dX3_bestBin_21 : decode cX3_bestBin 21 = .ok (.invokestatic 103, 3) := dk_184 0 103 (dk_at dksX3_bestBin_0 21 rfl rfl)
theorem dX3_bestBin_24 : decode cX3_bestBin 24 = .ok (.ifCond .ne 6, 3) := dk_154 0 6 (dk_at dksX3_bestBin_1 0 rfl rfl)
theorem dX3_bestBin_27 : decode cX3_bestBin 27 = .ok (.bipush (-3), 2) := dk_16 253 (dk_at dksX3_bestBin_1 3 rfl rfl)
theorem dX3_bestBin_29 : decode cX3_bestBin 29 = .ok (.ireturn, 1) := dk_172 (dk_at dksX3_bestBin_1 5 rfl rfl)
theorem dX3_bestBin_30 : decode cX3_bestBin 30 = .ok (.iconst (-1), 1) := dk_2 (dk_at dksX3_bestBin_1 6 rfl rfl)
theorem dX3_bestBin_31 : decode cX3_bestBin 31 = .ok (.istore 5, 2) := dk_54 5 (dk_at dksX3_bestBin_1 7 rfl rfl)
theorem dX3_bestBin_33 : decode cX3_bestBin 33 = .ok (.iconst 0, 1) := dk_3 (dk_at dksX3_bestBin_1 9 rfl rfl)
theorem dX3_bestBin_34 : decode cX3_bestBin 34 = .ok (.istore 6, 2) := dk_54 6 (dk_at dksX3_bestBin_1 10 rfl rfl)
theorem dX3_bestBin_36 : decode cX3_bestBin 36 = .ok (.iconst 0, 1) := dk_3 (dk_at dksX3_bestBin_1 12 rfl rfl)
theorem dX3_bestBin_37 : decode cX3_bestBin 37 = .ok (.istore 7, 2) := dk_54 7 (dk_at dksX3_bestBin_1 13 rfl rfl)
theorem dX3_bestBin_39 : decode cX3_bestBin 39 = .ok (.iload 7, 2) := dk_21 7 (dk_at dksX3_bestBin_1 15 rfl rfl)
theorem dX3_bestBin_41 : decode cX3_bestBin 41 = .ok (.aload_n 0, 1) := dk_42 (dk_at dksX3_bestBin_1 17 rfl rfl)
theorem dX3_bestBin_42 : decode cX3_bestBin 42 = .ok (.getfield 7, 3) := dk_180 0 7 (dk_at dksX3_bestBin_1 18 rfl rfl)
theorem dX3_bestBin_45 : decode cX3_bestBin 45 = .ok (.iconst 2, 1) := dk_5 (dk_at dksX3_bestBin_1 21 rfl rfl)
theorem dX3_bestBin_46 : decode cX3_bestBin 46 = .ok (.iaload, 1) := dk_46 (dk_at dksX3_bestBin_1 22 rfl rfl)
theorem dX3_bestBin_47 : decode cX3_bestBin 47 = .ok (.if_icmp .ge 89, 3) := dk_162 0 89 (dk_at dksX3_bestBin_2 0 rfl rfl)
theorem dX3_bestBin_50 : decode cX3_bestBin 50 = .ok (.aload_n 0, 1) := dk_42 (dk_at dksX3_bestBin_2 3 rfl rfl)
theorem dX3_bestBin_51 : decode cX3_bestBin 51 = .ok (.iload 7, 2) := dk_21 7 (dk_at dksX3_bestBin_2 4 rfl rfl)
theorem dX3_bestBin_53 : decode cX3_bestBin 53 = .ok (.iconst 0, 1) := dk_3 (dk_at dksX3_bestBin_2 6 rfl rfl)
theorem dX3_bestBin_54 : decode cX3_bestBin 54 = .ok (.invokevirtual 45, 3) := dk_182 0 45 (dk_at dksX3_bestBin_2 7 rfl rfl)
theorem dX3_bestBin_57 : decode cX3_bestBin 57 = .ok (.aload_n 0, 1) := dk_42 (dk_at dksX3_bestBin_2 10 rfl rfl)
theorem dX3_bestBin_58 : decode cX3_bestBin 58 = .ok (.iload 7, 2) := dk_21 7 (dk_at dksX3_bestBin_2 11 rfl rfl)
theorem dX3_bestBin_60 : decode cX3_bestBin 60 = .ok (.iconst 3, 1) := dk_6 (dk_at dksX3_bestBin_2 13 rfl rfl)
theorem dX3_bestBin_61 : decode cX3_bestBin 61 = .ok (.invokevirtual 45, 3) := dk_182 0 45 (dk_at dksX3_bestBin_2 14 rfl rfl)
theorem dX3_bestBin_64 : decode cX3_bestBin 64 = .ok (.isub, 1) := dk_100 (dk_at dksX3_bestBin_2 17 rfl rfl)
theorem dX3_bestBin_65 : decode cX3_bestBin 65 = .ok (.istore 8, 2) := dk_54 8 (dk_at dksX3_bestBin_2 18 rfl rfl)
theorem dX3_bestBin_67 : decode cX3_bestBin 67 = .ok (.aload_n 0, 1) := dk_42 (dk_at dksX3_bestBin_2 20 rfl rfl)
theorem dX3_bestBin_68 : decode cX3_bestBin 68 = .ok (.iload_n 1, 1) := dk_27 (dk_at dksX3_bestBin_2 21 rfl rfl)
theorem dX3_bestBin_69 : decode cX3_bestBin 69 = .ok (.iconst (-1), 1) := dk_2 (dk_at dksX3_bestBin_2 22 rfl rfl)
theorem dX3_bestBin_70 : decode cX3_bestBin 70 = .ok (.iload 7, 2) := dk_21 7 (dk_at dksX3_bestBin_3 0 rfl rfl)
theorem dX3_bestBin_72 : decode cX3_bestBin 72 = .ok (.iload_n 2, 1) := dk_28 (dk_at dksX3_bestBin_3 2 rfl rfl)
theorem dX3_bestBin_73 : decode cX3_bestBin 73 = .ok (.iload_n 3, 1) := dk_29 (dk_at dksX3_bestBin_3 3 rfl rfl)
theorem dX3_bestBin_74 : decode cX3_bestBin 74 = .ok (.iload 4, 2) := dk_21 4 (dk_at dksX3_bestBin_3 4 rfl rfl)
theorem dX3_bestBin_76 : decode cX3_bestBin 76 = .ok (.invokevirtual 106, 3) := dk_182 0 106 (dk_at dksX3_bestBin_3 6 rfl rfl)
theorem dX3_bestBin_79 : decode cX3_bestBin 79 = .ok (.ifCond .ne 20, 3) := dk_154 0 20 (dk_at dksX3_bestBin_3 9 rfl rfl)
theorem dX3_bestBin_82 : decode cX3_bestBin 82 = .ok (.iload 5, 2) := dk_21 5 (dk_at dksX3_bestBin_3 12 rfl rfl)
theorem dX3_bestBin_84 : decode cX3_bestBin 84 = .ok (.iconst (-1), 1) := dk_2 (dk_at dksX3_bestBin_3 14 rfl rfl)
theorem dX3_bestBin_85 : decode cX3_bestBin 85 = .ok (.if_icmp .eq 10, 3) := dk_159 0 10 (dk_at dksX3_bestBin_3 15 rfl rfl)
theorem dX3_bestBin_88 : decode cX3_bestBin 88 = .ok (.iload 8, 2) := dk_21 8 (dk_at dksX3_bestBin_3 18 rfl rfl)
theorem dX3_bestBin_90 : decode cX3_bestBin 90 = .ok (.iload 6, 2) := dk_21 6 (dk_at dksX3_bestBin_3 20 rfl rfl)
theorem dX3_bestBin_92 : decode cX3_bestBin 92 = .ok (.if_icmp .ge 7, 3) := dk_162 0 7 (dk_at dksX3_bestBin_4 0 rfl rfl)
theorem dX3_bestBin_95 : decode cX3_bestBin 95 = .ok (.iconst 1, 1) := dk_4 (dk_at dksX3_bestBin_4 3 rfl rfl)
theorem dX3_bestBin_96 : decode cX3_bestBin 96 = .ok (.goto 4, 3) := dk_167 0 4 (dk_at dksX3_bestBin_4 4 rfl rfl)
theorem dX3_bestBin_99 : decode cX3_bestBin 99 = .ok (.iconst 0, 1) := dk_3 (dk_at dksX3_bestBin_4 7 rfl rfl)
theorem dX3_bestBin_100 : decode cX3_bestBin 100 = .ok (.istore 9, 2) := dk_54 9 (dk_at dksX3_bestBin_4 8 rfl rfl)
theorem dX3_bestBin_102 : decode cX3_bestBin 102 = .ok (.iload 9, 2) := dk_21 9 (dk_at dksX3_bestBin_4 10 rfl rfl)
theorem dX3_bestBin_104 : decode cX3_bestBin 104 = .ok (.ifCond .eq 8, 3) := dk_153 0 8 (dk_at dksX3_bestBin_4 12 rfl rfl)
theorem dX3_bestBin_107 : decode cX3_bestBin 107 = .ok (.iload 7, 2) := dk_21 7 (dk_at dksX3_bestBin_4 15 rfl rfl)
theorem dX3_bestBin_109 : decode cX3_bestBin 109 = .ok (.goto 5, 3) := dk_167 0 5 (dk_at dksX3_bestBin_4 17 rfl rfl)
theorem dX3_bestBin_112 : decode cX3_bestBin 112 = .ok (.iload 5, 2) := dk_21 5 (dk_at dksX3_bestBin_4 20 rfl rfl)
theorem dX3_bestBin_114 : decode cX3_bestBin 114 = .ok (.istore 5, 2) := dk_54 5 (dk_at dksX3_bestBin_4 22 rfl rfl)
theorem dX3_bestBin_116 : decode cX3_bestBin 116 = .ok (.iload 9, 2) := dk_21 9 (dk_at dksX3_bestBin_5 0 rfl rfl)
theorem dX3_bestBin_118 : decode cX3_bestBin 118 = .ok (.ifCond .eq 8, 3) := dk_153 0 8 (dk_at dksX3_bestBin_5 2 rfl rfl)
theorem dX3_bestBin_121 : decode cX3_bestBin 121 = .ok (.iload 8, 2) := dk_21 8 (dk_at dksX3_bestBin_5 5 rfl rfl)
theorem dX3_bestBin_123 : decode cX3_bestBin 123 = .ok (.goto 5, 3) := dk_167 0 5 (dk_at dksX3_bestBin_5 7 rfl rfl)
theorem dX3_bestBin_126 : decode cX3_bestBin 126 = .ok (.iload 6, 2) := dk_21 6 (dk_at dksX3_bestBin_5 10 rfl rfl)
theorem dX3_bestBin_128 : decode cX3_bestBin 128 = .ok (.istore 6, 2) := dk_54 6 (dk_at dksX3_bestBin_5 12 rfl rfl)
theorem dX3_bestBin_130 : decode cX3_bestBin 130 = .ok (.iinc 7 1, 3) := dk_132 7 1 (dk_at dksX3_bestBin_5 14 rfl rfl)
theorem dX3_bestBin_133 : decode cX3_bestBin 133 = .ok (.goto (-94), 3) := dk_167 255 162 (dk_at dksX3_bestBin_5 17 rfl rfl)
theorem dX3_bestBin_136 : decode cX3_bestBin 136 = .ok (.iload 5, 2) := dk_21 5 (dk_at dksX3_bestBin_5 20 rfl rfl)
theorem dX3_bestBin_138 : decode cX3_bestBin 138 = .ok (.ireturn, 1) := dk_172 (dk_at dksX3_bestBin_5 22 rfl rfl)
abbrev cX3_type : ByteArray := prog_10_method_75_code
def yX3_type : MethodName := ⟨RX3, "type", "(I)I"⟩
def dkwX3_type_2 : List UInt8 := [180, 0, 187, 172]
abbrev dktX3_type_2 : List UInt8 := dkwX3_type_2 ++ []
def dkwX3_type_1 : List UInt8 := [16, 251, 172, 42, 180, 0, 27, 42, 180, 0, 187, 27, 79, 42, 89, 180, 0, 187, 4, 96, 181, 0, 187, 42]
abbrev dktX3_type_1 : List UInt8 := dkwX3_type_1 ++ dktX3_type_2
def dkwX3_type_0 : List UInt8 := [27, 3, 17, 0, 255, 184, 0, 41, 154, 0, 6, 16, 253, 172, 42, 180, 0, 187, 16, 120, 160, 0, 6]
abbrev dktX3_type_0 : List UInt8 := dkwX3_type_0 ++ dktX3_type_1
theorem dksX3_type_0 : cX3_type.data.toList.drop 0 = dktX3_type_0 := by decide +kernel
theorem dksX3_type_1 : cX3_type.data.toList.drop 23 = dktX3_type_1 := dk_seg dksX3_type_0 23 rfl rfl
theorem dksX3_type_2 : cX3_type.data.toList.drop 47 = dktX3_type_2 := dk_seg dksX3_type_1 24 rfl rfl
theorem dX3_type_0 : decode cX3_type 0 = .ok (.iload_n 1, 1) := dk_27 (dk_at dksX3_type_0 0 rfl rfl)
theorem dX3_type_1 : decode cX3_type 1 = .ok (.iconst 0, 1) := dk_3 (dk_at dksX3_type_0 1 rfl rfl)
theorem dX3_type_2 : decode cX3_type 2 = .ok (.sipush 255, 3) := dk_17 0 255 (dk_at dksX3_type_0 2 rfl rfl)
theorem dX3_type_5 : decode cX3_type 5 = .ok (.invokestatic 41, 3) := dk_184 0 41 (dk_at dksX3_type_0 5 rfl rfl)
theorem dX3_type_8 : decode cX3_type 8 = .ok (.ifCond .ne 6, 3) := dk_154 0 6 (dk_at dksX3_type_0 8 rfl rfl)
theorem dX3_type_11 : decode cX3_type 11 = .ok (.bipush (-3), 2) := dk_16 253 (dk_at dksX3_type_0 11 rfl rfl)
theorem dX3_type_13 : decode cX3_type 13 = .ok (.ireturn, 1) := dk_172 (dk_at dksX3_type_0 13 rfl rfl)
theorem dX3_type_14 : decode cX3_type 14 = .ok (.aload_n 0, 1) := dk_42 (dk_at dksX3_type_0 14 rfl rfl)
theorem dX3_type_15 : decode cX3_type 15 = .ok (.getfield 187, 3) := dk_180 0 187 (dk_at dksX3_type_0 15 rfl rfl)
theorem dX3_type_18 : decode cX3_type 18 = .ok (.bipush 120, 2) := dk_16 120 (dk_at dksX3_type_0 18 rfl rfl)
theorem dX3_type_20 : decode cX3_type 20 = .ok (.if_icmp .ne 6, 3) := dk_160 0 6 (dk_at dksX3_type_0 20 rfl rfl)
theorem dX3_type_23 : decode cX3_type 23 = .ok (.bipush (-5), 2) := dk_16 251 (dk_at dksX3_type_1 0 rfl rfl)
theorem dX3_type_25 : decode cX3_type 25 = .ok (.ireturn, 1) := dk_172 (dk_at dksX3_type_1 2 rfl rfl)
theorem dX3_type_26 : decode cX3_type 26 = .ok (.aload_n 0, 1) := dk_42 (dk_at dksX3_type_1 3 rfl rfl)
theorem dX3_type_27 : decode cX3_type 27 = .ok (.getfield 27, 3) := dk_180 0 27 (dk_at dksX3_type_1 4 rfl rfl)
theorem dX3_type_30 : decode cX3_type 30 = .ok (.aload_n 0, 1) := dk_42 (dk_at dksX3_type_1 7 rfl rfl)
theorem dX3_type_31 : decode cX3_type 31 = .ok (.getfield 187, 3) := dk_180 0 187 (dk_at dksX3_type_1 8 rfl rfl)
theorem dX3_type_34 : decode cX3_type 34 = .ok (.iload_n 1, 1) := dk_27 (dk_at dksX3_type_1 11 rfl rfl)
theorem dX3_type_35 : decode cX3_type 35 = .ok (.iastore, 1) := dk_79 (dk_at dksX3_type_1 12 rfl rfl)
theorem dX3_type_36 : decode cX3_type 36 = .ok (.aload_n 0, 1) := dk_42 (dk_at dksX3_type_1 13 rfl rfl)
theorem dX3_type_37 : decode cX3_type 37 = .ok (.dup, 1) := dk_89 (dk_at dksX3_type_1 14 rfl rfl)
theorem dX3_type_38 : decode cX3_type 38 = .ok (.getfield 187, 3) := dk_180 0 187 (dk_at dksX3_type_1 15 rfl rfl)
theorem dX3_type_41 : decode cX3_type 41 = .ok (.iconst 1, 1) := dk_4 (dk_at dksX3_type_1 18 rfl rfl)
theorem dX3_type_42 : decode cX3_type 42 = .ok (.iadd, 1) := dk_96 (dk_at dksX3_type_1 19 rfl rfl)
theorem dX3_type_43 : decode cX3_type 43 = .ok (.putfield 187, 3) := dk_181 0 187 (dk_at dksX3_type_1 20 rfl rfl)
theorem dX3_type_46 : decode cX3_type 46 = .ok (.aload_n 0, 1) := dk_42 (dk_at dksX3_type_1 23 rfl rfl)
theorem dX3_type_47 : decode cX3_type 47 = .ok (.getfield 187, 3) := dk_180 0 187 (dk_at dksX3_type_2 0 rfl rfl)
theorem dX3_type_50 : decode cX3_type 50 = .ok (.ireturn, 1) := dk_172 (dk_at dksX3_type_2 3 rfl rfl)
abbrev cX3_clearText : ByteArray := prog_10_method_76_code
def yX3_clearText : MethodName := ⟨RX3, "clearText", "()I"⟩
def dkwX3_clearText_0 : List UInt8 := [42, 180, 0, 187, 60, 42, 3, 181, 0, 187, 27, 172]
abbrev dktX3_clearText_0 : List UInt8 := dkwX3_clearText_0 ++ []
theorem dksX3_clearText_0 : cX3_clearText.data.toList.drop 0 = dktX3_clearText_0 := by decide +kernel
theorem dX3_clearText_0 : decode cX3_clearText 0 = .ok (.aload_n 0, 1) := dk_42 (dk_at dksX3_clearText_0 0 rfl rfl)
theorem dX3_clearText_1 : decode cX3_clearText 1 = .ok (.getfield 187, 3) := dk_180 0 187 (dk_at dksX3_clearText_0 1 rfl rfl)
theorem dX3_clearText_4 : decode cX3_clearText 4 = .ok (.istore_n 1, 1) := dk_60 (dk_at dksX3_clearText_0 4 rfl rfl)
theorem dX3_clearText_5 : decode cX3_clearText 5 = .ok (.aload_n 0, 1) := dk_42 (dk_at dksX3_clearText_0 5 rfl rfl)
theorem dX3_clearText_6 : decode cX3_clearText 6 = .ok (.iconst 0, 1) := dk_3 (dk_at dksX3_clearText_0 6 rfl rfl)
theorem dX3_clearText_7 : decode cX3_clearText 7 = .ok (.putfield 187, 3) := dk_181 0 187 (dk_at dksX3_clearText_0 7 rfl rfl)
theorem dX3_clearText_10 : decode cX3_clearText 10 = .ok (.iload_n 1, 1) := dk_27 (dk_at dksX3_clearText_0 10 rfl rfl)
theorem dX3_clearText_11 : decode cX3_clearText 11 = .ok (.ireturn, 1) := dk_172 (dk_at dksX3_clearText_0 11 rfl rfl)
abbrev cX3_textFault : ByteArray := prog_10_method_82_code
def yX3_textFault : MethodName := ⟨RX3, "textFault", "()I"⟩
def dkwX3_textFault_0 : List UInt8 := [42, 3, 182, 0, 218, 153, 0, 7, 2, 167, 0, 7, 42, 180, 0, 190, 172]
abbrev dktX3_textFault_0 : List UInt8 := dkwX3_textFault_0 ++ []
theorem dksX3_textFault_0 : cX3_textFault.data.toList.drop 0 = dktX3_textFault_0 := by decide +kernel
theorem dX3_textFault_0 : decode cX3_textFault 0 = .ok (.aload_n 0, 1) := dk_42 (dk_at dksX3_textFault_0 0 rfl rfl)
theorem dX3_textFault_1 : decode cX3_textFault 1 = .ok (.iconst 0, 1) := dk_3 (dk_at dksX3_textFault_0 1 rfl rfl)
theorem dX3_textFault_2 : decode cX3_textFault 2 = .ok (.invokevirtual 218, 3) := dk_182 0 218 (dk_at dksX3_textFault_0 2 rfl rfl)
theorem dX3_textFault_5 : decode cX3_textFault 5 = .ok (.ifCond .eq 7, 3) := dk_153 0 7 (dk_at dksX3_textFault_0 5 rfl rfl)
theorem dX3_textFault_8 : decode cX3_textFault 8 = .ok (.iconst (-1), 1) := dk_2 (dk_at dksX3_textFault_0 8 rfl rfl)
theorem dX3_textFault_9 : decode cX3_textFault 9 = .ok (.goto 7, 3) := dk_167 0 7 (dk_at dksX3_textFault_0 9 rfl rfl)
theorem dX3_textFault_12 : decode cX3_textFault 12 = .ok (.aload_n 0, 1) := dk_42 (dk_at dksX3_textFault_0 12 rfl rfl)
theorem dX3_textFault_13 : decode cX3_textFault 13 = .ok (.getfield 190, 3) := dk_180 0 190 (dk_at dksX3_textFault_0 13 rfl rfl)
theorem dX3_textFault_16 : decode cX3_textFault 16 = .ok (.ireturn, 1) := dk_172 (dk_at dksX3_textFault_0 16 rfl rfl)
abbrev cX3_readsText : ByteArray := prog_10_method_81_code
def yX3_readsText : MethodName := ⟨RX3, "readsText", "(Z)Z"⟩
def dkwX3_readsText_3 : List UInt8 := [182, 0, 193, 62, 167, 255, 210, 28, 172]
abbrev dktX3_readsText_3 : List UInt8 := dkwX3_readsText_3 ++ []
def dkwX3_readsText_2 : List UInt8 := [61, 28, 153, 255, 234, 42, 89, 180, 0, 190, 4, 96, 181, 0, 190, 42, 27, 182, 0, 214, 61, 42]
abbrev dktX3_readsText_2 : List UInt8 := dkwX3_readsText_2 ++ dktX3_readsText_3
def dkwX3_readsText_1 : List UInt8 := [182, 0, 193, 62, 28, 153, 0, 48, 29, 2, 159, 0, 43, 29, 16, 59, 160, 0, 7, 4, 167, 0, 4, 3]
abbrev dktX3_readsText_1 : List UInt8 := dkwX3_readsText_1 ++ dktX3_readsText_2
def dkwX3_readsText_0 : List UInt8 := [42, 3, 181, 0, 190, 42, 3, 181, 0, 211, 42, 4, 181, 0, 204, 42, 27, 182, 0, 214, 61, 42]
abbrev dktX3_readsText_0 : List UInt8 := dkwX3_readsText_0 ++ dktX3_readsText_1
theorem dksX3_readsText_0 : cX3_readsText.data.toList.drop 0 = dktX3_readsText_0 := by decide +kernel
theorem dksX3_readsText_1 : cX3_readsText.data.toList.drop 22 = dktX3_readsText_1 := dk_seg dksX3_readsText_0 22 rfl rfl
theorem dksX3_readsText_2 : cX3_readsText.data.toList.drop 46 = dktX3_readsText_2 := dk_seg dksX3_readsText_1 24 rfl rfl
theorem dksX3_readsText_3 : cX3_readsText.data.toList.drop 68 = dktX3_readsText_3 := dk_seg dksX3_readsText_2 22 rfl rfl
theorem dX3_readsText_0 : decode cX3_readsText 0 = .ok (.aload_n 0, 1) := dk_42 (dk_at dksX3_readsText_0 0 rfl rfl)
theorem dX3_readsText_1 : decode cX3_readsText 1 = .ok (.iconst 0, 1) := dk_3 (dk_at dksX3_readsText_0 1 rfl rfl)
theorem dX3_readsText_2 : decode cX3_readsText 2 = .ok (.putfield 190, 3) := dk_181 0 190 (dk_at dksX3_readsText_0 2 rfl rfl)
theorem dX3_readsText_5 : decode cX3_readsText 5 = .ok (.aload_n 0, 1) := dk_42 (dk_at dksX3_readsText_0 5 rfl rfl)
theorem dX3_readsText_6 : decode cX3_readsText 6 = .ok (.iconst 0, 1) := dk_3 (dk_at dksX3_readsText_0 6 rfl rfl)
theorem dX3_readsText_7 : decode cX3_readsText 7 = .ok (.putfield 211, 3) := dk_181 0 211 (dk_at dksX3_readsText_0 7 rfl rfl)
theorem dX3_readsText_10 : decode cX3_readsText 10 = .ok (.aload_n 0, 1) := dk_42 (dk_at dksX3_readsText_0 10 rfl rfl)
theorem dX3_readsText_11 : decode cX3_readsText 11 = .ok (.iconst 1, 1) := dk_4 (dk_at dksX3_readsText_0 11 rfl rfl)
theorem dX3_readsText_12 : decode cX3_readsText 12 = .ok (.putfield 204, 3) := dk_181 0 204 (dk_at dksX3_readsText_0 12 rfl rfl)
theorem dX3_readsText_15 : decode cX3_readsText 15 = .ok (.aload_n 0, 1) := dk_42 (dk_at dksX3_readsText_0 15 rfl rfl)
theorem dX3_readsText_16 : decode cX3_readsText 16 = .ok (.iload_n 1, 1) := dk_27 (dk_at dksX3_readsText_0 16 rfl rfl)
theorem dX3_readsText_17 : decode cX3_readsText 17 = .ok (.invokevirtual 214, 3) := dk_182 0 214 (dk_at dksX3_readsText_0 17 rfl rfl)
theorem dX3_readsText_20 : decode cX3_readsText 20 = .ok (.istore_n 2, 1) := dk_61 (dk_at dksX3_readsText_0 20 rfl rfl)
theorem dX3_readsText_21 : decode cX3_readsText 21 = .ok (.aload_n 0, 1) := dk_42 (dk_at dksX3_readsText_0 21 rfl rfl)
theorem dX3_readsText_22 : decode cX3_readsText 22 = .ok (.invokevirtual 193, 3) := dk_182 0 193 (dk_at dksX3_readsText_1 0 rfl rfl)
theorem dX3_readsText_25 : decode cX3_readsText 25 = .ok (.istore_n 3, 1) := dk_62 (dk_at dksX3_readsText_1 3 rfl rfl)
theorem dX3_readsText_26 : decode cX3_readsText 26 = .ok (.iload_n 2, 1) := dk_28 (dk_at dksX3_readsText_1 4 rfl rfl)
theorem dX3_readsText_27 : decode cX3_readsText 27 = .ok (.ifCond .eq 48, 3) := dk_153 0 48 (dk_at dksX3_readsText_1 5 rfl rfl)
theorem dX3_readsText_30 : decode cX3_readsText 30 = .ok (.iload_n 3, 1) := dk_29 (dk_at dksX3_readsText_1 8 rfl rfl)
theorem dX3_readsText_31 : decode cX3_readsText 31 = .ok (.iconst (-1), 1) := dk_2 (dk_at dksX3_readsText_1 9 rfl rfl)
theorem dX3_readsText_32 : decode cX3_readsText 32 = .ok (.if_icmp .eq 43, 3) := dk_159 0 43 (dk_at dksX3_readsText_1 10 rfl rfl)
theorem dX3_readsText_35 : decode cX3_readsText 35 = .ok (.iload_n 3, 1) := dk_29 (dk_at dksX3_readsText_1 13 rfl rfl)
theorem dX3_readsText_36 : decode cX3_readsText 36 = .ok (.bipush 59, 2) := dk_16 59 (dk_at dksX3_readsText_1 14 rfl rfl)
theorem dX3_readsText_38 : decode cX3_readsText 38 = .ok (.if_icmp .ne 7, 3) := dk_160 0 7 (dk_at dksX3_readsText_1 16 rfl rfl)
theorem dX3_readsText_41 : decode cX3_readsText 41 = .ok (.iconst 1, 1) := dk_4 (dk_at dksX3_readsText_1 19 rfl rfl)
theorem dX3_readsText_42 : decode cX3_readsText 42 = .ok (.goto 4, 3) := dk_167 0 4 (dk_at dksX3_readsText_1 20 rfl rfl)
theorem dX3_readsText_45 : decode cX3_readsText 45 = .ok (.iconst 0, 1) := dk_3 (dk_at dksX3_readsText_1 23 rfl rfl)
theorem dX3_readsText_46 : decode cX3_readsText 46 = .ok (.istore_n 2, 1) := dk_61 (dk_at dksX3_readsText_2 0 rfl rfl)
theorem dX3_readsText_47 : decode cX3_readsText 47 = .ok (.iload_n 2, 1) := dk_28 (dk_at dksX3_readsText_2 1 rfl rfl)
theorem dX3_readsText_48 : decode cX3_readsText 48 = .ok (.ifCond .eq (-22), 3) := dk_153 255 234 (dk_at dksX3_readsText_2 2 rfl rfl)
theorem dX3_readsText_51 : decode cX3_readsText 51 = .ok (.aload_n 0, 1) := dk_42 (dk_at dksX3_readsText_2 5 rfl rfl)
theorem dX3_readsText_52 : decode cX3_readsText 52 = .ok (.dup, 1) := dk_89 (dk_at dksX3_readsText_2 6 rfl rfl)
theorem dX3_readsText_53 : decode cX3_readsText 53 = .ok (.getfield 190, 3) := dk_180 0 190 (dk_at dksX3_readsText_2 7 rfl rfl)
theorem dX3_readsText_56 : decode cX3_readsText 56 = .ok (.iconst 1, 1) := dk_4 (dk_at dksX3_readsText_2 10 rfl rfl)
theorem dX3_readsText_57 : decode cX3_readsText 57 = .ok (.iadd, 1) := dk_96 (dk_at dksX3_readsText_2 11 rfl rfl)
theorem dX3_readsText_58 : decode cX3_readsText 58 = .ok (.putfield 190, 3) := dk_181 0 190 (dk_at dksX3_readsText_2 12 rfl rfl)
theorem dX3_readsText_61 : decode cX3_readsText 61 = .ok (.aload_n 0, 1) := dk_42 (dk_at dksX3_readsText_2 15 rfl rfl)
theorem dX3_readsText_62 : decode cX3_readsText 62 = .ok (.iload_n 1, 1) := dk_27 (dk_at dksX3_readsText_2 16 rfl rfl)
theorem dX3_readsText_63 : decode cX3_readsText 63 = .ok (.invokevirtual 214, 3) := dk_182 0 214 (dk_at dksX3_readsText_2 17 rfl rfl)
theorem dX3_readsText_66 : decode cX3_readsText 66 = .ok (.istore_n 2, 1) := dk_61 (dk_at dksX3_readsText_2 20 rfl rfl)
theorem dX3_readsText_67 : decode cX3_readsText 67 = .ok (.aload_n 0, 1) := dk_42 (dk_at dksX3_readsText_2 21 rfl rfl)
theorem dX3_readsText_68 : decode cX3_readsText 68 = .ok (.invokevirtual 193, 3) := dk_182 0 193 (dk_at dksX3_readsText_3 0 rfl rfl)
theorem dX3_readsText_71 : decode cX3_readsText 71 = .ok (.istore_n 3, 1) := dk_62 (dk_at dksX3_readsText_3 3 rfl rfl)
theorem dX3_readsText_72 : decode cX3_readsText 72 = .ok (.goto (-46), 3) := dk_167 255 210 (dk_at dksX3_readsText_3 4 rfl rfl)
theorem dX3_readsText_75 : decode cX3_readsText 75 = .ok (.iload_n 2, 1) := dk_28 (dk_at dksX3_readsText_3 7 rfl rfl)
theorem dX3_readsText_76 : decode cX3_readsText 76 = .ok (.ireturn, 1) := dk_172 (dk_at dksX3_readsText_3 8 rfl rfl)
abbrev cX3_readsOrder : ByteArray := prog_10_method_80_code
def yX3_readsOrder : MethodName := ⟨RX3, "readsOrder", "(Z)Z"⟩
def dkwX3_readsOrder_7 : List UInt8 := [4, 167, 0, 4, 3, 96, 181, 0, 211, 4, 172]
abbrev dktX3_readsOrder_7 : List UInt8 := dkwX3_readsOrder_7 ++ []
def dkwX3_readsOrder_6 : List UInt8 := [153, 0, 33, 42, 42, 28, 182, 0, 208, 181, 0, 204, 42, 89, 180, 0, 211, 42, 180, 0, 204, 153, 0, 7]
abbrev dktX3_readsOrder_6 : List UInt8 := dkwX3_readsOrder_6 ++ dktX3_readsOrder_7
def dkwX3_readsOrder_5 : List UInt8 := [180, 0, 30, 21, 4, 42, 180, 0, 197, 79, 132, 4, 1, 167, 255, 192, 27, 153, 0, 40, 42, 180, 0, 204]
abbrev dktX3_readsOrder_5 : List UInt8 := dkwX3_readsOrder_5 ++ dktX3_readsOrder_6
def dkwX3_readsOrder_4 : List UInt8 := [158, 0, 7, 4, 167, 0, 4, 3, 96, 181, 0, 190, 42, 182, 0, 200, 154, 0, 5, 3, 172, 42]
abbrev dktX3_readsOrder_4 : List UInt8 := dkwX3_readsOrder_4 ++ dktX3_readsOrder_5
def dkwX3_readsOrder_3 : List UInt8 := [21, 4, 158, 0, 14, 42, 182, 0, 193, 16, 44, 159, 0, 5, 3, 172, 42, 89, 180, 0, 190, 21, 4]
abbrev dktX3_readsOrder_3 : List UInt8 := dkwX3_readsOrder_3 ++ dktX3_readsOrder_4
def dkwX3_readsOrder_2 : List UInt8 := [154, 0, 5, 3, 172, 42, 89, 180, 0, 190, 4, 96, 181, 0, 190, 3, 54, 4, 21, 4, 29, 162, 0, 64]
abbrev dktX3_readsOrder_2 : List UInt8 := dkwX3_readsOrder_2 ++ dktX3_readsOrder_3
def dkwX3_readsOrder_1 : List UInt8 := [167, 0, 20, 28, 16, 99, 159, 0, 9, 28, 16, 100, 160, 0, 7, 5, 167, 0, 4, 3, 62, 29]
abbrev dktX3_readsOrder_1 : List UInt8 := dkwX3_readsOrder_1 ++ dktX3_readsOrder_2
def dkwX3_readsOrder_0 : List UInt8 := [42, 182, 0, 193, 61, 28, 16, 114, 160, 0, 7, 8, 167, 0, 30, 28, 16, 109, 160, 0, 7, 7]
abbrev dktX3_readsOrder_0 : List UInt8 := dkwX3_readsOrder_0 ++ dktX3_readsOrder_1
theorem dksX3_readsOrder_0 : cX3_readsOrder.data.toList.drop 0 = dktX3_readsOrder_0 := by decide +kernel
theorem dksX3_readsOrder_1 : cX3_readsOrder.data.toList.drop 22 = dktX3_readsOrder_1 := dk_seg dksX3_readsOrder_0 22 rfl rfl
theorem dksX3_readsOrder_2 : cX3_readsOrder.data.toList.drop 44 = dktX3_readsOrder_2 := dk_seg dksX3_readsOrder_1 22 rfl rfl
theorem dksX3_readsOrder_3 : cX3_readsOrder.data.toList.drop 68 = dktX3_readsOrder_3 := dk_seg dksX3_readsOrder_2 24 rfl rfl
theorem dksX3_readsOrder_4 : cX3_readsOrder.data.toList.drop 91 = dktX3_readsOrder_4 := dk_seg dksX3_readsOrder_3 23 rfl rfl
theorem dksX3_readsOrder_5 : cX3_readsOrder.data.toList.drop 113 = dktX3_readsOrder_5 := dk_seg dksX3_readsOrder_4 22 rfl rfl
theorem dksX3_readsOrder_6 : cX3_readsOrder.data.toList.drop 137 = dktX3_readsOrder_6 := dk_seg dksX3_readsOrder_5 24 rfl rfl
theorem dksX3_readsOrder_7 : cX3_readsOrder.data.toList.drop 161 = dktX3_readsOrder_7 := dk_seg dksX3_readsOrder_6 24 rfl rfl
theorem dX3_readsOrder_0 : decode cX3_readsOrder 0 = .ok (.aload_n 0, 1) := dk_42 (dk_at dksX3_readsOrder_0 0 rfl rfl)
theorem dX3_readsOrder_1 : decode cX3_readsOrder 1 = .ok (.invokevirtual 193, 3) := dk_182 0 193 (dk_at dksX3_readsOrder_0 1 rfl rfl)
theorem dX3_readsOrder_4 : decode cX3_readsOrder 4 = .ok (.istore_n 2, 1) := dk_61 (dk_at dksX3_readsOrder_0 4 rfl rfl)
theorem dX3_readsOrder_5 : decode cX3_readsOrder 5 = .ok (.iload_n 2, 1) := dk_28 (dk_at dksX3_readsOrder_0 5 rfl rfl)
theorem dX3_readsOrder_6 : decode cX3_readsOrder 6 = .ok (.bipush 114, 2) := dk_16 114 (dk_at dksX3_readsOrder_0 6 rfl rfl)
theorem dX3_readsOrder_8 : decode cX3_readsOrder 8 = .ok (.if_icmp .ne 7, 3) := dk_160 0 7 (dk_at dksX3_readsOrder_0 8 rfl rfl)
theorem dX3_readsOrder_11 : decode cX3_readsOrder 11 = .ok (.iconst 5, 1) := dk_8 (dk_at dksX3_readsOrder_0 11 rfl rfl)
theorem dX3_readsOrder_12 : decode cX3_readsOrder 12 = .ok (.goto 30, 3) := dk_167 0 30 (dk_at dksX3_readsOrder_0 12 rfl rfl)
theorem dX3_readsOrder_15 : decode cX3_readsOrder 15 = .ok (.iload_n 2, 1) := dk_28 (dk_at dksX3_readsOrder_0 15 rfl rfl)
theorem dX3_readsOrder_16 : decode cX3_readsOrder 16 = .ok (.bipush 109, 2) := dk_16 109 (dk_at dksX3_readsOrder_0 16 rfl rfl)
theorem dX3_readsOrder_18 : decode cX3_readsOrder 18 = .ok (.if_icmp .ne 7, 3) := dk_160 0 7 (dk_at dksX3_readsOrder_0 18 rfl rfl)
theorem dX3_readsOrder_21 : decode cX3_readsOrder 21 = .ok (.iconst 4, 1) := dk_7 (dk_at dksX3_readsOrder_0 21 rfl rfl)
theorem dX3_readsOrder_22 : decode cX3_readsOrder 22 = .ok (.goto 20, 3) := dk_167 0 20 (dk_at dksX3_readsOrder_1 0 rfl rfl)
theorem dX3_readsOrder_25 : decode cX3_readsOrder 25 = .ok (.iload_n 2, 1) := dk_28 (dk_at dksX3_readsOrder_1 3 rfl rfl)
theorem dX3_readsOrder_26 : decode cX3_readsOrder 26 = .ok (.bipush 99, 2) := dk_16 99 (dk_at dksX3_readsOrder_1 4 rfl rfl)
theorem dX3_readsOrder_28 : decode cX3_readsOrder 28 = .ok (.if_icmp .eq 9, 3) := dk_159 0 9 (dk_at dksX3_readsOrder_1 6 rfl rfl)
theorem dX3_readsOrder_31 : decode cX3_readsOrder 31 = .ok (.iload_n 2, 1) := dk_28 (dk_at dksX3_readsOrder_1 9 rfl rfl)
theorem dX3_readsOrder_32 : decode cX3_readsOrder 32 = .ok (.bipush 100, 2) := dk_16 100 (dk_at dksX3_readsOrder_1 10 rfl rfl)
theorem dX3_readsOrder_34 : decode cX3_readsOrder 34 = .ok (.if_icmp .ne 7, 3) := dk_160 0 7 (dk_at dksX3_readsOrder_1 12 rfl rfl)
theorem dX3_readsOrder_37 : decode cX3_readsOrder 37 = .ok (.iconst 2, 1) := dk_5 (dk_at dksX3_readsOrder_1 15 rfl rfl)
theorem dX3_readsOrder_38 : decode cX3_readsOrder 38 = .ok (.goto 4, 3) := dk_167 0 4 (dk_at dksX3_readsOrder_1 16 rfl rfl)
theorem dX3_readsOrder_41 : decode cX3_readsOrder 41 = .ok (.iconst 0, 1) := dk_3 (dk_at dksX3_readsOrder_1 19 rfl rfl)
theorem dX3_readsOrder_42 : decode cX3_readsOrder 42 = .ok (.istore_n 3, 1) := dk_62 (dk_at dksX3_readsOrder_1 20 rfl rfl)
theorem dX3_readsOrder_43 : decode cX3_readsOrder 43 = .ok (.iload_n 3, 1) := dk_29 (dk_at dksX3_readsOrder_1 21 rfl rfl)
theorem dX3_readsOrder_44 : decode cX3_readsOrder 44 = .ok (.ifCond .ne 5, 3) := dk_154 0 5 (dk_at dksX3_readsOrder_2 0 rfl rfl)
theorem dX3_readsOrder_47 : decode cX3_readsOrder 47 = .ok (.iconst 0, 1) := dk_3 (dk_at dksX3_readsOrder_2 3 rfl rfl)
theorem dX3_readsOrder_48 : decode cX3_readsOrder 48 = .ok (.ireturn, 1) := dk_172 (dk_at dksX3_readsOrder_2 4 rfl rfl)
theorem dX3_readsOrder_49 : decode cX3_readsOrder 49 = .ok (.aload_n 0, 1) := dk_42 (dk_at dksX3_readsOrder_2 5 rfl rfl)
theorem dX3_readsOrder_50 : decode cX3_readsOrder 50 = .ok (.dup, 1) := dk_89 (dk_at dksX3_readsOrder_2 6 rfl rfl)
theorem dX3_readsOrder_51 : decode cX3_readsOrder 51 = .ok (.getfield 190, 3) := dk_180 0 190 (dk_at dksX3_readsOrder_2 7 rfl rfl)
theorem dX3_readsOrder_54 : decode cX3_readsOrder 54 = .ok (.iconst 1, 1) := dk_4 (dk_at dksX3_readsOrder_2 10 rfl rfl)
theorem dX3_readsOrder_55 : decode cX3_readsOrder 55 = .ok (.iadd, 1) := dk_96 (dk_at dksX3_readsOrder_2 11 rfl rfl)
theorem dX3_readsOrder_56 : decode cX3_readsOrder 56 = .ok (.putfield 190, 3) := dk_181 0 190 (dk_at dksX3_readsOrder_2 12 rfl rfl)
theorem dX3_readsOrder_59 : decode cX3_readsOrder 59 = .ok (.iconst 0, 1) := dk_3 (dk_at dksX3_readsOrder_2 15 rfl rfl)
theorem dX3_readsOrder_60 : decode cX3_readsOrder 60 = .ok (.istore 4, 2) := dk_54 4 (dk_at dksX3_readsOrder_2 16 rfl rfl)
theorem dX3_readsOrder_62 : decode cX3_readsOrder 62 = .ok (.iload 4, 2) := dk_21 4 (dk_at dksX3_readsOrder_2 18 rfl rfl)
theorem dX3_readsOrder_64 : decode cX3_readsOrder 64 = .ok (.iload_n 3, 1) := dk_29 (dk_at dksX3_readsOrder_2 20 rfl rfl)
theorem dX3_readsOrder_65 : decode cX3_readsOrder 65 = .ok (.if_icmp .ge 64, 3) := dk_162 0 64 (dk_at dksX3_readsOrder_2 21 rfl rfl)
theorem dX3_readsOrder_68 : decode cX3_readsOrder 68 = .ok (.iload 4, 2) := dk_21 4 (dk_at dksX3_readsOrder_3 0 rfl rfl)
theorem dX3_readsOrder_70 : decode cX3_readsOrder 70 = .ok (.ifCond .le 14, 3) := dk_158 0 14 (dk_at dksX3_readsOrder_3 2 rfl rfl)
theorem dX3_readsOrder_73 : decode cX3_readsOrder 73 = .ok (.aload_n 0, 1) := dk_42 (dk_at dksX3_readsOrder_3 5 rfl rfl)
theorem dX3_readsOrder_74 : decode cX3_readsOrder 74 = .ok (.invokevirtual 193, 3) := dk_182 0 193 (dk_at dksX3_readsOrder_3 6 rfl rfl)
theorem dX3_readsOrder_77 : decode cX3_readsOrder 77 = .ok (.bipush 44, 2) := dk_16 44 (dk_at dksX3_readsOrder_3 9 rfl rfl)
theorem dX3_readsOrder_79 : decode cX3_readsOrder 79 = .ok (.if_icmp .eq 5, 3) := dk_159 0 5 (dk_at dksX3_readsOrder_3 11 rfl rfl)
theorem dX3_readsOrder_82 : decode cX3_readsOrder 82 = .ok (.iconst 0, 1) := dk_3 (dk_at dksX3_readsOrder_3 14 rfl rfl)
theorem dX3_readsOrder_83 : decode cX3_readsOrder 83 = .ok (.ireturn, 1) := dk_172 (dk_at dksX3_readsOrder_3 15 rfl rfl)
theorem dX3_readsOrder_84 : decode cX3_readsOrder 84 = .ok (.aload_n 0, 1) := dk_42 (dk_at dksX3_readsOrder_3 16 rfl rfl)
theorem dX3_readsOrder_85 : decode cX3_readsOrder 85 = .ok (.dup, 1) := dk_89 (dk_at dksX3_readsOrder_3 17 rfl rfl)
theorem dX3_readsOrder_86 : decode cX3_readsOrder 86 = .ok (.getfield 190, 3) := dk_180 0 190 (dk_at dksX3_readsOrder_3 18 rfl rfl)
theorem dX3_readsOrder_89 : decode cX3_readsOrder 89 = .ok (.iload 4, 2) := dk_21 4 (dk_at dksX3_readsOrder_3 21 rfl rfl)
theorem dX3_readsOrder_91 : decode cX3_readsOrder 91 = .ok (.ifCond .le 7, 3) := dk_158 0 7 (dk_at dksX3_readsOrder_4 0 rfl rfl)
theorem dX3_readsOrder_94 : decode cX3_readsOrder 94 = .ok (.iconst 1, 1) := dk_4 (dk_at dksX3_readsOrder_4 3 rfl rfl)
theorem dX3_readsOrder_95 : decode cX3_readsOrder 95 = .ok (.goto 4, 3) := dk_167 0 4 (dk_at dksX3_readsOrder_4 4 rfl rfl)
theorem dX3_readsOrder_98 : decode cX3_readsOrder 98 = .ok (.iconst 0, 1) := dk_3 (dk_at dksX3_readsOrder_4 7 rfl rfl)
theorem dX3_readsOrder_99 : decode cX3_readsOrder 99 = .ok (.iadd, 1) := dk_96 (dk_at dksX3_readsOrder_4 8 rfl rfl)
theorem dX3_readsOrder_100 : decode cX3_readsOrder 100 = .ok (.putfield 190, 3) := dk_181 0 190 (dk_at dksX3_readsOrder_4 9 rfl rfl)
theorem dX3_readsOrder_103 : decode cX3_readsOrder 103 = .ok (.aload_n 0, 1) := dk_42 (dk_at dksX3_readsOrder_4 12 rfl rfl)
theorem dX3_readsOrder_104 : decode cX3_readsOrder 104 = .ok (.invokevirtual 200, 3) := dk_182 0 200 (dk_at dksX3_readsOrder_4 13 rfl rfl)
theorem dX3_readsOrder_107 : decode cX3_readsOrder 107 = .ok (.ifCond .ne 5, 3) := dk_154 0 5 (dk_at dksX3_readsOrder_4 16 rfl rfl)
theorem dX3_readsOrder_110 : decode cX3_readsOrder 110 = .ok (.iconst 0, 1) := dk_3 (dk_at dksX3_readsOrder_4 19 rfl rfl)
theorem dX3_readsOrder_111 : decode cX3_readsOrder 111 = .ok (.ireturn, 1) := dk_172 (dk_at dksX3_readsOrder_4 20 rfl rfl)
theorem dX3_readsOrder_112 : decode cX3_readsOrder 112 = .ok (.aload_n 0, 1) := dk_42 (dk_at dksX3_readsOrder_4 21 rfl rfl)
theorem dX3_readsOrder_113 : decode cX3_readsOrder 113 = .ok (.getfield 30, 3) := dk_180 0 30 (dk_at dksX3_readsOrder_5 0 rfl rfl)
theorem dX3_readsOrder_116 : decode cX3_readsOrder 116 = .ok (.iload 4, 2) := dk_21 4 (dk_at dksX3_readsOrder_5 3 rfl rfl)
theorem dX3_readsOrder_118 : decode cX3_readsOrder 118 = .ok (.aload_n 0, 1) := dk_42 (dk_at dksX3_readsOrder_5 5 rfl rfl)
theorem dX3_readsOrder_119 : decode cX3_readsOrder 119 = .ok (.getfield 197, 3) := dk_180 0 197 (dk_at dksX3_readsOrder_5 6 rfl rfl)
theorem dX3_readsOrder_122 : decode cX3_readsOrder 122 = .ok (.iastore, 1) := dk_79 (dk_at dksX3_readsOrder_5 9 rfl rfl)
theorem dX3_readsOrder_123 : decode cX3_readsOrder 123 = .ok (.iinc 4 1, 3) := dk_132 4 1 (dk_at dksX3_readsOrder_5 10 rfl rfl)
theorem dX3_readsOrder_126 : decode cX3_readsOrder 126 = .ok (.goto (-64), 3) := dk_167 255 192 (dk_at dksX3_readsOrder_5 13 rfl rfl)
theorem dX3_readsOrder_129 : decode cX3_readsOrder 129 = .ok (.iload_n 1, 1) := dk_27 (dk_at dksX3_readsOrder_5 16 rfl rfl)
theorem dX3_readsOrder_130 : decode cX3_readsOrder 130 = .ok (.ifCond .eq 40, 3) := dk_153 0 40 (dk_at dksX3_readsOrder_5 17 rfl rfl)
theorem dX3_readsOrder_133 : decode cX3_readsOrder 133 = .ok (.aload_n 0, 1) := dk_42 (dk_at dksX3_readsOrder_5 20 rfl rfl)
theorem dX3_readsOrder_134 : decode cX3_readsOrder 134 = .ok (.getfield 204, 3) := dk_180 0 204 (dk_at dksX3_readsOrder_5 21 rfl rfl)
theorem dX3_readsOrder_137 : decode cX3_readsOrder 137 = .ok (.ifCond .eq 33, 3) := dk_153 0 33 (dk_at dksX3_readsOrder_6 0 rfl rfl)
theorem dX3_readsOrder_140 : decode cX3_readsOrder 140 = .ok (.aload_n 0, 1) := dk_42 (dk_at dksX3_readsOrder_6 3 rfl rfl)
theorem dX3_readsOrder_141 : decode cX3_readsOrder 141 = .ok (.aload_n 0, 1) := dk_42 (dk_at dksX3_readsOrder_6 4 rfl rfl)
theorem dX3_readsOrder_142 : decode cX3_readsOrder 142 = .ok (.iload_n 2, 1) := dk_28 (dk_at dksX3_readsOrder_6 5 rfl rfl)
theorem dX3_readsOrder_143 : decode cX3_readsOrder 143 = .ok (.invokevirtual 208, 3) := dk_182 0 208 (dk_at dksX3_readsOrder_6 6 rfl rfl)
theorem dX3_readsOrder_146 : decode cX3_readsOrder 146 = .ok (.putfield 204, 3) := dk_181 0 204 (dk_at dksX3_readsOrder_6 9 rfl rfl)
theorem dX3_readsOrder_149 : decode cX3_readsOrder 149 = .ok (.aload_n 0, 1) := dk_42 (dk_at dksX3_readsOrder_6 12 rfl rfl)
theorem dX3_readsOrder_150 : decode cX3_readsOrder 150 = .ok (.dup, 1) := dk_89 (dk_at dksX3_readsOrder_6 13 rfl rfl)
theorem dX3_readsOrder_151 : decode cX3_readsOrder 151 = .ok (.getfield 211, 3) := dk_180 0 211 (dk_at dksX3_readsOrder_6 14 rfl rfl)
theorem dX3_readsOrder_154 : decode cX3_readsOrder 154 = .ok (.aload_n 0, 1) := dk_42 (dk_at dksX3_readsOrder_6 17 rfl rfl)
theorem dX3_readsOrder_155 : decode cX3_readsOrder 155 = .ok (.getfield 204, 3) := dk_180 0 204 (dk_at dksX3_readsOrder_6 18 rfl rfl)
theorem dX3_readsOrder_158 : decode cX3_readsOrder 158 = .ok (.ifCond .eq 7, 3) := dk_153 0 7 (dk_at dksX3_readsOrder_6 21 rfl rfl)
theorem dX3_readsOrder_161 : decode cX3_readsOrder 161 = .ok (.iconst 1, 1) := dk_4 (dk_at dksX3_readsOrder_7 0 rfl rfl)
theorem dX3_readsOrder_162 : decode cX3_readsOrder 162 = .ok (.goto 4, 3) := dk_167 0 4 (dk_at dksX3_readsOrder_7 1 rfl rfl)
theorem dX3_readsOrder_165 : decode cX3_readsOrder 165 = .ok (.iconst 0, 1) := dk_3 (dk_at dksX3_readsOrder_7 4 rfl rfl)
theorem dX3_readsOrder_166 : decode cX3_readsOrder 166 = .ok (.iadd, 1) := dk_96 (dk_at dksX3_readsOrder_7 5 rfl rfl)
theorem dX3_readsOrder_167 : decode cX3_readsOrder 167 = .ok (.putfield 211, 3) := dk_181 0 211 (dk_at dksX3_readsOrder_7 6 rfl rfl)
theorem dX3_readsOrder_170 : decode cX3_readsOrder 170 = .ok (.iconst 1, 1) := dk_4 (dk_at dksX3_readsOrder_7 9 rfl rfl)
theorem dX3_readsOrder_171 : decode cX3_readsOrder 171 = .ok (.ireturn, 1) := dk_172 (dk_at dksX3_readsOrder_7 10 rfl rfl)
abbrev cX3_here : ByteArray := prog_10_method_77_code
def yX3_here : MethodName := ⟨RX3, "here", "()I"⟩
def dkwX3_here_2 : List UInt8 := [162, 0, 15, 42, 180, 0, 27, 42, 180, 0, 190, 46, 167, 0, 4, 2, 172]
abbrev dktX3_here_2 : List UInt8 := dkwX3_here_2 ++ []
def dkwX3_here_1 : List UInt8 := [160, 0, 16, 42, 89, 180, 0, 190, 4, 96, 181, 0, 190, 167, 255, 221, 42, 180, 0, 190, 42, 180, 0, 187]
abbrev dktX3_here_1 : List UInt8 := dkwX3_here_1 ++ dktX3_here_2
def dkwX3_here_0 : List UInt8 := [42, 180, 0, 190, 42, 180, 0, 187, 162, 0, 30, 42, 180, 0, 27, 42, 180, 0, 190, 46, 16, 32]
abbrev dktX3_here_0 : List UInt8 := dkwX3_here_0 ++ dktX3_here_1
theorem dksX3_here_0 : cX3_here.data.toList.drop 0 = dktX3_here_0 := by decide +kernel
theorem dksX3_here_1 : cX3_here.data.toList.drop 22 = dktX3_here_1 := dk_seg dksX3_here_0 22 rfl rfl
theorem dksX3_here_2 : cX3_here.data.toList.drop 46 = dktX3_here_2 := dk_seg dksX3_here_1 24 rfl rfl
theorem dX3_here_0 : decode cX3_here 0 = .ok (.aload_n 0, 1) := dk_42 (dk_at dksX3_here_0 0 rfl rfl)
theorem dX3_here_1 : decode cX3_here 1 = .ok (.getfield 190, 3) := dk_180 0 190 (dk_at dksX3_here_0 1 rfl rfl)
theorem dX3_here_4 : decode cX3_here 4 = .ok (.aload_n 0, 1) := dk_42 (dk_at dksX3_here_0 4 rfl rfl)
theorem dX3_here_5 : decode cX3_here 5 = .ok (.getfield 187, 3) := dk_180 0 187 (dk_at dksX3_here_0 5 rfl rfl)
theorem dX3_here_8 : decode cX3_here 8 = .ok (.if_icmp .ge 30, 3) := dk_162 0 30 (dk_at dksX3_here_0 8 rfl rfl)
theorem dX3_here_11 : decode cX3_here 11 = .ok (.aload_n 0, 1) := dk_42 (dk_at dksX3_here_0 11 rfl rfl)
theorem dX3_here_12 : decode cX3_here 12 = .ok (.getfield 27, 3) := dk_180 0 27 (dk_at dksX3_here_0 12 rfl rfl)
theorem dX3_here_15 : decode cX3_here 15 = .ok (.aload_n 0, 1) := dk_42 (dk_at dksX3_here_0 15 rfl rfl)
theorem dX3_here_16 : decode cX3_here 16 = .ok (.getfield 190, 3) := dk_180 0 190 (dk_at dksX3_here_0 16 rfl rfl)
theorem dX3_here_19 : decode cX3_here 19 = .ok (.iaload, 1) := dk_46 (dk_at dksX3_here_0 19 rfl rfl)
theorem dX3_here_20 : decode cX3_here 20 = .ok (.bipush 32, 2) := dk_16 32 (dk_at dksX3_here_0 20 rfl rfl)
theorem dX3_here_22 : decode cX3_here 22 = .ok (.if_icmp .ne 16, 3) := dk_160 0 16 (dk_at dksX3_here_1 0 rfl rfl)
theorem dX3_here_25 : decode cX3_here 25 = .ok (.aload_n 0, 1) := dk_42 (dk_at dksX3_here_1 3 rfl rfl)
theorem dX3_here_26 : decode cX3_here 26 = .ok (.dup, 1) := dk_89 (dk_at dksX3_here_1 4 rfl rfl)
theorem dX3_here_27 : decode cX3_here 27 = .ok (.getfield 190, 3) := dk_180 0 190 (dk_at dksX3_here_1 5 rfl rfl)
theorem dX3_here_30 : decode cX3_here 30 = .ok (.iconst 1, 1) := dk_4 (dk_at dksX3_here_1 8 rfl rfl)
theorem dX3_here_31 : decode cX3_here 31 = .ok (.iadd, 1) := dk_96 (dk_at dksX3_here_1 9 rfl rfl)
theorem dX3_here_32 : decode cX3_here 32 = .ok (.putfield 190, 3) := dk_181 0 190 (dk_at dksX3_here_1 10 rfl rfl)
theorem dX3_here_35 : decode cX3_here 35 = .ok (.goto (-35), 3) := dk_167 255 221 (dk_at dksX3_here_1 13 rfl rfl)
theorem dX3_here_38 : decode cX3_here 38 = .ok (.aload_n 0, 1) := dk_42 (dk_at dksX3_here_1 16 rfl rfl)
theorem dX3_here_39 : decode cX3_here 39 = .ok (.getfield 190, 3) := dk_180 0 190 (dk_at dksX3_here_1 17 rfl rfl)
theorem dX3_here_42 : decode cX3_here 42 = .ok (.aload_n 0, 1) := dk_42 (dk_at dksX3_here_1 20 rfl rfl)
theorem dX3_here_43 : decode cX3_here 43 = .ok (.getfield 187, 3) := dk_180 0 187 (dk_at dksX3_here_1 21 rfl rfl)
theorem dX3_here_46 : decode cX3_here 46 = .ok (.if_icmp .ge 15, 3) := dk_162 0 15 (dk_at dksX3_here_2 0 rfl rfl)
theorem dX3_here_49 : decode cX3_here 49 = .ok (.aload_n 0, 1) := dk_42 (dk_at dksX3_here_2 3 rfl rfl)
theorem dX3_here_50 : decode cX3_here 50 = .ok (.getfield 27, 3) := dk_180 0 27 (dk_at dksX3_here_2 4 rfl rfl)
theorem dX3_here_53 : decode cX3_here 53 = .ok (.aload_n 0, 1) := dk_42 (dk_at dksX3_here_2 7 rfl rfl)
theorem dX3_here_54 : decode cX3_here 54 = .ok (.getfield 190, 3) := dk_180 0 190 (dk_at dksX3_here_2 8 rfl rfl)
theorem dX3_here_57 : decode cX3_here 57 = .ok (.iaload, 1) := dk_46 (dk_at dksX3_here_2 11 rfl rfl)
theorem dX3_here_58 : decode cX3_here 58 = .ok (.goto 4, 3) := dk_167 0 4 (dk_at dksX3_here_2 12 rfl rfl)
theorem dX3_here_61 : decode cX3_here 61 = .ok (.iconst (-1), 1) := dk_2 (dk_at dksX3_here_2 15 rfl rfl)
theorem dX3_here_62 : decode cX3_here 62 = .ok (.ireturn, 1) := dk_172 (dk_at dksX3_here_2 16 rfl rfl)
abbrev cX3_reads : ByteArray := prog_10_method_78_code
def yX3_reads : MethodName := ⟨RX3, "reads", "()Z"⟩
def dkwX3_reads_4 : List UInt8 := [181, 0, 197, 21, 4, 172]
abbrev dktX3_reads_4 : List UInt8 := dkwX3_reads_4 ++ []
def dkwX3_reads_3 : List UInt8 := [28, 42, 180, 0, 190, 164, 0, 7, 4, 167, 0, 4, 3, 54, 4, 42, 28, 181, 0, 190, 42, 29]
abbrev dktX3_reads_3 : List UInt8 := dkwX3_reads_3 ++ dktX3_reads_4
def dkwX3_reads_2 : List UInt8 := [153, 0, 24, 16, 10, 29, 104, 42, 180, 0, 27, 28, 46, 96, 16, 48, 100, 62, 132, 2, 1, 167, 255, 200]
abbrev dktX3_reads_2 : List UInt8 := dkwX3_reads_2 ++ dktX3_reads_3
def dkwX3_reads_1 : List UInt8 := [28, 42, 180, 0, 190, 8, 96, 162, 0, 40, 42, 180, 0, 27, 28, 46, 16, 48, 16, 57, 184, 0, 41]
abbrev dktX3_reads_1 : List UInt8 := dkwX3_reads_1 ++ dktX3_reads_2
def dkwX3_reads_0 : List UInt8 := [42, 182, 0, 193, 60, 42, 180, 0, 190, 61, 3, 62, 27, 155, 0, 58, 28, 42, 180, 0, 187, 162, 0, 50]
abbrev dktX3_reads_0 : List UInt8 := dkwX3_reads_0 ++ dktX3_reads_1
theorem dksX3_reads_0 : cX3_reads.data.toList.drop 0 = dktX3_reads_0 := by decide +kernel
theorem dksX3_reads_1 : cX3_reads.data.toList.drop 24 = dktX3_reads_1 := dk_seg dksX3_reads_0 24 rfl rfl
theorem dksX3_reads_2 : cX3_reads.data.toList.drop 47 = dktX3_reads_2 := dk_seg dksX3_reads_1 23 rfl rfl
theorem dksX3_reads_3 : cX3_reads.data.toList.drop 71 = dktX3_reads_3 := dk_seg dksX3_reads_2 24 rfl rfl
theorem dksX3_reads_4 : cX3_reads.data.toList.drop 93 = dktX3_reads_4 := dk_seg dksX3_reads_3 22 rfl rfl
theorem dX3_reads_0 : decode cX3_reads 0 = .ok (.aload_n 0, 1) := dk_42 (dk_at dksX3_reads_0 0 rfl rfl)
theorem dX3_reads_1 : decode cX3_reads 1 = .ok (.invokevirtual 193, 3) := dk_182 0 193 (dk_at dksX3_reads_0 1 rfl rfl)
theorem dX3_reads_4 : decode cX3_reads 4 = .ok (.istore_n 1, 1) := dk_60 (dk_at dksX3_reads_0 4 rfl rfl)
theorem dX3_reads_5 : decode cX3_reads 5 = .ok (.aload_n 0, 1) := dk_42 (dk_at dksX3_reads_0 5 rfl rfl)
theorem dX3_reads_6 : decode cX3_reads 6 = .ok (.getfield 190, 3) := dk_180 0 190 (dk_at dksX3_reads_0 6 rfl rfl)
theorem dX3_reads_9 : decode cX3_reads 9 = .ok (.istore_n 2, 1) := dk_61 (dk_at dksX3_reads_0 9 rfl rfl)
theorem dX3_reads_10 : decode cX3_reads 10 = .ok (.iconst 0, 1) := dk_3 (dk_at dksX3_reads_0 10 rfl rfl)
theorem dX3_reads_11 : decode cX3_reads 11 = .ok (.istore_n 3, 1) := dk_62 (dk_at dksX3_reads_0 11 rfl rfl)
theorem dX3_reads_12 : decode cX3_reads 12 = .ok (.iload_n 1, 1) := dk_27 (dk_at dksX3_reads_0 12 rfl rfl)
theorem dX3_reads_13 : decode cX3_reads 13 = .ok (.ifCond .lt 58, 3) := dk_155 0 58 (dk_at dksX3_reads_0 13 rfl rfl)
theorem dX3_reads_16 : decode cX3_reads 16 = .ok (.iload_n 2, 1) := dk_28 (dk_at dksX3_reads_0 16 rfl rfl)
theorem dX3_reads_17 : decode cX3_reads 17 = .ok (.aload_n 0, 1) := dk_42 (dk_at dksX3_reads_0 17 rfl rfl)
theorem dX3_reads_18 : decode cX3_reads 18 = .ok (.getfield 187, 3) := dk_180 0 187 (dk_at dksX3_reads_0 18 rfl rfl)
theorem dX3_reads_21 : decode cX3_reads 21 = .ok (.if_icmp .ge 50, 3) := dk_162 0 50 (dk_at dksX3_reads_0 21 rfl rfl)
theorem dX3_reads_24 : decode cX3_reads 24 = .ok (.iload_n 2, 1) := dk_28 (dk_at dksX3_reads_1 0 rfl rfl)
theorem dX3_reads_25 : decode cX3_reads 25 = .ok (.aload_n 0, 1) := dk_42 (dk_at dksX3_reads_1 1 rfl rfl)
theorem dX3_reads_26 : decode cX3_reads 26 = .ok (.getfield 190, 3) := dk_180 0 190 (dk_at dksX3_reads_1 2 rfl rfl)
theorem dX3_reads_29 : decode cX3_reads 29 = .ok (.iconst 5, 1) := dk_8 (dk_at dksX3_reads_1 5 rfl rfl)
theorem dX3_reads_30 : decode cX3_reads 30 = .ok (.iadd, 1) := dk_96 (dk_at dksX3_reads_1 6 rfl rfl)
theorem dX3_reads_31 : decode cX3_reads 31 = .ok (.if_icmp .ge 40, 3) := dk_162 0 40 (dk_at dksX3_reads_1 7 rfl rfl)
theorem dX3_reads_34 : decode cX3_reads 34 = .ok (.aload_n 0, 1) := dk_42 (dk_at dksX3_reads_1 10 rfl rfl)
theorem dX3_reads_35 : decode cX3_reads 35 = .ok (.getfield 27, 3) := dk_180 0 27 (dk_at dksX3_reads_1 11 rfl rfl)
theorem dX3_reads_38 : decode cX3_reads 38 = .ok (.iload_n 2, 1) := dk_28 (dk_at dksX3_reads_1 14 rfl rfl)
theorem dX3_reads_39 : decode cX3_reads 39 = .ok (.iaload, 1) := dk_46 (dk_at dksX3_reads_1 15 rfl rfl)
theorem dX3_reads_40 : decode cX3_reads 40 = .ok (.bipush 48, 2) := dk_16 48 (dk_at dksX3_reads_1 16 rfl rfl)
theorem dX3_reads_42 : decode cX3_reads 42 = .ok (.bipush 57, 2) := dk_16 57 (dk_at dksX3_reads_1 18 rfl rfl)
theorem dX3_reads_44 : decode cX3_reads 44 = .ok (.invokestatic 41, 3) := dk_184 0 41 (dk_at dksX3_reads_1 20 rfl rfl)
theorem dX3_reads_47 : decode cX3_reads 47 = .ok (.ifCond .eq 24, 3) := dk_153 0 24 (dk_at dksX3_reads_2 0 rfl rfl)
theorem dX3_reads_50 : decode cX3_reads 50 = .ok (.bipush 10, 2) := dk_16 10 (dk_at dksX3_reads_2 3 rfl rfl)
theorem dX3_reads_52 : decode cX3_reads 52 = .ok (.iload_n 3, 1) := dk_29 (dk_at dksX3_reads_2 5 rfl rfl)
theorem dX3_reads_53 : decode cX3_reads 53 = .ok (.imul, 1) := dk_104 (dk_at dksX3_reads_2 6 rfl rfl)
theorem dX3_reads_54 : decode cX3_reads 54 = .ok (.aload_n 0, 1) := dk_42 (dk_at dksX3_reads_2 7 rfl rfl)
theorem dX3_reads_55 : decode cX3_reads 55 = .ok (.getfield 27, 3) := dk_180 0 27 (dk_at dksX3_reads_2 8 rfl rfl)
theorem dX3_reads_58 : decode cX3_reads 58 = .ok (.iload_n 2, 1) := dk_28 (dk_at dksX3_reads_2 11 rfl rfl)
theorem dX3_reads_59 : decode cX3_reads 59 = .ok (.iaload, 1) := dk_46 (dk_at dksX3_reads_2 12 rfl rfl)
theorem dX3_reads_60 : decode cX3_reads 60 = .ok (.iadd, 1) := dk_96 (dk_at dksX3_reads_2 13 rfl rfl)
theorem dX3_reads_61 : decode cX3_reads 61 = .ok (.bipush 48, 2) := dk_16 48 (dk_at dksX3_reads_2 14 rfl rfl)
theorem dX3_reads_63 : decode cX3_reads 63 = .ok (.isub, 1) := dk_100 (dk_at dksX3_reads_2 16 rfl rfl)
theorem dX3_reads_64 : decode cX3_reads 64 = .ok (.istore_n 3, 1) := dk_62 (dk_at dksX3_reads_2 17 rfl rfl)
theorem dX3_reads_65 : decode cX3_reads 65 = .ok (.iinc 2 1, 3) := dk_132 2 1 (dk_at dksX3_reads_2 18 rfl rfl)
theorem dX3_reads_68 : decode cX3_reads 68 = .ok (.goto (-56), 3) := dk_167 255 200 (dk_at dksX3_reads_2 21 rfl rfl)
theorem dX3_reads_71 : decode cX3_reads 71 = .ok (.iload_n 2, 1) := dk_28 (dk_at dksX3_reads_3 0 rfl rfl)
theorem dX3_reads_72 : decode cX3_reads 72 = .ok (.aload_n 0, 1) := dk_42 (dk_at dksX3_reads_3 1 rfl rfl)
theorem dX3_reads_73 : decode cX3_reads 73 = .ok (.getfield 190, 3) := dk_180 0 190 (dk_at dksX3_reads_3 2 rfl rfl)
theorem dX3_reads_76 : decode cX3_reads 76 = .ok (.if_icmp .le 7, 3) := dk_164 0 7 (dk_at dksX3_reads_3 5 rfl rfl)
theorem dX3_reads_79 : decode cX3_reads 79 = .ok (.iconst 1, 1) := dk_4 (dk_at dksX3_reads_3 8 rfl rfl)
theorem dX3_reads_80 : decode cX3_reads 80 = .ok (.goto 4, 3) := dk_167 0 4 (dk_at dksX3_reads_3 9 rfl rfl)
theorem dX3_reads_83 : decode cX3_reads 83 = .ok (.iconst 0, 1) := dk_3 (dk_at dksX3_reads_3 12 rfl rfl)
theorem dX3_reads_84 : decode cX3_reads 84 = .ok (.istore 4, 2) := dk_54 4 (dk_at dksX3_reads_3 13 rfl rfl)
theorem dX3_reads_86 : decode cX3_reads 86 = .ok (.aload_n 0, 1) := dk_42 (dk_at dksX3_reads_3 15 rfl rfl)
theorem dX3_reads_87 : decode cX3_reads 87 = .ok (.iload_n 2, 1) := dk_28 (dk_at dksX3_reads_3 16 rfl rfl)
theorem dX3_reads_88 : decode cX3_reads 88 = .ok (.putfield 190, 3) := dk_181 0 190 (dk_at dksX3_reads_3 17 rfl rfl)
theorem dX3_reads_91 : decode cX3_reads 91 = .ok (.aload_n 0, 1) := dk_42 (dk_at dksX3_reads_3 20 rfl rfl)
theorem dX3_reads_92 : decode cX3_reads 92 = .ok (.iload_n 3, 1) := dk_29 (dk_at dksX3_reads_3 21 rfl rfl)
theorem dX3_reads_93 : decode cX3_reads 93 = .ok (.putfield 197, 3) := dk_181 0 197 (dk_at dksX3_reads_4 0 rfl rfl)
theorem dX3_reads_96 : decode cX3_reads 96 = .ok (.iload 4, 2) := dk_21 4 (dk_at dksX3_reads_4 3 rfl rfl)
theorem dX3_reads_98 : decode cX3_reads 98 = .ok (.ireturn, 1) := dk_172 (dk_at dksX3_reads_4 5 rfl rfl)
abbrev cX3_carries : ByteArray := prog_10_method_79_code
def yX3_carries : MethodName := ⟨RX3, "carries", "(I)Z"⟩
def dkwX3_carries_11 : List UInt8 := [172]
abbrev dktX3_carries_11 : List UInt8 := dkwX3_carries_11 ++ []
def dkwX3_carries_10 : List UInt8 := [180, 0, 30, 3, 46, 42, 180, 0, 30, 4, 46, 182, 0, 163, 62, 28, 154, 0, 7, 4, 167, 0, 4, 3]
abbrev dktX3_carries_10 : List UInt8 := dkwX3_carries_10 ++ dktX3_carries_11
def dkwX3_carries_9 : List UInt8 := [160, 0, 22, 42, 42, 180, 0, 30, 3, 46, 42, 180, 0, 30, 4, 46, 182, 0, 155, 167, 0, 19, 42, 42]
abbrev dktX3_carries_9 : List UInt8 := dkwX3_carries_9 ++ dktX3_carries_10
def dkwX3_carries_8 : List UInt8 := [46, 42, 180, 0, 30, 5, 46, 42, 180, 0, 30, 6, 46, 182, 0, 149, 167, 0, 44, 27, 16, 99]
abbrev dktX3_carries_8 : List UInt8 := dkwX3_carries_8 ++ dktX3_carries_9
def dkwX3_carries_7 : List UInt8 := [182, 0, 133, 167, 0, 81, 27, 16, 109, 160, 0, 34, 42, 42, 180, 0, 30, 3, 46, 42, 180, 0, 30, 4]
abbrev dktX3_carries_7 : List UInt8 := dkwX3_carries_7 ++ dktX3_carries_8
def dkwX3_carries_6 : List UInt8 := [180, 0, 30, 4, 46, 42, 180, 0, 30, 5, 46, 42, 180, 0, 30, 6, 46, 42, 180, 0, 30, 7, 46]
abbrev dktX3_carries_6 : List UInt8 := dkwX3_carries_6 ++ dktX3_carries_7
def dkwX3_carries_5 : List UInt8 := [46, 182, 0, 160, 61, 28, 154, 0, 125, 27, 16, 114, 160, 0, 40, 42, 42, 180, 0, 30, 3, 46, 42]
abbrev dktX3_carries_5 : List UInt8 := dkwX3_carries_5 ++ dktX3_carries_6
def dkwX3_carries_4 : List UInt8 := [42, 180, 0, 30, 4, 46, 182, 0, 152, 167, 0, 19, 42, 42, 180, 0, 30, 3, 46, 42, 180, 0, 30, 4]
abbrev dktX3_carries_4 : List UInt8 := dkwX3_carries_4 ++ dktX3_carries_5
def dkwX3_carries_3 : List UInt8 := [180, 0, 30, 6, 46, 182, 0, 146, 167, 0, 44, 27, 16, 99, 160, 0, 22, 42, 42, 180, 0, 30, 3, 46]
abbrev dktX3_carries_3 : List UInt8 := dkwX3_carries_3 ++ dktX3_carries_4
def dkwX3_carries_2 : List UInt8 := [160, 0, 34, 42, 42, 180, 0, 30, 3, 46, 42, 180, 0, 30, 4, 46, 42, 180, 0, 30, 5, 46, 42]
abbrev dktX3_carries_2 : List UInt8 := dkwX3_carries_2 ++ dktX3_carries_3
def dkwX3_carries_1 : List UInt8 := [46, 42, 180, 0, 30, 6, 46, 42, 180, 0, 30, 7, 46, 182, 0, 129, 167, 0, 81, 27, 16, 109]
abbrev dktX3_carries_1 : List UInt8 := dkwX3_carries_1 ++ dktX3_carries_2
def dkwX3_carries_0 : List UInt8 := [27, 16, 114, 160, 0, 40, 42, 42, 180, 0, 30, 3, 46, 42, 180, 0, 30, 4, 46, 42, 180, 0, 30, 5]
abbrev dktX3_carries_0 : List UInt8 := dkwX3_carries_0 ++ dktX3_carries_1
theorem dksX3_carries_0 : cX3_carries.data.toList.drop 0 = dktX3_carries_0 := by decide +kernel
theorem dksX3_carries_1 : cX3_carries.data.toList.drop 24 = dktX3_carries_1 := dk_seg dksX3_carries_0 24 rfl rfl
theorem dksX3_carries_2 : cX3_carries.data.toList.drop 46 = dktX3_carries_2 := dk_seg dksX3_carries_1 22 rfl rfl
theorem dksX3_carries_3 : cX3_carries.data.toList.drop 69 = dktX3_carries_3 := dk_seg dksX3_carries_2 23 rfl rfl
theorem dksX3_carries_4 : cX3_carries.data.toList.drop 93 = dktX3_carries_4 := dk_seg dksX3_carries_3 24 rfl rfl
theorem dksX3_carries_5 : cX3_carries.data.toList.drop 117 = dktX3_carries_5 := dk_seg dksX3_carries_4 24 rfl rfl
theorem dksX3_carries_6 : cX3_carries.data.toList.drop 140 = dktX3_carries_6 := dk_seg dksX3_carries_5 23 rfl rfl
theorem dksX3_carries_7 : cX3_carries.data.toList.drop 163 = dktX3_carries_7 := dk_seg dksX3_carries_6 23 rfl rfl
theorem dksX3_carries_8 : cX3_carries.data.toList.drop 187 = dktX3_carries_8 := dk_seg dksX3_carries_7 24 rfl rfl
theorem dksX3_carries_9 : cX3_carries.data.toList.drop 209 = dktX3_carries_9 := dk_seg dksX3_carries_8 22 rfl rfl
theorem dksX3_carries_10 : cX3_carries.data.toList.drop 233 = dktX3_carries_10 := dk_seg dksX3_carries_9 24 rfl rfl
theorem dksX3_carries_11 : cX3_carries.data.toList.drop 257 = dktX3_carries_11 := dk_seg dksX3_carries_10 24 rfl rfl
theorem dX3_carries_0 : decode cX3_carries 0 = .ok (.iload_n 1, 1) := dk_27 (dk_at dksX3_carries_0 0 rfl rfl)
theorem dX3_carries_1 : decode cX3_carries 1 = .ok (.bipush 114, 2) := dk_16 114 (dk_at dksX3_carries_0 1 rfl rfl)
theorem dX3_carries_3 : decode cX3_carries 3 = .ok (.if_icmp .ne 40, 3) := dk_160 0 40 (dk_at dksX3_carries_0 3 rfl rfl)
theorem dX3_carries_6 : decode cX3_carries 6 = .ok (.aload_n 0, 1) := dk_42 (dk_at dksX3_carries_0 6 rfl rfl)
theorem dX3_carries_7 : decode cX3_carries 7 = .ok (.aload_n 0, 1) := dk_42 (dk_at dksX3_carries_0 7 rfl rfl)
theorem dX3_carries_8 : decode cX3_carries 8 = .ok (.getfield 30, 3) := dk_180 0 30 (dk_at dksX3_carries_0 8 rfl rfl)
theorem dX3_carries_11 : decode cX3_carries 11 = .ok (.iconst 0, 1) := dk_3 (dk_at dksX3_carries_0 11 rfl rfl)
theorem dX3_carries_12 : decode cX3_carries 12 = .ok (.iaload, 1) := dk_46 (dk_at dksX3_carries_0 12 rfl rfl)
theorem dX3_carries_13 : decode cX3_carries 13 = .ok (.aload_n 0, 1) := dk_42 (dk_at dksX3_carries_0 13 rfl rfl)
theorem dX3_carries_14 : decode cX3_carries 14 = .ok (.getfield 30, 3) := dk_180 0 30 (dk_at dksX3_carries_0 14 rfl rfl)
theorem dX3_carries_17 : decode cX3_carries 17 = .ok (.iconst 1, 1) := dk_4 (dk_at dksX3_carries_0 17 rfl rfl)
theorem dX3_carries_18 : decode cX3_carries 18 = .ok (.iaload, 1) := dk_46 (dk_at dksX3_carries_0 18 rfl rfl)
theorem dX3_carries_19 : decode cX3_carries 19 = .ok (.aload_n 0, 1) := dk_42 (dk_at dksX3_carries_0 19 rfl rfl)
theorem dX3_carries_20 : decode cX3_carries 20 = .ok (.getfield 30, 3) := dk_180 0 30 (dk_at dksX3_carries_0 20 rfl rfl)
theorem dX3_carries_23 : decode cX3_carries 23 = .ok (.iconst 2, 1) := dk_5 (dk_at dksX3_carries_0 23 rfl rfl)
theorem dX3_carries_24 : decode cX3_carries 24 = .ok (.iaload, 1) := dk_46 (dk_at dksX3_carries_1 0 rfl rfl)
theorem dX3_carries_25 : decode cX3_carries 25 = .ok (.aload_n 0, 1) := dk_42 (dk_at dksX3_carries_1 1 rfl rfl)
theorem dX3_carries_26 : decode cX3_carries 26 = .ok (.getfield 30, 3) := dk_180 0 30 (dk_at dksX3_carries_1 2 rfl rfl)
theorem dX3_carries_29 : decode cX3_carries 29 = .ok (.iconst 3, 1) := dk_6 (dk_at dksX3_carries_1 5 rfl rfl)
theorem dX3_carries_30 : decode cX3_carries 30 = .ok (.iaload, 1) := dk_46 (dk_at dksX3_carries_1 6 rfl rfl)
theorem dX3_carries_31 : decode cX3_carries 31 = .ok (.aload_n 0, 1) := dk_42 (dk_at dksX3_carries_1 7 rfl rfl)
theorem dX3_carries_32 : decode cX3_carries 32 = .ok (.getfield 30, 3) := dk_180 0 30 (dk_at dksX3_carries_1 8 rfl rfl)
theorem dX3_carries_35 : decode cX3_carries 35 = .ok (.iconst 4, 1) := dk_7 (dk_at dksX3_carries_1 11 rfl rfl)
theorem dX3_carries_36 : decode cX3_carries 36 = .ok (.iaload, 1) := dk_46 (dk_at dksX3_carries_1 12 rfl rfl)
theorem dX3_carries_37 : decode cX3_carries 37 = .ok (.invokevirtual 129, 3) := dk_182 0 129 (dk_at dksX3_carries_1 13 rfl rfl)
theorem dX3_carries_40 : decode cX3_carries 40 = .ok (.goto 81, 3) := dk_167 0 81 (dk_at dksX3_carries_1 16 rfl rfl)
theorem dX3_carries_43 : decode cX3_carries 43 = .ok (.iload_n 1, 1) := dk_27 (dk_at dksX3_carries_1 19 rfl rfl)
theorem dX3_carries_44 : decode cX3_carries 44 = .ok (.bipush 109, 2) := dk_16 109 (dk_at dksX3_carries_1 20 rfl rfl)
theorem dX3_carries_46 : decode cX3_carries 46 = .ok (.if_icmp .ne 34, 3) := dk_160 0 34 (dk_at dksX3_carries_2 0 rfl rfl)
theorem dX3_carries_49 : decode cX3_carries 49 = .ok (.aload_n 0, 1) := dk_42 (dk_at dksX3_carries_2 3 rfl rfl)
theorem dX3_carries_50 : decode cX3_carries 50 = .ok (.aload_n 0, 1) := dk_42 (dk_at dksX3_carries_2 4 rfl rfl)
theorem dX3_carries_51 : decode cX3_carries 51 = .ok (.getfield 30, 3) := dk_180 0 30 (dk_at dksX3_carries_2 5 rfl rfl)
theorem dX3_carries_54 : decode cX3_carries 54 = .ok (.iconst 0, 1) := dk_3 (dk_at dksX3_carries_2 8 rfl rfl)
theorem dX3_carries_55 : decode cX3_carries 55 = .ok (.iaload, 1) := dk_46 (dk_at dksX3_carries_2 9 rfl rfl)
theorem dX3_carries_56 : decode cX3_carries 56 = .ok (.aload_n 0, 1) := dk_42 (dk_at dksX3_carries_2 10 rfl rfl)
theorem dX3_carries_57 : decode cX3_carries 57 = .ok (.getfield 30, 3) := dk_180 0 30 (dk_at dksX3_carries_2 11 rfl rfl)
theorem dX3_carries_60 : decode cX3_carries 60 = .ok (.iconst 1, 1) := dk_4 (dk_at dksX3_carries_2 14 rfl rfl)
theorem dX3_carries_61 : decode cX3_carries 61 = .ok (.iaload, 1) := dk_46 (dk_at dksX3_carries_2 15 rfl rfl)
theorem dX3_carries_62 : decode cX3_carries 62 = .ok (.aload_n 0, 1) := dk_42 (dk_at dksX3_carries_2 16 rfl rfl)
theorem dX3_carries_63 : decode cX3_carries 63 = .ok (.getfield 30, 3) := dk_180 0 30 (dk_at dksX3_carries_2 17 rfl rfl)
theorem dX3_carries_66 : decode cX3_carries 66 = .ok (.iconst 2, 1) := dk_5 (dk_at dksX3_carries_2 20 rfl rfl)
theorem dX3_carries_67 : decode cX3_carries 67 = .ok (.iaload, 1) := dk_46 (dk_at dksX3_carries_2 21 rfl rfl)
theorem dX3_carries_68 : decode cX3_carries 68 = .ok (.aload_n 0, 1) := dk_42 (dk_at dksX3_carries_2 22 rfl rfl)
theorem dX3_carries_69 : decode cX3_carries 69 = .ok (.getfield 30, 3) := dk_180 0 30 (dk_at dksX3_carries_3 0 rfl rfl)
theorem dX3_carries_72 : decode cX3_carries 72 = .ok (.iconst 3, 1) := dk_6 (dk_at dksX3_carries_3 3 rfl rfl)
theorem dX3_carries_73 : decode cX3_carries 73 = .ok (.iaload, 1) := dk_46 (dk_at dksX3_carries_3 4 rfl rfl)
theorem dX3_carries_74 : decode cX3_carries 74 = .ok (.invokevirtual 146, 3) := dk_182 0 146 (dk_at dksX3_carries_3 5 rfl rfl)
theorem dX3_carries_77 : decode cX3_carries 77 = .ok (.goto 44, 3) := dk_167 0 44 (dk_at dksX3_carries_3 8 rfl rfl)
theorem dX3_carries_80 : decode cX3_carries 80 = .ok (.iload_n 1, 1) := dk_27 (dk_at dksX3_carries_3 11 rfl rfl)
theorem dX3_carries_81 : decode cX3_carries 81 = .ok (.bipush 99, 2) := dk_16 99 (dk_at dksX3_carries_3 12 rfl rfl)
theorem dX3_carries_83 : decode cX3_carries 83 = .ok (.if_icmp .ne 22, 3) := dk_160 0 22 (dk_at dksX3_carries_3 14 rfl rfl)
theorem dX3_carries_86 : decode cX3_carries 86 = .ok (.aload_n 0, 1) := dk_42 (dk_at dksX3_carries_3 17 rfl rfl)
theorem dX3_carries_87 : decode cX3_carries 87 = .ok (.aload_n 0, 1) := dk_42 (dk_at dksX3_carries_3 18 rfl rfl)
theorem dX3_carries_88 : decode cX3_carries 88 = .ok (.getfield 30, 3) := dk_180 0 30 (dk_at dksX3_carries_3 19 rfl rfl)
theorem dX3_carries_91 : decode cX3_carries 91 = .ok (.iconst 0, 1) := dk_3 (dk_at dksX3_carries_3 22 rfl rfl)
theorem dX3_carries_92 : decode cX3_carries 92 = .ok (.iaload, 1) := dk_46 (dk_at dksX3_carries_3 23 rfl rfl)
theorem dX3_carries_93 : decode cX3_carries 93 = .ok (.aload_n 0, 1) := dk_42 (dk_at dksX3_carries_4 0 rfl rfl)
theorem dX3_carries_94 : decode cX3_carries 94 = .ok (.getfield 30, 3) := dk_180 0 30 (dk_at dksX3_carries_4 1 rfl rfl)
theorem dX3_carries_97 : decode cX3_carries 97 = .ok (.iconst 1, 1) := dk_4 (dk_at dksX3_carries_4 4 rfl rfl)
theorem dX3_carries_98 : decode cX3_carries 98 = .ok (.iaload, 1) := dk_46 (dk_at dksX3_carries_4 5 rfl rfl)
theorem dX3_carries_99 : decode cX3_carries 99 = .ok (.invokevirtual 152, 3) := dk_182 0 152 (dk_at dksX3_carries_4 6 rfl rfl)
theorem dX3_carries_102 : decode cX3_carries 102 = .ok (.goto 19, 3) := dk_167 0 19 (dk_at dksX3_carries_4 9 rfl rfl)
theorem dX3_carries_105 : decode cX3_carries 105 = .ok (.aload_n 0, 1) := dk_42 (dk_at dksX3_carries_4 12 rfl rfl)
theorem dX3_carries_106 : decode cX3_carries 106 = .ok (.aload_n 0, 1) := dk_42 (dk_at dksX3_carries_4 13 rfl rfl)
theorem dX3_carries_107 : decode cX3_carries 107 = .ok (.getfield 30, 3) := dk_180 0 30 (dk_at dksX3_carries_4 14 rfl rfl)
theorem dX3_carries_110 : decode cX3_carries 110 = .ok (.iconst 0, 1) := dk_3 (dk_at dksX3_carries_4 17 rfl rfl)
theorem dX3_carries_111 : decode cX3_carries 111 = .ok (.iaload, 1) := dk_46 (dk_at dksX3_carries_4 18 rfl rfl)
theorem dX3_carries_112 : decode cX3_carries 112 = .ok (.aload_n 0, 1) := dk_42 (dk_at dksX3_carries_4 19 rfl rfl)
theorem dX3_carries_113 : decode cX3_carries 113 = .ok (.getfield 30, 3) := dk_180 0 30 (dk_at dksX3_carries_4 20 rfl rfl)
theorem dX3_carries_116 : decode cX3_carries 116 = .ok (.iconst 1, 1) := dk_4 (dk_at dksX3_carries_4 23 rfl rfl)
theorem dX3_carries_117 : decode cX3_carries 117 = .ok (.iaload, 1) := dk_46 (dk_at dksX3_carries_5 0 rfl rfl)
theorem dX3_carries_118 : decode cX3_carries 118 = .ok (.invokevirtual 160, 3) := dk_182 0 160 (dk_at dksX3_carries_5 1 rfl rfl)
theorem dX3_carries_121 : decode cX3_carries 121 = .ok (.istore_n 2, 1) := dk_61 (dk_at dksX3_carries_5 4 rfl rfl)
theorem dX3_carries_122 : decode cX3_carries 122 = .ok (.iload_n 2, 1) := dk_28 (dk_at dksX3_carries_5 5 rfl rfl)
theorem dX3_carries_123 : decode cX3_carries 123 = .ok (.ifCond .ne 125, 3) := dk_154 0 125 (dk_at dksX3_carries_5 6 rfl rfl)
theorem dX3_carries_126 : decode cX3_carries 126 = .ok (.iload_n 1, 1) := dk_27 (dk_at dksX3_carries_5 9 rfl rfl)
theorem dX3_carries_127 : decode cX3_carries 127 = .ok (.bipush 114, 2) := dk_16 114 (dk_at dksX3_carries_5 10 rfl rfl)
theorem dX3_carries_129 : decode cX3_carries 129 = .ok (.if_icmp .ne 40, 3) := dk_160 0 40 (dk_at dksX3_carries_5 12 rfl rfl)
theorem dX3_carries_132 : decode cX3_carries 132 = .ok (.aload_n 0, 1) := dk_42 (dk_at dksX3_carries_5 15 rfl rfl)
theorem dX3_carries_133 : decode cX3_carries 133 = .ok (.aload_n 0, 1) := dk_42 (dk_at dksX3_carries_5 16 rfl rfl)
theorem dX3_carries_134 : decode cX3_carries 134 = .ok (.getfield 30, 3) := dk_180 0 30 (dk_at dksX3_carries_5 17 rfl rfl)
theorem dX3_carries_137 : decode cX3_carries 137 = .ok (.iconst 0, 1) := dk_3 (dk_at dksX3_carries_5 20 rfl rfl)
theorem dX3_carries_138 : decode cX3_carries 138 = .ok (.iaload, 1) := dk_46 (dk_at dksX3_carries_5 21 rfl rfl)
theorem dX3_carries_139 : decode cX3_carries 139 = .ok (.aload_n 0, 1) := dk_42 (dk_at dksX3_carries_5 22 rfl rfl)
theorem dX3_carries_140 : decode cX3_carries 140 = .ok (.getfield 30, 3) := dk_180 0 30 (dk_at dksX3_carries_6 0 rfl rfl)
theorem dX3_carries_143 : decode cX3_carries 143 = .ok (.iconst 1, 1) := dk_4 (dk_at dksX3_carries_6 3 rfl rfl)
theorem dX3_carries_144 : decode cX3_carries 144 = .ok (.iaload, 1) := dk_46 (dk_at dksX3_carries_6 4 rfl rfl)
theorem dX3_carries_145 : decode cX3_carries 145 = .ok (.aload_n 0, 1) := dk_42 (dk_at dksX3_carries_6 5 rfl rfl)
theorem dX3_carries_146 : decode cX3_carries 146 = .ok (.getfield 30, 3) := dk_180 0 30 (dk_at dksX3_carries_6 6 rfl rfl)
theorem dX3_carries_149 : decode cX3_carries 149 = .ok (.iconst 2, 1) := dk_5 (dk_at dksX3_carries_6 9 rfl rfl)
theorem dX3_carries_150 : decode cX3_carries 150 = .ok (.iaload, 1) := dk_46 (dk_at dksX3_carries_6 10 rfl rfl)
theorem dX3_carries_151 : decode cX3_carries 151 = .ok (.aload_n 0, 1) := dk_42 (dk_at dksX3_carries_6 11 rfl rfl)
theorem dX3_carries_152 : decode cX3_carries 152 = .ok (.getfield 30, 3) := dk_180 0 30 (dk_at dksX3_carries_6 12 rfl rfl)
theorem dX3_carries_155 : decode cX3_carries 155 = .ok (.iconst 3, 1) := dk_6 (dk_at dksX3_carries_6 15 rfl rfl)
theorem dX3_carries_156 : decode cX3_carries 156 = .ok (.iaload, 1) := dk_46 (dk_at dksX3_carries_6 16 rfl rfl)
theorem dX3_carries_157 : decode cX3_carries 157 = .ok (.aload_n 0, 1) := dk_42 (dk_at dksX3_carries_6 17 rfl rfl)
theorem dX3_carries_158 : decode cX3_carries 158 = .ok (.getfield 30, 3) := dk_180 0 30 (dk_at dksX3_carries_6 18 rfl rfl)
theorem dX3_carries_161 : decode cX3_carries 161 = .ok (.iconst 4, 1) := dk_7 (dk_at dksX3_carries_6 21 rfl rfl)
theorem dX3_carries_162 : decode cX3_carries 162 = .ok (.iaload, 1) := dk_46 (dk_at dksX3_carries_6 22 rfl rfl)
theorem dX3_carries_163 : decode cX3_carries 163 = .ok (.invokevirtual 133, 3) := dk_182 0 133 (dk_at dksX3_carries_7 0 rfl rfl)
theorem dX3_carries_166 : decode cX3_carries 166 = .ok (.goto 81, 3) := dk_167 0 81 (dk_at dksX3_carries_7 3 rfl rfl)
theorem dX3_carries_169 : decode cX3_carries 169 = .ok (.iload_n 1, 1) := dk_27 (dk_at dksX3_carries_7 6 rfl rfl)
theorem dX3_carries_170 : decode cX3_carries 170 = .ok (.bipush 109, 2) := dk_16 109 (dk_at dksX3_carries_7 7 rfl rfl)
theorem dX3_carries_172 : decode cX3_carries 172 = .ok (.if_icmp .ne 34, 3) := dk_160 0 34 (dk_at dksX3_carries_7 9 rfl rfl)
theorem dX3_carries_175 : decode cX3_carries 175 = .ok (.aload_n 0, 1) := dk_42 (dk_at dksX3_carries_7 12 rfl rfl)
theorem dX3_carries_176 : decode cX3_carries 176 = .ok (.aload_n 0, 1) := dk_42 (dk_at dksX3_carries_7 13 rfl rfl)
theorem dX3_carries_177 : decode cX3_carries 177 = .ok (.getfield 30, 3) := dk_180 0 30 (dk_at dksX3_carries_7 14 rfl rfl)
theorem dX3_carries_180 : decode cX3_carries 180 = .ok (.iconst 0, 1) := dk_3 (dk_at dksX3_carries_7 17 rfl rfl)
theorem dX3_carries_181 : decode cX3_carries 181 = .ok (.iaload, 1) := dk_46 (dk_at dksX3_carries_7 18 rfl rfl)
theorem dX3_carries_182 : decode cX3_carries 182 = .ok (.aload_n 0, 1) := dk_42 (dk_at dksX3_carries_7 19 rfl rfl)
theorem dX3_carries_183 : decode cX3_carries 183 = .ok (.getfield 30, 3) := dk_180 0 30 (dk_at dksX3_carries_7 20 rfl rfl)
theorem dX3_carries_186 : decode cX3_carries 186 = .ok (.iconst 1, 1) := dk_4 (dk_at dksX3_carries_7 23 rfl rfl)
theorem dX3_carries_187 : decode cX3_carries 187 = .ok (.iaload, 1) := dk_46 (dk_at dksX3_carries_8 0 rfl rfl)
theorem dX3_carries_188 : decode cX3_carries 188 = .ok (.aload_n 0, 1) := dk_42 (dk_at dksX3_carries_8 1 rfl rfl)
theorem dX3_carries_189 : decode cX3_carries 189 = .ok (.getfield 30, 3) := dk_180 0 30 (dk_at dksX3_carries_8 2 rfl rfl)
theorem dX3_carries_192 : decode cX3_carries 192 = .ok (.iconst 2, 1) := dk_5 (dk_at dksX3_carries_8 5 rfl rfl)
theorem dX3_carries_193 : decode cX3_carries 193 = .ok (.iaload, 1) := dk_46 (dk_at dksX3_carries_8 6 rfl rfl)
theorem dX3_carries_194 : decode cX3_carries 194 = .ok (.aload_n 0, 1) := dk_42 (dk_at dksX3_carries_8 7 rfl rfl)
theorem dX3_carries_195 : decode cX3_carries 195 = .ok (.getfield 30, 3) := dk_180 0 30 (dk_at dksX3_carries_8 8 rfl rfl)
theorem dX3_carries_198 : decode cX3_carries 198 = .ok (.iconst 3, 1) := dk_6 (dk_at dksX3_carries_8 11 rfl rfl)
theorem dX3_carries_199 : decode cX3_carries 199 = .ok (.iaload, 1) := dk_46 (dk_at dksX3_carries_8 12 rfl rfl)
theorem dX3_carries_200 : decode cX3_carries 200 = .ok (.invokevirtual 149, 3) := dk_182 0 149 (dk_at dksX3_carries_8 13 rfl rfl)
theorem dX3_carries_203 : decode cX3_carries 203 = .ok (.goto 44, 3) := dk_167 0 44 (dk_at dksX3_carries_8 16 rfl rfl)
theorem dX3_carries_206 : decode cX3_carries 206 = .ok (.iload_n 1, 1) := dk_27 (dk_at dksX3_carries_8 19 rfl rfl)
theorem dX3_carries_207 : decode cX3_carries 207 = .ok (.bipush 99, 2) := dk_16 99 (dk_at dksX3_carries_8 20 rfl rfl)
theorem dX3_carries_209 : decode cX3_carries 209 = .ok (.if_icmp .ne 22, 3) := dk_160 0 22 (dk_at dksX3_carries_9 0 rfl rfl)
theorem dX3_carries_212 : decode cX3_carries 212 = .ok (.aload_n 0, 1) := dk_42 (dk_at dksX3_carries_9 3 rfl rfl)
theorem dX3_carries_213 : decode cX3_carries 213 = .ok (.aload_n 0, 1) := dk_42 (dk_at dksX3_carries_9 4 rfl rfl)
theorem dX3_carries_214 : decode cX3_carries 214 = .ok (.getfield 30, 3) := dk_180 0 30 (dk_at dksX3_carries_9 5 rfl rfl)
theorem dX3_carries_217 : decode cX3_carries 217 = .ok (.iconst 0, 1) := dk_3 (dk_at dksX3_carries_9 8 rfl rfl)
theorem dX3_carries_218 : decode cX3_carries 218 = .ok (.iaload, 1) := dk_46 (dk_at dksX3_carries_9 9 rfl rfl)
theorem dX3_carries_219 : decode cX3_carries 219 = .ok (.aload_n 0, 1) := dk_42 (dk_at dksX3_carries_9 10 rfl rfl)
theorem dX3_carries_220 : decode cX3_carries 220 = .ok (.getfield 30, 3) := dk_180 0 30 (dk_at dksX3_carries_9 11 rfl rfl)
theorem dX3_carries_223 : decode cX3_carries 223 = .ok (.iconst 1, 1) := dk_4 (dk_at dksX3_carries_9 14 rfl rfl)
theorem dX3_carries_224 : decode cX3_carries 224 = .ok (.iaload, 1) := dk_46 (dk_at dksX3_carries_9 15 rfl rfl)
theorem dX3_carries_225 : decode cX3_carries 225 = .ok (.invokevirtual 155, 3) := dk_182 0 155 (dk_at dksX3_carries_9 16 rfl rfl)
theorem dX3_carries_228 : decode cX3_carries 228 = .ok (.goto 19, 3) := dk_167 0 19 (dk_at dksX3_carries_9 19 rfl rfl)
theorem dX3_carries_231 : decode cX3_carries 231 = .ok (.aload_n 0, 1) := dk_42 (dk_at dksX3_carries_9 22 rfl rfl)
theorem dX3_carries_232 : decode cX3_carries 232 = .ok (.aload_n 0, 1) := dk_42 (dk_at dksX3_carries_9 23 rfl rfl)
theorem dX3_carries_233 : decode cX3_carries 233 = .ok (.getfield 30, 3) := dk_180 0 30 (dk_at dksX3_carries_10 0 rfl rfl)
theorem dX3_carries_236 : decode cX3_carries 236 = .ok (.iconst 0, 1) := dk_3 (dk_at dksX3_carries_10 3 rfl rfl)
theorem dX3_carries_237 : decode cX3_carries 237 = .ok (.iaload, 1) := dk_46 (dk_at dksX3_carries_10 4 rfl rfl)
theorem dX3_carries_238 : decode cX3_carries 238 = .ok (.aload_n 0, 1) := dk_42 (dk_at dksX3_carries_10 5 rfl rfl)
theorem dX3_carries_239 : decode cX3_carries 239 = .ok (.getfield 30, 3) := dk_180 0 30 (dk_at dksX3_carries_10 6 rfl rfl)
theorem dX3_carries_242 : decode cX3_carries 242 = .ok (.iconst 1, 1) := dk_4 (dk_at dksX3_carries_10 9 rfl rfl)
theorem dX3_carries_243 : decode cX3_carries 243 = .ok (.iaload, 1) := dk_46 (dk_at dksX3_carries_10 10 rfl rfl)
theorem dX3_carries_244 : decode cX3_carries 244 = .ok (.invokevirtual 163, 3) := dk_182 0 163 (dk_at dksX3_carries_10 11 rfl rfl)
theorem dX3_carries_247 : decode cX3_carries 247 = .ok (.istore_n 3, 1) := dk_62 (dk_at dksX3_carries_10 14 rfl rfl)
theorem dX3_carries_248 : decode cX3_carries 248 = .ok (.iload_n 2, 1) := dk_28 (dk_at dksX3_carries_10 15 rfl rfl)
theorem dX3_carries_249 : decode cX3_carries 249 = .ok (.ifCond .ne 7, 3) := dk_154 0 7 (dk_at dksX3_carries_10 16 rfl rfl)
theorem dX3_carries_252 : decode cX3_carries 252 = .ok (.iconst 1, 1) := dk_4 (dk_at dksX3_carries_10 19 rfl rfl)
theorem dX3_carries_253 : decode cX3_carries 253 = .ok (.goto 4, 3) := dk_167 0 4 (dk_at dksX3_carries_10 20 rfl rfl)
theorem dX3_carries_256 : decode cX3_carries 256 = .ok (.iconst 0, 1) := dk_3 (dk_at dksX3_carries_10 23 rfl rfl)
theorem dX3_carries_257 : decode cX3_carries 257 = .ok (.ireturn, 1) := dk_172 (dk_at dksX3_carries_11 0 rfl rfl)
abbrev cX3_orders : ByteArray := prog_10_method_83_code
def yX3_orders : MethodName := ⟨RX3, "orders", "()I"⟩
def dkwX3_orders_1 : List UInt8 := [180, 0, 211, 172]
abbrev dktX3_orders_1 : List UInt8 := dkwX3_orders_1 ++ []
def dkwX3_orders_0 : List UInt8 := [42, 3, 182, 0, 218, 154, 0, 6, 16, 252, 172, 42, 182, 0, 52, 42, 4, 182, 0, 218, 60, 42]
abbrev dktX3_orders_0 : List UInt8 := dkwX3_orders_0 ++ dktX3_orders_1
theorem dksX3_orders_0 : cX3_orders.data.toList.drop 0 = dktX3_orders_0 := by decide +kernel
theorem dksX3_orders_1 : cX3_orders.data.toList.drop 22 = dktX3_orders_1 := dk_seg dksX3_orders_0 22 rfl rfl
theorem dX3_orders_0 : decode cX3_orders 0 = .ok (.aload_n 0, 1) := dk_42 (dk_at dksX3_orders_0 0 rfl rfl)
theorem dX3_orders_1 : decode cX3_orders 1 = .ok (.iconst 0, 1) := dk_3 (dk_at dksX3_orders_0 1 rfl rfl)
theorem dX3_orders_2 : decode cX3_orders 2 = .ok (.invokevirtual 218, 3) := dk_182 0 218 (dk_at dksX3_orders_0 2 rfl rfl)
theorem dX3_orders_5 : decode cX3_orders 5 = .ok (.ifCond .ne 6, 3) := dk_154 0 6 (dk_at dksX3_orders_0 5 rfl rfl)
theorem dX3_orders_8 : decode cX3_orders 8 = .ok (.bipush (-4), 2) := dk_16 252 (dk_at dksX3_orders_0 8 rfl rfl)
theorem dX3_orders_10 : decode cX3_orders 10 = .ok (.ireturn, 1) := dk_172 (dk_at dksX3_orders_0 10 rfl rfl)
theorem dX3_orders_11 : decode cX3_orders 11 = .ok (.aload_n 0, 1) := dk_42 (dk_at dksX3_orders_0 11 rfl rfl)
theorem dX3_orders_12 : decode cX3_orders 12 = .ok (.invokevirtual 52, 3) := dk_182 0 52 (dk_at dksX3_orders_0 12 rfl rfl)
theorem dX3_orders_15 : decode cX3_orders 15 = .ok (.aload_n 0, 1) := dk_42 (dk_at dksX3_orders_0 15 rfl rfl)
theorem dX3_orders_16 : decode cX3_orders 16 = .ok (.iconst 1, 1) := dk_4 (dk_at dksX3_orders_0 16 rfl rfl)
theorem dX3_orders_17 : decode cX3_orders 17 = .ok (.invokevirtual 218, 3) := dk_182 0 218 (dk_at dksX3_orders_0 17 rfl rfl)
theorem dX3_orders_20 : decode cX3_orders 20 = .ok (.istore_n 1, 1) := dk_60 (dk_at dksX3_orders_0 20 rfl rfl)
theorem dX3_orders_21 : decode cX3_orders 21 = .ok (.aload_n 0, 1) := dk_42 (dk_at dksX3_orders_0 21 rfl rfl)
theorem dX3_orders_22 : decode cX3_orders 22 = .ok (.getfield 211, 3) := dk_180 0 211 (dk_at dksX3_orders_1 0 rfl rfl)
theorem dX3_orders_25 : decode cX3_orders 25 = .ok (.ireturn, 1) := dk_172 (dk_at dksX3_orders_1 3 rfl rfl)
abbrev cX3_undo : ByteArray := prog_10_method_84_code
def yX3_undo : MethodName := ⟨RX3, "undo", "()I"⟩
def dkwX3_undo_1 : List UInt8 := [4, 100, 181, 0, 33, 42, 180, 0, 33, 172]
abbrev dktX3_undo_1 : List UInt8 := dkwX3_undo_1 ++ []
def dkwX3_undo_0 : List UInt8 := [42, 180, 0, 33, 154, 0, 6, 16, 252, 172, 42, 42, 180, 0, 33, 3, 182, 0, 37, 42, 89, 180, 0, 33]
abbrev dktX3_undo_0 : List UInt8 := dkwX3_undo_0 ++ dktX3_undo_1
theorem dksX3_undo_0 : cX3_undo.data.toList.drop 0 = dktX3_undo_0 := by decide +kernel
theorem dksX3_undo_1 : cX3_undo.data.toList.drop 24 = dktX3_undo_1 := dk_seg dksX3_undo_0 24 rfl rfl
theorem dX3_undo_0 : decode cX3_undo 0 = .ok (.aload_n 0, 1) := dk_42 (dk_at dksX3_undo_0 0 rfl rfl)
theorem dX3_undo_1 : decode cX3_undo 1 = .ok (.getfield 33, 3) := dk_180 0 33 (dk_at dksX3_undo_0 1 rfl rfl)
theorem dX3_undo_4 : decode cX3_undo 4 = .ok (.ifCond .ne 6, 3) := dk_154 0 6 (dk_at dksX3_undo_0 4 rfl rfl)
theorem dX3_undo_7 : decode cX3_undo 7 = .ok (.bipush (-4), 2) := dk_16 252 (dk_at dksX3_undo_0 7 rfl rfl)
theorem dX3_undo_9 : decode cX3_undo 9 = .ok (.ireturn, 1) := dk_172 (dk_at dksX3_undo_0 9 rfl rfl)
theorem dX3_undo_10 : decode cX3_undo 10 = .ok (.aload_n 0, 1) := dk_42 (dk_at dksX3_undo_0 10 rfl rfl)
theorem dX3_undo_11 : decode cX3_undo 11 = .ok (.aload_n 0, 1) := dk_42 (dk_at dksX3_undo_0 11 rfl rfl)
theorem dX3_undo_12 : decode cX3_undo 12 = .ok (.getfield 33, 3) := dk_180 0 33 (dk_at dksX3_undo_0 12 rfl rfl)
theorem dX3_undo_15 : decode cX3_undo 15 = .ok (.iconst 0, 1) := dk_3 (dk_at dksX3_undo_0 15 rfl rfl)
theorem dX3_undo_16 : decode cX3_undo 16 = .ok (.invokevirtual 37, 3) := dk_182 0 37 (dk_at dksX3_undo_0 16 rfl rfl)
theorem dX3_undo_19 : decode cX3_undo 19 = .ok (.aload_n 0, 1) := dk_42 (dk_at dksX3_undo_0 19 rfl rfl)
theorem dX3_undo_20 : decode cX3_undo 20 = .ok (.dup, 1) := dk_89 (dk_at dksX3_undo_0 20 rfl rfl)
theorem dX3_undo_21 : decode cX3_undo 21 = .ok (.getfield 33, 3) := dk_180 0 33 (dk_at dksX3_undo_0 21 rfl rfl)
theorem dX3_undo_24 : decode cX3_undo 24 = .ok (.iconst 1, 1) := dk_4 (dk_at dksX3_undo_1 0 rfl rfl)
theorem dX3_undo_25 : decode cX3_undo 25 = .ok (.isub, 1) := dk_100 (dk_at dksX3_undo_1 1 rfl rfl)
theorem dX3_undo_26 : decode cX3_undo 26 = .ok (.putfield 33, 3) := dk_181 0 33 (dk_at dksX3_undo_1 2 rfl rfl)
theorem dX3_undo_29 : decode cX3_undo 29 = .ok (.aload_n 0, 1) := dk_42 (dk_at dksX3_undo_1 5 rfl rfl)
theorem dX3_undo_30 : decode cX3_undo 30 = .ok (.getfield 33, 3) := dk_180 0 33 (dk_at dksX3_undo_1 6 rfl rfl)
theorem dX3_undo_33 : decode cX3_undo 33 = .ok (.ireturn, 1) := dk_172 (dk_at dksX3_undo_1 9 rfl rfl)
abbrev cX3_keep : ByteArray := prog_10_method_85_code
def yX3_keep : MethodName := ⟨RX3, "keep", "(I)I"⟩
def dkwX3_keep_1 : List UInt8 := [180, 0, 17, 27, 4, 84, 42, 180, 0, 7, 3, 46, 172]
abbrev dktX3_keep_1 : List UInt8 := dkwX3_keep_1 ++ []
def dkwX3_keep_0 : List UInt8 := [27, 3, 4, 184, 0, 41, 154, 0, 6, 16, 254, 172, 42, 3, 16, 6, 27, 96, 182, 0, 37, 42]
abbrev dktX3_keep_0 : List UInt8 := dkwX3_keep_0 ++ dktX3_keep_1
theorem dksX3_keep_0 : cX3_keep.data.toList.drop 0 = dktX3_keep_0 := by decide +kernel
theorem dksX3_keep_1 : cX3_keep.data.toList.drop 22 = dktX3_keep_1 := dk_seg dksX3_keep_0 22 rfl rfl
theorem dX3_keep_0 : decode cX3_keep 0 = .ok (.iload_n 1, 1) := dk_27 (dk_at dksX3_keep_0 0 rfl rfl)
theorem dX3_keep_1 : decode cX3_keep 1 = .ok (.iconst 0, 1) := dk_3 (dk_at dksX3_keep_0 1 rfl rfl)
theorem dX3_keep_2 : decode cX3_keep 2 = .ok (.iconst 1, 1) := dk_4 (dk_at dksX3_keep_0 2 rfl rfl)
theorem dX3_keep_3 : decode cX3_keep 3 = .ok (.invokestatic 41, 3) := dk_184 0 41 (dk_at dksX3_keep_0 3 rfl rfl)
theorem dX3_keep_6 : decode cX3_keep 6 = .ok (.ifCond .ne 6, 3) := dk_154 0 6 (dk_at dksX3_keep_0 6 rfl rfl)
theorem dX3_keep_9 : decode cX3_keep 9 = .ok (.bipush (-2), 2) := dk_16 254 (dk_at dksX3_keep_0 9 rfl rfl)
theorem dX3_keep_11 : decode cX3_keep 11 = .ok (.ireturn, 1) := dk_172 (dk_at dksX3_keep_0 11 rfl rfl)
theorem dX3_keep_12 : decode cX3_keep 12 = .ok (.aload_n 0, 1) := dk_42 (dk_at dksX3_keep_0 12 rfl rfl)
theorem dX3_keep_13 : decode cX3_keep 13 = .ok (.iconst 0, 1) := dk_3 (dk_at dksX3_keep_0 13 rfl rfl)
theorem dX3_keep_14 : decode cX3_keep 14 = .ok (.bipush 6, 2) := dk_16 6 (dk_at dksX3_keep_0 14 rfl rfl)
theorem dX3_keep_16 : decode cX3_keep 16 = .ok (.iload_n 1, 1) := dk_27 (dk_at dksX3_keep_0 16 rfl rfl)
theorem dX3_keep_17 : decode cX3_keep 17 = .ok (.iadd, 1) := dk_96 (dk_at dksX3_keep_0 17 rfl rfl)
theorem dX3_keep_18 : decode cX3_keep 18 = .ok (.invokevirtual 37, 3) := dk_182 0 37 (dk_at dksX3_keep_0 18 rfl rfl)
theorem dX3_keep_21 : decode cX3_keep 21 = .ok (.aload_n 0, 1) := dk_42 (dk_at dksX3_keep_0 21 rfl rfl)
theorem dX3_keep_22 : decode cX3_keep 22 = .ok (.getfield 17, 3) := dk_180 0 17 (dk_at dksX3_keep_1 0 rfl rfl)
theorem dX3_keep_25 : decode cX3_keep 25 = .ok (.iload_n 1, 1) := dk_27 (dk_at dksX3_keep_1 3 rfl rfl)
theorem dX3_keep_26 : decode cX3_keep 26 = .ok (.iconst 1, 1) := dk_4 (dk_at dksX3_keep_1 4 rfl rfl)
theorem dX3_keep_27 : decode cX3_keep 27 = .ok (.bastore, 1) := dk_84 (dk_at dksX3_keep_1 5 rfl rfl)
theorem dX3_keep_28 : decode cX3_keep 28 = .ok (.aload_n 0, 1) := dk_42 (dk_at dksX3_keep_1 6 rfl rfl)
theorem dX3_keep_29 : decode cX3_keep 29 = .ok (.getfield 7, 3) := dk_180 0 7 (dk_at dksX3_keep_1 7 rfl rfl)
theorem dX3_keep_32 : decode cX3_keep 32 = .ok (.iconst 0, 1) := dk_3 (dk_at dksX3_keep_1 10 rfl rfl)
theorem dX3_keep_33 : decode cX3_keep 33 = .ok (.iaload, 1) := dk_46 (dk_at dksX3_keep_1 11 rfl rfl)
theorem dX3_keep_34 : decode cX3_keep 34 = .ok (.ireturn, 1) := dk_172 (dk_at dksX3_keep_1 12 rfl rfl)
abbrev cX3_back : ByteArray := prog_10_method_86_code
def yX3_back : MethodName := ⟨RX3, "back", "(I)I"⟩
def dkwX3_back_1 : List UInt8 := [42, 182, 0, 52, 42, 16, 6, 27, 96, 3, 182, 0, 37, 42, 180, 0, 7, 3, 46, 172]
abbrev dktX3_back_1 : List UInt8 := dkwX3_back_1 ++ []
def dkwX3_back_0 : List UInt8 := [27, 3, 4, 184, 0, 41, 154, 0, 6, 16, 254, 172, 42, 180, 0, 17, 27, 51, 154, 0, 6, 16, 252, 172]
abbrev dktX3_back_0 : List UInt8 := dkwX3_back_0 ++ dktX3_back_1
theorem dksX3_back_0 : cX3_back.data.toList.drop 0 = dktX3_back_0 := by decide +kernel
theorem dksX3_back_1 : cX3_back.data.toList.drop 24 = dktX3_back_1 := dk_seg dksX3_back_0 24 rfl rfl
theorem dX3_back_0 : decode cX3_back 0 = .ok (.iload_n 1, 1) := dk_27 (dk_at dksX3_back_0 0 rfl rfl)
theorem dX3_back_1 : decode cX3_back 1 = .ok (.iconst 0, 1) := dk_3 (dk_at dksX3_back_0 1 rfl rfl)
theorem dX3_back_2 : decode cX3_back 2 = .ok (.iconst 1, 1) := dk_4 (dk_at dksX3_back_0 2 rfl rfl)
theorem dX3_back_3 : decode cX3_back 3 = .ok (.invokestatic 41, 3) := dk_184 0 41 (dk_at dksX3_back_0 3 rfl rfl)
theorem dX3_back_6 : decode cX3_back 6 = .ok (.ifCond .ne 6, 3) := dk_154 0 6 (dk_at dksX3_back_0 6 rfl rfl)
theorem dX3_back_9 : decode cX3_back 9 = .ok (.bipush (-2), 2) := dk_16 254 (dk_at dksX3_back_0 9 rfl rfl)
theorem dX3_back_11 : decode cX3_back 11 = .ok (.ireturn, 1) := dk_172 (dk_at dksX3_back_0 11 rfl rfl)
theorem dX3_back_12 : decode cX3_back 12 = .ok (.aload_n 0, 1) := dk_42 (dk_at dksX3_back_0 12 rfl rfl)
theorem dX3_back_13 : decode cX3_back 13 = .ok (.getfield 17, 3) := dk_180 0 17 (dk_at dksX3_back_0 13 rfl rfl)
theorem dX3_back_16 : decode cX3_back 16 = .ok (.iload_n 1, 1) := dk_27 (dk_at dksX3_back_0 16 rfl rfl)
theorem dX3_back_17 : decode cX3_back 17 = .ok (.baload, 1) := dk_51 (dk_at dksX3_back_0 17 rfl rfl)
theorem dX3_back_18 : decode cX3_back 18 = .ok (.ifCond .ne 6, 3) := dk_154 0 6 (dk_at dksX3_back_0 18 rfl rfl)
theorem dX3_back_21 : decode cX3_back 21 = .ok (.bipush (-4), 2) := dk_16 252 (dk_at dksX3_back_0 21 rfl rfl)
theorem dX3_back_23 : decode cX3_back 23 = .ok (.ireturn, 1) := dk_172 (dk_at dksX3_back_0 23 rfl rfl)
theorem dX3_back_24 : decode cX3_back 24 = .ok (.aload_n 0, 1) := dk_42 (dk_at dksX3_back_1 0 rfl rfl)
theorem dX3_back_25 : decode cX3_back 25 = .ok (.invokevirtual 52, 3) := dk_182 0 52 (dk_at dksX3_back_1 1 rfl rfl)
theorem dX3_back_28 : decode cX3_back 28 = .ok (.aload_n 0, 1) := dk_42 (dk_at dksX3_back_1 4 rfl rfl)
theorem dX3_back_29 : decode cX3_back 29 = .ok (.bipush 6, 2) := dk_16 6 (dk_at dksX3_back_1 5 rfl rfl)
theorem dX3_back_31 : decode cX3_back 31 = .ok (.iload_n 1, 1) := dk_27 (dk_at dksX3_back_1 7 rfl rfl)
theorem dX3_back_32 : decode cX3_back 32 = .ok (.iadd, 1) := dk_96 (dk_at dksX3_back_1 8 rfl rfl)
theorem dX3_back_33 : decode cX3_back 33 = .ok (.iconst 0, 1) := dk_3 (dk_at dksX3_back_1 9 rfl rfl)
theorem dX3_back_34 : decode cX3_back 34 = .ok (.invokevirtual 37, 3) := dk_182 0 37 (dk_at dksX3_back_1 10 rfl rfl)
theorem dX3_back_37 : decode cX3_back 37 = .ok (.aload_n 0, 1) := dk_42 (dk_at dksX3_back_1 13 rfl rfl)
theorem dX3_back_38 : decode cX3_back 38 = .ok (.getfield 7, 3) := dk_180 0 7 (dk_at dksX3_back_1 14 rfl rfl)
theorem dX3_back_41 : decode cX3_back 41 = .ok (.iconst 0, 1) := dk_3 (dk_at dksX3_back_1 17 rfl rfl)
theorem dX3_back_42 : decode cX3_back 42 = .ok (.iaload, 1) := dk_46 (dk_at dksX3_back_1 18 rfl rfl)
theorem dX3_back_43 : decode cX3_back 43 = .ok (.ireturn, 1) := dk_172 (dk_at dksX3_back_1 19 rfl rfl)
abbrev cX3_digest : ByteArray := prog_10_method_88_code
def yX3_digest : MethodName := ⟨RX3, "digest", "()J"⟩
def dkwX3_digest_8 : List UInt8 := [180, 0, 7, 16, 94, 27, 96, 46, 133, 182, 0, 232, 132, 1, 1, 167, 255, 226, 42, 180, 0, 223, 173]
abbrev dktX3_digest_8 : List UInt8 := dkwX3_digest_8 ++ []
def dkwX3_digest_7 : List UInt8 := [132, 1, 1, 167, 255, 238, 3, 60, 27, 16, 6, 42, 180, 0, 7, 7, 46, 104, 162, 0, 23, 42, 42]
abbrev dktX3_digest_7 : List UInt8 := dkwX3_digest_7 ++ dktX3_digest_8
def dkwX3_digest_6 : List UInt8 := [132, 1, 1, 167, 255, 234, 3, 60, 27, 16, 7, 162, 0, 18, 42, 42, 27, 182, 0, 236, 182, 0, 232]
abbrev dktX3_digest_6 : List UInt8 := dkwX3_digest_6 ++ dktX3_digest_7
def dkwX3_digest_5 : List UInt8 := [167, 255, 219, 3, 60, 27, 7, 162, 0, 23, 42, 42, 180, 0, 7, 16, 6, 27, 96, 46, 133, 182, 0, 232]
abbrev dktX3_digest_5 : List UInt8 := dkwX3_digest_5 ++ dktX3_digest_6
def dkwX3_digest_4 : List UInt8 := [162, 0, 20, 42, 42, 27, 28, 182, 0, 89, 133, 182, 0, 232, 132, 2, 1, 167, 255, 237, 132, 1, 1]
abbrev dktX3_digest_4 : List UInt8 := dkwX3_digest_4 ++ dktX3_digest_5
def dkwX3_digest_3 : List UInt8 := [132, 1, 1, 167, 255, 218, 3, 60, 27, 42, 180, 0, 7, 6, 46, 162, 0, 33, 3, 61, 28, 8]
abbrev dktX3_digest_3 : List UInt8 := dkwX3_digest_3 ++ dktX3_digest_4
def dkwX3_digest_2 : List UInt8 := [16, 10, 162, 0, 20, 42, 42, 27, 28, 182, 0, 83, 133, 182, 0, 232, 132, 2, 1, 167, 255, 236]
abbrev dktX3_digest_2 : List UInt8 := dkwX3_digest_2 ++ dktX3_digest_3
def dkwX3_digest_1 : List UInt8 := [182, 0, 232, 132, 1, 1, 167, 255, 237, 3, 60, 27, 42, 180, 0, 7, 5, 46, 162, 0, 34, 3, 61, 28]
abbrev dktX3_digest_1 : List UInt8 := dkwX3_digest_1 ++ dktX3_digest_2
def dkwX3_digest_0 : List UInt8 := [42, 20, 0, 227, 181, 0, 223, 3, 60, 27, 16, 10, 162, 0, 19, 42, 42, 27, 182, 0, 229, 133]
abbrev dktX3_digest_0 : List UInt8 := dkwX3_digest_0 ++ dktX3_digest_1
theorem dksX3_digest_0 : cX3_digest.data.toList.drop 0 = dktX3_digest_0 := by decide +kernel
theorem dksX3_digest_1 : cX3_digest.data.toList.drop 22 = dktX3_digest_1 := dk_seg dksX3_digest_0 22 rfl rfl
theorem dksX3_digest_2 : cX3_digest.data.toList.drop 46 = dktX3_digest_2 := dk_seg dksX3_digest_1 24 rfl rfl
theorem dksX3_digest_3 : cX3_digest.data.toList.drop 68 = dktX3_digest_3 := dk_seg dksX3_digest_2 22 rfl rfl
theorem dksX3_digest_4 : cX3_digest.data.toList.drop 90 = dktX3_digest_4 := dk_seg dksX3_digest_3 22 rfl rfl
theorem dksX3_digest_5 : cX3_digest.data.toList.drop 113 = dktX3_digest_5 := dk_seg dksX3_digest_4 23 rfl rfl
theorem dksX3_digest_6 : cX3_digest.data.toList.drop 137 = dktX3_digest_6 := dk_seg dksX3_digest_5 24 rfl rfl
theorem dksX3_digest_7 : cX3_digest.data.toList.drop 160 = dktX3_digest_7 := dk_seg dksX3_digest_6 23 rfl rfl
theorem dksX3_digest_8 : cX3_digest.data.toList.drop 183 = dktX3_digest_8 := dk_seg dksX3_digest_7 23 rfl rfl
theorem dX3_digest_0 : decode cX3_digest 0 = .ok (.aload_n 0, 1) := dk_42 (dk_at dksX3_digest_0 0 rfl rfl)
theorem dX3_digest_1 : decode cX3_digest 1 = .ok (.ldc2_w 227, 3) := dk_20 0 227 (dk_at dksX3_digest_0 1 rfl rfl)
theorem dX3_digest_4 : decode cX3_digest 4 = .ok (.putfield 223, 3) := dk_181 0 223 (dk_at dksX3_digest_0 4 rfl rfl)
theorem dX3_digest_7 : decode cX3_digest 7 = .ok (.iconst 0, 1) := dk_3 (dk_at dksX3_digest_0 7 rfl rfl)
theorem dX3_digest_8 : decode cX3_digest 8 = .ok (.istore_n 1, 1) := dk_60 (dk_at dksX3_digest_0 8 rfl rfl)
theorem dX3_digest_9 : decode cX3_digest 9 = .ok (.iload_n 1, 1) := dk_27 (dk_at dksX3_digest_0 9 rfl rfl)
theorem dX3_digest_10 : decode cX3_digest 10 = .ok (.bipush 10, 2) := dk_16 10 (dk_at dksX3_digest_0 10 rfl rfl)
theorem dX3_digest_12 : decode cX3_digest 12 = .ok (.if_icmp .ge 19, 3) := dk_162 0 19 (dk_at dksX3_digest_0 12 rfl rfl)
theorem dX3_digest_15 : decode cX3_digest 15 = .ok (.aload_n 0, 1) := dk_42 (dk_at dksX3_digest_0 15 rfl rfl)
theorem dX3_digest_16 : decode cX3_digest 16 = .ok (.aload_n 0, 1) := dk_42 (dk_at dksX3_digest_0 16 rfl rfl)
theorem dX3_digest_17 : decode cX3_digest 17 = .ok (.iload_n 1, 1) := dk_27 (dk_at dksX3_digest_0 17 rfl rfl)
theorem dX3_digest_18 : decode cX3_digest 18 = .ok (.invokevirtual 229, 3) := dk_182 0 229 (dk_at dksX3_digest_0 18 rfl rfl)
theorem dX3_digest_21 : decode cX3_digest 21 = .ok (.i2l, 1) := dk_133 (dk_at dksX3_digest_0 21 rfl rfl)
theorem dX3_digest_22 : decode cX3_digest 22 = .ok (.invokevirtual 232, 3) := dk_182 0 232 (dk_at dksX3_digest_1 0 rfl rfl)
theorem dX3_digest_25 : decode cX3_digest 25 = .ok (.iinc 1 1, 3) := dk_132 1 1 (dk_at dksX3_digest_1 3 rfl rfl)
theorem dX3_digest_28 : decode cX3_digest 28 = .ok (.goto (-19), 3) := dk_167 255 237 (dk_at dksX3_digest_1 6 rfl rfl)
theorem dX3_digest_31 : decode cX3_digest 31 = .ok (.iconst 0, 1) := dk_3 (dk_at dksX3_digest_1 9 rfl rfl)
theorem dX3_digest_32 : decode cX3_digest 32 = .ok (.istore_n 1, 1) := dk_60 (dk_at dksX3_digest_1 10 rfl rfl)
theorem dX3_digest_33 : decode cX3_digest 33 = .ok (.iload_n 1, 1) := dk_27 (dk_at dksX3_digest_1 11 rfl rfl)
theorem dX3_digest_34 : decode cX3_digest 34 = .ok (.aload_n 0, 1) := dk_42 (dk_at dksX3_digest_1 12 rfl rfl)
theorem dX3_digest_35 : decode cX3_digest 35 = .ok (.getfield 7, 3) := dk_180 0 7 (dk_at dksX3_digest_1 13 rfl rfl)
theorem dX3_digest_38 : decode cX3_digest 38 = .ok (.iconst 2, 1) := dk_5 (dk_at dksX3_digest_1 16 rfl rfl)
theorem dX3_digest_39 : decode cX3_digest 39 = .ok (.iaload, 1) := dk_46 (dk_at dksX3_digest_1 17 rfl rfl)
theorem dX3_digest_40 : decode cX3_digest 40 = .ok (.if_icmp .ge 34, 3) := dk_162 0 34 (dk_at dksX3_digest_1 18 rfl rfl)
theorem dX3_digest_43 : decode cX3_digest 43 = .ok (.iconst 0, 1) := dk_3 (dk_at dksX3_digest_1 21 rfl rfl)
theorem dX3_digest_44 : decode cX3_digest 44 = .ok (.istore_n 2, 1) := dk_61 (dk_at dksX3_digest_1 22 rfl rfl)
theorem dX3_digest_45 : decode cX3_digest 45 = .ok (.iload_n 2, 1) := dk_28 (dk_at dksX3_digest_1 23 rfl rfl)
theorem dX3_digest_46 : decode cX3_digest 46 = .ok (.bipush 10, 2) := dk_16 10 (dk_at dksX3_digest_2 0 rfl rfl)
theorem dX3_digest_48 : decode cX3_digest 48 = .ok (.if_icmp .ge 20, 3) := dk_162 0 20 (dk_at dksX3_digest_2 2 rfl rfl)
theorem dX3_digest_51 : decode cX3_digest 51 = .ok (.aload_n 0, 1) := dk_42 (dk_at dksX3_digest_2 5 rfl rfl)
theorem dX3_digest_52 : decode cX3_digest 52 = .ok (.aload_n 0, 1) := dk_42 (dk_at dksX3_digest_2 6 rfl rfl)
theorem dX3_digest_53 : decode cX3_digest 53 = .ok (.iload_n 1, 1) := dk_27 (dk_at dksX3_digest_2 7 rfl rfl)
theorem dX3_digest_54 : decode cX3_digest 54 = .ok (.iload_n 2, 1) := dk_28 (dk_at dksX3_digest_2 8 rfl rfl)
theorem dX3_digest_55 : decode cX3_digest 55 = .ok (.invokevirtual 83, 3) := dk_182 0 83 (dk_at dksX3_digest_2 9 rfl rfl)
theorem dX3_digest_58 : decode cX3_digest 58 = .ok (.i2l, 1) := dk_133 (dk_at dksX3_digest_2 12 rfl rfl)
theorem dX3_digest_59 : decode cX3_digest 59 = .ok (.invokevirtual 232, 3) := dk_182 0 232 (dk_at dksX3_digest_2 13 rfl rfl)
theorem dX3_digest_62 : decode cX3_digest 62 = .ok (.iinc 2 1, 3) := dk_132 2 1 (dk_at dksX3_digest_2 16 rfl rfl)
theorem dX3_digest_65 : decode cX3_digest 65 = .ok (.goto (-20), 3) := dk_167 255 236 (dk_at dksX3_digest_2 19 rfl rfl)
theorem dX3_digest_68 : decode cX3_digest 68 = .ok (.iinc 1 1, 3) := dk_132 1 1 (dk_at dksX3_digest_3 0 rfl rfl)
theorem dX3_digest_71 : decode cX3_digest 71 = .ok (.goto (-38), 3) := dk_167 255 218 (dk_at dksX3_digest_3 3 rfl rfl)
theorem dX3_digest_74 : decode cX3_digest 74 = .ok (.iconst 0, 1) := dk_3 (dk_at dksX3_digest_3 6 rfl rfl)
theorem dX3_digest_75 : decode cX3_digest 75 = .ok (.istore_n 1, 1) := dk_60 (dk_at dksX3_digest_3 7 rfl rfl)
theorem dX3_digest_76 : decode cX3_digest 76 = .ok (.iload_n 1, 1) := dk_27 (dk_at dksX3_digest_3 8 rfl rfl)
theorem dX3_digest_77 : decode cX3_digest 77 = .ok (.aload_n 0, 1) := dk_42 (dk_at dksX3_digest_3 9 rfl rfl)
theorem dX3_digest_78 : decode cX3_digest 78 = .ok (.getfield 7, 3) := dk_180 0 7 (dk_at dksX3_digest_3 10 rfl rfl)
theorem dX3_digest_81 : decode cX3_digest 81 = .ok (.iconst 3, 1) := dk_6 (dk_at dksX3_digest_3 13 rfl rfl)
theorem dX3_digest_82 : decode cX3_digest 82 = .ok (.iaload, 1) := dk_46 (dk_at dksX3_digest_3 14 rfl rfl)
theorem dX3_digest_83 : decode cX3_digest 83 = .ok (.if_icmp .ge 33, 3) := dk_162 0 33 (dk_at dksX3_digest_3 15 rfl rfl)
theorem dX3_digest_86 : decode cX3_digest 86 = .ok (.iconst 0, 1) := dk_3 (dk_at dksX3_digest_3 18 rfl rfl)
theorem dX3_digest_87 : decode cX3_digest 87 = .ok (.istore_n 2, 1) := dk_61 (dk_at dksX3_digest_3 19 rfl rfl)
theorem dX3_digest_88 : decode cX3_digest 88 = .ok (.iload_n 2, 1) := dk_28 (dk_at dksX3_digest_3 20 rfl rfl)
theorem dX3_digest_89 : decode cX3_digest 89 = .ok (.iconst 5, 1) := dk_8 (dk_at dksX3_digest_3 21 rfl rfl)
theorem dX3_digest_90 : decode cX3_digest 90 = .ok (.if_icmp .ge 20, 3) := dk_162 0 20 (dk_at dksX3_digest_4 0 rfl rfl)
theorem dX3_digest_93 : decode cX3_digest 93 = .ok (.aload_n 0, 1) := dk_42 (dk_at dksX3_digest_4 3 rfl rfl)
theorem dX3_digest_94 : decode cX3_digest 94 = .ok (.aload_n 0, 1) := dk_42 (dk_at dksX3_digest_4 4 rfl rfl)
theorem dX3_digest_95 : decode cX3_digest 95 = .ok (.iload_n 1, 1) := dk_27 (dk_at dksX3_digest_4 5 rfl rfl)
theorem dX3_digest_96 : decode cX3_digest 96 = .ok (.iload_n 2, 1) := dk_28 (dk_at dksX3_digest_4 6 rfl rfl)
theorem dX3_digest_97 : decode cX3_digest 97 = .ok (.invokevirtual 89, 3) := dk_182 0 89 (dk_at dksX3_digest_4 7 rfl rfl)
theorem dX3_digest_100 : decode cX3_digest 100 = .ok (.i2l, 1) := dk_133 (dk_at dksX3_digest_4 10 rfl rfl)
theorem dX3_digest_101 : decode cX3_digest 101 = .ok (.invokevirtual 232, 3) := dk_182 0 232 (dk_at dksX3_digest_4 11 rfl rfl)
theorem dX3_digest_104 : decode cX3_digest 104 = .ok (.iinc 2 1, 3) := dk_132 2 1 (dk_at dksX3_digest_4 14 rfl rfl)
theorem dX3_digest_107 : decode cX3_digest 107 = .ok (.goto (-19), 3) := dk_167 255 237 (dk_at dksX3_digest_4 17 rfl rfl)
theorem dX3_digest_110 : decode cX3_digest 110 = .ok (.iinc 1 1, 3) := dk_132 1 1 (dk_at dksX3_digest_4 20 rfl rfl)
theorem dX3_digest_113 : decode cX3_digest 113 = .ok (.goto (-37), 3) := dk_167 255 219 (dk_at dksX3_digest_5 0 rfl rfl)
theorem dX3_digest_116 : decode cX3_digest 116 = .ok (.iconst 0, 1) := dk_3 (dk_at dksX3_digest_5 3 rfl rfl)
theorem dX3_digest_117 : decode cX3_digest 117 = .ok (.istore_n 1, 1) := dk_60 (dk_at dksX3_digest_5 4 rfl rfl)
theorem dX3_digest_118 : decode cX3_digest 118 = .ok (.iload_n 1, 1) := dk_27 (dk_at dksX3_digest_5 5 rfl rfl)
theorem dX3_digest_119 : decode cX3_digest 119 = .ok (.iconst 4, 1) := dk_7 (dk_at dksX3_digest_5 6 rfl rfl)
theorem dX3_digest_120 : decode cX3_digest 120 = .ok (.if_icmp .ge 23, 3) := dk_162 0 23 (dk_at dksX3_digest_5 7 rfl rfl)
theorem dX3_digest_123 : decode cX3_digest 123 = .ok (.aload_n 0, 1) := dk_42 (dk_at dksX3_digest_5 10 rfl rfl)
theorem dX3_digest_124 : decode cX3_digest 124 = .ok (.aload_n 0, 1) := dk_42 (dk_at dksX3_digest_5 11 rfl rfl)
theorem dX3_digest_125 : decode cX3_digest 125 = .ok (.getfield 7, 3) := dk_180 0 7 (dk_at dksX3_digest_5 12 rfl rfl)
theorem dX3_digest_128 : decode cX3_digest 128 = .ok (.bipush 6, 2) := dk_16 6 (dk_at dksX3_digest_5 15 rfl rfl)
theorem dX3_digest_130 : decode cX3_digest 130 = .ok (.iload_n 1, 1) := dk_27 (dk_at dksX3_digest_5 17 rfl rfl)
theorem dX3_digest_131 : decode cX3_digest 131 = .ok (.iadd, 1) := dk_96 (dk_at dksX3_digest_5 18 rfl rfl)
theorem dX3_digest_132 : decode cX3_digest 132 = .ok (.iaload, 1) := dk_46 (dk_at dksX3_digest_5 19 rfl rfl)
theorem dX3_digest_133 : decode cX3_digest 133 = .ok (.i2l, 1) := dk_133 (dk_at dksX3_digest_5 20 rfl rfl)
theorem dX3_digest_134 : decode cX3_digest 134 = .ok (.invokevirtual 232, 3) := dk_182 0 232 (dk_at dksX3_digest_5 21 rfl rfl)
theorem dX3_digest_137 : decode cX3_digest 137 = .ok (.iinc 1 1, 3) := dk_132 1 1 (dk_at dksX3_digest_6 0 rfl rfl)
theorem dX3_digest_140 : decode cX3_digest 140 = .ok (.goto (-22), 3) := dk_167 255 234 (dk_at dksX3_digest_6 3 rfl rfl)
theorem dX3_digest_143 : decode cX3_digest 143 = .ok (.iconst 0, 1) := dk_3 (dk_at dksX3_digest_6 6 rfl rfl)
theorem dX3_digest_144 : decode cX3_digest 144 = .ok (.istore_n 1, 1) := dk_60 (dk_at dksX3_digest_6 7 rfl rfl)
theorem dX3_digest_145 : decode cX3_digest 145 = .ok (.iload_n 1, 1) := dk_27 (dk_at dksX3_digest_6 8 rfl rfl)
theorem dX3_digest_146 : decode cX3_digest 146 = .ok (.bipush 7, 2) := dk_16 7 (dk_at dksX3_digest_6 9 rfl rfl)
theorem dX3_digest_148 : decode cX3_digest 148 = .ok (.if_icmp .ge 18, 3) := dk_162 0 18 (dk_at dksX3_digest_6 11 rfl rfl)
theorem dX3_digest_151 : decode cX3_digest 151 = .ok (.aload_n 0, 1) := dk_42 (dk_at dksX3_digest_6 14 rfl rfl)
theorem dX3_digest_152 : decode cX3_digest 152 = .ok (.aload_n 0, 1) := dk_42 (dk_at dksX3_digest_6 15 rfl rfl)
theorem dX3_digest_153 : decode cX3_digest 153 = .ok (.iload_n 1, 1) := dk_27 (dk_at dksX3_digest_6 16 rfl rfl)
theorem dX3_digest_154 : decode cX3_digest 154 = .ok (.invokevirtual 236, 3) := dk_182 0 236 (dk_at dksX3_digest_6 17 rfl rfl)
theorem dX3_digest_157 : decode cX3_digest 157 = .ok (.invokevirtual 232, 3) := dk_182 0 232 (dk_at dksX3_digest_6 20 rfl rfl)
theorem dX3_digest_160 : decode cX3_digest 160 = .ok (.iinc 1 1, 3) := dk_132 1 1 (dk_at dksX3_digest_7 0 rfl rfl)
theorem dX3_digest_163 : decode cX3_digest 163 = .ok (.goto (-18), 3) := dk_167 255 238 (dk_at dksX3_digest_7 3 rfl rfl)
theorem dX3_digest_166 : decode cX3_digest 166 = .ok (.iconst 0, 1) := dk_3 (dk_at dksX3_digest_7 6 rfl rfl)
theorem dX3_digest_167 : decode cX3_digest 167 = .ok (.istore_n 1, 1) := dk_60 (dk_at dksX3_digest_7 7 rfl rfl)
theorem dX3_digest_168 : decode cX3_digest 168 = .ok (.iload_n 1, 1) := dk_27 (dk_at dksX3_digest_7 8 rfl rfl)
theorem dX3_digest_169 : decode cX3_digest 169 = .ok (.bipush 6, 2) := dk_16 6 (dk_at dksX3_digest_7 9 rfl rfl)
theorem dX3_digest_171 : decode cX3_digest 171 = .ok (.aload_n 0, 1) := dk_42 (dk_at dksX3_digest_7 11 rfl rfl)
theorem dX3_digest_172 : decode cX3_digest 172 = .ok (.getfield 7, 3) := dk_180 0 7 (dk_at dksX3_digest_7 12 rfl rfl)
theorem dX3_digest_175 : decode cX3_digest 175 = .ok (.iconst 4, 1) := dk_7 (dk_at dksX3_digest_7 15 rfl rfl)
theorem dX3_digest_176 : decode cX3_digest 176 = .ok (.iaload, 1) := dk_46 (dk_at dksX3_digest_7 16 rfl rfl)
theorem dX3_digest_177 : decode cX3_digest 177 = .ok (.imul, 1) := dk_104 (dk_at dksX3_digest_7 17 rfl rfl)
theorem dX3_digest_178 : decode cX3_digest 178 = .ok (.if_icmp .ge 23, 3) := dk_162 0 23 (dk_at dksX3_digest_7 18 rfl rfl)
theorem dX3_digest_181 : decode cX3_digest 181 = .ok (.aload_n 0, 1) := dk_42 (dk_at dksX3_digest_7 21 rfl rfl)
theorem dX3_digest_182 : decode cX3_digest 182 = .ok (.aload_n 0, 1) := dk_42 (dk_at dksX3_digest_7 22 rfl rfl)
theorem dX3_digest_183 : decode cX3_digest 183 = .ok (.getfield 7, 3) := dk_180 0 7 (dk_at dksX3_digest_8 0 rfl rfl)
theorem dX3_digest_186 : decode cX3_digest 186 = .ok (.bipush 94, 2) := dk_16 94 (dk_at dksX3_digest_8 3 rfl rfl)
theorem dX3_digest_188 : decode cX3_digest 188 = .ok (.iload_n 1, 1) := dk_27 (dk_at dksX3_digest_8 5 rfl rfl)
theorem dX3_digest_189 : decode cX3_digest 189 = .ok (.iadd, 1) := dk_96 (dk_at dksX3_digest_8 6 rfl rfl)
theorem dX3_digest_190 : decode cX3_digest 190 = .ok (.iaload, 1) := dk_46 (dk_at dksX3_digest_8 7 rfl rfl)
theorem dX3_digest_191 : decode cX3_digest 191 = .ok (.i2l, 1) := dk_133 (dk_at dksX3_digest_8 8 rfl rfl)
theorem dX3_digest_192 : decode cX3_digest 192 = .ok (.invokevirtual 232, 3) := dk_182 0 232 (dk_at dksX3_digest_8 9 rfl rfl)
theorem dX3_digest_195 : decode cX3_digest 195 = .ok (.iinc 1 1, 3) := dk_132 1 1 (dk_at dksX3_digest_8 12 rfl rfl)
theorem dX3_digest_198 : decode cX3_digest 198 = .ok (.goto (-30), 3) := dk_167 255 226 (dk_at dksX3_digest_8 15 rfl rfl)
theorem dX3_digest_201 : decode cX3_digest 201 = .ok (.aload_n 0, 1) := dk_42 (dk_at dksX3_digest_8 18 rfl rfl)
theorem dX3_digest_202 : decode cX3_digest 202 = .ok (.getfield 223, 3) := dk_180 0 223 (dk_at dksX3_digest_8 19 rfl rfl)
theorem dX3_digest_205 : decode cX3_digest 205 = .ok (.lreturn, 1) := dk_173 (dk_at dksX3_digest_8 22 rfl rfl)
abbrev cX3_note : ByteArray := prog_10_method_87_code
def yX3_note : MethodName := ⟨RX3, "note", "(J)V"⟩
def dkwX3_note_0 : List UInt8 := [42, 20, 0, 221, 42, 180, 0, 223, 105, 31, 97, 181, 0, 223, 177]
abbrev dktX3_note_0 : List UInt8 := dkwX3_note_0 ++ []
theorem dksX3_note_0 : cX3_note.data.toList.drop 0 = dktX3_note_0 := by decide +kernel
theorem dX3_note_0 : decode cX3_note 0 = .ok (.aload_n 0, 1) := dk_42 (dk_at dksX3_note_0 0 rfl rfl)
theorem dX3_note_1 : decode cX3_note 1 = .ok (.ldc2_w 221, 3) := dk_20 0 221 (dk_at dksX3_note_0 1 rfl rfl)
theorem dX3_note_4 : decode cX3_note 4 = .ok (.aload_n 0, 1) := dk_42 (dk_at dksX3_note_0 4 rfl rfl)
theorem dX3_note_5 : decode cX3_note 5 = .ok (.getfield 223, 3) := dk_180 0 223 (dk_at dksX3_note_0 5 rfl rfl)
theorem dX3_note_8 : decode cX3_note 8 = .ok (.lmul, 1) := dk_105 (dk_at dksX3_note_0 8 rfl rfl)
theorem dX3_note_9 : decode cX3_note 9 = .ok (.lload_n 1, 1) := dk_31 (dk_at dksX3_note_0 9 rfl rfl)
theorem dX3_note_10 : decode cX3_note 10 = .ok (.ladd, 1) := dk_97 (dk_at dksX3_note_0 10 rfl rfl)
theorem dX3_note_11 : decode cX3_note 11 = .ok (.putfield 223, 3) := dk_181 0 223 (dk_at dksX3_note_0 11 rfl rfl)
theorem dX3_note_14 : decode cX3_note 14 = .ok (.return_, 1) := dk_177 (dk_at dksX3_note_0 14 rfl rfl)
theorem q103 : (Jvm.Cond.initialized "WheatElevatorModel") ∈ lw_all := lw_g (lw_at lw_m1 15 rfl) rfl
theorem q568 : (Jvm.Cond.selects "WheatElevatorModel" ({ cls := "java/lang/Object", name := "getClass", desc := "()Ljava/lang/Class;" } : Jvm.MethodName) ({ cls := "java/lang/Object", name := "getClass", desc := "()Ljava/lang/Class;" } : Jvm.MethodName)) ∈ lw_all := lw_g (lw_at lw_m3 0 rfl) rfl
theorem q1161 : (Jvm.Cond.instantiable "WheatElevatorModel" (15 : Nat)) ∈ lw_all := lw_g (lw_at lw_m5 113 rfl) rfl
theorem q1163 : (Jvm.Cond.instanceMethod ({ cls := "WheatElevatorModel", name := "<init>", desc := "()V" } : Jvm.MethodName)) ∈ lw_all := lw_g (lw_at lw_m5 115 rfl) rfl
theorem q1164 : (Jvm.Cond.code ({ cls := "WheatElevatorModel", name := "<init>", desc := "()V" } : Jvm.MethodName) prog_10_method_1_code (2 : Nat) (Option.none : Option Jvm.ClassFile.FieldType)) ∈ lw_all := lw_g (lw_at lw_m5 116 rfl) rfl
theorem q1165 : (Jvm.Cond.methodLink "WheatElevatorModel" (1 : Nat) ({ cls := "java/lang/Object", name := "<init>", desc := "()V" } : Jvm.MethodName)) ∈ lw_all := lw_g (lw_at lw_m5 117 rfl) rfl
theorem q1166 : (Jvm.Cond.fieldLink "WheatElevatorModel" (7 : Nat) "WheatElevatorModel" "row" "[I") ∈ lw_all := lw_g (lw_at lw_m5 118 rfl) rfl
theorem q1167 : (Jvm.Cond.fieldLink "WheatElevatorModel" (13 : Nat) "WheatElevatorModel" "books" "[J") ∈ lw_all := lw_g (lw_at lw_m5 119 rfl) rfl
theorem q1168 : (Jvm.Cond.fieldLink "WheatElevatorModel" (33 : Nat) "WheatElevatorModel" "saved" "I") ∈ lw_all := lw_g (lw_at lw_m5 120 rfl) rfl
theorem q1169 : (Jvm.Cond.fieldLink "WheatElevatorModel" (17 : Nat) "WheatElevatorModel" "kept" "[Z") ∈ lw_all := lw_g (lw_at lw_m5 121 rfl) rfl
theorem q1170 : (Jvm.Cond.fieldLink "WheatElevatorModel" (21 : Nat) "WheatElevatorModel" "order" "[I") ∈ lw_all := lw_g (lw_at lw_m5 122 rfl) rfl
theorem q1171 : (Jvm.Cond.fieldLink "WheatElevatorModel" (169 : Nat) "WheatElevatorModel" "useful" "I") ∈ lw_all := lw_g (lw_at lw_m5 123 rfl) rfl
theorem q1172 : (Jvm.Cond.fieldLink "WheatElevatorModel" (24 : Nat) "WheatElevatorModel" "units" "[I") ∈ lw_all := lw_g (lw_at lw_m5 124 rfl) rfl
theorem q1173 : (Jvm.Cond.fieldLink "WheatElevatorModel" (27 : Nat) "WheatElevatorModel" "text" "[I") ∈ lw_all := lw_g (lw_at lw_m5 125 rfl) rfl
theorem q1174 : (Jvm.Cond.fieldLink "WheatElevatorModel" (187 : Nat) "WheatElevatorModel" "length" "I") ∈ lw_all := lw_g (lw_at lw_m5 126 rfl) rfl
theorem q1175 : (Jvm.Cond.fieldLink "WheatElevatorModel" (190 : Nat) "WheatElevatorModel" "at" "I") ∈ lw_all := lw_g (lw_at lw_m5 127 rfl) rfl
theorem q1176 : (Jvm.Cond.fieldLink "WheatElevatorModel" (197 : Nat) "WheatElevatorModel" "number" "I") ∈ lw_all := lw_g (lw_at lw_m5 128 rfl) rfl
theorem q1177 : (Jvm.Cond.fieldLink "WheatElevatorModel" (30 : Nat) "WheatElevatorModel" "told" "[I") ∈ lw_all := lw_g (lw_at lw_m5 129 rfl) rfl
theorem q1178 : (Jvm.Cond.fieldLink "WheatElevatorModel" (211 : Nat) "WheatElevatorModel" "done" "I") ∈ lw_all := lw_g (lw_at lw_m5 130 rfl) rfl
theorem q1179 : (Jvm.Cond.fieldLink "WheatElevatorModel" (204 : Nat) "WheatElevatorModel" "goes" "Z") ∈ lw_all := lw_g (lw_at lw_m5 131 rfl) rfl
theorem q1180 : (Jvm.Cond.fieldLink "WheatElevatorModel" (223 : Nat) "WheatElevatorModel" "h" "J") ∈ lw_all := lw_g (lw_at lw_m5 132 rfl) rfl
theorem q1181 : (Jvm.Cond.laysFinal "WheatElevatorModel" "WheatElevatorModel" "row" "[I") ∈ lw_all := lw_g (lw_at lw_m5 133 rfl) rfl
theorem q1182 : (Jvm.Cond.soleField "WheatElevatorModel" "row") ∈ lw_all := lw_g (lw_at lw_m5 134 rfl) rfl
theorem q1183 : (Jvm.Cond.laysFinal "WheatElevatorModel" "WheatElevatorModel" "books" "[J") ∈ lw_all := lw_g (lw_at lw_m5 135 rfl) rfl
theorem q1184 : (Jvm.Cond.soleField "WheatElevatorModel" "books") ∈ lw_all := lw_g (lw_at lw_m5 136 rfl) rfl
theorem q1185 : (Jvm.Cond.lays "WheatElevatorModel" "WheatElevatorModel" "saved" "I") ∈ lw_all := lw_g (lw_at lw_m5 137 rfl) rfl
theorem q1186 : (Jvm.Cond.soleField "WheatElevatorModel" "saved") ∈ lw_all := lw_g (lw_at lw_m5 138 rfl) rfl
theorem q1187 : (Jvm.Cond.laysFinal "WheatElevatorModel" "WheatElevatorModel" "kept" "[Z") ∈ lw_all := lw_g (lw_at lw_m5 139 rfl) rfl
theorem q1188 : (Jvm.Cond.soleField "WheatElevatorModel" "kept") ∈ lw_all := lw_g (lw_at lw_m5 140 rfl) rfl
theorem q1189 : (Jvm.Cond.laysFinal "WheatElevatorModel" "WheatElevatorModel" "order" "[I") ∈ lw_all := lw_g (lw_at lw_m5 141 rfl) rfl
theorem q1190 : (Jvm.Cond.soleField "WheatElevatorModel" "order") ∈ lw_all := lw_g (lw_at lw_m5 142 rfl) rfl
theorem q1191 : (Jvm.Cond.lays "WheatElevatorModel" "WheatElevatorModel" "useful" "I") ∈ lw_all := lw_g (lw_at lw_m5 143 rfl) rfl
theorem q1192 : (Jvm.Cond.soleField "WheatElevatorModel" "useful") ∈ lw_all := lw_g (lw_at lw_m5 144 rfl) rfl
theorem q1193 : (Jvm.Cond.laysFinal "WheatElevatorModel" "WheatElevatorModel" "units" "[I") ∈ lw_all := lw_g (lw_at lw_m5 145 rfl) rfl
theorem q1194 : (Jvm.Cond.soleField "WheatElevatorModel" "units") ∈ lw_all := lw_g (lw_at lw_m5 146 rfl) rfl
theorem q1195 : (Jvm.Cond.laysFinal "WheatElevatorModel" "WheatElevatorModel" "text" "[I") ∈ lw_all := lw_g (lw_at lw_m5 147 rfl) rfl
theorem q1196 : (Jvm.Cond.soleField "WheatElevatorModel" "text") ∈ lw_all := lw_g (lw_at lw_m5 148 rfl) rfl
theorem q1197 : (Jvm.Cond.lays "WheatElevatorModel" "WheatElevatorModel" "length" "I") ∈ lw_all := lw_g (lw_at lw_m5 149 rfl) rfl
theorem q1198 : (Jvm.Cond.soleField "WheatElevatorModel" "length") ∈ lw_all := lw_g (lw_at lw_m5 150 rfl) rfl
theorem q1199 : (Jvm.Cond.lays "WheatElevatorModel" "WheatElevatorModel" "at" "I") ∈ lw_all := lw_g (lw_at lw_m5 151 rfl) rfl
theorem q1200 : (Jvm.Cond.soleField "WheatElevatorModel" "at") ∈ lw_all := lw_g (lw_at lw_m5 152 rfl) rfl
theorem q1201 : (Jvm.Cond.lays "WheatElevatorModel" "WheatElevatorModel" "number" "I") ∈ lw_all := lw_g (lw_at lw_m5 153 rfl) rfl
theorem q1202 : (Jvm.Cond.soleField "WheatElevatorModel" "number") ∈ lw_all := lw_g (lw_at lw_m5 154 rfl) rfl
theorem q1203 : (Jvm.Cond.laysFinal "WheatElevatorModel" "WheatElevatorModel" "told" "[I") ∈ lw_all := lw_g (lw_at lw_m5 155 rfl) rfl
theorem q1204 : (Jvm.Cond.soleField "WheatElevatorModel" "told") ∈ lw_all := lw_g (lw_at lw_m5 156 rfl) rfl
theorem q1205 : (Jvm.Cond.lays "WheatElevatorModel" "WheatElevatorModel" "done" "I") ∈ lw_all := lw_g (lw_at lw_m5 157 rfl) rfl
theorem q1206 : (Jvm.Cond.soleField "WheatElevatorModel" "done") ∈ lw_all := lw_g (lw_at lw_m5 158 rfl) rfl
theorem q1207 : (Jvm.Cond.lays "WheatElevatorModel" "WheatElevatorModel" "goes" "Z") ∈ lw_all := lw_g (lw_at lw_m5 159 rfl) rfl
theorem q1208 : (Jvm.Cond.soleField "WheatElevatorModel" "goes") ∈ lw_all := lw_g (lw_at lw_m5 160 rfl) rfl
theorem q1209 : (Jvm.Cond.lays "WheatElevatorModel" "WheatElevatorModel" "h" "J") ∈ lw_all := lw_g (lw_at lw_m5 161 rfl) rfl
theorem q1210 : (Jvm.Cond.soleField "WheatElevatorModel" "h") ∈ lw_all := lw_g (lw_at lw_m5 162 rfl) rfl
theorem q1211 : (Jvm.Cond.superclass "WheatElevatorModel" "java/lang/Object") ∈ lw_all := lw_g (lw_at lw_m5 163 rfl) rfl
theorem q1215 : (Jvm.Cond.instanceMethod ({ cls := "WheatElevatorModel", name := "addBin", desc := "(I)I" } : Jvm.MethodName)) ∈ lw_all := lw_g (lw_at lw_m5 167 rfl) rfl
theorem q1216 : (Jvm.Cond.selects "WheatElevatorModel" ({ cls := "WheatElevatorModel", name := "addBin", desc := "(I)I" } : Jvm.MethodName) ({ cls := "WheatElevatorModel", name := "addBin", desc := "(I)I" } : Jvm.MethodName)) ∈ lw_all := lw_g (lw_at lw_m5 168 rfl) rfl
theorem q1217 : (Jvm.Cond.code ({ cls := "WheatElevatorModel", name := "addBin", desc := "(I)I" } : Jvm.MethodName) prog_10_method_17_code (4 : Nat) (Option.some Jvm.ClassFile.FieldType.int)) ∈ lw_all := lw_g (lw_at lw_m5 169 rfl) rfl
theorem q1218 : (Jvm.Cond.methodLink "WheatElevatorModel" (41 : Nat) ({ cls := "WheatElevatorModel", name := "in", desc := "(III)Z" } : Jvm.MethodName)) ∈ lw_all := lw_g (lw_at lw_m5 170 rfl) rfl
theorem q1219 : (Jvm.Cond.static ({ cls := "WheatElevatorModel", name := "in", desc := "(III)Z" } : Jvm.MethodName)) ∈ lw_all := lw_g (lw_at lw_m5 171 rfl) rfl
theorem q1220 : (Jvm.Cond.code ({ cls := "WheatElevatorModel", name := "in", desc := "(III)Z" } : Jvm.MethodName) prog_10_method_2_code (3 : Nat) (Option.some Jvm.ClassFile.FieldType.boolean)) ∈ lw_all := lw_g (lw_at lw_m5 172 rfl) rfl
theorem q1221 : (Jvm.Cond.methodLink "WheatElevatorModel" (52 : Nat) ({ cls := "WheatElevatorModel", name := "saves", desc := "()V" } : Jvm.MethodName)) ∈ lw_all := lw_g (lw_at lw_m5 173 rfl) rfl
theorem q1222 : (Jvm.Cond.privateMethod ({ cls := "WheatElevatorModel", name := "saves", desc := "()V" } : Jvm.MethodName)) ∈ lw_tbl := lw_at lw_m5 174 rfl
theorem q1223 : (Jvm.Cond.instanceMethod ({ cls := "WheatElevatorModel", name := "saves", desc := "()V" } : Jvm.MethodName)) ∈ lw_all := lw_g (lw_at lw_m5 175 rfl) rfl
theorem q1224 : (Jvm.Cond.code ({ cls := "WheatElevatorModel", name := "saves", desc := "()V" } : Jvm.MethodName) prog_10_method_4_code (2 : Nat) (Option.none : Option Jvm.ClassFile.FieldType)) ∈ lw_all := lw_g (lw_at lw_m5 176 rfl) rfl
theorem q1225 : (Jvm.Cond.methodLink "WheatElevatorModel" (37 : Nat) ({ cls := "WheatElevatorModel", name := "copies", desc := "(II)V" } : Jvm.MethodName)) ∈ lw_all := lw_g (lw_at lw_m5 177 rfl) rfl
theorem q1226 : (Jvm.Cond.privateMethod ({ cls := "WheatElevatorModel", name := "copies", desc := "(II)V" } : Jvm.MethodName)) ∈ lw_tbl := lw_at lw_m5 178 rfl
theorem q1227 : (Jvm.Cond.instanceMethod ({ cls := "WheatElevatorModel", name := "copies", desc := "(II)V" } : Jvm.MethodName)) ∈ lw_all := lw_g (lw_at lw_m5 179 rfl) rfl
theorem q1228 : (Jvm.Cond.code ({ cls := "WheatElevatorModel", name := "copies", desc := "(II)V" } : Jvm.MethodName) prog_10_method_3_code (4 : Nat) (Option.none : Option Jvm.ClassFile.FieldType)) ∈ lw_all := lw_g (lw_at lw_m5 180 rfl) rfl
theorem q1229 : (Jvm.Cond.methodLink "WheatElevatorModel" (55 : Nat) ({ cls := "WheatElevatorModel", name := "sets", desc := "(III)V" } : Jvm.MethodName)) ∈ lw_all := lw_g (lw_at lw_m5 181 rfl) rfl
theorem q1230 : (Jvm.Cond.privateMethod ({ cls := "WheatElevatorModel", name := "sets", desc := "(III)V" } : Jvm.MethodName)) ∈ lw_tbl := lw_at lw_m5 182 rfl
theorem q1231 : (Jvm.Cond.instanceMethod ({ cls := "WheatElevatorModel", name := "sets", desc := "(III)V" } : Jvm.MethodName)) ∈ lw_all := lw_g (lw_at lw_m5 183 rfl) rfl
theorem q1232 : (Jvm.Cond.code ({ cls := "WheatElevatorModel", name := "sets", desc := "(III)V" } : Jvm.MethodName) prog_10_method_6_code (4 : Nat) (Option.none : Option Jvm.ClassFile.FieldType)) ∈ lw_all := lw_g (lw_at lw_m5 184 rfl) rfl
theorem q1234 : (Jvm.Cond.instanceMethod ({ cls := "WheatElevatorModel", name := "setBand", desc := "(III)I" } : Jvm.MethodName)) ∈ lw_all := lw_g (lw_at lw_m5 186 rfl) rfl
theorem q1235 : (Jvm.Cond.selects "WheatElevatorModel" ({ cls := "WheatElevatorModel", name := "setBand", desc := "(III)I" } : Jvm.MethodName) ({ cls := "WheatElevatorModel", name := "setBand", desc := "(III)I" } : Jvm.MethodName)) ∈ lw_all := lw_g (lw_at lw_m5 187 rfl) rfl
theorem q1236 : (Jvm.Cond.code ({ cls := "WheatElevatorModel", name := "setBand", desc := "(III)I" } : Jvm.MethodName) prog_10_method_18_code (5 : Nat) (Option.some Jvm.ClassFile.FieldType.int)) ∈ lw_all := lw_g (lw_at lw_m5 188 rfl) rfl
theorem q1237 : (Jvm.Cond.methodLink "WheatElevatorModel" (59 : Nat) ({ cls := "WheatElevatorModel", name := "isBin", desc := "(I)Z" } : Jvm.MethodName)) ∈ lw_all := lw_g (lw_at lw_m5 189 rfl) rfl
theorem q1238 : (Jvm.Cond.privateMethod ({ cls := "WheatElevatorModel", name := "isBin", desc := "(I)Z" } : Jvm.MethodName)) ∈ lw_tbl := lw_at lw_m5 190 rfl
theorem q1239 : (Jvm.Cond.instanceMethod ({ cls := "WheatElevatorModel", name := "isBin", desc := "(I)Z" } : Jvm.MethodName)) ∈ lw_all := lw_g (lw_at lw_m5 191 rfl) rfl
theorem q1240 : (Jvm.Cond.code ({ cls := "WheatElevatorModel", name := "isBin", desc := "(I)Z" } : Jvm.MethodName) prog_10_method_9_code (2 : Nat) (Option.some Jvm.ClassFile.FieldType.boolean)) ∈ lw_all := lw_g (lw_at lw_m5 192 rfl) rfl
theorem q1241 : (Jvm.Cond.methodLink "WheatElevatorModel" (45 : Nat) ({ cls := "WheatElevatorModel", name := "of", desc := "(II)I" } : Jvm.MethodName)) ∈ lw_all := lw_g (lw_at lw_m5 193 rfl) rfl
theorem q1242 : (Jvm.Cond.privateMethod ({ cls := "WheatElevatorModel", name := "of", desc := "(II)I" } : Jvm.MethodName)) ∈ lw_tbl := lw_at lw_m5 194 rfl
theorem q1243 : (Jvm.Cond.instanceMethod ({ cls := "WheatElevatorModel", name := "of", desc := "(II)I" } : Jvm.MethodName)) ∈ lw_all := lw_g (lw_at lw_m5 195 rfl) rfl
theorem q1244 : (Jvm.Cond.code ({ cls := "WheatElevatorModel", name := "of", desc := "(II)I" } : Jvm.MethodName) prog_10_method_5_code (3 : Nat) (Option.some Jvm.ClassFile.FieldType.int)) ∈ lw_all := lw_g (lw_at lw_m5 196 rfl) rfl
theorem q1246 : (Jvm.Cond.instanceMethod ({ cls := "WheatElevatorModel", name := "addLeg", desc := "(I)I" } : Jvm.MethodName)) ∈ lw_all := lw_g (lw_at lw_m5 198 rfl) rfl
theorem q1247 : (Jvm.Cond.selects "WheatElevatorModel" ({ cls := "WheatElevatorModel", name := "addLeg", desc := "(I)I" } : Jvm.MethodName) ({ cls := "WheatElevatorModel", name := "addLeg", desc := "(I)I" } : Jvm.MethodName)) ∈ lw_all := lw_g (lw_at lw_m5 199 rfl) rfl
theorem q1248 : (Jvm.Cond.code ({ cls := "WheatElevatorModel", name := "addLeg", desc := "(I)I" } : Jvm.MethodName) prog_10_method_19_code (3 : Nat) (Option.some Jvm.ClassFile.FieldType.int)) ∈ lw_all := lw_g (lw_at lw_m5 200 rfl) rfl
theorem q1250 : (Jvm.Cond.instanceMethod ({ cls := "WheatElevatorModel", name := "setSpeed", desc := "(II)I" } : Jvm.MethodName)) ∈ lw_all := lw_g (lw_at lw_m5 202 rfl) rfl
theorem q1251 : (Jvm.Cond.selects "WheatElevatorModel" ({ cls := "WheatElevatorModel", name := "setSpeed", desc := "(II)I" } : Jvm.MethodName) ({ cls := "WheatElevatorModel", name := "setSpeed", desc := "(II)I" } : Jvm.MethodName)) ∈ lw_all := lw_g (lw_at lw_m5 203 rfl) rfl
theorem q1252 : (Jvm.Cond.code ({ cls := "WheatElevatorModel", name := "setSpeed", desc := "(II)I" } : Jvm.MethodName) prog_10_method_20_code (4 : Nat) (Option.some Jvm.ClassFile.FieldType.int)) ∈ lw_all := lw_g (lw_at lw_m5 204 rfl) rfl
theorem q1253 : (Jvm.Cond.methodLink "WheatElevatorModel" (63 : Nat) ({ cls := "WheatElevatorModel", name := "isLeg", desc := "(I)Z" } : Jvm.MethodName)) ∈ lw_all := lw_g (lw_at lw_m5 205 rfl) rfl
theorem q1254 : (Jvm.Cond.privateMethod ({ cls := "WheatElevatorModel", name := "isLeg", desc := "(I)Z" } : Jvm.MethodName)) ∈ lw_tbl := lw_at lw_m5 206 rfl
theorem q1255 : (Jvm.Cond.instanceMethod ({ cls := "WheatElevatorModel", name := "isLeg", desc := "(I)Z" } : Jvm.MethodName)) ∈ lw_all := lw_g (lw_at lw_m5 207 rfl) rfl
theorem q1256 : (Jvm.Cond.code ({ cls := "WheatElevatorModel", name := "isLeg", desc := "(I)Z" } : Jvm.MethodName) prog_10_method_10_code (2 : Nat) (Option.some Jvm.ClassFile.FieldType.boolean)) ∈ lw_all := lw_g (lw_at lw_m5 208 rfl) rfl
theorem q1257 : (Jvm.Cond.methodLink "WheatElevatorModel" (49 : Nat) ({ cls := "WheatElevatorModel", name := "ofLeg", desc := "(II)I" } : Jvm.MethodName)) ∈ lw_all := lw_g (lw_at lw_m5 209 rfl) rfl
theorem q1258 : (Jvm.Cond.privateMethod ({ cls := "WheatElevatorModel", name := "ofLeg", desc := "(II)I" } : Jvm.MethodName)) ∈ lw_tbl := lw_at lw_m5 210 rfl
theorem q1259 : (Jvm.Cond.instanceMethod ({ cls := "WheatElevatorModel", name := "ofLeg", desc := "(II)I" } : Jvm.MethodName)) ∈ lw_all := lw_g (lw_at lw_m5 211 rfl) rfl
theorem q1260 : (Jvm.Cond.code ({ cls := "WheatElevatorModel", name := "ofLeg", desc := "(II)I" } : Jvm.MethodName) prog_10_method_7_code (3 : Nat) (Option.some Jvm.ClassFile.FieldType.int)) ∈ lw_all := lw_g (lw_at lw_m5 212 rfl) rfl
theorem q1262 : (Jvm.Cond.instanceMethod ({ cls := "WheatElevatorModel", name := "spout", desc := "(II)I" } : Jvm.MethodName)) ∈ lw_all := lw_g (lw_at lw_m5 214 rfl) rfl
theorem q1263 : (Jvm.Cond.selects "WheatElevatorModel" ({ cls := "WheatElevatorModel", name := "spout", desc := "(II)I" } : Jvm.MethodName) ({ cls := "WheatElevatorModel", name := "spout", desc := "(II)I" } : Jvm.MethodName)) ∈ lw_all := lw_g (lw_at lw_m5 215 rfl) rfl
theorem q1264 : (Jvm.Cond.code ({ cls := "WheatElevatorModel", name := "spout", desc := "(II)I" } : Jvm.MethodName) prog_10_method_21_code (3 : Nat) (Option.some Jvm.ClassFile.FieldType.int)) ∈ lw_all := lw_g (lw_at lw_m5 216 rfl) rfl
theorem q1265 : (Jvm.Cond.methodLink "WheatElevatorModel" (66 : Nat) ({ cls := "WheatElevatorModel", name := "leads", desc := "(II)Z" } : Jvm.MethodName)) ∈ lw_all := lw_g (lw_at lw_m5 217 rfl) rfl
theorem q1266 : (Jvm.Cond.privateMethod ({ cls := "WheatElevatorModel", name := "leads", desc := "(II)Z" } : Jvm.MethodName)) ∈ lw_tbl := lw_at lw_m5 218 rfl
theorem q1267 : (Jvm.Cond.instanceMethod ({ cls := "WheatElevatorModel", name := "leads", desc := "(II)Z" } : Jvm.MethodName)) ∈ lw_all := lw_g (lw_at lw_m5 219 rfl) rfl
theorem q1268 : (Jvm.Cond.code ({ cls := "WheatElevatorModel", name := "leads", desc := "(II)Z" } : Jvm.MethodName) prog_10_method_16_code (3 : Nat) (Option.some Jvm.ClassFile.FieldType.boolean)) ∈ lw_all := lw_g (lw_at lw_m5 220 rfl) rfl
theorem q1270 : (Jvm.Cond.instanceMethod ({ cls := "WheatElevatorModel", name := "setPrice", desc := "(II)I" } : Jvm.MethodName)) ∈ lw_all := lw_g (lw_at lw_m5 222 rfl) rfl
theorem q1271 : (Jvm.Cond.selects "WheatElevatorModel" ({ cls := "WheatElevatorModel", name := "setPrice", desc := "(II)I" } : Jvm.MethodName) ({ cls := "WheatElevatorModel", name := "setPrice", desc := "(II)I" } : Jvm.MethodName)) ∈ lw_all := lw_g (lw_at lw_m5 223 rfl) rfl
theorem q1272 : (Jvm.Cond.code ({ cls := "WheatElevatorModel", name := "setPrice", desc := "(II)I" } : Jvm.MethodName) prog_10_method_22_code (4 : Nat) (Option.some Jvm.ClassFile.FieldType.int)) ∈ lw_all := lw_g (lw_at lw_m5 224 rfl) rfl
theorem q1273 : (Jvm.Cond.methodLink "WheatElevatorModel" (70 : Nat) ({ cls := "WheatElevatorModel", name := "isClass", desc := "(I)Z" } : Jvm.MethodName)) ∈ lw_all := lw_g (lw_at lw_m5 225 rfl) rfl
theorem q1274 : (Jvm.Cond.static ({ cls := "WheatElevatorModel", name := "isClass", desc := "(I)Z" } : Jvm.MethodName)) ∈ lw_all := lw_g (lw_at lw_m5 226 rfl) rfl
theorem q1275 : (Jvm.Cond.code ({ cls := "WheatElevatorModel", name := "isClass", desc := "(I)Z" } : Jvm.MethodName) prog_10_method_12_code (1 : Nat) (Option.some Jvm.ClassFile.FieldType.boolean)) ∈ lw_all := lw_g (lw_at lw_m5 227 rfl) rfl
theorem q1277 : (Jvm.Cond.instanceMethod ({ cls := "WheatElevatorModel", name := "setDustLimit", desc := "(I)I" } : Jvm.MethodName)) ∈ lw_all := lw_g (lw_at lw_m5 229 rfl) rfl
theorem q1278 : (Jvm.Cond.selects "WheatElevatorModel" ({ cls := "WheatElevatorModel", name := "setDustLimit", desc := "(I)I" } : Jvm.MethodName) ({ cls := "WheatElevatorModel", name := "setDustLimit", desc := "(I)I" } : Jvm.MethodName)) ∈ lw_all := lw_g (lw_at lw_m5 230 rfl) rfl
theorem q1279 : (Jvm.Cond.code ({ cls := "WheatElevatorModel", name := "setDustLimit", desc := "(I)I" } : Jvm.MethodName) prog_10_method_23_code (3 : Nat) (Option.some Jvm.ClassFile.FieldType.int)) ∈ lw_all := lw_g (lw_at lw_m5 231 rfl) rfl
theorem q1281 : (Jvm.Cond.instanceMethod ({ cls := "WheatElevatorModel", name := "count", desc := "(I)I" } : Jvm.MethodName)) ∈ lw_all := lw_g (lw_at lw_m5 233 rfl) rfl
theorem q1282 : (Jvm.Cond.selects "WheatElevatorModel" ({ cls := "WheatElevatorModel", name := "count", desc := "(I)I" } : Jvm.MethodName) ({ cls := "WheatElevatorModel", name := "count", desc := "(I)I" } : Jvm.MethodName)) ∈ lw_all := lw_g (lw_at lw_m5 234 rfl) rfl
theorem q1283 : (Jvm.Cond.code ({ cls := "WheatElevatorModel", name := "count", desc := "(I)I" } : Jvm.MethodName) prog_10_method_24_code (7 : Nat) (Option.some Jvm.ClassFile.FieldType.int)) ∈ lw_all := lw_g (lw_at lw_m5 235 rfl) rfl
theorem q1284 : (Jvm.Cond.methodLink "WheatElevatorModel" (73 : Nat) ({ cls := "WheatElevatorModel", name := "isSpoilt", desc := "(I)Z" } : Jvm.MethodName)) ∈ lw_all := lw_g (lw_at lw_m5 236 rfl) rfl
theorem q1285 : (Jvm.Cond.privateMethod ({ cls := "WheatElevatorModel", name := "isSpoilt", desc := "(I)Z" } : Jvm.MethodName)) ∈ lw_tbl := lw_at lw_m5 237 rfl
theorem q1286 : (Jvm.Cond.instanceMethod ({ cls := "WheatElevatorModel", name := "isSpoilt", desc := "(I)Z" } : Jvm.MethodName)) ∈ lw_all := lw_g (lw_at lw_m5 238 rfl) rfl
theorem q1287 : (Jvm.Cond.code ({ cls := "WheatElevatorModel", name := "isSpoilt", desc := "(I)Z" } : Jvm.MethodName) prog_10_method_14_code (2 : Nat) (Option.some Jvm.ClassFile.FieldType.boolean)) ∈ lw_all := lw_g (lw_at lw_m5 239 rfl) rfl
theorem q1288 : (Jvm.Cond.methodLink "WheatElevatorModel" (76 : Nat) ({ cls := "WheatElevatorModel", name := "ofContract", desc := "(II)I" } : Jvm.MethodName)) ∈ lw_all := lw_g (lw_at lw_m6 0 rfl) rfl
theorem q1289 : (Jvm.Cond.privateMethod ({ cls := "WheatElevatorModel", name := "ofContract", desc := "(II)I" } : Jvm.MethodName)) ∈ lw_tbl := lw_at lw_m6 1 rfl
theorem q1290 : (Jvm.Cond.instanceMethod ({ cls := "WheatElevatorModel", name := "ofContract", desc := "(II)I" } : Jvm.MethodName)) ∈ lw_all := lw_g (lw_at lw_m6 2 rfl) rfl
theorem q1291 : (Jvm.Cond.code ({ cls := "WheatElevatorModel", name := "ofContract", desc := "(II)I" } : Jvm.MethodName) prog_10_method_8_code (3 : Nat) (Option.some Jvm.ClassFile.FieldType.int)) ∈ lw_all := lw_g (lw_at lw_m6 3 rfl) rfl
theorem q1293 : (Jvm.Cond.instanceMethod ({ cls := "WheatElevatorModel", name := "bin", desc := "(II)I" } : Jvm.MethodName)) ∈ lw_all := lw_g (lw_at lw_m6 5 rfl) rfl
theorem q1294 : (Jvm.Cond.selects "WheatElevatorModel" ({ cls := "WheatElevatorModel", name := "bin", desc := "(II)I" } : Jvm.MethodName) ({ cls := "WheatElevatorModel", name := "bin", desc := "(II)I" } : Jvm.MethodName)) ∈ lw_all := lw_g (lw_at lw_m6 6 rfl) rfl
theorem q1295 : (Jvm.Cond.code ({ cls := "WheatElevatorModel", name := "bin", desc := "(II)I" } : Jvm.MethodName) prog_10_method_26_code (3 : Nat) (Option.some Jvm.ClassFile.FieldType.int)) ∈ lw_all := lw_g (lw_at lw_m6 7 rfl) rfl
theorem q1296 : (Jvm.Cond.methodLink "WheatElevatorModel" (83 : Nat) ({ cls := "WheatElevatorModel", name := "property", desc := "(II)I" } : Jvm.MethodName)) ∈ lw_all := lw_g (lw_at lw_m6 8 rfl) rfl
theorem q1297 : (Jvm.Cond.privateMethod ({ cls := "WheatElevatorModel", name := "property", desc := "(II)I" } : Jvm.MethodName)) ∈ lw_tbl := lw_at lw_m6 9 rfl
theorem q1298 : (Jvm.Cond.instanceMethod ({ cls := "WheatElevatorModel", name := "property", desc := "(II)I" } : Jvm.MethodName)) ∈ lw_all := lw_g (lw_at lw_m6 10 rfl) rfl
theorem q1299 : (Jvm.Cond.code ({ cls := "WheatElevatorModel", name := "property", desc := "(II)I" } : Jvm.MethodName) prog_10_method_25_code (3 : Nat) (Option.some Jvm.ClassFile.FieldType.int)) ∈ lw_all := lw_g (lw_at lw_m6 11 rfl) rfl
theorem q1300 : (Jvm.Cond.methodLink "WheatElevatorModel" (79 : Nat) ({ cls := "WheatElevatorModel", name := "moisture", desc := "(I)I" } : Jvm.MethodName)) ∈ lw_all := lw_g (lw_at lw_m6 12 rfl) rfl
theorem q1301 : (Jvm.Cond.privateMethod ({ cls := "WheatElevatorModel", name := "moisture", desc := "(I)I" } : Jvm.MethodName)) ∈ lw_tbl := lw_at lw_m6 13 rfl
theorem q1302 : (Jvm.Cond.instanceMethod ({ cls := "WheatElevatorModel", name := "moisture", desc := "(I)I" } : Jvm.MethodName)) ∈ lw_all := lw_g (lw_at lw_m6 14 rfl) rfl
theorem q1303 : (Jvm.Cond.code ({ cls := "WheatElevatorModel", name := "moisture", desc := "(I)I" } : Jvm.MethodName) prog_10_method_13_code (2 : Nat) (Option.some Jvm.ClassFile.FieldType.int)) ∈ lw_all := lw_g (lw_at lw_m6 15 rfl) rfl
theorem q1305 : (Jvm.Cond.instanceMethod ({ cls := "WheatElevatorModel", name := "leg", desc := "(II)I" } : Jvm.MethodName)) ∈ lw_all := lw_g (lw_at lw_m6 17 rfl) rfl
theorem q1306 : (Jvm.Cond.selects "WheatElevatorModel" ({ cls := "WheatElevatorModel", name := "leg", desc := "(II)I" } : Jvm.MethodName) ({ cls := "WheatElevatorModel", name := "leg", desc := "(II)I" } : Jvm.MethodName)) ∈ lw_all := lw_g (lw_at lw_m6 18 rfl) rfl
theorem q1307 : (Jvm.Cond.code ({ cls := "WheatElevatorModel", name := "leg", desc := "(II)I" } : Jvm.MethodName) prog_10_method_28_code (3 : Nat) (Option.some Jvm.ClassFile.FieldType.int)) ∈ lw_all := lw_g (lw_at lw_m6 19 rfl) rfl
theorem q1308 : (Jvm.Cond.methodLink "WheatElevatorModel" (89 : Nat) ({ cls := "WheatElevatorModel", name := "legProperty", desc := "(II)I" } : Jvm.MethodName)) ∈ lw_all := lw_g (lw_at lw_m6 20 rfl) rfl
theorem q1309 : (Jvm.Cond.privateMethod ({ cls := "WheatElevatorModel", name := "legProperty", desc := "(II)I" } : Jvm.MethodName)) ∈ lw_tbl := lw_at lw_m6 21 rfl
theorem q1310 : (Jvm.Cond.instanceMethod ({ cls := "WheatElevatorModel", name := "legProperty", desc := "(II)I" } : Jvm.MethodName)) ∈ lw_all := lw_g (lw_at lw_m6 22 rfl) rfl
theorem q1311 : (Jvm.Cond.code ({ cls := "WheatElevatorModel", name := "legProperty", desc := "(II)I" } : Jvm.MethodName) prog_10_method_27_code (3 : Nat) (Option.some Jvm.ClassFile.FieldType.int)) ∈ lw_all := lw_g (lw_at lw_m6 23 rfl) rfl
theorem q1312 : (Jvm.Cond.methodLink "WheatElevatorModel" (86 : Nat) ({ cls := "WheatElevatorModel", name := "stands", desc := "(I)Z" } : Jvm.MethodName)) ∈ lw_all := lw_g (lw_at lw_m6 24 rfl) rfl
theorem q1313 : (Jvm.Cond.privateMethod ({ cls := "WheatElevatorModel", name := "stands", desc := "(I)Z" } : Jvm.MethodName)) ∈ lw_tbl := lw_at lw_m6 25 rfl
theorem q1314 : (Jvm.Cond.instanceMethod ({ cls := "WheatElevatorModel", name := "stands", desc := "(I)Z" } : Jvm.MethodName)) ∈ lw_all := lw_g (lw_at lw_m6 26 rfl) rfl
theorem q1315 : (Jvm.Cond.code ({ cls := "WheatElevatorModel", name := "stands", desc := "(I)Z" } : Jvm.MethodName) prog_10_method_15_code (2 : Nat) (Option.some Jvm.ClassFile.FieldType.boolean)) ∈ lw_all := lw_g (lw_at lw_m6 27 rfl) rfl
theorem q1317 : (Jvm.Cond.instanceMethod ({ cls := "WheatElevatorModel", name := "price", desc := "(I)I" } : Jvm.MethodName)) ∈ lw_all := lw_g (lw_at lw_m6 29 rfl) rfl
theorem q1318 : (Jvm.Cond.selects "WheatElevatorModel" ({ cls := "WheatElevatorModel", name := "price", desc := "(I)I" } : Jvm.MethodName) ({ cls := "WheatElevatorModel", name := "price", desc := "(I)I" } : Jvm.MethodName)) ∈ lw_all := lw_g (lw_at lw_m6 30 rfl) rfl
theorem q1319 : (Jvm.Cond.code ({ cls := "WheatElevatorModel", name := "price", desc := "(I)I" } : Jvm.MethodName) prog_10_method_29_code (2 : Nat) (Option.some Jvm.ClassFile.FieldType.int)) ∈ lw_all := lw_g (lw_at lw_m6 31 rfl) rfl
theorem q1321 : (Jvm.Cond.instanceMethod ({ cls := "WheatElevatorModel", name := "book", desc := "(I)J" } : Jvm.MethodName)) ∈ lw_all := lw_g (lw_at lw_m6 33 rfl) rfl
theorem q1322 : (Jvm.Cond.selects "WheatElevatorModel" ({ cls := "WheatElevatorModel", name := "book", desc := "(I)J" } : Jvm.MethodName) ({ cls := "WheatElevatorModel", name := "book", desc := "(I)J" } : Jvm.MethodName)) ∈ lw_all := lw_g (lw_at lw_m6 34 rfl) rfl
theorem q1323 : (Jvm.Cond.code ({ cls := "WheatElevatorModel", name := "book", desc := "(I)J" } : Jvm.MethodName) prog_10_method_30_code (2 : Nat) (Option.some Jvm.ClassFile.FieldType.long)) ∈ lw_all := lw_g (lw_at lw_m6 35 rfl) rfl
theorem q1324 : (Jvm.Cond.constantLong "WheatElevatorModel" (92 : Nat) (-3 : Int64)) ∈ lw_all := lw_g (lw_at lw_m6 36 rfl) rfl
theorem q1326 : (Jvm.Cond.instanceMethod ({ cls := "WheatElevatorModel", name := "audit", desc := "()I" } : Jvm.MethodName)) ∈ lw_all := lw_g (lw_at lw_m6 38 rfl) rfl
theorem q1327 : (Jvm.Cond.selects "WheatElevatorModel" ({ cls := "WheatElevatorModel", name := "audit", desc := "()I" } : Jvm.MethodName) ({ cls := "WheatElevatorModel", name := "audit", desc := "()I" } : Jvm.MethodName)) ∈ lw_all := lw_g (lw_at lw_m6 39 rfl) rfl
theorem q1328 : (Jvm.Cond.code ({ cls := "WheatElevatorModel", name := "audit", desc := "()I" } : Jvm.MethodName) prog_10_method_31_code (4 : Nat) (Option.some Jvm.ClassFile.FieldType.int)) ∈ lw_all := lw_g (lw_at lw_m6 40 rfl) rfl
theorem q1330 : (Jvm.Cond.instanceMethod ({ cls := "WheatElevatorModel", name := "receive", desc := "(IIIII)I" } : Jvm.MethodName)) ∈ lw_all := lw_g (lw_at lw_m6 42 rfl) rfl
theorem q1331 : (Jvm.Cond.selects "WheatElevatorModel" ({ cls := "WheatElevatorModel", name := "receive", desc := "(IIIII)I" } : Jvm.MethodName) ({ cls := "WheatElevatorModel", name := "receive", desc := "(IIIII)I" } : Jvm.MethodName)) ∈ lw_all := lw_g (lw_at lw_m6 43 rfl) rfl
theorem q1332 : (Jvm.Cond.code ({ cls := "WheatElevatorModel", name := "receive", desc := "(IIIII)I" } : Jvm.MethodName) prog_10_method_44_code (7 : Nat) (Option.some Jvm.ClassFile.FieldType.int)) ∈ lw_all := lw_g (lw_at lw_m6 44 rfl) rfl
theorem q1333 : (Jvm.Cond.methodLink "WheatElevatorModel" (129 : Nat) ({ cls := "WheatElevatorModel", name := "cannotReceive", desc := "(IIIII)I" } : Jvm.MethodName)) ∈ lw_all := lw_g (lw_at lw_m6 45 rfl) rfl
theorem q1334 : (Jvm.Cond.privateMethod ({ cls := "WheatElevatorModel", name := "cannotReceive", desc := "(IIIII)I" } : Jvm.MethodName)) ∈ lw_tbl := lw_at lw_m6 46 rfl
theorem q1335 : (Jvm.Cond.instanceMethod ({ cls := "WheatElevatorModel", name := "cannotReceive", desc := "(IIIII)I" } : Jvm.MethodName)) ∈ lw_all := lw_g (lw_at lw_m6 47 rfl) rfl
theorem q1336 : (Jvm.Cond.code ({ cls := "WheatElevatorModel", name := "cannotReceive", desc := "(IIIII)I" } : Jvm.MethodName) prog_10_method_42_code (7 : Nat) (Option.some Jvm.ClassFile.FieldType.int)) ∈ lw_all := lw_g (lw_at lw_m6 48 rfl) rfl
theorem q1337 : (Jvm.Cond.methodLink "WheatElevatorModel" (103 : Nat) ({ cls := "WheatElevatorModel", name := "isTruck", desc := "(II)Z" } : Jvm.MethodName)) ∈ lw_all := lw_g (lw_at lw_m6 49 rfl) rfl
theorem q1338 : (Jvm.Cond.static ({ cls := "WheatElevatorModel", name := "isTruck", desc := "(II)Z" } : Jvm.MethodName)) ∈ lw_all := lw_g (lw_at lw_m6 50 rfl) rfl
theorem q1339 : (Jvm.Cond.code ({ cls := "WheatElevatorModel", name := "isTruck", desc := "(II)Z" } : Jvm.MethodName) prog_10_method_41_code (2 : Nat) (Option.some Jvm.ClassFile.FieldType.boolean)) ∈ lw_all := lw_g (lw_at lw_m6 51 rfl) rfl
theorem q1340 : (Jvm.Cond.methodLink "WheatElevatorModel" (106 : Nat) ({ cls := "WheatElevatorModel", name := "against", desc := "(IIIIII)I" } : Jvm.MethodName)) ∈ lw_all := lw_g (lw_at lw_m6 52 rfl) rfl
theorem q1341 : (Jvm.Cond.privateMethod ({ cls := "WheatElevatorModel", name := "against", desc := "(IIIIII)I" } : Jvm.MethodName)) ∈ lw_tbl := lw_at lw_m6 53 rfl
theorem q1342 : (Jvm.Cond.instanceMethod ({ cls := "WheatElevatorModel", name := "against", desc := "(IIIIII)I" } : Jvm.MethodName)) ∈ lw_all := lw_g (lw_at lw_m6 54 rfl) rfl
theorem q1343 : (Jvm.Cond.code ({ cls := "WheatElevatorModel", name := "against", desc := "(IIIIII)I" } : Jvm.MethodName) prog_10_method_39_code (7 : Nat) (Option.some Jvm.ClassFile.FieldType.int)) ∈ lw_all := lw_g (lw_at lw_m6 55 rfl) rfl
theorem q1344 : (Jvm.Cond.methodLink "WheatElevatorModel" (110 : Nat) ({ cls := "WheatElevatorModel", name := "refuses", desc := "(I)I" } : Jvm.MethodName)) ∈ lw_all := lw_g (lw_at lw_m6 56 rfl) rfl
theorem q1345 : (Jvm.Cond.privateMethod ({ cls := "WheatElevatorModel", name := "refuses", desc := "(I)I" } : Jvm.MethodName)) ∈ lw_tbl := lw_at lw_m6 57 rfl
theorem q1346 : (Jvm.Cond.instanceMethod ({ cls := "WheatElevatorModel", name := "refuses", desc := "(I)I" } : Jvm.MethodName)) ∈ lw_all := lw_g (lw_at lw_m6 58 rfl) rfl
theorem q1347 : (Jvm.Cond.code ({ cls := "WheatElevatorModel", name := "refuses", desc := "(I)I" } : Jvm.MethodName) prog_10_method_40_code (2 : Nat) (Option.some Jvm.ClassFile.FieldType.int)) ∈ lw_all := lw_g (lw_at lw_m6 59 rfl) rfl
theorem q1348 : (Jvm.Cond.methodLink "WheatElevatorModel" (113 : Nat) ({ cls := "WheatElevatorModel", name := "minutes", desc := "(II)I" } : Jvm.MethodName)) ∈ lw_all := lw_g (lw_at lw_m6 60 rfl) rfl
theorem q1349 : (Jvm.Cond.static ({ cls := "WheatElevatorModel", name := "minutes", desc := "(II)I" } : Jvm.MethodName)) ∈ lw_all := lw_g (lw_at lw_m6 61 rfl) rfl
theorem q1350 : (Jvm.Cond.code ({ cls := "WheatElevatorModel", name := "minutes", desc := "(II)I" } : Jvm.MethodName) prog_10_method_33_code (2 : Nat) (Option.some Jvm.ClassFile.FieldType.int)) ∈ lw_all := lw_g (lw_at lw_m6 62 rfl) rfl
theorem q1351 : (Jvm.Cond.constant "WheatElevatorModel" (116 : Nat) (1000000 : Int32)) ∈ lw_all := lw_g (lw_at lw_m6 63 rfl) rfl
theorem q1352 : (Jvm.Cond.methodLink "WheatElevatorModel" (133 : Nat) ({ cls := "WheatElevatorModel", name := "receives", desc := "(IIIII)I" } : Jvm.MethodName)) ∈ lw_all := lw_g (lw_at lw_m6 64 rfl) rfl
theorem q1353 : (Jvm.Cond.privateMethod ({ cls := "WheatElevatorModel", name := "receives", desc := "(IIIII)I" } : Jvm.MethodName)) ∈ lw_tbl := lw_at lw_m6 65 rfl
theorem q1354 : (Jvm.Cond.instanceMethod ({ cls := "WheatElevatorModel", name := "receives", desc := "(IIIII)I" } : Jvm.MethodName)) ∈ lw_all := lw_g (lw_at lw_m6 66 rfl) rfl
theorem q1355 : (Jvm.Cond.code ({ cls := "WheatElevatorModel", name := "receives", desc := "(IIIII)I" } : Jvm.MethodName) prog_10_method_43_code (8 : Nat) (Option.some Jvm.ClassFile.FieldType.int)) ∈ lw_all := lw_g (lw_at lw_m6 67 rfl) rfl
theorem q1356 : (Jvm.Cond.methodLink "WheatElevatorModel" (117 : Nat) ({ cls := "WheatElevatorModel", name := "passes", desc := "(I)V" } : Jvm.MethodName)) ∈ lw_all := lw_g (lw_at lw_m6 68 rfl) rfl
theorem q1357 : (Jvm.Cond.privateMethod ({ cls := "WheatElevatorModel", name := "passes", desc := "(I)V" } : Jvm.MethodName)) ∈ lw_tbl := lw_at lw_m6 69 rfl
theorem q1358 : (Jvm.Cond.instanceMethod ({ cls := "WheatElevatorModel", name := "passes", desc := "(I)V" } : Jvm.MethodName)) ∈ lw_all := lw_g (lw_at lw_m6 70 rfl) rfl
theorem q1359 : (Jvm.Cond.code ({ cls := "WheatElevatorModel", name := "passes", desc := "(I)V" } : Jvm.MethodName) prog_10_method_32_code (5 : Nat) (Option.none : Option Jvm.ClassFile.FieldType)) ∈ lw_all := lw_g (lw_at lw_m6 71 rfl) rfl
theorem q1360 : (Jvm.Cond.methodLink "WheatElevatorModel" (120 : Nat) ({ cls := "WheatElevatorModel", name := "brings", desc := "(IIII)V" } : Jvm.MethodName)) ∈ lw_all := lw_g (lw_at lw_m6 72 rfl) rfl
theorem q1361 : (Jvm.Cond.privateMethod ({ cls := "WheatElevatorModel", name := "brings", desc := "(IIII)V" } : Jvm.MethodName)) ∈ lw_tbl := lw_at lw_m6 73 rfl
theorem q1362 : (Jvm.Cond.instanceMethod ({ cls := "WheatElevatorModel", name := "brings", desc := "(IIII)V" } : Jvm.MethodName)) ∈ lw_all := lw_g (lw_at lw_m6 74 rfl) rfl
theorem q1363 : (Jvm.Cond.code ({ cls := "WheatElevatorModel", name := "brings", desc := "(IIII)V" } : Jvm.MethodName) prog_10_method_38_code (5 : Nat) (Option.none : Option Jvm.ClassFile.FieldType)) ∈ lw_all := lw_g (lw_at lw_m6 75 rfl) rfl
theorem q1364 : (Jvm.Cond.methodLink "WheatElevatorModel" (124 : Nat) ({ cls := "WheatElevatorModel", name := "dusts", desc := "(III)V" } : Jvm.MethodName)) ∈ lw_all := lw_g (lw_at lw_m6 76 rfl) rfl
theorem q1365 : (Jvm.Cond.privateMethod ({ cls := "WheatElevatorModel", name := "dusts", desc := "(III)V" } : Jvm.MethodName)) ∈ lw_tbl := lw_at lw_m6 77 rfl
theorem q1366 : (Jvm.Cond.instanceMethod ({ cls := "WheatElevatorModel", name := "dusts", desc := "(III)V" } : Jvm.MethodName)) ∈ lw_all := lw_g (lw_at lw_m6 78 rfl) rfl
theorem q1367 : (Jvm.Cond.code ({ cls := "WheatElevatorModel", name := "dusts", desc := "(III)V" } : Jvm.MethodName) prog_10_method_35_code (4 : Nat) (Option.none : Option Jvm.ClassFile.FieldType)) ∈ lw_all := lw_g (lw_at lw_m6 79 rfl) rfl
theorem q1368 : (Jvm.Cond.constantLong "WheatElevatorModel" (94 : Nat) (100000 : Int64)) ∈ lw_all := lw_g (lw_at lw_m6 80 rfl) rfl
theorem q1369 : (Jvm.Cond.constantLong "WheatElevatorModel" (127 : Nat) (1000 : Int64)) ∈ lw_all := lw_g (lw_at lw_m6 81 rfl) rfl
theorem q1371 : (Jvm.Cond.instanceMethod ({ cls := "WheatElevatorModel", name := "move", desc := "(IIII)I" } : Jvm.MethodName)) ∈ lw_all := lw_g (lw_at lw_m6 83 rfl) rfl
theorem q1372 : (Jvm.Cond.selects "WheatElevatorModel" ({ cls := "WheatElevatorModel", name := "move", desc := "(IIII)I" } : Jvm.MethodName) ({ cls := "WheatElevatorModel", name := "move", desc := "(IIII)I" } : Jvm.MethodName)) ∈ lw_all := lw_g (lw_at lw_m6 84 rfl) rfl
theorem q1373 : (Jvm.Cond.code ({ cls := "WheatElevatorModel", name := "move", desc := "(IIII)I" } : Jvm.MethodName) prog_10_method_49_code (6 : Nat) (Option.some Jvm.ClassFile.FieldType.int)) ∈ lw_all := lw_g (lw_at lw_m6 85 rfl) rfl
theorem q1374 : (Jvm.Cond.methodLink "WheatElevatorModel" (146 : Nat) ({ cls := "WheatElevatorModel", name := "cannotMove", desc := "(IIII)I" } : Jvm.MethodName)) ∈ lw_all := lw_g (lw_at lw_m6 86 rfl) rfl
theorem q1375 : (Jvm.Cond.privateMethod ({ cls := "WheatElevatorModel", name := "cannotMove", desc := "(IIII)I" } : Jvm.MethodName)) ∈ lw_tbl := lw_at lw_m6 87 rfl
theorem q1376 : (Jvm.Cond.instanceMethod ({ cls := "WheatElevatorModel", name := "cannotMove", desc := "(IIII)I" } : Jvm.MethodName)) ∈ lw_all := lw_g (lw_at lw_m6 88 rfl) rfl
theorem q1377 : (Jvm.Cond.code ({ cls := "WheatElevatorModel", name := "cannotMove", desc := "(IIII)I" } : Jvm.MethodName) prog_10_method_47_code (7 : Nat) (Option.some Jvm.ClassFile.FieldType.int)) ∈ lw_all := lw_g (lw_at lw_m6 89 rfl) rfl
theorem q1378 : (Jvm.Cond.methodLink "WheatElevatorModel" (136 : Nat) ({ cls := "WheatElevatorModel", name := "isNoMove", desc := "(IIII)I" } : Jvm.MethodName)) ∈ lw_all := lw_g (lw_at lw_m6 90 rfl) rfl
theorem q1379 : (Jvm.Cond.privateMethod ({ cls := "WheatElevatorModel", name := "isNoMove", desc := "(IIII)I" } : Jvm.MethodName)) ∈ lw_tbl := lw_at lw_m6 91 rfl
theorem q1380 : (Jvm.Cond.instanceMethod ({ cls := "WheatElevatorModel", name := "isNoMove", desc := "(IIII)I" } : Jvm.MethodName)) ∈ lw_all := lw_g (lw_at lw_m6 92 rfl) rfl
theorem q1381 : (Jvm.Cond.code ({ cls := "WheatElevatorModel", name := "isNoMove", desc := "(IIII)I" } : Jvm.MethodName) prog_10_method_46_code (5 : Nat) (Option.some Jvm.ClassFile.FieldType.int)) ∈ lw_all := lw_g (lw_at lw_m6 93 rfl) rfl
theorem q1382 : (Jvm.Cond.methodLink "WheatElevatorModel" (140 : Nat) ({ cls := "WheatElevatorModel", name := "whyNotMove", desc := "(IIII)I" } : Jvm.MethodName)) ∈ lw_all := lw_g (lw_at lw_m6 94 rfl) rfl
theorem q1383 : (Jvm.Cond.privateMethod ({ cls := "WheatElevatorModel", name := "whyNotMove", desc := "(IIII)I" } : Jvm.MethodName)) ∈ lw_tbl := lw_at lw_m6 95 rfl
theorem q1384 : (Jvm.Cond.instanceMethod ({ cls := "WheatElevatorModel", name := "whyNotMove", desc := "(IIII)I" } : Jvm.MethodName)) ∈ lw_all := lw_g (lw_at lw_m6 96 rfl) rfl
theorem q1385 : (Jvm.Cond.code ({ cls := "WheatElevatorModel", name := "whyNotMove", desc := "(IIII)I" } : Jvm.MethodName) prog_10_method_45_code (5 : Nat) (Option.some Jvm.ClassFile.FieldType.int)) ∈ lw_all := lw_g (lw_at lw_m6 97 rfl) rfl
theorem q1386 : (Jvm.Cond.methodLink "WheatElevatorModel" (96 : Nat) ({ cls := "WheatElevatorModel", name := "share", desc := "(II)I" } : Jvm.MethodName)) ∈ lw_all := lw_g (lw_at lw_m6 98 rfl) rfl
theorem q1387 : (Jvm.Cond.privateMethod ({ cls := "WheatElevatorModel", name := "share", desc := "(II)I" } : Jvm.MethodName)) ∈ lw_tbl := lw_at lw_m6 99 rfl
theorem q1388 : (Jvm.Cond.instanceMethod ({ cls := "WheatElevatorModel", name := "share", desc := "(II)I" } : Jvm.MethodName)) ∈ lw_all := lw_g (lw_at lw_m6 100 rfl) rfl
theorem q1389 : (Jvm.Cond.code ({ cls := "WheatElevatorModel", name := "share", desc := "(II)I" } : Jvm.MethodName) prog_10_method_34_code (3 : Nat) (Option.some Jvm.ClassFile.FieldType.int)) ∈ lw_all := lw_g (lw_at lw_m6 101 rfl) rfl
theorem q1390 : (Jvm.Cond.methodLink "WheatElevatorModel" (149 : Nat) ({ cls := "WheatElevatorModel", name := "moves", desc := "(IIII)I" } : Jvm.MethodName)) ∈ lw_all := lw_g (lw_at lw_m6 102 rfl) rfl
theorem q1391 : (Jvm.Cond.privateMethod ({ cls := "WheatElevatorModel", name := "moves", desc := "(IIII)I" } : Jvm.MethodName)) ∈ lw_tbl := lw_at lw_m6 103 rfl
theorem q1392 : (Jvm.Cond.instanceMethod ({ cls := "WheatElevatorModel", name := "moves", desc := "(IIII)I" } : Jvm.MethodName)) ∈ lw_all := lw_g (lw_at lw_m6 104 rfl) rfl
theorem q1393 : (Jvm.Cond.code ({ cls := "WheatElevatorModel", name := "moves", desc := "(IIII)I" } : Jvm.MethodName) prog_10_method_48_code (7 : Nat) (Option.some Jvm.ClassFile.FieldType.int)) ∈ lw_all := lw_g (lw_at lw_m6 105 rfl) rfl
theorem q1394 : (Jvm.Cond.methodLink "WheatElevatorModel" (143 : Nat) ({ cls := "WheatElevatorModel", name := "takes", desc := "(II)I" } : Jvm.MethodName)) ∈ lw_all := lw_g (lw_at lw_m6 106 rfl) rfl
theorem q1395 : (Jvm.Cond.privateMethod ({ cls := "WheatElevatorModel", name := "takes", desc := "(II)I" } : Jvm.MethodName)) ∈ lw_tbl := lw_at lw_m6 107 rfl
theorem q1396 : (Jvm.Cond.instanceMethod ({ cls := "WheatElevatorModel", name := "takes", desc := "(II)I" } : Jvm.MethodName)) ∈ lw_all := lw_g (lw_at lw_m6 108 rfl) rfl
theorem q1397 : (Jvm.Cond.code ({ cls := "WheatElevatorModel", name := "takes", desc := "(II)I" } : Jvm.MethodName) prog_10_method_37_code (4 : Nat) (Option.some Jvm.ClassFile.FieldType.int)) ∈ lw_all := lw_g (lw_at lw_m6 109 rfl) rfl
theorem q1398 : (Jvm.Cond.methodLink "WheatElevatorModel" (99 : Nat) ({ cls := "WheatElevatorModel", name := "empties", desc := "(I)V" } : Jvm.MethodName)) ∈ lw_all := lw_g (lw_at lw_m6 110 rfl) rfl
theorem q1399 : (Jvm.Cond.privateMethod ({ cls := "WheatElevatorModel", name := "empties", desc := "(I)V" } : Jvm.MethodName)) ∈ lw_tbl := lw_at lw_m6 111 rfl
theorem q1400 : (Jvm.Cond.instanceMethod ({ cls := "WheatElevatorModel", name := "empties", desc := "(I)V" } : Jvm.MethodName)) ∈ lw_all := lw_g (lw_at lw_m6 112 rfl) rfl
theorem q1401 : (Jvm.Cond.code ({ cls := "WheatElevatorModel", name := "empties", desc := "(I)V" } : Jvm.MethodName) prog_10_method_36_code (2 : Nat) (Option.none : Option Jvm.ClassFile.FieldType)) ∈ lw_all := lw_g (lw_at lw_m6 113 rfl) rfl
theorem q1403 : (Jvm.Cond.instanceMethod ({ cls := "WheatElevatorModel", name := "whyNot", desc := "(IIII)I" } : Jvm.MethodName)) ∈ lw_all := lw_g (lw_at lw_m6 115 rfl) rfl
theorem q1404 : (Jvm.Cond.selects "WheatElevatorModel" ({ cls := "WheatElevatorModel", name := "whyNot", desc := "(IIII)I" } : Jvm.MethodName) ({ cls := "WheatElevatorModel", name := "whyNot", desc := "(IIII)I" } : Jvm.MethodName)) ∈ lw_all := lw_g (lw_at lw_m6 116 rfl) rfl
theorem q1405 : (Jvm.Cond.code ({ cls := "WheatElevatorModel", name := "whyNot", desc := "(IIII)I" } : Jvm.MethodName) prog_10_method_50_code (6 : Nat) (Option.some Jvm.ClassFile.FieldType.int)) ∈ lw_all := lw_g (lw_at lw_m6 117 rfl) rfl
theorem q1407 : (Jvm.Cond.instanceMethod ({ cls := "WheatElevatorModel", name := "clean", desc := "(II)I" } : Jvm.MethodName)) ∈ lw_all := lw_g (lw_at lw_m6 119 rfl) rfl
theorem q1408 : (Jvm.Cond.selects "WheatElevatorModel" ({ cls := "WheatElevatorModel", name := "clean", desc := "(II)I" } : Jvm.MethodName) ({ cls := "WheatElevatorModel", name := "clean", desc := "(II)I" } : Jvm.MethodName)) ∈ lw_all := lw_g (lw_at lw_m6 120 rfl) rfl
theorem q1409 : (Jvm.Cond.code ({ cls := "WheatElevatorModel", name := "clean", desc := "(II)I" } : Jvm.MethodName) prog_10_method_53_code (4 : Nat) (Option.some Jvm.ClassFile.FieldType.int)) ∈ lw_all := lw_g (lw_at lw_m6 121 rfl) rfl
theorem q1410 : (Jvm.Cond.methodLink "WheatElevatorModel" (152 : Nat) ({ cls := "WheatElevatorModel", name := "cannotClean", desc := "(II)I" } : Jvm.MethodName)) ∈ lw_all := lw_g (lw_at lw_m6 122 rfl) rfl
theorem q1411 : (Jvm.Cond.privateMethod ({ cls := "WheatElevatorModel", name := "cannotClean", desc := "(II)I" } : Jvm.MethodName)) ∈ lw_tbl := lw_at lw_m6 123 rfl
theorem q1412 : (Jvm.Cond.instanceMethod ({ cls := "WheatElevatorModel", name := "cannotClean", desc := "(II)I" } : Jvm.MethodName)) ∈ lw_all := lw_g (lw_at lw_m6 124 rfl) rfl
theorem q1413 : (Jvm.Cond.code ({ cls := "WheatElevatorModel", name := "cannotClean", desc := "(II)I" } : Jvm.MethodName) prog_10_method_51_code (3 : Nat) (Option.some Jvm.ClassFile.FieldType.int)) ∈ lw_all := lw_g (lw_at lw_m6 125 rfl) rfl
theorem q1414 : (Jvm.Cond.methodLink "WheatElevatorModel" (155 : Nat) ({ cls := "WheatElevatorModel", name := "cleans", desc := "(II)I" } : Jvm.MethodName)) ∈ lw_all := lw_g (lw_at lw_m6 126 rfl) rfl
theorem q1415 : (Jvm.Cond.privateMethod ({ cls := "WheatElevatorModel", name := "cleans", desc := "(II)I" } : Jvm.MethodName)) ∈ lw_tbl := lw_at lw_m6 127 rfl
theorem q1416 : (Jvm.Cond.instanceMethod ({ cls := "WheatElevatorModel", name := "cleans", desc := "(II)I" } : Jvm.MethodName)) ∈ lw_all := lw_g (lw_at lw_m6 128 rfl) rfl
theorem q1417 : (Jvm.Cond.code ({ cls := "WheatElevatorModel", name := "cleans", desc := "(II)I" } : Jvm.MethodName) prog_10_method_52_code (4 : Nat) (Option.some Jvm.ClassFile.FieldType.int)) ∈ lw_all := lw_g (lw_at lw_m6 129 rfl) rfl
theorem q1419 : (Jvm.Cond.instanceMethod ({ cls := "WheatElevatorModel", name := "pass", desc := "(I)I" } : Jvm.MethodName)) ∈ lw_all := lw_g (lw_at lw_m6 131 rfl) rfl
theorem q1420 : (Jvm.Cond.selects "WheatElevatorModel" ({ cls := "WheatElevatorModel", name := "pass", desc := "(I)I" } : Jvm.MethodName) ({ cls := "WheatElevatorModel", name := "pass", desc := "(I)I" } : Jvm.MethodName)) ∈ lw_all := lw_g (lw_at lw_m6 132 rfl) rfl
theorem q1421 : (Jvm.Cond.code ({ cls := "WheatElevatorModel", name := "pass", desc := "(I)I" } : Jvm.MethodName) prog_10_method_54_code (2 : Nat) (Option.some Jvm.ClassFile.FieldType.int)) ∈ lw_all := lw_g (lw_at lw_m6 133 rfl) rfl
theorem q1423 : (Jvm.Cond.instanceMethod ({ cls := "WheatElevatorModel", name := "dry", desc := "(II)I" } : Jvm.MethodName)) ∈ lw_all := lw_g (lw_at lw_m6 135 rfl) rfl
theorem q1424 : (Jvm.Cond.selects "WheatElevatorModel" ({ cls := "WheatElevatorModel", name := "dry", desc := "(II)I" } : Jvm.MethodName) ({ cls := "WheatElevatorModel", name := "dry", desc := "(II)I" } : Jvm.MethodName)) ∈ lw_all := lw_g (lw_at lw_m6 136 rfl) rfl
theorem q1425 : (Jvm.Cond.code ({ cls := "WheatElevatorModel", name := "dry", desc := "(II)I" } : Jvm.MethodName) prog_10_method_57_code (4 : Nat) (Option.some Jvm.ClassFile.FieldType.int)) ∈ lw_all := lw_g (lw_at lw_m6 137 rfl) rfl
theorem q1426 : (Jvm.Cond.methodLink "WheatElevatorModel" (160 : Nat) ({ cls := "WheatElevatorModel", name := "cannotDry", desc := "(II)I" } : Jvm.MethodName)) ∈ lw_all := lw_g (lw_at lw_m6 138 rfl) rfl
theorem q1427 : (Jvm.Cond.privateMethod ({ cls := "WheatElevatorModel", name := "cannotDry", desc := "(II)I" } : Jvm.MethodName)) ∈ lw_tbl := lw_at lw_m6 139 rfl
theorem q1428 : (Jvm.Cond.instanceMethod ({ cls := "WheatElevatorModel", name := "cannotDry", desc := "(II)I" } : Jvm.MethodName)) ∈ lw_all := lw_g (lw_at lw_m6 140 rfl) rfl
theorem q1429 : (Jvm.Cond.code ({ cls := "WheatElevatorModel", name := "cannotDry", desc := "(II)I" } : Jvm.MethodName) prog_10_method_55_code (3 : Nat) (Option.some Jvm.ClassFile.FieldType.int)) ∈ lw_all := lw_g (lw_at lw_m6 141 rfl) rfl
theorem q1430 : (Jvm.Cond.methodLink "WheatElevatorModel" (163 : Nat) ({ cls := "WheatElevatorModel", name := "dries", desc := "(II)I" } : Jvm.MethodName)) ∈ lw_all := lw_g (lw_at lw_m6 142 rfl) rfl
theorem q1431 : (Jvm.Cond.privateMethod ({ cls := "WheatElevatorModel", name := "dries", desc := "(II)I" } : Jvm.MethodName)) ∈ lw_tbl := lw_at lw_m6 143 rfl
theorem q1432 : (Jvm.Cond.instanceMethod ({ cls := "WheatElevatorModel", name := "dries", desc := "(II)I" } : Jvm.MethodName)) ∈ lw_all := lw_g (lw_at lw_m6 144 rfl) rfl
theorem q1433 : (Jvm.Cond.code ({ cls := "WheatElevatorModel", name := "dries", desc := "(II)I" } : Jvm.MethodName) prog_10_method_56_code (6 : Nat) (Option.some Jvm.ClassFile.FieldType.int)) ∈ lw_all := lw_g (lw_at lw_m6 145 rfl) rfl
theorem q1434 : (Jvm.Cond.constantLong "WheatElevatorModel" (158 : Nat) (3 : Int64)) ∈ lw_all := lw_g (lw_at lw_m6 146 rfl) rfl
theorem q1436 : (Jvm.Cond.instanceMethod ({ cls := "WheatElevatorModel", name := "dump", desc := "(I)I" } : Jvm.MethodName)) ∈ lw_all := lw_g (lw_at lw_m6 148 rfl) rfl
theorem q1437 : (Jvm.Cond.selects "WheatElevatorModel" ({ cls := "WheatElevatorModel", name := "dump", desc := "(I)I" } : Jvm.MethodName) ({ cls := "WheatElevatorModel", name := "dump", desc := "(I)I" } : Jvm.MethodName)) ∈ lw_all := lw_g (lw_at lw_m6 149 rfl) rfl
theorem q1438 : (Jvm.Cond.code ({ cls := "WheatElevatorModel", name := "dump", desc := "(I)I" } : Jvm.MethodName) prog_10_method_58_code (3 : Nat) (Option.some Jvm.ClassFile.FieldType.int)) ∈ lw_all := lw_g (lw_at lw_m6 150 rfl) rfl
theorem q1440 : (Jvm.Cond.instanceMethod ({ cls := "WheatElevatorModel", name := "addContract", desc := "(IIII)I" } : Jvm.MethodName)) ∈ lw_all := lw_g (lw_at lw_m6 152 rfl) rfl
theorem q1441 : (Jvm.Cond.selects "WheatElevatorModel" ({ cls := "WheatElevatorModel", name := "addContract", desc := "(IIII)I" } : Jvm.MethodName) ({ cls := "WheatElevatorModel", name := "addContract", desc := "(IIII)I" } : Jvm.MethodName)) ∈ lw_all := lw_g (lw_at lw_m6 153 rfl) rfl
theorem q1442 : (Jvm.Cond.code ({ cls := "WheatElevatorModel", name := "addContract", desc := "(IIII)I" } : Jvm.MethodName) prog_10_method_59_code (6 : Nat) (Option.some Jvm.ClassFile.FieldType.int)) ∈ lw_all := lw_g (lw_at lw_m6 154 rfl) rfl
theorem q1444 : (Jvm.Cond.instanceMethod ({ cls := "WheatElevatorModel", name := "contract", desc := "(II)I" } : Jvm.MethodName)) ∈ lw_all := lw_g (lw_at lw_m6 156 rfl) rfl
theorem q1445 : (Jvm.Cond.selects "WheatElevatorModel" ({ cls := "WheatElevatorModel", name := "contract", desc := "(II)I" } : Jvm.MethodName) ({ cls := "WheatElevatorModel", name := "contract", desc := "(II)I" } : Jvm.MethodName)) ∈ lw_all := lw_g (lw_at lw_m6 157 rfl) rfl
theorem q1446 : (Jvm.Cond.code ({ cls := "WheatElevatorModel", name := "contract", desc := "(II)I" } : Jvm.MethodName) prog_10_method_60_code (3 : Nat) (Option.some Jvm.ClassFile.FieldType.int)) ∈ lw_all := lw_g (lw_at lw_m6 158 rfl) rfl
theorem q1447 : (Jvm.Cond.methodLink "WheatElevatorModel" (166 : Nat) ({ cls := "WheatElevatorModel", name := "isContract", desc := "(I)Z" } : Jvm.MethodName)) ∈ lw_all := lw_g (lw_at lw_m6 159 rfl) rfl
theorem q1448 : (Jvm.Cond.privateMethod ({ cls := "WheatElevatorModel", name := "isContract", desc := "(I)Z" } : Jvm.MethodName)) ∈ lw_tbl := lw_at lw_m6 160 rfl
theorem q1449 : (Jvm.Cond.instanceMethod ({ cls := "WheatElevatorModel", name := "isContract", desc := "(I)Z" } : Jvm.MethodName)) ∈ lw_all := lw_g (lw_at lw_m6 161 rfl) rfl
theorem q1450 : (Jvm.Cond.code ({ cls := "WheatElevatorModel", name := "isContract", desc := "(I)Z" } : Jvm.MethodName) prog_10_method_11_code (2 : Nat) (Option.some Jvm.ClassFile.FieldType.boolean)) ∈ lw_all := lw_g (lw_at lw_m6 162 rfl) rfl
theorem q1452 : (Jvm.Cond.instanceMethod ({ cls := "WheatElevatorModel", name := "blend", desc := "(II)I" } : Jvm.MethodName)) ∈ lw_all := lw_g (lw_at lw_m6 164 rfl) rfl
theorem q1453 : (Jvm.Cond.selects "WheatElevatorModel" ({ cls := "WheatElevatorModel", name := "blend", desc := "(II)I" } : Jvm.MethodName) ({ cls := "WheatElevatorModel", name := "blend", desc := "(II)I" } : Jvm.MethodName)) ∈ lw_all := lw_g (lw_at lw_m6 165 rfl) rfl
theorem q1454 : (Jvm.Cond.code ({ cls := "WheatElevatorModel", name := "blend", desc := "(II)I" } : Jvm.MethodName) prog_10_method_66_code (3 : Nat) (Option.some Jvm.ClassFile.FieldType.int)) ∈ lw_all := lw_g (lw_at lw_m6 166 rfl) rfl
theorem q1455 : (Jvm.Cond.methodLink "WheatElevatorModel" (181 : Nat) ({ cls := "WheatElevatorModel", name := "noBlend", desc := "(II)I" } : Jvm.MethodName)) ∈ lw_all := lw_g (lw_at lw_m6 167 rfl) rfl
theorem q1456 : (Jvm.Cond.privateMethod ({ cls := "WheatElevatorModel", name := "noBlend", desc := "(II)I" } : Jvm.MethodName)) ∈ lw_tbl := lw_at lw_m6 168 rfl
theorem q1457 : (Jvm.Cond.instanceMethod ({ cls := "WheatElevatorModel", name := "noBlend", desc := "(II)I" } : Jvm.MethodName)) ∈ lw_all := lw_g (lw_at lw_m6 169 rfl) rfl
theorem q1458 : (Jvm.Cond.code ({ cls := "WheatElevatorModel", name := "noBlend", desc := "(II)I" } : Jvm.MethodName) prog_10_method_64_code (3 : Nat) (Option.some Jvm.ClassFile.FieldType.int)) ∈ lw_all := lw_g (lw_at lw_m6 170 rfl) rfl
theorem q1459 : (Jvm.Cond.methodLink "WheatElevatorModel" (175 : Nat) ({ cls := "WheatElevatorModel", name := "finds", desc := "(II)I" } : Jvm.MethodName)) ∈ lw_all := lw_g (lw_at lw_m6 171 rfl) rfl
theorem q1460 : (Jvm.Cond.privateMethod ({ cls := "WheatElevatorModel", name := "finds", desc := "(II)I" } : Jvm.MethodName)) ∈ lw_tbl := lw_at lw_m6 172 rfl
theorem q1461 : (Jvm.Cond.instanceMethod ({ cls := "WheatElevatorModel", name := "finds", desc := "(II)I" } : Jvm.MethodName)) ∈ lw_all := lw_g (lw_at lw_m6 173 rfl) rfl
theorem q1462 : (Jvm.Cond.code ({ cls := "WheatElevatorModel", name := "finds", desc := "(II)I" } : Jvm.MethodName) prog_10_method_62_code (6 : Nat) (Option.some Jvm.ClassFile.FieldType.int)) ∈ lw_all := lw_g (lw_at lw_m6 174 rfl) rfl
theorem q1463 : (Jvm.Cond.methodLink "WheatElevatorModel" (172 : Nat) ({ cls := "WheatElevatorModel", name := "isDamper", desc := "(II)Z" } : Jvm.MethodName)) ∈ lw_all := lw_g (lw_at lw_m6 175 rfl) rfl
theorem q1464 : (Jvm.Cond.privateMethod ({ cls := "WheatElevatorModel", name := "isDamper", desc := "(II)Z" } : Jvm.MethodName)) ∈ lw_tbl := lw_at lw_m6 176 rfl
theorem q1465 : (Jvm.Cond.instanceMethod ({ cls := "WheatElevatorModel", name := "isDamper", desc := "(II)Z" } : Jvm.MethodName)) ∈ lw_all := lw_g (lw_at lw_m6 177 rfl) rfl
theorem q1466 : (Jvm.Cond.code ({ cls := "WheatElevatorModel", name := "isDamper", desc := "(II)Z" } : Jvm.MethodName) prog_10_method_61_code (3 : Nat) (Option.some Jvm.ClassFile.FieldType.boolean)) ∈ lw_all := lw_g (lw_at lw_m6 178 rfl) rfl
theorem q1467 : (Jvm.Cond.methodLink "WheatElevatorModel" (178 : Nat) ({ cls := "WheatElevatorModel", name := "mixes", desc := "(II)I" } : Jvm.MethodName)) ∈ lw_all := lw_g (lw_at lw_m6 179 rfl) rfl
theorem q1468 : (Jvm.Cond.privateMethod ({ cls := "WheatElevatorModel", name := "mixes", desc := "(II)I" } : Jvm.MethodName)) ∈ lw_tbl := lw_at lw_m6 180 rfl
theorem q1469 : (Jvm.Cond.instanceMethod ({ cls := "WheatElevatorModel", name := "mixes", desc := "(II)I" } : Jvm.MethodName)) ∈ lw_all := lw_g (lw_at lw_m6 181 rfl) rfl
theorem q1470 : (Jvm.Cond.code ({ cls := "WheatElevatorModel", name := "mixes", desc := "(II)I" } : Jvm.MethodName) prog_10_method_63_code (7 : Nat) (Option.some Jvm.ClassFile.FieldType.int)) ∈ lw_all := lw_g (lw_at lw_m6 182 rfl) rfl
theorem q1471 : (Jvm.Cond.methodLink "WheatElevatorModel" (184 : Nat) ({ cls := "WheatElevatorModel", name := "best", desc := "(II)I" } : Jvm.MethodName)) ∈ lw_all := lw_g (lw_at lw_m6 183 rfl) rfl
theorem q1472 : (Jvm.Cond.privateMethod ({ cls := "WheatElevatorModel", name := "best", desc := "(II)I" } : Jvm.MethodName)) ∈ lw_tbl := lw_at lw_m6 184 rfl
theorem q1473 : (Jvm.Cond.instanceMethod ({ cls := "WheatElevatorModel", name := "best", desc := "(II)I" } : Jvm.MethodName)) ∈ lw_all := lw_g (lw_at lw_m6 185 rfl) rfl
theorem q1474 : (Jvm.Cond.code ({ cls := "WheatElevatorModel", name := "best", desc := "(II)I" } : Jvm.MethodName) prog_10_method_65_code (8 : Nat) (Option.some Jvm.ClassFile.FieldType.int)) ∈ lw_all := lw_g (lw_at lw_m6 186 rfl) rfl
theorem q1476 : (Jvm.Cond.instanceMethod ({ cls := "WheatElevatorModel", name := "whyNoBlend", desc := "(II)I" } : Jvm.MethodName)) ∈ lw_all := lw_g (lw_at lw_m6 188 rfl) rfl
theorem q1477 : (Jvm.Cond.selects "WheatElevatorModel" ({ cls := "WheatElevatorModel", name := "whyNoBlend", desc := "(II)I" } : Jvm.MethodName) ({ cls := "WheatElevatorModel", name := "whyNoBlend", desc := "(II)I" } : Jvm.MethodName)) ∈ lw_all := lw_g (lw_at lw_m6 189 rfl) rfl
theorem q1478 : (Jvm.Cond.code ({ cls := "WheatElevatorModel", name := "whyNoBlend", desc := "(II)I" } : Jvm.MethodName) prog_10_method_67_code (3 : Nat) (Option.some Jvm.ClassFile.FieldType.int)) ∈ lw_all := lw_g (lw_at lw_m6 190 rfl) rfl
theorem q1480 : (Jvm.Cond.instanceMethod ({ cls := "WheatElevatorModel", name := "fromBin", desc := "(III)I" } : Jvm.MethodName)) ∈ lw_all := lw_g (lw_at lw_m6 192 rfl) rfl
theorem q1481 : (Jvm.Cond.selects "WheatElevatorModel" ({ cls := "WheatElevatorModel", name := "fromBin", desc := "(III)I" } : Jvm.MethodName) ({ cls := "WheatElevatorModel", name := "fromBin", desc := "(III)I" } : Jvm.MethodName)) ∈ lw_all := lw_g (lw_at lw_m6 193 rfl) rfl
theorem q1482 : (Jvm.Cond.code ({ cls := "WheatElevatorModel", name := "fromBin", desc := "(III)I" } : Jvm.MethodName) prog_10_method_68_code (6 : Nat) (Option.some Jvm.ClassFile.FieldType.int)) ∈ lw_all := lw_g (lw_at lw_m6 194 rfl) rfl
theorem q1484 : (Jvm.Cond.instanceMethod ({ cls := "WheatElevatorModel", name := "blendMoisture", desc := "(II)I" } : Jvm.MethodName)) ∈ lw_all := lw_g (lw_at lw_m6 196 rfl) rfl
theorem q1485 : (Jvm.Cond.selects "WheatElevatorModel" ({ cls := "WheatElevatorModel", name := "blendMoisture", desc := "(II)I" } : Jvm.MethodName) ({ cls := "WheatElevatorModel", name := "blendMoisture", desc := "(II)I" } : Jvm.MethodName)) ∈ lw_all := lw_g (lw_at lw_m6 197 rfl) rfl
theorem q1486 : (Jvm.Cond.code ({ cls := "WheatElevatorModel", name := "blendMoisture", desc := "(II)I" } : Jvm.MethodName) prog_10_method_69_code (4 : Nat) (Option.some Jvm.ClassFile.FieldType.int)) ∈ lw_all := lw_g (lw_at lw_m6 198 rfl) rfl
theorem q1488 : (Jvm.Cond.instanceMethod ({ cls := "WheatElevatorModel", name := "load", desc := "(II)I" } : Jvm.MethodName)) ∈ lw_all := lw_g (lw_at lw_m6 200 rfl) rfl
theorem q1489 : (Jvm.Cond.selects "WheatElevatorModel" ({ cls := "WheatElevatorModel", name := "load", desc := "(II)I" } : Jvm.MethodName) ({ cls := "WheatElevatorModel", name := "load", desc := "(II)I" } : Jvm.MethodName)) ∈ lw_all := lw_g (lw_at lw_m6 201 rfl) rfl
theorem q1490 : (Jvm.Cond.code ({ cls := "WheatElevatorModel", name := "load", desc := "(II)I" } : Jvm.MethodName) prog_10_method_70_code (8 : Nat) (Option.some Jvm.ClassFile.FieldType.int)) ∈ lw_all := lw_g (lw_at lw_m6 202 rfl) rfl
theorem q1492 : (Jvm.Cond.instanceMethod ({ cls := "WheatElevatorModel", name := "spoilsIn", desc := "(I)I" } : Jvm.MethodName)) ∈ lw_all := lw_g (lw_at lw_m6 204 rfl) rfl
theorem q1493 : (Jvm.Cond.selects "WheatElevatorModel" ({ cls := "WheatElevatorModel", name := "spoilsIn", desc := "(I)I" } : Jvm.MethodName) ({ cls := "WheatElevatorModel", name := "spoilsIn", desc := "(I)I" } : Jvm.MethodName)) ∈ lw_all := lw_g (lw_at lw_m6 205 rfl) rfl
theorem q1494 : (Jvm.Cond.code ({ cls := "WheatElevatorModel", name := "spoilsIn", desc := "(I)I" } : Jvm.MethodName) prog_10_method_71_code (3 : Nat) (Option.some Jvm.ClassFile.FieldType.int)) ∈ lw_all := lw_g (lw_at lw_m6 206 rfl) rfl
theorem q1496 : (Jvm.Cond.instanceMethod ({ cls := "WheatElevatorModel", name := "stepsTo", desc := "(II)I" } : Jvm.MethodName)) ∈ lw_all := lw_g (lw_at lw_m6 208 rfl) rfl
theorem q1497 : (Jvm.Cond.selects "WheatElevatorModel" ({ cls := "WheatElevatorModel", name := "stepsTo", desc := "(II)I" } : Jvm.MethodName) ({ cls := "WheatElevatorModel", name := "stepsTo", desc := "(II)I" } : Jvm.MethodName)) ∈ lw_all := lw_g (lw_at lw_m6 209 rfl) rfl
theorem q1498 : (Jvm.Cond.code ({ cls := "WheatElevatorModel", name := "stepsTo", desc := "(II)I" } : Jvm.MethodName) prog_10_method_72_code (7 : Nat) (Option.some Jvm.ClassFile.FieldType.int)) ∈ lw_all := lw_g (lw_at lw_m6 210 rfl) rfl
theorem q1500 : (Jvm.Cond.instanceMethod ({ cls := "WheatElevatorModel", name := "bestLeg", desc := "(IIII)I" } : Jvm.MethodName)) ∈ lw_all := lw_g (lw_at lw_m6 212 rfl) rfl
theorem q1501 : (Jvm.Cond.selects "WheatElevatorModel" ({ cls := "WheatElevatorModel", name := "bestLeg", desc := "(IIII)I" } : Jvm.MethodName) ({ cls := "WheatElevatorModel", name := "bestLeg", desc := "(IIII)I" } : Jvm.MethodName)) ∈ lw_all := lw_g (lw_at lw_m6 213 rfl) rfl
theorem q1502 : (Jvm.Cond.code ({ cls := "WheatElevatorModel", name := "bestLeg", desc := "(IIII)I" } : Jvm.MethodName) prog_10_method_73_code (8 : Nat) (Option.some Jvm.ClassFile.FieldType.int)) ∈ lw_all := lw_g (lw_at lw_m6 214 rfl) rfl
theorem q1504 : (Jvm.Cond.instanceMethod ({ cls := "WheatElevatorModel", name := "bestBin", desc := "(IIII)I" } : Jvm.MethodName)) ∈ lw_all := lw_g (lw_at lw_m6 216 rfl) rfl
theorem q1505 : (Jvm.Cond.selects "WheatElevatorModel" ({ cls := "WheatElevatorModel", name := "bestBin", desc := "(IIII)I" } : Jvm.MethodName) ({ cls := "WheatElevatorModel", name := "bestBin", desc := "(IIII)I" } : Jvm.MethodName)) ∈ lw_all := lw_g (lw_at lw_m6 217 rfl) rfl
theorem q1506 : (Jvm.Cond.code ({ cls := "WheatElevatorModel", name := "bestBin", desc := "(IIII)I" } : Jvm.MethodName) prog_10_method_74_code (10 : Nat) (Option.some Jvm.ClassFile.FieldType.int)) ∈ lw_all := lw_g (lw_at lw_m6 218 rfl) rfl
theorem q1508 : (Jvm.Cond.instanceMethod ({ cls := "WheatElevatorModel", name := "type", desc := "(I)I" } : Jvm.MethodName)) ∈ lw_all := lw_g (lw_at lw_m6 220 rfl) rfl
theorem q1509 : (Jvm.Cond.selects "WheatElevatorModel" ({ cls := "WheatElevatorModel", name := "type", desc := "(I)I" } : Jvm.MethodName) ({ cls := "WheatElevatorModel", name := "type", desc := "(I)I" } : Jvm.MethodName)) ∈ lw_all := lw_g (lw_at lw_m6 221 rfl) rfl
theorem q1510 : (Jvm.Cond.code ({ cls := "WheatElevatorModel", name := "type", desc := "(I)I" } : Jvm.MethodName) prog_10_method_75_code (2 : Nat) (Option.some Jvm.ClassFile.FieldType.int)) ∈ lw_all := lw_g (lw_at lw_m6 222 rfl) rfl
theorem q1512 : (Jvm.Cond.instanceMethod ({ cls := "WheatElevatorModel", name := "clearText", desc := "()I" } : Jvm.MethodName)) ∈ lw_all := lw_g (lw_at lw_m6 224 rfl) rfl
theorem q1513 : (Jvm.Cond.selects "WheatElevatorModel" ({ cls := "WheatElevatorModel", name := "clearText", desc := "()I" } : Jvm.MethodName) ({ cls := "WheatElevatorModel", name := "clearText", desc := "()I" } : Jvm.MethodName)) ∈ lw_all := lw_g (lw_at lw_m6 225 rfl) rfl
theorem q1514 : (Jvm.Cond.code ({ cls := "WheatElevatorModel", name := "clearText", desc := "()I" } : Jvm.MethodName) prog_10_method_76_code (2 : Nat) (Option.some Jvm.ClassFile.FieldType.int)) ∈ lw_all := lw_g (lw_at lw_m6 226 rfl) rfl
theorem q1516 : (Jvm.Cond.instanceMethod ({ cls := "WheatElevatorModel", name := "textFault", desc := "()I" } : Jvm.MethodName)) ∈ lw_all := lw_g (lw_at lw_m6 228 rfl) rfl
theorem q1517 : (Jvm.Cond.selects "WheatElevatorModel" ({ cls := "WheatElevatorModel", name := "textFault", desc := "()I" } : Jvm.MethodName) ({ cls := "WheatElevatorModel", name := "textFault", desc := "()I" } : Jvm.MethodName)) ∈ lw_all := lw_g (lw_at lw_m6 229 rfl) rfl
theorem q1518 : (Jvm.Cond.code ({ cls := "WheatElevatorModel", name := "textFault", desc := "()I" } : Jvm.MethodName) prog_10_method_82_code (1 : Nat) (Option.some Jvm.ClassFile.FieldType.int)) ∈ lw_all := lw_g (lw_at lw_m6 230 rfl) rfl
theorem q1519 : (Jvm.Cond.methodLink "WheatElevatorModel" (218 : Nat) ({ cls := "WheatElevatorModel", name := "readsText", desc := "(Z)Z" } : Jvm.MethodName)) ∈ lw_all := lw_g (lw_at lw_m6 231 rfl) rfl
theorem q1520 : (Jvm.Cond.privateMethod ({ cls := "WheatElevatorModel", name := "readsText", desc := "(Z)Z" } : Jvm.MethodName)) ∈ lw_tbl := lw_at lw_m6 232 rfl
theorem q1521 : (Jvm.Cond.instanceMethod ({ cls := "WheatElevatorModel", name := "readsText", desc := "(Z)Z" } : Jvm.MethodName)) ∈ lw_all := lw_g (lw_at lw_m6 233 rfl) rfl
theorem q1522 : (Jvm.Cond.code ({ cls := "WheatElevatorModel", name := "readsText", desc := "(Z)Z" } : Jvm.MethodName) prog_10_method_81_code (4 : Nat) (Option.some Jvm.ClassFile.FieldType.boolean)) ∈ lw_all := lw_g (lw_at lw_m6 234 rfl) rfl
theorem q1523 : (Jvm.Cond.methodLink "WheatElevatorModel" (214 : Nat) ({ cls := "WheatElevatorModel", name := "readsOrder", desc := "(Z)Z" } : Jvm.MethodName)) ∈ lw_all := lw_g (lw_at lw_m6 235 rfl) rfl
theorem q1524 : (Jvm.Cond.privateMethod ({ cls := "WheatElevatorModel", name := "readsOrder", desc := "(Z)Z" } : Jvm.MethodName)) ∈ lw_tbl := lw_at lw_m6 236 rfl
theorem q1525 : (Jvm.Cond.instanceMethod ({ cls := "WheatElevatorModel", name := "readsOrder", desc := "(Z)Z" } : Jvm.MethodName)) ∈ lw_all := lw_g (lw_at lw_m6 237 rfl) rfl
theorem q1526 : (Jvm.Cond.code ({ cls := "WheatElevatorModel", name := "readsOrder", desc := "(Z)Z" } : Jvm.MethodName) prog_10_method_80_code (5 : Nat) (Option.some Jvm.ClassFile.FieldType.boolean)) ∈ lw_all := lw_g (lw_at lw_m6 238 rfl) rfl
theorem q1527 : (Jvm.Cond.methodLink "WheatElevatorModel" (193 : Nat) ({ cls := "WheatElevatorModel", name := "here", desc := "()I" } : Jvm.MethodName)) ∈ lw_all := lw_g (lw_at lw_m6 239 rfl) rfl
theorem q1528 : (Jvm.Cond.privateMethod ({ cls := "WheatElevatorModel", name := "here", desc := "()I" } : Jvm.MethodName)) ∈ lw_tbl := lw_at lw_m7 0 rfl
theorem q1529 : (Jvm.Cond.instanceMethod ({ cls := "WheatElevatorModel", name := "here", desc := "()I" } : Jvm.MethodName)) ∈ lw_all := lw_g (lw_at lw_m7 1 rfl) rfl
theorem q1530 : (Jvm.Cond.code ({ cls := "WheatElevatorModel", name := "here", desc := "()I" } : Jvm.MethodName) prog_10_method_77_code (1 : Nat) (Option.some Jvm.ClassFile.FieldType.int)) ∈ lw_all := lw_g (lw_at lw_m7 2 rfl) rfl
theorem q1531 : (Jvm.Cond.methodLink "WheatElevatorModel" (200 : Nat) ({ cls := "WheatElevatorModel", name := "reads", desc := "()Z" } : Jvm.MethodName)) ∈ lw_all := lw_g (lw_at lw_m7 3 rfl) rfl
theorem q1532 : (Jvm.Cond.privateMethod ({ cls := "WheatElevatorModel", name := "reads", desc := "()Z" } : Jvm.MethodName)) ∈ lw_tbl := lw_at lw_m7 4 rfl
theorem q1533 : (Jvm.Cond.instanceMethod ({ cls := "WheatElevatorModel", name := "reads", desc := "()Z" } : Jvm.MethodName)) ∈ lw_all := lw_g (lw_at lw_m7 5 rfl) rfl
theorem q1534 : (Jvm.Cond.code ({ cls := "WheatElevatorModel", name := "reads", desc := "()Z" } : Jvm.MethodName) prog_10_method_78_code (5 : Nat) (Option.some Jvm.ClassFile.FieldType.boolean)) ∈ lw_all := lw_g (lw_at lw_m7 6 rfl) rfl
theorem q1535 : (Jvm.Cond.methodLink "WheatElevatorModel" (208 : Nat) ({ cls := "WheatElevatorModel", name := "carries", desc := "(I)Z" } : Jvm.MethodName)) ∈ lw_all := lw_g (lw_at lw_m7 7 rfl) rfl
theorem q1536 : (Jvm.Cond.privateMethod ({ cls := "WheatElevatorModel", name := "carries", desc := "(I)Z" } : Jvm.MethodName)) ∈ lw_tbl := lw_at lw_m7 8 rfl
theorem q1537 : (Jvm.Cond.instanceMethod ({ cls := "WheatElevatorModel", name := "carries", desc := "(I)Z" } : Jvm.MethodName)) ∈ lw_all := lw_g (lw_at lw_m7 9 rfl) rfl
theorem q1538 : (Jvm.Cond.code ({ cls := "WheatElevatorModel", name := "carries", desc := "(I)Z" } : Jvm.MethodName) prog_10_method_79_code (4 : Nat) (Option.some Jvm.ClassFile.FieldType.boolean)) ∈ lw_all := lw_g (lw_at lw_m7 10 rfl) rfl
theorem q1540 : (Jvm.Cond.instanceMethod ({ cls := "WheatElevatorModel", name := "orders", desc := "()I" } : Jvm.MethodName)) ∈ lw_all := lw_g (lw_at lw_m7 12 rfl) rfl
theorem q1541 : (Jvm.Cond.selects "WheatElevatorModel" ({ cls := "WheatElevatorModel", name := "orders", desc := "()I" } : Jvm.MethodName) ({ cls := "WheatElevatorModel", name := "orders", desc := "()I" } : Jvm.MethodName)) ∈ lw_all := lw_g (lw_at lw_m7 13 rfl) rfl
theorem q1542 : (Jvm.Cond.code ({ cls := "WheatElevatorModel", name := "orders", desc := "()I" } : Jvm.MethodName) prog_10_method_83_code (2 : Nat) (Option.some Jvm.ClassFile.FieldType.int)) ∈ lw_all := lw_g (lw_at lw_m7 14 rfl) rfl
theorem q1544 : (Jvm.Cond.instanceMethod ({ cls := "WheatElevatorModel", name := "undo", desc := "()I" } : Jvm.MethodName)) ∈ lw_all := lw_g (lw_at lw_m7 16 rfl) rfl
theorem q1545 : (Jvm.Cond.selects "WheatElevatorModel" ({ cls := "WheatElevatorModel", name := "undo", desc := "()I" } : Jvm.MethodName) ({ cls := "WheatElevatorModel", name := "undo", desc := "()I" } : Jvm.MethodName)) ∈ lw_all := lw_g (lw_at lw_m7 17 rfl) rfl
theorem q1546 : (Jvm.Cond.code ({ cls := "WheatElevatorModel", name := "undo", desc := "()I" } : Jvm.MethodName) prog_10_method_84_code (1 : Nat) (Option.some Jvm.ClassFile.FieldType.int)) ∈ lw_all := lw_g (lw_at lw_m7 18 rfl) rfl
theorem q1548 : (Jvm.Cond.instanceMethod ({ cls := "WheatElevatorModel", name := "keep", desc := "(I)I" } : Jvm.MethodName)) ∈ lw_all := lw_g (lw_at lw_m7 20 rfl) rfl
theorem q1549 : (Jvm.Cond.selects "WheatElevatorModel" ({ cls := "WheatElevatorModel", name := "keep", desc := "(I)I" } : Jvm.MethodName) ({ cls := "WheatElevatorModel", name := "keep", desc := "(I)I" } : Jvm.MethodName)) ∈ lw_all := lw_g (lw_at lw_m7 21 rfl) rfl
theorem q1550 : (Jvm.Cond.code ({ cls := "WheatElevatorModel", name := "keep", desc := "(I)I" } : Jvm.MethodName) prog_10_method_85_code (2 : Nat) (Option.some Jvm.ClassFile.FieldType.int)) ∈ lw_all := lw_g (lw_at lw_m7 22 rfl) rfl
theorem q1552 : (Jvm.Cond.instanceMethod ({ cls := "WheatElevatorModel", name := "back", desc := "(I)I" } : Jvm.MethodName)) ∈ lw_all := lw_g (lw_at lw_m7 24 rfl) rfl
theorem q1553 : (Jvm.Cond.selects "WheatElevatorModel" ({ cls := "WheatElevatorModel", name := "back", desc := "(I)I" } : Jvm.MethodName) ({ cls := "WheatElevatorModel", name := "back", desc := "(I)I" } : Jvm.MethodName)) ∈ lw_all := lw_g (lw_at lw_m7 25 rfl) rfl
theorem q1554 : (Jvm.Cond.code ({ cls := "WheatElevatorModel", name := "back", desc := "(I)I" } : Jvm.MethodName) prog_10_method_86_code (2 : Nat) (Option.some Jvm.ClassFile.FieldType.int)) ∈ lw_all := lw_g (lw_at lw_m7 26 rfl) rfl
theorem q1556 : (Jvm.Cond.instanceMethod ({ cls := "WheatElevatorModel", name := "digest", desc := "()J" } : Jvm.MethodName)) ∈ lw_all := lw_g (lw_at lw_m7 28 rfl) rfl
theorem q1557 : (Jvm.Cond.selects "WheatElevatorModel" ({ cls := "WheatElevatorModel", name := "digest", desc := "()J" } : Jvm.MethodName) ({ cls := "WheatElevatorModel", name := "digest", desc := "()J" } : Jvm.MethodName)) ∈ lw_all := lw_g (lw_at lw_m7 29 rfl) rfl
theorem q1558 : (Jvm.Cond.code ({ cls := "WheatElevatorModel", name := "digest", desc := "()J" } : Jvm.MethodName) prog_10_method_88_code (3 : Nat) (Option.some Jvm.ClassFile.FieldType.long)) ∈ lw_all := lw_g (lw_at lw_m7 30 rfl) rfl
theorem q1559 : (Jvm.Cond.constantLong "WheatElevatorModel" (227 : Nat) (17 : Int64)) ∈ lw_all := lw_g (lw_at lw_m7 31 rfl) rfl
theorem q1560 : (Jvm.Cond.methodLink "WheatElevatorModel" (229 : Nat) ({ cls := "WheatElevatorModel", name := "count", desc := "(I)I" } : Jvm.MethodName)) ∈ lw_all := lw_g (lw_at lw_m7 32 rfl) rfl
theorem q1561 : (Jvm.Cond.methodLink "WheatElevatorModel" (232 : Nat) ({ cls := "WheatElevatorModel", name := "note", desc := "(J)V" } : Jvm.MethodName)) ∈ lw_all := lw_g (lw_at lw_m7 33 rfl) rfl
theorem q1562 : (Jvm.Cond.privateMethod ({ cls := "WheatElevatorModel", name := "note", desc := "(J)V" } : Jvm.MethodName)) ∈ lw_tbl := lw_at lw_m7 34 rfl
theorem q1563 : (Jvm.Cond.instanceMethod ({ cls := "WheatElevatorModel", name := "note", desc := "(J)V" } : Jvm.MethodName)) ∈ lw_all := lw_g (lw_at lw_m7 35 rfl) rfl
theorem q1564 : (Jvm.Cond.code ({ cls := "WheatElevatorModel", name := "note", desc := "(J)V" } : Jvm.MethodName) prog_10_method_87_code (3 : Nat) (Option.none : Option Jvm.ClassFile.FieldType)) ∈ lw_all := lw_g (lw_at lw_m7 36 rfl) rfl
theorem q1565 : (Jvm.Cond.constantLong "WheatElevatorModel" (221 : Nat) (31 : Int64)) ∈ lw_all := lw_g (lw_at lw_m7 37 rfl) rfl
theorem q1566 : (Jvm.Cond.methodLink "WheatElevatorModel" (236 : Nat) ({ cls := "WheatElevatorModel", name := "book", desc := "(I)J" } : Jvm.MethodName)) ∈ lw_all := lw_g (lw_at lw_m7 38 rfl) rfl
theorem q1580 : (Jvm.Cond.castable "WheatElevatorModel" "java/lang/Object") ∈ lw_tbl := lw_at lw_m7 52 rfl
theorem in_X3 : ∀ w ∈ wsX30, w ∈ lw_all := lw_in wsX30 [1181, 1183, 1185, 1187, 1189, 1191, 1193, 1195, 1197, 1199, 1201, 1203, 1205, 1207, 1209] (by decide +kernel) (by decide +kernel)
