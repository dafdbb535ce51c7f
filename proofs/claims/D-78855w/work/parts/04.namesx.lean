/-! WheatElevator$State -/
set_option maxRecDepth 100000
def RX1 : String := "WheatElevator$State"
def TX1 : u_T := fun k => match k with
  | 0 => ("WheatElevator$State", "bins", "Ljava/util/ArrayList;", true)
  | 1 => ("WheatElevator$State", "legs", "Ljava/util/ArrayList;", true)
  | 2 => ("WheatElevator$State", "contracts", "Ljava/util/ArrayList;", true)
  | 3 => ("WheatElevator$State", "prices", "[I", true)
  | 4 => ("WheatElevator$State", "clock", "I", false)
  | 5 => ("WheatElevator$State", "dustLimit", "I", false)
  | 6 => ("WheatElevator$State", "reason", "I", false)
  | 7 => ("WheatElevator$State", "received", "I", false)
  | 8 => ("WheatElevator$State", "loaded", "I", false)
  | 9 => ("WheatElevator$State", "lost", "I", false)
  | 10 => ("WheatElevator$State", "paid", "J", false)
  | 11 => ("WheatElevator$State", "earned", "J", false)
  | _ => ("WheatElevator$State", "spent", "J", false)
def tyX1 : Nat → FieldType := fun k => match k with
  | 0 => .object "java/util/ArrayList"
  | 1 => .object "java/util/ArrayList"
  | 2 => .object "java/util/ArrayList"
  | 3 => .array .int
  | 4 => .int
  | 5 => .int
  | 6 => .int
  | 7 => .int
  | 8 => .int
  | 9 => .int
  | 10 => .long
  | 11 => .long
  | _ => .long
abbrev wsX10 : List Cond := u_ws RX1 TX1 13
set_option maxRecDepth 100000 in
theorem nmX1 : ∀ a, a < 13 → ∀ b, b < 13 → a ≠ b → (TX1 a).2.1 ≠ (TX1 b).2.1 := by decide +kernel
set_option maxRecDepth 100000 in
theorem tyX1_ok : ∀ k, k < 13 → parseFieldDescriptor (TX1 k).2.2.1 = some (tyX1 k) := by decide +kernel
abbrev cX1_init : ByteArray := prog_8_method_1_code
def yX1_init : MethodName := ⟨RX1, "<init>", "()V"⟩
def dkwX1_init_3 : List UInt8 := [17, 3, 232, 181, 0, 30, 177]
abbrev dktX1_init_3 : List UInt8 := dkwX1_init_3 ++ []
def dkwX1_init_2 : List UInt8 := [3, 16, 100, 79, 89, 4, 16, 80, 79, 89, 5, 16, 60, 79, 89, 6, 16, 40, 79, 181, 0, 26, 42]
abbrev dktX1_init_2 : List UInt8 := dkwX1_init_2 ++ dktX1_init_3
def dkwX1_init_1 : List UInt8 := [183, 0, 11, 181, 0, 20, 42, 187, 0, 9, 89, 16, 6, 183, 0, 11, 181, 0, 23, 42, 7, 188, 10, 89]
abbrev dktX1_init_1 : List UInt8 := dkwX1_init_1 ++ dktX1_init_2
def dkwX1_init_0 : List UInt8 := [42, 183, 0, 3, 42, 187, 0, 9, 89, 16, 8, 183, 0, 11, 181, 0, 14, 42, 187, 0, 9, 89, 6]
abbrev dktX1_init_0 : List UInt8 := dkwX1_init_0 ++ dktX1_init_1
theorem dksX1_init_0 : cX1_init.data.toList.drop 0 = dktX1_init_0 := by decide +kernel
theorem dksX1_init_1 : cX1_init.data.toList.drop 23 = dktX1_init_1 := dk_seg dksX1_init_0 23 rfl rfl
theorem dksX1_init_2 : cX1_init.data.toList.drop 47 = dktX1_init_2 := dk_seg dksX1_init_1 24 rfl rfl
theorem dksX1_init_3 : cX1_init.data.toList.drop 70 = dktX1_init_3 := dk_seg dksX1_init_2 23 rfl rfl
theorem dX1_init_0 : decode cX1_init 0 = .ok (.aload_n 0, 1) := dk_42 (dk_at dksX1_init_0 0 rfl rfl)
theorem dX1_init_1 : decode cX1_init 1 = .ok (.invokespecial 3, 3) := dk_183 0 3 (dk_at dksX1_init_0 1 rfl rfl)
theorem dX1_init_4 : decode cX1_init 4 = .ok (.aload_n 0, 1) := dk_42 (dk_at dksX1_init_0 4 rfl rfl)
theorem dX1_init_5 : decode cX1_init 5 = .ok (.new 9, 3) := dk_187 0 9 (dk_at dksX1_init_0 5 rfl rfl)
theorem dX1_init_8 : decode cX1_init 8 = .ok (.dup, 1) := dk_89 (dk_at dksX1_init_0 8 rfl rfl)
theorem dX1_init_9 : decode cX1_init 9 = .ok (.bipush 8, 2) := dk_16 8 (dk_at dksX1_init_0 9 rfl rfl)
theorem dX1_init_11 : decode cX1_init 11 = .ok (.invokespecial 11, 3) := dk_183 0 11 (dk_at dksX1_init_0 11 rfl rfl)
theorem dX1_init_14 : decode cX1_init 14 = .ok (.putfield 14, 3) := dk_181 0 14 (dk_at dksX1_init_0 14 rfl rfl)
theorem dX1_init_17 : decode cX1_init 17 = .ok (.aload_n 0, 1) := dk_42 (dk_at dksX1_init_0 17 rfl rfl)
theorem dX1_init_18 : decode cX1_init 18 = .ok (.new 9, 3) := dk_187 0 9 (dk_at dksX1_init_0 18 rfl rfl)
theorem dX1_init_21 : decode cX1_init 21 = .ok (.dup, 1) := dk_89 (dk_at dksX1_init_0 21 rfl rfl)
theorem dX1_init_22 : decode cX1_init 22 = .ok (.iconst 3, 1) := dk_6 (dk_at dksX1_init_0 22 rfl rfl)
theorem dX1_init_23 : decode cX1_init 23 = .ok (.invokespecial 11, 3) := dk_183 0 11 (dk_at dksX1_init_1 0 rfl rfl)
theorem dX1_init_26 : decode cX1_init 26 = .ok (.putfield 20, 3) := dk_181 0 20 (dk_at dksX1_init_1 3 rfl rfl)
theorem dX1_init_29 : decode cX1_init 29 = .ok (.aload_n 0, 1) := dk_42 (dk_at dksX1_init_1 6 rfl rfl)
theorem dX1_init_30 : decode cX1_init 30 = .ok (.new 9, 3) := dk_187 0 9 (dk_at dksX1_init_1 7 rfl rfl)
theorem dX1_init_33 : decode cX1_init 33 = .ok (.dup, 1) := dk_89 (dk_at dksX1_init_1 10 rfl rfl)
theorem dX1_init_34 : decode cX1_init 34 = .ok (.bipush 6, 2) := dk_16 6 (dk_at dksX1_init_1 11 rfl rfl)
theorem dX1_init_36 : decode cX1_init 36 = .ok (.invokespecial 11, 3) := dk_183 0 11 (dk_at dksX1_init_1 13 rfl rfl)
theorem dX1_init_39 : decode cX1_init 39 = .ok (.putfield 23, 3) := dk_181 0 23 (dk_at dksX1_init_1 16 rfl rfl)
theorem dX1_init_42 : decode cX1_init 42 = .ok (.aload_n 0, 1) := dk_42 (dk_at dksX1_init_1 19 rfl rfl)
theorem dX1_init_43 : decode cX1_init 43 = .ok (.iconst 4, 1) := dk_7 (dk_at dksX1_init_1 20 rfl rfl)
theorem dX1_init_44 : decode cX1_init 44 = .ok (.newarray .int, 2) := dk_188_10 (dk_at dksX1_init_1 21 rfl rfl)
theorem dX1_init_46 : decode cX1_init 46 = .ok (.dup, 1) := dk_89 (dk_at dksX1_init_1 23 rfl rfl)
theorem dX1_init_47 : decode cX1_init 47 = .ok (.iconst 0, 1) := dk_3 (dk_at dksX1_init_2 0 rfl rfl)
theorem dX1_init_48 : decode cX1_init 48 = .ok (.bipush 100, 2) := dk_16 100 (dk_at dksX1_init_2 1 rfl rfl)
theorem dX1_init_50 : decode cX1_init 50 = .ok (.iastore, 1) := dk_79 (dk_at dksX1_init_2 3 rfl rfl)
theorem dX1_init_51 : decode cX1_init 51 = .ok (.dup, 1) := dk_89 (dk_at dksX1_init_2 4 rfl rfl)
theorem dX1_init_52 : decode cX1_init 52 = .ok (.iconst 1, 1) := dk_4 (dk_at dksX1_init_2 5 rfl rfl)
theorem dX1_init_53 : decode cX1_init 53 = .ok (.bipush 80, 2) := dk_16 80 (dk_at dksX1_init_2 6 rfl rfl)
theorem dX1_init_55 : decode cX1_init 55 = .ok (.iastore, 1) := dk_79 (dk_at dksX1_init_2 8 rfl rfl)
theorem dX1_init_56 : decode cX1_init 56 = .ok (.dup, 1) := dk_89 (dk_at dksX1_init_2 9 rfl rfl)
theorem dX1_init_57 : decode cX1_init 57 = .ok (.iconst 2, 1) := dk_5 (dk_at dksX1_init_2 10 rfl rfl)
theorem dX1_init_58 : decode cX1_init 58 = .ok (.bipush 60, 2) := dk_16 60 (dk_at dksX1_init_2 11 rfl rfl)
theorem dX1_init_60 : decode cX1_init 60 = .ok (.iastore, 1) := dk_79 (dk_at dksX1_init_2 13 rfl rfl)
theorem dX1_init_61 : decode cX1_init 61 = .ok (.dup, 1) := dk_89 (dk_at dksX1_init_2 14 rfl rfl)
theorem dX1_init_62 : decode cX1_init 62 = .ok (.iconst 3, 1) := dk_6 (dk_at dksX1_init_2 15 rfl rfl)
theorem dX1_init_63 : decode cX1_init 63 = .ok (.bipush 40, 2) := dk_16 40 (dk_at dksX1_init_2 16 rfl rfl)
theorem dX1_init_65 : decode cX1_init 65 = .ok (.iastore, 1) := dk_79 (dk_at dksX1_init_2 18 rfl rfl)
theorem dX1_init_66 : decode cX1_init 66 = .ok (.putfield 26, 3) := dk_181 0 26 (dk_at dksX1_init_2 19 rfl rfl)
theorem dX1_init_69 : decode cX1_init 69 = .ok (.aload_n 0, 1) := dk_42 (dk_at dksX1_init_2 22 rfl rfl)
theorem dX1_init_70 : decode cX1_init 70 = .ok (.sipush 1000, 3) := dk_17 3 232 (dk_at dksX1_init_3 0 rfl rfl)
theorem dX1_init_73 : decode cX1_init 73 = .ok (.putfield 30, 3) := dk_181 0 30 (dk_at dksX1_init_3 3 rfl rfl)
theorem dX1_init_76 : decode cX1_init 76 = .ok (.return_, 1) := dk_177 (dk_at dksX1_init_3 6 rfl rfl)
abbrev cX1_refusal : ByteArray := prog_8_method_5_code
def yX1_refusal : MethodName := ⟨RX1, "refusal", "(IIIII)I"⟩
def dkwX1_refusal_4 : List UInt8 := [180, 0, 126, 164, 0, 5, 8, 172, 25, 6, 182, 0, 129, 153, 0, 8, 16, 6, 167, 0, 4, 3, 172]
abbrev dktX1_refusal_4 : List UInt8 := dkwX1_refusal_4 ++ []
def dkwX1_refusal_3 : List UInt8 := [25, 6, 180, 0, 119, 184, 0, 122, 154, 0, 5, 7, 172, 25, 6, 180, 0, 110, 21, 4, 96, 25, 6]
abbrev dktX1_refusal_3 : List UInt8 := dkwX1_refusal_3 ++ dktX1_refusal_4
def dkwX1_refusal_2 : List UInt8 := [180, 0, 110, 158, 0, 14, 25, 6, 180, 0, 113, 29, 159, 0, 5, 6, 172, 21, 5, 25, 6, 180, 0, 116]
abbrev dktX1_refusal_2 : List UInt8 := dkwX1_refusal_2 ++ dktX1_refusal_3
def dkwX1_refusal_1 : List UInt8 := [180, 0, 20, 27, 182, 0, 41, 192, 0, 52, 180, 0, 103, 28, 184, 0, 106, 154, 0, 5, 5, 172, 25, 6]
abbrev dktX1_refusal_1 : List UInt8 := dkwX1_refusal_1 ++ dktX1_refusal_2
def dkwX1_refusal_0 : List UInt8 := [42, 180, 0, 14, 28, 182, 0, 41, 192, 0, 39, 58, 6, 42, 27, 182, 0, 99, 153, 0, 5, 4, 172, 42]
abbrev dktX1_refusal_0 : List UInt8 := dkwX1_refusal_0 ++ dktX1_refusal_1
theorem dksX1_refusal_0 : cX1_refusal.data.toList.drop 0 = dktX1_refusal_0 := by decide +kernel
theorem dksX1_refusal_1 : cX1_refusal.data.toList.drop 24 = dktX1_refusal_1 := dk_seg dksX1_refusal_0 24 rfl rfl
theorem dksX1_refusal_2 : cX1_refusal.data.toList.drop 48 = dktX1_refusal_2 := dk_seg dksX1_refusal_1 24 rfl rfl
theorem dksX1_refusal_3 : cX1_refusal.data.toList.drop 72 = dktX1_refusal_3 := dk_seg dksX1_refusal_2 24 rfl rfl
theorem dksX1_refusal_4 : cX1_refusal.data.toList.drop 95 = dktX1_refusal_4 := dk_seg dksX1_refusal_3 23 rfl rfl
theorem dX1_refusal_0 : decode cX1_refusal 0 = .ok (.aload_n 0, 1) := dk_42 (dk_at dksX1_refusal_0 0 rfl rfl)
theorem dX1_refusal_1 : decode cX1_refusal 1 = .ok (.getfield 14, 3) := dk_180 0 14 (dk_at dksX1_refusal_0 1 rfl rfl)
theorem dX1_refusal_4 : decode cX1_refusal 4 = .ok (.iload_n 2, 1) := dk_28 (dk_at dksX1_refusal_0 4 rfl rfl)
theorem dX1_refusal_5 : decode cX1_refusal 5 = .ok (.invokevirtual 41, 3) := dk_182 0 41 (dk_at dksX1_refusal_0 5 rfl rfl)
theorem dX1_refusal_8 : decode cX1_refusal 8 = .ok (.checkcast 39, 3) := dk_192 0 39 (dk_at dksX1_refusal_0 8 rfl rfl)
theorem dX1_refusal_11 : decode cX1_refusal 11 = .ok (.astore 6, 2) := dk_58 6 (dk_at dksX1_refusal_0 11 rfl rfl)
theorem dX1_refusal_13 : decode cX1_refusal 13 = .ok (.aload_n 0, 1) := dk_42 (dk_at dksX1_refusal_0 13 rfl rfl)
theorem dX1_refusal_14 : decode cX1_refusal 14 = .ok (.iload_n 1, 1) := dk_27 (dk_at dksX1_refusal_0 14 rfl rfl)
theorem dX1_refusal_15 : decode cX1_refusal 15 = .ok (.invokevirtual 99, 3) := dk_182 0 99 (dk_at dksX1_refusal_0 15 rfl rfl)
theorem dX1_refusal_18 : decode cX1_refusal 18 = .ok (.ifCond .eq 5, 3) := dk_153 0 5 (dk_at dksX1_refusal_0 18 rfl rfl)
theorem dX1_refusal_21 : decode cX1_refusal 21 = .ok (.iconst 1, 1) := dk_4 (dk_at dksX1_refusal_0 21 rfl rfl)
theorem dX1_refusal_22 : decode cX1_refusal 22 = .ok (.ireturn, 1) := dk_172 (dk_at dksX1_refusal_0 22 rfl rfl)
theorem dX1_refusal_23 : decode cX1_refusal 23 = .ok (.aload_n 0, 1) := dk_42 (dk_at dksX1_refusal_0 23 rfl rfl)
theorem dX1_refusal_24 : decode cX1_refusal 24 = .ok (.getfield 20, 3) := dk_180 0 20 (dk_at dksX1_refusal_1 0 rfl rfl)
theorem dX1_refusal_27 : decode cX1_refusal 27 = .ok (.iload_n 1, 1) := dk_27 (dk_at dksX1_refusal_1 3 rfl rfl)
theorem dX1_refusal_28 : decode cX1_refusal 28 = .ok (.invokevirtual 41, 3) := dk_182 0 41 (dk_at dksX1_refusal_1 4 rfl rfl)
theorem dX1_refusal_31 : decode cX1_refusal 31 = .ok (.checkcast 52, 3) := dk_192 0 52 (dk_at dksX1_refusal_1 7 rfl rfl)
theorem dX1_refusal_34 : decode cX1_refusal 34 = .ok (.getfield 103, 3) := dk_180 0 103 (dk_at dksX1_refusal_1 10 rfl rfl)
theorem dX1_refusal_37 : decode cX1_refusal 37 = .ok (.iload_n 2, 1) := dk_28 (dk_at dksX1_refusal_1 13 rfl rfl)
theorem dX1_refusal_38 : decode cX1_refusal 38 = .ok (.invokestatic 106, 3) := dk_184 0 106 (dk_at dksX1_refusal_1 14 rfl rfl)
theorem dX1_refusal_41 : decode cX1_refusal 41 = .ok (.ifCond .ne 5, 3) := dk_154 0 5 (dk_at dksX1_refusal_1 17 rfl rfl)
theorem dX1_refusal_44 : decode cX1_refusal 44 = .ok (.iconst 2, 1) := dk_5 (dk_at dksX1_refusal_1 20 rfl rfl)
theorem dX1_refusal_45 : decode cX1_refusal 45 = .ok (.ireturn, 1) := dk_172 (dk_at dksX1_refusal_1 21 rfl rfl)
theorem dX1_refusal_46 : decode cX1_refusal 46 = .ok (.aload 6, 2) := dk_25 6 (dk_at dksX1_refusal_1 22 rfl rfl)
theorem dX1_refusal_48 : decode cX1_refusal 48 = .ok (.getfield 110, 3) := dk_180 0 110 (dk_at dksX1_refusal_2 0 rfl rfl)
theorem dX1_refusal_51 : decode cX1_refusal 51 = .ok (.ifCond .le 14, 3) := dk_158 0 14 (dk_at dksX1_refusal_2 3 rfl rfl)
theorem dX1_refusal_54 : decode cX1_refusal 54 = .ok (.aload 6, 2) := dk_25 6 (dk_at dksX1_refusal_2 6 rfl rfl)
theorem dX1_refusal_56 : decode cX1_refusal 56 = .ok (.getfield 113, 3) := dk_180 0 113 (dk_at dksX1_refusal_2 8 rfl rfl)
theorem dX1_refusal_59 : decode cX1_refusal 59 = .ok (.iload_n 3, 1) := dk_29 (dk_at dksX1_refusal_2 11 rfl rfl)
theorem dX1_refusal_60 : decode cX1_refusal 60 = .ok (.if_icmp .eq 5, 3) := dk_159 0 5 (dk_at dksX1_refusal_2 12 rfl rfl)
theorem dX1_refusal_63 : decode cX1_refusal 63 = .ok (.iconst 3, 1) := dk_6 (dk_at dksX1_refusal_2 15 rfl rfl)
theorem dX1_refusal_64 : decode cX1_refusal 64 = .ok (.ireturn, 1) := dk_172 (dk_at dksX1_refusal_2 16 rfl rfl)
theorem dX1_refusal_65 : decode cX1_refusal 65 = .ok (.iload 5, 2) := dk_21 5 (dk_at dksX1_refusal_2 17 rfl rfl)
theorem dX1_refusal_67 : decode cX1_refusal 67 = .ok (.aload 6, 2) := dk_25 6 (dk_at dksX1_refusal_2 19 rfl rfl)
theorem dX1_refusal_69 : decode cX1_refusal 69 = .ok (.getfield 116, 3) := dk_180 0 116 (dk_at dksX1_refusal_2 21 rfl rfl)
theorem dX1_refusal_72 : decode cX1_refusal 72 = .ok (.aload 6, 2) := dk_25 6 (dk_at dksX1_refusal_3 0 rfl rfl)
theorem dX1_refusal_74 : decode cX1_refusal 74 = .ok (.getfield 119, 3) := dk_180 0 119 (dk_at dksX1_refusal_3 2 rfl rfl)
theorem dX1_refusal_77 : decode cX1_refusal 77 = .ok (.invokestatic 122, 3) := dk_184 0 122 (dk_at dksX1_refusal_3 5 rfl rfl)
theorem dX1_refusal_80 : decode cX1_refusal 80 = .ok (.ifCond .ne 5, 3) := dk_154 0 5 (dk_at dksX1_refusal_3 8 rfl rfl)
theorem dX1_refusal_83 : decode cX1_refusal 83 = .ok (.iconst 4, 1) := dk_7 (dk_at dksX1_refusal_3 11 rfl rfl)
theorem dX1_refusal_84 : decode cX1_refusal 84 = .ok (.ireturn, 1) := dk_172 (dk_at dksX1_refusal_3 12 rfl rfl)
theorem dX1_refusal_85 : decode cX1_refusal 85 = .ok (.aload 6, 2) := dk_25 6 (dk_at dksX1_refusal_3 13 rfl rfl)
theorem dX1_refusal_87 : decode cX1_refusal 87 = .ok (.getfield 110, 3) := dk_180 0 110 (dk_at dksX1_refusal_3 15 rfl rfl)
theorem dX1_refusal_90 : decode cX1_refusal 90 = .ok (.iload 4, 2) := dk_21 4 (dk_at dksX1_refusal_3 18 rfl rfl)
theorem dX1_refusal_92 : decode cX1_refusal 92 = .ok (.iadd, 1) := dk_96 (dk_at dksX1_refusal_3 20 rfl rfl)
theorem dX1_refusal_93 : decode cX1_refusal 93 = .ok (.aload 6, 2) := dk_25 6 (dk_at dksX1_refusal_3 21 rfl rfl)
theorem dX1_refusal_95 : decode cX1_refusal 95 = .ok (.getfield 126, 3) := dk_180 0 126 (dk_at dksX1_refusal_4 0 rfl rfl)
theorem dX1_refusal_98 : decode cX1_refusal 98 = .ok (.if_icmp .le 5, 3) := dk_164 0 5 (dk_at dksX1_refusal_4 3 rfl rfl)
theorem dX1_refusal_101 : decode cX1_refusal 101 = .ok (.iconst 5, 1) := dk_8 (dk_at dksX1_refusal_4 6 rfl rfl)
theorem dX1_refusal_102 : decode cX1_refusal 102 = .ok (.ireturn, 1) := dk_172 (dk_at dksX1_refusal_4 7 rfl rfl)
theorem dX1_refusal_103 : decode cX1_refusal 103 = .ok (.aload 6, 2) := dk_25 6 (dk_at dksX1_refusal_4 8 rfl rfl)
theorem dX1_refusal_105 : decode cX1_refusal 105 = .ok (.invokevirtual 129, 3) := dk_182 0 129 (dk_at dksX1_refusal_4 10 rfl rfl)
theorem dX1_refusal_108 : decode cX1_refusal 108 = .ok (.ifCond .eq 8, 3) := dk_153 0 8 (dk_at dksX1_refusal_4 13 rfl rfl)
theorem dX1_refusal_111 : decode cX1_refusal 111 = .ok (.bipush 6, 2) := dk_16 6 (dk_at dksX1_refusal_4 16 rfl rfl)
theorem dX1_refusal_113 : decode cX1_refusal 113 = .ok (.goto 4, 3) := dk_167 0 4 (dk_at dksX1_refusal_4 18 rfl rfl)
theorem dX1_refusal_116 : decode cX1_refusal 116 = .ok (.iconst 0, 1) := dk_3 (dk_at dksX1_refusal_4 21 rfl rfl)
theorem dX1_refusal_117 : decode cX1_refusal 117 = .ok (.ireturn, 1) := dk_172 (dk_at dksX1_refusal_4 22 rfl rfl)
abbrev cX1_stands : ByteArray := prog_8_method_4_code
def yX1_stands : MethodName := ⟨RX1, "stands", "(I)Z"⟩
def dkwX1_stands_1 : List UInt8 := [167, 0, 4, 3, 172]
abbrev dktX1_stands_1 : List UInt8 := dkwX1_stands_1 ++ []
def dkwX1_stands_0 : List UInt8 := [42, 180, 0, 20, 27, 182, 0, 41, 192, 0, 52, 180, 0, 96, 42, 180, 0, 30, 161, 0, 7, 4]
abbrev dktX1_stands_0 : List UInt8 := dkwX1_stands_0 ++ dktX1_stands_1
theorem dksX1_stands_0 : cX1_stands.data.toList.drop 0 = dktX1_stands_0 := by decide +kernel
theorem dksX1_stands_1 : cX1_stands.data.toList.drop 22 = dktX1_stands_1 := dk_seg dksX1_stands_0 22 rfl rfl
theorem dX1_stands_0 : decode cX1_stands 0 = .ok (.aload_n 0, 1) := dk_42 (dk_at dksX1_stands_0 0 rfl rfl)
theorem dX1_stands_1 : decode cX1_stands 1 = .ok (.getfield 20, 3) := dk_180 0 20 (dk_at dksX1_stands_0 1 rfl rfl)
theorem dX1_stands_4 : decode cX1_stands 4 = .ok (.iload_n 1, 1) := dk_27 (dk_at dksX1_stands_0 4 rfl rfl)
theorem dX1_stands_5 : decode cX1_stands 5 = .ok (.invokevirtual 41, 3) := dk_182 0 41 (dk_at dksX1_stands_0 5 rfl rfl)
theorem dX1_stands_8 : decode cX1_stands 8 = .ok (.checkcast 52, 3) := dk_192 0 52 (dk_at dksX1_stands_0 8 rfl rfl)
theorem dX1_stands_11 : decode cX1_stands 11 = .ok (.getfield 96, 3) := dk_180 0 96 (dk_at dksX1_stands_0 11 rfl rfl)
theorem dX1_stands_14 : decode cX1_stands 14 = .ok (.aload_n 0, 1) := dk_42 (dk_at dksX1_stands_0 14 rfl rfl)
theorem dX1_stands_15 : decode cX1_stands 15 = .ok (.getfield 30, 3) := dk_180 0 30 (dk_at dksX1_stands_0 15 rfl rfl)
theorem dX1_stands_18 : decode cX1_stands 18 = .ok (.if_icmp .lt 7, 3) := dk_161 0 7 (dk_at dksX1_stands_0 18 rfl rfl)
theorem dX1_stands_21 : decode cX1_stands 21 = .ok (.iconst 1, 1) := dk_4 (dk_at dksX1_stands_0 21 rfl rfl)
theorem dX1_stands_22 : decode cX1_stands 22 = .ok (.goto 4, 3) := dk_167 0 4 (dk_at dksX1_stands_1 0 rfl rfl)
theorem dX1_stands_25 : decode cX1_stands 25 = .ok (.iconst 0, 1) := dk_3 (dk_at dksX1_stands_1 3 rfl rfl)
theorem dX1_stands_26 : decode cX1_stands 26 = .ok (.ireturn, 1) := dk_172 (dk_at dksX1_stands_1 4 rfl rfl)
abbrev cX1_minutesOf : ByteArray := prog_8_method_10_code
def yX1_minutesOf : MethodName := ⟨RX1, "minutesOf", "(II)I"⟩
def dkwX1_minutesOf_0 : List UInt8 := [28, 42, 180, 0, 20, 27, 182, 0, 41, 192, 0, 52, 180, 0, 152, 184, 0, 155, 172]
abbrev dktX1_minutesOf_0 : List UInt8 := dkwX1_minutesOf_0 ++ []
theorem dksX1_minutesOf_0 : cX1_minutesOf.data.toList.drop 0 = dktX1_minutesOf_0 := by decide +kernel
theorem dX1_minutesOf_0 : decode cX1_minutesOf 0 = .ok (.iload_n 2, 1) := dk_28 (dk_at dksX1_minutesOf_0 0 rfl rfl)
theorem dX1_minutesOf_1 : decode cX1_minutesOf 1 = .ok (.aload_n 0, 1) := dk_42 (dk_at dksX1_minutesOf_0 1 rfl rfl)
theorem dX1_minutesOf_2 : decode cX1_minutesOf 2 = .ok (.getfield 20, 3) := dk_180 0 20 (dk_at dksX1_minutesOf_0 2 rfl rfl)
theorem dX1_minutesOf_5 : decode cX1_minutesOf 5 = .ok (.iload_n 1, 1) := dk_27 (dk_at dksX1_minutesOf_0 5 rfl rfl)
theorem dX1_minutesOf_6 : decode cX1_minutesOf 6 = .ok (.invokevirtual 41, 3) := dk_182 0 41 (dk_at dksX1_minutesOf_0 6 rfl rfl)
theorem dX1_minutesOf_9 : decode cX1_minutesOf 9 = .ok (.checkcast 52, 3) := dk_192 0 52 (dk_at dksX1_minutesOf_0 9 rfl rfl)
theorem dX1_minutesOf_12 : decode cX1_minutesOf 12 = .ok (.getfield 152, 3) := dk_180 0 152 (dk_at dksX1_minutesOf_0 12 rfl rfl)
theorem dX1_minutesOf_15 : decode cX1_minutesOf 15 = .ok (.invokestatic 155, 3) := dk_184 0 155 (dk_at dksX1_minutesOf_0 15 rfl rfl)
theorem dX1_minutesOf_18 : decode cX1_minutesOf 18 = .ok (.ireturn, 1) := dk_172 (dk_at dksX1_minutesOf_0 18 rfl rfl)
abbrev cX1_pass : ByteArray := prog_8_method_3_code
def yX1_pass : MethodName := ⟨RX1, "pass", "(I)V"⟩
def dkwX1_pass_1 : List UInt8 := [27, 182, 0, 93, 132, 2, 1, 167, 255, 227, 42, 89, 180, 0, 68, 27, 96, 181, 0, 68, 177]
abbrev dktX1_pass_1 : List UInt8 := dkwX1_pass_1 ++ []
def dkwX1_pass_0 : List UInt8 := [3, 61, 28, 42, 180, 0, 14, 182, 0, 35, 162, 0, 24, 42, 180, 0, 14, 28, 182, 0, 41, 192, 0, 39]
abbrev dktX1_pass_0 : List UInt8 := dkwX1_pass_0 ++ dktX1_pass_1
theorem dksX1_pass_0 : cX1_pass.data.toList.drop 0 = dktX1_pass_0 := by decide +kernel
theorem dksX1_pass_1 : cX1_pass.data.toList.drop 24 = dktX1_pass_1 := dk_seg dksX1_pass_0 24 rfl rfl
theorem dX1_pass_0 : decode cX1_pass 0 = .ok (.iconst 0, 1) := dk_3 (dk_at dksX1_pass_0 0 rfl rfl)
theorem dX1_pass_1 : decode cX1_pass 1 = .ok (.istore_n 2, 1) := dk_61 (dk_at dksX1_pass_0 1 rfl rfl)
theorem dX1_pass_2 : decode cX1_pass 2 = .ok (.iload_n 2, 1) := dk_28 (dk_at dksX1_pass_0 2 rfl rfl)
theorem dX1_pass_3 : decode cX1_pass 3 = .ok (.aload_n 0, 1) := dk_42 (dk_at dksX1_pass_0 3 rfl rfl)
theorem dX1_pass_4 : decode cX1_pass 4 = .ok (.getfield 14, 3) := dk_180 0 14 (dk_at dksX1_pass_0 4 rfl rfl)
theorem dX1_pass_7 : decode cX1_pass 7 = .ok (.invokevirtual 35, 3) := dk_182 0 35 (dk_at dksX1_pass_0 7 rfl rfl)
theorem dX1_pass_10 : decode cX1_pass 10 = .ok (.if_icmp .ge 24, 3) := dk_162 0 24 (dk_at dksX1_pass_0 10 rfl rfl)
theorem dX1_pass_13 : decode cX1_pass 13 = .ok (.aload_n 0, 1) := dk_42 (dk_at dksX1_pass_0 13 rfl rfl)
theorem dX1_pass_14 : decode cX1_pass 14 = .ok (.getfield 14, 3) := dk_180 0 14 (dk_at dksX1_pass_0 14 rfl rfl)
theorem dX1_pass_17 : decode cX1_pass 17 = .ok (.iload_n 2, 1) := dk_28 (dk_at dksX1_pass_0 17 rfl rfl)
theorem dX1_pass_18 : decode cX1_pass 18 = .ok (.invokevirtual 41, 3) := dk_182 0 41 (dk_at dksX1_pass_0 18 rfl rfl)
theorem dX1_pass_21 : decode cX1_pass 21 = .ok (.checkcast 39, 3) := dk_192 0 39 (dk_at dksX1_pass_0 21 rfl rfl)
theorem dX1_pass_24 : decode cX1_pass 24 = .ok (.iload_n 1, 1) := dk_27 (dk_at dksX1_pass_1 0 rfl rfl)
theorem dX1_pass_25 : decode cX1_pass 25 = .ok (.invokevirtual 93, 3) := dk_182 0 93 (dk_at dksX1_pass_1 1 rfl rfl)
theorem dX1_pass_28 : decode cX1_pass 28 = .ok (.iinc 2 1, 3) := dk_132 2 1 (dk_at dksX1_pass_1 4 rfl rfl)
theorem dX1_pass_31 : decode cX1_pass 31 = .ok (.goto (-29), 3) := dk_167 255 227 (dk_at dksX1_pass_1 7 rfl rfl)
theorem dX1_pass_34 : decode cX1_pass 34 = .ok (.aload_n 0, 1) := dk_42 (dk_at dksX1_pass_1 10 rfl rfl)
theorem dX1_pass_35 : decode cX1_pass 35 = .ok (.dup, 1) := dk_89 (dk_at dksX1_pass_1 11 rfl rfl)
theorem dX1_pass_36 : decode cX1_pass 36 = .ok (.getfield 68, 3) := dk_180 0 68 (dk_at dksX1_pass_1 12 rfl rfl)
theorem dX1_pass_39 : decode cX1_pass 39 = .ok (.iload_n 1, 1) := dk_27 (dk_at dksX1_pass_1 15 rfl rfl)
theorem dX1_pass_40 : decode cX1_pass 40 = .ok (.iadd, 1) := dk_96 (dk_at dksX1_pass_1 16 rfl rfl)
theorem dX1_pass_41 : decode cX1_pass 41 = .ok (.putfield 68, 3) := dk_181 0 68 (dk_at dksX1_pass_1 17 rfl rfl)
theorem dX1_pass_44 : decode cX1_pass 44 = .ok (.return_, 1) := dk_177 (dk_at dksX1_pass_1 20 rfl rfl)
abbrev cX1_payFor : ByteArray := prog_8_method_7_code
def yX1_payFor : MethodName := ⟨RX1, "payFor", "(III)J"⟩
def dkwX1_payFor_1 : List UInt8 := [100, 133, 105, 20, 0, 147, 109, 173]
abbrev dktX1_payFor_1 : List UInt8 := dkwX1_payFor_1 ++ []
def dkwX1_payFor_0 : List UInt8 := [28, 133, 42, 180, 0, 26, 27, 46, 133, 105, 17, 3, 232, 5, 3, 29, 17, 0, 140, 100, 184, 0, 141, 104]
abbrev dktX1_payFor_0 : List UInt8 := dkwX1_payFor_0 ++ dktX1_payFor_1
theorem dksX1_payFor_0 : cX1_payFor.data.toList.drop 0 = dktX1_payFor_0 := by decide +kernel
theorem dksX1_payFor_1 : cX1_payFor.data.toList.drop 24 = dktX1_payFor_1 := dk_seg dksX1_payFor_0 24 rfl rfl
theorem dX1_payFor_0 : decode cX1_payFor 0 = .ok (.iload_n 2, 1) := dk_28 (dk_at dksX1_payFor_0 0 rfl rfl)
theorem dX1_payFor_1 : decode cX1_payFor 1 = .ok (.i2l, 1) := dk_133 (dk_at dksX1_payFor_0 1 rfl rfl)
theorem dX1_payFor_2 : decode cX1_payFor 2 = .ok (.aload_n 0, 1) := dk_42 (dk_at dksX1_payFor_0 2 rfl rfl)
theorem dX1_payFor_3 : decode cX1_payFor 3 = .ok (.getfield 26, 3) := dk_180 0 26 (dk_at dksX1_payFor_0 3 rfl rfl)
theorem dX1_payFor_6 : decode cX1_payFor 6 = .ok (.iload_n 1, 1) := dk_27 (dk_at dksX1_payFor_0 6 rfl rfl)
theorem dX1_payFor_7 : decode cX1_payFor 7 = .ok (.iaload, 1) := dk_46 (dk_at dksX1_payFor_0 7 rfl rfl)
theorem dX1_payFor_8 : decode cX1_payFor 8 = .ok (.i2l, 1) := dk_133 (dk_at dksX1_payFor_0 8 rfl rfl)
theorem dX1_payFor_9 : decode cX1_payFor 9 = .ok (.lmul, 1) := dk_105 (dk_at dksX1_payFor_0 9 rfl rfl)
theorem dX1_payFor_10 : decode cX1_payFor 10 = .ok (.sipush 1000, 3) := dk_17 3 232 (dk_at dksX1_payFor_0 10 rfl rfl)
theorem dX1_payFor_13 : decode cX1_payFor 13 = .ok (.iconst 2, 1) := dk_5 (dk_at dksX1_payFor_0 13 rfl rfl)
theorem dX1_payFor_14 : decode cX1_payFor 14 = .ok (.iconst 0, 1) := dk_3 (dk_at dksX1_payFor_0 14 rfl rfl)
theorem dX1_payFor_15 : decode cX1_payFor 15 = .ok (.iload_n 3, 1) := dk_29 (dk_at dksX1_payFor_0 15 rfl rfl)
theorem dX1_payFor_16 : decode cX1_payFor 16 = .ok (.sipush 140, 3) := dk_17 0 140 (dk_at dksX1_payFor_0 16 rfl rfl)
theorem dX1_payFor_19 : decode cX1_payFor 19 = .ok (.isub, 1) := dk_100 (dk_at dksX1_payFor_0 19 rfl rfl)
theorem dX1_payFor_20 : decode cX1_payFor 20 = .ok (.invokestatic 141, 3) := dk_184 0 141 (dk_at dksX1_payFor_0 20 rfl rfl)
theorem dX1_payFor_23 : decode cX1_payFor 23 = .ok (.imul, 1) := dk_104 (dk_at dksX1_payFor_0 23 rfl rfl)
theorem dX1_payFor_24 : decode cX1_payFor 24 = .ok (.isub, 1) := dk_100 (dk_at dksX1_payFor_1 0 rfl rfl)
theorem dX1_payFor_25 : decode cX1_payFor 25 = .ok (.i2l, 1) := dk_133 (dk_at dksX1_payFor_1 1 rfl rfl)
theorem dX1_payFor_26 : decode cX1_payFor 26 = .ok (.lmul, 1) := dk_105 (dk_at dksX1_payFor_1 2 rfl rfl)
theorem dX1_payFor_27 : decode cX1_payFor 27 = .ok (.ldc2_w 147, 3) := dk_20 0 147 (dk_at dksX1_payFor_1 3 rfl rfl)
theorem dX1_payFor_30 : decode cX1_payFor 30 = .ok (.ldiv, 1) := dk_109 (dk_at dksX1_payFor_1 6 rfl rfl)
theorem dX1_payFor_31 : decode cX1_payFor 31 = .ok (.lreturn, 1) := dk_173 (dk_at dksX1_payFor_1 7 rfl rfl)
abbrev cX1_moveRefusal : ByteArray := prog_8_method_6_code
def yX1_moveRefusal : MethodName := ⟨RX1, "moveRefusal", "(IIII)I"⟩
def dkwX1_moveRefusal_3 : List UInt8 := [21, 4, 182, 0, 133, 21, 4, 108, 182, 0, 137, 172]
abbrev dktX1_moveRefusal_3 : List UInt8 := dkwX1_moveRefusal_3 ++ []
def dkwX1_moveRefusal_2 : List UInt8 := [180, 0, 103, 28, 184, 0, 106, 154, 0, 5, 5, 172, 42, 27, 29, 25, 5, 180, 0, 113, 21, 4, 25, 5]
abbrev dktX1_moveRefusal_2 : List UInt8 := dkwX1_moveRefusal_2 ++ dktX1_moveRefusal_3
def dkwX1_moveRefusal_1 : List UInt8 := [16, 7, 172, 42, 27, 182, 0, 99, 154, 0, 26, 42, 180, 0, 20, 27, 182, 0, 41, 192, 0, 52]
abbrev dktX1_moveRefusal_1 : List UInt8 := dkwX1_moveRefusal_1 ++ dktX1_moveRefusal_2
def dkwX1_moveRefusal_0 : List UInt8 := [42, 180, 0, 14, 28, 182, 0, 41, 192, 0, 39, 58, 5, 25, 5, 180, 0, 110, 21, 4, 162, 0, 6]
abbrev dktX1_moveRefusal_0 : List UInt8 := dkwX1_moveRefusal_0 ++ dktX1_moveRefusal_1
theorem dksX1_moveRefusal_0 : cX1_moveRefusal.data.toList.drop 0 = dktX1_moveRefusal_0 := by decide +kernel
theorem dksX1_moveRefusal_1 : cX1_moveRefusal.data.toList.drop 23 = dktX1_moveRefusal_1 := dk_seg dksX1_moveRefusal_0 23 rfl rfl
theorem dksX1_moveRefusal_2 : cX1_moveRefusal.data.toList.drop 45 = dktX1_moveRefusal_2 := dk_seg dksX1_moveRefusal_1 22 rfl rfl
theorem dksX1_moveRefusal_3 : cX1_moveRefusal.data.toList.drop 69 = dktX1_moveRefusal_3 := dk_seg dksX1_moveRefusal_2 24 rfl rfl
theorem dX1_moveRefusal_0 : decode cX1_moveRefusal 0 = .ok (.aload_n 0, 1) := dk_42 (dk_at dksX1_moveRefusal_0 0 rfl rfl)
theorem dX1_moveRefusal_1 : decode cX1_moveRefusal 1 = .ok (.getfield 14, 3) := dk_180 0 14 (dk_at dksX1_moveRefusal_0 1 rfl rfl)
theorem dX1_moveRefusal_4 : decode cX1_moveRefusal 4 = .ok (.iload_n 2, 1) := dk_28 (dk_at dksX1_moveRefusal_0 4 rfl rfl)
theorem dX1_moveRefusal_5 : decode cX1_moveRefusal 5 = .ok (.invokevirtual 41, 3) := dk_182 0 41 (dk_at dksX1_moveRefusal_0 5 rfl rfl)
theorem dX1_moveRefusal_8 : decode cX1_moveRefusal 8 = .ok (.checkcast 39, 3) := dk_192 0 39 (dk_at dksX1_moveRefusal_0 8 rfl rfl)
theorem dX1_moveRefusal_11 : decode cX1_moveRefusal 11 = .ok (.astore 5, 2) := dk_58 5 (dk_at dksX1_moveRefusal_0 11 rfl rfl)
theorem dX1_moveRefusal_13 : decode cX1_moveRefusal 13 = .ok (.aload 5, 2) := dk_25 5 (dk_at dksX1_moveRefusal_0 13 rfl rfl)
theorem dX1_moveRefusal_15 : decode cX1_moveRefusal 15 = .ok (.getfield 110, 3) := dk_180 0 110 (dk_at dksX1_moveRefusal_0 15 rfl rfl)
theorem dX1_moveRefusal_18 : decode cX1_moveRefusal 18 = .ok (.iload 4, 2) := dk_21 4 (dk_at dksX1_moveRefusal_0 18 rfl rfl)
theorem dX1_moveRefusal_20 : decode cX1_moveRefusal 20 = .ok (.if_icmp .ge 6, 3) := dk_162 0 6 (dk_at dksX1_moveRefusal_0 20 rfl rfl)
theorem dX1_moveRefusal_23 : decode cX1_moveRefusal 23 = .ok (.bipush 7, 2) := dk_16 7 (dk_at dksX1_moveRefusal_1 0 rfl rfl)
theorem dX1_moveRefusal_25 : decode cX1_moveRefusal 25 = .ok (.ireturn, 1) := dk_172 (dk_at dksX1_moveRefusal_1 2 rfl rfl)
theorem dX1_moveRefusal_26 : decode cX1_moveRefusal 26 = .ok (.aload_n 0, 1) := dk_42 (dk_at dksX1_moveRefusal_1 3 rfl rfl)
theorem dX1_moveRefusal_27 : decode cX1_moveRefusal 27 = .ok (.iload_n 1, 1) := dk_27 (dk_at dksX1_moveRefusal_1 4 rfl rfl)
theorem dX1_moveRefusal_28 : decode cX1_moveRefusal 28 = .ok (.invokevirtual 99, 3) := dk_182 0 99 (dk_at dksX1_moveRefusal_1 5 rfl rfl)
theorem dX1_moveRefusal_31 : decode cX1_moveRefusal 31 = .ok (.ifCond .ne 26, 3) := dk_154 0 26 (dk_at dksX1_moveRefusal_1 8 rfl rfl)
theorem dX1_moveRefusal_34 : decode cX1_moveRefusal 34 = .ok (.aload_n 0, 1) := dk_42 (dk_at dksX1_moveRefusal_1 11 rfl rfl)
theorem dX1_moveRefusal_35 : decode cX1_moveRefusal 35 = .ok (.getfield 20, 3) := dk_180 0 20 (dk_at dksX1_moveRefusal_1 12 rfl rfl)
theorem dX1_moveRefusal_38 : decode cX1_moveRefusal 38 = .ok (.iload_n 1, 1) := dk_27 (dk_at dksX1_moveRefusal_1 15 rfl rfl)
theorem dX1_moveRefusal_39 : decode cX1_moveRefusal 39 = .ok (.invokevirtual 41, 3) := dk_182 0 41 (dk_at dksX1_moveRefusal_1 16 rfl rfl)
theorem dX1_moveRefusal_42 : decode cX1_moveRefusal 42 = .ok (.checkcast 52, 3) := dk_192 0 52 (dk_at dksX1_moveRefusal_1 19 rfl rfl)
theorem dX1_moveRefusal_45 : decode cX1_moveRefusal 45 = .ok (.getfield 103, 3) := dk_180 0 103 (dk_at dksX1_moveRefusal_2 0 rfl rfl)
theorem dX1_moveRefusal_48 : decode cX1_moveRefusal 48 = .ok (.iload_n 2, 1) := dk_28 (dk_at dksX1_moveRefusal_2 3 rfl rfl)
theorem dX1_moveRefusal_49 : decode cX1_moveRefusal 49 = .ok (.invokestatic 106, 3) := dk_184 0 106 (dk_at dksX1_moveRefusal_2 4 rfl rfl)
theorem dX1_moveRefusal_52 : decode cX1_moveRefusal 52 = .ok (.ifCond .ne 5, 3) := dk_154 0 5 (dk_at dksX1_moveRefusal_2 7 rfl rfl)
theorem dX1_moveRefusal_55 : decode cX1_moveRefusal 55 = .ok (.iconst 2, 1) := dk_5 (dk_at dksX1_moveRefusal_2 10 rfl rfl)
theorem dX1_moveRefusal_56 : decode cX1_moveRefusal 56 = .ok (.ireturn, 1) := dk_172 (dk_at dksX1_moveRefusal_2 11 rfl rfl)
theorem dX1_moveRefusal_57 : decode cX1_moveRefusal 57 = .ok (.aload_n 0, 1) := dk_42 (dk_at dksX1_moveRefusal_2 12 rfl rfl)
theorem dX1_moveRefusal_58 : decode cX1_moveRefusal 58 = .ok (.iload_n 1, 1) := dk_27 (dk_at dksX1_moveRefusal_2 13 rfl rfl)
theorem dX1_moveRefusal_59 : decode cX1_moveRefusal 59 = .ok (.iload_n 3, 1) := dk_29 (dk_at dksX1_moveRefusal_2 14 rfl rfl)
theorem dX1_moveRefusal_60 : decode cX1_moveRefusal 60 = .ok (.aload 5, 2) := dk_25 5 (dk_at dksX1_moveRefusal_2 15 rfl rfl)
theorem dX1_moveRefusal_62 : decode cX1_moveRefusal 62 = .ok (.getfield 113, 3) := dk_180 0 113 (dk_at dksX1_moveRefusal_2 17 rfl rfl)
theorem dX1_moveRefusal_65 : decode cX1_moveRefusal 65 = .ok (.iload 4, 2) := dk_21 4 (dk_at dksX1_moveRefusal_2 20 rfl rfl)
theorem dX1_moveRefusal_67 : decode cX1_moveRefusal 67 = .ok (.aload 5, 2) := dk_25 5 (dk_at dksX1_moveRefusal_2 22 rfl rfl)
theorem dX1_moveRefusal_69 : decode cX1_moveRefusal 69 = .ok (.iload 4, 2) := dk_21 4 (dk_at dksX1_moveRefusal_3 0 rfl rfl)
theorem dX1_moveRefusal_71 : decode cX1_moveRefusal 71 = .ok (.invokevirtual 133, 3) := dk_182 0 133 (dk_at dksX1_moveRefusal_3 2 rfl rfl)
theorem dX1_moveRefusal_74 : decode cX1_moveRefusal 74 = .ok (.iload 4, 2) := dk_21 4 (dk_at dksX1_moveRefusal_3 5 rfl rfl)
theorem dX1_moveRefusal_76 : decode cX1_moveRefusal 76 = .ok (.idiv, 1) := dk_108 (dk_at dksX1_moveRefusal_3 7 rfl rfl)
theorem dX1_moveRefusal_77 : decode cX1_moveRefusal 77 = .ok (.invokevirtual 137, 3) := dk_182 0 137 (dk_at dksX1_moveRefusal_3 8 rfl rfl)
theorem dX1_moveRefusal_80 : decode cX1_moveRefusal 80 = .ok (.ireturn, 1) := dk_172 (dk_at dksX1_moveRefusal_3 11 rfl rfl)
abbrev cX1_init_2 : ByteArray := prog_8_method_2_code
def yX1_init_2 : MethodName := ⟨RX1, "<init>", "(LWheatElevator$State;)V"⟩
def dkwX1_init_2_9 : List UInt8 := [180, 0, 87, 181, 0, 87, 42, 43, 180, 0, 90, 181, 0, 90, 177]
abbrev dktX1_init_2_9 : List UInt8 := dkwX1_init_2_9 ++ []
def dkwX1_init_2_8 : List UInt8 := [180, 0, 77, 181, 0, 77, 42, 43, 180, 0, 80, 181, 0, 80, 42, 43, 180, 0, 83, 181, 0, 83, 42, 43]
abbrev dktX1_init_2_8 : List UInt8 := dkwX1_init_2_8 ++ dktX1_init_2_9
def dkwX1_init_2_7 : List UInt8 := [180, 0, 30, 181, 0, 30, 42, 43, 180, 0, 71, 181, 0, 71, 42, 43, 180, 0, 74, 181, 0, 74, 42, 43]
abbrev dktX1_init_2_7 : List UInt8 := dkwX1_init_2_7 ++ dktX1_init_2_8
def dkwX1_init_2_6 : List UInt8 := [180, 0, 26, 3, 42, 180, 0, 26, 3, 7, 184, 0, 62, 42, 43, 180, 0, 68, 181, 0, 68, 42, 43]
abbrev dktX1_init_2_6 : List UInt8 := dkwX1_init_2_6 ++ dktX1_init_2_7
def dkwX1_init_2_5 : List UInt8 := [180, 0, 23, 28, 182, 0, 41, 192, 0, 57, 183, 0, 59, 182, 0, 48, 87, 132, 2, 1, 167, 255, 216, 43]
abbrev dktX1_init_2_5 : List UInt8 := dkwX1_init_2_5 ++ dktX1_init_2_6
def dkwX1_init_2_4 : List UInt8 := [3, 61, 28, 43, 180, 0, 23, 182, 0, 35, 162, 0, 35, 42, 180, 0, 23, 187, 0, 57, 89, 43]
abbrev dktX1_init_2_4 : List UInt8 := dkwX1_init_2_4 ++ dktX1_init_2_5
def dkwX1_init_2_3 : List UInt8 := [43, 180, 0, 20, 28, 182, 0, 41, 192, 0, 52, 183, 0, 54, 182, 0, 48, 87, 132, 2, 1, 167, 255, 216]
abbrev dktX1_init_2_3 : List UInt8 := dkwX1_init_2_3 ++ dktX1_init_2_4
def dkwX1_init_2_2 : List UInt8 := [167, 255, 216, 3, 61, 28, 43, 180, 0, 20, 182, 0, 35, 162, 0, 35, 42, 180, 0, 20, 187, 0, 52, 89]
abbrev dktX1_init_2_2 : List UInt8 := dkwX1_init_2_2 ++ dktX1_init_2_3
def dkwX1_init_2_1 : List UInt8 := [89, 43, 180, 0, 14, 28, 182, 0, 41, 192, 0, 39, 183, 0, 45, 182, 0, 48, 87, 132, 2, 1]
abbrev dktX1_init_2_1 : List UInt8 := dkwX1_init_2_1 ++ dktX1_init_2_2
def dkwX1_init_2_0 : List UInt8 := [42, 183, 0, 34, 3, 61, 28, 43, 180, 0, 14, 182, 0, 35, 162, 0, 35, 42, 180, 0, 14, 187, 0, 39]
abbrev dktX1_init_2_0 : List UInt8 := dkwX1_init_2_0 ++ dktX1_init_2_1
theorem dksX1_init_2_0 : cX1_init_2.data.toList.drop 0 = dktX1_init_2_0 := by decide +kernel
theorem dksX1_init_2_1 : cX1_init_2.data.toList.drop 24 = dktX1_init_2_1 := dk_seg dksX1_init_2_0 24 rfl rfl
theorem dksX1_init_2_2 : cX1_init_2.data.toList.drop 46 = dktX1_init_2_2 := dk_seg dksX1_init_2_1 22 rfl rfl
theorem dksX1_init_2_3 : cX1_init_2.data.toList.drop 70 = dktX1_init_2_3 := dk_seg dksX1_init_2_2 24 rfl rfl
theorem dksX1_init_2_4 : cX1_init_2.data.toList.drop 94 = dktX1_init_2_4 := dk_seg dksX1_init_2_3 24 rfl rfl
theorem dksX1_init_2_5 : cX1_init_2.data.toList.drop 116 = dktX1_init_2_5 := dk_seg dksX1_init_2_4 22 rfl rfl
theorem dksX1_init_2_6 : cX1_init_2.data.toList.drop 140 = dktX1_init_2_6 := dk_seg dksX1_init_2_5 24 rfl rfl
theorem dksX1_init_2_7 : cX1_init_2.data.toList.drop 163 = dktX1_init_2_7 := dk_seg dksX1_init_2_6 23 rfl rfl
theorem dksX1_init_2_8 : cX1_init_2.data.toList.drop 187 = dktX1_init_2_8 := dk_seg dksX1_init_2_7 24 rfl rfl
theorem dksX1_init_2_9 : cX1_init_2.data.toList.drop 211 = dktX1_init_2_9 := dk_seg dksX1_init_2_8 24 rfl rfl
theorem dX1_init_2_0 : decode cX1_init_2 0 = .ok (.aload_n 0, 1) := dk_42 (dk_at dksX1_init_2_0 0 rfl rfl)
theorem dX1_init_2_1 : decode cX1_init_2 1 = .ok (.invokespecial 34, 3) := dk_183 0 34 (dk_at dksX1_init_2_0 1 rfl rfl)
theorem dX1_init_2_4 : decode cX1_init_2 4 = .ok (.iconst 0, 1) := dk_3 (dk_at dksX1_init_2_0 4 rfl rfl)
theorem dX1_init_2_5 : decode cX1_init_2 5 = .ok (.istore_n 2, 1) := dk_61 (dk_at dksX1_init_2_0 5 rfl rfl)
theorem dX1_init_2_6 : decode cX1_init_2 6 = .ok (.iload_n 2, 1) := dk_28 (dk_at dksX1_init_2_0 6 rfl rfl)
theorem dX1_init_2_7 : decode cX1_init_2 7 = .ok (.aload_n 1, 1) := dk_43 (dk_at dksX1_init_2_0 7 rfl rfl)
theorem dX1_init_2_8 : decode cX1_init_2 8 = .ok (.getfield 14, 3) := dk_180 0 14 (dk_at dksX1_init_2_0 8 rfl rfl)
theorem dX1_init_2_11 : decode cX1_init_2 11 = .ok (.invokevirtual 35, 3) := dk_182 0 35 (dk_at dksX1_init_2_0 11 rfl rfl)
theorem dX1_init_2_14 : decode cX1_init_2 14 = .ok (.if_icmp .ge 35, 3) := dk_162 0 35 (dk_at dksX1_init_2_0 14 rfl rfl)
theorem dX1_init_2_17 : decode cX1_init_2 17 = .ok (.aload_n 0, 1) := dk_42 (dk_at dksX1_init_2_0 17 rfl rfl)
theorem dX1_init_2_18 : decode cX1_init_2 18 = .ok (.getfield 14, 3) := dk_180 0 14 (dk_at dksX1_init_2_0 18 rfl rfl)
theorem dX1_init_2_21 : decode cX1_init_2 21 = .ok (.new 39, 3) := dk_187 0 39 (dk_at dksX1_init_2_0 21 rfl rfl)
theorem dX1_init_2_24 : decode cX1_init_2 24 = .ok (.dup, 1) := dk_89 (dk_at dksX1_init_2_1 0 rfl rfl)
theorem dX1_init_2_25 : decode cX1_init_2 25 = .ok (.aload_n 1, 1) := dk_43 (dk_at dksX1_init_2_1 1 rfl rfl)
theorem dX1_init_2_26 : decode cX1_init_2 26 = .ok (.getfield 14, 3) := dk_180 0 14 (dk_at dksX1_init_2_1 2 rfl rfl)
theorem dX1_init_2_29 : decode cX1_init_2 29 = .ok (.iload_n 2, 1) := dk_28 (dk_at dksX1_init_2_1 5 rfl rfl)
theorem dX1_init_2_30 : decode cX1_init_2 30 = .ok (.invokevirtual 41, 3) := dk_182 0 41 (dk_at dksX1_init_2_1 6 rfl rfl)
theorem dX1_init_2_33 : decode cX1_init_2 33 = .ok (.checkcast 39, 3) := dk_192 0 39 (dk_at dksX1_init_2_1 9 rfl rfl)
theorem dX1_init_2_36 : decode cX1_init_2 36 = .ok (.invokespecial 45, 3) := dk_183 0 45 (dk_at dksX1_init_2_1 12 rfl rfl)
theorem dX1_init_2_39 : decode cX1_init_2 39 = .ok (.invokevirtual 48, 3) := dk_182 0 48 (dk_at dksX1_init_2_1 15 rfl rfl)
theorem dX1_init_2_42 : decode cX1_init_2 42 = .ok (.pop, 1) := dk_87 (dk_at dksX1_init_2_1 18 rfl rfl)
theorem dX1_init_2_43 : decode cX1_init_2 43 = .ok (.iinc 2 1, 3) := dk_132 2 1 (dk_at dksX1_init_2_1 19 rfl rfl)
theorem dX1_init_2_46 : decode cX1_init_2 46 = .ok (.goto (-40), 3) := dk_167 255 216 (dk_at dksX1_init_2_2 0 rfl rfl)
theorem dX1_init_2_49 : decode cX1_init_2 49 = .ok (.iconst 0, 1) := dk_3 (dk_at dksX1_init_2_2 3 rfl rfl)
theorem dX1_init_2_50 : decode cX1_init_2 50 = .ok (.istore_n 2, 1) := dk_61 (dk_at dksX1_init_2_2 4 rfl rfl)
theorem dX1_init_2_51 : decode cX1_init_2 51 = .ok (.iload_n 2, 1) := dk_28 (dk_at dksX1_init_2_2 5 rfl rfl)
theorem dX1_init_2_52 : decode cX1_init_2 52 = .ok (.aload_n 1, 1) := dk_43 (dk_at dksX1_init_2_2 6 rfl rfl)
theorem dX1_init_2_53 : decode cX1_init_2 53 = .ok (.getfield 20, 3) := dk_180 0 20 (dk_at dksX1_init_2_2 7 rfl rfl)
theorem dX1_init_2_56 : decode cX1_init_2 56 = .ok (.invokevirtual 35, 3) := dk_182 0 35 (dk_at dksX1_init_2_2 10 rfl rfl)
theorem dX1_init_2_59 : decode cX1_init_2 59 = .ok (.if_icmp .ge 35, 3) := dk_162 0 35 (dk_at dksX1_init_2_2 13 rfl rfl)
theorem dX1_init_2_62 : decode cX1_init_2 62 = .ok (.aload_n 0, 1) := dk_42 (dk_at dksX1_init_2_2 16 rfl rfl)
theorem dX1_init_2_63 : decode cX1_init_2 63 = .ok (.getfield 20, 3) := dk_180 0 20 (dk_at dksX1_init_2_2 17 rfl rfl)
theorem dX1_init_2_66 : decode cX1_init_2 66 = .ok (.new 52, 3) := dk_187 0 52 (dk_at dksX1_init_2_2 20 rfl rfl)
theorem dX1_init_2_69 : decode cX1_init_2 69 = .ok (.dup, 1) := dk_89 (dk_at dksX1_init_2_2 23 rfl rfl)
theorem dX1_init_2_70 : decode cX1_init_2 70 = .ok (.aload_n 1, 1) := dk_43 (dk_at dksX1_init_2_3 0 rfl rfl)
theorem dX1_init_2_71 : decode cX1_init_2 71 = .ok (.getfield 20, 3) := dk_180 0 20 (dk_at dksX1_init_2_3 1 rfl rfl)
theorem dX1_init_2_74 : decode cX1_init_2 74 = .ok (.iload_n 2, 1) := dk_28 (dk_at dksX1_init_2_3 4 rfl rfl)
theorem dX1_init_2_75 : decode cX1_init_2 75 = .ok (.invokevirtual 41, 3) := dk_182 0 41 (dk_at dksX1_init_2_3 5 rfl rfl)
theorem dX1_init_2_78 : decode cX1_init_2 78 = .ok (.checkcast 52, 3) := dk_192 0 52 (dk_at dksX1_init_2_3 8 rfl rfl)
theorem dX1_init_2_81 : decode cX1_init_2 81 = .ok (.invokespecial 54, 3) := dk_183 0 54 (dk_at dksX1_init_2_3 11 rfl rfl)
theorem dX1_init_2_84 : decode cX1_init_2 84 = .ok (.invokevirtual 48, 3) := dk_182 0 48 (dk_at dksX1_init_2_3 14 rfl rfl)
theorem dX1_init_2_87 : decode cX1_init_2 87 = .ok (.pop, 1) := dk_87 (dk_at dksX1_init_2_3 17 rfl rfl)
theorem dX1_init_2_88 : decode cX1_init_2 88 = .ok (.iinc 2 1, 3) := dk_132 2 1 (dk_at dksX1_init_2_3 18 rfl rfl)
theorem dX1_init_2_91 : decode cX1_init_2 91 = .ok (.goto (-40), 3) := dk_167 255 216 (dk_at dksX1_init_2_3 21 rfl rfl)
theorem dX1_init_2_94 : decode cX1_init_2 94 = .ok (.iconst 0, 1) := dk_3 (dk_at dksX1_init_2_4 0 rfl rfl)
theorem dX1_init_2_95 : decode cX1_init_2 95 = .ok (.istore_n 2, 1) := dk_61 (dk_at dksX1_init_2_4 1 rfl rfl)
theorem dX1_init_2_96 : decode cX1_init_2 96 = .ok (.iload_n 2, 1) := dk_28 (dk_at dksX1_init_2_4 2 rfl rfl)
theorem dX1_init_2_97 : decode cX1_init_2 97 = .ok (.aload_n 1, 1) := dk_43 (dk_at dksX1_init_2_4 3 rfl rfl)
theorem dX1_init_2_98 : decode cX1_init_2 98 = .ok (.getfield 23, 3) := dk_180 0 23 (dk_at dksX1_init_2_4 4 rfl rfl)
theorem dX1_init_2_101 : decode cX1_init_2 101 = .ok (.invokevirtual 35, 3) := dk_182 0 35 (dk_at dksX1_init_2_4 7 rfl rfl)
theorem dX1_init_2_104 : decode cX1_init_2 104 = .ok (.if_icmp .ge 35, 3) := dk_162 0 35 (dk_at dksX1_init_2_4 10 rfl rfl)
theorem dX1_init_2_107 : decode cX1_init_2 107 = .ok (.aload_n 0, 1) := dk_42 (dk_at dksX1_init_2_4 13 rfl rfl)
theorem dX1_init_2_108 : decode cX1_init_2 108 = .ok (.getfield 23, 3) := dk_180 0 23 (dk_at dksX1_init_2_4 14 rfl rfl)
theorem dX1_init_2_111 : decode cX1_init_2 111 = .ok (.new 57, 3) := dk_187 0 57 (dk_at dksX1_init_2_4 17 rfl rfl)
theorem dX1_init_2_114 : decode cX1_init_2 114 = .ok (.dup, 1) := dk_89 (dk_at dksX1_init_2_4 20 rfl rfl)
theorem dX1_init_2_115 : decode cX1_init_2 115 = .ok (.aload_n 1, 1) := dk_43 (dk_at dksX1_init_2_4 21 rfl rfl)
theorem dX1_init_2_116 : decode cX1_init_2 116 = .ok (.getfield 23, 3) := dk_180 0 23 (dk_at dksX1_init_2_5 0 rfl rfl)
theorem dX1_init_2_119 : decode cX1_init_2 119 = .ok (.iload_n 2, 1) := dk_28 (dk_at dksX1_init_2_5 3 rfl rfl)
theorem dX1_init_2_120 : decode cX1_init_2 120 = .ok (.invokevirtual 41, 3) := dk_182 0 41 (dk_at dksX1_init_2_5 4 rfl rfl)
theorem dX1_init_2_123 : decode cX1_init_2 123 = .ok (.checkcast 57, 3) := dk_192 0 57 (dk_at dksX1_init_2_5 7 rfl rfl)
theorem dX1_init_2_126 : decode cX1_init_2 126 = .ok (.invokespecial 59, 3) := dk_183 0 59 (dk_at dksX1_init_2_5 10 rfl rfl)
theorem dX1_init_2_129 : decode cX1_init_2 129 = .ok (.invokevirtual 48, 3) := dk_182 0 48 (dk_at dksX1_init_2_5 13 rfl rfl)
theorem dX1_init_2_132 : decode cX1_init_2 132 = .ok (.pop, 1) := dk_87 (dk_at dksX1_init_2_5 16 rfl rfl)
theorem dX1_init_2_133 : decode cX1_init_2 133 = .ok (.iinc 2 1, 3) := dk_132 2 1 (dk_at dksX1_init_2_5 17 rfl rfl)
theorem dX1_init_2_136 : decode cX1_init_2 136 = .ok (.goto (-40), 3) := dk_167 255 216 (dk_at dksX1_init_2_5 20 rfl rfl)
theorem dX1_init_2_139 : decode cX1_init_2 139 = .ok (.aload_n 1, 1) := dk_43 (dk_at dksX1_init_2_5 23 rfl rfl)
theorem dX1_init_2_140 : decode cX1_init_2 140 = .ok (.getfield 26, 3) := dk_180 0 26 (dk_at dksX1_init_2_6 0 rfl rfl)
theorem dX1_init_2_143 : decode cX1_init_2 143 = .ok (.iconst 0, 1) := dk_3 (dk_at dksX1_init_2_6 3 rfl rfl)
theorem dX1_init_2_144 : decode cX1_init_2 144 = .ok (.aload_n 0, 1) := dk_42 (dk_at dksX1_init_2_6 4 rfl rfl)
theorem dX1_init_2_145 : decode cX1_init_2 145 = .ok (.getfield 26, 3) := dk_180 0 26 (dk_at dksX1_init_2_6 5 rfl rfl)
theorem dX1_init_2_148 : decode cX1_init_2 148 = .ok (.iconst 0, 1) := dk_3 (dk_at dksX1_init_2_6 8 rfl rfl)
theorem dX1_init_2_149 : decode cX1_init_2 149 = .ok (.iconst 4, 1) := dk_7 (dk_at dksX1_init_2_6 9 rfl rfl)
theorem dX1_init_2_150 : decode cX1_init_2 150 = .ok (.invokestatic 62, 3) := dk_184 0 62 (dk_at dksX1_init_2_6 10 rfl rfl)
theorem dX1_init_2_153 : decode cX1_init_2 153 = .ok (.aload_n 0, 1) := dk_42 (dk_at dksX1_init_2_6 13 rfl rfl)
theorem dX1_init_2_154 : decode cX1_init_2 154 = .ok (.aload_n 1, 1) := dk_43 (dk_at dksX1_init_2_6 14 rfl rfl)
theorem dX1_init_2_155 : decode cX1_init_2 155 = .ok (.getfield 68, 3) := dk_180 0 68 (dk_at dksX1_init_2_6 15 rfl rfl)
theorem dX1_init_2_158 : decode cX1_init_2 158 = .ok (.putfield 68, 3) := dk_181 0 68 (dk_at dksX1_init_2_6 18 rfl rfl)
theorem dX1_init_2_161 : decode cX1_init_2 161 = .ok (.aload_n 0, 1) := dk_42 (dk_at dksX1_init_2_6 21 rfl rfl)
theorem dX1_init_2_162 : decode cX1_init_2 162 = .ok (.aload_n 1, 1) := dk_43 (dk_at dksX1_init_2_6 22 rfl rfl)
theorem dX1_init_2_163 : decode cX1_init_2 163 = .ok (.getfield 30, 3) := dk_180 0 30 (dk_at dksX1_init_2_7 0 rfl rfl)
theorem dX1_init_2_166 : decode cX1_init_2 166 = .ok (.putfield 30, 3) := dk_181 0 30 (dk_at dksX1_init_2_7 3 rfl rfl)
theorem dX1_init_2_169 : decode cX1_init_2 169 = .ok (.aload_n 0, 1) := dk_42 (dk_at dksX1_init_2_7 6 rfl rfl)
theorem dX1_init_2_170 : decode cX1_init_2 170 = .ok (.aload_n 1, 1) := dk_43 (dk_at dksX1_init_2_7 7 rfl rfl)
theorem dX1_init_2_171 : decode cX1_init_2 171 = .ok (.getfield 71, 3) := dk_180 0 71 (dk_at dksX1_init_2_7 8 rfl rfl)
theorem dX1_init_2_174 : decode cX1_init_2 174 = .ok (.putfield 71, 3) := dk_181 0 71 (dk_at dksX1_init_2_7 11 rfl rfl)
theorem dX1_init_2_177 : decode cX1_init_2 177 = .ok (.aload_n 0, 1) := dk_42 (dk_at dksX1_init_2_7 14 rfl rfl)
theorem dX1_init_2_178 : decode cX1_init_2 178 = .ok (.aload_n 1, 1) := dk_43 (dk_at dksX1_init_2_7 15 rfl rfl)
theorem dX1_init_2_179 : decode cX1_init_2 179 = .ok (.getfield 74, 3) := dk_180 0 74 (dk_at dksX1_init_2_7 16 rfl rfl)
theorem dX1_init_2_182 : decode cX1_init_2 182 = .ok (.putfield 74, 3) := dk_181 0 74 (dk_at dksX1_init_2_7 19 rfl rfl)
theorem dX1_init_2_185 : decode cX1_init_2 185 = .ok (.aload_n 0, 1) := dk_42 (dk_at dksX1_init_2_7 22 rfl rfl)
theorem dX1_init_2_186 : decode cX1_init_2 186 = .ok (.aload_n 1, 1) := dk_43 (dk_at dksX1_init_2_7 23 rfl rfl)
theorem dX1_init_2_187 : decode cX1_init_2 187 = .ok (.getfield 77, 3) := dk_180 0 77 (dk_at dksX1_init_2_8 0 rfl rfl)
theorem dX1_init_2_190 : decode cX1_init_2 190 = .ok (.putfield 77, 3) := dk_181 0 77 (dk_at dksX1_init_2_8 3 rfl rfl)
theorem dX1_init_2_193 : decode cX1_init_2 193 = .ok (.aload_n 0, 1) := dk_42 (dk_at dksX1_init_2_8 6 rfl rfl)
theorem dX1_init_2_194 : decode cX1_init_2 194 = .ok (.aload_n 1, 1) := dk_43 (dk_at dksX1_init_2_8 7 rfl rfl)
theorem dX1_init_2_195 : decode cX1_init_2 195 = .ok (.getfield 80, 3) := dk_180 0 80 (dk_at dksX1_init_2_8 8 rfl rfl)
theorem dX1_init_2_198 : decode cX1_init_2 198 = .ok (.putfield 80, 3) := dk_181 0 80 (dk_at dksX1_init_2_8 11 rfl rfl)
theorem dX1_init_2_201 : decode cX1_init_2 201 = .ok (.aload_n 0, 1) := dk_42 (dk_at dksX1_init_2_8 14 rfl rfl)
theorem dX1_init_2_202 : decode cX1_init_2 202 = .ok (.aload_n 1, 1) := dk_43 (dk_at dksX1_init_2_8 15 rfl rfl)
theorem dX1_init_2_203 : decode cX1_init_2 203 = .ok (.getfield 83, 3) := dk_180 0 83 (dk_at dksX1_init_2_8 16 rfl rfl)
theorem dX1_init_2_206 : decode cX1_init_2 206 = .ok (.putfield 83, 3) := dk_181 0 83 (dk_at dksX1_init_2_8 19 rfl rfl)
theorem dX1_init_2_209 : decode cX1_init_2 209 = .ok (.aload_n 0, 1) := dk_42 (dk_at dksX1_init_2_8 22 rfl rfl)
theorem dX1_init_2_210 : decode cX1_init_2 210 = .ok (.aload_n 1, 1) := dk_43 (dk_at dksX1_init_2_8 23 rfl rfl)
theorem dX1_init_2_211 : decode cX1_init_2 211 = .ok (.getfield 87, 3) := dk_180 0 87 (dk_at dksX1_init_2_9 0 rfl rfl)
theorem dX1_init_2_214 : decode cX1_init_2 214 = .ok (.putfield 87, 3) := dk_181 0 87 (dk_at dksX1_init_2_9 3 rfl rfl)
theorem dX1_init_2_217 : decode cX1_init_2 217 = .ok (.aload_n 0, 1) := dk_42 (dk_at dksX1_init_2_9 6 rfl rfl)
theorem dX1_init_2_218 : decode cX1_init_2 218 = .ok (.aload_n 1, 1) := dk_43 (dk_at dksX1_init_2_9 7 rfl rfl)
theorem dX1_init_2_219 : decode cX1_init_2 219 = .ok (.getfield 90, 3) := dk_180 0 90 (dk_at dksX1_init_2_9 8 rfl rfl)
theorem dX1_init_2_222 : decode cX1_init_2 222 = .ok (.putfield 90, 3) := dk_181 0 90 (dk_at dksX1_init_2_9 11 rfl rfl)
theorem dX1_init_2_225 : decode cX1_init_2 225 = .ok (.return_, 1) := dk_177 (dk_at dksX1_init_2_9 14 rfl rfl)
abbrev cX1_units : ByteArray := prog_8_method_8_code
def yX1_units : MethodName := ⟨RX1, "units", "()J"⟩
def dkwX1_units_1 : List UInt8 := [192, 0, 39, 180, 0, 110, 133, 97, 64, 132, 3, 1, 167, 255, 224, 31, 173]
abbrev dktX1_units_1 : List UInt8 := dkwX1_units_1 ++ []
def dkwX1_units_0 : List UInt8 := [9, 64, 3, 62, 29, 42, 180, 0, 14, 182, 0, 35, 162, 0, 27, 31, 42, 180, 0, 14, 29, 182, 0, 41]
abbrev dktX1_units_0 : List UInt8 := dkwX1_units_0 ++ dktX1_units_1
theorem dksX1_units_0 : cX1_units.data.toList.drop 0 = dktX1_units_0 := by decide +kernel
theorem dksX1_units_1 : cX1_units.data.toList.drop 24 = dktX1_units_1 := dk_seg dksX1_units_0 24 rfl rfl
theorem dX1_units_0 : decode cX1_units 0 = .ok (.lconst 0, 1) := dk_9 (dk_at dksX1_units_0 0 rfl rfl)
theorem dX1_units_1 : decode cX1_units 1 = .ok (.lstore_n 1, 1) := dk_64 (dk_at dksX1_units_0 1 rfl rfl)
theorem dX1_units_2 : decode cX1_units 2 = .ok (.iconst 0, 1) := dk_3 (dk_at dksX1_units_0 2 rfl rfl)
theorem dX1_units_3 : decode cX1_units 3 = .ok (.istore_n 3, 1) := dk_62 (dk_at dksX1_units_0 3 rfl rfl)
theorem dX1_units_4 : decode cX1_units 4 = .ok (.iload_n 3, 1) := dk_29 (dk_at dksX1_units_0 4 rfl rfl)
theorem dX1_units_5 : decode cX1_units 5 = .ok (.aload_n 0, 1) := dk_42 (dk_at dksX1_units_0 5 rfl rfl)
theorem dX1_units_6 : decode cX1_units 6 = .ok (.getfield 14, 3) := dk_180 0 14 (dk_at dksX1_units_0 6 rfl rfl)
theorem dX1_units_9 : decode cX1_units 9 = .ok (.invokevirtual 35, 3) := dk_182 0 35 (dk_at dksX1_units_0 9 rfl rfl)
theorem dX1_units_12 : decode cX1_units 12 = .ok (.if_icmp .ge 27, 3) := dk_162 0 27 (dk_at dksX1_units_0 12 rfl rfl)
theorem dX1_units_15 : decode cX1_units 15 = .ok (.lload_n 1, 1) := dk_31 (dk_at dksX1_units_0 15 rfl rfl)
theorem dX1_units_16 : decode cX1_units 16 = .ok (.aload_n 0, 1) := dk_42 (dk_at dksX1_units_0 16 rfl rfl)
theorem dX1_units_17 : decode cX1_units 17 = .ok (.getfield 14, 3) := dk_180 0 14 (dk_at dksX1_units_0 17 rfl rfl)
theorem dX1_units_20 : decode cX1_units 20 = .ok (.iload_n 3, 1) := dk_29 (dk_at dksX1_units_0 20 rfl rfl)
theorem dX1_units_21 : decode cX1_units 21 = .ok (.invokevirtual 41, 3) := dk_182 0 41 (dk_at dksX1_units_0 21 rfl rfl)
theorem dX1_units_24 : decode cX1_units 24 = .ok (.checkcast 39, 3) := dk_192 0 39 (dk_at dksX1_units_1 0 rfl rfl)
theorem dX1_units_27 : decode cX1_units 27 = .ok (.getfield 110, 3) := dk_180 0 110 (dk_at dksX1_units_1 3 rfl rfl)
theorem dX1_units_30 : decode cX1_units 30 = .ok (.i2l, 1) := dk_133 (dk_at dksX1_units_1 6 rfl rfl)
theorem dX1_units_31 : decode cX1_units 31 = .ok (.ladd, 1) := dk_97 (dk_at dksX1_units_1 7 rfl rfl)
theorem dX1_units_32 : decode cX1_units 32 = .ok (.lstore_n 1, 1) := dk_64 (dk_at dksX1_units_1 8 rfl rfl)
theorem dX1_units_33 : decode cX1_units 33 = .ok (.iinc 3 1, 3) := dk_132 3 1 (dk_at dksX1_units_1 9 rfl rfl)
theorem dX1_units_36 : decode cX1_units 36 = .ok (.goto (-32), 3) := dk_167 255 224 (dk_at dksX1_units_1 12 rfl rfl)
theorem dX1_units_39 : decode cX1_units 39 = .ok (.lload_n 1, 1) := dk_31 (dk_at dksX1_units_1 15 rfl rfl)
theorem dX1_units_40 : decode cX1_units 40 = .ok (.lreturn, 1) := dk_173 (dk_at dksX1_units_1 16 rfl rfl)
abbrev cX1_points : ByteArray := prog_8_method_9_code
def yX1_points : MethodName := ⟨RX1, "points", "()I"⟩
def dkwX1_points_1 : List UInt8 := [192, 0, 39, 180, 0, 149, 96, 60, 132, 2, 1, 167, 255, 225, 27, 172]
abbrev dktX1_points_1 : List UInt8 := dkwX1_points_1 ++ []
def dkwX1_points_0 : List UInt8 := [3, 60, 3, 61, 28, 42, 180, 0, 14, 182, 0, 35, 162, 0, 26, 27, 42, 180, 0, 14, 28, 182, 0, 41]
abbrev dktX1_points_0 : List UInt8 := dkwX1_points_0 ++ dktX1_points_1
theorem dksX1_points_0 : cX1_points.data.toList.drop 0 = dktX1_points_0 := by decide +kernel
theorem dksX1_points_1 : cX1_points.data.toList.drop 24 = dktX1_points_1 := dk_seg dksX1_points_0 24 rfl rfl
theorem dX1_points_0 : decode cX1_points 0 = .ok (.iconst 0, 1) := dk_3 (dk_at dksX1_points_0 0 rfl rfl)
theorem dX1_points_1 : decode cX1_points 1 = .ok (.istore_n 1, 1) := dk_60 (dk_at dksX1_points_0 1 rfl rfl)
theorem dX1_points_2 : decode cX1_points 2 = .ok (.iconst 0, 1) := dk_3 (dk_at dksX1_points_0 2 rfl rfl)
theorem dX1_points_3 : decode cX1_points 3 = .ok (.istore_n 2, 1) := dk_61 (dk_at dksX1_points_0 3 rfl rfl)
theorem dX1_points_4 : decode cX1_points 4 = .ok (.iload_n 2, 1) := dk_28 (dk_at dksX1_points_0 4 rfl rfl)
theorem dX1_points_5 : decode cX1_points 5 = .ok (.aload_n 0, 1) := dk_42 (dk_at dksX1_points_0 5 rfl rfl)
theorem dX1_points_6 : decode cX1_points 6 = .ok (.getfield 14, 3) := dk_180 0 14 (dk_at dksX1_points_0 6 rfl rfl)
theorem dX1_points_9 : decode cX1_points 9 = .ok (.invokevirtual 35, 3) := dk_182 0 35 (dk_at dksX1_points_0 9 rfl rfl)
theorem dX1_points_12 : decode cX1_points 12 = .ok (.if_icmp .ge 26, 3) := dk_162 0 26 (dk_at dksX1_points_0 12 rfl rfl)
theorem dX1_points_15 : decode cX1_points 15 = .ok (.iload_n 1, 1) := dk_27 (dk_at dksX1_points_0 15 rfl rfl)
theorem dX1_points_16 : decode cX1_points 16 = .ok (.aload_n 0, 1) := dk_42 (dk_at dksX1_points_0 16 rfl rfl)
theorem dX1_points_17 : decode cX1_points 17 = .ok (.getfield 14, 3) := dk_180 0 14 (dk_at dksX1_points_0 17 rfl rfl)
theorem dX1_points_20 : decode cX1_points 20 = .ok (.iload_n 2, 1) := dk_28 (dk_at dksX1_points_0 20 rfl rfl)
theorem dX1_points_21 : decode cX1_points 21 = .ok (.invokevirtual 41, 3) := dk_182 0 41 (dk_at dksX1_points_0 21 rfl rfl)
theorem dX1_points_24 : decode cX1_points 24 = .ok (.checkcast 39, 3) := dk_192 0 39 (dk_at dksX1_points_1 0 rfl rfl)
theorem dX1_points_27 : decode cX1_points 27 = .ok (.getfield 149, 3) := dk_180 0 149 (dk_at dksX1_points_1 3 rfl rfl)
theorem dX1_points_30 : decode cX1_points 30 = .ok (.iadd, 1) := dk_96 (dk_at dksX1_points_1 6 rfl rfl)
theorem dX1_points_31 : decode cX1_points 31 = .ok (.istore_n 1, 1) := dk_60 (dk_at dksX1_points_1 7 rfl rfl)
theorem dX1_points_32 : decode cX1_points 32 = .ok (.iinc 2 1, 3) := dk_132 2 1 (dk_at dksX1_points_1 8 rfl rfl)
theorem dX1_points_35 : decode cX1_points 35 = .ok (.goto (-31), 3) := dk_167 255 225 (dk_at dksX1_points_1 11 rfl rfl)
theorem dX1_points_38 : decode cX1_points 38 = .ok (.iload_n 1, 1) := dk_27 (dk_at dksX1_points_1 14 rfl rfl)
theorem dX1_points_39 : decode cX1_points 39 = .ok (.ireturn, 1) := dk_172 (dk_at dksX1_points_1 15 rfl rfl)
theorem q90 : (Jvm.Cond.initialized "WheatElevator$State") ∈ lw_all := lw_g (lw_at lw_m1 2 rfl) rfl
theorem q121 : (Jvm.Cond.instantiable "WheatElevator$State" (13 : Nat)) ∈ lw_all := lw_g (lw_at lw_m1 33 rfl) rfl
theorem q123 : (Jvm.Cond.instanceMethod ({ cls := "WheatElevator$State", name := "<init>", desc := "()V" } : Jvm.MethodName)) ∈ lw_all := lw_g (lw_at lw_m1 35 rfl) rfl
theorem q124 : (Jvm.Cond.code ({ cls := "WheatElevator$State", name := "<init>", desc := "()V" } : Jvm.MethodName) prog_8_method_1_code (1 : Nat) (Option.none : Option Jvm.ClassFile.FieldType)) ∈ lw_all := lw_g (lw_at lw_m1 36 rfl) rfl
theorem q125 : (Jvm.Cond.methodLink "WheatElevator$State" (3 : Nat) ({ cls := "java/lang/Object", name := "<init>", desc := "()V" } : Jvm.MethodName)) ∈ lw_all := lw_g (lw_at lw_m1 37 rfl) rfl
theorem q126 : (Jvm.Cond.classLink "WheatElevator$State" (9 : Nat) "java/util/ArrayList") ∈ lw_all := lw_g (lw_at lw_m1 38 rfl) rfl
theorem q128 : (Jvm.Cond.methodLink "WheatElevator$State" (11 : Nat) ({ cls := "java/util/ArrayList", name := "<init>", desc := "(I)V" } : Jvm.MethodName)) ∈ lw_all := lw_g (lw_at lw_m1 40 rfl) rfl
theorem q154 : (Jvm.Cond.fieldLink "WheatElevator$State" (14 : Nat) "WheatElevator$State" "bins" "Ljava/util/ArrayList;") ∈ lw_all := lw_g (lw_at lw_m1 66 rfl) rfl
theorem q156 : (Jvm.Cond.fieldLink "WheatElevator$State" (20 : Nat) "WheatElevator$State" "legs" "Ljava/util/ArrayList;") ∈ lw_all := lw_g (lw_at lw_m1 68 rfl) rfl
theorem q158 : (Jvm.Cond.fieldLink "WheatElevator$State" (23 : Nat) "WheatElevator$State" "contracts" "Ljava/util/ArrayList;") ∈ lw_all := lw_g (lw_at lw_m1 70 rfl) rfl
theorem q160 : (Jvm.Cond.fieldLink "WheatElevator$State" (26 : Nat) "WheatElevator$State" "prices" "[I") ∈ lw_all := lw_g (lw_at lw_m1 72 rfl) rfl
theorem q162 : (Jvm.Cond.fieldLink "WheatElevator$State" (68 : Nat) "WheatElevator$State" "clock" "I") ∈ lw_all := lw_g (lw_at lw_m1 74 rfl) rfl
theorem q164 : (Jvm.Cond.fieldLink "WheatElevator$State" (30 : Nat) "WheatElevator$State" "dustLimit" "I") ∈ lw_all := lw_g (lw_at lw_m1 76 rfl) rfl
theorem q166 : (Jvm.Cond.fieldLink "WheatElevator$State" (71 : Nat) "WheatElevator$State" "reason" "I") ∈ lw_all := lw_g (lw_at lw_m1 78 rfl) rfl
theorem q168 : (Jvm.Cond.fieldLink "WheatElevator$State" (74 : Nat) "WheatElevator$State" "received" "I") ∈ lw_all := lw_g (lw_at lw_m1 80 rfl) rfl
theorem q170 : (Jvm.Cond.fieldLink "WheatElevator$State" (77 : Nat) "WheatElevator$State" "loaded" "I") ∈ lw_all := lw_g (lw_at lw_m1 82 rfl) rfl
theorem q172 : (Jvm.Cond.fieldLink "WheatElevator$State" (80 : Nat) "WheatElevator$State" "lost" "I") ∈ lw_all := lw_g (lw_at lw_m1 84 rfl) rfl
theorem q174 : (Jvm.Cond.fieldLink "WheatElevator$State" (83 : Nat) "WheatElevator$State" "paid" "J") ∈ lw_all := lw_g (lw_at lw_m1 86 rfl) rfl
theorem q176 : (Jvm.Cond.fieldLink "WheatElevator$State" (87 : Nat) "WheatElevator$State" "earned" "J") ∈ lw_all := lw_g (lw_at lw_m1 88 rfl) rfl
theorem q178 : (Jvm.Cond.fieldLink "WheatElevator$State" (90 : Nat) "WheatElevator$State" "spent" "J") ∈ lw_all := lw_g (lw_at lw_m1 90 rfl) rfl
theorem q180 : (Jvm.Cond.laysFinal "WheatElevator$State" "WheatElevator$State" "bins" "Ljava/util/ArrayList;") ∈ lw_all := lw_g (lw_at lw_m1 92 rfl) rfl
theorem q181 : (Jvm.Cond.soleField "WheatElevator$State" "bins") ∈ lw_all := lw_g (lw_at lw_m1 93 rfl) rfl
theorem q182 : (Jvm.Cond.laysFinal "WheatElevator$State" "WheatElevator$State" "legs" "Ljava/util/ArrayList;") ∈ lw_all := lw_g (lw_at lw_m1 94 rfl) rfl
theorem q183 : (Jvm.Cond.soleField "WheatElevator$State" "legs") ∈ lw_all := lw_g (lw_at lw_m1 95 rfl) rfl
theorem q184 : (Jvm.Cond.laysFinal "WheatElevator$State" "WheatElevator$State" "contracts" "Ljava/util/ArrayList;") ∈ lw_all := lw_g (lw_at lw_m1 96 rfl) rfl
theorem q185 : (Jvm.Cond.soleField "WheatElevator$State" "contracts") ∈ lw_all := lw_g (lw_at lw_m1 97 rfl) rfl
theorem q186 : (Jvm.Cond.laysFinal "WheatElevator$State" "WheatElevator$State" "prices" "[I") ∈ lw_all := lw_g (lw_at lw_m1 98 rfl) rfl
theorem q187 : (Jvm.Cond.soleField "WheatElevator$State" "prices") ∈ lw_all := lw_g (lw_at lw_m1 99 rfl) rfl
theorem q188 : (Jvm.Cond.lays "WheatElevator$State" "WheatElevator$State" "clock" "I") ∈ lw_all := lw_g (lw_at lw_m1 100 rfl) rfl
theorem q189 : (Jvm.Cond.soleField "WheatElevator$State" "clock") ∈ lw_all := lw_g (lw_at lw_m1 101 rfl) rfl
theorem q190 : (Jvm.Cond.lays "WheatElevator$State" "WheatElevator$State" "dustLimit" "I") ∈ lw_all := lw_g (lw_at lw_m1 102 rfl) rfl
theorem q191 : (Jvm.Cond.soleField "WheatElevator$State" "dustLimit") ∈ lw_all := lw_g (lw_at lw_m1 103 rfl) rfl
theorem q192 : (Jvm.Cond.lays "WheatElevator$State" "WheatElevator$State" "reason" "I") ∈ lw_all := lw_g (lw_at lw_m1 104 rfl) rfl
theorem q193 : (Jvm.Cond.soleField "WheatElevator$State" "reason") ∈ lw_all := lw_g (lw_at lw_m1 105 rfl) rfl
theorem q194 : (Jvm.Cond.lays "WheatElevator$State" "WheatElevator$State" "received" "I") ∈ lw_all := lw_g (lw_at lw_m1 106 rfl) rfl
theorem q195 : (Jvm.Cond.soleField "WheatElevator$State" "received") ∈ lw_all := lw_g (lw_at lw_m1 107 rfl) rfl
theorem q196 : (Jvm.Cond.lays "WheatElevator$State" "WheatElevator$State" "loaded" "I") ∈ lw_all := lw_g (lw_at lw_m1 108 rfl) rfl
theorem q197 : (Jvm.Cond.soleField "WheatElevator$State" "loaded") ∈ lw_all := lw_g (lw_at lw_m1 109 rfl) rfl
theorem q198 : (Jvm.Cond.lays "WheatElevator$State" "WheatElevator$State" "lost" "I") ∈ lw_all := lw_g (lw_at lw_m1 110 rfl) rfl
theorem q199 : (Jvm.Cond.soleField "WheatElevator$State" "lost") ∈ lw_all := lw_g (lw_at lw_m1 111 rfl) rfl
theorem q200 : (Jvm.Cond.lays "WheatElevator$State" "WheatElevator$State" "paid" "J") ∈ lw_all := lw_g (lw_at lw_m1 112 rfl) rfl
theorem q201 : (Jvm.Cond.soleField "WheatElevator$State" "paid") ∈ lw_all := lw_g (lw_at lw_m1 113 rfl) rfl
theorem q202 : (Jvm.Cond.lays "WheatElevator$State" "WheatElevator$State" "earned" "J") ∈ lw_all := lw_g (lw_at lw_m1 114 rfl) rfl
theorem q203 : (Jvm.Cond.soleField "WheatElevator$State" "earned") ∈ lw_all := lw_g (lw_at lw_m1 115 rfl) rfl
theorem q204 : (Jvm.Cond.lays "WheatElevator$State" "WheatElevator$State" "spent" "J") ∈ lw_all := lw_g (lw_at lw_m1 116 rfl) rfl
theorem q205 : (Jvm.Cond.soleField "WheatElevator$State" "spent") ∈ lw_all := lw_g (lw_at lw_m1 117 rfl) rfl
theorem q206 : (Jvm.Cond.superclass "WheatElevator$State" "java/lang/Object") ∈ lw_all := lw_g (lw_at lw_m1 118 rfl) rfl
theorem q283 : (Jvm.Cond.instanceMethod ({ cls := "WheatElevator$State", name := "refusal", desc := "(IIIII)I" } : Jvm.MethodName)) ∈ lw_all := lw_g (lw_at lw_m1 195 rfl) rfl
theorem q284 : (Jvm.Cond.selects "WheatElevator$State" ({ cls := "WheatElevator$State", name := "refusal", desc := "(IIIII)I" } : Jvm.MethodName) ({ cls := "WheatElevator$State", name := "refusal", desc := "(IIIII)I" } : Jvm.MethodName)) ∈ lw_all := lw_g (lw_at lw_m1 196 rfl) rfl
theorem q285 : (Jvm.Cond.code ({ cls := "WheatElevator$State", name := "refusal", desc := "(IIIII)I" } : Jvm.MethodName) prog_8_method_5_code (7 : Nat) (Option.some Jvm.ClassFile.FieldType.int)) ∈ lw_all := lw_g (lw_at lw_m1 197 rfl) rfl
theorem q286 : (Jvm.Cond.methodLink "WheatElevator$State" (41 : Nat) ({ cls := "java/util/ArrayList", name := "get", desc := "(I)Ljava/lang/Object;" } : Jvm.MethodName)) ∈ lw_all := lw_g (lw_at lw_m1 198 rfl) rfl
theorem q300 : (Jvm.Cond.classLink "WheatElevator$State" (39 : Nat) "WheatElevator$Bin") ∈ lw_all := lw_g (lw_at lw_m1 212 rfl) rfl
theorem q301 : (Jvm.Cond.methodLink "WheatElevator$State" (99 : Nat) ({ cls := "WheatElevator$State", name := "stands", desc := "(I)Z" } : Jvm.MethodName)) ∈ lw_all := lw_g (lw_at lw_m1 213 rfl) rfl
theorem q302 : (Jvm.Cond.instanceMethod ({ cls := "WheatElevator$State", name := "stands", desc := "(I)Z" } : Jvm.MethodName)) ∈ lw_all := lw_g (lw_at lw_m1 214 rfl) rfl
theorem q303 : (Jvm.Cond.selects "WheatElevator$State" ({ cls := "WheatElevator$State", name := "stands", desc := "(I)Z" } : Jvm.MethodName) ({ cls := "WheatElevator$State", name := "stands", desc := "(I)Z" } : Jvm.MethodName)) ∈ lw_all := lw_g (lw_at lw_m1 215 rfl) rfl
theorem q304 : (Jvm.Cond.code ({ cls := "WheatElevator$State", name := "stands", desc := "(I)Z" } : Jvm.MethodName) prog_8_method_4_code (2 : Nat) (Option.some Jvm.ClassFile.FieldType.boolean)) ∈ lw_all := lw_g (lw_at lw_m1 216 rfl) rfl
theorem q305 : (Jvm.Cond.classLink "WheatElevator$State" (52 : Nat) "WheatElevator$Leg") ∈ lw_all := lw_g (lw_at lw_m1 217 rfl) rfl
theorem q306 : (Jvm.Cond.methodLinkNest "WheatElevator$State" (106 : Nat) ({ cls := "WheatElevator", name := "has", desc := "(II)Z" } : Jvm.MethodName) "WheatElevator") ∈ lw_tbl := lw_at lw_m1 218 rfl
theorem q309 : (Jvm.Cond.methodLinkNest "WheatElevator$State" (122 : Nat) ({ cls := "WheatElevator", name := "isIn", desc := "(III)Z" } : Jvm.MethodName) "WheatElevator") ∈ lw_tbl := lw_at lw_m1 221 rfl
theorem q310 : (Jvm.Cond.methodLink "WheatElevator$State" (129 : Nat) ({ cls := "WheatElevator$Bin", name := "isSpoilt", desc := "()Z" } : Jvm.MethodName)) ∈ lw_all := lw_g (lw_at lw_m1 222 rfl) rfl
theorem q319 : (Jvm.Cond.instanceMethod ({ cls := "WheatElevator$State", name := "minutesOf", desc := "(II)I" } : Jvm.MethodName)) ∈ lw_all := lw_g (lw_at lw_m1 231 rfl) rfl
theorem q320 : (Jvm.Cond.selects "WheatElevator$State" ({ cls := "WheatElevator$State", name := "minutesOf", desc := "(II)I" } : Jvm.MethodName) ({ cls := "WheatElevator$State", name := "minutesOf", desc := "(II)I" } : Jvm.MethodName)) ∈ lw_all := lw_g (lw_at lw_m1 232 rfl) rfl
theorem q321 : (Jvm.Cond.code ({ cls := "WheatElevator$State", name := "minutesOf", desc := "(II)I" } : Jvm.MethodName) prog_8_method_10_code (3 : Nat) (Option.some Jvm.ClassFile.FieldType.int)) ∈ lw_all := lw_g (lw_at lw_m1 233 rfl) rfl
theorem q322 : (Jvm.Cond.methodLinkNest "WheatElevator$State" (155 : Nat) ({ cls := "WheatElevator", name := "minutesFor", desc := "(II)I" } : Jvm.MethodName) "WheatElevator") ∈ lw_tbl := lw_at lw_m1 234 rfl
theorem q338 : (Jvm.Cond.instanceMethod ({ cls := "WheatElevator$State", name := "pass", desc := "(I)V" } : Jvm.MethodName)) ∈ lw_all := lw_g (lw_at lw_m2 10 rfl) rfl
theorem q339 : (Jvm.Cond.selects "WheatElevator$State" ({ cls := "WheatElevator$State", name := "pass", desc := "(I)V" } : Jvm.MethodName) ({ cls := "WheatElevator$State", name := "pass", desc := "(I)V" } : Jvm.MethodName)) ∈ lw_all := lw_g (lw_at lw_m2 11 rfl) rfl
theorem q340 : (Jvm.Cond.code ({ cls := "WheatElevator$State", name := "pass", desc := "(I)V" } : Jvm.MethodName) prog_8_method_3_code (3 : Nat) (Option.none : Option Jvm.ClassFile.FieldType)) ∈ lw_all := lw_g (lw_at lw_m2 12 rfl) rfl
theorem q341 : (Jvm.Cond.methodLink "WheatElevator$State" (35 : Nat) ({ cls := "java/util/ArrayList", name := "size", desc := "()I" } : Jvm.MethodName)) ∈ lw_all := lw_g (lw_at lw_m2 13 rfl) rfl
theorem q342 : (Jvm.Cond.methodLink "WheatElevator$State" (93 : Nat) ({ cls := "WheatElevator$Bin", name := "pass", desc := "(I)V" } : Jvm.MethodName)) ∈ lw_all := lw_g (lw_at lw_m2 14 rfl) rfl
theorem q372 : (Jvm.Cond.instanceMethod ({ cls := "WheatElevator$State", name := "payFor", desc := "(III)J" } : Jvm.MethodName)) ∈ lw_all := lw_g (lw_at lw_m2 44 rfl) rfl
theorem q373 : (Jvm.Cond.selects "WheatElevator$State" ({ cls := "WheatElevator$State", name := "payFor", desc := "(III)J" } : Jvm.MethodName) ({ cls := "WheatElevator$State", name := "payFor", desc := "(III)J" } : Jvm.MethodName)) ∈ lw_all := lw_g (lw_at lw_m2 45 rfl) rfl
theorem q374 : (Jvm.Cond.code ({ cls := "WheatElevator$State", name := "payFor", desc := "(III)J" } : Jvm.MethodName) prog_8_method_7_code (4 : Nat) (Option.some Jvm.ClassFile.FieldType.long)) ∈ lw_all := lw_g (lw_at lw_m2 46 rfl) rfl
theorem q375 : (Jvm.Cond.methodLink "WheatElevator$State" (141 : Nat) ({ cls := "java/lang/Math", name := "max", desc := "(II)I" } : Jvm.MethodName)) ∈ lw_all := lw_g (lw_at lw_m2 47 rfl) rfl
theorem q378 : (Jvm.Cond.constantLong "WheatElevator$State" (147 : Nat) (1000 : Int64)) ∈ lw_all := lw_g (lw_at lw_m2 50 rfl) rfl
theorem q412 : (Jvm.Cond.instanceMethod ({ cls := "WheatElevator$State", name := "moveRefusal", desc := "(IIII)I" } : Jvm.MethodName)) ∈ lw_all := lw_g (lw_at lw_m2 84 rfl) rfl
theorem q413 : (Jvm.Cond.selects "WheatElevator$State" ({ cls := "WheatElevator$State", name := "moveRefusal", desc := "(IIII)I" } : Jvm.MethodName) ({ cls := "WheatElevator$State", name := "moveRefusal", desc := "(IIII)I" } : Jvm.MethodName)) ∈ lw_all := lw_g (lw_at lw_m2 85 rfl) rfl
theorem q414 : (Jvm.Cond.code ({ cls := "WheatElevator$State", name := "moveRefusal", desc := "(IIII)I" } : Jvm.MethodName) prog_8_method_6_code (6 : Nat) (Option.some Jvm.ClassFile.FieldType.int)) ∈ lw_all := lw_g (lw_at lw_m2 86 rfl) rfl
theorem q415 : (Jvm.Cond.methodLink "WheatElevator$State" (133 : Nat) ({ cls := "WheatElevator$Bin", name := "pointsOf", desc := "(I)I" } : Jvm.MethodName)) ∈ lw_all := lw_g (lw_at lw_m2 87 rfl) rfl
theorem q419 : (Jvm.Cond.methodLink "WheatElevator$State" (137 : Nat) ({ cls := "WheatElevator$State", name := "refusal", desc := "(IIIII)I" } : Jvm.MethodName)) ∈ lw_all := lw_g (lw_at lw_m2 91 rfl) rfl
theorem q567 : (Jvm.Cond.selects "WheatElevator$State" ({ cls := "java/lang/Object", name := "getClass", desc := "()Ljava/lang/Class;" } : Jvm.MethodName) ({ cls := "java/lang/Object", name := "getClass", desc := "()Ljava/lang/Class;" } : Jvm.MethodName)) ∈ lw_all := lw_g (lw_at lw_m2 239 rfl) rfl
theorem q584 : (Jvm.Cond.instanceMethod ({ cls := "WheatElevator$State", name := "<init>", desc := "(LWheatElevator$State;)V" } : Jvm.MethodName)) ∈ lw_all := lw_g (lw_at lw_m3 16 rfl) rfl
theorem q585 : (Jvm.Cond.code ({ cls := "WheatElevator$State", name := "<init>", desc := "(LWheatElevator$State;)V" } : Jvm.MethodName) prog_8_method_2_code (3 : Nat) (Option.none : Option Jvm.ClassFile.FieldType)) ∈ lw_all := lw_g (lw_at lw_m3 17 rfl) rfl
theorem q586 : (Jvm.Cond.methodLink "WheatElevator$State" (34 : Nat) ({ cls := "WheatElevator$State", name := "<init>", desc := "()V" } : Jvm.MethodName)) ∈ lw_all := lw_g (lw_at lw_m3 18 rfl) rfl
theorem q587 : (Jvm.Cond.methodLink "WheatElevator$State" (45 : Nat) ({ cls := "WheatElevator$Bin", name := "<init>", desc := "(LWheatElevator$Bin;)V" } : Jvm.MethodName)) ∈ lw_all := lw_g (lw_at lw_m3 19 rfl) rfl
theorem q595 : (Jvm.Cond.fieldLinkNest "WheatElevator$State" (126 : Nat) "WheatElevator$Bin" "capacity" "I" "WheatElevator") ∈ lw_tbl := lw_at lw_m3 27 rfl
theorem q598 : (Jvm.Cond.fieldLinkNest "WheatElevator$State" (116 : Nat) "WheatElevator$Bin" "low" "I" "WheatElevator") ∈ lw_tbl := lw_at lw_m3 30 rfl
theorem q601 : (Jvm.Cond.fieldLinkNest "WheatElevator$State" (119 : Nat) "WheatElevator$Bin" "high" "I" "WheatElevator") ∈ lw_tbl := lw_at lw_m3 33 rfl
theorem q604 : (Jvm.Cond.fieldLinkNest "WheatElevator$State" (110 : Nat) "WheatElevator$Bin" "amount" "I" "WheatElevator") ∈ lw_tbl := lw_at lw_m3 36 rfl
theorem q607 : (Jvm.Cond.fieldLinkNest "WheatElevator$State" (149 : Nat) "WheatElevator$Bin" "points" "I" "WheatElevator") ∈ lw_tbl := lw_at lw_m3 39 rfl
theorem q609 : (Jvm.Cond.fieldLinkNest "WheatElevator$State" (113 : Nat) "WheatElevator$Bin" "kind" "I" "WheatElevator") ∈ lw_tbl := lw_at lw_m3 41 rfl
theorem q636 : (Jvm.Cond.methodLink "WheatElevator$State" (48 : Nat) ({ cls := "java/util/ArrayList", name := "add", desc := "(Ljava/lang/Object;)Z" } : Jvm.MethodName)) ∈ lw_all := lw_g (lw_at lw_m3 68 rfl) rfl
theorem q665 : (Jvm.Cond.methodLink "WheatElevator$State" (54 : Nat) ({ cls := "WheatElevator$Leg", name := "<init>", desc := "(LWheatElevator$Leg;)V" } : Jvm.MethodName)) ∈ lw_all := lw_g (lw_at lw_m3 97 rfl) rfl
theorem q673 : (Jvm.Cond.fieldLinkNest "WheatElevator$State" (152 : Nat) "WheatElevator$Leg" "speed" "I" "WheatElevator") ∈ lw_tbl := lw_at lw_m3 105 rfl
theorem q676 : (Jvm.Cond.fieldLinkNest "WheatElevator$State" (103 : Nat) "WheatElevator$Leg" "spouts" "I" "WheatElevator") ∈ lw_tbl := lw_at lw_m3 108 rfl
theorem q679 : (Jvm.Cond.fieldLinkNest "WheatElevator$State" (96 : Nat) "WheatElevator$Leg" "dust" "I" "WheatElevator") ∈ lw_tbl := lw_at lw_m3 111 rfl
theorem q692 : (Jvm.Cond.classLink "WheatElevator$State" (57 : Nat) "WheatElevator$Contract") ∈ lw_all := lw_g (lw_at lw_m3 124 rfl) rfl
theorem q694 : (Jvm.Cond.methodLink "WheatElevator$State" (59 : Nat) ({ cls := "WheatElevator$Contract", name := "<init>", desc := "(LWheatElevator$Contract;)V" } : Jvm.MethodName)) ∈ lw_all := lw_g (lw_at lw_m3 126 rfl) rfl
theorem q722 : (Jvm.Cond.methodLink "WheatElevator$State" (62 : Nat) ({ cls := "java/lang/System", name := "arraycopy", desc := "(Ljava/lang/Object;ILjava/lang/Object;II)V" } : Jvm.MethodName)) ∈ lw_all := lw_g (lw_at lw_m3 154 rfl) rfl
theorem q767 : (Jvm.Cond.instanceMethod ({ cls := "WheatElevator$State", name := "units", desc := "()J" } : Jvm.MethodName)) ∈ lw_all := lw_g (lw_at lw_m3 199 rfl) rfl
theorem q768 : (Jvm.Cond.selects "WheatElevator$State" ({ cls := "WheatElevator$State", name := "units", desc := "()J" } : Jvm.MethodName) ({ cls := "WheatElevator$State", name := "units", desc := "()J" } : Jvm.MethodName)) ∈ lw_all := lw_g (lw_at lw_m3 200 rfl) rfl
theorem q769 : (Jvm.Cond.code ({ cls := "WheatElevator$State", name := "units", desc := "()J" } : Jvm.MethodName) prog_8_method_8_code (4 : Nat) (Option.some Jvm.ClassFile.FieldType.long)) ∈ lw_all := lw_g (lw_at lw_m3 201 rfl) rfl
theorem q771 : (Jvm.Cond.instanceMethod ({ cls := "WheatElevator$State", name := "points", desc := "()I" } : Jvm.MethodName)) ∈ lw_all := lw_g (lw_at lw_m3 203 rfl) rfl
theorem q772 : (Jvm.Cond.selects "WheatElevator$State" ({ cls := "WheatElevator$State", name := "points", desc := "()I" } : Jvm.MethodName) ({ cls := "WheatElevator$State", name := "points", desc := "()I" } : Jvm.MethodName)) ∈ lw_all := lw_g (lw_at lw_m3 204 rfl) rfl
theorem q773 : (Jvm.Cond.code ({ cls := "WheatElevator$State", name := "points", desc := "()I" } : Jvm.MethodName) prog_8_method_9_code (3 : Nat) (Option.some Jvm.ClassFile.FieldType.int)) ∈ lw_all := lw_g (lw_at lw_m3 205 rfl) rfl
theorem q1574 : (Jvm.Cond.castable "WheatElevator$State" "java/lang/Object") ∈ lw_tbl := lw_at lw_m7 46 rfl
theorem in_X1 : ∀ w ∈ wsX10, w ∈ lw_all := lw_in wsX10 [180, 182, 184, 186, 188, 190, 192, 194, 196, 198, 200, 202, 204] (by decide +kernel) (by decide +kernel)

/-! WheatElevator$Order -/
set_option maxRecDepth 100000
def RX2 : String := "WheatElevator$Order"
def TX2 : u_T := fun k => match k with
  | 0 => ("WheatElevator$Order", "letter", "C", true)
  | 1 => ("WheatElevator$Order", "many", "I", true)
  | 2 => ("WheatElevator$Order", "fault", "LWheatElevator$Deed;", true)
  | _ => ("WheatElevator$Order", "deed", "LWheatElevator$Deed;", true)
def tyX2 : Nat → FieldType := fun k => match k with
  | 0 => .char
  | 1 => .int
  | 2 => .object "WheatElevator$Deed"
  | _ => .object "WheatElevator$Deed"
abbrev wsX20 : List Cond := u_ws RX2 TX2 4
theorem nmX2 : ∀ a, a < 4 → ∀ b, b < 4 → a ≠ b → (TX2 a).2.1 ≠ (TX2 b).2.1 := by decide +kernel
theorem tyX2_ok : ∀ k, k < 4 → parseFieldDescriptor (TX2 k).2.2.1 = some (tyX2 k) := by decide +kernel
abbrev cX2_init : ByteArray := prog_6_method_1_code
def yX2_init : MethodName := ⟨RX2, "<init>", "(CILWheatElevator$Deed;LWheatElevator$Deed;)V"⟩
def dkwX2_init_1 : List UInt8 := [181, 0, 21, 177]
abbrev dktX2_init_1 : List UInt8 := dkwX2_init_1 ++ []
def dkwX2_init_0 : List UInt8 := [42, 183, 0, 1, 42, 27, 181, 0, 7, 42, 28, 181, 0, 13, 42, 45, 181, 0, 17, 42, 25, 4]
abbrev dktX2_init_0 : List UInt8 := dkwX2_init_0 ++ dktX2_init_1
theorem dksX2_init_0 : cX2_init.data.toList.drop 0 = dktX2_init_0 := by decide +kernel
theorem dksX2_init_1 : cX2_init.data.toList.drop 22 = dktX2_init_1 := dk_seg dksX2_init_0 22 rfl rfl
theorem dX2_init_0 : decode cX2_init 0 = .ok (.aload_n 0, 1) := dk_42 (dk_at dksX2_init_0 0 rfl rfl)
theorem dX2_init_1 : decode cX2_init 1 = .ok (.invokespecial 1, 3) := dk_183 0 1 (dk_at dksX2_init_0 1 rfl rfl)
theorem dX2_init_4 : decode cX2_init 4 = .ok (.aload_n 0, 1) := dk_42 (dk_at dksX2_init_0 4 rfl rfl)
theorem dX2_init_5 : decode cX2_init 5 = .ok (.iload_n 1, 1) := dk_27 (dk_at dksX2_init_0 5 rfl rfl)
theorem dX2_init_6 : decode cX2_init 6 = .ok (.putfield 7, 3) := dk_181 0 7 (dk_at dksX2_init_0 6 rfl rfl)
theorem dX2_init_9 : decode cX2_init 9 = .ok (.aload_n 0, 1) := dk_42 (dk_at dksX2_init_0 9 rfl rfl)
theorem dX2_init_10 : decode cX2_init 10 = .ok (.iload_n 2, 1) := dk_28 (dk_at dksX2_init_0 10 rfl rfl)
theorem dX2_init_11 : decode cX2_init 11 = .ok (.putfield 13, 3) := dk_181 0 13 (dk_at dksX2_init_0 11 rfl rfl)
theorem dX2_init_14 : decode cX2_init 14 = .ok (.aload_n 0, 1) := dk_42 (dk_at dksX2_init_0 14 rfl rfl)
theorem dX2_init_15 : decode cX2_init 15 = .ok (.aload_n 3, 1) := dk_45 (dk_at dksX2_init_0 15 rfl rfl)
theorem dX2_init_16 : decode cX2_init 16 = .ok (.putfield 17, 3) := dk_181 0 17 (dk_at dksX2_init_0 16 rfl rfl)
theorem dX2_init_19 : decode cX2_init 19 = .ok (.aload_n 0, 1) := dk_42 (dk_at dksX2_init_0 19 rfl rfl)
theorem dX2_init_20 : decode cX2_init 20 = .ok (.aload 4, 2) := dk_25 4 (dk_at dksX2_init_0 20 rfl rfl)
theorem dX2_init_22 : decode cX2_init 22 = .ok (.putfield 21, 3) := dk_181 0 21 (dk_at dksX2_init_1 0 rfl rfl)
theorem dX2_init_25 : decode cX2_init 25 = .ok (.return_, 1) := dk_177 (dk_at dksX2_init_1 3 rfl rfl)
theorem q99 : (Jvm.Cond.initialized "WheatElevator$Order") ∈ lw_all := lw_g (lw_at lw_m1 11 rfl) rfl
theorem q261 : (Jvm.Cond.instantiable "WheatElevator$Order" (4 : Nat)) ∈ lw_all := lw_g (lw_at lw_m1 173 rfl) rfl
theorem q380 : (Jvm.Cond.instanceMethod ({ cls := "WheatElevator$Order", name := "<init>", desc := "(CILWheatElevator$Deed;LWheatElevator$Deed;)V" } : Jvm.MethodName)) ∈ lw_all := lw_g (lw_at lw_m2 52 rfl) rfl
theorem q381 : (Jvm.Cond.code ({ cls := "WheatElevator$Order", name := "<init>", desc := "(CILWheatElevator$Deed;LWheatElevator$Deed;)V" } : Jvm.MethodName) prog_6_method_1_code (5 : Nat) (Option.none : Option Jvm.ClassFile.FieldType)) ∈ lw_all := lw_g (lw_at lw_m2 53 rfl) rfl
theorem q382 : (Jvm.Cond.methodLink "WheatElevator$Order" (1 : Nat) ({ cls := "java/lang/Object", name := "<init>", desc := "()V" } : Jvm.MethodName)) ∈ lw_all := lw_g (lw_at lw_m2 54 rfl) rfl
theorem q383 : (Jvm.Cond.fieldLink "WheatElevator$Order" (7 : Nat) "WheatElevator$Order" "letter" "C") ∈ lw_all := lw_g (lw_at lw_m2 55 rfl) rfl
theorem q385 : (Jvm.Cond.fieldLink "WheatElevator$Order" (13 : Nat) "WheatElevator$Order" "many" "I") ∈ lw_all := lw_g (lw_at lw_m2 57 rfl) rfl
theorem q387 : (Jvm.Cond.fieldLink "WheatElevator$Order" (17 : Nat) "WheatElevator$Order" "fault" "LWheatElevator$Deed;") ∈ lw_all := lw_g (lw_at lw_m2 59 rfl) rfl
theorem q389 : (Jvm.Cond.fieldLink "WheatElevator$Order" (21 : Nat) "WheatElevator$Order" "deed" "LWheatElevator$Deed;") ∈ lw_all := lw_g (lw_at lw_m2 61 rfl) rfl
theorem q391 : (Jvm.Cond.laysFinal "WheatElevator$Order" "WheatElevator$Order" "letter" "C") ∈ lw_all := lw_g (lw_at lw_m2 63 rfl) rfl
theorem q392 : (Jvm.Cond.soleField "WheatElevator$Order" "letter") ∈ lw_all := lw_g (lw_at lw_m2 64 rfl) rfl
theorem q393 : (Jvm.Cond.laysFinal "WheatElevator$Order" "WheatElevator$Order" "many" "I") ∈ lw_all := lw_g (lw_at lw_m2 65 rfl) rfl
theorem q394 : (Jvm.Cond.soleField "WheatElevator$Order" "many") ∈ lw_all := lw_g (lw_at lw_m2 66 rfl) rfl
theorem q395 : (Jvm.Cond.laysFinal "WheatElevator$Order" "WheatElevator$Order" "fault" "LWheatElevator$Deed;") ∈ lw_all := lw_g (lw_at lw_m2 67 rfl) rfl
theorem q396 : (Jvm.Cond.soleField "WheatElevator$Order" "fault") ∈ lw_all := lw_g (lw_at lw_m2 68 rfl) rfl
theorem q397 : (Jvm.Cond.laysFinal "WheatElevator$Order" "WheatElevator$Order" "deed" "LWheatElevator$Deed;") ∈ lw_all := lw_g (lw_at lw_m2 69 rfl) rfl
theorem q398 : (Jvm.Cond.soleField "WheatElevator$Order" "deed") ∈ lw_all := lw_g (lw_at lw_m2 70 rfl) rfl
theorem q399 : (Jvm.Cond.superclass "WheatElevator$Order" "java/lang/Object") ∈ lw_all := lw_g (lw_at lw_m2 71 rfl) rfl
theorem q565 : (Jvm.Cond.selects "WheatElevator$Order" ({ cls := "java/lang/Object", name := "getClass", desc := "()Ljava/lang/Class;" } : Jvm.MethodName) ({ cls := "java/lang/Object", name := "getClass", desc := "()Ljava/lang/Class;" } : Jvm.MethodName)) ∈ lw_all := lw_g (lw_at lw_m2 237 rfl) rfl
theorem q1575 : (Jvm.Cond.castable "WheatElevator$Order" "java/lang/Object") ∈ lw_tbl := lw_at lw_m7 47 rfl
theorem in_X2 : ∀ w ∈ wsX20, w ∈ lw_all := lw_in wsX20 [391, 393, 395, 397] (by decide +kernel) (by decide +kernel)

/-! WheatElevator$Bin -/
set_option maxRecDepth 100000
def RX4 : String := "WheatElevator$Bin"
def TX4 : u_T := fun k => match k with
  | 0 => ("WheatElevator$Bin", "capacity", "I", true)
  | 1 => ("WheatElevator$Bin", "low", "I", false)
  | 2 => ("WheatElevator$Bin", "high", "I", false)
  | 3 => ("WheatElevator$Bin", "amount", "I", false)
  | 4 => ("WheatElevator$Bin", "points", "I", false)
  | 5 => ("WheatElevator$Bin", "kind", "I", false)
  | 6 => ("WheatElevator$Bin", "heat", "I", false)
  | 7 => ("WheatElevator$Bin", "came", "I", false)
  | _ => ("WheatElevator$Bin", "went", "I", false)
def tyX4 : Nat → FieldType := fun k => match k with
  | 0 => .int
  | 1 => .int
  | 2 => .int
  | 3 => .int
  | 4 => .int
  | 5 => .int
  | 6 => .int
  | 7 => .int
  | _ => .int
abbrev wsX40 : List Cond := u_ws RX4 TX4 9
theorem nmX4 : ∀ a, a < 9 → ∀ b, b < 9 → a ≠ b → (TX4 a).2.1 ≠ (TX4 b).2.1 := by decide +kernel
theorem tyX4_ok : ∀ k, k < 9 → parseFieldDescriptor (TX4 k).2.2.1 = some (tyX4 k) := by decide +kernel
abbrev cX4_isSpoilt : ByteArray := prog_2_method_4_code
def yX4_isSpoilt : MethodName := ⟨RX4, "isSpoilt", "()Z"⟩
def dkwX4_isSpoilt_0 : List UInt8 := [42, 180, 0, 33, 17, 39, 16, 160, 0, 7, 4, 167, 0, 4, 3, 172]
abbrev dktX4_isSpoilt_0 : List UInt8 := dkwX4_isSpoilt_0 ++ []
theorem dksX4_isSpoilt_0 : cX4_isSpoilt.data.toList.drop 0 = dktX4_isSpoilt_0 := by decide +kernel
theorem dX4_isSpoilt_0 : decode cX4_isSpoilt 0 = .ok (.aload_n 0, 1) := dk_42 (dk_at dksX4_isSpoilt_0 0 rfl rfl)
theorem dX4_isSpoilt_1 : decode cX4_isSpoilt 1 = .ok (.getfield 33, 3) := dk_180 0 33 (dk_at dksX4_isSpoilt_0 1 rfl rfl)
theorem dX4_isSpoilt_4 : decode cX4_isSpoilt 4 = .ok (.sipush 10000, 3) := dk_17 39 16 (dk_at dksX4_isSpoilt_0 4 rfl rfl)
theorem dX4_isSpoilt_7 : decode cX4_isSpoilt 7 = .ok (.if_icmp .ne 7, 3) := dk_160 0 7 (dk_at dksX4_isSpoilt_0 7 rfl rfl)
theorem dX4_isSpoilt_10 : decode cX4_isSpoilt 10 = .ok (.iconst 1, 1) := dk_4 (dk_at dksX4_isSpoilt_0 10 rfl rfl)
theorem dX4_isSpoilt_11 : decode cX4_isSpoilt 11 = .ok (.goto 4, 3) := dk_167 0 4 (dk_at dksX4_isSpoilt_0 11 rfl rfl)
theorem dX4_isSpoilt_14 : decode cX4_isSpoilt 14 = .ok (.iconst 0, 1) := dk_3 (dk_at dksX4_isSpoilt_0 14 rfl rfl)
theorem dX4_isSpoilt_15 : decode cX4_isSpoilt 15 = .ok (.ireturn, 1) := dk_172 (dk_at dksX4_isSpoilt_0 15 rfl rfl)
abbrev cX4_pass : ByteArray := prog_2_method_5_code
def yX4_pass : MethodName := ⟨RX4, "pass", "(I)V"⟩
def dkwX4_pass_3 : List UInt8 := [20, 0, 58, 105, 101, 184, 0, 60, 136, 181, 0, 33, 177]
abbrev dktX4_pass_3 : List UInt8 := dkwX4_pass_3 ++ []
def dkwX4_pass_2 : List UInt8 := [181, 0, 33, 167, 0, 31, 42, 182, 0, 54, 154, 0, 24, 42, 9, 42, 180, 0, 33, 133, 27, 133]
abbrev dktX4_pass_2 : List UInt8 := dkwX4_pass_2 ++ dktX4_pass_3
def dkwX4_pass_1 : List UInt8 := [133, 42, 182, 0, 42, 17, 0, 150, 100, 133, 105, 97, 65, 42, 20, 0, 46, 32, 184, 0, 48, 136]
abbrev dktX4_pass_1 : List UInt8 := dkwX4_pass_1 ++ dktX4_pass_2
def dkwX4_pass_0 : List UInt8 := [42, 180, 0, 27, 154, 0, 4, 177, 42, 182, 0, 42, 17, 0, 150, 164, 0, 37, 42, 180, 0, 33, 133, 27]
abbrev dktX4_pass_0 : List UInt8 := dkwX4_pass_0 ++ dktX4_pass_1
theorem dksX4_pass_0 : cX4_pass.data.toList.drop 0 = dktX4_pass_0 := by decide +kernel
theorem dksX4_pass_1 : cX4_pass.data.toList.drop 24 = dktX4_pass_1 := dk_seg dksX4_pass_0 24 rfl rfl
theorem dksX4_pass_2 : cX4_pass.data.toList.drop 46 = dktX4_pass_2 := dk_seg dksX4_pass_1 22 rfl rfl
theorem dksX4_pass_3 : cX4_pass.data.toList.drop 68 = dktX4_pass_3 := dk_seg dksX4_pass_2 22 rfl rfl
theorem dX4_pass_0 : decode cX4_pass 0 = .ok (.aload_n 0, 1) := dk_42 (dk_at dksX4_pass_0 0 rfl rfl)
theorem dX4_pass_1 : decode cX4_pass 1 = .ok (.getfield 27, 3) := dk_180 0 27 (dk_at dksX4_pass_0 1 rfl rfl)
theorem dX4_pass_4 : decode cX4_pass 4 = .ok (.ifCond .ne 4, 3) := dk_154 0 4 (dk_at dksX4_pass_0 4 rfl rfl)
theorem dX4_pass_7 : decode cX4_pass 7 = .ok (.return_, 1) := dk_177 (dk_at dksX4_pass_0 7 rfl rfl)
theorem dX4_pass_8 : decode cX4_pass 8 = .ok (.aload_n 0, 1) := dk_42 (dk_at dksX4_pass_0 8 rfl rfl)
theorem dX4_pass_9 : decode cX4_pass 9 = .ok (.invokevirtual 42, 3) := dk_182 0 42 (dk_at dksX4_pass_0 9 rfl rfl)
theorem dX4_pass_12 : decode cX4_pass 12 = .ok (.sipush 150, 3) := dk_17 0 150 (dk_at dksX4_pass_0 12 rfl rfl)
theorem dX4_pass_15 : decode cX4_pass 15 = .ok (.if_icmp .le 37, 3) := dk_164 0 37 (dk_at dksX4_pass_0 15 rfl rfl)
theorem dX4_pass_18 : decode cX4_pass 18 = .ok (.aload_n 0, 1) := dk_42 (dk_at dksX4_pass_0 18 rfl rfl)
theorem dX4_pass_19 : decode cX4_pass 19 = .ok (.getfield 33, 3) := dk_180 0 33 (dk_at dksX4_pass_0 19 rfl rfl)
theorem dX4_pass_22 : decode cX4_pass 22 = .ok (.i2l, 1) := dk_133 (dk_at dksX4_pass_0 22 rfl rfl)
theorem dX4_pass_23 : decode cX4_pass 23 = .ok (.iload_n 1, 1) := dk_27 (dk_at dksX4_pass_0 23 rfl rfl)
theorem dX4_pass_24 : decode cX4_pass 24 = .ok (.i2l, 1) := dk_133 (dk_at dksX4_pass_1 0 rfl rfl)
theorem dX4_pass_25 : decode cX4_pass 25 = .ok (.aload_n 0, 1) := dk_42 (dk_at dksX4_pass_1 1 rfl rfl)
theorem dX4_pass_26 : decode cX4_pass 26 = .ok (.invokevirtual 42, 3) := dk_182 0 42 (dk_at dksX4_pass_1 2 rfl rfl)
theorem dX4_pass_29 : decode cX4_pass 29 = .ok (.sipush 150, 3) := dk_17 0 150 (dk_at dksX4_pass_1 5 rfl rfl)
theorem dX4_pass_32 : decode cX4_pass 32 = .ok (.isub, 1) := dk_100 (dk_at dksX4_pass_1 8 rfl rfl)
theorem dX4_pass_33 : decode cX4_pass 33 = .ok (.i2l, 1) := dk_133 (dk_at dksX4_pass_1 9 rfl rfl)
theorem dX4_pass_34 : decode cX4_pass 34 = .ok (.lmul, 1) := dk_105 (dk_at dksX4_pass_1 10 rfl rfl)
theorem dX4_pass_35 : decode cX4_pass 35 = .ok (.ladd, 1) := dk_97 (dk_at dksX4_pass_1 11 rfl rfl)
theorem dX4_pass_36 : decode cX4_pass 36 = .ok (.lstore_n 2, 1) := dk_65 (dk_at dksX4_pass_1 12 rfl rfl)
theorem dX4_pass_37 : decode cX4_pass 37 = .ok (.aload_n 0, 1) := dk_42 (dk_at dksX4_pass_1 13 rfl rfl)
theorem dX4_pass_38 : decode cX4_pass 38 = .ok (.ldc2_w 46, 3) := dk_20 0 46 (dk_at dksX4_pass_1 14 rfl rfl)
theorem dX4_pass_41 : decode cX4_pass 41 = .ok (.lload_n 2, 1) := dk_32 (dk_at dksX4_pass_1 17 rfl rfl)
theorem dX4_pass_42 : decode cX4_pass 42 = .ok (.invokestatic 48, 3) := dk_184 0 48 (dk_at dksX4_pass_1 18 rfl rfl)
theorem dX4_pass_45 : decode cX4_pass 45 = .ok (.l2i, 1) := dk_136 (dk_at dksX4_pass_1 21 rfl rfl)
theorem dX4_pass_46 : decode cX4_pass 46 = .ok (.putfield 33, 3) := dk_181 0 33 (dk_at dksX4_pass_2 0 rfl rfl)
theorem dX4_pass_49 : decode cX4_pass 49 = .ok (.goto 31, 3) := dk_167 0 31 (dk_at dksX4_pass_2 3 rfl rfl)
theorem dX4_pass_52 : decode cX4_pass 52 = .ok (.aload_n 0, 1) := dk_42 (dk_at dksX4_pass_2 6 rfl rfl)
theorem dX4_pass_53 : decode cX4_pass 53 = .ok (.invokevirtual 54, 3) := dk_182 0 54 (dk_at dksX4_pass_2 7 rfl rfl)
theorem dX4_pass_56 : decode cX4_pass 56 = .ok (.ifCond .ne 24, 3) := dk_154 0 24 (dk_at dksX4_pass_2 10 rfl rfl)
theorem dX4_pass_59 : decode cX4_pass 59 = .ok (.aload_n 0, 1) := dk_42 (dk_at dksX4_pass_2 13 rfl rfl)
theorem dX4_pass_60 : decode cX4_pass 60 = .ok (.lconst 0, 1) := dk_9 (dk_at dksX4_pass_2 14 rfl rfl)
theorem dX4_pass_61 : decode cX4_pass 61 = .ok (.aload_n 0, 1) := dk_42 (dk_at dksX4_pass_2 15 rfl rfl)
theorem dX4_pass_62 : decode cX4_pass 62 = .ok (.getfield 33, 3) := dk_180 0 33 (dk_at dksX4_pass_2 16 rfl rfl)
theorem dX4_pass_65 : decode cX4_pass 65 = .ok (.i2l, 1) := dk_133 (dk_at dksX4_pass_2 19 rfl rfl)
theorem dX4_pass_66 : decode cX4_pass 66 = .ok (.iload_n 1, 1) := dk_27 (dk_at dksX4_pass_2 20 rfl rfl)
theorem dX4_pass_67 : decode cX4_pass 67 = .ok (.i2l, 1) := dk_133 (dk_at dksX4_pass_2 21 rfl rfl)
theorem dX4_pass_68 : decode cX4_pass 68 = .ok (.ldc2_w 58, 3) := dk_20 0 58 (dk_at dksX4_pass_3 0 rfl rfl)
theorem dX4_pass_71 : decode cX4_pass 71 = .ok (.lmul, 1) := dk_105 (dk_at dksX4_pass_3 3 rfl rfl)
theorem dX4_pass_72 : decode cX4_pass 72 = .ok (.lsub, 1) := dk_101 (dk_at dksX4_pass_3 4 rfl rfl)
theorem dX4_pass_73 : decode cX4_pass 73 = .ok (.invokestatic 60, 3) := dk_184 0 60 (dk_at dksX4_pass_3 5 rfl rfl)
theorem dX4_pass_76 : decode cX4_pass 76 = .ok (.l2i, 1) := dk_136 (dk_at dksX4_pass_3 8 rfl rfl)
theorem dX4_pass_77 : decode cX4_pass 77 = .ok (.putfield 33, 3) := dk_181 0 33 (dk_at dksX4_pass_3 9 rfl rfl)
theorem dX4_pass_80 : decode cX4_pass 80 = .ok (.return_, 1) := dk_177 (dk_at dksX4_pass_3 12 rfl rfl)
abbrev cX4_moisture : ByteArray := prog_2_method_3_code
def yX4_moisture : MethodName := ⟨RX4, "moisture", "()I"⟩
def dkwX4_moisture_0 : List UInt8 := [42, 180, 0, 27, 154, 0, 7, 2, 167, 0, 12, 42, 180, 0, 30, 42, 180, 0, 27, 108, 172]
abbrev dktX4_moisture_0 : List UInt8 := dkwX4_moisture_0 ++ []
theorem dksX4_moisture_0 : cX4_moisture.data.toList.drop 0 = dktX4_moisture_0 := by decide +kernel
theorem dX4_moisture_0 : decode cX4_moisture 0 = .ok (.aload_n 0, 1) := dk_42 (dk_at dksX4_moisture_0 0 rfl rfl)
theorem dX4_moisture_1 : decode cX4_moisture 1 = .ok (.getfield 27, 3) := dk_180 0 27 (dk_at dksX4_moisture_0 1 rfl rfl)
theorem dX4_moisture_4 : decode cX4_moisture 4 = .ok (.ifCond .ne 7, 3) := dk_154 0 7 (dk_at dksX4_moisture_0 4 rfl rfl)
theorem dX4_moisture_7 : decode cX4_moisture 7 = .ok (.iconst (-1), 1) := dk_2 (dk_at dksX4_moisture_0 7 rfl rfl)
theorem dX4_moisture_8 : decode cX4_moisture 8 = .ok (.goto 12, 3) := dk_167 0 12 (dk_at dksX4_moisture_0 8 rfl rfl)
theorem dX4_moisture_11 : decode cX4_moisture 11 = .ok (.aload_n 0, 1) := dk_42 (dk_at dksX4_moisture_0 11 rfl rfl)
theorem dX4_moisture_12 : decode cX4_moisture 12 = .ok (.getfield 30, 3) := dk_180 0 30 (dk_at dksX4_moisture_0 12 rfl rfl)
theorem dX4_moisture_15 : decode cX4_moisture 15 = .ok (.aload_n 0, 1) := dk_42 (dk_at dksX4_moisture_0 15 rfl rfl)
theorem dX4_moisture_16 : decode cX4_moisture 16 = .ok (.getfield 27, 3) := dk_180 0 27 (dk_at dksX4_moisture_0 16 rfl rfl)
theorem dX4_moisture_19 : decode cX4_moisture 19 = .ok (.idiv, 1) := dk_108 (dk_at dksX4_moisture_0 19 rfl rfl)
theorem dX4_moisture_20 : decode cX4_moisture 20 = .ok (.ireturn, 1) := dk_172 (dk_at dksX4_moisture_0 20 rfl rfl)
abbrev cX4_put : ByteArray := prog_2_method_9_code
def yX4_put : MethodName := ⟨RX4, "put", "(III)V"⟩
def dkwX4_put_1 : List UInt8 := [181, 0, 15, 42, 89, 180, 0, 36, 27, 96, 181, 0, 36, 177]
abbrev dktX4_put_1 : List UInt8 := dkwX4_put_1 ++ []
def dkwX4_put_0 : List UInt8 := [42, 89, 180, 0, 27, 27, 96, 181, 0, 27, 42, 89, 180, 0, 30, 28, 96, 181, 0, 30, 42, 29]
abbrev dktX4_put_0 : List UInt8 := dkwX4_put_0 ++ dktX4_put_1
theorem dksX4_put_0 : cX4_put.data.toList.drop 0 = dktX4_put_0 := by decide +kernel
theorem dksX4_put_1 : cX4_put.data.toList.drop 22 = dktX4_put_1 := dk_seg dksX4_put_0 22 rfl rfl
theorem dX4_put_0 : decode cX4_put 0 = .ok (.aload_n 0, 1) := dk_42 (dk_at dksX4_put_0 0 rfl rfl)
theorem dX4_put_1 : decode cX4_put 1 = .ok (.dup, 1) := dk_89 (dk_at dksX4_put_0 1 rfl rfl)
theorem dX4_put_2 : decode cX4_put 2 = .ok (.getfield 27, 3) := dk_180 0 27 (dk_at dksX4_put_0 2 rfl rfl)
theorem dX4_put_5 : decode cX4_put 5 = .ok (.iload_n 1, 1) := dk_27 (dk_at dksX4_put_0 5 rfl rfl)
theorem dX4_put_6 : decode cX4_put 6 = .ok (.iadd, 1) := dk_96 (dk_at dksX4_put_0 6 rfl rfl)
theorem dX4_put_7 : decode cX4_put 7 = .ok (.putfield 27, 3) := dk_181 0 27 (dk_at dksX4_put_0 7 rfl rfl)
theorem dX4_put_10 : decode cX4_put 10 = .ok (.aload_n 0, 1) := dk_42 (dk_at dksX4_put_0 10 rfl rfl)
theorem dX4_put_11 : decode cX4_put 11 = .ok (.dup, 1) := dk_89 (dk_at dksX4_put_0 11 rfl rfl)
theorem dX4_put_12 : decode cX4_put 12 = .ok (.getfield 30, 3) := dk_180 0 30 (dk_at dksX4_put_0 12 rfl rfl)
theorem dX4_put_15 : decode cX4_put 15 = .ok (.iload_n 2, 1) := dk_28 (dk_at dksX4_put_0 15 rfl rfl)
theorem dX4_put_16 : decode cX4_put 16 = .ok (.iadd, 1) := dk_96 (dk_at dksX4_put_0 16 rfl rfl)
theorem dX4_put_17 : decode cX4_put 17 = .ok (.putfield 30, 3) := dk_181 0 30 (dk_at dksX4_put_0 17 rfl rfl)
theorem dX4_put_20 : decode cX4_put 20 = .ok (.aload_n 0, 1) := dk_42 (dk_at dksX4_put_0 20 rfl rfl)
theorem dX4_put_21 : decode cX4_put 21 = .ok (.iload_n 3, 1) := dk_29 (dk_at dksX4_put_0 21 rfl rfl)
theorem dX4_put_22 : decode cX4_put 22 = .ok (.putfield 15, 3) := dk_181 0 15 (dk_at dksX4_put_1 0 rfl rfl)
theorem dX4_put_25 : decode cX4_put 25 = .ok (.aload_n 0, 1) := dk_42 (dk_at dksX4_put_1 3 rfl rfl)
theorem dX4_put_26 : decode cX4_put 26 = .ok (.dup, 1) := dk_89 (dk_at dksX4_put_1 4 rfl rfl)
theorem dX4_put_27 : decode cX4_put 27 = .ok (.getfield 36, 3) := dk_180 0 36 (dk_at dksX4_put_1 5 rfl rfl)
theorem dX4_put_30 : decode cX4_put 30 = .ok (.iload_n 1, 1) := dk_27 (dk_at dksX4_put_1 8 rfl rfl)
theorem dX4_put_31 : decode cX4_put 31 = .ok (.iadd, 1) := dk_96 (dk_at dksX4_put_1 9 rfl rfl)
theorem dX4_put_32 : decode cX4_put 32 = .ok (.putfield 36, 3) := dk_181 0 36 (dk_at dksX4_put_1 10 rfl rfl)
theorem dX4_put_35 : decode cX4_put 35 = .ok (.return_, 1) := dk_177 (dk_at dksX4_put_1 13 rfl rfl)
abbrev cX4_pointsOf : ByteArray := prog_2_method_6_code
def yX4_pointsOf : MethodName := ⟨RX4, "pointsOf", "(I)I"⟩
def dkwX4_pointsOf_1 : List UInt8 := [180, 0, 27, 133, 109, 136, 172]
abbrev dktX4_pointsOf_1 : List UInt8 := dkwX4_pointsOf_1 ++ []
def dkwX4_pointsOf_0 : List UInt8 := [27, 42, 180, 0, 27, 160, 0, 10, 42, 180, 0, 30, 167, 0, 18, 42, 180, 0, 30, 133, 27, 133, 105, 42]
abbrev dktX4_pointsOf_0 : List UInt8 := dkwX4_pointsOf_0 ++ dktX4_pointsOf_1
theorem dksX4_pointsOf_0 : cX4_pointsOf.data.toList.drop 0 = dktX4_pointsOf_0 := by decide +kernel
theorem dksX4_pointsOf_1 : cX4_pointsOf.data.toList.drop 24 = dktX4_pointsOf_1 := dk_seg dksX4_pointsOf_0 24 rfl rfl
theorem dX4_pointsOf_0 : decode cX4_pointsOf 0 = .ok (.iload_n 1, 1) := dk_27 (dk_at dksX4_pointsOf_0 0 rfl rfl)
theorem dX4_pointsOf_1 : decode cX4_pointsOf 1 = .ok (.aload_n 0, 1) := dk_42 (dk_at dksX4_pointsOf_0 1 rfl rfl)
theorem dX4_pointsOf_2 : decode cX4_pointsOf 2 = .ok (.getfield 27, 3) := dk_180 0 27 (dk_at dksX4_pointsOf_0 2 rfl rfl)
theorem dX4_pointsOf_5 : decode cX4_pointsOf 5 = .ok (.if_icmp .ne 10, 3) := dk_160 0 10 (dk_at dksX4_pointsOf_0 5 rfl rfl)
theorem dX4_pointsOf_8 : decode cX4_pointsOf 8 = .ok (.aload_n 0, 1) := dk_42 (dk_at dksX4_pointsOf_0 8 rfl rfl)
theorem dX4_pointsOf_9 : decode cX4_pointsOf 9 = .ok (.getfield 30, 3) := dk_180 0 30 (dk_at dksX4_pointsOf_0 9 rfl rfl)
theorem dX4_pointsOf_12 : decode cX4_pointsOf 12 = .ok (.goto 18, 3) := dk_167 0 18 (dk_at dksX4_pointsOf_0 12 rfl rfl)
theorem dX4_pointsOf_15 : decode cX4_pointsOf 15 = .ok (.aload_n 0, 1) := dk_42 (dk_at dksX4_pointsOf_0 15 rfl rfl)
theorem dX4_pointsOf_16 : decode cX4_pointsOf 16 = .ok (.getfield 30, 3) := dk_180 0 30 (dk_at dksX4_pointsOf_0 16 rfl rfl)
theorem dX4_pointsOf_19 : decode cX4_pointsOf 19 = .ok (.i2l, 1) := dk_133 (dk_at dksX4_pointsOf_0 19 rfl rfl)
theorem dX4_pointsOf_20 : decode cX4_pointsOf 20 = .ok (.iload_n 1, 1) := dk_27 (dk_at dksX4_pointsOf_0 20 rfl rfl)
theorem dX4_pointsOf_21 : decode cX4_pointsOf 21 = .ok (.i2l, 1) := dk_133 (dk_at dksX4_pointsOf_0 21 rfl rfl)
theorem dX4_pointsOf_22 : decode cX4_pointsOf 22 = .ok (.lmul, 1) := dk_105 (dk_at dksX4_pointsOf_0 22 rfl rfl)
theorem dX4_pointsOf_23 : decode cX4_pointsOf 23 = .ok (.aload_n 0, 1) := dk_42 (dk_at dksX4_pointsOf_0 23 rfl rfl)
theorem dX4_pointsOf_24 : decode cX4_pointsOf 24 = .ok (.getfield 27, 3) := dk_180 0 27 (dk_at dksX4_pointsOf_1 0 rfl rfl)
theorem dX4_pointsOf_27 : decode cX4_pointsOf 27 = .ok (.i2l, 1) := dk_133 (dk_at dksX4_pointsOf_1 3 rfl rfl)
theorem dX4_pointsOf_28 : decode cX4_pointsOf 28 = .ok (.ldiv, 1) := dk_109 (dk_at dksX4_pointsOf_1 4 rfl rfl)
theorem dX4_pointsOf_29 : decode cX4_pointsOf 29 = .ok (.l2i, 1) := dk_136 (dk_at dksX4_pointsOf_1 5 rfl rfl)
theorem dX4_pointsOf_30 : decode cX4_pointsOf 30 = .ok (.ireturn, 1) := dk_172 (dk_at dksX4_pointsOf_1 6 rfl rfl)
abbrev cX4_take : ByteArray := prog_2_method_8_code
def yX4_take : MethodName := ⟨RX4, "take", "(I)I"⟩
def dkwX4_take_1 : List UInt8 := [181, 0, 30, 42, 89, 180, 0, 39, 27, 96, 181, 0, 39, 42, 182, 0, 67, 28, 172]
abbrev dktX4_take_1 : List UInt8 := dkwX4_take_1 ++ []
def dkwX4_take_0 : List UInt8 := [42, 27, 182, 0, 63, 61, 42, 89, 180, 0, 27, 27, 100, 181, 0, 27, 42, 89, 180, 0, 30, 28, 100]
abbrev dktX4_take_0 : List UInt8 := dkwX4_take_0 ++ dktX4_take_1
theorem dksX4_take_0 : cX4_take.data.toList.drop 0 = dktX4_take_0 := by decide +kernel
theorem dksX4_take_1 : cX4_take.data.toList.drop 23 = dktX4_take_1 := dk_seg dksX4_take_0 23 rfl rfl
theorem dX4_take_0 : decode cX4_take 0 = .ok (.aload_n 0, 1) := dk_42 (dk_at dksX4_take_0 0 rfl rfl)
theorem dX4_take_1 : decode cX4_take 1 = .ok (.iload_n 1, 1) := dk_27 (dk_at dksX4_take_0 1 rfl rfl)
theorem dX4_take_2 : decode cX4_take 2 = .ok (.invokevirtual 63, 3) := dk_182 0 63 (dk_at dksX4_take_0 2 rfl rfl)
theorem dX4_take_5 : decode cX4_take 5 = .ok (.istore_n 2, 1) := dk_61 (dk_at dksX4_take_0 5 rfl rfl)
theorem dX4_take_6 : decode cX4_take 6 = .ok (.aload_n 0, 1) := dk_42 (dk_at dksX4_take_0 6 rfl rfl)
theorem dX4_take_7 : decode cX4_take 7 = .ok (.dup, 1) := dk_89 (dk_at dksX4_take_0 7 rfl rfl)
theorem dX4_take_8 : decode cX4_take 8 = .ok (.getfield 27, 3) := dk_180 0 27 (dk_at dksX4_take_0 8 rfl rfl)
theorem dX4_take_11 : decode cX4_take 11 = .ok (.iload_n 1, 1) := dk_27 (dk_at dksX4_take_0 11 rfl rfl)
theorem dX4_take_12 : decode cX4_take 12 = .ok (.isub, 1) := dk_100 (dk_at dksX4_take_0 12 rfl rfl)
theorem dX4_take_13 : decode cX4_take 13 = .ok (.putfield 27, 3) := dk_181 0 27 (dk_at dksX4_take_0 13 rfl rfl)
theorem dX4_take_16 : decode cX4_take 16 = .ok (.aload_n 0, 1) := dk_42 (dk_at dksX4_take_0 16 rfl rfl)
theorem dX4_take_17 : decode cX4_take 17 = .ok (.dup, 1) := dk_89 (dk_at dksX4_take_0 17 rfl rfl)
theorem dX4_take_18 : decode cX4_take 18 = .ok (.getfield 30, 3) := dk_180 0 30 (dk_at dksX4_take_0 18 rfl rfl)
theorem dX4_take_21 : decode cX4_take 21 = .ok (.iload_n 2, 1) := dk_28 (dk_at dksX4_take_0 21 rfl rfl)
theorem dX4_take_22 : decode cX4_take 22 = .ok (.isub, 1) := dk_100 (dk_at dksX4_take_0 22 rfl rfl)
theorem dX4_take_23 : decode cX4_take 23 = .ok (.putfield 30, 3) := dk_181 0 30 (dk_at dksX4_take_1 0 rfl rfl)
theorem dX4_take_26 : decode cX4_take 26 = .ok (.aload_n 0, 1) := dk_42 (dk_at dksX4_take_1 3 rfl rfl)
theorem dX4_take_27 : decode cX4_take 27 = .ok (.dup, 1) := dk_89 (dk_at dksX4_take_1 4 rfl rfl)
theorem dX4_take_28 : decode cX4_take 28 = .ok (.getfield 39, 3) := dk_180 0 39 (dk_at dksX4_take_1 5 rfl rfl)
theorem dX4_take_31 : decode cX4_take 31 = .ok (.iload_n 1, 1) := dk_27 (dk_at dksX4_take_1 8 rfl rfl)
theorem dX4_take_32 : decode cX4_take 32 = .ok (.iadd, 1) := dk_96 (dk_at dksX4_take_1 9 rfl rfl)
theorem dX4_take_33 : decode cX4_take 33 = .ok (.putfield 39, 3) := dk_181 0 39 (dk_at dksX4_take_1 10 rfl rfl)
theorem dX4_take_36 : decode cX4_take 36 = .ok (.aload_n 0, 1) := dk_42 (dk_at dksX4_take_1 13 rfl rfl)
theorem dX4_take_37 : decode cX4_take 37 = .ok (.invokevirtual 67, 3) := dk_182 0 67 (dk_at dksX4_take_1 14 rfl rfl)
theorem dX4_take_40 : decode cX4_take 40 = .ok (.iload_n 2, 1) := dk_28 (dk_at dksX4_take_1 17 rfl rfl)
theorem dX4_take_41 : decode cX4_take 41 = .ok (.ireturn, 1) := dk_172 (dk_at dksX4_take_1 18 rfl rfl)
abbrev cX4_emptyIfSo : ByteArray := prog_2_method_7_code
def yX4_emptyIfSo : MethodName := ⟨RX4, "emptyIfSo", "()V"⟩
def dkwX4_emptyIfSo_0 : List UInt8 := [42, 180, 0, 27, 154, 0, 18, 42, 3, 181, 0, 30, 42, 2, 181, 0, 15, 42, 3, 181, 0, 33, 177]
abbrev dktX4_emptyIfSo_0 : List UInt8 := dkwX4_emptyIfSo_0 ++ []
theorem dksX4_emptyIfSo_0 : cX4_emptyIfSo.data.toList.drop 0 = dktX4_emptyIfSo_0 := by decide +kernel
theorem dX4_emptyIfSo_0 : decode cX4_emptyIfSo 0 = .ok (.aload_n 0, 1) := dk_42 (dk_at dksX4_emptyIfSo_0 0 rfl rfl)
theorem dX4_emptyIfSo_1 : decode cX4_emptyIfSo 1 = .ok (.getfield 27, 3) := dk_180 0 27 (dk_at dksX4_emptyIfSo_0 1 rfl rfl)
theorem dX4_emptyIfSo_4 : decode cX4_emptyIfSo 4 = .ok (.ifCond .ne 18, 3) := dk_154 0 18 (dk_at dksX4_emptyIfSo_0 4 rfl rfl)
theorem dX4_emptyIfSo_7 : decode cX4_emptyIfSo 7 = .ok (.aload_n 0, 1) := dk_42 (dk_at dksX4_emptyIfSo_0 7 rfl rfl)
theorem dX4_emptyIfSo_8 : decode cX4_emptyIfSo 8 = .ok (.iconst 0, 1) := dk_3 (dk_at dksX4_emptyIfSo_0 8 rfl rfl)
theorem dX4_emptyIfSo_9 : decode cX4_emptyIfSo 9 = .ok (.putfield 30, 3) := dk_181 0 30 (dk_at dksX4_emptyIfSo_0 9 rfl rfl)
theorem dX4_emptyIfSo_12 : decode cX4_emptyIfSo 12 = .ok (.aload_n 0, 1) := dk_42 (dk_at dksX4_emptyIfSo_0 12 rfl rfl)
theorem dX4_emptyIfSo_13 : decode cX4_emptyIfSo 13 = .ok (.iconst (-1), 1) := dk_2 (dk_at dksX4_emptyIfSo_0 13 rfl rfl)
theorem dX4_emptyIfSo_14 : decode cX4_emptyIfSo 14 = .ok (.putfield 15, 3) := dk_181 0 15 (dk_at dksX4_emptyIfSo_0 14 rfl rfl)
theorem dX4_emptyIfSo_17 : decode cX4_emptyIfSo 17 = .ok (.aload_n 0, 1) := dk_42 (dk_at dksX4_emptyIfSo_0 17 rfl rfl)
theorem dX4_emptyIfSo_18 : decode cX4_emptyIfSo 18 = .ok (.iconst 0, 1) := dk_3 (dk_at dksX4_emptyIfSo_0 18 rfl rfl)
theorem dX4_emptyIfSo_19 : decode cX4_emptyIfSo 19 = .ok (.putfield 33, 3) := dk_181 0 33 (dk_at dksX4_emptyIfSo_0 19 rfl rfl)
theorem dX4_emptyIfSo_22 : decode cX4_emptyIfSo 22 = .ok (.return_, 1) := dk_177 (dk_at dksX4_emptyIfSo_0 22 rfl rfl)
abbrev cX4_dry : ByteArray := prog_2_method_10_code
def yX4_dry : MethodName := ⟨RX4, "dry", "()I"⟩
def dkwX4_dry_2 : List UInt8 := [28, 96, 181, 0, 39, 28, 172]
abbrev dktX4_dry_2 : List UInt8 := dkwX4_dry_2 ++ []
def dkwX4_dry_1 : List UInt8 := [89, 180, 0, 30, 27, 100, 181, 0, 30, 42, 89, 180, 0, 27, 28, 100, 181, 0, 27, 42, 89, 180, 0, 39]
abbrev dktX4_dry_1 : List UInt8 := dkwX4_dry_1 ++ dktX4_dry_2
def dkwX4_dry_0 : List UInt8 := [42, 180, 0, 30, 16, 20, 108, 60, 27, 17, 3, 232, 108, 42, 180, 0, 27, 4, 100, 184, 0, 70, 61, 42]
abbrev dktX4_dry_0 : List UInt8 := dkwX4_dry_0 ++ dktX4_dry_1
theorem dksX4_dry_0 : cX4_dry.data.toList.drop 0 = dktX4_dry_0 := by decide +kernel
theorem dksX4_dry_1 : cX4_dry.data.toList.drop 24 = dktX4_dry_1 := dk_seg dksX4_dry_0 24 rfl rfl
theorem dksX4_dry_2 : cX4_dry.data.toList.drop 48 = dktX4_dry_2 := dk_seg dksX4_dry_1 24 rfl rfl
theorem dX4_dry_0 : decode cX4_dry 0 = .ok (.aload_n 0, 1) := dk_42 (dk_at dksX4_dry_0 0 rfl rfl)
theorem dX4_dry_1 : decode cX4_dry 1 = .ok (.getfield 30, 3) := dk_180 0 30 (dk_at dksX4_dry_0 1 rfl rfl)
theorem dX4_dry_4 : decode cX4_dry 4 = .ok (.bipush 20, 2) := dk_16 20 (dk_at dksX4_dry_0 4 rfl rfl)
theorem dX4_dry_6 : decode cX4_dry 6 = .ok (.idiv, 1) := dk_108 (dk_at dksX4_dry_0 6 rfl rfl)
theorem dX4_dry_7 : decode cX4_dry 7 = .ok (.istore_n 1, 1) := dk_60 (dk_at dksX4_dry_0 7 rfl rfl)
theorem dX4_dry_8 : decode cX4_dry 8 = .ok (.iload_n 1, 1) := dk_27 (dk_at dksX4_dry_0 8 rfl rfl)
theorem dX4_dry_9 : decode cX4_dry 9 = .ok (.sipush 1000, 3) := dk_17 3 232 (dk_at dksX4_dry_0 9 rfl rfl)
theorem dX4_dry_12 : decode cX4_dry 12 = .ok (.idiv, 1) := dk_108 (dk_at dksX4_dry_0 12 rfl rfl)
theorem dX4_dry_13 : decode cX4_dry 13 = .ok (.aload_n 0, 1) := dk_42 (dk_at dksX4_dry_0 13 rfl rfl)
theorem dX4_dry_14 : decode cX4_dry 14 = .ok (.getfield 27, 3) := dk_180 0 27 (dk_at dksX4_dry_0 14 rfl rfl)
theorem dX4_dry_17 : decode cX4_dry 17 = .ok (.iconst 1, 1) := dk_4 (dk_at dksX4_dry_0 17 rfl rfl)
theorem dX4_dry_18 : decode cX4_dry 18 = .ok (.isub, 1) := dk_100 (dk_at dksX4_dry_0 18 rfl rfl)
theorem dX4_dry_19 : decode cX4_dry 19 = .ok (.invokestatic 70, 3) := dk_184 0 70 (dk_at dksX4_dry_0 19 rfl rfl)
theorem dX4_dry_22 : decode cX4_dry 22 = .ok (.istore_n 2, 1) := dk_61 (dk_at dksX4_dry_0 22 rfl rfl)
theorem dX4_dry_23 : decode cX4_dry 23 = .ok (.aload_n 0, 1) := dk_42 (dk_at dksX4_dry_0 23 rfl rfl)
theorem dX4_dry_24 : decode cX4_dry 24 = .ok (.dup, 1) := dk_89 (dk_at dksX4_dry_1 0 rfl rfl)
theorem dX4_dry_25 : decode cX4_dry 25 = .ok (.getfield 30, 3) := dk_180 0 30 (dk_at dksX4_dry_1 1 rfl rfl)
theorem dX4_dry_28 : decode cX4_dry 28 = .ok (.iload_n 1, 1) := dk_27 (dk_at dksX4_dry_1 4 rfl rfl)
theorem dX4_dry_29 : decode cX4_dry 29 = .ok (.isub, 1) := dk_100 (dk_at dksX4_dry_1 5 rfl rfl)
theorem dX4_dry_30 : decode cX4_dry 30 = .ok (.putfield 30, 3) := dk_181 0 30 (dk_at dksX4_dry_1 6 rfl rfl)
theorem dX4_dry_33 : decode cX4_dry 33 = .ok (.aload_n 0, 1) := dk_42 (dk_at dksX4_dry_1 9 rfl rfl)
theorem dX4_dry_34 : decode cX4_dry 34 = .ok (.dup, 1) := dk_89 (dk_at dksX4_dry_1 10 rfl rfl)
theorem dX4_dry_35 : decode cX4_dry 35 = .ok (.getfield 27, 3) := dk_180 0 27 (dk_at dksX4_dry_1 11 rfl rfl)
theorem dX4_dry_38 : decode cX4_dry 38 = .ok (.iload_n 2, 1) := dk_28 (dk_at dksX4_dry_1 14 rfl rfl)
theorem dX4_dry_39 : decode cX4_dry 39 = .ok (.isub, 1) := dk_100 (dk_at dksX4_dry_1 15 rfl rfl)
theorem dX4_dry_40 : decode cX4_dry 40 = .ok (.putfield 27, 3) := dk_181 0 27 (dk_at dksX4_dry_1 16 rfl rfl)
theorem dX4_dry_43 : decode cX4_dry 43 = .ok (.aload_n 0, 1) := dk_42 (dk_at dksX4_dry_1 19 rfl rfl)
theorem dX4_dry_44 : decode cX4_dry 44 = .ok (.dup, 1) := dk_89 (dk_at dksX4_dry_1 20 rfl rfl)
theorem dX4_dry_45 : decode cX4_dry 45 = .ok (.getfield 39, 3) := dk_180 0 39 (dk_at dksX4_dry_1 21 rfl rfl)
theorem dX4_dry_48 : decode cX4_dry 48 = .ok (.iload_n 2, 1) := dk_28 (dk_at dksX4_dry_2 0 rfl rfl)
theorem dX4_dry_49 : decode cX4_dry 49 = .ok (.iadd, 1) := dk_96 (dk_at dksX4_dry_2 1 rfl rfl)
theorem dX4_dry_50 : decode cX4_dry 50 = .ok (.putfield 39, 3) := dk_181 0 39 (dk_at dksX4_dry_2 2 rfl rfl)
theorem dX4_dry_53 : decode cX4_dry 53 = .ok (.iload_n 2, 1) := dk_28 (dk_at dksX4_dry_2 5 rfl rfl)
theorem dX4_dry_54 : decode cX4_dry 54 = .ok (.ireturn, 1) := dk_172 (dk_at dksX4_dry_2 6 rfl rfl)
abbrev cX4_init : ByteArray := prog_2_method_2_code
def yX4_init : MethodName := ⟨RX4, "<init>", "(LWheatElevator$Bin;)V"⟩
def dkwX4_init_3 : List UInt8 := [177]
abbrev dktX4_init_3 : List UInt8 := dkwX4_init_3 ++ []
def dkwX4_init_2 : List UInt8 := [42, 43, 180, 0, 33, 181, 0, 33, 42, 43, 180, 0, 36, 181, 0, 36, 42, 43, 180, 0, 39, 181, 0, 39]
abbrev dktX4_init_2 : List UInt8 := dkwX4_init_2 ++ dktX4_init_3
def dkwX4_init_1 : List UInt8 := [42, 43, 180, 0, 27, 181, 0, 27, 42, 43, 180, 0, 30, 181, 0, 30, 42, 43, 180, 0, 15, 181, 0, 15]
abbrev dktX4_init_1 : List UInt8 := dkwX4_init_1 ++ dktX4_init_2
def dkwX4_init_0 : List UInt8 := [42, 43, 180, 0, 18, 183, 0, 21, 42, 43, 180, 0, 24, 181, 0, 24, 42, 43, 180, 0, 9, 181, 0, 9]
abbrev dktX4_init_0 : List UInt8 := dkwX4_init_0 ++ dktX4_init_1
theorem dksX4_init_0 : cX4_init.data.toList.drop 0 = dktX4_init_0 := by decide +kernel
theorem dksX4_init_1 : cX4_init.data.toList.drop 24 = dktX4_init_1 := dk_seg dksX4_init_0 24 rfl rfl
theorem dksX4_init_2 : cX4_init.data.toList.drop 48 = dktX4_init_2 := dk_seg dksX4_init_1 24 rfl rfl
theorem dksX4_init_3 : cX4_init.data.toList.drop 72 = dktX4_init_3 := dk_seg dksX4_init_2 24 rfl rfl
theorem dX4_init_0 : decode cX4_init 0 = .ok (.aload_n 0, 1) := dk_42 (dk_at dksX4_init_0 0 rfl rfl)
theorem dX4_init_1 : decode cX4_init 1 = .ok (.aload_n 1, 1) := dk_43 (dk_at dksX4_init_0 1 rfl rfl)
theorem dX4_init_2 : decode cX4_init 2 = .ok (.getfield 18, 3) := dk_180 0 18 (dk_at dksX4_init_0 2 rfl rfl)
theorem dX4_init_5 : decode cX4_init 5 = .ok (.invokespecial 21, 3) := dk_183 0 21 (dk_at dksX4_init_0 5 rfl rfl)
theorem dX4_init_8 : decode cX4_init 8 = .ok (.aload_n 0, 1) := dk_42 (dk_at dksX4_init_0 8 rfl rfl)
theorem dX4_init_9 : decode cX4_init 9 = .ok (.aload_n 1, 1) := dk_43 (dk_at dksX4_init_0 9 rfl rfl)
theorem dX4_init_10 : decode cX4_init 10 = .ok (.getfield 24, 3) := dk_180 0 24 (dk_at dksX4_init_0 10 rfl rfl)
theorem dX4_init_13 : decode cX4_init 13 = .ok (.putfield 24, 3) := dk_181 0 24 (dk_at dksX4_init_0 13 rfl rfl)
theorem dX4_init_16 : decode cX4_init 16 = .ok (.aload_n 0, 1) := dk_42 (dk_at dksX4_init_0 16 rfl rfl)
theorem dX4_init_17 : decode cX4_init 17 = .ok (.aload_n 1, 1) := dk_43 (dk_at dksX4_init_0 17 rfl rfl)
theorem dX4_init_18 : decode cX4_init 18 = .ok (.getfield 9, 3) := dk_180 0 9 (dk_at dksX4_init_0 18 rfl rfl)
theorem dX4_init_21 : decode cX4_init 21 = .ok (.putfield 9, 3) := dk_181 0 9 (dk_at dksX4_init_0 21 rfl rfl)
theorem dX4_init_24 : decode cX4_init 24 = .ok (.aload_n 0, 1) := dk_42 (dk_at dksX4_init_1 0 rfl rfl)
theorem dX4_init_25 : decode cX4_init 25 = .ok (.aload_n 1, 1) := dk_43 (dk_at dksX4_init_1 1 rfl rfl)
theorem dX4_init_26 : decode cX4_init 26 = .ok (.getfield 27, 3) := dk_180 0 27 (dk_at dksX4_init_1 2 rfl rfl)
theorem dX4_init_29 : decode cX4_init 29 = .ok (.putfield 27, 3) := dk_181 0 27 (dk_at dksX4_init_1 5 rfl rfl)
theorem dX4_init_32 : decode cX4_init 32 = .ok (.aload_n 0, 1) := dk_42 (dk_at dksX4_init_1 8 rfl rfl)
theorem dX4_init_33 : decode cX4_init 33 = .ok (.aload_n 1, 1) := dk_43 (dk_at dksX4_init_1 9 rfl rfl)
theorem dX4_init_34 : decode cX4_init 34 = .ok (.getfield 30, 3) := dk_180 0 30 (dk_at dksX4_init_1 10 rfl rfl)
theorem dX4_init_37 : decode cX4_init 37 = .ok (.putfield 30, 3) := dk_181 0 30 (dk_at dksX4_init_1 13 rfl rfl)
theorem dX4_init_40 : decode cX4_init 40 = .ok (.aload_n 0, 1) := dk_42 (dk_at dksX4_init_1 16 rfl rfl)
theorem dX4_init_41 : decode cX4_init 41 = .ok (.aload_n 1, 1) := dk_43 (dk_at dksX4_init_1 17 rfl rfl)
theorem dX4_init_42 : decode cX4_init 42 = .ok (.getfield 15, 3) := dk_180 0 15 (dk_at dksX4_init_1 18 rfl rfl)
theorem dX4_init_45 : decode cX4_init 45 = .ok (.putfield 15, 3) := dk_181 0 15 (dk_at dksX4_init_1 21 rfl rfl)
theorem dX4_init_48 : decode cX4_init 48 = .ok (.aload_n 0, 1) := dk_42 (dk_at dksX4_init_2 0 rfl rfl)
theorem dX4_init_49 : decode cX4_init 49 = .ok (.aload_n 1, 1) := dk_43 (dk_at dksX4_init_2 1 rfl rfl)
theorem dX4_init_50 : decode cX4_init 50 = .ok (.getfield 33, 3) := dk_180 0 33 (dk_at dksX4_init_2 2 rfl rfl)
theorem dX4_init_53 : decode cX4_init 53 = .ok (.putfield 33, 3) := dk_181 0 33 (dk_at dksX4_init_2 5 rfl rfl)
theorem dX4_init_56 : decode cX4_init 56 = .ok (.aload_n 0, 1) := dk_42 (dk_at dksX4_init_2 8 rfl rfl)
theorem dX4_init_57 : decode cX4_init 57 = .ok (.aload_n 1, 1) := dk_43 (dk_at dksX4_init_2 9 rfl rfl)
theorem dX4_init_58 : decode cX4_init 58 = .ok (.getfield 36, 3) := dk_180 0 36 (dk_at dksX4_init_2 10 rfl rfl)
theorem dX4_init_61 : decode cX4_init 61 = .ok (.putfield 36, 3) := dk_181 0 36 (dk_at dksX4_init_2 13 rfl rfl)
theorem dX4_init_64 : decode cX4_init 64 = .ok (.aload_n 0, 1) := dk_42 (dk_at dksX4_init_2 16 rfl rfl)
theorem dX4_init_65 : decode cX4_init 65 = .ok (.aload_n 1, 1) := dk_43 (dk_at dksX4_init_2 17 rfl rfl)
theorem dX4_init_66 : decode cX4_init 66 = .ok (.getfield 39, 3) := dk_180 0 39 (dk_at dksX4_init_2 18 rfl rfl)
theorem dX4_init_69 : decode cX4_init 69 = .ok (.putfield 39, 3) := dk_181 0 39 (dk_at dksX4_init_2 21 rfl rfl)
theorem dX4_init_72 : decode cX4_init 72 = .ok (.return_, 1) := dk_177 (dk_at dksX4_init_3 0 rfl rfl)
abbrev cX4_init_2 : ByteArray := prog_2_method_1_code
def yX4_init_2 : MethodName := ⟨RX4, "<init>", "(I)V"⟩
def dkwX4_init_2_0 : List UInt8 := [42, 183, 0, 3, 42, 17, 1, 144, 181, 0, 9, 42, 2, 181, 0, 15, 42, 27, 181, 0, 18, 177]
abbrev dktX4_init_2_0 : List UInt8 := dkwX4_init_2_0 ++ []
theorem dksX4_init_2_0 : cX4_init_2.data.toList.drop 0 = dktX4_init_2_0 := by decide +kernel
theorem dX4_init_2_0 : decode cX4_init_2 0 = .ok (.aload_n 0, 1) := dk_42 (dk_at dksX4_init_2_0 0 rfl rfl)
theorem dX4_init_2_1 : decode cX4_init_2 1 = .ok (.invokespecial 3, 3) := dk_183 0 3 (dk_at dksX4_init_2_0 1 rfl rfl)
theorem dX4_init_2_4 : decode cX4_init_2 4 = .ok (.aload_n 0, 1) := dk_42 (dk_at dksX4_init_2_0 4 rfl rfl)
theorem dX4_init_2_5 : decode cX4_init_2 5 = .ok (.sipush 400, 3) := dk_17 1 144 (dk_at dksX4_init_2_0 5 rfl rfl)
theorem dX4_init_2_8 : decode cX4_init_2 8 = .ok (.putfield 9, 3) := dk_181 0 9 (dk_at dksX4_init_2_0 8 rfl rfl)
theorem dX4_init_2_11 : decode cX4_init_2 11 = .ok (.aload_n 0, 1) := dk_42 (dk_at dksX4_init_2_0 11 rfl rfl)
theorem dX4_init_2_12 : decode cX4_init_2 12 = .ok (.iconst (-1), 1) := dk_2 (dk_at dksX4_init_2_0 12 rfl rfl)
theorem dX4_init_2_13 : decode cX4_init_2 13 = .ok (.putfield 15, 3) := dk_181 0 15 (dk_at dksX4_init_2_0 13 rfl rfl)
theorem dX4_init_2_16 : decode cX4_init_2 16 = .ok (.aload_n 0, 1) := dk_42 (dk_at dksX4_init_2_0 16 rfl rfl)
theorem dX4_init_2_17 : decode cX4_init_2 17 = .ok (.iload_n 1, 1) := dk_27 (dk_at dksX4_init_2_0 17 rfl rfl)
theorem dX4_init_2_18 : decode cX4_init_2 18 = .ok (.putfield 18, 3) := dk_181 0 18 (dk_at dksX4_init_2_0 18 rfl rfl)
theorem dX4_init_2_21 : decode cX4_init_2 21 = .ok (.return_, 1) := dk_177 (dk_at dksX4_init_2_0 21 rfl rfl)
abbrev cX4_property : ByteArray := prog_2_method_11_code
def yX4_property : MethodName := ⟨RX4, "property", "(I)I"⟩
def dkwX4_property_5 : List UInt8 := [16, 253, 172]
abbrev dktX4_property_5 : List UInt8 := dkwX4_property_5 ++ []
def dkwX4_property_4 : List UInt8 := [167, 0, 26, 42, 180, 0, 33, 167, 0, 19, 42, 180, 0, 36, 167, 0, 12, 42, 180, 0, 39, 167, 0, 5]
abbrev dktX4_property_4 : List UInt8 := dkwX4_property_4 ++ dktX4_property_5
def dkwX4_property_3 : List UInt8 := [180, 0, 27, 167, 0, 47, 42, 180, 0, 30, 167, 0, 40, 42, 180, 0, 15, 167, 0, 33, 42, 182, 0, 42]
abbrev dktX4_property_3 : List UInt8 := dkwX4_property_3 ++ dktX4_property_4
def dkwX4_property_2 : List UInt8 := [42, 180, 0, 18, 167, 0, 68, 42, 180, 0, 24, 167, 0, 61, 42, 180, 0, 9, 167, 0, 54, 42]
abbrev dktX4_property_2 : List UInt8 := dkwX4_property_2 ++ dktX4_property_3
def dkwX4_property_1 : List UInt8 := [170, 0, 0, 0, 0, 0, 125, 0, 0, 0, 0, 0, 0, 0, 9, 0, 0, 0, 55, 0, 0, 0, 62, 0, 0, 0, 69, 0, 0, 0, 76, 0, 0, 0, 83, 0, 0, 0, 90, 0, 0, 0, 97, 0, 0, 0, 104, 0, 0, 0, 111, 0, 0, 0, 118]
abbrev dktX4_property_1 : List UInt8 := dkwX4_property_1 ++ dktX4_property_2
def dkwX4_property_0 : List UInt8 := [27]
abbrev dktX4_property_0 : List UInt8 := dkwX4_property_0 ++ dktX4_property_1
theorem dksX4_property_0 : cX4_property.data.toList.drop 0 = dktX4_property_0 := by decide +kernel
theorem dksX4_property_1 : cX4_property.data.toList.drop 1 = dktX4_property_1 := dk_seg dksX4_property_0 1 rfl rfl
theorem dksX4_property_2 : cX4_property.data.toList.drop 56 = dktX4_property_2 := dk_seg dksX4_property_1 55 rfl rfl
theorem dksX4_property_3 : cX4_property.data.toList.drop 78 = dktX4_property_3 := dk_seg dksX4_property_2 22 rfl rfl
theorem dksX4_property_4 : cX4_property.data.toList.drop 102 = dktX4_property_4 := dk_seg dksX4_property_3 24 rfl rfl
theorem dksX4_property_5 : cX4_property.data.toList.drop 126 = dktX4_property_5 := dk_seg dksX4_property_4 24 rfl rfl
theorem dX4_property_0 : decode cX4_property 0 = .ok (.iload_n 1, 1) := dk_27 (dk_at dksX4_property_0 0 rfl rfl)
theorem dX4_property_1 : decode cX4_property 1 = .ok (.tableswitch 125 0 9 #[55, 62, 69, 76, 83, 90, 97, 104, 111, 118], 55) := by decide +kernel
theorem dX4_property_56 : decode cX4_property 56 = .ok (.aload_n 0, 1) := dk_42 (dk_at dksX4_property_2 0 rfl rfl)
theorem dX4_property_57 : decode cX4_property 57 = .ok (.getfield 18, 3) := dk_180 0 18 (dk_at dksX4_property_2 1 rfl rfl)
theorem dX4_property_60 : decode cX4_property 60 = .ok (.goto 68, 3) := dk_167 0 68 (dk_at dksX4_property_2 4 rfl rfl)
theorem dX4_property_63 : decode cX4_property 63 = .ok (.aload_n 0, 1) := dk_42 (dk_at dksX4_property_2 7 rfl rfl)
theorem dX4_property_64 : decode cX4_property 64 = .ok (.getfield 24, 3) := dk_180 0 24 (dk_at dksX4_property_2 8 rfl rfl)
theorem dX4_property_67 : decode cX4_property 67 = .ok (.goto 61, 3) := dk_167 0 61 (dk_at dksX4_property_2 11 rfl rfl)
theorem dX4_property_70 : decode cX4_property 70 = .ok (.aload_n 0, 1) := dk_42 (dk_at dksX4_property_2 14 rfl rfl)
theorem dX4_property_71 : decode cX4_property 71 = .ok (.getfield 9, 3) := dk_180 0 9 (dk_at dksX4_property_2 15 rfl rfl)
theorem dX4_property_74 : decode cX4_property 74 = .ok (.goto 54, 3) := dk_167 0 54 (dk_at dksX4_property_2 18 rfl rfl)
theorem dX4_property_77 : decode cX4_property 77 = .ok (.aload_n 0, 1) := dk_42 (dk_at dksX4_property_2 21 rfl rfl)
theorem dX4_property_78 : decode cX4_property 78 = .ok (.getfield 27, 3) := dk_180 0 27 (dk_at dksX4_property_3 0 rfl rfl)
theorem dX4_property_81 : decode cX4_property 81 = .ok (.goto 47, 3) := dk_167 0 47 (dk_at dksX4_property_3 3 rfl rfl)
theorem dX4_property_84 : decode cX4_property 84 = .ok (.aload_n 0, 1) := dk_42 (dk_at dksX4_property_3 6 rfl rfl)
theorem dX4_property_85 : decode cX4_property 85 = .ok (.getfield 30, 3) := dk_180 0 30 (dk_at dksX4_property_3 7 rfl rfl)
theorem dX4_property_88 : decode cX4_property 88 = .ok (.goto 40, 3) := dk_167 0 40 (dk_at dksX4_property_3 10 rfl rfl)
theorem dX4_property_91 : decode cX4_property 91 = .ok (.aload_n 0, 1) := dk_42 (dk_at dksX4_property_3 13 rfl rfl)
theorem dX4_property_92 : decode cX4_property 92 = .ok (.getfield 15, 3) := dk_180 0 15 (dk_at dksX4_property_3 14 rfl rfl)
theorem dX4_property_95 : decode cX4_property 95 = .ok (.goto 33, 3) := dk_167 0 33 (dk_at dksX4_property_3 17 rfl rfl)
theorem dX4_property_98 : decode cX4_property 98 = .ok (.aload_n 0, 1) := dk_42 (dk_at dksX4_property_3 20 rfl rfl)
theorem dX4_property_99 : decode cX4_property 99 = .ok (.invokevirtual 42, 3) := dk_182 0 42 (dk_at dksX4_property_3 21 rfl rfl)
theorem dX4_property_102 : decode cX4_property 102 = .ok (.goto 26, 3) := dk_167 0 26 (dk_at dksX4_property_4 0 rfl rfl)
theorem dX4_property_105 : decode cX4_property 105 = .ok (.aload_n 0, 1) := dk_42 (dk_at dksX4_property_4 3 rfl rfl)
theorem dX4_property_106 : decode cX4_property 106 = .ok (.getfield 33, 3) := dk_180 0 33 (dk_at dksX4_property_4 4 rfl rfl)
theorem dX4_property_109 : decode cX4_property 109 = .ok (.goto 19, 3) := dk_167 0 19 (dk_at dksX4_property_4 7 rfl rfl)
theorem dX4_property_112 : decode cX4_property 112 = .ok (.aload_n 0, 1) := dk_42 (dk_at dksX4_property_4 10 rfl rfl)
theorem dX4_property_113 : decode cX4_property 113 = .ok (.getfield 36, 3) := dk_180 0 36 (dk_at dksX4_property_4 11 rfl rfl)
theorem dX4_property_116 : decode cX4_property 116 = .ok (.goto 12, 3) := dk_167 0 12 (dk_at dksX4_property_4 14 rfl rfl)
theorem dX4_property_119 : decode cX4_property 119 = .ok (.aload_n 0, 1) := dk_42 (dk_at dksX4_property_4 17 rfl rfl)
theorem dX4_property_120 : decode cX4_property 120 = .ok (.getfield 39, 3) := dk_180 0 39 (dk_at dksX4_property_4 18 rfl rfl)
theorem dX4_property_123 : decode cX4_property 123 = .ok (.goto 5, 3) := dk_167 0 5 (dk_at dksX4_property_4 21 rfl rfl)
theorem dX4_property_126 : decode cX4_property 126 = .ok (.bipush (-3), 2) := dk_16 253 (dk_at dksX4_property_5 0 rfl rfl)
theorem dX4_property_128 : decode cX4_property 128 = .ok (.ireturn, 1) := dk_172 (dk_at dksX4_property_5 2 rfl rfl)
theorem q106 : (Jvm.Cond.initialized "WheatElevator$Bin") ∈ lw_all := lw_g (lw_at lw_m1 18 rfl) rfl
theorem q311 : (Jvm.Cond.instanceMethod ({ cls := "WheatElevator$Bin", name := "isSpoilt", desc := "()Z" } : Jvm.MethodName)) ∈ lw_all := lw_g (lw_at lw_m1 223 rfl) rfl
theorem q312 : (Jvm.Cond.selects "WheatElevator$Bin" ({ cls := "WheatElevator$Bin", name := "isSpoilt", desc := "()Z" } : Jvm.MethodName) ({ cls := "WheatElevator$Bin", name := "isSpoilt", desc := "()Z" } : Jvm.MethodName)) ∈ lw_all := lw_g (lw_at lw_m1 224 rfl) rfl
theorem q313 : (Jvm.Cond.code ({ cls := "WheatElevator$Bin", name := "isSpoilt", desc := "()Z" } : Jvm.MethodName) prog_2_method_4_code (1 : Nat) (Option.some Jvm.ClassFile.FieldType.boolean)) ∈ lw_all := lw_g (lw_at lw_m1 225 rfl) rfl
theorem q343 : (Jvm.Cond.instanceMethod ({ cls := "WheatElevator$Bin", name := "pass", desc := "(I)V" } : Jvm.MethodName)) ∈ lw_all := lw_g (lw_at lw_m2 15 rfl) rfl
theorem q344 : (Jvm.Cond.selects "WheatElevator$Bin" ({ cls := "WheatElevator$Bin", name := "pass", desc := "(I)V" } : Jvm.MethodName) ({ cls := "WheatElevator$Bin", name := "pass", desc := "(I)V" } : Jvm.MethodName)) ∈ lw_all := lw_g (lw_at lw_m2 16 rfl) rfl
theorem q345 : (Jvm.Cond.code ({ cls := "WheatElevator$Bin", name := "pass", desc := "(I)V" } : Jvm.MethodName) prog_2_method_5_code (4 : Nat) (Option.none : Option Jvm.ClassFile.FieldType)) ∈ lw_all := lw_g (lw_at lw_m2 17 rfl) rfl
theorem q346 : (Jvm.Cond.methodLink "WheatElevator$Bin" (42 : Nat) ({ cls := "WheatElevator$Bin", name := "moisture", desc := "()I" } : Jvm.MethodName)) ∈ lw_all := lw_g (lw_at lw_m2 18 rfl) rfl
theorem q347 : (Jvm.Cond.instanceMethod ({ cls := "WheatElevator$Bin", name := "moisture", desc := "()I" } : Jvm.MethodName)) ∈ lw_all := lw_g (lw_at lw_m2 19 rfl) rfl
theorem q348 : (Jvm.Cond.selects "WheatElevator$Bin" ({ cls := "WheatElevator$Bin", name := "moisture", desc := "()I" } : Jvm.MethodName) ({ cls := "WheatElevator$Bin", name := "moisture", desc := "()I" } : Jvm.MethodName)) ∈ lw_all := lw_g (lw_at lw_m2 20 rfl) rfl
theorem q349 : (Jvm.Cond.code ({ cls := "WheatElevator$Bin", name := "moisture", desc := "()I" } : Jvm.MethodName) prog_2_method_3_code (1 : Nat) (Option.some Jvm.ClassFile.FieldType.int)) ∈ lw_all := lw_g (lw_at lw_m2 21 rfl) rfl
theorem q350 : (Jvm.Cond.constantLong "WheatElevator$Bin" (46 : Nat) (10000 : Int64)) ∈ lw_all := lw_g (lw_at lw_m2 22 rfl) rfl
theorem q351 : (Jvm.Cond.methodLink "WheatElevator$Bin" (48 : Nat) ({ cls := "java/lang/Math", name := "min", desc := "(JJ)J" } : Jvm.MethodName)) ∈ lw_all := lw_g (lw_at lw_m2 23 rfl) rfl
theorem q354 : (Jvm.Cond.methodLink "WheatElevator$Bin" (54 : Nat) ({ cls := "WheatElevator$Bin", name := "isSpoilt", desc := "()Z" } : Jvm.MethodName)) ∈ lw_all := lw_g (lw_at lw_m2 26 rfl) rfl
theorem q355 : (Jvm.Cond.constantLong "WheatElevator$Bin" (58 : Nat) (20 : Int64)) ∈ lw_all := lw_g (lw_at lw_m2 27 rfl) rfl
theorem q356 : (Jvm.Cond.methodLink "WheatElevator$Bin" (60 : Nat) ({ cls := "java/lang/Math", name := "max", desc := "(JJ)J" } : Jvm.MethodName)) ∈ lw_all := lw_g (lw_at lw_m2 28 rfl) rfl
theorem q362 : (Jvm.Cond.instanceMethod ({ cls := "WheatElevator$Bin", name := "put", desc := "(III)V" } : Jvm.MethodName)) ∈ lw_all := lw_g (lw_at lw_m2 34 rfl) rfl
theorem q363 : (Jvm.Cond.selects "WheatElevator$Bin" ({ cls := "WheatElevator$Bin", name := "put", desc := "(III)V" } : Jvm.MethodName) ({ cls := "WheatElevator$Bin", name := "put", desc := "(III)V" } : Jvm.MethodName)) ∈ lw_all := lw_g (lw_at lw_m2 35 rfl) rfl
theorem q364 : (Jvm.Cond.code ({ cls := "WheatElevator$Bin", name := "put", desc := "(III)V" } : Jvm.MethodName) prog_2_method_9_code (4 : Nat) (Option.none : Option Jvm.ClassFile.FieldType)) ∈ lw_all := lw_g (lw_at lw_m2 36 rfl) rfl
theorem q416 : (Jvm.Cond.instanceMethod ({ cls := "WheatElevator$Bin", name := "pointsOf", desc := "(I)I" } : Jvm.MethodName)) ∈ lw_all := lw_g (lw_at lw_m2 88 rfl) rfl
theorem q417 : (Jvm.Cond.selects "WheatElevator$Bin" ({ cls := "WheatElevator$Bin", name := "pointsOf", desc := "(I)I" } : Jvm.MethodName) ({ cls := "WheatElevator$Bin", name := "pointsOf", desc := "(I)I" } : Jvm.MethodName)) ∈ lw_all := lw_g (lw_at lw_m2 89 rfl) rfl
theorem q418 : (Jvm.Cond.code ({ cls := "WheatElevator$Bin", name := "pointsOf", desc := "(I)I" } : Jvm.MethodName) prog_2_method_6_code (2 : Nat) (Option.some Jvm.ClassFile.FieldType.int)) ∈ lw_all := lw_g (lw_at lw_m2 90 rfl) rfl
theorem q428 : (Jvm.Cond.instanceMethod ({ cls := "WheatElevator$Bin", name := "take", desc := "(I)I" } : Jvm.MethodName)) ∈ lw_all := lw_g (lw_at lw_m2 100 rfl) rfl
theorem q429 : (Jvm.Cond.selects "WheatElevator$Bin" ({ cls := "WheatElevator$Bin", name := "take", desc := "(I)I" } : Jvm.MethodName) ({ cls := "WheatElevator$Bin", name := "take", desc := "(I)I" } : Jvm.MethodName)) ∈ lw_all := lw_g (lw_at lw_m2 101 rfl) rfl
theorem q430 : (Jvm.Cond.code ({ cls := "WheatElevator$Bin", name := "take", desc := "(I)I" } : Jvm.MethodName) prog_2_method_8_code (3 : Nat) (Option.some Jvm.ClassFile.FieldType.int)) ∈ lw_all := lw_g (lw_at lw_m2 102 rfl) rfl
theorem q431 : (Jvm.Cond.methodLink "WheatElevator$Bin" (63 : Nat) ({ cls := "WheatElevator$Bin", name := "pointsOf", desc := "(I)I" } : Jvm.MethodName)) ∈ lw_all := lw_g (lw_at lw_m2 103 rfl) rfl
theorem q432 : (Jvm.Cond.methodLink "WheatElevator$Bin" (67 : Nat) ({ cls := "WheatElevator$Bin", name := "emptyIfSo", desc := "()V" } : Jvm.MethodName)) ∈ lw_all := lw_g (lw_at lw_m2 104 rfl) rfl
theorem q433 : (Jvm.Cond.privateMethod ({ cls := "WheatElevator$Bin", name := "emptyIfSo", desc := "()V" } : Jvm.MethodName)) ∈ lw_tbl := lw_at lw_m2 105 rfl
theorem q434 : (Jvm.Cond.instanceMethod ({ cls := "WheatElevator$Bin", name := "emptyIfSo", desc := "()V" } : Jvm.MethodName)) ∈ lw_all := lw_g (lw_at lw_m2 106 rfl) rfl
theorem q435 : (Jvm.Cond.instantiable "WheatElevator$Bin" (9 : Nat)) ∈ lw_all := lw_g (lw_at lw_m2 107 rfl) rfl
theorem q436 : (Jvm.Cond.code ({ cls := "WheatElevator$Bin", name := "emptyIfSo", desc := "()V" } : Jvm.MethodName) prog_2_method_7_code (1 : Nat) (Option.none : Option Jvm.ClassFile.FieldType)) ∈ lw_all := lw_g (lw_at lw_m2 108 rfl) rfl
theorem q476 : (Jvm.Cond.instanceMethod ({ cls := "WheatElevator$Bin", name := "dry", desc := "()I" } : Jvm.MethodName)) ∈ lw_all := lw_g (lw_at lw_m2 148 rfl) rfl
theorem q477 : (Jvm.Cond.selects "WheatElevator$Bin" ({ cls := "WheatElevator$Bin", name := "dry", desc := "()I" } : Jvm.MethodName) ({ cls := "WheatElevator$Bin", name := "dry", desc := "()I" } : Jvm.MethodName)) ∈ lw_all := lw_g (lw_at lw_m2 149 rfl) rfl
theorem q478 : (Jvm.Cond.code ({ cls := "WheatElevator$Bin", name := "dry", desc := "()I" } : Jvm.MethodName) prog_2_method_10_code (3 : Nat) (Option.some Jvm.ClassFile.FieldType.int)) ∈ lw_all := lw_g (lw_at lw_m2 150 rfl) rfl
theorem q479 : (Jvm.Cond.methodLink "WheatElevator$Bin" (70 : Nat) ({ cls := "java/lang/Math", name := "min", desc := "(II)I" } : Jvm.MethodName)) ∈ lw_all := lw_g (lw_at lw_m2 151 rfl) rfl
theorem q562 : (Jvm.Cond.selects "WheatElevator$Bin" ({ cls := "java/lang/Object", name := "getClass", desc := "()Ljava/lang/Class;" } : Jvm.MethodName) ({ cls := "java/lang/Object", name := "getClass", desc := "()Ljava/lang/Class;" } : Jvm.MethodName)) ∈ lw_all := lw_g (lw_at lw_m2 234 rfl) rfl
theorem q588 : (Jvm.Cond.instanceMethod ({ cls := "WheatElevator$Bin", name := "<init>", desc := "(LWheatElevator$Bin;)V" } : Jvm.MethodName)) ∈ lw_all := lw_g (lw_at lw_m3 20 rfl) rfl
theorem q589 : (Jvm.Cond.code ({ cls := "WheatElevator$Bin", name := "<init>", desc := "(LWheatElevator$Bin;)V" } : Jvm.MethodName) prog_2_method_2_code (2 : Nat) (Option.none : Option Jvm.ClassFile.FieldType)) ∈ lw_all := lw_g (lw_at lw_m3 21 rfl) rfl
theorem q590 : (Jvm.Cond.methodLink "WheatElevator$Bin" (21 : Nat) ({ cls := "WheatElevator$Bin", name := "<init>", desc := "(I)V" } : Jvm.MethodName)) ∈ lw_all := lw_g (lw_at lw_m3 22 rfl) rfl
theorem q591 : (Jvm.Cond.instanceMethod ({ cls := "WheatElevator$Bin", name := "<init>", desc := "(I)V" } : Jvm.MethodName)) ∈ lw_all := lw_g (lw_at lw_m3 23 rfl) rfl
theorem q592 : (Jvm.Cond.code ({ cls := "WheatElevator$Bin", name := "<init>", desc := "(I)V" } : Jvm.MethodName) prog_2_method_1_code (2 : Nat) (Option.none : Option Jvm.ClassFile.FieldType)) ∈ lw_all := lw_g (lw_at lw_m3 24 rfl) rfl
theorem q593 : (Jvm.Cond.methodLink "WheatElevator$Bin" (3 : Nat) ({ cls := "java/lang/Object", name := "<init>", desc := "()V" } : Jvm.MethodName)) ∈ lw_all := lw_g (lw_at lw_m3 25 rfl) rfl
theorem q594 : (Jvm.Cond.fieldLink "WheatElevator$Bin" (18 : Nat) "WheatElevator$Bin" "capacity" "I") ∈ lw_all := lw_g (lw_at lw_m3 26 rfl) rfl
theorem q597 : (Jvm.Cond.fieldLink "WheatElevator$Bin" (24 : Nat) "WheatElevator$Bin" "low" "I") ∈ lw_all := lw_g (lw_at lw_m3 29 rfl) rfl
theorem q600 : (Jvm.Cond.fieldLink "WheatElevator$Bin" (9 : Nat) "WheatElevator$Bin" "high" "I") ∈ lw_all := lw_g (lw_at lw_m3 32 rfl) rfl
theorem q603 : (Jvm.Cond.fieldLink "WheatElevator$Bin" (27 : Nat) "WheatElevator$Bin" "amount" "I") ∈ lw_all := lw_g (lw_at lw_m3 35 rfl) rfl
theorem q606 : (Jvm.Cond.fieldLink "WheatElevator$Bin" (30 : Nat) "WheatElevator$Bin" "points" "I") ∈ lw_all := lw_g (lw_at lw_m3 38 rfl) rfl
theorem q608 : (Jvm.Cond.fieldLink "WheatElevator$Bin" (15 : Nat) "WheatElevator$Bin" "kind" "I") ∈ lw_all := lw_g (lw_at lw_m3 40 rfl) rfl
theorem q611 : (Jvm.Cond.fieldLink "WheatElevator$Bin" (33 : Nat) "WheatElevator$Bin" "heat" "I") ∈ lw_all := lw_g (lw_at lw_m3 43 rfl) rfl
theorem q613 : (Jvm.Cond.fieldLink "WheatElevator$Bin" (36 : Nat) "WheatElevator$Bin" "came" "I") ∈ lw_all := lw_g (lw_at lw_m3 45 rfl) rfl
theorem q615 : (Jvm.Cond.fieldLink "WheatElevator$Bin" (39 : Nat) "WheatElevator$Bin" "went" "I") ∈ lw_all := lw_g (lw_at lw_m3 47 rfl) rfl
theorem q617 : (Jvm.Cond.laysFinal "WheatElevator$Bin" "WheatElevator$Bin" "capacity" "I") ∈ lw_all := lw_g (lw_at lw_m3 49 rfl) rfl
theorem q618 : (Jvm.Cond.soleField "WheatElevator$Bin" "capacity") ∈ lw_all := lw_g (lw_at lw_m3 50 rfl) rfl
theorem q619 : (Jvm.Cond.lays "WheatElevator$Bin" "WheatElevator$Bin" "low" "I") ∈ lw_all := lw_g (lw_at lw_m3 51 rfl) rfl
theorem q620 : (Jvm.Cond.soleField "WheatElevator$Bin" "low") ∈ lw_all := lw_g (lw_at lw_m3 52 rfl) rfl
theorem q621 : (Jvm.Cond.lays "WheatElevator$Bin" "WheatElevator$Bin" "high" "I") ∈ lw_all := lw_g (lw_at lw_m3 53 rfl) rfl
theorem q622 : (Jvm.Cond.soleField "WheatElevator$Bin" "high") ∈ lw_all := lw_g (lw_at lw_m3 54 rfl) rfl
theorem q623 : (Jvm.Cond.lays "WheatElevator$Bin" "WheatElevator$Bin" "amount" "I") ∈ lw_all := lw_g (lw_at lw_m3 55 rfl) rfl
theorem q624 : (Jvm.Cond.soleField "WheatElevator$Bin" "amount") ∈ lw_all := lw_g (lw_at lw_m3 56 rfl) rfl
theorem q625 : (Jvm.Cond.lays "WheatElevator$Bin" "WheatElevator$Bin" "points" "I") ∈ lw_all := lw_g (lw_at lw_m3 57 rfl) rfl
theorem q626 : (Jvm.Cond.soleField "WheatElevator$Bin" "points") ∈ lw_all := lw_g (lw_at lw_m3 58 rfl) rfl
theorem q627 : (Jvm.Cond.lays "WheatElevator$Bin" "WheatElevator$Bin" "kind" "I") ∈ lw_all := lw_g (lw_at lw_m3 59 rfl) rfl
theorem q628 : (Jvm.Cond.soleField "WheatElevator$Bin" "kind") ∈ lw_all := lw_g (lw_at lw_m3 60 rfl) rfl
theorem q629 : (Jvm.Cond.lays "WheatElevator$Bin" "WheatElevator$Bin" "heat" "I") ∈ lw_all := lw_g (lw_at lw_m3 61 rfl) rfl
theorem q630 : (Jvm.Cond.soleField "WheatElevator$Bin" "heat") ∈ lw_all := lw_g (lw_at lw_m3 62 rfl) rfl
theorem q631 : (Jvm.Cond.lays "WheatElevator$Bin" "WheatElevator$Bin" "came" "I") ∈ lw_all := lw_g (lw_at lw_m3 63 rfl) rfl
theorem q632 : (Jvm.Cond.soleField "WheatElevator$Bin" "came") ∈ lw_all := lw_g (lw_at lw_m3 64 rfl) rfl
theorem q633 : (Jvm.Cond.lays "WheatElevator$Bin" "WheatElevator$Bin" "went" "I") ∈ lw_all := lw_g (lw_at lw_m3 65 rfl) rfl
theorem q634 : (Jvm.Cond.soleField "WheatElevator$Bin" "went") ∈ lw_all := lw_g (lw_at lw_m3 66 rfl) rfl
theorem q635 : (Jvm.Cond.superclass "WheatElevator$Bin" "java/lang/Object") ∈ lw_all := lw_g (lw_at lw_m3 67 rfl) rfl
theorem q784 : (Jvm.Cond.instanceMethod ({ cls := "WheatElevator$Bin", name := "property", desc := "(I)I" } : Jvm.MethodName)) ∈ lw_all := lw_g (lw_at lw_m3 216 rfl) rfl
theorem q785 : (Jvm.Cond.selects "WheatElevator$Bin" ({ cls := "WheatElevator$Bin", name := "property", desc := "(I)I" } : Jvm.MethodName) ({ cls := "WheatElevator$Bin", name := "property", desc := "(I)I" } : Jvm.MethodName)) ∈ lw_all := lw_g (lw_at lw_m3 217 rfl) rfl
theorem q786 : (Jvm.Cond.code ({ cls := "WheatElevator$Bin", name := "property", desc := "(I)I" } : Jvm.MethodName) prog_2_method_11_code (2 : Nat) (Option.some Jvm.ClassFile.FieldType.int)) ∈ lw_all := lw_g (lw_at lw_m3 218 rfl) rfl
theorem q1581 : (Jvm.Cond.castable "WheatElevator$Bin" "java/lang/Object") ∈ lw_tbl := lw_at lw_m7 53 rfl
theorem in_X4 : ∀ w ∈ wsX40, w ∈ lw_all := lw_in wsX40 [617, 619, 621, 623, 625, 627, 629, 631, 633] (by decide +kernel) (by decide +kernel)

/-! WheatElevator$Leg -/
set_option maxRecDepth 100000
def RX5 : String := "WheatElevator$Leg"
def TX5 : u_T := fun k => match k with
  | 0 => ("WheatElevator$Leg", "speed", "I", false)
  | 1 => ("WheatElevator$Leg", "spouts", "I", false)
  | 2 => ("WheatElevator$Leg", "dust", "I", false)
  | _ => ("WheatElevator$Leg", "moved", "I", false)
def tyX5 : Nat → FieldType := fun k => match k with
  | 0 => .int
  | 1 => .int
  | 2 => .int
  | _ => .int
abbrev wsX50 : List Cond := u_ws RX5 TX5 4
theorem nmX5 : ∀ a, a < 4 → ∀ b, b < 4 → a ≠ b → (TX5 a).2.1 ≠ (TX5 b).2.1 := by decide +kernel
theorem tyX5_ok : ∀ k, k < 4 → parseFieldDescriptor (TX5 k).2.2.1 = some (tyX5 k) := by decide +kernel
abbrev cX5_lift : ByteArray := prog_5_method_3_code
def yX5_lift : MethodName := ⟨RX5, "lift", "(II)V"⟩
def dkwX5_lift_1 : List UInt8 := [136, 96, 181, 0, 21, 42, 89, 180, 0, 24, 27, 96, 181, 0, 24, 177]
abbrev dktX5_lift_1 : List UInt8 := dkwX5_lift_1 ++ []
def dkwX5_lift_0 : List UInt8 := [42, 89, 180, 0, 21, 27, 133, 42, 180, 0, 9, 133, 105, 17, 1, 144, 28, 100, 133, 105, 20, 0, 27, 109]
abbrev dktX5_lift_0 : List UInt8 := dkwX5_lift_0 ++ dktX5_lift_1
theorem dksX5_lift_0 : cX5_lift.data.toList.drop 0 = dktX5_lift_0 := by decide +kernel
theorem dksX5_lift_1 : cX5_lift.data.toList.drop 24 = dktX5_lift_1 := dk_seg dksX5_lift_0 24 rfl rfl
theorem dX5_lift_0 : decode cX5_lift 0 = .ok (.aload_n 0, 1) := dk_42 (dk_at dksX5_lift_0 0 rfl rfl)
theorem dX5_lift_1 : decode cX5_lift 1 = .ok (.dup, 1) := dk_89 (dk_at dksX5_lift_0 1 rfl rfl)
theorem dX5_lift_2 : decode cX5_lift 2 = .ok (.getfield 21, 3) := dk_180 0 21 (dk_at dksX5_lift_0 2 rfl rfl)
theorem dX5_lift_5 : decode cX5_lift 5 = .ok (.iload_n 1, 1) := dk_27 (dk_at dksX5_lift_0 5 rfl rfl)
theorem dX5_lift_6 : decode cX5_lift 6 = .ok (.i2l, 1) := dk_133 (dk_at dksX5_lift_0 6 rfl rfl)
theorem dX5_lift_7 : decode cX5_lift 7 = .ok (.aload_n 0, 1) := dk_42 (dk_at dksX5_lift_0 7 rfl rfl)
theorem dX5_lift_8 : decode cX5_lift 8 = .ok (.getfield 9, 3) := dk_180 0 9 (dk_at dksX5_lift_0 8 rfl rfl)
theorem dX5_lift_11 : decode cX5_lift 11 = .ok (.i2l, 1) := dk_133 (dk_at dksX5_lift_0 11 rfl rfl)
theorem dX5_lift_12 : decode cX5_lift 12 = .ok (.lmul, 1) := dk_105 (dk_at dksX5_lift_0 12 rfl rfl)
theorem dX5_lift_13 : decode cX5_lift 13 = .ok (.sipush 400, 3) := dk_17 1 144 (dk_at dksX5_lift_0 13 rfl rfl)
theorem dX5_lift_16 : decode cX5_lift 16 = .ok (.iload_n 2, 1) := dk_28 (dk_at dksX5_lift_0 16 rfl rfl)
theorem dX5_lift_17 : decode cX5_lift 17 = .ok (.isub, 1) := dk_100 (dk_at dksX5_lift_0 17 rfl rfl)
theorem dX5_lift_18 : decode cX5_lift 18 = .ok (.i2l, 1) := dk_133 (dk_at dksX5_lift_0 18 rfl rfl)
theorem dX5_lift_19 : decode cX5_lift 19 = .ok (.lmul, 1) := dk_105 (dk_at dksX5_lift_0 19 rfl rfl)
theorem dX5_lift_20 : decode cX5_lift 20 = .ok (.ldc2_w 27, 3) := dk_20 0 27 (dk_at dksX5_lift_0 20 rfl rfl)
theorem dX5_lift_23 : decode cX5_lift 23 = .ok (.ldiv, 1) := dk_109 (dk_at dksX5_lift_0 23 rfl rfl)
theorem dX5_lift_24 : decode cX5_lift 24 = .ok (.l2i, 1) := dk_136 (dk_at dksX5_lift_1 0 rfl rfl)
theorem dX5_lift_25 : decode cX5_lift 25 = .ok (.iadd, 1) := dk_96 (dk_at dksX5_lift_1 1 rfl rfl)
theorem dX5_lift_26 : decode cX5_lift 26 = .ok (.putfield 21, 3) := dk_181 0 21 (dk_at dksX5_lift_1 2 rfl rfl)
theorem dX5_lift_29 : decode cX5_lift 29 = .ok (.aload_n 0, 1) := dk_42 (dk_at dksX5_lift_1 5 rfl rfl)
theorem dX5_lift_30 : decode cX5_lift 30 = .ok (.dup, 1) := dk_89 (dk_at dksX5_lift_1 6 rfl rfl)
theorem dX5_lift_31 : decode cX5_lift 31 = .ok (.getfield 24, 3) := dk_180 0 24 (dk_at dksX5_lift_1 7 rfl rfl)
theorem dX5_lift_34 : decode cX5_lift 34 = .ok (.iload_n 1, 1) := dk_27 (dk_at dksX5_lift_1 10 rfl rfl)
theorem dX5_lift_35 : decode cX5_lift 35 = .ok (.iadd, 1) := dk_96 (dk_at dksX5_lift_1 11 rfl rfl)
theorem dX5_lift_36 : decode cX5_lift 36 = .ok (.putfield 24, 3) := dk_181 0 24 (dk_at dksX5_lift_1 12 rfl rfl)
theorem dX5_lift_39 : decode cX5_lift 39 = .ok (.return_, 1) := dk_177 (dk_at dksX5_lift_1 15 rfl rfl)
abbrev cX5_init : ByteArray := prog_5_method_2_code
def yX5_init : MethodName := ⟨RX5, "<init>", "(LWheatElevator$Leg;)V"⟩
def dkwX5_init_1 : List UInt8 := [42, 43, 180, 0, 24, 181, 0, 24, 177]
abbrev dktX5_init_1 : List UInt8 := dkwX5_init_1 ++ []
def dkwX5_init_0 : List UInt8 := [42, 43, 180, 0, 9, 183, 0, 15, 42, 43, 180, 0, 18, 181, 0, 18, 42, 43, 180, 0, 21, 181, 0, 21]
abbrev dktX5_init_0 : List UInt8 := dkwX5_init_0 ++ dktX5_init_1
theorem dksX5_init_0 : cX5_init.data.toList.drop 0 = dktX5_init_0 := by decide +kernel
theorem dksX5_init_1 : cX5_init.data.toList.drop 24 = dktX5_init_1 := dk_seg dksX5_init_0 24 rfl rfl
theorem dX5_init_0 : decode cX5_init 0 = .ok (.aload_n 0, 1) := dk_42 (dk_at dksX5_init_0 0 rfl rfl)
theorem dX5_init_1 : decode cX5_init 1 = .ok (.aload_n 1, 1) := dk_43 (dk_at dksX5_init_0 1 rfl rfl)
theorem dX5_init_2 : decode cX5_init 2 = .ok (.getfield 9, 3) := dk_180 0 9 (dk_at dksX5_init_0 2 rfl rfl)
theorem dX5_init_5 : decode cX5_init 5 = .ok (.invokespecial 15, 3) := dk_183 0 15 (dk_at dksX5_init_0 5 rfl rfl)
theorem dX5_init_8 : decode cX5_init 8 = .ok (.aload_n 0, 1) := dk_42 (dk_at dksX5_init_0 8 rfl rfl)
theorem dX5_init_9 : decode cX5_init 9 = .ok (.aload_n 1, 1) := dk_43 (dk_at dksX5_init_0 9 rfl rfl)
theorem dX5_init_10 : decode cX5_init 10 = .ok (.getfield 18, 3) := dk_180 0 18 (dk_at dksX5_init_0 10 rfl rfl)
theorem dX5_init_13 : decode cX5_init 13 = .ok (.putfield 18, 3) := dk_181 0 18 (dk_at dksX5_init_0 13 rfl rfl)
theorem dX5_init_16 : decode cX5_init 16 = .ok (.aload_n 0, 1) := dk_42 (dk_at dksX5_init_0 16 rfl rfl)
theorem dX5_init_17 : decode cX5_init 17 = .ok (.aload_n 1, 1) := dk_43 (dk_at dksX5_init_0 17 rfl rfl)
theorem dX5_init_18 : decode cX5_init 18 = .ok (.getfield 21, 3) := dk_180 0 21 (dk_at dksX5_init_0 18 rfl rfl)
theorem dX5_init_21 : decode cX5_init 21 = .ok (.putfield 21, 3) := dk_181 0 21 (dk_at dksX5_init_0 21 rfl rfl)
theorem dX5_init_24 : decode cX5_init 24 = .ok (.aload_n 0, 1) := dk_42 (dk_at dksX5_init_1 0 rfl rfl)
theorem dX5_init_25 : decode cX5_init 25 = .ok (.aload_n 1, 1) := dk_43 (dk_at dksX5_init_1 1 rfl rfl)
theorem dX5_init_26 : decode cX5_init 26 = .ok (.getfield 24, 3) := dk_180 0 24 (dk_at dksX5_init_1 2 rfl rfl)
theorem dX5_init_29 : decode cX5_init 29 = .ok (.putfield 24, 3) := dk_181 0 24 (dk_at dksX5_init_1 5 rfl rfl)
theorem dX5_init_32 : decode cX5_init 32 = .ok (.return_, 1) := dk_177 (dk_at dksX5_init_1 8 rfl rfl)
abbrev cX5_init_2 : ByteArray := prog_5_method_1_code
def yX5_init_2 : MethodName := ⟨RX5, "<init>", "(I)V"⟩
def dkwX5_init_2_0 : List UInt8 := [42, 183, 0, 3, 42, 27, 181, 0, 9, 177]
abbrev dktX5_init_2_0 : List UInt8 := dkwX5_init_2_0 ++ []
theorem dksX5_init_2_0 : cX5_init_2.data.toList.drop 0 = dktX5_init_2_0 := by decide +kernel
theorem dX5_init_2_0 : decode cX5_init_2 0 = .ok (.aload_n 0, 1) := dk_42 (dk_at dksX5_init_2_0 0 rfl rfl)
theorem dX5_init_2_1 : decode cX5_init_2 1 = .ok (.invokespecial 3, 3) := dk_183 0 3 (dk_at dksX5_init_2_0 1 rfl rfl)
theorem dX5_init_2_4 : decode cX5_init_2 4 = .ok (.aload_n 0, 1) := dk_42 (dk_at dksX5_init_2_0 4 rfl rfl)
theorem dX5_init_2_5 : decode cX5_init_2 5 = .ok (.iload_n 1, 1) := dk_27 (dk_at dksX5_init_2_0 5 rfl rfl)
theorem dX5_init_2_6 : decode cX5_init_2 6 = .ok (.putfield 9, 3) := dk_181 0 9 (dk_at dksX5_init_2_0 6 rfl rfl)
theorem dX5_init_2_9 : decode cX5_init_2 9 = .ok (.return_, 1) := dk_177 (dk_at dksX5_init_2_0 9 rfl rfl)
theorem q108 : (Jvm.Cond.initialized "WheatElevator$Leg") ∈ lw_all := lw_g (lw_at lw_m1 20 rfl) rfl
theorem q367 : (Jvm.Cond.instanceMethod ({ cls := "WheatElevator$Leg", name := "lift", desc := "(II)V" } : Jvm.MethodName)) ∈ lw_all := lw_g (lw_at lw_m2 39 rfl) rfl
theorem q368 : (Jvm.Cond.selects "WheatElevator$Leg" ({ cls := "WheatElevator$Leg", name := "lift", desc := "(II)V" } : Jvm.MethodName) ({ cls := "WheatElevator$Leg", name := "lift", desc := "(II)V" } : Jvm.MethodName)) ∈ lw_all := lw_g (lw_at lw_m2 40 rfl) rfl
theorem q369 : (Jvm.Cond.code ({ cls := "WheatElevator$Leg", name := "lift", desc := "(II)V" } : Jvm.MethodName) prog_5_method_3_code (3 : Nat) (Option.none : Option Jvm.ClassFile.FieldType)) ∈ lw_all := lw_g (lw_at lw_m2 41 rfl) rfl
theorem q370 : (Jvm.Cond.constantLong "WheatElevator$Leg" (27 : Nat) (100000 : Int64)) ∈ lw_all := lw_g (lw_at lw_m2 42 rfl) rfl
theorem q564 : (Jvm.Cond.selects "WheatElevator$Leg" ({ cls := "java/lang/Object", name := "getClass", desc := "()Ljava/lang/Class;" } : Jvm.MethodName) ({ cls := "java/lang/Object", name := "getClass", desc := "()Ljava/lang/Class;" } : Jvm.MethodName)) ∈ lw_all := lw_g (lw_at lw_m2 236 rfl) rfl
theorem q664 : (Jvm.Cond.instantiable "WheatElevator$Leg" (4 : Nat)) ∈ lw_all := lw_g (lw_at lw_m3 96 rfl) rfl
theorem q666 : (Jvm.Cond.instanceMethod ({ cls := "WheatElevator$Leg", name := "<init>", desc := "(LWheatElevator$Leg;)V" } : Jvm.MethodName)) ∈ lw_all := lw_g (lw_at lw_m3 98 rfl) rfl
theorem q667 : (Jvm.Cond.code ({ cls := "WheatElevator$Leg", name := "<init>", desc := "(LWheatElevator$Leg;)V" } : Jvm.MethodName) prog_5_method_2_code (2 : Nat) (Option.none : Option Jvm.ClassFile.FieldType)) ∈ lw_all := lw_g (lw_at lw_m3 99 rfl) rfl
theorem q668 : (Jvm.Cond.methodLink "WheatElevator$Leg" (15 : Nat) ({ cls := "WheatElevator$Leg", name := "<init>", desc := "(I)V" } : Jvm.MethodName)) ∈ lw_all := lw_g (lw_at lw_m3 100 rfl) rfl
theorem q669 : (Jvm.Cond.instanceMethod ({ cls := "WheatElevator$Leg", name := "<init>", desc := "(I)V" } : Jvm.MethodName)) ∈ lw_all := lw_g (lw_at lw_m3 101 rfl) rfl
theorem q670 : (Jvm.Cond.code ({ cls := "WheatElevator$Leg", name := "<init>", desc := "(I)V" } : Jvm.MethodName) prog_5_method_1_code (2 : Nat) (Option.none : Option Jvm.ClassFile.FieldType)) ∈ lw_all := lw_g (lw_at lw_m3 102 rfl) rfl
theorem q671 : (Jvm.Cond.methodLink "WheatElevator$Leg" (3 : Nat) ({ cls := "java/lang/Object", name := "<init>", desc := "()V" } : Jvm.MethodName)) ∈ lw_all := lw_g (lw_at lw_m3 103 rfl) rfl
theorem q672 : (Jvm.Cond.fieldLink "WheatElevator$Leg" (9 : Nat) "WheatElevator$Leg" "speed" "I") ∈ lw_all := lw_g (lw_at lw_m3 104 rfl) rfl
theorem q675 : (Jvm.Cond.fieldLink "WheatElevator$Leg" (18 : Nat) "WheatElevator$Leg" "spouts" "I") ∈ lw_all := lw_g (lw_at lw_m3 107 rfl) rfl
theorem q678 : (Jvm.Cond.fieldLink "WheatElevator$Leg" (21 : Nat) "WheatElevator$Leg" "dust" "I") ∈ lw_all := lw_g (lw_at lw_m3 110 rfl) rfl
theorem q681 : (Jvm.Cond.fieldLink "WheatElevator$Leg" (24 : Nat) "WheatElevator$Leg" "moved" "I") ∈ lw_all := lw_g (lw_at lw_m3 113 rfl) rfl
theorem q683 : (Jvm.Cond.lays "WheatElevator$Leg" "WheatElevator$Leg" "speed" "I") ∈ lw_all := lw_g (lw_at lw_m3 115 rfl) rfl
theorem q684 : (Jvm.Cond.soleField "WheatElevator$Leg" "speed") ∈ lw_all := lw_g (lw_at lw_m3 116 rfl) rfl
theorem q685 : (Jvm.Cond.lays "WheatElevator$Leg" "WheatElevator$Leg" "spouts" "I") ∈ lw_all := lw_g (lw_at lw_m3 117 rfl) rfl
theorem q686 : (Jvm.Cond.soleField "WheatElevator$Leg" "spouts") ∈ lw_all := lw_g (lw_at lw_m3 118 rfl) rfl
theorem q687 : (Jvm.Cond.lays "WheatElevator$Leg" "WheatElevator$Leg" "dust" "I") ∈ lw_all := lw_g (lw_at lw_m3 119 rfl) rfl
theorem q688 : (Jvm.Cond.soleField "WheatElevator$Leg" "dust") ∈ lw_all := lw_g (lw_at lw_m3 120 rfl) rfl
theorem q689 : (Jvm.Cond.lays "WheatElevator$Leg" "WheatElevator$Leg" "moved" "I") ∈ lw_all := lw_g (lw_at lw_m3 121 rfl) rfl
theorem q690 : (Jvm.Cond.soleField "WheatElevator$Leg" "moved") ∈ lw_all := lw_g (lw_at lw_m3 122 rfl) rfl
theorem q691 : (Jvm.Cond.superclass "WheatElevator$Leg" "java/lang/Object") ∈ lw_all := lw_g (lw_at lw_m3 123 rfl) rfl
theorem q1582 : (Jvm.Cond.castable "WheatElevator$Leg" "java/lang/Object") ∈ lw_tbl := lw_at lw_m7 54 rfl
theorem in_X5 : ∀ w ∈ wsX50, w ∈ lw_all := lw_in wsX50 [683, 685, 687, 689] (by decide +kernel) (by decide +kernel)

/-! WheatElevator$Contract -/
set_option maxRecDepth 100000
def RX6 : String := "WheatElevator$Contract"
def TX6 : u_T := fun k => match k with
  | 0 => ("WheatElevator$Contract", "kind", "I", true)
  | 1 => ("WheatElevator$Contract", "amount", "I", true)
  | 2 => ("WheatElevator$Contract", "most", "I", true)
  | 3 => ("WheatElevator$Contract", "price", "I", true)
  | _ => ("WheatElevator$Contract", "loaded", "I", false)
def tyX6 : Nat → FieldType := fun k => match k with
  | 0 => .int
  | 1 => .int
  | 2 => .int
  | 3 => .int
  | _ => .int
abbrev wsX60 : List Cond := u_ws RX6 TX6 5
theorem nmX6 : ∀ a, a < 5 → ∀ b, b < 5 → a ≠ b → (TX6 a).2.1 ≠ (TX6 b).2.1 := by decide +kernel
theorem tyX6_ok : ∀ k, k < 5 → parseFieldDescriptor (TX6 k).2.2.1 = some (tyX6 k) := by decide +kernel
abbrev cX6_init : ByteArray := prog_3_method_2_code
def yX6_init : MethodName := ⟨RX6, "<init>", "(LWheatElevator$Contract;)V"⟩
def dkwX6_init_1 : List UInt8 := [180, 0, 9, 181, 0, 9, 177]
abbrev dktX6_init_1 : List UInt8 := dkwX6_init_1 ++ []
def dkwX6_init_0 : List UInt8 := [42, 43, 180, 0, 15, 43, 180, 0, 18, 43, 180, 0, 21, 43, 180, 0, 24, 183, 0, 27, 42, 43]
abbrev dktX6_init_0 : List UInt8 := dkwX6_init_0 ++ dktX6_init_1
theorem dksX6_init_0 : cX6_init.data.toList.drop 0 = dktX6_init_0 := by decide +kernel
theorem dksX6_init_1 : cX6_init.data.toList.drop 22 = dktX6_init_1 := dk_seg dksX6_init_0 22 rfl rfl
theorem dX6_init_0 : decode cX6_init 0 = .ok (.aload_n 0, 1) := dk_42 (dk_at dksX6_init_0 0 rfl rfl)
theorem dX6_init_1 : decode cX6_init 1 = .ok (.aload_n 1, 1) := dk_43 (dk_at dksX6_init_0 1 rfl rfl)
theorem dX6_init_2 : decode cX6_init 2 = .ok (.getfield 15, 3) := dk_180 0 15 (dk_at dksX6_init_0 2 rfl rfl)
theorem dX6_init_5 : decode cX6_init 5 = .ok (.aload_n 1, 1) := dk_43 (dk_at dksX6_init_0 5 rfl rfl)
theorem dX6_init_6 : decode cX6_init 6 = .ok (.getfield 18, 3) := dk_180 0 18 (dk_at dksX6_init_0 6 rfl rfl)
theorem dX6_init_9 : decode cX6_init 9 = .ok (.aload_n 1, 1) := dk_43 (dk_at dksX6_init_0 9 rfl rfl)
theorem dX6_init_10 : decode cX6_init 10 = .ok (.getfield 21, 3) := dk_180 0 21 (dk_at dksX6_init_0 10 rfl rfl)
theorem dX6_init_13 : decode cX6_init 13 = .ok (.aload_n 1, 1) := dk_43 (dk_at dksX6_init_0 13 rfl rfl)
theorem dX6_init_14 : decode cX6_init 14 = .ok (.getfield 24, 3) := dk_180 0 24 (dk_at dksX6_init_0 14 rfl rfl)
theorem dX6_init_17 : decode cX6_init 17 = .ok (.invokespecial 27, 3) := dk_183 0 27 (dk_at dksX6_init_0 17 rfl rfl)
theorem dX6_init_20 : decode cX6_init 20 = .ok (.aload_n 0, 1) := dk_42 (dk_at dksX6_init_0 20 rfl rfl)
theorem dX6_init_21 : decode cX6_init 21 = .ok (.aload_n 1, 1) := dk_43 (dk_at dksX6_init_0 21 rfl rfl)
theorem dX6_init_22 : decode cX6_init 22 = .ok (.getfield 9, 3) := dk_180 0 9 (dk_at dksX6_init_1 0 rfl rfl)
theorem dX6_init_25 : decode cX6_init 25 = .ok (.putfield 9, 3) := dk_181 0 9 (dk_at dksX6_init_1 3 rfl rfl)
theorem dX6_init_28 : decode cX6_init 28 = .ok (.return_, 1) := dk_177 (dk_at dksX6_init_1 6 rfl rfl)
abbrev cX6_init_2 : ByteArray := prog_3_method_1_code
def yX6_init_2 : MethodName := ⟨RX6, "<init>", "(IIII)V"⟩
def dkwX6_init_2_1 : List UInt8 := [42, 21, 4, 181, 0, 24, 177]
abbrev dktX6_init_2_1 : List UInt8 := dkwX6_init_2_1 ++ []
def dkwX6_init_2_0 : List UInt8 := [42, 183, 0, 3, 42, 2, 181, 0, 9, 42, 27, 181, 0, 15, 42, 28, 181, 0, 18, 42, 29, 181, 0, 21]
abbrev dktX6_init_2_0 : List UInt8 := dkwX6_init_2_0 ++ dktX6_init_2_1
theorem dksX6_init_2_0 : cX6_init_2.data.toList.drop 0 = dktX6_init_2_0 := by decide +kernel
theorem dksX6_init_2_1 : cX6_init_2.data.toList.drop 24 = dktX6_init_2_1 := dk_seg dksX6_init_2_0 24 rfl rfl
theorem dX6_init_2_0 : decode cX6_init_2 0 = .ok (.aload_n 0, 1) := dk_42 (dk_at dksX6_init_2_0 0 rfl rfl)
theorem dX6_init_2_1 : decode cX6_init_2 1 = .ok (.invokespecial 3, 3) := dk_183 0 3 (dk_at dksX6_init_2_0 1 rfl rfl)
theorem dX6_init_2_4 : decode cX6_init_2 4 = .ok (.aload_n 0, 1) := dk_42 (dk_at dksX6_init_2_0 4 rfl rfl)
theorem dX6_init_2_5 : decode cX6_init_2 5 = .ok (.iconst (-1), 1) := dk_2 (dk_at dksX6_init_2_0 5 rfl rfl)
theorem dX6_init_2_6 : decode cX6_init_2 6 = .ok (.putfield 9, 3) := dk_181 0 9 (dk_at dksX6_init_2_0 6 rfl rfl)
theorem dX6_init_2_9 : decode cX6_init_2 9 = .ok (.aload_n 0, 1) := dk_42 (dk_at dksX6_init_2_0 9 rfl rfl)
theorem dX6_init_2_10 : decode cX6_init_2 10 = .ok (.iload_n 1, 1) := dk_27 (dk_at dksX6_init_2_0 10 rfl rfl)
theorem dX6_init_2_11 : decode cX6_init_2 11 = .ok (.putfield 15, 3) := dk_181 0 15 (dk_at dksX6_init_2_0 11 rfl rfl)
theorem dX6_init_2_14 : decode cX6_init_2 14 = .ok (.aload_n 0, 1) := dk_42 (dk_at dksX6_init_2_0 14 rfl rfl)
theorem dX6_init_2_15 : decode cX6_init_2 15 = .ok (.iload_n 2, 1) := dk_28 (dk_at dksX6_init_2_0 15 rfl rfl)
theorem dX6_init_2_16 : decode cX6_init_2 16 = .ok (.putfield 18, 3) := dk_181 0 18 (dk_at dksX6_init_2_0 16 rfl rfl)
theorem dX6_init_2_19 : decode cX6_init_2 19 = .ok (.aload_n 0, 1) := dk_42 (dk_at dksX6_init_2_0 19 rfl rfl)
theorem dX6_init_2_20 : decode cX6_init_2 20 = .ok (.iload_n 3, 1) := dk_29 (dk_at dksX6_init_2_0 20 rfl rfl)
theorem dX6_init_2_21 : decode cX6_init_2 21 = .ok (.putfield 21, 3) := dk_181 0 21 (dk_at dksX6_init_2_0 21 rfl rfl)
theorem dX6_init_2_24 : decode cX6_init_2 24 = .ok (.aload_n 0, 1) := dk_42 (dk_at dksX6_init_2_1 0 rfl rfl)
theorem dX6_init_2_25 : decode cX6_init_2 25 = .ok (.iload 4, 2) := dk_21 4 (dk_at dksX6_init_2_1 1 rfl rfl)
theorem dX6_init_2_27 : decode cX6_init_2 27 = .ok (.putfield 24, 3) := dk_181 0 24 (dk_at dksX6_init_2_1 3 rfl rfl)
theorem dX6_init_2_30 : decode cX6_init_2 30 = .ok (.return_, 1) := dk_177 (dk_at dksX6_init_2_1 6 rfl rfl)
abbrev cX6_isOpen : ByteArray := prog_3_method_3_code
def yX6_isOpen : MethodName := ⟨RX6, "isOpen", "()Z"⟩
def dkwX6_isOpen_0 : List UInt8 := [42, 180, 0, 9, 2, 160, 0, 7, 4, 167, 0, 4, 3, 172]
abbrev dktX6_isOpen_0 : List UInt8 := dkwX6_isOpen_0 ++ []
theorem dksX6_isOpen_0 : cX6_isOpen.data.toList.drop 0 = dktX6_isOpen_0 := by decide +kernel
theorem dX6_isOpen_0 : decode cX6_isOpen 0 = .ok (.aload_n 0, 1) := dk_42 (dk_at dksX6_isOpen_0 0 rfl rfl)
theorem dX6_isOpen_1 : decode cX6_isOpen 1 = .ok (.getfield 9, 3) := dk_180 0 9 (dk_at dksX6_isOpen_0 1 rfl rfl)
theorem dX6_isOpen_4 : decode cX6_isOpen 4 = .ok (.iconst (-1), 1) := dk_2 (dk_at dksX6_isOpen_0 4 rfl rfl)
theorem dX6_isOpen_5 : decode cX6_isOpen 5 = .ok (.if_icmp .ne 7, 3) := dk_160 0 7 (dk_at dksX6_isOpen_0 5 rfl rfl)
theorem dX6_isOpen_8 : decode cX6_isOpen 8 = .ok (.iconst 1, 1) := dk_4 (dk_at dksX6_isOpen_0 8 rfl rfl)
theorem dX6_isOpen_9 : decode cX6_isOpen 9 = .ok (.goto 4, 3) := dk_167 0 4 (dk_at dksX6_isOpen_0 9 rfl rfl)
theorem dX6_isOpen_12 : decode cX6_isOpen 12 = .ok (.iconst 0, 1) := dk_3 (dk_at dksX6_isOpen_0 12 rfl rfl)
theorem dX6_isOpen_13 : decode cX6_isOpen 13 = .ok (.ireturn, 1) := dk_172 (dk_at dksX6_isOpen_0 13 rfl rfl)
abbrev cX6_property : ByteArray := prog_3_method_4_code
def yX6_property : MethodName := ⟨RX6, "property", "(I)I"⟩
def dkwX6_property_4 : List UInt8 := [180, 0, 9, 167, 0, 5, 16, 253, 172]
abbrev dktX6_property_4 : List UInt8 := dkwX6_property_4 ++ []
def dkwX6_property_3 : List UInt8 := [180, 0, 24, 167, 0, 27, 42, 182, 0, 30, 153, 0, 7, 4, 167, 0, 16, 3, 167, 0, 12, 42]
abbrev dktX6_property_3 : List UInt8 := dkwX6_property_3 ++ dktX6_property_4
def dkwX6_property_2 : List UInt8 := [42, 180, 0, 15, 167, 0, 48, 42, 180, 0, 18, 167, 0, 41, 42, 180, 0, 21, 167, 0, 34, 42]
abbrev dktX6_property_2 : List UInt8 := dkwX6_property_2 ++ dktX6_property_3
def dkwX6_property_1 : List UInt8 := [170, 0, 0, 0, 0, 0, 89, 0, 0, 0, 0, 0, 0, 0, 5, 0, 0, 0, 39, 0, 0, 0, 46, 0, 0, 0, 53, 0, 0, 0, 60, 0, 0, 0, 67, 0, 0, 0, 82]
abbrev dktX6_property_1 : List UInt8 := dkwX6_property_1 ++ dktX6_property_2
def dkwX6_property_0 : List UInt8 := [27]
abbrev dktX6_property_0 : List UInt8 := dkwX6_property_0 ++ dktX6_property_1
theorem dksX6_property_0 : cX6_property.data.toList.drop 0 = dktX6_property_0 := by decide +kernel
theorem dksX6_property_1 : cX6_property.data.toList.drop 1 = dktX6_property_1 := dk_seg dksX6_property_0 1 rfl rfl
theorem dksX6_property_2 : cX6_property.data.toList.drop 40 = dktX6_property_2 := dk_seg dksX6_property_1 39 rfl rfl
theorem dksX6_property_3 : cX6_property.data.toList.drop 62 = dktX6_property_3 := dk_seg dksX6_property_2 22 rfl rfl
theorem dksX6_property_4 : cX6_property.data.toList.drop 84 = dktX6_property_4 := dk_seg dksX6_property_3 22 rfl rfl
theorem dX6_property_0 : decode cX6_property 0 = .ok (.iload_n 1, 1) := dk_27 (dk_at dksX6_property_0 0 rfl rfl)
theorem dX6_property_1 : decode cX6_property 1 = .ok (.tableswitch 89 0 5 #[39, 46, 53, 60, 67, 82], 39) := by decide +kernel
theorem dX6_property_40 : decode cX6_property 40 = .ok (.aload_n 0, 1) := dk_42 (dk_at dksX6_property_2 0 rfl rfl)
theorem dX6_property_41 : decode cX6_property 41 = .ok (.getfield 15, 3) := dk_180 0 15 (dk_at dksX6_property_2 1 rfl rfl)
theorem dX6_property_44 : decode cX6_property 44 = .ok (.goto 48, 3) := dk_167 0 48 (dk_at dksX6_property_2 4 rfl rfl)
theorem dX6_property_47 : decode cX6_property 47 = .ok (.aload_n 0, 1) := dk_42 (dk_at dksX6_property_2 7 rfl rfl)
theorem dX6_property_48 : decode cX6_property 48 = .ok (.getfield 18, 3) := dk_180 0 18 (dk_at dksX6_property_2 8 rfl rfl)
theorem dX6_property_51 : decode cX6_property 51 = .ok (.goto 41, 3) := dk_167 0 41 (dk_at dksX6_property_2 11 rfl rfl)
theorem dX6_property_54 : decode cX6_property 54 = .ok (.aload_n 0, 1) := dk_42 (dk_at dksX6_property_2 14 rfl rfl)
theorem dX6_property_55 : decode cX6_property 55 = .ok (.getfield 21, 3) := dk_180 0 21 (dk_at dksX6_property_2 15 rfl rfl)
theorem dX6_property_58 : decode cX6_property 58 = .ok (.goto 34, 3) := dk_167 0 34 (dk_at dksX6_property_2 18 rfl rfl)
theorem dX6_property_61 : decode cX6_property 61 = .ok (.aload_n 0, 1) := dk_42 (dk_at dksX6_property_2 21 rfl rfl)
theorem dX6_property_62 : decode cX6_property 62 = .ok (.getfield 24, 3) := dk_180 0 24 (dk_at dksX6_property_3 0 rfl rfl)
theorem dX6_property_65 : decode cX6_property 65 = .ok (.goto 27, 3) := dk_167 0 27 (dk_at dksX6_property_3 3 rfl rfl)
theorem dX6_property_68 : decode cX6_property 68 = .ok (.aload_n 0, 1) := dk_42 (dk_at dksX6_property_3 6 rfl rfl)
theorem dX6_property_69 : decode cX6_property 69 = .ok (.invokevirtual 30, 3) := dk_182 0 30 (dk_at dksX6_property_3 7 rfl rfl)
theorem dX6_property_72 : decode cX6_property 72 = .ok (.ifCond .eq 7, 3) := dk_153 0 7 (dk_at dksX6_property_3 10 rfl rfl)
theorem dX6_property_75 : decode cX6_property 75 = .ok (.iconst 1, 1) := dk_4 (dk_at dksX6_property_3 13 rfl rfl)
theorem dX6_property_76 : decode cX6_property 76 = .ok (.goto 16, 3) := dk_167 0 16 (dk_at dksX6_property_3 14 rfl rfl)
theorem dX6_property_79 : decode cX6_property 79 = .ok (.iconst 0, 1) := dk_3 (dk_at dksX6_property_3 17 rfl rfl)
theorem dX6_property_80 : decode cX6_property 80 = .ok (.goto 12, 3) := dk_167 0 12 (dk_at dksX6_property_3 18 rfl rfl)
theorem dX6_property_83 : decode cX6_property 83 = .ok (.aload_n 0, 1) := dk_42 (dk_at dksX6_property_3 21 rfl rfl)
theorem dX6_property_84 : decode cX6_property 84 = .ok (.getfield 9, 3) := dk_180 0 9 (dk_at dksX6_property_4 0 rfl rfl)
theorem dX6_property_87 : decode cX6_property 87 = .ok (.goto 5, 3) := dk_167 0 5 (dk_at dksX6_property_4 3 rfl rfl)
theorem dX6_property_90 : decode cX6_property 90 = .ok (.bipush (-3), 2) := dk_16 253 (dk_at dksX6_property_4 6 rfl rfl)
theorem dX6_property_92 : decode cX6_property 92 = .ok (.ireturn, 1) := dk_172 (dk_at dksX6_property_4 8 rfl rfl)
theorem q109 : (Jvm.Cond.initialized "WheatElevator$Contract") ∈ lw_all := lw_g (lw_at lw_m1 21 rfl) rfl
theorem q563 : (Jvm.Cond.selects "WheatElevator$Contract" ({ cls := "java/lang/Object", name := "getClass", desc := "()Ljava/lang/Class;" } : Jvm.MethodName) ({ cls := "java/lang/Object", name := "getClass", desc := "()Ljava/lang/Class;" } : Jvm.MethodName)) ∈ lw_all := lw_g (lw_at lw_m2 235 rfl) rfl
theorem q693 : (Jvm.Cond.instantiable "WheatElevator$Contract" (5 : Nat)) ∈ lw_all := lw_g (lw_at lw_m3 125 rfl) rfl
theorem q695 : (Jvm.Cond.instanceMethod ({ cls := "WheatElevator$Contract", name := "<init>", desc := "(LWheatElevator$Contract;)V" } : Jvm.MethodName)) ∈ lw_all := lw_g (lw_at lw_m3 127 rfl) rfl
theorem q696 : (Jvm.Cond.code ({ cls := "WheatElevator$Contract", name := "<init>", desc := "(LWheatElevator$Contract;)V" } : Jvm.MethodName) prog_3_method_2_code (2 : Nat) (Option.none : Option Jvm.ClassFile.FieldType)) ∈ lw_all := lw_g (lw_at lw_m3 128 rfl) rfl
theorem q697 : (Jvm.Cond.methodLink "WheatElevator$Contract" (27 : Nat) ({ cls := "WheatElevator$Contract", name := "<init>", desc := "(IIII)V" } : Jvm.MethodName)) ∈ lw_all := lw_g (lw_at lw_m3 129 rfl) rfl
theorem q698 : (Jvm.Cond.instanceMethod ({ cls := "WheatElevator$Contract", name := "<init>", desc := "(IIII)V" } : Jvm.MethodName)) ∈ lw_all := lw_g (lw_at lw_m3 130 rfl) rfl
theorem q699 : (Jvm.Cond.code ({ cls := "WheatElevator$Contract", name := "<init>", desc := "(IIII)V" } : Jvm.MethodName) prog_3_method_1_code (5 : Nat) (Option.none : Option Jvm.ClassFile.FieldType)) ∈ lw_all := lw_g (lw_at lw_m3 131 rfl) rfl
theorem q700 : (Jvm.Cond.methodLink "WheatElevator$Contract" (3 : Nat) ({ cls := "java/lang/Object", name := "<init>", desc := "()V" } : Jvm.MethodName)) ∈ lw_all := lw_g (lw_at lw_m3 132 rfl) rfl
theorem q701 : (Jvm.Cond.fieldLink "WheatElevator$Contract" (15 : Nat) "WheatElevator$Contract" "kind" "I") ∈ lw_all := lw_g (lw_at lw_m3 133 rfl) rfl
theorem q703 : (Jvm.Cond.fieldLink "WheatElevator$Contract" (18 : Nat) "WheatElevator$Contract" "amount" "I") ∈ lw_all := lw_g (lw_at lw_m3 135 rfl) rfl
theorem q705 : (Jvm.Cond.fieldLink "WheatElevator$Contract" (21 : Nat) "WheatElevator$Contract" "most" "I") ∈ lw_all := lw_g (lw_at lw_m3 137 rfl) rfl
theorem q707 : (Jvm.Cond.fieldLink "WheatElevator$Contract" (24 : Nat) "WheatElevator$Contract" "price" "I") ∈ lw_all := lw_g (lw_at lw_m3 139 rfl) rfl
theorem q709 : (Jvm.Cond.fieldLink "WheatElevator$Contract" (9 : Nat) "WheatElevator$Contract" "loaded" "I") ∈ lw_all := lw_g (lw_at lw_m3 141 rfl) rfl
theorem q711 : (Jvm.Cond.laysFinal "WheatElevator$Contract" "WheatElevator$Contract" "kind" "I") ∈ lw_all := lw_g (lw_at lw_m3 143 rfl) rfl
theorem q712 : (Jvm.Cond.soleField "WheatElevator$Contract" "kind") ∈ lw_all := lw_g (lw_at lw_m3 144 rfl) rfl
theorem q713 : (Jvm.Cond.laysFinal "WheatElevator$Contract" "WheatElevator$Contract" "amount" "I") ∈ lw_all := lw_g (lw_at lw_m3 145 rfl) rfl
theorem q714 : (Jvm.Cond.soleField "WheatElevator$Contract" "amount") ∈ lw_all := lw_g (lw_at lw_m3 146 rfl) rfl
theorem q715 : (Jvm.Cond.laysFinal "WheatElevator$Contract" "WheatElevator$Contract" "most" "I") ∈ lw_all := lw_g (lw_at lw_m3 147 rfl) rfl
theorem q716 : (Jvm.Cond.soleField "WheatElevator$Contract" "most") ∈ lw_all := lw_g (lw_at lw_m3 148 rfl) rfl
theorem q717 : (Jvm.Cond.laysFinal "WheatElevator$Contract" "WheatElevator$Contract" "price" "I") ∈ lw_all := lw_g (lw_at lw_m3 149 rfl) rfl
theorem q718 : (Jvm.Cond.soleField "WheatElevator$Contract" "price") ∈ lw_all := lw_g (lw_at lw_m3 150 rfl) rfl
theorem q719 : (Jvm.Cond.lays "WheatElevator$Contract" "WheatElevator$Contract" "loaded" "I") ∈ lw_all := lw_g (lw_at lw_m3 151 rfl) rfl
theorem q720 : (Jvm.Cond.soleField "WheatElevator$Contract" "loaded") ∈ lw_all := lw_g (lw_at lw_m3 152 rfl) rfl
theorem q721 : (Jvm.Cond.superclass "WheatElevator$Contract" "java/lang/Object") ∈ lw_all := lw_g (lw_at lw_m3 153 rfl) rfl
theorem q763 : (Jvm.Cond.instanceMethod ({ cls := "WheatElevator$Contract", name := "isOpen", desc := "()Z" } : Jvm.MethodName)) ∈ lw_all := lw_g (lw_at lw_m3 195 rfl) rfl
theorem q764 : (Jvm.Cond.selects "WheatElevator$Contract" ({ cls := "WheatElevator$Contract", name := "isOpen", desc := "()Z" } : Jvm.MethodName) ({ cls := "WheatElevator$Contract", name := "isOpen", desc := "()Z" } : Jvm.MethodName)) ∈ lw_all := lw_g (lw_at lw_m3 196 rfl) rfl
theorem q765 : (Jvm.Cond.code ({ cls := "WheatElevator$Contract", name := "isOpen", desc := "()Z" } : Jvm.MethodName) prog_3_method_3_code (1 : Nat) (Option.some Jvm.ClassFile.FieldType.boolean)) ∈ lw_all := lw_g (lw_at lw_m3 197 rfl) rfl
theorem q851 : (Jvm.Cond.instanceMethod ({ cls := "WheatElevator$Contract", name := "property", desc := "(I)I" } : Jvm.MethodName)) ∈ lw_all := lw_g (lw_at lw_m4 43 rfl) rfl
theorem q852 : (Jvm.Cond.selects "WheatElevator$Contract" ({ cls := "WheatElevator$Contract", name := "property", desc := "(I)I" } : Jvm.MethodName) ({ cls := "WheatElevator$Contract", name := "property", desc := "(I)I" } : Jvm.MethodName)) ∈ lw_all := lw_g (lw_at lw_m4 44 rfl) rfl
theorem q853 : (Jvm.Cond.code ({ cls := "WheatElevator$Contract", name := "property", desc := "(I)I" } : Jvm.MethodName) prog_3_method_4_code (2 : Nat) (Option.some Jvm.ClassFile.FieldType.int)) ∈ lw_all := lw_g (lw_at lw_m4 45 rfl) rfl
theorem q854 : (Jvm.Cond.methodLink "WheatElevator$Contract" (30 : Nat) ({ cls := "WheatElevator$Contract", name := "isOpen", desc := "()Z" } : Jvm.MethodName)) ∈ lw_all := lw_g (lw_at lw_m4 46 rfl) rfl
theorem q1583 : (Jvm.Cond.castable "WheatElevator$Contract" "java/lang/Object") ∈ lw_tbl := lw_at lw_m7 55 rfl
theorem in_X6 : ∀ w ∈ wsX60, w ∈ lw_all := lw_in wsX60 [711, 713, 715, 717, 719] (by decide +kernel) (by decide +kernel)

/-! WheatElevator$Reader -/
set_option maxRecDepth 100000
def RX7 : String := "WheatElevator$Reader"
def TX7 : u_T := fun k => match k with
  | 0 => ("WheatElevator$Reader", "numbers", "[I", true)
  | 1 => ("WheatElevator$Reader", "order", "LWheatElevator$Order;", false)
  | 2 => ("WheatElevator$Reader", "at", "I", false)
  | _ => ("WheatElevator$Reader", "this$0", "LWheatElevator;", true)
def tyX7 : Nat → FieldType := fun k => match k with
  | 0 => .array .int
  | 1 => .object "WheatElevator$Order"
  | 2 => .int
  | _ => .object "WheatElevator"
abbrev wsX70 : List Cond := u_ws RX7 TX7 4
theorem nmX7 : ∀ a, a < 4 → ∀ b, b < 4 → a ≠ b → (TX7 a).2.1 ≠ (TX7 b).2.1 := by decide +kernel
theorem tyX7_ok : ∀ k, k < 4 → parseFieldDescriptor (TX7 k).2.2.1 = some (tyX7 k) := by decide +kernel
abbrev cX7_init : ByteArray := prog_7_method_1_code
def yX7_init : MethodName := ⟨RX7, "<init>", "(LWheatElevator;)V"⟩
def dkwX7_init_0 : List UInt8 := [42, 43, 181, 0, 3, 42, 183, 0, 9, 42, 8, 188, 10, 181, 0, 15, 177]
abbrev dktX7_init_0 : List UInt8 := dkwX7_init_0 ++ []
theorem dksX7_init_0 : cX7_init.data.toList.drop 0 = dktX7_init_0 := by decide +kernel
theorem dX7_init_0 : decode cX7_init 0 = .ok (.aload_n 0, 1) := dk_42 (dk_at dksX7_init_0 0 rfl rfl)
theorem dX7_init_1 : decode cX7_init 1 = .ok (.aload_n 1, 1) := dk_43 (dk_at dksX7_init_0 1 rfl rfl)
theorem dX7_init_2 : decode cX7_init 2 = .ok (.putfield 3, 3) := dk_181 0 3 (dk_at dksX7_init_0 2 rfl rfl)
theorem dX7_init_5 : decode cX7_init 5 = .ok (.aload_n 0, 1) := dk_42 (dk_at dksX7_init_0 5 rfl rfl)
theorem dX7_init_6 : decode cX7_init 6 = .ok (.invokespecial 9, 3) := dk_183 0 9 (dk_at dksX7_init_0 6 rfl rfl)
theorem dX7_init_9 : decode cX7_init 9 = .ok (.aload_n 0, 1) := dk_42 (dk_at dksX7_init_0 9 rfl rfl)
theorem dX7_init_10 : decode cX7_init 10 = .ok (.iconst 5, 1) := dk_8 (dk_at dksX7_init_0 10 rfl rfl)
theorem dX7_init_11 : decode cX7_init 11 = .ok (.newarray .int, 2) := dk_188_10 (dk_at dksX7_init_0 11 rfl rfl)
theorem dX7_init_13 : decode cX7_init 13 = .ok (.putfield 15, 3) := dk_181 0 15 (dk_at dksX7_init_0 13 rfl rfl)
theorem dX7_init_16 : decode cX7_init 16 = .ok (.return_, 1) := dk_177 (dk_at dksX7_init_0 16 rfl rfl)
abbrev cX7_readsOrder : ByteArray := prog_7_method_5_code
def yX7_readsOrder : MethodName := ⟨RX7, "readsOrder", "()Z"⟩
def dkwX7_readsOrder_5 : List UInt8 := [29, 182, 0, 58, 153, 0, 7, 4, 167, 0, 4, 3, 61, 132, 3, 1, 167, 255, 215, 28, 172]
abbrev dktX7_readsOrder_5 : List UInt8 := dkwX7_readsOrder_5 ++ []
def dkwX7_readsOrder_4 : List UInt8 := [42, 180, 0, 44, 180, 0, 62, 162, 0, 36, 28, 153, 0, 32, 42, 16, 44, 182, 0, 65, 153, 0, 15, 42]
abbrev dktX7_readsOrder_4 : List UInt8 := dkwX7_readsOrder_4 ++ dktX7_readsOrder_5
def dkwX7_readsOrder_3 : List UInt8 := [199, 0, 5, 3, 172, 42, 89, 180, 0, 19, 4, 96, 181, 0, 19, 42, 3, 182, 0, 58, 61, 4, 62, 29]
abbrev dktX7_readsOrder_3 : List UInt8 := dkwX7_readsOrder_3 ++ dktX7_readsOrder_4
def dkwX7_readsOrder_2 : List UInt8 := [28, 50, 167, 0, 7, 42, 180, 0, 44, 181, 0, 44, 132, 2, 1, 167, 255, 205, 42, 180, 0, 44]
abbrev dktX7_readsOrder_2 : List UInt8 := dkwX7_readsOrder_2 ++ dktX7_readsOrder_3
def dkwX7_readsOrder_1 : List UInt8 := [42, 42, 180, 0, 3, 180, 0, 48, 28, 50, 180, 0, 52, 27, 160, 0, 15, 42, 180, 0, 3, 180, 0, 48]
abbrev dktX7_readsOrder_1 : List UInt8 := dkwX7_readsOrder_1 ++ dktX7_readsOrder_2
def dkwX7_readsOrder_0 : List UInt8 := [42, 182, 0, 37, 60, 42, 1, 181, 0, 44, 3, 61, 28, 42, 180, 0, 3, 180, 0, 48, 190, 162, 0, 45]
abbrev dktX7_readsOrder_0 : List UInt8 := dkwX7_readsOrder_0 ++ dktX7_readsOrder_1
theorem dksX7_readsOrder_0 : cX7_readsOrder.data.toList.drop 0 = dktX7_readsOrder_0 := by decide +kernel
theorem dksX7_readsOrder_1 : cX7_readsOrder.data.toList.drop 24 = dktX7_readsOrder_1 := dk_seg dksX7_readsOrder_0 24 rfl rfl
theorem dksX7_readsOrder_2 : cX7_readsOrder.data.toList.drop 48 = dktX7_readsOrder_2 := dk_seg dksX7_readsOrder_1 24 rfl rfl
theorem dksX7_readsOrder_3 : cX7_readsOrder.data.toList.drop 70 = dktX7_readsOrder_3 := dk_seg dksX7_readsOrder_2 22 rfl rfl
theorem dksX7_readsOrder_4 : cX7_readsOrder.data.toList.drop 94 = dktX7_readsOrder_4 := dk_seg dksX7_readsOrder_3 24 rfl rfl
theorem dksX7_readsOrder_5 : cX7_readsOrder.data.toList.drop 118 = dktX7_readsOrder_5 := dk_seg dksX7_readsOrder_4 24 rfl rfl
theorem dX7_readsOrder_0 : decode cX7_readsOrder 0 = .ok (.aload_n 0, 1) := dk_42 (dk_at dksX7_readsOrder_0 0 rfl rfl)
theorem dX7_readsOrder_1 : decode cX7_readsOrder 1 = .ok (.invokevirtual 37, 3) := dk_182 0 37 (dk_at dksX7_readsOrder_0 1 rfl rfl)
theorem dX7_readsOrder_4 : decode cX7_readsOrder 4 = .ok (.istore_n 1, 1) := dk_60 (dk_at dksX7_readsOrder_0 4 rfl rfl)
theorem dX7_readsOrder_5 : decode cX7_readsOrder 5 = .ok (.aload_n 0, 1) := dk_42 (dk_at dksX7_readsOrder_0 5 rfl rfl)
theorem dX7_readsOrder_6 : decode cX7_readsOrder 6 = .ok (.aconst_null, 1) := dk_1 (dk_at dksX7_readsOrder_0 6 rfl rfl)
theorem dX7_readsOrder_7 : decode cX7_readsOrder 7 = .ok (.putfield 44, 3) := dk_181 0 44 (dk_at dksX7_readsOrder_0 7 rfl rfl)
theorem dX7_readsOrder_10 : decode cX7_readsOrder 10 = .ok (.iconst 0, 1) := dk_3 (dk_at dksX7_readsOrder_0 10 rfl rfl)
theorem dX7_readsOrder_11 : decode cX7_readsOrder 11 = .ok (.istore_n 2, 1) := dk_61 (dk_at dksX7_readsOrder_0 11 rfl rfl)
theorem dX7_readsOrder_12 : decode cX7_readsOrder 12 = .ok (.iload_n 2, 1) := dk_28 (dk_at dksX7_readsOrder_0 12 rfl rfl)
theorem dX7_readsOrder_13 : decode cX7_readsOrder 13 = .ok (.aload_n 0, 1) := dk_42 (dk_at dksX7_readsOrder_0 13 rfl rfl)
theorem dX7_readsOrder_14 : decode cX7_readsOrder 14 = .ok (.getfield 3, 3) := dk_180 0 3 (dk_at dksX7_readsOrder_0 14 rfl rfl)
theorem dX7_readsOrder_17 : decode cX7_readsOrder 17 = .ok (.getfield 48, 3) := dk_180 0 48 (dk_at dksX7_readsOrder_0 17 rfl rfl)
theorem dX7_readsOrder_20 : decode cX7_readsOrder 20 = .ok (.arraylength, 1) := dk_190 (dk_at dksX7_readsOrder_0 20 rfl rfl)
theorem dX7_readsOrder_21 : decode cX7_readsOrder 21 = .ok (.if_icmp .ge 45, 3) := dk_162 0 45 (dk_at dksX7_readsOrder_0 21 rfl rfl)
theorem dX7_readsOrder_24 : decode cX7_readsOrder 24 = .ok (.aload_n 0, 1) := dk_42 (dk_at dksX7_readsOrder_1 0 rfl rfl)
theorem dX7_readsOrder_25 : decode cX7_readsOrder 25 = .ok (.aload_n 0, 1) := dk_42 (dk_at dksX7_readsOrder_1 1 rfl rfl)
theorem dX7_readsOrder_26 : decode cX7_readsOrder 26 = .ok (.getfield 3, 3) := dk_180 0 3 (dk_at dksX7_readsOrder_1 2 rfl rfl)
theorem dX7_readsOrder_29 : decode cX7_readsOrder 29 = .ok (.getfield 48, 3) := dk_180 0 48 (dk_at dksX7_readsOrder_1 5 rfl rfl)
theorem dX7_readsOrder_32 : decode cX7_readsOrder 32 = .ok (.iload_n 2, 1) := dk_28 (dk_at dksX7_readsOrder_1 8 rfl rfl)
theorem dX7_readsOrder_33 : decode cX7_readsOrder 33 = .ok (.aaload, 1) := dk_50 (dk_at dksX7_readsOrder_1 9 rfl rfl)
theorem dX7_readsOrder_34 : decode cX7_readsOrder 34 = .ok (.getfield 52, 3) := dk_180 0 52 (dk_at dksX7_readsOrder_1 10 rfl rfl)
theorem dX7_readsOrder_37 : decode cX7_readsOrder 37 = .ok (.iload_n 1, 1) := dk_27 (dk_at dksX7_readsOrder_1 13 rfl rfl)
theorem dX7_readsOrder_38 : decode cX7_readsOrder 38 = .ok (.if_icmp .ne 15, 3) := dk_160 0 15 (dk_at dksX7_readsOrder_1 14 rfl rfl)
theorem dX7_readsOrder_41 : decode cX7_readsOrder 41 = .ok (.aload_n 0, 1) := dk_42 (dk_at dksX7_readsOrder_1 17 rfl rfl)
theorem dX7_readsOrder_42 : decode cX7_readsOrder 42 = .ok (.getfield 3, 3) := dk_180 0 3 (dk_at dksX7_readsOrder_1 18 rfl rfl)
theorem dX7_readsOrder_45 : decode cX7_readsOrder 45 = .ok (.getfield 48, 3) := dk_180 0 48 (dk_at dksX7_readsOrder_1 21 rfl rfl)
theorem dX7_readsOrder_48 : decode cX7_readsOrder 48 = .ok (.iload_n 2, 1) := dk_28 (dk_at dksX7_readsOrder_2 0 rfl rfl)
theorem dX7_readsOrder_49 : decode cX7_readsOrder 49 = .ok (.aaload, 1) := dk_50 (dk_at dksX7_readsOrder_2 1 rfl rfl)
theorem dX7_readsOrder_50 : decode cX7_readsOrder 50 = .ok (.goto 7, 3) := dk_167 0 7 (dk_at dksX7_readsOrder_2 2 rfl rfl)
theorem dX7_readsOrder_53 : decode cX7_readsOrder 53 = .ok (.aload_n 0, 1) := dk_42 (dk_at dksX7_readsOrder_2 5 rfl rfl)
theorem dX7_readsOrder_54 : decode cX7_readsOrder 54 = .ok (.getfield 44, 3) := dk_180 0 44 (dk_at dksX7_readsOrder_2 6 rfl rfl)
theorem dX7_readsOrder_57 : decode cX7_readsOrder 57 = .ok (.putfield 44, 3) := dk_181 0 44 (dk_at dksX7_readsOrder_2 9 rfl rfl)
theorem dX7_readsOrder_60 : decode cX7_readsOrder 60 = .ok (.iinc 2 1, 3) := dk_132 2 1 (dk_at dksX7_readsOrder_2 12 rfl rfl)
theorem dX7_readsOrder_63 : decode cX7_readsOrder 63 = .ok (.goto (-51), 3) := dk_167 255 205 (dk_at dksX7_readsOrder_2 15 rfl rfl)
theorem dX7_readsOrder_66 : decode cX7_readsOrder 66 = .ok (.aload_n 0, 1) := dk_42 (dk_at dksX7_readsOrder_2 18 rfl rfl)
theorem dX7_readsOrder_67 : decode cX7_readsOrder 67 = .ok (.getfield 44, 3) := dk_180 0 44 (dk_at dksX7_readsOrder_2 19 rfl rfl)
theorem dX7_readsOrder_70 : decode cX7_readsOrder 70 = .ok (.ifnonnull 5, 3) := dk_199 0 5 (dk_at dksX7_readsOrder_3 0 rfl rfl)
theorem dX7_readsOrder_73 : decode cX7_readsOrder 73 = .ok (.iconst 0, 1) := dk_3 (dk_at dksX7_readsOrder_3 3 rfl rfl)
theorem dX7_readsOrder_74 : decode cX7_readsOrder 74 = .ok (.ireturn, 1) := dk_172 (dk_at dksX7_readsOrder_3 4 rfl rfl)
theorem dX7_readsOrder_75 : decode cX7_readsOrder 75 = .ok (.aload_n 0, 1) := dk_42 (dk_at dksX7_readsOrder_3 5 rfl rfl)
theorem dX7_readsOrder_76 : decode cX7_readsOrder 76 = .ok (.dup, 1) := dk_89 (dk_at dksX7_readsOrder_3 6 rfl rfl)
theorem dX7_readsOrder_77 : decode cX7_readsOrder 77 = .ok (.getfield 19, 3) := dk_180 0 19 (dk_at dksX7_readsOrder_3 7 rfl rfl)
theorem dX7_readsOrder_80 : decode cX7_readsOrder 80 = .ok (.iconst 1, 1) := dk_4 (dk_at dksX7_readsOrder_3 10 rfl rfl)
theorem dX7_readsOrder_81 : decode cX7_readsOrder 81 = .ok (.iadd, 1) := dk_96 (dk_at dksX7_readsOrder_3 11 rfl rfl)
theorem dX7_readsOrder_82 : decode cX7_readsOrder 82 = .ok (.putfield 19, 3) := dk_181 0 19 (dk_at dksX7_readsOrder_3 12 rfl rfl)
theorem dX7_readsOrder_85 : decode cX7_readsOrder 85 = .ok (.aload_n 0, 1) := dk_42 (dk_at dksX7_readsOrder_3 15 rfl rfl)
theorem dX7_readsOrder_86 : decode cX7_readsOrder 86 = .ok (.iconst 0, 1) := dk_3 (dk_at dksX7_readsOrder_3 16 rfl rfl)
theorem dX7_readsOrder_87 : decode cX7_readsOrder 87 = .ok (.invokevirtual 58, 3) := dk_182 0 58 (dk_at dksX7_readsOrder_3 17 rfl rfl)
theorem dX7_readsOrder_90 : decode cX7_readsOrder 90 = .ok (.istore_n 2, 1) := dk_61 (dk_at dksX7_readsOrder_3 20 rfl rfl)
theorem dX7_readsOrder_91 : decode cX7_readsOrder 91 = .ok (.iconst 1, 1) := dk_4 (dk_at dksX7_readsOrder_3 21 rfl rfl)
theorem dX7_readsOrder_92 : decode cX7_readsOrder 92 = .ok (.istore_n 3, 1) := dk_62 (dk_at dksX7_readsOrder_3 22 rfl rfl)
theorem dX7_readsOrder_93 : decode cX7_readsOrder 93 = .ok (.iload_n 3, 1) := dk_29 (dk_at dksX7_readsOrder_3 23 rfl rfl)
theorem dX7_readsOrder_94 : decode cX7_readsOrder 94 = .ok (.aload_n 0, 1) := dk_42 (dk_at dksX7_readsOrder_4 0 rfl rfl)
theorem dX7_readsOrder_95 : decode cX7_readsOrder 95 = .ok (.getfield 44, 3) := dk_180 0 44 (dk_at dksX7_readsOrder_4 1 rfl rfl)
theorem dX7_readsOrder_98 : decode cX7_readsOrder 98 = .ok (.getfield 62, 3) := dk_180 0 62 (dk_at dksX7_readsOrder_4 4 rfl rfl)
theorem dX7_readsOrder_101 : decode cX7_readsOrder 101 = .ok (.if_icmp .ge 36, 3) := dk_162 0 36 (dk_at dksX7_readsOrder_4 7 rfl rfl)
theorem dX7_readsOrder_104 : decode cX7_readsOrder 104 = .ok (.iload_n 2, 1) := dk_28 (dk_at dksX7_readsOrder_4 10 rfl rfl)
theorem dX7_readsOrder_105 : decode cX7_readsOrder 105 = .ok (.ifCond .eq 32, 3) := dk_153 0 32 (dk_at dksX7_readsOrder_4 11 rfl rfl)
theorem dX7_readsOrder_108 : decode cX7_readsOrder 108 = .ok (.aload_n 0, 1) := dk_42 (dk_at dksX7_readsOrder_4 14 rfl rfl)
theorem dX7_readsOrder_109 : decode cX7_readsOrder 109 = .ok (.bipush 44, 2) := dk_16 44 (dk_at dksX7_readsOrder_4 15 rfl rfl)
theorem dX7_readsOrder_111 : decode cX7_readsOrder 111 = .ok (.invokevirtual 65, 3) := dk_182 0 65 (dk_at dksX7_readsOrder_4 17 rfl rfl)
theorem dX7_readsOrder_114 : decode cX7_readsOrder 114 = .ok (.ifCond .eq 15, 3) := dk_153 0 15 (dk_at dksX7_readsOrder_4 20 rfl rfl)
theorem dX7_readsOrder_117 : decode cX7_readsOrder 117 = .ok (.aload_n 0, 1) := dk_42 (dk_at dksX7_readsOrder_4 23 rfl rfl)
theorem dX7_readsOrder_118 : decode cX7_readsOrder 118 = .ok (.iload_n 3, 1) := dk_29 (dk_at dksX7_readsOrder_5 0 rfl rfl)
theorem dX7_readsOrder_119 : decode cX7_readsOrder 119 = .ok (.invokevirtual 58, 3) := dk_182 0 58 (dk_at dksX7_readsOrder_5 1 rfl rfl)
theorem dX7_readsOrder_122 : decode cX7_readsOrder 122 = .ok (.ifCond .eq 7, 3) := dk_153 0 7 (dk_at dksX7_readsOrder_5 4 rfl rfl)
theorem dX7_readsOrder_125 : decode cX7_readsOrder 125 = .ok (.iconst 1, 1) := dk_4 (dk_at dksX7_readsOrder_5 7 rfl rfl)
theorem dX7_readsOrder_126 : decode cX7_readsOrder 126 = .ok (.goto 4, 3) := dk_167 0 4 (dk_at dksX7_readsOrder_5 8 rfl rfl)
theorem dX7_readsOrder_129 : decode cX7_readsOrder 129 = .ok (.iconst 0, 1) := dk_3 (dk_at dksX7_readsOrder_5 11 rfl rfl)
theorem dX7_readsOrder_130 : decode cX7_readsOrder 130 = .ok (.istore_n 2, 1) := dk_61 (dk_at dksX7_readsOrder_5 12 rfl rfl)
theorem dX7_readsOrder_131 : decode cX7_readsOrder 131 = .ok (.iinc 3 1, 3) := dk_132 3 1 (dk_at dksX7_readsOrder_5 13 rfl rfl)
theorem dX7_readsOrder_134 : decode cX7_readsOrder 134 = .ok (.goto (-41), 3) := dk_167 255 215 (dk_at dksX7_readsOrder_5 16 rfl rfl)
theorem dX7_readsOrder_137 : decode cX7_readsOrder 137 = .ok (.iload_n 2, 1) := dk_28 (dk_at dksX7_readsOrder_5 19 rfl rfl)
theorem dX7_readsOrder_138 : decode cX7_readsOrder 138 = .ok (.ireturn, 1) := dk_172 (dk_at dksX7_readsOrder_5 20 rfl rfl)
abbrev cX7_here : ByteArray := prog_7_method_2_code
def yX7_here : MethodName := ⟨RX7, "here", "()I"⟩
def dkwX7_here_3 : List UInt8 := [180, 0, 23, 42, 180, 0, 19, 182, 0, 33, 167, 0, 4, 2, 172]
abbrev dktX7_here_3 : List UInt8 := dkwX7_here_3 ++ []
def dkwX7_here_2 : List UInt8 := [167, 255, 210, 42, 180, 0, 19, 42, 180, 0, 3, 180, 0, 23, 182, 0, 27, 162, 0, 20, 42, 180, 0, 3]
abbrev dktX7_here_2 : List UInt8 := dkwX7_here_2 ++ dktX7_here_3
def dkwX7_here_1 : List UInt8 := [42, 180, 0, 19, 182, 0, 33, 16, 32, 160, 0, 16, 42, 89, 180, 0, 19, 4, 96, 181, 0, 19]
abbrev dktX7_here_1 : List UInt8 := dkwX7_here_1 ++ dktX7_here_2
def dkwX7_here_0 : List UInt8 := [42, 180, 0, 19, 42, 180, 0, 3, 180, 0, 23, 182, 0, 27, 162, 0, 35, 42, 180, 0, 3, 180, 0, 23]
abbrev dktX7_here_0 : List UInt8 := dkwX7_here_0 ++ dktX7_here_1
theorem dksX7_here_0 : cX7_here.data.toList.drop 0 = dktX7_here_0 := by decide +kernel
theorem dksX7_here_1 : cX7_here.data.toList.drop 24 = dktX7_here_1 := dk_seg dksX7_here_0 24 rfl rfl
theorem dksX7_here_2 : cX7_here.data.toList.drop 46 = dktX7_here_2 := dk_seg dksX7_here_1 22 rfl rfl
theorem dksX7_here_3 : cX7_here.data.toList.drop 70 = dktX7_here_3 := dk_seg dksX7_here_2 24 rfl rfl
theorem dX7_here_0 : decode cX7_here 0 = .ok (.aload_n 0, 1) := dk_42 (dk_at dksX7_here_0 0 rfl rfl)
theorem dX7_here_1 : decode cX7_here 1 = .ok (.getfield 19, 3) := dk_180 0 19 (dk_at dksX7_here_0 1 rfl rfl)
theorem dX7_here_4 : decode cX7_here 4 = .ok (.aload_n 0, 1) := dk_42 (dk_at dksX7_here_0 4 rfl rfl)
theorem dX7_here_5 : decode cX7_here 5 = .ok (.getfield 3, 3) := dk_180 0 3 (dk_at dksX7_here_0 5 rfl rfl)
theorem dX7_here_8 : decode cX7_here 8 = .ok (.getfield 23, 3) := dk_180 0 23 (dk_at dksX7_here_0 8 rfl rfl)
theorem dX7_here_11 : decode cX7_here 11 = .ok (.invokevirtual 27, 3) := dk_182 0 27 (dk_at dksX7_here_0 11 rfl rfl)
theorem dX7_here_14 : decode cX7_here 14 = .ok (.if_icmp .ge 35, 3) := dk_162 0 35 (dk_at dksX7_here_0 14 rfl rfl)
theorem dX7_here_17 : decode cX7_here 17 = .ok (.aload_n 0, 1) := dk_42 (dk_at dksX7_here_0 17 rfl rfl)
theorem dX7_here_18 : decode cX7_here 18 = .ok (.getfield 3, 3) := dk_180 0 3 (dk_at dksX7_here_0 18 rfl rfl)
theorem dX7_here_21 : decode cX7_here 21 = .ok (.getfield 23, 3) := dk_180 0 23 (dk_at dksX7_here_0 21 rfl rfl)
theorem dX7_here_24 : decode cX7_here 24 = .ok (.aload_n 0, 1) := dk_42 (dk_at dksX7_here_1 0 rfl rfl)
theorem dX7_here_25 : decode cX7_here 25 = .ok (.getfield 19, 3) := dk_180 0 19 (dk_at dksX7_here_1 1 rfl rfl)
theorem dX7_here_28 : decode cX7_here 28 = .ok (.invokevirtual 33, 3) := dk_182 0 33 (dk_at dksX7_here_1 4 rfl rfl)
theorem dX7_here_31 : decode cX7_here 31 = .ok (.bipush 32, 2) := dk_16 32 (dk_at dksX7_here_1 7 rfl rfl)
theorem dX7_here_33 : decode cX7_here 33 = .ok (.if_icmp .ne 16, 3) := dk_160 0 16 (dk_at dksX7_here_1 9 rfl rfl)
theorem dX7_here_36 : decode cX7_here 36 = .ok (.aload_n 0, 1) := dk_42 (dk_at dksX7_here_1 12 rfl rfl)
theorem dX7_here_37 : decode cX7_here 37 = .ok (.dup, 1) := dk_89 (dk_at dksX7_here_1 13 rfl rfl)
theorem dX7_here_38 : decode cX7_here 38 = .ok (.getfield 19, 3) := dk_180 0 19 (dk_at dksX7_here_1 14 rfl rfl)
theorem dX7_here_41 : decode cX7_here 41 = .ok (.iconst 1, 1) := dk_4 (dk_at dksX7_here_1 17 rfl rfl)
theorem dX7_here_42 : decode cX7_here 42 = .ok (.iadd, 1) := dk_96 (dk_at dksX7_here_1 18 rfl rfl)
theorem dX7_here_43 : decode cX7_here 43 = .ok (.putfield 19, 3) := dk_181 0 19 (dk_at dksX7_here_1 19 rfl rfl)
theorem dX7_here_46 : decode cX7_here 46 = .ok (.goto (-46), 3) := dk_167 255 210 (dk_at dksX7_here_2 0 rfl rfl)
theorem dX7_here_49 : decode cX7_here 49 = .ok (.aload_n 0, 1) := dk_42 (dk_at dksX7_here_2 3 rfl rfl)
theorem dX7_here_50 : decode cX7_here 50 = .ok (.getfield 19, 3) := dk_180 0 19 (dk_at dksX7_here_2 4 rfl rfl)
theorem dX7_here_53 : decode cX7_here 53 = .ok (.aload_n 0, 1) := dk_42 (dk_at dksX7_here_2 7 rfl rfl)
theorem dX7_here_54 : decode cX7_here 54 = .ok (.getfield 3, 3) := dk_180 0 3 (dk_at dksX7_here_2 8 rfl rfl)
theorem dX7_here_57 : decode cX7_here 57 = .ok (.getfield 23, 3) := dk_180 0 23 (dk_at dksX7_here_2 11 rfl rfl)
theorem dX7_here_60 : decode cX7_here 60 = .ok (.invokevirtual 27, 3) := dk_182 0 27 (dk_at dksX7_here_2 14 rfl rfl)
theorem dX7_here_63 : decode cX7_here 63 = .ok (.if_icmp .ge 20, 3) := dk_162 0 20 (dk_at dksX7_here_2 17 rfl rfl)
theorem dX7_here_66 : decode cX7_here 66 = .ok (.aload_n 0, 1) := dk_42 (dk_at dksX7_here_2 20 rfl rfl)
theorem dX7_here_67 : decode cX7_here 67 = .ok (.getfield 3, 3) := dk_180 0 3 (dk_at dksX7_here_2 21 rfl rfl)
theorem dX7_here_70 : decode cX7_here 70 = .ok (.getfield 23, 3) := dk_180 0 23 (dk_at dksX7_here_3 0 rfl rfl)
theorem dX7_here_73 : decode cX7_here 73 = .ok (.aload_n 0, 1) := dk_42 (dk_at dksX7_here_3 3 rfl rfl)
theorem dX7_here_74 : decode cX7_here 74 = .ok (.getfield 19, 3) := dk_180 0 19 (dk_at dksX7_here_3 4 rfl rfl)
theorem dX7_here_77 : decode cX7_here 77 = .ok (.invokevirtual 33, 3) := dk_182 0 33 (dk_at dksX7_here_3 7 rfl rfl)
theorem dX7_here_80 : decode cX7_here 80 = .ok (.goto 4, 3) := dk_167 0 4 (dk_at dksX7_here_3 10 rfl rfl)
theorem dX7_here_83 : decode cX7_here 83 = .ok (.iconst (-1), 1) := dk_2 (dk_at dksX7_here_3 13 rfl rfl)
theorem dX7_here_84 : decode cX7_here 84 = .ok (.ireturn, 1) := dk_172 (dk_at dksX7_here_3 14 rfl rfl)
abbrev cX7_readsNumber : ByteArray := prog_7_method_4_code
def yX7_readsNumber : MethodName := ⟨RX7, "readsNumber", "(I)Z"⟩
def dkwX7_readsNumber_8 : List UInt8 := [167, 0, 4, 3, 172]
abbrev dktX7_readsNumber_8 : List UInt8 := dkwX7_readsNumber_8 ++ []
def dkwX7_readsNumber_7 : List UInt8 := [153, 0, 7, 4, 167, 0, 4, 3, 62, 42, 180, 0, 19, 28, 164, 0, 11, 29, 154, 0, 7, 4]
abbrev dktX7_readsNumber_7 : List UInt8 := dkwX7_readsNumber_7 ++ dktX7_readsNumber_8
def dkwX7_readsNumber_6 : List UInt8 := [160, 0, 31, 42, 180, 0, 3, 180, 0, 23, 42, 180, 0, 19, 182, 0, 33, 16, 48, 16, 57, 184, 0, 40]
abbrev dktX7_readsNumber_6 : List UInt8 := dkwX7_readsNumber_6 ++ dktX7_readsNumber_7
def dkwX7_readsNumber_5 : List UInt8 := [180, 0, 19, 42, 180, 0, 3, 180, 0, 23, 182, 0, 27, 162, 0, 41, 42, 180, 0, 19, 28, 8, 96]
abbrev dktX7_readsNumber_5 : List UInt8 := dkwX7_readsNumber_5 ++ dktX7_readsNumber_6
def dkwX7_readsNumber_4 : List UInt8 := [182, 0, 33, 96, 16, 48, 100, 79, 42, 89, 180, 0, 19, 4, 96, 181, 0, 19, 167, 255, 162, 42]
abbrev dktX7_readsNumber_4 : List UInt8 := dkwX7_readsNumber_4 ++ dktX7_readsNumber_5
def dkwX7_readsNumber_3 : List UInt8 := [180, 0, 15, 27, 16, 10, 42, 180, 0, 15, 27, 46, 104, 42, 180, 0, 3, 180, 0, 23, 42, 180, 0, 19]
abbrev dktX7_readsNumber_3 : List UInt8 := dkwX7_readsNumber_3 ++ dktX7_readsNumber_4
def dkwX7_readsNumber_2 : List UInt8 := [180, 0, 3, 180, 0, 23, 42, 180, 0, 19, 182, 0, 33, 16, 48, 16, 57, 184, 0, 40, 153, 0, 49, 42]
abbrev dktX7_readsNumber_2 : List UInt8 := dkwX7_readsNumber_2 ++ dktX7_readsNumber_3
def dkwX7_readsNumber_1 : List UInt8 := [180, 0, 3, 180, 0, 23, 182, 0, 27, 162, 0, 83, 42, 180, 0, 19, 28, 8, 96, 162, 0, 73, 42]
abbrev dktX7_readsNumber_1 : List UInt8 := dkwX7_readsNumber_1 ++ dktX7_readsNumber_2
def dkwX7_readsNumber_0 : List UInt8 := [42, 182, 0, 37, 87, 42, 180, 0, 19, 61, 42, 180, 0, 15, 27, 3, 79, 42, 180, 0, 19, 42]
abbrev dktX7_readsNumber_0 : List UInt8 := dkwX7_readsNumber_0 ++ dktX7_readsNumber_1
theorem dksX7_readsNumber_0 : cX7_readsNumber.data.toList.drop 0 = dktX7_readsNumber_0 := by decide +kernel
theorem dksX7_readsNumber_1 : cX7_readsNumber.data.toList.drop 22 = dktX7_readsNumber_1 := dk_seg dksX7_readsNumber_0 22 rfl rfl
theorem dksX7_readsNumber_2 : cX7_readsNumber.data.toList.drop 45 = dktX7_readsNumber_2 := dk_seg dksX7_readsNumber_1 23 rfl rfl
theorem dksX7_readsNumber_3 : cX7_readsNumber.data.toList.drop 69 = dktX7_readsNumber_3 := dk_seg dksX7_readsNumber_2 24 rfl rfl
theorem dksX7_readsNumber_4 : cX7_readsNumber.data.toList.drop 93 = dktX7_readsNumber_4 := dk_seg dksX7_readsNumber_3 24 rfl rfl
theorem dksX7_readsNumber_5 : cX7_readsNumber.data.toList.drop 115 = dktX7_readsNumber_5 := dk_seg dksX7_readsNumber_4 22 rfl rfl
theorem dksX7_readsNumber_6 : cX7_readsNumber.data.toList.drop 138 = dktX7_readsNumber_6 := dk_seg dksX7_readsNumber_5 23 rfl rfl
theorem dksX7_readsNumber_7 : cX7_readsNumber.data.toList.drop 162 = dktX7_readsNumber_7 := dk_seg dksX7_readsNumber_6 24 rfl rfl
theorem dksX7_readsNumber_8 : cX7_readsNumber.data.toList.drop 184 = dktX7_readsNumber_8 := dk_seg dksX7_readsNumber_7 22 rfl rfl
theorem dX7_readsNumber_0 : decode cX7_readsNumber 0 = .ok (.aload_n 0, 1) := dk_42 (dk_at dksX7_readsNumber_0 0 rfl rfl)
theorem dX7_readsNumber_1 : decode cX7_readsNumber 1 = .ok (.invokevirtual 37, 3) := dk_182 0 37 (dk_at dksX7_readsNumber_0 1 rfl rfl)
theorem dX7_readsNumber_4 : decode cX7_readsNumber 4 = .ok (.pop, 1) := dk_87 (dk_at dksX7_readsNumber_0 4 rfl rfl)
theorem dX7_readsNumber_5 : decode cX7_readsNumber 5 = .ok (.aload_n 0, 1) := dk_42 (dk_at dksX7_readsNumber_0 5 rfl rfl)
theorem dX7_readsNumber_6 : decode cX7_readsNumber 6 = .ok (.getfield 19, 3) := dk_180 0 19 (dk_at dksX7_readsNumber_0 6 rfl rfl)
theorem dX7_readsNumber_9 : decode cX7_readsNumber 9 = .ok (.istore_n 2, 1) := dk_61 (dk_at dksX7_readsNumber_0 9 rfl rfl)
theorem dX7_readsNumber_10 : decode cX7_readsNumber 10 = .ok (.aload_n 0, 1) := dk_42 (dk_at dksX7_readsNumber_0 10 rfl rfl)
theorem dX7_readsNumber_11 : decode cX7_readsNumber 11 = .ok (.getfield 15, 3) := dk_180 0 15 (dk_at dksX7_readsNumber_0 11 rfl rfl)
theorem dX7_readsNumber_14 : decode cX7_readsNumber 14 = .ok (.iload_n 1, 1) := dk_27 (dk_at dksX7_readsNumber_0 14 rfl rfl)
theorem dX7_readsNumber_15 : decode cX7_readsNumber 15 = .ok (.iconst 0, 1) := dk_3 (dk_at dksX7_readsNumber_0 15 rfl rfl)
theorem dX7_readsNumber_16 : decode cX7_readsNumber 16 = .ok (.iastore, 1) := dk_79 (dk_at dksX7_readsNumber_0 16 rfl rfl)
theorem dX7_readsNumber_17 : decode cX7_readsNumber 17 = .ok (.aload_n 0, 1) := dk_42 (dk_at dksX7_readsNumber_0 17 rfl rfl)
theorem dX7_readsNumber_18 : decode cX7_readsNumber 18 = .ok (.getfield 19, 3) := dk_180 0 19 (dk_at dksX7_readsNumber_0 18 rfl rfl)
theorem dX7_readsNumber_21 : decode cX7_readsNumber 21 = .ok (.aload_n 0, 1) := dk_42 (dk_at dksX7_readsNumber_0 21 rfl rfl)
theorem dX7_readsNumber_22 : decode cX7_readsNumber 22 = .ok (.getfield 3, 3) := dk_180 0 3 (dk_at dksX7_readsNumber_1 0 rfl rfl)
theorem dX7_readsNumber_25 : decode cX7_readsNumber 25 = .ok (.getfield 23, 3) := dk_180 0 23 (dk_at dksX7_readsNumber_1 3 rfl rfl)
theorem dX7_readsNumber_28 : decode cX7_readsNumber 28 = .ok (.invokevirtual 27, 3) := dk_182 0 27 (dk_at dksX7_readsNumber_1 6 rfl rfl)
theorem dX7_readsNumber_31 : decode cX7_readsNumber 31 = .ok (.if_icmp .ge 83, 3) := dk_162 0 83 (dk_at dksX7_readsNumber_1 9 rfl rfl)
theorem dX7_readsNumber_34 : decode cX7_readsNumber 34 = .ok (.aload_n 0, 1) := dk_42 (dk_at dksX7_readsNumber_1 12 rfl rfl)
theorem dX7_readsNumber_35 : decode cX7_readsNumber 35 = .ok (.getfield 19, 3) := dk_180 0 19 (dk_at dksX7_readsNumber_1 13 rfl rfl)
theorem dX7_readsNumber_38 : decode cX7_readsNumber 38 = .ok (.iload_n 2, 1) := dk_28 (dk_at dksX7_readsNumber_1 16 rfl rfl)
theorem dX7_readsNumber_39 : decode cX7_readsNumber 39 = .ok (.iconst 5, 1) := dk_8 (dk_at dksX7_readsNumber_1 17 rfl rfl)
theorem dX7_readsNumber_40 : decode cX7_readsNumber 40 = .ok (.iadd, 1) := dk_96 (dk_at dksX7_readsNumber_1 18 rfl rfl)
theorem dX7_readsNumber_41 : decode cX7_readsNumber 41 = .ok (.if_icmp .ge 73, 3) := dk_162 0 73 (dk_at dksX7_readsNumber_1 19 rfl rfl)
theorem dX7_readsNumber_44 : decode cX7_readsNumber 44 = .ok (.aload_n 0, 1) := dk_42 (dk_at dksX7_readsNumber_1 22 rfl rfl)
theorem dX7_readsNumber_45 : decode cX7_readsNumber 45 = .ok (.getfield 3, 3) := dk_180 0 3 (dk_at dksX7_readsNumber_2 0 rfl rfl)
theorem dX7_readsNumber_48 : decode cX7_readsNumber 48 = .ok (.getfield 23, 3) := dk_180 0 23 (dk_at dksX7_readsNumber_2 3 rfl rfl)
theorem dX7_readsNumber_51 : decode cX7_readsNumber 51 = .ok (.aload_n 0, 1) := dk_42 (dk_at dksX7_readsNumber_2 6 rfl rfl)
theorem dX7_readsNumber_52 : decode cX7_readsNumber 52 = .ok (.getfield 19, 3) := dk_180 0 19 (dk_at dksX7_readsNumber_2 7 rfl rfl)
theorem dX7_readsNumber_55 : decode cX7_readsNumber 55 = .ok (.invokevirtual 33, 3) := dk_182 0 33 (dk_at dksX7_readsNumber_2 10 rfl rfl)
theorem dX7_readsNumber_58 : decode cX7_readsNumber 58 = .ok (.bipush 48, 2) := dk_16 48 (dk_at dksX7_readsNumber_2 13 rfl rfl)
theorem dX7_readsNumber_60 : decode cX7_readsNumber 60 = .ok (.bipush 57, 2) := dk_16 57 (dk_at dksX7_readsNumber_2 15 rfl rfl)
theorem dX7_readsNumber_62 : decode cX7_readsNumber 62 = .ok (.invokestatic 40, 3) := dk_184 0 40 (dk_at dksX7_readsNumber_2 17 rfl rfl)
theorem dX7_readsNumber_65 : decode cX7_readsNumber 65 = .ok (.ifCond .eq 49, 3) := dk_153 0 49 (dk_at dksX7_readsNumber_2 20 rfl rfl)
theorem dX7_readsNumber_68 : decode cX7_readsNumber 68 = .ok (.aload_n 0, 1) := dk_42 (dk_at dksX7_readsNumber_2 23 rfl rfl)
theorem dX7_readsNumber_69 : decode cX7_readsNumber 69 = .ok (.getfield 15, 3) := dk_180 0 15 (dk_at dksX7_readsNumber_3 0 rfl rfl)
theorem dX7_readsNumber_72 : decode cX7_readsNumber 72 = .ok (.iload_n 1, 1) := dk_27 (dk_at dksX7_readsNumber_3 3 rfl rfl)
theorem dX7_readsNumber_73 : decode cX7_readsNumber 73 = .ok (.bipush 10, 2) := dk_16 10 (dk_at dksX7_readsNumber_3 4 rfl rfl)
theorem dX7_readsNumber_75 : decode cX7_readsNumber 75 = .ok (.aload_n 0, 1) := dk_42 (dk_at dksX7_readsNumber_3 6 rfl rfl)
theorem dX7_readsNumber_76 : decode cX7_readsNumber 76 = .ok (.getfield 15, 3) := dk_180 0 15 (dk_at dksX7_readsNumber_3 7 rfl rfl)
theorem dX7_readsNumber_79 : decode cX7_readsNumber 79 = .ok (.iload_n 1, 1) := dk_27 (dk_at dksX7_readsNumber_3 10 rfl rfl)
theorem dX7_readsNumber_80 : decode cX7_readsNumber 80 = .ok (.iaload, 1) := dk_46 (dk_at dksX7_readsNumber_3 11 rfl rfl)
theorem dX7_readsNumber_81 : decode cX7_readsNumber 81 = .ok (.imul, 1) := dk_104 (dk_at dksX7_readsNumber_3 12 rfl rfl)
theorem dX7_readsNumber_82 : decode cX7_readsNumber 82 = .ok (.aload_n 0, 1) := dk_42 (dk_at dksX7_readsNumber_3 13 rfl rfl)
theorem dX7_readsNumber_83 : decode cX7_readsNumber 83 = .ok (.getfield 3, 3) := dk_180 0 3 (dk_at dksX7_readsNumber_3 14 rfl rfl)
theorem dX7_readsNumber_86 : decode cX7_readsNumber 86 = .ok (.getfield 23, 3) := dk_180 0 23 (dk_at dksX7_readsNumber_3 17 rfl rfl)
theorem dX7_readsNumber_89 : decode cX7_readsNumber 89 = .ok (.aload_n 0, 1) := dk_42 (dk_at dksX7_readsNumber_3 20 rfl rfl)
theorem dX7_readsNumber_90 : decode cX7_readsNumber 90 = .ok (.getfield 19, 3) := dk_180 0 19 (dk_at dksX7_readsNumber_3 21 rfl rfl)
theorem dX7_readsNumber_93 : decode cX7_readsNumber 93 = .ok (.invokevirtual 33, 3) := dk_182 0 33 (dk_at dksX7_readsNumber_4 0 rfl rfl)
theorem dX7_readsNumber_96 : decode cX7_readsNumber 96 = .ok (.iadd, 1) := dk_96 (dk_at dksX7_readsNumber_4 3 rfl rfl)
theorem dX7_readsNumber_97 : decode cX7_readsNumber 97 = .ok (.bipush 48, 2) := dk_16 48 (dk_at dksX7_readsNumber_4 4 rfl rfl)
theorem dX7_readsNumber_99 : decode cX7_readsNumber 99 = .ok (.isub, 1) := dk_100 (dk_at dksX7_readsNumber_4 6 rfl rfl)
theorem dX7_readsNumber_100 : decode cX7_readsNumber 100 = .ok (.iastore, 1) := dk_79 (dk_at dksX7_readsNumber_4 7 rfl rfl)
theorem dX7_readsNumber_101 : decode cX7_readsNumber 101 = .ok (.aload_n 0, 1) := dk_42 (dk_at dksX7_readsNumber_4 8 rfl rfl)
theorem dX7_readsNumber_102 : decode cX7_readsNumber 102 = .ok (.dup, 1) := dk_89 (dk_at dksX7_readsNumber_4 9 rfl rfl)
theorem dX7_readsNumber_103 : decode cX7_readsNumber 103 = .ok (.getfield 19, 3) := dk_180 0 19 (dk_at dksX7_readsNumber_4 10 rfl rfl)
theorem dX7_readsNumber_106 : decode cX7_readsNumber 106 = .ok (.iconst 1, 1) := dk_4 (dk_at dksX7_readsNumber_4 13 rfl rfl)
theorem dX7_readsNumber_107 : decode cX7_readsNumber 107 = .ok (.iadd, 1) := dk_96 (dk_at dksX7_readsNumber_4 14 rfl rfl)
theorem dX7_readsNumber_108 : decode cX7_readsNumber 108 = .ok (.putfield 19, 3) := dk_181 0 19 (dk_at dksX7_readsNumber_4 15 rfl rfl)
theorem dX7_readsNumber_111 : decode cX7_readsNumber 111 = .ok (.goto (-94), 3) := dk_167 255 162 (dk_at dksX7_readsNumber_4 18 rfl rfl)
theorem dX7_readsNumber_114 : decode cX7_readsNumber 114 = .ok (.aload_n 0, 1) := dk_42 (dk_at dksX7_readsNumber_4 21 rfl rfl)
theorem dX7_readsNumber_115 : decode cX7_readsNumber 115 = .ok (.getfield 19, 3) := dk_180 0 19 (dk_at dksX7_readsNumber_5 0 rfl rfl)
theorem dX7_readsNumber_118 : decode cX7_readsNumber 118 = .ok (.aload_n 0, 1) := dk_42 (dk_at dksX7_readsNumber_5 3 rfl rfl)
theorem dX7_readsNumber_119 : decode cX7_readsNumber 119 = .ok (.getfield 3, 3) := dk_180 0 3 (dk_at dksX7_readsNumber_5 4 rfl rfl)
theorem dX7_readsNumber_122 : decode cX7_readsNumber 122 = .ok (.getfield 23, 3) := dk_180 0 23 (dk_at dksX7_readsNumber_5 7 rfl rfl)
theorem dX7_readsNumber_125 : decode cX7_readsNumber 125 = .ok (.invokevirtual 27, 3) := dk_182 0 27 (dk_at dksX7_readsNumber_5 10 rfl rfl)
theorem dX7_readsNumber_128 : decode cX7_readsNumber 128 = .ok (.if_icmp .ge 41, 3) := dk_162 0 41 (dk_at dksX7_readsNumber_5 13 rfl rfl)
theorem dX7_readsNumber_131 : decode cX7_readsNumber 131 = .ok (.aload_n 0, 1) := dk_42 (dk_at dksX7_readsNumber_5 16 rfl rfl)
theorem dX7_readsNumber_132 : decode cX7_readsNumber 132 = .ok (.getfield 19, 3) := dk_180 0 19 (dk_at dksX7_readsNumber_5 17 rfl rfl)
theorem dX7_readsNumber_135 : decode cX7_readsNumber 135 = .ok (.iload_n 2, 1) := dk_28 (dk_at dksX7_readsNumber_5 20 rfl rfl)
theorem dX7_readsNumber_136 : decode cX7_readsNumber 136 = .ok (.iconst 5, 1) := dk_8 (dk_at dksX7_readsNumber_5 21 rfl rfl)
theorem dX7_readsNumber_137 : decode cX7_readsNumber 137 = .ok (.iadd, 1) := dk_96 (dk_at dksX7_readsNumber_5 22 rfl rfl)
theorem dX7_readsNumber_138 : decode cX7_readsNumber 138 = .ok (.if_icmp .ne 31, 3) := dk_160 0 31 (dk_at dksX7_readsNumber_6 0 rfl rfl)
theorem dX7_readsNumber_141 : decode cX7_readsNumber 141 = .ok (.aload_n 0, 1) := dk_42 (dk_at dksX7_readsNumber_6 3 rfl rfl)
theorem dX7_readsNumber_142 : decode cX7_readsNumber 142 = .ok (.getfield 3, 3) := dk_180 0 3 (dk_at dksX7_readsNumber_6 4 rfl rfl)
theorem dX7_readsNumber_145 : decode cX7_readsNumber 145 = .ok (.getfield 23, 3) := dk_180 0 23 (dk_at dksX7_readsNumber_6 7 rfl rfl)
theorem dX7_readsNumber_148 : decode cX7_readsNumber 148 = .ok (.aload_n 0, 1) := dk_42 (dk_at dksX7_readsNumber_6 10 rfl rfl)
theorem dX7_readsNumber_149 : decode cX7_readsNumber 149 = .ok (.getfield 19, 3) := dk_180 0 19 (dk_at dksX7_readsNumber_6 11 rfl rfl)
theorem dX7_readsNumber_152 : decode cX7_readsNumber 152 = .ok (.invokevirtual 33, 3) := dk_182 0 33 (dk_at dksX7_readsNumber_6 14 rfl rfl)
theorem dX7_readsNumber_155 : decode cX7_readsNumber 155 = .ok (.bipush 48, 2) := dk_16 48 (dk_at dksX7_readsNumber_6 17 rfl rfl)
theorem dX7_readsNumber_157 : decode cX7_readsNumber 157 = .ok (.bipush 57, 2) := dk_16 57 (dk_at dksX7_readsNumber_6 19 rfl rfl)
theorem dX7_readsNumber_159 : decode cX7_readsNumber 159 = .ok (.invokestatic 40, 3) := dk_184 0 40 (dk_at dksX7_readsNumber_6 21 rfl rfl)
theorem dX7_readsNumber_162 : decode cX7_readsNumber 162 = .ok (.ifCond .eq 7, 3) := dk_153 0 7 (dk_at dksX7_readsNumber_7 0 rfl rfl)
theorem dX7_readsNumber_165 : decode cX7_readsNumber 165 = .ok (.iconst 1, 1) := dk_4 (dk_at dksX7_readsNumber_7 3 rfl rfl)
theorem dX7_readsNumber_166 : decode cX7_readsNumber 166 = .ok (.goto 4, 3) := dk_167 0 4 (dk_at dksX7_readsNumber_7 4 rfl rfl)
theorem dX7_readsNumber_169 : decode cX7_readsNumber 169 = .ok (.iconst 0, 1) := dk_3 (dk_at dksX7_readsNumber_7 7 rfl rfl)
theorem dX7_readsNumber_170 : decode cX7_readsNumber 170 = .ok (.istore_n 3, 1) := dk_62 (dk_at dksX7_readsNumber_7 8 rfl rfl)
theorem dX7_readsNumber_171 : decode cX7_readsNumber 171 = .ok (.aload_n 0, 1) := dk_42 (dk_at dksX7_readsNumber_7 9 rfl rfl)
theorem dX7_readsNumber_172 : decode cX7_readsNumber 172 = .ok (.getfield 19, 3) := dk_180 0 19 (dk_at dksX7_readsNumber_7 10 rfl rfl)
theorem dX7_readsNumber_175 : decode cX7_readsNumber 175 = .ok (.iload_n 2, 1) := dk_28 (dk_at dksX7_readsNumber_7 13 rfl rfl)
theorem dX7_readsNumber_176 : decode cX7_readsNumber 176 = .ok (.if_icmp .le 11, 3) := dk_164 0 11 (dk_at dksX7_readsNumber_7 14 rfl rfl)
theorem dX7_readsNumber_179 : decode cX7_readsNumber 179 = .ok (.iload_n 3, 1) := dk_29 (dk_at dksX7_readsNumber_7 17 rfl rfl)
theorem dX7_readsNumber_180 : decode cX7_readsNumber 180 = .ok (.ifCond .ne 7, 3) := dk_154 0 7 (dk_at dksX7_readsNumber_7 18 rfl rfl)
theorem dX7_readsNumber_183 : decode cX7_readsNumber 183 = .ok (.iconst 1, 1) := dk_4 (dk_at dksX7_readsNumber_7 21 rfl rfl)
theorem dX7_readsNumber_184 : decode cX7_readsNumber 184 = .ok (.goto 4, 3) := dk_167 0 4 (dk_at dksX7_readsNumber_8 0 rfl rfl)
theorem dX7_readsNumber_187 : decode cX7_readsNumber 187 = .ok (.iconst 0, 1) := dk_3 (dk_at dksX7_readsNumber_8 3 rfl rfl)
theorem dX7_readsNumber_188 : decode cX7_readsNumber 188 = .ok (.ireturn, 1) := dk_172 (dk_at dksX7_readsNumber_8 4 rfl rfl)
abbrev cX7_reads : ByteArray := prog_7_method_3_code
def yX7_reads : MethodName := ⟨RX7, "reads", "(C)Z"⟩
def dkwX7_reads_1 : List UInt8 := [167, 0, 4, 3, 96, 181, 0, 19, 28, 172]
abbrev dktX7_reads_1 : List UInt8 := dkwX7_reads_1 ++ []
def dkwX7_reads_0 : List UInt8 := [42, 182, 0, 37, 27, 160, 0, 7, 4, 167, 0, 4, 3, 61, 42, 89, 180, 0, 19, 28, 153, 0, 7, 4]
abbrev dktX7_reads_0 : List UInt8 := dkwX7_reads_0 ++ dktX7_reads_1
theorem dksX7_reads_0 : cX7_reads.data.toList.drop 0 = dktX7_reads_0 := by decide +kernel
theorem dksX7_reads_1 : cX7_reads.data.toList.drop 24 = dktX7_reads_1 := dk_seg dksX7_reads_0 24 rfl rfl
theorem dX7_reads_0 : decode cX7_reads 0 = .ok (.aload_n 0, 1) := dk_42 (dk_at dksX7_reads_0 0 rfl rfl)
theorem dX7_reads_1 : decode cX7_reads 1 = .ok (.invokevirtual 37, 3) := dk_182 0 37 (dk_at dksX7_reads_0 1 rfl rfl)
theorem dX7_reads_4 : decode cX7_reads 4 = .ok (.iload_n 1, 1) := dk_27 (dk_at dksX7_reads_0 4 rfl rfl)
theorem dX7_reads_5 : decode cX7_reads 5 = .ok (.if_icmp .ne 7, 3) := dk_160 0 7 (dk_at dksX7_reads_0 5 rfl rfl)
theorem dX7_reads_8 : decode cX7_reads 8 = .ok (.iconst 1, 1) := dk_4 (dk_at dksX7_reads_0 8 rfl rfl)
theorem dX7_reads_9 : decode cX7_reads 9 = .ok (.goto 4, 3) := dk_167 0 4 (dk_at dksX7_reads_0 9 rfl rfl)
theorem dX7_reads_12 : decode cX7_reads 12 = .ok (.iconst 0, 1) := dk_3 (dk_at dksX7_reads_0 12 rfl rfl)
theorem dX7_reads_13 : decode cX7_reads 13 = .ok (.istore_n 2, 1) := dk_61 (dk_at dksX7_reads_0 13 rfl rfl)
theorem dX7_reads_14 : decode cX7_reads 14 = .ok (.aload_n 0, 1) := dk_42 (dk_at dksX7_reads_0 14 rfl rfl)
theorem dX7_reads_15 : decode cX7_reads 15 = .ok (.dup, 1) := dk_89 (dk_at dksX7_reads_0 15 rfl rfl)
theorem dX7_reads_16 : decode cX7_reads 16 = .ok (.getfield 19, 3) := dk_180 0 19 (dk_at dksX7_reads_0 16 rfl rfl)
theorem dX7_reads_19 : decode cX7_reads 19 = .ok (.iload_n 2, 1) := dk_28 (dk_at dksX7_reads_0 19 rfl rfl)
theorem dX7_reads_20 : decode cX7_reads 20 = .ok (.ifCond .eq 7, 3) := dk_153 0 7 (dk_at dksX7_reads_0 20 rfl rfl)
theorem dX7_reads_23 : decode cX7_reads 23 = .ok (.iconst 1, 1) := dk_4 (dk_at dksX7_reads_0 23 rfl rfl)
theorem dX7_reads_24 : decode cX7_reads 24 = .ok (.goto 4, 3) := dk_167 0 4 (dk_at dksX7_reads_1 0 rfl rfl)
theorem dX7_reads_27 : decode cX7_reads 27 = .ok (.iconst 0, 1) := dk_3 (dk_at dksX7_reads_1 3 rfl rfl)
theorem dX7_reads_28 : decode cX7_reads 28 = .ok (.iadd, 1) := dk_96 (dk_at dksX7_reads_1 4 rfl rfl)
theorem dX7_reads_29 : decode cX7_reads 29 = .ok (.putfield 19, 3) := dk_181 0 19 (dk_at dksX7_reads_1 5 rfl rfl)
theorem dX7_reads_32 : decode cX7_reads 32 = .ok (.iload_n 2, 1) := dk_28 (dk_at dksX7_reads_1 8 rfl rfl)
theorem dX7_reads_33 : decode cX7_reads 33 = .ok (.ireturn, 1) := dk_172 (dk_at dksX7_reads_1 9 rfl rfl)
abbrev cX7_goesOn : ByteArray := prog_7_method_6_code
def yX7_goesOn : MethodName := ⟨RX7, "goesOn", "()Z"⟩
def dkwX7_goesOn_0 : List UInt8 := [42, 16, 59, 182, 0, 65, 172]
abbrev dktX7_goesOn_0 : List UInt8 := dkwX7_goesOn_0 ++ []
theorem dksX7_goesOn_0 : cX7_goesOn.data.toList.drop 0 = dktX7_goesOn_0 := by decide +kernel
theorem dX7_goesOn_0 : decode cX7_goesOn 0 = .ok (.aload_n 0, 1) := dk_42 (dk_at dksX7_goesOn_0 0 rfl rfl)
theorem dX7_goesOn_1 : decode cX7_goesOn 1 = .ok (.bipush 59, 2) := dk_16 59 (dk_at dksX7_goesOn_0 1 rfl rfl)
theorem dX7_goesOn_3 : decode cX7_goesOn 3 = .ok (.invokevirtual 65, 3) := dk_182 0 65 (dk_at dksX7_goesOn_0 3 rfl rfl)
theorem dX7_goesOn_6 : decode cX7_goesOn 6 = .ok (.ireturn, 1) := dk_172 (dk_at dksX7_goesOn_0 6 rfl rfl)
abbrev cX7_hasEnded : ByteArray := prog_7_method_7_code
def yX7_hasEnded : MethodName := ⟨RX7, "hasEnded", "()Z"⟩
def dkwX7_hasEnded_0 : List UInt8 := [42, 182, 0, 37, 2, 160, 0, 7, 4, 167, 0, 4, 3, 172]
abbrev dktX7_hasEnded_0 : List UInt8 := dkwX7_hasEnded_0 ++ []
theorem dksX7_hasEnded_0 : cX7_hasEnded.data.toList.drop 0 = dktX7_hasEnded_0 := by decide +kernel
theorem dX7_hasEnded_0 : decode cX7_hasEnded 0 = .ok (.aload_n 0, 1) := dk_42 (dk_at dksX7_hasEnded_0 0 rfl rfl)
theorem dX7_hasEnded_1 : decode cX7_hasEnded 1 = .ok (.invokevirtual 37, 3) := dk_182 0 37 (dk_at dksX7_hasEnded_0 1 rfl rfl)
theorem dX7_hasEnded_4 : decode cX7_hasEnded 4 = .ok (.iconst (-1), 1) := dk_2 (dk_at dksX7_hasEnded_0 4 rfl rfl)
theorem dX7_hasEnded_5 : decode cX7_hasEnded 5 = .ok (.if_icmp .ne 7, 3) := dk_160 0 7 (dk_at dksX7_hasEnded_0 5 rfl rfl)
theorem dX7_hasEnded_8 : decode cX7_hasEnded 8 = .ok (.iconst 1, 1) := dk_4 (dk_at dksX7_hasEnded_0 8 rfl rfl)
theorem dX7_hasEnded_9 : decode cX7_hasEnded 9 = .ok (.goto 4, 3) := dk_167 0 4 (dk_at dksX7_hasEnded_0 9 rfl rfl)
theorem dX7_hasEnded_12 : decode cX7_hasEnded 12 = .ok (.iconst 0, 1) := dk_3 (dk_at dksX7_hasEnded_0 12 rfl rfl)
theorem dX7_hasEnded_13 : decode cX7_hasEnded 13 = .ok (.ireturn, 1) := dk_172 (dk_at dksX7_hasEnded_0 13 rfl rfl)
theorem q111 : (Jvm.Cond.initialized "WheatElevator$Reader") ∈ lw_all := lw_g (lw_at lw_m1 23 rfl) rfl
theorem q384 : (Jvm.Cond.fieldLinkNest "WheatElevator$Reader" (52 : Nat) "WheatElevator$Order" "letter" "C" "WheatElevator") ∈ lw_tbl := lw_at lw_m2 56 rfl
theorem q386 : (Jvm.Cond.fieldLinkNest "WheatElevator$Reader" (62 : Nat) "WheatElevator$Order" "many" "I" "WheatElevator") ∈ lw_tbl := lw_at lw_m2 58 rfl
theorem q490 : (Jvm.Cond.fieldLinkNest "WheatElevator$Reader" (23 : Nat) "WheatElevator" "text" "Ljava/lang/StringBuilder;" "WheatElevator") ∈ lw_tbl := lw_at lw_m2 162 rfl
theorem q492 : (Jvm.Cond.fieldLinkNest "WheatElevator$Reader" (48 : Nat) "WheatElevator" "kinds" "[LWheatElevator$Order;" "WheatElevator") ∈ lw_tbl := lw_at lw_m2 164 rfl
theorem q566 : (Jvm.Cond.selects "WheatElevator$Reader" ({ cls := "java/lang/Object", name := "getClass", desc := "()Ljava/lang/Class;" } : Jvm.MethodName) ({ cls := "java/lang/Object", name := "getClass", desc := "()Ljava/lang/Class;" } : Jvm.MethodName)) ∈ lw_all := lw_g (lw_at lw_m2 238 rfl) rfl
theorem q1051 : (Jvm.Cond.instantiable "WheatElevator$Reader" (4 : Nat)) ∈ lw_all := lw_g (lw_at lw_m5 3 rfl) rfl
theorem q1053 : (Jvm.Cond.instanceMethod ({ cls := "WheatElevator$Reader", name := "<init>", desc := "(LWheatElevator;)V" } : Jvm.MethodName)) ∈ lw_all := lw_g (lw_at lw_m5 5 rfl) rfl
theorem q1054 : (Jvm.Cond.code ({ cls := "WheatElevator$Reader", name := "<init>", desc := "(LWheatElevator;)V" } : Jvm.MethodName) prog_7_method_1_code (2 : Nat) (Option.none : Option Jvm.ClassFile.FieldType)) ∈ lw_all := lw_g (lw_at lw_m5 6 rfl) rfl
theorem q1055 : (Jvm.Cond.methodLink "WheatElevator$Reader" (9 : Nat) ({ cls := "java/lang/Object", name := "<init>", desc := "()V" } : Jvm.MethodName)) ∈ lw_all := lw_g (lw_at lw_m5 7 rfl) rfl
theorem q1056 : (Jvm.Cond.fieldLink "WheatElevator$Reader" (15 : Nat) "WheatElevator$Reader" "numbers" "[I") ∈ lw_all := lw_g (lw_at lw_m5 8 rfl) rfl
theorem q1058 : (Jvm.Cond.fieldLink "WheatElevator$Reader" (44 : Nat) "WheatElevator$Reader" "order" "LWheatElevator$Order;") ∈ lw_all := lw_g (lw_at lw_m5 10 rfl) rfl
theorem q1060 : (Jvm.Cond.fieldLink "WheatElevator$Reader" (19 : Nat) "WheatElevator$Reader" "at" "I") ∈ lw_all := lw_g (lw_at lw_m5 12 rfl) rfl
theorem q1062 : (Jvm.Cond.fieldLink "WheatElevator$Reader" (3 : Nat) "WheatElevator$Reader" "this$0" "LWheatElevator;") ∈ lw_all := lw_g (lw_at lw_m5 14 rfl) rfl
theorem q1063 : (Jvm.Cond.laysFinal "WheatElevator$Reader" "WheatElevator$Reader" "numbers" "[I") ∈ lw_all := lw_g (lw_at lw_m5 15 rfl) rfl
theorem q1064 : (Jvm.Cond.soleField "WheatElevator$Reader" "numbers") ∈ lw_all := lw_g (lw_at lw_m5 16 rfl) rfl
theorem q1065 : (Jvm.Cond.lays "WheatElevator$Reader" "WheatElevator$Reader" "order" "LWheatElevator$Order;") ∈ lw_all := lw_g (lw_at lw_m5 17 rfl) rfl
theorem q1066 : (Jvm.Cond.soleField "WheatElevator$Reader" "order") ∈ lw_all := lw_g (lw_at lw_m5 18 rfl) rfl
theorem q1067 : (Jvm.Cond.lays "WheatElevator$Reader" "WheatElevator$Reader" "at" "I") ∈ lw_all := lw_g (lw_at lw_m5 19 rfl) rfl
theorem q1068 : (Jvm.Cond.soleField "WheatElevator$Reader" "at") ∈ lw_all := lw_g (lw_at lw_m5 20 rfl) rfl
theorem q1069 : (Jvm.Cond.laysFinal "WheatElevator$Reader" "WheatElevator$Reader" "this$0" "LWheatElevator;") ∈ lw_all := lw_g (lw_at lw_m5 21 rfl) rfl
theorem q1070 : (Jvm.Cond.soleField "WheatElevator$Reader" "this$0") ∈ lw_all := lw_g (lw_at lw_m5 22 rfl) rfl
theorem q1071 : (Jvm.Cond.superclass "WheatElevator$Reader" "java/lang/Object") ∈ lw_all := lw_g (lw_at lw_m5 23 rfl) rfl
theorem q1073 : (Jvm.Cond.instanceMethod ({ cls := "WheatElevator$Reader", name := "readsOrder", desc := "()Z" } : Jvm.MethodName)) ∈ lw_all := lw_g (lw_at lw_m5 25 rfl) rfl
theorem q1074 : (Jvm.Cond.selects "WheatElevator$Reader" ({ cls := "WheatElevator$Reader", name := "readsOrder", desc := "()Z" } : Jvm.MethodName) ({ cls := "WheatElevator$Reader", name := "readsOrder", desc := "()Z" } : Jvm.MethodName)) ∈ lw_all := lw_g (lw_at lw_m5 26 rfl) rfl
theorem q1075 : (Jvm.Cond.code ({ cls := "WheatElevator$Reader", name := "readsOrder", desc := "()Z" } : Jvm.MethodName) prog_7_method_5_code (4 : Nat) (Option.some Jvm.ClassFile.FieldType.boolean)) ∈ lw_all := lw_g (lw_at lw_m5 27 rfl) rfl
theorem q1076 : (Jvm.Cond.methodLink "WheatElevator$Reader" (37 : Nat) ({ cls := "WheatElevator$Reader", name := "here", desc := "()I" } : Jvm.MethodName)) ∈ lw_all := lw_g (lw_at lw_m5 28 rfl) rfl
theorem q1077 : (Jvm.Cond.privateMethod ({ cls := "WheatElevator$Reader", name := "here", desc := "()I" } : Jvm.MethodName)) ∈ lw_tbl := lw_at lw_m5 29 rfl
theorem q1078 : (Jvm.Cond.instanceMethod ({ cls := "WheatElevator$Reader", name := "here", desc := "()I" } : Jvm.MethodName)) ∈ lw_all := lw_g (lw_at lw_m5 30 rfl) rfl
theorem q1079 : (Jvm.Cond.code ({ cls := "WheatElevator$Reader", name := "here", desc := "()I" } : Jvm.MethodName) prog_7_method_2_code (1 : Nat) (Option.some Jvm.ClassFile.FieldType.int)) ∈ lw_all := lw_g (lw_at lw_m5 31 rfl) rfl
theorem q1080 : (Jvm.Cond.methodLink "WheatElevator$Reader" (27 : Nat) ({ cls := "java/lang/StringBuilder", name := "length", desc := "()I" } : Jvm.MethodName)) ∈ lw_all := lw_g (lw_at lw_m5 32 rfl) rfl
theorem q1081 : (Jvm.Cond.methodLink "WheatElevator$Reader" (33 : Nat) ({ cls := "java/lang/StringBuilder", name := "charAt", desc := "(I)C" } : Jvm.MethodName)) ∈ lw_all := lw_g (lw_at lw_m5 33 rfl) rfl
theorem q1093 : (Jvm.Cond.methodLink "WheatElevator$Reader" (58 : Nat) ({ cls := "WheatElevator$Reader", name := "readsNumber", desc := "(I)Z" } : Jvm.MethodName)) ∈ lw_all := lw_g (lw_at lw_m5 45 rfl) rfl
theorem q1094 : (Jvm.Cond.privateMethod ({ cls := "WheatElevator$Reader", name := "readsNumber", desc := "(I)Z" } : Jvm.MethodName)) ∈ lw_tbl := lw_at lw_m5 46 rfl
theorem q1095 : (Jvm.Cond.instanceMethod ({ cls := "WheatElevator$Reader", name := "readsNumber", desc := "(I)Z" } : Jvm.MethodName)) ∈ lw_all := lw_g (lw_at lw_m5 47 rfl) rfl
theorem q1096 : (Jvm.Cond.code ({ cls := "WheatElevator$Reader", name := "readsNumber", desc := "(I)Z" } : Jvm.MethodName) prog_7_method_4_code (4 : Nat) (Option.some Jvm.ClassFile.FieldType.boolean)) ∈ lw_all := lw_g (lw_at lw_m5 48 rfl) rfl
theorem q1097 : (Jvm.Cond.methodLinkNest "WheatElevator$Reader" (40 : Nat) ({ cls := "WheatElevator", name := "isIn", desc := "(III)Z" } : Jvm.MethodName) "WheatElevator") ∈ lw_tbl := lw_at lw_m5 49 rfl
theorem q1098 : (Jvm.Cond.methodLink "WheatElevator$Reader" (65 : Nat) ({ cls := "WheatElevator$Reader", name := "reads", desc := "(C)Z" } : Jvm.MethodName)) ∈ lw_all := lw_g (lw_at lw_m5 50 rfl) rfl
theorem q1099 : (Jvm.Cond.privateMethod ({ cls := "WheatElevator$Reader", name := "reads", desc := "(C)Z" } : Jvm.MethodName)) ∈ lw_tbl := lw_at lw_m5 51 rfl
theorem q1100 : (Jvm.Cond.instanceMethod ({ cls := "WheatElevator$Reader", name := "reads", desc := "(C)Z" } : Jvm.MethodName)) ∈ lw_all := lw_g (lw_at lw_m5 52 rfl) rfl
theorem q1101 : (Jvm.Cond.code ({ cls := "WheatElevator$Reader", name := "reads", desc := "(C)Z" } : Jvm.MethodName) prog_7_method_3_code (3 : Nat) (Option.some Jvm.ClassFile.FieldType.boolean)) ∈ lw_all := lw_g (lw_at lw_m5 53 rfl) rfl
theorem q1103 : (Jvm.Cond.instanceMethod ({ cls := "WheatElevator$Reader", name := "goesOn", desc := "()Z" } : Jvm.MethodName)) ∈ lw_all := lw_g (lw_at lw_m5 55 rfl) rfl
theorem q1104 : (Jvm.Cond.selects "WheatElevator$Reader" ({ cls := "WheatElevator$Reader", name := "goesOn", desc := "()Z" } : Jvm.MethodName) ({ cls := "WheatElevator$Reader", name := "goesOn", desc := "()Z" } : Jvm.MethodName)) ∈ lw_all := lw_g (lw_at lw_m5 56 rfl) rfl
theorem q1105 : (Jvm.Cond.code ({ cls := "WheatElevator$Reader", name := "goesOn", desc := "()Z" } : Jvm.MethodName) prog_7_method_6_code (1 : Nat) (Option.some Jvm.ClassFile.FieldType.boolean)) ∈ lw_all := lw_g (lw_at lw_m5 57 rfl) rfl
theorem q1107 : (Jvm.Cond.instanceMethod ({ cls := "WheatElevator$Reader", name := "hasEnded", desc := "()Z" } : Jvm.MethodName)) ∈ lw_all := lw_g (lw_at lw_m5 59 rfl) rfl
theorem q1108 : (Jvm.Cond.selects "WheatElevator$Reader" ({ cls := "WheatElevator$Reader", name := "hasEnded", desc := "()Z" } : Jvm.MethodName) ({ cls := "WheatElevator$Reader", name := "hasEnded", desc := "()Z" } : Jvm.MethodName)) ∈ lw_all := lw_g (lw_at lw_m5 60 rfl) rfl
theorem q1109 : (Jvm.Cond.code ({ cls := "WheatElevator$Reader", name := "hasEnded", desc := "()Z" } : Jvm.MethodName) prog_7_method_7_code (1 : Nat) (Option.some Jvm.ClassFile.FieldType.boolean)) ∈ lw_all := lw_g (lw_at lw_m5 61 rfl) rfl
theorem q1584 : (Jvm.Cond.castable "WheatElevator$Reader" "java/lang/Object") ∈ lw_tbl := lw_at lw_m7 56 rfl
theorem in_X7 : ∀ w ∈ wsX70, w ∈ lw_all := lw_in wsX70 [1063, 1065, 1067, 1069] (by decide +kernel) (by decide +kernel)

theorem q88 : (Jvm.Cond.initialized "WheatElevatorLaw") ∈ lw_all := lw_g (lw_at lw_m1 0 rfl) rfl
set_option maxRecDepth 100000
theorem q112 : (Jvm.Cond.classLink "WheatElevatorLaw" (7 : Nat) "WheatElevator") ∈ lw_all := lw_g (lw_at lw_m1 24 rfl) rfl
theorem q114 : (Jvm.Cond.methodLink "WheatElevatorLaw" (9 : Nat) ({ cls := "WheatElevator", name := "<init>", desc := "()V" } : Jvm.MethodName)) ∈ lw_all := lw_g (lw_at lw_m1 26 rfl) rfl
theorem q513 : (Jvm.Cond.methodLink "WheatElevatorLaw" (13 : Nat) ({ cls := "WheatElevator", name := "addBin", desc := "(I)I" } : Jvm.MethodName)) ∈ lw_all := lw_g (lw_at lw_m2 185 rfl) rfl
theorem q725 : (Jvm.Cond.methodLink "WheatElevatorLaw" (18 : Nat) ({ cls := "WheatElevator", name := "setBand", desc := "(III)I" } : Jvm.MethodName)) ∈ lw_all := lw_g (lw_at lw_m3 157 rfl) rfl
theorem q729 : (Jvm.Cond.methodLink "WheatElevatorLaw" (23 : Nat) ({ cls := "WheatElevator", name := "addLeg", desc := "(I)I" } : Jvm.MethodName)) ∈ lw_all := lw_g (lw_at lw_m3 161 rfl) rfl
theorem q734 : (Jvm.Cond.methodLink "WheatElevatorLaw" (27 : Nat) ({ cls := "WheatElevator", name := "setSpeed", desc := "(II)I" } : Jvm.MethodName)) ∈ lw_all := lw_g (lw_at lw_m3 166 rfl) rfl
theorem q738 : (Jvm.Cond.methodLink "WheatElevatorLaw" (32 : Nat) ({ cls := "WheatElevator", name := "spout", desc := "(II)I" } : Jvm.MethodName)) ∈ lw_all := lw_g (lw_at lw_m3 170 rfl) rfl
theorem q742 : (Jvm.Cond.methodLink "WheatElevatorLaw" (36 : Nat) ({ cls := "WheatElevator", name := "setPrice", desc := "(II)I" } : Jvm.MethodName)) ∈ lw_all := lw_g (lw_at lw_m3 174 rfl) rfl
theorem q749 : (Jvm.Cond.methodLink "WheatElevatorLaw" (40 : Nat) ({ cls := "WheatElevator", name := "setDustLimit", desc := "(I)I" } : Jvm.MethodName)) ∈ lw_all := lw_g (lw_at lw_m3 181 rfl) rfl
theorem q753 : (Jvm.Cond.methodLink "WheatElevatorLaw" (44 : Nat) ({ cls := "WheatElevator", name := "count", desc := "(I)I" } : Jvm.MethodName)) ∈ lw_all := lw_g (lw_at lw_m3 185 rfl) rfl
theorem q779 : (Jvm.Cond.methodLink "WheatElevatorLaw" (48 : Nat) ({ cls := "WheatElevator", name := "bin", desc := "(II)I" } : Jvm.MethodName)) ∈ lw_all := lw_g (lw_at lw_m3 211 rfl) rfl
theorem q787 : (Jvm.Cond.methodLink "WheatElevatorLaw" (52 : Nat) ({ cls := "WheatElevator", name := "leg", desc := "(II)I" } : Jvm.MethodName)) ∈ lw_all := lw_g (lw_at lw_m3 219 rfl) rfl
theorem q796 : (Jvm.Cond.methodLink "WheatElevatorLaw" (56 : Nat) ({ cls := "WheatElevator", name := "price", desc := "(I)I" } : Jvm.MethodName)) ∈ lw_all := lw_g (lw_at lw_m3 228 rfl) rfl
theorem q800 : (Jvm.Cond.methodLink "WheatElevatorLaw" (60 : Nat) ({ cls := "WheatElevator", name := "book", desc := "(I)J" } : Jvm.MethodName)) ∈ lw_all := lw_g (lw_at lw_m3 232 rfl) rfl
theorem q805 : (Jvm.Cond.methodLink "WheatElevatorLaw" (65 : Nat) ({ cls := "WheatElevator", name := "audit", desc := "()I" } : Jvm.MethodName)) ∈ lw_all := lw_g (lw_at lw_m3 237 rfl) rfl
theorem q809 : (Jvm.Cond.methodLink "WheatElevatorLaw" (70 : Nat) ({ cls := "WheatElevator", name := "receive", desc := "(IIIII)I" } : Jvm.MethodName)) ∈ lw_all := lw_g (lw_at lw_m4 1 rfl) rfl
theorem q813 : (Jvm.Cond.methodLink "WheatElevatorLaw" (75 : Nat) ({ cls := "WheatElevator", name := "move", desc := "(IIII)I" } : Jvm.MethodName)) ∈ lw_all := lw_g (lw_at lw_m4 5 rfl) rfl
theorem q817 : (Jvm.Cond.methodLink "WheatElevatorLaw" (80 : Nat) ({ cls := "WheatElevator", name := "whyNot", desc := "(IIII)I" } : Jvm.MethodName)) ∈ lw_all := lw_g (lw_at lw_m4 9 rfl) rfl
theorem q821 : (Jvm.Cond.methodLink "WheatElevatorLaw" (84 : Nat) ({ cls := "WheatElevator", name := "clean", desc := "(II)I" } : Jvm.MethodName)) ∈ lw_all := lw_g (lw_at lw_m4 13 rfl) rfl
theorem q825 : (Jvm.Cond.methodLink "WheatElevatorLaw" (88 : Nat) ({ cls := "WheatElevator", name := "pass", desc := "(I)I" } : Jvm.MethodName)) ∈ lw_all := lw_g (lw_at lw_m4 17 rfl) rfl
theorem q829 : (Jvm.Cond.methodLink "WheatElevatorLaw" (92 : Nat) ({ cls := "WheatElevator", name := "dry", desc := "(II)I" } : Jvm.MethodName)) ∈ lw_all := lw_g (lw_at lw_m4 21 rfl) rfl
theorem q833 : (Jvm.Cond.methodLink "WheatElevatorLaw" (96 : Nat) ({ cls := "WheatElevator", name := "dump", desc := "(I)I" } : Jvm.MethodName)) ∈ lw_all := lw_g (lw_at lw_m4 25 rfl) rfl
theorem q837 : (Jvm.Cond.methodLink "WheatElevatorLaw" (100 : Nat) ({ cls := "WheatElevator", name := "addContract", desc := "(IIII)I" } : Jvm.MethodName)) ∈ lw_all := lw_g (lw_at lw_m4 29 rfl) rfl
theorem q842 : (Jvm.Cond.methodLink "WheatElevatorLaw" (104 : Nat) ({ cls := "WheatElevator", name := "contract", desc := "(II)I" } : Jvm.MethodName)) ∈ lw_all := lw_g (lw_at lw_m4 34 rfl) rfl
theorem q855 : (Jvm.Cond.methodLink "WheatElevatorLaw" (108 : Nat) ({ cls := "WheatElevator", name := "blend", desc := "(II)I" } : Jvm.MethodName)) ∈ lw_all := lw_g (lw_at lw_m4 47 rfl) rfl
theorem q889 : (Jvm.Cond.methodLink "WheatElevatorLaw" (112 : Nat) ({ cls := "WheatElevator", name := "whyNoBlend", desc := "(II)I" } : Jvm.MethodName)) ∈ lw_all := lw_g (lw_at lw_m4 81 rfl) rfl
theorem q893 : (Jvm.Cond.methodLink "WheatElevatorLaw" (116 : Nat) ({ cls := "WheatElevator", name := "fromBin", desc := "(III)I" } : Jvm.MethodName)) ∈ lw_all := lw_g (lw_at lw_m4 85 rfl) rfl
theorem q897 : (Jvm.Cond.methodLink "WheatElevatorLaw" (120 : Nat) ({ cls := "WheatElevator", name := "blendMoisture", desc := "(II)I" } : Jvm.MethodName)) ∈ lw_all := lw_g (lw_at lw_m4 89 rfl) rfl
theorem q905 : (Jvm.Cond.methodLink "WheatElevatorLaw" (124 : Nat) ({ cls := "WheatElevator", name := "load", desc := "(II)I" } : Jvm.MethodName)) ∈ lw_all := lw_g (lw_at lw_m4 97 rfl) rfl
theorem q909 : (Jvm.Cond.methodLink "WheatElevatorLaw" (128 : Nat) ({ cls := "WheatElevator", name := "spoilsIn", desc := "(I)I" } : Jvm.MethodName)) ∈ lw_all := lw_g (lw_at lw_m4 101 rfl) rfl
theorem q913 : (Jvm.Cond.methodLink "WheatElevatorLaw" (132 : Nat) ({ cls := "WheatElevator", name := "stepsTo", desc := "(II)I" } : Jvm.MethodName)) ∈ lw_all := lw_g (lw_at lw_m4 105 rfl) rfl
theorem q918 : (Jvm.Cond.methodLink "WheatElevatorLaw" (136 : Nat) ({ cls := "WheatElevator", name := "bestLeg", desc := "(IIII)I" } : Jvm.MethodName)) ∈ lw_all := lw_g (lw_at lw_m4 110 rfl) rfl
theorem q925 : (Jvm.Cond.methodLink "WheatElevatorLaw" (140 : Nat) ({ cls := "WheatElevator", name := "bestBin", desc := "(IIII)I" } : Jvm.MethodName)) ∈ lw_all := lw_g (lw_at lw_m4 117 rfl) rfl
theorem q933 : (Jvm.Cond.methodLink "WheatElevatorLaw" (144 : Nat) ({ cls := "WheatElevator", name := "type", desc := "(I)I" } : Jvm.MethodName)) ∈ lw_all := lw_g (lw_at lw_m4 125 rfl) rfl
theorem q1022 : (Jvm.Cond.methodLink "WheatElevatorLaw" (148 : Nat) ({ cls := "WheatElevator", name := "clearText", desc := "()I" } : Jvm.MethodName)) ∈ lw_all := lw_g (lw_at lw_m4 214 rfl) rfl
theorem q1046 : (Jvm.Cond.methodLink "WheatElevatorLaw" (152 : Nat) ({ cls := "WheatElevator", name := "textFault", desc := "()I" } : Jvm.MethodName)) ∈ lw_all := lw_g (lw_at lw_m4 238 rfl) rfl
theorem q1110 : (Jvm.Cond.methodLink "WheatElevatorLaw" (156 : Nat) ({ cls := "WheatElevator", name := "orders", desc := "()I" } : Jvm.MethodName)) ∈ lw_all := lw_g (lw_at lw_m5 62 rfl) rfl
theorem q1119 : (Jvm.Cond.methodLink "WheatElevatorLaw" (160 : Nat) ({ cls := "WheatElevator", name := "undo", desc := "()I" } : Jvm.MethodName)) ∈ lw_all := lw_g (lw_at lw_m5 71 rfl) rfl
theorem q1138 : (Jvm.Cond.methodLink "WheatElevatorLaw" (164 : Nat) ({ cls := "WheatElevator", name := "keep", desc := "(I)I" } : Jvm.MethodName)) ∈ lw_all := lw_g (lw_at lw_m5 90 rfl) rfl
theorem q1145 : (Jvm.Cond.methodLink "WheatElevatorLaw" (168 : Nat) ({ cls := "WheatElevator", name := "back", desc := "(I)I" } : Jvm.MethodName)) ∈ lw_all := lw_g (lw_at lw_m5 97 rfl) rfl
theorem q1149 : (Jvm.Cond.methodLink "WheatElevatorLaw" (172 : Nat) ({ cls := "WheatElevator", name := "digest", desc := "()J" } : Jvm.MethodName)) ∈ lw_all := lw_g (lw_at lw_m5 101 rfl) rfl
theorem q1160 : (Jvm.Cond.classLink "WheatElevatorLaw" (10 : Nat) "WheatElevatorModel") ∈ lw_all := lw_g (lw_at lw_m5 112 rfl) rfl
theorem q1162 : (Jvm.Cond.methodLink "WheatElevatorLaw" (12 : Nat) ({ cls := "WheatElevatorModel", name := "<init>", desc := "()V" } : Jvm.MethodName)) ∈ lw_all := lw_g (lw_at lw_m5 114 rfl) rfl
theorem q1214 : (Jvm.Cond.methodLink "WheatElevatorLaw" (17 : Nat) ({ cls := "WheatElevatorModel", name := "addBin", desc := "(I)I" } : Jvm.MethodName)) ∈ lw_all := lw_g (lw_at lw_m5 166 rfl) rfl
theorem q1233 : (Jvm.Cond.methodLink "WheatElevatorLaw" (22 : Nat) ({ cls := "WheatElevatorModel", name := "setBand", desc := "(III)I" } : Jvm.MethodName)) ∈ lw_all := lw_g (lw_at lw_m5 185 rfl) rfl
theorem q1245 : (Jvm.Cond.methodLink "WheatElevatorLaw" (26 : Nat) ({ cls := "WheatElevatorModel", name := "addLeg", desc := "(I)I" } : Jvm.MethodName)) ∈ lw_all := lw_g (lw_at lw_m5 197 rfl) rfl
theorem q1249 : (Jvm.Cond.methodLink "WheatElevatorLaw" (31 : Nat) ({ cls := "WheatElevatorModel", name := "setSpeed", desc := "(II)I" } : Jvm.MethodName)) ∈ lw_all := lw_g (lw_at lw_m5 201 rfl) rfl
theorem q1261 : (Jvm.Cond.methodLink "WheatElevatorLaw" (35 : Nat) ({ cls := "WheatElevatorModel", name := "spout", desc := "(II)I" } : Jvm.MethodName)) ∈ lw_all := lw_g (lw_at lw_m5 213 rfl) rfl
theorem q1269 : (Jvm.Cond.methodLink "WheatElevatorLaw" (39 : Nat) ({ cls := "WheatElevatorModel", name := "setPrice", desc := "(II)I" } : Jvm.MethodName)) ∈ lw_all := lw_g (lw_at lw_m5 221 rfl) rfl
theorem q1276 : (Jvm.Cond.methodLink "WheatElevatorLaw" (43 : Nat) ({ cls := "WheatElevatorModel", name := "setDustLimit", desc := "(I)I" } : Jvm.MethodName)) ∈ lw_all := lw_g (lw_at lw_m5 228 rfl) rfl
theorem q1280 : (Jvm.Cond.methodLink "WheatElevatorLaw" (47 : Nat) ({ cls := "WheatElevatorModel", name := "count", desc := "(I)I" } : Jvm.MethodName)) ∈ lw_all := lw_g (lw_at lw_m5 232 rfl) rfl
theorem q1292 : (Jvm.Cond.methodLink "WheatElevatorLaw" (51 : Nat) ({ cls := "WheatElevatorModel", name := "bin", desc := "(II)I" } : Jvm.MethodName)) ∈ lw_all := lw_g (lw_at lw_m6 4 rfl) rfl
theorem q1304 : (Jvm.Cond.methodLink "WheatElevatorLaw" (55 : Nat) ({ cls := "WheatElevatorModel", name := "leg", desc := "(II)I" } : Jvm.MethodName)) ∈ lw_all := lw_g (lw_at lw_m6 16 rfl) rfl
theorem q1316 : (Jvm.Cond.methodLink "WheatElevatorLaw" (59 : Nat) ({ cls := "WheatElevatorModel", name := "price", desc := "(I)I" } : Jvm.MethodName)) ∈ lw_all := lw_g (lw_at lw_m6 28 rfl) rfl
theorem q1320 : (Jvm.Cond.methodLink "WheatElevatorLaw" (64 : Nat) ({ cls := "WheatElevatorModel", name := "book", desc := "(I)J" } : Jvm.MethodName)) ∈ lw_all := lw_g (lw_at lw_m6 32 rfl) rfl
theorem q1325 : (Jvm.Cond.methodLink "WheatElevatorLaw" (69 : Nat) ({ cls := "WheatElevatorModel", name := "audit", desc := "()I" } : Jvm.MethodName)) ∈ lw_all := lw_g (lw_at lw_m6 37 rfl) rfl
theorem q1329 : (Jvm.Cond.methodLink "WheatElevatorLaw" (74 : Nat) ({ cls := "WheatElevatorModel", name := "receive", desc := "(IIIII)I" } : Jvm.MethodName)) ∈ lw_all := lw_g (lw_at lw_m6 41 rfl) rfl
theorem q1370 : (Jvm.Cond.methodLink "WheatElevatorLaw" (79 : Nat) ({ cls := "WheatElevatorModel", name := "move", desc := "(IIII)I" } : Jvm.MethodName)) ∈ lw_all := lw_g (lw_at lw_m6 82 rfl) rfl
theorem q1402 : (Jvm.Cond.methodLink "WheatElevatorLaw" (83 : Nat) ({ cls := "WheatElevatorModel", name := "whyNot", desc := "(IIII)I" } : Jvm.MethodName)) ∈ lw_all := lw_g (lw_at lw_m6 114 rfl) rfl
theorem q1406 : (Jvm.Cond.methodLink "WheatElevatorLaw" (87 : Nat) ({ cls := "WheatElevatorModel", name := "clean", desc := "(II)I" } : Jvm.MethodName)) ∈ lw_all := lw_g (lw_at lw_m6 118 rfl) rfl
theorem q1418 : (Jvm.Cond.methodLink "WheatElevatorLaw" (91 : Nat) ({ cls := "WheatElevatorModel", name := "pass", desc := "(I)I" } : Jvm.MethodName)) ∈ lw_all := lw_g (lw_at lw_m6 130 rfl) rfl
theorem q1422 : (Jvm.Cond.methodLink "WheatElevatorLaw" (95 : Nat) ({ cls := "WheatElevatorModel", name := "dry", desc := "(II)I" } : Jvm.MethodName)) ∈ lw_all := lw_g (lw_at lw_m6 134 rfl) rfl
theorem q1435 : (Jvm.Cond.methodLink "WheatElevatorLaw" (99 : Nat) ({ cls := "WheatElevatorModel", name := "dump", desc := "(I)I" } : Jvm.MethodName)) ∈ lw_all := lw_g (lw_at lw_m6 147 rfl) rfl
theorem q1439 : (Jvm.Cond.methodLink "WheatElevatorLaw" (103 : Nat) ({ cls := "WheatElevatorModel", name := "addContract", desc := "(IIII)I" } : Jvm.MethodName)) ∈ lw_all := lw_g (lw_at lw_m6 151 rfl) rfl
theorem q1443 : (Jvm.Cond.methodLink "WheatElevatorLaw" (107 : Nat) ({ cls := "WheatElevatorModel", name := "contract", desc := "(II)I" } : Jvm.MethodName)) ∈ lw_all := lw_g (lw_at lw_m6 155 rfl) rfl
theorem q1451 : (Jvm.Cond.methodLink "WheatElevatorLaw" (111 : Nat) ({ cls := "WheatElevatorModel", name := "blend", desc := "(II)I" } : Jvm.MethodName)) ∈ lw_all := lw_g (lw_at lw_m6 163 rfl) rfl
theorem q1475 : (Jvm.Cond.methodLink "WheatElevatorLaw" (115 : Nat) ({ cls := "WheatElevatorModel", name := "whyNoBlend", desc := "(II)I" } : Jvm.MethodName)) ∈ lw_all := lw_g (lw_at lw_m6 187 rfl) rfl
theorem q1479 : (Jvm.Cond.methodLink "WheatElevatorLaw" (119 : Nat) ({ cls := "WheatElevatorModel", name := "fromBin", desc := "(III)I" } : Jvm.MethodName)) ∈ lw_all := lw_g (lw_at lw_m6 191 rfl) rfl
theorem q1483 : (Jvm.Cond.methodLink "WheatElevatorLaw" (123 : Nat) ({ cls := "WheatElevatorModel", name := "blendMoisture", desc := "(II)I" } : Jvm.MethodName)) ∈ lw_all := lw_g (lw_at lw_m6 195 rfl) rfl
theorem q1487 : (Jvm.Cond.methodLink "WheatElevatorLaw" (127 : Nat) ({ cls := "WheatElevatorModel", name := "load", desc := "(II)I" } : Jvm.MethodName)) ∈ lw_all := lw_g (lw_at lw_m6 199 rfl) rfl
theorem q1491 : (Jvm.Cond.methodLink "WheatElevatorLaw" (131 : Nat) ({ cls := "WheatElevatorModel", name := "spoilsIn", desc := "(I)I" } : Jvm.MethodName)) ∈ lw_all := lw_g (lw_at lw_m6 203 rfl) rfl
theorem q1495 : (Jvm.Cond.methodLink "WheatElevatorLaw" (135 : Nat) ({ cls := "WheatElevatorModel", name := "stepsTo", desc := "(II)I" } : Jvm.MethodName)) ∈ lw_all := lw_g (lw_at lw_m6 207 rfl) rfl
theorem q1499 : (Jvm.Cond.methodLink "WheatElevatorLaw" (139 : Nat) ({ cls := "WheatElevatorModel", name := "bestLeg", desc := "(IIII)I" } : Jvm.MethodName)) ∈ lw_all := lw_g (lw_at lw_m6 211 rfl) rfl
theorem q1503 : (Jvm.Cond.methodLink "WheatElevatorLaw" (143 : Nat) ({ cls := "WheatElevatorModel", name := "bestBin", desc := "(IIII)I" } : Jvm.MethodName)) ∈ lw_all := lw_g (lw_at lw_m6 215 rfl) rfl
theorem q1507 : (Jvm.Cond.methodLink "WheatElevatorLaw" (147 : Nat) ({ cls := "WheatElevatorModel", name := "type", desc := "(I)I" } : Jvm.MethodName)) ∈ lw_all := lw_g (lw_at lw_m6 219 rfl) rfl
theorem q1511 : (Jvm.Cond.methodLink "WheatElevatorLaw" (151 : Nat) ({ cls := "WheatElevatorModel", name := "clearText", desc := "()I" } : Jvm.MethodName)) ∈ lw_all := lw_g (lw_at lw_m6 223 rfl) rfl
theorem q1515 : (Jvm.Cond.methodLink "WheatElevatorLaw" (155 : Nat) ({ cls := "WheatElevatorModel", name := "textFault", desc := "()I" } : Jvm.MethodName)) ∈ lw_all := lw_g (lw_at lw_m6 227 rfl) rfl
theorem q1539 : (Jvm.Cond.methodLink "WheatElevatorLaw" (159 : Nat) ({ cls := "WheatElevatorModel", name := "orders", desc := "()I" } : Jvm.MethodName)) ∈ lw_all := lw_g (lw_at lw_m7 11 rfl) rfl
theorem q1543 : (Jvm.Cond.methodLink "WheatElevatorLaw" (163 : Nat) ({ cls := "WheatElevatorModel", name := "undo", desc := "()I" } : Jvm.MethodName)) ∈ lw_all := lw_g (lw_at lw_m7 15 rfl) rfl
theorem q1547 : (Jvm.Cond.methodLink "WheatElevatorLaw" (167 : Nat) ({ cls := "WheatElevatorModel", name := "keep", desc := "(I)I" } : Jvm.MethodName)) ∈ lw_all := lw_g (lw_at lw_m7 19 rfl) rfl
theorem q1551 : (Jvm.Cond.methodLink "WheatElevatorLaw" (171 : Nat) ({ cls := "WheatElevatorModel", name := "back", desc := "(I)I" } : Jvm.MethodName)) ∈ lw_all := lw_g (lw_at lw_m7 23 rfl) rfl
theorem q1555 : (Jvm.Cond.methodLink "WheatElevatorLaw" (176 : Nat) ({ cls := "WheatElevatorModel", name := "digest", desc := "()J" } : Jvm.MethodName)) ∈ lw_all := lw_g (lw_at lw_m7 27 rfl) rfl

theorem q1117 : (Jvm.Cond.interfaceMethod "WheatElevator$Deed" "WheatElevator$Deed" "of" "([I)I") ∈ lw_tbl := lw_at lw_m5 69 rfl
set_option maxRecDepth 100000
theorem q1118 : (Jvm.Cond.declares ({ cls := "WheatElevator$Deed", name := "of", desc := "([I)I" } : Jvm.MethodName)) ∈ lw_tbl := lw_at lw_m5 70 rfl

theorem q965 : (Jvm.Cond.sameMethod "[B" "java/lang/Object" "clone" "()Ljava/lang/Object;") ∈ lw_all := lw_g (lw_at lw_m4 157 rfl) rfl
set_option maxRecDepth 100000
theorem q968 : (Jvm.Cond.selects "[B" ({ cls := "[B", name := "clone", desc := "()Ljava/lang/Object;" } : Jvm.MethodName) ({ cls := "java/lang/Object", name := "clone", desc := "()Ljava/lang/Object;" } : Jvm.MethodName)) ∈ lw_all := lw_g (lw_at lw_m4 160 rfl) rfl
theorem q969 : (Jvm.Cond.castable "[B" "java/lang/Cloneable") ∈ lw_tbl := lw_at lw_m4 161 rfl
theorem q1591 : (Jvm.Cond.castable "[B" "java/lang/Object") ∈ lw_tbl := lw_at lw_m7 63 rfl

theorem q1589 : (Jvm.Cond.castable "[I" "java/lang/Object") ∈ lw_tbl := lw_at lw_m7 61 rfl
set_option maxRecDepth 100000

theorem q1593 : (Jvm.Cond.castable "[J" "java/lang/Object") ∈ lw_tbl := lw_at lw_m7 65 rfl
set_option maxRecDepth 100000

theorem q1592 : (Jvm.Cond.castable "[LWheatElevator$Order;" "java/lang/Object") ∈ lw_tbl := lw_at lw_m7 64 rfl
set_option maxRecDepth 100000

theorem q1590 : (Jvm.Cond.castable "[LWheatElevator$State;" "java/lang/Object") ∈ lw_tbl := lw_at lw_m7 62 rfl
set_option maxRecDepth 100000

theorem q1585 : (Jvm.Cond.sameMethod "[Ljava/lang/Object;" "java/lang/Object" "getClass" "()Ljava/lang/Class;") ∈ lw_all := lw_g (lw_at lw_m7 57 rfl) rfl
set_option maxRecDepth 100000
theorem q1586 : (Jvm.Cond.selects "[Ljava/lang/Object;" ({ cls := "java/lang/Object", name := "getClass", desc := "()Ljava/lang/Class;" } : Jvm.MethodName) ({ cls := "java/lang/Object", name := "getClass", desc := "()Ljava/lang/Class;" } : Jvm.MethodName)) ∈ lw_all := lw_g (lw_at lw_m7 58 rfl) rfl
theorem q1588 : (Jvm.Cond.castable "[Ljava/lang/Object;" "java/lang/Object") ∈ lw_tbl := lw_at lw_m7 60 rfl

theorem q1594 : (Jvm.Cond.castable "[Z" "java/lang/Object") ∈ lw_tbl := lw_at lw_m7 66 rfl
set_option maxRecDepth 100000

theorem q105 : (Jvm.Cond.initialized "java/lang/System") ∈ lw_all := lw_g (lw_at lw_m1 17 rfl) rfl
set_option maxRecDepth 100000
theorem q580 : (Jvm.Cond.static ({ cls := "java/lang/System", name := "arraycopy", desc := "(Ljava/lang/Object;ILjava/lang/Object;II)V" } : Jvm.MethodName)) ∈ lw_all := lw_g (lw_at lw_m3 12 rfl) rfl
theorem q581 : (Jvm.Cond.native ({ cls := "java/lang/System", name := "arraycopy", desc := "(Ljava/lang/Object;ILjava/lang/Object;II)V" } : Jvm.MethodName)) ∈ lw_all := lw_g (lw_at lw_m3 13 rfl) rfl

theorem q139 : (Jvm.Cond.arrayOver (Jvm.ClassFile.FieldType.object "java/lang/Object")) ∈ lw_tbl := lw_at lw_m1 51 rfl
set_option maxRecDepth 100000
theorem q207 : (Jvm.Cond.arrayClass Jvm.ClassFile.FieldType.int) ∈ lw_all := lw_g (lw_at lw_m1 119 rfl) rfl
theorem q226 : (Jvm.Cond.arrayOver (Jvm.ClassFile.FieldType.object "WheatElevator$State")) ∈ lw_tbl := lw_at lw_m1 138 rfl
theorem q258 : (Jvm.Cond.arrayClass Jvm.ClassFile.FieldType.byte) ∈ lw_all := lw_g (lw_at lw_m1 170 rfl) rfl
theorem q260 : (Jvm.Cond.arrayOver (Jvm.ClassFile.FieldType.object "WheatElevator$Order")) ∈ lw_tbl := lw_at lw_m1 172 rfl
theorem q1212 : (Jvm.Cond.arrayClass Jvm.ClassFile.FieldType.long) ∈ lw_all := lw_g (lw_at lw_m5 164 rfl) rfl
theorem q1213 : (Jvm.Cond.arrayClass Jvm.ClassFile.FieldType.boolean) ∈ lw_all := lw_g (lw_at lw_m5 165 rfl) rfl

