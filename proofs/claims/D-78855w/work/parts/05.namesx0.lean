/-! WheatElevator -/
set_option maxRecDepth 100000
def RX0 : String := "WheatElevator"
def TX0 : u_T := fun k => match k with
  | 0 => ("WheatElevator", "state", "LWheatElevator$State;", false)
  | 1 => ("WheatElevator", "history", "Ljava/util/ArrayDeque;", true)
  | 2 => ("WheatElevator", "images", "[LWheatElevator$State;", true)
  | 3 => ("WheatElevator", "order", "[I", true)
  | 4 => ("WheatElevator", "useful", "I", false)
  | 5 => ("WheatElevator", "takes", "[I", true)
  | 6 => ("WheatElevator", "bestNumber", "I", false)
  | 7 => ("WheatElevator", "text", "Ljava/lang/StringBuilder;", true)
  | _ => ("WheatElevator", "kinds", "[LWheatElevator$Order;", true)
def tyX0 : Nat → FieldType := fun k => match k with
  | 0 => .object "WheatElevator$State"
  | 1 => .object "java/util/ArrayDeque"
  | 2 => .array (.object "WheatElevator$State")
  | 3 => .array .int
  | 4 => .int
  | 5 => .array .int
  | 6 => .int
  | 7 => .object "java/lang/StringBuilder"
  | _ => .array (.object "WheatElevator$Order")
abbrev wsX00 : List Cond := u_ws RX0 TX0 9
theorem nmX0 : ∀ a, a < 9 → ∀ b, b < 9 → a ≠ b → (TX0 a).2.1 ≠ (TX0 b).2.1 := by decide +kernel
theorem tyX0_ok : ∀ k, k < 9 → parseFieldDescriptor (TX0 k).2.2.1 = some (tyX0 k) := by decide +kernel
abbrev cX0_init : ByteArray := prog_1_method_6_code
def yX0_init : MethodName := ⟨RX0, "<init>", "()V"⟩
def dkwX0_init_7 : List UInt8 := [16, 100, 5, 42, 186, 0, 65, 0, 0, 42, 186, 0, 66, 0, 0, 183, 0, 58, 83, 177]
abbrev dktX0_init_7 : List UInt8 := dkwX0_init_7 ++ []
def dkwX0_init_6 : List UInt8 := [186, 0, 63, 0, 0, 42, 186, 0, 64, 0, 0, 183, 0, 58, 83, 42, 180, 0, 49, 6, 187, 0, 47, 89]
abbrev dktX0_init_6 : List UInt8 := dkwX0_init_6 ++ dktX0_init_7
def dkwX0_init_5 : List UInt8 := [186, 0, 62, 0, 0, 183, 0, 58, 83, 42, 180, 0, 49, 5, 187, 0, 47, 89, 16, 99, 5, 42]
abbrev dktX0_init_5 : List UInt8 := dkwX0_init_5 ++ dktX0_init_6
def dkwX0_init_4 : List UInt8 := [183, 0, 58, 83, 42, 180, 0, 49, 4, 187, 0, 47, 89, 16, 109, 7, 42, 186, 0, 61, 0, 0, 42]
abbrev dktX0_init_4 : List UInt8 := dkwX0_init_4 ++ dktX0_init_5
def dkwX0_init_3 : List UInt8 := [42, 180, 0, 49, 3, 187, 0, 47, 89, 16, 114, 8, 42, 186, 0, 53, 0, 0, 42, 186, 0, 57, 0, 0]
abbrev dktX0_init_3 : List UInt8 := dkwX0_init_3 ++ dktX0_init_4
def dkwX0_init_2 : List UInt8 := [181, 0, 37, 42, 187, 0, 40, 89, 16, 120, 183, 0, 42, 181, 0, 43, 42, 7, 189, 0, 47, 181, 0, 49]
abbrev dktX0_init_2 : List UInt8 := dkwX0_init_2 ++ dktX0_init_3
def dkwX0_init_1 : List UInt8 := [181, 0, 25, 42, 5, 189, 0, 13, 181, 0, 29, 42, 16, 8, 188, 10, 181, 0, 33, 42, 16, 8, 188, 10]
abbrev dktX0_init_1 : List UInt8 := dkwX0_init_1 ++ dktX0_init_2
def dkwX0_init_0 : List UInt8 := [42, 183, 0, 7, 42, 187, 0, 13, 89, 183, 0, 15, 181, 0, 16, 42, 187, 0, 20, 89, 8, 183, 0, 22]
abbrev dktX0_init_0 : List UInt8 := dkwX0_init_0 ++ dktX0_init_1
theorem dksX0_init_0 : cX0_init.data.toList.drop 0 = dktX0_init_0 := by decide +kernel
theorem dksX0_init_1 : cX0_init.data.toList.drop 24 = dktX0_init_1 := dk_seg dksX0_init_0 24 rfl rfl
theorem dksX0_init_2 : cX0_init.data.toList.drop 48 = dktX0_init_2 := dk_seg dksX0_init_1 24 rfl rfl
theorem dksX0_init_3 : cX0_init.data.toList.drop 72 = dktX0_init_3 := dk_seg dksX0_init_2 24 rfl rfl
theorem dksX0_init_4 : cX0_init.data.toList.drop 96 = dktX0_init_4 := dk_seg dksX0_init_3 24 rfl rfl
theorem dksX0_init_5 : cX0_init.data.toList.drop 119 = dktX0_init_5 := dk_seg dksX0_init_4 23 rfl rfl
theorem dksX0_init_6 : cX0_init.data.toList.drop 141 = dktX0_init_6 := dk_seg dksX0_init_5 22 rfl rfl
theorem dksX0_init_7 : cX0_init.data.toList.drop 165 = dktX0_init_7 := dk_seg dksX0_init_6 24 rfl rfl
theorem dX0_init_0 : decode cX0_init 0 = .ok (.aload_n 0, 1) := dk_42 (dk_at dksX0_init_0 0 rfl rfl)
theorem dX0_init_1 : decode cX0_init 1 = .ok (.invokespecial 7, 3) := dk_183 0 7 (dk_at dksX0_init_0 1 rfl rfl)
theorem dX0_init_4 : decode cX0_init 4 = .ok (.aload_n 0, 1) := dk_42 (dk_at dksX0_init_0 4 rfl rfl)
theorem dX0_init_5 : decode cX0_init 5 = .ok (.new 13, 3) := dk_187 0 13 (dk_at dksX0_init_0 5 rfl rfl)
theorem dX0_init_8 : decode cX0_init 8 = .ok (.dup, 1) := dk_89 (dk_at dksX0_init_0 8 rfl rfl)
theorem dX0_init_9 : decode cX0_init 9 = .ok (.invokespecial 15, 3) := dk_183 0 15 (dk_at dksX0_init_0 9 rfl rfl)
theorem dX0_init_12 : decode cX0_init 12 = .ok (.putfield 16, 3) := dk_181 0 16 (dk_at dksX0_init_0 12 rfl rfl)
theorem dX0_init_15 : decode cX0_init 15 = .ok (.aload_n 0, 1) := dk_42 (dk_at dksX0_init_0 15 rfl rfl)
theorem dX0_init_16 : decode cX0_init 16 = .ok (.new 20, 3) := dk_187 0 20 (dk_at dksX0_init_0 16 rfl rfl)
theorem dX0_init_19 : decode cX0_init 19 = .ok (.dup, 1) := dk_89 (dk_at dksX0_init_0 19 rfl rfl)
theorem dX0_init_20 : decode cX0_init 20 = .ok (.iconst 5, 1) := dk_8 (dk_at dksX0_init_0 20 rfl rfl)
theorem dX0_init_21 : decode cX0_init 21 = .ok (.invokespecial 22, 3) := dk_183 0 22 (dk_at dksX0_init_0 21 rfl rfl)
theorem dX0_init_24 : decode cX0_init 24 = .ok (.putfield 25, 3) := dk_181 0 25 (dk_at dksX0_init_1 0 rfl rfl)
theorem dX0_init_27 : decode cX0_init 27 = .ok (.aload_n 0, 1) := dk_42 (dk_at dksX0_init_1 3 rfl rfl)
theorem dX0_init_28 : decode cX0_init 28 = .ok (.iconst 2, 1) := dk_5 (dk_at dksX0_init_1 4 rfl rfl)
theorem dX0_init_29 : decode cX0_init 29 = .ok (.anewarray 13, 3) := dk_189 0 13 (dk_at dksX0_init_1 5 rfl rfl)
theorem dX0_init_32 : decode cX0_init 32 = .ok (.putfield 29, 3) := dk_181 0 29 (dk_at dksX0_init_1 8 rfl rfl)
theorem dX0_init_35 : decode cX0_init 35 = .ok (.aload_n 0, 1) := dk_42 (dk_at dksX0_init_1 11 rfl rfl)
theorem dX0_init_36 : decode cX0_init 36 = .ok (.bipush 8, 2) := dk_16 8 (dk_at dksX0_init_1 12 rfl rfl)
theorem dX0_init_38 : decode cX0_init 38 = .ok (.newarray .int, 2) := dk_188_10 (dk_at dksX0_init_1 14 rfl rfl)
theorem dX0_init_40 : decode cX0_init 40 = .ok (.putfield 33, 3) := dk_181 0 33 (dk_at dksX0_init_1 16 rfl rfl)
theorem dX0_init_43 : decode cX0_init 43 = .ok (.aload_n 0, 1) := dk_42 (dk_at dksX0_init_1 19 rfl rfl)
theorem dX0_init_44 : decode cX0_init 44 = .ok (.bipush 8, 2) := dk_16 8 (dk_at dksX0_init_1 20 rfl rfl)
theorem dX0_init_46 : decode cX0_init 46 = .ok (.newarray .int, 2) := dk_188_10 (dk_at dksX0_init_1 22 rfl rfl)
theorem dX0_init_48 : decode cX0_init 48 = .ok (.putfield 37, 3) := dk_181 0 37 (dk_at dksX0_init_2 0 rfl rfl)
theorem dX0_init_51 : decode cX0_init 51 = .ok (.aload_n 0, 1) := dk_42 (dk_at dksX0_init_2 3 rfl rfl)
theorem dX0_init_52 : decode cX0_init 52 = .ok (.new 40, 3) := dk_187 0 40 (dk_at dksX0_init_2 4 rfl rfl)
theorem dX0_init_55 : decode cX0_init 55 = .ok (.dup, 1) := dk_89 (dk_at dksX0_init_2 7 rfl rfl)
theorem dX0_init_56 : decode cX0_init 56 = .ok (.bipush 120, 2) := dk_16 120 (dk_at dksX0_init_2 8 rfl rfl)
theorem dX0_init_58 : decode cX0_init 58 = .ok (.invokespecial 42, 3) := dk_183 0 42 (dk_at dksX0_init_2 10 rfl rfl)
theorem dX0_init_61 : decode cX0_init 61 = .ok (.putfield 43, 3) := dk_181 0 43 (dk_at dksX0_init_2 13 rfl rfl)
theorem dX0_init_64 : decode cX0_init 64 = .ok (.aload_n 0, 1) := dk_42 (dk_at dksX0_init_2 16 rfl rfl)
theorem dX0_init_65 : decode cX0_init 65 = .ok (.iconst 4, 1) := dk_7 (dk_at dksX0_init_2 17 rfl rfl)
theorem dX0_init_66 : decode cX0_init 66 = .ok (.anewarray 47, 3) := dk_189 0 47 (dk_at dksX0_init_2 18 rfl rfl)
theorem dX0_init_69 : decode cX0_init 69 = .ok (.putfield 49, 3) := dk_181 0 49 (dk_at dksX0_init_2 21 rfl rfl)
theorem dX0_init_72 : decode cX0_init 72 = .ok (.aload_n 0, 1) := dk_42 (dk_at dksX0_init_3 0 rfl rfl)
theorem dX0_init_73 : decode cX0_init 73 = .ok (.getfield 49, 3) := dk_180 0 49 (dk_at dksX0_init_3 1 rfl rfl)
theorem dX0_init_76 : decode cX0_init 76 = .ok (.iconst 0, 1) := dk_3 (dk_at dksX0_init_3 4 rfl rfl)
theorem dX0_init_77 : decode cX0_init 77 = .ok (.new 47, 3) := dk_187 0 47 (dk_at dksX0_init_3 5 rfl rfl)
theorem dX0_init_80 : decode cX0_init 80 = .ok (.dup, 1) := dk_89 (dk_at dksX0_init_3 8 rfl rfl)
theorem dX0_init_81 : decode cX0_init 81 = .ok (.bipush 114, 2) := dk_16 114 (dk_at dksX0_init_3 9 rfl rfl)
theorem dX0_init_83 : decode cX0_init 83 = .ok (.iconst 5, 1) := dk_8 (dk_at dksX0_init_3 11 rfl rfl)
theorem dX0_init_84 : decode cX0_init 84 = .ok (.aload_n 0, 1) := dk_42 (dk_at dksX0_init_3 12 rfl rfl)
theorem dX0_init_85 : decode cX0_init 85 = .ok (.invokedynamic 53, 5) := by decide +kernel
theorem dX0_init_90 : decode cX0_init 90 = .ok (.aload_n 0, 1) := dk_42 (dk_at dksX0_init_3 18 rfl rfl)
theorem dX0_init_91 : decode cX0_init 91 = .ok (.invokedynamic 57, 5) := by decide +kernel
theorem dX0_init_96 : decode cX0_init 96 = .ok (.invokespecial 58, 3) := dk_183 0 58 (dk_at dksX0_init_4 0 rfl rfl)
theorem dX0_init_99 : decode cX0_init 99 = .ok (.aastore, 1) := dk_83 (dk_at dksX0_init_4 3 rfl rfl)
theorem dX0_init_100 : decode cX0_init 100 = .ok (.aload_n 0, 1) := dk_42 (dk_at dksX0_init_4 4 rfl rfl)
theorem dX0_init_101 : decode cX0_init 101 = .ok (.getfield 49, 3) := dk_180 0 49 (dk_at dksX0_init_4 5 rfl rfl)
theorem dX0_init_104 : decode cX0_init 104 = .ok (.iconst 1, 1) := dk_4 (dk_at dksX0_init_4 8 rfl rfl)
theorem dX0_init_105 : decode cX0_init 105 = .ok (.new 47, 3) := dk_187 0 47 (dk_at dksX0_init_4 9 rfl rfl)
theorem dX0_init_108 : decode cX0_init 108 = .ok (.dup, 1) := dk_89 (dk_at dksX0_init_4 12 rfl rfl)
theorem dX0_init_109 : decode cX0_init 109 = .ok (.bipush 109, 2) := dk_16 109 (dk_at dksX0_init_4 13 rfl rfl)
theorem dX0_init_111 : decode cX0_init 111 = .ok (.iconst 4, 1) := dk_7 (dk_at dksX0_init_4 15 rfl rfl)
theorem dX0_init_112 : decode cX0_init 112 = .ok (.aload_n 0, 1) := dk_42 (dk_at dksX0_init_4 16 rfl rfl)
theorem dX0_init_113 : decode cX0_init 113 = .ok (.invokedynamic 61, 5) := by decide +kernel
theorem dX0_init_118 : decode cX0_init 118 = .ok (.aload_n 0, 1) := dk_42 (dk_at dksX0_init_4 22 rfl rfl)
theorem dX0_init_119 : decode cX0_init 119 = .ok (.invokedynamic 62, 5) := by decide +kernel
theorem dX0_init_124 : decode cX0_init 124 = .ok (.invokespecial 58, 3) := dk_183 0 58 (dk_at dksX0_init_5 5 rfl rfl)
theorem dX0_init_127 : decode cX0_init 127 = .ok (.aastore, 1) := dk_83 (dk_at dksX0_init_5 8 rfl rfl)
theorem dX0_init_128 : decode cX0_init 128 = .ok (.aload_n 0, 1) := dk_42 (dk_at dksX0_init_5 9 rfl rfl)
theorem dX0_init_129 : decode cX0_init 129 = .ok (.getfield 49, 3) := dk_180 0 49 (dk_at dksX0_init_5 10 rfl rfl)
theorem dX0_init_132 : decode cX0_init 132 = .ok (.iconst 2, 1) := dk_5 (dk_at dksX0_init_5 13 rfl rfl)
theorem dX0_init_133 : decode cX0_init 133 = .ok (.new 47, 3) := dk_187 0 47 (dk_at dksX0_init_5 14 rfl rfl)
theorem dX0_init_136 : decode cX0_init 136 = .ok (.dup, 1) := dk_89 (dk_at dksX0_init_5 17 rfl rfl)
theorem dX0_init_137 : decode cX0_init 137 = .ok (.bipush 99, 2) := dk_16 99 (dk_at dksX0_init_5 18 rfl rfl)
theorem dX0_init_139 : decode cX0_init 139 = .ok (.iconst 2, 1) := dk_5 (dk_at dksX0_init_5 20 rfl rfl)
theorem dX0_init_140 : decode cX0_init 140 = .ok (.aload_n 0, 1) := dk_42 (dk_at dksX0_init_5 21 rfl rfl)
theorem dX0_init_141 : decode cX0_init 141 = .ok (.invokedynamic 63, 5) := by decide +kernel
theorem dX0_init_146 : decode cX0_init 146 = .ok (.aload_n 0, 1) := dk_42 (dk_at dksX0_init_6 5 rfl rfl)
theorem dX0_init_147 : decode cX0_init 147 = .ok (.invokedynamic 64, 5) := by decide +kernel
theorem dX0_init_152 : decode cX0_init 152 = .ok (.invokespecial 58, 3) := dk_183 0 58 (dk_at dksX0_init_6 11 rfl rfl)
theorem dX0_init_155 : decode cX0_init 155 = .ok (.aastore, 1) := dk_83 (dk_at dksX0_init_6 14 rfl rfl)
theorem dX0_init_156 : decode cX0_init 156 = .ok (.aload_n 0, 1) := dk_42 (dk_at dksX0_init_6 15 rfl rfl)
theorem dX0_init_157 : decode cX0_init 157 = .ok (.getfield 49, 3) := dk_180 0 49 (dk_at dksX0_init_6 16 rfl rfl)
theorem dX0_init_160 : decode cX0_init 160 = .ok (.iconst 3, 1) := dk_6 (dk_at dksX0_init_6 19 rfl rfl)
theorem dX0_init_161 : decode cX0_init 161 = .ok (.new 47, 3) := dk_187 0 47 (dk_at dksX0_init_6 20 rfl rfl)
theorem dX0_init_164 : decode cX0_init 164 = .ok (.dup, 1) := dk_89 (dk_at dksX0_init_6 23 rfl rfl)
theorem dX0_init_165 : decode cX0_init 165 = .ok (.bipush 100, 2) := dk_16 100 (dk_at dksX0_init_7 0 rfl rfl)
theorem dX0_init_167 : decode cX0_init 167 = .ok (.iconst 2, 1) := dk_5 (dk_at dksX0_init_7 2 rfl rfl)
theorem dX0_init_168 : decode cX0_init 168 = .ok (.aload_n 0, 1) := dk_42 (dk_at dksX0_init_7 3 rfl rfl)
theorem dX0_init_169 : decode cX0_init 169 = .ok (.invokedynamic 65, 5) := by decide +kernel
theorem dX0_init_174 : decode cX0_init 174 = .ok (.aload_n 0, 1) := dk_42 (dk_at dksX0_init_7 9 rfl rfl)
theorem dX0_init_175 : decode cX0_init 175 = .ok (.invokedynamic 66, 5) := by decide +kernel
theorem dX0_init_180 : decode cX0_init 180 = .ok (.invokespecial 58, 3) := dk_183 0 58 (dk_at dksX0_init_7 15 rfl rfl)
theorem dX0_init_183 : decode cX0_init 183 = .ok (.aastore, 1) := dk_83 (dk_at dksX0_init_7 18 rfl rfl)
theorem dX0_init_184 : decode cX0_init 184 = .ok (.return_, 1) := dk_177 (dk_at dksX0_init_7 19 rfl rfl)
abbrev cX0_lambda_new_0 : ByteArray := prog_1_method_84_code
def yX0_lambda_new_0 : MethodName := ⟨RX0, "lambda$new$0", "([I)I"⟩
def dkwX0_lambda_new_0_0 : List UInt8 := [42, 43, 3, 46, 43, 4, 46, 43, 5, 46, 43, 6, 46, 43, 7, 46, 182, 0, 254, 172]
abbrev dktX0_lambda_new_0_0 : List UInt8 := dkwX0_lambda_new_0_0 ++ []
theorem dksX0_lambda_new_0_0 : cX0_lambda_new_0.data.toList.drop 0 = dktX0_lambda_new_0_0 := by decide +kernel
theorem dX0_lambda_new_0_0 : decode cX0_lambda_new_0 0 = .ok (.aload_n 0, 1) := dk_42 (dk_at dksX0_lambda_new_0_0 0 rfl rfl)
theorem dX0_lambda_new_0_1 : decode cX0_lambda_new_0 1 = .ok (.aload_n 1, 1) := dk_43 (dk_at dksX0_lambda_new_0_0 1 rfl rfl)
theorem dX0_lambda_new_0_2 : decode cX0_lambda_new_0 2 = .ok (.iconst 0, 1) := dk_3 (dk_at dksX0_lambda_new_0_0 2 rfl rfl)
theorem dX0_lambda_new_0_3 : decode cX0_lambda_new_0 3 = .ok (.iaload, 1) := dk_46 (dk_at dksX0_lambda_new_0_0 3 rfl rfl)
theorem dX0_lambda_new_0_4 : decode cX0_lambda_new_0 4 = .ok (.aload_n 1, 1) := dk_43 (dk_at dksX0_lambda_new_0_0 4 rfl rfl)
theorem dX0_lambda_new_0_5 : decode cX0_lambda_new_0 5 = .ok (.iconst 1, 1) := dk_4 (dk_at dksX0_lambda_new_0_0 5 rfl rfl)
theorem dX0_lambda_new_0_6 : decode cX0_lambda_new_0 6 = .ok (.iaload, 1) := dk_46 (dk_at dksX0_lambda_new_0_0 6 rfl rfl)
theorem dX0_lambda_new_0_7 : decode cX0_lambda_new_0 7 = .ok (.aload_n 1, 1) := dk_43 (dk_at dksX0_lambda_new_0_0 7 rfl rfl)
theorem dX0_lambda_new_0_8 : decode cX0_lambda_new_0 8 = .ok (.iconst 2, 1) := dk_5 (dk_at dksX0_lambda_new_0_0 8 rfl rfl)
theorem dX0_lambda_new_0_9 : decode cX0_lambda_new_0 9 = .ok (.iaload, 1) := dk_46 (dk_at dksX0_lambda_new_0_0 9 rfl rfl)
theorem dX0_lambda_new_0_10 : decode cX0_lambda_new_0 10 = .ok (.aload_n 1, 1) := dk_43 (dk_at dksX0_lambda_new_0_0 10 rfl rfl)
theorem dX0_lambda_new_0_11 : decode cX0_lambda_new_0 11 = .ok (.iconst 3, 1) := dk_6 (dk_at dksX0_lambda_new_0_0 11 rfl rfl)
theorem dX0_lambda_new_0_12 : decode cX0_lambda_new_0 12 = .ok (.iaload, 1) := dk_46 (dk_at dksX0_lambda_new_0_0 12 rfl rfl)
theorem dX0_lambda_new_0_13 : decode cX0_lambda_new_0 13 = .ok (.aload_n 1, 1) := dk_43 (dk_at dksX0_lambda_new_0_0 13 rfl rfl)
theorem dX0_lambda_new_0_14 : decode cX0_lambda_new_0 14 = .ok (.iconst 4, 1) := dk_7 (dk_at dksX0_lambda_new_0_0 14 rfl rfl)
theorem dX0_lambda_new_0_15 : decode cX0_lambda_new_0 15 = .ok (.iaload, 1) := dk_46 (dk_at dksX0_lambda_new_0_0 15 rfl rfl)
theorem dX0_lambda_new_0_16 : decode cX0_lambda_new_0 16 = .ok (.invokevirtual 254, 3) := dk_182 0 254 (dk_at dksX0_lambda_new_0_0 16 rfl rfl)
theorem dX0_lambda_new_0_19 : decode cX0_lambda_new_0 19 = .ok (.ireturn, 1) := dk_172 (dk_at dksX0_lambda_new_0_0 19 rfl rfl)
abbrev cX0_receiveFault : ByteArray := prog_1_method_30_code
def yX0_receiveFault : MethodName := ⟨RX0, "receiveFault", "(IIIII)I"⟩
def dkwX0_receiveFault_5 : List UInt8 := [182, 0, 232, 133, 182, 0, 235, 153, 0, 7, 3, 167, 0, 5, 16, 251, 172]
abbrev dktX0_receiveFault_5 : List UInt8 := dkwX0_receiveFault_5 ++ []
def dkwX0_receiveFault_4 : List UInt8 := [54, 6, 21, 6, 158, 0, 10, 42, 21, 6, 182, 0, 229, 172, 42, 42, 180, 0, 16, 27, 21, 4]
abbrev dktX0_receiveFault_4 : List UInt8 := dkwX0_receiveFault_4 ++ dktX0_receiveFault_5
def dkwX0_receiveFault_3 : List UInt8 := [184, 0, 222, 154, 0, 6, 16, 253, 172, 42, 180, 0, 16, 27, 28, 29, 21, 4, 21, 5, 182, 0, 225]
abbrev dktX0_receiveFault_3 : List UInt8 := dkwX0_receiveFault_3 ++ dktX0_receiveFault_4
def dkwX0_receiveFault_2 : List UInt8 := [184, 0, 137, 154, 0, 6, 16, 254, 172, 21, 4, 4, 17, 19, 136, 184, 0, 1, 153, 0, 11, 21, 5]
abbrev dktX0_receiveFault_2 : List UInt8 := dkwX0_receiveFault_2 ++ dktX0_receiveFault_3
def dkwX0_receiveFault_1 : List UInt8 := [79, 89, 6, 42, 180, 0, 16, 180, 0, 82, 182, 0, 86, 79, 89, 7, 29, 79, 89, 8, 7, 79]
abbrev dktX0_receiveFault_1 : List UInt8 := dkwX0_receiveFault_1 ++ dktX0_receiveFault_2
def dkwX0_receiveFault_0 : List UInt8 := [16, 6, 188, 10, 89, 3, 27, 79, 89, 4, 42, 180, 0, 16, 180, 0, 89, 182, 0, 86, 79, 89, 5, 28]
abbrev dktX0_receiveFault_0 : List UInt8 := dkwX0_receiveFault_0 ++ dktX0_receiveFault_1
theorem dksX0_receiveFault_0 : cX0_receiveFault.data.toList.drop 0 = dktX0_receiveFault_0 := by decide +kernel
theorem dksX0_receiveFault_1 : cX0_receiveFault.data.toList.drop 24 = dktX0_receiveFault_1 := dk_seg dksX0_receiveFault_0 24 rfl rfl
theorem dksX0_receiveFault_2 : cX0_receiveFault.data.toList.drop 46 = dktX0_receiveFault_2 := dk_seg dksX0_receiveFault_1 22 rfl rfl
theorem dksX0_receiveFault_3 : cX0_receiveFault.data.toList.drop 69 = dktX0_receiveFault_3 := dk_seg dksX0_receiveFault_2 23 rfl rfl
theorem dksX0_receiveFault_4 : cX0_receiveFault.data.toList.drop 92 = dktX0_receiveFault_4 := dk_seg dksX0_receiveFault_3 23 rfl rfl
theorem dksX0_receiveFault_5 : cX0_receiveFault.data.toList.drop 114 = dktX0_receiveFault_5 := dk_seg dksX0_receiveFault_4 22 rfl rfl
theorem dX0_receiveFault_0 : decode cX0_receiveFault 0 = .ok (.bipush 6, 2) := dk_16 6 (dk_at dksX0_receiveFault_0 0 rfl rfl)
theorem dX0_receiveFault_2 : decode cX0_receiveFault 2 = .ok (.newarray .int, 2) := dk_188_10 (dk_at dksX0_receiveFault_0 2 rfl rfl)
theorem dX0_receiveFault_4 : decode cX0_receiveFault 4 = .ok (.dup, 1) := dk_89 (dk_at dksX0_receiveFault_0 4 rfl rfl)
theorem dX0_receiveFault_5 : decode cX0_receiveFault 5 = .ok (.iconst 0, 1) := dk_3 (dk_at dksX0_receiveFault_0 5 rfl rfl)
theorem dX0_receiveFault_6 : decode cX0_receiveFault 6 = .ok (.iload_n 1, 1) := dk_27 (dk_at dksX0_receiveFault_0 6 rfl rfl)
theorem dX0_receiveFault_7 : decode cX0_receiveFault 7 = .ok (.iastore, 1) := dk_79 (dk_at dksX0_receiveFault_0 7 rfl rfl)
theorem dX0_receiveFault_8 : decode cX0_receiveFault 8 = .ok (.dup, 1) := dk_89 (dk_at dksX0_receiveFault_0 8 rfl rfl)
theorem dX0_receiveFault_9 : decode cX0_receiveFault 9 = .ok (.iconst 1, 1) := dk_4 (dk_at dksX0_receiveFault_0 9 rfl rfl)
theorem dX0_receiveFault_10 : decode cX0_receiveFault 10 = .ok (.aload_n 0, 1) := dk_42 (dk_at dksX0_receiveFault_0 10 rfl rfl)
theorem dX0_receiveFault_11 : decode cX0_receiveFault 11 = .ok (.getfield 16, 3) := dk_180 0 16 (dk_at dksX0_receiveFault_0 11 rfl rfl)
theorem dX0_receiveFault_14 : decode cX0_receiveFault 14 = .ok (.getfield 89, 3) := dk_180 0 89 (dk_at dksX0_receiveFault_0 14 rfl rfl)
theorem dX0_receiveFault_17 : decode cX0_receiveFault 17 = .ok (.invokevirtual 86, 3) := dk_182 0 86 (dk_at dksX0_receiveFault_0 17 rfl rfl)
theorem dX0_receiveFault_20 : decode cX0_receiveFault 20 = .ok (.iastore, 1) := dk_79 (dk_at dksX0_receiveFault_0 20 rfl rfl)
theorem dX0_receiveFault_21 : decode cX0_receiveFault 21 = .ok (.dup, 1) := dk_89 (dk_at dksX0_receiveFault_0 21 rfl rfl)
theorem dX0_receiveFault_22 : decode cX0_receiveFault 22 = .ok (.iconst 2, 1) := dk_5 (dk_at dksX0_receiveFault_0 22 rfl rfl)
theorem dX0_receiveFault_23 : decode cX0_receiveFault 23 = .ok (.iload_n 2, 1) := dk_28 (dk_at dksX0_receiveFault_0 23 rfl rfl)
theorem dX0_receiveFault_24 : decode cX0_receiveFault 24 = .ok (.iastore, 1) := dk_79 (dk_at dksX0_receiveFault_1 0 rfl rfl)
theorem dX0_receiveFault_25 : decode cX0_receiveFault 25 = .ok (.dup, 1) := dk_89 (dk_at dksX0_receiveFault_1 1 rfl rfl)
theorem dX0_receiveFault_26 : decode cX0_receiveFault 26 = .ok (.iconst 3, 1) := dk_6 (dk_at dksX0_receiveFault_1 2 rfl rfl)
theorem dX0_receiveFault_27 : decode cX0_receiveFault 27 = .ok (.aload_n 0, 1) := dk_42 (dk_at dksX0_receiveFault_1 3 rfl rfl)
theorem dX0_receiveFault_28 : decode cX0_receiveFault 28 = .ok (.getfield 16, 3) := dk_180 0 16 (dk_at dksX0_receiveFault_1 4 rfl rfl)
theorem dX0_receiveFault_31 : decode cX0_receiveFault 31 = .ok (.getfield 82, 3) := dk_180 0 82 (dk_at dksX0_receiveFault_1 7 rfl rfl)
theorem dX0_receiveFault_34 : decode cX0_receiveFault 34 = .ok (.invokevirtual 86, 3) := dk_182 0 86 (dk_at dksX0_receiveFault_1 10 rfl rfl)
theorem dX0_receiveFault_37 : decode cX0_receiveFault 37 = .ok (.iastore, 1) := dk_79 (dk_at dksX0_receiveFault_1 13 rfl rfl)
theorem dX0_receiveFault_38 : decode cX0_receiveFault 38 = .ok (.dup, 1) := dk_89 (dk_at dksX0_receiveFault_1 14 rfl rfl)
theorem dX0_receiveFault_39 : decode cX0_receiveFault 39 = .ok (.iconst 4, 1) := dk_7 (dk_at dksX0_receiveFault_1 15 rfl rfl)
theorem dX0_receiveFault_40 : decode cX0_receiveFault 40 = .ok (.iload_n 3, 1) := dk_29 (dk_at dksX0_receiveFault_1 16 rfl rfl)
theorem dX0_receiveFault_41 : decode cX0_receiveFault 41 = .ok (.iastore, 1) := dk_79 (dk_at dksX0_receiveFault_1 17 rfl rfl)
theorem dX0_receiveFault_42 : decode cX0_receiveFault 42 = .ok (.dup, 1) := dk_89 (dk_at dksX0_receiveFault_1 18 rfl rfl)
theorem dX0_receiveFault_43 : decode cX0_receiveFault 43 = .ok (.iconst 5, 1) := dk_8 (dk_at dksX0_receiveFault_1 19 rfl rfl)
theorem dX0_receiveFault_44 : decode cX0_receiveFault 44 = .ok (.iconst 4, 1) := dk_7 (dk_at dksX0_receiveFault_1 20 rfl rfl)
theorem dX0_receiveFault_45 : decode cX0_receiveFault 45 = .ok (.iastore, 1) := dk_79 (dk_at dksX0_receiveFault_1 21 rfl rfl)
theorem dX0_receiveFault_46 : decode cX0_receiveFault 46 = .ok (.invokestatic 137, 3) := dk_184 0 137 (dk_at dksX0_receiveFault_2 0 rfl rfl)
theorem dX0_receiveFault_49 : decode cX0_receiveFault 49 = .ok (.ifCond .ne 6, 3) := dk_154 0 6 (dk_at dksX0_receiveFault_2 3 rfl rfl)
theorem dX0_receiveFault_52 : decode cX0_receiveFault 52 = .ok (.bipush (-2), 2) := dk_16 254 (dk_at dksX0_receiveFault_2 6 rfl rfl)
theorem dX0_receiveFault_54 : decode cX0_receiveFault 54 = .ok (.ireturn, 1) := dk_172 (dk_at dksX0_receiveFault_2 8 rfl rfl)
theorem dX0_receiveFault_55 : decode cX0_receiveFault 55 = .ok (.iload 4, 2) := dk_21 4 (dk_at dksX0_receiveFault_2 9 rfl rfl)
theorem dX0_receiveFault_57 : decode cX0_receiveFault 57 = .ok (.iconst 1, 1) := dk_4 (dk_at dksX0_receiveFault_2 11 rfl rfl)
theorem dX0_receiveFault_58 : decode cX0_receiveFault 58 = .ok (.sipush 5000, 3) := dk_17 19 136 (dk_at dksX0_receiveFault_2 12 rfl rfl)
theorem dX0_receiveFault_61 : decode cX0_receiveFault 61 = .ok (.invokestatic 1, 3) := dk_184 0 1 (dk_at dksX0_receiveFault_2 15 rfl rfl)
theorem dX0_receiveFault_64 : decode cX0_receiveFault 64 = .ok (.ifCond .eq 11, 3) := dk_153 0 11 (dk_at dksX0_receiveFault_2 18 rfl rfl)
theorem dX0_receiveFault_67 : decode cX0_receiveFault 67 = .ok (.iload 5, 2) := dk_21 5 (dk_at dksX0_receiveFault_2 21 rfl rfl)
theorem dX0_receiveFault_69 : decode cX0_receiveFault 69 = .ok (.invokestatic 222, 3) := dk_184 0 222 (dk_at dksX0_receiveFault_3 0 rfl rfl)
theorem dX0_receiveFault_72 : decode cX0_receiveFault 72 = .ok (.ifCond .ne 6, 3) := dk_154 0 6 (dk_at dksX0_receiveFault_3 3 rfl rfl)
theorem dX0_receiveFault_75 : decode cX0_receiveFault 75 = .ok (.bipush (-3), 2) := dk_16 253 (dk_at dksX0_receiveFault_3 6 rfl rfl)
theorem dX0_receiveFault_77 : decode cX0_receiveFault 77 = .ok (.ireturn, 1) := dk_172 (dk_at dksX0_receiveFault_3 8 rfl rfl)
theorem dX0_receiveFault_78 : decode cX0_receiveFault 78 = .ok (.aload_n 0, 1) := dk_42 (dk_at dksX0_receiveFault_3 9 rfl rfl)
theorem dX0_receiveFault_79 : decode cX0_receiveFault 79 = .ok (.getfield 16, 3) := dk_180 0 16 (dk_at dksX0_receiveFault_3 10 rfl rfl)
theorem dX0_receiveFault_82 : decode cX0_receiveFault 82 = .ok (.iload_n 1, 1) := dk_27 (dk_at dksX0_receiveFault_3 13 rfl rfl)
theorem dX0_receiveFault_83 : decode cX0_receiveFault 83 = .ok (.iload_n 2, 1) := dk_28 (dk_at dksX0_receiveFault_3 14 rfl rfl)
theorem dX0_receiveFault_84 : decode cX0_receiveFault 84 = .ok (.iload_n 3, 1) := dk_29 (dk_at dksX0_receiveFault_3 15 rfl rfl)
theorem dX0_receiveFault_85 : decode cX0_receiveFault 85 = .ok (.iload 4, 2) := dk_21 4 (dk_at dksX0_receiveFault_3 16 rfl rfl)
theorem dX0_receiveFault_87 : decode cX0_receiveFault 87 = .ok (.iload 5, 2) := dk_21 5 (dk_at dksX0_receiveFault_3 18 rfl rfl)
theorem dX0_receiveFault_89 : decode cX0_receiveFault 89 = .ok (.invokevirtual 225, 3) := dk_182 0 225 (dk_at dksX0_receiveFault_3 20 rfl rfl)
theorem dX0_receiveFault_92 : decode cX0_receiveFault 92 = .ok (.istore 6, 2) := dk_54 6 (dk_at dksX0_receiveFault_4 0 rfl rfl)
theorem dX0_receiveFault_94 : decode cX0_receiveFault 94 = .ok (.iload 6, 2) := dk_21 6 (dk_at dksX0_receiveFault_4 2 rfl rfl)
theorem dX0_receiveFault_96 : decode cX0_receiveFault 96 = .ok (.ifCond .le 10, 3) := dk_158 0 10 (dk_at dksX0_receiveFault_4 4 rfl rfl)
theorem dX0_receiveFault_99 : decode cX0_receiveFault 99 = .ok (.aload_n 0, 1) := dk_42 (dk_at dksX0_receiveFault_4 7 rfl rfl)
theorem dX0_receiveFault_100 : decode cX0_receiveFault 100 = .ok (.iload 6, 2) := dk_21 6 (dk_at dksX0_receiveFault_4 8 rfl rfl)
theorem dX0_receiveFault_102 : decode cX0_receiveFault 102 = .ok (.invokevirtual 229, 3) := dk_182 0 229 (dk_at dksX0_receiveFault_4 10 rfl rfl)
theorem dX0_receiveFault_105 : decode cX0_receiveFault 105 = .ok (.ireturn, 1) := dk_172 (dk_at dksX0_receiveFault_4 13 rfl rfl)
theorem dX0_receiveFault_106 : decode cX0_receiveFault 106 = .ok (.aload_n 0, 1) := dk_42 (dk_at dksX0_receiveFault_4 14 rfl rfl)
theorem dX0_receiveFault_107 : decode cX0_receiveFault 107 = .ok (.aload_n 0, 1) := dk_42 (dk_at dksX0_receiveFault_4 15 rfl rfl)
theorem dX0_receiveFault_108 : decode cX0_receiveFault 108 = .ok (.getfield 16, 3) := dk_180 0 16 (dk_at dksX0_receiveFault_4 16 rfl rfl)
theorem dX0_receiveFault_111 : decode cX0_receiveFault 111 = .ok (.iload_n 1, 1) := dk_27 (dk_at dksX0_receiveFault_4 19 rfl rfl)
theorem dX0_receiveFault_112 : decode cX0_receiveFault 112 = .ok (.iload 4, 2) := dk_21 4 (dk_at dksX0_receiveFault_4 20 rfl rfl)
theorem dX0_receiveFault_114 : decode cX0_receiveFault 114 = .ok (.invokevirtual 232, 3) := dk_182 0 232 (dk_at dksX0_receiveFault_5 0 rfl rfl)
theorem dX0_receiveFault_117 : decode cX0_receiveFault 117 = .ok (.i2l, 1) := dk_133 (dk_at dksX0_receiveFault_5 3 rfl rfl)
theorem dX0_receiveFault_118 : decode cX0_receiveFault 118 = .ok (.invokevirtual 235, 3) := dk_182 0 235 (dk_at dksX0_receiveFault_5 4 rfl rfl)
theorem dX0_receiveFault_121 : decode cX0_receiveFault 121 = .ok (.ifCond .eq 7, 3) := dk_153 0 7 (dk_at dksX0_receiveFault_5 7 rfl rfl)
theorem dX0_receiveFault_124 : decode cX0_receiveFault 124 = .ok (.iconst 0, 1) := dk_3 (dk_at dksX0_receiveFault_5 10 rfl rfl)
theorem dX0_receiveFault_125 : decode cX0_receiveFault 125 = .ok (.goto 5, 3) := dk_167 0 5 (dk_at dksX0_receiveFault_5 11 rfl rfl)
theorem dX0_receiveFault_128 : decode cX0_receiveFault 128 = .ok (.bipush (-5), 2) := dk_16 251 (dk_at dksX0_receiveFault_5 14 rfl rfl)
theorem dX0_receiveFault_130 : decode cX0_receiveFault 130 = .ok (.ireturn, 1) := dk_172 (dk_at dksX0_receiveFault_5 16 rfl rfl)
abbrev cX0_areBelow : ByteArray := prog_1_method_2_code
def yX0_areBelow : MethodName := ⟨RX0, "areBelow", "([I)Z"⟩
def dkwX0_areBelow_1 : List UInt8 := [184, 0, 1, 126, 60, 132, 2, 2, 167, 255, 230, 27, 172]
abbrev dktX0_areBelow_1 : List UInt8 := dkwX0_areBelow_1 ++ []
def dkwX0_areBelow_0 : List UInt8 := [4, 60, 3, 61, 28, 42, 190, 162, 0, 26, 27, 42, 28, 46, 3, 42, 28, 4, 96, 46, 4, 100]
abbrev dktX0_areBelow_0 : List UInt8 := dkwX0_areBelow_0 ++ dktX0_areBelow_1
theorem dksX0_areBelow_0 : cX0_areBelow.data.toList.drop 0 = dktX0_areBelow_0 := by decide +kernel
theorem dksX0_areBelow_1 : cX0_areBelow.data.toList.drop 22 = dktX0_areBelow_1 := dk_seg dksX0_areBelow_0 22 rfl rfl
theorem dX0_areBelow_0 : decode cX0_areBelow 0 = .ok (.iconst 1, 1) := dk_4 (dk_at dksX0_areBelow_0 0 rfl rfl)
theorem dX0_areBelow_1 : decode cX0_areBelow 1 = .ok (.istore_n 1, 1) := dk_60 (dk_at dksX0_areBelow_0 1 rfl rfl)
theorem dX0_areBelow_2 : decode cX0_areBelow 2 = .ok (.iconst 0, 1) := dk_3 (dk_at dksX0_areBelow_0 2 rfl rfl)
theorem dX0_areBelow_3 : decode cX0_areBelow 3 = .ok (.istore_n 2, 1) := dk_61 (dk_at dksX0_areBelow_0 3 rfl rfl)
theorem dX0_areBelow_4 : decode cX0_areBelow 4 = .ok (.iload_n 2, 1) := dk_28 (dk_at dksX0_areBelow_0 4 rfl rfl)
theorem dX0_areBelow_5 : decode cX0_areBelow 5 = .ok (.aload_n 0, 1) := dk_42 (dk_at dksX0_areBelow_0 5 rfl rfl)
theorem dX0_areBelow_6 : decode cX0_areBelow 6 = .ok (.arraylength, 1) := dk_190 (dk_at dksX0_areBelow_0 6 rfl rfl)
theorem dX0_areBelow_7 : decode cX0_areBelow 7 = .ok (.if_icmp .ge 26, 3) := dk_162 0 26 (dk_at dksX0_areBelow_0 7 rfl rfl)
theorem dX0_areBelow_10 : decode cX0_areBelow 10 = .ok (.iload_n 1, 1) := dk_27 (dk_at dksX0_areBelow_0 10 rfl rfl)
theorem dX0_areBelow_11 : decode cX0_areBelow 11 = .ok (.aload_n 0, 1) := dk_42 (dk_at dksX0_areBelow_0 11 rfl rfl)
theorem dX0_areBelow_12 : decode cX0_areBelow 12 = .ok (.iload_n 2, 1) := dk_28 (dk_at dksX0_areBelow_0 12 rfl rfl)
theorem dX0_areBelow_13 : decode cX0_areBelow 13 = .ok (.iaload, 1) := dk_46 (dk_at dksX0_areBelow_0 13 rfl rfl)
theorem dX0_areBelow_14 : decode cX0_areBelow 14 = .ok (.iconst 0, 1) := dk_3 (dk_at dksX0_areBelow_0 14 rfl rfl)
theorem dX0_areBelow_15 : decode cX0_areBelow 15 = .ok (.aload_n 0, 1) := dk_42 (dk_at dksX0_areBelow_0 15 rfl rfl)
theorem dX0_areBelow_16 : decode cX0_areBelow 16 = .ok (.iload_n 2, 1) := dk_28 (dk_at dksX0_areBelow_0 16 rfl rfl)
theorem dX0_areBelow_17 : decode cX0_areBelow 17 = .ok (.iconst 1, 1) := dk_4 (dk_at dksX0_areBelow_0 17 rfl rfl)
theorem dX0_areBelow_18 : decode cX0_areBelow 18 = .ok (.iadd, 1) := dk_96 (dk_at dksX0_areBelow_0 18 rfl rfl)
theorem dX0_areBelow_19 : decode cX0_areBelow 19 = .ok (.iaload, 1) := dk_46 (dk_at dksX0_areBelow_0 19 rfl rfl)
theorem dX0_areBelow_20 : decode cX0_areBelow 20 = .ok (.iconst 1, 1) := dk_4 (dk_at dksX0_areBelow_0 20 rfl rfl)
theorem dX0_areBelow_21 : decode cX0_areBelow 21 = .ok (.isub, 1) := dk_100 (dk_at dksX0_areBelow_0 21 rfl rfl)
theorem dX0_areBelow_22 : decode cX0_areBelow 22 = .ok (.invokestatic 1, 3) := dk_184 0 1 (dk_at dksX0_areBelow_1 0 rfl rfl)
theorem dX0_areBelow_25 : decode cX0_areBelow 25 = .ok (.iand, 1) := dk_126 (dk_at dksX0_areBelow_1 3 rfl rfl)
theorem dX0_areBelow_26 : decode cX0_areBelow 26 = .ok (.istore_n 1, 1) := dk_60 (dk_at dksX0_areBelow_1 4 rfl rfl)
theorem dX0_areBelow_27 : decode cX0_areBelow 27 = .ok (.iinc 2 2, 3) := dk_132 2 2 (dk_at dksX0_areBelow_1 5 rfl rfl)
theorem dX0_areBelow_30 : decode cX0_areBelow 30 = .ok (.goto (-26), 3) := dk_167 255 230 (dk_at dksX0_areBelow_1 8 rfl rfl)
theorem dX0_areBelow_33 : decode cX0_areBelow 33 = .ok (.iload_n 1, 1) := dk_27 (dk_at dksX0_areBelow_1 11 rfl rfl)
theorem dX0_areBelow_34 : decode cX0_areBelow 34 = .ok (.ireturn, 1) := dk_172 (dk_at dksX0_areBelow_1 12 rfl rfl)
abbrev cX0_isIn : ByteArray := prog_1_method_1_code
def yX0_isIn : MethodName := ⟨RX0, "isIn", "(III)Z"⟩
def dkwX0_isIn_0 : List UInt8 := [26, 27, 161, 0, 12, 26, 28, 163, 0, 7, 4, 167, 0, 4, 3, 172]
abbrev dktX0_isIn_0 : List UInt8 := dkwX0_isIn_0 ++ []
theorem dksX0_isIn_0 : cX0_isIn.data.toList.drop 0 = dktX0_isIn_0 := by decide +kernel
theorem dX0_isIn_0 : decode cX0_isIn 0 = .ok (.iload_n 0, 1) := dk_26 (dk_at dksX0_isIn_0 0 rfl rfl)
theorem dX0_isIn_1 : decode cX0_isIn 1 = .ok (.iload_n 1, 1) := dk_27 (dk_at dksX0_isIn_0 1 rfl rfl)
theorem dX0_isIn_2 : decode cX0_isIn 2 = .ok (.if_icmp .lt 12, 3) := dk_161 0 12 (dk_at dksX0_isIn_0 2 rfl rfl)
theorem dX0_isIn_5 : decode cX0_isIn 5 = .ok (.iload_n 0, 1) := dk_26 (dk_at dksX0_isIn_0 5 rfl rfl)
theorem dX0_isIn_6 : decode cX0_isIn 6 = .ok (.iload_n 2, 1) := dk_28 (dk_at dksX0_isIn_0 6 rfl rfl)
theorem dX0_isIn_7 : decode cX0_isIn 7 = .ok (.if_icmp .gt 7, 3) := dk_163 0 7 (dk_at dksX0_isIn_0 7 rfl rfl)
theorem dX0_isIn_10 : decode cX0_isIn 10 = .ok (.iconst 1, 1) := dk_4 (dk_at dksX0_isIn_0 10 rfl rfl)
theorem dX0_isIn_11 : decode cX0_isIn 11 = .ok (.goto 4, 3) := dk_167 0 4 (dk_at dksX0_isIn_0 11 rfl rfl)
theorem dX0_isIn_14 : decode cX0_isIn 14 = .ok (.iconst 0, 1) := dk_3 (dk_at dksX0_isIn_0 14 rfl rfl)
theorem dX0_isIn_15 : decode cX0_isIn 15 = .ok (.ireturn, 1) := dk_172 (dk_at dksX0_isIn_0 15 rfl rfl)
abbrev cX0_isMoisture : ByteArray := prog_1_method_3_code
def yX0_isMoisture : MethodName := ⟨RX0, "isMoisture", "(I)Z"⟩
def dkwX0_isMoisture_0 : List UInt8 := [26, 16, 50, 17, 1, 144, 184, 0, 1, 172]
abbrev dktX0_isMoisture_0 : List UInt8 := dkwX0_isMoisture_0 ++ []
theorem dksX0_isMoisture_0 : cX0_isMoisture.data.toList.drop 0 = dktX0_isMoisture_0 := by decide +kernel
theorem dX0_isMoisture_0 : decode cX0_isMoisture 0 = .ok (.iload_n 0, 1) := dk_26 (dk_at dksX0_isMoisture_0 0 rfl rfl)
theorem dX0_isMoisture_1 : decode cX0_isMoisture 1 = .ok (.bipush 50, 2) := dk_16 50 (dk_at dksX0_isMoisture_0 1 rfl rfl)
theorem dX0_isMoisture_3 : decode cX0_isMoisture 3 = .ok (.sipush 400, 3) := dk_17 1 144 (dk_at dksX0_isMoisture_0 3 rfl rfl)
theorem dX0_isMoisture_6 : decode cX0_isMoisture 6 = .ok (.invokestatic 1, 3) := dk_184 0 1 (dk_at dksX0_isMoisture_0 6 rfl rfl)
theorem dX0_isMoisture_9 : decode cX0_isMoisture 9 = .ok (.ireturn, 1) := dk_172 (dk_at dksX0_isMoisture_0 9 rfl rfl)
abbrev cX0_has : ByteArray := prog_1_method_5_code
def yX0_has : MethodName := ⟨RX0, "has", "(II)Z"⟩
def dkwX0_has_0 : List UInt8 := [26, 27, 122, 4, 126, 4, 160, 0, 7, 4, 167, 0, 4, 3, 172]
abbrev dktX0_has_0 : List UInt8 := dkwX0_has_0 ++ []
theorem dksX0_has_0 : cX0_has.data.toList.drop 0 = dktX0_has_0 := by decide +kernel
theorem dX0_has_0 : decode cX0_has 0 = .ok (.iload_n 0, 1) := dk_26 (dk_at dksX0_has_0 0 rfl rfl)
theorem dX0_has_1 : decode cX0_has 1 = .ok (.iload_n 1, 1) := dk_27 (dk_at dksX0_has_0 1 rfl rfl)
theorem dX0_has_2 : decode cX0_has 2 = .ok (.ishr, 1) := dk_122 (dk_at dksX0_has_0 2 rfl rfl)
theorem dX0_has_3 : decode cX0_has 3 = .ok (.iconst 1, 1) := dk_4 (dk_at dksX0_has_0 3 rfl rfl)
theorem dX0_has_4 : decode cX0_has 4 = .ok (.iand, 1) := dk_126 (dk_at dksX0_has_0 4 rfl rfl)
theorem dX0_has_5 : decode cX0_has 5 = .ok (.iconst 1, 1) := dk_4 (dk_at dksX0_has_0 5 rfl rfl)
theorem dX0_has_6 : decode cX0_has 6 = .ok (.if_icmp .ne 7, 3) := dk_160 0 7 (dk_at dksX0_has_0 6 rfl rfl)
theorem dX0_has_9 : decode cX0_has 9 = .ok (.iconst 1, 1) := dk_4 (dk_at dksX0_has_0 9 rfl rfl)
theorem dX0_has_10 : decode cX0_has 10 = .ok (.goto 4, 3) := dk_167 0 4 (dk_at dksX0_has_0 10 rfl rfl)
theorem dX0_has_13 : decode cX0_has 13 = .ok (.iconst 0, 1) := dk_3 (dk_at dksX0_has_0 13 rfl rfl)
theorem dX0_has_14 : decode cX0_has 14 = .ok (.ireturn, 1) := dk_172 (dk_at dksX0_has_0 14 rfl rfl)
abbrev cX0_refuse : ByteArray := prog_1_method_13_code
def yX0_refuse : MethodName := ⟨RX0, "refuse", "(I)I"⟩
def dkwX0_refuse_0 : List UInt8 := [42, 180, 0, 16, 27, 181, 0, 101, 16, 252, 172]
abbrev dktX0_refuse_0 : List UInt8 := dkwX0_refuse_0 ++ []
theorem dksX0_refuse_0 : cX0_refuse.data.toList.drop 0 = dktX0_refuse_0 := by decide +kernel
theorem dX0_refuse_0 : decode cX0_refuse 0 = .ok (.aload_n 0, 1) := dk_42 (dk_at dksX0_refuse_0 0 rfl rfl)
theorem dX0_refuse_1 : decode cX0_refuse 1 = .ok (.getfield 16, 3) := dk_180 0 16 (dk_at dksX0_refuse_0 1 rfl rfl)
theorem dX0_refuse_4 : decode cX0_refuse 4 = .ok (.iload_n 1, 1) := dk_27 (dk_at dksX0_refuse_0 4 rfl rfl)
theorem dX0_refuse_5 : decode cX0_refuse 5 = .ok (.putfield 101, 3) := dk_181 0 101 (dk_at dksX0_refuse_0 5 rfl rfl)
theorem dX0_refuse_8 : decode cX0_refuse 8 = .ok (.bipush (-4), 2) := dk_16 252 (dk_at dksX0_refuse_0 8 rfl rfl)
theorem dX0_refuse_10 : decode cX0_refuse 10 = .ok (.ireturn, 1) := dk_172 (dk_at dksX0_refuse_0 10 rfl rfl)
abbrev cX0_minutesFor : ByteArray := prog_1_method_4_code
def yX0_minutesFor : MethodName := ⟨RX0, "minutesFor", "(II)I"⟩
def dkwX0_minutesFor_0 : List UInt8 := [26, 27, 96, 4, 100, 27, 108, 172]
abbrev dktX0_minutesFor_0 : List UInt8 := dkwX0_minutesFor_0 ++ []
theorem dksX0_minutesFor_0 : cX0_minutesFor.data.toList.drop 0 = dktX0_minutesFor_0 := by decide +kernel
theorem dX0_minutesFor_0 : decode cX0_minutesFor 0 = .ok (.iload_n 0, 1) := dk_26 (dk_at dksX0_minutesFor_0 0 rfl rfl)
theorem dX0_minutesFor_1 : decode cX0_minutesFor 1 = .ok (.iload_n 1, 1) := dk_27 (dk_at dksX0_minutesFor_0 1 rfl rfl)
theorem dX0_minutesFor_2 : decode cX0_minutesFor 2 = .ok (.iadd, 1) := dk_96 (dk_at dksX0_minutesFor_0 2 rfl rfl)
theorem dX0_minutesFor_3 : decode cX0_minutesFor 3 = .ok (.iconst 1, 1) := dk_4 (dk_at dksX0_minutesFor_0 3 rfl rfl)
theorem dX0_minutesFor_4 : decode cX0_minutesFor 4 = .ok (.isub, 1) := dk_100 (dk_at dksX0_minutesFor_0 4 rfl rfl)
theorem dX0_minutesFor_5 : decode cX0_minutesFor 5 = .ok (.iload_n 1, 1) := dk_27 (dk_at dksX0_minutesFor_0 5 rfl rfl)
theorem dX0_minutesFor_6 : decode cX0_minutesFor 6 = .ok (.idiv, 1) := dk_108 (dk_at dksX0_minutesFor_0 6 rfl rfl)
theorem dX0_minutesFor_7 : decode cX0_minutesFor 7 = .ok (.ireturn, 1) := dk_172 (dk_at dksX0_minutesFor_0 7 rfl rfl)
abbrev cX0_hasTime : ByteArray := prog_1_method_12_code
def yX0_hasTime : MethodName := ⟨RX0, "hasTime", "(J)Z"⟩
def dkwX0_hasTime_0 : List UInt8 := [42, 180, 0, 16, 180, 0, 95, 133, 31, 97, 20, 0, 99, 148, 157, 0, 7, 4, 167, 0, 4, 3, 172]
abbrev dktX0_hasTime_0 : List UInt8 := dkwX0_hasTime_0 ++ []
theorem dksX0_hasTime_0 : cX0_hasTime.data.toList.drop 0 = dktX0_hasTime_0 := by decide +kernel
theorem dX0_hasTime_0 : decode cX0_hasTime 0 = .ok (.aload_n 0, 1) := dk_42 (dk_at dksX0_hasTime_0 0 rfl rfl)
theorem dX0_hasTime_1 : decode cX0_hasTime 1 = .ok (.getfield 16, 3) := dk_180 0 16 (dk_at dksX0_hasTime_0 1 rfl rfl)
theorem dX0_hasTime_4 : decode cX0_hasTime 4 = .ok (.getfield 95, 3) := dk_180 0 95 (dk_at dksX0_hasTime_0 4 rfl rfl)
theorem dX0_hasTime_7 : decode cX0_hasTime 7 = .ok (.i2l, 1) := dk_133 (dk_at dksX0_hasTime_0 7 rfl rfl)
theorem dX0_hasTime_8 : decode cX0_hasTime 8 = .ok (.lload_n 1, 1) := dk_31 (dk_at dksX0_hasTime_0 8 rfl rfl)
theorem dX0_hasTime_9 : decode cX0_hasTime 9 = .ok (.ladd, 1) := dk_97 (dk_at dksX0_hasTime_0 9 rfl rfl)
theorem dX0_hasTime_10 : decode cX0_hasTime 10 = .ok (.ldc2_w 99, 3) := dk_20 0 99 (dk_at dksX0_hasTime_0 10 rfl rfl)
theorem dX0_hasTime_13 : decode cX0_hasTime 13 = .ok (.lcmp, 1) := dk_148 (dk_at dksX0_hasTime_0 13 rfl rfl)
theorem dX0_hasTime_14 : decode cX0_hasTime 14 = .ok (.ifCond .gt 7, 3) := dk_157 0 7 (dk_at dksX0_hasTime_0 14 rfl rfl)
theorem dX0_hasTime_17 : decode cX0_hasTime 17 = .ok (.iconst 1, 1) := dk_4 (dk_at dksX0_hasTime_0 17 rfl rfl)
theorem dX0_hasTime_18 : decode cX0_hasTime 18 = .ok (.goto 4, 3) := dk_167 0 4 (dk_at dksX0_hasTime_0 18 rfl rfl)
theorem dX0_hasTime_21 : decode cX0_hasTime 21 = .ok (.iconst 0, 1) := dk_3 (dk_at dksX0_hasTime_0 21 rfl rfl)
theorem dX0_hasTime_22 : decode cX0_hasTime 22 = .ok (.ireturn, 1) := dk_172 (dk_at dksX0_hasTime_0 22 rfl rfl)
abbrev cX0_lambda_new_1 : ByteArray := prog_1_method_83_code
def yX0_lambda_new_1 : MethodName := ⟨RX0, "lambda$new$1", "([I)I"⟩
def dkwX0_lambda_new_1_0 : List UInt8 := [42, 43, 3, 46, 43, 4, 46, 43, 5, 46, 43, 6, 46, 43, 7, 46, 182, 1, 1, 172]
abbrev dktX0_lambda_new_1_0 : List UInt8 := dkwX0_lambda_new_1_0 ++ []
theorem dksX0_lambda_new_1_0 : cX0_lambda_new_1.data.toList.drop 0 = dktX0_lambda_new_1_0 := by decide +kernel
theorem dX0_lambda_new_1_0 : decode cX0_lambda_new_1 0 = .ok (.aload_n 0, 1) := dk_42 (dk_at dksX0_lambda_new_1_0 0 rfl rfl)
theorem dX0_lambda_new_1_1 : decode cX0_lambda_new_1 1 = .ok (.aload_n 1, 1) := dk_43 (dk_at dksX0_lambda_new_1_0 1 rfl rfl)
theorem dX0_lambda_new_1_2 : decode cX0_lambda_new_1 2 = .ok (.iconst 0, 1) := dk_3 (dk_at dksX0_lambda_new_1_0 2 rfl rfl)
theorem dX0_lambda_new_1_3 : decode cX0_lambda_new_1 3 = .ok (.iaload, 1) := dk_46 (dk_at dksX0_lambda_new_1_0 3 rfl rfl)
theorem dX0_lambda_new_1_4 : decode cX0_lambda_new_1 4 = .ok (.aload_n 1, 1) := dk_43 (dk_at dksX0_lambda_new_1_0 4 rfl rfl)
theorem dX0_lambda_new_1_5 : decode cX0_lambda_new_1 5 = .ok (.iconst 1, 1) := dk_4 (dk_at dksX0_lambda_new_1_0 5 rfl rfl)
theorem dX0_lambda_new_1_6 : decode cX0_lambda_new_1 6 = .ok (.iaload, 1) := dk_46 (dk_at dksX0_lambda_new_1_0 6 rfl rfl)
theorem dX0_lambda_new_1_7 : decode cX0_lambda_new_1 7 = .ok (.aload_n 1, 1) := dk_43 (dk_at dksX0_lambda_new_1_0 7 rfl rfl)
theorem dX0_lambda_new_1_8 : decode cX0_lambda_new_1 8 = .ok (.iconst 2, 1) := dk_5 (dk_at dksX0_lambda_new_1_0 8 rfl rfl)
theorem dX0_lambda_new_1_9 : decode cX0_lambda_new_1 9 = .ok (.iaload, 1) := dk_46 (dk_at dksX0_lambda_new_1_0 9 rfl rfl)
theorem dX0_lambda_new_1_10 : decode cX0_lambda_new_1 10 = .ok (.aload_n 1, 1) := dk_43 (dk_at dksX0_lambda_new_1_0 10 rfl rfl)
theorem dX0_lambda_new_1_11 : decode cX0_lambda_new_1 11 = .ok (.iconst 3, 1) := dk_6 (dk_at dksX0_lambda_new_1_0 11 rfl rfl)
theorem dX0_lambda_new_1_12 : decode cX0_lambda_new_1 12 = .ok (.iaload, 1) := dk_46 (dk_at dksX0_lambda_new_1_0 12 rfl rfl)
theorem dX0_lambda_new_1_13 : decode cX0_lambda_new_1 13 = .ok (.aload_n 1, 1) := dk_43 (dk_at dksX0_lambda_new_1_0 13 rfl rfl)
theorem dX0_lambda_new_1_14 : decode cX0_lambda_new_1 14 = .ok (.iconst 4, 1) := dk_7 (dk_at dksX0_lambda_new_1_0 14 rfl rfl)
theorem dX0_lambda_new_1_15 : decode cX0_lambda_new_1 15 = .ok (.iaload, 1) := dk_46 (dk_at dksX0_lambda_new_1_0 15 rfl rfl)
theorem dX0_lambda_new_1_16 : decode cX0_lambda_new_1 16 = .ok (.invokevirtual 257, 3) := dk_182 1 1 (dk_at dksX0_lambda_new_1_0 16 rfl rfl)
theorem dX0_lambda_new_1_19 : decode cX0_lambda_new_1 19 = .ok (.ireturn, 1) := dk_172 (dk_at dksX0_lambda_new_1_0 19 rfl rfl)
abbrev cX0_doReceive : ByteArray := prog_1_method_31_code
def yX0_doReceive : MethodName := ⟨RX0, "doReceive", "(IIIII)I"⟩
def dkwX0_doReceive_4 : List UInt8 := [180, 0, 16, 89, 180, 0, 201, 22, 6, 97, 181, 0, 201, 22, 6, 136, 172]
abbrev dktX0_doReceive_4 : List UInt8 := dkwX0_doReceive_4 ++ []
def dkwX0_doReceive_3 : List UInt8 := [21, 5, 182, 0, 250, 55, 6, 42, 180, 0, 16, 89, 180, 0, 192, 21, 4, 96, 181, 0, 192, 42]
abbrev dktX0_doReceive_3 : List UInt8 := dkwX0_doReceive_3 ++ dktX0_doReceive_4
def dkwX0_doReceive_2 : List UInt8 := [180, 0, 89, 27, 182, 0, 118, 192, 0, 128, 21, 4, 21, 5, 182, 0, 246, 42, 180, 0, 16, 29, 21, 4]
abbrev dktX0_doReceive_2 : List UInt8 := dkwX0_doReceive_2 ++ dktX0_doReceive_3
def dkwX0_doReceive_1 : List UInt8 := [28, 182, 0, 118, 192, 0, 107, 21, 4, 21, 4, 21, 5, 104, 29, 182, 0, 242, 42, 180, 0, 16]
abbrev dktX0_doReceive_1 : List UInt8 := dkwX0_doReceive_1 ++ dktX0_doReceive_2
def dkwX0_doReceive_0 : List UInt8 := [42, 180, 0, 16, 42, 180, 0, 16, 27, 21, 4, 182, 0, 232, 182, 0, 239, 42, 180, 0, 16, 180, 0, 82]
abbrev dktX0_doReceive_0 : List UInt8 := dkwX0_doReceive_0 ++ dktX0_doReceive_1
theorem dksX0_doReceive_0 : cX0_doReceive.data.toList.drop 0 = dktX0_doReceive_0 := by decide +kernel
theorem dksX0_doReceive_1 : cX0_doReceive.data.toList.drop 24 = dktX0_doReceive_1 := dk_seg dksX0_doReceive_0 24 rfl rfl
theorem dksX0_doReceive_2 : cX0_doReceive.data.toList.drop 46 = dktX0_doReceive_2 := dk_seg dksX0_doReceive_1 22 rfl rfl
theorem dksX0_doReceive_3 : cX0_doReceive.data.toList.drop 70 = dktX0_doReceive_3 := dk_seg dksX0_doReceive_2 24 rfl rfl
theorem dksX0_doReceive_4 : cX0_doReceive.data.toList.drop 92 = dktX0_doReceive_4 := dk_seg dksX0_doReceive_3 22 rfl rfl
theorem dX0_doReceive_0 : decode cX0_doReceive 0 = .ok (.aload_n 0, 1) := dk_42 (dk_at dksX0_doReceive_0 0 rfl rfl)
theorem dX0_doReceive_1 : decode cX0_doReceive 1 = .ok (.getfield 16, 3) := dk_180 0 16 (dk_at dksX0_doReceive_0 1 rfl rfl)
theorem dX0_doReceive_4 : decode cX0_doReceive 4 = .ok (.aload_n 0, 1) := dk_42 (dk_at dksX0_doReceive_0 4 rfl rfl)
theorem dX0_doReceive_5 : decode cX0_doReceive 5 = .ok (.getfield 16, 3) := dk_180 0 16 (dk_at dksX0_doReceive_0 5 rfl rfl)
theorem dX0_doReceive_8 : decode cX0_doReceive 8 = .ok (.iload_n 1, 1) := dk_27 (dk_at dksX0_doReceive_0 8 rfl rfl)
theorem dX0_doReceive_9 : decode cX0_doReceive 9 = .ok (.iload 4, 2) := dk_21 4 (dk_at dksX0_doReceive_0 9 rfl rfl)
theorem dX0_doReceive_11 : decode cX0_doReceive 11 = .ok (.invokevirtual 232, 3) := dk_182 0 232 (dk_at dksX0_doReceive_0 11 rfl rfl)
theorem dX0_doReceive_14 : decode cX0_doReceive 14 = .ok (.invokevirtual 239, 3) := dk_182 0 239 (dk_at dksX0_doReceive_0 14 rfl rfl)
theorem dX0_doReceive_17 : decode cX0_doReceive 17 = .ok (.aload_n 0, 1) := dk_42 (dk_at dksX0_doReceive_0 17 rfl rfl)
theorem dX0_doReceive_18 : decode cX0_doReceive 18 = .ok (.getfield 16, 3) := dk_180 0 16 (dk_at dksX0_doReceive_0 18 rfl rfl)
theorem dX0_doReceive_21 : decode cX0_doReceive 21 = .ok (.getfield 82, 3) := dk_180 0 82 (dk_at dksX0_doReceive_0 21 rfl rfl)
theorem dX0_doReceive_24 : decode cX0_doReceive 24 = .ok (.iload_n 2, 1) := dk_28 (dk_at dksX0_doReceive_1 0 rfl rfl)
theorem dX0_doReceive_25 : decode cX0_doReceive 25 = .ok (.invokevirtual 118, 3) := dk_182 0 118 (dk_at dksX0_doReceive_1 1 rfl rfl)
theorem dX0_doReceive_28 : decode cX0_doReceive 28 = .ok (.checkcast 107, 3) := dk_192 0 107 (dk_at dksX0_doReceive_1 4 rfl rfl)
theorem dX0_doReceive_31 : decode cX0_doReceive 31 = .ok (.iload 4, 2) := dk_21 4 (dk_at dksX0_doReceive_1 7 rfl rfl)
theorem dX0_doReceive_33 : decode cX0_doReceive 33 = .ok (.iload 4, 2) := dk_21 4 (dk_at dksX0_doReceive_1 9 rfl rfl)
theorem dX0_doReceive_35 : decode cX0_doReceive 35 = .ok (.iload 5, 2) := dk_21 5 (dk_at dksX0_doReceive_1 11 rfl rfl)
theorem dX0_doReceive_37 : decode cX0_doReceive 37 = .ok (.imul, 1) := dk_104 (dk_at dksX0_doReceive_1 13 rfl rfl)
theorem dX0_doReceive_38 : decode cX0_doReceive 38 = .ok (.iload_n 3, 1) := dk_29 (dk_at dksX0_doReceive_1 14 rfl rfl)
theorem dX0_doReceive_39 : decode cX0_doReceive 39 = .ok (.invokevirtual 242, 3) := dk_182 0 242 (dk_at dksX0_doReceive_1 15 rfl rfl)
theorem dX0_doReceive_42 : decode cX0_doReceive 42 = .ok (.aload_n 0, 1) := dk_42 (dk_at dksX0_doReceive_1 18 rfl rfl)
theorem dX0_doReceive_43 : decode cX0_doReceive 43 = .ok (.getfield 16, 3) := dk_180 0 16 (dk_at dksX0_doReceive_1 19 rfl rfl)
theorem dX0_doReceive_46 : decode cX0_doReceive 46 = .ok (.getfield 89, 3) := dk_180 0 89 (dk_at dksX0_doReceive_2 0 rfl rfl)
theorem dX0_doReceive_49 : decode cX0_doReceive 49 = .ok (.iload_n 1, 1) := dk_27 (dk_at dksX0_doReceive_2 3 rfl rfl)
theorem dX0_doReceive_50 : decode cX0_doReceive 50 = .ok (.invokevirtual 118, 3) := dk_182 0 118 (dk_at dksX0_doReceive_2 4 rfl rfl)
theorem dX0_doReceive_53 : decode cX0_doReceive 53 = .ok (.checkcast 128, 3) := dk_192 0 128 (dk_at dksX0_doReceive_2 7 rfl rfl)
theorem dX0_doReceive_56 : decode cX0_doReceive 56 = .ok (.iload 4, 2) := dk_21 4 (dk_at dksX0_doReceive_2 10 rfl rfl)
theorem dX0_doReceive_58 : decode cX0_doReceive 58 = .ok (.iload 5, 2) := dk_21 5 (dk_at dksX0_doReceive_2 12 rfl rfl)
theorem dX0_doReceive_60 : decode cX0_doReceive 60 = .ok (.invokevirtual 246, 3) := dk_182 0 246 (dk_at dksX0_doReceive_2 14 rfl rfl)
theorem dX0_doReceive_63 : decode cX0_doReceive 63 = .ok (.aload_n 0, 1) := dk_42 (dk_at dksX0_doReceive_2 17 rfl rfl)
theorem dX0_doReceive_64 : decode cX0_doReceive 64 = .ok (.getfield 16, 3) := dk_180 0 16 (dk_at dksX0_doReceive_2 18 rfl rfl)
theorem dX0_doReceive_67 : decode cX0_doReceive 67 = .ok (.iload_n 3, 1) := dk_29 (dk_at dksX0_doReceive_2 21 rfl rfl)
theorem dX0_doReceive_68 : decode cX0_doReceive 68 = .ok (.iload 4, 2) := dk_21 4 (dk_at dksX0_doReceive_2 22 rfl rfl)
theorem dX0_doReceive_70 : decode cX0_doReceive 70 = .ok (.iload 5, 2) := dk_21 5 (dk_at dksX0_doReceive_3 0 rfl rfl)
theorem dX0_doReceive_72 : decode cX0_doReceive 72 = .ok (.invokevirtual 250, 3) := dk_182 0 250 (dk_at dksX0_doReceive_3 2 rfl rfl)
theorem dX0_doReceive_75 : decode cX0_doReceive 75 = .ok (.lstore 6, 2) := dk_55 6 (dk_at dksX0_doReceive_3 5 rfl rfl)
theorem dX0_doReceive_77 : decode cX0_doReceive 77 = .ok (.aload_n 0, 1) := dk_42 (dk_at dksX0_doReceive_3 7 rfl rfl)
theorem dX0_doReceive_78 : decode cX0_doReceive 78 = .ok (.getfield 16, 3) := dk_180 0 16 (dk_at dksX0_doReceive_3 8 rfl rfl)
theorem dX0_doReceive_81 : decode cX0_doReceive 81 = .ok (.dup, 1) := dk_89 (dk_at dksX0_doReceive_3 11 rfl rfl)
theorem dX0_doReceive_82 : decode cX0_doReceive 82 = .ok (.getfield 192, 3) := dk_180 0 192 (dk_at dksX0_doReceive_3 12 rfl rfl)
theorem dX0_doReceive_85 : decode cX0_doReceive 85 = .ok (.iload 4, 2) := dk_21 4 (dk_at dksX0_doReceive_3 15 rfl rfl)
theorem dX0_doReceive_87 : decode cX0_doReceive 87 = .ok (.iadd, 1) := dk_96 (dk_at dksX0_doReceive_3 17 rfl rfl)
theorem dX0_doReceive_88 : decode cX0_doReceive 88 = .ok (.putfield 192, 3) := dk_181 0 192 (dk_at dksX0_doReceive_3 18 rfl rfl)
theorem dX0_doReceive_91 : decode cX0_doReceive 91 = .ok (.aload_n 0, 1) := dk_42 (dk_at dksX0_doReceive_3 21 rfl rfl)
theorem dX0_doReceive_92 : decode cX0_doReceive 92 = .ok (.getfield 16, 3) := dk_180 0 16 (dk_at dksX0_doReceive_4 0 rfl rfl)
theorem dX0_doReceive_95 : decode cX0_doReceive 95 = .ok (.dup, 1) := dk_89 (dk_at dksX0_doReceive_4 3 rfl rfl)
theorem dX0_doReceive_96 : decode cX0_doReceive 96 = .ok (.getfield 201, 3) := dk_180 0 201 (dk_at dksX0_doReceive_4 4 rfl rfl)
theorem dX0_doReceive_99 : decode cX0_doReceive 99 = .ok (.lload 6, 2) := dk_22 6 (dk_at dksX0_doReceive_4 7 rfl rfl)
theorem dX0_doReceive_101 : decode cX0_doReceive 101 = .ok (.ladd, 1) := dk_97 (dk_at dksX0_doReceive_4 9 rfl rfl)
theorem dX0_doReceive_102 : decode cX0_doReceive 102 = .ok (.putfield 201, 3) := dk_181 0 201 (dk_at dksX0_doReceive_4 10 rfl rfl)
theorem dX0_doReceive_105 : decode cX0_doReceive 105 = .ok (.lload 6, 2) := dk_22 6 (dk_at dksX0_doReceive_4 13 rfl rfl)
theorem dX0_doReceive_107 : decode cX0_doReceive 107 = .ok (.l2i, 1) := dk_136 (dk_at dksX0_doReceive_4 15 rfl rfl)
theorem dX0_doReceive_108 : decode cX0_doReceive 108 = .ok (.ireturn, 1) := dk_172 (dk_at dksX0_doReceive_4 16 rfl rfl)
abbrev cX0_lambda_new_2 : ByteArray := prog_1_method_82_code
def yX0_lambda_new_2 : MethodName := ⟨RX0, "lambda$new$2", "([I)I"⟩
def dkwX0_lambda_new_2_0 : List UInt8 := [42, 43, 3, 46, 43, 4, 46, 43, 5, 46, 43, 6, 46, 182, 1, 17, 172]
abbrev dktX0_lambda_new_2_0 : List UInt8 := dkwX0_lambda_new_2_0 ++ []
theorem dksX0_lambda_new_2_0 : cX0_lambda_new_2.data.toList.drop 0 = dktX0_lambda_new_2_0 := by decide +kernel
theorem dX0_lambda_new_2_0 : decode cX0_lambda_new_2 0 = .ok (.aload_n 0, 1) := dk_42 (dk_at dksX0_lambda_new_2_0 0 rfl rfl)
theorem dX0_lambda_new_2_1 : decode cX0_lambda_new_2 1 = .ok (.aload_n 1, 1) := dk_43 (dk_at dksX0_lambda_new_2_0 1 rfl rfl)
theorem dX0_lambda_new_2_2 : decode cX0_lambda_new_2 2 = .ok (.iconst 0, 1) := dk_3 (dk_at dksX0_lambda_new_2_0 2 rfl rfl)
theorem dX0_lambda_new_2_3 : decode cX0_lambda_new_2 3 = .ok (.iaload, 1) := dk_46 (dk_at dksX0_lambda_new_2_0 3 rfl rfl)
theorem dX0_lambda_new_2_4 : decode cX0_lambda_new_2 4 = .ok (.aload_n 1, 1) := dk_43 (dk_at dksX0_lambda_new_2_0 4 rfl rfl)
theorem dX0_lambda_new_2_5 : decode cX0_lambda_new_2 5 = .ok (.iconst 1, 1) := dk_4 (dk_at dksX0_lambda_new_2_0 5 rfl rfl)
theorem dX0_lambda_new_2_6 : decode cX0_lambda_new_2 6 = .ok (.iaload, 1) := dk_46 (dk_at dksX0_lambda_new_2_0 6 rfl rfl)
theorem dX0_lambda_new_2_7 : decode cX0_lambda_new_2 7 = .ok (.aload_n 1, 1) := dk_43 (dk_at dksX0_lambda_new_2_0 7 rfl rfl)
theorem dX0_lambda_new_2_8 : decode cX0_lambda_new_2 8 = .ok (.iconst 2, 1) := dk_5 (dk_at dksX0_lambda_new_2_0 8 rfl rfl)
theorem dX0_lambda_new_2_9 : decode cX0_lambda_new_2 9 = .ok (.iaload, 1) := dk_46 (dk_at dksX0_lambda_new_2_0 9 rfl rfl)
theorem dX0_lambda_new_2_10 : decode cX0_lambda_new_2 10 = .ok (.aload_n 1, 1) := dk_43 (dk_at dksX0_lambda_new_2_0 10 rfl rfl)
theorem dX0_lambda_new_2_11 : decode cX0_lambda_new_2 11 = .ok (.iconst 3, 1) := dk_6 (dk_at dksX0_lambda_new_2_0 11 rfl rfl)
theorem dX0_lambda_new_2_12 : decode cX0_lambda_new_2 12 = .ok (.iaload, 1) := dk_46 (dk_at dksX0_lambda_new_2_0 12 rfl rfl)
theorem dX0_lambda_new_2_13 : decode cX0_lambda_new_2 13 = .ok (.invokevirtual 273, 3) := dk_182 1 17 (dk_at dksX0_lambda_new_2_0 13 rfl rfl)
theorem dX0_lambda_new_2_16 : decode cX0_lambda_new_2 16 = .ok (.ireturn, 1) := dk_172 (dk_at dksX0_lambda_new_2_0 16 rfl rfl)
abbrev cX0_moveFault : ByteArray := prog_1_method_34_code
def yX0_moveFault : MethodName := ⟨RX0, "moveFault", "(IIII)I"⟩
def dkwX0_moveFault_2 : List UInt8 := [180, 0, 16, 27, 21, 4, 182, 0, 232, 133, 182, 0, 235, 153, 0, 7, 3, 167, 0, 5, 16, 251, 172]
abbrev dktX0_moveFault_2 : List UInt8 := dkwX0_moveFault_2 ++ []
def dkwX0_moveFault_1 : List UInt8 := [28, 29, 21, 4, 182, 1, 8, 54, 6, 21, 6, 158, 0, 10, 42, 21, 6, 182, 0, 229, 172, 42, 42]
abbrev dktX0_moveFault_1 : List UInt8 := dkwX0_moveFault_1 ++ dktX0_moveFault_2
def dkwX0_moveFault_0 : List UInt8 := [42, 27, 28, 29, 21, 4, 182, 1, 4, 54, 5, 21, 5, 156, 0, 6, 21, 5, 172, 42, 180, 0, 16, 27]
abbrev dktX0_moveFault_0 : List UInt8 := dkwX0_moveFault_0 ++ dktX0_moveFault_1
theorem dksX0_moveFault_0 : cX0_moveFault.data.toList.drop 0 = dktX0_moveFault_0 := by decide +kernel
theorem dksX0_moveFault_1 : cX0_moveFault.data.toList.drop 24 = dktX0_moveFault_1 := dk_seg dksX0_moveFault_0 24 rfl rfl
theorem dksX0_moveFault_2 : cX0_moveFault.data.toList.drop 47 = dktX0_moveFault_2 := dk_seg dksX0_moveFault_1 23 rfl rfl
theorem dX0_moveFault_0 : decode cX0_moveFault 0 = .ok (.aload_n 0, 1) := dk_42 (dk_at dksX0_moveFault_0 0 rfl rfl)
theorem dX0_moveFault_1 : decode cX0_moveFault 1 = .ok (.iload_n 1, 1) := dk_27 (dk_at dksX0_moveFault_0 1 rfl rfl)
theorem dX0_moveFault_2 : decode cX0_moveFault 2 = .ok (.iload_n 2, 1) := dk_28 (dk_at dksX0_moveFault_0 2 rfl rfl)
theorem dX0_moveFault_3 : decode cX0_moveFault 3 = .ok (.iload_n 3, 1) := dk_29 (dk_at dksX0_moveFault_0 3 rfl rfl)
theorem dX0_moveFault_4 : decode cX0_moveFault 4 = .ok (.iload 4, 2) := dk_21 4 (dk_at dksX0_moveFault_0 4 rfl rfl)
theorem dX0_moveFault_6 : decode cX0_moveFault 6 = .ok (.invokevirtual 260, 3) := dk_182 1 4 (dk_at dksX0_moveFault_0 6 rfl rfl)
theorem dX0_moveFault_9 : decode cX0_moveFault 9 = .ok (.istore 5, 2) := dk_54 5 (dk_at dksX0_moveFault_0 9 rfl rfl)
theorem dX0_moveFault_11 : decode cX0_moveFault 11 = .ok (.iload 5, 2) := dk_21 5 (dk_at dksX0_moveFault_0 11 rfl rfl)
theorem dX0_moveFault_13 : decode cX0_moveFault 13 = .ok (.ifCond .ge 6, 3) := dk_156 0 6 (dk_at dksX0_moveFault_0 13 rfl rfl)
theorem dX0_moveFault_16 : decode cX0_moveFault 16 = .ok (.iload 5, 2) := dk_21 5 (dk_at dksX0_moveFault_0 16 rfl rfl)
theorem dX0_moveFault_18 : decode cX0_moveFault 18 = .ok (.ireturn, 1) := dk_172 (dk_at dksX0_moveFault_0 18 rfl rfl)
theorem dX0_moveFault_19 : decode cX0_moveFault 19 = .ok (.aload_n 0, 1) := dk_42 (dk_at dksX0_moveFault_0 19 rfl rfl)
theorem dX0_moveFault_20 : decode cX0_moveFault 20 = .ok (.getfield 16, 3) := dk_180 0 16 (dk_at dksX0_moveFault_0 20 rfl rfl)
theorem dX0_moveFault_23 : decode cX0_moveFault 23 = .ok (.iload_n 1, 1) := dk_27 (dk_at dksX0_moveFault_0 23 rfl rfl)
theorem dX0_moveFault_24 : decode cX0_moveFault 24 = .ok (.iload_n 2, 1) := dk_28 (dk_at dksX0_moveFault_1 0 rfl rfl)
theorem dX0_moveFault_25 : decode cX0_moveFault 25 = .ok (.iload_n 3, 1) := dk_29 (dk_at dksX0_moveFault_1 1 rfl rfl)
theorem dX0_moveFault_26 : decode cX0_moveFault 26 = .ok (.iload 4, 2) := dk_21 4 (dk_at dksX0_moveFault_1 2 rfl rfl)
theorem dX0_moveFault_28 : decode cX0_moveFault 28 = .ok (.invokevirtual 264, 3) := dk_182 1 8 (dk_at dksX0_moveFault_1 4 rfl rfl)
theorem dX0_moveFault_31 : decode cX0_moveFault 31 = .ok (.istore 6, 2) := dk_54 6 (dk_at dksX0_moveFault_1 7 rfl rfl)
theorem dX0_moveFault_33 : decode cX0_moveFault 33 = .ok (.iload 6, 2) := dk_21 6 (dk_at dksX0_moveFault_1 9 rfl rfl)
theorem dX0_moveFault_35 : decode cX0_moveFault 35 = .ok (.ifCond .le 10, 3) := dk_158 0 10 (dk_at dksX0_moveFault_1 11 rfl rfl)
theorem dX0_moveFault_38 : decode cX0_moveFault 38 = .ok (.aload_n 0, 1) := dk_42 (dk_at dksX0_moveFault_1 14 rfl rfl)
theorem dX0_moveFault_39 : decode cX0_moveFault 39 = .ok (.iload 6, 2) := dk_21 6 (dk_at dksX0_moveFault_1 15 rfl rfl)
theorem dX0_moveFault_41 : decode cX0_moveFault 41 = .ok (.invokevirtual 229, 3) := dk_182 0 229 (dk_at dksX0_moveFault_1 17 rfl rfl)
theorem dX0_moveFault_44 : decode cX0_moveFault 44 = .ok (.ireturn, 1) := dk_172 (dk_at dksX0_moveFault_1 20 rfl rfl)
theorem dX0_moveFault_45 : decode cX0_moveFault 45 = .ok (.aload_n 0, 1) := dk_42 (dk_at dksX0_moveFault_1 21 rfl rfl)
theorem dX0_moveFault_46 : decode cX0_moveFault 46 = .ok (.aload_n 0, 1) := dk_42 (dk_at dksX0_moveFault_1 22 rfl rfl)
theorem dX0_moveFault_47 : decode cX0_moveFault 47 = .ok (.getfield 16, 3) := dk_180 0 16 (dk_at dksX0_moveFault_2 0 rfl rfl)
theorem dX0_moveFault_50 : decode cX0_moveFault 50 = .ok (.iload_n 1, 1) := dk_27 (dk_at dksX0_moveFault_2 3 rfl rfl)
theorem dX0_moveFault_51 : decode cX0_moveFault 51 = .ok (.iload 4, 2) := dk_21 4 (dk_at dksX0_moveFault_2 4 rfl rfl)
theorem dX0_moveFault_53 : decode cX0_moveFault 53 = .ok (.invokevirtual 232, 3) := dk_182 0 232 (dk_at dksX0_moveFault_2 6 rfl rfl)
theorem dX0_moveFault_56 : decode cX0_moveFault 56 = .ok (.i2l, 1) := dk_133 (dk_at dksX0_moveFault_2 9 rfl rfl)
theorem dX0_moveFault_57 : decode cX0_moveFault 57 = .ok (.invokevirtual 235, 3) := dk_182 0 235 (dk_at dksX0_moveFault_2 10 rfl rfl)
theorem dX0_moveFault_60 : decode cX0_moveFault 60 = .ok (.ifCond .eq 7, 3) := dk_153 0 7 (dk_at dksX0_moveFault_2 13 rfl rfl)
theorem dX0_moveFault_63 : decode cX0_moveFault 63 = .ok (.iconst 0, 1) := dk_3 (dk_at dksX0_moveFault_2 16 rfl rfl)
theorem dX0_moveFault_64 : decode cX0_moveFault 64 = .ok (.goto 5, 3) := dk_167 0 5 (dk_at dksX0_moveFault_2 17 rfl rfl)
theorem dX0_moveFault_67 : decode cX0_moveFault 67 = .ok (.bipush (-5), 2) := dk_16 251 (dk_at dksX0_moveFault_2 20 rfl rfl)
theorem dX0_moveFault_69 : decode cX0_moveFault 69 = .ok (.ireturn, 1) := dk_172 (dk_at dksX0_moveFault_2 22 rfl rfl)
abbrev cX0_moveArguments : ByteArray := prog_1_method_33_code
def yX0_moveArguments : MethodName := ⟨RX0, "moveArguments", "(IIII)I"⟩
def dkwX0_moveArguments_3 : List UInt8 := [17, 78, 32, 184, 0, 1, 154, 0, 8, 16, 253, 167, 0, 4, 3, 172]
abbrev dktX0_moveArguments_3 : List UInt8 := dkwX0_moveArguments_3 ++ []
def dkwX0_moveArguments_2 : List UInt8 := [180, 0, 82, 182, 0, 86, 79, 184, 0, 137, 154, 0, 6, 16, 254, 172, 28, 29, 159, 0, 15, 21, 4, 4]
abbrev dktX0_moveArguments_2 : List UInt8 := dkwX0_moveArguments_2 ++ dktX0_moveArguments_3
def dkwX0_moveArguments_1 : List UInt8 := [79, 89, 6, 42, 180, 0, 16, 180, 0, 82, 182, 0, 86, 79, 89, 7, 29, 79, 89, 8, 42, 180, 0, 16]
abbrev dktX0_moveArguments_1 : List UInt8 := dkwX0_moveArguments_1 ++ dktX0_moveArguments_2
def dkwX0_moveArguments_0 : List UInt8 := [16, 6, 188, 10, 89, 3, 27, 79, 89, 4, 42, 180, 0, 16, 180, 0, 89, 182, 0, 86, 79, 89, 5, 28]
abbrev dktX0_moveArguments_0 : List UInt8 := dkwX0_moveArguments_0 ++ dktX0_moveArguments_1
theorem dksX0_moveArguments_0 : cX0_moveArguments.data.toList.drop 0 = dktX0_moveArguments_0 := by decide +kernel
theorem dksX0_moveArguments_1 : cX0_moveArguments.data.toList.drop 24 = dktX0_moveArguments_1 := dk_seg dksX0_moveArguments_0 24 rfl rfl
theorem dksX0_moveArguments_2 : cX0_moveArguments.data.toList.drop 48 = dktX0_moveArguments_2 := dk_seg dksX0_moveArguments_1 24 rfl rfl
theorem dksX0_moveArguments_3 : cX0_moveArguments.data.toList.drop 72 = dktX0_moveArguments_3 := dk_seg dksX0_moveArguments_2 24 rfl rfl
theorem dX0_moveArguments_0 : decode cX0_moveArguments 0 = .ok (.bipush 6, 2) := dk_16 6 (dk_at dksX0_moveArguments_0 0 rfl rfl)
theorem dX0_moveArguments_2 : decode cX0_moveArguments 2 = .ok (.newarray .int, 2) := dk_188_10 (dk_at dksX0_moveArguments_0 2 rfl rfl)
theorem dX0_moveArguments_4 : decode cX0_moveArguments 4 = .ok (.dup, 1) := dk_89 (dk_at dksX0_moveArguments_0 4 rfl rfl)
theorem dX0_moveArguments_5 : decode cX0_moveArguments 5 = .ok (.iconst 0, 1) := dk_3 (dk_at dksX0_moveArguments_0 5 rfl rfl)
theorem dX0_moveArguments_6 : decode cX0_moveArguments 6 = .ok (.iload_n 1, 1) := dk_27 (dk_at dksX0_moveArguments_0 6 rfl rfl)
theorem dX0_moveArguments_7 : decode cX0_moveArguments 7 = .ok (.iastore, 1) := dk_79 (dk_at dksX0_moveArguments_0 7 rfl rfl)
theorem dX0_moveArguments_8 : decode cX0_moveArguments 8 = .ok (.dup, 1) := dk_89 (dk_at dksX0_moveArguments_0 8 rfl rfl)
theorem dX0_moveArguments_9 : decode cX0_moveArguments 9 = .ok (.iconst 1, 1) := dk_4 (dk_at dksX0_moveArguments_0 9 rfl rfl)
theorem dX0_moveArguments_10 : decode cX0_moveArguments 10 = .ok (.aload_n 0, 1) := dk_42 (dk_at dksX0_moveArguments_0 10 rfl rfl)
theorem dX0_moveArguments_11 : decode cX0_moveArguments 11 = .ok (.getfield 16, 3) := dk_180 0 16 (dk_at dksX0_moveArguments_0 11 rfl rfl)
theorem dX0_moveArguments_14 : decode cX0_moveArguments 14 = .ok (.getfield 89, 3) := dk_180 0 89 (dk_at dksX0_moveArguments_0 14 rfl rfl)
theorem dX0_moveArguments_17 : decode cX0_moveArguments 17 = .ok (.invokevirtual 86, 3) := dk_182 0 86 (dk_at dksX0_moveArguments_0 17 rfl rfl)
theorem dX0_moveArguments_20 : decode cX0_moveArguments 20 = .ok (.iastore, 1) := dk_79 (dk_at dksX0_moveArguments_0 20 rfl rfl)
theorem dX0_moveArguments_21 : decode cX0_moveArguments 21 = .ok (.dup, 1) := dk_89 (dk_at dksX0_moveArguments_0 21 rfl rfl)
theorem dX0_moveArguments_22 : decode cX0_moveArguments 22 = .ok (.iconst 2, 1) := dk_5 (dk_at dksX0_moveArguments_0 22 rfl rfl)
theorem dX0_moveArguments_23 : decode cX0_moveArguments 23 = .ok (.iload_n 2, 1) := dk_28 (dk_at dksX0_moveArguments_0 23 rfl rfl)
theorem dX0_moveArguments_24 : decode cX0_moveArguments 24 = .ok (.iastore, 1) := dk_79 (dk_at dksX0_moveArguments_1 0 rfl rfl)
theorem dX0_moveArguments_25 : decode cX0_moveArguments 25 = .ok (.dup, 1) := dk_89 (dk_at dksX0_moveArguments_1 1 rfl rfl)
theorem dX0_moveArguments_26 : decode cX0_moveArguments 26 = .ok (.iconst 3, 1) := dk_6 (dk_at dksX0_moveArguments_1 2 rfl rfl)
theorem dX0_moveArguments_27 : decode cX0_moveArguments 27 = .ok (.aload_n 0, 1) := dk_42 (dk_at dksX0_moveArguments_1 3 rfl rfl)
theorem dX0_moveArguments_28 : decode cX0_moveArguments 28 = .ok (.getfield 16, 3) := dk_180 0 16 (dk_at dksX0_moveArguments_1 4 rfl rfl)
theorem dX0_moveArguments_31 : decode cX0_moveArguments 31 = .ok (.getfield 82, 3) := dk_180 0 82 (dk_at dksX0_moveArguments_1 7 rfl rfl)
theorem dX0_moveArguments_34 : decode cX0_moveArguments 34 = .ok (.invokevirtual 86, 3) := dk_182 0 86 (dk_at dksX0_moveArguments_1 10 rfl rfl)
theorem dX0_moveArguments_37 : decode cX0_moveArguments 37 = .ok (.iastore, 1) := dk_79 (dk_at dksX0_moveArguments_1 13 rfl rfl)
theorem dX0_moveArguments_38 : decode cX0_moveArguments 38 = .ok (.dup, 1) := dk_89 (dk_at dksX0_moveArguments_1 14 rfl rfl)
theorem dX0_moveArguments_39 : decode cX0_moveArguments 39 = .ok (.iconst 4, 1) := dk_7 (dk_at dksX0_moveArguments_1 15 rfl rfl)
theorem dX0_moveArguments_40 : decode cX0_moveArguments 40 = .ok (.iload_n 3, 1) := dk_29 (dk_at dksX0_moveArguments_1 16 rfl rfl)
theorem dX0_moveArguments_41 : decode cX0_moveArguments 41 = .ok (.iastore, 1) := dk_79 (dk_at dksX0_moveArguments_1 17 rfl rfl)
theorem dX0_moveArguments_42 : decode cX0_moveArguments 42 = .ok (.dup, 1) := dk_89 (dk_at dksX0_moveArguments_1 18 rfl rfl)
theorem dX0_moveArguments_43 : decode cX0_moveArguments 43 = .ok (.iconst 5, 1) := dk_8 (dk_at dksX0_moveArguments_1 19 rfl rfl)
theorem dX0_moveArguments_44 : decode cX0_moveArguments 44 = .ok (.aload_n 0, 1) := dk_42 (dk_at dksX0_moveArguments_1 20 rfl rfl)
theorem dX0_moveArguments_45 : decode cX0_moveArguments 45 = .ok (.getfield 16, 3) := dk_180 0 16 (dk_at dksX0_moveArguments_1 21 rfl rfl)
theorem dX0_moveArguments_48 : decode cX0_moveArguments 48 = .ok (.getfield 82, 3) := dk_180 0 82 (dk_at dksX0_moveArguments_2 0 rfl rfl)
theorem dX0_moveArguments_51 : decode cX0_moveArguments 51 = .ok (.invokevirtual 86, 3) := dk_182 0 86 (dk_at dksX0_moveArguments_2 3 rfl rfl)
theorem dX0_moveArguments_54 : decode cX0_moveArguments 54 = .ok (.iastore, 1) := dk_79 (dk_at dksX0_moveArguments_2 6 rfl rfl)
theorem dX0_moveArguments_55 : decode cX0_moveArguments 55 = .ok (.invokestatic 137, 3) := dk_184 0 137 (dk_at dksX0_moveArguments_2 7 rfl rfl)
theorem dX0_moveArguments_58 : decode cX0_moveArguments 58 = .ok (.ifCond .ne 6, 3) := dk_154 0 6 (dk_at dksX0_moveArguments_2 10 rfl rfl)
theorem dX0_moveArguments_61 : decode cX0_moveArguments 61 = .ok (.bipush (-2), 2) := dk_16 254 (dk_at dksX0_moveArguments_2 13 rfl rfl)
theorem dX0_moveArguments_63 : decode cX0_moveArguments 63 = .ok (.ireturn, 1) := dk_172 (dk_at dksX0_moveArguments_2 15 rfl rfl)
theorem dX0_moveArguments_64 : decode cX0_moveArguments 64 = .ok (.iload_n 2, 1) := dk_28 (dk_at dksX0_moveArguments_2 16 rfl rfl)
theorem dX0_moveArguments_65 : decode cX0_moveArguments 65 = .ok (.iload_n 3, 1) := dk_29 (dk_at dksX0_moveArguments_2 17 rfl rfl)
theorem dX0_moveArguments_66 : decode cX0_moveArguments 66 = .ok (.if_icmp .eq 15, 3) := dk_159 0 15 (dk_at dksX0_moveArguments_2 18 rfl rfl)
theorem dX0_moveArguments_69 : decode cX0_moveArguments 69 = .ok (.iload 4, 2) := dk_21 4 (dk_at dksX0_moveArguments_2 21 rfl rfl)
theorem dX0_moveArguments_71 : decode cX0_moveArguments 71 = .ok (.iconst 1, 1) := dk_4 (dk_at dksX0_moveArguments_2 23 rfl rfl)
theorem dX0_moveArguments_72 : decode cX0_moveArguments 72 = .ok (.sipush 20000, 3) := dk_17 78 32 (dk_at dksX0_moveArguments_3 0 rfl rfl)
theorem dX0_moveArguments_75 : decode cX0_moveArguments 75 = .ok (.invokestatic 1, 3) := dk_184 0 1 (dk_at dksX0_moveArguments_3 3 rfl rfl)
theorem dX0_moveArguments_78 : decode cX0_moveArguments 78 = .ok (.ifCond .ne 8, 3) := dk_154 0 8 (dk_at dksX0_moveArguments_3 6 rfl rfl)
theorem dX0_moveArguments_81 : decode cX0_moveArguments 81 = .ok (.bipush (-3), 2) := dk_16 253 (dk_at dksX0_moveArguments_3 9 rfl rfl)
theorem dX0_moveArguments_83 : decode cX0_moveArguments 83 = .ok (.goto 4, 3) := dk_167 0 4 (dk_at dksX0_moveArguments_3 11 rfl rfl)
theorem dX0_moveArguments_86 : decode cX0_moveArguments 86 = .ok (.iconst 0, 1) := dk_3 (dk_at dksX0_moveArguments_3 14 rfl rfl)
theorem dX0_moveArguments_87 : decode cX0_moveArguments 87 = .ok (.ireturn, 1) := dk_172 (dk_at dksX0_moveArguments_3 15 rfl rfl)
abbrev cX0_lambda_new_3 : ByteArray := prog_1_method_81_code
def yX0_lambda_new_3 : MethodName := ⟨RX0, "lambda$new$3", "([I)I"⟩
def dkwX0_lambda_new_3_0 : List UInt8 := [42, 43, 3, 46, 43, 4, 46, 43, 5, 46, 43, 6, 46, 182, 1, 20, 172]
abbrev dktX0_lambda_new_3_0 : List UInt8 := dkwX0_lambda_new_3_0 ++ []
theorem dksX0_lambda_new_3_0 : cX0_lambda_new_3.data.toList.drop 0 = dktX0_lambda_new_3_0 := by decide +kernel
theorem dX0_lambda_new_3_0 : decode cX0_lambda_new_3 0 = .ok (.aload_n 0, 1) := dk_42 (dk_at dksX0_lambda_new_3_0 0 rfl rfl)
theorem dX0_lambda_new_3_1 : decode cX0_lambda_new_3 1 = .ok (.aload_n 1, 1) := dk_43 (dk_at dksX0_lambda_new_3_0 1 rfl rfl)
theorem dX0_lambda_new_3_2 : decode cX0_lambda_new_3 2 = .ok (.iconst 0, 1) := dk_3 (dk_at dksX0_lambda_new_3_0 2 rfl rfl)
theorem dX0_lambda_new_3_3 : decode cX0_lambda_new_3 3 = .ok (.iaload, 1) := dk_46 (dk_at dksX0_lambda_new_3_0 3 rfl rfl)
theorem dX0_lambda_new_3_4 : decode cX0_lambda_new_3 4 = .ok (.aload_n 1, 1) := dk_43 (dk_at dksX0_lambda_new_3_0 4 rfl rfl)
theorem dX0_lambda_new_3_5 : decode cX0_lambda_new_3 5 = .ok (.iconst 1, 1) := dk_4 (dk_at dksX0_lambda_new_3_0 5 rfl rfl)
theorem dX0_lambda_new_3_6 : decode cX0_lambda_new_3 6 = .ok (.iaload, 1) := dk_46 (dk_at dksX0_lambda_new_3_0 6 rfl rfl)
theorem dX0_lambda_new_3_7 : decode cX0_lambda_new_3 7 = .ok (.aload_n 1, 1) := dk_43 (dk_at dksX0_lambda_new_3_0 7 rfl rfl)
theorem dX0_lambda_new_3_8 : decode cX0_lambda_new_3 8 = .ok (.iconst 2, 1) := dk_5 (dk_at dksX0_lambda_new_3_0 8 rfl rfl)
theorem dX0_lambda_new_3_9 : decode cX0_lambda_new_3 9 = .ok (.iaload, 1) := dk_46 (dk_at dksX0_lambda_new_3_0 9 rfl rfl)
theorem dX0_lambda_new_3_10 : decode cX0_lambda_new_3 10 = .ok (.aload_n 1, 1) := dk_43 (dk_at dksX0_lambda_new_3_0 10 rfl rfl)
theorem dX0_lambda_new_3_11 : decode cX0_lambda_new_3 11 = .ok (.iconst 3, 1) := dk_6 (dk_at dksX0_lambda_new_3_0 11 rfl rfl)
theorem dX0_lambda_new_3_12 : decode cX0_lambda_new_3 12 = .ok (.iaload, 1) := dk_46 (dk_at dksX0_lambda_new_3_0 12 rfl rfl)
theorem dX0_lambda_new_3_13 : decode cX0_lambda_new_3 13 = .ok (.invokevirtual 276, 3) := dk_182 1 20 (dk_at dksX0_lambda_new_3_0 13 rfl rfl)
theorem dX0_lambda_new_3_16 : decode cX0_lambda_new_3 16 = .ok (.ireturn, 1) := dk_172 (dk_at dksX0_lambda_new_3_0 16 rfl rfl)
abbrev cX0_doMove : ByteArray := prog_1_method_35_code
def yX0_doMove : MethodName := ⟨RX0, "doMove", "(IIII)I"⟩
def dkwX0_doMove_4 : List UInt8 := [21, 4, 21, 6, 21, 4, 108, 182, 0, 246, 21, 6, 172]
abbrev dktX0_doMove_4 : List UInt8 := dkwX0_doMove_4 ++ []
def dkwX0_doMove_3 : List UInt8 := [21, 4, 21, 6, 21, 5, 182, 0, 242, 42, 180, 0, 16, 180, 0, 89, 27, 182, 0, 118, 192, 0, 128]
abbrev dktX0_doMove_3 : List UInt8 := dkwX0_doMove_3 ++ dktX0_doMove_4
def dkwX0_doMove_2 : List UInt8 := [192, 0, 107, 21, 4, 182, 1, 14, 54, 6, 42, 180, 0, 16, 180, 0, 82, 29, 182, 0, 118, 192, 0, 107]
abbrev dktX0_doMove_2 : List UInt8 := dkwX0_doMove_2 ++ dktX0_doMove_3
def dkwX0_doMove_1 : List UInt8 := [28, 182, 0, 118, 192, 0, 107, 180, 1, 11, 54, 5, 42, 180, 0, 16, 180, 0, 82, 28, 182, 0, 118]
abbrev dktX0_doMove_1 : List UInt8 := dkwX0_doMove_1 ++ dktX0_doMove_2
def dkwX0_doMove_0 : List UInt8 := [42, 180, 0, 16, 42, 180, 0, 16, 27, 21, 4, 182, 0, 232, 182, 0, 239, 42, 180, 0, 16, 180, 0, 82]
abbrev dktX0_doMove_0 : List UInt8 := dkwX0_doMove_0 ++ dktX0_doMove_1
theorem dksX0_doMove_0 : cX0_doMove.data.toList.drop 0 = dktX0_doMove_0 := by decide +kernel
theorem dksX0_doMove_1 : cX0_doMove.data.toList.drop 24 = dktX0_doMove_1 := dk_seg dksX0_doMove_0 24 rfl rfl
theorem dksX0_doMove_2 : cX0_doMove.data.toList.drop 47 = dktX0_doMove_2 := dk_seg dksX0_doMove_1 23 rfl rfl
theorem dksX0_doMove_3 : cX0_doMove.data.toList.drop 71 = dktX0_doMove_3 := dk_seg dksX0_doMove_2 24 rfl rfl
theorem dksX0_doMove_4 : cX0_doMove.data.toList.drop 94 = dktX0_doMove_4 := dk_seg dksX0_doMove_3 23 rfl rfl
theorem dX0_doMove_0 : decode cX0_doMove 0 = .ok (.aload_n 0, 1) := dk_42 (dk_at dksX0_doMove_0 0 rfl rfl)
theorem dX0_doMove_1 : decode cX0_doMove 1 = .ok (.getfield 16, 3) := dk_180 0 16 (dk_at dksX0_doMove_0 1 rfl rfl)
theorem dX0_doMove_4 : decode cX0_doMove 4 = .ok (.aload_n 0, 1) := dk_42 (dk_at dksX0_doMove_0 4 rfl rfl)
theorem dX0_doMove_5 : decode cX0_doMove 5 = .ok (.getfield 16, 3) := dk_180 0 16 (dk_at dksX0_doMove_0 5 rfl rfl)
theorem dX0_doMove_8 : decode cX0_doMove 8 = .ok (.iload_n 1, 1) := dk_27 (dk_at dksX0_doMove_0 8 rfl rfl)
theorem dX0_doMove_9 : decode cX0_doMove 9 = .ok (.iload 4, 2) := dk_21 4 (dk_at dksX0_doMove_0 9 rfl rfl)
theorem dX0_doMove_11 : decode cX0_doMove 11 = .ok (.invokevirtual 232, 3) := dk_182 0 232 (dk_at dksX0_doMove_0 11 rfl rfl)
theorem dX0_doMove_14 : decode cX0_doMove 14 = .ok (.invokevirtual 239, 3) := dk_182 0 239 (dk_at dksX0_doMove_0 14 rfl rfl)
theorem dX0_doMove_17 : decode cX0_doMove 17 = .ok (.aload_n 0, 1) := dk_42 (dk_at dksX0_doMove_0 17 rfl rfl)
theorem dX0_doMove_18 : decode cX0_doMove 18 = .ok (.getfield 16, 3) := dk_180 0 16 (dk_at dksX0_doMove_0 18 rfl rfl)
theorem dX0_doMove_21 : decode cX0_doMove 21 = .ok (.getfield 82, 3) := dk_180 0 82 (dk_at dksX0_doMove_0 21 rfl rfl)
theorem dX0_doMove_24 : decode cX0_doMove 24 = .ok (.iload_n 2, 1) := dk_28 (dk_at dksX0_doMove_1 0 rfl rfl)
theorem dX0_doMove_25 : decode cX0_doMove 25 = .ok (.invokevirtual 118, 3) := dk_182 0 118 (dk_at dksX0_doMove_1 1 rfl rfl)
theorem dX0_doMove_28 : decode cX0_doMove 28 = .ok (.checkcast 107, 3) := dk_192 0 107 (dk_at dksX0_doMove_1 4 rfl rfl)
theorem dX0_doMove_31 : decode cX0_doMove 31 = .ok (.getfield 267, 3) := dk_180 1 11 (dk_at dksX0_doMove_1 7 rfl rfl)
theorem dX0_doMove_34 : decode cX0_doMove 34 = .ok (.istore 5, 2) := dk_54 5 (dk_at dksX0_doMove_1 10 rfl rfl)
theorem dX0_doMove_36 : decode cX0_doMove 36 = .ok (.aload_n 0, 1) := dk_42 (dk_at dksX0_doMove_1 12 rfl rfl)
theorem dX0_doMove_37 : decode cX0_doMove 37 = .ok (.getfield 16, 3) := dk_180 0 16 (dk_at dksX0_doMove_1 13 rfl rfl)
theorem dX0_doMove_40 : decode cX0_doMove 40 = .ok (.getfield 82, 3) := dk_180 0 82 (dk_at dksX0_doMove_1 16 rfl rfl)
theorem dX0_doMove_43 : decode cX0_doMove 43 = .ok (.iload_n 2, 1) := dk_28 (dk_at dksX0_doMove_1 19 rfl rfl)
theorem dX0_doMove_44 : decode cX0_doMove 44 = .ok (.invokevirtual 118, 3) := dk_182 0 118 (dk_at dksX0_doMove_1 20 rfl rfl)
theorem dX0_doMove_47 : decode cX0_doMove 47 = .ok (.checkcast 107, 3) := dk_192 0 107 (dk_at dksX0_doMove_2 0 rfl rfl)
theorem dX0_doMove_50 : decode cX0_doMove 50 = .ok (.iload 4, 2) := dk_21 4 (dk_at dksX0_doMove_2 3 rfl rfl)
theorem dX0_doMove_52 : decode cX0_doMove 52 = .ok (.invokevirtual 270, 3) := dk_182 1 14 (dk_at dksX0_doMove_2 5 rfl rfl)
theorem dX0_doMove_55 : decode cX0_doMove 55 = .ok (.istore 6, 2) := dk_54 6 (dk_at dksX0_doMove_2 8 rfl rfl)
theorem dX0_doMove_57 : decode cX0_doMove 57 = .ok (.aload_n 0, 1) := dk_42 (dk_at dksX0_doMove_2 10 rfl rfl)
theorem dX0_doMove_58 : decode cX0_doMove 58 = .ok (.getfield 16, 3) := dk_180 0 16 (dk_at dksX0_doMove_2 11 rfl rfl)
theorem dX0_doMove_61 : decode cX0_doMove 61 = .ok (.getfield 82, 3) := dk_180 0 82 (dk_at dksX0_doMove_2 14 rfl rfl)
theorem dX0_doMove_64 : decode cX0_doMove 64 = .ok (.iload_n 3, 1) := dk_29 (dk_at dksX0_doMove_2 17 rfl rfl)
theorem dX0_doMove_65 : decode cX0_doMove 65 = .ok (.invokevirtual 118, 3) := dk_182 0 118 (dk_at dksX0_doMove_2 18 rfl rfl)
theorem dX0_doMove_68 : decode cX0_doMove 68 = .ok (.checkcast 107, 3) := dk_192 0 107 (dk_at dksX0_doMove_2 21 rfl rfl)
theorem dX0_doMove_71 : decode cX0_doMove 71 = .ok (.iload 4, 2) := dk_21 4 (dk_at dksX0_doMove_3 0 rfl rfl)
theorem dX0_doMove_73 : decode cX0_doMove 73 = .ok (.iload 6, 2) := dk_21 6 (dk_at dksX0_doMove_3 2 rfl rfl)
theorem dX0_doMove_75 : decode cX0_doMove 75 = .ok (.iload 5, 2) := dk_21 5 (dk_at dksX0_doMove_3 4 rfl rfl)
theorem dX0_doMove_77 : decode cX0_doMove 77 = .ok (.invokevirtual 242, 3) := dk_182 0 242 (dk_at dksX0_doMove_3 6 rfl rfl)
theorem dX0_doMove_80 : decode cX0_doMove 80 = .ok (.aload_n 0, 1) := dk_42 (dk_at dksX0_doMove_3 9 rfl rfl)
theorem dX0_doMove_81 : decode cX0_doMove 81 = .ok (.getfield 16, 3) := dk_180 0 16 (dk_at dksX0_doMove_3 10 rfl rfl)
theorem dX0_doMove_84 : decode cX0_doMove 84 = .ok (.getfield 89, 3) := dk_180 0 89 (dk_at dksX0_doMove_3 13 rfl rfl)
theorem dX0_doMove_87 : decode cX0_doMove 87 = .ok (.iload_n 1, 1) := dk_27 (dk_at dksX0_doMove_3 16 rfl rfl)
theorem dX0_doMove_88 : decode cX0_doMove 88 = .ok (.invokevirtual 118, 3) := dk_182 0 118 (dk_at dksX0_doMove_3 17 rfl rfl)
theorem dX0_doMove_91 : decode cX0_doMove 91 = .ok (.checkcast 128, 3) := dk_192 0 128 (dk_at dksX0_doMove_3 20 rfl rfl)
theorem dX0_doMove_94 : decode cX0_doMove 94 = .ok (.iload 4, 2) := dk_21 4 (dk_at dksX0_doMove_4 0 rfl rfl)
theorem dX0_doMove_96 : decode cX0_doMove 96 = .ok (.iload 6, 2) := dk_21 6 (dk_at dksX0_doMove_4 2 rfl rfl)
theorem dX0_doMove_98 : decode cX0_doMove 98 = .ok (.iload 4, 2) := dk_21 4 (dk_at dksX0_doMove_4 4 rfl rfl)
theorem dX0_doMove_100 : decode cX0_doMove 100 = .ok (.idiv, 1) := dk_108 (dk_at dksX0_doMove_4 6 rfl rfl)
theorem dX0_doMove_101 : decode cX0_doMove 101 = .ok (.invokevirtual 246, 3) := dk_182 0 246 (dk_at dksX0_doMove_4 7 rfl rfl)
theorem dX0_doMove_104 : decode cX0_doMove 104 = .ok (.iload 6, 2) := dk_21 6 (dk_at dksX0_doMove_4 10 rfl rfl)
theorem dX0_doMove_106 : decode cX0_doMove 106 = .ok (.ireturn, 1) := dk_172 (dk_at dksX0_doMove_4 12 rfl rfl)
abbrev cX0_lambda_new_4 : ByteArray := prog_1_method_80_code
def yX0_lambda_new_4 : MethodName := ⟨RX0, "lambda$new$4", "([I)I"⟩
def dkwX0_lambda_new_4_0 : List UInt8 := [42, 43, 3, 46, 43, 4, 46, 182, 1, 28, 172]
abbrev dktX0_lambda_new_4_0 : List UInt8 := dkwX0_lambda_new_4_0 ++ []
theorem dksX0_lambda_new_4_0 : cX0_lambda_new_4.data.toList.drop 0 = dktX0_lambda_new_4_0 := by decide +kernel
theorem dX0_lambda_new_4_0 : decode cX0_lambda_new_4 0 = .ok (.aload_n 0, 1) := dk_42 (dk_at dksX0_lambda_new_4_0 0 rfl rfl)
theorem dX0_lambda_new_4_1 : decode cX0_lambda_new_4 1 = .ok (.aload_n 1, 1) := dk_43 (dk_at dksX0_lambda_new_4_0 1 rfl rfl)
theorem dX0_lambda_new_4_2 : decode cX0_lambda_new_4 2 = .ok (.iconst 0, 1) := dk_3 (dk_at dksX0_lambda_new_4_0 2 rfl rfl)
theorem dX0_lambda_new_4_3 : decode cX0_lambda_new_4 3 = .ok (.iaload, 1) := dk_46 (dk_at dksX0_lambda_new_4_0 3 rfl rfl)
theorem dX0_lambda_new_4_4 : decode cX0_lambda_new_4 4 = .ok (.aload_n 1, 1) := dk_43 (dk_at dksX0_lambda_new_4_0 4 rfl rfl)
theorem dX0_lambda_new_4_5 : decode cX0_lambda_new_4 5 = .ok (.iconst 1, 1) := dk_4 (dk_at dksX0_lambda_new_4_0 5 rfl rfl)
theorem dX0_lambda_new_4_6 : decode cX0_lambda_new_4 6 = .ok (.iaload, 1) := dk_46 (dk_at dksX0_lambda_new_4_0 6 rfl rfl)
theorem dX0_lambda_new_4_7 : decode cX0_lambda_new_4 7 = .ok (.invokevirtual 284, 3) := dk_182 1 28 (dk_at dksX0_lambda_new_4_0 7 rfl rfl)
theorem dX0_lambda_new_4_10 : decode cX0_lambda_new_4 10 = .ok (.ireturn, 1) := dk_172 (dk_at dksX0_lambda_new_4_0 10 rfl rfl)
abbrev cX0_cleanFault : ByteArray := prog_1_method_38_code
def yX0_cleanFault : MethodName := ⟨RX0, "cleanFault", "(II)I"⟩
def dkwX0_cleanFault_1 : List UInt8 := [172, 42, 28, 133, 182, 0, 235, 153, 0, 7, 3, 167, 0, 5, 16, 251, 172]
abbrev dktX0_cleanFault_1 : List UInt8 := dkwX0_cleanFault_1 ++ []
def dkwX0_cleanFault_0 : List UInt8 := [42, 27, 182, 0, 131, 154, 0, 6, 16, 254, 172, 28, 4, 17, 3, 232, 184, 0, 1, 154, 0, 6, 16, 253]
abbrev dktX0_cleanFault_0 : List UInt8 := dkwX0_cleanFault_0 ++ dktX0_cleanFault_1
theorem dksX0_cleanFault_0 : cX0_cleanFault.data.toList.drop 0 = dktX0_cleanFault_0 := by decide +kernel
theorem dksX0_cleanFault_1 : cX0_cleanFault.data.toList.drop 24 = dktX0_cleanFault_1 := dk_seg dksX0_cleanFault_0 24 rfl rfl
theorem dX0_cleanFault_0 : decode cX0_cleanFault 0 = .ok (.aload_n 0, 1) := dk_42 (dk_at dksX0_cleanFault_0 0 rfl rfl)
theorem dX0_cleanFault_1 : decode cX0_cleanFault 1 = .ok (.iload_n 1, 1) := dk_27 (dk_at dksX0_cleanFault_0 1 rfl rfl)
theorem dX0_cleanFault_2 : decode cX0_cleanFault 2 = .ok (.invokevirtual 131, 3) := dk_182 0 131 (dk_at dksX0_cleanFault_0 2 rfl rfl)
theorem dX0_cleanFault_5 : decode cX0_cleanFault 5 = .ok (.ifCond .ne 6, 3) := dk_154 0 6 (dk_at dksX0_cleanFault_0 5 rfl rfl)
theorem dX0_cleanFault_8 : decode cX0_cleanFault 8 = .ok (.bipush (-2), 2) := dk_16 254 (dk_at dksX0_cleanFault_0 8 rfl rfl)
theorem dX0_cleanFault_10 : decode cX0_cleanFault 10 = .ok (.ireturn, 1) := dk_172 (dk_at dksX0_cleanFault_0 10 rfl rfl)
theorem dX0_cleanFault_11 : decode cX0_cleanFault 11 = .ok (.iload_n 2, 1) := dk_28 (dk_at dksX0_cleanFault_0 11 rfl rfl)
theorem dX0_cleanFault_12 : decode cX0_cleanFault 12 = .ok (.iconst 1, 1) := dk_4 (dk_at dksX0_cleanFault_0 12 rfl rfl)
theorem dX0_cleanFault_13 : decode cX0_cleanFault 13 = .ok (.sipush 1000, 3) := dk_17 3 232 (dk_at dksX0_cleanFault_0 13 rfl rfl)
theorem dX0_cleanFault_16 : decode cX0_cleanFault 16 = .ok (.invokestatic 1, 3) := dk_184 0 1 (dk_at dksX0_cleanFault_0 16 rfl rfl)
theorem dX0_cleanFault_19 : decode cX0_cleanFault 19 = .ok (.ifCond .ne 6, 3) := dk_154 0 6 (dk_at dksX0_cleanFault_0 19 rfl rfl)
theorem dX0_cleanFault_22 : decode cX0_cleanFault 22 = .ok (.bipush (-3), 2) := dk_16 253 (dk_at dksX0_cleanFault_0 22 rfl rfl)
theorem dX0_cleanFault_24 : decode cX0_cleanFault 24 = .ok (.ireturn, 1) := dk_172 (dk_at dksX0_cleanFault_1 0 rfl rfl)
theorem dX0_cleanFault_25 : decode cX0_cleanFault 25 = .ok (.aload_n 0, 1) := dk_42 (dk_at dksX0_cleanFault_1 1 rfl rfl)
theorem dX0_cleanFault_26 : decode cX0_cleanFault 26 = .ok (.iload_n 2, 1) := dk_28 (dk_at dksX0_cleanFault_1 2 rfl rfl)
theorem dX0_cleanFault_27 : decode cX0_cleanFault 27 = .ok (.i2l, 1) := dk_133 (dk_at dksX0_cleanFault_1 3 rfl rfl)
theorem dX0_cleanFault_28 : decode cX0_cleanFault 28 = .ok (.invokevirtual 235, 3) := dk_182 0 235 (dk_at dksX0_cleanFault_1 4 rfl rfl)
theorem dX0_cleanFault_31 : decode cX0_cleanFault 31 = .ok (.ifCond .eq 7, 3) := dk_153 0 7 (dk_at dksX0_cleanFault_1 7 rfl rfl)
theorem dX0_cleanFault_34 : decode cX0_cleanFault 34 = .ok (.iconst 0, 1) := dk_3 (dk_at dksX0_cleanFault_1 10 rfl rfl)
theorem dX0_cleanFault_35 : decode cX0_cleanFault 35 = .ok (.goto 5, 3) := dk_167 0 5 (dk_at dksX0_cleanFault_1 11 rfl rfl)
theorem dX0_cleanFault_38 : decode cX0_cleanFault 38 = .ok (.bipush (-5), 2) := dk_16 251 (dk_at dksX0_cleanFault_1 14 rfl rfl)
theorem dX0_cleanFault_40 : decode cX0_cleanFault 40 = .ok (.ireturn, 1) := dk_172 (dk_at dksX0_cleanFault_1 16 rfl rfl)
abbrev cX0_isLeg : ByteArray := prog_1_method_9_code
def yX0_isLeg : MethodName := ⟨RX0, "isLeg", "(I)Z"⟩
def dkwX0_isLeg_0 : List UInt8 := [27, 3, 42, 180, 0, 16, 180, 0, 89, 182, 0, 86, 4, 100, 184, 0, 1, 172]
abbrev dktX0_isLeg_0 : List UInt8 := dkwX0_isLeg_0 ++ []
theorem dksX0_isLeg_0 : cX0_isLeg.data.toList.drop 0 = dktX0_isLeg_0 := by decide +kernel
theorem dX0_isLeg_0 : decode cX0_isLeg 0 = .ok (.iload_n 1, 1) := dk_27 (dk_at dksX0_isLeg_0 0 rfl rfl)
theorem dX0_isLeg_1 : decode cX0_isLeg 1 = .ok (.iconst 0, 1) := dk_3 (dk_at dksX0_isLeg_0 1 rfl rfl)
theorem dX0_isLeg_2 : decode cX0_isLeg 2 = .ok (.aload_n 0, 1) := dk_42 (dk_at dksX0_isLeg_0 2 rfl rfl)
theorem dX0_isLeg_3 : decode cX0_isLeg 3 = .ok (.getfield 16, 3) := dk_180 0 16 (dk_at dksX0_isLeg_0 3 rfl rfl)
theorem dX0_isLeg_6 : decode cX0_isLeg 6 = .ok (.getfield 89, 3) := dk_180 0 89 (dk_at dksX0_isLeg_0 6 rfl rfl)
theorem dX0_isLeg_9 : decode cX0_isLeg 9 = .ok (.invokevirtual 86, 3) := dk_182 0 86 (dk_at dksX0_isLeg_0 9 rfl rfl)
theorem dX0_isLeg_12 : decode cX0_isLeg 12 = .ok (.iconst 1, 1) := dk_4 (dk_at dksX0_isLeg_0 12 rfl rfl)
theorem dX0_isLeg_13 : decode cX0_isLeg 13 = .ok (.isub, 1) := dk_100 (dk_at dksX0_isLeg_0 13 rfl rfl)
theorem dX0_isLeg_14 : decode cX0_isLeg 14 = .ok (.invokestatic 1, 3) := dk_184 0 1 (dk_at dksX0_isLeg_0 14 rfl rfl)
theorem dX0_isLeg_17 : decode cX0_isLeg 17 = .ok (.ireturn, 1) := dk_172 (dk_at dksX0_isLeg_0 17 rfl rfl)
abbrev cX0_lambda_new_5 : ByteArray := prog_1_method_79_code
def yX0_lambda_new_5 : MethodName := ⟨RX0, "lambda$new$5", "([I)I"⟩
def dkwX0_lambda_new_5_0 : List UInt8 := [42, 43, 3, 46, 43, 4, 46, 182, 1, 31, 172]
abbrev dktX0_lambda_new_5_0 : List UInt8 := dkwX0_lambda_new_5_0 ++ []
theorem dksX0_lambda_new_5_0 : cX0_lambda_new_5.data.toList.drop 0 = dktX0_lambda_new_5_0 := by decide +kernel
theorem dX0_lambda_new_5_0 : decode cX0_lambda_new_5 0 = .ok (.aload_n 0, 1) := dk_42 (dk_at dksX0_lambda_new_5_0 0 rfl rfl)
theorem dX0_lambda_new_5_1 : decode cX0_lambda_new_5 1 = .ok (.aload_n 1, 1) := dk_43 (dk_at dksX0_lambda_new_5_0 1 rfl rfl)
theorem dX0_lambda_new_5_2 : decode cX0_lambda_new_5 2 = .ok (.iconst 0, 1) := dk_3 (dk_at dksX0_lambda_new_5_0 2 rfl rfl)
theorem dX0_lambda_new_5_3 : decode cX0_lambda_new_5 3 = .ok (.iaload, 1) := dk_46 (dk_at dksX0_lambda_new_5_0 3 rfl rfl)
theorem dX0_lambda_new_5_4 : decode cX0_lambda_new_5 4 = .ok (.aload_n 1, 1) := dk_43 (dk_at dksX0_lambda_new_5_0 4 rfl rfl)
theorem dX0_lambda_new_5_5 : decode cX0_lambda_new_5 5 = .ok (.iconst 1, 1) := dk_4 (dk_at dksX0_lambda_new_5_0 5 rfl rfl)
theorem dX0_lambda_new_5_6 : decode cX0_lambda_new_5 6 = .ok (.iaload, 1) := dk_46 (dk_at dksX0_lambda_new_5_0 6 rfl rfl)
theorem dX0_lambda_new_5_7 : decode cX0_lambda_new_5 7 = .ok (.invokevirtual 287, 3) := dk_182 1 31 (dk_at dksX0_lambda_new_5_0 7 rfl rfl)
theorem dX0_lambda_new_5_10 : decode cX0_lambda_new_5 10 = .ok (.ireturn, 1) := dk_172 (dk_at dksX0_lambda_new_5_0 10 rfl rfl)
abbrev cX0_doClean : ByteArray := prog_1_method_39_code
def yX0_doClean : MethodName := ⟨RX0, "doClean", "(II)I"⟩
def dkwX0_doClean_1 : List UInt8 := [3, 45, 180, 0, 179, 16, 50, 28, 104, 100, 184, 1, 23, 181, 0, 179, 45, 180, 0, 179, 172]
abbrev dktX0_doClean_1 : List UInt8 := dkwX0_doClean_1 ++ []
def dkwX0_doClean_0 : List UInt8 := [42, 180, 0, 16, 28, 182, 0, 239, 42, 180, 0, 16, 180, 0, 89, 27, 182, 0, 118, 192, 0, 128, 78, 45]
abbrev dktX0_doClean_0 : List UInt8 := dkwX0_doClean_0 ++ dktX0_doClean_1
theorem dksX0_doClean_0 : cX0_doClean.data.toList.drop 0 = dktX0_doClean_0 := by decide +kernel
theorem dksX0_doClean_1 : cX0_doClean.data.toList.drop 24 = dktX0_doClean_1 := dk_seg dksX0_doClean_0 24 rfl rfl
theorem dX0_doClean_0 : decode cX0_doClean 0 = .ok (.aload_n 0, 1) := dk_42 (dk_at dksX0_doClean_0 0 rfl rfl)
theorem dX0_doClean_1 : decode cX0_doClean 1 = .ok (.getfield 16, 3) := dk_180 0 16 (dk_at dksX0_doClean_0 1 rfl rfl)
theorem dX0_doClean_4 : decode cX0_doClean 4 = .ok (.iload_n 2, 1) := dk_28 (dk_at dksX0_doClean_0 4 rfl rfl)
theorem dX0_doClean_5 : decode cX0_doClean 5 = .ok (.invokevirtual 239, 3) := dk_182 0 239 (dk_at dksX0_doClean_0 5 rfl rfl)
theorem dX0_doClean_8 : decode cX0_doClean 8 = .ok (.aload_n 0, 1) := dk_42 (dk_at dksX0_doClean_0 8 rfl rfl)
theorem dX0_doClean_9 : decode cX0_doClean 9 = .ok (.getfield 16, 3) := dk_180 0 16 (dk_at dksX0_doClean_0 9 rfl rfl)
theorem dX0_doClean_12 : decode cX0_doClean 12 = .ok (.getfield 89, 3) := dk_180 0 89 (dk_at dksX0_doClean_0 12 rfl rfl)
theorem dX0_doClean_15 : decode cX0_doClean 15 = .ok (.iload_n 1, 1) := dk_27 (dk_at dksX0_doClean_0 15 rfl rfl)
theorem dX0_doClean_16 : decode cX0_doClean 16 = .ok (.invokevirtual 118, 3) := dk_182 0 118 (dk_at dksX0_doClean_0 16 rfl rfl)
theorem dX0_doClean_19 : decode cX0_doClean 19 = .ok (.checkcast 128, 3) := dk_192 0 128 (dk_at dksX0_doClean_0 19 rfl rfl)
theorem dX0_doClean_22 : decode cX0_doClean 22 = .ok (.astore_n 3, 1) := dk_78 (dk_at dksX0_doClean_0 22 rfl rfl)
theorem dX0_doClean_23 : decode cX0_doClean 23 = .ok (.aload_n 3, 1) := dk_45 (dk_at dksX0_doClean_0 23 rfl rfl)
theorem dX0_doClean_24 : decode cX0_doClean 24 = .ok (.iconst 0, 1) := dk_3 (dk_at dksX0_doClean_1 0 rfl rfl)
theorem dX0_doClean_25 : decode cX0_doClean 25 = .ok (.aload_n 3, 1) := dk_45 (dk_at dksX0_doClean_1 1 rfl rfl)
theorem dX0_doClean_26 : decode cX0_doClean 26 = .ok (.getfield 179, 3) := dk_180 0 179 (dk_at dksX0_doClean_1 2 rfl rfl)
theorem dX0_doClean_29 : decode cX0_doClean 29 = .ok (.bipush 50, 2) := dk_16 50 (dk_at dksX0_doClean_1 5 rfl rfl)
theorem dX0_doClean_31 : decode cX0_doClean 31 = .ok (.iload_n 2, 1) := dk_28 (dk_at dksX0_doClean_1 7 rfl rfl)
theorem dX0_doClean_32 : decode cX0_doClean 32 = .ok (.imul, 1) := dk_104 (dk_at dksX0_doClean_1 8 rfl rfl)
theorem dX0_doClean_33 : decode cX0_doClean 33 = .ok (.isub, 1) := dk_100 (dk_at dksX0_doClean_1 9 rfl rfl)
theorem dX0_doClean_34 : decode cX0_doClean 34 = .ok (.invokestatic 279, 3) := dk_184 1 23 (dk_at dksX0_doClean_1 10 rfl rfl)
theorem dX0_doClean_37 : decode cX0_doClean 37 = .ok (.putfield 179, 3) := dk_181 0 179 (dk_at dksX0_doClean_1 13 rfl rfl)
theorem dX0_doClean_40 : decode cX0_doClean 40 = .ok (.aload_n 3, 1) := dk_45 (dk_at dksX0_doClean_1 16 rfl rfl)
theorem dX0_doClean_41 : decode cX0_doClean 41 = .ok (.getfield 179, 3) := dk_180 0 179 (dk_at dksX0_doClean_1 17 rfl rfl)
theorem dX0_doClean_44 : decode cX0_doClean 44 = .ok (.ireturn, 1) := dk_172 (dk_at dksX0_doClean_1 20 rfl rfl)
abbrev cX0_lambda_new_6 : ByteArray := prog_1_method_78_code
def yX0_lambda_new_6 : MethodName := ⟨RX0, "lambda$new$6", "([I)I"⟩
def dkwX0_lambda_new_6_0 : List UInt8 := [42, 43, 3, 46, 43, 4, 46, 182, 1, 42, 172]
abbrev dktX0_lambda_new_6_0 : List UInt8 := dkwX0_lambda_new_6_0 ++ []
theorem dksX0_lambda_new_6_0 : cX0_lambda_new_6.data.toList.drop 0 = dktX0_lambda_new_6_0 := by decide +kernel
theorem dX0_lambda_new_6_0 : decode cX0_lambda_new_6 0 = .ok (.aload_n 0, 1) := dk_42 (dk_at dksX0_lambda_new_6_0 0 rfl rfl)
theorem dX0_lambda_new_6_1 : decode cX0_lambda_new_6 1 = .ok (.aload_n 1, 1) := dk_43 (dk_at dksX0_lambda_new_6_0 1 rfl rfl)
theorem dX0_lambda_new_6_2 : decode cX0_lambda_new_6 2 = .ok (.iconst 0, 1) := dk_3 (dk_at dksX0_lambda_new_6_0 2 rfl rfl)
theorem dX0_lambda_new_6_3 : decode cX0_lambda_new_6 3 = .ok (.iaload, 1) := dk_46 (dk_at dksX0_lambda_new_6_0 3 rfl rfl)
theorem dX0_lambda_new_6_4 : decode cX0_lambda_new_6 4 = .ok (.aload_n 1, 1) := dk_43 (dk_at dksX0_lambda_new_6_0 4 rfl rfl)
theorem dX0_lambda_new_6_5 : decode cX0_lambda_new_6 5 = .ok (.iconst 1, 1) := dk_4 (dk_at dksX0_lambda_new_6_0 5 rfl rfl)
theorem dX0_lambda_new_6_6 : decode cX0_lambda_new_6 6 = .ok (.iaload, 1) := dk_46 (dk_at dksX0_lambda_new_6_0 6 rfl rfl)
theorem dX0_lambda_new_6_7 : decode cX0_lambda_new_6 7 = .ok (.invokevirtual 298, 3) := dk_182 1 42 (dk_at dksX0_lambda_new_6_0 7 rfl rfl)
theorem dX0_lambda_new_6_10 : decode cX0_lambda_new_6 10 = .ok (.ireturn, 1) := dk_172 (dk_at dksX0_lambda_new_6_0 10 rfl rfl)
abbrev cX0_dryFault : ByteArray := prog_1_method_42_code
def yX0_dryFault : MethodName := ⟨RX0, "dryFault", "(II)I"⟩
def dkwX0_dryFault_2 : List UInt8 := [42, 16, 10, 28, 104, 133, 182, 0, 235, 153, 0, 7, 3, 167, 0, 5, 16, 251, 172]
abbrev dktX0_dryFault_2 : List UInt8 := dkwX0_dryFault_2 ++ []
def dkwX0_dryFault_1 : List UInt8 := [172, 42, 180, 0, 16, 180, 0, 82, 27, 182, 0, 118, 192, 0, 107, 180, 0, 219, 154, 0, 6, 16, 252, 172]
abbrev dktX0_dryFault_1 : List UInt8 := dkwX0_dryFault_1 ++ dktX0_dryFault_2
def dkwX0_dryFault_0 : List UInt8 := [42, 27, 182, 0, 114, 154, 0, 6, 16, 254, 172, 28, 4, 17, 0, 200, 184, 0, 1, 154, 0, 6, 16, 253]
abbrev dktX0_dryFault_0 : List UInt8 := dkwX0_dryFault_0 ++ dktX0_dryFault_1
theorem dksX0_dryFault_0 : cX0_dryFault.data.toList.drop 0 = dktX0_dryFault_0 := by decide +kernel
theorem dksX0_dryFault_1 : cX0_dryFault.data.toList.drop 24 = dktX0_dryFault_1 := dk_seg dksX0_dryFault_0 24 rfl rfl
theorem dksX0_dryFault_2 : cX0_dryFault.data.toList.drop 48 = dktX0_dryFault_2 := dk_seg dksX0_dryFault_1 24 rfl rfl
theorem dX0_dryFault_0 : decode cX0_dryFault 0 = .ok (.aload_n 0, 1) := dk_42 (dk_at dksX0_dryFault_0 0 rfl rfl)
theorem dX0_dryFault_1 : decode cX0_dryFault 1 = .ok (.iload_n 1, 1) := dk_27 (dk_at dksX0_dryFault_0 1 rfl rfl)
theorem dX0_dryFault_2 : decode cX0_dryFault 2 = .ok (.invokevirtual 114, 3) := dk_182 0 114 (dk_at dksX0_dryFault_0 2 rfl rfl)
theorem dX0_dryFault_5 : decode cX0_dryFault 5 = .ok (.ifCond .ne 6, 3) := dk_154 0 6 (dk_at dksX0_dryFault_0 5 rfl rfl)
theorem dX0_dryFault_8 : decode cX0_dryFault 8 = .ok (.bipush (-2), 2) := dk_16 254 (dk_at dksX0_dryFault_0 8 rfl rfl)
theorem dX0_dryFault_10 : decode cX0_dryFault 10 = .ok (.ireturn, 1) := dk_172 (dk_at dksX0_dryFault_0 10 rfl rfl)
theorem dX0_dryFault_11 : decode cX0_dryFault 11 = .ok (.iload_n 2, 1) := dk_28 (dk_at dksX0_dryFault_0 11 rfl rfl)
theorem dX0_dryFault_12 : decode cX0_dryFault 12 = .ok (.iconst 1, 1) := dk_4 (dk_at dksX0_dryFault_0 12 rfl rfl)
theorem dX0_dryFault_13 : decode cX0_dryFault 13 = .ok (.sipush 200, 3) := dk_17 0 200 (dk_at dksX0_dryFault_0 13 rfl rfl)
theorem dX0_dryFault_16 : decode cX0_dryFault 16 = .ok (.invokestatic 1, 3) := dk_184 0 1 (dk_at dksX0_dryFault_0 16 rfl rfl)
theorem dX0_dryFault_19 : decode cX0_dryFault 19 = .ok (.ifCond .ne 6, 3) := dk_154 0 6 (dk_at dksX0_dryFault_0 19 rfl rfl)
theorem dX0_dryFault_22 : decode cX0_dryFault 22 = .ok (.bipush (-3), 2) := dk_16 253 (dk_at dksX0_dryFault_0 22 rfl rfl)
theorem dX0_dryFault_24 : decode cX0_dryFault 24 = .ok (.ireturn, 1) := dk_172 (dk_at dksX0_dryFault_1 0 rfl rfl)
theorem dX0_dryFault_25 : decode cX0_dryFault 25 = .ok (.aload_n 0, 1) := dk_42 (dk_at dksX0_dryFault_1 1 rfl rfl)
theorem dX0_dryFault_26 : decode cX0_dryFault 26 = .ok (.getfield 16, 3) := dk_180 0 16 (dk_at dksX0_dryFault_1 2 rfl rfl)
theorem dX0_dryFault_29 : decode cX0_dryFault 29 = .ok (.getfield 82, 3) := dk_180 0 82 (dk_at dksX0_dryFault_1 5 rfl rfl)
theorem dX0_dryFault_32 : decode cX0_dryFault 32 = .ok (.iload_n 1, 1) := dk_27 (dk_at dksX0_dryFault_1 8 rfl rfl)
theorem dX0_dryFault_33 : decode cX0_dryFault 33 = .ok (.invokevirtual 118, 3) := dk_182 0 118 (dk_at dksX0_dryFault_1 9 rfl rfl)
theorem dX0_dryFault_36 : decode cX0_dryFault 36 = .ok (.checkcast 107, 3) := dk_192 0 107 (dk_at dksX0_dryFault_1 12 rfl rfl)
theorem dX0_dryFault_39 : decode cX0_dryFault 39 = .ok (.getfield 219, 3) := dk_180 0 219 (dk_at dksX0_dryFault_1 15 rfl rfl)
theorem dX0_dryFault_42 : decode cX0_dryFault 42 = .ok (.ifCond .ne 6, 3) := dk_154 0 6 (dk_at dksX0_dryFault_1 18 rfl rfl)
theorem dX0_dryFault_45 : decode cX0_dryFault 45 = .ok (.bipush (-4), 2) := dk_16 252 (dk_at dksX0_dryFault_1 21 rfl rfl)
theorem dX0_dryFault_47 : decode cX0_dryFault 47 = .ok (.ireturn, 1) := dk_172 (dk_at dksX0_dryFault_1 23 rfl rfl)
theorem dX0_dryFault_48 : decode cX0_dryFault 48 = .ok (.aload_n 0, 1) := dk_42 (dk_at dksX0_dryFault_2 0 rfl rfl)
theorem dX0_dryFault_49 : decode cX0_dryFault 49 = .ok (.bipush 10, 2) := dk_16 10 (dk_at dksX0_dryFault_2 1 rfl rfl)
theorem dX0_dryFault_51 : decode cX0_dryFault 51 = .ok (.iload_n 2, 1) := dk_28 (dk_at dksX0_dryFault_2 3 rfl rfl)
theorem dX0_dryFault_52 : decode cX0_dryFault 52 = .ok (.imul, 1) := dk_104 (dk_at dksX0_dryFault_2 4 rfl rfl)
theorem dX0_dryFault_53 : decode cX0_dryFault 53 = .ok (.i2l, 1) := dk_133 (dk_at dksX0_dryFault_2 5 rfl rfl)
theorem dX0_dryFault_54 : decode cX0_dryFault 54 = .ok (.invokevirtual 235, 3) := dk_182 0 235 (dk_at dksX0_dryFault_2 6 rfl rfl)
theorem dX0_dryFault_57 : decode cX0_dryFault 57 = .ok (.ifCond .eq 7, 3) := dk_153 0 7 (dk_at dksX0_dryFault_2 9 rfl rfl)
theorem dX0_dryFault_60 : decode cX0_dryFault 60 = .ok (.iconst 0, 1) := dk_3 (dk_at dksX0_dryFault_2 12 rfl rfl)
theorem dX0_dryFault_61 : decode cX0_dryFault 61 = .ok (.goto 5, 3) := dk_167 0 5 (dk_at dksX0_dryFault_2 13 rfl rfl)
theorem dX0_dryFault_64 : decode cX0_dryFault 64 = .ok (.bipush (-5), 2) := dk_16 251 (dk_at dksX0_dryFault_2 16 rfl rfl)
theorem dX0_dryFault_66 : decode cX0_dryFault 66 = .ok (.ireturn, 1) := dk_172 (dk_at dksX0_dryFault_2 18 rfl rfl)
abbrev cX0_isBin : ByteArray := prog_1_method_8_code
def yX0_isBin : MethodName := ⟨RX0, "isBin", "(I)Z"⟩
def dkwX0_isBin_0 : List UInt8 := [27, 3, 42, 180, 0, 16, 180, 0, 82, 182, 0, 86, 4, 100, 184, 0, 1, 172]
abbrev dktX0_isBin_0 : List UInt8 := dkwX0_isBin_0 ++ []
theorem dksX0_isBin_0 : cX0_isBin.data.toList.drop 0 = dktX0_isBin_0 := by decide +kernel
theorem dX0_isBin_0 : decode cX0_isBin 0 = .ok (.iload_n 1, 1) := dk_27 (dk_at dksX0_isBin_0 0 rfl rfl)
theorem dX0_isBin_1 : decode cX0_isBin 1 = .ok (.iconst 0, 1) := dk_3 (dk_at dksX0_isBin_0 1 rfl rfl)
theorem dX0_isBin_2 : decode cX0_isBin 2 = .ok (.aload_n 0, 1) := dk_42 (dk_at dksX0_isBin_0 2 rfl rfl)
theorem dX0_isBin_3 : decode cX0_isBin 3 = .ok (.getfield 16, 3) := dk_180 0 16 (dk_at dksX0_isBin_0 3 rfl rfl)
theorem dX0_isBin_6 : decode cX0_isBin 6 = .ok (.getfield 82, 3) := dk_180 0 82 (dk_at dksX0_isBin_0 6 rfl rfl)
theorem dX0_isBin_9 : decode cX0_isBin 9 = .ok (.invokevirtual 86, 3) := dk_182 0 86 (dk_at dksX0_isBin_0 9 rfl rfl)
theorem dX0_isBin_12 : decode cX0_isBin 12 = .ok (.iconst 1, 1) := dk_4 (dk_at dksX0_isBin_0 12 rfl rfl)
theorem dX0_isBin_13 : decode cX0_isBin 13 = .ok (.isub, 1) := dk_100 (dk_at dksX0_isBin_0 13 rfl rfl)
theorem dX0_isBin_14 : decode cX0_isBin 14 = .ok (.invokestatic 1, 3) := dk_184 0 1 (dk_at dksX0_isBin_0 14 rfl rfl)
theorem dX0_isBin_17 : decode cX0_isBin 17 = .ok (.ireturn, 1) := dk_172 (dk_at dksX0_isBin_0 17 rfl rfl)
abbrev cX0_lambda_new_7 : ByteArray := prog_1_method_77_code
def yX0_lambda_new_7 : MethodName := ⟨RX0, "lambda$new$7", "([I)I"⟩
def dkwX0_lambda_new_7_0 : List UInt8 := [42, 43, 3, 46, 43, 4, 46, 182, 1, 45, 172]
abbrev dktX0_lambda_new_7_0 : List UInt8 := dkwX0_lambda_new_7_0 ++ []
theorem dksX0_lambda_new_7_0 : cX0_lambda_new_7.data.toList.drop 0 = dktX0_lambda_new_7_0 := by decide +kernel
theorem dX0_lambda_new_7_0 : decode cX0_lambda_new_7 0 = .ok (.aload_n 0, 1) := dk_42 (dk_at dksX0_lambda_new_7_0 0 rfl rfl)
theorem dX0_lambda_new_7_1 : decode cX0_lambda_new_7 1 = .ok (.aload_n 1, 1) := dk_43 (dk_at dksX0_lambda_new_7_0 1 rfl rfl)
theorem dX0_lambda_new_7_2 : decode cX0_lambda_new_7 2 = .ok (.iconst 0, 1) := dk_3 (dk_at dksX0_lambda_new_7_0 2 rfl rfl)
theorem dX0_lambda_new_7_3 : decode cX0_lambda_new_7 3 = .ok (.iaload, 1) := dk_46 (dk_at dksX0_lambda_new_7_0 3 rfl rfl)
theorem dX0_lambda_new_7_4 : decode cX0_lambda_new_7 4 = .ok (.aload_n 1, 1) := dk_43 (dk_at dksX0_lambda_new_7_0 4 rfl rfl)
theorem dX0_lambda_new_7_5 : decode cX0_lambda_new_7 5 = .ok (.iconst 1, 1) := dk_4 (dk_at dksX0_lambda_new_7_0 5 rfl rfl)
theorem dX0_lambda_new_7_6 : decode cX0_lambda_new_7 6 = .ok (.iaload, 1) := dk_46 (dk_at dksX0_lambda_new_7_0 6 rfl rfl)
theorem dX0_lambda_new_7_7 : decode cX0_lambda_new_7 7 = .ok (.invokevirtual 301, 3) := dk_182 1 45 (dk_at dksX0_lambda_new_7_0 7 rfl rfl)
theorem dX0_lambda_new_7_10 : decode cX0_lambda_new_7 10 = .ok (.ireturn, 1) := dk_172 (dk_at dksX0_lambda_new_7_0 10 rfl rfl)
abbrev cX0_doDry : ByteArray := prog_1_method_43_code
def yX0_doDry : MethodName := ⟨RX0, "doDry", "(II)I"⟩
def dkwX0_doDry_3 : List UInt8 := [181, 0, 208, 132, 4, 1, 167, 255, 198, 21, 4, 172]
abbrev dktX0_doDry_3 : List UInt8 := dkwX0_doDry_3 ++ []
def dkwX0_doDry_2 : List UInt8 := [180, 0, 198, 45, 182, 1, 37, 96, 181, 0, 198, 42, 180, 0, 16, 89, 180, 0, 208, 20, 1, 40, 97]
abbrev dktX0_doDry_2 : List UInt8 := dkwX0_doDry_2 ++ dktX0_doDry_3
def dkwX0_doDry_1 : List UInt8 := [45, 182, 1, 34, 16, 50, 164, 0, 49, 42, 180, 0, 16, 16, 10, 182, 0, 239, 42, 180, 0, 16, 89]
abbrev dktX0_doDry_1 : List UInt8 := dkwX0_doDry_1 ++ dktX0_doDry_2
def dkwX0_doDry_0 : List UInt8 := [42, 180, 0, 16, 180, 0, 82, 27, 182, 0, 118, 192, 0, 107, 78, 3, 54, 4, 21, 4, 28, 162, 0, 58]
abbrev dktX0_doDry_0 : List UInt8 := dkwX0_doDry_0 ++ dktX0_doDry_1
theorem dksX0_doDry_0 : cX0_doDry.data.toList.drop 0 = dktX0_doDry_0 := by decide +kernel
theorem dksX0_doDry_1 : cX0_doDry.data.toList.drop 24 = dktX0_doDry_1 := dk_seg dksX0_doDry_0 24 rfl rfl
theorem dksX0_doDry_2 : cX0_doDry.data.toList.drop 47 = dktX0_doDry_2 := dk_seg dksX0_doDry_1 23 rfl rfl
theorem dksX0_doDry_3 : cX0_doDry.data.toList.drop 70 = dktX0_doDry_3 := dk_seg dksX0_doDry_2 23 rfl rfl
theorem dX0_doDry_0 : decode cX0_doDry 0 = .ok (.aload_n 0, 1) := dk_42 (dk_at dksX0_doDry_0 0 rfl rfl)
theorem dX0_doDry_1 : decode cX0_doDry 1 = .ok (.getfield 16, 3) := dk_180 0 16 (dk_at dksX0_doDry_0 1 rfl rfl)
theorem dX0_doDry_4 : decode cX0_doDry 4 = .ok (.getfield 82, 3) := dk_180 0 82 (dk_at dksX0_doDry_0 4 rfl rfl)
theorem dX0_doDry_7 : decode cX0_doDry 7 = .ok (.iload_n 1, 1) := dk_27 (dk_at dksX0_doDry_0 7 rfl rfl)
theorem dX0_doDry_8 : decode cX0_doDry 8 = .ok (.invokevirtual 118, 3) := dk_182 0 118 (dk_at dksX0_doDry_0 8 rfl rfl)
theorem dX0_doDry_11 : decode cX0_doDry 11 = .ok (.checkcast 107, 3) := dk_192 0 107 (dk_at dksX0_doDry_0 11 rfl rfl)
theorem dX0_doDry_14 : decode cX0_doDry 14 = .ok (.astore_n 3, 1) := dk_78 (dk_at dksX0_doDry_0 14 rfl rfl)
theorem dX0_doDry_15 : decode cX0_doDry 15 = .ok (.iconst 0, 1) := dk_3 (dk_at dksX0_doDry_0 15 rfl rfl)
theorem dX0_doDry_16 : decode cX0_doDry 16 = .ok (.istore 4, 2) := dk_54 4 (dk_at dksX0_doDry_0 16 rfl rfl)
theorem dX0_doDry_18 : decode cX0_doDry 18 = .ok (.iload 4, 2) := dk_21 4 (dk_at dksX0_doDry_0 18 rfl rfl)
theorem dX0_doDry_20 : decode cX0_doDry 20 = .ok (.iload_n 2, 1) := dk_28 (dk_at dksX0_doDry_0 20 rfl rfl)
theorem dX0_doDry_21 : decode cX0_doDry 21 = .ok (.if_icmp .ge 58, 3) := dk_162 0 58 (dk_at dksX0_doDry_0 21 rfl rfl)
theorem dX0_doDry_24 : decode cX0_doDry 24 = .ok (.aload_n 3, 1) := dk_45 (dk_at dksX0_doDry_1 0 rfl rfl)
theorem dX0_doDry_25 : decode cX0_doDry 25 = .ok (.invokevirtual 290, 3) := dk_182 1 34 (dk_at dksX0_doDry_1 1 rfl rfl)
theorem dX0_doDry_28 : decode cX0_doDry 28 = .ok (.bipush 50, 2) := dk_16 50 (dk_at dksX0_doDry_1 4 rfl rfl)
theorem dX0_doDry_30 : decode cX0_doDry 30 = .ok (.if_icmp .le 49, 3) := dk_164 0 49 (dk_at dksX0_doDry_1 6 rfl rfl)
theorem dX0_doDry_33 : decode cX0_doDry 33 = .ok (.aload_n 0, 1) := dk_42 (dk_at dksX0_doDry_1 9 rfl rfl)
theorem dX0_doDry_34 : decode cX0_doDry 34 = .ok (.getfield 16, 3) := dk_180 0 16 (dk_at dksX0_doDry_1 10 rfl rfl)
theorem dX0_doDry_37 : decode cX0_doDry 37 = .ok (.bipush 10, 2) := dk_16 10 (dk_at dksX0_doDry_1 13 rfl rfl)
theorem dX0_doDry_39 : decode cX0_doDry 39 = .ok (.invokevirtual 239, 3) := dk_182 0 239 (dk_at dksX0_doDry_1 15 rfl rfl)
theorem dX0_doDry_42 : decode cX0_doDry 42 = .ok (.aload_n 0, 1) := dk_42 (dk_at dksX0_doDry_1 18 rfl rfl)
theorem dX0_doDry_43 : decode cX0_doDry 43 = .ok (.getfield 16, 3) := dk_180 0 16 (dk_at dksX0_doDry_1 19 rfl rfl)
theorem dX0_doDry_46 : decode cX0_doDry 46 = .ok (.dup, 1) := dk_89 (dk_at dksX0_doDry_1 22 rfl rfl)
theorem dX0_doDry_47 : decode cX0_doDry 47 = .ok (.getfield 198, 3) := dk_180 0 198 (dk_at dksX0_doDry_2 0 rfl rfl)
theorem dX0_doDry_50 : decode cX0_doDry 50 = .ok (.aload_n 3, 1) := dk_45 (dk_at dksX0_doDry_2 3 rfl rfl)
theorem dX0_doDry_51 : decode cX0_doDry 51 = .ok (.invokevirtual 293, 3) := dk_182 1 37 (dk_at dksX0_doDry_2 4 rfl rfl)
theorem dX0_doDry_54 : decode cX0_doDry 54 = .ok (.iadd, 1) := dk_96 (dk_at dksX0_doDry_2 7 rfl rfl)
theorem dX0_doDry_55 : decode cX0_doDry 55 = .ok (.putfield 198, 3) := dk_181 0 198 (dk_at dksX0_doDry_2 8 rfl rfl)
theorem dX0_doDry_58 : decode cX0_doDry 58 = .ok (.aload_n 0, 1) := dk_42 (dk_at dksX0_doDry_2 11 rfl rfl)
theorem dX0_doDry_59 : decode cX0_doDry 59 = .ok (.getfield 16, 3) := dk_180 0 16 (dk_at dksX0_doDry_2 12 rfl rfl)
theorem dX0_doDry_62 : decode cX0_doDry 62 = .ok (.dup, 1) := dk_89 (dk_at dksX0_doDry_2 15 rfl rfl)
theorem dX0_doDry_63 : decode cX0_doDry 63 = .ok (.getfield 208, 3) := dk_180 0 208 (dk_at dksX0_doDry_2 16 rfl rfl)
theorem dX0_doDry_66 : decode cX0_doDry 66 = .ok (.ldc2_w 296, 3) := dk_20 1 40 (dk_at dksX0_doDry_2 19 rfl rfl)
theorem dX0_doDry_69 : decode cX0_doDry 69 = .ok (.ladd, 1) := dk_97 (dk_at dksX0_doDry_2 22 rfl rfl)
theorem dX0_doDry_70 : decode cX0_doDry 70 = .ok (.putfield 208, 3) := dk_181 0 208 (dk_at dksX0_doDry_3 0 rfl rfl)
theorem dX0_doDry_73 : decode cX0_doDry 73 = .ok (.iinc 4 1, 3) := dk_132 4 1 (dk_at dksX0_doDry_3 3 rfl rfl)
theorem dX0_doDry_76 : decode cX0_doDry 76 = .ok (.goto (-58), 3) := dk_167 255 198 (dk_at dksX0_doDry_3 6 rfl rfl)
theorem dX0_doDry_79 : decode cX0_doDry 79 = .ok (.iload 4, 2) := dk_21 4 (dk_at dksX0_doDry_3 9 rfl rfl)
theorem dX0_doDry_81 : decode cX0_doDry 81 = .ok (.ireturn, 1) := dk_172 (dk_at dksX0_doDry_3 11 rfl rfl)
abbrev cX0_addBin : ByteArray := prog_1_method_14_code
def yX0_addBin : MethodName := ⟨RX0, "addBin", "(I)I"⟩
def dkwX0_addBin_3 : List UInt8 := [172]
abbrev dktX0_addBin_3 : List UInt8 := dkwX0_addBin_3 ++ []
def dkwX0_addBin_2 : List UInt8 := [187, 0, 107, 89, 27, 183, 0, 109, 182, 0, 110, 87, 42, 180, 0, 16, 180, 0, 82, 182, 0, 86, 4, 100]
abbrev dktX0_addBin_2 : List UInt8 := dkwX0_addBin_2 ++ dktX0_addBin_3
def dkwX0_addBin_1 : List UInt8 := [182, 0, 86, 16, 8, 160, 0, 6, 16, 251, 172, 42, 182, 0, 104, 42, 180, 0, 16, 180, 0, 82]
abbrev dktX0_addBin_1 : List UInt8 := dkwX0_addBin_1 ++ dktX0_addBin_2
def dkwX0_addBin_0 : List UInt8 := [27, 16, 10, 17, 78, 32, 184, 0, 1, 154, 0, 6, 16, 253, 172, 42, 180, 0, 16, 180, 0, 82]
abbrev dktX0_addBin_0 : List UInt8 := dkwX0_addBin_0 ++ dktX0_addBin_1
theorem dksX0_addBin_0 : cX0_addBin.data.toList.drop 0 = dktX0_addBin_0 := by decide +kernel
theorem dksX0_addBin_1 : cX0_addBin.data.toList.drop 22 = dktX0_addBin_1 := dk_seg dksX0_addBin_0 22 rfl rfl
theorem dksX0_addBin_2 : cX0_addBin.data.toList.drop 44 = dktX0_addBin_2 := dk_seg dksX0_addBin_1 22 rfl rfl
theorem dksX0_addBin_3 : cX0_addBin.data.toList.drop 68 = dktX0_addBin_3 := dk_seg dksX0_addBin_2 24 rfl rfl
theorem dX0_addBin_0 : decode cX0_addBin 0 = .ok (.iload_n 1, 1) := dk_27 (dk_at dksX0_addBin_0 0 rfl rfl)
theorem dX0_addBin_1 : decode cX0_addBin 1 = .ok (.bipush 10, 2) := dk_16 10 (dk_at dksX0_addBin_0 1 rfl rfl)
theorem dX0_addBin_3 : decode cX0_addBin 3 = .ok (.sipush 20000, 3) := dk_17 78 32 (dk_at dksX0_addBin_0 3 rfl rfl)
theorem dX0_addBin_6 : decode cX0_addBin 6 = .ok (.invokestatic 1, 3) := dk_184 0 1 (dk_at dksX0_addBin_0 6 rfl rfl)
theorem dX0_addBin_9 : decode cX0_addBin 9 = .ok (.ifCond .ne 6, 3) := dk_154 0 6 (dk_at dksX0_addBin_0 9 rfl rfl)
theorem dX0_addBin_12 : decode cX0_addBin 12 = .ok (.bipush (-3), 2) := dk_16 253 (dk_at dksX0_addBin_0 12 rfl rfl)
theorem dX0_addBin_14 : decode cX0_addBin 14 = .ok (.ireturn, 1) := dk_172 (dk_at dksX0_addBin_0 14 rfl rfl)
theorem dX0_addBin_15 : decode cX0_addBin 15 = .ok (.aload_n 0, 1) := dk_42 (dk_at dksX0_addBin_0 15 rfl rfl)
theorem dX0_addBin_16 : decode cX0_addBin 16 = .ok (.getfield 16, 3) := dk_180 0 16 (dk_at dksX0_addBin_0 16 rfl rfl)
theorem dX0_addBin_19 : decode cX0_addBin 19 = .ok (.getfield 82, 3) := dk_180 0 82 (dk_at dksX0_addBin_0 19 rfl rfl)
theorem dX0_addBin_22 : decode cX0_addBin 22 = .ok (.invokevirtual 86, 3) := dk_182 0 86 (dk_at dksX0_addBin_1 0 rfl rfl)
theorem dX0_addBin_25 : decode cX0_addBin 25 = .ok (.bipush 8, 2) := dk_16 8 (dk_at dksX0_addBin_1 3 rfl rfl)
theorem dX0_addBin_27 : decode cX0_addBin 27 = .ok (.if_icmp .ne 6, 3) := dk_160 0 6 (dk_at dksX0_addBin_1 5 rfl rfl)
theorem dX0_addBin_30 : decode cX0_addBin 30 = .ok (.bipush (-5), 2) := dk_16 251 (dk_at dksX0_addBin_1 8 rfl rfl)
theorem dX0_addBin_32 : decode cX0_addBin 32 = .ok (.ireturn, 1) := dk_172 (dk_at dksX0_addBin_1 10 rfl rfl)
theorem dX0_addBin_33 : decode cX0_addBin 33 = .ok (.aload_n 0, 1) := dk_42 (dk_at dksX0_addBin_1 11 rfl rfl)
theorem dX0_addBin_34 : decode cX0_addBin 34 = .ok (.invokevirtual 104, 3) := dk_182 0 104 (dk_at dksX0_addBin_1 12 rfl rfl)
theorem dX0_addBin_37 : decode cX0_addBin 37 = .ok (.aload_n 0, 1) := dk_42 (dk_at dksX0_addBin_1 15 rfl rfl)
theorem dX0_addBin_38 : decode cX0_addBin 38 = .ok (.getfield 16, 3) := dk_180 0 16 (dk_at dksX0_addBin_1 16 rfl rfl)
theorem dX0_addBin_41 : decode cX0_addBin 41 = .ok (.getfield 82, 3) := dk_180 0 82 (dk_at dksX0_addBin_1 19 rfl rfl)
theorem dX0_addBin_44 : decode cX0_addBin 44 = .ok (.new 107, 3) := dk_187 0 107 (dk_at dksX0_addBin_2 0 rfl rfl)
theorem dX0_addBin_47 : decode cX0_addBin 47 = .ok (.dup, 1) := dk_89 (dk_at dksX0_addBin_2 3 rfl rfl)
theorem dX0_addBin_48 : decode cX0_addBin 48 = .ok (.iload_n 1, 1) := dk_27 (dk_at dksX0_addBin_2 4 rfl rfl)
theorem dX0_addBin_49 : decode cX0_addBin 49 = .ok (.invokespecial 109, 3) := dk_183 0 109 (dk_at dksX0_addBin_2 5 rfl rfl)
theorem dX0_addBin_52 : decode cX0_addBin 52 = .ok (.invokevirtual 110, 3) := dk_182 0 110 (dk_at dksX0_addBin_2 8 rfl rfl)
theorem dX0_addBin_55 : decode cX0_addBin 55 = .ok (.pop, 1) := dk_87 (dk_at dksX0_addBin_2 11 rfl rfl)
theorem dX0_addBin_56 : decode cX0_addBin 56 = .ok (.aload_n 0, 1) := dk_42 (dk_at dksX0_addBin_2 12 rfl rfl)
theorem dX0_addBin_57 : decode cX0_addBin 57 = .ok (.getfield 16, 3) := dk_180 0 16 (dk_at dksX0_addBin_2 13 rfl rfl)
theorem dX0_addBin_60 : decode cX0_addBin 60 = .ok (.getfield 82, 3) := dk_180 0 82 (dk_at dksX0_addBin_2 16 rfl rfl)
theorem dX0_addBin_63 : decode cX0_addBin 63 = .ok (.invokevirtual 86, 3) := dk_182 0 86 (dk_at dksX0_addBin_2 19 rfl rfl)
theorem dX0_addBin_66 : decode cX0_addBin 66 = .ok (.iconst 1, 1) := dk_4 (dk_at dksX0_addBin_2 22 rfl rfl)
theorem dX0_addBin_67 : decode cX0_addBin 67 = .ok (.isub, 1) := dk_100 (dk_at dksX0_addBin_2 23 rfl rfl)
theorem dX0_addBin_68 : decode cX0_addBin 68 = .ok (.ireturn, 1) := dk_172 (dk_at dksX0_addBin_3 0 rfl rfl)
abbrev cX0_record : ByteArray := prog_1_method_7_code
def yX0_record : MethodName := ⟨RX0, "record", "()V"⟩
def dkwX0_record_1 : List UInt8 := [180, 0, 16, 182, 0, 75, 42, 187, 0, 13, 89, 42, 180, 0, 16, 183, 0, 79, 181, 0, 16, 177]
abbrev dktX0_record_1 : List UInt8 := dkwX0_record_1 ++ []
def dkwX0_record_0 : List UInt8 := [42, 180, 0, 25, 182, 0, 67, 8, 160, 0, 11, 42, 180, 0, 25, 182, 0, 71, 87, 42, 180, 0, 25, 42]
abbrev dktX0_record_0 : List UInt8 := dkwX0_record_0 ++ dktX0_record_1
theorem dksX0_record_0 : cX0_record.data.toList.drop 0 = dktX0_record_0 := by decide +kernel
theorem dksX0_record_1 : cX0_record.data.toList.drop 24 = dktX0_record_1 := dk_seg dksX0_record_0 24 rfl rfl
theorem dX0_record_0 : decode cX0_record 0 = .ok (.aload_n 0, 1) := dk_42 (dk_at dksX0_record_0 0 rfl rfl)
theorem dX0_record_1 : decode cX0_record 1 = .ok (.getfield 25, 3) := dk_180 0 25 (dk_at dksX0_record_0 1 rfl rfl)
theorem dX0_record_4 : decode cX0_record 4 = .ok (.invokevirtual 67, 3) := dk_182 0 67 (dk_at dksX0_record_0 4 rfl rfl)
theorem dX0_record_7 : decode cX0_record 7 = .ok (.iconst 5, 1) := dk_8 (dk_at dksX0_record_0 7 rfl rfl)
theorem dX0_record_8 : decode cX0_record 8 = .ok (.if_icmp .ne 11, 3) := dk_160 0 11 (dk_at dksX0_record_0 8 rfl rfl)
theorem dX0_record_11 : decode cX0_record 11 = .ok (.aload_n 0, 1) := dk_42 (dk_at dksX0_record_0 11 rfl rfl)
theorem dX0_record_12 : decode cX0_record 12 = .ok (.getfield 25, 3) := dk_180 0 25 (dk_at dksX0_record_0 12 rfl rfl)
theorem dX0_record_15 : decode cX0_record 15 = .ok (.invokevirtual 71, 3) := dk_182 0 71 (dk_at dksX0_record_0 15 rfl rfl)
theorem dX0_record_18 : decode cX0_record 18 = .ok (.pop, 1) := dk_87 (dk_at dksX0_record_0 18 rfl rfl)
theorem dX0_record_19 : decode cX0_record 19 = .ok (.aload_n 0, 1) := dk_42 (dk_at dksX0_record_0 19 rfl rfl)
theorem dX0_record_20 : decode cX0_record 20 = .ok (.getfield 25, 3) := dk_180 0 25 (dk_at dksX0_record_0 20 rfl rfl)
theorem dX0_record_23 : decode cX0_record 23 = .ok (.aload_n 0, 1) := dk_42 (dk_at dksX0_record_0 23 rfl rfl)
theorem dX0_record_24 : decode cX0_record 24 = .ok (.getfield 16, 3) := dk_180 0 16 (dk_at dksX0_record_1 0 rfl rfl)
theorem dX0_record_27 : decode cX0_record 27 = .ok (.invokevirtual 75, 3) := dk_182 0 75 (dk_at dksX0_record_1 3 rfl rfl)
theorem dX0_record_30 : decode cX0_record 30 = .ok (.aload_n 0, 1) := dk_42 (dk_at dksX0_record_1 6 rfl rfl)
theorem dX0_record_31 : decode cX0_record 31 = .ok (.new 13, 3) := dk_187 0 13 (dk_at dksX0_record_1 7 rfl rfl)
theorem dX0_record_34 : decode cX0_record 34 = .ok (.dup, 1) := dk_89 (dk_at dksX0_record_1 10 rfl rfl)
theorem dX0_record_35 : decode cX0_record 35 = .ok (.aload_n 0, 1) := dk_42 (dk_at dksX0_record_1 11 rfl rfl)
theorem dX0_record_36 : decode cX0_record 36 = .ok (.getfield 16, 3) := dk_180 0 16 (dk_at dksX0_record_1 12 rfl rfl)
theorem dX0_record_39 : decode cX0_record 39 = .ok (.invokespecial 79, 3) := dk_183 0 79 (dk_at dksX0_record_1 15 rfl rfl)
theorem dX0_record_42 : decode cX0_record 42 = .ok (.putfield 16, 3) := dk_181 0 16 (dk_at dksX0_record_1 18 rfl rfl)
theorem dX0_record_45 : decode cX0_record 45 = .ok (.return_, 1) := dk_177 (dk_at dksX0_record_1 21 rfl rfl)
abbrev cX0_setBand : ByteArray := prog_1_method_15_code
def yX0_setBand : MethodName := ⟨RX0, "setBand", "(III)I"⟩
def dkwX0_setBand_4 : List UInt8 := [181, 0, 125, 21, 4, 172]
abbrev dktX0_setBand_4 : List UInt8 := dkwX0_setBand_4 ++ []
def dkwX0_setBand_3 : List UInt8 := [192, 0, 107, 28, 181, 0, 122, 42, 180, 0, 16, 180, 0, 82, 27, 182, 0, 118, 192, 0, 107, 29]
abbrev dktX0_setBand_3 : List UInt8 := dkwX0_setBand_3 ++ dktX0_setBand_4
def dkwX0_setBand_2 : List UInt8 := [182, 0, 118, 192, 0, 107, 180, 0, 122, 54, 4, 42, 180, 0, 16, 180, 0, 82, 27, 182, 0, 118]
abbrev dktX0_setBand_2 : List UInt8 := dkwX0_setBand_2 ++ dktX0_setBand_3
def dkwX0_setBand_1 : List UInt8 := [17, 1, 144, 184, 0, 1, 154, 0, 6, 16, 253, 172, 42, 182, 0, 104, 42, 180, 0, 16, 180, 0, 82, 27]
abbrev dktX0_setBand_1 : List UInt8 := dkwX0_setBand_1 ++ dktX0_setBand_2
def dkwX0_setBand_0 : List UInt8 := [42, 27, 182, 0, 114, 154, 0, 6, 16, 254, 172, 28, 3, 17, 1, 144, 184, 0, 1, 153, 0, 14, 29, 28]
abbrev dktX0_setBand_0 : List UInt8 := dkwX0_setBand_0 ++ dktX0_setBand_1
theorem dksX0_setBand_0 : cX0_setBand.data.toList.drop 0 = dktX0_setBand_0 := by decide +kernel
theorem dksX0_setBand_1 : cX0_setBand.data.toList.drop 24 = dktX0_setBand_1 := dk_seg dksX0_setBand_0 24 rfl rfl
theorem dksX0_setBand_2 : cX0_setBand.data.toList.drop 48 = dktX0_setBand_2 := dk_seg dksX0_setBand_1 24 rfl rfl
theorem dksX0_setBand_3 : cX0_setBand.data.toList.drop 70 = dktX0_setBand_3 := dk_seg dksX0_setBand_2 22 rfl rfl
theorem dksX0_setBand_4 : cX0_setBand.data.toList.drop 92 = dktX0_setBand_4 := dk_seg dksX0_setBand_3 22 rfl rfl
theorem dX0_setBand_0 : decode cX0_setBand 0 = .ok (.aload_n 0, 1) := dk_42 (dk_at dksX0_setBand_0 0 rfl rfl)
theorem dX0_setBand_1 : decode cX0_setBand 1 = .ok (.iload_n 1, 1) := dk_27 (dk_at dksX0_setBand_0 1 rfl rfl)
theorem dX0_setBand_2 : decode cX0_setBand 2 = .ok (.invokevirtual 114, 3) := dk_182 0 114 (dk_at dksX0_setBand_0 2 rfl rfl)
theorem dX0_setBand_5 : decode cX0_setBand 5 = .ok (.ifCond .ne 6, 3) := dk_154 0 6 (dk_at dksX0_setBand_0 5 rfl rfl)
theorem dX0_setBand_8 : decode cX0_setBand 8 = .ok (.bipush (-2), 2) := dk_16 254 (dk_at dksX0_setBand_0 8 rfl rfl)
theorem dX0_setBand_10 : decode cX0_setBand 10 = .ok (.ireturn, 1) := dk_172 (dk_at dksX0_setBand_0 10 rfl rfl)
theorem dX0_setBand_11 : decode cX0_setBand 11 = .ok (.iload_n 2, 1) := dk_28 (dk_at dksX0_setBand_0 11 rfl rfl)
theorem dX0_setBand_12 : decode cX0_setBand 12 = .ok (.iconst 0, 1) := dk_3 (dk_at dksX0_setBand_0 12 rfl rfl)
theorem dX0_setBand_13 : decode cX0_setBand 13 = .ok (.sipush 400, 3) := dk_17 1 144 (dk_at dksX0_setBand_0 13 rfl rfl)
theorem dX0_setBand_16 : decode cX0_setBand 16 = .ok (.invokestatic 1, 3) := dk_184 0 1 (dk_at dksX0_setBand_0 16 rfl rfl)
theorem dX0_setBand_19 : decode cX0_setBand 19 = .ok (.ifCond .eq 14, 3) := dk_153 0 14 (dk_at dksX0_setBand_0 19 rfl rfl)
theorem dX0_setBand_22 : decode cX0_setBand 22 = .ok (.iload_n 3, 1) := dk_29 (dk_at dksX0_setBand_0 22 rfl rfl)
theorem dX0_setBand_23 : decode cX0_setBand 23 = .ok (.iload_n 2, 1) := dk_28 (dk_at dksX0_setBand_0 23 rfl rfl)
theorem dX0_setBand_24 : decode cX0_setBand 24 = .ok (.sipush 400, 3) := dk_17 1 144 (dk_at dksX0_setBand_1 0 rfl rfl)
theorem dX0_setBand_27 : decode cX0_setBand 27 = .ok (.invokestatic 1, 3) := dk_184 0 1 (dk_at dksX0_setBand_1 3 rfl rfl)
theorem dX0_setBand_30 : decode cX0_setBand 30 = .ok (.ifCond .ne 6, 3) := dk_154 0 6 (dk_at dksX0_setBand_1 6 rfl rfl)
theorem dX0_setBand_33 : decode cX0_setBand 33 = .ok (.bipush (-3), 2) := dk_16 253 (dk_at dksX0_setBand_1 9 rfl rfl)
theorem dX0_setBand_35 : decode cX0_setBand 35 = .ok (.ireturn, 1) := dk_172 (dk_at dksX0_setBand_1 11 rfl rfl)
theorem dX0_setBand_36 : decode cX0_setBand 36 = .ok (.aload_n 0, 1) := dk_42 (dk_at dksX0_setBand_1 12 rfl rfl)
theorem dX0_setBand_37 : decode cX0_setBand 37 = .ok (.invokevirtual 104, 3) := dk_182 0 104 (dk_at dksX0_setBand_1 13 rfl rfl)
theorem dX0_setBand_40 : decode cX0_setBand 40 = .ok (.aload_n 0, 1) := dk_42 (dk_at dksX0_setBand_1 16 rfl rfl)
theorem dX0_setBand_41 : decode cX0_setBand 41 = .ok (.getfield 16, 3) := dk_180 0 16 (dk_at dksX0_setBand_1 17 rfl rfl)
theorem dX0_setBand_44 : decode cX0_setBand 44 = .ok (.getfield 82, 3) := dk_180 0 82 (dk_at dksX0_setBand_1 20 rfl rfl)
theorem dX0_setBand_47 : decode cX0_setBand 47 = .ok (.iload_n 1, 1) := dk_27 (dk_at dksX0_setBand_1 23 rfl rfl)
theorem dX0_setBand_48 : decode cX0_setBand 48 = .ok (.invokevirtual 118, 3) := dk_182 0 118 (dk_at dksX0_setBand_2 0 rfl rfl)
theorem dX0_setBand_51 : decode cX0_setBand 51 = .ok (.checkcast 107, 3) := dk_192 0 107 (dk_at dksX0_setBand_2 3 rfl rfl)
theorem dX0_setBand_54 : decode cX0_setBand 54 = .ok (.getfield 122, 3) := dk_180 0 122 (dk_at dksX0_setBand_2 6 rfl rfl)
theorem dX0_setBand_57 : decode cX0_setBand 57 = .ok (.istore 4, 2) := dk_54 4 (dk_at dksX0_setBand_2 9 rfl rfl)
theorem dX0_setBand_59 : decode cX0_setBand 59 = .ok (.aload_n 0, 1) := dk_42 (dk_at dksX0_setBand_2 11 rfl rfl)
theorem dX0_setBand_60 : decode cX0_setBand 60 = .ok (.getfield 16, 3) := dk_180 0 16 (dk_at dksX0_setBand_2 12 rfl rfl)
theorem dX0_setBand_63 : decode cX0_setBand 63 = .ok (.getfield 82, 3) := dk_180 0 82 (dk_at dksX0_setBand_2 15 rfl rfl)
theorem dX0_setBand_66 : decode cX0_setBand 66 = .ok (.iload_n 1, 1) := dk_27 (dk_at dksX0_setBand_2 18 rfl rfl)
theorem dX0_setBand_67 : decode cX0_setBand 67 = .ok (.invokevirtual 118, 3) := dk_182 0 118 (dk_at dksX0_setBand_2 19 rfl rfl)
theorem dX0_setBand_70 : decode cX0_setBand 70 = .ok (.checkcast 107, 3) := dk_192 0 107 (dk_at dksX0_setBand_3 0 rfl rfl)
theorem dX0_setBand_73 : decode cX0_setBand 73 = .ok (.iload_n 2, 1) := dk_28 (dk_at dksX0_setBand_3 3 rfl rfl)
theorem dX0_setBand_74 : decode cX0_setBand 74 = .ok (.putfield 122, 3) := dk_181 0 122 (dk_at dksX0_setBand_3 4 rfl rfl)
theorem dX0_setBand_77 : decode cX0_setBand 77 = .ok (.aload_n 0, 1) := dk_42 (dk_at dksX0_setBand_3 7 rfl rfl)
theorem dX0_setBand_78 : decode cX0_setBand 78 = .ok (.getfield 16, 3) := dk_180 0 16 (dk_at dksX0_setBand_3 8 rfl rfl)
theorem dX0_setBand_81 : decode cX0_setBand 81 = .ok (.getfield 82, 3) := dk_180 0 82 (dk_at dksX0_setBand_3 11 rfl rfl)
theorem dX0_setBand_84 : decode cX0_setBand 84 = .ok (.iload_n 1, 1) := dk_27 (dk_at dksX0_setBand_3 14 rfl rfl)
theorem dX0_setBand_85 : decode cX0_setBand 85 = .ok (.invokevirtual 118, 3) := dk_182 0 118 (dk_at dksX0_setBand_3 15 rfl rfl)
theorem dX0_setBand_88 : decode cX0_setBand 88 = .ok (.checkcast 107, 3) := dk_192 0 107 (dk_at dksX0_setBand_3 18 rfl rfl)
theorem dX0_setBand_91 : decode cX0_setBand 91 = .ok (.iload_n 3, 1) := dk_29 (dk_at dksX0_setBand_3 21 rfl rfl)
theorem dX0_setBand_92 : decode cX0_setBand 92 = .ok (.putfield 125, 3) := dk_181 0 125 (dk_at dksX0_setBand_4 0 rfl rfl)
theorem dX0_setBand_95 : decode cX0_setBand 95 = .ok (.iload 4, 2) := dk_21 4 (dk_at dksX0_setBand_4 3 rfl rfl)
theorem dX0_setBand_97 : decode cX0_setBand 97 = .ok (.ireturn, 1) := dk_172 (dk_at dksX0_setBand_4 5 rfl rfl)
abbrev cX0_addLeg : ByteArray := prog_1_method_16_code
def yX0_addLeg : MethodName := ⟨RX0, "addLeg", "(I)I"⟩
def dkwX0_addLeg_2 : List UInt8 := [183, 0, 130, 182, 0, 110, 87, 42, 180, 0, 16, 180, 0, 89, 182, 0, 86, 4, 100, 172]
abbrev dktX0_addLeg_2 : List UInt8 := dkwX0_addLeg_2 ++ []
def dkwX0_addLeg_1 : List UInt8 := [6, 160, 0, 6, 16, 251, 172, 42, 182, 0, 104, 42, 180, 0, 16, 180, 0, 89, 187, 0, 128, 89, 27]
abbrev dktX0_addLeg_1 : List UInt8 := dkwX0_addLeg_1 ++ dktX0_addLeg_2
def dkwX0_addLeg_0 : List UInt8 := [27, 4, 17, 1, 244, 184, 0, 1, 154, 0, 6, 16, 253, 172, 42, 180, 0, 16, 180, 0, 89, 182, 0, 86]
abbrev dktX0_addLeg_0 : List UInt8 := dkwX0_addLeg_0 ++ dktX0_addLeg_1
theorem dksX0_addLeg_0 : cX0_addLeg.data.toList.drop 0 = dktX0_addLeg_0 := by decide +kernel
theorem dksX0_addLeg_1 : cX0_addLeg.data.toList.drop 24 = dktX0_addLeg_1 := dk_seg dksX0_addLeg_0 24 rfl rfl
theorem dksX0_addLeg_2 : cX0_addLeg.data.toList.drop 47 = dktX0_addLeg_2 := dk_seg dksX0_addLeg_1 23 rfl rfl
theorem dX0_addLeg_0 : decode cX0_addLeg 0 = .ok (.iload_n 1, 1) := dk_27 (dk_at dksX0_addLeg_0 0 rfl rfl)
theorem dX0_addLeg_1 : decode cX0_addLeg 1 = .ok (.iconst 1, 1) := dk_4 (dk_at dksX0_addLeg_0 1 rfl rfl)
theorem dX0_addLeg_2 : decode cX0_addLeg 2 = .ok (.sipush 500, 3) := dk_17 1 244 (dk_at dksX0_addLeg_0 2 rfl rfl)
theorem dX0_addLeg_5 : decode cX0_addLeg 5 = .ok (.invokestatic 1, 3) := dk_184 0 1 (dk_at dksX0_addLeg_0 5 rfl rfl)
theorem dX0_addLeg_8 : decode cX0_addLeg 8 = .ok (.ifCond .ne 6, 3) := dk_154 0 6 (dk_at dksX0_addLeg_0 8 rfl rfl)
theorem dX0_addLeg_11 : decode cX0_addLeg 11 = .ok (.bipush (-3), 2) := dk_16 253 (dk_at dksX0_addLeg_0 11 rfl rfl)
theorem dX0_addLeg_13 : decode cX0_addLeg 13 = .ok (.ireturn, 1) := dk_172 (dk_at dksX0_addLeg_0 13 rfl rfl)
theorem dX0_addLeg_14 : decode cX0_addLeg 14 = .ok (.aload_n 0, 1) := dk_42 (dk_at dksX0_addLeg_0 14 rfl rfl)
theorem dX0_addLeg_15 : decode cX0_addLeg 15 = .ok (.getfield 16, 3) := dk_180 0 16 (dk_at dksX0_addLeg_0 15 rfl rfl)
theorem dX0_addLeg_18 : decode cX0_addLeg 18 = .ok (.getfield 89, 3) := dk_180 0 89 (dk_at dksX0_addLeg_0 18 rfl rfl)
theorem dX0_addLeg_21 : decode cX0_addLeg 21 = .ok (.invokevirtual 86, 3) := dk_182 0 86 (dk_at dksX0_addLeg_0 21 rfl rfl)
theorem dX0_addLeg_24 : decode cX0_addLeg 24 = .ok (.iconst 3, 1) := dk_6 (dk_at dksX0_addLeg_1 0 rfl rfl)
theorem dX0_addLeg_25 : decode cX0_addLeg 25 = .ok (.if_icmp .ne 6, 3) := dk_160 0 6 (dk_at dksX0_addLeg_1 1 rfl rfl)
theorem dX0_addLeg_28 : decode cX0_addLeg 28 = .ok (.bipush (-5), 2) := dk_16 251 (dk_at dksX0_addLeg_1 4 rfl rfl)
theorem dX0_addLeg_30 : decode cX0_addLeg 30 = .ok (.ireturn, 1) := dk_172 (dk_at dksX0_addLeg_1 6 rfl rfl)
theorem dX0_addLeg_31 : decode cX0_addLeg 31 = .ok (.aload_n 0, 1) := dk_42 (dk_at dksX0_addLeg_1 7 rfl rfl)
theorem dX0_addLeg_32 : decode cX0_addLeg 32 = .ok (.invokevirtual 104, 3) := dk_182 0 104 (dk_at dksX0_addLeg_1 8 rfl rfl)
theorem dX0_addLeg_35 : decode cX0_addLeg 35 = .ok (.aload_n 0, 1) := dk_42 (dk_at dksX0_addLeg_1 11 rfl rfl)
theorem dX0_addLeg_36 : decode cX0_addLeg 36 = .ok (.getfield 16, 3) := dk_180 0 16 (dk_at dksX0_addLeg_1 12 rfl rfl)
theorem dX0_addLeg_39 : decode cX0_addLeg 39 = .ok (.getfield 89, 3) := dk_180 0 89 (dk_at dksX0_addLeg_1 15 rfl rfl)
theorem dX0_addLeg_42 : decode cX0_addLeg 42 = .ok (.new 128, 3) := dk_187 0 128 (dk_at dksX0_addLeg_1 18 rfl rfl)
theorem dX0_addLeg_45 : decode cX0_addLeg 45 = .ok (.dup, 1) := dk_89 (dk_at dksX0_addLeg_1 21 rfl rfl)
theorem dX0_addLeg_46 : decode cX0_addLeg 46 = .ok (.iload_n 1, 1) := dk_27 (dk_at dksX0_addLeg_1 22 rfl rfl)
theorem dX0_addLeg_47 : decode cX0_addLeg 47 = .ok (.invokespecial 130, 3) := dk_183 0 130 (dk_at dksX0_addLeg_2 0 rfl rfl)
theorem dX0_addLeg_50 : decode cX0_addLeg 50 = .ok (.invokevirtual 110, 3) := dk_182 0 110 (dk_at dksX0_addLeg_2 3 rfl rfl)
theorem dX0_addLeg_53 : decode cX0_addLeg 53 = .ok (.pop, 1) := dk_87 (dk_at dksX0_addLeg_2 6 rfl rfl)
theorem dX0_addLeg_54 : decode cX0_addLeg 54 = .ok (.aload_n 0, 1) := dk_42 (dk_at dksX0_addLeg_2 7 rfl rfl)
theorem dX0_addLeg_55 : decode cX0_addLeg 55 = .ok (.getfield 16, 3) := dk_180 0 16 (dk_at dksX0_addLeg_2 8 rfl rfl)
theorem dX0_addLeg_58 : decode cX0_addLeg 58 = .ok (.getfield 89, 3) := dk_180 0 89 (dk_at dksX0_addLeg_2 11 rfl rfl)
theorem dX0_addLeg_61 : decode cX0_addLeg 61 = .ok (.invokevirtual 86, 3) := dk_182 0 86 (dk_at dksX0_addLeg_2 14 rfl rfl)
theorem dX0_addLeg_64 : decode cX0_addLeg 64 = .ok (.iconst 1, 1) := dk_4 (dk_at dksX0_addLeg_2 17 rfl rfl)
theorem dX0_addLeg_65 : decode cX0_addLeg 65 = .ok (.isub, 1) := dk_100 (dk_at dksX0_addLeg_2 18 rfl rfl)
theorem dX0_addLeg_66 : decode cX0_addLeg 66 = .ok (.ireturn, 1) := dk_172 (dk_at dksX0_addLeg_2 19 rfl rfl)
abbrev cX0_setSpeed : ByteArray := prog_1_method_17_code
def yX0_setSpeed : MethodName := ⟨RX0, "setSpeed", "(II)I"⟩
def dkwX0_setSpeed_2 : List UInt8 := [180, 0, 16, 180, 0, 89, 27, 182, 0, 118, 192, 0, 128, 28, 181, 0, 134, 29, 172]
abbrev dktX0_setSpeed_2 : List UInt8 := dkwX0_setSpeed_2 ++ []
def dkwX0_setSpeed_1 : List UInt8 := [172, 42, 182, 0, 104, 42, 180, 0, 16, 180, 0, 89, 27, 182, 0, 118, 192, 0, 128, 180, 0, 134, 62, 42]
abbrev dktX0_setSpeed_1 : List UInt8 := dkwX0_setSpeed_1 ++ dktX0_setSpeed_2
def dkwX0_setSpeed_0 : List UInt8 := [42, 27, 182, 0, 131, 154, 0, 6, 16, 254, 172, 28, 4, 17, 1, 244, 184, 0, 1, 154, 0, 6, 16, 253]
abbrev dktX0_setSpeed_0 : List UInt8 := dkwX0_setSpeed_0 ++ dktX0_setSpeed_1
theorem dksX0_setSpeed_0 : cX0_setSpeed.data.toList.drop 0 = dktX0_setSpeed_0 := by decide +kernel
theorem dksX0_setSpeed_1 : cX0_setSpeed.data.toList.drop 24 = dktX0_setSpeed_1 := dk_seg dksX0_setSpeed_0 24 rfl rfl
theorem dksX0_setSpeed_2 : cX0_setSpeed.data.toList.drop 48 = dktX0_setSpeed_2 := dk_seg dksX0_setSpeed_1 24 rfl rfl
theorem dX0_setSpeed_0 : decode cX0_setSpeed 0 = .ok (.aload_n 0, 1) := dk_42 (dk_at dksX0_setSpeed_0 0 rfl rfl)
theorem dX0_setSpeed_1 : decode cX0_setSpeed 1 = .ok (.iload_n 1, 1) := dk_27 (dk_at dksX0_setSpeed_0 1 rfl rfl)
theorem dX0_setSpeed_2 : decode cX0_setSpeed 2 = .ok (.invokevirtual 131, 3) := dk_182 0 131 (dk_at dksX0_setSpeed_0 2 rfl rfl)
theorem dX0_setSpeed_5 : decode cX0_setSpeed 5 = .ok (.ifCond .ne 6, 3) := dk_154 0 6 (dk_at dksX0_setSpeed_0 5 rfl rfl)
theorem dX0_setSpeed_8 : decode cX0_setSpeed 8 = .ok (.bipush (-2), 2) := dk_16 254 (dk_at dksX0_setSpeed_0 8 rfl rfl)
theorem dX0_setSpeed_10 : decode cX0_setSpeed 10 = .ok (.ireturn, 1) := dk_172 (dk_at dksX0_setSpeed_0 10 rfl rfl)
theorem dX0_setSpeed_11 : decode cX0_setSpeed 11 = .ok (.iload_n 2, 1) := dk_28 (dk_at dksX0_setSpeed_0 11 rfl rfl)
theorem dX0_setSpeed_12 : decode cX0_setSpeed 12 = .ok (.iconst 1, 1) := dk_4 (dk_at dksX0_setSpeed_0 12 rfl rfl)
theorem dX0_setSpeed_13 : decode cX0_setSpeed 13 = .ok (.sipush 500, 3) := dk_17 1 244 (dk_at dksX0_setSpeed_0 13 rfl rfl)
theorem dX0_setSpeed_16 : decode cX0_setSpeed 16 = .ok (.invokestatic 1, 3) := dk_184 0 1 (dk_at dksX0_setSpeed_0 16 rfl rfl)
theorem dX0_setSpeed_19 : decode cX0_setSpeed 19 = .ok (.ifCond .ne 6, 3) := dk_154 0 6 (dk_at dksX0_setSpeed_0 19 rfl rfl)
theorem dX0_setSpeed_22 : decode cX0_setSpeed 22 = .ok (.bipush (-3), 2) := dk_16 253 (dk_at dksX0_setSpeed_0 22 rfl rfl)
theorem dX0_setSpeed_24 : decode cX0_setSpeed 24 = .ok (.ireturn, 1) := dk_172 (dk_at dksX0_setSpeed_1 0 rfl rfl)
theorem dX0_setSpeed_25 : decode cX0_setSpeed 25 = .ok (.aload_n 0, 1) := dk_42 (dk_at dksX0_setSpeed_1 1 rfl rfl)
theorem dX0_setSpeed_26 : decode cX0_setSpeed 26 = .ok (.invokevirtual 104, 3) := dk_182 0 104 (dk_at dksX0_setSpeed_1 2 rfl rfl)
theorem dX0_setSpeed_29 : decode cX0_setSpeed 29 = .ok (.aload_n 0, 1) := dk_42 (dk_at dksX0_setSpeed_1 5 rfl rfl)
theorem dX0_setSpeed_30 : decode cX0_setSpeed 30 = .ok (.getfield 16, 3) := dk_180 0 16 (dk_at dksX0_setSpeed_1 6 rfl rfl)
theorem dX0_setSpeed_33 : decode cX0_setSpeed 33 = .ok (.getfield 89, 3) := dk_180 0 89 (dk_at dksX0_setSpeed_1 9 rfl rfl)
theorem dX0_setSpeed_36 : decode cX0_setSpeed 36 = .ok (.iload_n 1, 1) := dk_27 (dk_at dksX0_setSpeed_1 12 rfl rfl)
theorem dX0_setSpeed_37 : decode cX0_setSpeed 37 = .ok (.invokevirtual 118, 3) := dk_182 0 118 (dk_at dksX0_setSpeed_1 13 rfl rfl)
theorem dX0_setSpeed_40 : decode cX0_setSpeed 40 = .ok (.checkcast 128, 3) := dk_192 0 128 (dk_at dksX0_setSpeed_1 16 rfl rfl)
theorem dX0_setSpeed_43 : decode cX0_setSpeed 43 = .ok (.getfield 134, 3) := dk_180 0 134 (dk_at dksX0_setSpeed_1 19 rfl rfl)
theorem dX0_setSpeed_46 : decode cX0_setSpeed 46 = .ok (.istore_n 3, 1) := dk_62 (dk_at dksX0_setSpeed_1 22 rfl rfl)
theorem dX0_setSpeed_47 : decode cX0_setSpeed 47 = .ok (.aload_n 0, 1) := dk_42 (dk_at dksX0_setSpeed_1 23 rfl rfl)
theorem dX0_setSpeed_48 : decode cX0_setSpeed 48 = .ok (.getfield 16, 3) := dk_180 0 16 (dk_at dksX0_setSpeed_2 0 rfl rfl)
theorem dX0_setSpeed_51 : decode cX0_setSpeed 51 = .ok (.getfield 89, 3) := dk_180 0 89 (dk_at dksX0_setSpeed_2 3 rfl rfl)
theorem dX0_setSpeed_54 : decode cX0_setSpeed 54 = .ok (.iload_n 1, 1) := dk_27 (dk_at dksX0_setSpeed_2 6 rfl rfl)
theorem dX0_setSpeed_55 : decode cX0_setSpeed 55 = .ok (.invokevirtual 118, 3) := dk_182 0 118 (dk_at dksX0_setSpeed_2 7 rfl rfl)
theorem dX0_setSpeed_58 : decode cX0_setSpeed 58 = .ok (.checkcast 128, 3) := dk_192 0 128 (dk_at dksX0_setSpeed_2 10 rfl rfl)
theorem dX0_setSpeed_61 : decode cX0_setSpeed 61 = .ok (.iload_n 2, 1) := dk_28 (dk_at dksX0_setSpeed_2 13 rfl rfl)
theorem dX0_setSpeed_62 : decode cX0_setSpeed 62 = .ok (.putfield 134, 3) := dk_181 0 134 (dk_at dksX0_setSpeed_2 14 rfl rfl)
theorem dX0_setSpeed_65 : decode cX0_setSpeed 65 = .ok (.iload_n 3, 1) := dk_29 (dk_at dksX0_setSpeed_2 17 rfl rfl)
theorem dX0_setSpeed_66 : decode cX0_setSpeed 66 = .ok (.ireturn, 1) := dk_172 (dk_at dksX0_setSpeed_2 18 rfl rfl)
abbrev cX0_spout : ByteArray := prog_1_method_18_code
def yX0_spout : MethodName := ⟨RX0, "spout", "(II)I"⟩
def dkwX0_spout_4 : List UInt8 := [126, 172]
abbrev dktX0_spout_4 : List UInt8 := dkwX0_spout_4 ++ []
def dkwX0_spout_3 : List UInt8 := [130, 181, 0, 141, 42, 180, 0, 16, 180, 0, 89, 27, 182, 0, 118, 192, 0, 128, 180, 0, 141, 28, 122, 4]
abbrev dktX0_spout_3 : List UInt8 := dkwX0_spout_3 ++ dktX0_spout_4
def dkwX0_spout_2 : List UInt8 := [182, 0, 104, 42, 180, 0, 16, 180, 0, 89, 27, 182, 0, 118, 192, 0, 128, 89, 180, 0, 141, 4, 28, 120]
abbrev dktX0_spout_2 : List UInt8 := dkwX0_spout_2 ++ dktX0_spout_3
def dkwX0_spout_1 : List UInt8 := [89, 6, 42, 180, 0, 16, 180, 0, 82, 182, 0, 86, 79, 184, 0, 137, 154, 0, 6, 16, 254, 172, 42]
abbrev dktX0_spout_1 : List UInt8 := dkwX0_spout_1 ++ dktX0_spout_2
def dkwX0_spout_0 : List UInt8 := [7, 188, 10, 89, 3, 27, 79, 89, 4, 42, 180, 0, 16, 180, 0, 89, 182, 0, 86, 79, 89, 5, 28, 79]
abbrev dktX0_spout_0 : List UInt8 := dkwX0_spout_0 ++ dktX0_spout_1
theorem dksX0_spout_0 : cX0_spout.data.toList.drop 0 = dktX0_spout_0 := by decide +kernel
theorem dksX0_spout_1 : cX0_spout.data.toList.drop 24 = dktX0_spout_1 := dk_seg dksX0_spout_0 24 rfl rfl
theorem dksX0_spout_2 : cX0_spout.data.toList.drop 47 = dktX0_spout_2 := dk_seg dksX0_spout_1 23 rfl rfl
theorem dksX0_spout_3 : cX0_spout.data.toList.drop 71 = dktX0_spout_3 := dk_seg dksX0_spout_2 24 rfl rfl
theorem dksX0_spout_4 : cX0_spout.data.toList.drop 95 = dktX0_spout_4 := dk_seg dksX0_spout_3 24 rfl rfl
theorem dX0_spout_0 : decode cX0_spout 0 = .ok (.iconst 4, 1) := dk_7 (dk_at dksX0_spout_0 0 rfl rfl)
theorem dX0_spout_1 : decode cX0_spout 1 = .ok (.newarray .int, 2) := dk_188_10 (dk_at dksX0_spout_0 1 rfl rfl)
theorem dX0_spout_3 : decode cX0_spout 3 = .ok (.dup, 1) := dk_89 (dk_at dksX0_spout_0 3 rfl rfl)
theorem dX0_spout_4 : decode cX0_spout 4 = .ok (.iconst 0, 1) := dk_3 (dk_at dksX0_spout_0 4 rfl rfl)
theorem dX0_spout_5 : decode cX0_spout 5 = .ok (.iload_n 1, 1) := dk_27 (dk_at dksX0_spout_0 5 rfl rfl)
theorem dX0_spout_6 : decode cX0_spout 6 = .ok (.iastore, 1) := dk_79 (dk_at dksX0_spout_0 6 rfl rfl)
theorem dX0_spout_7 : decode cX0_spout 7 = .ok (.dup, 1) := dk_89 (dk_at dksX0_spout_0 7 rfl rfl)
theorem dX0_spout_8 : decode cX0_spout 8 = .ok (.iconst 1, 1) := dk_4 (dk_at dksX0_spout_0 8 rfl rfl)
theorem dX0_spout_9 : decode cX0_spout 9 = .ok (.aload_n 0, 1) := dk_42 (dk_at dksX0_spout_0 9 rfl rfl)
theorem dX0_spout_10 : decode cX0_spout 10 = .ok (.getfield 16, 3) := dk_180 0 16 (dk_at dksX0_spout_0 10 rfl rfl)
theorem dX0_spout_13 : decode cX0_spout 13 = .ok (.getfield 89, 3) := dk_180 0 89 (dk_at dksX0_spout_0 13 rfl rfl)
theorem dX0_spout_16 : decode cX0_spout 16 = .ok (.invokevirtual 86, 3) := dk_182 0 86 (dk_at dksX0_spout_0 16 rfl rfl)
theorem dX0_spout_19 : decode cX0_spout 19 = .ok (.iastore, 1) := dk_79 (dk_at dksX0_spout_0 19 rfl rfl)
theorem dX0_spout_20 : decode cX0_spout 20 = .ok (.dup, 1) := dk_89 (dk_at dksX0_spout_0 20 rfl rfl)
theorem dX0_spout_21 : decode cX0_spout 21 = .ok (.iconst 2, 1) := dk_5 (dk_at dksX0_spout_0 21 rfl rfl)
theorem dX0_spout_22 : decode cX0_spout 22 = .ok (.iload_n 2, 1) := dk_28 (dk_at dksX0_spout_0 22 rfl rfl)
theorem dX0_spout_23 : decode cX0_spout 23 = .ok (.iastore, 1) := dk_79 (dk_at dksX0_spout_0 23 rfl rfl)
theorem dX0_spout_24 : decode cX0_spout 24 = .ok (.dup, 1) := dk_89 (dk_at dksX0_spout_1 0 rfl rfl)
theorem dX0_spout_25 : decode cX0_spout 25 = .ok (.iconst 3, 1) := dk_6 (dk_at dksX0_spout_1 1 rfl rfl)
theorem dX0_spout_26 : decode cX0_spout 26 = .ok (.aload_n 0, 1) := dk_42 (dk_at dksX0_spout_1 2 rfl rfl)
theorem dX0_spout_27 : decode cX0_spout 27 = .ok (.getfield 16, 3) := dk_180 0 16 (dk_at dksX0_spout_1 3 rfl rfl)
theorem dX0_spout_30 : decode cX0_spout 30 = .ok (.getfield 82, 3) := dk_180 0 82 (dk_at dksX0_spout_1 6 rfl rfl)
theorem dX0_spout_33 : decode cX0_spout 33 = .ok (.invokevirtual 86, 3) := dk_182 0 86 (dk_at dksX0_spout_1 9 rfl rfl)
theorem dX0_spout_36 : decode cX0_spout 36 = .ok (.iastore, 1) := dk_79 (dk_at dksX0_spout_1 12 rfl rfl)
theorem dX0_spout_37 : decode cX0_spout 37 = .ok (.invokestatic 137, 3) := dk_184 0 137 (dk_at dksX0_spout_1 13 rfl rfl)
theorem dX0_spout_40 : decode cX0_spout 40 = .ok (.ifCond .ne 6, 3) := dk_154 0 6 (dk_at dksX0_spout_1 16 rfl rfl)
theorem dX0_spout_43 : decode cX0_spout 43 = .ok (.bipush (-2), 2) := dk_16 254 (dk_at dksX0_spout_1 19 rfl rfl)
theorem dX0_spout_45 : decode cX0_spout 45 = .ok (.ireturn, 1) := dk_172 (dk_at dksX0_spout_1 21 rfl rfl)
theorem dX0_spout_46 : decode cX0_spout 46 = .ok (.aload_n 0, 1) := dk_42 (dk_at dksX0_spout_1 22 rfl rfl)
theorem dX0_spout_47 : decode cX0_spout 47 = .ok (.invokevirtual 104, 3) := dk_182 0 104 (dk_at dksX0_spout_2 0 rfl rfl)
theorem dX0_spout_50 : decode cX0_spout 50 = .ok (.aload_n 0, 1) := dk_42 (dk_at dksX0_spout_2 3 rfl rfl)
theorem dX0_spout_51 : decode cX0_spout 51 = .ok (.getfield 16, 3) := dk_180 0 16 (dk_at dksX0_spout_2 4 rfl rfl)
theorem dX0_spout_54 : decode cX0_spout 54 = .ok (.getfield 89, 3) := dk_180 0 89 (dk_at dksX0_spout_2 7 rfl rfl)
theorem dX0_spout_57 : decode cX0_spout 57 = .ok (.iload_n 1, 1) := dk_27 (dk_at dksX0_spout_2 10 rfl rfl)
theorem dX0_spout_58 : decode cX0_spout 58 = .ok (.invokevirtual 118, 3) := dk_182 0 118 (dk_at dksX0_spout_2 11 rfl rfl)
theorem dX0_spout_61 : decode cX0_spout 61 = .ok (.checkcast 128, 3) := dk_192 0 128 (dk_at dksX0_spout_2 14 rfl rfl)
theorem dX0_spout_64 : decode cX0_spout 64 = .ok (.dup, 1) := dk_89 (dk_at dksX0_spout_2 17 rfl rfl)
theorem dX0_spout_65 : decode cX0_spout 65 = .ok (.getfield 141, 3) := dk_180 0 141 (dk_at dksX0_spout_2 18 rfl rfl)
theorem dX0_spout_68 : decode cX0_spout 68 = .ok (.iconst 1, 1) := dk_4 (dk_at dksX0_spout_2 21 rfl rfl)
theorem dX0_spout_69 : decode cX0_spout 69 = .ok (.iload_n 2, 1) := dk_28 (dk_at dksX0_spout_2 22 rfl rfl)
theorem dX0_spout_70 : decode cX0_spout 70 = .ok (.ishl, 1) := dk_120 (dk_at dksX0_spout_2 23 rfl rfl)
theorem dX0_spout_71 : decode cX0_spout 71 = .ok (.ixor, 1) := dk_130 (dk_at dksX0_spout_3 0 rfl rfl)
theorem dX0_spout_72 : decode cX0_spout 72 = .ok (.putfield 141, 3) := dk_181 0 141 (dk_at dksX0_spout_3 1 rfl rfl)
theorem dX0_spout_75 : decode cX0_spout 75 = .ok (.aload_n 0, 1) := dk_42 (dk_at dksX0_spout_3 4 rfl rfl)
theorem dX0_spout_76 : decode cX0_spout 76 = .ok (.getfield 16, 3) := dk_180 0 16 (dk_at dksX0_spout_3 5 rfl rfl)
theorem dX0_spout_79 : decode cX0_spout 79 = .ok (.getfield 89, 3) := dk_180 0 89 (dk_at dksX0_spout_3 8 rfl rfl)
theorem dX0_spout_82 : decode cX0_spout 82 = .ok (.iload_n 1, 1) := dk_27 (dk_at dksX0_spout_3 11 rfl rfl)
theorem dX0_spout_83 : decode cX0_spout 83 = .ok (.invokevirtual 118, 3) := dk_182 0 118 (dk_at dksX0_spout_3 12 rfl rfl)
theorem dX0_spout_86 : decode cX0_spout 86 = .ok (.checkcast 128, 3) := dk_192 0 128 (dk_at dksX0_spout_3 15 rfl rfl)
theorem dX0_spout_89 : decode cX0_spout 89 = .ok (.getfield 141, 3) := dk_180 0 141 (dk_at dksX0_spout_3 18 rfl rfl)
theorem dX0_spout_92 : decode cX0_spout 92 = .ok (.iload_n 2, 1) := dk_28 (dk_at dksX0_spout_3 21 rfl rfl)
theorem dX0_spout_93 : decode cX0_spout 93 = .ok (.ishr, 1) := dk_122 (dk_at dksX0_spout_3 22 rfl rfl)
theorem dX0_spout_94 : decode cX0_spout 94 = .ok (.iconst 1, 1) := dk_4 (dk_at dksX0_spout_3 23 rfl rfl)
theorem dX0_spout_95 : decode cX0_spout 95 = .ok (.iand, 1) := dk_126 (dk_at dksX0_spout_4 0 rfl rfl)
theorem dX0_spout_96 : decode cX0_spout 96 = .ok (.ireturn, 1) := dk_172 (dk_at dksX0_spout_4 1 rfl rfl)
abbrev cX0_setPrice : ByteArray := prog_1_method_19_code
def yX0_setPrice : MethodName := ⟨RX0, "setPrice", "(II)I"⟩
def dkwX0_setPrice_2 : List UInt8 := [29, 172]
abbrev dktX0_setPrice_2 : List UInt8 := dkwX0_setPrice_2 ++ []
def dkwX0_setPrice_1 : List UInt8 := [42, 182, 0, 104, 42, 180, 0, 16, 180, 0, 147, 27, 46, 62, 42, 180, 0, 16, 180, 0, 147, 27, 28, 79]
abbrev dktX0_setPrice_1 : List UInt8 := dkwX0_setPrice_1 ++ dktX0_setPrice_2
def dkwX0_setPrice_0 : List UInt8 := [27, 184, 0, 144, 154, 0, 6, 16, 254, 172, 28, 4, 17, 3, 232, 184, 0, 1, 154, 0, 6, 16, 253, 172]
abbrev dktX0_setPrice_0 : List UInt8 := dkwX0_setPrice_0 ++ dktX0_setPrice_1
theorem dksX0_setPrice_0 : cX0_setPrice.data.toList.drop 0 = dktX0_setPrice_0 := by decide +kernel
theorem dksX0_setPrice_1 : cX0_setPrice.data.toList.drop 24 = dktX0_setPrice_1 := dk_seg dksX0_setPrice_0 24 rfl rfl
theorem dksX0_setPrice_2 : cX0_setPrice.data.toList.drop 48 = dktX0_setPrice_2 := dk_seg dksX0_setPrice_1 24 rfl rfl
theorem dX0_setPrice_0 : decode cX0_setPrice 0 = .ok (.iload_n 1, 1) := dk_27 (dk_at dksX0_setPrice_0 0 rfl rfl)
theorem dX0_setPrice_1 : decode cX0_setPrice 1 = .ok (.invokestatic 144, 3) := dk_184 0 144 (dk_at dksX0_setPrice_0 1 rfl rfl)
theorem dX0_setPrice_4 : decode cX0_setPrice 4 = .ok (.ifCond .ne 6, 3) := dk_154 0 6 (dk_at dksX0_setPrice_0 4 rfl rfl)
theorem dX0_setPrice_7 : decode cX0_setPrice 7 = .ok (.bipush (-2), 2) := dk_16 254 (dk_at dksX0_setPrice_0 7 rfl rfl)
theorem dX0_setPrice_9 : decode cX0_setPrice 9 = .ok (.ireturn, 1) := dk_172 (dk_at dksX0_setPrice_0 9 rfl rfl)
theorem dX0_setPrice_10 : decode cX0_setPrice 10 = .ok (.iload_n 2, 1) := dk_28 (dk_at dksX0_setPrice_0 10 rfl rfl)
theorem dX0_setPrice_11 : decode cX0_setPrice 11 = .ok (.iconst 1, 1) := dk_4 (dk_at dksX0_setPrice_0 11 rfl rfl)
theorem dX0_setPrice_12 : decode cX0_setPrice 12 = .ok (.sipush 1000, 3) := dk_17 3 232 (dk_at dksX0_setPrice_0 12 rfl rfl)
theorem dX0_setPrice_15 : decode cX0_setPrice 15 = .ok (.invokestatic 1, 3) := dk_184 0 1 (dk_at dksX0_setPrice_0 15 rfl rfl)
theorem dX0_setPrice_18 : decode cX0_setPrice 18 = .ok (.ifCond .ne 6, 3) := dk_154 0 6 (dk_at dksX0_setPrice_0 18 rfl rfl)
theorem dX0_setPrice_21 : decode cX0_setPrice 21 = .ok (.bipush (-3), 2) := dk_16 253 (dk_at dksX0_setPrice_0 21 rfl rfl)
theorem dX0_setPrice_23 : decode cX0_setPrice 23 = .ok (.ireturn, 1) := dk_172 (dk_at dksX0_setPrice_0 23 rfl rfl)
theorem dX0_setPrice_24 : decode cX0_setPrice 24 = .ok (.aload_n 0, 1) := dk_42 (dk_at dksX0_setPrice_1 0 rfl rfl)
theorem dX0_setPrice_25 : decode cX0_setPrice 25 = .ok (.invokevirtual 104, 3) := dk_182 0 104 (dk_at dksX0_setPrice_1 1 rfl rfl)
theorem dX0_setPrice_28 : decode cX0_setPrice 28 = .ok (.aload_n 0, 1) := dk_42 (dk_at dksX0_setPrice_1 4 rfl rfl)
theorem dX0_setPrice_29 : decode cX0_setPrice 29 = .ok (.getfield 16, 3) := dk_180 0 16 (dk_at dksX0_setPrice_1 5 rfl rfl)
theorem dX0_setPrice_32 : decode cX0_setPrice 32 = .ok (.getfield 147, 3) := dk_180 0 147 (dk_at dksX0_setPrice_1 8 rfl rfl)
theorem dX0_setPrice_35 : decode cX0_setPrice 35 = .ok (.iload_n 1, 1) := dk_27 (dk_at dksX0_setPrice_1 11 rfl rfl)
theorem dX0_setPrice_36 : decode cX0_setPrice 36 = .ok (.iaload, 1) := dk_46 (dk_at dksX0_setPrice_1 12 rfl rfl)
theorem dX0_setPrice_37 : decode cX0_setPrice 37 = .ok (.istore_n 3, 1) := dk_62 (dk_at dksX0_setPrice_1 13 rfl rfl)
theorem dX0_setPrice_38 : decode cX0_setPrice 38 = .ok (.aload_n 0, 1) := dk_42 (dk_at dksX0_setPrice_1 14 rfl rfl)
theorem dX0_setPrice_39 : decode cX0_setPrice 39 = .ok (.getfield 16, 3) := dk_180 0 16 (dk_at dksX0_setPrice_1 15 rfl rfl)
theorem dX0_setPrice_42 : decode cX0_setPrice 42 = .ok (.getfield 147, 3) := dk_180 0 147 (dk_at dksX0_setPrice_1 18 rfl rfl)
theorem dX0_setPrice_45 : decode cX0_setPrice 45 = .ok (.iload_n 1, 1) := dk_27 (dk_at dksX0_setPrice_1 21 rfl rfl)
theorem dX0_setPrice_46 : decode cX0_setPrice 46 = .ok (.iload_n 2, 1) := dk_28 (dk_at dksX0_setPrice_1 22 rfl rfl)
theorem dX0_setPrice_47 : decode cX0_setPrice 47 = .ok (.iastore, 1) := dk_79 (dk_at dksX0_setPrice_1 23 rfl rfl)
theorem dX0_setPrice_48 : decode cX0_setPrice 48 = .ok (.iload_n 3, 1) := dk_29 (dk_at dksX0_setPrice_2 0 rfl rfl)
theorem dX0_setPrice_49 : decode cX0_setPrice 49 = .ok (.ireturn, 1) := dk_172 (dk_at dksX0_setPrice_2 1 rfl rfl)
abbrev cX0_isKind : ByteArray := prog_1_method_10_code
def yX0_isKind : MethodName := ⟨RX0, "isKind", "(I)Z"⟩
def dkwX0_isKind_0 : List UInt8 := [26, 3, 6, 184, 0, 1, 172]
abbrev dktX0_isKind_0 : List UInt8 := dkwX0_isKind_0 ++ []
theorem dksX0_isKind_0 : cX0_isKind.data.toList.drop 0 = dktX0_isKind_0 := by decide +kernel
theorem dX0_isKind_0 : decode cX0_isKind 0 = .ok (.iload_n 0, 1) := dk_26 (dk_at dksX0_isKind_0 0 rfl rfl)
theorem dX0_isKind_1 : decode cX0_isKind 1 = .ok (.iconst 0, 1) := dk_3 (dk_at dksX0_isKind_0 1 rfl rfl)
theorem dX0_isKind_2 : decode cX0_isKind 2 = .ok (.iconst 3, 1) := dk_6 (dk_at dksX0_isKind_0 2 rfl rfl)
theorem dX0_isKind_3 : decode cX0_isKind 3 = .ok (.invokestatic 1, 3) := dk_184 0 1 (dk_at dksX0_isKind_0 3 rfl rfl)
theorem dX0_isKind_6 : decode cX0_isKind 6 = .ok (.ireturn, 1) := dk_172 (dk_at dksX0_isKind_0 6 rfl rfl)
abbrev cX0_setDustLimit : ByteArray := prog_1_method_20_code
def yX0_setDustLimit : MethodName := ⟨RX0, "setDustLimit", "(I)I"⟩
def dkwX0_setDustLimit_1 : List UInt8 := [180, 0, 150, 61, 42, 180, 0, 16, 27, 181, 0, 150, 28, 172]
abbrev dktX0_setDustLimit_1 : List UInt8 := dkwX0_setDustLimit_1 ++ []
def dkwX0_setDustLimit_0 : List UInt8 := [27, 16, 100, 17, 39, 16, 184, 0, 1, 154, 0, 6, 16, 253, 172, 42, 182, 0, 104, 42, 180, 0, 16]
abbrev dktX0_setDustLimit_0 : List UInt8 := dkwX0_setDustLimit_0 ++ dktX0_setDustLimit_1
theorem dksX0_setDustLimit_0 : cX0_setDustLimit.data.toList.drop 0 = dktX0_setDustLimit_0 := by decide +kernel
theorem dksX0_setDustLimit_1 : cX0_setDustLimit.data.toList.drop 23 = dktX0_setDustLimit_1 := dk_seg dksX0_setDustLimit_0 23 rfl rfl
theorem dX0_setDustLimit_0 : decode cX0_setDustLimit 0 = .ok (.iload_n 1, 1) := dk_27 (dk_at dksX0_setDustLimit_0 0 rfl rfl)
theorem dX0_setDustLimit_1 : decode cX0_setDustLimit 1 = .ok (.bipush 100, 2) := dk_16 100 (dk_at dksX0_setDustLimit_0 1 rfl rfl)
theorem dX0_setDustLimit_3 : decode cX0_setDustLimit 3 = .ok (.sipush 10000, 3) := dk_17 39 16 (dk_at dksX0_setDustLimit_0 3 rfl rfl)
theorem dX0_setDustLimit_6 : decode cX0_setDustLimit 6 = .ok (.invokestatic 1, 3) := dk_184 0 1 (dk_at dksX0_setDustLimit_0 6 rfl rfl)
theorem dX0_setDustLimit_9 : decode cX0_setDustLimit 9 = .ok (.ifCond .ne 6, 3) := dk_154 0 6 (dk_at dksX0_setDustLimit_0 9 rfl rfl)
theorem dX0_setDustLimit_12 : decode cX0_setDustLimit 12 = .ok (.bipush (-3), 2) := dk_16 253 (dk_at dksX0_setDustLimit_0 12 rfl rfl)
theorem dX0_setDustLimit_14 : decode cX0_setDustLimit 14 = .ok (.ireturn, 1) := dk_172 (dk_at dksX0_setDustLimit_0 14 rfl rfl)
theorem dX0_setDustLimit_15 : decode cX0_setDustLimit 15 = .ok (.aload_n 0, 1) := dk_42 (dk_at dksX0_setDustLimit_0 15 rfl rfl)
theorem dX0_setDustLimit_16 : decode cX0_setDustLimit 16 = .ok (.invokevirtual 104, 3) := dk_182 0 104 (dk_at dksX0_setDustLimit_0 16 rfl rfl)
theorem dX0_setDustLimit_19 : decode cX0_setDustLimit 19 = .ok (.aload_n 0, 1) := dk_42 (dk_at dksX0_setDustLimit_0 19 rfl rfl)
theorem dX0_setDustLimit_20 : decode cX0_setDustLimit 20 = .ok (.getfield 16, 3) := dk_180 0 16 (dk_at dksX0_setDustLimit_0 20 rfl rfl)
theorem dX0_setDustLimit_23 : decode cX0_setDustLimit 23 = .ok (.getfield 150, 3) := dk_180 0 150 (dk_at dksX0_setDustLimit_1 0 rfl rfl)
theorem dX0_setDustLimit_26 : decode cX0_setDustLimit 26 = .ok (.istore_n 2, 1) := dk_61 (dk_at dksX0_setDustLimit_1 3 rfl rfl)
theorem dX0_setDustLimit_27 : decode cX0_setDustLimit 27 = .ok (.aload_n 0, 1) := dk_42 (dk_at dksX0_setDustLimit_1 4 rfl rfl)
theorem dX0_setDustLimit_28 : decode cX0_setDustLimit 28 = .ok (.getfield 16, 3) := dk_180 0 16 (dk_at dksX0_setDustLimit_1 5 rfl rfl)
theorem dX0_setDustLimit_31 : decode cX0_setDustLimit 31 = .ok (.iload_n 1, 1) := dk_27 (dk_at dksX0_setDustLimit_1 8 rfl rfl)
theorem dX0_setDustLimit_32 : decode cX0_setDustLimit 32 = .ok (.putfield 150, 3) := dk_181 0 150 (dk_at dksX0_setDustLimit_1 9 rfl rfl)
theorem dX0_setDustLimit_35 : decode cX0_setDustLimit 35 = .ok (.iload_n 2, 1) := dk_28 (dk_at dksX0_setDustLimit_1 12 rfl rfl)
theorem dX0_setDustLimit_36 : decode cX0_setDustLimit 36 = .ok (.ireturn, 1) := dk_172 (dk_at dksX0_setDustLimit_1 13 rfl rfl)
abbrev cX0_count : ByteArray := prog_1_method_23_code
def yX0_count : MethodName := ⟨RX0, "count", "(I)I"⟩
def dkwX0_count_6 : List UInt8 := [167, 0, 12, 42, 182, 0, 172, 167, 0, 5, 16, 253, 172]
abbrev dktX0_count_6 : List UInt8 := dkwX0_count_6 ++ []
def dkwX0_count_5 : List UInt8 := [182, 0, 165, 136, 167, 0, 32, 42, 180, 0, 16, 182, 0, 169, 167, 0, 22, 42, 180, 0, 16, 180, 0, 101]
abbrev dktX0_count_5 : List UInt8 := dkwX0_count_5 ++ dktX0_count_6
def dkwX0_count_4 : List UInt8 := [180, 0, 16, 180, 0, 95, 167, 0, 53, 42, 180, 0, 16, 180, 0, 150, 167, 0, 43, 42, 180, 0, 16]
abbrev dktX0_count_4 : List UInt8 := dkwX0_count_4 ++ dktX0_count_5
def dkwX0_count_3 : List UInt8 := [167, 0, 83, 42, 180, 0, 16, 180, 0, 92, 182, 0, 86, 167, 0, 70, 42, 182, 0, 162, 167, 0, 63, 42]
abbrev dktX0_count_3 : List UInt8 := dkwX0_count_3 ++ dktX0_count_4
def dkwX0_count_2 : List UInt8 := [42, 180, 0, 16, 180, 0, 82, 182, 0, 86, 167, 0, 96, 42, 180, 0, 16, 180, 0, 89, 182, 0, 86]
abbrev dktX0_count_2 : List UInt8 := dkwX0_count_2 ++ dktX0_count_3
def dkwX0_count_1 : List UInt8 := [170, 0, 0, 0, 0, 0, 159, 0, 0, 0, 0, 0, 0, 0, 9, 0, 0, 0, 55, 0, 0, 0, 68, 0, 0, 0, 81, 0, 0, 0, 94, 0, 0, 0, 101, 0, 0, 0, 111, 0, 0, 0, 121, 0, 0, 0, 132, 0, 0, 0, 142, 0, 0, 0, 152]
abbrev dktX0_count_1 : List UInt8 := dkwX0_count_1 ++ dktX0_count_2
def dkwX0_count_0 : List UInt8 := [27]
abbrev dktX0_count_0 : List UInt8 := dkwX0_count_0 ++ dktX0_count_1
theorem dksX0_count_0 : cX0_count.data.toList.drop 0 = dktX0_count_0 := by decide +kernel
theorem dksX0_count_1 : cX0_count.data.toList.drop 1 = dktX0_count_1 := dk_seg dksX0_count_0 1 rfl rfl
theorem dksX0_count_2 : cX0_count.data.toList.drop 56 = dktX0_count_2 := dk_seg dksX0_count_1 55 rfl rfl
theorem dksX0_count_3 : cX0_count.data.toList.drop 79 = dktX0_count_3 := dk_seg dksX0_count_2 23 rfl rfl
theorem dksX0_count_4 : cX0_count.data.toList.drop 103 = dktX0_count_4 := dk_seg dksX0_count_3 24 rfl rfl
theorem dksX0_count_5 : cX0_count.data.toList.drop 126 = dktX0_count_5 := dk_seg dksX0_count_4 23 rfl rfl
theorem dksX0_count_6 : cX0_count.data.toList.drop 150 = dktX0_count_6 := dk_seg dksX0_count_5 24 rfl rfl
theorem dX0_count_0 : decode cX0_count 0 = .ok (.iload_n 1, 1) := dk_27 (dk_at dksX0_count_0 0 rfl rfl)
theorem dX0_count_1 : decode cX0_count 1 = .ok (.tableswitch 159 0 9 #[55, 68, 81, 94, 101, 111, 121, 132, 142, 152], 55) := by decide +kernel
theorem dX0_count_56 : decode cX0_count 56 = .ok (.aload_n 0, 1) := dk_42 (dk_at dksX0_count_2 0 rfl rfl)
theorem dX0_count_57 : decode cX0_count 57 = .ok (.getfield 16, 3) := dk_180 0 16 (dk_at dksX0_count_2 1 rfl rfl)
theorem dX0_count_60 : decode cX0_count 60 = .ok (.getfield 82, 3) := dk_180 0 82 (dk_at dksX0_count_2 4 rfl rfl)
theorem dX0_count_63 : decode cX0_count 63 = .ok (.invokevirtual 86, 3) := dk_182 0 86 (dk_at dksX0_count_2 7 rfl rfl)
theorem dX0_count_66 : decode cX0_count 66 = .ok (.goto 96, 3) := dk_167 0 96 (dk_at dksX0_count_2 10 rfl rfl)
theorem dX0_count_69 : decode cX0_count 69 = .ok (.aload_n 0, 1) := dk_42 (dk_at dksX0_count_2 13 rfl rfl)
theorem dX0_count_70 : decode cX0_count 70 = .ok (.getfield 16, 3) := dk_180 0 16 (dk_at dksX0_count_2 14 rfl rfl)
theorem dX0_count_73 : decode cX0_count 73 = .ok (.getfield 89, 3) := dk_180 0 89 (dk_at dksX0_count_2 17 rfl rfl)
theorem dX0_count_76 : decode cX0_count 76 = .ok (.invokevirtual 86, 3) := dk_182 0 86 (dk_at dksX0_count_2 20 rfl rfl)
theorem dX0_count_79 : decode cX0_count 79 = .ok (.goto 83, 3) := dk_167 0 83 (dk_at dksX0_count_3 0 rfl rfl)
theorem dX0_count_82 : decode cX0_count 82 = .ok (.aload_n 0, 1) := dk_42 (dk_at dksX0_count_3 3 rfl rfl)
theorem dX0_count_83 : decode cX0_count 83 = .ok (.getfield 16, 3) := dk_180 0 16 (dk_at dksX0_count_3 4 rfl rfl)
theorem dX0_count_86 : decode cX0_count 86 = .ok (.getfield 92, 3) := dk_180 0 92 (dk_at dksX0_count_3 7 rfl rfl)
theorem dX0_count_89 : decode cX0_count 89 = .ok (.invokevirtual 86, 3) := dk_182 0 86 (dk_at dksX0_count_3 10 rfl rfl)
theorem dX0_count_92 : decode cX0_count 92 = .ok (.goto 70, 3) := dk_167 0 70 (dk_at dksX0_count_3 13 rfl rfl)
theorem dX0_count_95 : decode cX0_count 95 = .ok (.aload_n 0, 1) := dk_42 (dk_at dksX0_count_3 16 rfl rfl)
theorem dX0_count_96 : decode cX0_count 96 = .ok (.invokevirtual 162, 3) := dk_182 0 162 (dk_at dksX0_count_3 17 rfl rfl)
theorem dX0_count_99 : decode cX0_count 99 = .ok (.goto 63, 3) := dk_167 0 63 (dk_at dksX0_count_3 20 rfl rfl)
theorem dX0_count_102 : decode cX0_count 102 = .ok (.aload_n 0, 1) := dk_42 (dk_at dksX0_count_3 23 rfl rfl)
theorem dX0_count_103 : decode cX0_count 103 = .ok (.getfield 16, 3) := dk_180 0 16 (dk_at dksX0_count_4 0 rfl rfl)
theorem dX0_count_106 : decode cX0_count 106 = .ok (.getfield 95, 3) := dk_180 0 95 (dk_at dksX0_count_4 3 rfl rfl)
theorem dX0_count_109 : decode cX0_count 109 = .ok (.goto 53, 3) := dk_167 0 53 (dk_at dksX0_count_4 6 rfl rfl)
theorem dX0_count_112 : decode cX0_count 112 = .ok (.aload_n 0, 1) := dk_42 (dk_at dksX0_count_4 9 rfl rfl)
theorem dX0_count_113 : decode cX0_count 113 = .ok (.getfield 16, 3) := dk_180 0 16 (dk_at dksX0_count_4 10 rfl rfl)
theorem dX0_count_116 : decode cX0_count 116 = .ok (.getfield 150, 3) := dk_180 0 150 (dk_at dksX0_count_4 13 rfl rfl)
theorem dX0_count_119 : decode cX0_count 119 = .ok (.goto 43, 3) := dk_167 0 43 (dk_at dksX0_count_4 16 rfl rfl)
theorem dX0_count_122 : decode cX0_count 122 = .ok (.aload_n 0, 1) := dk_42 (dk_at dksX0_count_4 19 rfl rfl)
theorem dX0_count_123 : decode cX0_count 123 = .ok (.getfield 16, 3) := dk_180 0 16 (dk_at dksX0_count_4 20 rfl rfl)
theorem dX0_count_126 : decode cX0_count 126 = .ok (.invokevirtual 165, 3) := dk_182 0 165 (dk_at dksX0_count_5 0 rfl rfl)
theorem dX0_count_129 : decode cX0_count 129 = .ok (.l2i, 1) := dk_136 (dk_at dksX0_count_5 3 rfl rfl)
theorem dX0_count_130 : decode cX0_count 130 = .ok (.goto 32, 3) := dk_167 0 32 (dk_at dksX0_count_5 4 rfl rfl)
theorem dX0_count_133 : decode cX0_count 133 = .ok (.aload_n 0, 1) := dk_42 (dk_at dksX0_count_5 7 rfl rfl)
theorem dX0_count_134 : decode cX0_count 134 = .ok (.getfield 16, 3) := dk_180 0 16 (dk_at dksX0_count_5 8 rfl rfl)
theorem dX0_count_137 : decode cX0_count 137 = .ok (.invokevirtual 169, 3) := dk_182 0 169 (dk_at dksX0_count_5 11 rfl rfl)
theorem dX0_count_140 : decode cX0_count 140 = .ok (.goto 22, 3) := dk_167 0 22 (dk_at dksX0_count_5 14 rfl rfl)
theorem dX0_count_143 : decode cX0_count 143 = .ok (.aload_n 0, 1) := dk_42 (dk_at dksX0_count_5 17 rfl rfl)
theorem dX0_count_144 : decode cX0_count 144 = .ok (.getfield 16, 3) := dk_180 0 16 (dk_at dksX0_count_5 18 rfl rfl)
theorem dX0_count_147 : decode cX0_count 147 = .ok (.getfield 101, 3) := dk_180 0 101 (dk_at dksX0_count_5 21 rfl rfl)
theorem dX0_count_150 : decode cX0_count 150 = .ok (.goto 12, 3) := dk_167 0 12 (dk_at dksX0_count_6 0 rfl rfl)
theorem dX0_count_153 : decode cX0_count 153 = .ok (.aload_n 0, 1) := dk_42 (dk_at dksX0_count_6 3 rfl rfl)
theorem dX0_count_154 : decode cX0_count 154 = .ok (.invokevirtual 172, 3) := dk_182 0 172 (dk_at dksX0_count_6 4 rfl rfl)
theorem dX0_count_157 : decode cX0_count 157 = .ok (.goto 5, 3) := dk_167 0 5 (dk_at dksX0_count_6 7 rfl rfl)
theorem dX0_count_160 : decode cX0_count 160 = .ok (.bipush (-3), 2) := dk_16 253 (dk_at dksX0_count_6 10 rfl rfl)
theorem dX0_count_162 : decode cX0_count 162 = .ok (.ireturn, 1) := dk_172 (dk_at dksX0_count_6 12 rfl rfl)
abbrev cX0_openContracts : ByteArray := prog_1_method_21_code
def yX0_openContracts : MethodName := ⟨RX0, "openContracts", "()I"⟩
def dkwX0_openContracts_2 : List UInt8 := [132, 2, 1, 167, 255, 211, 27, 172]
abbrev dktX0_openContracts_2 : List UInt8 := dkwX0_openContracts_2 ++ []
def dkwX0_openContracts_1 : List UInt8 := [180, 0, 92, 28, 182, 0, 118, 192, 0, 153, 182, 0, 155, 153, 0, 7, 4, 167, 0, 4, 3, 96, 60]
abbrev dktX0_openContracts_1 : List UInt8 := dkwX0_openContracts_1 ++ dktX0_openContracts_2
def dkwX0_openContracts_0 : List UInt8 := [3, 60, 3, 61, 28, 42, 180, 0, 16, 180, 0, 92, 182, 0, 86, 162, 0, 37, 27, 42, 180, 0, 16]
abbrev dktX0_openContracts_0 : List UInt8 := dkwX0_openContracts_0 ++ dktX0_openContracts_1
theorem dksX0_openContracts_0 : cX0_openContracts.data.toList.drop 0 = dktX0_openContracts_0 := by decide +kernel
theorem dksX0_openContracts_1 : cX0_openContracts.data.toList.drop 23 = dktX0_openContracts_1 := dk_seg dksX0_openContracts_0 23 rfl rfl
theorem dksX0_openContracts_2 : cX0_openContracts.data.toList.drop 46 = dktX0_openContracts_2 := dk_seg dksX0_openContracts_1 23 rfl rfl
theorem dX0_openContracts_0 : decode cX0_openContracts 0 = .ok (.iconst 0, 1) := dk_3 (dk_at dksX0_openContracts_0 0 rfl rfl)
theorem dX0_openContracts_1 : decode cX0_openContracts 1 = .ok (.istore_n 1, 1) := dk_60 (dk_at dksX0_openContracts_0 1 rfl rfl)
theorem dX0_openContracts_2 : decode cX0_openContracts 2 = .ok (.iconst 0, 1) := dk_3 (dk_at dksX0_openContracts_0 2 rfl rfl)
theorem dX0_openContracts_3 : decode cX0_openContracts 3 = .ok (.istore_n 2, 1) := dk_61 (dk_at dksX0_openContracts_0 3 rfl rfl)
theorem dX0_openContracts_4 : decode cX0_openContracts 4 = .ok (.iload_n 2, 1) := dk_28 (dk_at dksX0_openContracts_0 4 rfl rfl)
theorem dX0_openContracts_5 : decode cX0_openContracts 5 = .ok (.aload_n 0, 1) := dk_42 (dk_at dksX0_openContracts_0 5 rfl rfl)
theorem dX0_openContracts_6 : decode cX0_openContracts 6 = .ok (.getfield 16, 3) := dk_180 0 16 (dk_at dksX0_openContracts_0 6 rfl rfl)
theorem dX0_openContracts_9 : decode cX0_openContracts 9 = .ok (.getfield 92, 3) := dk_180 0 92 (dk_at dksX0_openContracts_0 9 rfl rfl)
theorem dX0_openContracts_12 : decode cX0_openContracts 12 = .ok (.invokevirtual 86, 3) := dk_182 0 86 (dk_at dksX0_openContracts_0 12 rfl rfl)
theorem dX0_openContracts_15 : decode cX0_openContracts 15 = .ok (.if_icmp .ge 37, 3) := dk_162 0 37 (dk_at dksX0_openContracts_0 15 rfl rfl)
theorem dX0_openContracts_18 : decode cX0_openContracts 18 = .ok (.iload_n 1, 1) := dk_27 (dk_at dksX0_openContracts_0 18 rfl rfl)
theorem dX0_openContracts_19 : decode cX0_openContracts 19 = .ok (.aload_n 0, 1) := dk_42 (dk_at dksX0_openContracts_0 19 rfl rfl)
theorem dX0_openContracts_20 : decode cX0_openContracts 20 = .ok (.getfield 16, 3) := dk_180 0 16 (dk_at dksX0_openContracts_0 20 rfl rfl)
theorem dX0_openContracts_23 : decode cX0_openContracts 23 = .ok (.getfield 92, 3) := dk_180 0 92 (dk_at dksX0_openContracts_1 0 rfl rfl)
theorem dX0_openContracts_26 : decode cX0_openContracts 26 = .ok (.iload_n 2, 1) := dk_28 (dk_at dksX0_openContracts_1 3 rfl rfl)
theorem dX0_openContracts_27 : decode cX0_openContracts 27 = .ok (.invokevirtual 118, 3) := dk_182 0 118 (dk_at dksX0_openContracts_1 4 rfl rfl)
theorem dX0_openContracts_30 : decode cX0_openContracts 30 = .ok (.checkcast 153, 3) := dk_192 0 153 (dk_at dksX0_openContracts_1 7 rfl rfl)
theorem dX0_openContracts_33 : decode cX0_openContracts 33 = .ok (.invokevirtual 155, 3) := dk_182 0 155 (dk_at dksX0_openContracts_1 10 rfl rfl)
theorem dX0_openContracts_36 : decode cX0_openContracts 36 = .ok (.ifCond .eq 7, 3) := dk_153 0 7 (dk_at dksX0_openContracts_1 13 rfl rfl)
theorem dX0_openContracts_39 : decode cX0_openContracts 39 = .ok (.iconst 1, 1) := dk_4 (dk_at dksX0_openContracts_1 16 rfl rfl)
theorem dX0_openContracts_40 : decode cX0_openContracts 40 = .ok (.goto 4, 3) := dk_167 0 4 (dk_at dksX0_openContracts_1 17 rfl rfl)
theorem dX0_openContracts_43 : decode cX0_openContracts 43 = .ok (.iconst 0, 1) := dk_3 (dk_at dksX0_openContracts_1 20 rfl rfl)
theorem dX0_openContracts_44 : decode cX0_openContracts 44 = .ok (.iadd, 1) := dk_96 (dk_at dksX0_openContracts_1 21 rfl rfl)
theorem dX0_openContracts_45 : decode cX0_openContracts 45 = .ok (.istore_n 1, 1) := dk_60 (dk_at dksX0_openContracts_1 22 rfl rfl)
theorem dX0_openContracts_46 : decode cX0_openContracts 46 = .ok (.iinc 2 1, 3) := dk_132 2 1 (dk_at dksX0_openContracts_2 0 rfl rfl)
theorem dX0_openContracts_49 : decode cX0_openContracts 49 = .ok (.goto (-45), 3) := dk_167 255 211 (dk_at dksX0_openContracts_2 3 rfl rfl)
theorem dX0_openContracts_52 : decode cX0_openContracts 52 = .ok (.iload_n 1, 1) := dk_27 (dk_at dksX0_openContracts_2 6 rfl rfl)
theorem dX0_openContracts_53 : decode cX0_openContracts 53 = .ok (.ireturn, 1) := dk_172 (dk_at dksX0_openContracts_2 7 rfl rfl)
abbrev cX0_spoiltBins : ByteArray := prog_1_method_22_code
def yX0_spoiltBins : MethodName := ⟨RX0, "spoiltBins", "()I"⟩
def dkwX0_spoiltBins_2 : List UInt8 := [132, 2, 1, 167, 255, 211, 27, 172]
abbrev dktX0_spoiltBins_2 : List UInt8 := dkwX0_spoiltBins_2 ++ []
def dkwX0_spoiltBins_1 : List UInt8 := [180, 0, 82, 28, 182, 0, 118, 192, 0, 107, 182, 0, 159, 153, 0, 7, 4, 167, 0, 4, 3, 96, 60]
abbrev dktX0_spoiltBins_1 : List UInt8 := dkwX0_spoiltBins_1 ++ dktX0_spoiltBins_2
def dkwX0_spoiltBins_0 : List UInt8 := [3, 60, 3, 61, 28, 42, 180, 0, 16, 180, 0, 82, 182, 0, 86, 162, 0, 37, 27, 42, 180, 0, 16]
abbrev dktX0_spoiltBins_0 : List UInt8 := dkwX0_spoiltBins_0 ++ dktX0_spoiltBins_1
theorem dksX0_spoiltBins_0 : cX0_spoiltBins.data.toList.drop 0 = dktX0_spoiltBins_0 := by decide +kernel
theorem dksX0_spoiltBins_1 : cX0_spoiltBins.data.toList.drop 23 = dktX0_spoiltBins_1 := dk_seg dksX0_spoiltBins_0 23 rfl rfl
theorem dksX0_spoiltBins_2 : cX0_spoiltBins.data.toList.drop 46 = dktX0_spoiltBins_2 := dk_seg dksX0_spoiltBins_1 23 rfl rfl
theorem dX0_spoiltBins_0 : decode cX0_spoiltBins 0 = .ok (.iconst 0, 1) := dk_3 (dk_at dksX0_spoiltBins_0 0 rfl rfl)
theorem dX0_spoiltBins_1 : decode cX0_spoiltBins 1 = .ok (.istore_n 1, 1) := dk_60 (dk_at dksX0_spoiltBins_0 1 rfl rfl)
theorem dX0_spoiltBins_2 : decode cX0_spoiltBins 2 = .ok (.iconst 0, 1) := dk_3 (dk_at dksX0_spoiltBins_0 2 rfl rfl)
theorem dX0_spoiltBins_3 : decode cX0_spoiltBins 3 = .ok (.istore_n 2, 1) := dk_61 (dk_at dksX0_spoiltBins_0 3 rfl rfl)
theorem dX0_spoiltBins_4 : decode cX0_spoiltBins 4 = .ok (.iload_n 2, 1) := dk_28 (dk_at dksX0_spoiltBins_0 4 rfl rfl)
theorem dX0_spoiltBins_5 : decode cX0_spoiltBins 5 = .ok (.aload_n 0, 1) := dk_42 (dk_at dksX0_spoiltBins_0 5 rfl rfl)
theorem dX0_spoiltBins_6 : decode cX0_spoiltBins 6 = .ok (.getfield 16, 3) := dk_180 0 16 (dk_at dksX0_spoiltBins_0 6 rfl rfl)
theorem dX0_spoiltBins_9 : decode cX0_spoiltBins 9 = .ok (.getfield 82, 3) := dk_180 0 82 (dk_at dksX0_spoiltBins_0 9 rfl rfl)
theorem dX0_spoiltBins_12 : decode cX0_spoiltBins 12 = .ok (.invokevirtual 86, 3) := dk_182 0 86 (dk_at dksX0_spoiltBins_0 12 rfl rfl)
theorem dX0_spoiltBins_15 : decode cX0_spoiltBins 15 = .ok (.if_icmp .ge 37, 3) := dk_162 0 37 (dk_at dksX0_spoiltBins_0 15 rfl rfl)
theorem dX0_spoiltBins_18 : decode cX0_spoiltBins 18 = .ok (.iload_n 1, 1) := dk_27 (dk_at dksX0_spoiltBins_0 18 rfl rfl)
theorem dX0_spoiltBins_19 : decode cX0_spoiltBins 19 = .ok (.aload_n 0, 1) := dk_42 (dk_at dksX0_spoiltBins_0 19 rfl rfl)
theorem dX0_spoiltBins_20 : decode cX0_spoiltBins 20 = .ok (.getfield 16, 3) := dk_180 0 16 (dk_at dksX0_spoiltBins_0 20 rfl rfl)
theorem dX0_spoiltBins_23 : decode cX0_spoiltBins 23 = .ok (.getfield 82, 3) := dk_180 0 82 (dk_at dksX0_spoiltBins_1 0 rfl rfl)
theorem dX0_spoiltBins_26 : decode cX0_spoiltBins 26 = .ok (.iload_n 2, 1) := dk_28 (dk_at dksX0_spoiltBins_1 3 rfl rfl)
theorem dX0_spoiltBins_27 : decode cX0_spoiltBins 27 = .ok (.invokevirtual 118, 3) := dk_182 0 118 (dk_at dksX0_spoiltBins_1 4 rfl rfl)
theorem dX0_spoiltBins_30 : decode cX0_spoiltBins 30 = .ok (.checkcast 107, 3) := dk_192 0 107 (dk_at dksX0_spoiltBins_1 7 rfl rfl)
theorem dX0_spoiltBins_33 : decode cX0_spoiltBins 33 = .ok (.invokevirtual 159, 3) := dk_182 0 159 (dk_at dksX0_spoiltBins_1 10 rfl rfl)
theorem dX0_spoiltBins_36 : decode cX0_spoiltBins 36 = .ok (.ifCond .eq 7, 3) := dk_153 0 7 (dk_at dksX0_spoiltBins_1 13 rfl rfl)
theorem dX0_spoiltBins_39 : decode cX0_spoiltBins 39 = .ok (.iconst 1, 1) := dk_4 (dk_at dksX0_spoiltBins_1 16 rfl rfl)
theorem dX0_spoiltBins_40 : decode cX0_spoiltBins 40 = .ok (.goto 4, 3) := dk_167 0 4 (dk_at dksX0_spoiltBins_1 17 rfl rfl)
theorem dX0_spoiltBins_43 : decode cX0_spoiltBins 43 = .ok (.iconst 0, 1) := dk_3 (dk_at dksX0_spoiltBins_1 20 rfl rfl)
theorem dX0_spoiltBins_44 : decode cX0_spoiltBins 44 = .ok (.iadd, 1) := dk_96 (dk_at dksX0_spoiltBins_1 21 rfl rfl)
theorem dX0_spoiltBins_45 : decode cX0_spoiltBins 45 = .ok (.istore_n 1, 1) := dk_60 (dk_at dksX0_spoiltBins_1 22 rfl rfl)
theorem dX0_spoiltBins_46 : decode cX0_spoiltBins 46 = .ok (.iinc 2 1, 3) := dk_132 2 1 (dk_at dksX0_spoiltBins_2 0 rfl rfl)
theorem dX0_spoiltBins_49 : decode cX0_spoiltBins 49 = .ok (.goto (-45), 3) := dk_167 255 211 (dk_at dksX0_spoiltBins_2 3 rfl rfl)
theorem dX0_spoiltBins_52 : decode cX0_spoiltBins 52 = .ok (.iload_n 1, 1) := dk_27 (dk_at dksX0_spoiltBins_2 6 rfl rfl)
theorem dX0_spoiltBins_53 : decode cX0_spoiltBins 53 = .ok (.ireturn, 1) := dk_172 (dk_at dksX0_spoiltBins_2 7 rfl rfl)
abbrev cX0_bin : ByteArray := prog_1_method_24_code
def yX0_bin : MethodName := ⟨RX0, "bin", "(II)I"⟩
def dkwX0_bin_1 : List UInt8 := [182, 0, 175, 167, 0, 5, 16, 254, 172]
abbrev dktX0_bin_1 : List UInt8 := dkwX0_bin_1 ++ []
def dkwX0_bin_0 : List UInt8 := [42, 27, 182, 0, 114, 153, 0, 24, 42, 180, 0, 16, 180, 0, 82, 27, 182, 0, 118, 192, 0, 107, 28]
abbrev dktX0_bin_0 : List UInt8 := dkwX0_bin_0 ++ dktX0_bin_1
theorem dksX0_bin_0 : cX0_bin.data.toList.drop 0 = dktX0_bin_0 := by decide +kernel
theorem dksX0_bin_1 : cX0_bin.data.toList.drop 23 = dktX0_bin_1 := dk_seg dksX0_bin_0 23 rfl rfl
theorem dX0_bin_0 : decode cX0_bin 0 = .ok (.aload_n 0, 1) := dk_42 (dk_at dksX0_bin_0 0 rfl rfl)
theorem dX0_bin_1 : decode cX0_bin 1 = .ok (.iload_n 1, 1) := dk_27 (dk_at dksX0_bin_0 1 rfl rfl)
theorem dX0_bin_2 : decode cX0_bin 2 = .ok (.invokevirtual 114, 3) := dk_182 0 114 (dk_at dksX0_bin_0 2 rfl rfl)
theorem dX0_bin_5 : decode cX0_bin 5 = .ok (.ifCond .eq 24, 3) := dk_153 0 24 (dk_at dksX0_bin_0 5 rfl rfl)
theorem dX0_bin_8 : decode cX0_bin 8 = .ok (.aload_n 0, 1) := dk_42 (dk_at dksX0_bin_0 8 rfl rfl)
theorem dX0_bin_9 : decode cX0_bin 9 = .ok (.getfield 16, 3) := dk_180 0 16 (dk_at dksX0_bin_0 9 rfl rfl)
theorem dX0_bin_12 : decode cX0_bin 12 = .ok (.getfield 82, 3) := dk_180 0 82 (dk_at dksX0_bin_0 12 rfl rfl)
theorem dX0_bin_15 : decode cX0_bin 15 = .ok (.iload_n 1, 1) := dk_27 (dk_at dksX0_bin_0 15 rfl rfl)
theorem dX0_bin_16 : decode cX0_bin 16 = .ok (.invokevirtual 118, 3) := dk_182 0 118 (dk_at dksX0_bin_0 16 rfl rfl)
theorem dX0_bin_19 : decode cX0_bin 19 = .ok (.checkcast 107, 3) := dk_192 0 107 (dk_at dksX0_bin_0 19 rfl rfl)
theorem dX0_bin_22 : decode cX0_bin 22 = .ok (.iload_n 2, 1) := dk_28 (dk_at dksX0_bin_0 22 rfl rfl)
theorem dX0_bin_23 : decode cX0_bin 23 = .ok (.invokevirtual 175, 3) := dk_182 0 175 (dk_at dksX0_bin_1 0 rfl rfl)
theorem dX0_bin_26 : decode cX0_bin 26 = .ok (.goto 5, 3) := dk_167 0 5 (dk_at dksX0_bin_1 3 rfl rfl)
theorem dX0_bin_29 : decode cX0_bin 29 = .ok (.bipush (-2), 2) := dk_16 254 (dk_at dksX0_bin_1 6 rfl rfl)
theorem dX0_bin_31 : decode cX0_bin 31 = .ok (.ireturn, 1) := dk_172 (dk_at dksX0_bin_1 8 rfl rfl)
abbrev cX0_leg : ByteArray := prog_1_method_26_code
def yX0_leg : MethodName := ⟨RX0, "leg", "(II)I"⟩
def dkwX0_leg_0 : List UInt8 := [42, 27, 182, 0, 131, 153, 0, 12, 42, 27, 28, 182, 0, 188, 167, 0, 5, 16, 254, 172]
abbrev dktX0_leg_0 : List UInt8 := dkwX0_leg_0 ++ []
theorem dksX0_leg_0 : cX0_leg.data.toList.drop 0 = dktX0_leg_0 := by decide +kernel
theorem dX0_leg_0 : decode cX0_leg 0 = .ok (.aload_n 0, 1) := dk_42 (dk_at dksX0_leg_0 0 rfl rfl)
theorem dX0_leg_1 : decode cX0_leg 1 = .ok (.iload_n 1, 1) := dk_27 (dk_at dksX0_leg_0 1 rfl rfl)
theorem dX0_leg_2 : decode cX0_leg 2 = .ok (.invokevirtual 131, 3) := dk_182 0 131 (dk_at dksX0_leg_0 2 rfl rfl)
theorem dX0_leg_5 : decode cX0_leg 5 = .ok (.ifCond .eq 12, 3) := dk_153 0 12 (dk_at dksX0_leg_0 5 rfl rfl)
theorem dX0_leg_8 : decode cX0_leg 8 = .ok (.aload_n 0, 1) := dk_42 (dk_at dksX0_leg_0 8 rfl rfl)
theorem dX0_leg_9 : decode cX0_leg 9 = .ok (.iload_n 1, 1) := dk_27 (dk_at dksX0_leg_0 9 rfl rfl)
theorem dX0_leg_10 : decode cX0_leg 10 = .ok (.iload_n 2, 1) := dk_28 (dk_at dksX0_leg_0 10 rfl rfl)
theorem dX0_leg_11 : decode cX0_leg 11 = .ok (.invokevirtual 188, 3) := dk_182 0 188 (dk_at dksX0_leg_0 11 rfl rfl)
theorem dX0_leg_14 : decode cX0_leg 14 = .ok (.goto 5, 3) := dk_167 0 5 (dk_at dksX0_leg_0 14 rfl rfl)
theorem dX0_leg_17 : decode cX0_leg 17 = .ok (.bipush (-2), 2) := dk_16 254 (dk_at dksX0_leg_0 17 rfl rfl)
theorem dX0_leg_19 : decode cX0_leg 19 = .ok (.ireturn, 1) := dk_172 (dk_at dksX0_leg_0 19 rfl rfl)
abbrev cX0_legProperty : ByteArray := prog_1_method_25_code
def yX0_legProperty : MethodName := ⟨RX0, "legProperty", "(II)I"⟩
def dkwX0_legProperty_4 : List UInt8 := [167, 0, 5, 16, 253, 172]
abbrev dktX0_legProperty_4 : List UInt8 := dkwX0_legProperty_4 ++ []
def dkwX0_legProperty_3 : List UInt8 := [180, 0, 16, 27, 182, 0, 182, 153, 0, 7, 4, 167, 0, 16, 3, 167, 0, 12, 45, 180, 0, 185]
abbrev dktX0_legProperty_3 : List UInt8 := dkwX0_legProperty_3 ++ dktX0_legProperty_4
def dkwX0_legProperty_2 : List UInt8 := [45, 180, 0, 134, 167, 0, 45, 45, 180, 0, 141, 167, 0, 38, 45, 180, 0, 179, 167, 0, 31, 42]
abbrev dktX0_legProperty_2 : List UInt8 := dkwX0_legProperty_2 ++ dktX0_legProperty_3
def dkwX0_legProperty_1 : List UInt8 := [170, 0, 0, 0, 0, 0, 0, 83, 0, 0, 0, 0, 0, 0, 0, 4, 0, 0, 0, 36, 0, 0, 0, 43, 0, 0, 0, 50, 0, 0, 0, 57, 0, 0, 0, 76]
abbrev dktX0_legProperty_1 : List UInt8 := dkwX0_legProperty_1 ++ dktX0_legProperty_2
def dkwX0_legProperty_0 : List UInt8 := [42, 180, 0, 16, 180, 0, 89, 27, 182, 0, 118, 192, 0, 128, 78, 28]
abbrev dktX0_legProperty_0 : List UInt8 := dkwX0_legProperty_0 ++ dktX0_legProperty_1
theorem dksX0_legProperty_0 : cX0_legProperty.data.toList.drop 0 = dktX0_legProperty_0 := by decide +kernel
theorem dksX0_legProperty_1 : cX0_legProperty.data.toList.drop 16 = dktX0_legProperty_1 := dk_seg dksX0_legProperty_0 16 rfl rfl
theorem dksX0_legProperty_2 : cX0_legProperty.data.toList.drop 52 = dktX0_legProperty_2 := dk_seg dksX0_legProperty_1 36 rfl rfl
theorem dksX0_legProperty_3 : cX0_legProperty.data.toList.drop 74 = dktX0_legProperty_3 := dk_seg dksX0_legProperty_2 22 rfl rfl
theorem dksX0_legProperty_4 : cX0_legProperty.data.toList.drop 96 = dktX0_legProperty_4 := dk_seg dksX0_legProperty_3 22 rfl rfl
theorem dX0_legProperty_0 : decode cX0_legProperty 0 = .ok (.aload_n 0, 1) := dk_42 (dk_at dksX0_legProperty_0 0 rfl rfl)
theorem dX0_legProperty_1 : decode cX0_legProperty 1 = .ok (.getfield 16, 3) := dk_180 0 16 (dk_at dksX0_legProperty_0 1 rfl rfl)
theorem dX0_legProperty_4 : decode cX0_legProperty 4 = .ok (.getfield 89, 3) := dk_180 0 89 (dk_at dksX0_legProperty_0 4 rfl rfl)
theorem dX0_legProperty_7 : decode cX0_legProperty 7 = .ok (.iload_n 1, 1) := dk_27 (dk_at dksX0_legProperty_0 7 rfl rfl)
theorem dX0_legProperty_8 : decode cX0_legProperty 8 = .ok (.invokevirtual 118, 3) := dk_182 0 118 (dk_at dksX0_legProperty_0 8 rfl rfl)
theorem dX0_legProperty_11 : decode cX0_legProperty 11 = .ok (.checkcast 128, 3) := dk_192 0 128 (dk_at dksX0_legProperty_0 11 rfl rfl)
theorem dX0_legProperty_14 : decode cX0_legProperty 14 = .ok (.astore_n 3, 1) := dk_78 (dk_at dksX0_legProperty_0 14 rfl rfl)
theorem dX0_legProperty_15 : decode cX0_legProperty 15 = .ok (.iload_n 2, 1) := dk_28 (dk_at dksX0_legProperty_0 15 rfl rfl)
theorem dX0_legProperty_16 : decode cX0_legProperty 16 = .ok (.tableswitch 83 0 4 #[36, 43, 50, 57, 76], 36) := by decide +kernel
theorem dX0_legProperty_52 : decode cX0_legProperty 52 = .ok (.aload_n 3, 1) := dk_45 (dk_at dksX0_legProperty_2 0 rfl rfl)
theorem dX0_legProperty_53 : decode cX0_legProperty 53 = .ok (.getfield 134, 3) := dk_180 0 134 (dk_at dksX0_legProperty_2 1 rfl rfl)
theorem dX0_legProperty_56 : decode cX0_legProperty 56 = .ok (.goto 45, 3) := dk_167 0 45 (dk_at dksX0_legProperty_2 4 rfl rfl)
theorem dX0_legProperty_59 : decode cX0_legProperty 59 = .ok (.aload_n 3, 1) := dk_45 (dk_at dksX0_legProperty_2 7 rfl rfl)
theorem dX0_legProperty_60 : decode cX0_legProperty 60 = .ok (.getfield 141, 3) := dk_180 0 141 (dk_at dksX0_legProperty_2 8 rfl rfl)
theorem dX0_legProperty_63 : decode cX0_legProperty 63 = .ok (.goto 38, 3) := dk_167 0 38 (dk_at dksX0_legProperty_2 11 rfl rfl)
theorem dX0_legProperty_66 : decode cX0_legProperty 66 = .ok (.aload_n 3, 1) := dk_45 (dk_at dksX0_legProperty_2 14 rfl rfl)
theorem dX0_legProperty_67 : decode cX0_legProperty 67 = .ok (.getfield 179, 3) := dk_180 0 179 (dk_at dksX0_legProperty_2 15 rfl rfl)
theorem dX0_legProperty_70 : decode cX0_legProperty 70 = .ok (.goto 31, 3) := dk_167 0 31 (dk_at dksX0_legProperty_2 18 rfl rfl)
theorem dX0_legProperty_73 : decode cX0_legProperty 73 = .ok (.aload_n 0, 1) := dk_42 (dk_at dksX0_legProperty_2 21 rfl rfl)
theorem dX0_legProperty_74 : decode cX0_legProperty 74 = .ok (.getfield 16, 3) := dk_180 0 16 (dk_at dksX0_legProperty_3 0 rfl rfl)
theorem dX0_legProperty_77 : decode cX0_legProperty 77 = .ok (.iload_n 1, 1) := dk_27 (dk_at dksX0_legProperty_3 3 rfl rfl)
theorem dX0_legProperty_78 : decode cX0_legProperty 78 = .ok (.invokevirtual 182, 3) := dk_182 0 182 (dk_at dksX0_legProperty_3 4 rfl rfl)
theorem dX0_legProperty_81 : decode cX0_legProperty 81 = .ok (.ifCond .eq 7, 3) := dk_153 0 7 (dk_at dksX0_legProperty_3 7 rfl rfl)
theorem dX0_legProperty_84 : decode cX0_legProperty 84 = .ok (.iconst 1, 1) := dk_4 (dk_at dksX0_legProperty_3 10 rfl rfl)
theorem dX0_legProperty_85 : decode cX0_legProperty 85 = .ok (.goto 16, 3) := dk_167 0 16 (dk_at dksX0_legProperty_3 11 rfl rfl)
theorem dX0_legProperty_88 : decode cX0_legProperty 88 = .ok (.iconst 0, 1) := dk_3 (dk_at dksX0_legProperty_3 14 rfl rfl)
theorem dX0_legProperty_89 : decode cX0_legProperty 89 = .ok (.goto 12, 3) := dk_167 0 12 (dk_at dksX0_legProperty_3 15 rfl rfl)
theorem dX0_legProperty_92 : decode cX0_legProperty 92 = .ok (.aload_n 3, 1) := dk_45 (dk_at dksX0_legProperty_3 18 rfl rfl)
theorem dX0_legProperty_93 : decode cX0_legProperty 93 = .ok (.getfield 185, 3) := dk_180 0 185 (dk_at dksX0_legProperty_3 19 rfl rfl)
theorem dX0_legProperty_96 : decode cX0_legProperty 96 = .ok (.goto 5, 3) := dk_167 0 5 (dk_at dksX0_legProperty_4 0 rfl rfl)
theorem dX0_legProperty_99 : decode cX0_legProperty 99 = .ok (.bipush (-3), 2) := dk_16 253 (dk_at dksX0_legProperty_4 3 rfl rfl)
theorem dX0_legProperty_101 : decode cX0_legProperty 101 = .ok (.ireturn, 1) := dk_172 (dk_at dksX0_legProperty_4 5 rfl rfl)
abbrev cX0_price : ByteArray := prog_1_method_27_code
def yX0_price : MethodName := ⟨RX0, "price", "(I)I"⟩
def dkwX0_price_0 : List UInt8 := [27, 184, 0, 144, 153, 0, 15, 42, 180, 0, 16, 180, 0, 147, 27, 46, 167, 0, 5, 16, 254, 172]
abbrev dktX0_price_0 : List UInt8 := dkwX0_price_0 ++ []
theorem dksX0_price_0 : cX0_price.data.toList.drop 0 = dktX0_price_0 := by decide +kernel
theorem dX0_price_0 : decode cX0_price 0 = .ok (.iload_n 1, 1) := dk_27 (dk_at dksX0_price_0 0 rfl rfl)
theorem dX0_price_1 : decode cX0_price 1 = .ok (.invokestatic 144, 3) := dk_184 0 144 (dk_at dksX0_price_0 1 rfl rfl)
theorem dX0_price_4 : decode cX0_price 4 = .ok (.ifCond .eq 15, 3) := dk_153 0 15 (dk_at dksX0_price_0 4 rfl rfl)
theorem dX0_price_7 : decode cX0_price 7 = .ok (.aload_n 0, 1) := dk_42 (dk_at dksX0_price_0 7 rfl rfl)
theorem dX0_price_8 : decode cX0_price 8 = .ok (.getfield 16, 3) := dk_180 0 16 (dk_at dksX0_price_0 8 rfl rfl)
theorem dX0_price_11 : decode cX0_price 11 = .ok (.getfield 147, 3) := dk_180 0 147 (dk_at dksX0_price_0 11 rfl rfl)
theorem dX0_price_14 : decode cX0_price 14 = .ok (.iload_n 1, 1) := dk_27 (dk_at dksX0_price_0 14 rfl rfl)
theorem dX0_price_15 : decode cX0_price 15 = .ok (.iaload, 1) := dk_46 (dk_at dksX0_price_0 15 rfl rfl)
theorem dX0_price_16 : decode cX0_price 16 = .ok (.goto 5, 3) := dk_167 0 5 (dk_at dksX0_price_0 16 rfl rfl)
theorem dX0_price_19 : decode cX0_price 19 = .ok (.bipush (-2), 2) := dk_16 254 (dk_at dksX0_price_0 19 rfl rfl)
theorem dX0_price_21 : decode cX0_price 21 = .ok (.ireturn, 1) := dk_172 (dk_at dksX0_price_0 21 rfl rfl)
abbrev cX0_book : ByteArray := prog_1_method_28_code
def yX0_book : MethodName := ⟨RX0, "book", "(I)J"⟩
def dkwX0_book_5 : List UInt8 := [180, 0, 16, 180, 0, 201, 101, 42, 180, 0, 16, 180, 0, 208, 101, 167, 0, 6, 20, 0, 211, 173]
abbrev dktX0_book_5 : List UInt8 := dkwX0_book_5 ++ []
def dkwX0_book_4 : List UInt8 := [180, 0, 205, 167, 0, 42, 42, 180, 0, 16, 180, 0, 208, 167, 0, 32, 42, 180, 0, 16, 180, 0, 205, 42]
abbrev dktX0_book_4 : List UInt8 := dkwX0_book_4 ++ dktX0_book_5
def dkwX0_book_3 : List UInt8 := [180, 0, 16, 180, 0, 198, 133, 167, 0, 62, 42, 180, 0, 16, 180, 0, 201, 167, 0, 52, 42, 180, 0, 16]
abbrev dktX0_book_3 : List UInt8 := dkwX0_book_3 ++ dktX0_book_4
def dkwX0_book_2 : List UInt8 := [42, 180, 0, 16, 180, 0, 192, 133, 167, 0, 84, 42, 180, 0, 16, 180, 0, 195, 133, 167, 0, 73, 42]
abbrev dktX0_book_2 : List UInt8 := dkwX0_book_2 ++ dktX0_book_3
def dkwX0_book_1 : List UInt8 := [170, 0, 0, 0, 0, 0, 132, 0, 0, 0, 0, 0, 0, 0, 6, 0, 0, 0, 43, 0, 0, 0, 54, 0, 0, 0, 65, 0, 0, 0, 76, 0, 0, 0, 86, 0, 0, 0, 96, 0, 0, 0, 106]
abbrev dktX0_book_1 : List UInt8 := dkwX0_book_1 ++ dktX0_book_2
def dkwX0_book_0 : List UInt8 := [27]
abbrev dktX0_book_0 : List UInt8 := dkwX0_book_0 ++ dktX0_book_1
theorem dksX0_book_0 : cX0_book.data.toList.drop 0 = dktX0_book_0 := by decide +kernel
theorem dksX0_book_1 : cX0_book.data.toList.drop 1 = dktX0_book_1 := dk_seg dksX0_book_0 1 rfl rfl
theorem dksX0_book_2 : cX0_book.data.toList.drop 44 = dktX0_book_2 := dk_seg dksX0_book_1 43 rfl rfl
theorem dksX0_book_3 : cX0_book.data.toList.drop 67 = dktX0_book_3 := dk_seg dksX0_book_2 23 rfl rfl
theorem dksX0_book_4 : cX0_book.data.toList.drop 91 = dktX0_book_4 := dk_seg dksX0_book_3 24 rfl rfl
theorem dksX0_book_5 : cX0_book.data.toList.drop 115 = dktX0_book_5 := dk_seg dksX0_book_4 24 rfl rfl
theorem dX0_book_0 : decode cX0_book 0 = .ok (.iload_n 1, 1) := dk_27 (dk_at dksX0_book_0 0 rfl rfl)
theorem dX0_book_1 : decode cX0_book 1 = .ok (.tableswitch 132 0 6 #[43, 54, 65, 76, 86, 96, 106], 43) := by decide +kernel
theorem dX0_book_44 : decode cX0_book 44 = .ok (.aload_n 0, 1) := dk_42 (dk_at dksX0_book_2 0 rfl rfl)
theorem dX0_book_45 : decode cX0_book 45 = .ok (.getfield 16, 3) := dk_180 0 16 (dk_at dksX0_book_2 1 rfl rfl)
theorem dX0_book_48 : decode cX0_book 48 = .ok (.getfield 192, 3) := dk_180 0 192 (dk_at dksX0_book_2 4 rfl rfl)
theorem dX0_book_51 : decode cX0_book 51 = .ok (.i2l, 1) := dk_133 (dk_at dksX0_book_2 7 rfl rfl)
theorem dX0_book_52 : decode cX0_book 52 = .ok (.goto 84, 3) := dk_167 0 84 (dk_at dksX0_book_2 8 rfl rfl)
theorem dX0_book_55 : decode cX0_book 55 = .ok (.aload_n 0, 1) := dk_42 (dk_at dksX0_book_2 11 rfl rfl)
theorem dX0_book_56 : decode cX0_book 56 = .ok (.getfield 16, 3) := dk_180 0 16 (dk_at dksX0_book_2 12 rfl rfl)
theorem dX0_book_59 : decode cX0_book 59 = .ok (.getfield 195, 3) := dk_180 0 195 (dk_at dksX0_book_2 15 rfl rfl)
theorem dX0_book_62 : decode cX0_book 62 = .ok (.i2l, 1) := dk_133 (dk_at dksX0_book_2 18 rfl rfl)
theorem dX0_book_63 : decode cX0_book 63 = .ok (.goto 73, 3) := dk_167 0 73 (dk_at dksX0_book_2 19 rfl rfl)
theorem dX0_book_66 : decode cX0_book 66 = .ok (.aload_n 0, 1) := dk_42 (dk_at dksX0_book_2 22 rfl rfl)
theorem dX0_book_67 : decode cX0_book 67 = .ok (.getfield 16, 3) := dk_180 0 16 (dk_at dksX0_book_3 0 rfl rfl)
theorem dX0_book_70 : decode cX0_book 70 = .ok (.getfield 198, 3) := dk_180 0 198 (dk_at dksX0_book_3 3 rfl rfl)
theorem dX0_book_73 : decode cX0_book 73 = .ok (.i2l, 1) := dk_133 (dk_at dksX0_book_3 6 rfl rfl)
theorem dX0_book_74 : decode cX0_book 74 = .ok (.goto 62, 3) := dk_167 0 62 (dk_at dksX0_book_3 7 rfl rfl)
theorem dX0_book_77 : decode cX0_book 77 = .ok (.aload_n 0, 1) := dk_42 (dk_at dksX0_book_3 10 rfl rfl)
theorem dX0_book_78 : decode cX0_book 78 = .ok (.getfield 16, 3) := dk_180 0 16 (dk_at dksX0_book_3 11 rfl rfl)
theorem dX0_book_81 : decode cX0_book 81 = .ok (.getfield 201, 3) := dk_180 0 201 (dk_at dksX0_book_3 14 rfl rfl)
theorem dX0_book_84 : decode cX0_book 84 = .ok (.goto 52, 3) := dk_167 0 52 (dk_at dksX0_book_3 17 rfl rfl)
theorem dX0_book_87 : decode cX0_book 87 = .ok (.aload_n 0, 1) := dk_42 (dk_at dksX0_book_3 20 rfl rfl)
theorem dX0_book_88 : decode cX0_book 88 = .ok (.getfield 16, 3) := dk_180 0 16 (dk_at dksX0_book_3 21 rfl rfl)
theorem dX0_book_91 : decode cX0_book 91 = .ok (.getfield 205, 3) := dk_180 0 205 (dk_at dksX0_book_4 0 rfl rfl)
theorem dX0_book_94 : decode cX0_book 94 = .ok (.goto 42, 3) := dk_167 0 42 (dk_at dksX0_book_4 3 rfl rfl)
theorem dX0_book_97 : decode cX0_book 97 = .ok (.aload_n 0, 1) := dk_42 (dk_at dksX0_book_4 6 rfl rfl)
theorem dX0_book_98 : decode cX0_book 98 = .ok (.getfield 16, 3) := dk_180 0 16 (dk_at dksX0_book_4 7 rfl rfl)
theorem dX0_book_101 : decode cX0_book 101 = .ok (.getfield 208, 3) := dk_180 0 208 (dk_at dksX0_book_4 10 rfl rfl)
theorem dX0_book_104 : decode cX0_book 104 = .ok (.goto 32, 3) := dk_167 0 32 (dk_at dksX0_book_4 13 rfl rfl)
theorem dX0_book_107 : decode cX0_book 107 = .ok (.aload_n 0, 1) := dk_42 (dk_at dksX0_book_4 16 rfl rfl)
theorem dX0_book_108 : decode cX0_book 108 = .ok (.getfield 16, 3) := dk_180 0 16 (dk_at dksX0_book_4 17 rfl rfl)
theorem dX0_book_111 : decode cX0_book 111 = .ok (.getfield 205, 3) := dk_180 0 205 (dk_at dksX0_book_4 20 rfl rfl)
theorem dX0_book_114 : decode cX0_book 114 = .ok (.aload_n 0, 1) := dk_42 (dk_at dksX0_book_4 23 rfl rfl)
theorem dX0_book_115 : decode cX0_book 115 = .ok (.getfield 16, 3) := dk_180 0 16 (dk_at dksX0_book_5 0 rfl rfl)
theorem dX0_book_118 : decode cX0_book 118 = .ok (.getfield 201, 3) := dk_180 0 201 (dk_at dksX0_book_5 3 rfl rfl)
theorem dX0_book_121 : decode cX0_book 121 = .ok (.lsub, 1) := dk_101 (dk_at dksX0_book_5 6 rfl rfl)
theorem dX0_book_122 : decode cX0_book 122 = .ok (.aload_n 0, 1) := dk_42 (dk_at dksX0_book_5 7 rfl rfl)
theorem dX0_book_123 : decode cX0_book 123 = .ok (.getfield 16, 3) := dk_180 0 16 (dk_at dksX0_book_5 8 rfl rfl)
theorem dX0_book_126 : decode cX0_book 126 = .ok (.getfield 208, 3) := dk_180 0 208 (dk_at dksX0_book_5 11 rfl rfl)
theorem dX0_book_129 : decode cX0_book 129 = .ok (.lsub, 1) := dk_101 (dk_at dksX0_book_5 14 rfl rfl)
theorem dX0_book_130 : decode cX0_book 130 = .ok (.goto 6, 3) := dk_167 0 6 (dk_at dksX0_book_5 15 rfl rfl)
theorem dX0_book_133 : decode cX0_book 133 = .ok (.ldc2_w 211, 3) := dk_20 0 211 (dk_at dksX0_book_5 18 rfl rfl)
theorem dX0_book_136 : decode cX0_book 136 = .ok (.lreturn, 1) := dk_173 (dk_at dksX0_book_5 21 rfl rfl)
abbrev cX0_audit : ByteArray := prog_1_method_29_code
def yX0_audit : MethodName := ⟨RX0, "audit", "()I"⟩
def dkwX0_audit_4 : List UInt8 := [132, 2, 1, 167, 255, 200, 27, 153, 0, 7, 4, 167, 0, 4, 3, 172]
abbrev dktX0_audit_4 : List UInt8 := dkwX0_audit_4 ++ []
def dkwX0_audit_3 : List UInt8 := [27, 45, 180, 0, 213, 45, 180, 0, 216, 100, 45, 180, 0, 219, 160, 0, 7, 4, 167, 0, 4, 3, 126, 60]
abbrev dktX0_audit_3 : List UInt8 := dkwX0_audit_3 ++ dktX0_audit_4
def dkwX0_audit_2 : List UInt8 := [180, 0, 82, 182, 0, 86, 162, 0, 48, 42, 180, 0, 16, 180, 0, 82, 28, 182, 0, 118, 192, 0, 107, 78]
abbrev dktX0_audit_2 : List UInt8 := dkwX0_audit_2 ++ dktX0_audit_3
def dkwX0_audit_1 : List UInt8 := [42, 180, 0, 16, 182, 0, 165, 148, 154, 0, 7, 4, 167, 0, 4, 3, 60, 3, 61, 28, 42, 180, 0, 16]
abbrev dktX0_audit_1 : List UInt8 := dkwX0_audit_1 ++ dktX0_audit_2
def dkwX0_audit_0 : List UInt8 := [42, 180, 0, 16, 180, 0, 192, 42, 180, 0, 16, 180, 0, 195, 100, 42, 180, 0, 16, 180, 0, 198, 100, 133]
abbrev dktX0_audit_0 : List UInt8 := dkwX0_audit_0 ++ dktX0_audit_1
theorem dksX0_audit_0 : cX0_audit.data.toList.drop 0 = dktX0_audit_0 := by decide +kernel
theorem dksX0_audit_1 : cX0_audit.data.toList.drop 24 = dktX0_audit_1 := dk_seg dksX0_audit_0 24 rfl rfl
theorem dksX0_audit_2 : cX0_audit.data.toList.drop 48 = dktX0_audit_2 := dk_seg dksX0_audit_1 24 rfl rfl
theorem dksX0_audit_3 : cX0_audit.data.toList.drop 72 = dktX0_audit_3 := dk_seg dksX0_audit_2 24 rfl rfl
theorem dksX0_audit_4 : cX0_audit.data.toList.drop 96 = dktX0_audit_4 := dk_seg dksX0_audit_3 24 rfl rfl
theorem dX0_audit_0 : decode cX0_audit 0 = .ok (.aload_n 0, 1) := dk_42 (dk_at dksX0_audit_0 0 rfl rfl)
theorem dX0_audit_1 : decode cX0_audit 1 = .ok (.getfield 16, 3) := dk_180 0 16 (dk_at dksX0_audit_0 1 rfl rfl)
theorem dX0_audit_4 : decode cX0_audit 4 = .ok (.getfield 192, 3) := dk_180 0 192 (dk_at dksX0_audit_0 4 rfl rfl)
theorem dX0_audit_7 : decode cX0_audit 7 = .ok (.aload_n 0, 1) := dk_42 (dk_at dksX0_audit_0 7 rfl rfl)
theorem dX0_audit_8 : decode cX0_audit 8 = .ok (.getfield 16, 3) := dk_180 0 16 (dk_at dksX0_audit_0 8 rfl rfl)
theorem dX0_audit_11 : decode cX0_audit 11 = .ok (.getfield 195, 3) := dk_180 0 195 (dk_at dksX0_audit_0 11 rfl rfl)
theorem dX0_audit_14 : decode cX0_audit 14 = .ok (.isub, 1) := dk_100 (dk_at dksX0_audit_0 14 rfl rfl)
theorem dX0_audit_15 : decode cX0_audit 15 = .ok (.aload_n 0, 1) := dk_42 (dk_at dksX0_audit_0 15 rfl rfl)
theorem dX0_audit_16 : decode cX0_audit 16 = .ok (.getfield 16, 3) := dk_180 0 16 (dk_at dksX0_audit_0 16 rfl rfl)
theorem dX0_audit_19 : decode cX0_audit 19 = .ok (.getfield 198, 3) := dk_180 0 198 (dk_at dksX0_audit_0 19 rfl rfl)
theorem dX0_audit_22 : decode cX0_audit 22 = .ok (.isub, 1) := dk_100 (dk_at dksX0_audit_0 22 rfl rfl)
theorem dX0_audit_23 : decode cX0_audit 23 = .ok (.i2l, 1) := dk_133 (dk_at dksX0_audit_0 23 rfl rfl)
theorem dX0_audit_24 : decode cX0_audit 24 = .ok (.aload_n 0, 1) := dk_42 (dk_at dksX0_audit_1 0 rfl rfl)
theorem dX0_audit_25 : decode cX0_audit 25 = .ok (.getfield 16, 3) := dk_180 0 16 (dk_at dksX0_audit_1 1 rfl rfl)
theorem dX0_audit_28 : decode cX0_audit 28 = .ok (.invokevirtual 165, 3) := dk_182 0 165 (dk_at dksX0_audit_1 4 rfl rfl)
theorem dX0_audit_31 : decode cX0_audit 31 = .ok (.lcmp, 1) := dk_148 (dk_at dksX0_audit_1 7 rfl rfl)
theorem dX0_audit_32 : decode cX0_audit 32 = .ok (.ifCond .ne 7, 3) := dk_154 0 7 (dk_at dksX0_audit_1 8 rfl rfl)
theorem dX0_audit_35 : decode cX0_audit 35 = .ok (.iconst 1, 1) := dk_4 (dk_at dksX0_audit_1 11 rfl rfl)
theorem dX0_audit_36 : decode cX0_audit 36 = .ok (.goto 4, 3) := dk_167 0 4 (dk_at dksX0_audit_1 12 rfl rfl)
theorem dX0_audit_39 : decode cX0_audit 39 = .ok (.iconst 0, 1) := dk_3 (dk_at dksX0_audit_1 15 rfl rfl)
theorem dX0_audit_40 : decode cX0_audit 40 = .ok (.istore_n 1, 1) := dk_60 (dk_at dksX0_audit_1 16 rfl rfl)
theorem dX0_audit_41 : decode cX0_audit 41 = .ok (.iconst 0, 1) := dk_3 (dk_at dksX0_audit_1 17 rfl rfl)
theorem dX0_audit_42 : decode cX0_audit 42 = .ok (.istore_n 2, 1) := dk_61 (dk_at dksX0_audit_1 18 rfl rfl)
theorem dX0_audit_43 : decode cX0_audit 43 = .ok (.iload_n 2, 1) := dk_28 (dk_at dksX0_audit_1 19 rfl rfl)
theorem dX0_audit_44 : decode cX0_audit 44 = .ok (.aload_n 0, 1) := dk_42 (dk_at dksX0_audit_1 20 rfl rfl)
theorem dX0_audit_45 : decode cX0_audit 45 = .ok (.getfield 16, 3) := dk_180 0 16 (dk_at dksX0_audit_1 21 rfl rfl)
theorem dX0_audit_48 : decode cX0_audit 48 = .ok (.getfield 82, 3) := dk_180 0 82 (dk_at dksX0_audit_2 0 rfl rfl)
theorem dX0_audit_51 : decode cX0_audit 51 = .ok (.invokevirtual 86, 3) := dk_182 0 86 (dk_at dksX0_audit_2 3 rfl rfl)
theorem dX0_audit_54 : decode cX0_audit 54 = .ok (.if_icmp .ge 48, 3) := dk_162 0 48 (dk_at dksX0_audit_2 6 rfl rfl)
theorem dX0_audit_57 : decode cX0_audit 57 = .ok (.aload_n 0, 1) := dk_42 (dk_at dksX0_audit_2 9 rfl rfl)
theorem dX0_audit_58 : decode cX0_audit 58 = .ok (.getfield 16, 3) := dk_180 0 16 (dk_at dksX0_audit_2 10 rfl rfl)
theorem dX0_audit_61 : decode cX0_audit 61 = .ok (.getfield 82, 3) := dk_180 0 82 (dk_at dksX0_audit_2 13 rfl rfl)
theorem dX0_audit_64 : decode cX0_audit 64 = .ok (.iload_n 2, 1) := dk_28 (dk_at dksX0_audit_2 16 rfl rfl)
theorem dX0_audit_65 : decode cX0_audit 65 = .ok (.invokevirtual 118, 3) := dk_182 0 118 (dk_at dksX0_audit_2 17 rfl rfl)
theorem dX0_audit_68 : decode cX0_audit 68 = .ok (.checkcast 107, 3) := dk_192 0 107 (dk_at dksX0_audit_2 20 rfl rfl)
theorem dX0_audit_71 : decode cX0_audit 71 = .ok (.astore_n 3, 1) := dk_78 (dk_at dksX0_audit_2 23 rfl rfl)
theorem dX0_audit_72 : decode cX0_audit 72 = .ok (.iload_n 1, 1) := dk_27 (dk_at dksX0_audit_3 0 rfl rfl)
theorem dX0_audit_73 : decode cX0_audit 73 = .ok (.aload_n 3, 1) := dk_45 (dk_at dksX0_audit_3 1 rfl rfl)
theorem dX0_audit_74 : decode cX0_audit 74 = .ok (.getfield 213, 3) := dk_180 0 213 (dk_at dksX0_audit_3 2 rfl rfl)
theorem dX0_audit_77 : decode cX0_audit 77 = .ok (.aload_n 3, 1) := dk_45 (dk_at dksX0_audit_3 5 rfl rfl)
theorem dX0_audit_78 : decode cX0_audit 78 = .ok (.getfield 216, 3) := dk_180 0 216 (dk_at dksX0_audit_3 6 rfl rfl)
theorem dX0_audit_81 : decode cX0_audit 81 = .ok (.isub, 1) := dk_100 (dk_at dksX0_audit_3 9 rfl rfl)
theorem dX0_audit_82 : decode cX0_audit 82 = .ok (.aload_n 3, 1) := dk_45 (dk_at dksX0_audit_3 10 rfl rfl)
theorem dX0_audit_83 : decode cX0_audit 83 = .ok (.getfield 219, 3) := dk_180 0 219 (dk_at dksX0_audit_3 11 rfl rfl)
theorem dX0_audit_86 : decode cX0_audit 86 = .ok (.if_icmp .ne 7, 3) := dk_160 0 7 (dk_at dksX0_audit_3 14 rfl rfl)
theorem dX0_audit_89 : decode cX0_audit 89 = .ok (.iconst 1, 1) := dk_4 (dk_at dksX0_audit_3 17 rfl rfl)
theorem dX0_audit_90 : decode cX0_audit 90 = .ok (.goto 4, 3) := dk_167 0 4 (dk_at dksX0_audit_3 18 rfl rfl)
theorem dX0_audit_93 : decode cX0_audit 93 = .ok (.iconst 0, 1) := dk_3 (dk_at dksX0_audit_3 21 rfl rfl)
theorem dX0_audit_94 : decode cX0_audit 94 = .ok (.iand, 1) := dk_126 (dk_at dksX0_audit_3 22 rfl rfl)
theorem dX0_audit_95 : decode cX0_audit 95 = .ok (.istore_n 1, 1) := dk_60 (dk_at dksX0_audit_3 23 rfl rfl)
theorem dX0_audit_96 : decode cX0_audit 96 = .ok (.iinc 2 1, 3) := dk_132 2 1 (dk_at dksX0_audit_4 0 rfl rfl)
theorem dX0_audit_99 : decode cX0_audit 99 = .ok (.goto (-56), 3) := dk_167 255 200 (dk_at dksX0_audit_4 3 rfl rfl)
theorem dX0_audit_102 : decode cX0_audit 102 = .ok (.iload_n 1, 1) := dk_27 (dk_at dksX0_audit_4 6 rfl rfl)
theorem dX0_audit_103 : decode cX0_audit 103 = .ok (.ifCond .eq 7, 3) := dk_153 0 7 (dk_at dksX0_audit_4 7 rfl rfl)
theorem dX0_audit_106 : decode cX0_audit 106 = .ok (.iconst 1, 1) := dk_4 (dk_at dksX0_audit_4 10 rfl rfl)
theorem dX0_audit_107 : decode cX0_audit 107 = .ok (.goto 4, 3) := dk_167 0 4 (dk_at dksX0_audit_4 11 rfl rfl)
theorem dX0_audit_110 : decode cX0_audit 110 = .ok (.iconst 0, 1) := dk_3 (dk_at dksX0_audit_4 14 rfl rfl)
theorem dX0_audit_111 : decode cX0_audit 111 = .ok (.ireturn, 1) := dk_172 (dk_at dksX0_audit_4 15 rfl rfl)
abbrev cX0_receive : ByteArray := prog_1_method_32_code
def yX0_receive : MethodName := ⟨RX0, "receive", "(IIIII)I"⟩
def dkwX0_receive_1 : List UInt8 := [182, 0, 104, 42, 27, 28, 29, 21, 4, 21, 5, 182, 1, 1, 172]
abbrev dktX0_receive_1 : List UInt8 := dkwX0_receive_1 ++ []
def dkwX0_receive_0 : List UInt8 := [42, 27, 28, 29, 21, 4, 21, 5, 182, 0, 254, 54, 6, 21, 6, 156, 0, 6, 21, 6, 172, 42]
abbrev dktX0_receive_0 : List UInt8 := dkwX0_receive_0 ++ dktX0_receive_1
theorem dksX0_receive_0 : cX0_receive.data.toList.drop 0 = dktX0_receive_0 := by decide +kernel
theorem dksX0_receive_1 : cX0_receive.data.toList.drop 22 = dktX0_receive_1 := dk_seg dksX0_receive_0 22 rfl rfl
theorem dX0_receive_0 : decode cX0_receive 0 = .ok (.aload_n 0, 1) := dk_42 (dk_at dksX0_receive_0 0 rfl rfl)
theorem dX0_receive_1 : decode cX0_receive 1 = .ok (.iload_n 1, 1) := dk_27 (dk_at dksX0_receive_0 1 rfl rfl)
theorem dX0_receive_2 : decode cX0_receive 2 = .ok (.iload_n 2, 1) := dk_28 (dk_at dksX0_receive_0 2 rfl rfl)
theorem dX0_receive_3 : decode cX0_receive 3 = .ok (.iload_n 3, 1) := dk_29 (dk_at dksX0_receive_0 3 rfl rfl)
theorem dX0_receive_4 : decode cX0_receive 4 = .ok (.iload 4, 2) := dk_21 4 (dk_at dksX0_receive_0 4 rfl rfl)
theorem dX0_receive_6 : decode cX0_receive 6 = .ok (.iload 5, 2) := dk_21 5 (dk_at dksX0_receive_0 6 rfl rfl)
theorem dX0_receive_8 : decode cX0_receive 8 = .ok (.invokevirtual 254, 3) := dk_182 0 254 (dk_at dksX0_receive_0 8 rfl rfl)
theorem dX0_receive_11 : decode cX0_receive 11 = .ok (.istore 6, 2) := dk_54 6 (dk_at dksX0_receive_0 11 rfl rfl)
theorem dX0_receive_13 : decode cX0_receive 13 = .ok (.iload 6, 2) := dk_21 6 (dk_at dksX0_receive_0 13 rfl rfl)
theorem dX0_receive_15 : decode cX0_receive 15 = .ok (.ifCond .ge 6, 3) := dk_156 0 6 (dk_at dksX0_receive_0 15 rfl rfl)
theorem dX0_receive_18 : decode cX0_receive 18 = .ok (.iload 6, 2) := dk_21 6 (dk_at dksX0_receive_0 18 rfl rfl)
theorem dX0_receive_20 : decode cX0_receive 20 = .ok (.ireturn, 1) := dk_172 (dk_at dksX0_receive_0 20 rfl rfl)
theorem dX0_receive_21 : decode cX0_receive 21 = .ok (.aload_n 0, 1) := dk_42 (dk_at dksX0_receive_0 21 rfl rfl)
theorem dX0_receive_22 : decode cX0_receive 22 = .ok (.invokevirtual 104, 3) := dk_182 0 104 (dk_at dksX0_receive_1 0 rfl rfl)
theorem dX0_receive_25 : decode cX0_receive 25 = .ok (.aload_n 0, 1) := dk_42 (dk_at dksX0_receive_1 3 rfl rfl)
theorem dX0_receive_26 : decode cX0_receive 26 = .ok (.iload_n 1, 1) := dk_27 (dk_at dksX0_receive_1 4 rfl rfl)
theorem dX0_receive_27 : decode cX0_receive 27 = .ok (.iload_n 2, 1) := dk_28 (dk_at dksX0_receive_1 5 rfl rfl)
theorem dX0_receive_28 : decode cX0_receive 28 = .ok (.iload_n 3, 1) := dk_29 (dk_at dksX0_receive_1 6 rfl rfl)
theorem dX0_receive_29 : decode cX0_receive 29 = .ok (.iload 4, 2) := dk_21 4 (dk_at dksX0_receive_1 7 rfl rfl)
theorem dX0_receive_31 : decode cX0_receive 31 = .ok (.iload 5, 2) := dk_21 5 (dk_at dksX0_receive_1 9 rfl rfl)
theorem dX0_receive_33 : decode cX0_receive 33 = .ok (.invokevirtual 257, 3) := dk_182 1 1 (dk_at dksX0_receive_1 11 rfl rfl)
theorem dX0_receive_36 : decode cX0_receive 36 = .ok (.ireturn, 1) := dk_172 (dk_at dksX0_receive_1 14 rfl rfl)
abbrev cX0_move : ByteArray := prog_1_method_36_code
def yX0_move : MethodName := ⟨RX0, "move", "(IIII)I"⟩
def dkwX0_move_1 : List UInt8 := [27, 28, 29, 21, 4, 182, 1, 20, 172]
abbrev dktX0_move_1 : List UInt8 := dkwX0_move_1 ++ []
def dkwX0_move_0 : List UInt8 := [42, 27, 28, 29, 21, 4, 182, 1, 17, 54, 5, 21, 5, 156, 0, 6, 21, 5, 172, 42, 182, 0, 104, 42]
abbrev dktX0_move_0 : List UInt8 := dkwX0_move_0 ++ dktX0_move_1
theorem dksX0_move_0 : cX0_move.data.toList.drop 0 = dktX0_move_0 := by decide +kernel
theorem dksX0_move_1 : cX0_move.data.toList.drop 24 = dktX0_move_1 := dk_seg dksX0_move_0 24 rfl rfl
theorem dX0_move_0 : decode cX0_move 0 = .ok (.aload_n 0, 1) := dk_42 (dk_at dksX0_move_0 0 rfl rfl)
theorem dX0_move_1 : decode cX0_move 1 = .ok (.iload_n 1, 1) := dk_27 (dk_at dksX0_move_0 1 rfl rfl)
theorem dX0_move_2 : decode cX0_move 2 = .ok (.iload_n 2, 1) := dk_28 (dk_at dksX0_move_0 2 rfl rfl)
theorem dX0_move_3 : decode cX0_move 3 = .ok (.iload_n 3, 1) := dk_29 (dk_at dksX0_move_0 3 rfl rfl)
theorem dX0_move_4 : decode cX0_move 4 = .ok (.iload 4, 2) := dk_21 4 (dk_at dksX0_move_0 4 rfl rfl)
theorem dX0_move_6 : decode cX0_move 6 = .ok (.invokevirtual 273, 3) := dk_182 1 17 (dk_at dksX0_move_0 6 rfl rfl)
theorem dX0_move_9 : decode cX0_move 9 = .ok (.istore 5, 2) := dk_54 5 (dk_at dksX0_move_0 9 rfl rfl)
theorem dX0_move_11 : decode cX0_move 11 = .ok (.iload 5, 2) := dk_21 5 (dk_at dksX0_move_0 11 rfl rfl)
theorem dX0_move_13 : decode cX0_move 13 = .ok (.ifCond .ge 6, 3) := dk_156 0 6 (dk_at dksX0_move_0 13 rfl rfl)
theorem dX0_move_16 : decode cX0_move 16 = .ok (.iload 5, 2) := dk_21 5 (dk_at dksX0_move_0 16 rfl rfl)
theorem dX0_move_18 : decode cX0_move 18 = .ok (.ireturn, 1) := dk_172 (dk_at dksX0_move_0 18 rfl rfl)
theorem dX0_move_19 : decode cX0_move 19 = .ok (.aload_n 0, 1) := dk_42 (dk_at dksX0_move_0 19 rfl rfl)
theorem dX0_move_20 : decode cX0_move 20 = .ok (.invokevirtual 104, 3) := dk_182 0 104 (dk_at dksX0_move_0 20 rfl rfl)
theorem dX0_move_23 : decode cX0_move 23 = .ok (.aload_n 0, 1) := dk_42 (dk_at dksX0_move_0 23 rfl rfl)
theorem dX0_move_24 : decode cX0_move 24 = .ok (.iload_n 1, 1) := dk_27 (dk_at dksX0_move_1 0 rfl rfl)
theorem dX0_move_25 : decode cX0_move 25 = .ok (.iload_n 2, 1) := dk_28 (dk_at dksX0_move_1 1 rfl rfl)
theorem dX0_move_26 : decode cX0_move 26 = .ok (.iload_n 3, 1) := dk_29 (dk_at dksX0_move_1 2 rfl rfl)
theorem dX0_move_27 : decode cX0_move 27 = .ok (.iload 4, 2) := dk_21 4 (dk_at dksX0_move_1 3 rfl rfl)
theorem dX0_move_29 : decode cX0_move 29 = .ok (.invokevirtual 276, 3) := dk_182 1 20 (dk_at dksX0_move_1 5 rfl rfl)
theorem dX0_move_32 : decode cX0_move 32 = .ok (.ireturn, 1) := dk_172 (dk_at dksX0_move_1 8 rfl rfl)
abbrev cX0_whyNot : ByteArray := prog_1_method_37_code
def yX0_whyNot : MethodName := ⟨RX0, "whyNot", "(IIII)I"⟩
def dkwX0_whyNot_1 : List UInt8 := [180, 0, 16, 27, 28, 29, 21, 4, 182, 1, 8, 172]
abbrev dktX0_whyNot_1 : List UInt8 := dkwX0_whyNot_1 ++ []
def dkwX0_whyNot_0 : List UInt8 := [42, 27, 28, 29, 21, 4, 182, 1, 4, 54, 5, 21, 5, 156, 0, 8, 21, 5, 167, 0, 15, 42]
abbrev dktX0_whyNot_0 : List UInt8 := dkwX0_whyNot_0 ++ dktX0_whyNot_1
theorem dksX0_whyNot_0 : cX0_whyNot.data.toList.drop 0 = dktX0_whyNot_0 := by decide +kernel
theorem dksX0_whyNot_1 : cX0_whyNot.data.toList.drop 22 = dktX0_whyNot_1 := dk_seg dksX0_whyNot_0 22 rfl rfl
theorem dX0_whyNot_0 : decode cX0_whyNot 0 = .ok (.aload_n 0, 1) := dk_42 (dk_at dksX0_whyNot_0 0 rfl rfl)
theorem dX0_whyNot_1 : decode cX0_whyNot 1 = .ok (.iload_n 1, 1) := dk_27 (dk_at dksX0_whyNot_0 1 rfl rfl)
theorem dX0_whyNot_2 : decode cX0_whyNot 2 = .ok (.iload_n 2, 1) := dk_28 (dk_at dksX0_whyNot_0 2 rfl rfl)
theorem dX0_whyNot_3 : decode cX0_whyNot 3 = .ok (.iload_n 3, 1) := dk_29 (dk_at dksX0_whyNot_0 3 rfl rfl)
theorem dX0_whyNot_4 : decode cX0_whyNot 4 = .ok (.iload 4, 2) := dk_21 4 (dk_at dksX0_whyNot_0 4 rfl rfl)
theorem dX0_whyNot_6 : decode cX0_whyNot 6 = .ok (.invokevirtual 260, 3) := dk_182 1 4 (dk_at dksX0_whyNot_0 6 rfl rfl)
theorem dX0_whyNot_9 : decode cX0_whyNot 9 = .ok (.istore 5, 2) := dk_54 5 (dk_at dksX0_whyNot_0 9 rfl rfl)
theorem dX0_whyNot_11 : decode cX0_whyNot 11 = .ok (.iload 5, 2) := dk_21 5 (dk_at dksX0_whyNot_0 11 rfl rfl)
theorem dX0_whyNot_13 : decode cX0_whyNot 13 = .ok (.ifCond .ge 8, 3) := dk_156 0 8 (dk_at dksX0_whyNot_0 13 rfl rfl)
theorem dX0_whyNot_16 : decode cX0_whyNot 16 = .ok (.iload 5, 2) := dk_21 5 (dk_at dksX0_whyNot_0 16 rfl rfl)
theorem dX0_whyNot_18 : decode cX0_whyNot 18 = .ok (.goto 15, 3) := dk_167 0 15 (dk_at dksX0_whyNot_0 18 rfl rfl)
theorem dX0_whyNot_21 : decode cX0_whyNot 21 = .ok (.aload_n 0, 1) := dk_42 (dk_at dksX0_whyNot_0 21 rfl rfl)
theorem dX0_whyNot_22 : decode cX0_whyNot 22 = .ok (.getfield 16, 3) := dk_180 0 16 (dk_at dksX0_whyNot_1 0 rfl rfl)
theorem dX0_whyNot_25 : decode cX0_whyNot 25 = .ok (.iload_n 1, 1) := dk_27 (dk_at dksX0_whyNot_1 3 rfl rfl)
theorem dX0_whyNot_26 : decode cX0_whyNot 26 = .ok (.iload_n 2, 1) := dk_28 (dk_at dksX0_whyNot_1 4 rfl rfl)
theorem dX0_whyNot_27 : decode cX0_whyNot 27 = .ok (.iload_n 3, 1) := dk_29 (dk_at dksX0_whyNot_1 5 rfl rfl)
theorem dX0_whyNot_28 : decode cX0_whyNot 28 = .ok (.iload 4, 2) := dk_21 4 (dk_at dksX0_whyNot_1 6 rfl rfl)
theorem dX0_whyNot_30 : decode cX0_whyNot 30 = .ok (.invokevirtual 264, 3) := dk_182 1 8 (dk_at dksX0_whyNot_1 8 rfl rfl)
theorem dX0_whyNot_33 : decode cX0_whyNot 33 = .ok (.ireturn, 1) := dk_172 (dk_at dksX0_whyNot_1 11 rfl rfl)
abbrev cX0_clean : ByteArray := prog_1_method_40_code
def yX0_clean : MethodName := ⟨RX0, "clean", "(II)I"⟩
def dkwX0_clean_0 : List UInt8 := [42, 27, 28, 182, 1, 28, 62, 29, 156, 0, 5, 29, 172, 42, 182, 0, 104, 42, 27, 28, 182, 1, 31, 172]
abbrev dktX0_clean_0 : List UInt8 := dkwX0_clean_0 ++ []
theorem dksX0_clean_0 : cX0_clean.data.toList.drop 0 = dktX0_clean_0 := by decide +kernel
theorem dX0_clean_0 : decode cX0_clean 0 = .ok (.aload_n 0, 1) := dk_42 (dk_at dksX0_clean_0 0 rfl rfl)
theorem dX0_clean_1 : decode cX0_clean 1 = .ok (.iload_n 1, 1) := dk_27 (dk_at dksX0_clean_0 1 rfl rfl)
theorem dX0_clean_2 : decode cX0_clean 2 = .ok (.iload_n 2, 1) := dk_28 (dk_at dksX0_clean_0 2 rfl rfl)
theorem dX0_clean_3 : decode cX0_clean 3 = .ok (.invokevirtual 284, 3) := dk_182 1 28 (dk_at dksX0_clean_0 3 rfl rfl)
theorem dX0_clean_6 : decode cX0_clean 6 = .ok (.istore_n 3, 1) := dk_62 (dk_at dksX0_clean_0 6 rfl rfl)
theorem dX0_clean_7 : decode cX0_clean 7 = .ok (.iload_n 3, 1) := dk_29 (dk_at dksX0_clean_0 7 rfl rfl)
theorem dX0_clean_8 : decode cX0_clean 8 = .ok (.ifCond .ge 5, 3) := dk_156 0 5 (dk_at dksX0_clean_0 8 rfl rfl)
theorem dX0_clean_11 : decode cX0_clean 11 = .ok (.iload_n 3, 1) := dk_29 (dk_at dksX0_clean_0 11 rfl rfl)
theorem dX0_clean_12 : decode cX0_clean 12 = .ok (.ireturn, 1) := dk_172 (dk_at dksX0_clean_0 12 rfl rfl)
theorem dX0_clean_13 : decode cX0_clean 13 = .ok (.aload_n 0, 1) := dk_42 (dk_at dksX0_clean_0 13 rfl rfl)
theorem dX0_clean_14 : decode cX0_clean 14 = .ok (.invokevirtual 104, 3) := dk_182 0 104 (dk_at dksX0_clean_0 14 rfl rfl)
theorem dX0_clean_17 : decode cX0_clean 17 = .ok (.aload_n 0, 1) := dk_42 (dk_at dksX0_clean_0 17 rfl rfl)
theorem dX0_clean_18 : decode cX0_clean 18 = .ok (.iload_n 1, 1) := dk_27 (dk_at dksX0_clean_0 18 rfl rfl)
theorem dX0_clean_19 : decode cX0_clean 19 = .ok (.iload_n 2, 1) := dk_28 (dk_at dksX0_clean_0 19 rfl rfl)
theorem dX0_clean_20 : decode cX0_clean 20 = .ok (.invokevirtual 287, 3) := dk_182 1 31 (dk_at dksX0_clean_0 20 rfl rfl)
theorem dX0_clean_23 : decode cX0_clean 23 = .ok (.ireturn, 1) := dk_172 (dk_at dksX0_clean_0 23 rfl rfl)
abbrev cX0_pass : ByteArray := prog_1_method_41_code
def yX0_pass : MethodName := ⟨RX0, "pass", "(I)I"⟩
def dkwX0_pass_1 : List UInt8 := [16, 251, 172, 42, 182, 0, 104, 42, 180, 0, 16, 27, 182, 0, 239, 42, 180, 0, 16, 180, 0, 95, 172]
abbrev dktX0_pass_1 : List UInt8 := dkwX0_pass_1 ++ []
def dkwX0_pass_0 : List UInt8 := [27, 4, 17, 39, 16, 184, 0, 1, 154, 0, 6, 16, 253, 172, 42, 27, 133, 182, 0, 235, 154, 0, 6]
abbrev dktX0_pass_0 : List UInt8 := dkwX0_pass_0 ++ dktX0_pass_1
theorem dksX0_pass_0 : cX0_pass.data.toList.drop 0 = dktX0_pass_0 := by decide +kernel
theorem dksX0_pass_1 : cX0_pass.data.toList.drop 23 = dktX0_pass_1 := dk_seg dksX0_pass_0 23 rfl rfl
theorem dX0_pass_0 : decode cX0_pass 0 = .ok (.iload_n 1, 1) := dk_27 (dk_at dksX0_pass_0 0 rfl rfl)
theorem dX0_pass_1 : decode cX0_pass 1 = .ok (.iconst 1, 1) := dk_4 (dk_at dksX0_pass_0 1 rfl rfl)
theorem dX0_pass_2 : decode cX0_pass 2 = .ok (.sipush 10000, 3) := dk_17 39 16 (dk_at dksX0_pass_0 2 rfl rfl)
theorem dX0_pass_5 : decode cX0_pass 5 = .ok (.invokestatic 1, 3) := dk_184 0 1 (dk_at dksX0_pass_0 5 rfl rfl)
theorem dX0_pass_8 : decode cX0_pass 8 = .ok (.ifCond .ne 6, 3) := dk_154 0 6 (dk_at dksX0_pass_0 8 rfl rfl)
theorem dX0_pass_11 : decode cX0_pass 11 = .ok (.bipush (-3), 2) := dk_16 253 (dk_at dksX0_pass_0 11 rfl rfl)
theorem dX0_pass_13 : decode cX0_pass 13 = .ok (.ireturn, 1) := dk_172 (dk_at dksX0_pass_0 13 rfl rfl)
theorem dX0_pass_14 : decode cX0_pass 14 = .ok (.aload_n 0, 1) := dk_42 (dk_at dksX0_pass_0 14 rfl rfl)
theorem dX0_pass_15 : decode cX0_pass 15 = .ok (.iload_n 1, 1) := dk_27 (dk_at dksX0_pass_0 15 rfl rfl)
theorem dX0_pass_16 : decode cX0_pass 16 = .ok (.i2l, 1) := dk_133 (dk_at dksX0_pass_0 16 rfl rfl)
theorem dX0_pass_17 : decode cX0_pass 17 = .ok (.invokevirtual 235, 3) := dk_182 0 235 (dk_at dksX0_pass_0 17 rfl rfl)
theorem dX0_pass_20 : decode cX0_pass 20 = .ok (.ifCond .ne 6, 3) := dk_154 0 6 (dk_at dksX0_pass_0 20 rfl rfl)
theorem dX0_pass_23 : decode cX0_pass 23 = .ok (.bipush (-5), 2) := dk_16 251 (dk_at dksX0_pass_1 0 rfl rfl)
theorem dX0_pass_25 : decode cX0_pass 25 = .ok (.ireturn, 1) := dk_172 (dk_at dksX0_pass_1 2 rfl rfl)
theorem dX0_pass_26 : decode cX0_pass 26 = .ok (.aload_n 0, 1) := dk_42 (dk_at dksX0_pass_1 3 rfl rfl)
theorem dX0_pass_27 : decode cX0_pass 27 = .ok (.invokevirtual 104, 3) := dk_182 0 104 (dk_at dksX0_pass_1 4 rfl rfl)
theorem dX0_pass_30 : decode cX0_pass 30 = .ok (.aload_n 0, 1) := dk_42 (dk_at dksX0_pass_1 7 rfl rfl)
theorem dX0_pass_31 : decode cX0_pass 31 = .ok (.getfield 16, 3) := dk_180 0 16 (dk_at dksX0_pass_1 8 rfl rfl)
theorem dX0_pass_34 : decode cX0_pass 34 = .ok (.iload_n 1, 1) := dk_27 (dk_at dksX0_pass_1 11 rfl rfl)
theorem dX0_pass_35 : decode cX0_pass 35 = .ok (.invokevirtual 239, 3) := dk_182 0 239 (dk_at dksX0_pass_1 12 rfl rfl)
theorem dX0_pass_38 : decode cX0_pass 38 = .ok (.aload_n 0, 1) := dk_42 (dk_at dksX0_pass_1 15 rfl rfl)
theorem dX0_pass_39 : decode cX0_pass 39 = .ok (.getfield 16, 3) := dk_180 0 16 (dk_at dksX0_pass_1 16 rfl rfl)
theorem dX0_pass_42 : decode cX0_pass 42 = .ok (.getfield 95, 3) := dk_180 0 95 (dk_at dksX0_pass_1 19 rfl rfl)
theorem dX0_pass_45 : decode cX0_pass 45 = .ok (.ireturn, 1) := dk_172 (dk_at dksX0_pass_1 22 rfl rfl)
abbrev cX0_dry : ByteArray := prog_1_method_44_code
def yX0_dry : MethodName := ⟨RX0, "dry", "(II)I"⟩
def dkwX0_dry_0 : List UInt8 := [42, 27, 28, 182, 1, 42, 62, 29, 156, 0, 5, 29, 172, 42, 182, 0, 104, 42, 27, 28, 182, 1, 45, 172]
abbrev dktX0_dry_0 : List UInt8 := dkwX0_dry_0 ++ []
theorem dksX0_dry_0 : cX0_dry.data.toList.drop 0 = dktX0_dry_0 := by decide +kernel
theorem dX0_dry_0 : decode cX0_dry 0 = .ok (.aload_n 0, 1) := dk_42 (dk_at dksX0_dry_0 0 rfl rfl)
theorem dX0_dry_1 : decode cX0_dry 1 = .ok (.iload_n 1, 1) := dk_27 (dk_at dksX0_dry_0 1 rfl rfl)
theorem dX0_dry_2 : decode cX0_dry 2 = .ok (.iload_n 2, 1) := dk_28 (dk_at dksX0_dry_0 2 rfl rfl)
theorem dX0_dry_3 : decode cX0_dry 3 = .ok (.invokevirtual 298, 3) := dk_182 1 42 (dk_at dksX0_dry_0 3 rfl rfl)
theorem dX0_dry_6 : decode cX0_dry 6 = .ok (.istore_n 3, 1) := dk_62 (dk_at dksX0_dry_0 6 rfl rfl)
theorem dX0_dry_7 : decode cX0_dry 7 = .ok (.iload_n 3, 1) := dk_29 (dk_at dksX0_dry_0 7 rfl rfl)
theorem dX0_dry_8 : decode cX0_dry 8 = .ok (.ifCond .ge 5, 3) := dk_156 0 5 (dk_at dksX0_dry_0 8 rfl rfl)
theorem dX0_dry_11 : decode cX0_dry 11 = .ok (.iload_n 3, 1) := dk_29 (dk_at dksX0_dry_0 11 rfl rfl)
theorem dX0_dry_12 : decode cX0_dry 12 = .ok (.ireturn, 1) := dk_172 (dk_at dksX0_dry_0 12 rfl rfl)
theorem dX0_dry_13 : decode cX0_dry 13 = .ok (.aload_n 0, 1) := dk_42 (dk_at dksX0_dry_0 13 rfl rfl)
theorem dX0_dry_14 : decode cX0_dry 14 = .ok (.invokevirtual 104, 3) := dk_182 0 104 (dk_at dksX0_dry_0 14 rfl rfl)
theorem dX0_dry_17 : decode cX0_dry 17 = .ok (.aload_n 0, 1) := dk_42 (dk_at dksX0_dry_0 17 rfl rfl)
theorem dX0_dry_18 : decode cX0_dry 18 = .ok (.iload_n 1, 1) := dk_27 (dk_at dksX0_dry_0 18 rfl rfl)
theorem dX0_dry_19 : decode cX0_dry 19 = .ok (.iload_n 2, 1) := dk_28 (dk_at dksX0_dry_0 19 rfl rfl)
theorem dX0_dry_20 : decode cX0_dry 20 = .ok (.invokevirtual 301, 3) := dk_182 1 45 (dk_at dksX0_dry_0 20 rfl rfl)
theorem dX0_dry_23 : decode cX0_dry 23 = .ok (.ireturn, 1) := dk_172 (dk_at dksX0_dry_0 23 rfl rfl)
abbrev cX0_dump : ByteArray := prog_1_method_45_code
def yX0_dump : MethodName := ⟨RX0, "dump", "(I)I"⟩
def dkwX0_dump_3 : List UInt8 := [28, 172]
abbrev dktX0_dump_3 : List UInt8 := dkwX0_dump_3 ++ []
def dkwX0_dump_2 : List UInt8 := [182, 0, 118, 192, 0, 107, 28, 182, 1, 14, 62, 42, 180, 0, 16, 89, 180, 0, 198, 28, 96, 181, 0, 198]
abbrev dktX0_dump_2 : List UInt8 := dkwX0_dump_2 ++ dktX0_dump_3
def dkwX0_dump_1 : List UInt8 := [182, 0, 118, 192, 0, 107, 180, 0, 219, 61, 28, 158, 0, 22, 42, 180, 0, 16, 180, 0, 82, 27]
abbrev dktX0_dump_1 : List UInt8 := dkwX0_dump_1 ++ dktX0_dump_2
def dkwX0_dump_0 : List UInt8 := [42, 27, 182, 0, 114, 154, 0, 6, 16, 254, 172, 42, 182, 0, 104, 42, 180, 0, 16, 180, 0, 82, 27]
abbrev dktX0_dump_0 : List UInt8 := dkwX0_dump_0 ++ dktX0_dump_1
theorem dksX0_dump_0 : cX0_dump.data.toList.drop 0 = dktX0_dump_0 := by decide +kernel
theorem dksX0_dump_1 : cX0_dump.data.toList.drop 23 = dktX0_dump_1 := dk_seg dksX0_dump_0 23 rfl rfl
theorem dksX0_dump_2 : cX0_dump.data.toList.drop 45 = dktX0_dump_2 := dk_seg dksX0_dump_1 22 rfl rfl
theorem dksX0_dump_3 : cX0_dump.data.toList.drop 69 = dktX0_dump_3 := dk_seg dksX0_dump_2 24 rfl rfl
theorem dX0_dump_0 : decode cX0_dump 0 = .ok (.aload_n 0, 1) := dk_42 (dk_at dksX0_dump_0 0 rfl rfl)
theorem dX0_dump_1 : decode cX0_dump 1 = .ok (.iload_n 1, 1) := dk_27 (dk_at dksX0_dump_0 1 rfl rfl)
theorem dX0_dump_2 : decode cX0_dump 2 = .ok (.invokevirtual 114, 3) := dk_182 0 114 (dk_at dksX0_dump_0 2 rfl rfl)
theorem dX0_dump_5 : decode cX0_dump 5 = .ok (.ifCond .ne 6, 3) := dk_154 0 6 (dk_at dksX0_dump_0 5 rfl rfl)
theorem dX0_dump_8 : decode cX0_dump 8 = .ok (.bipush (-2), 2) := dk_16 254 (dk_at dksX0_dump_0 8 rfl rfl)
theorem dX0_dump_10 : decode cX0_dump 10 = .ok (.ireturn, 1) := dk_172 (dk_at dksX0_dump_0 10 rfl rfl)
theorem dX0_dump_11 : decode cX0_dump 11 = .ok (.aload_n 0, 1) := dk_42 (dk_at dksX0_dump_0 11 rfl rfl)
theorem dX0_dump_12 : decode cX0_dump 12 = .ok (.invokevirtual 104, 3) := dk_182 0 104 (dk_at dksX0_dump_0 12 rfl rfl)
theorem dX0_dump_15 : decode cX0_dump 15 = .ok (.aload_n 0, 1) := dk_42 (dk_at dksX0_dump_0 15 rfl rfl)
theorem dX0_dump_16 : decode cX0_dump 16 = .ok (.getfield 16, 3) := dk_180 0 16 (dk_at dksX0_dump_0 16 rfl rfl)
theorem dX0_dump_19 : decode cX0_dump 19 = .ok (.getfield 82, 3) := dk_180 0 82 (dk_at dksX0_dump_0 19 rfl rfl)
theorem dX0_dump_22 : decode cX0_dump 22 = .ok (.iload_n 1, 1) := dk_27 (dk_at dksX0_dump_0 22 rfl rfl)
theorem dX0_dump_23 : decode cX0_dump 23 = .ok (.invokevirtual 118, 3) := dk_182 0 118 (dk_at dksX0_dump_1 0 rfl rfl)
theorem dX0_dump_26 : decode cX0_dump 26 = .ok (.checkcast 107, 3) := dk_192 0 107 (dk_at dksX0_dump_1 3 rfl rfl)
theorem dX0_dump_29 : decode cX0_dump 29 = .ok (.getfield 219, 3) := dk_180 0 219 (dk_at dksX0_dump_1 6 rfl rfl)
theorem dX0_dump_32 : decode cX0_dump 32 = .ok (.istore_n 2, 1) := dk_61 (dk_at dksX0_dump_1 9 rfl rfl)
theorem dX0_dump_33 : decode cX0_dump 33 = .ok (.iload_n 2, 1) := dk_28 (dk_at dksX0_dump_1 10 rfl rfl)
theorem dX0_dump_34 : decode cX0_dump 34 = .ok (.ifCond .le 22, 3) := dk_158 0 22 (dk_at dksX0_dump_1 11 rfl rfl)
theorem dX0_dump_37 : decode cX0_dump 37 = .ok (.aload_n 0, 1) := dk_42 (dk_at dksX0_dump_1 14 rfl rfl)
theorem dX0_dump_38 : decode cX0_dump 38 = .ok (.getfield 16, 3) := dk_180 0 16 (dk_at dksX0_dump_1 15 rfl rfl)
theorem dX0_dump_41 : decode cX0_dump 41 = .ok (.getfield 82, 3) := dk_180 0 82 (dk_at dksX0_dump_1 18 rfl rfl)
theorem dX0_dump_44 : decode cX0_dump 44 = .ok (.iload_n 1, 1) := dk_27 (dk_at dksX0_dump_1 21 rfl rfl)
theorem dX0_dump_45 : decode cX0_dump 45 = .ok (.invokevirtual 118, 3) := dk_182 0 118 (dk_at dksX0_dump_2 0 rfl rfl)
theorem dX0_dump_48 : decode cX0_dump 48 = .ok (.checkcast 107, 3) := dk_192 0 107 (dk_at dksX0_dump_2 3 rfl rfl)
theorem dX0_dump_51 : decode cX0_dump 51 = .ok (.iload_n 2, 1) := dk_28 (dk_at dksX0_dump_2 6 rfl rfl)
theorem dX0_dump_52 : decode cX0_dump 52 = .ok (.invokevirtual 270, 3) := dk_182 1 14 (dk_at dksX0_dump_2 7 rfl rfl)
theorem dX0_dump_55 : decode cX0_dump 55 = .ok (.istore_n 3, 1) := dk_62 (dk_at dksX0_dump_2 10 rfl rfl)
theorem dX0_dump_56 : decode cX0_dump 56 = .ok (.aload_n 0, 1) := dk_42 (dk_at dksX0_dump_2 11 rfl rfl)
theorem dX0_dump_57 : decode cX0_dump 57 = .ok (.getfield 16, 3) := dk_180 0 16 (dk_at dksX0_dump_2 12 rfl rfl)
theorem dX0_dump_60 : decode cX0_dump 60 = .ok (.dup, 1) := dk_89 (dk_at dksX0_dump_2 15 rfl rfl)
theorem dX0_dump_61 : decode cX0_dump 61 = .ok (.getfield 198, 3) := dk_180 0 198 (dk_at dksX0_dump_2 16 rfl rfl)
theorem dX0_dump_64 : decode cX0_dump 64 = .ok (.iload_n 2, 1) := dk_28 (dk_at dksX0_dump_2 19 rfl rfl)
theorem dX0_dump_65 : decode cX0_dump 65 = .ok (.iadd, 1) := dk_96 (dk_at dksX0_dump_2 20 rfl rfl)
theorem dX0_dump_66 : decode cX0_dump 66 = .ok (.putfield 198, 3) := dk_181 0 198 (dk_at dksX0_dump_2 21 rfl rfl)
theorem dX0_dump_69 : decode cX0_dump 69 = .ok (.iload_n 2, 1) := dk_28 (dk_at dksX0_dump_3 0 rfl rfl)
theorem dX0_dump_70 : decode cX0_dump 70 = .ok (.ireturn, 1) := dk_172 (dk_at dksX0_dump_3 1 rfl rfl)
abbrev cX0_addContract : ByteArray := prog_1_method_46_code
def yX0_addContract : MethodName := ⟨RX0, "addContract", "(IIII)I"⟩
def dkwX0_addContract_4 : List UInt8 := [180, 0, 16, 180, 0, 92, 182, 0, 86, 4, 100, 172]
abbrev dktX0_addContract_4 : List UInt8 := dkwX0_addContract_4 ++ []
def dkwX0_addContract_3 : List UInt8 := [180, 0, 16, 180, 0, 92, 187, 0, 153, 89, 27, 28, 29, 21, 4, 183, 1, 48, 182, 0, 110, 87, 42]
abbrev dktX0_addContract_3 : List UInt8 := dkwX0_addContract_3 ++ dktX0_addContract_4
def dkwX0_addContract_2 : List UInt8 := [180, 0, 16, 180, 0, 92, 182, 0, 86, 16, 6, 160, 0, 6, 16, 251, 172, 42, 182, 0, 104, 42]
abbrev dktX0_addContract_2 : List UInt8 := dkwX0_addContract_2 ++ dktX0_addContract_3
def dkwX0_addContract_1 : List UInt8 := [184, 0, 222, 153, 0, 15, 21, 4, 4, 17, 7, 208, 184, 0, 1, 154, 0, 6, 16, 253, 172, 42]
abbrev dktX0_addContract_1 : List UInt8 := dkwX0_addContract_1 ++ dktX0_addContract_2
def dkwX0_addContract_0 : List UInt8 := [27, 184, 0, 144, 154, 0, 6, 16, 254, 172, 28, 4, 17, 78, 32, 184, 0, 1, 153, 0, 22, 29]
abbrev dktX0_addContract_0 : List UInt8 := dkwX0_addContract_0 ++ dktX0_addContract_1
theorem dksX0_addContract_0 : cX0_addContract.data.toList.drop 0 = dktX0_addContract_0 := by decide +kernel
theorem dksX0_addContract_1 : cX0_addContract.data.toList.drop 22 = dktX0_addContract_1 := dk_seg dksX0_addContract_0 22 rfl rfl
theorem dksX0_addContract_2 : cX0_addContract.data.toList.drop 44 = dktX0_addContract_2 := dk_seg dksX0_addContract_1 22 rfl rfl
theorem dksX0_addContract_3 : cX0_addContract.data.toList.drop 66 = dktX0_addContract_3 := dk_seg dksX0_addContract_2 22 rfl rfl
theorem dksX0_addContract_4 : cX0_addContract.data.toList.drop 89 = dktX0_addContract_4 := dk_seg dksX0_addContract_3 23 rfl rfl
theorem dX0_addContract_0 : decode cX0_addContract 0 = .ok (.iload_n 1, 1) := dk_27 (dk_at dksX0_addContract_0 0 rfl rfl)
theorem dX0_addContract_1 : decode cX0_addContract 1 = .ok (.invokestatic 144, 3) := dk_184 0 144 (dk_at dksX0_addContract_0 1 rfl rfl)
theorem dX0_addContract_4 : decode cX0_addContract 4 = .ok (.ifCond .ne 6, 3) := dk_154 0 6 (dk_at dksX0_addContract_0 4 rfl rfl)
theorem dX0_addContract_7 : decode cX0_addContract 7 = .ok (.bipush (-2), 2) := dk_16 254 (dk_at dksX0_addContract_0 7 rfl rfl)
theorem dX0_addContract_9 : decode cX0_addContract 9 = .ok (.ireturn, 1) := dk_172 (dk_at dksX0_addContract_0 9 rfl rfl)
theorem dX0_addContract_10 : decode cX0_addContract 10 = .ok (.iload_n 2, 1) := dk_28 (dk_at dksX0_addContract_0 10 rfl rfl)
theorem dX0_addContract_11 : decode cX0_addContract 11 = .ok (.iconst 1, 1) := dk_4 (dk_at dksX0_addContract_0 11 rfl rfl)
theorem dX0_addContract_12 : decode cX0_addContract 12 = .ok (.sipush 20000, 3) := dk_17 78 32 (dk_at dksX0_addContract_0 12 rfl rfl)
theorem dX0_addContract_15 : decode cX0_addContract 15 = .ok (.invokestatic 1, 3) := dk_184 0 1 (dk_at dksX0_addContract_0 15 rfl rfl)
theorem dX0_addContract_18 : decode cX0_addContract 18 = .ok (.ifCond .eq 22, 3) := dk_153 0 22 (dk_at dksX0_addContract_0 18 rfl rfl)
theorem dX0_addContract_21 : decode cX0_addContract 21 = .ok (.iload_n 3, 1) := dk_29 (dk_at dksX0_addContract_0 21 rfl rfl)
theorem dX0_addContract_22 : decode cX0_addContract 22 = .ok (.invokestatic 222, 3) := dk_184 0 222 (dk_at dksX0_addContract_1 0 rfl rfl)
theorem dX0_addContract_25 : decode cX0_addContract 25 = .ok (.ifCond .eq 15, 3) := dk_153 0 15 (dk_at dksX0_addContract_1 3 rfl rfl)
theorem dX0_addContract_28 : decode cX0_addContract 28 = .ok (.iload 4, 2) := dk_21 4 (dk_at dksX0_addContract_1 6 rfl rfl)
theorem dX0_addContract_30 : decode cX0_addContract 30 = .ok (.iconst 1, 1) := dk_4 (dk_at dksX0_addContract_1 8 rfl rfl)
theorem dX0_addContract_31 : decode cX0_addContract 31 = .ok (.sipush 2000, 3) := dk_17 7 208 (dk_at dksX0_addContract_1 9 rfl rfl)
theorem dX0_addContract_34 : decode cX0_addContract 34 = .ok (.invokestatic 1, 3) := dk_184 0 1 (dk_at dksX0_addContract_1 12 rfl rfl)
theorem dX0_addContract_37 : decode cX0_addContract 37 = .ok (.ifCond .ne 6, 3) := dk_154 0 6 (dk_at dksX0_addContract_1 15 rfl rfl)
theorem dX0_addContract_40 : decode cX0_addContract 40 = .ok (.bipush (-3), 2) := dk_16 253 (dk_at dksX0_addContract_1 18 rfl rfl)
theorem dX0_addContract_42 : decode cX0_addContract 42 = .ok (.ireturn, 1) := dk_172 (dk_at dksX0_addContract_1 20 rfl rfl)
theorem dX0_addContract_43 : decode cX0_addContract 43 = .ok (.aload_n 0, 1) := dk_42 (dk_at dksX0_addContract_1 21 rfl rfl)
theorem dX0_addContract_44 : decode cX0_addContract 44 = .ok (.getfield 16, 3) := dk_180 0 16 (dk_at dksX0_addContract_2 0 rfl rfl)
theorem dX0_addContract_47 : decode cX0_addContract 47 = .ok (.getfield 92, 3) := dk_180 0 92 (dk_at dksX0_addContract_2 3 rfl rfl)
theorem dX0_addContract_50 : decode cX0_addContract 50 = .ok (.invokevirtual 86, 3) := dk_182 0 86 (dk_at dksX0_addContract_2 6 rfl rfl)
theorem dX0_addContract_53 : decode cX0_addContract 53 = .ok (.bipush 6, 2) := dk_16 6 (dk_at dksX0_addContract_2 9 rfl rfl)
theorem dX0_addContract_55 : decode cX0_addContract 55 = .ok (.if_icmp .ne 6, 3) := dk_160 0 6 (dk_at dksX0_addContract_2 11 rfl rfl)
theorem dX0_addContract_58 : decode cX0_addContract 58 = .ok (.bipush (-5), 2) := dk_16 251 (dk_at dksX0_addContract_2 14 rfl rfl)
theorem dX0_addContract_60 : decode cX0_addContract 60 = .ok (.ireturn, 1) := dk_172 (dk_at dksX0_addContract_2 16 rfl rfl)
theorem dX0_addContract_61 : decode cX0_addContract 61 = .ok (.aload_n 0, 1) := dk_42 (dk_at dksX0_addContract_2 17 rfl rfl)
theorem dX0_addContract_62 : decode cX0_addContract 62 = .ok (.invokevirtual 104, 3) := dk_182 0 104 (dk_at dksX0_addContract_2 18 rfl rfl)
theorem dX0_addContract_65 : decode cX0_addContract 65 = .ok (.aload_n 0, 1) := dk_42 (dk_at dksX0_addContract_2 21 rfl rfl)
theorem dX0_addContract_66 : decode cX0_addContract 66 = .ok (.getfield 16, 3) := dk_180 0 16 (dk_at dksX0_addContract_3 0 rfl rfl)
theorem dX0_addContract_69 : decode cX0_addContract 69 = .ok (.getfield 92, 3) := dk_180 0 92 (dk_at dksX0_addContract_3 3 rfl rfl)
theorem dX0_addContract_72 : decode cX0_addContract 72 = .ok (.new 153, 3) := dk_187 0 153 (dk_at dksX0_addContract_3 6 rfl rfl)
theorem dX0_addContract_75 : decode cX0_addContract 75 = .ok (.dup, 1) := dk_89 (dk_at dksX0_addContract_3 9 rfl rfl)
theorem dX0_addContract_76 : decode cX0_addContract 76 = .ok (.iload_n 1, 1) := dk_27 (dk_at dksX0_addContract_3 10 rfl rfl)
theorem dX0_addContract_77 : decode cX0_addContract 77 = .ok (.iload_n 2, 1) := dk_28 (dk_at dksX0_addContract_3 11 rfl rfl)
theorem dX0_addContract_78 : decode cX0_addContract 78 = .ok (.iload_n 3, 1) := dk_29 (dk_at dksX0_addContract_3 12 rfl rfl)
theorem dX0_addContract_79 : decode cX0_addContract 79 = .ok (.iload 4, 2) := dk_21 4 (dk_at dksX0_addContract_3 13 rfl rfl)
theorem dX0_addContract_81 : decode cX0_addContract 81 = .ok (.invokespecial 304, 3) := dk_183 1 48 (dk_at dksX0_addContract_3 15 rfl rfl)
theorem dX0_addContract_84 : decode cX0_addContract 84 = .ok (.invokevirtual 110, 3) := dk_182 0 110 (dk_at dksX0_addContract_3 18 rfl rfl)
theorem dX0_addContract_87 : decode cX0_addContract 87 = .ok (.pop, 1) := dk_87 (dk_at dksX0_addContract_3 21 rfl rfl)
theorem dX0_addContract_88 : decode cX0_addContract 88 = .ok (.aload_n 0, 1) := dk_42 (dk_at dksX0_addContract_3 22 rfl rfl)
theorem dX0_addContract_89 : decode cX0_addContract 89 = .ok (.getfield 16, 3) := dk_180 0 16 (dk_at dksX0_addContract_4 0 rfl rfl)
theorem dX0_addContract_92 : decode cX0_addContract 92 = .ok (.getfield 92, 3) := dk_180 0 92 (dk_at dksX0_addContract_4 3 rfl rfl)
theorem dX0_addContract_95 : decode cX0_addContract 95 = .ok (.invokevirtual 86, 3) := dk_182 0 86 (dk_at dksX0_addContract_4 6 rfl rfl)
theorem dX0_addContract_98 : decode cX0_addContract 98 = .ok (.iconst 1, 1) := dk_4 (dk_at dksX0_addContract_4 9 rfl rfl)
theorem dX0_addContract_99 : decode cX0_addContract 99 = .ok (.isub, 1) := dk_100 (dk_at dksX0_addContract_4 10 rfl rfl)
theorem dX0_addContract_100 : decode cX0_addContract 100 = .ok (.ireturn, 1) := dk_172 (dk_at dksX0_addContract_4 11 rfl rfl)
abbrev cX0_contract : ByteArray := prog_1_method_47_code
def yX0_contract : MethodName := ⟨RX0, "contract", "(II)I"⟩
def dkwX0_contract_1 : List UInt8 := [182, 1, 54, 167, 0, 5, 16, 254, 172]
abbrev dktX0_contract_1 : List UInt8 := dkwX0_contract_1 ++ []
def dkwX0_contract_0 : List UInt8 := [42, 27, 182, 1, 51, 153, 0, 24, 42, 180, 0, 16, 180, 0, 92, 27, 182, 0, 118, 192, 0, 153, 28]
abbrev dktX0_contract_0 : List UInt8 := dkwX0_contract_0 ++ dktX0_contract_1
theorem dksX0_contract_0 : cX0_contract.data.toList.drop 0 = dktX0_contract_0 := by decide +kernel
theorem dksX0_contract_1 : cX0_contract.data.toList.drop 23 = dktX0_contract_1 := dk_seg dksX0_contract_0 23 rfl rfl
theorem dX0_contract_0 : decode cX0_contract 0 = .ok (.aload_n 0, 1) := dk_42 (dk_at dksX0_contract_0 0 rfl rfl)
theorem dX0_contract_1 : decode cX0_contract 1 = .ok (.iload_n 1, 1) := dk_27 (dk_at dksX0_contract_0 1 rfl rfl)
theorem dX0_contract_2 : decode cX0_contract 2 = .ok (.invokevirtual 307, 3) := dk_182 1 51 (dk_at dksX0_contract_0 2 rfl rfl)
theorem dX0_contract_5 : decode cX0_contract 5 = .ok (.ifCond .eq 24, 3) := dk_153 0 24 (dk_at dksX0_contract_0 5 rfl rfl)
theorem dX0_contract_8 : decode cX0_contract 8 = .ok (.aload_n 0, 1) := dk_42 (dk_at dksX0_contract_0 8 rfl rfl)
theorem dX0_contract_9 : decode cX0_contract 9 = .ok (.getfield 16, 3) := dk_180 0 16 (dk_at dksX0_contract_0 9 rfl rfl)
theorem dX0_contract_12 : decode cX0_contract 12 = .ok (.getfield 92, 3) := dk_180 0 92 (dk_at dksX0_contract_0 12 rfl rfl)
theorem dX0_contract_15 : decode cX0_contract 15 = .ok (.iload_n 1, 1) := dk_27 (dk_at dksX0_contract_0 15 rfl rfl)
theorem dX0_contract_16 : decode cX0_contract 16 = .ok (.invokevirtual 118, 3) := dk_182 0 118 (dk_at dksX0_contract_0 16 rfl rfl)
theorem dX0_contract_19 : decode cX0_contract 19 = .ok (.checkcast 153, 3) := dk_192 0 153 (dk_at dksX0_contract_0 19 rfl rfl)
theorem dX0_contract_22 : decode cX0_contract 22 = .ok (.iload_n 2, 1) := dk_28 (dk_at dksX0_contract_0 22 rfl rfl)
theorem dX0_contract_23 : decode cX0_contract 23 = .ok (.invokevirtual 310, 3) := dk_182 1 54 (dk_at dksX0_contract_1 0 rfl rfl)
theorem dX0_contract_26 : decode cX0_contract 26 = .ok (.goto 5, 3) := dk_167 0 5 (dk_at dksX0_contract_1 3 rfl rfl)
theorem dX0_contract_29 : decode cX0_contract 29 = .ok (.bipush (-2), 2) := dk_16 254 (dk_at dksX0_contract_1 6 rfl rfl)
theorem dX0_contract_31 : decode cX0_contract 31 = .ok (.ireturn, 1) := dk_172 (dk_at dksX0_contract_1 8 rfl rfl)
abbrev cX0_isContract : ByteArray := prog_1_method_11_code
def yX0_isContract : MethodName := ⟨RX0, "isContract", "(I)Z"⟩
def dkwX0_isContract_0 : List UInt8 := [27, 3, 42, 180, 0, 16, 180, 0, 92, 182, 0, 86, 4, 100, 184, 0, 1, 172]
abbrev dktX0_isContract_0 : List UInt8 := dkwX0_isContract_0 ++ []
theorem dksX0_isContract_0 : cX0_isContract.data.toList.drop 0 = dktX0_isContract_0 := by decide +kernel
theorem dX0_isContract_0 : decode cX0_isContract 0 = .ok (.iload_n 1, 1) := dk_27 (dk_at dksX0_isContract_0 0 rfl rfl)
theorem dX0_isContract_1 : decode cX0_isContract 1 = .ok (.iconst 0, 1) := dk_3 (dk_at dksX0_isContract_0 1 rfl rfl)
theorem dX0_isContract_2 : decode cX0_isContract 2 = .ok (.aload_n 0, 1) := dk_42 (dk_at dksX0_isContract_0 2 rfl rfl)
theorem dX0_isContract_3 : decode cX0_isContract 3 = .ok (.getfield 16, 3) := dk_180 0 16 (dk_at dksX0_isContract_0 3 rfl rfl)
theorem dX0_isContract_6 : decode cX0_isContract 6 = .ok (.getfield 92, 3) := dk_180 0 92 (dk_at dksX0_isContract_0 6 rfl rfl)
theorem dX0_isContract_9 : decode cX0_isContract 9 = .ok (.invokevirtual 86, 3) := dk_182 0 86 (dk_at dksX0_isContract_0 9 rfl rfl)
theorem dX0_isContract_12 : decode cX0_isContract 12 = .ok (.iconst 1, 1) := dk_4 (dk_at dksX0_isContract_0 12 rfl rfl)
theorem dX0_isContract_13 : decode cX0_isContract 13 = .ok (.isub, 1) := dk_100 (dk_at dksX0_isContract_0 13 rfl rfl)
theorem dX0_isContract_14 : decode cX0_isContract 14 = .ok (.invokestatic 1, 3) := dk_184 0 1 (dk_at dksX0_isContract_0 14 rfl rfl)
theorem dX0_isContract_17 : decode cX0_isContract 17 = .ok (.ireturn, 1) := dk_172 (dk_at dksX0_isContract_0 17 rfl rfl)
abbrev cX0_blend : ByteArray := prog_1_method_55_code
def yX0_blend : MethodName := ⟨RX0, "blend", "(II)I"⟩
def dkwX0_blend_1 : List UInt8 := [167, 0, 7, 42, 180, 1, 86, 172]
abbrev dktX0_blend_1 : List UInt8 := dkwX0_blend_1 ++ []
def dkwX0_blend_0 : List UInt8 := [42, 27, 28, 182, 1, 89, 154, 0, 6, 16, 254, 172, 42, 27, 28, 182, 1, 92, 158, 0, 7, 2]
abbrev dktX0_blend_0 : List UInt8 := dkwX0_blend_0 ++ dktX0_blend_1
theorem dksX0_blend_0 : cX0_blend.data.toList.drop 0 = dktX0_blend_0 := by decide +kernel
theorem dksX0_blend_1 : cX0_blend.data.toList.drop 22 = dktX0_blend_1 := dk_seg dksX0_blend_0 22 rfl rfl
theorem dX0_blend_0 : decode cX0_blend 0 = .ok (.aload_n 0, 1) := dk_42 (dk_at dksX0_blend_0 0 rfl rfl)
theorem dX0_blend_1 : decode cX0_blend 1 = .ok (.iload_n 1, 1) := dk_27 (dk_at dksX0_blend_0 1 rfl rfl)
theorem dX0_blend_2 : decode cX0_blend 2 = .ok (.iload_n 2, 1) := dk_28 (dk_at dksX0_blend_0 2 rfl rfl)
theorem dX0_blend_3 : decode cX0_blend 3 = .ok (.invokevirtual 345, 3) := dk_182 1 89 (dk_at dksX0_blend_0 3 rfl rfl)
theorem dX0_blend_6 : decode cX0_blend 6 = .ok (.ifCond .ne 6, 3) := dk_154 0 6 (dk_at dksX0_blend_0 6 rfl rfl)
theorem dX0_blend_9 : decode cX0_blend 9 = .ok (.bipush (-2), 2) := dk_16 254 (dk_at dksX0_blend_0 9 rfl rfl)
theorem dX0_blend_11 : decode cX0_blend 11 = .ok (.ireturn, 1) := dk_172 (dk_at dksX0_blend_0 11 rfl rfl)
theorem dX0_blend_12 : decode cX0_blend 12 = .ok (.aload_n 0, 1) := dk_42 (dk_at dksX0_blend_0 12 rfl rfl)
theorem dX0_blend_13 : decode cX0_blend 13 = .ok (.iload_n 1, 1) := dk_27 (dk_at dksX0_blend_0 13 rfl rfl)
theorem dX0_blend_14 : decode cX0_blend 14 = .ok (.iload_n 2, 1) := dk_28 (dk_at dksX0_blend_0 14 rfl rfl)
theorem dX0_blend_15 : decode cX0_blend 15 = .ok (.invokevirtual 348, 3) := dk_182 1 92 (dk_at dksX0_blend_0 15 rfl rfl)
theorem dX0_blend_18 : decode cX0_blend 18 = .ok (.ifCond .le 7, 3) := dk_158 0 7 (dk_at dksX0_blend_0 18 rfl rfl)
theorem dX0_blend_21 : decode cX0_blend 21 = .ok (.iconst (-1), 1) := dk_2 (dk_at dksX0_blend_0 21 rfl rfl)
theorem dX0_blend_22 : decode cX0_blend 22 = .ok (.goto 7, 3) := dk_167 0 7 (dk_at dksX0_blend_1 0 rfl rfl)
theorem dX0_blend_25 : decode cX0_blend 25 = .ok (.aload_n 0, 1) := dk_42 (dk_at dksX0_blend_1 3 rfl rfl)
theorem dX0_blend_26 : decode cX0_blend 26 = .ok (.getfield 342, 3) := dk_180 1 86 (dk_at dksX0_blend_1 4 rfl rfl)
theorem dX0_blend_29 : decode cX0_blend 29 = .ok (.ireturn, 1) := dk_172 (dk_at dksX0_blend_1 7 rfl rfl)
abbrev cX0_areThere : ByteArray := prog_1_method_54_code
def yX0_areThere : MethodName := ⟨RX0, "areThere", "(II)Z"⟩
def dkwX0_areThere_0 : List UInt8 := [42, 27, 182, 1, 51, 153, 0, 15, 42, 28, 182, 0, 131, 153, 0, 7, 4, 167, 0, 4, 3, 172]
abbrev dktX0_areThere_0 : List UInt8 := dkwX0_areThere_0 ++ []
theorem dksX0_areThere_0 : cX0_areThere.data.toList.drop 0 = dktX0_areThere_0 := by decide +kernel
theorem dX0_areThere_0 : decode cX0_areThere 0 = .ok (.aload_n 0, 1) := dk_42 (dk_at dksX0_areThere_0 0 rfl rfl)
theorem dX0_areThere_1 : decode cX0_areThere 1 = .ok (.iload_n 1, 1) := dk_27 (dk_at dksX0_areThere_0 1 rfl rfl)
theorem dX0_areThere_2 : decode cX0_areThere 2 = .ok (.invokevirtual 307, 3) := dk_182 1 51 (dk_at dksX0_areThere_0 2 rfl rfl)
theorem dX0_areThere_5 : decode cX0_areThere 5 = .ok (.ifCond .eq 15, 3) := dk_153 0 15 (dk_at dksX0_areThere_0 5 rfl rfl)
theorem dX0_areThere_8 : decode cX0_areThere 8 = .ok (.aload_n 0, 1) := dk_42 (dk_at dksX0_areThere_0 8 rfl rfl)
theorem dX0_areThere_9 : decode cX0_areThere 9 = .ok (.iload_n 2, 1) := dk_28 (dk_at dksX0_areThere_0 9 rfl rfl)
theorem dX0_areThere_10 : decode cX0_areThere 10 = .ok (.invokevirtual 131, 3) := dk_182 0 131 (dk_at dksX0_areThere_0 10 rfl rfl)
theorem dX0_areThere_13 : decode cX0_areThere 13 = .ok (.ifCond .eq 7, 3) := dk_153 0 7 (dk_at dksX0_areThere_0 13 rfl rfl)
theorem dX0_areThere_16 : decode cX0_areThere 16 = .ok (.iconst 1, 1) := dk_4 (dk_at dksX0_areThere_0 16 rfl rfl)
theorem dX0_areThere_17 : decode cX0_areThere 17 = .ok (.goto 4, 3) := dk_167 0 4 (dk_at dksX0_areThere_0 17 rfl rfl)
theorem dX0_areThere_20 : decode cX0_areThere 20 = .ok (.iconst 0, 1) := dk_3 (dk_at dksX0_areThere_0 20 rfl rfl)
theorem dX0_areThere_21 : decode cX0_areThere 21 = .ok (.ireturn, 1) := dk_172 (dk_at dksX0_areThere_0 21 rfl rfl)
abbrev cX0_findBlend : ByteArray := prog_1_method_53_code
def yX0_findBlend : MethodName := ⟨RX0, "findBlend", "(II)I"⟩
def dkwX0_findBlend_6 : List UInt8 := [167, 255, 211, 42, 21, 6, 181, 1, 86, 3, 172]
abbrev dktX0_findBlend_6 : List UInt8 := dkwX0_findBlend_6 ++ []
def dkwX0_findBlend_5 : List UInt8 := [21, 8, 182, 1, 82, 22, 4, 148, 157, 0, 10, 21, 8, 54, 6, 167, 0, 7, 21, 8, 54, 7]
abbrev dktX0_findBlend_5 : List UInt8 := dkwX0_findBlend_5 ++ dktX0_findBlend_6
def dkwX0_findBlend_4 : List UInt8 := [21, 7, 21, 6, 100, 4, 164, 0, 42, 21, 6, 21, 7, 96, 5, 108, 54, 8, 42, 45, 180, 1, 78]
abbrev dktX0_findBlend_4 : List UInt8 := dkwX0_findBlend_4 ++ dktX0_findBlend_5
def dkwX0_findBlend_3 : List UInt8 := [3, 182, 1, 82, 22, 4, 148, 158, 0, 6, 16, 8, 172, 3, 54, 6, 45, 180, 1, 78, 4, 96, 54, 7]
abbrev dktX0_findBlend_3 : List UInt8 := dkwX0_findBlend_3 ++ dktX0_findBlend_4
def dkwX0_findBlend_2 : List UInt8 := [162, 0, 6, 16, 7, 172, 45, 180, 1, 79, 133, 45, 180, 1, 78, 133, 105, 55, 4, 42, 45, 180, 1, 78]
abbrev dktX0_findBlend_2 : List UInt8 := dkwX0_findBlend_2 ++ dktX0_findBlend_3
def dkwX0_findBlend_1 : List UInt8 := [153, 0, 5, 4, 172, 42, 45, 180, 1, 71, 28, 182, 1, 72, 42, 182, 1, 75, 45, 180, 1, 78]
abbrev dktX0_findBlend_1 : List UInt8 := dkwX0_findBlend_1 ++ dktX0_findBlend_2
def dkwX0_findBlend_0 : List UInt8 := [42, 180, 0, 16, 180, 0, 92, 27, 182, 0, 118, 192, 0, 153, 78, 42, 180, 0, 16, 28, 182, 0, 182]
abbrev dktX0_findBlend_0 : List UInt8 := dkwX0_findBlend_0 ++ dktX0_findBlend_1
theorem dksX0_findBlend_0 : cX0_findBlend.data.toList.drop 0 = dktX0_findBlend_0 := by decide +kernel
theorem dksX0_findBlend_1 : cX0_findBlend.data.toList.drop 23 = dktX0_findBlend_1 := dk_seg dksX0_findBlend_0 23 rfl rfl
theorem dksX0_findBlend_2 : cX0_findBlend.data.toList.drop 45 = dktX0_findBlend_2 := dk_seg dksX0_findBlend_1 22 rfl rfl
theorem dksX0_findBlend_3 : cX0_findBlend.data.toList.drop 69 = dktX0_findBlend_3 := dk_seg dksX0_findBlend_2 24 rfl rfl
theorem dksX0_findBlend_4 : cX0_findBlend.data.toList.drop 93 = dktX0_findBlend_4 := dk_seg dksX0_findBlend_3 24 rfl rfl
theorem dksX0_findBlend_5 : cX0_findBlend.data.toList.drop 116 = dktX0_findBlend_5 := dk_seg dksX0_findBlend_4 23 rfl rfl
theorem dksX0_findBlend_6 : cX0_findBlend.data.toList.drop 138 = dktX0_findBlend_6 := dk_seg dksX0_findBlend_5 22 rfl rfl
theorem dX0_findBlend_0 : decode cX0_findBlend 0 = .ok (.aload_n 0, 1) := dk_42 (dk_at dksX0_findBlend_0 0 rfl rfl)
theorem dX0_findBlend_1 : decode cX0_findBlend 1 = .ok (.getfield 16, 3) := dk_180 0 16 (dk_at dksX0_findBlend_0 1 rfl rfl)
theorem dX0_findBlend_4 : decode cX0_findBlend 4 = .ok (.getfield 92, 3) := dk_180 0 92 (dk_at dksX0_findBlend_0 4 rfl rfl)
theorem dX0_findBlend_7 : decode cX0_findBlend 7 = .ok (.iload_n 1, 1) := dk_27 (dk_at dksX0_findBlend_0 7 rfl rfl)
theorem dX0_findBlend_8 : decode cX0_findBlend 8 = .ok (.invokevirtual 118, 3) := dk_182 0 118 (dk_at dksX0_findBlend_0 8 rfl rfl)
theorem dX0_findBlend_11 : decode cX0_findBlend 11 = .ok (.checkcast 153, 3) := dk_192 0 153 (dk_at dksX0_findBlend_0 11 rfl rfl)
theorem dX0_findBlend_14 : decode cX0_findBlend 14 = .ok (.astore_n 3, 1) := dk_78 (dk_at dksX0_findBlend_0 14 rfl rfl)
theorem dX0_findBlend_15 : decode cX0_findBlend 15 = .ok (.aload_n 0, 1) := dk_42 (dk_at dksX0_findBlend_0 15 rfl rfl)
theorem dX0_findBlend_16 : decode cX0_findBlend 16 = .ok (.getfield 16, 3) := dk_180 0 16 (dk_at dksX0_findBlend_0 16 rfl rfl)
theorem dX0_findBlend_19 : decode cX0_findBlend 19 = .ok (.iload_n 2, 1) := dk_28 (dk_at dksX0_findBlend_0 19 rfl rfl)
theorem dX0_findBlend_20 : decode cX0_findBlend 20 = .ok (.invokevirtual 182, 3) := dk_182 0 182 (dk_at dksX0_findBlend_0 20 rfl rfl)
theorem dX0_findBlend_23 : decode cX0_findBlend 23 = .ok (.ifCond .eq 5, 3) := dk_153 0 5 (dk_at dksX0_findBlend_1 0 rfl rfl)
theorem dX0_findBlend_26 : decode cX0_findBlend 26 = .ok (.iconst 1, 1) := dk_4 (dk_at dksX0_findBlend_1 3 rfl rfl)
theorem dX0_findBlend_27 : decode cX0_findBlend 27 = .ok (.ireturn, 1) := dk_172 (dk_at dksX0_findBlend_1 4 rfl rfl)
theorem dX0_findBlend_28 : decode cX0_findBlend 28 = .ok (.aload_n 0, 1) := dk_42 (dk_at dksX0_findBlend_1 5 rfl rfl)
theorem dX0_findBlend_29 : decode cX0_findBlend 29 = .ok (.aload_n 3, 1) := dk_45 (dk_at dksX0_findBlend_1 6 rfl rfl)
theorem dX0_findBlend_30 : decode cX0_findBlend 30 = .ok (.getfield 327, 3) := dk_180 1 71 (dk_at dksX0_findBlend_1 7 rfl rfl)
theorem dX0_findBlend_33 : decode cX0_findBlend 33 = .ok (.iload_n 2, 1) := dk_28 (dk_at dksX0_findBlend_1 10 rfl rfl)
theorem dX0_findBlend_34 : decode cX0_findBlend 34 = .ok (.invokevirtual 328, 3) := dk_182 1 72 (dk_at dksX0_findBlend_1 11 rfl rfl)
theorem dX0_findBlend_37 : decode cX0_findBlend 37 = .ok (.aload_n 0, 1) := dk_42 (dk_at dksX0_findBlend_1 14 rfl rfl)
theorem dX0_findBlend_38 : decode cX0_findBlend 38 = .ok (.invokevirtual 331, 3) := dk_182 1 75 (dk_at dksX0_findBlend_1 15 rfl rfl)
theorem dX0_findBlend_41 : decode cX0_findBlend 41 = .ok (.aload_n 3, 1) := dk_45 (dk_at dksX0_findBlend_1 18 rfl rfl)
theorem dX0_findBlend_42 : decode cX0_findBlend 42 = .ok (.getfield 334, 3) := dk_180 1 78 (dk_at dksX0_findBlend_1 19 rfl rfl)
theorem dX0_findBlend_45 : decode cX0_findBlend 45 = .ok (.if_icmp .ge 6, 3) := dk_162 0 6 (dk_at dksX0_findBlend_2 0 rfl rfl)
theorem dX0_findBlend_48 : decode cX0_findBlend 48 = .ok (.bipush 7, 2) := dk_16 7 (dk_at dksX0_findBlend_2 3 rfl rfl)
theorem dX0_findBlend_50 : decode cX0_findBlend 50 = .ok (.ireturn, 1) := dk_172 (dk_at dksX0_findBlend_2 5 rfl rfl)
theorem dX0_findBlend_51 : decode cX0_findBlend 51 = .ok (.aload_n 3, 1) := dk_45 (dk_at dksX0_findBlend_2 6 rfl rfl)
theorem dX0_findBlend_52 : decode cX0_findBlend 52 = .ok (.getfield 335, 3) := dk_180 1 79 (dk_at dksX0_findBlend_2 7 rfl rfl)
theorem dX0_findBlend_55 : decode cX0_findBlend 55 = .ok (.i2l, 1) := dk_133 (dk_at dksX0_findBlend_2 10 rfl rfl)
theorem dX0_findBlend_56 : decode cX0_findBlend 56 = .ok (.aload_n 3, 1) := dk_45 (dk_at dksX0_findBlend_2 11 rfl rfl)
theorem dX0_findBlend_57 : decode cX0_findBlend 57 = .ok (.getfield 334, 3) := dk_180 1 78 (dk_at dksX0_findBlend_2 12 rfl rfl)
theorem dX0_findBlend_60 : decode cX0_findBlend 60 = .ok (.i2l, 1) := dk_133 (dk_at dksX0_findBlend_2 15 rfl rfl)
theorem dX0_findBlend_61 : decode cX0_findBlend 61 = .ok (.lmul, 1) := dk_105 (dk_at dksX0_findBlend_2 16 rfl rfl)
theorem dX0_findBlend_62 : decode cX0_findBlend 62 = .ok (.lstore 4, 2) := dk_55 4 (dk_at dksX0_findBlend_2 17 rfl rfl)
theorem dX0_findBlend_64 : decode cX0_findBlend 64 = .ok (.aload_n 0, 1) := dk_42 (dk_at dksX0_findBlend_2 19 rfl rfl)
theorem dX0_findBlend_65 : decode cX0_findBlend 65 = .ok (.aload_n 3, 1) := dk_45 (dk_at dksX0_findBlend_2 20 rfl rfl)
theorem dX0_findBlend_66 : decode cX0_findBlend 66 = .ok (.getfield 334, 3) := dk_180 1 78 (dk_at dksX0_findBlend_2 21 rfl rfl)
theorem dX0_findBlend_69 : decode cX0_findBlend 69 = .ok (.iconst 0, 1) := dk_3 (dk_at dksX0_findBlend_3 0 rfl rfl)
theorem dX0_findBlend_70 : decode cX0_findBlend 70 = .ok (.invokevirtual 338, 3) := dk_182 1 82 (dk_at dksX0_findBlend_3 1 rfl rfl)
theorem dX0_findBlend_73 : decode cX0_findBlend 73 = .ok (.lload 4, 2) := dk_22 4 (dk_at dksX0_findBlend_3 4 rfl rfl)
theorem dX0_findBlend_75 : decode cX0_findBlend 75 = .ok (.lcmp, 1) := dk_148 (dk_at dksX0_findBlend_3 6 rfl rfl)
theorem dX0_findBlend_76 : decode cX0_findBlend 76 = .ok (.ifCond .le 6, 3) := dk_158 0 6 (dk_at dksX0_findBlend_3 7 rfl rfl)
theorem dX0_findBlend_79 : decode cX0_findBlend 79 = .ok (.bipush 8, 2) := dk_16 8 (dk_at dksX0_findBlend_3 10 rfl rfl)
theorem dX0_findBlend_81 : decode cX0_findBlend 81 = .ok (.ireturn, 1) := dk_172 (dk_at dksX0_findBlend_3 12 rfl rfl)
theorem dX0_findBlend_82 : decode cX0_findBlend 82 = .ok (.iconst 0, 1) := dk_3 (dk_at dksX0_findBlend_3 13 rfl rfl)
theorem dX0_findBlend_83 : decode cX0_findBlend 83 = .ok (.istore 6, 2) := dk_54 6 (dk_at dksX0_findBlend_3 14 rfl rfl)
theorem dX0_findBlend_85 : decode cX0_findBlend 85 = .ok (.aload_n 3, 1) := dk_45 (dk_at dksX0_findBlend_3 16 rfl rfl)
theorem dX0_findBlend_86 : decode cX0_findBlend 86 = .ok (.getfield 334, 3) := dk_180 1 78 (dk_at dksX0_findBlend_3 17 rfl rfl)
theorem dX0_findBlend_89 : decode cX0_findBlend 89 = .ok (.iconst 1, 1) := dk_4 (dk_at dksX0_findBlend_3 20 rfl rfl)
theorem dX0_findBlend_90 : decode cX0_findBlend 90 = .ok (.iadd, 1) := dk_96 (dk_at dksX0_findBlend_3 21 rfl rfl)
theorem dX0_findBlend_91 : decode cX0_findBlend 91 = .ok (.istore 7, 2) := dk_54 7 (dk_at dksX0_findBlend_3 22 rfl rfl)
theorem dX0_findBlend_93 : decode cX0_findBlend 93 = .ok (.iload 7, 2) := dk_21 7 (dk_at dksX0_findBlend_4 0 rfl rfl)
theorem dX0_findBlend_95 : decode cX0_findBlend 95 = .ok (.iload 6, 2) := dk_21 6 (dk_at dksX0_findBlend_4 2 rfl rfl)
theorem dX0_findBlend_97 : decode cX0_findBlend 97 = .ok (.isub, 1) := dk_100 (dk_at dksX0_findBlend_4 4 rfl rfl)
theorem dX0_findBlend_98 : decode cX0_findBlend 98 = .ok (.iconst 1, 1) := dk_4 (dk_at dksX0_findBlend_4 5 rfl rfl)
theorem dX0_findBlend_99 : decode cX0_findBlend 99 = .ok (.if_icmp .le 42, 3) := dk_164 0 42 (dk_at dksX0_findBlend_4 6 rfl rfl)
theorem dX0_findBlend_102 : decode cX0_findBlend 102 = .ok (.iload 6, 2) := dk_21 6 (dk_at dksX0_findBlend_4 9 rfl rfl)
theorem dX0_findBlend_104 : decode cX0_findBlend 104 = .ok (.iload 7, 2) := dk_21 7 (dk_at dksX0_findBlend_4 11 rfl rfl)
theorem dX0_findBlend_106 : decode cX0_findBlend 106 = .ok (.iadd, 1) := dk_96 (dk_at dksX0_findBlend_4 13 rfl rfl)
theorem dX0_findBlend_107 : decode cX0_findBlend 107 = .ok (.iconst 2, 1) := dk_5 (dk_at dksX0_findBlend_4 14 rfl rfl)
theorem dX0_findBlend_108 : decode cX0_findBlend 108 = .ok (.idiv, 1) := dk_108 (dk_at dksX0_findBlend_4 15 rfl rfl)
theorem dX0_findBlend_109 : decode cX0_findBlend 109 = .ok (.istore 8, 2) := dk_54 8 (dk_at dksX0_findBlend_4 16 rfl rfl)
theorem dX0_findBlend_111 : decode cX0_findBlend 111 = .ok (.aload_n 0, 1) := dk_42 (dk_at dksX0_findBlend_4 18 rfl rfl)
theorem dX0_findBlend_112 : decode cX0_findBlend 112 = .ok (.aload_n 3, 1) := dk_45 (dk_at dksX0_findBlend_4 19 rfl rfl)
theorem dX0_findBlend_113 : decode cX0_findBlend 113 = .ok (.getfield 334, 3) := dk_180 1 78 (dk_at dksX0_findBlend_4 20 rfl rfl)
theorem dX0_findBlend_116 : decode cX0_findBlend 116 = .ok (.iload 8, 2) := dk_21 8 (dk_at dksX0_findBlend_5 0 rfl rfl)
theorem dX0_findBlend_118 : decode cX0_findBlend 118 = .ok (.invokevirtual 338, 3) := dk_182 1 82 (dk_at dksX0_findBlend_5 2 rfl rfl)
theorem dX0_findBlend_121 : decode cX0_findBlend 121 = .ok (.lload 4, 2) := dk_22 4 (dk_at dksX0_findBlend_5 5 rfl rfl)
theorem dX0_findBlend_123 : decode cX0_findBlend 123 = .ok (.lcmp, 1) := dk_148 (dk_at dksX0_findBlend_5 7 rfl rfl)
theorem dX0_findBlend_124 : decode cX0_findBlend 124 = .ok (.ifCond .gt 10, 3) := dk_157 0 10 (dk_at dksX0_findBlend_5 8 rfl rfl)
theorem dX0_findBlend_127 : decode cX0_findBlend 127 = .ok (.iload 8, 2) := dk_21 8 (dk_at dksX0_findBlend_5 11 rfl rfl)
theorem dX0_findBlend_129 : decode cX0_findBlend 129 = .ok (.istore 6, 2) := dk_54 6 (dk_at dksX0_findBlend_5 13 rfl rfl)
theorem dX0_findBlend_131 : decode cX0_findBlend 131 = .ok (.goto 7, 3) := dk_167 0 7 (dk_at dksX0_findBlend_5 15 rfl rfl)
theorem dX0_findBlend_134 : decode cX0_findBlend 134 = .ok (.iload 8, 2) := dk_21 8 (dk_at dksX0_findBlend_5 18 rfl rfl)
theorem dX0_findBlend_136 : decode cX0_findBlend 136 = .ok (.istore 7, 2) := dk_54 7 (dk_at dksX0_findBlend_5 20 rfl rfl)
theorem dX0_findBlend_138 : decode cX0_findBlend 138 = .ok (.goto (-45), 3) := dk_167 255 211 (dk_at dksX0_findBlend_6 0 rfl rfl)
theorem dX0_findBlend_141 : decode cX0_findBlend 141 = .ok (.aload_n 0, 1) := dk_42 (dk_at dksX0_findBlend_6 3 rfl rfl)
theorem dX0_findBlend_142 : decode cX0_findBlend 142 = .ok (.iload 6, 2) := dk_21 6 (dk_at dksX0_findBlend_6 4 rfl rfl)
theorem dX0_findBlend_144 : decode cX0_findBlend 144 = .ok (.putfield 342, 3) := dk_181 1 86 (dk_at dksX0_findBlend_6 6 rfl rfl)
theorem dX0_findBlend_147 : decode cX0_findBlend 147 = .ok (.iconst 0, 1) := dk_3 (dk_at dksX0_findBlend_6 9 rfl rfl)
theorem dX0_findBlend_148 : decode cX0_findBlend 148 = .ok (.ireturn, 1) := dk_172 (dk_at dksX0_findBlend_6 10 rfl rfl)
abbrev cX0_orderUseful : ByteArray := prog_1_method_49_code
def yX0_orderUseful : MethodName := ⟨RX0, "orderUseful", "(II)V"⟩
def dkwX0_orderUseful_5 : List UInt8 := [29, 79, 42, 89, 180, 1, 59, 4, 96, 181, 1, 59, 132, 3, 1, 167, 255, 133, 177]
abbrev dktX0_orderUseful_5 : List UInt8 := dkwX0_orderUseful_5 ++ []
def dkwX0_orderUseful_4 : List UInt8 := [21, 4, 42, 180, 0, 33, 21, 4, 4, 100, 46, 79, 132, 4, 255, 167, 255, 187, 42, 180, 0, 33, 21, 4]
abbrev dktX0_orderUseful_4 : List UInt8 := dkwX0_orderUseful_4 ++ dktX0_orderUseful_5
def dkwX0_orderUseful_3 : List UInt8 := [180, 0, 16, 180, 0, 82, 29, 182, 0, 118, 192, 0, 107, 182, 1, 34, 162, 0, 25, 42, 180, 0, 33]
abbrev dktX0_orderUseful_3 : List UInt8 := dkwX0_orderUseful_3 ++ dktX0_orderUseful_4
def dkwX0_orderUseful_2 : List UInt8 := [180, 0, 82, 42, 180, 0, 33, 21, 4, 4, 100, 46, 182, 0, 118, 192, 0, 107, 182, 1, 34, 42]
abbrev dktX0_orderUseful_2 : List UInt8 := dkwX0_orderUseful_2 ++ dktX0_orderUseful_3
def dkwX0_orderUseful_1 : List UInt8 := [28, 182, 1, 62, 153, 0, 99, 42, 180, 1, 59, 54, 4, 21, 4, 158, 0, 70, 42, 180, 0, 16]
abbrev dktX0_orderUseful_1 : List UInt8 := dkwX0_orderUseful_1 ++ dktX0_orderUseful_2
def dkwX0_orderUseful_0 : List UInt8 := [42, 3, 181, 1, 59, 3, 62, 29, 42, 180, 0, 16, 180, 0, 82, 182, 0, 86, 162, 0, 115, 42, 29, 27]
abbrev dktX0_orderUseful_0 : List UInt8 := dkwX0_orderUseful_0 ++ dktX0_orderUseful_1
theorem dksX0_orderUseful_0 : cX0_orderUseful.data.toList.drop 0 = dktX0_orderUseful_0 := by decide +kernel
theorem dksX0_orderUseful_1 : cX0_orderUseful.data.toList.drop 24 = dktX0_orderUseful_1 := dk_seg dksX0_orderUseful_0 24 rfl rfl
theorem dksX0_orderUseful_2 : cX0_orderUseful.data.toList.drop 46 = dktX0_orderUseful_2 := dk_seg dksX0_orderUseful_1 22 rfl rfl
theorem dksX0_orderUseful_3 : cX0_orderUseful.data.toList.drop 68 = dktX0_orderUseful_3 := dk_seg dksX0_orderUseful_2 22 rfl rfl
theorem dksX0_orderUseful_4 : cX0_orderUseful.data.toList.drop 91 = dktX0_orderUseful_4 := dk_seg dksX0_orderUseful_3 23 rfl rfl
theorem dksX0_orderUseful_5 : cX0_orderUseful.data.toList.drop 115 = dktX0_orderUseful_5 := dk_seg dksX0_orderUseful_4 24 rfl rfl
theorem dX0_orderUseful_0 : decode cX0_orderUseful 0 = .ok (.aload_n 0, 1) := dk_42 (dk_at dksX0_orderUseful_0 0 rfl rfl)
theorem dX0_orderUseful_1 : decode cX0_orderUseful 1 = .ok (.iconst 0, 1) := dk_3 (dk_at dksX0_orderUseful_0 1 rfl rfl)
theorem dX0_orderUseful_2 : decode cX0_orderUseful 2 = .ok (.putfield 315, 3) := dk_181 1 59 (dk_at dksX0_orderUseful_0 2 rfl rfl)
theorem dX0_orderUseful_5 : decode cX0_orderUseful 5 = .ok (.iconst 0, 1) := dk_3 (dk_at dksX0_orderUseful_0 5 rfl rfl)
theorem dX0_orderUseful_6 : decode cX0_orderUseful 6 = .ok (.istore_n 3, 1) := dk_62 (dk_at dksX0_orderUseful_0 6 rfl rfl)
theorem dX0_orderUseful_7 : decode cX0_orderUseful 7 = .ok (.iload_n 3, 1) := dk_29 (dk_at dksX0_orderUseful_0 7 rfl rfl)
theorem dX0_orderUseful_8 : decode cX0_orderUseful 8 = .ok (.aload_n 0, 1) := dk_42 (dk_at dksX0_orderUseful_0 8 rfl rfl)
theorem dX0_orderUseful_9 : decode cX0_orderUseful 9 = .ok (.getfield 16, 3) := dk_180 0 16 (dk_at dksX0_orderUseful_0 9 rfl rfl)
theorem dX0_orderUseful_12 : decode cX0_orderUseful 12 = .ok (.getfield 82, 3) := dk_180 0 82 (dk_at dksX0_orderUseful_0 12 rfl rfl)
theorem dX0_orderUseful_15 : decode cX0_orderUseful 15 = .ok (.invokevirtual 86, 3) := dk_182 0 86 (dk_at dksX0_orderUseful_0 15 rfl rfl)
theorem dX0_orderUseful_18 : decode cX0_orderUseful 18 = .ok (.if_icmp .ge 115, 3) := dk_162 0 115 (dk_at dksX0_orderUseful_0 18 rfl rfl)
theorem dX0_orderUseful_21 : decode cX0_orderUseful 21 = .ok (.aload_n 0, 1) := dk_42 (dk_at dksX0_orderUseful_0 21 rfl rfl)
theorem dX0_orderUseful_22 : decode cX0_orderUseful 22 = .ok (.iload_n 3, 1) := dk_29 (dk_at dksX0_orderUseful_0 22 rfl rfl)
theorem dX0_orderUseful_23 : decode cX0_orderUseful 23 = .ok (.iload_n 1, 1) := dk_27 (dk_at dksX0_orderUseful_0 23 rfl rfl)
theorem dX0_orderUseful_24 : decode cX0_orderUseful 24 = .ok (.iload_n 2, 1) := dk_28 (dk_at dksX0_orderUseful_1 0 rfl rfl)
theorem dX0_orderUseful_25 : decode cX0_orderUseful 25 = .ok (.invokevirtual 318, 3) := dk_182 1 62 (dk_at dksX0_orderUseful_1 1 rfl rfl)
theorem dX0_orderUseful_28 : decode cX0_orderUseful 28 = .ok (.ifCond .eq 99, 3) := dk_153 0 99 (dk_at dksX0_orderUseful_1 4 rfl rfl)
theorem dX0_orderUseful_31 : decode cX0_orderUseful 31 = .ok (.aload_n 0, 1) := dk_42 (dk_at dksX0_orderUseful_1 7 rfl rfl)
theorem dX0_orderUseful_32 : decode cX0_orderUseful 32 = .ok (.getfield 315, 3) := dk_180 1 59 (dk_at dksX0_orderUseful_1 8 rfl rfl)
theorem dX0_orderUseful_35 : decode cX0_orderUseful 35 = .ok (.istore 4, 2) := dk_54 4 (dk_at dksX0_orderUseful_1 11 rfl rfl)
theorem dX0_orderUseful_37 : decode cX0_orderUseful 37 = .ok (.iload 4, 2) := dk_21 4 (dk_at dksX0_orderUseful_1 13 rfl rfl)
theorem dX0_orderUseful_39 : decode cX0_orderUseful 39 = .ok (.ifCond .le 70, 3) := dk_158 0 70 (dk_at dksX0_orderUseful_1 15 rfl rfl)
theorem dX0_orderUseful_42 : decode cX0_orderUseful 42 = .ok (.aload_n 0, 1) := dk_42 (dk_at dksX0_orderUseful_1 18 rfl rfl)
theorem dX0_orderUseful_43 : decode cX0_orderUseful 43 = .ok (.getfield 16, 3) := dk_180 0 16 (dk_at dksX0_orderUseful_1 19 rfl rfl)
theorem dX0_orderUseful_46 : decode cX0_orderUseful 46 = .ok (.getfield 82, 3) := dk_180 0 82 (dk_at dksX0_orderUseful_2 0 rfl rfl)
theorem dX0_orderUseful_49 : decode cX0_orderUseful 49 = .ok (.aload_n 0, 1) := dk_42 (dk_at dksX0_orderUseful_2 3 rfl rfl)
theorem dX0_orderUseful_50 : decode cX0_orderUseful 50 = .ok (.getfield 33, 3) := dk_180 0 33 (dk_at dksX0_orderUseful_2 4 rfl rfl)
theorem dX0_orderUseful_53 : decode cX0_orderUseful 53 = .ok (.iload 4, 2) := dk_21 4 (dk_at dksX0_orderUseful_2 7 rfl rfl)
theorem dX0_orderUseful_55 : decode cX0_orderUseful 55 = .ok (.iconst 1, 1) := dk_4 (dk_at dksX0_orderUseful_2 9 rfl rfl)
theorem dX0_orderUseful_56 : decode cX0_orderUseful 56 = .ok (.isub, 1) := dk_100 (dk_at dksX0_orderUseful_2 10 rfl rfl)
theorem dX0_orderUseful_57 : decode cX0_orderUseful 57 = .ok (.iaload, 1) := dk_46 (dk_at dksX0_orderUseful_2 11 rfl rfl)
theorem dX0_orderUseful_58 : decode cX0_orderUseful 58 = .ok (.invokevirtual 118, 3) := dk_182 0 118 (dk_at dksX0_orderUseful_2 12 rfl rfl)
theorem dX0_orderUseful_61 : decode cX0_orderUseful 61 = .ok (.checkcast 107, 3) := dk_192 0 107 (dk_at dksX0_orderUseful_2 15 rfl rfl)
theorem dX0_orderUseful_64 : decode cX0_orderUseful 64 = .ok (.invokevirtual 290, 3) := dk_182 1 34 (dk_at dksX0_orderUseful_2 18 rfl rfl)
theorem dX0_orderUseful_67 : decode cX0_orderUseful 67 = .ok (.aload_n 0, 1) := dk_42 (dk_at dksX0_orderUseful_2 21 rfl rfl)
theorem dX0_orderUseful_68 : decode cX0_orderUseful 68 = .ok (.getfield 16, 3) := dk_180 0 16 (dk_at dksX0_orderUseful_3 0 rfl rfl)
theorem dX0_orderUseful_71 : decode cX0_orderUseful 71 = .ok (.getfield 82, 3) := dk_180 0 82 (dk_at dksX0_orderUseful_3 3 rfl rfl)
theorem dX0_orderUseful_74 : decode cX0_orderUseful 74 = .ok (.iload_n 3, 1) := dk_29 (dk_at dksX0_orderUseful_3 6 rfl rfl)
theorem dX0_orderUseful_75 : decode cX0_orderUseful 75 = .ok (.invokevirtual 118, 3) := dk_182 0 118 (dk_at dksX0_orderUseful_3 7 rfl rfl)
theorem dX0_orderUseful_78 : decode cX0_orderUseful 78 = .ok (.checkcast 107, 3) := dk_192 0 107 (dk_at dksX0_orderUseful_3 10 rfl rfl)
theorem dX0_orderUseful_81 : decode cX0_orderUseful 81 = .ok (.invokevirtual 290, 3) := dk_182 1 34 (dk_at dksX0_orderUseful_3 13 rfl rfl)
theorem dX0_orderUseful_84 : decode cX0_orderUseful 84 = .ok (.if_icmp .ge 25, 3) := dk_162 0 25 (dk_at dksX0_orderUseful_3 16 rfl rfl)
theorem dX0_orderUseful_87 : decode cX0_orderUseful 87 = .ok (.aload_n 0, 1) := dk_42 (dk_at dksX0_orderUseful_3 19 rfl rfl)
theorem dX0_orderUseful_88 : decode cX0_orderUseful 88 = .ok (.getfield 33, 3) := dk_180 0 33 (dk_at dksX0_orderUseful_3 20 rfl rfl)
theorem dX0_orderUseful_91 : decode cX0_orderUseful 91 = .ok (.iload 4, 2) := dk_21 4 (dk_at dksX0_orderUseful_4 0 rfl rfl)
theorem dX0_orderUseful_93 : decode cX0_orderUseful 93 = .ok (.aload_n 0, 1) := dk_42 (dk_at dksX0_orderUseful_4 2 rfl rfl)
theorem dX0_orderUseful_94 : decode cX0_orderUseful 94 = .ok (.getfield 33, 3) := dk_180 0 33 (dk_at dksX0_orderUseful_4 3 rfl rfl)
theorem dX0_orderUseful_97 : decode cX0_orderUseful 97 = .ok (.iload 4, 2) := dk_21 4 (dk_at dksX0_orderUseful_4 6 rfl rfl)
theorem dX0_orderUseful_99 : decode cX0_orderUseful 99 = .ok (.iconst 1, 1) := dk_4 (dk_at dksX0_orderUseful_4 8 rfl rfl)
theorem dX0_orderUseful_100 : decode cX0_orderUseful 100 = .ok (.isub, 1) := dk_100 (dk_at dksX0_orderUseful_4 9 rfl rfl)
theorem dX0_orderUseful_101 : decode cX0_orderUseful 101 = .ok (.iaload, 1) := dk_46 (dk_at dksX0_orderUseful_4 10 rfl rfl)
theorem dX0_orderUseful_102 : decode cX0_orderUseful 102 = .ok (.iastore, 1) := dk_79 (dk_at dksX0_orderUseful_4 11 rfl rfl)
theorem dX0_orderUseful_103 : decode cX0_orderUseful 103 = .ok (.iinc 4 (-1), 3) := dk_132 4 255 (dk_at dksX0_orderUseful_4 12 rfl rfl)
theorem dX0_orderUseful_106 : decode cX0_orderUseful 106 = .ok (.goto (-69), 3) := dk_167 255 187 (dk_at dksX0_orderUseful_4 15 rfl rfl)
theorem dX0_orderUseful_109 : decode cX0_orderUseful 109 = .ok (.aload_n 0, 1) := dk_42 (dk_at dksX0_orderUseful_4 18 rfl rfl)
theorem dX0_orderUseful_110 : decode cX0_orderUseful 110 = .ok (.getfield 33, 3) := dk_180 0 33 (dk_at dksX0_orderUseful_4 19 rfl rfl)
theorem dX0_orderUseful_113 : decode cX0_orderUseful 113 = .ok (.iload 4, 2) := dk_21 4 (dk_at dksX0_orderUseful_4 22 rfl rfl)
theorem dX0_orderUseful_115 : decode cX0_orderUseful 115 = .ok (.iload_n 3, 1) := dk_29 (dk_at dksX0_orderUseful_5 0 rfl rfl)
theorem dX0_orderUseful_116 : decode cX0_orderUseful 116 = .ok (.iastore, 1) := dk_79 (dk_at dksX0_orderUseful_5 1 rfl rfl)
theorem dX0_orderUseful_117 : decode cX0_orderUseful 117 = .ok (.aload_n 0, 1) := dk_42 (dk_at dksX0_orderUseful_5 2 rfl rfl)
theorem dX0_orderUseful_118 : decode cX0_orderUseful 118 = .ok (.dup, 1) := dk_89 (dk_at dksX0_orderUseful_5 3 rfl rfl)
theorem dX0_orderUseful_119 : decode cX0_orderUseful 119 = .ok (.getfield 315, 3) := dk_180 1 59 (dk_at dksX0_orderUseful_5 4 rfl rfl)
theorem dX0_orderUseful_122 : decode cX0_orderUseful 122 = .ok (.iconst 1, 1) := dk_4 (dk_at dksX0_orderUseful_5 7 rfl rfl)
theorem dX0_orderUseful_123 : decode cX0_orderUseful 123 = .ok (.iadd, 1) := dk_96 (dk_at dksX0_orderUseful_5 8 rfl rfl)
theorem dX0_orderUseful_124 : decode cX0_orderUseful 124 = .ok (.putfield 315, 3) := dk_181 1 59 (dk_at dksX0_orderUseful_5 9 rfl rfl)
theorem dX0_orderUseful_127 : decode cX0_orderUseful 127 = .ok (.iinc 3 1, 3) := dk_132 3 1 (dk_at dksX0_orderUseful_5 12 rfl rfl)
theorem dX0_orderUseful_130 : decode cX0_orderUseful 130 = .ok (.goto (-123), 3) := dk_167 255 133 (dk_at dksX0_orderUseful_5 15 rfl rfl)
theorem dX0_orderUseful_133 : decode cX0_orderUseful 133 = .ok (.return_, 1) := dk_177 (dk_at dksX0_orderUseful_5 18 rfl rfl)
abbrev cX0_isUseful : ByteArray := prog_1_method_48_code
def yX0_isUseful : MethodName := ⟨RX0, "isUseful", "(III)Z"⟩
def dkwX0_isUseful_2 : List UInt8 := [192, 0, 128, 180, 0, 141, 27, 184, 1, 55, 153, 0, 7, 4, 167, 0, 4, 3, 172]
abbrev dktX0_isUseful_2 : List UInt8 := dkwX0_isUseful_2 ++ []
def dkwX0_isUseful_1 : List UInt8 := [160, 0, 39, 25, 4, 182, 0, 159, 154, 0, 31, 42, 180, 0, 16, 180, 0, 89, 29, 182, 0, 118]
abbrev dktX0_isUseful_1 : List UInt8 := dkwX0_isUseful_1 ++ dktX0_isUseful_2
def dkwX0_isUseful_0 : List UInt8 := [42, 180, 0, 16, 180, 0, 82, 27, 182, 0, 118, 192, 0, 107, 58, 4, 25, 4, 180, 1, 11, 28]
abbrev dktX0_isUseful_0 : List UInt8 := dkwX0_isUseful_0 ++ dktX0_isUseful_1
theorem dksX0_isUseful_0 : cX0_isUseful.data.toList.drop 0 = dktX0_isUseful_0 := by decide +kernel
theorem dksX0_isUseful_1 : cX0_isUseful.data.toList.drop 22 = dktX0_isUseful_1 := dk_seg dksX0_isUseful_0 22 rfl rfl
theorem dksX0_isUseful_2 : cX0_isUseful.data.toList.drop 44 = dktX0_isUseful_2 := dk_seg dksX0_isUseful_1 22 rfl rfl
theorem dX0_isUseful_0 : decode cX0_isUseful 0 = .ok (.aload_n 0, 1) := dk_42 (dk_at dksX0_isUseful_0 0 rfl rfl)
theorem dX0_isUseful_1 : decode cX0_isUseful 1 = .ok (.getfield 16, 3) := dk_180 0 16 (dk_at dksX0_isUseful_0 1 rfl rfl)
theorem dX0_isUseful_4 : decode cX0_isUseful 4 = .ok (.getfield 82, 3) := dk_180 0 82 (dk_at dksX0_isUseful_0 4 rfl rfl)
theorem dX0_isUseful_7 : decode cX0_isUseful 7 = .ok (.iload_n 1, 1) := dk_27 (dk_at dksX0_isUseful_0 7 rfl rfl)
theorem dX0_isUseful_8 : decode cX0_isUseful 8 = .ok (.invokevirtual 118, 3) := dk_182 0 118 (dk_at dksX0_isUseful_0 8 rfl rfl)
theorem dX0_isUseful_11 : decode cX0_isUseful 11 = .ok (.checkcast 107, 3) := dk_192 0 107 (dk_at dksX0_isUseful_0 11 rfl rfl)
theorem dX0_isUseful_14 : decode cX0_isUseful 14 = .ok (.astore 4, 2) := dk_58 4 (dk_at dksX0_isUseful_0 14 rfl rfl)
theorem dX0_isUseful_16 : decode cX0_isUseful 16 = .ok (.aload 4, 2) := dk_25 4 (dk_at dksX0_isUseful_0 16 rfl rfl)
theorem dX0_isUseful_18 : decode cX0_isUseful 18 = .ok (.getfield 267, 3) := dk_180 1 11 (dk_at dksX0_isUseful_0 18 rfl rfl)
theorem dX0_isUseful_21 : decode cX0_isUseful 21 = .ok (.iload_n 2, 1) := dk_28 (dk_at dksX0_isUseful_0 21 rfl rfl)
theorem dX0_isUseful_22 : decode cX0_isUseful 22 = .ok (.if_icmp .ne 39, 3) := dk_160 0 39 (dk_at dksX0_isUseful_1 0 rfl rfl)
theorem dX0_isUseful_25 : decode cX0_isUseful 25 = .ok (.aload 4, 2) := dk_25 4 (dk_at dksX0_isUseful_1 3 rfl rfl)
theorem dX0_isUseful_27 : decode cX0_isUseful 27 = .ok (.invokevirtual 159, 3) := dk_182 0 159 (dk_at dksX0_isUseful_1 5 rfl rfl)
theorem dX0_isUseful_30 : decode cX0_isUseful 30 = .ok (.ifCond .ne 31, 3) := dk_154 0 31 (dk_at dksX0_isUseful_1 8 rfl rfl)
theorem dX0_isUseful_33 : decode cX0_isUseful 33 = .ok (.aload_n 0, 1) := dk_42 (dk_at dksX0_isUseful_1 11 rfl rfl)
theorem dX0_isUseful_34 : decode cX0_isUseful 34 = .ok (.getfield 16, 3) := dk_180 0 16 (dk_at dksX0_isUseful_1 12 rfl rfl)
theorem dX0_isUseful_37 : decode cX0_isUseful 37 = .ok (.getfield 89, 3) := dk_180 0 89 (dk_at dksX0_isUseful_1 15 rfl rfl)
theorem dX0_isUseful_40 : decode cX0_isUseful 40 = .ok (.iload_n 3, 1) := dk_29 (dk_at dksX0_isUseful_1 18 rfl rfl)
theorem dX0_isUseful_41 : decode cX0_isUseful 41 = .ok (.invokevirtual 118, 3) := dk_182 0 118 (dk_at dksX0_isUseful_1 19 rfl rfl)
theorem dX0_isUseful_44 : decode cX0_isUseful 44 = .ok (.checkcast 128, 3) := dk_192 0 128 (dk_at dksX0_isUseful_2 0 rfl rfl)
theorem dX0_isUseful_47 : decode cX0_isUseful 47 = .ok (.getfield 141, 3) := dk_180 0 141 (dk_at dksX0_isUseful_2 3 rfl rfl)
theorem dX0_isUseful_50 : decode cX0_isUseful 50 = .ok (.iload_n 1, 1) := dk_27 (dk_at dksX0_isUseful_2 6 rfl rfl)
theorem dX0_isUseful_51 : decode cX0_isUseful 51 = .ok (.invokestatic 311, 3) := dk_184 1 55 (dk_at dksX0_isUseful_2 7 rfl rfl)
theorem dX0_isUseful_54 : decode cX0_isUseful 54 = .ok (.ifCond .eq 7, 3) := dk_153 0 7 (dk_at dksX0_isUseful_2 10 rfl rfl)
theorem dX0_isUseful_57 : decode cX0_isUseful 57 = .ok (.iconst 1, 1) := dk_4 (dk_at dksX0_isUseful_2 13 rfl rfl)
theorem dX0_isUseful_58 : decode cX0_isUseful 58 = .ok (.goto 4, 3) := dk_167 0 4 (dk_at dksX0_isUseful_2 14 rfl rfl)
theorem dX0_isUseful_61 : decode cX0_isUseful 61 = .ok (.iconst 0, 1) := dk_3 (dk_at dksX0_isUseful_2 17 rfl rfl)
theorem dX0_isUseful_62 : decode cX0_isUseful 62 = .ok (.ireturn, 1) := dk_172 (dk_at dksX0_isUseful_2 18 rfl rfl)
abbrev cX0_usefulUnits : ByteArray := prog_1_method_52_code
def yX0_usefulUnits : MethodName := ⟨RX0, "usefulUnits", "()I"⟩
def dkwX0_usefulUnits_1 : List UInt8 := [28, 46, 182, 0, 118, 192, 0, 107, 180, 0, 219, 96, 60, 132, 2, 1, 167, 255, 220, 27, 172]
abbrev dktX0_usefulUnits_1 : List UInt8 := dkwX0_usefulUnits_1 ++ []
def dkwX0_usefulUnits_0 : List UInt8 := [3, 60, 3, 61, 28, 42, 180, 1, 59, 162, 0, 34, 27, 42, 180, 0, 16, 180, 0, 82, 42, 180, 0, 33]
abbrev dktX0_usefulUnits_0 : List UInt8 := dkwX0_usefulUnits_0 ++ dktX0_usefulUnits_1
theorem dksX0_usefulUnits_0 : cX0_usefulUnits.data.toList.drop 0 = dktX0_usefulUnits_0 := by decide +kernel
theorem dksX0_usefulUnits_1 : cX0_usefulUnits.data.toList.drop 24 = dktX0_usefulUnits_1 := dk_seg dksX0_usefulUnits_0 24 rfl rfl
theorem dX0_usefulUnits_0 : decode cX0_usefulUnits 0 = .ok (.iconst 0, 1) := dk_3 (dk_at dksX0_usefulUnits_0 0 rfl rfl)
theorem dX0_usefulUnits_1 : decode cX0_usefulUnits 1 = .ok (.istore_n 1, 1) := dk_60 (dk_at dksX0_usefulUnits_0 1 rfl rfl)
theorem dX0_usefulUnits_2 : decode cX0_usefulUnits 2 = .ok (.iconst 0, 1) := dk_3 (dk_at dksX0_usefulUnits_0 2 rfl rfl)
theorem dX0_usefulUnits_3 : decode cX0_usefulUnits 3 = .ok (.istore_n 2, 1) := dk_61 (dk_at dksX0_usefulUnits_0 3 rfl rfl)
theorem dX0_usefulUnits_4 : decode cX0_usefulUnits 4 = .ok (.iload_n 2, 1) := dk_28 (dk_at dksX0_usefulUnits_0 4 rfl rfl)
theorem dX0_usefulUnits_5 : decode cX0_usefulUnits 5 = .ok (.aload_n 0, 1) := dk_42 (dk_at dksX0_usefulUnits_0 5 rfl rfl)
theorem dX0_usefulUnits_6 : decode cX0_usefulUnits 6 = .ok (.getfield 315, 3) := dk_180 1 59 (dk_at dksX0_usefulUnits_0 6 rfl rfl)
theorem dX0_usefulUnits_9 : decode cX0_usefulUnits 9 = .ok (.if_icmp .ge 34, 3) := dk_162 0 34 (dk_at dksX0_usefulUnits_0 9 rfl rfl)
theorem dX0_usefulUnits_12 : decode cX0_usefulUnits 12 = .ok (.iload_n 1, 1) := dk_27 (dk_at dksX0_usefulUnits_0 12 rfl rfl)
theorem dX0_usefulUnits_13 : decode cX0_usefulUnits 13 = .ok (.aload_n 0, 1) := dk_42 (dk_at dksX0_usefulUnits_0 13 rfl rfl)
theorem dX0_usefulUnits_14 : decode cX0_usefulUnits 14 = .ok (.getfield 16, 3) := dk_180 0 16 (dk_at dksX0_usefulUnits_0 14 rfl rfl)
theorem dX0_usefulUnits_17 : decode cX0_usefulUnits 17 = .ok (.getfield 82, 3) := dk_180 0 82 (dk_at dksX0_usefulUnits_0 17 rfl rfl)
theorem dX0_usefulUnits_20 : decode cX0_usefulUnits 20 = .ok (.aload_n 0, 1) := dk_42 (dk_at dksX0_usefulUnits_0 20 rfl rfl)
theorem dX0_usefulUnits_21 : decode cX0_usefulUnits 21 = .ok (.getfield 33, 3) := dk_180 0 33 (dk_at dksX0_usefulUnits_0 21 rfl rfl)
theorem dX0_usefulUnits_24 : decode cX0_usefulUnits 24 = .ok (.iload_n 2, 1) := dk_28 (dk_at dksX0_usefulUnits_1 0 rfl rfl)
theorem dX0_usefulUnits_25 : decode cX0_usefulUnits 25 = .ok (.iaload, 1) := dk_46 (dk_at dksX0_usefulUnits_1 1 rfl rfl)
theorem dX0_usefulUnits_26 : decode cX0_usefulUnits 26 = .ok (.invokevirtual 118, 3) := dk_182 0 118 (dk_at dksX0_usefulUnits_1 2 rfl rfl)
theorem dX0_usefulUnits_29 : decode cX0_usefulUnits 29 = .ok (.checkcast 107, 3) := dk_192 0 107 (dk_at dksX0_usefulUnits_1 5 rfl rfl)
theorem dX0_usefulUnits_32 : decode cX0_usefulUnits 32 = .ok (.getfield 219, 3) := dk_180 0 219 (dk_at dksX0_usefulUnits_1 8 rfl rfl)
theorem dX0_usefulUnits_35 : decode cX0_usefulUnits 35 = .ok (.iadd, 1) := dk_96 (dk_at dksX0_usefulUnits_1 11 rfl rfl)
theorem dX0_usefulUnits_36 : decode cX0_usefulUnits 36 = .ok (.istore_n 1, 1) := dk_60 (dk_at dksX0_usefulUnits_1 12 rfl rfl)
theorem dX0_usefulUnits_37 : decode cX0_usefulUnits 37 = .ok (.iinc 2 1, 3) := dk_132 2 1 (dk_at dksX0_usefulUnits_1 13 rfl rfl)
theorem dX0_usefulUnits_40 : decode cX0_usefulUnits 40 = .ok (.goto (-36), 3) := dk_167 255 220 (dk_at dksX0_usefulUnits_1 16 rfl rfl)
theorem dX0_usefulUnits_43 : decode cX0_usefulUnits 43 = .ok (.iload_n 1, 1) := dk_27 (dk_at dksX0_usefulUnits_1 19 rfl rfl)
theorem dX0_usefulUnits_44 : decode cX0_usefulUnits 44 = .ok (.ireturn, 1) := dk_172 (dk_at dksX0_usefulUnits_1 20 rfl rfl)
abbrev cX0_findTakes : ByteArray := prog_1_method_51_code
def yX0_findTakes : MethodName := ⟨RX0, "findTakes", "(II)J"⟩
def dkwX0_findTakes_4 : List UInt8 := [97, 66, 132, 5, 1, 167, 255, 203, 33, 173]
abbrev dktX0_findTakes_4 : List UInt8 := dkwX0_findTakes_4 ++ []
def dkwX0_findTakes_3 : List UInt8 := [180, 0, 16, 180, 0, 82, 42, 180, 0, 33, 21, 5, 46, 182, 0, 118, 192, 0, 107, 182, 1, 34, 133, 105]
abbrev dktX0_findTakes_3 : List UInt8 := dkwX0_findTakes_3 ++ dktX0_findTakes_4
def dkwX0_findTakes_2 : List UInt8 := [21, 5, 42, 180, 1, 59, 162, 0, 50, 33, 42, 180, 0, 37, 42, 180, 0, 33, 21, 5, 46, 46, 133, 42]
abbrev dktX0_findTakes_2 : List UInt8 := dkwX0_findTakes_2 ++ dktX0_findTakes_3
def dkwX0_findTakes_1 : List UInt8 := [28, 182, 1, 68, 42, 42, 180, 1, 59, 4, 100, 2, 27, 28, 100, 182, 1, 68, 9, 66, 3, 54, 5]
abbrev dktX0_findTakes_1 : List UInt8 := dkwX0_findTakes_1 ++ dktX0_findTakes_2
def dkwX0_findTakes_0 : List UInt8 := [3, 62, 29, 16, 8, 162, 0, 16, 42, 180, 0, 37, 29, 3, 79, 132, 3, 1, 167, 255, 240, 42, 3, 4]
abbrev dktX0_findTakes_0 : List UInt8 := dkwX0_findTakes_0 ++ dktX0_findTakes_1
theorem dksX0_findTakes_0 : cX0_findTakes.data.toList.drop 0 = dktX0_findTakes_0 := by decide +kernel
theorem dksX0_findTakes_1 : cX0_findTakes.data.toList.drop 24 = dktX0_findTakes_1 := dk_seg dksX0_findTakes_0 24 rfl rfl
theorem dksX0_findTakes_2 : cX0_findTakes.data.toList.drop 47 = dktX0_findTakes_2 := dk_seg dksX0_findTakes_1 23 rfl rfl
theorem dksX0_findTakes_3 : cX0_findTakes.data.toList.drop 71 = dktX0_findTakes_3 := dk_seg dksX0_findTakes_2 24 rfl rfl
theorem dksX0_findTakes_4 : cX0_findTakes.data.toList.drop 95 = dktX0_findTakes_4 := dk_seg dksX0_findTakes_3 24 rfl rfl
theorem dX0_findTakes_0 : decode cX0_findTakes 0 = .ok (.iconst 0, 1) := dk_3 (dk_at dksX0_findTakes_0 0 rfl rfl)
theorem dX0_findTakes_1 : decode cX0_findTakes 1 = .ok (.istore_n 3, 1) := dk_62 (dk_at dksX0_findTakes_0 1 rfl rfl)
theorem dX0_findTakes_2 : decode cX0_findTakes 2 = .ok (.iload_n 3, 1) := dk_29 (dk_at dksX0_findTakes_0 2 rfl rfl)
theorem dX0_findTakes_3 : decode cX0_findTakes 3 = .ok (.bipush 8, 2) := dk_16 8 (dk_at dksX0_findTakes_0 3 rfl rfl)
theorem dX0_findTakes_5 : decode cX0_findTakes 5 = .ok (.if_icmp .ge 16, 3) := dk_162 0 16 (dk_at dksX0_findTakes_0 5 rfl rfl)
theorem dX0_findTakes_8 : decode cX0_findTakes 8 = .ok (.aload_n 0, 1) := dk_42 (dk_at dksX0_findTakes_0 8 rfl rfl)
theorem dX0_findTakes_9 : decode cX0_findTakes 9 = .ok (.getfield 37, 3) := dk_180 0 37 (dk_at dksX0_findTakes_0 9 rfl rfl)
theorem dX0_findTakes_12 : decode cX0_findTakes 12 = .ok (.iload_n 3, 1) := dk_29 (dk_at dksX0_findTakes_0 12 rfl rfl)
theorem dX0_findTakes_13 : decode cX0_findTakes 13 = .ok (.iconst 0, 1) := dk_3 (dk_at dksX0_findTakes_0 13 rfl rfl)
theorem dX0_findTakes_14 : decode cX0_findTakes 14 = .ok (.iastore, 1) := dk_79 (dk_at dksX0_findTakes_0 14 rfl rfl)
theorem dX0_findTakes_15 : decode cX0_findTakes 15 = .ok (.iinc 3 1, 3) := dk_132 3 1 (dk_at dksX0_findTakes_0 15 rfl rfl)
theorem dX0_findTakes_18 : decode cX0_findTakes 18 = .ok (.goto (-16), 3) := dk_167 255 240 (dk_at dksX0_findTakes_0 18 rfl rfl)
theorem dX0_findTakes_21 : decode cX0_findTakes 21 = .ok (.aload_n 0, 1) := dk_42 (dk_at dksX0_findTakes_0 21 rfl rfl)
theorem dX0_findTakes_22 : decode cX0_findTakes 22 = .ok (.iconst 0, 1) := dk_3 (dk_at dksX0_findTakes_0 22 rfl rfl)
theorem dX0_findTakes_23 : decode cX0_findTakes 23 = .ok (.iconst 1, 1) := dk_4 (dk_at dksX0_findTakes_0 23 rfl rfl)
theorem dX0_findTakes_24 : decode cX0_findTakes 24 = .ok (.iload_n 2, 1) := dk_28 (dk_at dksX0_findTakes_1 0 rfl rfl)
theorem dX0_findTakes_25 : decode cX0_findTakes 25 = .ok (.invokevirtual 324, 3) := dk_182 1 68 (dk_at dksX0_findTakes_1 1 rfl rfl)
theorem dX0_findTakes_28 : decode cX0_findTakes 28 = .ok (.aload_n 0, 1) := dk_42 (dk_at dksX0_findTakes_1 4 rfl rfl)
theorem dX0_findTakes_29 : decode cX0_findTakes 29 = .ok (.aload_n 0, 1) := dk_42 (dk_at dksX0_findTakes_1 5 rfl rfl)
theorem dX0_findTakes_30 : decode cX0_findTakes 30 = .ok (.getfield 315, 3) := dk_180 1 59 (dk_at dksX0_findTakes_1 6 rfl rfl)
theorem dX0_findTakes_33 : decode cX0_findTakes 33 = .ok (.iconst 1, 1) := dk_4 (dk_at dksX0_findTakes_1 9 rfl rfl)
theorem dX0_findTakes_34 : decode cX0_findTakes 34 = .ok (.isub, 1) := dk_100 (dk_at dksX0_findTakes_1 10 rfl rfl)
theorem dX0_findTakes_35 : decode cX0_findTakes 35 = .ok (.iconst (-1), 1) := dk_2 (dk_at dksX0_findTakes_1 11 rfl rfl)
theorem dX0_findTakes_36 : decode cX0_findTakes 36 = .ok (.iload_n 1, 1) := dk_27 (dk_at dksX0_findTakes_1 12 rfl rfl)
theorem dX0_findTakes_37 : decode cX0_findTakes 37 = .ok (.iload_n 2, 1) := dk_28 (dk_at dksX0_findTakes_1 13 rfl rfl)
theorem dX0_findTakes_38 : decode cX0_findTakes 38 = .ok (.isub, 1) := dk_100 (dk_at dksX0_findTakes_1 14 rfl rfl)
theorem dX0_findTakes_39 : decode cX0_findTakes 39 = .ok (.invokevirtual 324, 3) := dk_182 1 68 (dk_at dksX0_findTakes_1 15 rfl rfl)
theorem dX0_findTakes_42 : decode cX0_findTakes 42 = .ok (.lconst 0, 1) := dk_9 (dk_at dksX0_findTakes_1 18 rfl rfl)
theorem dX0_findTakes_43 : decode cX0_findTakes 43 = .ok (.lstore_n 3, 1) := dk_66 (dk_at dksX0_findTakes_1 19 rfl rfl)
theorem dX0_findTakes_44 : decode cX0_findTakes 44 = .ok (.iconst 0, 1) := dk_3 (dk_at dksX0_findTakes_1 20 rfl rfl)
theorem dX0_findTakes_45 : decode cX0_findTakes 45 = .ok (.istore 5, 2) := dk_54 5 (dk_at dksX0_findTakes_1 21 rfl rfl)
theorem dX0_findTakes_47 : decode cX0_findTakes 47 = .ok (.iload 5, 2) := dk_21 5 (dk_at dksX0_findTakes_2 0 rfl rfl)
theorem dX0_findTakes_49 : decode cX0_findTakes 49 = .ok (.aload_n 0, 1) := dk_42 (dk_at dksX0_findTakes_2 2 rfl rfl)
theorem dX0_findTakes_50 : decode cX0_findTakes 50 = .ok (.getfield 315, 3) := dk_180 1 59 (dk_at dksX0_findTakes_2 3 rfl rfl)
theorem dX0_findTakes_53 : decode cX0_findTakes 53 = .ok (.if_icmp .ge 50, 3) := dk_162 0 50 (dk_at dksX0_findTakes_2 6 rfl rfl)
theorem dX0_findTakes_56 : decode cX0_findTakes 56 = .ok (.lload_n 3, 1) := dk_33 (dk_at dksX0_findTakes_2 9 rfl rfl)
theorem dX0_findTakes_57 : decode cX0_findTakes 57 = .ok (.aload_n 0, 1) := dk_42 (dk_at dksX0_findTakes_2 10 rfl rfl)
theorem dX0_findTakes_58 : decode cX0_findTakes 58 = .ok (.getfield 37, 3) := dk_180 0 37 (dk_at dksX0_findTakes_2 11 rfl rfl)
theorem dX0_findTakes_61 : decode cX0_findTakes 61 = .ok (.aload_n 0, 1) := dk_42 (dk_at dksX0_findTakes_2 14 rfl rfl)
theorem dX0_findTakes_62 : decode cX0_findTakes 62 = .ok (.getfield 33, 3) := dk_180 0 33 (dk_at dksX0_findTakes_2 15 rfl rfl)
theorem dX0_findTakes_65 : decode cX0_findTakes 65 = .ok (.iload 5, 2) := dk_21 5 (dk_at dksX0_findTakes_2 18 rfl rfl)
theorem dX0_findTakes_67 : decode cX0_findTakes 67 = .ok (.iaload, 1) := dk_46 (dk_at dksX0_findTakes_2 20 rfl rfl)
theorem dX0_findTakes_68 : decode cX0_findTakes 68 = .ok (.iaload, 1) := dk_46 (dk_at dksX0_findTakes_2 21 rfl rfl)
theorem dX0_findTakes_69 : decode cX0_findTakes 69 = .ok (.i2l, 1) := dk_133 (dk_at dksX0_findTakes_2 22 rfl rfl)
theorem dX0_findTakes_70 : decode cX0_findTakes 70 = .ok (.aload_n 0, 1) := dk_42 (dk_at dksX0_findTakes_2 23 rfl rfl)
theorem dX0_findTakes_71 : decode cX0_findTakes 71 = .ok (.getfield 16, 3) := dk_180 0 16 (dk_at dksX0_findTakes_3 0 rfl rfl)
theorem dX0_findTakes_74 : decode cX0_findTakes 74 = .ok (.getfield 82, 3) := dk_180 0 82 (dk_at dksX0_findTakes_3 3 rfl rfl)
theorem dX0_findTakes_77 : decode cX0_findTakes 77 = .ok (.aload_n 0, 1) := dk_42 (dk_at dksX0_findTakes_3 6 rfl rfl)
theorem dX0_findTakes_78 : decode cX0_findTakes 78 = .ok (.getfield 33, 3) := dk_180 0 33 (dk_at dksX0_findTakes_3 7 rfl rfl)
theorem dX0_findTakes_81 : decode cX0_findTakes 81 = .ok (.iload 5, 2) := dk_21 5 (dk_at dksX0_findTakes_3 10 rfl rfl)
theorem dX0_findTakes_83 : decode cX0_findTakes 83 = .ok (.iaload, 1) := dk_46 (dk_at dksX0_findTakes_3 12 rfl rfl)
theorem dX0_findTakes_84 : decode cX0_findTakes 84 = .ok (.invokevirtual 118, 3) := dk_182 0 118 (dk_at dksX0_findTakes_3 13 rfl rfl)
theorem dX0_findTakes_87 : decode cX0_findTakes 87 = .ok (.checkcast 107, 3) := dk_192 0 107 (dk_at dksX0_findTakes_3 16 rfl rfl)
theorem dX0_findTakes_90 : decode cX0_findTakes 90 = .ok (.invokevirtual 290, 3) := dk_182 1 34 (dk_at dksX0_findTakes_3 19 rfl rfl)
theorem dX0_findTakes_93 : decode cX0_findTakes 93 = .ok (.i2l, 1) := dk_133 (dk_at dksX0_findTakes_3 22 rfl rfl)
theorem dX0_findTakes_94 : decode cX0_findTakes 94 = .ok (.lmul, 1) := dk_105 (dk_at dksX0_findTakes_3 23 rfl rfl)
theorem dX0_findTakes_95 : decode cX0_findTakes 95 = .ok (.ladd, 1) := dk_97 (dk_at dksX0_findTakes_4 0 rfl rfl)
theorem dX0_findTakes_96 : decode cX0_findTakes 96 = .ok (.lstore_n 3, 1) := dk_66 (dk_at dksX0_findTakes_4 1 rfl rfl)
theorem dX0_findTakes_97 : decode cX0_findTakes 97 = .ok (.iinc 5 1, 3) := dk_132 5 1 (dk_at dksX0_findTakes_4 2 rfl rfl)
theorem dX0_findTakes_100 : decode cX0_findTakes 100 = .ok (.goto (-53), 3) := dk_167 255 203 (dk_at dksX0_findTakes_4 5 rfl rfl)
theorem dX0_findTakes_103 : decode cX0_findTakes 103 = .ok (.lload_n 3, 1) := dk_33 (dk_at dksX0_findTakes_4 8 rfl rfl)
theorem dX0_findTakes_104 : decode cX0_findTakes 104 = .ok (.lreturn, 1) := dk_173 (dk_at dksX0_findTakes_4 9 rfl rfl)
abbrev cX0_takeFrom : ByteArray := prog_1_method_50_code
def yX0_takeFrom : MethodName := ⟨RX0, "takeFrom", "(III)V"⟩
def dkwX0_takeFrom_3 : List UInt8 := [21, 6, 96, 79, 21, 4, 21, 6, 100, 54, 4, 21, 5, 28, 96, 54, 5, 167, 255, 176, 177]
abbrev dktX0_takeFrom_3 : List UInt8 := dkwX0_takeFrom_3 ++ []
def dkwX0_takeFrom_2 : List UInt8 := [192, 0, 107, 180, 0, 219, 184, 1, 65, 54, 6, 42, 180, 0, 37, 42, 180, 0, 33, 21, 5, 46, 92, 46]
abbrev dktX0_takeFrom_2 : List UInt8 := dkwX0_takeFrom_2 ++ dktX0_takeFrom_3
def dkwX0_takeFrom_1 : List UInt8 := [158, 0, 66, 21, 4, 42, 180, 0, 16, 180, 0, 82, 42, 180, 0, 33, 21, 5, 46, 182, 0, 118]
abbrev dktX0_takeFrom_1 : List UInt8 := dkwX0_takeFrom_1 ++ dktX0_takeFrom_2
def dkwX0_takeFrom_0 : List UInt8 := [29, 54, 4, 27, 54, 5, 21, 5, 3, 42, 180, 1, 59, 4, 100, 184, 0, 1, 153, 0, 71, 21, 4]
abbrev dktX0_takeFrom_0 : List UInt8 := dkwX0_takeFrom_0 ++ dktX0_takeFrom_1
theorem dksX0_takeFrom_0 : cX0_takeFrom.data.toList.drop 0 = dktX0_takeFrom_0 := by decide +kernel
theorem dksX0_takeFrom_1 : cX0_takeFrom.data.toList.drop 23 = dktX0_takeFrom_1 := dk_seg dksX0_takeFrom_0 23 rfl rfl
theorem dksX0_takeFrom_2 : cX0_takeFrom.data.toList.drop 45 = dktX0_takeFrom_2 := dk_seg dksX0_takeFrom_1 22 rfl rfl
theorem dksX0_takeFrom_3 : cX0_takeFrom.data.toList.drop 69 = dktX0_takeFrom_3 := dk_seg dksX0_takeFrom_2 24 rfl rfl
theorem dX0_takeFrom_0 : decode cX0_takeFrom 0 = .ok (.iload_n 3, 1) := dk_29 (dk_at dksX0_takeFrom_0 0 rfl rfl)
theorem dX0_takeFrom_1 : decode cX0_takeFrom 1 = .ok (.istore 4, 2) := dk_54 4 (dk_at dksX0_takeFrom_0 1 rfl rfl)
theorem dX0_takeFrom_3 : decode cX0_takeFrom 3 = .ok (.iload_n 1, 1) := dk_27 (dk_at dksX0_takeFrom_0 3 rfl rfl)
theorem dX0_takeFrom_4 : decode cX0_takeFrom 4 = .ok (.istore 5, 2) := dk_54 5 (dk_at dksX0_takeFrom_0 4 rfl rfl)
theorem dX0_takeFrom_6 : decode cX0_takeFrom 6 = .ok (.iload 5, 2) := dk_21 5 (dk_at dksX0_takeFrom_0 6 rfl rfl)
theorem dX0_takeFrom_8 : decode cX0_takeFrom 8 = .ok (.iconst 0, 1) := dk_3 (dk_at dksX0_takeFrom_0 8 rfl rfl)
theorem dX0_takeFrom_9 : decode cX0_takeFrom 9 = .ok (.aload_n 0, 1) := dk_42 (dk_at dksX0_takeFrom_0 9 rfl rfl)
theorem dX0_takeFrom_10 : decode cX0_takeFrom 10 = .ok (.getfield 315, 3) := dk_180 1 59 (dk_at dksX0_takeFrom_0 10 rfl rfl)
theorem dX0_takeFrom_13 : decode cX0_takeFrom 13 = .ok (.iconst 1, 1) := dk_4 (dk_at dksX0_takeFrom_0 13 rfl rfl)
theorem dX0_takeFrom_14 : decode cX0_takeFrom 14 = .ok (.isub, 1) := dk_100 (dk_at dksX0_takeFrom_0 14 rfl rfl)
theorem dX0_takeFrom_15 : decode cX0_takeFrom 15 = .ok (.invokestatic 1, 3) := dk_184 0 1 (dk_at dksX0_takeFrom_0 15 rfl rfl)
theorem dX0_takeFrom_18 : decode cX0_takeFrom 18 = .ok (.ifCond .eq 71, 3) := dk_153 0 71 (dk_at dksX0_takeFrom_0 18 rfl rfl)
theorem dX0_takeFrom_21 : decode cX0_takeFrom 21 = .ok (.iload 4, 2) := dk_21 4 (dk_at dksX0_takeFrom_0 21 rfl rfl)
theorem dX0_takeFrom_23 : decode cX0_takeFrom 23 = .ok (.ifCond .le 66, 3) := dk_158 0 66 (dk_at dksX0_takeFrom_1 0 rfl rfl)
theorem dX0_takeFrom_26 : decode cX0_takeFrom 26 = .ok (.iload 4, 2) := dk_21 4 (dk_at dksX0_takeFrom_1 3 rfl rfl)
theorem dX0_takeFrom_28 : decode cX0_takeFrom 28 = .ok (.aload_n 0, 1) := dk_42 (dk_at dksX0_takeFrom_1 5 rfl rfl)
theorem dX0_takeFrom_29 : decode cX0_takeFrom 29 = .ok (.getfield 16, 3) := dk_180 0 16 (dk_at dksX0_takeFrom_1 6 rfl rfl)
theorem dX0_takeFrom_32 : decode cX0_takeFrom 32 = .ok (.getfield 82, 3) := dk_180 0 82 (dk_at dksX0_takeFrom_1 9 rfl rfl)
theorem dX0_takeFrom_35 : decode cX0_takeFrom 35 = .ok (.aload_n 0, 1) := dk_42 (dk_at dksX0_takeFrom_1 12 rfl rfl)
theorem dX0_takeFrom_36 : decode cX0_takeFrom 36 = .ok (.getfield 33, 3) := dk_180 0 33 (dk_at dksX0_takeFrom_1 13 rfl rfl)
theorem dX0_takeFrom_39 : decode cX0_takeFrom 39 = .ok (.iload 5, 2) := dk_21 5 (dk_at dksX0_takeFrom_1 16 rfl rfl)
theorem dX0_takeFrom_41 : decode cX0_takeFrom 41 = .ok (.iaload, 1) := dk_46 (dk_at dksX0_takeFrom_1 18 rfl rfl)
theorem dX0_takeFrom_42 : decode cX0_takeFrom 42 = .ok (.invokevirtual 118, 3) := dk_182 0 118 (dk_at dksX0_takeFrom_1 19 rfl rfl)
theorem dX0_takeFrom_45 : decode cX0_takeFrom 45 = .ok (.checkcast 107, 3) := dk_192 0 107 (dk_at dksX0_takeFrom_2 0 rfl rfl)
theorem dX0_takeFrom_48 : decode cX0_takeFrom 48 = .ok (.getfield 219, 3) := dk_180 0 219 (dk_at dksX0_takeFrom_2 3 rfl rfl)
theorem dX0_takeFrom_51 : decode cX0_takeFrom 51 = .ok (.invokestatic 321, 3) := dk_184 1 65 (dk_at dksX0_takeFrom_2 6 rfl rfl)
theorem dX0_takeFrom_54 : decode cX0_takeFrom 54 = .ok (.istore 6, 2) := dk_54 6 (dk_at dksX0_takeFrom_2 9 rfl rfl)
theorem dX0_takeFrom_56 : decode cX0_takeFrom 56 = .ok (.aload_n 0, 1) := dk_42 (dk_at dksX0_takeFrom_2 11 rfl rfl)
theorem dX0_takeFrom_57 : decode cX0_takeFrom 57 = .ok (.getfield 37, 3) := dk_180 0 37 (dk_at dksX0_takeFrom_2 12 rfl rfl)
theorem dX0_takeFrom_60 : decode cX0_takeFrom 60 = .ok (.aload_n 0, 1) := dk_42 (dk_at dksX0_takeFrom_2 15 rfl rfl)
theorem dX0_takeFrom_61 : decode cX0_takeFrom 61 = .ok (.getfield 33, 3) := dk_180 0 33 (dk_at dksX0_takeFrom_2 16 rfl rfl)
theorem dX0_takeFrom_64 : decode cX0_takeFrom 64 = .ok (.iload 5, 2) := dk_21 5 (dk_at dksX0_takeFrom_2 19 rfl rfl)
theorem dX0_takeFrom_66 : decode cX0_takeFrom 66 = .ok (.iaload, 1) := dk_46 (dk_at dksX0_takeFrom_2 21 rfl rfl)
theorem dX0_takeFrom_67 : decode cX0_takeFrom 67 = .ok (.dup2, 1) := dk_92 (dk_at dksX0_takeFrom_2 22 rfl rfl)
theorem dX0_takeFrom_68 : decode cX0_takeFrom 68 = .ok (.iaload, 1) := dk_46 (dk_at dksX0_takeFrom_2 23 rfl rfl)
theorem dX0_takeFrom_69 : decode cX0_takeFrom 69 = .ok (.iload 6, 2) := dk_21 6 (dk_at dksX0_takeFrom_3 0 rfl rfl)
theorem dX0_takeFrom_71 : decode cX0_takeFrom 71 = .ok (.iadd, 1) := dk_96 (dk_at dksX0_takeFrom_3 2 rfl rfl)
theorem dX0_takeFrom_72 : decode cX0_takeFrom 72 = .ok (.iastore, 1) := dk_79 (dk_at dksX0_takeFrom_3 3 rfl rfl)
theorem dX0_takeFrom_73 : decode cX0_takeFrom 73 = .ok (.iload 4, 2) := dk_21 4 (dk_at dksX0_takeFrom_3 4 rfl rfl)
theorem dX0_takeFrom_75 : decode cX0_takeFrom 75 = .ok (.iload 6, 2) := dk_21 6 (dk_at dksX0_takeFrom_3 6 rfl rfl)
theorem dX0_takeFrom_77 : decode cX0_takeFrom 77 = .ok (.isub, 1) := dk_100 (dk_at dksX0_takeFrom_3 8 rfl rfl)
theorem dX0_takeFrom_78 : decode cX0_takeFrom 78 = .ok (.istore 4, 2) := dk_54 4 (dk_at dksX0_takeFrom_3 9 rfl rfl)
theorem dX0_takeFrom_80 : decode cX0_takeFrom 80 = .ok (.iload 5, 2) := dk_21 5 (dk_at dksX0_takeFrom_3 11 rfl rfl)
theorem dX0_takeFrom_82 : decode cX0_takeFrom 82 = .ok (.iload_n 2, 1) := dk_28 (dk_at dksX0_takeFrom_3 13 rfl rfl)
theorem dX0_takeFrom_83 : decode cX0_takeFrom 83 = .ok (.iadd, 1) := dk_96 (dk_at dksX0_takeFrom_3 14 rfl rfl)
theorem dX0_takeFrom_84 : decode cX0_takeFrom 84 = .ok (.istore 5, 2) := dk_54 5 (dk_at dksX0_takeFrom_3 15 rfl rfl)
theorem dX0_takeFrom_86 : decode cX0_takeFrom 86 = .ok (.goto (-80), 3) := dk_167 255 176 (dk_at dksX0_takeFrom_3 17 rfl rfl)
theorem dX0_takeFrom_89 : decode cX0_takeFrom 89 = .ok (.return_, 1) := dk_177 (dk_at dksX0_takeFrom_3 20 rfl rfl)
abbrev cX0_whyNoBlend : ByteArray := prog_1_method_56_code
def yX0_whyNoBlend : MethodName := ⟨RX0, "whyNoBlend", "(II)I"⟩
def dkwX0_whyNoBlend_0 : List UInt8 := [42, 27, 28, 182, 1, 89, 153, 0, 12, 42, 27, 28, 182, 1, 92, 167, 0, 5, 16, 254, 172]
abbrev dktX0_whyNoBlend_0 : List UInt8 := dkwX0_whyNoBlend_0 ++ []
theorem dksX0_whyNoBlend_0 : cX0_whyNoBlend.data.toList.drop 0 = dktX0_whyNoBlend_0 := by decide +kernel
theorem dX0_whyNoBlend_0 : decode cX0_whyNoBlend 0 = .ok (.aload_n 0, 1) := dk_42 (dk_at dksX0_whyNoBlend_0 0 rfl rfl)
theorem dX0_whyNoBlend_1 : decode cX0_whyNoBlend 1 = .ok (.iload_n 1, 1) := dk_27 (dk_at dksX0_whyNoBlend_0 1 rfl rfl)
theorem dX0_whyNoBlend_2 : decode cX0_whyNoBlend 2 = .ok (.iload_n 2, 1) := dk_28 (dk_at dksX0_whyNoBlend_0 2 rfl rfl)
theorem dX0_whyNoBlend_3 : decode cX0_whyNoBlend 3 = .ok (.invokevirtual 345, 3) := dk_182 1 89 (dk_at dksX0_whyNoBlend_0 3 rfl rfl)
theorem dX0_whyNoBlend_6 : decode cX0_whyNoBlend 6 = .ok (.ifCond .eq 12, 3) := dk_153 0 12 (dk_at dksX0_whyNoBlend_0 6 rfl rfl)
theorem dX0_whyNoBlend_9 : decode cX0_whyNoBlend 9 = .ok (.aload_n 0, 1) := dk_42 (dk_at dksX0_whyNoBlend_0 9 rfl rfl)
theorem dX0_whyNoBlend_10 : decode cX0_whyNoBlend 10 = .ok (.iload_n 1, 1) := dk_27 (dk_at dksX0_whyNoBlend_0 10 rfl rfl)
theorem dX0_whyNoBlend_11 : decode cX0_whyNoBlend 11 = .ok (.iload_n 2, 1) := dk_28 (dk_at dksX0_whyNoBlend_0 11 rfl rfl)
theorem dX0_whyNoBlend_12 : decode cX0_whyNoBlend 12 = .ok (.invokevirtual 348, 3) := dk_182 1 92 (dk_at dksX0_whyNoBlend_0 12 rfl rfl)
theorem dX0_whyNoBlend_15 : decode cX0_whyNoBlend 15 = .ok (.goto 5, 3) := dk_167 0 5 (dk_at dksX0_whyNoBlend_0 15 rfl rfl)
theorem dX0_whyNoBlend_18 : decode cX0_whyNoBlend 18 = .ok (.bipush (-2), 2) := dk_16 254 (dk_at dksX0_whyNoBlend_0 18 rfl rfl)
theorem dX0_whyNoBlend_20 : decode cX0_whyNoBlend 20 = .ok (.ireturn, 1) := dk_172 (dk_at dksX0_whyNoBlend_0 20 rfl rfl)
abbrev cX0_fromBin : ByteArray := prog_1_method_57_code
def yX0_fromBin : MethodName := ⟨RX0, "fromBin", "(III)I"⟩
def dkwX0_fromBin_2 : List UInt8 := [180, 1, 78, 42, 180, 1, 86, 182, 1, 82, 55, 4, 42, 180, 0, 37, 29, 46, 172]
abbrev dktX0_fromBin_2 : List UInt8 := dkwX0_fromBin_2 ++ []
def dkwX0_fromBin_1 : List UInt8 := [182, 1, 92, 158, 0, 5, 2, 172, 42, 42, 180, 0, 16, 180, 0, 92, 27, 182, 0, 118, 192, 0, 153]
abbrev dktX0_fromBin_1 : List UInt8 := dkwX0_fromBin_1 ++ dktX0_fromBin_2
def dkwX0_fromBin_0 : List UInt8 := [42, 27, 28, 182, 1, 89, 153, 0, 11, 42, 29, 182, 0, 114, 154, 0, 6, 16, 254, 172, 42, 27, 28]
abbrev dktX0_fromBin_0 : List UInt8 := dkwX0_fromBin_0 ++ dktX0_fromBin_1
theorem dksX0_fromBin_0 : cX0_fromBin.data.toList.drop 0 = dktX0_fromBin_0 := by decide +kernel
theorem dksX0_fromBin_1 : cX0_fromBin.data.toList.drop 23 = dktX0_fromBin_1 := dk_seg dksX0_fromBin_0 23 rfl rfl
theorem dksX0_fromBin_2 : cX0_fromBin.data.toList.drop 46 = dktX0_fromBin_2 := dk_seg dksX0_fromBin_1 23 rfl rfl
theorem dX0_fromBin_0 : decode cX0_fromBin 0 = .ok (.aload_n 0, 1) := dk_42 (dk_at dksX0_fromBin_0 0 rfl rfl)
theorem dX0_fromBin_1 : decode cX0_fromBin 1 = .ok (.iload_n 1, 1) := dk_27 (dk_at dksX0_fromBin_0 1 rfl rfl)
theorem dX0_fromBin_2 : decode cX0_fromBin 2 = .ok (.iload_n 2, 1) := dk_28 (dk_at dksX0_fromBin_0 2 rfl rfl)
theorem dX0_fromBin_3 : decode cX0_fromBin 3 = .ok (.invokevirtual 345, 3) := dk_182 1 89 (dk_at dksX0_fromBin_0 3 rfl rfl)
theorem dX0_fromBin_6 : decode cX0_fromBin 6 = .ok (.ifCond .eq 11, 3) := dk_153 0 11 (dk_at dksX0_fromBin_0 6 rfl rfl)
theorem dX0_fromBin_9 : decode cX0_fromBin 9 = .ok (.aload_n 0, 1) := dk_42 (dk_at dksX0_fromBin_0 9 rfl rfl)
theorem dX0_fromBin_10 : decode cX0_fromBin 10 = .ok (.iload_n 3, 1) := dk_29 (dk_at dksX0_fromBin_0 10 rfl rfl)
theorem dX0_fromBin_11 : decode cX0_fromBin 11 = .ok (.invokevirtual 114, 3) := dk_182 0 114 (dk_at dksX0_fromBin_0 11 rfl rfl)
theorem dX0_fromBin_14 : decode cX0_fromBin 14 = .ok (.ifCond .ne 6, 3) := dk_154 0 6 (dk_at dksX0_fromBin_0 14 rfl rfl)
theorem dX0_fromBin_17 : decode cX0_fromBin 17 = .ok (.bipush (-2), 2) := dk_16 254 (dk_at dksX0_fromBin_0 17 rfl rfl)
theorem dX0_fromBin_19 : decode cX0_fromBin 19 = .ok (.ireturn, 1) := dk_172 (dk_at dksX0_fromBin_0 19 rfl rfl)
theorem dX0_fromBin_20 : decode cX0_fromBin 20 = .ok (.aload_n 0, 1) := dk_42 (dk_at dksX0_fromBin_0 20 rfl rfl)
theorem dX0_fromBin_21 : decode cX0_fromBin 21 = .ok (.iload_n 1, 1) := dk_27 (dk_at dksX0_fromBin_0 21 rfl rfl)
theorem dX0_fromBin_22 : decode cX0_fromBin 22 = .ok (.iload_n 2, 1) := dk_28 (dk_at dksX0_fromBin_0 22 rfl rfl)
theorem dX0_fromBin_23 : decode cX0_fromBin 23 = .ok (.invokevirtual 348, 3) := dk_182 1 92 (dk_at dksX0_fromBin_1 0 rfl rfl)
theorem dX0_fromBin_26 : decode cX0_fromBin 26 = .ok (.ifCond .le 5, 3) := dk_158 0 5 (dk_at dksX0_fromBin_1 3 rfl rfl)
theorem dX0_fromBin_29 : decode cX0_fromBin 29 = .ok (.iconst (-1), 1) := dk_2 (dk_at dksX0_fromBin_1 6 rfl rfl)
theorem dX0_fromBin_30 : decode cX0_fromBin 30 = .ok (.ireturn, 1) := dk_172 (dk_at dksX0_fromBin_1 7 rfl rfl)
theorem dX0_fromBin_31 : decode cX0_fromBin 31 = .ok (.aload_n 0, 1) := dk_42 (dk_at dksX0_fromBin_1 8 rfl rfl)
theorem dX0_fromBin_32 : decode cX0_fromBin 32 = .ok (.aload_n 0, 1) := dk_42 (dk_at dksX0_fromBin_1 9 rfl rfl)
theorem dX0_fromBin_33 : decode cX0_fromBin 33 = .ok (.getfield 16, 3) := dk_180 0 16 (dk_at dksX0_fromBin_1 10 rfl rfl)
theorem dX0_fromBin_36 : decode cX0_fromBin 36 = .ok (.getfield 92, 3) := dk_180 0 92 (dk_at dksX0_fromBin_1 13 rfl rfl)
theorem dX0_fromBin_39 : decode cX0_fromBin 39 = .ok (.iload_n 1, 1) := dk_27 (dk_at dksX0_fromBin_1 16 rfl rfl)
theorem dX0_fromBin_40 : decode cX0_fromBin 40 = .ok (.invokevirtual 118, 3) := dk_182 0 118 (dk_at dksX0_fromBin_1 17 rfl rfl)
theorem dX0_fromBin_43 : decode cX0_fromBin 43 = .ok (.checkcast 153, 3) := dk_192 0 153 (dk_at dksX0_fromBin_1 20 rfl rfl)
theorem dX0_fromBin_46 : decode cX0_fromBin 46 = .ok (.getfield 334, 3) := dk_180 1 78 (dk_at dksX0_fromBin_2 0 rfl rfl)
theorem dX0_fromBin_49 : decode cX0_fromBin 49 = .ok (.aload_n 0, 1) := dk_42 (dk_at dksX0_fromBin_2 3 rfl rfl)
theorem dX0_fromBin_50 : decode cX0_fromBin 50 = .ok (.getfield 342, 3) := dk_180 1 86 (dk_at dksX0_fromBin_2 4 rfl rfl)
theorem dX0_fromBin_53 : decode cX0_fromBin 53 = .ok (.invokevirtual 338, 3) := dk_182 1 82 (dk_at dksX0_fromBin_2 7 rfl rfl)
theorem dX0_fromBin_56 : decode cX0_fromBin 56 = .ok (.lstore 4, 2) := dk_55 4 (dk_at dksX0_fromBin_2 10 rfl rfl)
theorem dX0_fromBin_58 : decode cX0_fromBin 58 = .ok (.aload_n 0, 1) := dk_42 (dk_at dksX0_fromBin_2 12 rfl rfl)
theorem dX0_fromBin_59 : decode cX0_fromBin 59 = .ok (.getfield 37, 3) := dk_180 0 37 (dk_at dksX0_fromBin_2 13 rfl rfl)
theorem dX0_fromBin_62 : decode cX0_fromBin 62 = .ok (.iload_n 3, 1) := dk_29 (dk_at dksX0_fromBin_2 16 rfl rfl)
theorem dX0_fromBin_63 : decode cX0_fromBin 63 = .ok (.iaload, 1) := dk_46 (dk_at dksX0_fromBin_2 17 rfl rfl)
theorem dX0_fromBin_64 : decode cX0_fromBin 64 = .ok (.ireturn, 1) := dk_172 (dk_at dksX0_fromBin_2 18 rfl rfl)
abbrev cX0_blendMoisture : ByteArray := prog_1_method_59_code
def yX0_blendMoisture : MethodName := ⟨RX0, "blendMoisture", "(II)I"⟩
def dkwX0_blendMoisture_2 : List UInt8 := [172]
abbrev dktX0_blendMoisture_2 : List UInt8 := dkwX0_blendMoisture_2 ++ []
def dkwX0_blendMoisture_1 : List UInt8 := [167, 0, 24, 42, 42, 180, 0, 16, 180, 0, 92, 27, 182, 0, 118, 192, 0, 153, 180, 1, 78, 182, 1, 95]
abbrev dktX0_blendMoisture_1 : List UInt8 := dkwX0_blendMoisture_1 ++ dktX0_blendMoisture_2
def dkwX0_blendMoisture_0 : List UInt8 := [42, 27, 28, 182, 1, 89, 154, 0, 6, 16, 254, 172, 42, 27, 28, 182, 1, 92, 158, 0, 7, 2]
abbrev dktX0_blendMoisture_0 : List UInt8 := dkwX0_blendMoisture_0 ++ dktX0_blendMoisture_1
theorem dksX0_blendMoisture_0 : cX0_blendMoisture.data.toList.drop 0 = dktX0_blendMoisture_0 := by decide +kernel
theorem dksX0_blendMoisture_1 : cX0_blendMoisture.data.toList.drop 22 = dktX0_blendMoisture_1 := dk_seg dksX0_blendMoisture_0 22 rfl rfl
theorem dksX0_blendMoisture_2 : cX0_blendMoisture.data.toList.drop 46 = dktX0_blendMoisture_2 := dk_seg dksX0_blendMoisture_1 24 rfl rfl
theorem dX0_blendMoisture_0 : decode cX0_blendMoisture 0 = .ok (.aload_n 0, 1) := dk_42 (dk_at dksX0_blendMoisture_0 0 rfl rfl)
theorem dX0_blendMoisture_1 : decode cX0_blendMoisture 1 = .ok (.iload_n 1, 1) := dk_27 (dk_at dksX0_blendMoisture_0 1 rfl rfl)
theorem dX0_blendMoisture_2 : decode cX0_blendMoisture 2 = .ok (.iload_n 2, 1) := dk_28 (dk_at dksX0_blendMoisture_0 2 rfl rfl)
theorem dX0_blendMoisture_3 : decode cX0_blendMoisture 3 = .ok (.invokevirtual 345, 3) := dk_182 1 89 (dk_at dksX0_blendMoisture_0 3 rfl rfl)
theorem dX0_blendMoisture_6 : decode cX0_blendMoisture 6 = .ok (.ifCond .ne 6, 3) := dk_154 0 6 (dk_at dksX0_blendMoisture_0 6 rfl rfl)
theorem dX0_blendMoisture_9 : decode cX0_blendMoisture 9 = .ok (.bipush (-2), 2) := dk_16 254 (dk_at dksX0_blendMoisture_0 9 rfl rfl)
theorem dX0_blendMoisture_11 : decode cX0_blendMoisture 11 = .ok (.ireturn, 1) := dk_172 (dk_at dksX0_blendMoisture_0 11 rfl rfl)
theorem dX0_blendMoisture_12 : decode cX0_blendMoisture 12 = .ok (.aload_n 0, 1) := dk_42 (dk_at dksX0_blendMoisture_0 12 rfl rfl)
theorem dX0_blendMoisture_13 : decode cX0_blendMoisture 13 = .ok (.iload_n 1, 1) := dk_27 (dk_at dksX0_blendMoisture_0 13 rfl rfl)
theorem dX0_blendMoisture_14 : decode cX0_blendMoisture 14 = .ok (.iload_n 2, 1) := dk_28 (dk_at dksX0_blendMoisture_0 14 rfl rfl)
theorem dX0_blendMoisture_15 : decode cX0_blendMoisture 15 = .ok (.invokevirtual 348, 3) := dk_182 1 92 (dk_at dksX0_blendMoisture_0 15 rfl rfl)
theorem dX0_blendMoisture_18 : decode cX0_blendMoisture 18 = .ok (.ifCond .le 7, 3) := dk_158 0 7 (dk_at dksX0_blendMoisture_0 18 rfl rfl)
theorem dX0_blendMoisture_21 : decode cX0_blendMoisture 21 = .ok (.iconst (-1), 1) := dk_2 (dk_at dksX0_blendMoisture_0 21 rfl rfl)
theorem dX0_blendMoisture_22 : decode cX0_blendMoisture 22 = .ok (.goto 24, 3) := dk_167 0 24 (dk_at dksX0_blendMoisture_1 0 rfl rfl)
theorem dX0_blendMoisture_25 : decode cX0_blendMoisture 25 = .ok (.aload_n 0, 1) := dk_42 (dk_at dksX0_blendMoisture_1 3 rfl rfl)
theorem dX0_blendMoisture_26 : decode cX0_blendMoisture 26 = .ok (.aload_n 0, 1) := dk_42 (dk_at dksX0_blendMoisture_1 4 rfl rfl)
theorem dX0_blendMoisture_27 : decode cX0_blendMoisture 27 = .ok (.getfield 16, 3) := dk_180 0 16 (dk_at dksX0_blendMoisture_1 5 rfl rfl)
theorem dX0_blendMoisture_30 : decode cX0_blendMoisture 30 = .ok (.getfield 92, 3) := dk_180 0 92 (dk_at dksX0_blendMoisture_1 8 rfl rfl)
theorem dX0_blendMoisture_33 : decode cX0_blendMoisture 33 = .ok (.iload_n 1, 1) := dk_27 (dk_at dksX0_blendMoisture_1 11 rfl rfl)
theorem dX0_blendMoisture_34 : decode cX0_blendMoisture 34 = .ok (.invokevirtual 118, 3) := dk_182 0 118 (dk_at dksX0_blendMoisture_1 12 rfl rfl)
theorem dX0_blendMoisture_37 : decode cX0_blendMoisture 37 = .ok (.checkcast 153, 3) := dk_192 0 153 (dk_at dksX0_blendMoisture_1 15 rfl rfl)
theorem dX0_blendMoisture_40 : decode cX0_blendMoisture 40 = .ok (.getfield 334, 3) := dk_180 1 78 (dk_at dksX0_blendMoisture_1 18 rfl rfl)
theorem dX0_blendMoisture_43 : decode cX0_blendMoisture 43 = .ok (.invokevirtual 351, 3) := dk_182 1 95 (dk_at dksX0_blendMoisture_1 21 rfl rfl)
theorem dX0_blendMoisture_46 : decode cX0_blendMoisture 46 = .ok (.ireturn, 1) := dk_172 (dk_at dksX0_blendMoisture_2 0 rfl rfl)
abbrev cX0_foundMoisture : ByteArray := prog_1_method_58_code
def yX0_foundMoisture : MethodName := ⟨RX0, "foundMoisture", "(I)I"⟩
def dkwX0_foundMoisture_0 : List UInt8 := [42, 27, 42, 180, 1, 86, 182, 1, 82, 27, 133, 97, 10, 101, 27, 133, 109, 136, 172]
abbrev dktX0_foundMoisture_0 : List UInt8 := dkwX0_foundMoisture_0 ++ []
theorem dksX0_foundMoisture_0 : cX0_foundMoisture.data.toList.drop 0 = dktX0_foundMoisture_0 := by decide +kernel
theorem dX0_foundMoisture_0 : decode cX0_foundMoisture 0 = .ok (.aload_n 0, 1) := dk_42 (dk_at dksX0_foundMoisture_0 0 rfl rfl)
theorem dX0_foundMoisture_1 : decode cX0_foundMoisture 1 = .ok (.iload_n 1, 1) := dk_27 (dk_at dksX0_foundMoisture_0 1 rfl rfl)
theorem dX0_foundMoisture_2 : decode cX0_foundMoisture 2 = .ok (.aload_n 0, 1) := dk_42 (dk_at dksX0_foundMoisture_0 2 rfl rfl)
theorem dX0_foundMoisture_3 : decode cX0_foundMoisture 3 = .ok (.getfield 342, 3) := dk_180 1 86 (dk_at dksX0_foundMoisture_0 3 rfl rfl)
theorem dX0_foundMoisture_6 : decode cX0_foundMoisture 6 = .ok (.invokevirtual 338, 3) := dk_182 1 82 (dk_at dksX0_foundMoisture_0 6 rfl rfl)
theorem dX0_foundMoisture_9 : decode cX0_foundMoisture 9 = .ok (.iload_n 1, 1) := dk_27 (dk_at dksX0_foundMoisture_0 9 rfl rfl)
theorem dX0_foundMoisture_10 : decode cX0_foundMoisture 10 = .ok (.i2l, 1) := dk_133 (dk_at dksX0_foundMoisture_0 10 rfl rfl)
theorem dX0_foundMoisture_11 : decode cX0_foundMoisture 11 = .ok (.ladd, 1) := dk_97 (dk_at dksX0_foundMoisture_0 11 rfl rfl)
theorem dX0_foundMoisture_12 : decode cX0_foundMoisture 12 = .ok (.lconst 1, 1) := dk_10 (dk_at dksX0_foundMoisture_0 12 rfl rfl)
theorem dX0_foundMoisture_13 : decode cX0_foundMoisture 13 = .ok (.lsub, 1) := dk_101 (dk_at dksX0_foundMoisture_0 13 rfl rfl)
theorem dX0_foundMoisture_14 : decode cX0_foundMoisture 14 = .ok (.iload_n 1, 1) := dk_27 (dk_at dksX0_foundMoisture_0 14 rfl rfl)
theorem dX0_foundMoisture_15 : decode cX0_foundMoisture 15 = .ok (.i2l, 1) := dk_133 (dk_at dksX0_foundMoisture_0 15 rfl rfl)
theorem dX0_foundMoisture_16 : decode cX0_foundMoisture 16 = .ok (.ldiv, 1) := dk_109 (dk_at dksX0_foundMoisture_0 16 rfl rfl)
theorem dX0_foundMoisture_17 : decode cX0_foundMoisture 17 = .ok (.l2i, 1) := dk_136 (dk_at dksX0_foundMoisture_0 17 rfl rfl)
theorem dX0_foundMoisture_18 : decode cX0_foundMoisture 18 = .ok (.ireturn, 1) := dk_172 (dk_at dksX0_foundMoisture_0 18 rfl rfl)
abbrev cX0_load : ByteArray := prog_1_method_60_code
def yX0_load : MethodName := ⟨RX0, "load", "(II)I"⟩
def dkwX0_load_14 : List UInt8 := [180, 1, 99, 104, 172]
abbrev dktX0_load_14 : List UInt8 := dkwX0_load_14 ++ []
def dkwX0_load_13 : List UInt8 := [25, 7, 180, 1, 78, 133, 25, 7, 180, 1, 99, 133, 105, 97, 181, 0, 205, 25, 7, 180, 1, 78, 25, 7]
abbrev dktX0_load_13 : List UInt8 := dkwX0_load_13 ++ dktX0_load_14
def dkwX0_load_12 : List UInt8 := [180, 0, 16, 89, 180, 0, 195, 25, 7, 180, 1, 78, 96, 181, 0, 195, 42, 180, 0, 16, 89, 180, 0, 205]
abbrev dktX0_load_12 : List UInt8 := dkwX0_load_12 ++ dktX0_load_13
def dkwX0_load_11 : List UInt8 := [180, 0, 16, 180, 0, 92, 27, 182, 0, 118, 192, 0, 153, 58, 7, 25, 7, 21, 4, 181, 1, 98, 42]
abbrev dktX0_load_11 : List UInt8 := dkwX0_load_11 ++ dktX0_load_12
def dkwX0_load_10 : List UInt8 := [21, 7, 46, 21, 8, 42, 180, 0, 37, 21, 7, 46, 108, 182, 0, 246, 132, 7, 1, 167, 255, 145, 42]
abbrev dktX0_load_10 : List UInt8 := dkwX0_load_10 ++ dktX0_load_11
def dkwX0_load_9 : List UInt8 := [46, 182, 1, 14, 54, 8, 42, 180, 0, 16, 180, 0, 89, 28, 182, 0, 118, 192, 0, 128, 42, 180, 0, 37]
abbrev dktX0_load_9 : List UInt8 := dkwX0_load_9 ++ dktX0_load_10
def dkwX0_load_8 : List UInt8 := [182, 0, 239, 42, 180, 0, 16, 180, 0, 82, 21, 7, 182, 0, 118, 192, 0, 107, 42, 180, 0, 37, 21, 7]
abbrev dktX0_load_8 : List UInt8 := dkwX0_load_8 ++ dktX0_load_9
def dkwX0_load_7 : List UInt8 := [158, 0, 86, 42, 180, 0, 16, 42, 180, 0, 16, 28, 42, 180, 0, 37, 21, 7, 46, 182, 0, 232]
abbrev dktX0_load_7 : List UInt8 := dkwX0_load_7 ++ dktX0_load_8
def dkwX0_load_6 : List UInt8 := [54, 7, 21, 7, 42, 180, 0, 16, 180, 0, 82, 182, 0, 86, 162, 0, 102, 42, 180, 0, 37, 21, 7, 46]
abbrev dktX0_load_6 : List UInt8 := dkwX0_load_6 ++ dktX0_load_7
def dkwX0_load_5 : List UInt8 := [132, 7, 1, 167, 255, 217, 42, 22, 5, 182, 0, 235, 154, 0, 6, 16, 251, 172, 42, 182, 0, 104, 3]
abbrev dktX0_load_5 : List UInt8 := dkwX0_load_5 ++ dktX0_load_6
def dkwX0_load_4 : List UInt8 := [162, 0, 30, 22, 5, 42, 180, 0, 16, 28, 42, 180, 0, 37, 21, 7, 46, 182, 0, 232, 133, 97, 55, 5]
abbrev dktX0_load_4 : List UInt8 := dkwX0_load_4 ++ dktX0_load_5
def dkwX0_load_3 : List UInt8 := [182, 1, 95, 54, 4, 9, 55, 5, 3, 54, 7, 21, 7, 42, 180, 0, 16, 180, 0, 82, 182, 0, 86]
abbrev dktX0_load_3 : List UInt8 := dkwX0_load_3 ++ dktX0_load_4
def dkwX0_load_2 : List UInt8 := [29, 182, 0, 229, 172, 42, 42, 180, 0, 16, 180, 0, 92, 27, 182, 0, 118, 192, 0, 153, 180, 1, 78]
abbrev dktX0_load_2 : List UInt8 := dkwX0_load_2 ++ dktX0_load_3
def dkwX0_load_1 : List UInt8 := [192, 0, 153, 182, 0, 155, 154, 0, 6, 16, 252, 172, 42, 27, 28, 182, 1, 92, 62, 29, 158, 0, 9, 42]
abbrev dktX0_load_1 : List UInt8 := dkwX0_load_1 ++ dktX0_load_2
def dkwX0_load_0 : List UInt8 := [42, 27, 28, 182, 1, 89, 154, 0, 6, 16, 254, 172, 42, 180, 0, 16, 180, 0, 92, 27, 182, 0, 118]
abbrev dktX0_load_0 : List UInt8 := dkwX0_load_0 ++ dktX0_load_1
theorem dksX0_load_0 : cX0_load.data.toList.drop 0 = dktX0_load_0 := by decide +kernel
theorem dksX0_load_1 : cX0_load.data.toList.drop 23 = dktX0_load_1 := dk_seg dksX0_load_0 23 rfl rfl
theorem dksX0_load_2 : cX0_load.data.toList.drop 47 = dktX0_load_2 := dk_seg dksX0_load_1 24 rfl rfl
theorem dksX0_load_3 : cX0_load.data.toList.drop 70 = dktX0_load_3 := dk_seg dksX0_load_2 23 rfl rfl
theorem dksX0_load_4 : cX0_load.data.toList.drop 93 = dktX0_load_4 := dk_seg dksX0_load_3 23 rfl rfl
theorem dksX0_load_5 : cX0_load.data.toList.drop 117 = dktX0_load_5 := dk_seg dksX0_load_4 24 rfl rfl
theorem dksX0_load_6 : cX0_load.data.toList.drop 140 = dktX0_load_6 := dk_seg dksX0_load_5 23 rfl rfl
theorem dksX0_load_7 : cX0_load.data.toList.drop 164 = dktX0_load_7 := dk_seg dksX0_load_6 24 rfl rfl
theorem dksX0_load_8 : cX0_load.data.toList.drop 186 = dktX0_load_8 := dk_seg dksX0_load_7 22 rfl rfl
theorem dksX0_load_9 : cX0_load.data.toList.drop 210 = dktX0_load_9 := dk_seg dksX0_load_8 24 rfl rfl
theorem dksX0_load_10 : cX0_load.data.toList.drop 234 = dktX0_load_10 := dk_seg dksX0_load_9 24 rfl rfl
theorem dksX0_load_11 : cX0_load.data.toList.drop 257 = dktX0_load_11 := dk_seg dksX0_load_10 23 rfl rfl
theorem dksX0_load_12 : cX0_load.data.toList.drop 280 = dktX0_load_12 := dk_seg dksX0_load_11 23 rfl rfl
theorem dksX0_load_13 : cX0_load.data.toList.drop 304 = dktX0_load_13 := dk_seg dksX0_load_12 24 rfl rfl
theorem dksX0_load_14 : cX0_load.data.toList.drop 328 = dktX0_load_14 := dk_seg dksX0_load_13 24 rfl rfl
theorem dX0_load_0 : decode cX0_load 0 = .ok (.aload_n 0, 1) := dk_42 (dk_at dksX0_load_0 0 rfl rfl)
theorem dX0_load_1 : decode cX0_load 1 = .ok (.iload_n 1, 1) := dk_27 (dk_at dksX0_load_0 1 rfl rfl)
theorem dX0_load_2 : decode cX0_load 2 = .ok (.iload_n 2, 1) := dk_28 (dk_at dksX0_load_0 2 rfl rfl)
theorem dX0_load_3 : decode cX0_load 3 = .ok (.invokevirtual 345, 3) := dk_182 1 89 (dk_at dksX0_load_0 3 rfl rfl)
theorem dX0_load_6 : decode cX0_load 6 = .ok (.ifCond .ne 6, 3) := dk_154 0 6 (dk_at dksX0_load_0 6 rfl rfl)
theorem dX0_load_9 : decode cX0_load 9 = .ok (.bipush (-2), 2) := dk_16 254 (dk_at dksX0_load_0 9 rfl rfl)
theorem dX0_load_11 : decode cX0_load 11 = .ok (.ireturn, 1) := dk_172 (dk_at dksX0_load_0 11 rfl rfl)
theorem dX0_load_12 : decode cX0_load 12 = .ok (.aload_n 0, 1) := dk_42 (dk_at dksX0_load_0 12 rfl rfl)
theorem dX0_load_13 : decode cX0_load 13 = .ok (.getfield 16, 3) := dk_180 0 16 (dk_at dksX0_load_0 13 rfl rfl)
theorem dX0_load_16 : decode cX0_load 16 = .ok (.getfield 92, 3) := dk_180 0 92 (dk_at dksX0_load_0 16 rfl rfl)
theorem dX0_load_19 : decode cX0_load 19 = .ok (.iload_n 1, 1) := dk_27 (dk_at dksX0_load_0 19 rfl rfl)
theorem dX0_load_20 : decode cX0_load 20 = .ok (.invokevirtual 118, 3) := dk_182 0 118 (dk_at dksX0_load_0 20 rfl rfl)
theorem dX0_load_23 : decode cX0_load 23 = .ok (.checkcast 153, 3) := dk_192 0 153 (dk_at dksX0_load_1 0 rfl rfl)
theorem dX0_load_26 : decode cX0_load 26 = .ok (.invokevirtual 155, 3) := dk_182 0 155 (dk_at dksX0_load_1 3 rfl rfl)
theorem dX0_load_29 : decode cX0_load 29 = .ok (.ifCond .ne 6, 3) := dk_154 0 6 (dk_at dksX0_load_1 6 rfl rfl)
theorem dX0_load_32 : decode cX0_load 32 = .ok (.bipush (-4), 2) := dk_16 252 (dk_at dksX0_load_1 9 rfl rfl)
theorem dX0_load_34 : decode cX0_load 34 = .ok (.ireturn, 1) := dk_172 (dk_at dksX0_load_1 11 rfl rfl)
theorem dX0_load_35 : decode cX0_load 35 = .ok (.aload_n 0, 1) := dk_42 (dk_at dksX0_load_1 12 rfl rfl)
theorem dX0_load_36 : decode cX0_load 36 = .ok (.iload_n 1, 1) := dk_27 (dk_at dksX0_load_1 13 rfl rfl)
theorem dX0_load_37 : decode cX0_load 37 = .ok (.iload_n 2, 1) := dk_28 (dk_at dksX0_load_1 14 rfl rfl)
theorem dX0_load_38 : decode cX0_load 38 = .ok (.invokevirtual 348, 3) := dk_182 1 92 (dk_at dksX0_load_1 15 rfl rfl)
theorem dX0_load_41 : decode cX0_load 41 = .ok (.istore_n 3, 1) := dk_62 (dk_at dksX0_load_1 18 rfl rfl)
theorem dX0_load_42 : decode cX0_load 42 = .ok (.iload_n 3, 1) := dk_29 (dk_at dksX0_load_1 19 rfl rfl)
theorem dX0_load_43 : decode cX0_load 43 = .ok (.ifCond .le 9, 3) := dk_158 0 9 (dk_at dksX0_load_1 20 rfl rfl)
theorem dX0_load_46 : decode cX0_load 46 = .ok (.aload_n 0, 1) := dk_42 (dk_at dksX0_load_1 23 rfl rfl)
theorem dX0_load_47 : decode cX0_load 47 = .ok (.iload_n 3, 1) := dk_29 (dk_at dksX0_load_2 0 rfl rfl)
theorem dX0_load_48 : decode cX0_load 48 = .ok (.invokevirtual 229, 3) := dk_182 0 229 (dk_at dksX0_load_2 1 rfl rfl)
theorem dX0_load_51 : decode cX0_load 51 = .ok (.ireturn, 1) := dk_172 (dk_at dksX0_load_2 4 rfl rfl)
theorem dX0_load_52 : decode cX0_load 52 = .ok (.aload_n 0, 1) := dk_42 (dk_at dksX0_load_2 5 rfl rfl)
theorem dX0_load_53 : decode cX0_load 53 = .ok (.aload_n 0, 1) := dk_42 (dk_at dksX0_load_2 6 rfl rfl)
theorem dX0_load_54 : decode cX0_load 54 = .ok (.getfield 16, 3) := dk_180 0 16 (dk_at dksX0_load_2 7 rfl rfl)
theorem dX0_load_57 : decode cX0_load 57 = .ok (.getfield 92, 3) := dk_180 0 92 (dk_at dksX0_load_2 10 rfl rfl)
theorem dX0_load_60 : decode cX0_load 60 = .ok (.iload_n 1, 1) := dk_27 (dk_at dksX0_load_2 13 rfl rfl)
theorem dX0_load_61 : decode cX0_load 61 = .ok (.invokevirtual 118, 3) := dk_182 0 118 (dk_at dksX0_load_2 14 rfl rfl)
theorem dX0_load_64 : decode cX0_load 64 = .ok (.checkcast 153, 3) := dk_192 0 153 (dk_at dksX0_load_2 17 rfl rfl)
theorem dX0_load_67 : decode cX0_load 67 = .ok (.getfield 334, 3) := dk_180 1 78 (dk_at dksX0_load_2 20 rfl rfl)
theorem dX0_load_70 : decode cX0_load 70 = .ok (.invokevirtual 351, 3) := dk_182 1 95 (dk_at dksX0_load_3 0 rfl rfl)
theorem dX0_load_73 : decode cX0_load 73 = .ok (.istore 4, 2) := dk_54 4 (dk_at dksX0_load_3 3 rfl rfl)
theorem dX0_load_75 : decode cX0_load 75 = .ok (.lconst 0, 1) := dk_9 (dk_at dksX0_load_3 5 rfl rfl)
theorem dX0_load_76 : decode cX0_load 76 = .ok (.lstore 5, 2) := dk_55 5 (dk_at dksX0_load_3 6 rfl rfl)
theorem dX0_load_78 : decode cX0_load 78 = .ok (.iconst 0, 1) := dk_3 (dk_at dksX0_load_3 8 rfl rfl)
theorem dX0_load_79 : decode cX0_load 79 = .ok (.istore 7, 2) := dk_54 7 (dk_at dksX0_load_3 9 rfl rfl)
theorem dX0_load_81 : decode cX0_load 81 = .ok (.iload 7, 2) := dk_21 7 (dk_at dksX0_load_3 11 rfl rfl)
theorem dX0_load_83 : decode cX0_load 83 = .ok (.aload_n 0, 1) := dk_42 (dk_at dksX0_load_3 13 rfl rfl)
theorem dX0_load_84 : decode cX0_load 84 = .ok (.getfield 16, 3) := dk_180 0 16 (dk_at dksX0_load_3 14 rfl rfl)
theorem dX0_load_87 : decode cX0_load 87 = .ok (.getfield 82, 3) := dk_180 0 82 (dk_at dksX0_load_3 17 rfl rfl)
theorem dX0_load_90 : decode cX0_load 90 = .ok (.invokevirtual 86, 3) := dk_182 0 86 (dk_at dksX0_load_3 20 rfl rfl)
theorem dX0_load_93 : decode cX0_load 93 = .ok (.if_icmp .ge 30, 3) := dk_162 0 30 (dk_at dksX0_load_4 0 rfl rfl)
theorem dX0_load_96 : decode cX0_load 96 = .ok (.lload 5, 2) := dk_22 5 (dk_at dksX0_load_4 3 rfl rfl)
theorem dX0_load_98 : decode cX0_load 98 = .ok (.aload_n 0, 1) := dk_42 (dk_at dksX0_load_4 5 rfl rfl)
theorem dX0_load_99 : decode cX0_load 99 = .ok (.getfield 16, 3) := dk_180 0 16 (dk_at dksX0_load_4 6 rfl rfl)
theorem dX0_load_102 : decode cX0_load 102 = .ok (.iload_n 2, 1) := dk_28 (dk_at dksX0_load_4 9 rfl rfl)
theorem dX0_load_103 : decode cX0_load 103 = .ok (.aload_n 0, 1) := dk_42 (dk_at dksX0_load_4 10 rfl rfl)
theorem dX0_load_104 : decode cX0_load 104 = .ok (.getfield 37, 3) := dk_180 0 37 (dk_at dksX0_load_4 11 rfl rfl)
theorem dX0_load_107 : decode cX0_load 107 = .ok (.iload 7, 2) := dk_21 7 (dk_at dksX0_load_4 14 rfl rfl)
theorem dX0_load_109 : decode cX0_load 109 = .ok (.iaload, 1) := dk_46 (dk_at dksX0_load_4 16 rfl rfl)
theorem dX0_load_110 : decode cX0_load 110 = .ok (.invokevirtual 232, 3) := dk_182 0 232 (dk_at dksX0_load_4 17 rfl rfl)
theorem dX0_load_113 : decode cX0_load 113 = .ok (.i2l, 1) := dk_133 (dk_at dksX0_load_4 20 rfl rfl)
theorem dX0_load_114 : decode cX0_load 114 = .ok (.ladd, 1) := dk_97 (dk_at dksX0_load_4 21 rfl rfl)
theorem dX0_load_115 : decode cX0_load 115 = .ok (.lstore 5, 2) := dk_55 5 (dk_at dksX0_load_4 22 rfl rfl)
theorem dX0_load_117 : decode cX0_load 117 = .ok (.iinc 7 1, 3) := dk_132 7 1 (dk_at dksX0_load_5 0 rfl rfl)
theorem dX0_load_120 : decode cX0_load 120 = .ok (.goto (-39), 3) := dk_167 255 217 (dk_at dksX0_load_5 3 rfl rfl)
theorem dX0_load_123 : decode cX0_load 123 = .ok (.aload_n 0, 1) := dk_42 (dk_at dksX0_load_5 6 rfl rfl)
theorem dX0_load_124 : decode cX0_load 124 = .ok (.lload 5, 2) := dk_22 5 (dk_at dksX0_load_5 7 rfl rfl)
theorem dX0_load_126 : decode cX0_load 126 = .ok (.invokevirtual 235, 3) := dk_182 0 235 (dk_at dksX0_load_5 9 rfl rfl)
theorem dX0_load_129 : decode cX0_load 129 = .ok (.ifCond .ne 6, 3) := dk_154 0 6 (dk_at dksX0_load_5 12 rfl rfl)
theorem dX0_load_132 : decode cX0_load 132 = .ok (.bipush (-5), 2) := dk_16 251 (dk_at dksX0_load_5 15 rfl rfl)
theorem dX0_load_134 : decode cX0_load 134 = .ok (.ireturn, 1) := dk_172 (dk_at dksX0_load_5 17 rfl rfl)
theorem dX0_load_135 : decode cX0_load 135 = .ok (.aload_n 0, 1) := dk_42 (dk_at dksX0_load_5 18 rfl rfl)
theorem dX0_load_136 : decode cX0_load 136 = .ok (.invokevirtual 104, 3) := dk_182 0 104 (dk_at dksX0_load_5 19 rfl rfl)
theorem dX0_load_139 : decode cX0_load 139 = .ok (.iconst 0, 1) := dk_3 (dk_at dksX0_load_5 22 rfl rfl)
theorem dX0_load_140 : decode cX0_load 140 = .ok (.istore 7, 2) := dk_54 7 (dk_at dksX0_load_6 0 rfl rfl)
theorem dX0_load_142 : decode cX0_load 142 = .ok (.iload 7, 2) := dk_21 7 (dk_at dksX0_load_6 2 rfl rfl)
theorem dX0_load_144 : decode cX0_load 144 = .ok (.aload_n 0, 1) := dk_42 (dk_at dksX0_load_6 4 rfl rfl)
theorem dX0_load_145 : decode cX0_load 145 = .ok (.getfield 16, 3) := dk_180 0 16 (dk_at dksX0_load_6 5 rfl rfl)
theorem dX0_load_148 : decode cX0_load 148 = .ok (.getfield 82, 3) := dk_180 0 82 (dk_at dksX0_load_6 8 rfl rfl)
theorem dX0_load_151 : decode cX0_load 151 = .ok (.invokevirtual 86, 3) := dk_182 0 86 (dk_at dksX0_load_6 11 rfl rfl)
theorem dX0_load_154 : decode cX0_load 154 = .ok (.if_icmp .ge 102, 3) := dk_162 0 102 (dk_at dksX0_load_6 14 rfl rfl)
theorem dX0_load_157 : decode cX0_load 157 = .ok (.aload_n 0, 1) := dk_42 (dk_at dksX0_load_6 17 rfl rfl)
theorem dX0_load_158 : decode cX0_load 158 = .ok (.getfield 37, 3) := dk_180 0 37 (dk_at dksX0_load_6 18 rfl rfl)
theorem dX0_load_161 : decode cX0_load 161 = .ok (.iload 7, 2) := dk_21 7 (dk_at dksX0_load_6 21 rfl rfl)
theorem dX0_load_163 : decode cX0_load 163 = .ok (.iaload, 1) := dk_46 (dk_at dksX0_load_6 23 rfl rfl)
theorem dX0_load_164 : decode cX0_load 164 = .ok (.ifCond .le 86, 3) := dk_158 0 86 (dk_at dksX0_load_7 0 rfl rfl)
theorem dX0_load_167 : decode cX0_load 167 = .ok (.aload_n 0, 1) := dk_42 (dk_at dksX0_load_7 3 rfl rfl)
theorem dX0_load_168 : decode cX0_load 168 = .ok (.getfield 16, 3) := dk_180 0 16 (dk_at dksX0_load_7 4 rfl rfl)
theorem dX0_load_171 : decode cX0_load 171 = .ok (.aload_n 0, 1) := dk_42 (dk_at dksX0_load_7 7 rfl rfl)
theorem dX0_load_172 : decode cX0_load 172 = .ok (.getfield 16, 3) := dk_180 0 16 (dk_at dksX0_load_7 8 rfl rfl)
theorem dX0_load_175 : decode cX0_load 175 = .ok (.iload_n 2, 1) := dk_28 (dk_at dksX0_load_7 11 rfl rfl)
theorem dX0_load_176 : decode cX0_load 176 = .ok (.aload_n 0, 1) := dk_42 (dk_at dksX0_load_7 12 rfl rfl)
theorem dX0_load_177 : decode cX0_load 177 = .ok (.getfield 37, 3) := dk_180 0 37 (dk_at dksX0_load_7 13 rfl rfl)
theorem dX0_load_180 : decode cX0_load 180 = .ok (.iload 7, 2) := dk_21 7 (dk_at dksX0_load_7 16 rfl rfl)
theorem dX0_load_182 : decode cX0_load 182 = .ok (.iaload, 1) := dk_46 (dk_at dksX0_load_7 18 rfl rfl)
theorem dX0_load_183 : decode cX0_load 183 = .ok (.invokevirtual 232, 3) := dk_182 0 232 (dk_at dksX0_load_7 19 rfl rfl)
theorem dX0_load_186 : decode cX0_load 186 = .ok (.invokevirtual 239, 3) := dk_182 0 239 (dk_at dksX0_load_8 0 rfl rfl)
theorem dX0_load_189 : decode cX0_load 189 = .ok (.aload_n 0, 1) := dk_42 (dk_at dksX0_load_8 3 rfl rfl)
theorem dX0_load_190 : decode cX0_load 190 = .ok (.getfield 16, 3) := dk_180 0 16 (dk_at dksX0_load_8 4 rfl rfl)
theorem dX0_load_193 : decode cX0_load 193 = .ok (.getfield 82, 3) := dk_180 0 82 (dk_at dksX0_load_8 7 rfl rfl)
theorem dX0_load_196 : decode cX0_load 196 = .ok (.iload 7, 2) := dk_21 7 (dk_at dksX0_load_8 10 rfl rfl)
theorem dX0_load_198 : decode cX0_load 198 = .ok (.invokevirtual 118, 3) := dk_182 0 118 (dk_at dksX0_load_8 12 rfl rfl)
theorem dX0_load_201 : decode cX0_load 201 = .ok (.checkcast 107, 3) := dk_192 0 107 (dk_at dksX0_load_8 15 rfl rfl)
theorem dX0_load_204 : decode cX0_load 204 = .ok (.aload_n 0, 1) := dk_42 (dk_at dksX0_load_8 18 rfl rfl)
theorem dX0_load_205 : decode cX0_load 205 = .ok (.getfield 37, 3) := dk_180 0 37 (dk_at dksX0_load_8 19 rfl rfl)
theorem dX0_load_208 : decode cX0_load 208 = .ok (.iload 7, 2) := dk_21 7 (dk_at dksX0_load_8 22 rfl rfl)
theorem dX0_load_210 : decode cX0_load 210 = .ok (.iaload, 1) := dk_46 (dk_at dksX0_load_9 0 rfl rfl)
theorem dX0_load_211 : decode cX0_load 211 = .ok (.invokevirtual 270, 3) := dk_182 1 14 (dk_at dksX0_load_9 1 rfl rfl)
theorem dX0_load_214 : decode cX0_load 214 = .ok (.istore 8, 2) := dk_54 8 (dk_at dksX0_load_9 4 rfl rfl)
theorem dX0_load_216 : decode cX0_load 216 = .ok (.aload_n 0, 1) := dk_42 (dk_at dksX0_load_9 6 rfl rfl)
theorem dX0_load_217 : decode cX0_load 217 = .ok (.getfield 16, 3) := dk_180 0 16 (dk_at dksX0_load_9 7 rfl rfl)
theorem dX0_load_220 : decode cX0_load 220 = .ok (.getfield 89, 3) := dk_180 0 89 (dk_at dksX0_load_9 10 rfl rfl)
theorem dX0_load_223 : decode cX0_load 223 = .ok (.iload_n 2, 1) := dk_28 (dk_at dksX0_load_9 13 rfl rfl)
theorem dX0_load_224 : decode cX0_load 224 = .ok (.invokevirtual 118, 3) := dk_182 0 118 (dk_at dksX0_load_9 14 rfl rfl)
theorem dX0_load_227 : decode cX0_load 227 = .ok (.checkcast 128, 3) := dk_192 0 128 (dk_at dksX0_load_9 17 rfl rfl)
theorem dX0_load_230 : decode cX0_load 230 = .ok (.aload_n 0, 1) := dk_42 (dk_at dksX0_load_9 20 rfl rfl)
theorem dX0_load_231 : decode cX0_load 231 = .ok (.getfield 37, 3) := dk_180 0 37 (dk_at dksX0_load_9 21 rfl rfl)
theorem dX0_load_234 : decode cX0_load 234 = .ok (.iload 7, 2) := dk_21 7 (dk_at dksX0_load_10 0 rfl rfl)
theorem dX0_load_236 : decode cX0_load 236 = .ok (.iaload, 1) := dk_46 (dk_at dksX0_load_10 2 rfl rfl)
theorem dX0_load_237 : decode cX0_load 237 = .ok (.iload 8, 2) := dk_21 8 (dk_at dksX0_load_10 3 rfl rfl)
theorem dX0_load_239 : decode cX0_load 239 = .ok (.aload_n 0, 1) := dk_42 (dk_at dksX0_load_10 5 rfl rfl)
theorem dX0_load_240 : decode cX0_load 240 = .ok (.getfield 37, 3) := dk_180 0 37 (dk_at dksX0_load_10 6 rfl rfl)
theorem dX0_load_243 : decode cX0_load 243 = .ok (.iload 7, 2) := dk_21 7 (dk_at dksX0_load_10 9 rfl rfl)
theorem dX0_load_245 : decode cX0_load 245 = .ok (.iaload, 1) := dk_46 (dk_at dksX0_load_10 11 rfl rfl)
theorem dX0_load_246 : decode cX0_load 246 = .ok (.idiv, 1) := dk_108 (dk_at dksX0_load_10 12 rfl rfl)
theorem dX0_load_247 : decode cX0_load 247 = .ok (.invokevirtual 246, 3) := dk_182 0 246 (dk_at dksX0_load_10 13 rfl rfl)
theorem dX0_load_250 : decode cX0_load 250 = .ok (.iinc 7 1, 3) := dk_132 7 1 (dk_at dksX0_load_10 16 rfl rfl)
theorem dX0_load_253 : decode cX0_load 253 = .ok (.goto (-111), 3) := dk_167 255 145 (dk_at dksX0_load_10 19 rfl rfl)
theorem dX0_load_256 : decode cX0_load 256 = .ok (.aload_n 0, 1) := dk_42 (dk_at dksX0_load_10 22 rfl rfl)
theorem dX0_load_257 : decode cX0_load 257 = .ok (.getfield 16, 3) := dk_180 0 16 (dk_at dksX0_load_11 0 rfl rfl)
theorem dX0_load_260 : decode cX0_load 260 = .ok (.getfield 92, 3) := dk_180 0 92 (dk_at dksX0_load_11 3 rfl rfl)
theorem dX0_load_263 : decode cX0_load 263 = .ok (.iload_n 1, 1) := dk_27 (dk_at dksX0_load_11 6 rfl rfl)
theorem dX0_load_264 : decode cX0_load 264 = .ok (.invokevirtual 118, 3) := dk_182 0 118 (dk_at dksX0_load_11 7 rfl rfl)
theorem dX0_load_267 : decode cX0_load 267 = .ok (.checkcast 153, 3) := dk_192 0 153 (dk_at dksX0_load_11 10 rfl rfl)
theorem dX0_load_270 : decode cX0_load 270 = .ok (.astore 7, 2) := dk_58 7 (dk_at dksX0_load_11 13 rfl rfl)
theorem dX0_load_272 : decode cX0_load 272 = .ok (.aload 7, 2) := dk_25 7 (dk_at dksX0_load_11 15 rfl rfl)
theorem dX0_load_274 : decode cX0_load 274 = .ok (.iload 4, 2) := dk_21 4 (dk_at dksX0_load_11 17 rfl rfl)
theorem dX0_load_276 : decode cX0_load 276 = .ok (.putfield 354, 3) := dk_181 1 98 (dk_at dksX0_load_11 19 rfl rfl)
theorem dX0_load_279 : decode cX0_load 279 = .ok (.aload_n 0, 1) := dk_42 (dk_at dksX0_load_11 22 rfl rfl)
theorem dX0_load_280 : decode cX0_load 280 = .ok (.getfield 16, 3) := dk_180 0 16 (dk_at dksX0_load_12 0 rfl rfl)
theorem dX0_load_283 : decode cX0_load 283 = .ok (.dup, 1) := dk_89 (dk_at dksX0_load_12 3 rfl rfl)
theorem dX0_load_284 : decode cX0_load 284 = .ok (.getfield 195, 3) := dk_180 0 195 (dk_at dksX0_load_12 4 rfl rfl)
theorem dX0_load_287 : decode cX0_load 287 = .ok (.aload 7, 2) := dk_25 7 (dk_at dksX0_load_12 7 rfl rfl)
theorem dX0_load_289 : decode cX0_load 289 = .ok (.getfield 334, 3) := dk_180 1 78 (dk_at dksX0_load_12 9 rfl rfl)
theorem dX0_load_292 : decode cX0_load 292 = .ok (.iadd, 1) := dk_96 (dk_at dksX0_load_12 12 rfl rfl)
theorem dX0_load_293 : decode cX0_load 293 = .ok (.putfield 195, 3) := dk_181 0 195 (dk_at dksX0_load_12 13 rfl rfl)
theorem dX0_load_296 : decode cX0_load 296 = .ok (.aload_n 0, 1) := dk_42 (dk_at dksX0_load_12 16 rfl rfl)
theorem dX0_load_297 : decode cX0_load 297 = .ok (.getfield 16, 3) := dk_180 0 16 (dk_at dksX0_load_12 17 rfl rfl)
theorem dX0_load_300 : decode cX0_load 300 = .ok (.dup, 1) := dk_89 (dk_at dksX0_load_12 20 rfl rfl)
theorem dX0_load_301 : decode cX0_load 301 = .ok (.getfield 205, 3) := dk_180 0 205 (dk_at dksX0_load_12 21 rfl rfl)
theorem dX0_load_304 : decode cX0_load 304 = .ok (.aload 7, 2) := dk_25 7 (dk_at dksX0_load_13 0 rfl rfl)
theorem dX0_load_306 : decode cX0_load 306 = .ok (.getfield 334, 3) := dk_180 1 78 (dk_at dksX0_load_13 2 rfl rfl)
theorem dX0_load_309 : decode cX0_load 309 = .ok (.i2l, 1) := dk_133 (dk_at dksX0_load_13 5 rfl rfl)
theorem dX0_load_310 : decode cX0_load 310 = .ok (.aload 7, 2) := dk_25 7 (dk_at dksX0_load_13 6 rfl rfl)
theorem dX0_load_312 : decode cX0_load 312 = .ok (.getfield 355, 3) := dk_180 1 99 (dk_at dksX0_load_13 8 rfl rfl)
theorem dX0_load_315 : decode cX0_load 315 = .ok (.i2l, 1) := dk_133 (dk_at dksX0_load_13 11 rfl rfl)
theorem dX0_load_316 : decode cX0_load 316 = .ok (.lmul, 1) := dk_105 (dk_at dksX0_load_13 12 rfl rfl)
theorem dX0_load_317 : decode cX0_load 317 = .ok (.ladd, 1) := dk_97 (dk_at dksX0_load_13 13 rfl rfl)
theorem dX0_load_318 : decode cX0_load 318 = .ok (.putfield 205, 3) := dk_181 0 205 (dk_at dksX0_load_13 14 rfl rfl)
theorem dX0_load_321 : decode cX0_load 321 = .ok (.aload 7, 2) := dk_25 7 (dk_at dksX0_load_13 17 rfl rfl)
theorem dX0_load_323 : decode cX0_load 323 = .ok (.getfield 334, 3) := dk_180 1 78 (dk_at dksX0_load_13 19 rfl rfl)
theorem dX0_load_326 : decode cX0_load 326 = .ok (.aload 7, 2) := dk_25 7 (dk_at dksX0_load_13 22 rfl rfl)
theorem dX0_load_328 : decode cX0_load 328 = .ok (.getfield 355, 3) := dk_180 1 99 (dk_at dksX0_load_14 0 rfl rfl)
theorem dX0_load_331 : decode cX0_load 331 = .ok (.imul, 1) := dk_104 (dk_at dksX0_load_14 3 rfl rfl)
theorem dX0_load_332 : decode cX0_load 332 = .ok (.ireturn, 1) := dk_172 (dk_at dksX0_load_14 4 rfl rfl)
abbrev cX0_spoilsIn : ByteArray := prog_1_method_61_code
def yX0_spoilsIn : MethodName := ⟨RX0, "spoilsIn", "(I)I"⟩
def dkwX0_spoilsIn_2 : List UInt8 := [157, 0, 7, 2, 167, 0, 17, 17, 39, 16, 44, 180, 1, 102, 100, 29, 96, 4, 100, 29, 108, 172]
abbrev dktX0_spoilsIn_2 : List UInt8 := dkwX0_spoilsIn_2 ++ []
def dkwX0_spoilsIn_1 : List UInt8 := [192, 0, 107, 77, 44, 182, 0, 159, 153, 0, 5, 3, 172, 44, 182, 1, 34, 17, 0, 150, 100, 62, 29]
abbrev dktX0_spoilsIn_1 : List UInt8 := dkwX0_spoilsIn_1 ++ dktX0_spoilsIn_2
def dkwX0_spoilsIn_0 : List UInt8 := [42, 27, 182, 0, 114, 154, 0, 6, 16, 254, 172, 42, 180, 0, 16, 180, 0, 82, 27, 182, 0, 118]
abbrev dktX0_spoilsIn_0 : List UInt8 := dkwX0_spoilsIn_0 ++ dktX0_spoilsIn_1
theorem dksX0_spoilsIn_0 : cX0_spoilsIn.data.toList.drop 0 = dktX0_spoilsIn_0 := by decide +kernel
theorem dksX0_spoilsIn_1 : cX0_spoilsIn.data.toList.drop 22 = dktX0_spoilsIn_1 := dk_seg dksX0_spoilsIn_0 22 rfl rfl
theorem dksX0_spoilsIn_2 : cX0_spoilsIn.data.toList.drop 45 = dktX0_spoilsIn_2 := dk_seg dksX0_spoilsIn_1 23 rfl rfl
theorem dX0_spoilsIn_0 : decode cX0_spoilsIn 0 = .ok (.aload_n 0, 1) := dk_42 (dk_at dksX0_spoilsIn_0 0 rfl rfl)
theorem dX0_spoilsIn_1 : decode cX0_spoilsIn 1 = .ok (.iload_n 1, 1) := dk_27 (dk_at dksX0_spoilsIn_0 1 rfl rfl)
theorem dX0_spoilsIn_2 : decode cX0_spoilsIn 2 = .ok (.invokevirtual 114, 3) := dk_182 0 114 (dk_at dksX0_spoilsIn_0 2 rfl rfl)
theorem dX0_spoilsIn_5 : decode cX0_spoilsIn 5 = .ok (.ifCond .ne 6, 3) := dk_154 0 6 (dk_at dksX0_spoilsIn_0 5 rfl rfl)
theorem dX0_spoilsIn_8 : decode cX0_spoilsIn 8 = .ok (.bipush (-2), 2) := dk_16 254 (dk_at dksX0_spoilsIn_0 8 rfl rfl)
theorem dX0_spoilsIn_10 : decode cX0_spoilsIn 10 = .ok (.ireturn, 1) := dk_172 (dk_at dksX0_spoilsIn_0 10 rfl rfl)
theorem dX0_spoilsIn_11 : decode cX0_spoilsIn 11 = .ok (.aload_n 0, 1) := dk_42 (dk_at dksX0_spoilsIn_0 11 rfl rfl)
theorem dX0_spoilsIn_12 : decode cX0_spoilsIn 12 = .ok (.getfield 16, 3) := dk_180 0 16 (dk_at dksX0_spoilsIn_0 12 rfl rfl)
theorem dX0_spoilsIn_15 : decode cX0_spoilsIn 15 = .ok (.getfield 82, 3) := dk_180 0 82 (dk_at dksX0_spoilsIn_0 15 rfl rfl)
theorem dX0_spoilsIn_18 : decode cX0_spoilsIn 18 = .ok (.iload_n 1, 1) := dk_27 (dk_at dksX0_spoilsIn_0 18 rfl rfl)
theorem dX0_spoilsIn_19 : decode cX0_spoilsIn 19 = .ok (.invokevirtual 118, 3) := dk_182 0 118 (dk_at dksX0_spoilsIn_0 19 rfl rfl)
theorem dX0_spoilsIn_22 : decode cX0_spoilsIn 22 = .ok (.checkcast 107, 3) := dk_192 0 107 (dk_at dksX0_spoilsIn_1 0 rfl rfl)
theorem dX0_spoilsIn_25 : decode cX0_spoilsIn 25 = .ok (.astore_n 2, 1) := dk_77 (dk_at dksX0_spoilsIn_1 3 rfl rfl)
theorem dX0_spoilsIn_26 : decode cX0_spoilsIn 26 = .ok (.aload_n 2, 1) := dk_44 (dk_at dksX0_spoilsIn_1 4 rfl rfl)
theorem dX0_spoilsIn_27 : decode cX0_spoilsIn 27 = .ok (.invokevirtual 159, 3) := dk_182 0 159 (dk_at dksX0_spoilsIn_1 5 rfl rfl)
theorem dX0_spoilsIn_30 : decode cX0_spoilsIn 30 = .ok (.ifCond .eq 5, 3) := dk_153 0 5 (dk_at dksX0_spoilsIn_1 8 rfl rfl)
theorem dX0_spoilsIn_33 : decode cX0_spoilsIn 33 = .ok (.iconst 0, 1) := dk_3 (dk_at dksX0_spoilsIn_1 11 rfl rfl)
theorem dX0_spoilsIn_34 : decode cX0_spoilsIn 34 = .ok (.ireturn, 1) := dk_172 (dk_at dksX0_spoilsIn_1 12 rfl rfl)
theorem dX0_spoilsIn_35 : decode cX0_spoilsIn 35 = .ok (.aload_n 2, 1) := dk_44 (dk_at dksX0_spoilsIn_1 13 rfl rfl)
theorem dX0_spoilsIn_36 : decode cX0_spoilsIn 36 = .ok (.invokevirtual 290, 3) := dk_182 1 34 (dk_at dksX0_spoilsIn_1 14 rfl rfl)
theorem dX0_spoilsIn_39 : decode cX0_spoilsIn 39 = .ok (.sipush 150, 3) := dk_17 0 150 (dk_at dksX0_spoilsIn_1 17 rfl rfl)
theorem dX0_spoilsIn_42 : decode cX0_spoilsIn 42 = .ok (.isub, 1) := dk_100 (dk_at dksX0_spoilsIn_1 20 rfl rfl)
theorem dX0_spoilsIn_43 : decode cX0_spoilsIn 43 = .ok (.istore_n 3, 1) := dk_62 (dk_at dksX0_spoilsIn_1 21 rfl rfl)
theorem dX0_spoilsIn_44 : decode cX0_spoilsIn 44 = .ok (.iload_n 3, 1) := dk_29 (dk_at dksX0_spoilsIn_1 22 rfl rfl)
theorem dX0_spoilsIn_45 : decode cX0_spoilsIn 45 = .ok (.ifCond .gt 7, 3) := dk_157 0 7 (dk_at dksX0_spoilsIn_2 0 rfl rfl)
theorem dX0_spoilsIn_48 : decode cX0_spoilsIn 48 = .ok (.iconst (-1), 1) := dk_2 (dk_at dksX0_spoilsIn_2 3 rfl rfl)
theorem dX0_spoilsIn_49 : decode cX0_spoilsIn 49 = .ok (.goto 17, 3) := dk_167 0 17 (dk_at dksX0_spoilsIn_2 4 rfl rfl)
theorem dX0_spoilsIn_52 : decode cX0_spoilsIn 52 = .ok (.sipush 10000, 3) := dk_17 39 16 (dk_at dksX0_spoilsIn_2 7 rfl rfl)
theorem dX0_spoilsIn_55 : decode cX0_spoilsIn 55 = .ok (.aload_n 2, 1) := dk_44 (dk_at dksX0_spoilsIn_2 10 rfl rfl)
theorem dX0_spoilsIn_56 : decode cX0_spoilsIn 56 = .ok (.getfield 358, 3) := dk_180 1 102 (dk_at dksX0_spoilsIn_2 11 rfl rfl)
theorem dX0_spoilsIn_59 : decode cX0_spoilsIn 59 = .ok (.isub, 1) := dk_100 (dk_at dksX0_spoilsIn_2 14 rfl rfl)
theorem dX0_spoilsIn_60 : decode cX0_spoilsIn 60 = .ok (.iload_n 3, 1) := dk_29 (dk_at dksX0_spoilsIn_2 15 rfl rfl)
theorem dX0_spoilsIn_61 : decode cX0_spoilsIn 61 = .ok (.iadd, 1) := dk_96 (dk_at dksX0_spoilsIn_2 16 rfl rfl)
theorem dX0_spoilsIn_62 : decode cX0_spoilsIn 62 = .ok (.iconst 1, 1) := dk_4 (dk_at dksX0_spoilsIn_2 17 rfl rfl)
theorem dX0_spoilsIn_63 : decode cX0_spoilsIn 63 = .ok (.isub, 1) := dk_100 (dk_at dksX0_spoilsIn_2 18 rfl rfl)
theorem dX0_spoilsIn_64 : decode cX0_spoilsIn 64 = .ok (.iload_n 3, 1) := dk_29 (dk_at dksX0_spoilsIn_2 19 rfl rfl)
theorem dX0_spoilsIn_65 : decode cX0_spoilsIn 65 = .ok (.idiv, 1) := dk_108 (dk_at dksX0_spoilsIn_2 20 rfl rfl)
theorem dX0_spoilsIn_66 : decode cX0_spoilsIn 66 = .ok (.ireturn, 1) := dk_172 (dk_at dksX0_spoilsIn_2 21 rfl rfl)
abbrev cX0_stepsTo : ByteArray := prog_1_method_62_code
def yX0_stepsTo : MethodName := ⟨RX0, "stepsTo", "(II)I"⟩
def dkwX0_stepsTo_4 : List UInt8 := [167, 0, 4, 2, 172]
abbrev dktX0_stepsTo_4 : List UInt8 := dkwX0_stepsTo_4 ++ []
def dkwX0_stepsTo_3 : List UInt8 := [45, 182, 1, 37, 54, 5, 132, 4, 1, 167, 255, 231, 45, 182, 1, 34, 28, 163, 0, 8, 21, 4]
abbrev dktX0_stepsTo_3 : List UInt8 := dkwX0_stepsTo_3 ++ dktX0_stepsTo_4
def dkwX0_stepsTo_2 : List UInt8 := [154, 0, 5, 2, 172, 3, 54, 4, 21, 4, 17, 0, 200, 162, 0, 23, 45, 182, 1, 34, 28, 164, 0, 15]
abbrev dktX0_stepsTo_2 : List UInt8 := dkwX0_stepsTo_2 ++ dktX0_stepsTo_3
def dkwX0_stepsTo_1 : List UInt8 := [89, 42, 180, 0, 16, 180, 0, 82, 27, 182, 0, 118, 192, 0, 107, 183, 1, 105, 78, 45, 180, 0, 219]
abbrev dktX0_stepsTo_1 : List UInt8 := dkwX0_stepsTo_1 ++ dktX0_stepsTo_2
def dkwX0_stepsTo_0 : List UInt8 := [42, 27, 182, 0, 114, 154, 0, 6, 16, 254, 172, 28, 184, 0, 222, 154, 0, 6, 16, 253, 172, 187, 0, 107]
abbrev dktX0_stepsTo_0 : List UInt8 := dkwX0_stepsTo_0 ++ dktX0_stepsTo_1
theorem dksX0_stepsTo_0 : cX0_stepsTo.data.toList.drop 0 = dktX0_stepsTo_0 := by decide +kernel
theorem dksX0_stepsTo_1 : cX0_stepsTo.data.toList.drop 24 = dktX0_stepsTo_1 := dk_seg dksX0_stepsTo_0 24 rfl rfl
theorem dksX0_stepsTo_2 : cX0_stepsTo.data.toList.drop 47 = dktX0_stepsTo_2 := dk_seg dksX0_stepsTo_1 23 rfl rfl
theorem dksX0_stepsTo_3 : cX0_stepsTo.data.toList.drop 71 = dktX0_stepsTo_3 := dk_seg dksX0_stepsTo_2 24 rfl rfl
theorem dksX0_stepsTo_4 : cX0_stepsTo.data.toList.drop 93 = dktX0_stepsTo_4 := dk_seg dksX0_stepsTo_3 22 rfl rfl
theorem dX0_stepsTo_0 : decode cX0_stepsTo 0 = .ok (.aload_n 0, 1) := dk_42 (dk_at dksX0_stepsTo_0 0 rfl rfl)
theorem dX0_stepsTo_1 : decode cX0_stepsTo 1 = .ok (.iload_n 1, 1) := dk_27 (dk_at dksX0_stepsTo_0 1 rfl rfl)
theorem dX0_stepsTo_2 : decode cX0_stepsTo 2 = .ok (.invokevirtual 114, 3) := dk_182 0 114 (dk_at dksX0_stepsTo_0 2 rfl rfl)
theorem dX0_stepsTo_5 : decode cX0_stepsTo 5 = .ok (.ifCond .ne 6, 3) := dk_154 0 6 (dk_at dksX0_stepsTo_0 5 rfl rfl)
theorem dX0_stepsTo_8 : decode cX0_stepsTo 8 = .ok (.bipush (-2), 2) := dk_16 254 (dk_at dksX0_stepsTo_0 8 rfl rfl)
theorem dX0_stepsTo_10 : decode cX0_stepsTo 10 = .ok (.ireturn, 1) := dk_172 (dk_at dksX0_stepsTo_0 10 rfl rfl)
theorem dX0_stepsTo_11 : decode cX0_stepsTo 11 = .ok (.iload_n 2, 1) := dk_28 (dk_at dksX0_stepsTo_0 11 rfl rfl)
theorem dX0_stepsTo_12 : decode cX0_stepsTo 12 = .ok (.invokestatic 222, 3) := dk_184 0 222 (dk_at dksX0_stepsTo_0 12 rfl rfl)
theorem dX0_stepsTo_15 : decode cX0_stepsTo 15 = .ok (.ifCond .ne 6, 3) := dk_154 0 6 (dk_at dksX0_stepsTo_0 15 rfl rfl)
theorem dX0_stepsTo_18 : decode cX0_stepsTo 18 = .ok (.bipush (-3), 2) := dk_16 253 (dk_at dksX0_stepsTo_0 18 rfl rfl)
theorem dX0_stepsTo_20 : decode cX0_stepsTo 20 = .ok (.ireturn, 1) := dk_172 (dk_at dksX0_stepsTo_0 20 rfl rfl)
theorem dX0_stepsTo_21 : decode cX0_stepsTo 21 = .ok (.new 107, 3) := dk_187 0 107 (dk_at dksX0_stepsTo_0 21 rfl rfl)
theorem dX0_stepsTo_24 : decode cX0_stepsTo 24 = .ok (.dup, 1) := dk_89 (dk_at dksX0_stepsTo_1 0 rfl rfl)
theorem dX0_stepsTo_25 : decode cX0_stepsTo 25 = .ok (.aload_n 0, 1) := dk_42 (dk_at dksX0_stepsTo_1 1 rfl rfl)
theorem dX0_stepsTo_26 : decode cX0_stepsTo 26 = .ok (.getfield 16, 3) := dk_180 0 16 (dk_at dksX0_stepsTo_1 2 rfl rfl)
theorem dX0_stepsTo_29 : decode cX0_stepsTo 29 = .ok (.getfield 82, 3) := dk_180 0 82 (dk_at dksX0_stepsTo_1 5 rfl rfl)
theorem dX0_stepsTo_32 : decode cX0_stepsTo 32 = .ok (.iload_n 1, 1) := dk_27 (dk_at dksX0_stepsTo_1 8 rfl rfl)
theorem dX0_stepsTo_33 : decode cX0_stepsTo 33 = .ok (.invokevirtual 118, 3) := dk_182 0 118 (dk_at dksX0_stepsTo_1 9 rfl rfl)
theorem dX0_stepsTo_36 : decode cX0_stepsTo 36 = .ok (.checkcast 107, 3) := dk_192 0 107 (dk_at dksX0_stepsTo_1 12 rfl rfl)
theorem dX0_stepsTo_39 : decode cX0_stepsTo 39 = .ok (.invokespecial 361, 3) := dk_183 1 105 (dk_at dksX0_stepsTo_1 15 rfl rfl)
theorem dX0_stepsTo_42 : decode cX0_stepsTo 42 = .ok (.astore_n 3, 1) := dk_78 (dk_at dksX0_stepsTo_1 18 rfl rfl)
theorem dX0_stepsTo_43 : decode cX0_stepsTo 43 = .ok (.aload_n 3, 1) := dk_45 (dk_at dksX0_stepsTo_1 19 rfl rfl)
theorem dX0_stepsTo_44 : decode cX0_stepsTo 44 = .ok (.getfield 219, 3) := dk_180 0 219 (dk_at dksX0_stepsTo_1 20 rfl rfl)
theorem dX0_stepsTo_47 : decode cX0_stepsTo 47 = .ok (.ifCond .ne 5, 3) := dk_154 0 5 (dk_at dksX0_stepsTo_2 0 rfl rfl)
theorem dX0_stepsTo_50 : decode cX0_stepsTo 50 = .ok (.iconst (-1), 1) := dk_2 (dk_at dksX0_stepsTo_2 3 rfl rfl)
theorem dX0_stepsTo_51 : decode cX0_stepsTo 51 = .ok (.ireturn, 1) := dk_172 (dk_at dksX0_stepsTo_2 4 rfl rfl)
theorem dX0_stepsTo_52 : decode cX0_stepsTo 52 = .ok (.iconst 0, 1) := dk_3 (dk_at dksX0_stepsTo_2 5 rfl rfl)
theorem dX0_stepsTo_53 : decode cX0_stepsTo 53 = .ok (.istore 4, 2) := dk_54 4 (dk_at dksX0_stepsTo_2 6 rfl rfl)
theorem dX0_stepsTo_55 : decode cX0_stepsTo 55 = .ok (.iload 4, 2) := dk_21 4 (dk_at dksX0_stepsTo_2 8 rfl rfl)
theorem dX0_stepsTo_57 : decode cX0_stepsTo 57 = .ok (.sipush 200, 3) := dk_17 0 200 (dk_at dksX0_stepsTo_2 10 rfl rfl)
theorem dX0_stepsTo_60 : decode cX0_stepsTo 60 = .ok (.if_icmp .ge 23, 3) := dk_162 0 23 (dk_at dksX0_stepsTo_2 13 rfl rfl)
theorem dX0_stepsTo_63 : decode cX0_stepsTo 63 = .ok (.aload_n 3, 1) := dk_45 (dk_at dksX0_stepsTo_2 16 rfl rfl)
theorem dX0_stepsTo_64 : decode cX0_stepsTo 64 = .ok (.invokevirtual 290, 3) := dk_182 1 34 (dk_at dksX0_stepsTo_2 17 rfl rfl)
theorem dX0_stepsTo_67 : decode cX0_stepsTo 67 = .ok (.iload_n 2, 1) := dk_28 (dk_at dksX0_stepsTo_2 20 rfl rfl)
theorem dX0_stepsTo_68 : decode cX0_stepsTo 68 = .ok (.if_icmp .le 15, 3) := dk_164 0 15 (dk_at dksX0_stepsTo_2 21 rfl rfl)
theorem dX0_stepsTo_71 : decode cX0_stepsTo 71 = .ok (.aload_n 3, 1) := dk_45 (dk_at dksX0_stepsTo_3 0 rfl rfl)
theorem dX0_stepsTo_72 : decode cX0_stepsTo 72 = .ok (.invokevirtual 293, 3) := dk_182 1 37 (dk_at dksX0_stepsTo_3 1 rfl rfl)
theorem dX0_stepsTo_75 : decode cX0_stepsTo 75 = .ok (.istore 5, 2) := dk_54 5 (dk_at dksX0_stepsTo_3 4 rfl rfl)
theorem dX0_stepsTo_77 : decode cX0_stepsTo 77 = .ok (.iinc 4 1, 3) := dk_132 4 1 (dk_at dksX0_stepsTo_3 6 rfl rfl)
theorem dX0_stepsTo_80 : decode cX0_stepsTo 80 = .ok (.goto (-25), 3) := dk_167 255 231 (dk_at dksX0_stepsTo_3 9 rfl rfl)
theorem dX0_stepsTo_83 : decode cX0_stepsTo 83 = .ok (.aload_n 3, 1) := dk_45 (dk_at dksX0_stepsTo_3 12 rfl rfl)
theorem dX0_stepsTo_84 : decode cX0_stepsTo 84 = .ok (.invokevirtual 290, 3) := dk_182 1 34 (dk_at dksX0_stepsTo_3 13 rfl rfl)
theorem dX0_stepsTo_87 : decode cX0_stepsTo 87 = .ok (.iload_n 2, 1) := dk_28 (dk_at dksX0_stepsTo_3 16 rfl rfl)
theorem dX0_stepsTo_88 : decode cX0_stepsTo 88 = .ok (.if_icmp .gt 8, 3) := dk_163 0 8 (dk_at dksX0_stepsTo_3 17 rfl rfl)
theorem dX0_stepsTo_91 : decode cX0_stepsTo 91 = .ok (.iload 4, 2) := dk_21 4 (dk_at dksX0_stepsTo_3 20 rfl rfl)
theorem dX0_stepsTo_93 : decode cX0_stepsTo 93 = .ok (.goto 4, 3) := dk_167 0 4 (dk_at dksX0_stepsTo_4 0 rfl rfl)
theorem dX0_stepsTo_96 : decode cX0_stepsTo 96 = .ok (.iconst (-1), 1) := dk_2 (dk_at dksX0_stepsTo_4 3 rfl rfl)
theorem dX0_stepsTo_97 : decode cX0_stepsTo 97 = .ok (.ireturn, 1) := dk_172 (dk_at dksX0_stepsTo_4 4 rfl rfl)
abbrev cX0_bestLeg : ByteArray := prog_1_method_64_code
def yX0_bestLeg : MethodName := ⟨RX0, "bestLeg", "(IIII)I"⟩
def dkwX0_bestLeg_5 : List UInt8 := [132, 7, 1, 167, 255, 171, 21, 6, 172]
abbrev dktX0_bestLeg_5 : List UInt8 := dkwX0_bestLeg_5 ++ []
def dkwX0_bestLeg_4 : List UInt8 := [42, 180, 0, 16, 21, 6, 29, 182, 0, 232, 162, 0, 8, 21, 7, 167, 0, 5, 21, 6, 54, 6]
abbrev dktX0_bestLeg_4 : List UInt8 := dkwX0_bestLeg_4 ++ dktX0_bestLeg_5
def dkwX0_bestLeg_3 : List UInt8 := [3, 54, 8, 21, 8, 153, 0, 37, 21, 6, 2, 159, 0, 26, 42, 180, 0, 16, 21, 7, 29, 182, 0, 232]
abbrev dktX0_bestLeg_3 : List UInt8 := dkwX0_bestLeg_3 ++ dktX0_bestLeg_4
def dkwX0_bestLeg_2 : List UInt8 := [162, 0, 76, 42, 180, 0, 16, 21, 7, 27, 28, 29, 21, 4, 182, 0, 225, 154, 0, 7, 4, 167, 0, 4]
abbrev dktX0_bestLeg_2 : List UInt8 := dkwX0_bestLeg_2 ++ dktX0_bestLeg_3
def dkwX0_bestLeg_1 : List UInt8 := [156, 0, 6, 21, 5, 172, 2, 54, 6, 3, 54, 7, 21, 7, 42, 180, 0, 16, 180, 0, 89, 182, 0, 86]
abbrev dktX0_bestLeg_1 : List UInt8 := dkwX0_bestLeg_1 ++ dktX0_bestLeg_2
def dkwX0_bestLeg_0 : List UInt8 := [42, 27, 182, 0, 114, 153, 0, 13, 28, 29, 21, 4, 184, 1, 108, 167, 0, 5, 16, 254, 54, 5, 21, 5]
abbrev dktX0_bestLeg_0 : List UInt8 := dkwX0_bestLeg_0 ++ dktX0_bestLeg_1
theorem dksX0_bestLeg_0 : cX0_bestLeg.data.toList.drop 0 = dktX0_bestLeg_0 := by decide +kernel
theorem dksX0_bestLeg_1 : cX0_bestLeg.data.toList.drop 24 = dktX0_bestLeg_1 := dk_seg dksX0_bestLeg_0 24 rfl rfl
theorem dksX0_bestLeg_2 : cX0_bestLeg.data.toList.drop 48 = dktX0_bestLeg_2 := dk_seg dksX0_bestLeg_1 24 rfl rfl
theorem dksX0_bestLeg_3 : cX0_bestLeg.data.toList.drop 72 = dktX0_bestLeg_3 := dk_seg dksX0_bestLeg_2 24 rfl rfl
theorem dksX0_bestLeg_4 : cX0_bestLeg.data.toList.drop 96 = dktX0_bestLeg_4 := dk_seg dksX0_bestLeg_3 24 rfl rfl
theorem dksX0_bestLeg_5 : cX0_bestLeg.data.toList.drop 118 = dktX0_bestLeg_5 := dk_seg dksX0_bestLeg_4 22 rfl rfl
theorem dX0_bestLeg_0 : decode cX0_bestLeg 0 = .ok (.aload_n 0, 1) := dk_42 (dk_at dksX0_bestLeg_0 0 rfl rfl)
theorem dX0_bestLeg_1 : decode cX0_bestLeg 1 = .ok (.iload_n 1, 1) := dk_27 (dk_at dksX0_bestLeg_0 1 rfl rfl)
theorem dX0_bestLeg_2 : decode cX0_bestLeg 2 = .ok (.invokevirtual 114, 3) := dk_182 0 114 (dk_at dksX0_bestLeg_0 2 rfl rfl)
theorem dX0_bestLeg_5 : decode cX0_bestLeg 5 = .ok (.ifCond .eq 13, 3) := dk_153 0 13 (dk_at dksX0_bestLeg_0 5 rfl rfl)
theorem dX0_bestLeg_8 : decode cX0_bestLeg 8 = .ok (.iload_n 2, 1) := dk_28 (dk_at dksX0_bestLeg_0 8 rfl rfl)
theorem dX0_bestLeg_9 : decode cX0_bestLeg 9 = .ok (.iload_n 3, 1) := dk_29 (dk_at dksX0_bestLeg_0 9 rfl rfl)
theorem dX0_bestLeg_10 : decode cX0_bestLeg 10 = .ok (.iload 4, 2) := dk_21 4 (dk_at dksX0_bestLeg_0 10 rfl rfl)
theorem dX0_bestLeg_12 : decode cX0_bestLeg 12 = .ok (.invokestatic 364, 3) := dk_184 1 108 (dk_at dksX0_bestLeg_0 12 rfl rfl)
theorem dX0_bestLeg_15 : decode cX0_bestLeg 15 = .ok (.goto 5, 3) := dk_167 0 5 (dk_at dksX0_bestLeg_0 15 rfl rfl)
theorem dX0_bestLeg_18 : decode cX0_bestLeg 18 = .ok (.bipush (-2), 2) := dk_16 254 (dk_at dksX0_bestLeg_0 18 rfl rfl)
theorem dX0_bestLeg_20 : decode cX0_bestLeg 20 = .ok (.istore 5, 2) := dk_54 5 (dk_at dksX0_bestLeg_0 20 rfl rfl)
theorem dX0_bestLeg_22 : decode cX0_bestLeg 22 = .ok (.iload 5, 2) := dk_21 5 (dk_at dksX0_bestLeg_0 22 rfl rfl)
theorem dX0_bestLeg_24 : decode cX0_bestLeg 24 = .ok (.ifCond .ge 6, 3) := dk_156 0 6 (dk_at dksX0_bestLeg_1 0 rfl rfl)
theorem dX0_bestLeg_27 : decode cX0_bestLeg 27 = .ok (.iload 5, 2) := dk_21 5 (dk_at dksX0_bestLeg_1 3 rfl rfl)
theorem dX0_bestLeg_29 : decode cX0_bestLeg 29 = .ok (.ireturn, 1) := dk_172 (dk_at dksX0_bestLeg_1 5 rfl rfl)
theorem dX0_bestLeg_30 : decode cX0_bestLeg 30 = .ok (.iconst (-1), 1) := dk_2 (dk_at dksX0_bestLeg_1 6 rfl rfl)
theorem dX0_bestLeg_31 : decode cX0_bestLeg 31 = .ok (.istore 6, 2) := dk_54 6 (dk_at dksX0_bestLeg_1 7 rfl rfl)
theorem dX0_bestLeg_33 : decode cX0_bestLeg 33 = .ok (.iconst 0, 1) := dk_3 (dk_at dksX0_bestLeg_1 9 rfl rfl)
theorem dX0_bestLeg_34 : decode cX0_bestLeg 34 = .ok (.istore 7, 2) := dk_54 7 (dk_at dksX0_bestLeg_1 10 rfl rfl)
theorem dX0_bestLeg_36 : decode cX0_bestLeg 36 = .ok (.iload 7, 2) := dk_21 7 (dk_at dksX0_bestLeg_1 12 rfl rfl)
theorem dX0_bestLeg_38 : decode cX0_bestLeg 38 = .ok (.aload_n 0, 1) := dk_42 (dk_at dksX0_bestLeg_1 14 rfl rfl)
theorem dX0_bestLeg_39 : decode cX0_bestLeg 39 = .ok (.getfield 16, 3) := dk_180 0 16 (dk_at dksX0_bestLeg_1 15 rfl rfl)
theorem dX0_bestLeg_42 : decode cX0_bestLeg 42 = .ok (.getfield 89, 3) := dk_180 0 89 (dk_at dksX0_bestLeg_1 18 rfl rfl)
theorem dX0_bestLeg_45 : decode cX0_bestLeg 45 = .ok (.invokevirtual 86, 3) := dk_182 0 86 (dk_at dksX0_bestLeg_1 21 rfl rfl)
theorem dX0_bestLeg_48 : decode cX0_bestLeg 48 = .ok (.if_icmp .ge 76, 3) := dk_162 0 76 (dk_at dksX0_bestLeg_2 0 rfl rfl)
theorem dX0_bestLeg_51 : decode cX0_bestLeg 51 = .ok (.aload_n 0, 1) := dk_42 (dk_at dksX0_bestLeg_2 3 rfl rfl)
theorem dX0_bestLeg_52 : decode cX0_bestLeg 52 = .ok (.getfield 16, 3) := dk_180 0 16 (dk_at dksX0_bestLeg_2 4 rfl rfl)
theorem dX0_bestLeg_55 : decode cX0_bestLeg 55 = .ok (.iload 7, 2) := dk_21 7 (dk_at dksX0_bestLeg_2 7 rfl rfl)
theorem dX0_bestLeg_57 : decode cX0_bestLeg 57 = .ok (.iload_n 1, 1) := dk_27 (dk_at dksX0_bestLeg_2 9 rfl rfl)
theorem dX0_bestLeg_58 : decode cX0_bestLeg 58 = .ok (.iload_n 2, 1) := dk_28 (dk_at dksX0_bestLeg_2 10 rfl rfl)
theorem dX0_bestLeg_59 : decode cX0_bestLeg 59 = .ok (.iload_n 3, 1) := dk_29 (dk_at dksX0_bestLeg_2 11 rfl rfl)
theorem dX0_bestLeg_60 : decode cX0_bestLeg 60 = .ok (.iload 4, 2) := dk_21 4 (dk_at dksX0_bestLeg_2 12 rfl rfl)
theorem dX0_bestLeg_62 : decode cX0_bestLeg 62 = .ok (.invokevirtual 225, 3) := dk_182 0 225 (dk_at dksX0_bestLeg_2 14 rfl rfl)
theorem dX0_bestLeg_65 : decode cX0_bestLeg 65 = .ok (.ifCond .ne 7, 3) := dk_154 0 7 (dk_at dksX0_bestLeg_2 17 rfl rfl)
theorem dX0_bestLeg_68 : decode cX0_bestLeg 68 = .ok (.iconst 1, 1) := dk_4 (dk_at dksX0_bestLeg_2 20 rfl rfl)
theorem dX0_bestLeg_69 : decode cX0_bestLeg 69 = .ok (.goto 4, 3) := dk_167 0 4 (dk_at dksX0_bestLeg_2 21 rfl rfl)
theorem dX0_bestLeg_72 : decode cX0_bestLeg 72 = .ok (.iconst 0, 1) := dk_3 (dk_at dksX0_bestLeg_3 0 rfl rfl)
theorem dX0_bestLeg_73 : decode cX0_bestLeg 73 = .ok (.istore 8, 2) := dk_54 8 (dk_at dksX0_bestLeg_3 1 rfl rfl)
theorem dX0_bestLeg_75 : decode cX0_bestLeg 75 = .ok (.iload 8, 2) := dk_21 8 (dk_at dksX0_bestLeg_3 3 rfl rfl)
theorem dX0_bestLeg_77 : decode cX0_bestLeg 77 = .ok (.ifCond .eq 37, 3) := dk_153 0 37 (dk_at dksX0_bestLeg_3 5 rfl rfl)
theorem dX0_bestLeg_80 : decode cX0_bestLeg 80 = .ok (.iload 6, 2) := dk_21 6 (dk_at dksX0_bestLeg_3 8 rfl rfl)
theorem dX0_bestLeg_82 : decode cX0_bestLeg 82 = .ok (.iconst (-1), 1) := dk_2 (dk_at dksX0_bestLeg_3 10 rfl rfl)
theorem dX0_bestLeg_83 : decode cX0_bestLeg 83 = .ok (.if_icmp .eq 26, 3) := dk_159 0 26 (dk_at dksX0_bestLeg_3 11 rfl rfl)
theorem dX0_bestLeg_86 : decode cX0_bestLeg 86 = .ok (.aload_n 0, 1) := dk_42 (dk_at dksX0_bestLeg_3 14 rfl rfl)
theorem dX0_bestLeg_87 : decode cX0_bestLeg 87 = .ok (.getfield 16, 3) := dk_180 0 16 (dk_at dksX0_bestLeg_3 15 rfl rfl)
theorem dX0_bestLeg_90 : decode cX0_bestLeg 90 = .ok (.iload 7, 2) := dk_21 7 (dk_at dksX0_bestLeg_3 18 rfl rfl)
theorem dX0_bestLeg_92 : decode cX0_bestLeg 92 = .ok (.iload_n 3, 1) := dk_29 (dk_at dksX0_bestLeg_3 20 rfl rfl)
theorem dX0_bestLeg_93 : decode cX0_bestLeg 93 = .ok (.invokevirtual 232, 3) := dk_182 0 232 (dk_at dksX0_bestLeg_3 21 rfl rfl)
theorem dX0_bestLeg_96 : decode cX0_bestLeg 96 = .ok (.aload_n 0, 1) := dk_42 (dk_at dksX0_bestLeg_4 0 rfl rfl)
theorem dX0_bestLeg_97 : decode cX0_bestLeg 97 = .ok (.getfield 16, 3) := dk_180 0 16 (dk_at dksX0_bestLeg_4 1 rfl rfl)
theorem dX0_bestLeg_100 : decode cX0_bestLeg 100 = .ok (.iload 6, 2) := dk_21 6 (dk_at dksX0_bestLeg_4 4 rfl rfl)
theorem dX0_bestLeg_102 : decode cX0_bestLeg 102 = .ok (.iload_n 3, 1) := dk_29 (dk_at dksX0_bestLeg_4 6 rfl rfl)
theorem dX0_bestLeg_103 : decode cX0_bestLeg 103 = .ok (.invokevirtual 232, 3) := dk_182 0 232 (dk_at dksX0_bestLeg_4 7 rfl rfl)
theorem dX0_bestLeg_106 : decode cX0_bestLeg 106 = .ok (.if_icmp .ge 8, 3) := dk_162 0 8 (dk_at dksX0_bestLeg_4 10 rfl rfl)
theorem dX0_bestLeg_109 : decode cX0_bestLeg 109 = .ok (.iload 7, 2) := dk_21 7 (dk_at dksX0_bestLeg_4 13 rfl rfl)
theorem dX0_bestLeg_111 : decode cX0_bestLeg 111 = .ok (.goto 5, 3) := dk_167 0 5 (dk_at dksX0_bestLeg_4 15 rfl rfl)
theorem dX0_bestLeg_114 : decode cX0_bestLeg 114 = .ok (.iload 6, 2) := dk_21 6 (dk_at dksX0_bestLeg_4 18 rfl rfl)
theorem dX0_bestLeg_116 : decode cX0_bestLeg 116 = .ok (.istore 6, 2) := dk_54 6 (dk_at dksX0_bestLeg_4 20 rfl rfl)
theorem dX0_bestLeg_118 : decode cX0_bestLeg 118 = .ok (.iinc 7 1, 3) := dk_132 7 1 (dk_at dksX0_bestLeg_5 0 rfl rfl)
theorem dX0_bestLeg_121 : decode cX0_bestLeg 121 = .ok (.goto (-85), 3) := dk_167 255 171 (dk_at dksX0_bestLeg_5 3 rfl rfl)
theorem dX0_bestLeg_124 : decode cX0_bestLeg 124 = .ok (.iload 6, 2) := dk_21 6 (dk_at dksX0_bestLeg_5 6 rfl rfl)
theorem dX0_bestLeg_126 : decode cX0_bestLeg 126 = .ok (.ireturn, 1) := dk_172 (dk_at dksX0_bestLeg_5 8 rfl rfl)
abbrev cX0_truckFault : ByteArray := prog_1_method_63_code
def yX0_truckFault : MethodName := ⟨RX0, "truckFault", "(III)I"⟩
def dkwX0_truckFault_1 : List UInt8 := [184, 0, 222, 153, 0, 7, 3, 167, 0, 5, 16, 253, 172]
abbrev dktX0_truckFault_1 : List UInt8 := dkwX0_truckFault_1 ++ []
def dkwX0_truckFault_0 : List UInt8 := [26, 184, 0, 144, 154, 0, 6, 16, 254, 172, 27, 4, 17, 19, 136, 184, 0, 1, 153, 0, 14, 28]
abbrev dktX0_truckFault_0 : List UInt8 := dkwX0_truckFault_0 ++ dktX0_truckFault_1
theorem dksX0_truckFault_0 : cX0_truckFault.data.toList.drop 0 = dktX0_truckFault_0 := by decide +kernel
theorem dksX0_truckFault_1 : cX0_truckFault.data.toList.drop 22 = dktX0_truckFault_1 := dk_seg dksX0_truckFault_0 22 rfl rfl
theorem dX0_truckFault_0 : decode cX0_truckFault 0 = .ok (.iload_n 0, 1) := dk_26 (dk_at dksX0_truckFault_0 0 rfl rfl)
theorem dX0_truckFault_1 : decode cX0_truckFault 1 = .ok (.invokestatic 144, 3) := dk_184 0 144 (dk_at dksX0_truckFault_0 1 rfl rfl)
theorem dX0_truckFault_4 : decode cX0_truckFault 4 = .ok (.ifCond .ne 6, 3) := dk_154 0 6 (dk_at dksX0_truckFault_0 4 rfl rfl)
theorem dX0_truckFault_7 : decode cX0_truckFault 7 = .ok (.bipush (-2), 2) := dk_16 254 (dk_at dksX0_truckFault_0 7 rfl rfl)
theorem dX0_truckFault_9 : decode cX0_truckFault 9 = .ok (.ireturn, 1) := dk_172 (dk_at dksX0_truckFault_0 9 rfl rfl)
theorem dX0_truckFault_10 : decode cX0_truckFault 10 = .ok (.iload_n 1, 1) := dk_27 (dk_at dksX0_truckFault_0 10 rfl rfl)
theorem dX0_truckFault_11 : decode cX0_truckFault 11 = .ok (.iconst 1, 1) := dk_4 (dk_at dksX0_truckFault_0 11 rfl rfl)
theorem dX0_truckFault_12 : decode cX0_truckFault 12 = .ok (.sipush 5000, 3) := dk_17 19 136 (dk_at dksX0_truckFault_0 12 rfl rfl)
theorem dX0_truckFault_15 : decode cX0_truckFault 15 = .ok (.invokestatic 1, 3) := dk_184 0 1 (dk_at dksX0_truckFault_0 15 rfl rfl)
theorem dX0_truckFault_18 : decode cX0_truckFault 18 = .ok (.ifCond .eq 14, 3) := dk_153 0 14 (dk_at dksX0_truckFault_0 18 rfl rfl)
theorem dX0_truckFault_21 : decode cX0_truckFault 21 = .ok (.iload_n 2, 1) := dk_28 (dk_at dksX0_truckFault_0 21 rfl rfl)
theorem dX0_truckFault_22 : decode cX0_truckFault 22 = .ok (.invokestatic 222, 3) := dk_184 0 222 (dk_at dksX0_truckFault_1 0 rfl rfl)
theorem dX0_truckFault_25 : decode cX0_truckFault 25 = .ok (.ifCond .eq 7, 3) := dk_153 0 7 (dk_at dksX0_truckFault_1 3 rfl rfl)
theorem dX0_truckFault_28 : decode cX0_truckFault 28 = .ok (.iconst 0, 1) := dk_3 (dk_at dksX0_truckFault_1 6 rfl rfl)
theorem dX0_truckFault_29 : decode cX0_truckFault 29 = .ok (.goto 5, 3) := dk_167 0 5 (dk_at dksX0_truckFault_1 7 rfl rfl)
theorem dX0_truckFault_32 : decode cX0_truckFault 32 = .ok (.bipush (-3), 2) := dk_16 253 (dk_at dksX0_truckFault_1 10 rfl rfl)
theorem dX0_truckFault_34 : decode cX0_truckFault 34 = .ok (.ireturn, 1) := dk_172 (dk_at dksX0_truckFault_1 12 rfl rfl)
abbrev cX0_bestBin : ByteArray := prog_1_method_66_code
def yX0_bestBin : MethodName := ⟨RX0, "bestBin", "(IIII)I"⟩
def dkwX0_bestBin_4 : List UInt8 := [182, 1, 115, 162, 0, 8, 21, 7, 167, 0, 5, 21, 6, 54, 6, 132, 7, 1, 167, 255, 179, 21, 6, 172]
abbrev dktX0_bestBin_4 : List UInt8 := dkwX0_bestBin_4 ++ []
def dkwX0_bestBin_3 : List UInt8 := [3, 54, 8, 21, 8, 153, 0, 29, 21, 6, 2, 159, 0, 18, 42, 21, 7, 182, 1, 115, 42, 21, 6]
abbrev dktX0_bestBin_3 : List UInt8 := dkwX0_bestBin_3 ++ dktX0_bestBin_4
def dkwX0_bestBin_2 : List UInt8 := [162, 0, 68, 42, 180, 0, 16, 27, 21, 7, 28, 29, 21, 4, 182, 0, 225, 154, 0, 7, 4, 167, 0, 4]
abbrev dktX0_bestBin_2 : List UInt8 := dkwX0_bestBin_2 ++ dktX0_bestBin_3
def dkwX0_bestBin_1 : List UInt8 := [156, 0, 6, 21, 5, 172, 2, 54, 6, 3, 54, 7, 21, 7, 42, 180, 0, 16, 180, 0, 82, 182, 0, 86]
abbrev dktX0_bestBin_1 : List UInt8 := dkwX0_bestBin_1 ++ dktX0_bestBin_2
def dkwX0_bestBin_0 : List UInt8 := [42, 27, 182, 0, 131, 153, 0, 13, 28, 29, 21, 4, 184, 1, 108, 167, 0, 5, 16, 254, 54, 5, 21, 5]
abbrev dktX0_bestBin_0 : List UInt8 := dkwX0_bestBin_0 ++ dktX0_bestBin_1
theorem dksX0_bestBin_0 : cX0_bestBin.data.toList.drop 0 = dktX0_bestBin_0 := by decide +kernel
theorem dksX0_bestBin_1 : cX0_bestBin.data.toList.drop 24 = dktX0_bestBin_1 := dk_seg dksX0_bestBin_0 24 rfl rfl
theorem dksX0_bestBin_2 : cX0_bestBin.data.toList.drop 48 = dktX0_bestBin_2 := dk_seg dksX0_bestBin_1 24 rfl rfl
theorem dksX0_bestBin_3 : cX0_bestBin.data.toList.drop 72 = dktX0_bestBin_3 := dk_seg dksX0_bestBin_2 24 rfl rfl
theorem dksX0_bestBin_4 : cX0_bestBin.data.toList.drop 95 = dktX0_bestBin_4 := dk_seg dksX0_bestBin_3 23 rfl rfl
theorem dX0_bestBin_0 : decode cX0_bestBin 0 = .ok (.aload_n 0, 1) := dk_42 (dk_at dksX0_bestBin_0 0 rfl rfl)
theorem dX0_bestBin_1 : decode cX0_bestBin 1 = .ok (.iload_n 1, 1) := dk_27 (dk_at dksX0_bestBin_0 1 rfl rfl)
theorem dX0_bestBin_2 : decode cX0_bestBin 2 = .ok (.invokevirtual 131, 3) := dk_182 0 131 (dk_at dksX0_bestBin_0 2 rfl rfl)
theorem dX0_bestBin_5 : decode cX0_bestBin 5 = .ok (.ifCond .eq 13, 3) := dk_153 0 13 (dk_at dksX0_bestBin_0 5 rfl rfl)
theorem dX0_bestBin_8 : decode cX0_bestBin 8 = .ok (.iload_n 2, 1) := dk_28 (dk_at dksX0_bestBin_0 8 rfl rfl)
theorem dX0_bestBin_9 : decode cX0_bestBin 9 = .ok (.iload_n 3, 1) := dk_29 (dk_at dksX0_bestBin_0 9 rfl rfl)
theorem dX0_bestBin_10 : decode cX0_bestBin 10 = .ok (.iload 4, 2) := dk_21 4 (dk_at dksX0_bestBin_0 10 rfl rfl)
theorem dX0_bestBin_12 : decode cX0_bestBin 12 = .ok (.invokestatic 364, 3) := dk_184 1 108 (dk_at dksX0_bestBin_0 12 rfl rfl)
theorem dX0_bestBin_15 : decode cX0_bestBin 15 = .ok (.goto 5, 3) := dk_167 0 5 (dk_at dksX0_bestBin_0 15 rfl rfl)
theorem dX0_bestBin_18 : decode cX0_bestBin 18 = .ok (.bipush (-2), 2) := dk_16 254 (dk_at dksX0_bestBin_0 18 rfl rfl)
theorem dX0_bestBin_20 : decode cX0_bestBin 20 = .ok (.istore 5, 2) := dk_54 5 (dk_at dksX0_bestBin_0 20 rfl rfl)
theorem dX0_bestBin_22 : decode cX0_bestBin 22 = .ok (.iload 5, 2) := dk_21 5 (dk_at dksX0_bestBin_0 22 rfl rfl)
theorem dX0_bestBin_24 : decode cX0_bestBin 24 = .ok (.ifCond .ge 6, 3) := dk_156 0 6 (dk_at dksX0_bestBin_1 0 rfl rfl)
theorem dX0_bestBin_27 : decode cX0_bestBin 27 = .ok (.iload 5, 2) := dk_21 5 (dk_at dksX0_bestBin_1 3 rfl rfl)
theorem dX0_bestBin_29 : decode cX0_bestBin 29 = .ok (.ireturn, 1) := dk_172 (dk_at dksX0_bestBin_1 5 rfl rfl)
theorem dX0_bestBin_30 : decode cX0_bestBin 30 = .ok (.iconst (-1), 1) := dk_2 (dk_at dksX0_bestBin_1 6 rfl rfl)
theorem dX0_bestBin_31 : decode cX0_bestBin 31 = .ok (.istore 6, 2) := dk_54 6 (dk_at dksX0_bestBin_1 7 rfl rfl)
theorem dX0_bestBin_33 : decode cX0_bestBin 33 = .ok (.iconst 0, 1) := dk_3 (dk_at dksX0_bestBin_1 9 rfl rfl)
theorem dX0_bestBin_34 : decode cX0_bestBin 34 = .ok (.istore 7, 2) := dk_54 7 (dk_at dksX0_bestBin_1 10 rfl rfl)
theorem dX0_bestBin_36 : decode cX0_bestBin 36 = .ok (.iload 7, 2) := dk_21 7 (dk_at dksX0_bestBin_1 12 rfl rfl)
theorem dX0_bestBin_38 : decode cX0_bestBin 38 = .ok (.aload_n 0, 1) := dk_42 (dk_at dksX0_bestBin_1 14 rfl rfl)
theorem dX0_bestBin_39 : decode cX0_bestBin 39 = .ok (.getfield 16, 3) := dk_180 0 16 (dk_at dksX0_bestBin_1 15 rfl rfl)
theorem dX0_bestBin_42 : decode cX0_bestBin 42 = .ok (.getfield 82, 3) := dk_180 0 82 (dk_at dksX0_bestBin_1 18 rfl rfl)
theorem dX0_bestBin_45 : decode cX0_bestBin 45 = .ok (.invokevirtual 86, 3) := dk_182 0 86 (dk_at dksX0_bestBin_1 21 rfl rfl)
theorem dX0_bestBin_48 : decode cX0_bestBin 48 = .ok (.if_icmp .ge 68, 3) := dk_162 0 68 (dk_at dksX0_bestBin_2 0 rfl rfl)
theorem dX0_bestBin_51 : decode cX0_bestBin 51 = .ok (.aload_n 0, 1) := dk_42 (dk_at dksX0_bestBin_2 3 rfl rfl)
theorem dX0_bestBin_52 : decode cX0_bestBin 52 = .ok (.getfield 16, 3) := dk_180 0 16 (dk_at dksX0_bestBin_2 4 rfl rfl)
theorem dX0_bestBin_55 : decode cX0_bestBin 55 = .ok (.iload_n 1, 1) := dk_27 (dk_at dksX0_bestBin_2 7 rfl rfl)
theorem dX0_bestBin_56 : decode cX0_bestBin 56 = .ok (.iload 7, 2) := dk_21 7 (dk_at dksX0_bestBin_2 8 rfl rfl)
theorem dX0_bestBin_58 : decode cX0_bestBin 58 = .ok (.iload_n 2, 1) := dk_28 (dk_at dksX0_bestBin_2 10 rfl rfl)
theorem dX0_bestBin_59 : decode cX0_bestBin 59 = .ok (.iload_n 3, 1) := dk_29 (dk_at dksX0_bestBin_2 11 rfl rfl)
theorem dX0_bestBin_60 : decode cX0_bestBin 60 = .ok (.iload 4, 2) := dk_21 4 (dk_at dksX0_bestBin_2 12 rfl rfl)
theorem dX0_bestBin_62 : decode cX0_bestBin 62 = .ok (.invokevirtual 225, 3) := dk_182 0 225 (dk_at dksX0_bestBin_2 14 rfl rfl)
theorem dX0_bestBin_65 : decode cX0_bestBin 65 = .ok (.ifCond .ne 7, 3) := dk_154 0 7 (dk_at dksX0_bestBin_2 17 rfl rfl)
theorem dX0_bestBin_68 : decode cX0_bestBin 68 = .ok (.iconst 1, 1) := dk_4 (dk_at dksX0_bestBin_2 20 rfl rfl)
theorem dX0_bestBin_69 : decode cX0_bestBin 69 = .ok (.goto 4, 3) := dk_167 0 4 (dk_at dksX0_bestBin_2 21 rfl rfl)
theorem dX0_bestBin_72 : decode cX0_bestBin 72 = .ok (.iconst 0, 1) := dk_3 (dk_at dksX0_bestBin_3 0 rfl rfl)
theorem dX0_bestBin_73 : decode cX0_bestBin 73 = .ok (.istore 8, 2) := dk_54 8 (dk_at dksX0_bestBin_3 1 rfl rfl)
theorem dX0_bestBin_75 : decode cX0_bestBin 75 = .ok (.iload 8, 2) := dk_21 8 (dk_at dksX0_bestBin_3 3 rfl rfl)
theorem dX0_bestBin_77 : decode cX0_bestBin 77 = .ok (.ifCond .eq 29, 3) := dk_153 0 29 (dk_at dksX0_bestBin_3 5 rfl rfl)
theorem dX0_bestBin_80 : decode cX0_bestBin 80 = .ok (.iload 6, 2) := dk_21 6 (dk_at dksX0_bestBin_3 8 rfl rfl)
theorem dX0_bestBin_82 : decode cX0_bestBin 82 = .ok (.iconst (-1), 1) := dk_2 (dk_at dksX0_bestBin_3 10 rfl rfl)
theorem dX0_bestBin_83 : decode cX0_bestBin 83 = .ok (.if_icmp .eq 18, 3) := dk_159 0 18 (dk_at dksX0_bestBin_3 11 rfl rfl)
theorem dX0_bestBin_86 : decode cX0_bestBin 86 = .ok (.aload_n 0, 1) := dk_42 (dk_at dksX0_bestBin_3 14 rfl rfl)
theorem dX0_bestBin_87 : decode cX0_bestBin 87 = .ok (.iload 7, 2) := dk_21 7 (dk_at dksX0_bestBin_3 15 rfl rfl)
theorem dX0_bestBin_89 : decode cX0_bestBin 89 = .ok (.invokevirtual 371, 3) := dk_182 1 115 (dk_at dksX0_bestBin_3 17 rfl rfl)
theorem dX0_bestBin_92 : decode cX0_bestBin 92 = .ok (.aload_n 0, 1) := dk_42 (dk_at dksX0_bestBin_3 20 rfl rfl)
theorem dX0_bestBin_93 : decode cX0_bestBin 93 = .ok (.iload 6, 2) := dk_21 6 (dk_at dksX0_bestBin_3 21 rfl rfl)
theorem dX0_bestBin_95 : decode cX0_bestBin 95 = .ok (.invokevirtual 371, 3) := dk_182 1 115 (dk_at dksX0_bestBin_4 0 rfl rfl)
theorem dX0_bestBin_98 : decode cX0_bestBin 98 = .ok (.if_icmp .ge 8, 3) := dk_162 0 8 (dk_at dksX0_bestBin_4 3 rfl rfl)
theorem dX0_bestBin_101 : decode cX0_bestBin 101 = .ok (.iload 7, 2) := dk_21 7 (dk_at dksX0_bestBin_4 6 rfl rfl)
theorem dX0_bestBin_103 : decode cX0_bestBin 103 = .ok (.goto 5, 3) := dk_167 0 5 (dk_at dksX0_bestBin_4 8 rfl rfl)
theorem dX0_bestBin_106 : decode cX0_bestBin 106 = .ok (.iload 6, 2) := dk_21 6 (dk_at dksX0_bestBin_4 11 rfl rfl)
theorem dX0_bestBin_108 : decode cX0_bestBin 108 = .ok (.istore 6, 2) := dk_54 6 (dk_at dksX0_bestBin_4 13 rfl rfl)
theorem dX0_bestBin_110 : decode cX0_bestBin 110 = .ok (.iinc 7 1, 3) := dk_132 7 1 (dk_at dksX0_bestBin_4 15 rfl rfl)
theorem dX0_bestBin_113 : decode cX0_bestBin 113 = .ok (.goto (-77), 3) := dk_167 255 179 (dk_at dksX0_bestBin_4 18 rfl rfl)
theorem dX0_bestBin_116 : decode cX0_bestBin 116 = .ok (.iload 6, 2) := dk_21 6 (dk_at dksX0_bestBin_4 21 rfl rfl)
theorem dX0_bestBin_118 : decode cX0_bestBin 118 = .ok (.ireturn, 1) := dk_172 (dk_at dksX0_bestBin_4 23 rfl rfl)
abbrev cX0_room : ByteArray := prog_1_method_65_code
def yX0_room : MethodName := ⟨RX0, "room", "(I)I"⟩
def dkwX0_room_1 : List UInt8 := [27, 182, 0, 118, 192, 0, 107, 180, 0, 219, 100, 172]
abbrev dktX0_room_1 : List UInt8 := dkwX0_room_1 ++ []
def dkwX0_room_0 : List UInt8 := [42, 180, 0, 16, 180, 0, 82, 27, 182, 0, 118, 192, 0, 107, 180, 1, 112, 42, 180, 0, 16, 180, 0, 82]
abbrev dktX0_room_0 : List UInt8 := dkwX0_room_0 ++ dktX0_room_1
theorem dksX0_room_0 : cX0_room.data.toList.drop 0 = dktX0_room_0 := by decide +kernel
theorem dksX0_room_1 : cX0_room.data.toList.drop 24 = dktX0_room_1 := dk_seg dksX0_room_0 24 rfl rfl
theorem dX0_room_0 : decode cX0_room 0 = .ok (.aload_n 0, 1) := dk_42 (dk_at dksX0_room_0 0 rfl rfl)
theorem dX0_room_1 : decode cX0_room 1 = .ok (.getfield 16, 3) := dk_180 0 16 (dk_at dksX0_room_0 1 rfl rfl)
theorem dX0_room_4 : decode cX0_room 4 = .ok (.getfield 82, 3) := dk_180 0 82 (dk_at dksX0_room_0 4 rfl rfl)
theorem dX0_room_7 : decode cX0_room 7 = .ok (.iload_n 1, 1) := dk_27 (dk_at dksX0_room_0 7 rfl rfl)
theorem dX0_room_8 : decode cX0_room 8 = .ok (.invokevirtual 118, 3) := dk_182 0 118 (dk_at dksX0_room_0 8 rfl rfl)
theorem dX0_room_11 : decode cX0_room 11 = .ok (.checkcast 107, 3) := dk_192 0 107 (dk_at dksX0_room_0 11 rfl rfl)
theorem dX0_room_14 : decode cX0_room 14 = .ok (.getfield 368, 3) := dk_180 1 112 (dk_at dksX0_room_0 14 rfl rfl)
theorem dX0_room_17 : decode cX0_room 17 = .ok (.aload_n 0, 1) := dk_42 (dk_at dksX0_room_0 17 rfl rfl)
theorem dX0_room_18 : decode cX0_room 18 = .ok (.getfield 16, 3) := dk_180 0 16 (dk_at dksX0_room_0 18 rfl rfl)
theorem dX0_room_21 : decode cX0_room 21 = .ok (.getfield 82, 3) := dk_180 0 82 (dk_at dksX0_room_0 21 rfl rfl)
theorem dX0_room_24 : decode cX0_room 24 = .ok (.iload_n 1, 1) := dk_27 (dk_at dksX0_room_1 0 rfl rfl)
theorem dX0_room_25 : decode cX0_room 25 = .ok (.invokevirtual 118, 3) := dk_182 0 118 (dk_at dksX0_room_1 1 rfl rfl)
theorem dX0_room_28 : decode cX0_room 28 = .ok (.checkcast 107, 3) := dk_192 0 107 (dk_at dksX0_room_1 4 rfl rfl)
theorem dX0_room_31 : decode cX0_room 31 = .ok (.getfield 219, 3) := dk_180 0 219 (dk_at dksX0_room_1 7 rfl rfl)
theorem dX0_room_34 : decode cX0_room 34 = .ok (.isub, 1) := dk_100 (dk_at dksX0_room_1 10 rfl rfl)
theorem dX0_room_35 : decode cX0_room 35 = .ok (.ireturn, 1) := dk_172 (dk_at dksX0_room_1 11 rfl rfl)
abbrev cX0_type : ByteArray := prog_1_method_67_code
def yX0_type : MethodName := ⟨RX0, "type", "(I)I"⟩
def dkwX0_type_1 : List UInt8 := [160, 0, 6, 16, 251, 172, 42, 180, 0, 43, 27, 146, 182, 1, 121, 87, 42, 180, 0, 43, 182, 1, 118, 172]
abbrev dktX0_type_1 : List UInt8 := dkwX0_type_1 ++ []
def dkwX0_type_0 : List UInt8 := [27, 3, 17, 0, 255, 184, 0, 1, 154, 0, 6, 16, 253, 172, 42, 180, 0, 43, 182, 1, 118, 16, 120]
abbrev dktX0_type_0 : List UInt8 := dkwX0_type_0 ++ dktX0_type_1
theorem dksX0_type_0 : cX0_type.data.toList.drop 0 = dktX0_type_0 := by decide +kernel
theorem dksX0_type_1 : cX0_type.data.toList.drop 23 = dktX0_type_1 := dk_seg dksX0_type_0 23 rfl rfl
theorem dX0_type_0 : decode cX0_type 0 = .ok (.iload_n 1, 1) := dk_27 (dk_at dksX0_type_0 0 rfl rfl)
theorem dX0_type_1 : decode cX0_type 1 = .ok (.iconst 0, 1) := dk_3 (dk_at dksX0_type_0 1 rfl rfl)
theorem dX0_type_2 : decode cX0_type 2 = .ok (.sipush 255, 3) := dk_17 0 255 (dk_at dksX0_type_0 2 rfl rfl)
theorem dX0_type_5 : decode cX0_type 5 = .ok (.invokestatic 1, 3) := dk_184 0 1 (dk_at dksX0_type_0 5 rfl rfl)
theorem dX0_type_8 : decode cX0_type 8 = .ok (.ifCond .ne 6, 3) := dk_154 0 6 (dk_at dksX0_type_0 8 rfl rfl)
theorem dX0_type_11 : decode cX0_type 11 = .ok (.bipush (-3), 2) := dk_16 253 (dk_at dksX0_type_0 11 rfl rfl)
theorem dX0_type_13 : decode cX0_type 13 = .ok (.ireturn, 1) := dk_172 (dk_at dksX0_type_0 13 rfl rfl)
theorem dX0_type_14 : decode cX0_type 14 = .ok (.aload_n 0, 1) := dk_42 (dk_at dksX0_type_0 14 rfl rfl)
theorem dX0_type_15 : decode cX0_type 15 = .ok (.getfield 43, 3) := dk_180 0 43 (dk_at dksX0_type_0 15 rfl rfl)
theorem dX0_type_18 : decode cX0_type 18 = .ok (.invokevirtual 374, 3) := dk_182 1 118 (dk_at dksX0_type_0 18 rfl rfl)
theorem dX0_type_21 : decode cX0_type 21 = .ok (.bipush 120, 2) := dk_16 120 (dk_at dksX0_type_0 21 rfl rfl)
theorem dX0_type_23 : decode cX0_type 23 = .ok (.if_icmp .ne 6, 3) := dk_160 0 6 (dk_at dksX0_type_1 0 rfl rfl)
theorem dX0_type_26 : decode cX0_type 26 = .ok (.bipush (-5), 2) := dk_16 251 (dk_at dksX0_type_1 3 rfl rfl)
theorem dX0_type_28 : decode cX0_type 28 = .ok (.ireturn, 1) := dk_172 (dk_at dksX0_type_1 5 rfl rfl)
theorem dX0_type_29 : decode cX0_type 29 = .ok (.aload_n 0, 1) := dk_42 (dk_at dksX0_type_1 6 rfl rfl)
theorem dX0_type_30 : decode cX0_type 30 = .ok (.getfield 43, 3) := dk_180 0 43 (dk_at dksX0_type_1 7 rfl rfl)
theorem dX0_type_33 : decode cX0_type 33 = .ok (.iload_n 1, 1) := dk_27 (dk_at dksX0_type_1 10 rfl rfl)
theorem dX0_type_34 : decode cX0_type 34 = .ok (.i2c, 1) := dk_146 (dk_at dksX0_type_1 11 rfl rfl)
theorem dX0_type_35 : decode cX0_type 35 = .ok (.invokevirtual 377, 3) := dk_182 1 121 (dk_at dksX0_type_1 12 rfl rfl)
theorem dX0_type_38 : decode cX0_type 38 = .ok (.pop, 1) := dk_87 (dk_at dksX0_type_1 15 rfl rfl)
theorem dX0_type_39 : decode cX0_type 39 = .ok (.aload_n 0, 1) := dk_42 (dk_at dksX0_type_1 16 rfl rfl)
theorem dX0_type_40 : decode cX0_type 40 = .ok (.getfield 43, 3) := dk_180 0 43 (dk_at dksX0_type_1 17 rfl rfl)
theorem dX0_type_43 : decode cX0_type 43 = .ok (.invokevirtual 374, 3) := dk_182 1 118 (dk_at dksX0_type_1 20 rfl rfl)
theorem dX0_type_46 : decode cX0_type 46 = .ok (.ireturn, 1) := dk_172 (dk_at dksX0_type_1 23 rfl rfl)
abbrev cX0_clearText : ByteArray := prog_1_method_68_code
def yX0_clearText : MethodName := ⟨RX0, "clearText", "()I"⟩
def dkwX0_clearText_0 : List UInt8 := [42, 180, 0, 43, 182, 1, 118, 60, 42, 180, 0, 43, 3, 182, 1, 125, 27, 172]
abbrev dktX0_clearText_0 : List UInt8 := dkwX0_clearText_0 ++ []
theorem dksX0_clearText_0 : cX0_clearText.data.toList.drop 0 = dktX0_clearText_0 := by decide +kernel
theorem dX0_clearText_0 : decode cX0_clearText 0 = .ok (.aload_n 0, 1) := dk_42 (dk_at dksX0_clearText_0 0 rfl rfl)
theorem dX0_clearText_1 : decode cX0_clearText 1 = .ok (.getfield 43, 3) := dk_180 0 43 (dk_at dksX0_clearText_0 1 rfl rfl)
theorem dX0_clearText_4 : decode cX0_clearText 4 = .ok (.invokevirtual 374, 3) := dk_182 1 118 (dk_at dksX0_clearText_0 4 rfl rfl)
theorem dX0_clearText_7 : decode cX0_clearText 7 = .ok (.istore_n 1, 1) := dk_60 (dk_at dksX0_clearText_0 7 rfl rfl)
theorem dX0_clearText_8 : decode cX0_clearText 8 = .ok (.aload_n 0, 1) := dk_42 (dk_at dksX0_clearText_0 8 rfl rfl)
theorem dX0_clearText_9 : decode cX0_clearText 9 = .ok (.getfield 43, 3) := dk_180 0 43 (dk_at dksX0_clearText_0 9 rfl rfl)
theorem dX0_clearText_12 : decode cX0_clearText 12 = .ok (.iconst 0, 1) := dk_3 (dk_at dksX0_clearText_0 12 rfl rfl)
theorem dX0_clearText_13 : decode cX0_clearText 13 = .ok (.invokevirtual 381, 3) := dk_182 1 125 (dk_at dksX0_clearText_0 13 rfl rfl)
theorem dX0_clearText_16 : decode cX0_clearText 16 = .ok (.iload_n 1, 1) := dk_27 (dk_at dksX0_clearText_0 16 rfl rfl)
theorem dX0_clearText_17 : decode cX0_clearText 17 = .ok (.ireturn, 1) := dk_172 (dk_at dksX0_clearText_0 17 rfl rfl)
abbrev cX0_textFault : ByteArray := prog_1_method_69_code
def yX0_textFault : MethodName := ⟨RX0, "textFault", "()I"⟩
def dkwX0_textFault_2 : List UInt8 := [167, 0, 7, 43, 180, 1, 142, 172]
abbrev dktX0_textFault_2 : List UInt8 := dkwX0_textFault_2 ++ []
def dkwX0_textFault_1 : List UInt8 := [153, 0, 11, 43, 182, 1, 133, 61, 167, 255, 240, 28, 153, 0, 14, 43, 182, 1, 139, 153, 0, 7, 2]
abbrev dktX0_textFault_1 : List UInt8 := dkwX0_textFault_1 ++ dktX0_textFault_2
def dkwX0_textFault_0 : List UInt8 := [187, 1, 128, 89, 42, 183, 1, 130, 76, 43, 182, 1, 133, 61, 28, 153, 0, 18, 43, 182, 1, 136]
abbrev dktX0_textFault_0 : List UInt8 := dkwX0_textFault_0 ++ dktX0_textFault_1
theorem dksX0_textFault_0 : cX0_textFault.data.toList.drop 0 = dktX0_textFault_0 := by decide +kernel
theorem dksX0_textFault_1 : cX0_textFault.data.toList.drop 22 = dktX0_textFault_1 := dk_seg dksX0_textFault_0 22 rfl rfl
theorem dksX0_textFault_2 : cX0_textFault.data.toList.drop 45 = dktX0_textFault_2 := dk_seg dksX0_textFault_1 23 rfl rfl
theorem dX0_textFault_0 : decode cX0_textFault 0 = .ok (.new 384, 3) := dk_187 1 128 (dk_at dksX0_textFault_0 0 rfl rfl)
theorem dX0_textFault_3 : decode cX0_textFault 3 = .ok (.dup, 1) := dk_89 (dk_at dksX0_textFault_0 3 rfl rfl)
theorem dX0_textFault_4 : decode cX0_textFault 4 = .ok (.aload_n 0, 1) := dk_42 (dk_at dksX0_textFault_0 4 rfl rfl)
theorem dX0_textFault_5 : decode cX0_textFault 5 = .ok (.invokespecial 386, 3) := dk_183 1 130 (dk_at dksX0_textFault_0 5 rfl rfl)
theorem dX0_textFault_8 : decode cX0_textFault 8 = .ok (.astore_n 1, 1) := dk_76 (dk_at dksX0_textFault_0 8 rfl rfl)
theorem dX0_textFault_9 : decode cX0_textFault 9 = .ok (.aload_n 1, 1) := dk_43 (dk_at dksX0_textFault_0 9 rfl rfl)
theorem dX0_textFault_10 : decode cX0_textFault 10 = .ok (.invokevirtual 389, 3) := dk_182 1 133 (dk_at dksX0_textFault_0 10 rfl rfl)
theorem dX0_textFault_13 : decode cX0_textFault 13 = .ok (.istore_n 2, 1) := dk_61 (dk_at dksX0_textFault_0 13 rfl rfl)
theorem dX0_textFault_14 : decode cX0_textFault 14 = .ok (.iload_n 2, 1) := dk_28 (dk_at dksX0_textFault_0 14 rfl rfl)
theorem dX0_textFault_15 : decode cX0_textFault 15 = .ok (.ifCond .eq 18, 3) := dk_153 0 18 (dk_at dksX0_textFault_0 15 rfl rfl)
theorem dX0_textFault_18 : decode cX0_textFault 18 = .ok (.aload_n 1, 1) := dk_43 (dk_at dksX0_textFault_0 18 rfl rfl)
theorem dX0_textFault_19 : decode cX0_textFault 19 = .ok (.invokevirtual 392, 3) := dk_182 1 136 (dk_at dksX0_textFault_0 19 rfl rfl)
theorem dX0_textFault_22 : decode cX0_textFault 22 = .ok (.ifCond .eq 11, 3) := dk_153 0 11 (dk_at dksX0_textFault_1 0 rfl rfl)
theorem dX0_textFault_25 : decode cX0_textFault 25 = .ok (.aload_n 1, 1) := dk_43 (dk_at dksX0_textFault_1 3 rfl rfl)
theorem dX0_textFault_26 : decode cX0_textFault 26 = .ok (.invokevirtual 389, 3) := dk_182 1 133 (dk_at dksX0_textFault_1 4 rfl rfl)
theorem dX0_textFault_29 : decode cX0_textFault 29 = .ok (.istore_n 2, 1) := dk_61 (dk_at dksX0_textFault_1 7 rfl rfl)
theorem dX0_textFault_30 : decode cX0_textFault 30 = .ok (.goto (-16), 3) := dk_167 255 240 (dk_at dksX0_textFault_1 8 rfl rfl)
theorem dX0_textFault_33 : decode cX0_textFault 33 = .ok (.iload_n 2, 1) := dk_28 (dk_at dksX0_textFault_1 11 rfl rfl)
theorem dX0_textFault_34 : decode cX0_textFault 34 = .ok (.ifCond .eq 14, 3) := dk_153 0 14 (dk_at dksX0_textFault_1 12 rfl rfl)
theorem dX0_textFault_37 : decode cX0_textFault 37 = .ok (.aload_n 1, 1) := dk_43 (dk_at dksX0_textFault_1 15 rfl rfl)
theorem dX0_textFault_38 : decode cX0_textFault 38 = .ok (.invokevirtual 395, 3) := dk_182 1 139 (dk_at dksX0_textFault_1 16 rfl rfl)
theorem dX0_textFault_41 : decode cX0_textFault 41 = .ok (.ifCond .eq 7, 3) := dk_153 0 7 (dk_at dksX0_textFault_1 19 rfl rfl)
theorem dX0_textFault_44 : decode cX0_textFault 44 = .ok (.iconst (-1), 1) := dk_2 (dk_at dksX0_textFault_1 22 rfl rfl)
theorem dX0_textFault_45 : decode cX0_textFault 45 = .ok (.goto 7, 3) := dk_167 0 7 (dk_at dksX0_textFault_2 0 rfl rfl)
theorem dX0_textFault_48 : decode cX0_textFault 48 = .ok (.aload_n 1, 1) := dk_43 (dk_at dksX0_textFault_2 3 rfl rfl)
theorem dX0_textFault_49 : decode cX0_textFault 49 = .ok (.getfield 398, 3) := dk_180 1 142 (dk_at dksX0_textFault_2 4 rfl rfl)
theorem dX0_textFault_52 : decode cX0_textFault 52 = .ok (.ireturn, 1) := dk_172 (dk_at dksX0_textFault_2 7 rfl rfl)
abbrev cX0_orders : ByteArray := prog_1_method_70_code
def yX0_orders : MethodName := ⟨RX0, "orders", "()I"⟩
def dkwX0_orders_4 : List UInt8 := [62, 167, 255, 192, 28, 172]
abbrev dktX0_orders_4 : List UInt8 := dkwX0_orders_4 ++ []
def dkwX0_orders_3 : List UInt8 := [54, 4, 132, 2, 1, 43, 182, 1, 136, 153, 0, 14, 43, 182, 1, 133, 153, 0, 7, 4, 167, 0, 4, 3]
abbrev dktX0_orders_3 : List UInt8 := dkwX0_orders_3 ++ dktX0_orders_4
def dkwX0_orders_2 : List UInt8 := [185, 1, 158, 2, 0, 154, 0, 47, 43, 180, 1, 148, 180, 1, 163, 43, 180, 1, 155, 185, 1, 158, 2, 0]
abbrev dktX0_orders_2 : List UInt8 := dkwX0_orders_2 ++ dktX0_orders_3
def dkwX0_orders_1 : List UInt8 := [3, 61, 43, 182, 1, 133, 62, 29, 153, 0, 66, 43, 180, 1, 148, 180, 1, 151, 43, 180, 1, 155]
abbrev dktX0_orders_1 : List UInt8 := dkwX0_orders_1 ++ dktX0_orders_2
def dkwX0_orders_0 : List UInt8 := [42, 182, 1, 145, 2, 159, 0, 6, 16, 252, 172, 42, 182, 0, 104, 187, 1, 128, 89, 42, 183, 1, 130, 76]
abbrev dktX0_orders_0 : List UInt8 := dkwX0_orders_0 ++ dktX0_orders_1
theorem dksX0_orders_0 : cX0_orders.data.toList.drop 0 = dktX0_orders_0 := by decide +kernel
theorem dksX0_orders_1 : cX0_orders.data.toList.drop 24 = dktX0_orders_1 := dk_seg dksX0_orders_0 24 rfl rfl
theorem dksX0_orders_2 : cX0_orders.data.toList.drop 46 = dktX0_orders_2 := dk_seg dksX0_orders_1 22 rfl rfl
theorem dksX0_orders_3 : cX0_orders.data.toList.drop 70 = dktX0_orders_3 := dk_seg dksX0_orders_2 24 rfl rfl
theorem dksX0_orders_4 : cX0_orders.data.toList.drop 94 = dktX0_orders_4 := dk_seg dksX0_orders_3 24 rfl rfl
theorem dX0_orders_0 : decode cX0_orders 0 = .ok (.aload_n 0, 1) := dk_42 (dk_at dksX0_orders_0 0 rfl rfl)
theorem dX0_orders_1 : decode cX0_orders 1 = .ok (.invokevirtual 401, 3) := dk_182 1 145 (dk_at dksX0_orders_0 1 rfl rfl)
theorem dX0_orders_4 : decode cX0_orders 4 = .ok (.iconst (-1), 1) := dk_2 (dk_at dksX0_orders_0 4 rfl rfl)
theorem dX0_orders_5 : decode cX0_orders 5 = .ok (.if_icmp .eq 6, 3) := dk_159 0 6 (dk_at dksX0_orders_0 5 rfl rfl)
theorem dX0_orders_8 : decode cX0_orders 8 = .ok (.bipush (-4), 2) := dk_16 252 (dk_at dksX0_orders_0 8 rfl rfl)
theorem dX0_orders_10 : decode cX0_orders 10 = .ok (.ireturn, 1) := dk_172 (dk_at dksX0_orders_0 10 rfl rfl)
theorem dX0_orders_11 : decode cX0_orders 11 = .ok (.aload_n 0, 1) := dk_42 (dk_at dksX0_orders_0 11 rfl rfl)
theorem dX0_orders_12 : decode cX0_orders 12 = .ok (.invokevirtual 104, 3) := dk_182 0 104 (dk_at dksX0_orders_0 12 rfl rfl)
theorem dX0_orders_15 : decode cX0_orders 15 = .ok (.new 384, 3) := dk_187 1 128 (dk_at dksX0_orders_0 15 rfl rfl)
theorem dX0_orders_18 : decode cX0_orders 18 = .ok (.dup, 1) := dk_89 (dk_at dksX0_orders_0 18 rfl rfl)
theorem dX0_orders_19 : decode cX0_orders 19 = .ok (.aload_n 0, 1) := dk_42 (dk_at dksX0_orders_0 19 rfl rfl)
theorem dX0_orders_20 : decode cX0_orders 20 = .ok (.invokespecial 386, 3) := dk_183 1 130 (dk_at dksX0_orders_0 20 rfl rfl)
theorem dX0_orders_23 : decode cX0_orders 23 = .ok (.astore_n 1, 1) := dk_76 (dk_at dksX0_orders_0 23 rfl rfl)
theorem dX0_orders_24 : decode cX0_orders 24 = .ok (.iconst 0, 1) := dk_3 (dk_at dksX0_orders_1 0 rfl rfl)
theorem dX0_orders_25 : decode cX0_orders 25 = .ok (.istore_n 2, 1) := dk_61 (dk_at dksX0_orders_1 1 rfl rfl)
theorem dX0_orders_26 : decode cX0_orders 26 = .ok (.aload_n 1, 1) := dk_43 (dk_at dksX0_orders_1 2 rfl rfl)
theorem dX0_orders_27 : decode cX0_orders 27 = .ok (.invokevirtual 389, 3) := dk_182 1 133 (dk_at dksX0_orders_1 3 rfl rfl)
theorem dX0_orders_30 : decode cX0_orders 30 = .ok (.istore_n 3, 1) := dk_62 (dk_at dksX0_orders_1 6 rfl rfl)
theorem dX0_orders_31 : decode cX0_orders 31 = .ok (.iload_n 3, 1) := dk_29 (dk_at dksX0_orders_1 7 rfl rfl)
theorem dX0_orders_32 : decode cX0_orders 32 = .ok (.ifCond .eq 66, 3) := dk_153 0 66 (dk_at dksX0_orders_1 8 rfl rfl)
theorem dX0_orders_35 : decode cX0_orders 35 = .ok (.aload_n 1, 1) := dk_43 (dk_at dksX0_orders_1 11 rfl rfl)
theorem dX0_orders_36 : decode cX0_orders 36 = .ok (.getfield 404, 3) := dk_180 1 148 (dk_at dksX0_orders_1 12 rfl rfl)
theorem dX0_orders_39 : decode cX0_orders 39 = .ok (.getfield 407, 3) := dk_180 1 151 (dk_at dksX0_orders_1 15 rfl rfl)
theorem dX0_orders_42 : decode cX0_orders 42 = .ok (.aload_n 1, 1) := dk_43 (dk_at dksX0_orders_1 18 rfl rfl)
theorem dX0_orders_43 : decode cX0_orders 43 = .ok (.getfield 411, 3) := dk_180 1 155 (dk_at dksX0_orders_1 19 rfl rfl)
theorem dX0_orders_46 : decode cX0_orders 46 = .ok (.invokeinterface 414 2, 5) := by decide +kernel
theorem dX0_orders_51 : decode cX0_orders 51 = .ok (.ifCond .ne 47, 3) := dk_154 0 47 (dk_at dksX0_orders_2 5 rfl rfl)
theorem dX0_orders_54 : decode cX0_orders 54 = .ok (.aload_n 1, 1) := dk_43 (dk_at dksX0_orders_2 8 rfl rfl)
theorem dX0_orders_55 : decode cX0_orders 55 = .ok (.getfield 404, 3) := dk_180 1 148 (dk_at dksX0_orders_2 9 rfl rfl)
theorem dX0_orders_58 : decode cX0_orders 58 = .ok (.getfield 419, 3) := dk_180 1 163 (dk_at dksX0_orders_2 12 rfl rfl)
theorem dX0_orders_61 : decode cX0_orders 61 = .ok (.aload_n 1, 1) := dk_43 (dk_at dksX0_orders_2 15 rfl rfl)
theorem dX0_orders_62 : decode cX0_orders 62 = .ok (.getfield 411, 3) := dk_180 1 155 (dk_at dksX0_orders_2 16 rfl rfl)
theorem dX0_orders_65 : decode cX0_orders 65 = .ok (.invokeinterface 414 2, 5) := by decide +kernel
theorem dX0_orders_70 : decode cX0_orders 70 = .ok (.istore 4, 2) := dk_54 4 (dk_at dksX0_orders_3 0 rfl rfl)
theorem dX0_orders_72 : decode cX0_orders 72 = .ok (.iinc 2 1, 3) := dk_132 2 1 (dk_at dksX0_orders_3 2 rfl rfl)
theorem dX0_orders_75 : decode cX0_orders 75 = .ok (.aload_n 1, 1) := dk_43 (dk_at dksX0_orders_3 5 rfl rfl)
theorem dX0_orders_76 : decode cX0_orders 76 = .ok (.invokevirtual 392, 3) := dk_182 1 136 (dk_at dksX0_orders_3 6 rfl rfl)
theorem dX0_orders_79 : decode cX0_orders 79 = .ok (.ifCond .eq 14, 3) := dk_153 0 14 (dk_at dksX0_orders_3 9 rfl rfl)
theorem dX0_orders_82 : decode cX0_orders 82 = .ok (.aload_n 1, 1) := dk_43 (dk_at dksX0_orders_3 12 rfl rfl)
theorem dX0_orders_83 : decode cX0_orders 83 = .ok (.invokevirtual 389, 3) := dk_182 1 133 (dk_at dksX0_orders_3 13 rfl rfl)
theorem dX0_orders_86 : decode cX0_orders 86 = .ok (.ifCond .eq 7, 3) := dk_153 0 7 (dk_at dksX0_orders_3 16 rfl rfl)
theorem dX0_orders_89 : decode cX0_orders 89 = .ok (.iconst 1, 1) := dk_4 (dk_at dksX0_orders_3 19 rfl rfl)
theorem dX0_orders_90 : decode cX0_orders 90 = .ok (.goto 4, 3) := dk_167 0 4 (dk_at dksX0_orders_3 20 rfl rfl)
theorem dX0_orders_93 : decode cX0_orders 93 = .ok (.iconst 0, 1) := dk_3 (dk_at dksX0_orders_3 23 rfl rfl)
theorem dX0_orders_94 : decode cX0_orders 94 = .ok (.istore_n 3, 1) := dk_62 (dk_at dksX0_orders_4 0 rfl rfl)
theorem dX0_orders_95 : decode cX0_orders 95 = .ok (.goto (-64), 3) := dk_167 255 192 (dk_at dksX0_orders_4 1 rfl rfl)
theorem dX0_orders_98 : decode cX0_orders 98 = .ok (.iload_n 2, 1) := dk_28 (dk_at dksX0_orders_4 4 rfl rfl)
theorem dX0_orders_99 : decode cX0_orders 99 = .ok (.ireturn, 1) := dk_172 (dk_at dksX0_orders_4 5 rfl rfl)
abbrev cX0_undo : ByteArray := prog_1_method_71_code
def yX0_undo : MethodName := ⟨RX0, "undo", "()I"⟩
def dkwX0_undo_1 : List UInt8 := [181, 0, 16, 42, 180, 0, 25, 182, 0, 67, 172]
abbrev dktX0_undo_1 : List UInt8 := dkwX0_undo_1 ++ []
def dkwX0_undo_0 : List UInt8 := [42, 180, 0, 25, 182, 1, 166, 153, 0, 6, 16, 252, 172, 42, 42, 180, 0, 25, 182, 1, 169, 192, 0, 13]
abbrev dktX0_undo_0 : List UInt8 := dkwX0_undo_0 ++ dktX0_undo_1
theorem dksX0_undo_0 : cX0_undo.data.toList.drop 0 = dktX0_undo_0 := by decide +kernel
theorem dksX0_undo_1 : cX0_undo.data.toList.drop 24 = dktX0_undo_1 := dk_seg dksX0_undo_0 24 rfl rfl
theorem dX0_undo_0 : decode cX0_undo 0 = .ok (.aload_n 0, 1) := dk_42 (dk_at dksX0_undo_0 0 rfl rfl)
theorem dX0_undo_1 : decode cX0_undo 1 = .ok (.getfield 25, 3) := dk_180 0 25 (dk_at dksX0_undo_0 1 rfl rfl)
theorem dX0_undo_4 : decode cX0_undo 4 = .ok (.invokevirtual 422, 3) := dk_182 1 166 (dk_at dksX0_undo_0 4 rfl rfl)
theorem dX0_undo_7 : decode cX0_undo 7 = .ok (.ifCond .eq 6, 3) := dk_153 0 6 (dk_at dksX0_undo_0 7 rfl rfl)
theorem dX0_undo_10 : decode cX0_undo 10 = .ok (.bipush (-4), 2) := dk_16 252 (dk_at dksX0_undo_0 10 rfl rfl)
theorem dX0_undo_12 : decode cX0_undo 12 = .ok (.ireturn, 1) := dk_172 (dk_at dksX0_undo_0 12 rfl rfl)
theorem dX0_undo_13 : decode cX0_undo 13 = .ok (.aload_n 0, 1) := dk_42 (dk_at dksX0_undo_0 13 rfl rfl)
theorem dX0_undo_14 : decode cX0_undo 14 = .ok (.aload_n 0, 1) := dk_42 (dk_at dksX0_undo_0 14 rfl rfl)
theorem dX0_undo_15 : decode cX0_undo 15 = .ok (.getfield 25, 3) := dk_180 0 25 (dk_at dksX0_undo_0 15 rfl rfl)
theorem dX0_undo_18 : decode cX0_undo 18 = .ok (.invokevirtual 425, 3) := dk_182 1 169 (dk_at dksX0_undo_0 18 rfl rfl)
theorem dX0_undo_21 : decode cX0_undo 21 = .ok (.checkcast 13, 3) := dk_192 0 13 (dk_at dksX0_undo_0 21 rfl rfl)
theorem dX0_undo_24 : decode cX0_undo 24 = .ok (.putfield 16, 3) := dk_181 0 16 (dk_at dksX0_undo_1 0 rfl rfl)
theorem dX0_undo_27 : decode cX0_undo 27 = .ok (.aload_n 0, 1) := dk_42 (dk_at dksX0_undo_1 3 rfl rfl)
theorem dX0_undo_28 : decode cX0_undo 28 = .ok (.getfield 25, 3) := dk_180 0 25 (dk_at dksX0_undo_1 4 rfl rfl)
theorem dX0_undo_31 : decode cX0_undo 31 = .ok (.invokevirtual 67, 3) := dk_182 0 67 (dk_at dksX0_undo_1 7 rfl rfl)
theorem dX0_undo_34 : decode cX0_undo 34 = .ok (.ireturn, 1) := dk_172 (dk_at dksX0_undo_1 10 rfl rfl)
abbrev cX0_keep : ByteArray := prog_1_method_73_code
def yX0_keep : MethodName := ⟨RX0, "keep", "(I)I"⟩
def dkwX0_keep_1 : List UInt8 := [183, 0, 79, 83, 42, 180, 0, 16, 180, 0, 95, 172]
abbrev dktX0_keep_1 : List UInt8 := dkwX0_keep_1 ++ []
def dkwX0_keep_0 : List UInt8 := [27, 184, 1, 172, 154, 0, 6, 16, 254, 172, 42, 180, 0, 29, 27, 187, 0, 13, 89, 42, 180, 0, 16]
abbrev dktX0_keep_0 : List UInt8 := dkwX0_keep_0 ++ dktX0_keep_1
theorem dksX0_keep_0 : cX0_keep.data.toList.drop 0 = dktX0_keep_0 := by decide +kernel
theorem dksX0_keep_1 : cX0_keep.data.toList.drop 23 = dktX0_keep_1 := dk_seg dksX0_keep_0 23 rfl rfl
theorem dX0_keep_0 : decode cX0_keep 0 = .ok (.iload_n 1, 1) := dk_27 (dk_at dksX0_keep_0 0 rfl rfl)
theorem dX0_keep_1 : decode cX0_keep 1 = .ok (.invokestatic 428, 3) := dk_184 1 172 (dk_at dksX0_keep_0 1 rfl rfl)
theorem dX0_keep_4 : decode cX0_keep 4 = .ok (.ifCond .ne 6, 3) := dk_154 0 6 (dk_at dksX0_keep_0 4 rfl rfl)
theorem dX0_keep_7 : decode cX0_keep 7 = .ok (.bipush (-2), 2) := dk_16 254 (dk_at dksX0_keep_0 7 rfl rfl)
theorem dX0_keep_9 : decode cX0_keep 9 = .ok (.ireturn, 1) := dk_172 (dk_at dksX0_keep_0 9 rfl rfl)
theorem dX0_keep_10 : decode cX0_keep 10 = .ok (.aload_n 0, 1) := dk_42 (dk_at dksX0_keep_0 10 rfl rfl)
theorem dX0_keep_11 : decode cX0_keep 11 = .ok (.getfield 29, 3) := dk_180 0 29 (dk_at dksX0_keep_0 11 rfl rfl)
theorem dX0_keep_14 : decode cX0_keep 14 = .ok (.iload_n 1, 1) := dk_27 (dk_at dksX0_keep_0 14 rfl rfl)
theorem dX0_keep_15 : decode cX0_keep 15 = .ok (.new 13, 3) := dk_187 0 13 (dk_at dksX0_keep_0 15 rfl rfl)
theorem dX0_keep_18 : decode cX0_keep 18 = .ok (.dup, 1) := dk_89 (dk_at dksX0_keep_0 18 rfl rfl)
theorem dX0_keep_19 : decode cX0_keep 19 = .ok (.aload_n 0, 1) := dk_42 (dk_at dksX0_keep_0 19 rfl rfl)
theorem dX0_keep_20 : decode cX0_keep 20 = .ok (.getfield 16, 3) := dk_180 0 16 (dk_at dksX0_keep_0 20 rfl rfl)
theorem dX0_keep_23 : decode cX0_keep 23 = .ok (.invokespecial 79, 3) := dk_183 0 79 (dk_at dksX0_keep_1 0 rfl rfl)
theorem dX0_keep_26 : decode cX0_keep 26 = .ok (.aastore, 1) := dk_83 (dk_at dksX0_keep_1 3 rfl rfl)
theorem dX0_keep_27 : decode cX0_keep 27 = .ok (.aload_n 0, 1) := dk_42 (dk_at dksX0_keep_1 4 rfl rfl)
theorem dX0_keep_28 : decode cX0_keep 28 = .ok (.getfield 16, 3) := dk_180 0 16 (dk_at dksX0_keep_1 5 rfl rfl)
theorem dX0_keep_31 : decode cX0_keep 31 = .ok (.getfield 95, 3) := dk_180 0 95 (dk_at dksX0_keep_1 8 rfl rfl)
theorem dX0_keep_34 : decode cX0_keep 34 = .ok (.ireturn, 1) := dk_172 (dk_at dksX0_keep_1 11 rfl rfl)
abbrev cX0_isImage : ByteArray := prog_1_method_72_code
def yX0_isImage : MethodName := ⟨RX0, "isImage", "(I)Z"⟩
def dkwX0_isImage_0 : List UInt8 := [26, 3, 4, 184, 0, 1, 172]
abbrev dktX0_isImage_0 : List UInt8 := dkwX0_isImage_0 ++ []
theorem dksX0_isImage_0 : cX0_isImage.data.toList.drop 0 = dktX0_isImage_0 := by decide +kernel
theorem dX0_isImage_0 : decode cX0_isImage 0 = .ok (.iload_n 0, 1) := dk_26 (dk_at dksX0_isImage_0 0 rfl rfl)
theorem dX0_isImage_1 : decode cX0_isImage 1 = .ok (.iconst 0, 1) := dk_3 (dk_at dksX0_isImage_0 1 rfl rfl)
theorem dX0_isImage_2 : decode cX0_isImage 2 = .ok (.iconst 1, 1) := dk_4 (dk_at dksX0_isImage_0 2 rfl rfl)
theorem dX0_isImage_3 : decode cX0_isImage 3 = .ok (.invokestatic 1, 3) := dk_184 0 1 (dk_at dksX0_isImage_0 3 rfl rfl)
theorem dX0_isImage_6 : decode cX0_isImage 6 = .ok (.ireturn, 1) := dk_172 (dk_at dksX0_isImage_0 6 rfl rfl)
abbrev cX0_back : ByteArray := prog_1_method_74_code
def yX0_back : MethodName := ⟨RX0, "back", "(I)I"⟩
def dkwX0_back_2 : List UInt8 := [180, 0, 95, 172]
abbrev dktX0_back_2 : List UInt8 := dkwX0_back_2 ++ []
def dkwX0_back_1 : List UInt8 := [182, 0, 104, 42, 187, 0, 13, 89, 42, 180, 0, 29, 27, 50, 183, 0, 79, 181, 0, 16, 42, 180, 0, 16]
abbrev dktX0_back_1 : List UInt8 := dkwX0_back_1 ++ dktX0_back_2
def dkwX0_back_0 : List UInt8 := [27, 184, 1, 172, 154, 0, 6, 16, 254, 172, 42, 180, 0, 29, 27, 50, 199, 0, 6, 16, 252, 172, 42]
abbrev dktX0_back_0 : List UInt8 := dkwX0_back_0 ++ dktX0_back_1
theorem dksX0_back_0 : cX0_back.data.toList.drop 0 = dktX0_back_0 := by decide +kernel
theorem dksX0_back_1 : cX0_back.data.toList.drop 23 = dktX0_back_1 := dk_seg dksX0_back_0 23 rfl rfl
theorem dksX0_back_2 : cX0_back.data.toList.drop 47 = dktX0_back_2 := dk_seg dksX0_back_1 24 rfl rfl
theorem dX0_back_0 : decode cX0_back 0 = .ok (.iload_n 1, 1) := dk_27 (dk_at dksX0_back_0 0 rfl rfl)
theorem dX0_back_1 : decode cX0_back 1 = .ok (.invokestatic 428, 3) := dk_184 1 172 (dk_at dksX0_back_0 1 rfl rfl)
theorem dX0_back_4 : decode cX0_back 4 = .ok (.ifCond .ne 6, 3) := dk_154 0 6 (dk_at dksX0_back_0 4 rfl rfl)
theorem dX0_back_7 : decode cX0_back 7 = .ok (.bipush (-2), 2) := dk_16 254 (dk_at dksX0_back_0 7 rfl rfl)
theorem dX0_back_9 : decode cX0_back 9 = .ok (.ireturn, 1) := dk_172 (dk_at dksX0_back_0 9 rfl rfl)
theorem dX0_back_10 : decode cX0_back 10 = .ok (.aload_n 0, 1) := dk_42 (dk_at dksX0_back_0 10 rfl rfl)
theorem dX0_back_11 : decode cX0_back 11 = .ok (.getfield 29, 3) := dk_180 0 29 (dk_at dksX0_back_0 11 rfl rfl)
theorem dX0_back_14 : decode cX0_back 14 = .ok (.iload_n 1, 1) := dk_27 (dk_at dksX0_back_0 14 rfl rfl)
theorem dX0_back_15 : decode cX0_back 15 = .ok (.aaload, 1) := dk_50 (dk_at dksX0_back_0 15 rfl rfl)
theorem dX0_back_16 : decode cX0_back 16 = .ok (.ifnonnull 6, 3) := dk_199 0 6 (dk_at dksX0_back_0 16 rfl rfl)
theorem dX0_back_19 : decode cX0_back 19 = .ok (.bipush (-4), 2) := dk_16 252 (dk_at dksX0_back_0 19 rfl rfl)
theorem dX0_back_21 : decode cX0_back 21 = .ok (.ireturn, 1) := dk_172 (dk_at dksX0_back_0 21 rfl rfl)
theorem dX0_back_22 : decode cX0_back 22 = .ok (.aload_n 0, 1) := dk_42 (dk_at dksX0_back_0 22 rfl rfl)
theorem dX0_back_23 : decode cX0_back 23 = .ok (.invokevirtual 104, 3) := dk_182 0 104 (dk_at dksX0_back_1 0 rfl rfl)
theorem dX0_back_26 : decode cX0_back 26 = .ok (.aload_n 0, 1) := dk_42 (dk_at dksX0_back_1 3 rfl rfl)
theorem dX0_back_27 : decode cX0_back 27 = .ok (.new 13, 3) := dk_187 0 13 (dk_at dksX0_back_1 4 rfl rfl)
theorem dX0_back_30 : decode cX0_back 30 = .ok (.dup, 1) := dk_89 (dk_at dksX0_back_1 7 rfl rfl)
theorem dX0_back_31 : decode cX0_back 31 = .ok (.aload_n 0, 1) := dk_42 (dk_at dksX0_back_1 8 rfl rfl)
theorem dX0_back_32 : decode cX0_back 32 = .ok (.getfield 29, 3) := dk_180 0 29 (dk_at dksX0_back_1 9 rfl rfl)
theorem dX0_back_35 : decode cX0_back 35 = .ok (.iload_n 1, 1) := dk_27 (dk_at dksX0_back_1 12 rfl rfl)
theorem dX0_back_36 : decode cX0_back 36 = .ok (.aaload, 1) := dk_50 (dk_at dksX0_back_1 13 rfl rfl)
theorem dX0_back_37 : decode cX0_back 37 = .ok (.invokespecial 79, 3) := dk_183 0 79 (dk_at dksX0_back_1 14 rfl rfl)
theorem dX0_back_40 : decode cX0_back 40 = .ok (.putfield 16, 3) := dk_181 0 16 (dk_at dksX0_back_1 17 rfl rfl)
theorem dX0_back_43 : decode cX0_back 43 = .ok (.aload_n 0, 1) := dk_42 (dk_at dksX0_back_1 20 rfl rfl)
theorem dX0_back_44 : decode cX0_back 44 = .ok (.getfield 16, 3) := dk_180 0 16 (dk_at dksX0_back_1 21 rfl rfl)
theorem dX0_back_47 : decode cX0_back 47 = .ok (.getfield 95, 3) := dk_180 0 95 (dk_at dksX0_back_2 0 rfl rfl)
theorem dX0_back_50 : decode cX0_back 50 = .ok (.ireturn, 1) := dk_172 (dk_at dksX0_back_2 3 rfl rfl)
abbrev cX0_digest : ByteArray := prog_1_method_76_code
def yX0_digest : MethodName := ⟨RX0, "digest", "()J"⟩
def dkwX0_digest_10 : List UInt8 := [21, 4, 182, 1, 54, 133, 184, 1, 182, 64, 132, 4, 1, 167, 255, 221, 132, 3, 1, 167, 255, 198, 31, 173]
abbrev dktX0_digest_10 : List UInt8 := dkwX0_digest_10 ++ []
def dkwX0_digest_9 : List UInt8 := [54, 4, 21, 4, 16, 6, 162, 0, 34, 31, 42, 180, 0, 16, 180, 0, 92, 29, 182, 0, 118, 192, 0, 153]
abbrev dktX0_digest_9 : List UInt8 := dkwX0_digest_9 ++ dktX0_digest_10
def dkwX0_digest_8 : List UInt8 := [132, 3, 1, 167, 255, 237, 3, 62, 29, 42, 180, 0, 16, 180, 0, 92, 182, 0, 86, 162, 0, 50, 3]
abbrev dktX0_digest_8 : List UInt8 := dkwX0_digest_8 ++ dktX0_digest_9
def dkwX0_digest_7 : List UInt8 := [132, 3, 1, 167, 255, 233, 3, 62, 29, 16, 7, 162, 0, 19, 31, 42, 29, 182, 1, 186, 184, 1, 182, 64]
abbrev dktX0_digest_7 : List UInt8 := dkwX0_digest_7 ++ dktX0_digest_8
def dkwX0_digest_6 : List UInt8 := [3, 62, 29, 7, 162, 0, 24, 31, 42, 180, 0, 16, 180, 0, 147, 29, 46, 133, 184, 1, 182, 64]
abbrev dktX0_digest_6 : List UInt8 := dkwX0_digest_6 ++ dktX0_digest_7
def dkwX0_digest_5 : List UInt8 := [42, 29, 21, 4, 182, 0, 188, 133, 184, 1, 182, 64, 132, 4, 1, 167, 255, 234, 132, 3, 1, 167, 255, 211]
abbrev dktX0_digest_5 : List UInt8 := dkwX0_digest_5 ++ dktX0_digest_6
def dkwX0_digest_4 : List UInt8 := [29, 42, 180, 0, 16, 180, 0, 89, 182, 0, 86, 162, 0, 37, 3, 54, 4, 21, 4, 8, 162, 0, 22, 31]
abbrev dktX0_digest_4 : List UInt8 := dkwX0_digest_4 ++ dktX0_digest_5
def dkwX0_digest_3 : List UInt8 := [21, 4, 182, 0, 175, 133, 184, 1, 182, 64, 132, 4, 1, 167, 255, 221, 132, 3, 1, 167, 255, 198, 3, 62]
abbrev dktX0_digest_3 : List UInt8 := dkwX0_digest_3 ++ dktX0_digest_4
def dkwX0_digest_2 : List UInt8 := [54, 4, 21, 4, 16, 10, 162, 0, 34, 31, 42, 180, 0, 16, 180, 0, 82, 29, 182, 0, 118, 192, 0, 107]
abbrev dktX0_digest_2 : List UInt8 := dkwX0_digest_2 ++ dktX0_digest_3
def dkwX0_digest_1 : List UInt8 := [132, 3, 1, 167, 255, 236, 3, 62, 29, 42, 180, 0, 16, 180, 0, 82, 182, 0, 86, 162, 0, 50, 3]
abbrev dktX0_digest_1 : List UInt8 := dkwX0_digest_1 ++ dktX0_digest_2
def dkwX0_digest_0 : List UInt8 := [20, 1, 177, 64, 3, 62, 29, 16, 10, 162, 0, 20, 31, 42, 29, 182, 1, 179, 133, 184, 1, 182, 64]
abbrev dktX0_digest_0 : List UInt8 := dkwX0_digest_0 ++ dktX0_digest_1
theorem dksX0_digest_0 : cX0_digest.data.toList.drop 0 = dktX0_digest_0 := by decide +kernel
theorem dksX0_digest_1 : cX0_digest.data.toList.drop 23 = dktX0_digest_1 := dk_seg dksX0_digest_0 23 rfl rfl
theorem dksX0_digest_2 : cX0_digest.data.toList.drop 46 = dktX0_digest_2 := dk_seg dksX0_digest_1 23 rfl rfl
theorem dksX0_digest_3 : cX0_digest.data.toList.drop 70 = dktX0_digest_3 := dk_seg dksX0_digest_2 24 rfl rfl
theorem dksX0_digest_4 : cX0_digest.data.toList.drop 94 = dktX0_digest_4 := dk_seg dksX0_digest_3 24 rfl rfl
theorem dksX0_digest_5 : cX0_digest.data.toList.drop 118 = dktX0_digest_5 := dk_seg dksX0_digest_4 24 rfl rfl
theorem dksX0_digest_6 : cX0_digest.data.toList.drop 142 = dktX0_digest_6 := dk_seg dksX0_digest_5 24 rfl rfl
theorem dksX0_digest_7 : cX0_digest.data.toList.drop 164 = dktX0_digest_7 := dk_seg dksX0_digest_6 22 rfl rfl
theorem dksX0_digest_8 : cX0_digest.data.toList.drop 188 = dktX0_digest_8 := dk_seg dksX0_digest_7 24 rfl rfl
theorem dksX0_digest_9 : cX0_digest.data.toList.drop 211 = dktX0_digest_9 := dk_seg dksX0_digest_8 23 rfl rfl
theorem dksX0_digest_10 : cX0_digest.data.toList.drop 235 = dktX0_digest_10 := dk_seg dksX0_digest_9 24 rfl rfl
theorem dX0_digest_0 : decode cX0_digest 0 = .ok (.ldc2_w 433, 3) := dk_20 1 177 (dk_at dksX0_digest_0 0 rfl rfl)
theorem dX0_digest_3 : decode cX0_digest 3 = .ok (.lstore_n 1, 1) := dk_64 (dk_at dksX0_digest_0 3 rfl rfl)
theorem dX0_digest_4 : decode cX0_digest 4 = .ok (.iconst 0, 1) := dk_3 (dk_at dksX0_digest_0 4 rfl rfl)
theorem dX0_digest_5 : decode cX0_digest 5 = .ok (.istore_n 3, 1) := dk_62 (dk_at dksX0_digest_0 5 rfl rfl)
theorem dX0_digest_6 : decode cX0_digest 6 = .ok (.iload_n 3, 1) := dk_29 (dk_at dksX0_digest_0 6 rfl rfl)
theorem dX0_digest_7 : decode cX0_digest 7 = .ok (.bipush 10, 2) := dk_16 10 (dk_at dksX0_digest_0 7 rfl rfl)
theorem dX0_digest_9 : decode cX0_digest 9 = .ok (.if_icmp .ge 20, 3) := dk_162 0 20 (dk_at dksX0_digest_0 9 rfl rfl)
theorem dX0_digest_12 : decode cX0_digest 12 = .ok (.lload_n 1, 1) := dk_31 (dk_at dksX0_digest_0 12 rfl rfl)
theorem dX0_digest_13 : decode cX0_digest 13 = .ok (.aload_n 0, 1) := dk_42 (dk_at dksX0_digest_0 13 rfl rfl)
theorem dX0_digest_14 : decode cX0_digest 14 = .ok (.iload_n 3, 1) := dk_29 (dk_at dksX0_digest_0 14 rfl rfl)
theorem dX0_digest_15 : decode cX0_digest 15 = .ok (.invokevirtual 435, 3) := dk_182 1 179 (dk_at dksX0_digest_0 15 rfl rfl)
theorem dX0_digest_18 : decode cX0_digest 18 = .ok (.i2l, 1) := dk_133 (dk_at dksX0_digest_0 18 rfl rfl)
theorem dX0_digest_19 : decode cX0_digest 19 = .ok (.invokestatic 438, 3) := dk_184 1 182 (dk_at dksX0_digest_0 19 rfl rfl)
theorem dX0_digest_22 : decode cX0_digest 22 = .ok (.lstore_n 1, 1) := dk_64 (dk_at dksX0_digest_0 22 rfl rfl)
theorem dX0_digest_23 : decode cX0_digest 23 = .ok (.iinc 3 1, 3) := dk_132 3 1 (dk_at dksX0_digest_1 0 rfl rfl)
theorem dX0_digest_26 : decode cX0_digest 26 = .ok (.goto (-20), 3) := dk_167 255 236 (dk_at dksX0_digest_1 3 rfl rfl)
theorem dX0_digest_29 : decode cX0_digest 29 = .ok (.iconst 0, 1) := dk_3 (dk_at dksX0_digest_1 6 rfl rfl)
theorem dX0_digest_30 : decode cX0_digest 30 = .ok (.istore_n 3, 1) := dk_62 (dk_at dksX0_digest_1 7 rfl rfl)
theorem dX0_digest_31 : decode cX0_digest 31 = .ok (.iload_n 3, 1) := dk_29 (dk_at dksX0_digest_1 8 rfl rfl)
theorem dX0_digest_32 : decode cX0_digest 32 = .ok (.aload_n 0, 1) := dk_42 (dk_at dksX0_digest_1 9 rfl rfl)
theorem dX0_digest_33 : decode cX0_digest 33 = .ok (.getfield 16, 3) := dk_180 0 16 (dk_at dksX0_digest_1 10 rfl rfl)
theorem dX0_digest_36 : decode cX0_digest 36 = .ok (.getfield 82, 3) := dk_180 0 82 (dk_at dksX0_digest_1 13 rfl rfl)
theorem dX0_digest_39 : decode cX0_digest 39 = .ok (.invokevirtual 86, 3) := dk_182 0 86 (dk_at dksX0_digest_1 16 rfl rfl)
theorem dX0_digest_42 : decode cX0_digest 42 = .ok (.if_icmp .ge 50, 3) := dk_162 0 50 (dk_at dksX0_digest_1 19 rfl rfl)
theorem dX0_digest_45 : decode cX0_digest 45 = .ok (.iconst 0, 1) := dk_3 (dk_at dksX0_digest_1 22 rfl rfl)
theorem dX0_digest_46 : decode cX0_digest 46 = .ok (.istore 4, 2) := dk_54 4 (dk_at dksX0_digest_2 0 rfl rfl)
theorem dX0_digest_48 : decode cX0_digest 48 = .ok (.iload 4, 2) := dk_21 4 (dk_at dksX0_digest_2 2 rfl rfl)
theorem dX0_digest_50 : decode cX0_digest 50 = .ok (.bipush 10, 2) := dk_16 10 (dk_at dksX0_digest_2 4 rfl rfl)
theorem dX0_digest_52 : decode cX0_digest 52 = .ok (.if_icmp .ge 34, 3) := dk_162 0 34 (dk_at dksX0_digest_2 6 rfl rfl)
theorem dX0_digest_55 : decode cX0_digest 55 = .ok (.lload_n 1, 1) := dk_31 (dk_at dksX0_digest_2 9 rfl rfl)
theorem dX0_digest_56 : decode cX0_digest 56 = .ok (.aload_n 0, 1) := dk_42 (dk_at dksX0_digest_2 10 rfl rfl)
theorem dX0_digest_57 : decode cX0_digest 57 = .ok (.getfield 16, 3) := dk_180 0 16 (dk_at dksX0_digest_2 11 rfl rfl)
theorem dX0_digest_60 : decode cX0_digest 60 = .ok (.getfield 82, 3) := dk_180 0 82 (dk_at dksX0_digest_2 14 rfl rfl)
theorem dX0_digest_63 : decode cX0_digest 63 = .ok (.iload_n 3, 1) := dk_29 (dk_at dksX0_digest_2 17 rfl rfl)
theorem dX0_digest_64 : decode cX0_digest 64 = .ok (.invokevirtual 118, 3) := dk_182 0 118 (dk_at dksX0_digest_2 18 rfl rfl)
theorem dX0_digest_67 : decode cX0_digest 67 = .ok (.checkcast 107, 3) := dk_192 0 107 (dk_at dksX0_digest_2 21 rfl rfl)
theorem dX0_digest_70 : decode cX0_digest 70 = .ok (.iload 4, 2) := dk_21 4 (dk_at dksX0_digest_3 0 rfl rfl)
theorem dX0_digest_72 : decode cX0_digest 72 = .ok (.invokevirtual 175, 3) := dk_182 0 175 (dk_at dksX0_digest_3 2 rfl rfl)
theorem dX0_digest_75 : decode cX0_digest 75 = .ok (.i2l, 1) := dk_133 (dk_at dksX0_digest_3 5 rfl rfl)
theorem dX0_digest_76 : decode cX0_digest 76 = .ok (.invokestatic 438, 3) := dk_184 1 182 (dk_at dksX0_digest_3 6 rfl rfl)
theorem dX0_digest_79 : decode cX0_digest 79 = .ok (.lstore_n 1, 1) := dk_64 (dk_at dksX0_digest_3 9 rfl rfl)
theorem dX0_digest_80 : decode cX0_digest 80 = .ok (.iinc 4 1, 3) := dk_132 4 1 (dk_at dksX0_digest_3 10 rfl rfl)
theorem dX0_digest_83 : decode cX0_digest 83 = .ok (.goto (-35), 3) := dk_167 255 221 (dk_at dksX0_digest_3 13 rfl rfl)
theorem dX0_digest_86 : decode cX0_digest 86 = .ok (.iinc 3 1, 3) := dk_132 3 1 (dk_at dksX0_digest_3 16 rfl rfl)
theorem dX0_digest_89 : decode cX0_digest 89 = .ok (.goto (-58), 3) := dk_167 255 198 (dk_at dksX0_digest_3 19 rfl rfl)
theorem dX0_digest_92 : decode cX0_digest 92 = .ok (.iconst 0, 1) := dk_3 (dk_at dksX0_digest_3 22 rfl rfl)
theorem dX0_digest_93 : decode cX0_digest 93 = .ok (.istore_n 3, 1) := dk_62 (dk_at dksX0_digest_3 23 rfl rfl)
theorem dX0_digest_94 : decode cX0_digest 94 = .ok (.iload_n 3, 1) := dk_29 (dk_at dksX0_digest_4 0 rfl rfl)
theorem dX0_digest_95 : decode cX0_digest 95 = .ok (.aload_n 0, 1) := dk_42 (dk_at dksX0_digest_4 1 rfl rfl)
theorem dX0_digest_96 : decode cX0_digest 96 = .ok (.getfield 16, 3) := dk_180 0 16 (dk_at dksX0_digest_4 2 rfl rfl)
theorem dX0_digest_99 : decode cX0_digest 99 = .ok (.getfield 89, 3) := dk_180 0 89 (dk_at dksX0_digest_4 5 rfl rfl)
theorem dX0_digest_102 : decode cX0_digest 102 = .ok (.invokevirtual 86, 3) := dk_182 0 86 (dk_at dksX0_digest_4 8 rfl rfl)
theorem dX0_digest_105 : decode cX0_digest 105 = .ok (.if_icmp .ge 37, 3) := dk_162 0 37 (dk_at dksX0_digest_4 11 rfl rfl)
theorem dX0_digest_108 : decode cX0_digest 108 = .ok (.iconst 0, 1) := dk_3 (dk_at dksX0_digest_4 14 rfl rfl)
theorem dX0_digest_109 : decode cX0_digest 109 = .ok (.istore 4, 2) := dk_54 4 (dk_at dksX0_digest_4 15 rfl rfl)
theorem dX0_digest_111 : decode cX0_digest 111 = .ok (.iload 4, 2) := dk_21 4 (dk_at dksX0_digest_4 17 rfl rfl)
theorem dX0_digest_113 : decode cX0_digest 113 = .ok (.iconst 5, 1) := dk_8 (dk_at dksX0_digest_4 19 rfl rfl)
theorem dX0_digest_114 : decode cX0_digest 114 = .ok (.if_icmp .ge 22, 3) := dk_162 0 22 (dk_at dksX0_digest_4 20 rfl rfl)
theorem dX0_digest_117 : decode cX0_digest 117 = .ok (.lload_n 1, 1) := dk_31 (dk_at dksX0_digest_4 23 rfl rfl)
theorem dX0_digest_118 : decode cX0_digest 118 = .ok (.aload_n 0, 1) := dk_42 (dk_at dksX0_digest_5 0 rfl rfl)
theorem dX0_digest_119 : decode cX0_digest 119 = .ok (.iload_n 3, 1) := dk_29 (dk_at dksX0_digest_5 1 rfl rfl)
theorem dX0_digest_120 : decode cX0_digest 120 = .ok (.iload 4, 2) := dk_21 4 (dk_at dksX0_digest_5 2 rfl rfl)
theorem dX0_digest_122 : decode cX0_digest 122 = .ok (.invokevirtual 188, 3) := dk_182 0 188 (dk_at dksX0_digest_5 4 rfl rfl)
theorem dX0_digest_125 : decode cX0_digest 125 = .ok (.i2l, 1) := dk_133 (dk_at dksX0_digest_5 7 rfl rfl)
theorem dX0_digest_126 : decode cX0_digest 126 = .ok (.invokestatic 438, 3) := dk_184 1 182 (dk_at dksX0_digest_5 8 rfl rfl)
theorem dX0_digest_129 : decode cX0_digest 129 = .ok (.lstore_n 1, 1) := dk_64 (dk_at dksX0_digest_5 11 rfl rfl)
theorem dX0_digest_130 : decode cX0_digest 130 = .ok (.iinc 4 1, 3) := dk_132 4 1 (dk_at dksX0_digest_5 12 rfl rfl)
theorem dX0_digest_133 : decode cX0_digest 133 = .ok (.goto (-22), 3) := dk_167 255 234 (dk_at dksX0_digest_5 15 rfl rfl)
theorem dX0_digest_136 : decode cX0_digest 136 = .ok (.iinc 3 1, 3) := dk_132 3 1 (dk_at dksX0_digest_5 18 rfl rfl)
theorem dX0_digest_139 : decode cX0_digest 139 = .ok (.goto (-45), 3) := dk_167 255 211 (dk_at dksX0_digest_5 21 rfl rfl)
theorem dX0_digest_142 : decode cX0_digest 142 = .ok (.iconst 0, 1) := dk_3 (dk_at dksX0_digest_6 0 rfl rfl)
theorem dX0_digest_143 : decode cX0_digest 143 = .ok (.istore_n 3, 1) := dk_62 (dk_at dksX0_digest_6 1 rfl rfl)
theorem dX0_digest_144 : decode cX0_digest 144 = .ok (.iload_n 3, 1) := dk_29 (dk_at dksX0_digest_6 2 rfl rfl)
theorem dX0_digest_145 : decode cX0_digest 145 = .ok (.iconst 4, 1) := dk_7 (dk_at dksX0_digest_6 3 rfl rfl)
theorem dX0_digest_146 : decode cX0_digest 146 = .ok (.if_icmp .ge 24, 3) := dk_162 0 24 (dk_at dksX0_digest_6 4 rfl rfl)
theorem dX0_digest_149 : decode cX0_digest 149 = .ok (.lload_n 1, 1) := dk_31 (dk_at dksX0_digest_6 7 rfl rfl)
theorem dX0_digest_150 : decode cX0_digest 150 = .ok (.aload_n 0, 1) := dk_42 (dk_at dksX0_digest_6 8 rfl rfl)
theorem dX0_digest_151 : decode cX0_digest 151 = .ok (.getfield 16, 3) := dk_180 0 16 (dk_at dksX0_digest_6 9 rfl rfl)
theorem dX0_digest_154 : decode cX0_digest 154 = .ok (.getfield 147, 3) := dk_180 0 147 (dk_at dksX0_digest_6 12 rfl rfl)
theorem dX0_digest_157 : decode cX0_digest 157 = .ok (.iload_n 3, 1) := dk_29 (dk_at dksX0_digest_6 15 rfl rfl)
theorem dX0_digest_158 : decode cX0_digest 158 = .ok (.iaload, 1) := dk_46 (dk_at dksX0_digest_6 16 rfl rfl)
theorem dX0_digest_159 : decode cX0_digest 159 = .ok (.i2l, 1) := dk_133 (dk_at dksX0_digest_6 17 rfl rfl)
theorem dX0_digest_160 : decode cX0_digest 160 = .ok (.invokestatic 438, 3) := dk_184 1 182 (dk_at dksX0_digest_6 18 rfl rfl)
theorem dX0_digest_163 : decode cX0_digest 163 = .ok (.lstore_n 1, 1) := dk_64 (dk_at dksX0_digest_6 21 rfl rfl)
theorem dX0_digest_164 : decode cX0_digest 164 = .ok (.iinc 3 1, 3) := dk_132 3 1 (dk_at dksX0_digest_7 0 rfl rfl)
theorem dX0_digest_167 : decode cX0_digest 167 = .ok (.goto (-23), 3) := dk_167 255 233 (dk_at dksX0_digest_7 3 rfl rfl)
theorem dX0_digest_170 : decode cX0_digest 170 = .ok (.iconst 0, 1) := dk_3 (dk_at dksX0_digest_7 6 rfl rfl)
theorem dX0_digest_171 : decode cX0_digest 171 = .ok (.istore_n 3, 1) := dk_62 (dk_at dksX0_digest_7 7 rfl rfl)
theorem dX0_digest_172 : decode cX0_digest 172 = .ok (.iload_n 3, 1) := dk_29 (dk_at dksX0_digest_7 8 rfl rfl)
theorem dX0_digest_173 : decode cX0_digest 173 = .ok (.bipush 7, 2) := dk_16 7 (dk_at dksX0_digest_7 9 rfl rfl)
theorem dX0_digest_175 : decode cX0_digest 175 = .ok (.if_icmp .ge 19, 3) := dk_162 0 19 (dk_at dksX0_digest_7 11 rfl rfl)
theorem dX0_digest_178 : decode cX0_digest 178 = .ok (.lload_n 1, 1) := dk_31 (dk_at dksX0_digest_7 14 rfl rfl)
theorem dX0_digest_179 : decode cX0_digest 179 = .ok (.aload_n 0, 1) := dk_42 (dk_at dksX0_digest_7 15 rfl rfl)
theorem dX0_digest_180 : decode cX0_digest 180 = .ok (.iload_n 3, 1) := dk_29 (dk_at dksX0_digest_7 16 rfl rfl)
theorem dX0_digest_181 : decode cX0_digest 181 = .ok (.invokevirtual 442, 3) := dk_182 1 186 (dk_at dksX0_digest_7 17 rfl rfl)
theorem dX0_digest_184 : decode cX0_digest 184 = .ok (.invokestatic 438, 3) := dk_184 1 182 (dk_at dksX0_digest_7 20 rfl rfl)
theorem dX0_digest_187 : decode cX0_digest 187 = .ok (.lstore_n 1, 1) := dk_64 (dk_at dksX0_digest_7 23 rfl rfl)
theorem dX0_digest_188 : decode cX0_digest 188 = .ok (.iinc 3 1, 3) := dk_132 3 1 (dk_at dksX0_digest_8 0 rfl rfl)
theorem dX0_digest_191 : decode cX0_digest 191 = .ok (.goto (-19), 3) := dk_167 255 237 (dk_at dksX0_digest_8 3 rfl rfl)
theorem dX0_digest_194 : decode cX0_digest 194 = .ok (.iconst 0, 1) := dk_3 (dk_at dksX0_digest_8 6 rfl rfl)
theorem dX0_digest_195 : decode cX0_digest 195 = .ok (.istore_n 3, 1) := dk_62 (dk_at dksX0_digest_8 7 rfl rfl)
theorem dX0_digest_196 : decode cX0_digest 196 = .ok (.iload_n 3, 1) := dk_29 (dk_at dksX0_digest_8 8 rfl rfl)
theorem dX0_digest_197 : decode cX0_digest 197 = .ok (.aload_n 0, 1) := dk_42 (dk_at dksX0_digest_8 9 rfl rfl)
theorem dX0_digest_198 : decode cX0_digest 198 = .ok (.getfield 16, 3) := dk_180 0 16 (dk_at dksX0_digest_8 10 rfl rfl)
theorem dX0_digest_201 : decode cX0_digest 201 = .ok (.getfield 92, 3) := dk_180 0 92 (dk_at dksX0_digest_8 13 rfl rfl)
theorem dX0_digest_204 : decode cX0_digest 204 = .ok (.invokevirtual 86, 3) := dk_182 0 86 (dk_at dksX0_digest_8 16 rfl rfl)
theorem dX0_digest_207 : decode cX0_digest 207 = .ok (.if_icmp .ge 50, 3) := dk_162 0 50 (dk_at dksX0_digest_8 19 rfl rfl)
theorem dX0_digest_210 : decode cX0_digest 210 = .ok (.iconst 0, 1) := dk_3 (dk_at dksX0_digest_8 22 rfl rfl)
theorem dX0_digest_211 : decode cX0_digest 211 = .ok (.istore 4, 2) := dk_54 4 (dk_at dksX0_digest_9 0 rfl rfl)
theorem dX0_digest_213 : decode cX0_digest 213 = .ok (.iload 4, 2) := dk_21 4 (dk_at dksX0_digest_9 2 rfl rfl)
theorem dX0_digest_215 : decode cX0_digest 215 = .ok (.bipush 6, 2) := dk_16 6 (dk_at dksX0_digest_9 4 rfl rfl)
theorem dX0_digest_217 : decode cX0_digest 217 = .ok (.if_icmp .ge 34, 3) := dk_162 0 34 (dk_at dksX0_digest_9 6 rfl rfl)
theorem dX0_digest_220 : decode cX0_digest 220 = .ok (.lload_n 1, 1) := dk_31 (dk_at dksX0_digest_9 9 rfl rfl)
theorem dX0_digest_221 : decode cX0_digest 221 = .ok (.aload_n 0, 1) := dk_42 (dk_at dksX0_digest_9 10 rfl rfl)
theorem dX0_digest_222 : decode cX0_digest 222 = .ok (.getfield 16, 3) := dk_180 0 16 (dk_at dksX0_digest_9 11 rfl rfl)
theorem dX0_digest_225 : decode cX0_digest 225 = .ok (.getfield 92, 3) := dk_180 0 92 (dk_at dksX0_digest_9 14 rfl rfl)
theorem dX0_digest_228 : decode cX0_digest 228 = .ok (.iload_n 3, 1) := dk_29 (dk_at dksX0_digest_9 17 rfl rfl)
theorem dX0_digest_229 : decode cX0_digest 229 = .ok (.invokevirtual 118, 3) := dk_182 0 118 (dk_at dksX0_digest_9 18 rfl rfl)
theorem dX0_digest_232 : decode cX0_digest 232 = .ok (.checkcast 153, 3) := dk_192 0 153 (dk_at dksX0_digest_9 21 rfl rfl)
theorem dX0_digest_235 : decode cX0_digest 235 = .ok (.iload 4, 2) := dk_21 4 (dk_at dksX0_digest_10 0 rfl rfl)
theorem dX0_digest_237 : decode cX0_digest 237 = .ok (.invokevirtual 310, 3) := dk_182 1 54 (dk_at dksX0_digest_10 2 rfl rfl)
theorem dX0_digest_240 : decode cX0_digest 240 = .ok (.i2l, 1) := dk_133 (dk_at dksX0_digest_10 5 rfl rfl)
theorem dX0_digest_241 : decode cX0_digest 241 = .ok (.invokestatic 438, 3) := dk_184 1 182 (dk_at dksX0_digest_10 6 rfl rfl)
theorem dX0_digest_244 : decode cX0_digest 244 = .ok (.lstore_n 1, 1) := dk_64 (dk_at dksX0_digest_10 9 rfl rfl)
theorem dX0_digest_245 : decode cX0_digest 245 = .ok (.iinc 4 1, 3) := dk_132 4 1 (dk_at dksX0_digest_10 10 rfl rfl)
theorem dX0_digest_248 : decode cX0_digest 248 = .ok (.goto (-35), 3) := dk_167 255 221 (dk_at dksX0_digest_10 13 rfl rfl)
theorem dX0_digest_251 : decode cX0_digest 251 = .ok (.iinc 3 1, 3) := dk_132 3 1 (dk_at dksX0_digest_10 16 rfl rfl)
theorem dX0_digest_254 : decode cX0_digest 254 = .ok (.goto (-58), 3) := dk_167 255 198 (dk_at dksX0_digest_10 19 rfl rfl)
theorem dX0_digest_257 : decode cX0_digest 257 = .ok (.lload_n 1, 1) := dk_31 (dk_at dksX0_digest_10 22 rfl rfl)
theorem dX0_digest_258 : decode cX0_digest 258 = .ok (.lreturn, 1) := dk_173 (dk_at dksX0_digest_10 23 rfl rfl)
abbrev cX0_mixed : ByteArray := prog_1_method_75_code
def yX0_mixed : MethodName := ⟨RX0, "mixed", "(JJ)J"⟩
def dkwX0_mixed_0 : List UInt8 := [20, 1, 175, 30, 105, 32, 97, 173]
abbrev dktX0_mixed_0 : List UInt8 := dkwX0_mixed_0 ++ []
theorem dksX0_mixed_0 : cX0_mixed.data.toList.drop 0 = dktX0_mixed_0 := by decide +kernel
theorem dX0_mixed_0 : decode cX0_mixed 0 = .ok (.ldc2_w 431, 3) := dk_20 1 175 (dk_at dksX0_mixed_0 0 rfl rfl)
theorem dX0_mixed_3 : decode cX0_mixed 3 = .ok (.lload_n 0, 1) := dk_30 (dk_at dksX0_mixed_0 3 rfl rfl)
theorem dX0_mixed_4 : decode cX0_mixed 4 = .ok (.lmul, 1) := dk_105 (dk_at dksX0_mixed_0 4 rfl rfl)
theorem dX0_mixed_5 : decode cX0_mixed 5 = .ok (.lload_n 2, 1) := dk_32 (dk_at dksX0_mixed_0 5 rfl rfl)
theorem dX0_mixed_6 : decode cX0_mixed 6 = .ok (.ladd, 1) := dk_97 (dk_at dksX0_mixed_0 6 rfl rfl)
theorem dX0_mixed_7 : decode cX0_mixed 7 = .ok (.lreturn, 1) := dk_173 (dk_at dksX0_mixed_0 7 rfl rfl)
theorem q89 : (Jvm.Cond.initialized "WheatElevator") ∈ lw_all := lw_g (lw_at lw_m1 1 rfl) rfl
theorem q113 : (Jvm.Cond.instantiable "WheatElevator" (9 : Nat)) ∈ lw_all := lw_g (lw_at lw_m1 25 rfl) rfl
theorem q115 : (Jvm.Cond.instanceMethod ({ cls := "WheatElevator", name := "<init>", desc := "()V" } : Jvm.MethodName)) ∈ lw_all := lw_g (lw_at lw_m1 27 rfl) rfl
theorem q116 : (Jvm.Cond.code ({ cls := "WheatElevator", name := "<init>", desc := "()V" } : Jvm.MethodName) prog_1_method_6_code (1 : Nat) (Option.none : Option Jvm.ClassFile.FieldType)) ∈ lw_all := lw_g (lw_at lw_m1 28 rfl) rfl
theorem q117 : (Jvm.Cond.methodLink "WheatElevator" (7 : Nat) ({ cls := "java/lang/Object", name := "<init>", desc := "()V" } : Jvm.MethodName)) ∈ lw_all := lw_g (lw_at lw_m1 29 rfl) rfl
theorem q120 : (Jvm.Cond.classLink "WheatElevator" (13 : Nat) "WheatElevator$State") ∈ lw_all := lw_g (lw_at lw_m1 32 rfl) rfl
theorem q122 : (Jvm.Cond.methodLink "WheatElevator" (15 : Nat) ({ cls := "WheatElevator$State", name := "<init>", desc := "()V" } : Jvm.MethodName)) ∈ lw_all := lw_g (lw_at lw_m1 34 rfl) rfl
theorem q155 : (Jvm.Cond.fieldLinkNest "WheatElevator" (82 : Nat) "WheatElevator$State" "bins" "Ljava/util/ArrayList;" "WheatElevator") ∈ lw_tbl := lw_at lw_m1 67 rfl
theorem q157 : (Jvm.Cond.fieldLinkNest "WheatElevator" (89 : Nat) "WheatElevator$State" "legs" "Ljava/util/ArrayList;" "WheatElevator") ∈ lw_tbl := lw_at lw_m1 69 rfl
theorem q159 : (Jvm.Cond.fieldLinkNest "WheatElevator" (92 : Nat) "WheatElevator$State" "contracts" "Ljava/util/ArrayList;" "WheatElevator") ∈ lw_tbl := lw_at lw_m1 71 rfl
theorem q161 : (Jvm.Cond.fieldLinkNest "WheatElevator" (147 : Nat) "WheatElevator$State" "prices" "[I" "WheatElevator") ∈ lw_tbl := lw_at lw_m1 73 rfl
theorem q163 : (Jvm.Cond.fieldLinkNest "WheatElevator" (95 : Nat) "WheatElevator$State" "clock" "I" "WheatElevator") ∈ lw_tbl := lw_at lw_m1 75 rfl
theorem q165 : (Jvm.Cond.fieldLinkNest "WheatElevator" (150 : Nat) "WheatElevator$State" "dustLimit" "I" "WheatElevator") ∈ lw_tbl := lw_at lw_m1 77 rfl
theorem q167 : (Jvm.Cond.fieldLinkNest "WheatElevator" (101 : Nat) "WheatElevator$State" "reason" "I" "WheatElevator") ∈ lw_tbl := lw_at lw_m1 79 rfl
theorem q169 : (Jvm.Cond.fieldLinkNest "WheatElevator" (192 : Nat) "WheatElevator$State" "received" "I" "WheatElevator") ∈ lw_tbl := lw_at lw_m1 81 rfl
theorem q171 : (Jvm.Cond.fieldLinkNest "WheatElevator" (195 : Nat) "WheatElevator$State" "loaded" "I" "WheatElevator") ∈ lw_tbl := lw_at lw_m1 83 rfl
theorem q173 : (Jvm.Cond.fieldLinkNest "WheatElevator" (198 : Nat) "WheatElevator$State" "lost" "I" "WheatElevator") ∈ lw_tbl := lw_at lw_m1 85 rfl
theorem q175 : (Jvm.Cond.fieldLinkNest "WheatElevator" (201 : Nat) "WheatElevator$State" "paid" "J" "WheatElevator") ∈ lw_tbl := lw_at lw_m1 87 rfl
theorem q177 : (Jvm.Cond.fieldLinkNest "WheatElevator" (205 : Nat) "WheatElevator$State" "earned" "J" "WheatElevator") ∈ lw_tbl := lw_at lw_m1 89 rfl
theorem q179 : (Jvm.Cond.fieldLinkNest "WheatElevator" (208 : Nat) "WheatElevator$State" "spent" "J" "WheatElevator") ∈ lw_tbl := lw_at lw_m1 91 rfl
theorem q208 : (Jvm.Cond.classLink "WheatElevator" (20 : Nat) "java/util/ArrayDeque") ∈ lw_all := lw_g (lw_at lw_m1 120 rfl) rfl
theorem q210 : (Jvm.Cond.methodLink "WheatElevator" (22 : Nat) ({ cls := "java/util/ArrayDeque", name := "<init>", desc := "(I)V" } : Jvm.MethodName)) ∈ lw_all := lw_g (lw_at lw_m1 122 rfl) rfl
theorem q227 : (Jvm.Cond.classLink "WheatElevator" (40 : Nat) "java/lang/StringBuilder") ∈ lw_all := lw_g (lw_at lw_m1 139 rfl) rfl
theorem q229 : (Jvm.Cond.methodLink "WheatElevator" (42 : Nat) ({ cls := "java/lang/StringBuilder", name := "<init>", desc := "(I)V" } : Jvm.MethodName)) ∈ lw_all := lw_g (lw_at lw_m1 141 rfl) rfl
theorem q259 : (Jvm.Cond.classLink "WheatElevator" (47 : Nat) "WheatElevator$Order") ∈ lw_all := lw_g (lw_at lw_m1 171 rfl) rfl
theorem q262 : (Jvm.Cond.privateMethod ({ cls := "WheatElevator", name := "lambda$new$0", desc := "([I)I" } : Jvm.MethodName)) ∈ lw_tbl := lw_at lw_m1 174 rfl
theorem q263 : (Jvm.Cond.instanceMethod ({ cls := "WheatElevator", name := "lambda$new$0", desc := "([I)I" } : Jvm.MethodName)) ∈ lw_all := lw_g (lw_at lw_m1 175 rfl) rfl
theorem q264 : (Jvm.Cond.code ({ cls := "WheatElevator", name := "lambda$new$0", desc := "([I)I" } : Jvm.MethodName) prog_1_method_84_code (2 : Nat) (Option.some Jvm.ClassFile.FieldType.int)) ∈ lw_all := lw_g (lw_at lw_m1 176 rfl) rfl
theorem q265 : (Jvm.Cond.methodLink "WheatElevator" (254 : Nat) ({ cls := "WheatElevator", name := "receiveFault", desc := "(IIIII)I" } : Jvm.MethodName)) ∈ lw_all := lw_g (lw_at lw_m1 177 rfl) rfl
theorem q266 : (Jvm.Cond.privateMethod ({ cls := "WheatElevator", name := "receiveFault", desc := "(IIIII)I" } : Jvm.MethodName)) ∈ lw_tbl := lw_at lw_m1 178 rfl
theorem q267 : (Jvm.Cond.instanceMethod ({ cls := "WheatElevator", name := "receiveFault", desc := "(IIIII)I" } : Jvm.MethodName)) ∈ lw_all := lw_g (lw_at lw_m1 179 rfl) rfl
theorem q268 : (Jvm.Cond.code ({ cls := "WheatElevator", name := "receiveFault", desc := "(IIIII)I" } : Jvm.MethodName) prog_1_method_30_code (7 : Nat) (Option.some Jvm.ClassFile.FieldType.int)) ∈ lw_all := lw_g (lw_at lw_m1 180 rfl) rfl
theorem q269 : (Jvm.Cond.methodLink "WheatElevator" (86 : Nat) ({ cls := "java/util/ArrayList", name := "size", desc := "()I" } : Jvm.MethodName)) ∈ lw_all := lw_g (lw_at lw_m1 181 rfl) rfl
theorem q273 : (Jvm.Cond.methodLink "WheatElevator" (137 : Nat) ({ cls := "WheatElevator", name := "areBelow", desc := "([I)Z" } : Jvm.MethodName)) ∈ lw_all := lw_g (lw_at lw_m1 185 rfl) rfl
theorem q274 : (Jvm.Cond.static ({ cls := "WheatElevator", name := "areBelow", desc := "([I)Z" } : Jvm.MethodName)) ∈ lw_all := lw_g (lw_at lw_m1 186 rfl) rfl
theorem q275 : (Jvm.Cond.code ({ cls := "WheatElevator", name := "areBelow", desc := "([I)Z" } : Jvm.MethodName) prog_1_method_2_code (3 : Nat) (Option.some Jvm.ClassFile.FieldType.boolean)) ∈ lw_all := lw_g (lw_at lw_m1 187 rfl) rfl
theorem q276 : (Jvm.Cond.methodLink "WheatElevator" (1 : Nat) ({ cls := "WheatElevator", name := "isIn", desc := "(III)Z" } : Jvm.MethodName)) ∈ lw_all := lw_g (lw_at lw_m1 188 rfl) rfl
theorem q277 : (Jvm.Cond.static ({ cls := "WheatElevator", name := "isIn", desc := "(III)Z" } : Jvm.MethodName)) ∈ lw_all := lw_g (lw_at lw_m1 189 rfl) rfl
theorem q278 : (Jvm.Cond.code ({ cls := "WheatElevator", name := "isIn", desc := "(III)Z" } : Jvm.MethodName) prog_1_method_1_code (3 : Nat) (Option.some Jvm.ClassFile.FieldType.boolean)) ∈ lw_all := lw_g (lw_at lw_m1 190 rfl) rfl
theorem q279 : (Jvm.Cond.methodLink "WheatElevator" (222 : Nat) ({ cls := "WheatElevator", name := "isMoisture", desc := "(I)Z" } : Jvm.MethodName)) ∈ lw_all := lw_g (lw_at lw_m1 191 rfl) rfl
theorem q280 : (Jvm.Cond.static ({ cls := "WheatElevator", name := "isMoisture", desc := "(I)Z" } : Jvm.MethodName)) ∈ lw_all := lw_g (lw_at lw_m1 192 rfl) rfl
theorem q281 : (Jvm.Cond.code ({ cls := "WheatElevator", name := "isMoisture", desc := "(I)Z" } : Jvm.MethodName) prog_1_method_3_code (1 : Nat) (Option.some Jvm.ClassFile.FieldType.boolean)) ∈ lw_all := lw_g (lw_at lw_m1 193 rfl) rfl
theorem q282 : (Jvm.Cond.methodLink "WheatElevator" (225 : Nat) ({ cls := "WheatElevator$State", name := "refusal", desc := "(IIIII)I" } : Jvm.MethodName)) ∈ lw_all := lw_g (lw_at lw_m1 194 rfl) rfl
theorem q307 : (Jvm.Cond.static ({ cls := "WheatElevator", name := "has", desc := "(II)Z" } : Jvm.MethodName)) ∈ lw_all := lw_g (lw_at lw_m1 219 rfl) rfl
theorem q308 : (Jvm.Cond.code ({ cls := "WheatElevator", name := "has", desc := "(II)Z" } : Jvm.MethodName) prog_1_method_5_code (2 : Nat) (Option.some Jvm.ClassFile.FieldType.boolean)) ∈ lw_all := lw_g (lw_at lw_m1 220 rfl) rfl
theorem q314 : (Jvm.Cond.methodLink "WheatElevator" (229 : Nat) ({ cls := "WheatElevator", name := "refuse", desc := "(I)I" } : Jvm.MethodName)) ∈ lw_all := lw_g (lw_at lw_m1 226 rfl) rfl
theorem q315 : (Jvm.Cond.privateMethod ({ cls := "WheatElevator", name := "refuse", desc := "(I)I" } : Jvm.MethodName)) ∈ lw_tbl := lw_at lw_m1 227 rfl
theorem q316 : (Jvm.Cond.instanceMethod ({ cls := "WheatElevator", name := "refuse", desc := "(I)I" } : Jvm.MethodName)) ∈ lw_all := lw_g (lw_at lw_m1 228 rfl) rfl
theorem q317 : (Jvm.Cond.code ({ cls := "WheatElevator", name := "refuse", desc := "(I)I" } : Jvm.MethodName) prog_1_method_13_code (2 : Nat) (Option.some Jvm.ClassFile.FieldType.int)) ∈ lw_all := lw_g (lw_at lw_m1 229 rfl) rfl
theorem q318 : (Jvm.Cond.methodLink "WheatElevator" (232 : Nat) ({ cls := "WheatElevator$State", name := "minutesOf", desc := "(II)I" } : Jvm.MethodName)) ∈ lw_all := lw_g (lw_at lw_m1 230 rfl) rfl
theorem q323 : (Jvm.Cond.static ({ cls := "WheatElevator", name := "minutesFor", desc := "(II)I" } : Jvm.MethodName)) ∈ lw_all := lw_g (lw_at lw_m1 235 rfl) rfl
theorem q324 : (Jvm.Cond.code ({ cls := "WheatElevator", name := "minutesFor", desc := "(II)I" } : Jvm.MethodName) prog_1_method_4_code (2 : Nat) (Option.some Jvm.ClassFile.FieldType.int)) ∈ lw_all := lw_g (lw_at lw_m1 236 rfl) rfl
theorem q325 : (Jvm.Cond.methodLink "WheatElevator" (235 : Nat) ({ cls := "WheatElevator", name := "hasTime", desc := "(J)Z" } : Jvm.MethodName)) ∈ lw_all := lw_g (lw_at lw_m1 237 rfl) rfl
theorem q326 : (Jvm.Cond.privateMethod ({ cls := "WheatElevator", name := "hasTime", desc := "(J)Z" } : Jvm.MethodName)) ∈ lw_tbl := lw_at lw_m1 238 rfl
theorem q327 : (Jvm.Cond.instanceMethod ({ cls := "WheatElevator", name := "hasTime", desc := "(J)Z" } : Jvm.MethodName)) ∈ lw_all := lw_g (lw_at lw_m1 239 rfl) rfl
theorem q328 : (Jvm.Cond.code ({ cls := "WheatElevator", name := "hasTime", desc := "(J)Z" } : Jvm.MethodName) prog_1_method_12_code (3 : Nat) (Option.some Jvm.ClassFile.FieldType.boolean)) ∈ lw_all := lw_g (lw_at lw_m2 0 rfl) rfl
theorem q329 : (Jvm.Cond.constantLong "WheatElevator" (99 : Nat) (1000000 : Int64)) ∈ lw_all := lw_g (lw_at lw_m2 1 rfl) rfl
theorem q330 : (Jvm.Cond.privateMethod ({ cls := "WheatElevator", name := "lambda$new$1", desc := "([I)I" } : Jvm.MethodName)) ∈ lw_tbl := lw_at lw_m2 2 rfl
theorem q331 : (Jvm.Cond.instanceMethod ({ cls := "WheatElevator", name := "lambda$new$1", desc := "([I)I" } : Jvm.MethodName)) ∈ lw_all := lw_g (lw_at lw_m2 3 rfl) rfl
theorem q332 : (Jvm.Cond.code ({ cls := "WheatElevator", name := "lambda$new$1", desc := "([I)I" } : Jvm.MethodName) prog_1_method_83_code (2 : Nat) (Option.some Jvm.ClassFile.FieldType.int)) ∈ lw_all := lw_g (lw_at lw_m2 4 rfl) rfl
theorem q333 : (Jvm.Cond.methodLink "WheatElevator" (257 : Nat) ({ cls := "WheatElevator", name := "doReceive", desc := "(IIIII)I" } : Jvm.MethodName)) ∈ lw_all := lw_g (lw_at lw_m2 5 rfl) rfl
theorem q334 : (Jvm.Cond.privateMethod ({ cls := "WheatElevator", name := "doReceive", desc := "(IIIII)I" } : Jvm.MethodName)) ∈ lw_tbl := lw_at lw_m2 6 rfl
theorem q335 : (Jvm.Cond.instanceMethod ({ cls := "WheatElevator", name := "doReceive", desc := "(IIIII)I" } : Jvm.MethodName)) ∈ lw_all := lw_g (lw_at lw_m2 7 rfl) rfl
theorem q336 : (Jvm.Cond.code ({ cls := "WheatElevator", name := "doReceive", desc := "(IIIII)I" } : Jvm.MethodName) prog_1_method_31_code (8 : Nat) (Option.some Jvm.ClassFile.FieldType.int)) ∈ lw_all := lw_g (lw_at lw_m2 8 rfl) rfl
theorem q337 : (Jvm.Cond.methodLink "WheatElevator" (239 : Nat) ({ cls := "WheatElevator$State", name := "pass", desc := "(I)V" } : Jvm.MethodName)) ∈ lw_all := lw_g (lw_at lw_m2 9 rfl) rfl
theorem q359 : (Jvm.Cond.methodLink "WheatElevator" (118 : Nat) ({ cls := "java/util/ArrayList", name := "get", desc := "(I)Ljava/lang/Object;" } : Jvm.MethodName)) ∈ lw_all := lw_g (lw_at lw_m2 31 rfl) rfl
theorem q360 : (Jvm.Cond.classLink "WheatElevator" (107 : Nat) "WheatElevator$Bin") ∈ lw_all := lw_g (lw_at lw_m2 32 rfl) rfl
theorem q361 : (Jvm.Cond.methodLink "WheatElevator" (242 : Nat) ({ cls := "WheatElevator$Bin", name := "put", desc := "(III)V" } : Jvm.MethodName)) ∈ lw_all := lw_g (lw_at lw_m2 33 rfl) rfl
theorem q365 : (Jvm.Cond.classLink "WheatElevator" (128 : Nat) "WheatElevator$Leg") ∈ lw_all := lw_g (lw_at lw_m2 37 rfl) rfl
theorem q366 : (Jvm.Cond.methodLink "WheatElevator" (246 : Nat) ({ cls := "WheatElevator$Leg", name := "lift", desc := "(II)V" } : Jvm.MethodName)) ∈ lw_all := lw_g (lw_at lw_m2 38 rfl) rfl
theorem q371 : (Jvm.Cond.methodLink "WheatElevator" (250 : Nat) ({ cls := "WheatElevator$State", name := "payFor", desc := "(III)J" } : Jvm.MethodName)) ∈ lw_all := lw_g (lw_at lw_m2 43 rfl) rfl
theorem q379 : (Jvm.Cond.methodLink "WheatElevator" (58 : Nat) ({ cls := "WheatElevator$Order", name := "<init>", desc := "(CILWheatElevator$Deed;LWheatElevator$Deed;)V" } : Jvm.MethodName)) ∈ lw_all := lw_g (lw_at lw_m2 51 rfl) rfl
theorem q388 : (Jvm.Cond.fieldLinkNest "WheatElevator" (407 : Nat) "WheatElevator$Order" "fault" "LWheatElevator$Deed;" "WheatElevator") ∈ lw_tbl := lw_at lw_m2 60 rfl
theorem q390 : (Jvm.Cond.fieldLinkNest "WheatElevator" (419 : Nat) "WheatElevator$Order" "deed" "LWheatElevator$Deed;" "WheatElevator") ∈ lw_tbl := lw_at lw_m2 62 rfl
theorem q400 : (Jvm.Cond.privateMethod ({ cls := "WheatElevator", name := "lambda$new$2", desc := "([I)I" } : Jvm.MethodName)) ∈ lw_tbl := lw_at lw_m2 72 rfl
theorem q401 : (Jvm.Cond.instanceMethod ({ cls := "WheatElevator", name := "lambda$new$2", desc := "([I)I" } : Jvm.MethodName)) ∈ lw_all := lw_g (lw_at lw_m2 73 rfl) rfl
theorem q402 : (Jvm.Cond.code ({ cls := "WheatElevator", name := "lambda$new$2", desc := "([I)I" } : Jvm.MethodName) prog_1_method_82_code (2 : Nat) (Option.some Jvm.ClassFile.FieldType.int)) ∈ lw_all := lw_g (lw_at lw_m2 74 rfl) rfl
theorem q403 : (Jvm.Cond.methodLink "WheatElevator" (273 : Nat) ({ cls := "WheatElevator", name := "moveFault", desc := "(IIII)I" } : Jvm.MethodName)) ∈ lw_all := lw_g (lw_at lw_m2 75 rfl) rfl
theorem q404 : (Jvm.Cond.privateMethod ({ cls := "WheatElevator", name := "moveFault", desc := "(IIII)I" } : Jvm.MethodName)) ∈ lw_tbl := lw_at lw_m2 76 rfl
theorem q405 : (Jvm.Cond.instanceMethod ({ cls := "WheatElevator", name := "moveFault", desc := "(IIII)I" } : Jvm.MethodName)) ∈ lw_all := lw_g (lw_at lw_m2 77 rfl) rfl
theorem q406 : (Jvm.Cond.code ({ cls := "WheatElevator", name := "moveFault", desc := "(IIII)I" } : Jvm.MethodName) prog_1_method_34_code (7 : Nat) (Option.some Jvm.ClassFile.FieldType.int)) ∈ lw_all := lw_g (lw_at lw_m2 78 rfl) rfl
theorem q407 : (Jvm.Cond.methodLink "WheatElevator" (260 : Nat) ({ cls := "WheatElevator", name := "moveArguments", desc := "(IIII)I" } : Jvm.MethodName)) ∈ lw_all := lw_g (lw_at lw_m2 79 rfl) rfl
theorem q408 : (Jvm.Cond.privateMethod ({ cls := "WheatElevator", name := "moveArguments", desc := "(IIII)I" } : Jvm.MethodName)) ∈ lw_tbl := lw_at lw_m2 80 rfl
theorem q409 : (Jvm.Cond.instanceMethod ({ cls := "WheatElevator", name := "moveArguments", desc := "(IIII)I" } : Jvm.MethodName)) ∈ lw_all := lw_g (lw_at lw_m2 81 rfl) rfl
theorem q410 : (Jvm.Cond.code ({ cls := "WheatElevator", name := "moveArguments", desc := "(IIII)I" } : Jvm.MethodName) prog_1_method_33_code (5 : Nat) (Option.some Jvm.ClassFile.FieldType.int)) ∈ lw_all := lw_g (lw_at lw_m2 82 rfl) rfl
theorem q411 : (Jvm.Cond.methodLink "WheatElevator" (264 : Nat) ({ cls := "WheatElevator$State", name := "moveRefusal", desc := "(IIII)I" } : Jvm.MethodName)) ∈ lw_all := lw_g (lw_at lw_m2 83 rfl) rfl
theorem q420 : (Jvm.Cond.privateMethod ({ cls := "WheatElevator", name := "lambda$new$3", desc := "([I)I" } : Jvm.MethodName)) ∈ lw_tbl := lw_at lw_m2 92 rfl
theorem q421 : (Jvm.Cond.instanceMethod ({ cls := "WheatElevator", name := "lambda$new$3", desc := "([I)I" } : Jvm.MethodName)) ∈ lw_all := lw_g (lw_at lw_m2 93 rfl) rfl
theorem q422 : (Jvm.Cond.code ({ cls := "WheatElevator", name := "lambda$new$3", desc := "([I)I" } : Jvm.MethodName) prog_1_method_81_code (2 : Nat) (Option.some Jvm.ClassFile.FieldType.int)) ∈ lw_all := lw_g (lw_at lw_m2 94 rfl) rfl
theorem q423 : (Jvm.Cond.methodLink "WheatElevator" (276 : Nat) ({ cls := "WheatElevator", name := "doMove", desc := "(IIII)I" } : Jvm.MethodName)) ∈ lw_all := lw_g (lw_at lw_m2 95 rfl) rfl
theorem q424 : (Jvm.Cond.privateMethod ({ cls := "WheatElevator", name := "doMove", desc := "(IIII)I" } : Jvm.MethodName)) ∈ lw_tbl := lw_at lw_m2 96 rfl
theorem q425 : (Jvm.Cond.instanceMethod ({ cls := "WheatElevator", name := "doMove", desc := "(IIII)I" } : Jvm.MethodName)) ∈ lw_all := lw_g (lw_at lw_m2 97 rfl) rfl
theorem q426 : (Jvm.Cond.code ({ cls := "WheatElevator", name := "doMove", desc := "(IIII)I" } : Jvm.MethodName) prog_1_method_35_code (7 : Nat) (Option.some Jvm.ClassFile.FieldType.int)) ∈ lw_all := lw_g (lw_at lw_m2 98 rfl) rfl
theorem q427 : (Jvm.Cond.methodLink "WheatElevator" (270 : Nat) ({ cls := "WheatElevator$Bin", name := "take", desc := "(I)I" } : Jvm.MethodName)) ∈ lw_all := lw_g (lw_at lw_m2 99 rfl) rfl
theorem q437 : (Jvm.Cond.privateMethod ({ cls := "WheatElevator", name := "lambda$new$4", desc := "([I)I" } : Jvm.MethodName)) ∈ lw_tbl := lw_at lw_m2 109 rfl
theorem q438 : (Jvm.Cond.instanceMethod ({ cls := "WheatElevator", name := "lambda$new$4", desc := "([I)I" } : Jvm.MethodName)) ∈ lw_all := lw_g (lw_at lw_m2 110 rfl) rfl
theorem q439 : (Jvm.Cond.code ({ cls := "WheatElevator", name := "lambda$new$4", desc := "([I)I" } : Jvm.MethodName) prog_1_method_80_code (2 : Nat) (Option.some Jvm.ClassFile.FieldType.int)) ∈ lw_all := lw_g (lw_at lw_m2 111 rfl) rfl
theorem q440 : (Jvm.Cond.methodLink "WheatElevator" (284 : Nat) ({ cls := "WheatElevator", name := "cleanFault", desc := "(II)I" } : Jvm.MethodName)) ∈ lw_all := lw_g (lw_at lw_m2 112 rfl) rfl
theorem q441 : (Jvm.Cond.privateMethod ({ cls := "WheatElevator", name := "cleanFault", desc := "(II)I" } : Jvm.MethodName)) ∈ lw_tbl := lw_at lw_m2 113 rfl
theorem q442 : (Jvm.Cond.instanceMethod ({ cls := "WheatElevator", name := "cleanFault", desc := "(II)I" } : Jvm.MethodName)) ∈ lw_all := lw_g (lw_at lw_m2 114 rfl) rfl
theorem q443 : (Jvm.Cond.code ({ cls := "WheatElevator", name := "cleanFault", desc := "(II)I" } : Jvm.MethodName) prog_1_method_38_code (3 : Nat) (Option.some Jvm.ClassFile.FieldType.int)) ∈ lw_all := lw_g (lw_at lw_m2 115 rfl) rfl
theorem q444 : (Jvm.Cond.methodLink "WheatElevator" (131 : Nat) ({ cls := "WheatElevator", name := "isLeg", desc := "(I)Z" } : Jvm.MethodName)) ∈ lw_all := lw_g (lw_at lw_m2 116 rfl) rfl
theorem q445 : (Jvm.Cond.privateMethod ({ cls := "WheatElevator", name := "isLeg", desc := "(I)Z" } : Jvm.MethodName)) ∈ lw_tbl := lw_at lw_m2 117 rfl
theorem q446 : (Jvm.Cond.instanceMethod ({ cls := "WheatElevator", name := "isLeg", desc := "(I)Z" } : Jvm.MethodName)) ∈ lw_all := lw_g (lw_at lw_m2 118 rfl) rfl
theorem q447 : (Jvm.Cond.code ({ cls := "WheatElevator", name := "isLeg", desc := "(I)Z" } : Jvm.MethodName) prog_1_method_9_code (2 : Nat) (Option.some Jvm.ClassFile.FieldType.boolean)) ∈ lw_all := lw_g (lw_at lw_m2 119 rfl) rfl
theorem q448 : (Jvm.Cond.privateMethod ({ cls := "WheatElevator", name := "lambda$new$5", desc := "([I)I" } : Jvm.MethodName)) ∈ lw_tbl := lw_at lw_m2 120 rfl
theorem q449 : (Jvm.Cond.instanceMethod ({ cls := "WheatElevator", name := "lambda$new$5", desc := "([I)I" } : Jvm.MethodName)) ∈ lw_all := lw_g (lw_at lw_m2 121 rfl) rfl
theorem q450 : (Jvm.Cond.code ({ cls := "WheatElevator", name := "lambda$new$5", desc := "([I)I" } : Jvm.MethodName) prog_1_method_79_code (2 : Nat) (Option.some Jvm.ClassFile.FieldType.int)) ∈ lw_all := lw_g (lw_at lw_m2 122 rfl) rfl
theorem q451 : (Jvm.Cond.methodLink "WheatElevator" (287 : Nat) ({ cls := "WheatElevator", name := "doClean", desc := "(II)I" } : Jvm.MethodName)) ∈ lw_all := lw_g (lw_at lw_m2 123 rfl) rfl
theorem q452 : (Jvm.Cond.privateMethod ({ cls := "WheatElevator", name := "doClean", desc := "(II)I" } : Jvm.MethodName)) ∈ lw_tbl := lw_at lw_m2 124 rfl
theorem q453 : (Jvm.Cond.instanceMethod ({ cls := "WheatElevator", name := "doClean", desc := "(II)I" } : Jvm.MethodName)) ∈ lw_all := lw_g (lw_at lw_m2 125 rfl) rfl
theorem q454 : (Jvm.Cond.code ({ cls := "WheatElevator", name := "doClean", desc := "(II)I" } : Jvm.MethodName) prog_1_method_39_code (4 : Nat) (Option.some Jvm.ClassFile.FieldType.int)) ∈ lw_all := lw_g (lw_at lw_m2 126 rfl) rfl
theorem q455 : (Jvm.Cond.methodLink "WheatElevator" (279 : Nat) ({ cls := "java/lang/Math", name := "max", desc := "(II)I" } : Jvm.MethodName)) ∈ lw_all := lw_g (lw_at lw_m2 127 rfl) rfl
theorem q456 : (Jvm.Cond.privateMethod ({ cls := "WheatElevator", name := "lambda$new$6", desc := "([I)I" } : Jvm.MethodName)) ∈ lw_tbl := lw_at lw_m2 128 rfl
theorem q457 : (Jvm.Cond.instanceMethod ({ cls := "WheatElevator", name := "lambda$new$6", desc := "([I)I" } : Jvm.MethodName)) ∈ lw_all := lw_g (lw_at lw_m2 129 rfl) rfl
theorem q458 : (Jvm.Cond.code ({ cls := "WheatElevator", name := "lambda$new$6", desc := "([I)I" } : Jvm.MethodName) prog_1_method_78_code (2 : Nat) (Option.some Jvm.ClassFile.FieldType.int)) ∈ lw_all := lw_g (lw_at lw_m2 130 rfl) rfl
theorem q459 : (Jvm.Cond.methodLink "WheatElevator" (298 : Nat) ({ cls := "WheatElevator", name := "dryFault", desc := "(II)I" } : Jvm.MethodName)) ∈ lw_all := lw_g (lw_at lw_m2 131 rfl) rfl
theorem q460 : (Jvm.Cond.privateMethod ({ cls := "WheatElevator", name := "dryFault", desc := "(II)I" } : Jvm.MethodName)) ∈ lw_tbl := lw_at lw_m2 132 rfl
theorem q461 : (Jvm.Cond.instanceMethod ({ cls := "WheatElevator", name := "dryFault", desc := "(II)I" } : Jvm.MethodName)) ∈ lw_all := lw_g (lw_at lw_m2 133 rfl) rfl
theorem q462 : (Jvm.Cond.code ({ cls := "WheatElevator", name := "dryFault", desc := "(II)I" } : Jvm.MethodName) prog_1_method_42_code (3 : Nat) (Option.some Jvm.ClassFile.FieldType.int)) ∈ lw_all := lw_g (lw_at lw_m2 134 rfl) rfl
theorem q463 : (Jvm.Cond.methodLink "WheatElevator" (114 : Nat) ({ cls := "WheatElevator", name := "isBin", desc := "(I)Z" } : Jvm.MethodName)) ∈ lw_all := lw_g (lw_at lw_m2 135 rfl) rfl
theorem q464 : (Jvm.Cond.privateMethod ({ cls := "WheatElevator", name := "isBin", desc := "(I)Z" } : Jvm.MethodName)) ∈ lw_tbl := lw_at lw_m2 136 rfl
theorem q465 : (Jvm.Cond.instanceMethod ({ cls := "WheatElevator", name := "isBin", desc := "(I)Z" } : Jvm.MethodName)) ∈ lw_all := lw_g (lw_at lw_m2 137 rfl) rfl
theorem q466 : (Jvm.Cond.code ({ cls := "WheatElevator", name := "isBin", desc := "(I)Z" } : Jvm.MethodName) prog_1_method_8_code (2 : Nat) (Option.some Jvm.ClassFile.FieldType.boolean)) ∈ lw_all := lw_g (lw_at lw_m2 138 rfl) rfl
theorem q467 : (Jvm.Cond.privateMethod ({ cls := "WheatElevator", name := "lambda$new$7", desc := "([I)I" } : Jvm.MethodName)) ∈ lw_tbl := lw_at lw_m2 139 rfl
theorem q468 : (Jvm.Cond.instanceMethod ({ cls := "WheatElevator", name := "lambda$new$7", desc := "([I)I" } : Jvm.MethodName)) ∈ lw_all := lw_g (lw_at lw_m2 140 rfl) rfl
theorem q469 : (Jvm.Cond.code ({ cls := "WheatElevator", name := "lambda$new$7", desc := "([I)I" } : Jvm.MethodName) prog_1_method_77_code (2 : Nat) (Option.some Jvm.ClassFile.FieldType.int)) ∈ lw_all := lw_g (lw_at lw_m2 141 rfl) rfl
theorem q470 : (Jvm.Cond.methodLink "WheatElevator" (301 : Nat) ({ cls := "WheatElevator", name := "doDry", desc := "(II)I" } : Jvm.MethodName)) ∈ lw_all := lw_g (lw_at lw_m2 142 rfl) rfl
theorem q471 : (Jvm.Cond.privateMethod ({ cls := "WheatElevator", name := "doDry", desc := "(II)I" } : Jvm.MethodName)) ∈ lw_tbl := lw_at lw_m2 143 rfl
theorem q472 : (Jvm.Cond.instanceMethod ({ cls := "WheatElevator", name := "doDry", desc := "(II)I" } : Jvm.MethodName)) ∈ lw_all := lw_g (lw_at lw_m2 144 rfl) rfl
theorem q473 : (Jvm.Cond.code ({ cls := "WheatElevator", name := "doDry", desc := "(II)I" } : Jvm.MethodName) prog_1_method_43_code (5 : Nat) (Option.some Jvm.ClassFile.FieldType.int)) ∈ lw_all := lw_g (lw_at lw_m2 145 rfl) rfl
theorem q474 : (Jvm.Cond.methodLink "WheatElevator" (290 : Nat) ({ cls := "WheatElevator$Bin", name := "moisture", desc := "()I" } : Jvm.MethodName)) ∈ lw_all := lw_g (lw_at lw_m2 146 rfl) rfl
theorem q475 : (Jvm.Cond.methodLink "WheatElevator" (293 : Nat) ({ cls := "WheatElevator$Bin", name := "dry", desc := "()I" } : Jvm.MethodName)) ∈ lw_all := lw_g (lw_at lw_m2 147 rfl) rfl
theorem q482 : (Jvm.Cond.constantLong "WheatElevator" (296 : Nat) (3 : Int64)) ∈ lw_all := lw_g (lw_at lw_m2 154 rfl) rfl
theorem q483 : (Jvm.Cond.fieldLink "WheatElevator" (16 : Nat) "WheatElevator" "state" "LWheatElevator$State;") ∈ lw_all := lw_g (lw_at lw_m2 155 rfl) rfl
theorem q484 : (Jvm.Cond.fieldLink "WheatElevator" (25 : Nat) "WheatElevator" "history" "Ljava/util/ArrayDeque;") ∈ lw_all := lw_g (lw_at lw_m2 156 rfl) rfl
theorem q485 : (Jvm.Cond.fieldLink "WheatElevator" (29 : Nat) "WheatElevator" "images" "[LWheatElevator$State;") ∈ lw_all := lw_g (lw_at lw_m2 157 rfl) rfl
theorem q486 : (Jvm.Cond.fieldLink "WheatElevator" (33 : Nat) "WheatElevator" "order" "[I") ∈ lw_all := lw_g (lw_at lw_m2 158 rfl) rfl
theorem q487 : (Jvm.Cond.fieldLink "WheatElevator" (315 : Nat) "WheatElevator" "useful" "I") ∈ lw_all := lw_g (lw_at lw_m2 159 rfl) rfl
theorem q488 : (Jvm.Cond.fieldLink "WheatElevator" (37 : Nat) "WheatElevator" "takes" "[I") ∈ lw_all := lw_g (lw_at lw_m2 160 rfl) rfl
theorem q489 : (Jvm.Cond.fieldLink "WheatElevator" (342 : Nat) "WheatElevator" "bestNumber" "I") ∈ lw_all := lw_g (lw_at lw_m2 161 rfl) rfl
theorem q491 : (Jvm.Cond.fieldLink "WheatElevator" (43 : Nat) "WheatElevator" "text" "Ljava/lang/StringBuilder;") ∈ lw_all := lw_g (lw_at lw_m2 163 rfl) rfl
theorem q493 : (Jvm.Cond.fieldLink "WheatElevator" (49 : Nat) "WheatElevator" "kinds" "[LWheatElevator$Order;") ∈ lw_all := lw_g (lw_at lw_m2 165 rfl) rfl
theorem q494 : (Jvm.Cond.lays "WheatElevator" "WheatElevator" "state" "LWheatElevator$State;") ∈ lw_all := lw_g (lw_at lw_m2 166 rfl) rfl
theorem q495 : (Jvm.Cond.soleField "WheatElevator" "state") ∈ lw_all := lw_g (lw_at lw_m2 167 rfl) rfl
theorem q496 : (Jvm.Cond.laysFinal "WheatElevator" "WheatElevator" "history" "Ljava/util/ArrayDeque;") ∈ lw_all := lw_g (lw_at lw_m2 168 rfl) rfl
theorem q497 : (Jvm.Cond.soleField "WheatElevator" "history") ∈ lw_all := lw_g (lw_at lw_m2 169 rfl) rfl
theorem q498 : (Jvm.Cond.laysFinal "WheatElevator" "WheatElevator" "images" "[LWheatElevator$State;") ∈ lw_all := lw_g (lw_at lw_m2 170 rfl) rfl
theorem q499 : (Jvm.Cond.soleField "WheatElevator" "images") ∈ lw_all := lw_g (lw_at lw_m2 171 rfl) rfl
theorem q500 : (Jvm.Cond.laysFinal "WheatElevator" "WheatElevator" "order" "[I") ∈ lw_all := lw_g (lw_at lw_m2 172 rfl) rfl
theorem q501 : (Jvm.Cond.soleField "WheatElevator" "order") ∈ lw_all := lw_g (lw_at lw_m2 173 rfl) rfl
theorem q502 : (Jvm.Cond.lays "WheatElevator" "WheatElevator" "useful" "I") ∈ lw_all := lw_g (lw_at lw_m2 174 rfl) rfl
theorem q503 : (Jvm.Cond.soleField "WheatElevator" "useful") ∈ lw_all := lw_g (lw_at lw_m2 175 rfl) rfl
theorem q504 : (Jvm.Cond.laysFinal "WheatElevator" "WheatElevator" "takes" "[I") ∈ lw_all := lw_g (lw_at lw_m2 176 rfl) rfl
theorem q505 : (Jvm.Cond.soleField "WheatElevator" "takes") ∈ lw_all := lw_g (lw_at lw_m2 177 rfl) rfl
theorem q506 : (Jvm.Cond.lays "WheatElevator" "WheatElevator" "bestNumber" "I") ∈ lw_all := lw_g (lw_at lw_m2 178 rfl) rfl
theorem q507 : (Jvm.Cond.soleField "WheatElevator" "bestNumber") ∈ lw_all := lw_g (lw_at lw_m2 179 rfl) rfl
theorem q508 : (Jvm.Cond.laysFinal "WheatElevator" "WheatElevator" "text" "Ljava/lang/StringBuilder;") ∈ lw_all := lw_g (lw_at lw_m2 180 rfl) rfl
theorem q509 : (Jvm.Cond.soleField "WheatElevator" "text") ∈ lw_all := lw_g (lw_at lw_m2 181 rfl) rfl
theorem q510 : (Jvm.Cond.laysFinal "WheatElevator" "WheatElevator" "kinds" "[LWheatElevator$Order;") ∈ lw_all := lw_g (lw_at lw_m2 182 rfl) rfl
theorem q511 : (Jvm.Cond.soleField "WheatElevator" "kinds") ∈ lw_all := lw_g (lw_at lw_m2 183 rfl) rfl
theorem q512 : (Jvm.Cond.superclass "WheatElevator" "java/lang/Object") ∈ lw_all := lw_g (lw_at lw_m2 184 rfl) rfl
theorem q514 : (Jvm.Cond.instanceMethod ({ cls := "WheatElevator", name := "addBin", desc := "(I)I" } : Jvm.MethodName)) ∈ lw_all := lw_g (lw_at lw_m2 186 rfl) rfl
theorem q515 : (Jvm.Cond.selects "WheatElevator" ({ cls := "WheatElevator", name := "addBin", desc := "(I)I" } : Jvm.MethodName) ({ cls := "WheatElevator", name := "addBin", desc := "(I)I" } : Jvm.MethodName)) ∈ lw_all := lw_g (lw_at lw_m2 187 rfl) rfl
theorem q516 : (Jvm.Cond.code ({ cls := "WheatElevator", name := "addBin", desc := "(I)I" } : Jvm.MethodName) prog_1_method_14_code (2 : Nat) (Option.some Jvm.ClassFile.FieldType.int)) ∈ lw_all := lw_g (lw_at lw_m2 188 rfl) rfl
theorem q517 : (Jvm.Cond.methodLink "WheatElevator" (104 : Nat) ({ cls := "WheatElevator", name := "record", desc := "()V" } : Jvm.MethodName)) ∈ lw_all := lw_g (lw_at lw_m2 189 rfl) rfl
theorem q518 : (Jvm.Cond.privateMethod ({ cls := "WheatElevator", name := "record", desc := "()V" } : Jvm.MethodName)) ∈ lw_tbl := lw_at lw_m2 190 rfl
theorem q519 : (Jvm.Cond.instanceMethod ({ cls := "WheatElevator", name := "record", desc := "()V" } : Jvm.MethodName)) ∈ lw_all := lw_g (lw_at lw_m2 191 rfl) rfl
theorem q520 : (Jvm.Cond.code ({ cls := "WheatElevator", name := "record", desc := "()V" } : Jvm.MethodName) prog_1_method_7_code (1 : Nat) (Option.none : Option Jvm.ClassFile.FieldType)) ∈ lw_all := lw_g (lw_at lw_m2 192 rfl) rfl
theorem q521 : (Jvm.Cond.methodLink "WheatElevator" (67 : Nat) ({ cls := "java/util/ArrayDeque", name := "size", desc := "()I" } : Jvm.MethodName)) ∈ lw_all := lw_g (lw_at lw_m2 193 rfl) rfl
theorem q528 : (Jvm.Cond.methodLink "WheatElevator" (71 : Nat) ({ cls := "java/util/ArrayDeque", name := "removeFirst", desc := "()Ljava/lang/Object;" } : Jvm.MethodName)) ∈ lw_all := lw_g (lw_at lw_m2 200 rfl) rfl
theorem q542 : (Jvm.Cond.methodLink "WheatElevator" (75 : Nat) ({ cls := "java/util/ArrayDeque", name := "addLast", desc := "(Ljava/lang/Object;)V" } : Jvm.MethodName)) ∈ lw_all := lw_g (lw_at lw_m2 214 rfl) rfl
theorem q561 : (Jvm.Cond.selects "WheatElevator" ({ cls := "java/lang/Object", name := "getClass", desc := "()Ljava/lang/Class;" } : Jvm.MethodName) ({ cls := "java/lang/Object", name := "getClass", desc := "()Ljava/lang/Class;" } : Jvm.MethodName)) ∈ lw_all := lw_g (lw_at lw_m2 233 rfl) rfl
theorem q583 : (Jvm.Cond.methodLink "WheatElevator" (79 : Nat) ({ cls := "WheatElevator$State", name := "<init>", desc := "(LWheatElevator$State;)V" } : Jvm.MethodName)) ∈ lw_all := lw_g (lw_at lw_m3 15 rfl) rfl
theorem q596 : (Jvm.Cond.fieldLinkNest "WheatElevator" (368 : Nat) "WheatElevator$Bin" "capacity" "I" "WheatElevator") ∈ lw_tbl := lw_at lw_m3 28 rfl
theorem q599 : (Jvm.Cond.fieldLinkNest "WheatElevator" (122 : Nat) "WheatElevator$Bin" "low" "I" "WheatElevator") ∈ lw_tbl := lw_at lw_m3 31 rfl
theorem q602 : (Jvm.Cond.fieldLinkNest "WheatElevator" (125 : Nat) "WheatElevator$Bin" "high" "I" "WheatElevator") ∈ lw_tbl := lw_at lw_m3 34 rfl
theorem q605 : (Jvm.Cond.fieldLinkNest "WheatElevator" (219 : Nat) "WheatElevator$Bin" "amount" "I" "WheatElevator") ∈ lw_tbl := lw_at lw_m3 37 rfl
theorem q610 : (Jvm.Cond.fieldLinkNest "WheatElevator" (267 : Nat) "WheatElevator$Bin" "kind" "I" "WheatElevator") ∈ lw_tbl := lw_at lw_m3 42 rfl
theorem q612 : (Jvm.Cond.fieldLinkNest "WheatElevator" (358 : Nat) "WheatElevator$Bin" "heat" "I" "WheatElevator") ∈ lw_tbl := lw_at lw_m3 44 rfl
theorem q614 : (Jvm.Cond.fieldLinkNest "WheatElevator" (213 : Nat) "WheatElevator$Bin" "came" "I" "WheatElevator") ∈ lw_tbl := lw_at lw_m3 46 rfl
theorem q616 : (Jvm.Cond.fieldLinkNest "WheatElevator" (216 : Nat) "WheatElevator$Bin" "went" "I" "WheatElevator") ∈ lw_tbl := lw_at lw_m3 48 rfl
theorem q674 : (Jvm.Cond.fieldLinkNest "WheatElevator" (134 : Nat) "WheatElevator$Leg" "speed" "I" "WheatElevator") ∈ lw_tbl := lw_at lw_m3 106 rfl
theorem q677 : (Jvm.Cond.fieldLinkNest "WheatElevator" (141 : Nat) "WheatElevator$Leg" "spouts" "I" "WheatElevator") ∈ lw_tbl := lw_at lw_m3 109 rfl
theorem q680 : (Jvm.Cond.fieldLinkNest "WheatElevator" (179 : Nat) "WheatElevator$Leg" "dust" "I" "WheatElevator") ∈ lw_tbl := lw_at lw_m3 112 rfl
theorem q682 : (Jvm.Cond.fieldLinkNest "WheatElevator" (185 : Nat) "WheatElevator$Leg" "moved" "I" "WheatElevator") ∈ lw_tbl := lw_at lw_m3 114 rfl
theorem q702 : (Jvm.Cond.fieldLinkNest "WheatElevator" (327 : Nat) "WheatElevator$Contract" "kind" "I" "WheatElevator") ∈ lw_tbl := lw_at lw_m3 134 rfl
theorem q704 : (Jvm.Cond.fieldLinkNest "WheatElevator" (334 : Nat) "WheatElevator$Contract" "amount" "I" "WheatElevator") ∈ lw_tbl := lw_at lw_m3 136 rfl
theorem q706 : (Jvm.Cond.fieldLinkNest "WheatElevator" (335 : Nat) "WheatElevator$Contract" "most" "I" "WheatElevator") ∈ lw_tbl := lw_at lw_m3 138 rfl
theorem q708 : (Jvm.Cond.fieldLinkNest "WheatElevator" (355 : Nat) "WheatElevator$Contract" "price" "I" "WheatElevator") ∈ lw_tbl := lw_at lw_m3 140 rfl
theorem q710 : (Jvm.Cond.fieldLinkNest "WheatElevator" (354 : Nat) "WheatElevator$Contract" "loaded" "I" "WheatElevator") ∈ lw_tbl := lw_at lw_m3 142 rfl
theorem q723 : (Jvm.Cond.methodLink "WheatElevator" (109 : Nat) ({ cls := "WheatElevator$Bin", name := "<init>", desc := "(I)V" } : Jvm.MethodName)) ∈ lw_all := lw_g (lw_at lw_m3 155 rfl) rfl
theorem q724 : (Jvm.Cond.methodLink "WheatElevator" (110 : Nat) ({ cls := "java/util/ArrayList", name := "add", desc := "(Ljava/lang/Object;)Z" } : Jvm.MethodName)) ∈ lw_all := lw_g (lw_at lw_m3 156 rfl) rfl
theorem q726 : (Jvm.Cond.instanceMethod ({ cls := "WheatElevator", name := "setBand", desc := "(III)I" } : Jvm.MethodName)) ∈ lw_all := lw_g (lw_at lw_m3 158 rfl) rfl
theorem q727 : (Jvm.Cond.selects "WheatElevator" ({ cls := "WheatElevator", name := "setBand", desc := "(III)I" } : Jvm.MethodName) ({ cls := "WheatElevator", name := "setBand", desc := "(III)I" } : Jvm.MethodName)) ∈ lw_all := lw_g (lw_at lw_m3 159 rfl) rfl
theorem q728 : (Jvm.Cond.code ({ cls := "WheatElevator", name := "setBand", desc := "(III)I" } : Jvm.MethodName) prog_1_method_15_code (5 : Nat) (Option.some Jvm.ClassFile.FieldType.int)) ∈ lw_all := lw_g (lw_at lw_m3 160 rfl) rfl
theorem q730 : (Jvm.Cond.instanceMethod ({ cls := "WheatElevator", name := "addLeg", desc := "(I)I" } : Jvm.MethodName)) ∈ lw_all := lw_g (lw_at lw_m3 162 rfl) rfl
theorem q731 : (Jvm.Cond.selects "WheatElevator" ({ cls := "WheatElevator", name := "addLeg", desc := "(I)I" } : Jvm.MethodName) ({ cls := "WheatElevator", name := "addLeg", desc := "(I)I" } : Jvm.MethodName)) ∈ lw_all := lw_g (lw_at lw_m3 163 rfl) rfl
theorem q732 : (Jvm.Cond.code ({ cls := "WheatElevator", name := "addLeg", desc := "(I)I" } : Jvm.MethodName) prog_1_method_16_code (2 : Nat) (Option.some Jvm.ClassFile.FieldType.int)) ∈ lw_all := lw_g (lw_at lw_m3 164 rfl) rfl
theorem q733 : (Jvm.Cond.methodLink "WheatElevator" (130 : Nat) ({ cls := "WheatElevator$Leg", name := "<init>", desc := "(I)V" } : Jvm.MethodName)) ∈ lw_all := lw_g (lw_at lw_m3 165 rfl) rfl
theorem q735 : (Jvm.Cond.instanceMethod ({ cls := "WheatElevator", name := "setSpeed", desc := "(II)I" } : Jvm.MethodName)) ∈ lw_all := lw_g (lw_at lw_m3 167 rfl) rfl
theorem q736 : (Jvm.Cond.selects "WheatElevator" ({ cls := "WheatElevator", name := "setSpeed", desc := "(II)I" } : Jvm.MethodName) ({ cls := "WheatElevator", name := "setSpeed", desc := "(II)I" } : Jvm.MethodName)) ∈ lw_all := lw_g (lw_at lw_m3 168 rfl) rfl
theorem q737 : (Jvm.Cond.code ({ cls := "WheatElevator", name := "setSpeed", desc := "(II)I" } : Jvm.MethodName) prog_1_method_17_code (4 : Nat) (Option.some Jvm.ClassFile.FieldType.int)) ∈ lw_all := lw_g (lw_at lw_m3 169 rfl) rfl
theorem q739 : (Jvm.Cond.instanceMethod ({ cls := "WheatElevator", name := "spout", desc := "(II)I" } : Jvm.MethodName)) ∈ lw_all := lw_g (lw_at lw_m3 171 rfl) rfl
theorem q740 : (Jvm.Cond.selects "WheatElevator" ({ cls := "WheatElevator", name := "spout", desc := "(II)I" } : Jvm.MethodName) ({ cls := "WheatElevator", name := "spout", desc := "(II)I" } : Jvm.MethodName)) ∈ lw_all := lw_g (lw_at lw_m3 172 rfl) rfl
theorem q741 : (Jvm.Cond.code ({ cls := "WheatElevator", name := "spout", desc := "(II)I" } : Jvm.MethodName) prog_1_method_18_code (3 : Nat) (Option.some Jvm.ClassFile.FieldType.int)) ∈ lw_all := lw_g (lw_at lw_m3 173 rfl) rfl
theorem q743 : (Jvm.Cond.instanceMethod ({ cls := "WheatElevator", name := "setPrice", desc := "(II)I" } : Jvm.MethodName)) ∈ lw_all := lw_g (lw_at lw_m3 175 rfl) rfl
theorem q744 : (Jvm.Cond.selects "WheatElevator" ({ cls := "WheatElevator", name := "setPrice", desc := "(II)I" } : Jvm.MethodName) ({ cls := "WheatElevator", name := "setPrice", desc := "(II)I" } : Jvm.MethodName)) ∈ lw_all := lw_g (lw_at lw_m3 176 rfl) rfl
theorem q745 : (Jvm.Cond.code ({ cls := "WheatElevator", name := "setPrice", desc := "(II)I" } : Jvm.MethodName) prog_1_method_19_code (4 : Nat) (Option.some Jvm.ClassFile.FieldType.int)) ∈ lw_all := lw_g (lw_at lw_m3 177 rfl) rfl
theorem q746 : (Jvm.Cond.methodLink "WheatElevator" (144 : Nat) ({ cls := "WheatElevator", name := "isKind", desc := "(I)Z" } : Jvm.MethodName)) ∈ lw_all := lw_g (lw_at lw_m3 178 rfl) rfl
theorem q747 : (Jvm.Cond.static ({ cls := "WheatElevator", name := "isKind", desc := "(I)Z" } : Jvm.MethodName)) ∈ lw_all := lw_g (lw_at lw_m3 179 rfl) rfl
theorem q748 : (Jvm.Cond.code ({ cls := "WheatElevator", name := "isKind", desc := "(I)Z" } : Jvm.MethodName) prog_1_method_10_code (1 : Nat) (Option.some Jvm.ClassFile.FieldType.boolean)) ∈ lw_all := lw_g (lw_at lw_m3 180 rfl) rfl
theorem q750 : (Jvm.Cond.instanceMethod ({ cls := "WheatElevator", name := "setDustLimit", desc := "(I)I" } : Jvm.MethodName)) ∈ lw_all := lw_g (lw_at lw_m3 182 rfl) rfl
theorem q751 : (Jvm.Cond.selects "WheatElevator" ({ cls := "WheatElevator", name := "setDustLimit", desc := "(I)I" } : Jvm.MethodName) ({ cls := "WheatElevator", name := "setDustLimit", desc := "(I)I" } : Jvm.MethodName)) ∈ lw_all := lw_g (lw_at lw_m3 183 rfl) rfl
theorem q752 : (Jvm.Cond.code ({ cls := "WheatElevator", name := "setDustLimit", desc := "(I)I" } : Jvm.MethodName) prog_1_method_20_code (3 : Nat) (Option.some Jvm.ClassFile.FieldType.int)) ∈ lw_all := lw_g (lw_at lw_m3 184 rfl) rfl
theorem q754 : (Jvm.Cond.instanceMethod ({ cls := "WheatElevator", name := "count", desc := "(I)I" } : Jvm.MethodName)) ∈ lw_all := lw_g (lw_at lw_m3 186 rfl) rfl
theorem q755 : (Jvm.Cond.selects "WheatElevator" ({ cls := "WheatElevator", name := "count", desc := "(I)I" } : Jvm.MethodName) ({ cls := "WheatElevator", name := "count", desc := "(I)I" } : Jvm.MethodName)) ∈ lw_all := lw_g (lw_at lw_m3 187 rfl) rfl
theorem q756 : (Jvm.Cond.code ({ cls := "WheatElevator", name := "count", desc := "(I)I" } : Jvm.MethodName) prog_1_method_23_code (2 : Nat) (Option.some Jvm.ClassFile.FieldType.int)) ∈ lw_all := lw_g (lw_at lw_m3 188 rfl) rfl
theorem q757 : (Jvm.Cond.methodLink "WheatElevator" (162 : Nat) ({ cls := "WheatElevator", name := "openContracts", desc := "()I" } : Jvm.MethodName)) ∈ lw_all := lw_g (lw_at lw_m3 189 rfl) rfl
theorem q758 : (Jvm.Cond.privateMethod ({ cls := "WheatElevator", name := "openContracts", desc := "()I" } : Jvm.MethodName)) ∈ lw_tbl := lw_at lw_m3 190 rfl
theorem q759 : (Jvm.Cond.instanceMethod ({ cls := "WheatElevator", name := "openContracts", desc := "()I" } : Jvm.MethodName)) ∈ lw_all := lw_g (lw_at lw_m3 191 rfl) rfl
theorem q760 : (Jvm.Cond.code ({ cls := "WheatElevator", name := "openContracts", desc := "()I" } : Jvm.MethodName) prog_1_method_21_code (3 : Nat) (Option.some Jvm.ClassFile.FieldType.int)) ∈ lw_all := lw_g (lw_at lw_m3 192 rfl) rfl
theorem q761 : (Jvm.Cond.classLink "WheatElevator" (153 : Nat) "WheatElevator$Contract") ∈ lw_all := lw_g (lw_at lw_m3 193 rfl) rfl
theorem q762 : (Jvm.Cond.methodLink "WheatElevator" (155 : Nat) ({ cls := "WheatElevator$Contract", name := "isOpen", desc := "()Z" } : Jvm.MethodName)) ∈ lw_all := lw_g (lw_at lw_m3 194 rfl) rfl
theorem q766 : (Jvm.Cond.methodLink "WheatElevator" (165 : Nat) ({ cls := "WheatElevator$State", name := "units", desc := "()J" } : Jvm.MethodName)) ∈ lw_all := lw_g (lw_at lw_m3 198 rfl) rfl
theorem q770 : (Jvm.Cond.methodLink "WheatElevator" (169 : Nat) ({ cls := "WheatElevator$State", name := "points", desc := "()I" } : Jvm.MethodName)) ∈ lw_all := lw_g (lw_at lw_m3 202 rfl) rfl
theorem q774 : (Jvm.Cond.methodLink "WheatElevator" (172 : Nat) ({ cls := "WheatElevator", name := "spoiltBins", desc := "()I" } : Jvm.MethodName)) ∈ lw_all := lw_g (lw_at lw_m3 206 rfl) rfl
theorem q775 : (Jvm.Cond.privateMethod ({ cls := "WheatElevator", name := "spoiltBins", desc := "()I" } : Jvm.MethodName)) ∈ lw_tbl := lw_at lw_m3 207 rfl
theorem q776 : (Jvm.Cond.instanceMethod ({ cls := "WheatElevator", name := "spoiltBins", desc := "()I" } : Jvm.MethodName)) ∈ lw_all := lw_g (lw_at lw_m3 208 rfl) rfl
theorem q777 : (Jvm.Cond.code ({ cls := "WheatElevator", name := "spoiltBins", desc := "()I" } : Jvm.MethodName) prog_1_method_22_code (3 : Nat) (Option.some Jvm.ClassFile.FieldType.int)) ∈ lw_all := lw_g (lw_at lw_m3 209 rfl) rfl
theorem q778 : (Jvm.Cond.methodLink "WheatElevator" (159 : Nat) ({ cls := "WheatElevator$Bin", name := "isSpoilt", desc := "()Z" } : Jvm.MethodName)) ∈ lw_all := lw_g (lw_at lw_m3 210 rfl) rfl
theorem q780 : (Jvm.Cond.instanceMethod ({ cls := "WheatElevator", name := "bin", desc := "(II)I" } : Jvm.MethodName)) ∈ lw_all := lw_g (lw_at lw_m3 212 rfl) rfl
theorem q781 : (Jvm.Cond.selects "WheatElevator" ({ cls := "WheatElevator", name := "bin", desc := "(II)I" } : Jvm.MethodName) ({ cls := "WheatElevator", name := "bin", desc := "(II)I" } : Jvm.MethodName)) ∈ lw_all := lw_g (lw_at lw_m3 213 rfl) rfl
theorem q782 : (Jvm.Cond.code ({ cls := "WheatElevator", name := "bin", desc := "(II)I" } : Jvm.MethodName) prog_1_method_24_code (3 : Nat) (Option.some Jvm.ClassFile.FieldType.int)) ∈ lw_all := lw_g (lw_at lw_m3 214 rfl) rfl
theorem q783 : (Jvm.Cond.methodLink "WheatElevator" (175 : Nat) ({ cls := "WheatElevator$Bin", name := "property", desc := "(I)I" } : Jvm.MethodName)) ∈ lw_all := lw_g (lw_at lw_m3 215 rfl) rfl
theorem q788 : (Jvm.Cond.instanceMethod ({ cls := "WheatElevator", name := "leg", desc := "(II)I" } : Jvm.MethodName)) ∈ lw_all := lw_g (lw_at lw_m3 220 rfl) rfl
theorem q789 : (Jvm.Cond.selects "WheatElevator" ({ cls := "WheatElevator", name := "leg", desc := "(II)I" } : Jvm.MethodName) ({ cls := "WheatElevator", name := "leg", desc := "(II)I" } : Jvm.MethodName)) ∈ lw_all := lw_g (lw_at lw_m3 221 rfl) rfl
theorem q790 : (Jvm.Cond.code ({ cls := "WheatElevator", name := "leg", desc := "(II)I" } : Jvm.MethodName) prog_1_method_26_code (3 : Nat) (Option.some Jvm.ClassFile.FieldType.int)) ∈ lw_all := lw_g (lw_at lw_m3 222 rfl) rfl
theorem q791 : (Jvm.Cond.methodLink "WheatElevator" (188 : Nat) ({ cls := "WheatElevator", name := "legProperty", desc := "(II)I" } : Jvm.MethodName)) ∈ lw_all := lw_g (lw_at lw_m3 223 rfl) rfl
theorem q792 : (Jvm.Cond.privateMethod ({ cls := "WheatElevator", name := "legProperty", desc := "(II)I" } : Jvm.MethodName)) ∈ lw_tbl := lw_at lw_m3 224 rfl
theorem q793 : (Jvm.Cond.instanceMethod ({ cls := "WheatElevator", name := "legProperty", desc := "(II)I" } : Jvm.MethodName)) ∈ lw_all := lw_g (lw_at lw_m3 225 rfl) rfl
theorem q794 : (Jvm.Cond.code ({ cls := "WheatElevator", name := "legProperty", desc := "(II)I" } : Jvm.MethodName) prog_1_method_25_code (4 : Nat) (Option.some Jvm.ClassFile.FieldType.int)) ∈ lw_all := lw_g (lw_at lw_m3 226 rfl) rfl
theorem q795 : (Jvm.Cond.methodLink "WheatElevator" (182 : Nat) ({ cls := "WheatElevator$State", name := "stands", desc := "(I)Z" } : Jvm.MethodName)) ∈ lw_all := lw_g (lw_at lw_m3 227 rfl) rfl
theorem q797 : (Jvm.Cond.instanceMethod ({ cls := "WheatElevator", name := "price", desc := "(I)I" } : Jvm.MethodName)) ∈ lw_all := lw_g (lw_at lw_m3 229 rfl) rfl
theorem q798 : (Jvm.Cond.selects "WheatElevator" ({ cls := "WheatElevator", name := "price", desc := "(I)I" } : Jvm.MethodName) ({ cls := "WheatElevator", name := "price", desc := "(I)I" } : Jvm.MethodName)) ∈ lw_all := lw_g (lw_at lw_m3 230 rfl) rfl
theorem q799 : (Jvm.Cond.code ({ cls := "WheatElevator", name := "price", desc := "(I)I" } : Jvm.MethodName) prog_1_method_27_code (2 : Nat) (Option.some Jvm.ClassFile.FieldType.int)) ∈ lw_all := lw_g (lw_at lw_m3 231 rfl) rfl
theorem q801 : (Jvm.Cond.instanceMethod ({ cls := "WheatElevator", name := "book", desc := "(I)J" } : Jvm.MethodName)) ∈ lw_all := lw_g (lw_at lw_m3 233 rfl) rfl
theorem q802 : (Jvm.Cond.selects "WheatElevator" ({ cls := "WheatElevator", name := "book", desc := "(I)J" } : Jvm.MethodName) ({ cls := "WheatElevator", name := "book", desc := "(I)J" } : Jvm.MethodName)) ∈ lw_all := lw_g (lw_at lw_m3 234 rfl) rfl
theorem q803 : (Jvm.Cond.code ({ cls := "WheatElevator", name := "book", desc := "(I)J" } : Jvm.MethodName) prog_1_method_28_code (2 : Nat) (Option.some Jvm.ClassFile.FieldType.long)) ∈ lw_all := lw_g (lw_at lw_m3 235 rfl) rfl
theorem q804 : (Jvm.Cond.constantLong "WheatElevator" (211 : Nat) (-3 : Int64)) ∈ lw_all := lw_g (lw_at lw_m3 236 rfl) rfl
theorem q806 : (Jvm.Cond.instanceMethod ({ cls := "WheatElevator", name := "audit", desc := "()I" } : Jvm.MethodName)) ∈ lw_all := lw_g (lw_at lw_m3 238 rfl) rfl
theorem q807 : (Jvm.Cond.selects "WheatElevator" ({ cls := "WheatElevator", name := "audit", desc := "()I" } : Jvm.MethodName) ({ cls := "WheatElevator", name := "audit", desc := "()I" } : Jvm.MethodName)) ∈ lw_all := lw_g (lw_at lw_m3 239 rfl) rfl
theorem q808 : (Jvm.Cond.code ({ cls := "WheatElevator", name := "audit", desc := "()I" } : Jvm.MethodName) prog_1_method_29_code (4 : Nat) (Option.some Jvm.ClassFile.FieldType.int)) ∈ lw_all := lw_g (lw_at lw_m4 0 rfl) rfl
theorem q810 : (Jvm.Cond.instanceMethod ({ cls := "WheatElevator", name := "receive", desc := "(IIIII)I" } : Jvm.MethodName)) ∈ lw_all := lw_g (lw_at lw_m4 2 rfl) rfl
theorem q811 : (Jvm.Cond.selects "WheatElevator" ({ cls := "WheatElevator", name := "receive", desc := "(IIIII)I" } : Jvm.MethodName) ({ cls := "WheatElevator", name := "receive", desc := "(IIIII)I" } : Jvm.MethodName)) ∈ lw_all := lw_g (lw_at lw_m4 3 rfl) rfl
theorem q812 : (Jvm.Cond.code ({ cls := "WheatElevator", name := "receive", desc := "(IIIII)I" } : Jvm.MethodName) prog_1_method_32_code (7 : Nat) (Option.some Jvm.ClassFile.FieldType.int)) ∈ lw_all := lw_g (lw_at lw_m4 4 rfl) rfl
theorem q814 : (Jvm.Cond.instanceMethod ({ cls := "WheatElevator", name := "move", desc := "(IIII)I" } : Jvm.MethodName)) ∈ lw_all := lw_g (lw_at lw_m4 6 rfl) rfl
theorem q815 : (Jvm.Cond.selects "WheatElevator" ({ cls := "WheatElevator", name := "move", desc := "(IIII)I" } : Jvm.MethodName) ({ cls := "WheatElevator", name := "move", desc := "(IIII)I" } : Jvm.MethodName)) ∈ lw_all := lw_g (lw_at lw_m4 7 rfl) rfl
theorem q816 : (Jvm.Cond.code ({ cls := "WheatElevator", name := "move", desc := "(IIII)I" } : Jvm.MethodName) prog_1_method_36_code (6 : Nat) (Option.some Jvm.ClassFile.FieldType.int)) ∈ lw_all := lw_g (lw_at lw_m4 8 rfl) rfl
theorem q818 : (Jvm.Cond.instanceMethod ({ cls := "WheatElevator", name := "whyNot", desc := "(IIII)I" } : Jvm.MethodName)) ∈ lw_all := lw_g (lw_at lw_m4 10 rfl) rfl
theorem q819 : (Jvm.Cond.selects "WheatElevator" ({ cls := "WheatElevator", name := "whyNot", desc := "(IIII)I" } : Jvm.MethodName) ({ cls := "WheatElevator", name := "whyNot", desc := "(IIII)I" } : Jvm.MethodName)) ∈ lw_all := lw_g (lw_at lw_m4 11 rfl) rfl
theorem q820 : (Jvm.Cond.code ({ cls := "WheatElevator", name := "whyNot", desc := "(IIII)I" } : Jvm.MethodName) prog_1_method_37_code (6 : Nat) (Option.some Jvm.ClassFile.FieldType.int)) ∈ lw_all := lw_g (lw_at lw_m4 12 rfl) rfl
theorem q822 : (Jvm.Cond.instanceMethod ({ cls := "WheatElevator", name := "clean", desc := "(II)I" } : Jvm.MethodName)) ∈ lw_all := lw_g (lw_at lw_m4 14 rfl) rfl
theorem q823 : (Jvm.Cond.selects "WheatElevator" ({ cls := "WheatElevator", name := "clean", desc := "(II)I" } : Jvm.MethodName) ({ cls := "WheatElevator", name := "clean", desc := "(II)I" } : Jvm.MethodName)) ∈ lw_all := lw_g (lw_at lw_m4 15 rfl) rfl
theorem q824 : (Jvm.Cond.code ({ cls := "WheatElevator", name := "clean", desc := "(II)I" } : Jvm.MethodName) prog_1_method_40_code (4 : Nat) (Option.some Jvm.ClassFile.FieldType.int)) ∈ lw_all := lw_g (lw_at lw_m4 16 rfl) rfl
theorem q826 : (Jvm.Cond.instanceMethod ({ cls := "WheatElevator", name := "pass", desc := "(I)I" } : Jvm.MethodName)) ∈ lw_all := lw_g (lw_at lw_m4 18 rfl) rfl
theorem q827 : (Jvm.Cond.selects "WheatElevator" ({ cls := "WheatElevator", name := "pass", desc := "(I)I" } : Jvm.MethodName) ({ cls := "WheatElevator", name := "pass", desc := "(I)I" } : Jvm.MethodName)) ∈ lw_all := lw_g (lw_at lw_m4 19 rfl) rfl
theorem q828 : (Jvm.Cond.code ({ cls := "WheatElevator", name := "pass", desc := "(I)I" } : Jvm.MethodName) prog_1_method_41_code (2 : Nat) (Option.some Jvm.ClassFile.FieldType.int)) ∈ lw_all := lw_g (lw_at lw_m4 20 rfl) rfl
theorem q830 : (Jvm.Cond.instanceMethod ({ cls := "WheatElevator", name := "dry", desc := "(II)I" } : Jvm.MethodName)) ∈ lw_all := lw_g (lw_at lw_m4 22 rfl) rfl
theorem q831 : (Jvm.Cond.selects "WheatElevator" ({ cls := "WheatElevator", name := "dry", desc := "(II)I" } : Jvm.MethodName) ({ cls := "WheatElevator", name := "dry", desc := "(II)I" } : Jvm.MethodName)) ∈ lw_all := lw_g (lw_at lw_m4 23 rfl) rfl
theorem q832 : (Jvm.Cond.code ({ cls := "WheatElevator", name := "dry", desc := "(II)I" } : Jvm.MethodName) prog_1_method_44_code (4 : Nat) (Option.some Jvm.ClassFile.FieldType.int)) ∈ lw_all := lw_g (lw_at lw_m4 24 rfl) rfl
theorem q834 : (Jvm.Cond.instanceMethod ({ cls := "WheatElevator", name := "dump", desc := "(I)I" } : Jvm.MethodName)) ∈ lw_all := lw_g (lw_at lw_m4 26 rfl) rfl
theorem q835 : (Jvm.Cond.selects "WheatElevator" ({ cls := "WheatElevator", name := "dump", desc := "(I)I" } : Jvm.MethodName) ({ cls := "WheatElevator", name := "dump", desc := "(I)I" } : Jvm.MethodName)) ∈ lw_all := lw_g (lw_at lw_m4 27 rfl) rfl
theorem q836 : (Jvm.Cond.code ({ cls := "WheatElevator", name := "dump", desc := "(I)I" } : Jvm.MethodName) prog_1_method_45_code (4 : Nat) (Option.some Jvm.ClassFile.FieldType.int)) ∈ lw_all := lw_g (lw_at lw_m4 28 rfl) rfl
theorem q838 : (Jvm.Cond.instanceMethod ({ cls := "WheatElevator", name := "addContract", desc := "(IIII)I" } : Jvm.MethodName)) ∈ lw_all := lw_g (lw_at lw_m4 30 rfl) rfl
theorem q839 : (Jvm.Cond.selects "WheatElevator" ({ cls := "WheatElevator", name := "addContract", desc := "(IIII)I" } : Jvm.MethodName) ({ cls := "WheatElevator", name := "addContract", desc := "(IIII)I" } : Jvm.MethodName)) ∈ lw_all := lw_g (lw_at lw_m4 31 rfl) rfl
theorem q840 : (Jvm.Cond.code ({ cls := "WheatElevator", name := "addContract", desc := "(IIII)I" } : Jvm.MethodName) prog_1_method_46_code (5 : Nat) (Option.some Jvm.ClassFile.FieldType.int)) ∈ lw_all := lw_g (lw_at lw_m4 32 rfl) rfl
theorem q841 : (Jvm.Cond.methodLink "WheatElevator" (304 : Nat) ({ cls := "WheatElevator$Contract", name := "<init>", desc := "(IIII)V" } : Jvm.MethodName)) ∈ lw_all := lw_g (lw_at lw_m4 33 rfl) rfl
theorem q843 : (Jvm.Cond.instanceMethod ({ cls := "WheatElevator", name := "contract", desc := "(II)I" } : Jvm.MethodName)) ∈ lw_all := lw_g (lw_at lw_m4 35 rfl) rfl
theorem q844 : (Jvm.Cond.selects "WheatElevator" ({ cls := "WheatElevator", name := "contract", desc := "(II)I" } : Jvm.MethodName) ({ cls := "WheatElevator", name := "contract", desc := "(II)I" } : Jvm.MethodName)) ∈ lw_all := lw_g (lw_at lw_m4 36 rfl) rfl
theorem q845 : (Jvm.Cond.code ({ cls := "WheatElevator", name := "contract", desc := "(II)I" } : Jvm.MethodName) prog_1_method_47_code (3 : Nat) (Option.some Jvm.ClassFile.FieldType.int)) ∈ lw_all := lw_g (lw_at lw_m4 37 rfl) rfl
theorem q846 : (Jvm.Cond.methodLink "WheatElevator" (307 : Nat) ({ cls := "WheatElevator", name := "isContract", desc := "(I)Z" } : Jvm.MethodName)) ∈ lw_all := lw_g (lw_at lw_m4 38 rfl) rfl
theorem q847 : (Jvm.Cond.privateMethod ({ cls := "WheatElevator", name := "isContract", desc := "(I)Z" } : Jvm.MethodName)) ∈ lw_tbl := lw_at lw_m4 39 rfl
theorem q848 : (Jvm.Cond.instanceMethod ({ cls := "WheatElevator", name := "isContract", desc := "(I)Z" } : Jvm.MethodName)) ∈ lw_all := lw_g (lw_at lw_m4 40 rfl) rfl
theorem q849 : (Jvm.Cond.code ({ cls := "WheatElevator", name := "isContract", desc := "(I)Z" } : Jvm.MethodName) prog_1_method_11_code (2 : Nat) (Option.some Jvm.ClassFile.FieldType.boolean)) ∈ lw_all := lw_g (lw_at lw_m4 41 rfl) rfl
theorem q850 : (Jvm.Cond.methodLink "WheatElevator" (310 : Nat) ({ cls := "WheatElevator$Contract", name := "property", desc := "(I)I" } : Jvm.MethodName)) ∈ lw_all := lw_g (lw_at lw_m4 42 rfl) rfl
theorem q856 : (Jvm.Cond.instanceMethod ({ cls := "WheatElevator", name := "blend", desc := "(II)I" } : Jvm.MethodName)) ∈ lw_all := lw_g (lw_at lw_m4 48 rfl) rfl
theorem q857 : (Jvm.Cond.selects "WheatElevator" ({ cls := "WheatElevator", name := "blend", desc := "(II)I" } : Jvm.MethodName) ({ cls := "WheatElevator", name := "blend", desc := "(II)I" } : Jvm.MethodName)) ∈ lw_all := lw_g (lw_at lw_m4 49 rfl) rfl
theorem q858 : (Jvm.Cond.code ({ cls := "WheatElevator", name := "blend", desc := "(II)I" } : Jvm.MethodName) prog_1_method_55_code (3 : Nat) (Option.some Jvm.ClassFile.FieldType.int)) ∈ lw_all := lw_g (lw_at lw_m4 50 rfl) rfl
theorem q859 : (Jvm.Cond.methodLink "WheatElevator" (345 : Nat) ({ cls := "WheatElevator", name := "areThere", desc := "(II)Z" } : Jvm.MethodName)) ∈ lw_all := lw_g (lw_at lw_m4 51 rfl) rfl
theorem q860 : (Jvm.Cond.privateMethod ({ cls := "WheatElevator", name := "areThere", desc := "(II)Z" } : Jvm.MethodName)) ∈ lw_tbl := lw_at lw_m4 52 rfl
theorem q861 : (Jvm.Cond.instanceMethod ({ cls := "WheatElevator", name := "areThere", desc := "(II)Z" } : Jvm.MethodName)) ∈ lw_all := lw_g (lw_at lw_m4 53 rfl) rfl
theorem q862 : (Jvm.Cond.code ({ cls := "WheatElevator", name := "areThere", desc := "(II)Z" } : Jvm.MethodName) prog_1_method_54_code (3 : Nat) (Option.some Jvm.ClassFile.FieldType.boolean)) ∈ lw_all := lw_g (lw_at lw_m4 54 rfl) rfl
theorem q863 : (Jvm.Cond.methodLink "WheatElevator" (348 : Nat) ({ cls := "WheatElevator", name := "findBlend", desc := "(II)I" } : Jvm.MethodName)) ∈ lw_all := lw_g (lw_at lw_m4 55 rfl) rfl
theorem q864 : (Jvm.Cond.privateMethod ({ cls := "WheatElevator", name := "findBlend", desc := "(II)I" } : Jvm.MethodName)) ∈ lw_tbl := lw_at lw_m4 56 rfl
theorem q865 : (Jvm.Cond.instanceMethod ({ cls := "WheatElevator", name := "findBlend", desc := "(II)I" } : Jvm.MethodName)) ∈ lw_all := lw_g (lw_at lw_m4 57 rfl) rfl
theorem q866 : (Jvm.Cond.code ({ cls := "WheatElevator", name := "findBlend", desc := "(II)I" } : Jvm.MethodName) prog_1_method_53_code (9 : Nat) (Option.some Jvm.ClassFile.FieldType.int)) ∈ lw_all := lw_g (lw_at lw_m4 58 rfl) rfl
theorem q867 : (Jvm.Cond.methodLink "WheatElevator" (328 : Nat) ({ cls := "WheatElevator", name := "orderUseful", desc := "(II)V" } : Jvm.MethodName)) ∈ lw_all := lw_g (lw_at lw_m4 59 rfl) rfl
theorem q868 : (Jvm.Cond.privateMethod ({ cls := "WheatElevator", name := "orderUseful", desc := "(II)V" } : Jvm.MethodName)) ∈ lw_tbl := lw_at lw_m4 60 rfl
theorem q869 : (Jvm.Cond.instanceMethod ({ cls := "WheatElevator", name := "orderUseful", desc := "(II)V" } : Jvm.MethodName)) ∈ lw_all := lw_g (lw_at lw_m4 61 rfl) rfl
theorem q870 : (Jvm.Cond.code ({ cls := "WheatElevator", name := "orderUseful", desc := "(II)V" } : Jvm.MethodName) prog_1_method_49_code (5 : Nat) (Option.none : Option Jvm.ClassFile.FieldType)) ∈ lw_all := lw_g (lw_at lw_m4 62 rfl) rfl
theorem q871 : (Jvm.Cond.methodLink "WheatElevator" (318 : Nat) ({ cls := "WheatElevator", name := "isUseful", desc := "(III)Z" } : Jvm.MethodName)) ∈ lw_all := lw_g (lw_at lw_m4 63 rfl) rfl
theorem q872 : (Jvm.Cond.privateMethod ({ cls := "WheatElevator", name := "isUseful", desc := "(III)Z" } : Jvm.MethodName)) ∈ lw_tbl := lw_at lw_m4 64 rfl
theorem q873 : (Jvm.Cond.instanceMethod ({ cls := "WheatElevator", name := "isUseful", desc := "(III)Z" } : Jvm.MethodName)) ∈ lw_all := lw_g (lw_at lw_m4 65 rfl) rfl
theorem q874 : (Jvm.Cond.code ({ cls := "WheatElevator", name := "isUseful", desc := "(III)Z" } : Jvm.MethodName) prog_1_method_48_code (5 : Nat) (Option.some Jvm.ClassFile.FieldType.boolean)) ∈ lw_all := lw_g (lw_at lw_m4 66 rfl) rfl
theorem q875 : (Jvm.Cond.methodLink "WheatElevator" (311 : Nat) ({ cls := "WheatElevator", name := "has", desc := "(II)Z" } : Jvm.MethodName)) ∈ lw_all := lw_g (lw_at lw_m4 67 rfl) rfl
theorem q876 : (Jvm.Cond.methodLink "WheatElevator" (331 : Nat) ({ cls := "WheatElevator", name := "usefulUnits", desc := "()I" } : Jvm.MethodName)) ∈ lw_all := lw_g (lw_at lw_m4 68 rfl) rfl
theorem q877 : (Jvm.Cond.privateMethod ({ cls := "WheatElevator", name := "usefulUnits", desc := "()I" } : Jvm.MethodName)) ∈ lw_tbl := lw_at lw_m4 69 rfl
theorem q878 : (Jvm.Cond.instanceMethod ({ cls := "WheatElevator", name := "usefulUnits", desc := "()I" } : Jvm.MethodName)) ∈ lw_all := lw_g (lw_at lw_m4 70 rfl) rfl
theorem q879 : (Jvm.Cond.code ({ cls := "WheatElevator", name := "usefulUnits", desc := "()I" } : Jvm.MethodName) prog_1_method_52_code (3 : Nat) (Option.some Jvm.ClassFile.FieldType.int)) ∈ lw_all := lw_g (lw_at lw_m4 71 rfl) rfl
theorem q880 : (Jvm.Cond.methodLink "WheatElevator" (338 : Nat) ({ cls := "WheatElevator", name := "findTakes", desc := "(II)J" } : Jvm.MethodName)) ∈ lw_all := lw_g (lw_at lw_m4 72 rfl) rfl
theorem q881 : (Jvm.Cond.privateMethod ({ cls := "WheatElevator", name := "findTakes", desc := "(II)J" } : Jvm.MethodName)) ∈ lw_tbl := lw_at lw_m4 73 rfl
theorem q882 : (Jvm.Cond.instanceMethod ({ cls := "WheatElevator", name := "findTakes", desc := "(II)J" } : Jvm.MethodName)) ∈ lw_all := lw_g (lw_at lw_m4 74 rfl) rfl
theorem q883 : (Jvm.Cond.code ({ cls := "WheatElevator", name := "findTakes", desc := "(II)J" } : Jvm.MethodName) prog_1_method_51_code (6 : Nat) (Option.some Jvm.ClassFile.FieldType.long)) ∈ lw_all := lw_g (lw_at lw_m4 75 rfl) rfl
theorem q884 : (Jvm.Cond.methodLink "WheatElevator" (324 : Nat) ({ cls := "WheatElevator", name := "takeFrom", desc := "(III)V" } : Jvm.MethodName)) ∈ lw_all := lw_g (lw_at lw_m4 76 rfl) rfl
theorem q885 : (Jvm.Cond.privateMethod ({ cls := "WheatElevator", name := "takeFrom", desc := "(III)V" } : Jvm.MethodName)) ∈ lw_tbl := lw_at lw_m4 77 rfl
theorem q886 : (Jvm.Cond.instanceMethod ({ cls := "WheatElevator", name := "takeFrom", desc := "(III)V" } : Jvm.MethodName)) ∈ lw_all := lw_g (lw_at lw_m4 78 rfl) rfl
theorem q887 : (Jvm.Cond.code ({ cls := "WheatElevator", name := "takeFrom", desc := "(III)V" } : Jvm.MethodName) prog_1_method_50_code (7 : Nat) (Option.none : Option Jvm.ClassFile.FieldType)) ∈ lw_all := lw_g (lw_at lw_m4 79 rfl) rfl
theorem q888 : (Jvm.Cond.methodLink "WheatElevator" (321 : Nat) ({ cls := "java/lang/Math", name := "min", desc := "(II)I" } : Jvm.MethodName)) ∈ lw_all := lw_g (lw_at lw_m4 80 rfl) rfl
theorem q890 : (Jvm.Cond.instanceMethod ({ cls := "WheatElevator", name := "whyNoBlend", desc := "(II)I" } : Jvm.MethodName)) ∈ lw_all := lw_g (lw_at lw_m4 82 rfl) rfl
theorem q891 : (Jvm.Cond.selects "WheatElevator" ({ cls := "WheatElevator", name := "whyNoBlend", desc := "(II)I" } : Jvm.MethodName) ({ cls := "WheatElevator", name := "whyNoBlend", desc := "(II)I" } : Jvm.MethodName)) ∈ lw_all := lw_g (lw_at lw_m4 83 rfl) rfl
theorem q892 : (Jvm.Cond.code ({ cls := "WheatElevator", name := "whyNoBlend", desc := "(II)I" } : Jvm.MethodName) prog_1_method_56_code (3 : Nat) (Option.some Jvm.ClassFile.FieldType.int)) ∈ lw_all := lw_g (lw_at lw_m4 84 rfl) rfl
theorem q894 : (Jvm.Cond.instanceMethod ({ cls := "WheatElevator", name := "fromBin", desc := "(III)I" } : Jvm.MethodName)) ∈ lw_all := lw_g (lw_at lw_m4 86 rfl) rfl
theorem q895 : (Jvm.Cond.selects "WheatElevator" ({ cls := "WheatElevator", name := "fromBin", desc := "(III)I" } : Jvm.MethodName) ({ cls := "WheatElevator", name := "fromBin", desc := "(III)I" } : Jvm.MethodName)) ∈ lw_all := lw_g (lw_at lw_m4 87 rfl) rfl
theorem q896 : (Jvm.Cond.code ({ cls := "WheatElevator", name := "fromBin", desc := "(III)I" } : Jvm.MethodName) prog_1_method_57_code (6 : Nat) (Option.some Jvm.ClassFile.FieldType.int)) ∈ lw_all := lw_g (lw_at lw_m4 88 rfl) rfl
theorem q898 : (Jvm.Cond.instanceMethod ({ cls := "WheatElevator", name := "blendMoisture", desc := "(II)I" } : Jvm.MethodName)) ∈ lw_all := lw_g (lw_at lw_m4 90 rfl) rfl
theorem q899 : (Jvm.Cond.selects "WheatElevator" ({ cls := "WheatElevator", name := "blendMoisture", desc := "(II)I" } : Jvm.MethodName) ({ cls := "WheatElevator", name := "blendMoisture", desc := "(II)I" } : Jvm.MethodName)) ∈ lw_all := lw_g (lw_at lw_m4 91 rfl) rfl
theorem q900 : (Jvm.Cond.code ({ cls := "WheatElevator", name := "blendMoisture", desc := "(II)I" } : Jvm.MethodName) prog_1_method_59_code (3 : Nat) (Option.some Jvm.ClassFile.FieldType.int)) ∈ lw_all := lw_g (lw_at lw_m4 92 rfl) rfl
theorem q901 : (Jvm.Cond.methodLink "WheatElevator" (351 : Nat) ({ cls := "WheatElevator", name := "foundMoisture", desc := "(I)I" } : Jvm.MethodName)) ∈ lw_all := lw_g (lw_at lw_m4 93 rfl) rfl
theorem q902 : (Jvm.Cond.privateMethod ({ cls := "WheatElevator", name := "foundMoisture", desc := "(I)I" } : Jvm.MethodName)) ∈ lw_tbl := lw_at lw_m4 94 rfl
theorem q903 : (Jvm.Cond.instanceMethod ({ cls := "WheatElevator", name := "foundMoisture", desc := "(I)I" } : Jvm.MethodName)) ∈ lw_all := lw_g (lw_at lw_m4 95 rfl) rfl
theorem q904 : (Jvm.Cond.code ({ cls := "WheatElevator", name := "foundMoisture", desc := "(I)I" } : Jvm.MethodName) prog_1_method_58_code (2 : Nat) (Option.some Jvm.ClassFile.FieldType.int)) ∈ lw_all := lw_g (lw_at lw_m4 96 rfl) rfl
theorem q906 : (Jvm.Cond.instanceMethod ({ cls := "WheatElevator", name := "load", desc := "(II)I" } : Jvm.MethodName)) ∈ lw_all := lw_g (lw_at lw_m4 98 rfl) rfl
theorem q907 : (Jvm.Cond.selects "WheatElevator" ({ cls := "WheatElevator", name := "load", desc := "(II)I" } : Jvm.MethodName) ({ cls := "WheatElevator", name := "load", desc := "(II)I" } : Jvm.MethodName)) ∈ lw_all := lw_g (lw_at lw_m4 99 rfl) rfl
theorem q908 : (Jvm.Cond.code ({ cls := "WheatElevator", name := "load", desc := "(II)I" } : Jvm.MethodName) prog_1_method_60_code (9 : Nat) (Option.some Jvm.ClassFile.FieldType.int)) ∈ lw_all := lw_g (lw_at lw_m4 100 rfl) rfl
theorem q910 : (Jvm.Cond.instanceMethod ({ cls := "WheatElevator", name := "spoilsIn", desc := "(I)I" } : Jvm.MethodName)) ∈ lw_all := lw_g (lw_at lw_m4 102 rfl) rfl
theorem q911 : (Jvm.Cond.selects "WheatElevator" ({ cls := "WheatElevator", name := "spoilsIn", desc := "(I)I" } : Jvm.MethodName) ({ cls := "WheatElevator", name := "spoilsIn", desc := "(I)I" } : Jvm.MethodName)) ∈ lw_all := lw_g (lw_at lw_m4 103 rfl) rfl
theorem q912 : (Jvm.Cond.code ({ cls := "WheatElevator", name := "spoilsIn", desc := "(I)I" } : Jvm.MethodName) prog_1_method_61_code (4 : Nat) (Option.some Jvm.ClassFile.FieldType.int)) ∈ lw_all := lw_g (lw_at lw_m4 104 rfl) rfl
theorem q914 : (Jvm.Cond.instanceMethod ({ cls := "WheatElevator", name := "stepsTo", desc := "(II)I" } : Jvm.MethodName)) ∈ lw_all := lw_g (lw_at lw_m4 106 rfl) rfl
theorem q915 : (Jvm.Cond.selects "WheatElevator" ({ cls := "WheatElevator", name := "stepsTo", desc := "(II)I" } : Jvm.MethodName) ({ cls := "WheatElevator", name := "stepsTo", desc := "(II)I" } : Jvm.MethodName)) ∈ lw_all := lw_g (lw_at lw_m4 107 rfl) rfl
theorem q916 : (Jvm.Cond.code ({ cls := "WheatElevator", name := "stepsTo", desc := "(II)I" } : Jvm.MethodName) prog_1_method_62_code (6 : Nat) (Option.some Jvm.ClassFile.FieldType.int)) ∈ lw_all := lw_g (lw_at lw_m4 108 rfl) rfl
theorem q917 : (Jvm.Cond.methodLink "WheatElevator" (361 : Nat) ({ cls := "WheatElevator$Bin", name := "<init>", desc := "(LWheatElevator$Bin;)V" } : Jvm.MethodName)) ∈ lw_all := lw_g (lw_at lw_m4 109 rfl) rfl
theorem q919 : (Jvm.Cond.instanceMethod ({ cls := "WheatElevator", name := "bestLeg", desc := "(IIII)I" } : Jvm.MethodName)) ∈ lw_all := lw_g (lw_at lw_m4 111 rfl) rfl
theorem q920 : (Jvm.Cond.selects "WheatElevator" ({ cls := "WheatElevator", name := "bestLeg", desc := "(IIII)I" } : Jvm.MethodName) ({ cls := "WheatElevator", name := "bestLeg", desc := "(IIII)I" } : Jvm.MethodName)) ∈ lw_all := lw_g (lw_at lw_m4 112 rfl) rfl
theorem q921 : (Jvm.Cond.code ({ cls := "WheatElevator", name := "bestLeg", desc := "(IIII)I" } : Jvm.MethodName) prog_1_method_64_code (9 : Nat) (Option.some Jvm.ClassFile.FieldType.int)) ∈ lw_all := lw_g (lw_at lw_m4 113 rfl) rfl
theorem q922 : (Jvm.Cond.methodLink "WheatElevator" (364 : Nat) ({ cls := "WheatElevator", name := "truckFault", desc := "(III)I" } : Jvm.MethodName)) ∈ lw_all := lw_g (lw_at lw_m4 114 rfl) rfl
theorem q923 : (Jvm.Cond.static ({ cls := "WheatElevator", name := "truckFault", desc := "(III)I" } : Jvm.MethodName)) ∈ lw_all := lw_g (lw_at lw_m4 115 rfl) rfl
theorem q924 : (Jvm.Cond.code ({ cls := "WheatElevator", name := "truckFault", desc := "(III)I" } : Jvm.MethodName) prog_1_method_63_code (3 : Nat) (Option.some Jvm.ClassFile.FieldType.int)) ∈ lw_all := lw_g (lw_at lw_m4 116 rfl) rfl
theorem q926 : (Jvm.Cond.instanceMethod ({ cls := "WheatElevator", name := "bestBin", desc := "(IIII)I" } : Jvm.MethodName)) ∈ lw_all := lw_g (lw_at lw_m4 118 rfl) rfl
theorem q927 : (Jvm.Cond.selects "WheatElevator" ({ cls := "WheatElevator", name := "bestBin", desc := "(IIII)I" } : Jvm.MethodName) ({ cls := "WheatElevator", name := "bestBin", desc := "(IIII)I" } : Jvm.MethodName)) ∈ lw_all := lw_g (lw_at lw_m4 119 rfl) rfl
theorem q928 : (Jvm.Cond.code ({ cls := "WheatElevator", name := "bestBin", desc := "(IIII)I" } : Jvm.MethodName) prog_1_method_66_code (9 : Nat) (Option.some Jvm.ClassFile.FieldType.int)) ∈ lw_all := lw_g (lw_at lw_m4 120 rfl) rfl
theorem q929 : (Jvm.Cond.methodLink "WheatElevator" (371 : Nat) ({ cls := "WheatElevator", name := "room", desc := "(I)I" } : Jvm.MethodName)) ∈ lw_all := lw_g (lw_at lw_m4 121 rfl) rfl
theorem q930 : (Jvm.Cond.privateMethod ({ cls := "WheatElevator", name := "room", desc := "(I)I" } : Jvm.MethodName)) ∈ lw_tbl := lw_at lw_m4 122 rfl
theorem q931 : (Jvm.Cond.instanceMethod ({ cls := "WheatElevator", name := "room", desc := "(I)I" } : Jvm.MethodName)) ∈ lw_all := lw_g (lw_at lw_m4 123 rfl) rfl
theorem q932 : (Jvm.Cond.code ({ cls := "WheatElevator", name := "room", desc := "(I)I" } : Jvm.MethodName) prog_1_method_65_code (2 : Nat) (Option.some Jvm.ClassFile.FieldType.int)) ∈ lw_all := lw_g (lw_at lw_m4 124 rfl) rfl
theorem q934 : (Jvm.Cond.instanceMethod ({ cls := "WheatElevator", name := "type", desc := "(I)I" } : Jvm.MethodName)) ∈ lw_all := lw_g (lw_at lw_m4 126 rfl) rfl
theorem q935 : (Jvm.Cond.selects "WheatElevator" ({ cls := "WheatElevator", name := "type", desc := "(I)I" } : Jvm.MethodName) ({ cls := "WheatElevator", name := "type", desc := "(I)I" } : Jvm.MethodName)) ∈ lw_all := lw_g (lw_at lw_m4 127 rfl) rfl
theorem q936 : (Jvm.Cond.code ({ cls := "WheatElevator", name := "type", desc := "(I)I" } : Jvm.MethodName) prog_1_method_67_code (2 : Nat) (Option.some Jvm.ClassFile.FieldType.int)) ∈ lw_all := lw_g (lw_at lw_m4 128 rfl) rfl
theorem q937 : (Jvm.Cond.methodLink "WheatElevator" (374 : Nat) ({ cls := "java/lang/StringBuilder", name := "length", desc := "()I" } : Jvm.MethodName)) ∈ lw_all := lw_g (lw_at lw_m4 129 rfl) rfl
theorem q944 : (Jvm.Cond.methodLink "WheatElevator" (377 : Nat) ({ cls := "java/lang/StringBuilder", name := "append", desc := "(C)Ljava/lang/StringBuilder;" } : Jvm.MethodName)) ∈ lw_all := lw_g (lw_at lw_m4 136 rfl) rfl
theorem q1023 : (Jvm.Cond.instanceMethod ({ cls := "WheatElevator", name := "clearText", desc := "()I" } : Jvm.MethodName)) ∈ lw_all := lw_g (lw_at lw_m4 215 rfl) rfl
theorem q1024 : (Jvm.Cond.selects "WheatElevator" ({ cls := "WheatElevator", name := "clearText", desc := "()I" } : Jvm.MethodName) ({ cls := "WheatElevator", name := "clearText", desc := "()I" } : Jvm.MethodName)) ∈ lw_all := lw_g (lw_at lw_m4 216 rfl) rfl
theorem q1025 : (Jvm.Cond.code ({ cls := "WheatElevator", name := "clearText", desc := "()I" } : Jvm.MethodName) prog_1_method_68_code (2 : Nat) (Option.some Jvm.ClassFile.FieldType.int)) ∈ lw_all := lw_g (lw_at lw_m4 217 rfl) rfl
theorem q1026 : (Jvm.Cond.methodLink "WheatElevator" (381 : Nat) ({ cls := "java/lang/StringBuilder", name := "setLength", desc := "(I)V" } : Jvm.MethodName)) ∈ lw_all := lw_g (lw_at lw_m4 218 rfl) rfl
theorem q1047 : (Jvm.Cond.instanceMethod ({ cls := "WheatElevator", name := "textFault", desc := "()I" } : Jvm.MethodName)) ∈ lw_all := lw_g (lw_at lw_m4 239 rfl) rfl
theorem q1048 : (Jvm.Cond.selects "WheatElevator" ({ cls := "WheatElevator", name := "textFault", desc := "()I" } : Jvm.MethodName) ({ cls := "WheatElevator", name := "textFault", desc := "()I" } : Jvm.MethodName)) ∈ lw_all := lw_g (lw_at lw_m5 0 rfl) rfl
theorem q1049 : (Jvm.Cond.code ({ cls := "WheatElevator", name := "textFault", desc := "()I" } : Jvm.MethodName) prog_1_method_69_code (3 : Nat) (Option.some Jvm.ClassFile.FieldType.int)) ∈ lw_all := lw_g (lw_at lw_m5 1 rfl) rfl
theorem q1050 : (Jvm.Cond.classLink "WheatElevator" (384 : Nat) "WheatElevator$Reader") ∈ lw_all := lw_g (lw_at lw_m5 2 rfl) rfl
theorem q1052 : (Jvm.Cond.methodLinkNest "WheatElevator" (386 : Nat) ({ cls := "WheatElevator$Reader", name := "<init>", desc := "(LWheatElevator;)V" } : Jvm.MethodName) "WheatElevator") ∈ lw_tbl := lw_at lw_m5 4 rfl
theorem q1057 : (Jvm.Cond.fieldLinkNest "WheatElevator" (411 : Nat) "WheatElevator$Reader" "numbers" "[I" "WheatElevator") ∈ lw_tbl := lw_at lw_m5 9 rfl
theorem q1059 : (Jvm.Cond.fieldLinkNest "WheatElevator" (404 : Nat) "WheatElevator$Reader" "order" "LWheatElevator$Order;" "WheatElevator") ∈ lw_tbl := lw_at lw_m5 11 rfl
theorem q1061 : (Jvm.Cond.fieldLinkNest "WheatElevator" (398 : Nat) "WheatElevator$Reader" "at" "I" "WheatElevator") ∈ lw_tbl := lw_at lw_m5 13 rfl
theorem q1072 : (Jvm.Cond.methodLink "WheatElevator" (389 : Nat) ({ cls := "WheatElevator$Reader", name := "readsOrder", desc := "()Z" } : Jvm.MethodName)) ∈ lw_all := lw_g (lw_at lw_m5 24 rfl) rfl
theorem q1102 : (Jvm.Cond.methodLink "WheatElevator" (392 : Nat) ({ cls := "WheatElevator$Reader", name := "goesOn", desc := "()Z" } : Jvm.MethodName)) ∈ lw_all := lw_g (lw_at lw_m5 54 rfl) rfl
theorem q1106 : (Jvm.Cond.methodLink "WheatElevator" (395 : Nat) ({ cls := "WheatElevator$Reader", name := "hasEnded", desc := "()Z" } : Jvm.MethodName)) ∈ lw_all := lw_g (lw_at lw_m5 58 rfl) rfl
theorem q1111 : (Jvm.Cond.instanceMethod ({ cls := "WheatElevator", name := "orders", desc := "()I" } : Jvm.MethodName)) ∈ lw_all := lw_g (lw_at lw_m5 63 rfl) rfl
theorem q1112 : (Jvm.Cond.selects "WheatElevator" ({ cls := "WheatElevator", name := "orders", desc := "()I" } : Jvm.MethodName) ({ cls := "WheatElevator", name := "orders", desc := "()I" } : Jvm.MethodName)) ∈ lw_all := lw_g (lw_at lw_m5 64 rfl) rfl
theorem q1113 : (Jvm.Cond.code ({ cls := "WheatElevator", name := "orders", desc := "()I" } : Jvm.MethodName) prog_1_method_70_code (5 : Nat) (Option.some Jvm.ClassFile.FieldType.int)) ∈ lw_all := lw_g (lw_at lw_m5 65 rfl) rfl
theorem q1114 : (Jvm.Cond.methodLink "WheatElevator" (401 : Nat) ({ cls := "WheatElevator", name := "textFault", desc := "()I" } : Jvm.MethodName)) ∈ lw_all := lw_g (lw_at lw_m5 66 rfl) rfl
theorem q1115 : (Jvm.Cond.interfaceEntry "WheatElevator" (414 : Nat)) ∈ lw_tbl := lw_at lw_m5 67 rfl
theorem q1116 : (Jvm.Cond.methodLink "WheatElevator" (414 : Nat) ({ cls := "WheatElevator$Deed", name := "of", desc := "([I)I" } : Jvm.MethodName)) ∈ lw_all := lw_g (lw_at lw_m5 68 rfl) rfl
theorem q1120 : (Jvm.Cond.instanceMethod ({ cls := "WheatElevator", name := "undo", desc := "()I" } : Jvm.MethodName)) ∈ lw_all := lw_g (lw_at lw_m5 72 rfl) rfl
theorem q1121 : (Jvm.Cond.selects "WheatElevator" ({ cls := "WheatElevator", name := "undo", desc := "()I" } : Jvm.MethodName) ({ cls := "WheatElevator", name := "undo", desc := "()I" } : Jvm.MethodName)) ∈ lw_all := lw_g (lw_at lw_m5 73 rfl) rfl
theorem q1122 : (Jvm.Cond.code ({ cls := "WheatElevator", name := "undo", desc := "()I" } : Jvm.MethodName) prog_1_method_71_code (1 : Nat) (Option.some Jvm.ClassFile.FieldType.int)) ∈ lw_all := lw_g (lw_at lw_m5 74 rfl) rfl
theorem q1123 : (Jvm.Cond.methodLink "WheatElevator" (422 : Nat) ({ cls := "java/util/ArrayDeque", name := "isEmpty", desc := "()Z" } : Jvm.MethodName)) ∈ lw_all := lw_g (lw_at lw_m5 75 rfl) rfl
theorem q1127 : (Jvm.Cond.methodLink "WheatElevator" (425 : Nat) ({ cls := "java/util/ArrayDeque", name := "removeLast", desc := "()Ljava/lang/Object;" } : Jvm.MethodName)) ∈ lw_all := lw_g (lw_at lw_m5 79 rfl) rfl
theorem q1139 : (Jvm.Cond.instanceMethod ({ cls := "WheatElevator", name := "keep", desc := "(I)I" } : Jvm.MethodName)) ∈ lw_all := lw_g (lw_at lw_m5 91 rfl) rfl
theorem q1140 : (Jvm.Cond.selects "WheatElevator" ({ cls := "WheatElevator", name := "keep", desc := "(I)I" } : Jvm.MethodName) ({ cls := "WheatElevator", name := "keep", desc := "(I)I" } : Jvm.MethodName)) ∈ lw_all := lw_g (lw_at lw_m5 92 rfl) rfl
theorem q1141 : (Jvm.Cond.code ({ cls := "WheatElevator", name := "keep", desc := "(I)I" } : Jvm.MethodName) prog_1_method_73_code (2 : Nat) (Option.some Jvm.ClassFile.FieldType.int)) ∈ lw_all := lw_g (lw_at lw_m5 93 rfl) rfl
theorem q1142 : (Jvm.Cond.methodLink "WheatElevator" (428 : Nat) ({ cls := "WheatElevator", name := "isImage", desc := "(I)Z" } : Jvm.MethodName)) ∈ lw_all := lw_g (lw_at lw_m5 94 rfl) rfl
theorem q1143 : (Jvm.Cond.static ({ cls := "WheatElevator", name := "isImage", desc := "(I)Z" } : Jvm.MethodName)) ∈ lw_all := lw_g (lw_at lw_m5 95 rfl) rfl
theorem q1144 : (Jvm.Cond.code ({ cls := "WheatElevator", name := "isImage", desc := "(I)Z" } : Jvm.MethodName) prog_1_method_72_code (1 : Nat) (Option.some Jvm.ClassFile.FieldType.boolean)) ∈ lw_all := lw_g (lw_at lw_m5 96 rfl) rfl
theorem q1146 : (Jvm.Cond.instanceMethod ({ cls := "WheatElevator", name := "back", desc := "(I)I" } : Jvm.MethodName)) ∈ lw_all := lw_g (lw_at lw_m5 98 rfl) rfl
theorem q1147 : (Jvm.Cond.selects "WheatElevator" ({ cls := "WheatElevator", name := "back", desc := "(I)I" } : Jvm.MethodName) ({ cls := "WheatElevator", name := "back", desc := "(I)I" } : Jvm.MethodName)) ∈ lw_all := lw_g (lw_at lw_m5 99 rfl) rfl
theorem q1148 : (Jvm.Cond.code ({ cls := "WheatElevator", name := "back", desc := "(I)I" } : Jvm.MethodName) prog_1_method_74_code (2 : Nat) (Option.some Jvm.ClassFile.FieldType.int)) ∈ lw_all := lw_g (lw_at lw_m5 100 rfl) rfl
theorem q1150 : (Jvm.Cond.instanceMethod ({ cls := "WheatElevator", name := "digest", desc := "()J" } : Jvm.MethodName)) ∈ lw_all := lw_g (lw_at lw_m5 102 rfl) rfl
theorem q1151 : (Jvm.Cond.selects "WheatElevator" ({ cls := "WheatElevator", name := "digest", desc := "()J" } : Jvm.MethodName) ({ cls := "WheatElevator", name := "digest", desc := "()J" } : Jvm.MethodName)) ∈ lw_all := lw_g (lw_at lw_m5 103 rfl) rfl
theorem q1152 : (Jvm.Cond.code ({ cls := "WheatElevator", name := "digest", desc := "()J" } : Jvm.MethodName) prog_1_method_76_code (5 : Nat) (Option.some Jvm.ClassFile.FieldType.long)) ∈ lw_all := lw_g (lw_at lw_m5 104 rfl) rfl
theorem q1153 : (Jvm.Cond.constantLong "WheatElevator" (433 : Nat) (17 : Int64)) ∈ lw_all := lw_g (lw_at lw_m5 105 rfl) rfl
theorem q1154 : (Jvm.Cond.methodLink "WheatElevator" (435 : Nat) ({ cls := "WheatElevator", name := "count", desc := "(I)I" } : Jvm.MethodName)) ∈ lw_all := lw_g (lw_at lw_m5 106 rfl) rfl
theorem q1155 : (Jvm.Cond.methodLink "WheatElevator" (438 : Nat) ({ cls := "WheatElevator", name := "mixed", desc := "(JJ)J" } : Jvm.MethodName)) ∈ lw_all := lw_g (lw_at lw_m5 107 rfl) rfl
theorem q1156 : (Jvm.Cond.static ({ cls := "WheatElevator", name := "mixed", desc := "(JJ)J" } : Jvm.MethodName)) ∈ lw_all := lw_g (lw_at lw_m5 108 rfl) rfl
theorem q1157 : (Jvm.Cond.code ({ cls := "WheatElevator", name := "mixed", desc := "(JJ)J" } : Jvm.MethodName) prog_1_method_75_code (4 : Nat) (Option.some Jvm.ClassFile.FieldType.long)) ∈ lw_all := lw_g (lw_at lw_m5 109 rfl) rfl
theorem q1158 : (Jvm.Cond.constantLong "WheatElevator" (431 : Nat) (31 : Int64)) ∈ lw_all := lw_g (lw_at lw_m5 110 rfl) rfl
theorem q1159 : (Jvm.Cond.methodLink "WheatElevator" (442 : Nat) ({ cls := "WheatElevator", name := "book", desc := "(I)J" } : Jvm.MethodName)) ∈ lw_all := lw_g (lw_at lw_m5 111 rfl) rfl
theorem q1576 : (Jvm.Cond.castable "WheatElevator" "java/lang/Object") ∈ lw_tbl := lw_at lw_m7 48 rfl
theorem in_X0 : ∀ w ∈ wsX00, w ∈ lw_all := lw_in wsX00 [494, 496, 498, 500, 502, 504, 506, 508, 510] (by decide +kernel) (by decide +kernel)
