/-! ClearingHouse$Parser -/
set_option maxRecDepth 100000
def RX10 : String := "ClearingHouse$Parser"
def TX10 : u_T := fun k => match k with
  | 0 => ("ClearingHouse$Parser", "text", "Ljava/lang/String;", true)
  | 1 => ("ClearingHouse$Parser", "position", "I", false)
  | _ => ("ClearingHouse$Parser", "this$0", "LClearingHouse;", true)
def tyX10 : Nat → FieldType := fun k => match k with
  | 0 => .object "java/lang/String"
  | 1 => .int
  | _ => .object "ClearingHouse"
abbrev wsX100 : List Cond := u_ws RX10 TX10 3
theorem nmX10 : ∀ a, a < 3 → ∀ b, b < 3 → a ≠ b → (TX10 a).2.1 ≠ (TX10 b).2.1 := by decide +kernel
theorem tyX10_ok : ∀ k, k < 3 → parseFieldDescriptor (TX10 k).2.2.1 = some (tyX10 k) := by decide +kernel
abbrev cX10_init : ByteArray := prog_8_method_1_code
def yX10_init : MethodName := ⟨RX10, "<init>", "(LClearingHouse;)V"⟩
def dkwX10_init_0 : List UInt8 := [42, 43, 181, 0, 1, 42, 183, 0, 7, 42, 42, 180, 0, 1, 180, 0, 13, 182, 0, 19, 181, 0, 25, 177]
abbrev dktX10_init_0 : List UInt8 := dkwX10_init_0 ++ []
theorem dksX10_init_0 : cX10_init.data.toList.drop 0 = dktX10_init_0 := by decide +kernel
theorem dX10_init_0 : decode cX10_init 0 = .ok (.aload_n 0, 1) := dk_42 (dk_at dksX10_init_0 0 rfl rfl)
theorem dX10_init_1 : decode cX10_init 1 = .ok (.aload_n 1, 1) := dk_43 (dk_at dksX10_init_0 1 rfl rfl)
theorem dX10_init_2 : decode cX10_init 2 = .ok (.putfield 1, 3) := dk_181 0 1 (dk_at dksX10_init_0 2 rfl rfl)
theorem dX10_init_5 : decode cX10_init 5 = .ok (.aload_n 0, 1) := dk_42 (dk_at dksX10_init_0 5 rfl rfl)
theorem dX10_init_6 : decode cX10_init 6 = .ok (.invokespecial 7, 3) := dk_183 0 7 (dk_at dksX10_init_0 6 rfl rfl)
theorem dX10_init_9 : decode cX10_init 9 = .ok (.aload_n 0, 1) := dk_42 (dk_at dksX10_init_0 9 rfl rfl)
theorem dX10_init_10 : decode cX10_init 10 = .ok (.aload_n 0, 1) := dk_42 (dk_at dksX10_init_0 10 rfl rfl)
theorem dX10_init_11 : decode cX10_init 11 = .ok (.getfield 1, 3) := dk_180 0 1 (dk_at dksX10_init_0 11 rfl rfl)
theorem dX10_init_14 : decode cX10_init 14 = .ok (.getfield 13, 3) := dk_180 0 13 (dk_at dksX10_init_0 14 rfl rfl)
theorem dX10_init_17 : decode cX10_init 17 = .ok (.invokevirtual 19, 3) := dk_182 0 19 (dk_at dksX10_init_0 17 rfl rfl)
theorem dX10_init_20 : decode cX10_init 20 = .ok (.putfield 25, 3) := dk_181 0 25 (dk_at dksX10_init_0 20 rfl rfl)
theorem dX10_init_23 : decode cX10_init 23 = .ok (.return_, 1) := dk_177 (dk_at dksX10_init_0 23 rfl rfl)
abbrev cX10_parseProgram : ByteArray := prog_8_method_17_code
def yX10_parseProgram : MethodName := ⟨RX10, "parseProgram", "()Ljava/util/List;"⟩
def dkwX10_parseProgram_2 : List UInt8 := [167, 0, 4, 3, 182, 0, 56, 43, 176]
abbrev dktX10_parseProgram_2 : List UInt8 := dkwX10_parseProgram_2 ++ []
def dkwX10_parseProgram_1 : List UInt8 := [182, 0, 52, 154, 255, 239, 42, 42, 180, 0, 29, 42, 180, 0, 25, 182, 0, 33, 160, 0, 7, 4]
abbrev dktX10_parseProgram_1 : List UInt8 := dkwX10_parseProgram_1 ++ dktX10_parseProgram_2
def dkwX10_parseProgram_0 : List UInt8 := [187, 0, 151, 89, 183, 0, 153, 76, 43, 42, 182, 0, 154, 185, 0, 157, 2, 0, 87, 42, 16, 59]
abbrev dktX10_parseProgram_0 : List UInt8 := dkwX10_parseProgram_0 ++ dktX10_parseProgram_1
theorem dksX10_parseProgram_0 : cX10_parseProgram.data.toList.drop 0 = dktX10_parseProgram_0 := by decide +kernel
theorem dksX10_parseProgram_1 : cX10_parseProgram.data.toList.drop 22 = dktX10_parseProgram_1 := dk_seg dksX10_parseProgram_0 22 rfl rfl
theorem dksX10_parseProgram_2 : cX10_parseProgram.data.toList.drop 44 = dktX10_parseProgram_2 := dk_seg dksX10_parseProgram_1 22 rfl rfl
theorem dX10_parseProgram_0 : decode cX10_parseProgram 0 = .ok (.new 151, 3) := dk_187 0 151 (dk_at dksX10_parseProgram_0 0 rfl rfl)
theorem dX10_parseProgram_3 : decode cX10_parseProgram 3 = .ok (.dup, 1) := dk_89 (dk_at dksX10_parseProgram_0 3 rfl rfl)
theorem dX10_parseProgram_4 : decode cX10_parseProgram 4 = .ok (.invokespecial 153, 3) := dk_183 0 153 (dk_at dksX10_parseProgram_0 4 rfl rfl)
theorem dX10_parseProgram_7 : decode cX10_parseProgram 7 = .ok (.astore_n 1, 1) := dk_76 (dk_at dksX10_parseProgram_0 7 rfl rfl)
theorem dX10_parseProgram_8 : decode cX10_parseProgram 8 = .ok (.aload_n 1, 1) := dk_43 (dk_at dksX10_parseProgram_0 8 rfl rfl)
theorem dX10_parseProgram_9 : decode cX10_parseProgram 9 = .ok (.aload_n 0, 1) := dk_42 (dk_at dksX10_parseProgram_0 9 rfl rfl)
theorem dX10_parseProgram_10 : decode cX10_parseProgram 10 = .ok (.invokevirtual 154, 3) := dk_182 0 154 (dk_at dksX10_parseProgram_0 10 rfl rfl)
theorem dX10_parseProgram_13 : decode cX10_parseProgram 13 = .ok (.invokeinterface 157 2, 5) := by decide +kernel
theorem dX10_parseProgram_18 : decode cX10_parseProgram 18 = .ok (.pop, 1) := dk_87 (dk_at dksX10_parseProgram_0 18 rfl rfl)
theorem dX10_parseProgram_19 : decode cX10_parseProgram 19 = .ok (.aload_n 0, 1) := dk_42 (dk_at dksX10_parseProgram_0 19 rfl rfl)
theorem dX10_parseProgram_20 : decode cX10_parseProgram 20 = .ok (.bipush 59, 2) := dk_16 59 (dk_at dksX10_parseProgram_0 20 rfl rfl)
theorem dX10_parseProgram_22 : decode cX10_parseProgram 22 = .ok (.invokevirtual 52, 3) := dk_182 0 52 (dk_at dksX10_parseProgram_1 0 rfl rfl)
theorem dX10_parseProgram_25 : decode cX10_parseProgram 25 = .ok (.ifCond .ne (-17), 3) := dk_154 255 239 (dk_at dksX10_parseProgram_1 3 rfl rfl)
theorem dX10_parseProgram_28 : decode cX10_parseProgram 28 = .ok (.aload_n 0, 1) := dk_42 (dk_at dksX10_parseProgram_1 6 rfl rfl)
theorem dX10_parseProgram_29 : decode cX10_parseProgram 29 = .ok (.aload_n 0, 1) := dk_42 (dk_at dksX10_parseProgram_1 7 rfl rfl)
theorem dX10_parseProgram_30 : decode cX10_parseProgram 30 = .ok (.getfield 29, 3) := dk_180 0 29 (dk_at dksX10_parseProgram_1 8 rfl rfl)
theorem dX10_parseProgram_33 : decode cX10_parseProgram 33 = .ok (.aload_n 0, 1) := dk_42 (dk_at dksX10_parseProgram_1 11 rfl rfl)
theorem dX10_parseProgram_34 : decode cX10_parseProgram 34 = .ok (.getfield 25, 3) := dk_180 0 25 (dk_at dksX10_parseProgram_1 12 rfl rfl)
theorem dX10_parseProgram_37 : decode cX10_parseProgram 37 = .ok (.invokevirtual 33, 3) := dk_182 0 33 (dk_at dksX10_parseProgram_1 15 rfl rfl)
theorem dX10_parseProgram_40 : decode cX10_parseProgram 40 = .ok (.if_icmp .ne 7, 3) := dk_160 0 7 (dk_at dksX10_parseProgram_1 18 rfl rfl)
theorem dX10_parseProgram_43 : decode cX10_parseProgram 43 = .ok (.iconst 1, 1) := dk_4 (dk_at dksX10_parseProgram_1 21 rfl rfl)
theorem dX10_parseProgram_44 : decode cX10_parseProgram 44 = .ok (.goto 4, 3) := dk_167 0 4 (dk_at dksX10_parseProgram_2 0 rfl rfl)
theorem dX10_parseProgram_47 : decode cX10_parseProgram 47 = .ok (.iconst 0, 1) := dk_3 (dk_at dksX10_parseProgram_2 3 rfl rfl)
theorem dX10_parseProgram_48 : decode cX10_parseProgram 48 = .ok (.invokevirtual 56, 3) := dk_182 0 56 (dk_at dksX10_parseProgram_2 4 rfl rfl)
theorem dX10_parseProgram_51 : decode cX10_parseProgram 51 = .ok (.aload_n 1, 1) := dk_43 (dk_at dksX10_parseProgram_2 7 rfl rfl)
theorem dX10_parseProgram_52 : decode cX10_parseProgram 52 = .ok (.areturn, 1) := dk_176 (dk_at dksX10_parseProgram_2 8 rfl rfl)
abbrev cX10_parseOrder : ByteArray := prog_8_method_16_code
def yX10_parseOrder : MethodName := ⟨RX10, "parseOrder", "()LClearingHouse$Order;"⟩
def dkwX10_parseOrder_5 : List UInt8 := [100, 183, 0, 49, 191]
abbrev dktX10_parseOrder_5 : List UInt8 := dkwX10_parseOrder_5 ++ []
def dkwX10_parseOrder_4 : List UInt8 := [42, 178, 0, 143, 18, 146, 182, 0, 107, 176, 42, 182, 0, 148, 176, 187, 0, 47, 89, 42, 180, 0, 29, 4]
abbrev dktX10_parseOrder_4 : List UInt8 := dkwX10_parseOrder_4 ++ dktX10_parseOrder_5
def dkwX10_parseOrder_3 : List UInt8 := [42, 182, 0, 132, 176, 42, 16, 111, 18, 135, 182, 0, 88, 176, 42, 182, 0, 137, 176, 42, 182, 0, 140, 176]
abbrev dktX10_parseOrder_3 : List UInt8 := dkwX10_parseOrder_3 ++ dktX10_parseOrder_4
def dkwX10_parseOrder_2 : List UInt8 := [170, 0, 0, 0, 116, 0, 0, 0, 97, 0, 0, 0, 112, 0, 0, 0, 101, 0, 0, 0, 116, 0, 0, 0, 96, 0, 0, 0, 111, 0, 0, 0, 116, 0, 0, 0, 116, 0, 0, 0, 116, 0, 0, 0, 116, 0, 0, 0, 116, 0, 0, 0, 77, 0, 0, 0, 116, 0, 0, 0, 116, 0, 0, 0, 116, 0, 0, 0, 116, 0, 0, 0, 82, 0, 0, 0, 91]
abbrev dktX10_parseOrder_2 : List UInt8 := dkwX10_parseOrder_2 ++ dktX10_parseOrder_3
def dkwX10_parseOrder_1 : List UInt8 := [180, 0, 25, 42, 180, 0, 29, 4, 100, 182, 0, 39]
abbrev dktX10_parseOrder_1 : List UInt8 := dkwX10_parseOrder_1 ++ dktX10_parseOrder_2
def dkwX10_parseOrder_0 : List UInt8 := [42, 42, 16, 97, 16, 122, 182, 0, 43, 182, 0, 56, 42, 89, 180, 0, 29, 4, 96, 181, 0, 29, 42]
abbrev dktX10_parseOrder_0 : List UInt8 := dkwX10_parseOrder_0 ++ dktX10_parseOrder_1
theorem dksX10_parseOrder_0 : cX10_parseOrder.data.toList.drop 0 = dktX10_parseOrder_0 := by decide +kernel
theorem dksX10_parseOrder_1 : cX10_parseOrder.data.toList.drop 23 = dktX10_parseOrder_1 := dk_seg dksX10_parseOrder_0 23 rfl rfl
theorem dksX10_parseOrder_2 : cX10_parseOrder.data.toList.drop 35 = dktX10_parseOrder_2 := dk_seg dksX10_parseOrder_1 12 rfl rfl
theorem dksX10_parseOrder_3 : cX10_parseOrder.data.toList.drop 112 = dktX10_parseOrder_3 := dk_seg dksX10_parseOrder_2 77 rfl rfl
theorem dksX10_parseOrder_4 : cX10_parseOrder.data.toList.drop 136 = dktX10_parseOrder_4 := dk_seg dksX10_parseOrder_3 24 rfl rfl
theorem dksX10_parseOrder_5 : cX10_parseOrder.data.toList.drop 160 = dktX10_parseOrder_5 := dk_seg dksX10_parseOrder_4 24 rfl rfl
theorem dX10_parseOrder_0 : decode cX10_parseOrder 0 = .ok (.aload_n 0, 1) := dk_42 (dk_at dksX10_parseOrder_0 0 rfl rfl)
theorem dX10_parseOrder_1 : decode cX10_parseOrder 1 = .ok (.aload_n 0, 1) := dk_42 (dk_at dksX10_parseOrder_0 1 rfl rfl)
theorem dX10_parseOrder_2 : decode cX10_parseOrder 2 = .ok (.bipush 97, 2) := dk_16 97 (dk_at dksX10_parseOrder_0 2 rfl rfl)
theorem dX10_parseOrder_4 : decode cX10_parseOrder 4 = .ok (.bipush 122, 2) := dk_16 122 (dk_at dksX10_parseOrder_0 4 rfl rfl)
theorem dX10_parseOrder_6 : decode cX10_parseOrder 6 = .ok (.invokevirtual 43, 3) := dk_182 0 43 (dk_at dksX10_parseOrder_0 6 rfl rfl)
theorem dX10_parseOrder_9 : decode cX10_parseOrder 9 = .ok (.invokevirtual 56, 3) := dk_182 0 56 (dk_at dksX10_parseOrder_0 9 rfl rfl)
theorem dX10_parseOrder_12 : decode cX10_parseOrder 12 = .ok (.aload_n 0, 1) := dk_42 (dk_at dksX10_parseOrder_0 12 rfl rfl)
theorem dX10_parseOrder_13 : decode cX10_parseOrder 13 = .ok (.dup, 1) := dk_89 (dk_at dksX10_parseOrder_0 13 rfl rfl)
theorem dX10_parseOrder_14 : decode cX10_parseOrder 14 = .ok (.getfield 29, 3) := dk_180 0 29 (dk_at dksX10_parseOrder_0 14 rfl rfl)
theorem dX10_parseOrder_17 : decode cX10_parseOrder 17 = .ok (.iconst 1, 1) := dk_4 (dk_at dksX10_parseOrder_0 17 rfl rfl)
theorem dX10_parseOrder_18 : decode cX10_parseOrder 18 = .ok (.iadd, 1) := dk_96 (dk_at dksX10_parseOrder_0 18 rfl rfl)
theorem dX10_parseOrder_19 : decode cX10_parseOrder 19 = .ok (.putfield 29, 3) := dk_181 0 29 (dk_at dksX10_parseOrder_0 19 rfl rfl)
theorem dX10_parseOrder_22 : decode cX10_parseOrder 22 = .ok (.aload_n 0, 1) := dk_42 (dk_at dksX10_parseOrder_0 22 rfl rfl)
theorem dX10_parseOrder_23 : decode cX10_parseOrder 23 = .ok (.getfield 25, 3) := dk_180 0 25 (dk_at dksX10_parseOrder_1 0 rfl rfl)
theorem dX10_parseOrder_26 : decode cX10_parseOrder 26 = .ok (.aload_n 0, 1) := dk_42 (dk_at dksX10_parseOrder_1 3 rfl rfl)
theorem dX10_parseOrder_27 : decode cX10_parseOrder 27 = .ok (.getfield 29, 3) := dk_180 0 29 (dk_at dksX10_parseOrder_1 4 rfl rfl)
theorem dX10_parseOrder_30 : decode cX10_parseOrder 30 = .ok (.iconst 1, 1) := dk_4 (dk_at dksX10_parseOrder_1 7 rfl rfl)
theorem dX10_parseOrder_31 : decode cX10_parseOrder 31 = .ok (.isub, 1) := dk_100 (dk_at dksX10_parseOrder_1 8 rfl rfl)
theorem dX10_parseOrder_32 : decode cX10_parseOrder 32 = .ok (.invokevirtual 39, 3) := dk_182 0 39 (dk_at dksX10_parseOrder_1 9 rfl rfl)
theorem dX10_parseOrder_35 : decode cX10_parseOrder 35 = .ok (.tableswitch 116 97 112 #[101, 116, 96, 111, 116, 116, 116, 116, 116, 77, 116, 116, 116, 116, 82, 91], 77) := by decide +kernel
theorem dX10_parseOrder_112 : decode cX10_parseOrder 112 = .ok (.aload_n 0, 1) := dk_42 (dk_at dksX10_parseOrder_3 0 rfl rfl)
theorem dX10_parseOrder_113 : decode cX10_parseOrder 113 = .ok (.invokevirtual 132, 3) := dk_182 0 132 (dk_at dksX10_parseOrder_3 1 rfl rfl)
theorem dX10_parseOrder_116 : decode cX10_parseOrder 116 = .ok (.areturn, 1) := dk_176 (dk_at dksX10_parseOrder_3 4 rfl rfl)
theorem dX10_parseOrder_117 : decode cX10_parseOrder 117 = .ok (.aload_n 0, 1) := dk_42 (dk_at dksX10_parseOrder_3 5 rfl rfl)
theorem dX10_parseOrder_118 : decode cX10_parseOrder 118 = .ok (.bipush 111, 2) := dk_16 111 (dk_at dksX10_parseOrder_3 6 rfl rfl)
theorem dX10_parseOrder_120 : decode cX10_parseOrder 120 = .ok (.ldc 135, 2) := dk_18 135 (dk_at dksX10_parseOrder_3 8 rfl rfl)
theorem dX10_parseOrder_122 : decode cX10_parseOrder 122 = .ok (.invokevirtual 88, 3) := dk_182 0 88 (dk_at dksX10_parseOrder_3 10 rfl rfl)
theorem dX10_parseOrder_125 : decode cX10_parseOrder 125 = .ok (.areturn, 1) := dk_176 (dk_at dksX10_parseOrder_3 13 rfl rfl)
theorem dX10_parseOrder_126 : decode cX10_parseOrder 126 = .ok (.aload_n 0, 1) := dk_42 (dk_at dksX10_parseOrder_3 14 rfl rfl)
theorem dX10_parseOrder_127 : decode cX10_parseOrder 127 = .ok (.invokevirtual 137, 3) := dk_182 0 137 (dk_at dksX10_parseOrder_3 15 rfl rfl)
theorem dX10_parseOrder_130 : decode cX10_parseOrder 130 = .ok (.areturn, 1) := dk_176 (dk_at dksX10_parseOrder_3 18 rfl rfl)
theorem dX10_parseOrder_131 : decode cX10_parseOrder 131 = .ok (.aload_n 0, 1) := dk_42 (dk_at dksX10_parseOrder_3 19 rfl rfl)
theorem dX10_parseOrder_132 : decode cX10_parseOrder 132 = .ok (.invokevirtual 140, 3) := dk_182 0 140 (dk_at dksX10_parseOrder_3 20 rfl rfl)
theorem dX10_parseOrder_135 : decode cX10_parseOrder 135 = .ok (.areturn, 1) := dk_176 (dk_at dksX10_parseOrder_3 23 rfl rfl)
theorem dX10_parseOrder_136 : decode cX10_parseOrder 136 = .ok (.aload_n 0, 1) := dk_42 (dk_at dksX10_parseOrder_4 0 rfl rfl)
theorem dX10_parseOrder_137 : decode cX10_parseOrder 137 = .ok (.getstatic 143, 3) := dk_178 0 143 (dk_at dksX10_parseOrder_4 1 rfl rfl)
theorem dX10_parseOrder_140 : decode cX10_parseOrder 140 = .ok (.ldc 146, 2) := dk_18 146 (dk_at dksX10_parseOrder_4 4 rfl rfl)
theorem dX10_parseOrder_142 : decode cX10_parseOrder 142 = .ok (.invokevirtual 107, 3) := dk_182 0 107 (dk_at dksX10_parseOrder_4 6 rfl rfl)
theorem dX10_parseOrder_145 : decode cX10_parseOrder 145 = .ok (.areturn, 1) := dk_176 (dk_at dksX10_parseOrder_4 9 rfl rfl)
theorem dX10_parseOrder_146 : decode cX10_parseOrder 146 = .ok (.aload_n 0, 1) := dk_42 (dk_at dksX10_parseOrder_4 10 rfl rfl)
theorem dX10_parseOrder_147 : decode cX10_parseOrder 147 = .ok (.invokevirtual 148, 3) := dk_182 0 148 (dk_at dksX10_parseOrder_4 11 rfl rfl)
theorem dX10_parseOrder_150 : decode cX10_parseOrder 150 = .ok (.areturn, 1) := dk_176 (dk_at dksX10_parseOrder_4 14 rfl rfl)
theorem dX10_parseOrder_151 : decode cX10_parseOrder 151 = .ok (.new 47, 3) := dk_187 0 47 (dk_at dksX10_parseOrder_4 15 rfl rfl)
theorem dX10_parseOrder_154 : decode cX10_parseOrder 154 = .ok (.dup, 1) := dk_89 (dk_at dksX10_parseOrder_4 18 rfl rfl)
theorem dX10_parseOrder_155 : decode cX10_parseOrder 155 = .ok (.aload_n 0, 1) := dk_42 (dk_at dksX10_parseOrder_4 19 rfl rfl)
theorem dX10_parseOrder_156 : decode cX10_parseOrder 156 = .ok (.getfield 29, 3) := dk_180 0 29 (dk_at dksX10_parseOrder_4 20 rfl rfl)
theorem dX10_parseOrder_159 : decode cX10_parseOrder 159 = .ok (.iconst 1, 1) := dk_4 (dk_at dksX10_parseOrder_4 23 rfl rfl)
theorem dX10_parseOrder_160 : decode cX10_parseOrder 160 = .ok (.isub, 1) := dk_100 (dk_at dksX10_parseOrder_5 0 rfl rfl)
theorem dX10_parseOrder_161 : decode cX10_parseOrder 161 = .ok (.invokespecial 49, 3) := dk_183 0 49 (dk_at dksX10_parseOrder_5 1 rfl rfl)
theorem dX10_parseOrder_164 : decode cX10_parseOrder 164 = .ok (.athrow, 1) := dk_191 (dk_at dksX10_parseOrder_5 4 rfl rfl)
abbrev cX10_isNextBetween : ByteArray := prog_8_method_2_code
def yX10_isNextBetween : MethodName := ⟨RX10, "isNextBetween", "(CC)Z"⟩
def dkwX10_isNextBetween_2 : List UInt8 := [167, 0, 4, 3, 172]
abbrev dktX10_isNextBetween_2 : List UInt8 := dkwX10_isNextBetween_2 ++ []
def dkwX10_isNextBetween_1 : List UInt8 := [182, 0, 39, 163, 0, 22, 42, 180, 0, 25, 42, 180, 0, 29, 182, 0, 39, 28, 163, 0, 7, 4]
abbrev dktX10_isNextBetween_1 : List UInt8 := dkwX10_isNextBetween_1 ++ dktX10_isNextBetween_2
def dkwX10_isNextBetween_0 : List UInt8 := [42, 180, 0, 29, 42, 180, 0, 25, 182, 0, 33, 162, 0, 37, 27, 42, 180, 0, 25, 42, 180, 0, 29]
abbrev dktX10_isNextBetween_0 : List UInt8 := dkwX10_isNextBetween_0 ++ dktX10_isNextBetween_1
theorem dksX10_isNextBetween_0 : cX10_isNextBetween.data.toList.drop 0 = dktX10_isNextBetween_0 := by decide +kernel
theorem dksX10_isNextBetween_1 : cX10_isNextBetween.data.toList.drop 23 = dktX10_isNextBetween_1 := dk_seg dksX10_isNextBetween_0 23 rfl rfl
theorem dksX10_isNextBetween_2 : cX10_isNextBetween.data.toList.drop 45 = dktX10_isNextBetween_2 := dk_seg dksX10_isNextBetween_1 22 rfl rfl
theorem dX10_isNextBetween_0 : decode cX10_isNextBetween 0 = .ok (.aload_n 0, 1) := dk_42 (dk_at dksX10_isNextBetween_0 0 rfl rfl)
theorem dX10_isNextBetween_1 : decode cX10_isNextBetween 1 = .ok (.getfield 29, 3) := dk_180 0 29 (dk_at dksX10_isNextBetween_0 1 rfl rfl)
theorem dX10_isNextBetween_4 : decode cX10_isNextBetween 4 = .ok (.aload_n 0, 1) := dk_42 (dk_at dksX10_isNextBetween_0 4 rfl rfl)
theorem dX10_isNextBetween_5 : decode cX10_isNextBetween 5 = .ok (.getfield 25, 3) := dk_180 0 25 (dk_at dksX10_isNextBetween_0 5 rfl rfl)
theorem dX10_isNextBetween_8 : decode cX10_isNextBetween 8 = .ok (.invokevirtual 33, 3) := dk_182 0 33 (dk_at dksX10_isNextBetween_0 8 rfl rfl)
theorem dX10_isNextBetween_11 : decode cX10_isNextBetween 11 = .ok (.if_icmp .ge 37, 3) := dk_162 0 37 (dk_at dksX10_isNextBetween_0 11 rfl rfl)
theorem dX10_isNextBetween_14 : decode cX10_isNextBetween 14 = .ok (.iload_n 1, 1) := dk_27 (dk_at dksX10_isNextBetween_0 14 rfl rfl)
theorem dX10_isNextBetween_15 : decode cX10_isNextBetween 15 = .ok (.aload_n 0, 1) := dk_42 (dk_at dksX10_isNextBetween_0 15 rfl rfl)
theorem dX10_isNextBetween_16 : decode cX10_isNextBetween 16 = .ok (.getfield 25, 3) := dk_180 0 25 (dk_at dksX10_isNextBetween_0 16 rfl rfl)
theorem dX10_isNextBetween_19 : decode cX10_isNextBetween 19 = .ok (.aload_n 0, 1) := dk_42 (dk_at dksX10_isNextBetween_0 19 rfl rfl)
theorem dX10_isNextBetween_20 : decode cX10_isNextBetween 20 = .ok (.getfield 29, 3) := dk_180 0 29 (dk_at dksX10_isNextBetween_0 20 rfl rfl)
theorem dX10_isNextBetween_23 : decode cX10_isNextBetween 23 = .ok (.invokevirtual 39, 3) := dk_182 0 39 (dk_at dksX10_isNextBetween_1 0 rfl rfl)
theorem dX10_isNextBetween_26 : decode cX10_isNextBetween 26 = .ok (.if_icmp .gt 22, 3) := dk_163 0 22 (dk_at dksX10_isNextBetween_1 3 rfl rfl)
theorem dX10_isNextBetween_29 : decode cX10_isNextBetween 29 = .ok (.aload_n 0, 1) := dk_42 (dk_at dksX10_isNextBetween_1 6 rfl rfl)
theorem dX10_isNextBetween_30 : decode cX10_isNextBetween 30 = .ok (.getfield 25, 3) := dk_180 0 25 (dk_at dksX10_isNextBetween_1 7 rfl rfl)
theorem dX10_isNextBetween_33 : decode cX10_isNextBetween 33 = .ok (.aload_n 0, 1) := dk_42 (dk_at dksX10_isNextBetween_1 10 rfl rfl)
theorem dX10_isNextBetween_34 : decode cX10_isNextBetween 34 = .ok (.getfield 29, 3) := dk_180 0 29 (dk_at dksX10_isNextBetween_1 11 rfl rfl)
theorem dX10_isNextBetween_37 : decode cX10_isNextBetween 37 = .ok (.invokevirtual 39, 3) := dk_182 0 39 (dk_at dksX10_isNextBetween_1 14 rfl rfl)
theorem dX10_isNextBetween_40 : decode cX10_isNextBetween 40 = .ok (.iload_n 2, 1) := dk_28 (dk_at dksX10_isNextBetween_1 17 rfl rfl)
theorem dX10_isNextBetween_41 : decode cX10_isNextBetween 41 = .ok (.if_icmp .gt 7, 3) := dk_163 0 7 (dk_at dksX10_isNextBetween_1 18 rfl rfl)
theorem dX10_isNextBetween_44 : decode cX10_isNextBetween 44 = .ok (.iconst 1, 1) := dk_4 (dk_at dksX10_isNextBetween_1 21 rfl rfl)
theorem dX10_isNextBetween_45 : decode cX10_isNextBetween 45 = .ok (.goto 4, 3) := dk_167 0 4 (dk_at dksX10_isNextBetween_2 0 rfl rfl)
theorem dX10_isNextBetween_48 : decode cX10_isNextBetween 48 = .ok (.iconst 0, 1) := dk_3 (dk_at dksX10_isNextBetween_2 3 rfl rfl)
theorem dX10_isNextBetween_49 : decode cX10_isNextBetween 49 = .ok (.ireturn, 1) := dk_172 (dk_at dksX10_isNextBetween_2 4 rfl rfl)
abbrev cX10_expect : ByteArray := prog_8_method_4_code
def yX10_expect : MethodName := ⟨RX10, "expect", "(Z)V"⟩
def dkwX10_expect_0 : List UInt8 := [27, 154, 0, 15, 187, 0, 47, 89, 42, 180, 0, 29, 183, 0, 49, 191, 177]
abbrev dktX10_expect_0 : List UInt8 := dkwX10_expect_0 ++ []
theorem dksX10_expect_0 : cX10_expect.data.toList.drop 0 = dktX10_expect_0 := by decide +kernel
theorem dX10_expect_0 : decode cX10_expect 0 = .ok (.iload_n 1, 1) := dk_27 (dk_at dksX10_expect_0 0 rfl rfl)
theorem dX10_expect_1 : decode cX10_expect 1 = .ok (.ifCond .ne 15, 3) := dk_154 0 15 (dk_at dksX10_expect_0 1 rfl rfl)
theorem dX10_expect_4 : decode cX10_expect 4 = .ok (.new 47, 3) := dk_187 0 47 (dk_at dksX10_expect_0 4 rfl rfl)
theorem dX10_expect_7 : decode cX10_expect 7 = .ok (.dup, 1) := dk_89 (dk_at dksX10_expect_0 7 rfl rfl)
theorem dX10_expect_8 : decode cX10_expect 8 = .ok (.aload_n 0, 1) := dk_42 (dk_at dksX10_expect_0 8 rfl rfl)
theorem dX10_expect_9 : decode cX10_expect 9 = .ok (.getfield 29, 3) := dk_180 0 29 (dk_at dksX10_expect_0 9 rfl rfl)
theorem dX10_expect_12 : decode cX10_expect 12 = .ok (.invokespecial 49, 3) := dk_183 0 49 (dk_at dksX10_expect_0 12 rfl rfl)
theorem dX10_expect_15 : decode cX10_expect 15 = .ok (.athrow, 1) := dk_191 (dk_at dksX10_expect_0 15 rfl rfl)
theorem dX10_expect_16 : decode cX10_expect 16 = .ok (.return_, 1) := dk_177 (dk_at dksX10_expect_0 16 rfl rfl)
abbrev cX10_parseJoin : ByteArray := prog_8_method_9_code
def yX10_parseJoin : MethodName := ⟨RX10, "parseJoin", "()LClearingHouse$Order;"⟩
def dkwX10_parseJoin_0 : List UInt8 := [42, 18, 77, 182, 0, 63, 187, 0, 79, 89, 16, 106, 3, 42, 182, 0, 74, 183, 0, 81, 176]
abbrev dktX10_parseJoin_0 : List UInt8 := dkwX10_parseJoin_0 ++ []
theorem dksX10_parseJoin_0 : cX10_parseJoin.data.toList.drop 0 = dktX10_parseJoin_0 := by decide +kernel
theorem dX10_parseJoin_0 : decode cX10_parseJoin 0 = .ok (.aload_n 0, 1) := dk_42 (dk_at dksX10_parseJoin_0 0 rfl rfl)
theorem dX10_parseJoin_1 : decode cX10_parseJoin 1 = .ok (.ldc 77, 2) := dk_18 77 (dk_at dksX10_parseJoin_0 1 rfl rfl)
theorem dX10_parseJoin_3 : decode cX10_parseJoin 3 = .ok (.invokevirtual 63, 3) := dk_182 0 63 (dk_at dksX10_parseJoin_0 3 rfl rfl)
theorem dX10_parseJoin_6 : decode cX10_parseJoin 6 = .ok (.new 79, 3) := dk_187 0 79 (dk_at dksX10_parseJoin_0 6 rfl rfl)
theorem dX10_parseJoin_9 : decode cX10_parseJoin 9 = .ok (.dup, 1) := dk_89 (dk_at dksX10_parseJoin_0 9 rfl rfl)
theorem dX10_parseJoin_10 : decode cX10_parseJoin 10 = .ok (.bipush 106, 2) := dk_16 106 (dk_at dksX10_parseJoin_0 10 rfl rfl)
theorem dX10_parseJoin_12 : decode cX10_parseJoin 12 = .ok (.iconst 0, 1) := dk_3 (dk_at dksX10_parseJoin_0 12 rfl rfl)
theorem dX10_parseJoin_13 : decode cX10_parseJoin 13 = .ok (.aload_n 0, 1) := dk_42 (dk_at dksX10_parseJoin_0 13 rfl rfl)
theorem dX10_parseJoin_14 : decode cX10_parseJoin 14 = .ok (.invokevirtual 74, 3) := dk_182 0 74 (dk_at dksX10_parseJoin_0 14 rfl rfl)
theorem dX10_parseJoin_17 : decode cX10_parseJoin 17 = .ok (.invokespecial 81, 3) := dk_183 0 81 (dk_at dksX10_parseJoin_0 17 rfl rfl)
theorem dX10_parseJoin_20 : decode cX10_parseJoin 20 = .ok (.areturn, 1) := dk_176 (dk_at dksX10_parseJoin_0 20 rfl rfl)
abbrev cX10_expectText : ByteArray := prog_8_method_5_code
def yX10_expectText : MethodName := ⟨RX10, "expectText", "(Ljava/lang/String;)V"⟩
def dkwX10_expectText_1 : List UInt8 := [132, 2, 1, 167, 255, 232, 177]
abbrev dktX10_expectText_1 : List UInt8 := dkwX10_expectText_1 ++ []
def dkwX10_expectText_0 : List UInt8 := [3, 61, 28, 43, 182, 0, 33, 162, 0, 22, 42, 42, 43, 28, 182, 0, 39, 182, 0, 52, 182, 0, 56]
abbrev dktX10_expectText_0 : List UInt8 := dkwX10_expectText_0 ++ dktX10_expectText_1
theorem dksX10_expectText_0 : cX10_expectText.data.toList.drop 0 = dktX10_expectText_0 := by decide +kernel
theorem dksX10_expectText_1 : cX10_expectText.data.toList.drop 23 = dktX10_expectText_1 := dk_seg dksX10_expectText_0 23 rfl rfl
theorem dX10_expectText_0 : decode cX10_expectText 0 = .ok (.iconst 0, 1) := dk_3 (dk_at dksX10_expectText_0 0 rfl rfl)
theorem dX10_expectText_1 : decode cX10_expectText 1 = .ok (.istore_n 2, 1) := dk_61 (dk_at dksX10_expectText_0 1 rfl rfl)
theorem dX10_expectText_2 : decode cX10_expectText 2 = .ok (.iload_n 2, 1) := dk_28 (dk_at dksX10_expectText_0 2 rfl rfl)
theorem dX10_expectText_3 : decode cX10_expectText 3 = .ok (.aload_n 1, 1) := dk_43 (dk_at dksX10_expectText_0 3 rfl rfl)
theorem dX10_expectText_4 : decode cX10_expectText 4 = .ok (.invokevirtual 33, 3) := dk_182 0 33 (dk_at dksX10_expectText_0 4 rfl rfl)
theorem dX10_expectText_7 : decode cX10_expectText 7 = .ok (.if_icmp .ge 22, 3) := dk_162 0 22 (dk_at dksX10_expectText_0 7 rfl rfl)
theorem dX10_expectText_10 : decode cX10_expectText 10 = .ok (.aload_n 0, 1) := dk_42 (dk_at dksX10_expectText_0 10 rfl rfl)
theorem dX10_expectText_11 : decode cX10_expectText 11 = .ok (.aload_n 0, 1) := dk_42 (dk_at dksX10_expectText_0 11 rfl rfl)
theorem dX10_expectText_12 : decode cX10_expectText 12 = .ok (.aload_n 1, 1) := dk_43 (dk_at dksX10_expectText_0 12 rfl rfl)
theorem dX10_expectText_13 : decode cX10_expectText 13 = .ok (.iload_n 2, 1) := dk_28 (dk_at dksX10_expectText_0 13 rfl rfl)
theorem dX10_expectText_14 : decode cX10_expectText 14 = .ok (.invokevirtual 39, 3) := dk_182 0 39 (dk_at dksX10_expectText_0 14 rfl rfl)
theorem dX10_expectText_17 : decode cX10_expectText 17 = .ok (.invokevirtual 52, 3) := dk_182 0 52 (dk_at dksX10_expectText_0 17 rfl rfl)
theorem dX10_expectText_20 : decode cX10_expectText 20 = .ok (.invokevirtual 56, 3) := dk_182 0 56 (dk_at dksX10_expectText_0 20 rfl rfl)
theorem dX10_expectText_23 : decode cX10_expectText 23 = .ok (.iinc 2 1, 3) := dk_132 2 1 (dk_at dksX10_expectText_1 0 rfl rfl)
theorem dX10_expectText_26 : decode cX10_expectText 26 = .ok (.goto (-24), 3) := dk_167 255 232 (dk_at dksX10_expectText_1 3 rfl rfl)
theorem dX10_expectText_29 : decode cX10_expectText 29 = .ok (.return_, 1) := dk_177 (dk_at dksX10_expectText_1 6 rfl rfl)
abbrev cX10_accept : ByteArray := prog_8_method_3_code
def yX10_accept : MethodName := ⟨RX10, "accept", "(C)Z"⟩
def dkwX10_accept_1 : List UInt8 := [181, 0, 29, 28, 172]
abbrev dktX10_accept_1 : List UInt8 := dkwX10_accept_1 ++ []
def dkwX10_accept_0 : List UInt8 := [42, 27, 27, 182, 0, 43, 61, 42, 89, 180, 0, 29, 28, 153, 0, 7, 4, 167, 0, 4, 3, 96]
abbrev dktX10_accept_0 : List UInt8 := dkwX10_accept_0 ++ dktX10_accept_1
theorem dksX10_accept_0 : cX10_accept.data.toList.drop 0 = dktX10_accept_0 := by decide +kernel
theorem dksX10_accept_1 : cX10_accept.data.toList.drop 22 = dktX10_accept_1 := dk_seg dksX10_accept_0 22 rfl rfl
theorem dX10_accept_0 : decode cX10_accept 0 = .ok (.aload_n 0, 1) := dk_42 (dk_at dksX10_accept_0 0 rfl rfl)
theorem dX10_accept_1 : decode cX10_accept 1 = .ok (.iload_n 1, 1) := dk_27 (dk_at dksX10_accept_0 1 rfl rfl)
theorem dX10_accept_2 : decode cX10_accept 2 = .ok (.iload_n 1, 1) := dk_27 (dk_at dksX10_accept_0 2 rfl rfl)
theorem dX10_accept_3 : decode cX10_accept 3 = .ok (.invokevirtual 43, 3) := dk_182 0 43 (dk_at dksX10_accept_0 3 rfl rfl)
theorem dX10_accept_6 : decode cX10_accept 6 = .ok (.istore_n 2, 1) := dk_61 (dk_at dksX10_accept_0 6 rfl rfl)
theorem dX10_accept_7 : decode cX10_accept 7 = .ok (.aload_n 0, 1) := dk_42 (dk_at dksX10_accept_0 7 rfl rfl)
theorem dX10_accept_8 : decode cX10_accept 8 = .ok (.dup, 1) := dk_89 (dk_at dksX10_accept_0 8 rfl rfl)
theorem dX10_accept_9 : decode cX10_accept 9 = .ok (.getfield 29, 3) := dk_180 0 29 (dk_at dksX10_accept_0 9 rfl rfl)
theorem dX10_accept_12 : decode cX10_accept 12 = .ok (.iload_n 2, 1) := dk_28 (dk_at dksX10_accept_0 12 rfl rfl)
theorem dX10_accept_13 : decode cX10_accept 13 = .ok (.ifCond .eq 7, 3) := dk_153 0 7 (dk_at dksX10_accept_0 13 rfl rfl)
theorem dX10_accept_16 : decode cX10_accept 16 = .ok (.iconst 1, 1) := dk_4 (dk_at dksX10_accept_0 16 rfl rfl)
theorem dX10_accept_17 : decode cX10_accept 17 = .ok (.goto 4, 3) := dk_167 0 4 (dk_at dksX10_accept_0 17 rfl rfl)
theorem dX10_accept_20 : decode cX10_accept 20 = .ok (.iconst 0, 1) := dk_3 (dk_at dksX10_accept_0 20 rfl rfl)
theorem dX10_accept_21 : decode cX10_accept 21 = .ok (.iadd, 1) := dk_96 (dk_at dksX10_accept_0 21 rfl rfl)
theorem dX10_accept_22 : decode cX10_accept 22 = .ok (.putfield 29, 3) := dk_181 0 29 (dk_at dksX10_accept_1 0 rfl rfl)
theorem dX10_accept_25 : decode cX10_accept 25 = .ok (.iload_n 2, 1) := dk_28 (dk_at dksX10_accept_1 3 rfl rfl)
theorem dX10_accept_26 : decode cX10_accept 26 = .ok (.ireturn, 1) := dk_172 (dk_at dksX10_accept_1 4 rfl rfl)
abbrev cX10_parseNumber : ByteArray := prog_8_method_7_code
def yX10_parseNumber : MethodName := ⟨RX10, "parseNumber", "()I"⟩
def dkwX10_parseNumber_1 : List UInt8 := [16, 10, 27, 104, 42, 182, 0, 60, 96, 60, 132, 2, 1, 167, 255, 227, 27, 172]
abbrev dktX10_parseNumber_1 : List UInt8 := dkwX10_parseNumber_1 ++ []
def dkwX10_parseNumber_0 : List UInt8 := [42, 182, 0, 60, 60, 3, 61, 28, 5, 162, 0, 30, 42, 16, 48, 16, 57, 182, 0, 43, 153, 0, 19]
abbrev dktX10_parseNumber_0 : List UInt8 := dkwX10_parseNumber_0 ++ dktX10_parseNumber_1
theorem dksX10_parseNumber_0 : cX10_parseNumber.data.toList.drop 0 = dktX10_parseNumber_0 := by decide +kernel
theorem dksX10_parseNumber_1 : cX10_parseNumber.data.toList.drop 23 = dktX10_parseNumber_1 := dk_seg dksX10_parseNumber_0 23 rfl rfl
theorem dX10_parseNumber_0 : decode cX10_parseNumber 0 = .ok (.aload_n 0, 1) := dk_42 (dk_at dksX10_parseNumber_0 0 rfl rfl)
theorem dX10_parseNumber_1 : decode cX10_parseNumber 1 = .ok (.invokevirtual 60, 3) := dk_182 0 60 (dk_at dksX10_parseNumber_0 1 rfl rfl)
theorem dX10_parseNumber_4 : decode cX10_parseNumber 4 = .ok (.istore_n 1, 1) := dk_60 (dk_at dksX10_parseNumber_0 4 rfl rfl)
theorem dX10_parseNumber_5 : decode cX10_parseNumber 5 = .ok (.iconst 0, 1) := dk_3 (dk_at dksX10_parseNumber_0 5 rfl rfl)
theorem dX10_parseNumber_6 : decode cX10_parseNumber 6 = .ok (.istore_n 2, 1) := dk_61 (dk_at dksX10_parseNumber_0 6 rfl rfl)
theorem dX10_parseNumber_7 : decode cX10_parseNumber 7 = .ok (.iload_n 2, 1) := dk_28 (dk_at dksX10_parseNumber_0 7 rfl rfl)
theorem dX10_parseNumber_8 : decode cX10_parseNumber 8 = .ok (.iconst 2, 1) := dk_5 (dk_at dksX10_parseNumber_0 8 rfl rfl)
theorem dX10_parseNumber_9 : decode cX10_parseNumber 9 = .ok (.if_icmp .ge 30, 3) := dk_162 0 30 (dk_at dksX10_parseNumber_0 9 rfl rfl)
theorem dX10_parseNumber_12 : decode cX10_parseNumber 12 = .ok (.aload_n 0, 1) := dk_42 (dk_at dksX10_parseNumber_0 12 rfl rfl)
theorem dX10_parseNumber_13 : decode cX10_parseNumber 13 = .ok (.bipush 48, 2) := dk_16 48 (dk_at dksX10_parseNumber_0 13 rfl rfl)
theorem dX10_parseNumber_15 : decode cX10_parseNumber 15 = .ok (.bipush 57, 2) := dk_16 57 (dk_at dksX10_parseNumber_0 15 rfl rfl)
theorem dX10_parseNumber_17 : decode cX10_parseNumber 17 = .ok (.invokevirtual 43, 3) := dk_182 0 43 (dk_at dksX10_parseNumber_0 17 rfl rfl)
theorem dX10_parseNumber_20 : decode cX10_parseNumber 20 = .ok (.ifCond .eq 19, 3) := dk_153 0 19 (dk_at dksX10_parseNumber_0 20 rfl rfl)
theorem dX10_parseNumber_23 : decode cX10_parseNumber 23 = .ok (.bipush 10, 2) := dk_16 10 (dk_at dksX10_parseNumber_1 0 rfl rfl)
theorem dX10_parseNumber_25 : decode cX10_parseNumber 25 = .ok (.iload_n 1, 1) := dk_27 (dk_at dksX10_parseNumber_1 2 rfl rfl)
theorem dX10_parseNumber_26 : decode cX10_parseNumber 26 = .ok (.imul, 1) := dk_104 (dk_at dksX10_parseNumber_1 3 rfl rfl)
theorem dX10_parseNumber_27 : decode cX10_parseNumber 27 = .ok (.aload_n 0, 1) := dk_42 (dk_at dksX10_parseNumber_1 4 rfl rfl)
theorem dX10_parseNumber_28 : decode cX10_parseNumber 28 = .ok (.invokevirtual 60, 3) := dk_182 0 60 (dk_at dksX10_parseNumber_1 5 rfl rfl)
theorem dX10_parseNumber_31 : decode cX10_parseNumber 31 = .ok (.iadd, 1) := dk_96 (dk_at dksX10_parseNumber_1 8 rfl rfl)
theorem dX10_parseNumber_32 : decode cX10_parseNumber 32 = .ok (.istore_n 1, 1) := dk_60 (dk_at dksX10_parseNumber_1 9 rfl rfl)
theorem dX10_parseNumber_33 : decode cX10_parseNumber 33 = .ok (.iinc 2 1, 3) := dk_132 2 1 (dk_at dksX10_parseNumber_1 10 rfl rfl)
theorem dX10_parseNumber_36 : decode cX10_parseNumber 36 = .ok (.goto (-29), 3) := dk_167 255 227 (dk_at dksX10_parseNumber_1 13 rfl rfl)
theorem dX10_parseNumber_39 : decode cX10_parseNumber 39 = .ok (.iload_n 1, 1) := dk_27 (dk_at dksX10_parseNumber_1 16 rfl rfl)
theorem dX10_parseNumber_40 : decode cX10_parseNumber 40 = .ok (.ireturn, 1) := dk_172 (dk_at dksX10_parseNumber_1 17 rfl rfl)
abbrev cX10_parseDigit : ByteArray := prog_8_method_6_code
def yX10_parseDigit : MethodName := ⟨RX10, "parseDigit", "()I"⟩
def dkwX10_parseDigit_1 : List UInt8 := [180, 0, 25, 42, 180, 0, 29, 4, 100, 182, 0, 39, 16, 48, 100, 172]
abbrev dktX10_parseDigit_1 : List UInt8 := dkwX10_parseDigit_1 ++ []
def dkwX10_parseDigit_0 : List UInt8 := [42, 42, 16, 48, 16, 57, 182, 0, 43, 182, 0, 56, 42, 89, 180, 0, 29, 4, 96, 181, 0, 29, 42]
abbrev dktX10_parseDigit_0 : List UInt8 := dkwX10_parseDigit_0 ++ dktX10_parseDigit_1
theorem dksX10_parseDigit_0 : cX10_parseDigit.data.toList.drop 0 = dktX10_parseDigit_0 := by decide +kernel
theorem dksX10_parseDigit_1 : cX10_parseDigit.data.toList.drop 23 = dktX10_parseDigit_1 := dk_seg dksX10_parseDigit_0 23 rfl rfl
theorem dX10_parseDigit_0 : decode cX10_parseDigit 0 = .ok (.aload_n 0, 1) := dk_42 (dk_at dksX10_parseDigit_0 0 rfl rfl)
theorem dX10_parseDigit_1 : decode cX10_parseDigit 1 = .ok (.aload_n 0, 1) := dk_42 (dk_at dksX10_parseDigit_0 1 rfl rfl)
theorem dX10_parseDigit_2 : decode cX10_parseDigit 2 = .ok (.bipush 48, 2) := dk_16 48 (dk_at dksX10_parseDigit_0 2 rfl rfl)
theorem dX10_parseDigit_4 : decode cX10_parseDigit 4 = .ok (.bipush 57, 2) := dk_16 57 (dk_at dksX10_parseDigit_0 4 rfl rfl)
theorem dX10_parseDigit_6 : decode cX10_parseDigit 6 = .ok (.invokevirtual 43, 3) := dk_182 0 43 (dk_at dksX10_parseDigit_0 6 rfl rfl)
theorem dX10_parseDigit_9 : decode cX10_parseDigit 9 = .ok (.invokevirtual 56, 3) := dk_182 0 56 (dk_at dksX10_parseDigit_0 9 rfl rfl)
theorem dX10_parseDigit_12 : decode cX10_parseDigit 12 = .ok (.aload_n 0, 1) := dk_42 (dk_at dksX10_parseDigit_0 12 rfl rfl)
theorem dX10_parseDigit_13 : decode cX10_parseDigit 13 = .ok (.dup, 1) := dk_89 (dk_at dksX10_parseDigit_0 13 rfl rfl)
theorem dX10_parseDigit_14 : decode cX10_parseDigit 14 = .ok (.getfield 29, 3) := dk_180 0 29 (dk_at dksX10_parseDigit_0 14 rfl rfl)
theorem dX10_parseDigit_17 : decode cX10_parseDigit 17 = .ok (.iconst 1, 1) := dk_4 (dk_at dksX10_parseDigit_0 17 rfl rfl)
theorem dX10_parseDigit_18 : decode cX10_parseDigit 18 = .ok (.iadd, 1) := dk_96 (dk_at dksX10_parseDigit_0 18 rfl rfl)
theorem dX10_parseDigit_19 : decode cX10_parseDigit 19 = .ok (.putfield 29, 3) := dk_181 0 29 (dk_at dksX10_parseDigit_0 19 rfl rfl)
theorem dX10_parseDigit_22 : decode cX10_parseDigit 22 = .ok (.aload_n 0, 1) := dk_42 (dk_at dksX10_parseDigit_0 22 rfl rfl)
theorem dX10_parseDigit_23 : decode cX10_parseDigit 23 = .ok (.getfield 25, 3) := dk_180 0 25 (dk_at dksX10_parseDigit_1 0 rfl rfl)
theorem dX10_parseDigit_26 : decode cX10_parseDigit 26 = .ok (.aload_n 0, 1) := dk_42 (dk_at dksX10_parseDigit_1 3 rfl rfl)
theorem dX10_parseDigit_27 : decode cX10_parseDigit 27 = .ok (.getfield 29, 3) := dk_180 0 29 (dk_at dksX10_parseDigit_1 4 rfl rfl)
theorem dX10_parseDigit_30 : decode cX10_parseDigit 30 = .ok (.iconst 1, 1) := dk_4 (dk_at dksX10_parseDigit_1 7 rfl rfl)
theorem dX10_parseDigit_31 : decode cX10_parseDigit 31 = .ok (.isub, 1) := dk_100 (dk_at dksX10_parseDigit_1 8 rfl rfl)
theorem dX10_parseDigit_32 : decode cX10_parseDigit 32 = .ok (.invokevirtual 39, 3) := dk_182 0 39 (dk_at dksX10_parseDigit_1 9 rfl rfl)
theorem dX10_parseDigit_35 : decode cX10_parseDigit 35 = .ok (.bipush 48, 2) := dk_16 48 (dk_at dksX10_parseDigit_1 12 rfl rfl)
theorem dX10_parseDigit_37 : decode cX10_parseDigit 37 = .ok (.isub, 1) := dk_100 (dk_at dksX10_parseDigit_1 14 rfl rfl)
theorem dX10_parseDigit_38 : decode cX10_parseDigit 38 = .ok (.ireturn, 1) := dk_172 (dk_at dksX10_parseDigit_1 15 rfl rfl)
abbrev cX10_parsePair : ByteArray := prog_8_method_8_code
def yX10_parsePair : MethodName := ⟨RX10, "parsePair", "(CLjava/lang/String;)LClearingHouse$Order;"⟩
def dkwX10_parsePair_2 : List UInt8 := [29, 21, 4, 42, 182, 0, 74, 183, 0, 69, 176]
abbrev dktX10_parsePair_2 : List UInt8 := dkwX10_parsePair_2 ++ []
def dkwX10_parsePair_1 : List UInt8 := [187, 0, 67, 89, 27, 29, 21, 4, 3, 183, 0, 69, 176, 42, 18, 72, 182, 0, 63, 187, 0, 67, 89, 27]
abbrev dktX10_parsePair_1 : List UInt8 := dkwX10_parsePair_1 ++ dktX10_parsePair_2
def dkwX10_parsePair_0 : List UInt8 := [42, 44, 182, 0, 63, 42, 182, 0, 60, 62, 42, 182, 0, 60, 54, 4, 27, 16, 110, 160, 0, 16]
abbrev dktX10_parsePair_0 : List UInt8 := dkwX10_parsePair_0 ++ dktX10_parsePair_1
theorem dksX10_parsePair_0 : cX10_parsePair.data.toList.drop 0 = dktX10_parsePair_0 := by decide +kernel
theorem dksX10_parsePair_1 : cX10_parsePair.data.toList.drop 22 = dktX10_parsePair_1 := dk_seg dksX10_parsePair_0 22 rfl rfl
theorem dksX10_parsePair_2 : cX10_parsePair.data.toList.drop 46 = dktX10_parsePair_2 := dk_seg dksX10_parsePair_1 24 rfl rfl
theorem dX10_parsePair_0 : decode cX10_parsePair 0 = .ok (.aload_n 0, 1) := dk_42 (dk_at dksX10_parsePair_0 0 rfl rfl)
theorem dX10_parsePair_1 : decode cX10_parsePair 1 = .ok (.aload_n 2, 1) := dk_44 (dk_at dksX10_parsePair_0 1 rfl rfl)
theorem dX10_parsePair_2 : decode cX10_parsePair 2 = .ok (.invokevirtual 63, 3) := dk_182 0 63 (dk_at dksX10_parsePair_0 2 rfl rfl)
theorem dX10_parsePair_5 : decode cX10_parsePair 5 = .ok (.aload_n 0, 1) := dk_42 (dk_at dksX10_parsePair_0 5 rfl rfl)
theorem dX10_parsePair_6 : decode cX10_parsePair 6 = .ok (.invokevirtual 60, 3) := dk_182 0 60 (dk_at dksX10_parsePair_0 6 rfl rfl)
theorem dX10_parsePair_9 : decode cX10_parsePair 9 = .ok (.istore_n 3, 1) := dk_62 (dk_at dksX10_parsePair_0 9 rfl rfl)
theorem dX10_parsePair_10 : decode cX10_parsePair 10 = .ok (.aload_n 0, 1) := dk_42 (dk_at dksX10_parsePair_0 10 rfl rfl)
theorem dX10_parsePair_11 : decode cX10_parsePair 11 = .ok (.invokevirtual 60, 3) := dk_182 0 60 (dk_at dksX10_parsePair_0 11 rfl rfl)
theorem dX10_parsePair_14 : decode cX10_parsePair 14 = .ok (.istore 4, 2) := dk_54 4 (dk_at dksX10_parsePair_0 14 rfl rfl)
theorem dX10_parsePair_16 : decode cX10_parsePair 16 = .ok (.iload_n 1, 1) := dk_27 (dk_at dksX10_parsePair_0 16 rfl rfl)
theorem dX10_parsePair_17 : decode cX10_parsePair 17 = .ok (.bipush 110, 2) := dk_16 110 (dk_at dksX10_parsePair_0 17 rfl rfl)
theorem dX10_parsePair_19 : decode cX10_parsePair 19 = .ok (.if_icmp .ne 16, 3) := dk_160 0 16 (dk_at dksX10_parsePair_0 19 rfl rfl)
theorem dX10_parsePair_22 : decode cX10_parsePair 22 = .ok (.new 67, 3) := dk_187 0 67 (dk_at dksX10_parsePair_1 0 rfl rfl)
theorem dX10_parsePair_25 : decode cX10_parsePair 25 = .ok (.dup, 1) := dk_89 (dk_at dksX10_parsePair_1 3 rfl rfl)
theorem dX10_parsePair_26 : decode cX10_parsePair 26 = .ok (.iload_n 1, 1) := dk_27 (dk_at dksX10_parsePair_1 4 rfl rfl)
theorem dX10_parsePair_27 : decode cX10_parsePair 27 = .ok (.iload_n 3, 1) := dk_29 (dk_at dksX10_parsePair_1 5 rfl rfl)
theorem dX10_parsePair_28 : decode cX10_parsePair 28 = .ok (.iload 4, 2) := dk_21 4 (dk_at dksX10_parsePair_1 6 rfl rfl)
theorem dX10_parsePair_30 : decode cX10_parsePair 30 = .ok (.iconst 0, 1) := dk_3 (dk_at dksX10_parsePair_1 8 rfl rfl)
theorem dX10_parsePair_31 : decode cX10_parsePair 31 = .ok (.invokespecial 69, 3) := dk_183 0 69 (dk_at dksX10_parsePair_1 9 rfl rfl)
theorem dX10_parsePair_34 : decode cX10_parsePair 34 = .ok (.areturn, 1) := dk_176 (dk_at dksX10_parsePair_1 12 rfl rfl)
theorem dX10_parsePair_35 : decode cX10_parsePair 35 = .ok (.aload_n 0, 1) := dk_42 (dk_at dksX10_parsePair_1 13 rfl rfl)
theorem dX10_parsePair_36 : decode cX10_parsePair 36 = .ok (.ldc 72, 2) := dk_18 72 (dk_at dksX10_parsePair_1 14 rfl rfl)
theorem dX10_parsePair_38 : decode cX10_parsePair 38 = .ok (.invokevirtual 63, 3) := dk_182 0 63 (dk_at dksX10_parsePair_1 16 rfl rfl)
theorem dX10_parsePair_41 : decode cX10_parsePair 41 = .ok (.new 67, 3) := dk_187 0 67 (dk_at dksX10_parsePair_1 19 rfl rfl)
theorem dX10_parsePair_44 : decode cX10_parsePair 44 = .ok (.dup, 1) := dk_89 (dk_at dksX10_parsePair_1 22 rfl rfl)
theorem dX10_parsePair_45 : decode cX10_parsePair 45 = .ok (.iload_n 1, 1) := dk_27 (dk_at dksX10_parsePair_1 23 rfl rfl)
theorem dX10_parsePair_46 : decode cX10_parsePair 46 = .ok (.iload_n 3, 1) := dk_29 (dk_at dksX10_parsePair_2 0 rfl rfl)
theorem dX10_parsePair_47 : decode cX10_parsePair 47 = .ok (.iload 4, 2) := dk_21 4 (dk_at dksX10_parsePair_2 1 rfl rfl)
theorem dX10_parsePair_49 : decode cX10_parsePair 49 = .ok (.aload_n 0, 1) := dk_42 (dk_at dksX10_parsePair_2 3 rfl rfl)
theorem dX10_parsePair_50 : decode cX10_parsePair 50 = .ok (.invokevirtual 74, 3) := dk_182 0 74 (dk_at dksX10_parsePair_2 4 rfl rfl)
theorem dX10_parsePair_53 : decode cX10_parsePair 53 = .ok (.invokespecial 69, 3) := dk_183 0 69 (dk_at dksX10_parsePair_2 7 rfl rfl)
theorem dX10_parsePair_56 : decode cX10_parsePair 56 = .ok (.areturn, 1) := dk_176 (dk_at dksX10_parsePair_2 10 rfl rfl)
abbrev cX10_parseP : ByteArray := prog_8_method_11_code
def yX10_parseP : MethodName := ⟨RX10, "parseP", "()LClearingHouse$Order;"⟩
def dkwX10_parseP_1 : List UInt8 := [167, 0, 11, 42, 16, 110, 18, 92, 182, 0, 88, 176]
abbrev dktX10_parseP_1 : List UInt8 := dkwX10_parseP_1 ++ []
def dkwX10_parseP_0 : List UInt8 := [42, 18, 86, 182, 0, 63, 42, 16, 121, 182, 0, 52, 153, 0, 14, 42, 16, 112, 18, 72, 182, 0, 88]
abbrev dktX10_parseP_0 : List UInt8 := dkwX10_parseP_0 ++ dktX10_parseP_1
theorem dksX10_parseP_0 : cX10_parseP.data.toList.drop 0 = dktX10_parseP_0 := by decide +kernel
theorem dksX10_parseP_1 : cX10_parseP.data.toList.drop 23 = dktX10_parseP_1 := dk_seg dksX10_parseP_0 23 rfl rfl
theorem dX10_parseP_0 : decode cX10_parseP 0 = .ok (.aload_n 0, 1) := dk_42 (dk_at dksX10_parseP_0 0 rfl rfl)
theorem dX10_parseP_1 : decode cX10_parseP 1 = .ok (.ldc 86, 2) := dk_18 86 (dk_at dksX10_parseP_0 1 rfl rfl)
theorem dX10_parseP_3 : decode cX10_parseP 3 = .ok (.invokevirtual 63, 3) := dk_182 0 63 (dk_at dksX10_parseP_0 3 rfl rfl)
theorem dX10_parseP_6 : decode cX10_parseP 6 = .ok (.aload_n 0, 1) := dk_42 (dk_at dksX10_parseP_0 6 rfl rfl)
theorem dX10_parseP_7 : decode cX10_parseP 7 = .ok (.bipush 121, 2) := dk_16 121 (dk_at dksX10_parseP_0 7 rfl rfl)
theorem dX10_parseP_9 : decode cX10_parseP 9 = .ok (.invokevirtual 52, 3) := dk_182 0 52 (dk_at dksX10_parseP_0 9 rfl rfl)
theorem dX10_parseP_12 : decode cX10_parseP 12 = .ok (.ifCond .eq 14, 3) := dk_153 0 14 (dk_at dksX10_parseP_0 12 rfl rfl)
theorem dX10_parseP_15 : decode cX10_parseP 15 = .ok (.aload_n 0, 1) := dk_42 (dk_at dksX10_parseP_0 15 rfl rfl)
theorem dX10_parseP_16 : decode cX10_parseP 16 = .ok (.bipush 112, 2) := dk_16 112 (dk_at dksX10_parseP_0 16 rfl rfl)
theorem dX10_parseP_18 : decode cX10_parseP 18 = .ok (.ldc 72, 2) := dk_18 72 (dk_at dksX10_parseP_0 18 rfl rfl)
theorem dX10_parseP_20 : decode cX10_parseP 20 = .ok (.invokevirtual 88, 3) := dk_182 0 88 (dk_at dksX10_parseP_0 20 rfl rfl)
theorem dX10_parseP_23 : decode cX10_parseP 23 = .ok (.goto 11, 3) := dk_167 0 11 (dk_at dksX10_parseP_1 0 rfl rfl)
theorem dX10_parseP_26 : decode cX10_parseP 26 = .ok (.aload_n 0, 1) := dk_42 (dk_at dksX10_parseP_1 3 rfl rfl)
theorem dX10_parseP_27 : decode cX10_parseP 27 = .ok (.bipush 110, 2) := dk_16 110 (dk_at dksX10_parseP_1 4 rfl rfl)
theorem dX10_parseP_29 : decode cX10_parseP 29 = .ok (.ldc 92, 2) := dk_18 92 (dk_at dksX10_parseP_1 6 rfl rfl)
theorem dX10_parseP_31 : decode cX10_parseP 31 = .ok (.invokevirtual 88, 3) := dk_182 0 88 (dk_at dksX10_parseP_1 8 rfl rfl)
theorem dX10_parseP_34 : decode cX10_parseP 34 = .ok (.areturn, 1) := dk_176 (dk_at dksX10_parseP_1 11 rfl rfl)
abbrev cX10_parseC : ByteArray := prog_8_method_14_code
def yX10_parseC : MethodName := ⟨RX10, "parseC", "()LClearingHouse$Order;"⟩
def dkwX10_parseC_2 : List UInt8 := [42, 182, 0, 123, 176]
abbrev dktX10_parseC_2 : List UInt8 := dkwX10_parseC_2 ++ []
def dkwX10_parseC_1 : List UInt8 := [182, 0, 63, 42, 16, 108, 182, 0, 52, 153, 0, 15, 42, 178, 0, 118, 18, 121, 182, 0, 107, 167, 0, 7]
abbrev dktX10_parseC_1 : List UInt8 := dkwX10_parseC_1 ++ dktX10_parseC_2
def dkwX10_parseC_0 : List UInt8 := [42, 16, 121, 182, 0, 52, 153, 0, 13, 42, 178, 0, 113, 18, 116, 182, 0, 107, 176, 42, 18, 86]
abbrev dktX10_parseC_0 : List UInt8 := dkwX10_parseC_0 ++ dktX10_parseC_1
theorem dksX10_parseC_0 : cX10_parseC.data.toList.drop 0 = dktX10_parseC_0 := by decide +kernel
theorem dksX10_parseC_1 : cX10_parseC.data.toList.drop 22 = dktX10_parseC_1 := dk_seg dksX10_parseC_0 22 rfl rfl
theorem dksX10_parseC_2 : cX10_parseC.data.toList.drop 46 = dktX10_parseC_2 := dk_seg dksX10_parseC_1 24 rfl rfl
theorem dX10_parseC_0 : decode cX10_parseC 0 = .ok (.aload_n 0, 1) := dk_42 (dk_at dksX10_parseC_0 0 rfl rfl)
theorem dX10_parseC_1 : decode cX10_parseC 1 = .ok (.bipush 121, 2) := dk_16 121 (dk_at dksX10_parseC_0 1 rfl rfl)
theorem dX10_parseC_3 : decode cX10_parseC 3 = .ok (.invokevirtual 52, 3) := dk_182 0 52 (dk_at dksX10_parseC_0 3 rfl rfl)
theorem dX10_parseC_6 : decode cX10_parseC 6 = .ok (.ifCond .eq 13, 3) := dk_153 0 13 (dk_at dksX10_parseC_0 6 rfl rfl)
theorem dX10_parseC_9 : decode cX10_parseC 9 = .ok (.aload_n 0, 1) := dk_42 (dk_at dksX10_parseC_0 9 rfl rfl)
theorem dX10_parseC_10 : decode cX10_parseC 10 = .ok (.getstatic 113, 3) := dk_178 0 113 (dk_at dksX10_parseC_0 10 rfl rfl)
theorem dX10_parseC_13 : decode cX10_parseC 13 = .ok (.ldc 116, 2) := dk_18 116 (dk_at dksX10_parseC_0 13 rfl rfl)
theorem dX10_parseC_15 : decode cX10_parseC 15 = .ok (.invokevirtual 107, 3) := dk_182 0 107 (dk_at dksX10_parseC_0 15 rfl rfl)
theorem dX10_parseC_18 : decode cX10_parseC 18 = .ok (.areturn, 1) := dk_176 (dk_at dksX10_parseC_0 18 rfl rfl)
theorem dX10_parseC_19 : decode cX10_parseC 19 = .ok (.aload_n 0, 1) := dk_42 (dk_at dksX10_parseC_0 19 rfl rfl)
theorem dX10_parseC_20 : decode cX10_parseC 20 = .ok (.ldc 86, 2) := dk_18 86 (dk_at dksX10_parseC_0 20 rfl rfl)
theorem dX10_parseC_22 : decode cX10_parseC 22 = .ok (.invokevirtual 63, 3) := dk_182 0 63 (dk_at dksX10_parseC_1 0 rfl rfl)
theorem dX10_parseC_25 : decode cX10_parseC 25 = .ok (.aload_n 0, 1) := dk_42 (dk_at dksX10_parseC_1 3 rfl rfl)
theorem dX10_parseC_26 : decode cX10_parseC 26 = .ok (.bipush 108, 2) := dk_16 108 (dk_at dksX10_parseC_1 4 rfl rfl)
theorem dX10_parseC_28 : decode cX10_parseC 28 = .ok (.invokevirtual 52, 3) := dk_182 0 52 (dk_at dksX10_parseC_1 6 rfl rfl)
theorem dX10_parseC_31 : decode cX10_parseC 31 = .ok (.ifCond .eq 15, 3) := dk_153 0 15 (dk_at dksX10_parseC_1 9 rfl rfl)
theorem dX10_parseC_34 : decode cX10_parseC 34 = .ok (.aload_n 0, 1) := dk_42 (dk_at dksX10_parseC_1 12 rfl rfl)
theorem dX10_parseC_35 : decode cX10_parseC 35 = .ok (.getstatic 118, 3) := dk_178 0 118 (dk_at dksX10_parseC_1 13 rfl rfl)
theorem dX10_parseC_38 : decode cX10_parseC 38 = .ok (.ldc 121, 2) := dk_18 121 (dk_at dksX10_parseC_1 16 rfl rfl)
theorem dX10_parseC_40 : decode cX10_parseC 40 = .ok (.invokevirtual 107, 3) := dk_182 0 107 (dk_at dksX10_parseC_1 18 rfl rfl)
theorem dX10_parseC_43 : decode cX10_parseC 43 = .ok (.goto 7, 3) := dk_167 0 7 (dk_at dksX10_parseC_1 21 rfl rfl)
theorem dX10_parseC_46 : decode cX10_parseC 46 = .ok (.aload_n 0, 1) := dk_42 (dk_at dksX10_parseC_2 0 rfl rfl)
theorem dX10_parseC_47 : decode cX10_parseC 47 = .ok (.invokevirtual 123, 3) := dk_182 0 123 (dk_at dksX10_parseC_2 1 rfl rfl)
theorem dX10_parseC_50 : decode cX10_parseC 50 = .ok (.areturn, 1) := dk_176 (dk_at dksX10_parseC_2 4 rfl rfl)
abbrev cX10_parseWhole : ByteArray := prog_8_method_12_code
def yX10_parseWhole : MethodName := ⟨RX10, "parseWhole", "(LClearingHouse$Whole;Ljava/lang/String;)LClearingHouse$Order;"⟩
def dkwX10_parseWhole_0 : List UInt8 := [42, 44, 182, 0, 63, 187, 0, 94, 89, 43, 183, 0, 96, 176]
abbrev dktX10_parseWhole_0 : List UInt8 := dkwX10_parseWhole_0 ++ []
theorem dksX10_parseWhole_0 : cX10_parseWhole.data.toList.drop 0 = dktX10_parseWhole_0 := by decide +kernel
theorem dX10_parseWhole_0 : decode cX10_parseWhole 0 = .ok (.aload_n 0, 1) := dk_42 (dk_at dksX10_parseWhole_0 0 rfl rfl)
theorem dX10_parseWhole_1 : decode cX10_parseWhole 1 = .ok (.aload_n 2, 1) := dk_44 (dk_at dksX10_parseWhole_0 1 rfl rfl)
theorem dX10_parseWhole_2 : decode cX10_parseWhole 2 = .ok (.invokevirtual 63, 3) := dk_182 0 63 (dk_at dksX10_parseWhole_0 2 rfl rfl)
theorem dX10_parseWhole_5 : decode cX10_parseWhole 5 = .ok (.new 94, 3) := dk_187 0 94 (dk_at dksX10_parseWhole_0 5 rfl rfl)
theorem dX10_parseWhole_8 : decode cX10_parseWhole 8 = .ok (.dup, 1) := dk_89 (dk_at dksX10_parseWhole_0 8 rfl rfl)
theorem dX10_parseWhole_9 : decode cX10_parseWhole 9 = .ok (.aload_n 1, 1) := dk_43 (dk_at dksX10_parseWhole_0 9 rfl rfl)
theorem dX10_parseWhole_10 : decode cX10_parseWhole 10 = .ok (.invokespecial 96, 3) := dk_183 0 96 (dk_at dksX10_parseWhole_0 10 rfl rfl)
theorem dX10_parseWhole_13 : decode cX10_parseWhole 13 = .ok (.areturn, 1) := dk_176 (dk_at dksX10_parseWhole_0 13 rfl rfl)
abbrev cX10_parseS : ByteArray := prog_8_method_15_code
def yX10_parseS : MethodName := ⟨RX10, "parseS", "()LClearingHouse$Order;"⟩
def dkwX10_parseS_0 : List UInt8 := [42, 18, 127, 182, 0, 63, 42, 182, 0, 129, 176]
abbrev dktX10_parseS_0 : List UInt8 := dkwX10_parseS_0 ++ []
theorem dksX10_parseS_0 : cX10_parseS.data.toList.drop 0 = dktX10_parseS_0 := by decide +kernel
theorem dX10_parseS_0 : decode cX10_parseS 0 = .ok (.aload_n 0, 1) := dk_42 (dk_at dksX10_parseS_0 0 rfl rfl)
theorem dX10_parseS_1 : decode cX10_parseS 1 = .ok (.ldc 127, 2) := dk_18 127 (dk_at dksX10_parseS_0 1 rfl rfl)
theorem dX10_parseS_3 : decode cX10_parseS 3 = .ok (.invokevirtual 63, 3) := dk_182 0 63 (dk_at dksX10_parseS_0 3 rfl rfl)
theorem dX10_parseS_6 : decode cX10_parseS 6 = .ok (.aload_n 0, 1) := dk_42 (dk_at dksX10_parseS_0 6 rfl rfl)
theorem dX10_parseS_7 : decode cX10_parseS 7 = .ok (.invokevirtual 129, 3) := dk_182 0 129 (dk_at dksX10_parseS_0 7 rfl rfl)
theorem dX10_parseS_10 : decode cX10_parseS 10 = .ok (.areturn, 1) := dk_176 (dk_at dksX10_parseS_0 10 rfl rfl)
abbrev cX10_parseCas : ByteArray := prog_8_method_13_code
def yX10_parseCas : MethodName := ⟨RX10, "parseCas", "()LClearingHouse$Order;"⟩
def dkwX10_parseCas_2 : List UInt8 := [182, 0, 74, 183, 0, 81, 176]
abbrev dktX10_parseCas_2 : List UInt8 := dkwX10_parseCas_2 ++ []
def dkwX10_parseCas_1 : List UInt8 := [182, 0, 63, 42, 182, 0, 60, 60, 42, 18, 72, 182, 0, 63, 187, 0, 79, 89, 16, 99, 27, 42]
abbrev dktX10_parseCas_1 : List UInt8 := dkwX10_parseCas_1 ++ dktX10_parseCas_2
def dkwX10_parseCas_0 : List UInt8 := [42, 16, 99, 182, 0, 52, 153, 0, 13, 42, 178, 0, 99, 18, 105, 182, 0, 107, 176, 42, 18, 111]
abbrev dktX10_parseCas_0 : List UInt8 := dkwX10_parseCas_0 ++ dktX10_parseCas_1
theorem dksX10_parseCas_0 : cX10_parseCas.data.toList.drop 0 = dktX10_parseCas_0 := by decide +kernel
theorem dksX10_parseCas_1 : cX10_parseCas.data.toList.drop 22 = dktX10_parseCas_1 := dk_seg dksX10_parseCas_0 22 rfl rfl
theorem dksX10_parseCas_2 : cX10_parseCas.data.toList.drop 44 = dktX10_parseCas_2 := dk_seg dksX10_parseCas_1 22 rfl rfl
theorem dX10_parseCas_0 : decode cX10_parseCas 0 = .ok (.aload_n 0, 1) := dk_42 (dk_at dksX10_parseCas_0 0 rfl rfl)
theorem dX10_parseCas_1 : decode cX10_parseCas 1 = .ok (.bipush 99, 2) := dk_16 99 (dk_at dksX10_parseCas_0 1 rfl rfl)
theorem dX10_parseCas_3 : decode cX10_parseCas 3 = .ok (.invokevirtual 52, 3) := dk_182 0 52 (dk_at dksX10_parseCas_0 3 rfl rfl)
theorem dX10_parseCas_6 : decode cX10_parseCas 6 = .ok (.ifCond .eq 13, 3) := dk_153 0 13 (dk_at dksX10_parseCas_0 6 rfl rfl)
theorem dX10_parseCas_9 : decode cX10_parseCas 9 = .ok (.aload_n 0, 1) := dk_42 (dk_at dksX10_parseCas_0 9 rfl rfl)
theorem dX10_parseCas_10 : decode cX10_parseCas 10 = .ok (.getstatic 99, 3) := dk_178 0 99 (dk_at dksX10_parseCas_0 10 rfl rfl)
theorem dX10_parseCas_13 : decode cX10_parseCas 13 = .ok (.ldc 105, 2) := dk_18 105 (dk_at dksX10_parseCas_0 13 rfl rfl)
theorem dX10_parseCas_15 : decode cX10_parseCas 15 = .ok (.invokevirtual 107, 3) := dk_182 0 107 (dk_at dksX10_parseCas_0 15 rfl rfl)
theorem dX10_parseCas_18 : decode cX10_parseCas 18 = .ok (.areturn, 1) := dk_176 (dk_at dksX10_parseCas_0 18 rfl rfl)
theorem dX10_parseCas_19 : decode cX10_parseCas 19 = .ok (.aload_n 0, 1) := dk_42 (dk_at dksX10_parseCas_0 19 rfl rfl)
theorem dX10_parseCas_20 : decode cX10_parseCas 20 = .ok (.ldc 111, 2) := dk_18 111 (dk_at dksX10_parseCas_0 20 rfl rfl)
theorem dX10_parseCas_22 : decode cX10_parseCas 22 = .ok (.invokevirtual 63, 3) := dk_182 0 63 (dk_at dksX10_parseCas_1 0 rfl rfl)
theorem dX10_parseCas_25 : decode cX10_parseCas 25 = .ok (.aload_n 0, 1) := dk_42 (dk_at dksX10_parseCas_1 3 rfl rfl)
theorem dX10_parseCas_26 : decode cX10_parseCas 26 = .ok (.invokevirtual 60, 3) := dk_182 0 60 (dk_at dksX10_parseCas_1 4 rfl rfl)
theorem dX10_parseCas_29 : decode cX10_parseCas 29 = .ok (.istore_n 1, 1) := dk_60 (dk_at dksX10_parseCas_1 7 rfl rfl)
theorem dX10_parseCas_30 : decode cX10_parseCas 30 = .ok (.aload_n 0, 1) := dk_42 (dk_at dksX10_parseCas_1 8 rfl rfl)
theorem dX10_parseCas_31 : decode cX10_parseCas 31 = .ok (.ldc 72, 2) := dk_18 72 (dk_at dksX10_parseCas_1 9 rfl rfl)
theorem dX10_parseCas_33 : decode cX10_parseCas 33 = .ok (.invokevirtual 63, 3) := dk_182 0 63 (dk_at dksX10_parseCas_1 11 rfl rfl)
theorem dX10_parseCas_36 : decode cX10_parseCas 36 = .ok (.new 79, 3) := dk_187 0 79 (dk_at dksX10_parseCas_1 14 rfl rfl)
theorem dX10_parseCas_39 : decode cX10_parseCas 39 = .ok (.dup, 1) := dk_89 (dk_at dksX10_parseCas_1 17 rfl rfl)
theorem dX10_parseCas_40 : decode cX10_parseCas 40 = .ok (.bipush 99, 2) := dk_16 99 (dk_at dksX10_parseCas_1 18 rfl rfl)
theorem dX10_parseCas_42 : decode cX10_parseCas 42 = .ok (.iload_n 1, 1) := dk_27 (dk_at dksX10_parseCas_1 20 rfl rfl)
theorem dX10_parseCas_43 : decode cX10_parseCas 43 = .ok (.aload_n 0, 1) := dk_42 (dk_at dksX10_parseCas_1 21 rfl rfl)
theorem dX10_parseCas_44 : decode cX10_parseCas 44 = .ok (.invokevirtual 74, 3) := dk_182 0 74 (dk_at dksX10_parseCas_2 0 rfl rfl)
theorem dX10_parseCas_47 : decode cX10_parseCas 47 = .ok (.invokespecial 81, 3) := dk_183 0 81 (dk_at dksX10_parseCas_2 3 rfl rfl)
theorem dX10_parseCas_50 : decode cX10_parseCas 50 = .ok (.areturn, 1) := dk_176 (dk_at dksX10_parseCas_2 6 rfl rfl)
abbrev cX10_parseDefault : ByteArray := prog_8_method_10_code
def yX10_parseDefault : MethodName := ⟨RX10, "parseDefault", "()LClearingHouse$Order;"⟩
def dkwX10_parseDefault_0 : List UInt8 := [42, 18, 84, 182, 0, 63, 187, 0, 79, 89, 16, 100, 42, 182, 0, 60, 3, 183, 0, 81, 176]
abbrev dktX10_parseDefault_0 : List UInt8 := dkwX10_parseDefault_0 ++ []
theorem dksX10_parseDefault_0 : cX10_parseDefault.data.toList.drop 0 = dktX10_parseDefault_0 := by decide +kernel
theorem dX10_parseDefault_0 : decode cX10_parseDefault 0 = .ok (.aload_n 0, 1) := dk_42 (dk_at dksX10_parseDefault_0 0 rfl rfl)
theorem dX10_parseDefault_1 : decode cX10_parseDefault 1 = .ok (.ldc 84, 2) := dk_18 84 (dk_at dksX10_parseDefault_0 1 rfl rfl)
theorem dX10_parseDefault_3 : decode cX10_parseDefault 3 = .ok (.invokevirtual 63, 3) := dk_182 0 63 (dk_at dksX10_parseDefault_0 3 rfl rfl)
theorem dX10_parseDefault_6 : decode cX10_parseDefault 6 = .ok (.new 79, 3) := dk_187 0 79 (dk_at dksX10_parseDefault_0 6 rfl rfl)
theorem dX10_parseDefault_9 : decode cX10_parseDefault 9 = .ok (.dup, 1) := dk_89 (dk_at dksX10_parseDefault_0 9 rfl rfl)
theorem dX10_parseDefault_10 : decode cX10_parseDefault 10 = .ok (.bipush 100, 2) := dk_16 100 (dk_at dksX10_parseDefault_0 10 rfl rfl)
theorem dX10_parseDefault_12 : decode cX10_parseDefault 12 = .ok (.aload_n 0, 1) := dk_42 (dk_at dksX10_parseDefault_0 12 rfl rfl)
theorem dX10_parseDefault_13 : decode cX10_parseDefault 13 = .ok (.invokevirtual 60, 3) := dk_182 0 60 (dk_at dksX10_parseDefault_0 13 rfl rfl)
theorem dX10_parseDefault_16 : decode cX10_parseDefault 16 = .ok (.iconst 0, 1) := dk_3 (dk_at dksX10_parseDefault_0 16 rfl rfl)
theorem dX10_parseDefault_17 : decode cX10_parseDefault 17 = .ok (.invokespecial 81, 3) := dk_183 0 81 (dk_at dksX10_parseDefault_0 17 rfl rfl)
theorem dX10_parseDefault_20 : decode cX10_parseDefault 20 = .ok (.areturn, 1) := dk_176 (dk_at dksX10_parseDefault_0 20 rfl rfl)
theorem q117 : (Jvm.Cond.initialized "ClearingHouse$Parser") ∈ lw_all := lw_g (lw_at lw_m1 38 rfl) rfl
theorem q249 : (Jvm.Cond.fieldLinkNest "ClearingHouse$Parser" (13 : Nat) "ClearingHouse" "buffer" "Ljava/lang/StringBuilder;" "ClearingHouse") ∈ lw_tbl := lw_at lw_m1 170 rfl
theorem q797 : (Jvm.Cond.selects "ClearingHouse$Parser" ({ cls := "java/lang/Object", name := "getClass", desc := "()Ljava/lang/Class;" } : Jvm.MethodName) ({ cls := "java/lang/Object", name := "getClass", desc := "()Ljava/lang/Class;" } : Jvm.MethodName)) ∈ lw_all := lw_g (lw_at lw_m3 238 rfl) rfl
theorem q1368 : (Jvm.Cond.instantiable "ClearingHouse$Parser" (3 : Nat)) ∈ lw_all := lw_g (lw_at lw_m6 89 rfl) rfl
theorem q1370 : (Jvm.Cond.instanceMethod ({ cls := "ClearingHouse$Parser", name := "<init>", desc := "(LClearingHouse;)V" } : Jvm.MethodName)) ∈ lw_all := lw_g (lw_at lw_m6 91 rfl) rfl
theorem q1371 : (Jvm.Cond.code ({ cls := "ClearingHouse$Parser", name := "<init>", desc := "(LClearingHouse;)V" } : Jvm.MethodName) prog_8_method_1_code (2 : Nat) (Option.none : Option Jvm.ClassFile.FieldType)) ∈ lw_all := lw_g (lw_at lw_m6 92 rfl) rfl
theorem q1372 : (Jvm.Cond.methodLink "ClearingHouse$Parser" (7 : Nat) ({ cls := "java/lang/Object", name := "<init>", desc := "()V" } : Jvm.MethodName)) ∈ lw_all := lw_g (lw_at lw_m6 93 rfl) rfl
theorem q1373 : (Jvm.Cond.methodLink "ClearingHouse$Parser" (19 : Nat) ({ cls := "java/lang/StringBuilder", name := "toString", desc := "()Ljava/lang/String;" } : Jvm.MethodName)) ∈ lw_all := lw_g (lw_at lw_m6 94 rfl) rfl
theorem q1502 : (Jvm.Cond.fieldLink "ClearingHouse$Parser" (25 : Nat) "ClearingHouse$Parser" "text" "Ljava/lang/String;") ∈ lw_all := lw_g (lw_at lw_m6 223 rfl) rfl
theorem q1503 : (Jvm.Cond.fieldLink "ClearingHouse$Parser" (29 : Nat) "ClearingHouse$Parser" "position" "I") ∈ lw_all := lw_g (lw_at lw_m6 224 rfl) rfl
theorem q1504 : (Jvm.Cond.fieldLink "ClearingHouse$Parser" (1 : Nat) "ClearingHouse$Parser" "this$0" "LClearingHouse;") ∈ lw_all := lw_g (lw_at lw_m6 225 rfl) rfl
theorem q1505 : (Jvm.Cond.laysFinal "ClearingHouse$Parser" "ClearingHouse$Parser" "text" "Ljava/lang/String;") ∈ lw_all := lw_g (lw_at lw_m6 226 rfl) rfl
theorem q1506 : (Jvm.Cond.soleField "ClearingHouse$Parser" "text") ∈ lw_all := lw_g (lw_at lw_m6 227 rfl) rfl
theorem q1507 : (Jvm.Cond.lays "ClearingHouse$Parser" "ClearingHouse$Parser" "position" "I") ∈ lw_all := lw_g (lw_at lw_m6 228 rfl) rfl
theorem q1508 : (Jvm.Cond.soleField "ClearingHouse$Parser" "position") ∈ lw_all := lw_g (lw_at lw_m6 229 rfl) rfl
theorem q1509 : (Jvm.Cond.laysFinal "ClearingHouse$Parser" "ClearingHouse$Parser" "this$0" "LClearingHouse;") ∈ lw_all := lw_g (lw_at lw_m6 230 rfl) rfl
theorem q1510 : (Jvm.Cond.soleField "ClearingHouse$Parser" "this$0") ∈ lw_all := lw_g (lw_at lw_m6 231 rfl) rfl
theorem q1511 : (Jvm.Cond.superclass "ClearingHouse$Parser" "java/lang/Object") ∈ lw_all := lw_g (lw_at lw_m6 232 rfl) rfl
theorem q1565 : (Jvm.Cond.instanceMethod ({ cls := "ClearingHouse$Parser", name := "parseProgram", desc := "()Ljava/util/List;" } : Jvm.MethodName)) ∈ lw_all := lw_g (lw_at lw_m7 46 rfl) rfl
theorem q1566 : (Jvm.Cond.selects "ClearingHouse$Parser" ({ cls := "ClearingHouse$Parser", name := "parseProgram", desc := "()Ljava/util/List;" } : Jvm.MethodName) ({ cls := "ClearingHouse$Parser", name := "parseProgram", desc := "()Ljava/util/List;" } : Jvm.MethodName)) ∈ lw_all := lw_g (lw_at lw_m7 47 rfl) rfl
theorem q1567 : (Jvm.Cond.code ({ cls := "ClearingHouse$Parser", name := "parseProgram", desc := "()Ljava/util/List;" } : Jvm.MethodName) prog_8_method_17_code (2 : Nat) (Option.some (Jvm.ClassFile.FieldType.object "java/util/List"))) ∈ lw_all := lw_g (lw_at lw_m7 48 rfl) rfl
theorem q1568 : (Jvm.Cond.classLink "ClearingHouse$Parser" (151 : Nat) "java/util/ArrayList") ∈ lw_all := lw_g (lw_at lw_m7 49 rfl) rfl
theorem q1570 : (Jvm.Cond.methodLink "ClearingHouse$Parser" (153 : Nat) ({ cls := "java/util/ArrayList", name := "<init>", desc := "()V" } : Jvm.MethodName)) ∈ lw_all := lw_g (lw_at lw_m7 51 rfl) rfl
theorem q1594 : (Jvm.Cond.methodLink "ClearingHouse$Parser" (154 : Nat) ({ cls := "ClearingHouse$Parser", name := "parseOrder", desc := "()LClearingHouse$Order;" } : Jvm.MethodName)) ∈ lw_all := lw_g (lw_at lw_m7 75 rfl) rfl
theorem q1595 : (Jvm.Cond.privateMethod ({ cls := "ClearingHouse$Parser", name := "parseOrder", desc := "()LClearingHouse$Order;" } : Jvm.MethodName)) ∈ lw_tbl := lw_at lw_m7 76 rfl
theorem q1596 : (Jvm.Cond.instanceMethod ({ cls := "ClearingHouse$Parser", name := "parseOrder", desc := "()LClearingHouse$Order;" } : Jvm.MethodName)) ∈ lw_all := lw_g (lw_at lw_m7 77 rfl) rfl
theorem q1597 : (Jvm.Cond.code ({ cls := "ClearingHouse$Parser", name := "parseOrder", desc := "()LClearingHouse$Order;" } : Jvm.MethodName) prog_8_method_16_code (1 : Nat) (Option.some (Jvm.ClassFile.FieldType.object "ClearingHouse$Order"))) ∈ lw_all := lw_g (lw_at lw_m7 78 rfl) rfl
theorem q1598 : (Jvm.Cond.methodLink "ClearingHouse$Parser" (43 : Nat) ({ cls := "ClearingHouse$Parser", name := "isNextBetween", desc := "(CC)Z" } : Jvm.MethodName)) ∈ lw_all := lw_g (lw_at lw_m7 79 rfl) rfl
theorem q1599 : (Jvm.Cond.privateMethod ({ cls := "ClearingHouse$Parser", name := "isNextBetween", desc := "(CC)Z" } : Jvm.MethodName)) ∈ lw_tbl := lw_at lw_m7 80 rfl
theorem q1600 : (Jvm.Cond.instanceMethod ({ cls := "ClearingHouse$Parser", name := "isNextBetween", desc := "(CC)Z" } : Jvm.MethodName)) ∈ lw_all := lw_g (lw_at lw_m7 81 rfl) rfl
theorem q1601 : (Jvm.Cond.code ({ cls := "ClearingHouse$Parser", name := "isNextBetween", desc := "(CC)Z" } : Jvm.MethodName) prog_8_method_2_code (3 : Nat) (Option.some Jvm.ClassFile.FieldType.boolean)) ∈ lw_all := lw_g (lw_at lw_m7 82 rfl) rfl
theorem q1602 : (Jvm.Cond.methodLink "ClearingHouse$Parser" (33 : Nat) ({ cls := "java/lang/String", name := "length", desc := "()I" } : Jvm.MethodName)) ∈ lw_all := lw_g (lw_at lw_m7 83 rfl) rfl
theorem q1603 : (Jvm.Cond.methodLink "ClearingHouse$Parser" (39 : Nat) ({ cls := "java/lang/String", name := "charAt", desc := "(I)C" } : Jvm.MethodName)) ∈ lw_all := lw_g (lw_at lw_m7 84 rfl) rfl
theorem q1618 : (Jvm.Cond.methodLink "ClearingHouse$Parser" (56 : Nat) ({ cls := "ClearingHouse$Parser", name := "expect", desc := "(Z)V" } : Jvm.MethodName)) ∈ lw_all := lw_g (lw_at lw_m7 99 rfl) rfl
theorem q1619 : (Jvm.Cond.privateMethod ({ cls := "ClearingHouse$Parser", name := "expect", desc := "(Z)V" } : Jvm.MethodName)) ∈ lw_tbl := lw_at lw_m7 100 rfl
theorem q1620 : (Jvm.Cond.instanceMethod ({ cls := "ClearingHouse$Parser", name := "expect", desc := "(Z)V" } : Jvm.MethodName)) ∈ lw_all := lw_g (lw_at lw_m7 101 rfl) rfl
theorem q1621 : (Jvm.Cond.code ({ cls := "ClearingHouse$Parser", name := "expect", desc := "(Z)V" } : Jvm.MethodName) prog_8_method_4_code (2 : Nat) (Option.none : Option Jvm.ClassFile.FieldType)) ∈ lw_all := lw_g (lw_at lw_m7 102 rfl) rfl
theorem q1622 : (Jvm.Cond.classLink "ClearingHouse$Parser" (47 : Nat) "ClearingHouse$SyntaxException") ∈ lw_all := lw_g (lw_at lw_m7 103 rfl) rfl
theorem q1631 : (Jvm.Cond.methodLink "ClearingHouse$Parser" (49 : Nat) ({ cls := "ClearingHouse$SyntaxException", name := "<init>", desc := "(I)V" } : Jvm.MethodName)) ∈ lw_all := lw_g (lw_at lw_m7 112 rfl) rfl
theorem q1641 : (Jvm.Cond.methodLink "ClearingHouse$Parser" (132 : Nat) ({ cls := "ClearingHouse$Parser", name := "parseJoin", desc := "()LClearingHouse$Order;" } : Jvm.MethodName)) ∈ lw_all := lw_g (lw_at lw_m7 122 rfl) rfl
theorem q1642 : (Jvm.Cond.privateMethod ({ cls := "ClearingHouse$Parser", name := "parseJoin", desc := "()LClearingHouse$Order;" } : Jvm.MethodName)) ∈ lw_tbl := lw_at lw_m7 123 rfl
theorem q1643 : (Jvm.Cond.instanceMethod ({ cls := "ClearingHouse$Parser", name := "parseJoin", desc := "()LClearingHouse$Order;" } : Jvm.MethodName)) ∈ lw_all := lw_g (lw_at lw_m7 124 rfl) rfl
theorem q1644 : (Jvm.Cond.code ({ cls := "ClearingHouse$Parser", name := "parseJoin", desc := "()LClearingHouse$Order;" } : Jvm.MethodName) prog_8_method_9_code (1 : Nat) (Option.some (Jvm.ClassFile.FieldType.object "ClearingHouse$Order"))) ∈ lw_all := lw_g (lw_at lw_m7 125 rfl) rfl
theorem q1645 : (Jvm.Cond.stringRef "ClearingHouse$Parser" (77 : Nat) "oin ") ∈ lw_tbl := lw_at lw_m7 126 rfl
theorem q1646 : (Jvm.Cond.methodLink "ClearingHouse$Parser" (63 : Nat) ({ cls := "ClearingHouse$Parser", name := "expectText", desc := "(Ljava/lang/String;)V" } : Jvm.MethodName)) ∈ lw_all := lw_g (lw_at lw_m7 127 rfl) rfl
theorem q1647 : (Jvm.Cond.privateMethod ({ cls := "ClearingHouse$Parser", name := "expectText", desc := "(Ljava/lang/String;)V" } : Jvm.MethodName)) ∈ lw_tbl := lw_at lw_m7 128 rfl
theorem q1648 : (Jvm.Cond.instanceMethod ({ cls := "ClearingHouse$Parser", name := "expectText", desc := "(Ljava/lang/String;)V" } : Jvm.MethodName)) ∈ lw_all := lw_g (lw_at lw_m7 129 rfl) rfl
theorem q1649 : (Jvm.Cond.code ({ cls := "ClearingHouse$Parser", name := "expectText", desc := "(Ljava/lang/String;)V" } : Jvm.MethodName) prog_8_method_5_code (3 : Nat) (Option.none : Option Jvm.ClassFile.FieldType)) ∈ lw_all := lw_g (lw_at lw_m7 130 rfl) rfl
theorem q1650 : (Jvm.Cond.methodLink "ClearingHouse$Parser" (52 : Nat) ({ cls := "ClearingHouse$Parser", name := "accept", desc := "(C)Z" } : Jvm.MethodName)) ∈ lw_all := lw_g (lw_at lw_m7 131 rfl) rfl
theorem q1651 : (Jvm.Cond.privateMethod ({ cls := "ClearingHouse$Parser", name := "accept", desc := "(C)Z" } : Jvm.MethodName)) ∈ lw_tbl := lw_at lw_m7 132 rfl
theorem q1652 : (Jvm.Cond.instanceMethod ({ cls := "ClearingHouse$Parser", name := "accept", desc := "(C)Z" } : Jvm.MethodName)) ∈ lw_all := lw_g (lw_at lw_m7 133 rfl) rfl
theorem q1653 : (Jvm.Cond.code ({ cls := "ClearingHouse$Parser", name := "accept", desc := "(C)Z" } : Jvm.MethodName) prog_8_method_3_code (3 : Nat) (Option.some Jvm.ClassFile.FieldType.boolean)) ∈ lw_all := lw_g (lw_at lw_m7 134 rfl) rfl
theorem q1654 : (Jvm.Cond.classLink "ClearingHouse$Parser" (79 : Nat) "ClearingHouse$PartyOrder") ∈ lw_all := lw_g (lw_at lw_m7 135 rfl) rfl
theorem q1655 : (Jvm.Cond.methodLink "ClearingHouse$Parser" (74 : Nat) ({ cls := "ClearingHouse$Parser", name := "parseNumber", desc := "()I" } : Jvm.MethodName)) ∈ lw_all := lw_g (lw_at lw_m7 136 rfl) rfl
theorem q1656 : (Jvm.Cond.privateMethod ({ cls := "ClearingHouse$Parser", name := "parseNumber", desc := "()I" } : Jvm.MethodName)) ∈ lw_tbl := lw_at lw_m7 137 rfl
theorem q1657 : (Jvm.Cond.instanceMethod ({ cls := "ClearingHouse$Parser", name := "parseNumber", desc := "()I" } : Jvm.MethodName)) ∈ lw_all := lw_g (lw_at lw_m7 138 rfl) rfl
theorem q1658 : (Jvm.Cond.code ({ cls := "ClearingHouse$Parser", name := "parseNumber", desc := "()I" } : Jvm.MethodName) prog_8_method_7_code (3 : Nat) (Option.some Jvm.ClassFile.FieldType.int)) ∈ lw_all := lw_g (lw_at lw_m7 139 rfl) rfl
theorem q1659 : (Jvm.Cond.methodLink "ClearingHouse$Parser" (60 : Nat) ({ cls := "ClearingHouse$Parser", name := "parseDigit", desc := "()I" } : Jvm.MethodName)) ∈ lw_all := lw_g (lw_at lw_m7 140 rfl) rfl
theorem q1660 : (Jvm.Cond.privateMethod ({ cls := "ClearingHouse$Parser", name := "parseDigit", desc := "()I" } : Jvm.MethodName)) ∈ lw_tbl := lw_at lw_m7 141 rfl
theorem q1661 : (Jvm.Cond.instanceMethod ({ cls := "ClearingHouse$Parser", name := "parseDigit", desc := "()I" } : Jvm.MethodName)) ∈ lw_all := lw_g (lw_at lw_m7 142 rfl) rfl
theorem q1662 : (Jvm.Cond.code ({ cls := "ClearingHouse$Parser", name := "parseDigit", desc := "()I" } : Jvm.MethodName) prog_8_method_6_code (1 : Nat) (Option.some Jvm.ClassFile.FieldType.int)) ∈ lw_all := lw_g (lw_at lw_m7 143 rfl) rfl
theorem q1663 : (Jvm.Cond.methodLink "ClearingHouse$Parser" (81 : Nat) ({ cls := "ClearingHouse$PartyOrder", name := "<init>", desc := "(CII)V" } : Jvm.MethodName)) ∈ lw_all := lw_g (lw_at lw_m7 144 rfl) rfl
theorem q1664 : (Jvm.Cond.stringRef "ClearingHouse$Parser" (135 : Nat) "we ") ∈ lw_tbl := lw_at lw_m7 145 rfl
theorem q1665 : (Jvm.Cond.methodLink "ClearingHouse$Parser" (88 : Nat) ({ cls := "ClearingHouse$Parser", name := "parsePair", desc := "(CLjava/lang/String;)LClearingHouse$Order;" } : Jvm.MethodName)) ∈ lw_all := lw_g (lw_at lw_m7 146 rfl) rfl
theorem q1666 : (Jvm.Cond.privateMethod ({ cls := "ClearingHouse$Parser", name := "parsePair", desc := "(CLjava/lang/String;)LClearingHouse$Order;" } : Jvm.MethodName)) ∈ lw_tbl := lw_at lw_m7 147 rfl
theorem q1667 : (Jvm.Cond.instanceMethod ({ cls := "ClearingHouse$Parser", name := "parsePair", desc := "(CLjava/lang/String;)LClearingHouse$Order;" } : Jvm.MethodName)) ∈ lw_all := lw_g (lw_at lw_m7 148 rfl) rfl
theorem q1668 : (Jvm.Cond.code ({ cls := "ClearingHouse$Parser", name := "parsePair", desc := "(CLjava/lang/String;)LClearingHouse$Order;" } : Jvm.MethodName) prog_8_method_8_code (5 : Nat) (Option.some (Jvm.ClassFile.FieldType.object "ClearingHouse$Order"))) ∈ lw_all := lw_g (lw_at lw_m7 149 rfl) rfl
theorem q1669 : (Jvm.Cond.classLink "ClearingHouse$Parser" (67 : Nat) "ClearingHouse$PairOrder") ∈ lw_all := lw_g (lw_at lw_m7 150 rfl) rfl
theorem q1670 : (Jvm.Cond.methodLink "ClearingHouse$Parser" (69 : Nat) ({ cls := "ClearingHouse$PairOrder", name := "<init>", desc := "(CIII)V" } : Jvm.MethodName)) ∈ lw_all := lw_g (lw_at lw_m7 151 rfl) rfl
theorem q1671 : (Jvm.Cond.stringRef "ClearingHouse$Parser" (72 : Nat) " ") ∈ lw_tbl := lw_at lw_m7 152 rfl
theorem q1672 : (Jvm.Cond.methodLink "ClearingHouse$Parser" (137 : Nat) ({ cls := "ClearingHouse$Parser", name := "parseP", desc := "()LClearingHouse$Order;" } : Jvm.MethodName)) ∈ lw_all := lw_g (lw_at lw_m7 153 rfl) rfl
theorem q1673 : (Jvm.Cond.privateMethod ({ cls := "ClearingHouse$Parser", name := "parseP", desc := "()LClearingHouse$Order;" } : Jvm.MethodName)) ∈ lw_tbl := lw_at lw_m7 154 rfl
theorem q1674 : (Jvm.Cond.instanceMethod ({ cls := "ClearingHouse$Parser", name := "parseP", desc := "()LClearingHouse$Order;" } : Jvm.MethodName)) ∈ lw_all := lw_g (lw_at lw_m7 155 rfl) rfl
theorem q1675 : (Jvm.Cond.code ({ cls := "ClearingHouse$Parser", name := "parseP", desc := "()LClearingHouse$Order;" } : Jvm.MethodName) prog_8_method_11_code (1 : Nat) (Option.some (Jvm.ClassFile.FieldType.object "ClearingHouse$Order"))) ∈ lw_all := lw_g (lw_at lw_m7 156 rfl) rfl
theorem q1676 : (Jvm.Cond.stringRef "ClearingHouse$Parser" (86 : Nat) "a") ∈ lw_tbl := lw_at lw_m7 157 rfl
theorem q1677 : (Jvm.Cond.stringRef "ClearingHouse$Parser" (92 : Nat) "ir ") ∈ lw_tbl := lw_at lw_m7 158 rfl
theorem q1678 : (Jvm.Cond.methodLink "ClearingHouse$Parser" (140 : Nat) ({ cls := "ClearingHouse$Parser", name := "parseC", desc := "()LClearingHouse$Order;" } : Jvm.MethodName)) ∈ lw_all := lw_g (lw_at lw_m7 159 rfl) rfl
theorem q1679 : (Jvm.Cond.privateMethod ({ cls := "ClearingHouse$Parser", name := "parseC", desc := "()LClearingHouse$Order;" } : Jvm.MethodName)) ∈ lw_tbl := lw_at lw_m7 160 rfl
theorem q1680 : (Jvm.Cond.instanceMethod ({ cls := "ClearingHouse$Parser", name := "parseC", desc := "()LClearingHouse$Order;" } : Jvm.MethodName)) ∈ lw_all := lw_g (lw_at lw_m7 161 rfl) rfl
theorem q1681 : (Jvm.Cond.code ({ cls := "ClearingHouse$Parser", name := "parseC", desc := "()LClearingHouse$Order;" } : Jvm.MethodName) prog_8_method_14_code (1 : Nat) (Option.some (Jvm.ClassFile.FieldType.object "ClearingHouse$Order"))) ∈ lw_all := lw_g (lw_at lw_m7 162 rfl) rfl
theorem q1682 : (Jvm.Cond.fieldLink "ClearingHouse$Parser" (113 : Nat) "ClearingHouse$Whole" "CYCLE" "LClearingHouse$Whole;") ∈ lw_all := lw_g (lw_at lw_m7 163 rfl) rfl
theorem q1683 : (Jvm.Cond.stringRef "ClearingHouse$Parser" (116 : Nat) "cle") ∈ lw_tbl := lw_at lw_m7 164 rfl
theorem q1684 : (Jvm.Cond.methodLink "ClearingHouse$Parser" (107 : Nat) ({ cls := "ClearingHouse$Parser", name := "parseWhole", desc := "(LClearingHouse$Whole;Ljava/lang/String;)LClearingHouse$Order;" } : Jvm.MethodName)) ∈ lw_all := lw_g (lw_at lw_m7 165 rfl) rfl
theorem q1685 : (Jvm.Cond.privateMethod ({ cls := "ClearingHouse$Parser", name := "parseWhole", desc := "(LClearingHouse$Whole;Ljava/lang/String;)LClearingHouse$Order;" } : Jvm.MethodName)) ∈ lw_tbl := lw_at lw_m7 166 rfl
theorem q1686 : (Jvm.Cond.instanceMethod ({ cls := "ClearingHouse$Parser", name := "parseWhole", desc := "(LClearingHouse$Whole;Ljava/lang/String;)LClearingHouse$Order;" } : Jvm.MethodName)) ∈ lw_all := lw_g (lw_at lw_m7 167 rfl) rfl
theorem q1687 : (Jvm.Cond.code ({ cls := "ClearingHouse$Parser", name := "parseWhole", desc := "(LClearingHouse$Whole;Ljava/lang/String;)LClearingHouse$Order;" } : Jvm.MethodName) prog_8_method_12_code (3 : Nat) (Option.some (Jvm.ClassFile.FieldType.object "ClearingHouse$Order"))) ∈ lw_all := lw_g (lw_at lw_m7 168 rfl) rfl
theorem q1688 : (Jvm.Cond.classLink "ClearingHouse$Parser" (94 : Nat) "ClearingHouse$WholeOrder") ∈ lw_all := lw_g (lw_at lw_m7 169 rfl) rfl
theorem q1689 : (Jvm.Cond.methodLink "ClearingHouse$Parser" (96 : Nat) ({ cls := "ClearingHouse$WholeOrder", name := "<init>", desc := "(LClearingHouse$Whole;)V" } : Jvm.MethodName)) ∈ lw_all := lw_g (lw_at lw_m7 170 rfl) rfl
theorem q1690 : (Jvm.Cond.fieldLink "ClearingHouse$Parser" (118 : Nat) "ClearingHouse$Whole" "CALL" "LClearingHouse$Whole;") ∈ lw_all := lw_g (lw_at lw_m7 171 rfl) rfl
theorem q1691 : (Jvm.Cond.stringRef "ClearingHouse$Parser" (121 : Nat) "l") ∈ lw_tbl := lw_at lw_m7 172 rfl
theorem q1692 : (Jvm.Cond.methodLink "ClearingHouse$Parser" (123 : Nat) ({ cls := "ClearingHouse$Parser", name := "parseS", desc := "()LClearingHouse$Order;" } : Jvm.MethodName)) ∈ lw_all := lw_g (lw_at lw_m7 173 rfl) rfl
theorem q1693 : (Jvm.Cond.privateMethod ({ cls := "ClearingHouse$Parser", name := "parseS", desc := "()LClearingHouse$Order;" } : Jvm.MethodName)) ∈ lw_tbl := lw_at lw_m7 174 rfl
theorem q1694 : (Jvm.Cond.instanceMethod ({ cls := "ClearingHouse$Parser", name := "parseS", desc := "()LClearingHouse$Order;" } : Jvm.MethodName)) ∈ lw_all := lw_g (lw_at lw_m7 175 rfl) rfl
theorem q1695 : (Jvm.Cond.code ({ cls := "ClearingHouse$Parser", name := "parseS", desc := "()LClearingHouse$Order;" } : Jvm.MethodName) prog_8_method_15_code (1 : Nat) (Option.some (Jvm.ClassFile.FieldType.object "ClearingHouse$Order"))) ∈ lw_all := lw_g (lw_at lw_m7 176 rfl) rfl
theorem q1696 : (Jvm.Cond.stringRef "ClearingHouse$Parser" (127 : Nat) "s") ∈ lw_tbl := lw_at lw_m7 177 rfl
theorem q1697 : (Jvm.Cond.methodLink "ClearingHouse$Parser" (129 : Nat) ({ cls := "ClearingHouse$Parser", name := "parseCas", desc := "()LClearingHouse$Order;" } : Jvm.MethodName)) ∈ lw_all := lw_g (lw_at lw_m7 178 rfl) rfl
theorem q1698 : (Jvm.Cond.privateMethod ({ cls := "ClearingHouse$Parser", name := "parseCas", desc := "()LClearingHouse$Order;" } : Jvm.MethodName)) ∈ lw_tbl := lw_at lw_m7 179 rfl
theorem q1699 : (Jvm.Cond.instanceMethod ({ cls := "ClearingHouse$Parser", name := "parseCas", desc := "()LClearingHouse$Order;" } : Jvm.MethodName)) ∈ lw_all := lw_g (lw_at lw_m7 180 rfl) rfl
theorem q1700 : (Jvm.Cond.code ({ cls := "ClearingHouse$Parser", name := "parseCas", desc := "()LClearingHouse$Order;" } : Jvm.MethodName) prog_8_method_13_code (2 : Nat) (Option.some (Jvm.ClassFile.FieldType.object "ClearingHouse$Order"))) ∈ lw_all := lw_g (lw_at lw_m7 181 rfl) rfl
theorem q1701 : (Jvm.Cond.fieldLink "ClearingHouse$Parser" (99 : Nat) "ClearingHouse$Whole" "CASCADE" "LClearingHouse$Whole;") ∈ lw_all := lw_g (lw_at lw_m7 182 rfl) rfl
theorem q1702 : (Jvm.Cond.stringRef "ClearingHouse$Parser" (105 : Nat) "ade") ∈ lw_tbl := lw_at lw_m7 183 rfl
theorem q1703 : (Jvm.Cond.stringRef "ClearingHouse$Parser" (111 : Nat) "h ") ∈ lw_tbl := lw_at lw_m7 184 rfl
theorem q1704 : (Jvm.Cond.fieldLink "ClearingHouse$Parser" (143 : Nat) "ClearingHouse$Whole" "ALL" "LClearingHouse$Whole;") ∈ lw_all := lw_g (lw_at lw_m7 185 rfl) rfl
theorem q1705 : (Jvm.Cond.stringRef "ClearingHouse$Parser" (146 : Nat) "ll") ∈ lw_tbl := lw_at lw_m7 186 rfl
theorem q1706 : (Jvm.Cond.methodLink "ClearingHouse$Parser" (148 : Nat) ({ cls := "ClearingHouse$Parser", name := "parseDefault", desc := "()LClearingHouse$Order;" } : Jvm.MethodName)) ∈ lw_all := lw_g (lw_at lw_m7 187 rfl) rfl
theorem q1707 : (Jvm.Cond.privateMethod ({ cls := "ClearingHouse$Parser", name := "parseDefault", desc := "()LClearingHouse$Order;" } : Jvm.MethodName)) ∈ lw_tbl := lw_at lw_m7 188 rfl
theorem q1708 : (Jvm.Cond.instanceMethod ({ cls := "ClearingHouse$Parser", name := "parseDefault", desc := "()LClearingHouse$Order;" } : Jvm.MethodName)) ∈ lw_all := lw_g (lw_at lw_m7 189 rfl) rfl
theorem q1709 : (Jvm.Cond.code ({ cls := "ClearingHouse$Parser", name := "parseDefault", desc := "()LClearingHouse$Order;" } : Jvm.MethodName) prog_8_method_10_code (1 : Nat) (Option.some (Jvm.ClassFile.FieldType.object "ClearingHouse$Order"))) ∈ lw_all := lw_g (lw_at lw_m7 190 rfl) rfl
theorem q1710 : (Jvm.Cond.stringRef "ClearingHouse$Parser" (84 : Nat) "efault ") ∈ lw_tbl := lw_at lw_m7 191 rfl
theorem q1711 : (Jvm.Cond.interfaceEntry "ClearingHouse$Parser" (157 : Nat)) ∈ lw_tbl := lw_at lw_m7 192 rfl
theorem q1712 : (Jvm.Cond.methodLink "ClearingHouse$Parser" (157 : Nat) ({ cls := "java/util/List", name := "add", desc := "(Ljava/lang/Object;)Z" } : Jvm.MethodName)) ∈ lw_all := lw_g (lw_at lw_m7 193 rfl) rfl
theorem q2397 : (Jvm.Cond.castable "ClearingHouse$Parser" "java/lang/Object") ∈ lw_tbl := lw_at lw_m10 158 rfl
theorem in_X10 : ∀ w ∈ wsX100, w ∈ lw_all := lw_in wsX100 [1505, 1507, 1509] (by decide +kernel) (by decide +kernel)
/-! ClearingHouse$SyntaxException -/
set_option maxRecDepth 100000
def RX11 : String := "ClearingHouse$SyntaxException"
def TX11 : u_T := fun k => match k with
  | 0 => ("java/lang/Throwable", "cause", "Ljava/lang/Throwable;", false)
  | 1 => ("java/lang/Throwable", "stackTrace", "[Ljava/lang/StackTraceElement;", false)
  | 2 => ("java/lang/Throwable", "suppressedExceptions", "Ljava/util/List;", false)
  | 3 => ("java/lang/Throwable", "detailMessage", "Ljava/lang/String;", false)
  | 4 => ("java/lang/Throwable", "backtrace", "Ljava/lang/Object;", false)
  | 5 => ("java/lang/Throwable", "depth", "I", false)
  | _ => ("ClearingHouse$SyntaxException", "position", "I", true)
def tyX11 : Nat → FieldType := fun k => match k with
  | 0 => .object "java/lang/Throwable"
  | 1 => .array (.object "java/lang/StackTraceElement")
  | 2 => .object "java/util/List"
  | 3 => .object "java/lang/String"
  | 4 => .object "java/lang/Object"
  | 5 => .int
  | _ => .int
abbrev wsX110 : List Cond := u_ws RX11 TX11 7
theorem nmX11 : ∀ a, a < 7 → ∀ b, b < 7 → a ≠ b → (TX11 a).2.1 ≠ (TX11 b).2.1 := by decide +kernel
theorem tyX11_ok : ∀ k, k < 7 → parseFieldDescriptor (TX11 k).2.2.1 = some (tyX11 k) := by decide +kernel
abbrev cX11_init : ByteArray := prog_11_method_1_code
def yX11_init : MethodName := ⟨RX11, "<init>", "(I)V"⟩
def dkwX11_init_0 : List UInt8 := [42, 183, 0, 1, 42, 27, 181, 0, 7, 177]
abbrev dktX11_init_0 : List UInt8 := dkwX11_init_0 ++ []
theorem dksX11_init_0 : cX11_init.data.toList.drop 0 = dktX11_init_0 := by decide +kernel
theorem dX11_init_0 : decode cX11_init 0 = .ok (.aload_n 0, 1) := dk_42 (dk_at dksX11_init_0 0 rfl rfl)
theorem dX11_init_1 : decode cX11_init 1 = .ok (.invokespecial 1, 3) := dk_183 0 1 (dk_at dksX11_init_0 1 rfl rfl)
theorem dX11_init_4 : decode cX11_init 4 = .ok (.aload_n 0, 1) := dk_42 (dk_at dksX11_init_0 4 rfl rfl)
theorem dX11_init_5 : decode cX11_init 5 = .ok (.iload_n 1, 1) := dk_27 (dk_at dksX11_init_0 5 rfl rfl)
theorem dX11_init_6 : decode cX11_init 6 = .ok (.putfield 7, 3) := dk_181 0 7 (dk_at dksX11_init_0 6 rfl rfl)
theorem dX11_init_9 : decode cX11_init 9 = .ok (.return_, 1) := dk_177 (dk_at dksX11_init_0 9 rfl rfl)
theorem q123 : (Jvm.Cond.initialized "ClearingHouse$SyntaxException") ∈ lw_all := lw_g (lw_at lw_m1 44 rfl) rfl
theorem q361 : (Jvm.Cond.selects "ClearingHouse$SyntaxException" ({ cls := "java/lang/Throwable", name := "fillInStackTrace", desc := "()Ljava/lang/Throwable;" } : Jvm.MethodName) ({ cls := "java/lang/Throwable", name := "fillInStackTrace", desc := "()Ljava/lang/Throwable;" } : Jvm.MethodName)) ∈ lw_all := lw_g (lw_at lw_m2 42 rfl) rfl
theorem q800 : (Jvm.Cond.selects "ClearingHouse$SyntaxException" ({ cls := "java/lang/Object", name := "getClass", desc := "()Ljava/lang/Class;" } : Jvm.MethodName) ({ cls := "java/lang/Object", name := "getClass", desc := "()Ljava/lang/Class;" } : Jvm.MethodName)) ∈ lw_all := lw_g (lw_at lw_m4 1 rfl) rfl
theorem q1623 : (Jvm.Cond.instantiable "ClearingHouse$SyntaxException" (7 : Nat)) ∈ lw_all := lw_g (lw_at lw_m7 104 rfl) rfl
theorem q1624 : (Jvm.Cond.castable "ClearingHouse$SyntaxException" "ClearingHouse$SyntaxException") ∈ lw_tbl := lw_at lw_m7 105 rfl
theorem q1625 : (Jvm.Cond.selects "ClearingHouse$SyntaxException" ({ cls := "java/lang/Throwable", name := "fillInStackTrace", desc := "(I)Ljava/lang/Throwable;" } : Jvm.MethodName) ({ cls := "java/lang/Throwable", name := "fillInStackTrace", desc := "(I)Ljava/lang/Throwable;" } : Jvm.MethodName)) ∈ lw_all := lw_g (lw_at lw_m7 106 rfl) rfl
theorem q1626 : (Jvm.Cond.lays "ClearingHouse$SyntaxException" "java/lang/Throwable" "cause" "Ljava/lang/Throwable;") ∈ lw_all := lw_g (lw_at lw_m7 107 rfl) rfl
theorem q1627 : (Jvm.Cond.lays "ClearingHouse$SyntaxException" "java/lang/Throwable" "stackTrace" "[Ljava/lang/StackTraceElement;") ∈ lw_all := lw_g (lw_at lw_m7 108 rfl) rfl
theorem q1628 : (Jvm.Cond.lays "ClearingHouse$SyntaxException" "java/lang/Throwable" "suppressedExceptions" "Ljava/util/List;") ∈ lw_all := lw_g (lw_at lw_m7 109 rfl) rfl
theorem q1629 : (Jvm.Cond.lays "ClearingHouse$SyntaxException" "java/lang/Throwable" "detailMessage" "Ljava/lang/String;") ∈ lw_all := lw_g (lw_at lw_m7 110 rfl) rfl
theorem q1630 : (Jvm.Cond.lays "ClearingHouse$SyntaxException" "java/lang/Throwable" "backtrace" "Ljava/lang/Object;") ∈ lw_all := lw_g (lw_at lw_m7 111 rfl) rfl
theorem q1632 : (Jvm.Cond.instanceMethod ({ cls := "ClearingHouse$SyntaxException", name := "<init>", desc := "(I)V" } : Jvm.MethodName)) ∈ lw_all := lw_g (lw_at lw_m7 113 rfl) rfl
theorem q1633 : (Jvm.Cond.code ({ cls := "ClearingHouse$SyntaxException", name := "<init>", desc := "(I)V" } : Jvm.MethodName) prog_11_method_1_code (2 : Nat) (Option.none : Option Jvm.ClassFile.FieldType)) ∈ lw_all := lw_g (lw_at lw_m7 114 rfl) rfl
theorem q1634 : (Jvm.Cond.methodLink "ClearingHouse$SyntaxException" (1 : Nat) ({ cls := "java/lang/Exception", name := "<init>", desc := "()V" } : Jvm.MethodName)) ∈ lw_all := lw_g (lw_at lw_m7 115 rfl) rfl
theorem q1635 : (Jvm.Cond.fieldLink "ClearingHouse$SyntaxException" (7 : Nat) "ClearingHouse$SyntaxException" "position" "I") ∈ lw_all := lw_g (lw_at lw_m7 116 rfl) rfl
theorem q1637 : (Jvm.Cond.laysFinal "ClearingHouse$SyntaxException" "ClearingHouse$SyntaxException" "position" "I") ∈ lw_all := lw_g (lw_at lw_m7 118 rfl) rfl
theorem q1638 : (Jvm.Cond.soleField "ClearingHouse$SyntaxException" "position") ∈ lw_all := lw_g (lw_at lw_m7 119 rfl) rfl
theorem q1639 : (Jvm.Cond.lays "ClearingHouse$SyntaxException" "java/lang/Throwable" "depth" "I") ∈ lw_all := lw_g (lw_at lw_m7 120 rfl) rfl
theorem q1640 : (Jvm.Cond.superclass "ClearingHouse$SyntaxException" "java/lang/Exception") ∈ lw_all := lw_g (lw_at lw_m7 121 rfl) rfl
theorem q2401 : (Jvm.Cond.castable "ClearingHouse$SyntaxException" "java/lang/Object") ∈ lw_tbl := lw_at lw_m10 162 rfl
theorem in_X11 : ∀ w ∈ wsX110, w ∈ lw_all := lw_in wsX110 [1626, 1627, 1628, 1629, 1630, 1639, 1637] (by decide +kernel) (by decide +kernel)
/-! ClearingHouse$Whole$1 -/
set_option maxRecDepth 100000
def RX12 : String := "ClearingHouse$Whole$1"
abbrev cX12_execute : ByteArray := prog_13_method_2_code
def yX12_execute : MethodName := ⟨RX12, "execute", "(LClearingHouse$House;)I"⟩
theorem dX12_execute_0 : decode cX12_execute 0 = .ok (.aload_n 1, 1) := by decide +kernel
theorem dX12_execute_1 : decode cX12_execute 1 = .ok (.invokevirtual 7, 3) := by decide +kernel
theorem dX12_execute_4 : decode cX12_execute 4 = .ok (.ireturn, 1) := by decide +kernel
theorem q582 : (Jvm.Cond.selects "ClearingHouse$Whole$1" ({ cls := "ClearingHouse$Whole", name := "execute", desc := "(LClearingHouse$House;)I" } : Jvm.MethodName) ({ cls := "ClearingHouse$Whole$1", name := "execute", desc := "(LClearingHouse$House;)I" } : Jvm.MethodName)) ∈ lw_all := lw_g (lw_at lw_m3 23 rfl) rfl
theorem q583 : (Jvm.Cond.instanceMethod ({ cls := "ClearingHouse$Whole$1", name := "execute", desc := "(LClearingHouse$House;)I" } : Jvm.MethodName)) ∈ lw_all := lw_g (lw_at lw_m3 24 rfl) rfl
theorem q584 : (Jvm.Cond.code ({ cls := "ClearingHouse$Whole$1", name := "execute", desc := "(LClearingHouse$House;)I" } : Jvm.MethodName) prog_13_method_2_code (2 : Nat) (Option.some Jvm.ClassFile.FieldType.int)) ∈ lw_all := lw_g (lw_at lw_m3 25 rfl) rfl
theorem q585 : (Jvm.Cond.methodLink "ClearingHouse$Whole$1" (7 : Nat) ({ cls := "ClearingHouse$House", name := "netCycle", desc := "()I" } : Jvm.MethodName)) ∈ lw_all := lw_g (lw_at lw_m3 26 rfl) rfl
theorem q801 : (Jvm.Cond.selects "ClearingHouse$Whole$1" ({ cls := "java/lang/Object", name := "getClass", desc := "()Ljava/lang/Class;" } : Jvm.MethodName) ({ cls := "java/lang/Object", name := "getClass", desc := "()Ljava/lang/Class;" } : Jvm.MethodName)) ∈ lw_all := lw_g (lw_at lw_m4 2 rfl) rfl
theorem q2390 : (Jvm.Cond.castable "ClearingHouse$Whole$1" "java/lang/Object") ∈ lw_tbl := lw_at lw_m10 151 rfl
/-! ClearingHouse$Whole$2 -/
set_option maxRecDepth 100000
def RX13 : String := "ClearingHouse$Whole$2"
abbrev cX13_execute : ByteArray := prog_14_method_2_code
def yX13_execute : MethodName := ⟨RX13, "execute", "(LClearingHouse$House;)I"⟩
theorem dX13_execute_0 : decode cX13_execute 0 = .ok (.aload_n 1, 1) := by decide +kernel
theorem dX13_execute_1 : decode cX13_execute 1 = .ok (.invokevirtual 7, 3) := by decide +kernel
theorem dX13_execute_4 : decode cX13_execute 4 = .ok (.ireturn, 1) := by decide +kernel
theorem q697 : (Jvm.Cond.selects "ClearingHouse$Whole$2" ({ cls := "ClearingHouse$Whole", name := "execute", desc := "(LClearingHouse$House;)I" } : Jvm.MethodName) ({ cls := "ClearingHouse$Whole$2", name := "execute", desc := "(LClearingHouse$House;)I" } : Jvm.MethodName)) ∈ lw_all := lw_g (lw_at lw_m3 138 rfl) rfl
theorem q698 : (Jvm.Cond.instanceMethod ({ cls := "ClearingHouse$Whole$2", name := "execute", desc := "(LClearingHouse$House;)I" } : Jvm.MethodName)) ∈ lw_all := lw_g (lw_at lw_m3 139 rfl) rfl
theorem q699 : (Jvm.Cond.code ({ cls := "ClearingHouse$Whole$2", name := "execute", desc := "(LClearingHouse$House;)I" } : Jvm.MethodName) prog_14_method_2_code (2 : Nat) (Option.some Jvm.ClassFile.FieldType.int)) ∈ lw_all := lw_g (lw_at lw_m3 140 rfl) rfl
theorem q700 : (Jvm.Cond.methodLink "ClearingHouse$Whole$2" (7 : Nat) ({ cls := "ClearingHouse$House", name := "netAll", desc := "()I" } : Jvm.MethodName)) ∈ lw_all := lw_g (lw_at lw_m3 141 rfl) rfl
theorem q802 : (Jvm.Cond.selects "ClearingHouse$Whole$2" ({ cls := "java/lang/Object", name := "getClass", desc := "()Ljava/lang/Class;" } : Jvm.MethodName) ({ cls := "java/lang/Object", name := "getClass", desc := "()Ljava/lang/Class;" } : Jvm.MethodName)) ∈ lw_all := lw_g (lw_at lw_m4 3 rfl) rfl
theorem q2391 : (Jvm.Cond.castable "ClearingHouse$Whole$2" "java/lang/Object") ∈ lw_tbl := lw_at lw_m10 152 rfl
/-! ClearingHouse$Whole$3 -/
set_option maxRecDepth 100000
def RX14 : String := "ClearingHouse$Whole$3"
abbrev cX14_execute : ByteArray := prog_15_method_2_code
def yX14_execute : MethodName := ⟨RX14, "execute", "(LClearingHouse$House;)I"⟩
theorem dX14_execute_0 : decode cX14_execute 0 = .ok (.aload_n 1, 1) := by decide +kernel
theorem dX14_execute_1 : decode cX14_execute 1 = .ok (.invokevirtual 7, 3) := by decide +kernel
theorem dX14_execute_4 : decode cX14_execute 4 = .ok (.ireturn, 1) := by decide +kernel
theorem q704 : (Jvm.Cond.selects "ClearingHouse$Whole$3" ({ cls := "ClearingHouse$Whole", name := "execute", desc := "(LClearingHouse$House;)I" } : Jvm.MethodName) ({ cls := "ClearingHouse$Whole$3", name := "execute", desc := "(LClearingHouse$House;)I" } : Jvm.MethodName)) ∈ lw_all := lw_g (lw_at lw_m3 145 rfl) rfl
theorem q705 : (Jvm.Cond.instanceMethod ({ cls := "ClearingHouse$Whole$3", name := "execute", desc := "(LClearingHouse$House;)I" } : Jvm.MethodName)) ∈ lw_all := lw_g (lw_at lw_m3 146 rfl) rfl
theorem q706 : (Jvm.Cond.code ({ cls := "ClearingHouse$Whole$3", name := "execute", desc := "(LClearingHouse$House;)I" } : Jvm.MethodName) prog_15_method_2_code (2 : Nat) (Option.some Jvm.ClassFile.FieldType.int)) ∈ lw_all := lw_g (lw_at lw_m3 147 rfl) rfl
theorem q707 : (Jvm.Cond.methodLink "ClearingHouse$Whole$3" (7 : Nat) ({ cls := "ClearingHouse$House", name := "cascade", desc := "()I" } : Jvm.MethodName)) ∈ lw_all := lw_g (lw_at lw_m3 148 rfl) rfl
theorem q803 : (Jvm.Cond.selects "ClearingHouse$Whole$3" ({ cls := "java/lang/Object", name := "getClass", desc := "()Ljava/lang/Class;" } : Jvm.MethodName) ({ cls := "java/lang/Object", name := "getClass", desc := "()Ljava/lang/Class;" } : Jvm.MethodName)) ∈ lw_all := lw_g (lw_at lw_m4 4 rfl) rfl
theorem q2392 : (Jvm.Cond.castable "ClearingHouse$Whole$3" "java/lang/Object") ∈ lw_tbl := lw_at lw_m10 153 rfl
/-! ClearingHouse$Whole$4 -/
set_option maxRecDepth 100000
def RX15 : String := "ClearingHouse$Whole$4"
abbrev cX15_execute : ByteArray := prog_16_method_2_code
def yX15_execute : MethodName := ⟨RX15, "execute", "(LClearingHouse$House;)I"⟩
theorem dX15_execute_0 : decode cX15_execute 0 = .ok (.aload_n 1, 1) := by decide +kernel
theorem dX15_execute_1 : decode cX15_execute 1 = .ok (.invokevirtual 7, 3) := by decide +kernel
theorem dX15_execute_4 : decode cX15_execute 4 = .ok (.ireturn, 1) := by decide +kernel
theorem q715 : (Jvm.Cond.selects "ClearingHouse$Whole$4" ({ cls := "ClearingHouse$Whole", name := "execute", desc := "(LClearingHouse$House;)I" } : Jvm.MethodName) ({ cls := "ClearingHouse$Whole$4", name := "execute", desc := "(LClearingHouse$House;)I" } : Jvm.MethodName)) ∈ lw_all := lw_g (lw_at lw_m3 156 rfl) rfl
theorem q716 : (Jvm.Cond.instanceMethod ({ cls := "ClearingHouse$Whole$4", name := "execute", desc := "(LClearingHouse$House;)I" } : Jvm.MethodName)) ∈ lw_all := lw_g (lw_at lw_m3 157 rfl) rfl
theorem q717 : (Jvm.Cond.code ({ cls := "ClearingHouse$Whole$4", name := "execute", desc := "(LClearingHouse$House;)I" } : Jvm.MethodName) prog_16_method_2_code (2 : Nat) (Option.some Jvm.ClassFile.FieldType.int)) ∈ lw_all := lw_g (lw_at lw_m3 158 rfl) rfl
theorem q718 : (Jvm.Cond.methodLink "ClearingHouse$Whole$4" (7 : Nat) ({ cls := "ClearingHouse$House", name := "call", desc := "()I" } : Jvm.MethodName)) ∈ lw_all := lw_g (lw_at lw_m3 159 rfl) rfl
theorem q804 : (Jvm.Cond.selects "ClearingHouse$Whole$4" ({ cls := "java/lang/Object", name := "getClass", desc := "()Ljava/lang/Class;" } : Jvm.MethodName) ({ cls := "java/lang/Object", name := "getClass", desc := "()Ljava/lang/Class;" } : Jvm.MethodName)) ∈ lw_all := lw_g (lw_at lw_m4 5 rfl) rfl
theorem q2393 : (Jvm.Cond.castable "ClearingHouse$Whole$4" "java/lang/Object") ∈ lw_tbl := lw_at lw_m10 154 rfl
/-! ClearingHouseLaw -/
set_option maxRecDepth 100000
def RX0 : String := "ClearingHouseLaw"
abbrev cX0_addParty : ByteArray := method_3_code
def yX0_addParty : MethodName := ⟨RX0, "addParty", "(LClearingHouse;I[J)I"⟩
def dkwX0_addParty_0 : List UInt8 := [44, 3, 42, 27, 182, 0, 7, 133, 80, 167, 0, 9, 78, 4, 172, 78, 5, 172, 3, 172]
abbrev dktX0_addParty_0 : List UInt8 := dkwX0_addParty_0 ++ []
theorem dksX0_addParty_0 : cX0_addParty.data.toList.drop 0 = dktX0_addParty_0 := by decide +kernel
theorem dX0_addParty_0 : decode cX0_addParty 0 = .ok (.aload_n 2, 1) := dk_44 (dk_at dksX0_addParty_0 0 rfl rfl)
theorem dX0_addParty_1 : decode cX0_addParty 1 = .ok (.iconst 0, 1) := dk_3 (dk_at dksX0_addParty_0 1 rfl rfl)
theorem dX0_addParty_2 : decode cX0_addParty 2 = .ok (.aload_n 0, 1) := dk_42 (dk_at dksX0_addParty_0 2 rfl rfl)
theorem dX0_addParty_3 : decode cX0_addParty 3 = .ok (.iload_n 1, 1) := dk_27 (dk_at dksX0_addParty_0 3 rfl rfl)
theorem dX0_addParty_4 : decode cX0_addParty 4 = .ok (.invokevirtual 7, 3) := dk_182 0 7 (dk_at dksX0_addParty_0 4 rfl rfl)
theorem dX0_addParty_7 : decode cX0_addParty 7 = .ok (.i2l, 1) := dk_133 (dk_at dksX0_addParty_0 7 rfl rfl)
theorem dX0_addParty_8 : decode cX0_addParty 8 = .ok (.lastore, 1) := dk_80 (dk_at dksX0_addParty_0 8 rfl rfl)
theorem dX0_addParty_9 : decode cX0_addParty 9 = .ok (.goto 9, 3) := dk_167 0 9 (dk_at dksX0_addParty_0 9 rfl rfl)
theorem dX0_addParty_12 : decode cX0_addParty 12 = .ok (.astore_n 3, 1) := dk_78 (dk_at dksX0_addParty_0 12 rfl rfl)
theorem dX0_addParty_13 : decode cX0_addParty 13 = .ok (.iconst 1, 1) := dk_4 (dk_at dksX0_addParty_0 13 rfl rfl)
theorem dX0_addParty_14 : decode cX0_addParty 14 = .ok (.ireturn, 1) := dk_172 (dk_at dksX0_addParty_0 14 rfl rfl)
theorem dX0_addParty_15 : decode cX0_addParty 15 = .ok (.astore_n 3, 1) := dk_78 (dk_at dksX0_addParty_0 15 rfl rfl)
theorem dX0_addParty_16 : decode cX0_addParty 16 = .ok (.iconst 2, 1) := dk_5 (dk_at dksX0_addParty_0 16 rfl rfl)
theorem dX0_addParty_17 : decode cX0_addParty 17 = .ok (.ireturn, 1) := dk_172 (dk_at dksX0_addParty_0 17 rfl rfl)
theorem dX0_addParty_18 : decode cX0_addParty 18 = .ok (.iconst 0, 1) := dk_3 (dk_at dksX0_addParty_0 18 rfl rfl)
theorem dX0_addParty_19 : decode cX0_addParty 19 = .ok (.ireturn, 1) := dk_172 (dk_at dksX0_addParty_0 19 rfl rfl)
abbrev cX0_deposit : ByteArray := method_4_code
def yX0_deposit : MethodName := ⟨RX0, "deposit", "(LClearingHouse;II[J)I"⟩
def dkwX0_deposit_0 : List UInt8 := [45, 3, 42, 27, 28, 182, 0, 17, 133, 80, 167, 0, 11, 58, 4, 4, 172, 58, 4, 5, 172, 3, 172]
abbrev dktX0_deposit_0 : List UInt8 := dkwX0_deposit_0 ++ []
theorem dksX0_deposit_0 : cX0_deposit.data.toList.drop 0 = dktX0_deposit_0 := by decide +kernel
theorem dX0_deposit_0 : decode cX0_deposit 0 = .ok (.aload_n 3, 1) := dk_45 (dk_at dksX0_deposit_0 0 rfl rfl)
theorem dX0_deposit_1 : decode cX0_deposit 1 = .ok (.iconst 0, 1) := dk_3 (dk_at dksX0_deposit_0 1 rfl rfl)
theorem dX0_deposit_2 : decode cX0_deposit 2 = .ok (.aload_n 0, 1) := dk_42 (dk_at dksX0_deposit_0 2 rfl rfl)
theorem dX0_deposit_3 : decode cX0_deposit 3 = .ok (.iload_n 1, 1) := dk_27 (dk_at dksX0_deposit_0 3 rfl rfl)
theorem dX0_deposit_4 : decode cX0_deposit 4 = .ok (.iload_n 2, 1) := dk_28 (dk_at dksX0_deposit_0 4 rfl rfl)
theorem dX0_deposit_5 : decode cX0_deposit 5 = .ok (.invokevirtual 17, 3) := dk_182 0 17 (dk_at dksX0_deposit_0 5 rfl rfl)
theorem dX0_deposit_8 : decode cX0_deposit 8 = .ok (.i2l, 1) := dk_133 (dk_at dksX0_deposit_0 8 rfl rfl)
theorem dX0_deposit_9 : decode cX0_deposit 9 = .ok (.lastore, 1) := dk_80 (dk_at dksX0_deposit_0 9 rfl rfl)
theorem dX0_deposit_10 : decode cX0_deposit 10 = .ok (.goto 11, 3) := dk_167 0 11 (dk_at dksX0_deposit_0 10 rfl rfl)
theorem dX0_deposit_13 : decode cX0_deposit 13 = .ok (.astore 4, 2) := dk_58 4 (dk_at dksX0_deposit_0 13 rfl rfl)
theorem dX0_deposit_15 : decode cX0_deposit 15 = .ok (.iconst 1, 1) := dk_4 (dk_at dksX0_deposit_0 15 rfl rfl)
theorem dX0_deposit_16 : decode cX0_deposit 16 = .ok (.ireturn, 1) := dk_172 (dk_at dksX0_deposit_0 16 rfl rfl)
theorem dX0_deposit_17 : decode cX0_deposit 17 = .ok (.astore 4, 2) := dk_58 4 (dk_at dksX0_deposit_0 17 rfl rfl)
theorem dX0_deposit_19 : decode cX0_deposit 19 = .ok (.iconst 2, 1) := dk_5 (dk_at dksX0_deposit_0 19 rfl rfl)
theorem dX0_deposit_20 : decode cX0_deposit 20 = .ok (.ireturn, 1) := dk_172 (dk_at dksX0_deposit_0 20 rfl rfl)
theorem dX0_deposit_21 : decode cX0_deposit 21 = .ok (.iconst 0, 1) := dk_3 (dk_at dksX0_deposit_0 21 rfl rfl)
theorem dX0_deposit_22 : decode cX0_deposit 22 = .ok (.ireturn, 1) := dk_172 (dk_at dksX0_deposit_0 22 rfl rfl)
abbrev cX0_owe : ByteArray := method_5_code
def yX0_owe : MethodName := ⟨RX0, "owe", "(LClearingHouse;III[J)I"⟩
def dkwX0_owe_1 : List UInt8 := [58, 5, 6, 172, 3, 172]
abbrev dktX0_owe_1 : List UInt8 := dkwX0_owe_1 ++ []
def dkwX0_owe_0 : List UInt8 := [25, 4, 3, 42, 27, 28, 29, 182, 0, 23, 133, 80, 167, 0, 15, 58, 5, 4, 172, 58, 5, 5, 172]
abbrev dktX0_owe_0 : List UInt8 := dkwX0_owe_0 ++ dktX0_owe_1
theorem dksX0_owe_0 : cX0_owe.data.toList.drop 0 = dktX0_owe_0 := by decide +kernel
theorem dksX0_owe_1 : cX0_owe.data.toList.drop 23 = dktX0_owe_1 := dk_seg dksX0_owe_0 23 rfl rfl
theorem dX0_owe_0 : decode cX0_owe 0 = .ok (.aload 4, 2) := dk_25 4 (dk_at dksX0_owe_0 0 rfl rfl)
theorem dX0_owe_2 : decode cX0_owe 2 = .ok (.iconst 0, 1) := dk_3 (dk_at dksX0_owe_0 2 rfl rfl)
theorem dX0_owe_3 : decode cX0_owe 3 = .ok (.aload_n 0, 1) := dk_42 (dk_at dksX0_owe_0 3 rfl rfl)
theorem dX0_owe_4 : decode cX0_owe 4 = .ok (.iload_n 1, 1) := dk_27 (dk_at dksX0_owe_0 4 rfl rfl)
theorem dX0_owe_5 : decode cX0_owe 5 = .ok (.iload_n 2, 1) := dk_28 (dk_at dksX0_owe_0 5 rfl rfl)
theorem dX0_owe_6 : decode cX0_owe 6 = .ok (.iload_n 3, 1) := dk_29 (dk_at dksX0_owe_0 6 rfl rfl)
theorem dX0_owe_7 : decode cX0_owe 7 = .ok (.invokevirtual 23, 3) := dk_182 0 23 (dk_at dksX0_owe_0 7 rfl rfl)
theorem dX0_owe_10 : decode cX0_owe 10 = .ok (.i2l, 1) := dk_133 (dk_at dksX0_owe_0 10 rfl rfl)
theorem dX0_owe_11 : decode cX0_owe 11 = .ok (.lastore, 1) := dk_80 (dk_at dksX0_owe_0 11 rfl rfl)
theorem dX0_owe_12 : decode cX0_owe 12 = .ok (.goto 15, 3) := dk_167 0 15 (dk_at dksX0_owe_0 12 rfl rfl)
theorem dX0_owe_15 : decode cX0_owe 15 = .ok (.astore 5, 2) := dk_58 5 (dk_at dksX0_owe_0 15 rfl rfl)
theorem dX0_owe_17 : decode cX0_owe 17 = .ok (.iconst 1, 1) := dk_4 (dk_at dksX0_owe_0 17 rfl rfl)
theorem dX0_owe_18 : decode cX0_owe 18 = .ok (.ireturn, 1) := dk_172 (dk_at dksX0_owe_0 18 rfl rfl)
theorem dX0_owe_19 : decode cX0_owe 19 = .ok (.astore 5, 2) := dk_58 5 (dk_at dksX0_owe_0 19 rfl rfl)
theorem dX0_owe_21 : decode cX0_owe 21 = .ok (.iconst 2, 1) := dk_5 (dk_at dksX0_owe_0 21 rfl rfl)
theorem dX0_owe_22 : decode cX0_owe 22 = .ok (.ireturn, 1) := dk_172 (dk_at dksX0_owe_0 22 rfl rfl)
theorem dX0_owe_23 : decode cX0_owe 23 = .ok (.astore 5, 2) := dk_58 5 (dk_at dksX0_owe_1 0 rfl rfl)
theorem dX0_owe_25 : decode cX0_owe 25 = .ok (.iconst 3, 1) := dk_6 (dk_at dksX0_owe_1 2 rfl rfl)
theorem dX0_owe_26 : decode cX0_owe 26 = .ok (.ireturn, 1) := dk_172 (dk_at dksX0_owe_1 3 rfl rfl)
theorem dX0_owe_27 : decode cX0_owe 27 = .ok (.iconst 0, 1) := dk_3 (dk_at dksX0_owe_1 4 rfl rfl)
theorem dX0_owe_28 : decode cX0_owe 28 = .ok (.ireturn, 1) := dk_172 (dk_at dksX0_owe_1 5 rfl rfl)
abbrev cX0_pay : ByteArray := method_6_code
def yX0_pay : MethodName := ⟨RX0, "pay", "(LClearingHouse;III[J)I"⟩
def dkwX0_pay_1 : List UInt8 := [58, 5, 6, 172, 58, 5, 7, 172, 3, 172]
abbrev dktX0_pay_1 : List UInt8 := dkwX0_pay_1 ++ []
def dkwX0_pay_0 : List UInt8 := [25, 4, 3, 42, 27, 28, 29, 182, 0, 27, 133, 80, 167, 0, 19, 58, 5, 4, 172, 58, 5, 5, 172]
abbrev dktX0_pay_0 : List UInt8 := dkwX0_pay_0 ++ dktX0_pay_1
theorem dksX0_pay_0 : cX0_pay.data.toList.drop 0 = dktX0_pay_0 := by decide +kernel
theorem dksX0_pay_1 : cX0_pay.data.toList.drop 23 = dktX0_pay_1 := dk_seg dksX0_pay_0 23 rfl rfl
theorem dX0_pay_0 : decode cX0_pay 0 = .ok (.aload 4, 2) := dk_25 4 (dk_at dksX0_pay_0 0 rfl rfl)
theorem dX0_pay_2 : decode cX0_pay 2 = .ok (.iconst 0, 1) := dk_3 (dk_at dksX0_pay_0 2 rfl rfl)
theorem dX0_pay_3 : decode cX0_pay 3 = .ok (.aload_n 0, 1) := dk_42 (dk_at dksX0_pay_0 3 rfl rfl)
theorem dX0_pay_4 : decode cX0_pay 4 = .ok (.iload_n 1, 1) := dk_27 (dk_at dksX0_pay_0 4 rfl rfl)
theorem dX0_pay_5 : decode cX0_pay 5 = .ok (.iload_n 2, 1) := dk_28 (dk_at dksX0_pay_0 5 rfl rfl)
theorem dX0_pay_6 : decode cX0_pay 6 = .ok (.iload_n 3, 1) := dk_29 (dk_at dksX0_pay_0 6 rfl rfl)
theorem dX0_pay_7 : decode cX0_pay 7 = .ok (.invokevirtual 27, 3) := dk_182 0 27 (dk_at dksX0_pay_0 7 rfl rfl)
theorem dX0_pay_10 : decode cX0_pay 10 = .ok (.i2l, 1) := dk_133 (dk_at dksX0_pay_0 10 rfl rfl)
theorem dX0_pay_11 : decode cX0_pay 11 = .ok (.lastore, 1) := dk_80 (dk_at dksX0_pay_0 11 rfl rfl)
theorem dX0_pay_12 : decode cX0_pay 12 = .ok (.goto 19, 3) := dk_167 0 19 (dk_at dksX0_pay_0 12 rfl rfl)
theorem dX0_pay_15 : decode cX0_pay 15 = .ok (.astore 5, 2) := dk_58 5 (dk_at dksX0_pay_0 15 rfl rfl)
theorem dX0_pay_17 : decode cX0_pay 17 = .ok (.iconst 1, 1) := dk_4 (dk_at dksX0_pay_0 17 rfl rfl)
theorem dX0_pay_18 : decode cX0_pay 18 = .ok (.ireturn, 1) := dk_172 (dk_at dksX0_pay_0 18 rfl rfl)
theorem dX0_pay_19 : decode cX0_pay 19 = .ok (.astore 5, 2) := dk_58 5 (dk_at dksX0_pay_0 19 rfl rfl)
theorem dX0_pay_21 : decode cX0_pay 21 = .ok (.iconst 2, 1) := dk_5 (dk_at dksX0_pay_0 21 rfl rfl)
theorem dX0_pay_22 : decode cX0_pay 22 = .ok (.ireturn, 1) := dk_172 (dk_at dksX0_pay_0 22 rfl rfl)
theorem dX0_pay_23 : decode cX0_pay 23 = .ok (.astore 5, 2) := dk_58 5 (dk_at dksX0_pay_1 0 rfl rfl)
theorem dX0_pay_25 : decode cX0_pay 25 = .ok (.iconst 3, 1) := dk_6 (dk_at dksX0_pay_1 2 rfl rfl)
theorem dX0_pay_26 : decode cX0_pay 26 = .ok (.ireturn, 1) := dk_172 (dk_at dksX0_pay_1 3 rfl rfl)
theorem dX0_pay_27 : decode cX0_pay 27 = .ok (.astore 5, 2) := dk_58 5 (dk_at dksX0_pay_1 4 rfl rfl)
theorem dX0_pay_29 : decode cX0_pay 29 = .ok (.iconst 4, 1) := dk_7 (dk_at dksX0_pay_1 6 rfl rfl)
theorem dX0_pay_30 : decode cX0_pay 30 = .ok (.ireturn, 1) := dk_172 (dk_at dksX0_pay_1 7 rfl rfl)
theorem dX0_pay_31 : decode cX0_pay 31 = .ok (.iconst 0, 1) := dk_3 (dk_at dksX0_pay_1 8 rfl rfl)
theorem dX0_pay_32 : decode cX0_pay 32 = .ok (.ireturn, 1) := dk_172 (dk_at dksX0_pay_1 9 rfl rfl)
abbrev cX0_netPair : ByteArray := method_7_code
def yX0_netPair : MethodName := ⟨RX0, "netPair", "(LClearingHouse;II[J)I"⟩
def dkwX0_netPair_0 : List UInt8 := [45, 3, 42, 27, 28, 182, 0, 32, 133, 80, 167, 0, 11, 58, 4, 4, 172, 58, 4, 5, 172, 3, 172]
abbrev dktX0_netPair_0 : List UInt8 := dkwX0_netPair_0 ++ []
theorem dksX0_netPair_0 : cX0_netPair.data.toList.drop 0 = dktX0_netPair_0 := by decide +kernel
theorem dX0_netPair_0 : decode cX0_netPair 0 = .ok (.aload_n 3, 1) := dk_45 (dk_at dksX0_netPair_0 0 rfl rfl)
theorem dX0_netPair_1 : decode cX0_netPair 1 = .ok (.iconst 0, 1) := dk_3 (dk_at dksX0_netPair_0 1 rfl rfl)
theorem dX0_netPair_2 : decode cX0_netPair 2 = .ok (.aload_n 0, 1) := dk_42 (dk_at dksX0_netPair_0 2 rfl rfl)
theorem dX0_netPair_3 : decode cX0_netPair 3 = .ok (.iload_n 1, 1) := dk_27 (dk_at dksX0_netPair_0 3 rfl rfl)
theorem dX0_netPair_4 : decode cX0_netPair 4 = .ok (.iload_n 2, 1) := dk_28 (dk_at dksX0_netPair_0 4 rfl rfl)
theorem dX0_netPair_5 : decode cX0_netPair 5 = .ok (.invokevirtual 32, 3) := dk_182 0 32 (dk_at dksX0_netPair_0 5 rfl rfl)
theorem dX0_netPair_8 : decode cX0_netPair 8 = .ok (.i2l, 1) := dk_133 (dk_at dksX0_netPair_0 8 rfl rfl)
theorem dX0_netPair_9 : decode cX0_netPair 9 = .ok (.lastore, 1) := dk_80 (dk_at dksX0_netPair_0 9 rfl rfl)
theorem dX0_netPair_10 : decode cX0_netPair 10 = .ok (.goto 11, 3) := dk_167 0 11 (dk_at dksX0_netPair_0 10 rfl rfl)
theorem dX0_netPair_13 : decode cX0_netPair 13 = .ok (.astore 4, 2) := dk_58 4 (dk_at dksX0_netPair_0 13 rfl rfl)
theorem dX0_netPair_15 : decode cX0_netPair 15 = .ok (.iconst 1, 1) := dk_4 (dk_at dksX0_netPair_0 15 rfl rfl)
theorem dX0_netPair_16 : decode cX0_netPair 16 = .ok (.ireturn, 1) := dk_172 (dk_at dksX0_netPair_0 16 rfl rfl)
theorem dX0_netPair_17 : decode cX0_netPair 17 = .ok (.astore 4, 2) := dk_58 4 (dk_at dksX0_netPair_0 17 rfl rfl)
theorem dX0_netPair_19 : decode cX0_netPair 19 = .ok (.iconst 2, 1) := dk_5 (dk_at dksX0_netPair_0 19 rfl rfl)
theorem dX0_netPair_20 : decode cX0_netPair 20 = .ok (.ireturn, 1) := dk_172 (dk_at dksX0_netPair_0 20 rfl rfl)
theorem dX0_netPair_21 : decode cX0_netPair 21 = .ok (.iconst 0, 1) := dk_3 (dk_at dksX0_netPair_0 21 rfl rfl)
theorem dX0_netPair_22 : decode cX0_netPair 22 = .ok (.ireturn, 1) := dk_172 (dk_at dksX0_netPair_0 22 rfl rfl)
abbrev cX0_netCycle : ByteArray := method_8_code
def yX0_netCycle : MethodName := ⟨RX0, "netCycle", "(LClearingHouse;[J)I"⟩
def dkwX0_netCycle_0 : List UInt8 := [43, 3, 42, 182, 0, 35, 133, 80, 167, 0, 6, 77, 4, 172, 3, 172]
abbrev dktX0_netCycle_0 : List UInt8 := dkwX0_netCycle_0 ++ []
theorem dksX0_netCycle_0 : cX0_netCycle.data.toList.drop 0 = dktX0_netCycle_0 := by decide +kernel
theorem dX0_netCycle_0 : decode cX0_netCycle 0 = .ok (.aload_n 1, 1) := dk_43 (dk_at dksX0_netCycle_0 0 rfl rfl)
theorem dX0_netCycle_1 : decode cX0_netCycle 1 = .ok (.iconst 0, 1) := dk_3 (dk_at dksX0_netCycle_0 1 rfl rfl)
theorem dX0_netCycle_2 : decode cX0_netCycle 2 = .ok (.aload_n 0, 1) := dk_42 (dk_at dksX0_netCycle_0 2 rfl rfl)
theorem dX0_netCycle_3 : decode cX0_netCycle 3 = .ok (.invokevirtual 35, 3) := dk_182 0 35 (dk_at dksX0_netCycle_0 3 rfl rfl)
theorem dX0_netCycle_6 : decode cX0_netCycle 6 = .ok (.i2l, 1) := dk_133 (dk_at dksX0_netCycle_0 6 rfl rfl)
theorem dX0_netCycle_7 : decode cX0_netCycle 7 = .ok (.lastore, 1) := dk_80 (dk_at dksX0_netCycle_0 7 rfl rfl)
theorem dX0_netCycle_8 : decode cX0_netCycle 8 = .ok (.goto 6, 3) := dk_167 0 6 (dk_at dksX0_netCycle_0 8 rfl rfl)
theorem dX0_netCycle_11 : decode cX0_netCycle 11 = .ok (.astore_n 2, 1) := dk_77 (dk_at dksX0_netCycle_0 11 rfl rfl)
theorem dX0_netCycle_12 : decode cX0_netCycle 12 = .ok (.iconst 1, 1) := dk_4 (dk_at dksX0_netCycle_0 12 rfl rfl)
theorem dX0_netCycle_13 : decode cX0_netCycle 13 = .ok (.ireturn, 1) := dk_172 (dk_at dksX0_netCycle_0 13 rfl rfl)
theorem dX0_netCycle_14 : decode cX0_netCycle 14 = .ok (.iconst 0, 1) := dk_3 (dk_at dksX0_netCycle_0 14 rfl rfl)
theorem dX0_netCycle_15 : decode cX0_netCycle 15 = .ok (.ireturn, 1) := dk_172 (dk_at dksX0_netCycle_0 15 rfl rfl)
abbrev cX0_declareDefault : ByteArray := method_9_code
def yX0_declareDefault : MethodName := ⟨RX0, "declareDefault", "(LClearingHouse;I[J)I"⟩
def dkwX0_declareDefault_0 : List UInt8 := [44, 3, 42, 27, 182, 0, 41, 133, 80, 167, 0, 9, 78, 4, 172, 78, 5, 172, 3, 172]
abbrev dktX0_declareDefault_0 : List UInt8 := dkwX0_declareDefault_0 ++ []
theorem dksX0_declareDefault_0 : cX0_declareDefault.data.toList.drop 0 = dktX0_declareDefault_0 := by decide +kernel
theorem dX0_declareDefault_0 : decode cX0_declareDefault 0 = .ok (.aload_n 2, 1) := dk_44 (dk_at dksX0_declareDefault_0 0 rfl rfl)
theorem dX0_declareDefault_1 : decode cX0_declareDefault 1 = .ok (.iconst 0, 1) := dk_3 (dk_at dksX0_declareDefault_0 1 rfl rfl)
theorem dX0_declareDefault_2 : decode cX0_declareDefault 2 = .ok (.aload_n 0, 1) := dk_42 (dk_at dksX0_declareDefault_0 2 rfl rfl)
theorem dX0_declareDefault_3 : decode cX0_declareDefault 3 = .ok (.iload_n 1, 1) := dk_27 (dk_at dksX0_declareDefault_0 3 rfl rfl)
theorem dX0_declareDefault_4 : decode cX0_declareDefault 4 = .ok (.invokevirtual 41, 3) := dk_182 0 41 (dk_at dksX0_declareDefault_0 4 rfl rfl)
theorem dX0_declareDefault_7 : decode cX0_declareDefault 7 = .ok (.i2l, 1) := dk_133 (dk_at dksX0_declareDefault_0 7 rfl rfl)
theorem dX0_declareDefault_8 : decode cX0_declareDefault 8 = .ok (.lastore, 1) := dk_80 (dk_at dksX0_declareDefault_0 8 rfl rfl)
theorem dX0_declareDefault_9 : decode cX0_declareDefault 9 = .ok (.goto 9, 3) := dk_167 0 9 (dk_at dksX0_declareDefault_0 9 rfl rfl)
theorem dX0_declareDefault_12 : decode cX0_declareDefault 12 = .ok (.astore_n 3, 1) := dk_78 (dk_at dksX0_declareDefault_0 12 rfl rfl)
theorem dX0_declareDefault_13 : decode cX0_declareDefault 13 = .ok (.iconst 1, 1) := dk_4 (dk_at dksX0_declareDefault_0 13 rfl rfl)
theorem dX0_declareDefault_14 : decode cX0_declareDefault 14 = .ok (.ireturn, 1) := dk_172 (dk_at dksX0_declareDefault_0 14 rfl rfl)
theorem dX0_declareDefault_15 : decode cX0_declareDefault 15 = .ok (.astore_n 3, 1) := dk_78 (dk_at dksX0_declareDefault_0 15 rfl rfl)
theorem dX0_declareDefault_16 : decode cX0_declareDefault 16 = .ok (.iconst 2, 1) := dk_5 (dk_at dksX0_declareDefault_0 16 rfl rfl)
theorem dX0_declareDefault_17 : decode cX0_declareDefault 17 = .ok (.ireturn, 1) := dk_172 (dk_at dksX0_declareDefault_0 17 rfl rfl)
theorem dX0_declareDefault_18 : decode cX0_declareDefault 18 = .ok (.iconst 0, 1) := dk_3 (dk_at dksX0_declareDefault_0 18 rfl rfl)
theorem dX0_declareDefault_19 : decode cX0_declareDefault 19 = .ok (.ireturn, 1) := dk_172 (dk_at dksX0_declareDefault_0 19 rfl rfl)
abbrev cX0_cash : ByteArray := method_10_code
def yX0_cash : MethodName := ⟨RX0, "cash", "(LClearingHouse;I[J)I"⟩
def dkwX0_cash_0 : List UInt8 := [44, 3, 42, 27, 182, 0, 44, 133, 80, 167, 0, 6, 78, 4, 172, 3, 172]
abbrev dktX0_cash_0 : List UInt8 := dkwX0_cash_0 ++ []
theorem dksX0_cash_0 : cX0_cash.data.toList.drop 0 = dktX0_cash_0 := by decide +kernel
theorem dX0_cash_0 : decode cX0_cash 0 = .ok (.aload_n 2, 1) := dk_44 (dk_at dksX0_cash_0 0 rfl rfl)
theorem dX0_cash_1 : decode cX0_cash 1 = .ok (.iconst 0, 1) := dk_3 (dk_at dksX0_cash_0 1 rfl rfl)
theorem dX0_cash_2 : decode cX0_cash 2 = .ok (.aload_n 0, 1) := dk_42 (dk_at dksX0_cash_0 2 rfl rfl)
theorem dX0_cash_3 : decode cX0_cash 3 = .ok (.iload_n 1, 1) := dk_27 (dk_at dksX0_cash_0 3 rfl rfl)
theorem dX0_cash_4 : decode cX0_cash 4 = .ok (.invokevirtual 44, 3) := dk_182 0 44 (dk_at dksX0_cash_0 4 rfl rfl)
theorem dX0_cash_7 : decode cX0_cash 7 = .ok (.i2l, 1) := dk_133 (dk_at dksX0_cash_0 7 rfl rfl)
theorem dX0_cash_8 : decode cX0_cash 8 = .ok (.lastore, 1) := dk_80 (dk_at dksX0_cash_0 8 rfl rfl)
theorem dX0_cash_9 : decode cX0_cash 9 = .ok (.goto 6, 3) := dk_167 0 6 (dk_at dksX0_cash_0 9 rfl rfl)
theorem dX0_cash_12 : decode cX0_cash 12 = .ok (.astore_n 3, 1) := dk_78 (dk_at dksX0_cash_0 12 rfl rfl)
theorem dX0_cash_13 : decode cX0_cash 13 = .ok (.iconst 1, 1) := dk_4 (dk_at dksX0_cash_0 13 rfl rfl)
theorem dX0_cash_14 : decode cX0_cash 14 = .ok (.ireturn, 1) := dk_172 (dk_at dksX0_cash_0 14 rfl rfl)
theorem dX0_cash_15 : decode cX0_cash 15 = .ok (.iconst 0, 1) := dk_3 (dk_at dksX0_cash_0 15 rfl rfl)
theorem dX0_cash_16 : decode cX0_cash 16 = .ok (.ireturn, 1) := dk_172 (dk_at dksX0_cash_0 16 rfl rfl)
abbrev cX0_debt : ByteArray := method_11_code
def yX0_debt : MethodName := ⟨RX0, "debt", "(LClearingHouse;II[J)I"⟩
def dkwX0_debt_0 : List UInt8 := [45, 3, 42, 27, 28, 182, 0, 47, 133, 80, 167, 0, 7, 58, 4, 4, 172, 3, 172]
abbrev dktX0_debt_0 : List UInt8 := dkwX0_debt_0 ++ []
theorem dksX0_debt_0 : cX0_debt.data.toList.drop 0 = dktX0_debt_0 := by decide +kernel
theorem dX0_debt_0 : decode cX0_debt 0 = .ok (.aload_n 3, 1) := dk_45 (dk_at dksX0_debt_0 0 rfl rfl)
theorem dX0_debt_1 : decode cX0_debt 1 = .ok (.iconst 0, 1) := dk_3 (dk_at dksX0_debt_0 1 rfl rfl)
theorem dX0_debt_2 : decode cX0_debt 2 = .ok (.aload_n 0, 1) := dk_42 (dk_at dksX0_debt_0 2 rfl rfl)
theorem dX0_debt_3 : decode cX0_debt 3 = .ok (.iload_n 1, 1) := dk_27 (dk_at dksX0_debt_0 3 rfl rfl)
theorem dX0_debt_4 : decode cX0_debt 4 = .ok (.iload_n 2, 1) := dk_28 (dk_at dksX0_debt_0 4 rfl rfl)
theorem dX0_debt_5 : decode cX0_debt 5 = .ok (.invokevirtual 47, 3) := dk_182 0 47 (dk_at dksX0_debt_0 5 rfl rfl)
theorem dX0_debt_8 : decode cX0_debt 8 = .ok (.i2l, 1) := dk_133 (dk_at dksX0_debt_0 8 rfl rfl)
theorem dX0_debt_9 : decode cX0_debt 9 = .ok (.lastore, 1) := dk_80 (dk_at dksX0_debt_0 9 rfl rfl)
theorem dX0_debt_10 : decode cX0_debt 10 = .ok (.goto 7, 3) := dk_167 0 7 (dk_at dksX0_debt_0 10 rfl rfl)
theorem dX0_debt_13 : decode cX0_debt 13 = .ok (.astore 4, 2) := dk_58 4 (dk_at dksX0_debt_0 13 rfl rfl)
theorem dX0_debt_15 : decode cX0_debt 15 = .ok (.iconst 1, 1) := dk_4 (dk_at dksX0_debt_0 15 rfl rfl)
theorem dX0_debt_16 : decode cX0_debt 16 = .ok (.ireturn, 1) := dk_172 (dk_at dksX0_debt_0 16 rfl rfl)
theorem dX0_debt_17 : decode cX0_debt 17 = .ok (.iconst 0, 1) := dk_3 (dk_at dksX0_debt_0 17 rfl rfl)
theorem dX0_debt_18 : decode cX0_debt 18 = .ok (.ireturn, 1) := dk_172 (dk_at dksX0_debt_0 18 rfl rfl)
abbrev cX0_claims : ByteArray := method_12_code
def yX0_claims : MethodName := ⟨RX0, "claims", "(LClearingHouse;I[J)I"⟩
def dkwX0_claims_0 : List UInt8 := [44, 3, 42, 27, 182, 0, 50, 133, 80, 167, 0, 6, 78, 4, 172, 3, 172]
abbrev dktX0_claims_0 : List UInt8 := dkwX0_claims_0 ++ []
theorem dksX0_claims_0 : cX0_claims.data.toList.drop 0 = dktX0_claims_0 := by decide +kernel
theorem dX0_claims_0 : decode cX0_claims 0 = .ok (.aload_n 2, 1) := dk_44 (dk_at dksX0_claims_0 0 rfl rfl)
theorem dX0_claims_1 : decode cX0_claims 1 = .ok (.iconst 0, 1) := dk_3 (dk_at dksX0_claims_0 1 rfl rfl)
theorem dX0_claims_2 : decode cX0_claims 2 = .ok (.aload_n 0, 1) := dk_42 (dk_at dksX0_claims_0 2 rfl rfl)
theorem dX0_claims_3 : decode cX0_claims 3 = .ok (.iload_n 1, 1) := dk_27 (dk_at dksX0_claims_0 3 rfl rfl)
theorem dX0_claims_4 : decode cX0_claims 4 = .ok (.invokevirtual 50, 3) := dk_182 0 50 (dk_at dksX0_claims_0 4 rfl rfl)
theorem dX0_claims_7 : decode cX0_claims 7 = .ok (.i2l, 1) := dk_133 (dk_at dksX0_claims_0 7 rfl rfl)
theorem dX0_claims_8 : decode cX0_claims 8 = .ok (.lastore, 1) := dk_80 (dk_at dksX0_claims_0 8 rfl rfl)
theorem dX0_claims_9 : decode cX0_claims 9 = .ok (.goto 6, 3) := dk_167 0 6 (dk_at dksX0_claims_0 9 rfl rfl)
theorem dX0_claims_12 : decode cX0_claims 12 = .ok (.astore_n 3, 1) := dk_78 (dk_at dksX0_claims_0 12 rfl rfl)
theorem dX0_claims_13 : decode cX0_claims 13 = .ok (.iconst 1, 1) := dk_4 (dk_at dksX0_claims_0 13 rfl rfl)
theorem dX0_claims_14 : decode cX0_claims 14 = .ok (.ireturn, 1) := dk_172 (dk_at dksX0_claims_0 14 rfl rfl)
theorem dX0_claims_15 : decode cX0_claims 15 = .ok (.iconst 0, 1) := dk_3 (dk_at dksX0_claims_0 15 rfl rfl)
theorem dX0_claims_16 : decode cX0_claims 16 = .ok (.ireturn, 1) := dk_172 (dk_at dksX0_claims_0 16 rfl rfl)
abbrev cX0_obligations : ByteArray := method_13_code
def yX0_obligations : MethodName := ⟨RX0, "obligations", "(LClearingHouse;I[J)I"⟩
def dkwX0_obligations_0 : List UInt8 := [44, 3, 42, 27, 182, 0, 53, 133, 80, 167, 0, 6, 78, 4, 172, 3, 172]
abbrev dktX0_obligations_0 : List UInt8 := dkwX0_obligations_0 ++ []
theorem dksX0_obligations_0 : cX0_obligations.data.toList.drop 0 = dktX0_obligations_0 := by decide +kernel
theorem dX0_obligations_0 : decode cX0_obligations 0 = .ok (.aload_n 2, 1) := dk_44 (dk_at dksX0_obligations_0 0 rfl rfl)
theorem dX0_obligations_1 : decode cX0_obligations 1 = .ok (.iconst 0, 1) := dk_3 (dk_at dksX0_obligations_0 1 rfl rfl)
theorem dX0_obligations_2 : decode cX0_obligations 2 = .ok (.aload_n 0, 1) := dk_42 (dk_at dksX0_obligations_0 2 rfl rfl)
theorem dX0_obligations_3 : decode cX0_obligations 3 = .ok (.iload_n 1, 1) := dk_27 (dk_at dksX0_obligations_0 3 rfl rfl)
theorem dX0_obligations_4 : decode cX0_obligations 4 = .ok (.invokevirtual 53, 3) := dk_182 0 53 (dk_at dksX0_obligations_0 4 rfl rfl)
theorem dX0_obligations_7 : decode cX0_obligations 7 = .ok (.i2l, 1) := dk_133 (dk_at dksX0_obligations_0 7 rfl rfl)
theorem dX0_obligations_8 : decode cX0_obligations 8 = .ok (.lastore, 1) := dk_80 (dk_at dksX0_obligations_0 8 rfl rfl)
theorem dX0_obligations_9 : decode cX0_obligations 9 = .ok (.goto 6, 3) := dk_167 0 6 (dk_at dksX0_obligations_0 9 rfl rfl)
theorem dX0_obligations_12 : decode cX0_obligations 12 = .ok (.astore_n 3, 1) := dk_78 (dk_at dksX0_obligations_0 12 rfl rfl)
theorem dX0_obligations_13 : decode cX0_obligations 13 = .ok (.iconst 1, 1) := dk_4 (dk_at dksX0_obligations_0 13 rfl rfl)
theorem dX0_obligations_14 : decode cX0_obligations 14 = .ok (.ireturn, 1) := dk_172 (dk_at dksX0_obligations_0 14 rfl rfl)
theorem dX0_obligations_15 : decode cX0_obligations 15 = .ok (.iconst 0, 1) := dk_3 (dk_at dksX0_obligations_0 15 rfl rfl)
theorem dX0_obligations_16 : decode cX0_obligations 16 = .ok (.ireturn, 1) := dk_172 (dk_at dksX0_obligations_0 16 rfl rfl)
abbrev cX0_netPosition : ByteArray := method_14_code
def yX0_netPosition : MethodName := ⟨RX0, "netPosition", "(LClearingHouse;I[J)I"⟩
def dkwX0_netPosition_0 : List UInt8 := [44, 3, 42, 27, 182, 0, 56, 133, 80, 167, 0, 6, 78, 4, 172, 3, 172]
abbrev dktX0_netPosition_0 : List UInt8 := dkwX0_netPosition_0 ++ []
theorem dksX0_netPosition_0 : cX0_netPosition.data.toList.drop 0 = dktX0_netPosition_0 := by decide +kernel
theorem dX0_netPosition_0 : decode cX0_netPosition 0 = .ok (.aload_n 2, 1) := dk_44 (dk_at dksX0_netPosition_0 0 rfl rfl)
theorem dX0_netPosition_1 : decode cX0_netPosition 1 = .ok (.iconst 0, 1) := dk_3 (dk_at dksX0_netPosition_0 1 rfl rfl)
theorem dX0_netPosition_2 : decode cX0_netPosition 2 = .ok (.aload_n 0, 1) := dk_42 (dk_at dksX0_netPosition_0 2 rfl rfl)
theorem dX0_netPosition_3 : decode cX0_netPosition 3 = .ok (.iload_n 1, 1) := dk_27 (dk_at dksX0_netPosition_0 3 rfl rfl)
theorem dX0_netPosition_4 : decode cX0_netPosition 4 = .ok (.invokevirtual 56, 3) := dk_182 0 56 (dk_at dksX0_netPosition_0 4 rfl rfl)
theorem dX0_netPosition_7 : decode cX0_netPosition 7 = .ok (.i2l, 1) := dk_133 (dk_at dksX0_netPosition_0 7 rfl rfl)
theorem dX0_netPosition_8 : decode cX0_netPosition 8 = .ok (.lastore, 1) := dk_80 (dk_at dksX0_netPosition_0 8 rfl rfl)
theorem dX0_netPosition_9 : decode cX0_netPosition 9 = .ok (.goto 6, 3) := dk_167 0 6 (dk_at dksX0_netPosition_0 9 rfl rfl)
theorem dX0_netPosition_12 : decode cX0_netPosition 12 = .ok (.astore_n 3, 1) := dk_78 (dk_at dksX0_netPosition_0 12 rfl rfl)
theorem dX0_netPosition_13 : decode cX0_netPosition 13 = .ok (.iconst 1, 1) := dk_4 (dk_at dksX0_netPosition_0 13 rfl rfl)
theorem dX0_netPosition_14 : decode cX0_netPosition 14 = .ok (.ireturn, 1) := dk_172 (dk_at dksX0_netPosition_0 14 rfl rfl)
theorem dX0_netPosition_15 : decode cX0_netPosition 15 = .ok (.iconst 0, 1) := dk_3 (dk_at dksX0_netPosition_0 15 rfl rfl)
theorem dX0_netPosition_16 : decode cX0_netPosition 16 = .ok (.ireturn, 1) := dk_172 (dk_at dksX0_netPosition_0 16 rfl rfl)
abbrev cX0_isInsolvent : ByteArray := method_15_code
def yX0_isInsolvent : MethodName := ⟨RX0, "isInsolvent", "(LClearingHouse;I[J)I"⟩
def dkwX0_isInsolvent_0 : List UInt8 := [44, 3, 42, 27, 182, 0, 59, 153, 0, 7, 10, 167, 0, 4, 9, 80, 167, 0, 6, 78, 4, 172, 3, 172]
abbrev dktX0_isInsolvent_0 : List UInt8 := dkwX0_isInsolvent_0 ++ []
theorem dksX0_isInsolvent_0 : cX0_isInsolvent.data.toList.drop 0 = dktX0_isInsolvent_0 := by decide +kernel
theorem dX0_isInsolvent_0 : decode cX0_isInsolvent 0 = .ok (.aload_n 2, 1) := dk_44 (dk_at dksX0_isInsolvent_0 0 rfl rfl)
theorem dX0_isInsolvent_1 : decode cX0_isInsolvent 1 = .ok (.iconst 0, 1) := dk_3 (dk_at dksX0_isInsolvent_0 1 rfl rfl)
theorem dX0_isInsolvent_2 : decode cX0_isInsolvent 2 = .ok (.aload_n 0, 1) := dk_42 (dk_at dksX0_isInsolvent_0 2 rfl rfl)
theorem dX0_isInsolvent_3 : decode cX0_isInsolvent 3 = .ok (.iload_n 1, 1) := dk_27 (dk_at dksX0_isInsolvent_0 3 rfl rfl)
theorem dX0_isInsolvent_4 : decode cX0_isInsolvent 4 = .ok (.invokevirtual 59, 3) := dk_182 0 59 (dk_at dksX0_isInsolvent_0 4 rfl rfl)
theorem dX0_isInsolvent_7 : decode cX0_isInsolvent 7 = .ok (.ifCond .eq 7, 3) := dk_153 0 7 (dk_at dksX0_isInsolvent_0 7 rfl rfl)
theorem dX0_isInsolvent_10 : decode cX0_isInsolvent 10 = .ok (.lconst 1, 1) := dk_10 (dk_at dksX0_isInsolvent_0 10 rfl rfl)
theorem dX0_isInsolvent_11 : decode cX0_isInsolvent 11 = .ok (.goto 4, 3) := dk_167 0 4 (dk_at dksX0_isInsolvent_0 11 rfl rfl)
theorem dX0_isInsolvent_14 : decode cX0_isInsolvent 14 = .ok (.lconst 0, 1) := dk_9 (dk_at dksX0_isInsolvent_0 14 rfl rfl)
theorem dX0_isInsolvent_15 : decode cX0_isInsolvent 15 = .ok (.lastore, 1) := dk_80 (dk_at dksX0_isInsolvent_0 15 rfl rfl)
theorem dX0_isInsolvent_16 : decode cX0_isInsolvent 16 = .ok (.goto 6, 3) := dk_167 0 6 (dk_at dksX0_isInsolvent_0 16 rfl rfl)
theorem dX0_isInsolvent_19 : decode cX0_isInsolvent 19 = .ok (.astore_n 3, 1) := dk_78 (dk_at dksX0_isInsolvent_0 19 rfl rfl)
theorem dX0_isInsolvent_20 : decode cX0_isInsolvent 20 = .ok (.iconst 1, 1) := dk_4 (dk_at dksX0_isInsolvent_0 20 rfl rfl)
theorem dX0_isInsolvent_21 : decode cX0_isInsolvent 21 = .ok (.ireturn, 1) := dk_172 (dk_at dksX0_isInsolvent_0 21 rfl rfl)
theorem dX0_isInsolvent_22 : decode cX0_isInsolvent 22 = .ok (.iconst 0, 1) := dk_3 (dk_at dksX0_isInsolvent_0 22 rfl rfl)
theorem dX0_isInsolvent_23 : decode cX0_isInsolvent 23 = .ok (.ireturn, 1) := dk_172 (dk_at dksX0_isInsolvent_0 23 rfl rfl)
abbrev cX0_partyAtRank : ByteArray := method_16_code
def yX0_partyAtRank : MethodName := ⟨RX0, "partyAtRank", "(LClearingHouse;I[J)I"⟩
def dkwX0_partyAtRank_0 : List UInt8 := [44, 3, 42, 27, 182, 0, 63, 133, 80, 167, 0, 6, 78, 4, 172, 3, 172]
abbrev dktX0_partyAtRank_0 : List UInt8 := dkwX0_partyAtRank_0 ++ []
theorem dksX0_partyAtRank_0 : cX0_partyAtRank.data.toList.drop 0 = dktX0_partyAtRank_0 := by decide +kernel
theorem dX0_partyAtRank_0 : decode cX0_partyAtRank 0 = .ok (.aload_n 2, 1) := dk_44 (dk_at dksX0_partyAtRank_0 0 rfl rfl)
theorem dX0_partyAtRank_1 : decode cX0_partyAtRank 1 = .ok (.iconst 0, 1) := dk_3 (dk_at dksX0_partyAtRank_0 1 rfl rfl)
theorem dX0_partyAtRank_2 : decode cX0_partyAtRank 2 = .ok (.aload_n 0, 1) := dk_42 (dk_at dksX0_partyAtRank_0 2 rfl rfl)
theorem dX0_partyAtRank_3 : decode cX0_partyAtRank 3 = .ok (.iload_n 1, 1) := dk_27 (dk_at dksX0_partyAtRank_0 3 rfl rfl)
theorem dX0_partyAtRank_4 : decode cX0_partyAtRank 4 = .ok (.invokevirtual 63, 3) := dk_182 0 63 (dk_at dksX0_partyAtRank_0 4 rfl rfl)
theorem dX0_partyAtRank_7 : decode cX0_partyAtRank 7 = .ok (.i2l, 1) := dk_133 (dk_at dksX0_partyAtRank_0 7 rfl rfl)
theorem dX0_partyAtRank_8 : decode cX0_partyAtRank 8 = .ok (.lastore, 1) := dk_80 (dk_at dksX0_partyAtRank_0 8 rfl rfl)
theorem dX0_partyAtRank_9 : decode cX0_partyAtRank 9 = .ok (.goto 6, 3) := dk_167 0 6 (dk_at dksX0_partyAtRank_0 9 rfl rfl)
theorem dX0_partyAtRank_12 : decode cX0_partyAtRank 12 = .ok (.astore_n 3, 1) := dk_78 (dk_at dksX0_partyAtRank_0 12 rfl rfl)
theorem dX0_partyAtRank_13 : decode cX0_partyAtRank 13 = .ok (.iconst 1, 1) := dk_4 (dk_at dksX0_partyAtRank_0 13 rfl rfl)
theorem dX0_partyAtRank_14 : decode cX0_partyAtRank 14 = .ok (.ireturn, 1) := dk_172 (dk_at dksX0_partyAtRank_0 14 rfl rfl)
theorem dX0_partyAtRank_15 : decode cX0_partyAtRank 15 = .ok (.iconst 0, 1) := dk_3 (dk_at dksX0_partyAtRank_0 15 rfl rfl)
theorem dX0_partyAtRank_16 : decode cX0_partyAtRank 16 = .ok (.ireturn, 1) := dk_172 (dk_at dksX0_partyAtRank_0 16 rfl rfl)
abbrev cX0_cycleSize : ByteArray := method_17_code
def yX0_cycleSize : MethodName := ⟨RX0, "cycleSize", "(LClearingHouse;[J)I"⟩
def dkwX0_cycleSize_0 : List UInt8 := [43, 3, 42, 182, 0, 66, 133, 80, 167, 0, 6, 77, 4, 172, 3, 172]
abbrev dktX0_cycleSize_0 : List UInt8 := dkwX0_cycleSize_0 ++ []
theorem dksX0_cycleSize_0 : cX0_cycleSize.data.toList.drop 0 = dktX0_cycleSize_0 := by decide +kernel
theorem dX0_cycleSize_0 : decode cX0_cycleSize 0 = .ok (.aload_n 1, 1) := dk_43 (dk_at dksX0_cycleSize_0 0 rfl rfl)
theorem dX0_cycleSize_1 : decode cX0_cycleSize 1 = .ok (.iconst 0, 1) := dk_3 (dk_at dksX0_cycleSize_0 1 rfl rfl)
theorem dX0_cycleSize_2 : decode cX0_cycleSize 2 = .ok (.aload_n 0, 1) := dk_42 (dk_at dksX0_cycleSize_0 2 rfl rfl)
theorem dX0_cycleSize_3 : decode cX0_cycleSize 3 = .ok (.invokevirtual 66, 3) := dk_182 0 66 (dk_at dksX0_cycleSize_0 3 rfl rfl)
theorem dX0_cycleSize_6 : decode cX0_cycleSize 6 = .ok (.i2l, 1) := dk_133 (dk_at dksX0_cycleSize_0 6 rfl rfl)
theorem dX0_cycleSize_7 : decode cX0_cycleSize 7 = .ok (.lastore, 1) := dk_80 (dk_at dksX0_cycleSize_0 7 rfl rfl)
theorem dX0_cycleSize_8 : decode cX0_cycleSize 8 = .ok (.goto 6, 3) := dk_167 0 6 (dk_at dksX0_cycleSize_0 8 rfl rfl)
theorem dX0_cycleSize_11 : decode cX0_cycleSize 11 = .ok (.astore_n 2, 1) := dk_77 (dk_at dksX0_cycleSize_0 11 rfl rfl)
theorem dX0_cycleSize_12 : decode cX0_cycleSize 12 = .ok (.iconst 1, 1) := dk_4 (dk_at dksX0_cycleSize_0 12 rfl rfl)
theorem dX0_cycleSize_13 : decode cX0_cycleSize 13 = .ok (.ireturn, 1) := dk_172 (dk_at dksX0_cycleSize_0 13 rfl rfl)
theorem dX0_cycleSize_14 : decode cX0_cycleSize 14 = .ok (.iconst 0, 1) := dk_3 (dk_at dksX0_cycleSize_0 14 rfl rfl)
theorem dX0_cycleSize_15 : decode cX0_cycleSize 15 = .ok (.ireturn, 1) := dk_172 (dk_at dksX0_cycleSize_0 15 rfl rfl)
abbrev cX0_cycleParty : ByteArray := method_18_code
def yX0_cycleParty : MethodName := ⟨RX0, "cycleParty", "(LClearingHouse;I[J)I"⟩
def dkwX0_cycleParty_0 : List UInt8 := [44, 3, 42, 27, 182, 0, 69, 133, 80, 167, 0, 9, 78, 4, 172, 78, 5, 172, 3, 172]
abbrev dktX0_cycleParty_0 : List UInt8 := dkwX0_cycleParty_0 ++ []
theorem dksX0_cycleParty_0 : cX0_cycleParty.data.toList.drop 0 = dktX0_cycleParty_0 := by decide +kernel
theorem dX0_cycleParty_0 : decode cX0_cycleParty 0 = .ok (.aload_n 2, 1) := dk_44 (dk_at dksX0_cycleParty_0 0 rfl rfl)
theorem dX0_cycleParty_1 : decode cX0_cycleParty 1 = .ok (.iconst 0, 1) := dk_3 (dk_at dksX0_cycleParty_0 1 rfl rfl)
theorem dX0_cycleParty_2 : decode cX0_cycleParty 2 = .ok (.aload_n 0, 1) := dk_42 (dk_at dksX0_cycleParty_0 2 rfl rfl)
theorem dX0_cycleParty_3 : decode cX0_cycleParty 3 = .ok (.iload_n 1, 1) := dk_27 (dk_at dksX0_cycleParty_0 3 rfl rfl)
theorem dX0_cycleParty_4 : decode cX0_cycleParty 4 = .ok (.invokevirtual 69, 3) := dk_182 0 69 (dk_at dksX0_cycleParty_0 4 rfl rfl)
theorem dX0_cycleParty_7 : decode cX0_cycleParty 7 = .ok (.i2l, 1) := dk_133 (dk_at dksX0_cycleParty_0 7 rfl rfl)
theorem dX0_cycleParty_8 : decode cX0_cycleParty 8 = .ok (.lastore, 1) := dk_80 (dk_at dksX0_cycleParty_0 8 rfl rfl)
theorem dX0_cycleParty_9 : decode cX0_cycleParty 9 = .ok (.goto 9, 3) := dk_167 0 9 (dk_at dksX0_cycleParty_0 9 rfl rfl)
theorem dX0_cycleParty_12 : decode cX0_cycleParty 12 = .ok (.astore_n 3, 1) := dk_78 (dk_at dksX0_cycleParty_0 12 rfl rfl)
theorem dX0_cycleParty_13 : decode cX0_cycleParty 13 = .ok (.iconst 1, 1) := dk_4 (dk_at dksX0_cycleParty_0 13 rfl rfl)
theorem dX0_cycleParty_14 : decode cX0_cycleParty 14 = .ok (.ireturn, 1) := dk_172 (dk_at dksX0_cycleParty_0 14 rfl rfl)
theorem dX0_cycleParty_15 : decode cX0_cycleParty 15 = .ok (.astore_n 3, 1) := dk_78 (dk_at dksX0_cycleParty_0 15 rfl rfl)
theorem dX0_cycleParty_16 : decode cX0_cycleParty 16 = .ok (.iconst 2, 1) := dk_5 (dk_at dksX0_cycleParty_0 16 rfl rfl)
theorem dX0_cycleParty_17 : decode cX0_cycleParty 17 = .ok (.ireturn, 1) := dk_172 (dk_at dksX0_cycleParty_0 17 rfl rfl)
theorem dX0_cycleParty_18 : decode cX0_cycleParty 18 = .ok (.iconst 0, 1) := dk_3 (dk_at dksX0_cycleParty_0 18 rfl rfl)
theorem dX0_cycleParty_19 : decode cX0_cycleParty 19 = .ok (.ireturn, 1) := dk_172 (dk_at dksX0_cycleParty_0 19 rfl rfl)
abbrev cX0_cycleAmount : ByteArray := method_19_code
def yX0_cycleAmount : MethodName := ⟨RX0, "cycleAmount", "(LClearingHouse;[J)I"⟩
def dkwX0_cycleAmount_0 : List UInt8 := [43, 3, 42, 182, 0, 72, 133, 80, 167, 0, 6, 77, 4, 172, 3, 172]
abbrev dktX0_cycleAmount_0 : List UInt8 := dkwX0_cycleAmount_0 ++ []
theorem dksX0_cycleAmount_0 : cX0_cycleAmount.data.toList.drop 0 = dktX0_cycleAmount_0 := by decide +kernel
theorem dX0_cycleAmount_0 : decode cX0_cycleAmount 0 = .ok (.aload_n 1, 1) := dk_43 (dk_at dksX0_cycleAmount_0 0 rfl rfl)
theorem dX0_cycleAmount_1 : decode cX0_cycleAmount 1 = .ok (.iconst 0, 1) := dk_3 (dk_at dksX0_cycleAmount_0 1 rfl rfl)
theorem dX0_cycleAmount_2 : decode cX0_cycleAmount 2 = .ok (.aload_n 0, 1) := dk_42 (dk_at dksX0_cycleAmount_0 2 rfl rfl)
theorem dX0_cycleAmount_3 : decode cX0_cycleAmount 3 = .ok (.invokevirtual 72, 3) := dk_182 0 72 (dk_at dksX0_cycleAmount_0 3 rfl rfl)
theorem dX0_cycleAmount_6 : decode cX0_cycleAmount 6 = .ok (.i2l, 1) := dk_133 (dk_at dksX0_cycleAmount_0 6 rfl rfl)
theorem dX0_cycleAmount_7 : decode cX0_cycleAmount 7 = .ok (.lastore, 1) := dk_80 (dk_at dksX0_cycleAmount_0 7 rfl rfl)
theorem dX0_cycleAmount_8 : decode cX0_cycleAmount 8 = .ok (.goto 6, 3) := dk_167 0 6 (dk_at dksX0_cycleAmount_0 8 rfl rfl)
theorem dX0_cycleAmount_11 : decode cX0_cycleAmount 11 = .ok (.astore_n 2, 1) := dk_77 (dk_at dksX0_cycleAmount_0 11 rfl rfl)
theorem dX0_cycleAmount_12 : decode cX0_cycleAmount 12 = .ok (.iconst 1, 1) := dk_4 (dk_at dksX0_cycleAmount_0 12 rfl rfl)
theorem dX0_cycleAmount_13 : decode cX0_cycleAmount 13 = .ok (.ireturn, 1) := dk_172 (dk_at dksX0_cycleAmount_0 13 rfl rfl)
theorem dX0_cycleAmount_14 : decode cX0_cycleAmount 14 = .ok (.iconst 0, 1) := dk_3 (dk_at dksX0_cycleAmount_0 14 rfl rfl)
theorem dX0_cycleAmount_15 : decode cX0_cycleAmount 15 = .ok (.ireturn, 1) := dk_172 (dk_at dksX0_cycleAmount_0 15 rfl rfl)
abbrev cX0_shareOf : ByteArray := method_20_code
def yX0_shareOf : MethodName := ⟨RX0, "shareOf", "(LClearingHouse;II[J)I"⟩
def dkwX0_shareOf_0 : List UInt8 := [45, 3, 42, 27, 28, 182, 0, 75, 133, 80, 167, 0, 11, 58, 4, 4, 172, 58, 4, 5, 172, 3, 172]
abbrev dktX0_shareOf_0 : List UInt8 := dkwX0_shareOf_0 ++ []
theorem dksX0_shareOf_0 : cX0_shareOf.data.toList.drop 0 = dktX0_shareOf_0 := by decide +kernel
theorem dX0_shareOf_0 : decode cX0_shareOf 0 = .ok (.aload_n 3, 1) := dk_45 (dk_at dksX0_shareOf_0 0 rfl rfl)
theorem dX0_shareOf_1 : decode cX0_shareOf 1 = .ok (.iconst 0, 1) := dk_3 (dk_at dksX0_shareOf_0 1 rfl rfl)
theorem dX0_shareOf_2 : decode cX0_shareOf 2 = .ok (.aload_n 0, 1) := dk_42 (dk_at dksX0_shareOf_0 2 rfl rfl)
theorem dX0_shareOf_3 : decode cX0_shareOf 3 = .ok (.iload_n 1, 1) := dk_27 (dk_at dksX0_shareOf_0 3 rfl rfl)
theorem dX0_shareOf_4 : decode cX0_shareOf 4 = .ok (.iload_n 2, 1) := dk_28 (dk_at dksX0_shareOf_0 4 rfl rfl)
theorem dX0_shareOf_5 : decode cX0_shareOf 5 = .ok (.invokevirtual 75, 3) := dk_182 0 75 (dk_at dksX0_shareOf_0 5 rfl rfl)
theorem dX0_shareOf_8 : decode cX0_shareOf 8 = .ok (.i2l, 1) := dk_133 (dk_at dksX0_shareOf_0 8 rfl rfl)
theorem dX0_shareOf_9 : decode cX0_shareOf 9 = .ok (.lastore, 1) := dk_80 (dk_at dksX0_shareOf_0 9 rfl rfl)
theorem dX0_shareOf_10 : decode cX0_shareOf 10 = .ok (.goto 11, 3) := dk_167 0 11 (dk_at dksX0_shareOf_0 10 rfl rfl)
theorem dX0_shareOf_13 : decode cX0_shareOf 13 = .ok (.astore 4, 2) := dk_58 4 (dk_at dksX0_shareOf_0 13 rfl rfl)
theorem dX0_shareOf_15 : decode cX0_shareOf 15 = .ok (.iconst 1, 1) := dk_4 (dk_at dksX0_shareOf_0 15 rfl rfl)
theorem dX0_shareOf_16 : decode cX0_shareOf 16 = .ok (.ireturn, 1) := dk_172 (dk_at dksX0_shareOf_0 16 rfl rfl)
theorem dX0_shareOf_17 : decode cX0_shareOf 17 = .ok (.astore 4, 2) := dk_58 4 (dk_at dksX0_shareOf_0 17 rfl rfl)
theorem dX0_shareOf_19 : decode cX0_shareOf 19 = .ok (.iconst 2, 1) := dk_5 (dk_at dksX0_shareOf_0 19 rfl rfl)
theorem dX0_shareOf_20 : decode cX0_shareOf 20 = .ok (.ireturn, 1) := dk_172 (dk_at dksX0_shareOf_0 20 rfl rfl)
theorem dX0_shareOf_21 : decode cX0_shareOf 21 = .ok (.iconst 0, 1) := dk_3 (dk_at dksX0_shareOf_0 21 rfl rfl)
theorem dX0_shareOf_22 : decode cX0_shareOf 22 = .ok (.ireturn, 1) := dk_172 (dk_at dksX0_shareOf_0 22 rfl rfl)
abbrev cX0_shareByCounting : ByteArray := method_21_code
def yX0_shareByCounting : MethodName := ⟨RX0, "shareByCounting", "(LClearingHouse;II[J)I"⟩
def dkwX0_shareByCounting_0 : List UInt8 := [45, 3, 42, 27, 28, 182, 0, 78, 133, 80, 167, 0, 11, 58, 4, 4, 172, 58, 4, 5, 172, 3, 172]
abbrev dktX0_shareByCounting_0 : List UInt8 := dkwX0_shareByCounting_0 ++ []
theorem dksX0_shareByCounting_0 : cX0_shareByCounting.data.toList.drop 0 = dktX0_shareByCounting_0 := by decide +kernel
theorem dX0_shareByCounting_0 : decode cX0_shareByCounting 0 = .ok (.aload_n 3, 1) := dk_45 (dk_at dksX0_shareByCounting_0 0 rfl rfl)
theorem dX0_shareByCounting_1 : decode cX0_shareByCounting 1 = .ok (.iconst 0, 1) := dk_3 (dk_at dksX0_shareByCounting_0 1 rfl rfl)
theorem dX0_shareByCounting_2 : decode cX0_shareByCounting 2 = .ok (.aload_n 0, 1) := dk_42 (dk_at dksX0_shareByCounting_0 2 rfl rfl)
theorem dX0_shareByCounting_3 : decode cX0_shareByCounting 3 = .ok (.iload_n 1, 1) := dk_27 (dk_at dksX0_shareByCounting_0 3 rfl rfl)
theorem dX0_shareByCounting_4 : decode cX0_shareByCounting 4 = .ok (.iload_n 2, 1) := dk_28 (dk_at dksX0_shareByCounting_0 4 rfl rfl)
theorem dX0_shareByCounting_5 : decode cX0_shareByCounting 5 = .ok (.invokevirtual 78, 3) := dk_182 0 78 (dk_at dksX0_shareByCounting_0 5 rfl rfl)
theorem dX0_shareByCounting_8 : decode cX0_shareByCounting 8 = .ok (.i2l, 1) := dk_133 (dk_at dksX0_shareByCounting_0 8 rfl rfl)
theorem dX0_shareByCounting_9 : decode cX0_shareByCounting 9 = .ok (.lastore, 1) := dk_80 (dk_at dksX0_shareByCounting_0 9 rfl rfl)
theorem dX0_shareByCounting_10 : decode cX0_shareByCounting 10 = .ok (.goto 11, 3) := dk_167 0 11 (dk_at dksX0_shareByCounting_0 10 rfl rfl)
theorem dX0_shareByCounting_13 : decode cX0_shareByCounting 13 = .ok (.astore 4, 2) := dk_58 4 (dk_at dksX0_shareByCounting_0 13 rfl rfl)
theorem dX0_shareByCounting_15 : decode cX0_shareByCounting 15 = .ok (.iconst 1, 1) := dk_4 (dk_at dksX0_shareByCounting_0 15 rfl rfl)
theorem dX0_shareByCounting_16 : decode cX0_shareByCounting 16 = .ok (.ireturn, 1) := dk_172 (dk_at dksX0_shareByCounting_0 16 rfl rfl)
theorem dX0_shareByCounting_17 : decode cX0_shareByCounting 17 = .ok (.astore 4, 2) := dk_58 4 (dk_at dksX0_shareByCounting_0 17 rfl rfl)
theorem dX0_shareByCounting_19 : decode cX0_shareByCounting 19 = .ok (.iconst 2, 1) := dk_5 (dk_at dksX0_shareByCounting_0 19 rfl rfl)
theorem dX0_shareByCounting_20 : decode cX0_shareByCounting 20 = .ok (.ireturn, 1) := dk_172 (dk_at dksX0_shareByCounting_0 20 rfl rfl)
theorem dX0_shareByCounting_21 : decode cX0_shareByCounting 21 = .ok (.iconst 0, 1) := dk_3 (dk_at dksX0_shareByCounting_0 21 rfl rfl)
theorem dX0_shareByCounting_22 : decode cX0_shareByCounting 22 = .ok (.ireturn, 1) := dk_172 (dk_at dksX0_shareByCounting_0 22 rfl rfl)
abbrev cX0_meanObligations : ByteArray := method_22_code
def yX0_meanObligations : MethodName := ⟨RX0, "meanObligations", "(LClearingHouse;[D)I"⟩
def dkwX0_meanObligations_0 : List UInt8 := [43, 3, 42, 182, 0, 81, 82, 167, 0, 6, 77, 4, 172, 3, 172]
abbrev dktX0_meanObligations_0 : List UInt8 := dkwX0_meanObligations_0 ++ []
theorem dksX0_meanObligations_0 : cX0_meanObligations.data.toList.drop 0 = dktX0_meanObligations_0 := by decide +kernel
theorem dX0_meanObligations_0 : decode cX0_meanObligations 0 = .ok (.aload_n 1, 1) := dk_43 (dk_at dksX0_meanObligations_0 0 rfl rfl)
theorem dX0_meanObligations_1 : decode cX0_meanObligations 1 = .ok (.iconst 0, 1) := dk_3 (dk_at dksX0_meanObligations_0 1 rfl rfl)
theorem dX0_meanObligations_2 : decode cX0_meanObligations 2 = .ok (.aload_n 0, 1) := dk_42 (dk_at dksX0_meanObligations_0 2 rfl rfl)
theorem dX0_meanObligations_3 : decode cX0_meanObligations 3 = .ok (.invokevirtual 81, 3) := dk_182 0 81 (dk_at dksX0_meanObligations_0 3 rfl rfl)
theorem dX0_meanObligations_6 : decode cX0_meanObligations 6 = .ok (.dastore, 1) := dk_82 (dk_at dksX0_meanObligations_0 6 rfl rfl)
theorem dX0_meanObligations_7 : decode cX0_meanObligations 7 = .ok (.goto 6, 3) := dk_167 0 6 (dk_at dksX0_meanObligations_0 7 rfl rfl)
theorem dX0_meanObligations_10 : decode cX0_meanObligations 10 = .ok (.astore_n 2, 1) := dk_77 (dk_at dksX0_meanObligations_0 10 rfl rfl)
theorem dX0_meanObligations_11 : decode cX0_meanObligations 11 = .ok (.iconst 1, 1) := dk_4 (dk_at dksX0_meanObligations_0 11 rfl rfl)
theorem dX0_meanObligations_12 : decode cX0_meanObligations 12 = .ok (.ireturn, 1) := dk_172 (dk_at dksX0_meanObligations_0 12 rfl rfl)
theorem dX0_meanObligations_13 : decode cX0_meanObligations 13 = .ok (.iconst 0, 1) := dk_3 (dk_at dksX0_meanObligations_0 13 rfl rfl)
theorem dX0_meanObligations_14 : decode cX0_meanObligations 14 = .ok (.ireturn, 1) := dk_172 (dk_at dksX0_meanObligations_0 14 rfl rfl)
abbrev cX0_coverage : ByteArray := method_23_code
def yX0_coverage : MethodName := ⟨RX0, "coverage", "(LClearingHouse;[D)I"⟩
def dkwX0_coverage_0 : List UInt8 := [43, 3, 42, 182, 0, 87, 141, 82, 167, 0, 6, 77, 4, 172, 3, 172]
abbrev dktX0_coverage_0 : List UInt8 := dkwX0_coverage_0 ++ []
theorem dksX0_coverage_0 : cX0_coverage.data.toList.drop 0 = dktX0_coverage_0 := by decide +kernel
theorem dX0_coverage_0 : decode cX0_coverage 0 = .ok (.aload_n 1, 1) := dk_43 (dk_at dksX0_coverage_0 0 rfl rfl)
theorem dX0_coverage_1 : decode cX0_coverage 1 = .ok (.iconst 0, 1) := dk_3 (dk_at dksX0_coverage_0 1 rfl rfl)
theorem dX0_coverage_2 : decode cX0_coverage 2 = .ok (.aload_n 0, 1) := dk_42 (dk_at dksX0_coverage_0 2 rfl rfl)
theorem dX0_coverage_3 : decode cX0_coverage 3 = .ok (.invokevirtual 87, 3) := dk_182 0 87 (dk_at dksX0_coverage_0 3 rfl rfl)
theorem dX0_coverage_6 : decode cX0_coverage 6 = .ok (.f2d, 1) := dk_141 (dk_at dksX0_coverage_0 6 rfl rfl)
theorem dX0_coverage_7 : decode cX0_coverage 7 = .ok (.dastore, 1) := dk_82 (dk_at dksX0_coverage_0 7 rfl rfl)
theorem dX0_coverage_8 : decode cX0_coverage 8 = .ok (.goto 6, 3) := dk_167 0 6 (dk_at dksX0_coverage_0 8 rfl rfl)
theorem dX0_coverage_11 : decode cX0_coverage 11 = .ok (.astore_n 2, 1) := dk_77 (dk_at dksX0_coverage_0 11 rfl rfl)
theorem dX0_coverage_12 : decode cX0_coverage 12 = .ok (.iconst 1, 1) := dk_4 (dk_at dksX0_coverage_0 12 rfl rfl)
theorem dX0_coverage_13 : decode cX0_coverage 13 = .ok (.ireturn, 1) := dk_172 (dk_at dksX0_coverage_0 13 rfl rfl)
theorem dX0_coverage_14 : decode cX0_coverage 14 = .ok (.iconst 0, 1) := dk_3 (dk_at dksX0_coverage_0 14 rfl rfl)
theorem dX0_coverage_15 : decode cX0_coverage 15 = .ok (.ireturn, 1) := dk_172 (dk_at dksX0_coverage_0 15 rfl rfl)
abbrev cX0_append : ByteArray := method_24_code
def yX0_append : MethodName := ⟨RX0, "append", "(LClearingHouse;C[J)I"⟩
def dkwX0_append_0 : List UInt8 := [44, 3, 42, 27, 182, 0, 91, 133, 80, 167, 0, 6, 78, 4, 172, 3, 172]
abbrev dktX0_append_0 : List UInt8 := dkwX0_append_0 ++ []
theorem dksX0_append_0 : cX0_append.data.toList.drop 0 = dktX0_append_0 := by decide +kernel
theorem dX0_append_0 : decode cX0_append 0 = .ok (.aload_n 2, 1) := dk_44 (dk_at dksX0_append_0 0 rfl rfl)
theorem dX0_append_1 : decode cX0_append 1 = .ok (.iconst 0, 1) := dk_3 (dk_at dksX0_append_0 1 rfl rfl)
theorem dX0_append_2 : decode cX0_append 2 = .ok (.aload_n 0, 1) := dk_42 (dk_at dksX0_append_0 2 rfl rfl)
theorem dX0_append_3 : decode cX0_append 3 = .ok (.iload_n 1, 1) := dk_27 (dk_at dksX0_append_0 3 rfl rfl)
theorem dX0_append_4 : decode cX0_append 4 = .ok (.invokevirtual 91, 3) := dk_182 0 91 (dk_at dksX0_append_0 4 rfl rfl)
theorem dX0_append_7 : decode cX0_append 7 = .ok (.i2l, 1) := dk_133 (dk_at dksX0_append_0 7 rfl rfl)
theorem dX0_append_8 : decode cX0_append 8 = .ok (.lastore, 1) := dk_80 (dk_at dksX0_append_0 8 rfl rfl)
theorem dX0_append_9 : decode cX0_append 9 = .ok (.goto 6, 3) := dk_167 0 6 (dk_at dksX0_append_0 9 rfl rfl)
theorem dX0_append_12 : decode cX0_append 12 = .ok (.astore_n 3, 1) := dk_78 (dk_at dksX0_append_0 12 rfl rfl)
theorem dX0_append_13 : decode cX0_append 13 = .ok (.iconst 1, 1) := dk_4 (dk_at dksX0_append_0 13 rfl rfl)
theorem dX0_append_14 : decode cX0_append 14 = .ok (.ireturn, 1) := dk_172 (dk_at dksX0_append_0 14 rfl rfl)
theorem dX0_append_15 : decode cX0_append 15 = .ok (.iconst 0, 1) := dk_3 (dk_at dksX0_append_0 15 rfl rfl)
theorem dX0_append_16 : decode cX0_append 16 = .ok (.ireturn, 1) := dk_172 (dk_at dksX0_append_0 16 rfl rfl)
abbrev cX0_run : ByteArray := method_25_code
def yX0_run : MethodName := ⟨RX0, "run", "(LClearingHouse;[J)I"⟩
def dkwX0_run_0 : List UInt8 := [43, 3, 42, 182, 0, 95, 133, 80, 167, 0, 9, 77, 4, 172, 77, 5, 172, 3, 172]
abbrev dktX0_run_0 : List UInt8 := dkwX0_run_0 ++ []
theorem dksX0_run_0 : cX0_run.data.toList.drop 0 = dktX0_run_0 := by decide +kernel
theorem dX0_run_0 : decode cX0_run 0 = .ok (.aload_n 1, 1) := dk_43 (dk_at dksX0_run_0 0 rfl rfl)
theorem dX0_run_1 : decode cX0_run 1 = .ok (.iconst 0, 1) := dk_3 (dk_at dksX0_run_0 1 rfl rfl)
theorem dX0_run_2 : decode cX0_run 2 = .ok (.aload_n 0, 1) := dk_42 (dk_at dksX0_run_0 2 rfl rfl)
theorem dX0_run_3 : decode cX0_run 3 = .ok (.invokevirtual 95, 3) := dk_182 0 95 (dk_at dksX0_run_0 3 rfl rfl)
theorem dX0_run_6 : decode cX0_run 6 = .ok (.i2l, 1) := dk_133 (dk_at dksX0_run_0 6 rfl rfl)
theorem dX0_run_7 : decode cX0_run 7 = .ok (.lastore, 1) := dk_80 (dk_at dksX0_run_0 7 rfl rfl)
theorem dX0_run_8 : decode cX0_run 8 = .ok (.goto 9, 3) := dk_167 0 9 (dk_at dksX0_run_0 8 rfl rfl)
theorem dX0_run_11 : decode cX0_run 11 = .ok (.astore_n 2, 1) := dk_77 (dk_at dksX0_run_0 11 rfl rfl)
theorem dX0_run_12 : decode cX0_run 12 = .ok (.iconst 1, 1) := dk_4 (dk_at dksX0_run_0 12 rfl rfl)
theorem dX0_run_13 : decode cX0_run 13 = .ok (.ireturn, 1) := dk_172 (dk_at dksX0_run_0 13 rfl rfl)
theorem dX0_run_14 : decode cX0_run 14 = .ok (.astore_n 2, 1) := dk_77 (dk_at dksX0_run_0 14 rfl rfl)
theorem dX0_run_15 : decode cX0_run 15 = .ok (.iconst 2, 1) := dk_5 (dk_at dksX0_run_0 15 rfl rfl)
theorem dX0_run_16 : decode cX0_run 16 = .ok (.ireturn, 1) := dk_172 (dk_at dksX0_run_0 16 rfl rfl)
theorem dX0_run_17 : decode cX0_run 17 = .ok (.iconst 0, 1) := dk_3 (dk_at dksX0_run_0 17 rfl rfl)
theorem dX0_run_18 : decode cX0_run 18 = .ok (.ireturn, 1) := dk_172 (dk_at dksX0_run_0 18 rfl rfl)
abbrev cX0_errorPosition : ByteArray := method_26_code
def yX0_errorPosition : MethodName := ⟨RX0, "errorPosition", "(LClearingHouse;[J)I"⟩
def dkwX0_errorPosition_0 : List UInt8 := [43, 3, 42, 182, 0, 98, 133, 80, 167, 0, 6, 77, 4, 172, 3, 172]
abbrev dktX0_errorPosition_0 : List UInt8 := dkwX0_errorPosition_0 ++ []
theorem dksX0_errorPosition_0 : cX0_errorPosition.data.toList.drop 0 = dktX0_errorPosition_0 := by decide +kernel
theorem dX0_errorPosition_0 : decode cX0_errorPosition 0 = .ok (.aload_n 1, 1) := dk_43 (dk_at dksX0_errorPosition_0 0 rfl rfl)
theorem dX0_errorPosition_1 : decode cX0_errorPosition 1 = .ok (.iconst 0, 1) := dk_3 (dk_at dksX0_errorPosition_0 1 rfl rfl)
theorem dX0_errorPosition_2 : decode cX0_errorPosition 2 = .ok (.aload_n 0, 1) := dk_42 (dk_at dksX0_errorPosition_0 2 rfl rfl)
theorem dX0_errorPosition_3 : decode cX0_errorPosition 3 = .ok (.invokevirtual 98, 3) := dk_182 0 98 (dk_at dksX0_errorPosition_0 3 rfl rfl)
theorem dX0_errorPosition_6 : decode cX0_errorPosition 6 = .ok (.i2l, 1) := dk_133 (dk_at dksX0_errorPosition_0 6 rfl rfl)
theorem dX0_errorPosition_7 : decode cX0_errorPosition 7 = .ok (.lastore, 1) := dk_80 (dk_at dksX0_errorPosition_0 7 rfl rfl)
theorem dX0_errorPosition_8 : decode cX0_errorPosition 8 = .ok (.goto 6, 3) := dk_167 0 6 (dk_at dksX0_errorPosition_0 8 rfl rfl)
theorem dX0_errorPosition_11 : decode cX0_errorPosition 11 = .ok (.astore_n 2, 1) := dk_77 (dk_at dksX0_errorPosition_0 11 rfl rfl)
theorem dX0_errorPosition_12 : decode cX0_errorPosition 12 = .ok (.iconst 1, 1) := dk_4 (dk_at dksX0_errorPosition_0 12 rfl rfl)
theorem dX0_errorPosition_13 : decode cX0_errorPosition 13 = .ok (.ireturn, 1) := dk_172 (dk_at dksX0_errorPosition_0 13 rfl rfl)
theorem dX0_errorPosition_14 : decode cX0_errorPosition 14 = .ok (.iconst 0, 1) := dk_3 (dk_at dksX0_errorPosition_0 14 rfl rfl)
theorem dX0_errorPosition_15 : decode cX0_errorPosition 15 = .ok (.ireturn, 1) := dk_172 (dk_at dksX0_errorPosition_0 15 rfl rfl)
abbrev cX0_failedCommand : ByteArray := method_27_code
def yX0_failedCommand : MethodName := ⟨RX0, "failedCommand", "(LClearingHouse;[J)I"⟩
def dkwX0_failedCommand_0 : List UInt8 := [43, 3, 42, 182, 0, 101, 133, 80, 167, 0, 6, 77, 4, 172, 3, 172]
abbrev dktX0_failedCommand_0 : List UInt8 := dkwX0_failedCommand_0 ++ []
theorem dksX0_failedCommand_0 : cX0_failedCommand.data.toList.drop 0 = dktX0_failedCommand_0 := by decide +kernel
theorem dX0_failedCommand_0 : decode cX0_failedCommand 0 = .ok (.aload_n 1, 1) := dk_43 (dk_at dksX0_failedCommand_0 0 rfl rfl)
theorem dX0_failedCommand_1 : decode cX0_failedCommand 1 = .ok (.iconst 0, 1) := dk_3 (dk_at dksX0_failedCommand_0 1 rfl rfl)
theorem dX0_failedCommand_2 : decode cX0_failedCommand 2 = .ok (.aload_n 0, 1) := dk_42 (dk_at dksX0_failedCommand_0 2 rfl rfl)
theorem dX0_failedCommand_3 : decode cX0_failedCommand 3 = .ok (.invokevirtual 101, 3) := dk_182 0 101 (dk_at dksX0_failedCommand_0 3 rfl rfl)
theorem dX0_failedCommand_6 : decode cX0_failedCommand 6 = .ok (.i2l, 1) := dk_133 (dk_at dksX0_failedCommand_0 6 rfl rfl)
theorem dX0_failedCommand_7 : decode cX0_failedCommand 7 = .ok (.lastore, 1) := dk_80 (dk_at dksX0_failedCommand_0 7 rfl rfl)
theorem dX0_failedCommand_8 : decode cX0_failedCommand 8 = .ok (.goto 6, 3) := dk_167 0 6 (dk_at dksX0_failedCommand_0 8 rfl rfl)
theorem dX0_failedCommand_11 : decode cX0_failedCommand 11 = .ok (.astore_n 2, 1) := dk_77 (dk_at dksX0_failedCommand_0 11 rfl rfl)
theorem dX0_failedCommand_12 : decode cX0_failedCommand 12 = .ok (.iconst 1, 1) := dk_4 (dk_at dksX0_failedCommand_0 12 rfl rfl)
theorem dX0_failedCommand_13 : decode cX0_failedCommand 13 = .ok (.ireturn, 1) := dk_172 (dk_at dksX0_failedCommand_0 13 rfl rfl)
theorem dX0_failedCommand_14 : decode cX0_failedCommand 14 = .ok (.iconst 0, 1) := dk_3 (dk_at dksX0_failedCommand_0 14 rfl rfl)
theorem dX0_failedCommand_15 : decode cX0_failedCommand 15 = .ok (.ireturn, 1) := dk_172 (dk_at dksX0_failedCommand_0 15 rfl rfl)
abbrev cX0_writeParty : ByteArray := method_28_code
def yX0_writeParty : MethodName := ⟨RX0, "writeParty", "(LClearingHouse;I[J)I"⟩
def dkwX0_writeParty_0 : List UInt8 := [44, 3, 42, 27, 182, 0, 104, 133, 80, 167, 0, 6, 78, 4, 172, 3, 172]
abbrev dktX0_writeParty_0 : List UInt8 := dkwX0_writeParty_0 ++ []
theorem dksX0_writeParty_0 : cX0_writeParty.data.toList.drop 0 = dktX0_writeParty_0 := by decide +kernel
theorem dX0_writeParty_0 : decode cX0_writeParty 0 = .ok (.aload_n 2, 1) := dk_44 (dk_at dksX0_writeParty_0 0 rfl rfl)
theorem dX0_writeParty_1 : decode cX0_writeParty 1 = .ok (.iconst 0, 1) := dk_3 (dk_at dksX0_writeParty_0 1 rfl rfl)
theorem dX0_writeParty_2 : decode cX0_writeParty 2 = .ok (.aload_n 0, 1) := dk_42 (dk_at dksX0_writeParty_0 2 rfl rfl)
theorem dX0_writeParty_3 : decode cX0_writeParty 3 = .ok (.iload_n 1, 1) := dk_27 (dk_at dksX0_writeParty_0 3 rfl rfl)
theorem dX0_writeParty_4 : decode cX0_writeParty 4 = .ok (.invokevirtual 104, 3) := dk_182 0 104 (dk_at dksX0_writeParty_0 4 rfl rfl)
theorem dX0_writeParty_7 : decode cX0_writeParty 7 = .ok (.i2l, 1) := dk_133 (dk_at dksX0_writeParty_0 7 rfl rfl)
theorem dX0_writeParty_8 : decode cX0_writeParty 8 = .ok (.lastore, 1) := dk_80 (dk_at dksX0_writeParty_0 8 rfl rfl)
theorem dX0_writeParty_9 : decode cX0_writeParty 9 = .ok (.goto 6, 3) := dk_167 0 6 (dk_at dksX0_writeParty_0 9 rfl rfl)
theorem dX0_writeParty_12 : decode cX0_writeParty 12 = .ok (.astore_n 3, 1) := dk_78 (dk_at dksX0_writeParty_0 12 rfl rfl)
theorem dX0_writeParty_13 : decode cX0_writeParty 13 = .ok (.iconst 1, 1) := dk_4 (dk_at dksX0_writeParty_0 13 rfl rfl)
theorem dX0_writeParty_14 : decode cX0_writeParty 14 = .ok (.ireturn, 1) := dk_172 (dk_at dksX0_writeParty_0 14 rfl rfl)
theorem dX0_writeParty_15 : decode cX0_writeParty 15 = .ok (.iconst 0, 1) := dk_3 (dk_at dksX0_writeParty_0 15 rfl rfl)
theorem dX0_writeParty_16 : decode cX0_writeParty 16 = .ok (.ireturn, 1) := dk_172 (dk_at dksX0_writeParty_0 16 rfl rfl)
abbrev cX0_writeCycle : ByteArray := method_29_code
def yX0_writeCycle : MethodName := ⟨RX0, "writeCycle", "(LClearingHouse;[J)I"⟩
def dkwX0_writeCycle_0 : List UInt8 := [43, 3, 42, 182, 0, 107, 133, 80, 167, 0, 6, 77, 4, 172, 3, 172]
abbrev dktX0_writeCycle_0 : List UInt8 := dkwX0_writeCycle_0 ++ []
theorem dksX0_writeCycle_0 : cX0_writeCycle.data.toList.drop 0 = dktX0_writeCycle_0 := by decide +kernel
theorem dX0_writeCycle_0 : decode cX0_writeCycle 0 = .ok (.aload_n 1, 1) := dk_43 (dk_at dksX0_writeCycle_0 0 rfl rfl)
theorem dX0_writeCycle_1 : decode cX0_writeCycle 1 = .ok (.iconst 0, 1) := dk_3 (dk_at dksX0_writeCycle_0 1 rfl rfl)
theorem dX0_writeCycle_2 : decode cX0_writeCycle 2 = .ok (.aload_n 0, 1) := dk_42 (dk_at dksX0_writeCycle_0 2 rfl rfl)
theorem dX0_writeCycle_3 : decode cX0_writeCycle 3 = .ok (.invokevirtual 107, 3) := dk_182 0 107 (dk_at dksX0_writeCycle_0 3 rfl rfl)
theorem dX0_writeCycle_6 : decode cX0_writeCycle 6 = .ok (.i2l, 1) := dk_133 (dk_at dksX0_writeCycle_0 6 rfl rfl)
theorem dX0_writeCycle_7 : decode cX0_writeCycle 7 = .ok (.lastore, 1) := dk_80 (dk_at dksX0_writeCycle_0 7 rfl rfl)
theorem dX0_writeCycle_8 : decode cX0_writeCycle 8 = .ok (.goto 6, 3) := dk_167 0 6 (dk_at dksX0_writeCycle_0 8 rfl rfl)
theorem dX0_writeCycle_11 : decode cX0_writeCycle 11 = .ok (.astore_n 2, 1) := dk_77 (dk_at dksX0_writeCycle_0 11 rfl rfl)
theorem dX0_writeCycle_12 : decode cX0_writeCycle 12 = .ok (.iconst 1, 1) := dk_4 (dk_at dksX0_writeCycle_0 12 rfl rfl)
theorem dX0_writeCycle_13 : decode cX0_writeCycle 13 = .ok (.ireturn, 1) := dk_172 (dk_at dksX0_writeCycle_0 13 rfl rfl)
theorem dX0_writeCycle_14 : decode cX0_writeCycle 14 = .ok (.iconst 0, 1) := dk_3 (dk_at dksX0_writeCycle_0 14 rfl rfl)
theorem dX0_writeCycle_15 : decode cX0_writeCycle 15 = .ok (.ireturn, 1) := dk_172 (dk_at dksX0_writeCycle_0 15 rfl rfl)
abbrev cX0_outputAt : ByteArray := method_30_code
def yX0_outputAt : MethodName := ⟨RX0, "outputAt", "(LClearingHouse;I[J)I"⟩
def dkwX0_outputAt_0 : List UInt8 := [44, 3, 42, 27, 182, 0, 110, 133, 80, 167, 0, 6, 78, 4, 172, 3, 172]
abbrev dktX0_outputAt_0 : List UInt8 := dkwX0_outputAt_0 ++ []
theorem dksX0_outputAt_0 : cX0_outputAt.data.toList.drop 0 = dktX0_outputAt_0 := by decide +kernel
theorem dX0_outputAt_0 : decode cX0_outputAt 0 = .ok (.aload_n 2, 1) := dk_44 (dk_at dksX0_outputAt_0 0 rfl rfl)
theorem dX0_outputAt_1 : decode cX0_outputAt 1 = .ok (.iconst 0, 1) := dk_3 (dk_at dksX0_outputAt_0 1 rfl rfl)
theorem dX0_outputAt_2 : decode cX0_outputAt 2 = .ok (.aload_n 0, 1) := dk_42 (dk_at dksX0_outputAt_0 2 rfl rfl)
theorem dX0_outputAt_3 : decode cX0_outputAt 3 = .ok (.iload_n 1, 1) := dk_27 (dk_at dksX0_outputAt_0 3 rfl rfl)
theorem dX0_outputAt_4 : decode cX0_outputAt 4 = .ok (.invokevirtual 110, 3) := dk_182 0 110 (dk_at dksX0_outputAt_0 4 rfl rfl)
theorem dX0_outputAt_7 : decode cX0_outputAt 7 = .ok (.i2l, 1) := dk_133 (dk_at dksX0_outputAt_0 7 rfl rfl)
theorem dX0_outputAt_8 : decode cX0_outputAt 8 = .ok (.lastore, 1) := dk_80 (dk_at dksX0_outputAt_0 8 rfl rfl)
theorem dX0_outputAt_9 : decode cX0_outputAt 9 = .ok (.goto 6, 3) := dk_167 0 6 (dk_at dksX0_outputAt_0 9 rfl rfl)
theorem dX0_outputAt_12 : decode cX0_outputAt 12 = .ok (.astore_n 3, 1) := dk_78 (dk_at dksX0_outputAt_0 12 rfl rfl)
theorem dX0_outputAt_13 : decode cX0_outputAt 13 = .ok (.iconst 1, 1) := dk_4 (dk_at dksX0_outputAt_0 13 rfl rfl)
theorem dX0_outputAt_14 : decode cX0_outputAt 14 = .ok (.ireturn, 1) := dk_172 (dk_at dksX0_outputAt_0 14 rfl rfl)
theorem dX0_outputAt_15 : decode cX0_outputAt 15 = .ok (.iconst 0, 1) := dk_3 (dk_at dksX0_outputAt_0 15 rfl rfl)
theorem dX0_outputAt_16 : decode cX0_outputAt 16 = .ok (.ireturn, 1) := dk_172 (dk_at dksX0_outputAt_0 16 rfl rfl)
abbrev cX0_undo : ByteArray := method_31_code
def yX0_undo : MethodName := ⟨RX0, "undo", "(LClearingHouse;[J)I"⟩
def dkwX0_undo_0 : List UInt8 := [43, 3, 42, 182, 0, 114, 133, 80, 167, 0, 6, 77, 4, 172, 3, 172]
abbrev dktX0_undo_0 : List UInt8 := dkwX0_undo_0 ++ []
theorem dksX0_undo_0 : cX0_undo.data.toList.drop 0 = dktX0_undo_0 := by decide +kernel
theorem dX0_undo_0 : decode cX0_undo 0 = .ok (.aload_n 1, 1) := dk_43 (dk_at dksX0_undo_0 0 rfl rfl)
theorem dX0_undo_1 : decode cX0_undo 1 = .ok (.iconst 0, 1) := dk_3 (dk_at dksX0_undo_0 1 rfl rfl)
theorem dX0_undo_2 : decode cX0_undo 2 = .ok (.aload_n 0, 1) := dk_42 (dk_at dksX0_undo_0 2 rfl rfl)
theorem dX0_undo_3 : decode cX0_undo 3 = .ok (.invokevirtual 114, 3) := dk_182 0 114 (dk_at dksX0_undo_0 3 rfl rfl)
theorem dX0_undo_6 : decode cX0_undo 6 = .ok (.i2l, 1) := dk_133 (dk_at dksX0_undo_0 6 rfl rfl)
theorem dX0_undo_7 : decode cX0_undo 7 = .ok (.lastore, 1) := dk_80 (dk_at dksX0_undo_0 7 rfl rfl)
theorem dX0_undo_8 : decode cX0_undo 8 = .ok (.goto 6, 3) := dk_167 0 6 (dk_at dksX0_undo_0 8 rfl rfl)
theorem dX0_undo_11 : decode cX0_undo 11 = .ok (.astore_n 2, 1) := dk_77 (dk_at dksX0_undo_0 11 rfl rfl)
theorem dX0_undo_12 : decode cX0_undo 12 = .ok (.iconst 1, 1) := dk_4 (dk_at dksX0_undo_0 12 rfl rfl)
theorem dX0_undo_13 : decode cX0_undo 13 = .ok (.ireturn, 1) := dk_172 (dk_at dksX0_undo_0 13 rfl rfl)
theorem dX0_undo_14 : decode cX0_undo 14 = .ok (.iconst 0, 1) := dk_3 (dk_at dksX0_undo_0 14 rfl rfl)
theorem dX0_undo_15 : decode cX0_undo 15 = .ok (.ireturn, 1) := dk_172 (dk_at dksX0_undo_0 15 rfl rfl)
abbrev cX0_restore : ByteArray := method_32_code
def yX0_restore : MethodName := ⟨RX0, "restore", "(LClearingHouse;)I"⟩
def dkwX0_restore_0 : List UInt8 := [42, 182, 0, 117, 167, 0, 6, 76, 4, 172, 3, 172]
abbrev dktX0_restore_0 : List UInt8 := dkwX0_restore_0 ++ []
theorem dksX0_restore_0 : cX0_restore.data.toList.drop 0 = dktX0_restore_0 := by decide +kernel
theorem dX0_restore_0 : decode cX0_restore 0 = .ok (.aload_n 0, 1) := dk_42 (dk_at dksX0_restore_0 0 rfl rfl)
theorem dX0_restore_1 : decode cX0_restore 1 = .ok (.invokevirtual 117, 3) := dk_182 0 117 (dk_at dksX0_restore_0 1 rfl rfl)
theorem dX0_restore_4 : decode cX0_restore 4 = .ok (.goto 6, 3) := dk_167 0 6 (dk_at dksX0_restore_0 4 rfl rfl)
theorem dX0_restore_7 : decode cX0_restore 7 = .ok (.astore_n 1, 1) := dk_76 (dk_at dksX0_restore_0 7 rfl rfl)
theorem dX0_restore_8 : decode cX0_restore 8 = .ok (.iconst 1, 1) := dk_4 (dk_at dksX0_restore_0 8 rfl rfl)
theorem dX0_restore_9 : decode cX0_restore 9 = .ok (.ireturn, 1) := dk_172 (dk_at dksX0_restore_0 9 rfl rfl)
theorem dX0_restore_10 : decode cX0_restore 10 = .ok (.iconst 0, 1) := dk_3 (dk_at dksX0_restore_0 10 rfl rfl)
theorem dX0_restore_11 : decode cX0_restore 11 = .ok (.ireturn, 1) := dk_172 (dk_at dksX0_restore_0 11 rfl rfl)
theorem q79 : (Jvm.Cond.initialized "ClearingHouseLaw") ∈ lw_all := lw_g (lw_at lw_m1 0 rfl) rfl
theorem q125 : (Jvm.Cond.classLink "ClearingHouseLaw" (8 : Nat) "ClearingHouse") ∈ lw_all := lw_g (lw_at lw_m1 46 rfl) rfl
theorem q127 : (Jvm.Cond.methodLink "ClearingHouseLaw" (120 : Nat) ({ cls := "ClearingHouse", name := "<init>", desc := "()V" } : Jvm.MethodName)) ∈ lw_all := lw_g (lw_at lw_m1 48 rfl) rfl
theorem q269 : (Jvm.Cond.methodLink "ClearingHouseLaw" (151 : Nat) ({ cls := "ClearingHouse", name := "netAll", desc := "()I" } : Jvm.MethodName)) ∈ lw_all := lw_g (lw_at lw_m1 190 rfl) rfl
theorem q832 : (Jvm.Cond.methodLink "ClearingHouseLaw" (158 : Nat) ({ cls := "ClearingHouse", name := "cascade", desc := "()I" } : Jvm.MethodName)) ∈ lw_all := lw_g (lw_at lw_m4 33 rfl) rfl
theorem q838 : (Jvm.Cond.methodLink "ClearingHouseLaw" (162 : Nat) ({ cls := "ClearingHouse", name := "call", desc := "()I" } : Jvm.MethodName)) ∈ lw_all := lw_g (lw_at lw_m4 39 rfl) rfl
theorem q844 : (Jvm.Cond.methodLink "ClearingHouseLaw" (166 : Nat) ({ cls := "ClearingHouse", name := "partyCount", desc := "()I" } : Jvm.MethodName)) ∈ lw_all := lw_g (lw_at lw_m4 45 rfl) rfl
theorem q848 : (Jvm.Cond.methodLink "ClearingHouseLaw" (191 : Nat) ({ cls := "ClearingHouse", name := "hasCycle", desc := "()Z" } : Jvm.MethodName)) ∈ lw_all := lw_g (lw_at lw_m4 49 rfl) rfl
theorem q868 : (Jvm.Cond.methodLink "ClearingHouseLaw" (196 : Nat) ({ cls := "ClearingHouse", name := "hasCycleByLeavingOut", desc := "()Z" } : Jvm.MethodName)) ∈ lw_all := lw_g (lw_at lw_m4 69 rfl) rfl
theorem q880 : (Jvm.Cond.methodLink "ClearingHouseLaw" (209 : Nat) ({ cls := "ClearingHouse", name := "fewestPayments", desc := "()I" } : Jvm.MethodName)) ∈ lw_all := lw_g (lw_at lw_m4 81 rfl) rfl
theorem q898 : (Jvm.Cond.methodLink "ClearingHouseLaw" (213 : Nat) ({ cls := "ClearingHouse", name := "fewestPaymentsByTrying", desc := "()I" } : Jvm.MethodName)) ∈ lw_all := lw_g (lw_at lw_m4 99 rfl) rfl
theorem q909 : (Jvm.Cond.methodLink "ClearingHouseLaw" (223 : Nat) ({ cls := "ClearingHouse", name := "defaultsAhead", desc := "()I" } : Jvm.MethodName)) ∈ lw_all := lw_g (lw_at lw_m4 110 rfl) rfl
theorem q914 : (Jvm.Cond.methodLink "ClearingHouseLaw" (227 : Nat) ({ cls := "ClearingHouse", name := "day", desc := "()I" } : Jvm.MethodName)) ∈ lw_all := lw_g (lw_at lw_m4 115 rfl) rfl
theorem q918 : (Jvm.Cond.methodLink "ClearingHouseLaw" (231 : Nat) ({ cls := "ClearingHouse", name := "debtTotal", desc := "()I" } : Jvm.MethodName)) ∈ lw_all := lw_g (lw_at lw_m4 119 rfl) rfl
theorem q926 : (Jvm.Cond.methodLink "ClearingHouseLaw" (235 : Nat) ({ cls := "ClearingHouse", name := "debtByAccounts", desc := "()I" } : Jvm.MethodName)) ∈ lw_all := lw_g (lw_at lw_m4 127 rfl) rfl
theorem q934 : (Jvm.Cond.methodLink "ClearingHouseLaw" (239 : Nat) ({ cls := "ClearingHouse", name := "cashTotal", desc := "()I" } : Jvm.MethodName)) ∈ lw_all := lw_g (lw_at lw_m4 135 rfl) rfl
theorem q942 : (Jvm.Cond.methodLink "ClearingHouseLaw" (243 : Nat) ({ cls := "ClearingHouse", name := "nettedTotal", desc := "()J" } : Jvm.MethodName)) ∈ lw_all := lw_g (lw_at lw_m4 143 rfl) rfl
theorem q946 : (Jvm.Cond.methodLink "ClearingHouseLaw" (248 : Nat) ({ cls := "ClearingHouse", name := "writtenOff", desc := "()I" } : Jvm.MethodName)) ∈ lw_all := lw_g (lw_at lw_m4 147 rfl) rfl
theorem q950 : (Jvm.Cond.methodLink "ClearingHouseLaw" (252 : Nat) ({ cls := "ClearingHouse", name := "defaults", desc := "()I" } : Jvm.MethodName)) ∈ lw_all := lw_g (lw_at lw_m4 151 rfl) rfl
theorem q954 : (Jvm.Cond.methodLink "ClearingHouseLaw" (256 : Nat) ({ cls := "ClearingHouse", name := "debtBits", desc := "()J" } : Jvm.MethodName)) ∈ lw_all := lw_g (lw_at lw_m4 155 rfl) rfl
theorem q962 : (Jvm.Cond.methodLink "ClearingHouseLaw" (267 : Nat) ({ cls := "ClearingHouse", name := "isConsistent", desc := "()Z" } : Jvm.MethodName)) ∈ lw_all := lw_g (lw_at lw_m4 163 rfl) rfl
theorem q984 : (Jvm.Cond.methodLink "ClearingHouseLaw" (296 : Nat) ({ cls := "ClearingHouse", name := "save", desc := "()V" } : Jvm.MethodName)) ∈ lw_all := lw_g (lw_at lw_m4 185 rfl) rfl
theorem q988 : (Jvm.Cond.methodLink "ClearingHouseLaw" (124 : Nat) ({ cls := "ClearingHouseLaw", name := "addParty", desc := "(LClearingHouse;I[J)I" } : Jvm.MethodName)) ∈ lw_all := lw_g (lw_at lw_m4 189 rfl) rfl
theorem q989 : (Jvm.Cond.static ({ cls := "ClearingHouseLaw", name := "addParty", desc := "(LClearingHouse;I[J)I" } : Jvm.MethodName)) ∈ lw_all := lw_g (lw_at lw_m4 190 rfl) rfl
theorem q990 : (Jvm.Cond.codeWith ({ cls := "ClearingHouseLaw", name := "addParty", desc := "(LClearingHouse;I[J)I" } : Jvm.MethodName) method_3_code (4 : Nat) (Option.some Jvm.ClassFile.FieldType.int) [((0 : Nat), (9 : Nat), (12 : Nat), (13 : Nat)), ((0 : Nat), (9 : Nat), (15 : Nat), (15 : Nat))]) ∈ lw_all := lw_g (lw_at lw_m4 191 rfl) rfl
theorem q991 : (Jvm.Cond.classLink "ClearingHouseLaw" (13 : Nat) "java/lang/IllegalArgumentException") ∈ lw_all := lw_g (lw_at lw_m4 192 rfl) rfl
theorem q992 : (Jvm.Cond.classLink "ClearingHouseLaw" (15 : Nat) "java/lang/IllegalStateException") ∈ lw_all := lw_g (lw_at lw_m4 193 rfl) rfl
theorem q993 : (Jvm.Cond.methodLink "ClearingHouseLaw" (7 : Nat) ({ cls := "ClearingHouse", name := "addParty", desc := "(I)I" } : Jvm.MethodName)) ∈ lw_all := lw_g (lw_at lw_m4 194 rfl) rfl
theorem q1013 : (Jvm.Cond.methodLink "ClearingHouseLaw" (133 : Nat) ({ cls := "ClearingHouseLaw", name := "deposit", desc := "(LClearingHouse;II[J)I" } : Jvm.MethodName)) ∈ lw_all := lw_g (lw_at lw_m4 214 rfl) rfl
theorem q1014 : (Jvm.Cond.static ({ cls := "ClearingHouseLaw", name := "deposit", desc := "(LClearingHouse;II[J)I" } : Jvm.MethodName)) ∈ lw_all := lw_g (lw_at lw_m4 215 rfl) rfl
theorem q1015 : (Jvm.Cond.codeWith ({ cls := "ClearingHouseLaw", name := "deposit", desc := "(LClearingHouse;II[J)I" } : Jvm.MethodName) method_4_code (5 : Nat) (Option.some Jvm.ClassFile.FieldType.int) [((0 : Nat), (10 : Nat), (13 : Nat), (21 : Nat)), ((0 : Nat), (10 : Nat), (17 : Nat), (13 : Nat))]) ∈ lw_all := lw_g (lw_at lw_m4 216 rfl) rfl
theorem q1016 : (Jvm.Cond.classLink "ClearingHouseLaw" (21 : Nat) "java/lang/IndexOutOfBoundsException") ∈ lw_all := lw_g (lw_at lw_m4 217 rfl) rfl
theorem q1040 : (Jvm.Cond.methodLink "ClearingHouseLaw" (17 : Nat) ({ cls := "ClearingHouse", name := "deposit", desc := "(II)I" } : Jvm.MethodName)) ∈ lw_all := lw_g (lw_at lw_m5 1 rfl) rfl
theorem q1044 : (Jvm.Cond.methodLink "ClearingHouseLaw" (137 : Nat) ({ cls := "ClearingHouseLaw", name := "owe", desc := "(LClearingHouse;III[J)I" } : Jvm.MethodName)) ∈ lw_all := lw_g (lw_at lw_m5 5 rfl) rfl
theorem q1045 : (Jvm.Cond.static ({ cls := "ClearingHouseLaw", name := "owe", desc := "(LClearingHouse;III[J)I" } : Jvm.MethodName)) ∈ lw_all := lw_g (lw_at lw_m5 6 rfl) rfl
theorem q1046 : (Jvm.Cond.codeWith ({ cls := "ClearingHouseLaw", name := "owe", desc := "(LClearingHouse;III[J)I" } : Jvm.MethodName) method_5_code (6 : Nat) (Option.some Jvm.ClassFile.FieldType.int) [((0 : Nat), (12 : Nat), (15 : Nat), (21 : Nat)), ((0 : Nat), (12 : Nat), (19 : Nat), (13 : Nat)), ((0 : Nat), (12 : Nat), (23 : Nat), (15 : Nat))]) ∈ lw_all := lw_g (lw_at lw_m5 7 rfl) rfl
theorem q1047 : (Jvm.Cond.methodLink "ClearingHouseLaw" (23 : Nat) ({ cls := "ClearingHouse", name := "owe", desc := "(III)I" } : Jvm.MethodName)) ∈ lw_all := lw_g (lw_at lw_m5 8 rfl) rfl
theorem q1070 : (Jvm.Cond.methodLink "ClearingHouseLaw" (141 : Nat) ({ cls := "ClearingHouseLaw", name := "pay", desc := "(LClearingHouse;III[J)I" } : Jvm.MethodName)) ∈ lw_all := lw_g (lw_at lw_m5 31 rfl) rfl
theorem q1071 : (Jvm.Cond.static ({ cls := "ClearingHouseLaw", name := "pay", desc := "(LClearingHouse;III[J)I" } : Jvm.MethodName)) ∈ lw_all := lw_g (lw_at lw_m5 32 rfl) rfl
theorem q1072 : (Jvm.Cond.codeWith ({ cls := "ClearingHouseLaw", name := "pay", desc := "(LClearingHouse;III[J)I" } : Jvm.MethodName) method_6_code (6 : Nat) (Option.some Jvm.ClassFile.FieldType.int) [((0 : Nat), (12 : Nat), (15 : Nat), (21 : Nat)), ((0 : Nat), (12 : Nat), (19 : Nat), (13 : Nat)), ((0 : Nat), (12 : Nat), (23 : Nat), (15 : Nat)), ((0 : Nat), (12 : Nat), (27 : Nat), (30 : Nat))]) ∈ lw_all := lw_g (lw_at lw_m5 33 rfl) rfl
theorem q1073 : (Jvm.Cond.classLink "ClearingHouseLaw" (30 : Nat) "java/lang/UnsupportedOperationException") ∈ lw_all := lw_g (lw_at lw_m5 34 rfl) rfl
theorem q1074 : (Jvm.Cond.methodLink "ClearingHouseLaw" (27 : Nat) ({ cls := "ClearingHouse", name := "pay", desc := "(III)I" } : Jvm.MethodName)) ∈ lw_all := lw_g (lw_at lw_m5 35 rfl) rfl
theorem q1078 : (Jvm.Cond.methodLink "ClearingHouseLaw" (144 : Nat) ({ cls := "ClearingHouseLaw", name := "netPair", desc := "(LClearingHouse;II[J)I" } : Jvm.MethodName)) ∈ lw_all := lw_g (lw_at lw_m5 39 rfl) rfl
theorem q1079 : (Jvm.Cond.static ({ cls := "ClearingHouseLaw", name := "netPair", desc := "(LClearingHouse;II[J)I" } : Jvm.MethodName)) ∈ lw_all := lw_g (lw_at lw_m5 40 rfl) rfl
theorem q1080 : (Jvm.Cond.codeWith ({ cls := "ClearingHouseLaw", name := "netPair", desc := "(LClearingHouse;II[J)I" } : Jvm.MethodName) method_7_code (5 : Nat) (Option.some Jvm.ClassFile.FieldType.int) [((0 : Nat), (10 : Nat), (13 : Nat), (21 : Nat)), ((0 : Nat), (10 : Nat), (17 : Nat), (13 : Nat))]) ∈ lw_all := lw_g (lw_at lw_m5 41 rfl) rfl
theorem q1081 : (Jvm.Cond.methodLink "ClearingHouseLaw" (32 : Nat) ({ cls := "ClearingHouse", name := "netPair", desc := "(II)I" } : Jvm.MethodName)) ∈ lw_all := lw_g (lw_at lw_m5 42 rfl) rfl
theorem q1085 : (Jvm.Cond.methodLink "ClearingHouseLaw" (147 : Nat) ({ cls := "ClearingHouseLaw", name := "netCycle", desc := "(LClearingHouse;[J)I" } : Jvm.MethodName)) ∈ lw_all := lw_g (lw_at lw_m5 46 rfl) rfl
theorem q1086 : (Jvm.Cond.static ({ cls := "ClearingHouseLaw", name := "netCycle", desc := "(LClearingHouse;[J)I" } : Jvm.MethodName)) ∈ lw_all := lw_g (lw_at lw_m5 47 rfl) rfl
theorem q1087 : (Jvm.Cond.codeWith ({ cls := "ClearingHouseLaw", name := "netCycle", desc := "(LClearingHouse;[J)I" } : Jvm.MethodName) method_8_code (3 : Nat) (Option.some Jvm.ClassFile.FieldType.int) [((0 : Nat), (8 : Nat), (11 : Nat), (39 : Nat))]) ∈ lw_all := lw_g (lw_at lw_m5 48 rfl) rfl
theorem q1088 : (Jvm.Cond.classLink "ClearingHouseLaw" (39 : Nat) "java/util/NoSuchElementException") ∈ lw_all := lw_g (lw_at lw_m5 49 rfl) rfl
theorem q1089 : (Jvm.Cond.methodLink "ClearingHouseLaw" (35 : Nat) ({ cls := "ClearingHouse", name := "netCycle", desc := "()I" } : Jvm.MethodName)) ∈ lw_all := lw_g (lw_at lw_m5 50 rfl) rfl
theorem q1095 : (Jvm.Cond.methodLink "ClearingHouseLaw" (155 : Nat) ({ cls := "ClearingHouseLaw", name := "declareDefault", desc := "(LClearingHouse;I[J)I" } : Jvm.MethodName)) ∈ lw_all := lw_g (lw_at lw_m5 56 rfl) rfl
theorem q1096 : (Jvm.Cond.static ({ cls := "ClearingHouseLaw", name := "declareDefault", desc := "(LClearingHouse;I[J)I" } : Jvm.MethodName)) ∈ lw_all := lw_g (lw_at lw_m5 57 rfl) rfl
theorem q1097 : (Jvm.Cond.codeWith ({ cls := "ClearingHouseLaw", name := "declareDefault", desc := "(LClearingHouse;I[J)I" } : Jvm.MethodName) method_9_code (4 : Nat) (Option.some Jvm.ClassFile.FieldType.int) [((0 : Nat), (9 : Nat), (12 : Nat), (21 : Nat)), ((0 : Nat), (9 : Nat), (15 : Nat), (15 : Nat))]) ∈ lw_all := lw_g (lw_at lw_m5 58 rfl) rfl
theorem q1098 : (Jvm.Cond.methodLink "ClearingHouseLaw" (41 : Nat) ({ cls := "ClearingHouse", name := "declareDefault", desc := "(I)I" } : Jvm.MethodName)) ∈ lw_all := lw_g (lw_at lw_m5 59 rfl) rfl
theorem q1102 : (Jvm.Cond.methodLink "ClearingHouseLaw" (170 : Nat) ({ cls := "ClearingHouseLaw", name := "cash", desc := "(LClearingHouse;I[J)I" } : Jvm.MethodName)) ∈ lw_all := lw_g (lw_at lw_m5 63 rfl) rfl
theorem q1103 : (Jvm.Cond.static ({ cls := "ClearingHouseLaw", name := "cash", desc := "(LClearingHouse;I[J)I" } : Jvm.MethodName)) ∈ lw_all := lw_g (lw_at lw_m5 64 rfl) rfl
theorem q1104 : (Jvm.Cond.codeWith ({ cls := "ClearingHouseLaw", name := "cash", desc := "(LClearingHouse;I[J)I" } : Jvm.MethodName) method_10_code (4 : Nat) (Option.some Jvm.ClassFile.FieldType.int) [((0 : Nat), (9 : Nat), (12 : Nat), (21 : Nat))]) ∈ lw_all := lw_g (lw_at lw_m5 65 rfl) rfl
theorem q1105 : (Jvm.Cond.methodLink "ClearingHouseLaw" (44 : Nat) ({ cls := "ClearingHouse", name := "cash", desc := "(I)I" } : Jvm.MethodName)) ∈ lw_all := lw_g (lw_at lw_m5 66 rfl) rfl
theorem q1110 : (Jvm.Cond.methodLink "ClearingHouseLaw" (173 : Nat) ({ cls := "ClearingHouseLaw", name := "debt", desc := "(LClearingHouse;II[J)I" } : Jvm.MethodName)) ∈ lw_all := lw_g (lw_at lw_m5 71 rfl) rfl
theorem q1111 : (Jvm.Cond.static ({ cls := "ClearingHouseLaw", name := "debt", desc := "(LClearingHouse;II[J)I" } : Jvm.MethodName)) ∈ lw_all := lw_g (lw_at lw_m5 72 rfl) rfl
theorem q1112 : (Jvm.Cond.codeWith ({ cls := "ClearingHouseLaw", name := "debt", desc := "(LClearingHouse;II[J)I" } : Jvm.MethodName) method_11_code (5 : Nat) (Option.some Jvm.ClassFile.FieldType.int) [((0 : Nat), (10 : Nat), (13 : Nat), (21 : Nat))]) ∈ lw_all := lw_g (lw_at lw_m5 73 rfl) rfl
theorem q1113 : (Jvm.Cond.methodLink "ClearingHouseLaw" (47 : Nat) ({ cls := "ClearingHouse", name := "debt", desc := "(II)I" } : Jvm.MethodName)) ∈ lw_all := lw_g (lw_at lw_m5 74 rfl) rfl
theorem q1118 : (Jvm.Cond.methodLink "ClearingHouseLaw" (176 : Nat) ({ cls := "ClearingHouseLaw", name := "claims", desc := "(LClearingHouse;I[J)I" } : Jvm.MethodName)) ∈ lw_all := lw_g (lw_at lw_m5 79 rfl) rfl
theorem q1119 : (Jvm.Cond.static ({ cls := "ClearingHouseLaw", name := "claims", desc := "(LClearingHouse;I[J)I" } : Jvm.MethodName)) ∈ lw_all := lw_g (lw_at lw_m5 80 rfl) rfl
theorem q1120 : (Jvm.Cond.codeWith ({ cls := "ClearingHouseLaw", name := "claims", desc := "(LClearingHouse;I[J)I" } : Jvm.MethodName) method_12_code (4 : Nat) (Option.some Jvm.ClassFile.FieldType.int) [((0 : Nat), (9 : Nat), (12 : Nat), (21 : Nat))]) ∈ lw_all := lw_g (lw_at lw_m5 81 rfl) rfl
theorem q1121 : (Jvm.Cond.methodLink "ClearingHouseLaw" (50 : Nat) ({ cls := "ClearingHouse", name := "claims", desc := "(I)I" } : Jvm.MethodName)) ∈ lw_all := lw_g (lw_at lw_m5 82 rfl) rfl
theorem q1126 : (Jvm.Cond.methodLink "ClearingHouseLaw" (179 : Nat) ({ cls := "ClearingHouseLaw", name := "obligations", desc := "(LClearingHouse;I[J)I" } : Jvm.MethodName)) ∈ lw_all := lw_g (lw_at lw_m5 87 rfl) rfl
theorem q1127 : (Jvm.Cond.static ({ cls := "ClearingHouseLaw", name := "obligations", desc := "(LClearingHouse;I[J)I" } : Jvm.MethodName)) ∈ lw_all := lw_g (lw_at lw_m5 88 rfl) rfl
theorem q1128 : (Jvm.Cond.codeWith ({ cls := "ClearingHouseLaw", name := "obligations", desc := "(LClearingHouse;I[J)I" } : Jvm.MethodName) method_13_code (4 : Nat) (Option.some Jvm.ClassFile.FieldType.int) [((0 : Nat), (9 : Nat), (12 : Nat), (21 : Nat))]) ∈ lw_all := lw_g (lw_at lw_m5 89 rfl) rfl
theorem q1129 : (Jvm.Cond.methodLink "ClearingHouseLaw" (53 : Nat) ({ cls := "ClearingHouse", name := "obligations", desc := "(I)I" } : Jvm.MethodName)) ∈ lw_all := lw_g (lw_at lw_m5 90 rfl) rfl
theorem q1134 : (Jvm.Cond.methodLink "ClearingHouseLaw" (182 : Nat) ({ cls := "ClearingHouseLaw", name := "netPosition", desc := "(LClearingHouse;I[J)I" } : Jvm.MethodName)) ∈ lw_all := lw_g (lw_at lw_m5 95 rfl) rfl
theorem q1135 : (Jvm.Cond.static ({ cls := "ClearingHouseLaw", name := "netPosition", desc := "(LClearingHouse;I[J)I" } : Jvm.MethodName)) ∈ lw_all := lw_g (lw_at lw_m5 96 rfl) rfl
theorem q1136 : (Jvm.Cond.codeWith ({ cls := "ClearingHouseLaw", name := "netPosition", desc := "(LClearingHouse;I[J)I" } : Jvm.MethodName) method_14_code (4 : Nat) (Option.some Jvm.ClassFile.FieldType.int) [((0 : Nat), (9 : Nat), (12 : Nat), (21 : Nat))]) ∈ lw_all := lw_g (lw_at lw_m5 97 rfl) rfl
theorem q1137 : (Jvm.Cond.methodLink "ClearingHouseLaw" (56 : Nat) ({ cls := "ClearingHouse", name := "netPosition", desc := "(I)I" } : Jvm.MethodName)) ∈ lw_all := lw_g (lw_at lw_m5 98 rfl) rfl
theorem q1142 : (Jvm.Cond.methodLink "ClearingHouseLaw" (185 : Nat) ({ cls := "ClearingHouseLaw", name := "isInsolvent", desc := "(LClearingHouse;I[J)I" } : Jvm.MethodName)) ∈ lw_all := lw_g (lw_at lw_m5 103 rfl) rfl
theorem q1143 : (Jvm.Cond.static ({ cls := "ClearingHouseLaw", name := "isInsolvent", desc := "(LClearingHouse;I[J)I" } : Jvm.MethodName)) ∈ lw_all := lw_g (lw_at lw_m5 104 rfl) rfl
theorem q1144 : (Jvm.Cond.codeWith ({ cls := "ClearingHouseLaw", name := "isInsolvent", desc := "(LClearingHouse;I[J)I" } : Jvm.MethodName) method_15_code (4 : Nat) (Option.some Jvm.ClassFile.FieldType.int) [((0 : Nat), (16 : Nat), (19 : Nat), (21 : Nat))]) ∈ lw_all := lw_g (lw_at lw_m5 105 rfl) rfl
theorem q1145 : (Jvm.Cond.methodLink "ClearingHouseLaw" (59 : Nat) ({ cls := "ClearingHouse", name := "isInsolvent", desc := "(I)Z" } : Jvm.MethodName)) ∈ lw_all := lw_g (lw_at lw_m5 106 rfl) rfl
theorem q1150 : (Jvm.Cond.methodLink "ClearingHouseLaw" (188 : Nat) ({ cls := "ClearingHouseLaw", name := "partyAtRank", desc := "(LClearingHouse;I[J)I" } : Jvm.MethodName)) ∈ lw_all := lw_g (lw_at lw_m5 111 rfl) rfl
theorem q1151 : (Jvm.Cond.static ({ cls := "ClearingHouseLaw", name := "partyAtRank", desc := "(LClearingHouse;I[J)I" } : Jvm.MethodName)) ∈ lw_all := lw_g (lw_at lw_m5 112 rfl) rfl
theorem q1152 : (Jvm.Cond.codeWith ({ cls := "ClearingHouseLaw", name := "partyAtRank", desc := "(LClearingHouse;I[J)I" } : Jvm.MethodName) method_16_code (4 : Nat) (Option.some Jvm.ClassFile.FieldType.int) [((0 : Nat), (9 : Nat), (12 : Nat), (39 : Nat))]) ∈ lw_all := lw_g (lw_at lw_m5 113 rfl) rfl
theorem q1153 : (Jvm.Cond.methodLink "ClearingHouseLaw" (63 : Nat) ({ cls := "ClearingHouse", name := "partyAtRank", desc := "(I)I" } : Jvm.MethodName)) ∈ lw_all := lw_g (lw_at lw_m5 114 rfl) rfl
theorem q1170 : (Jvm.Cond.methodLink "ClearingHouseLaw" (200 : Nat) ({ cls := "ClearingHouseLaw", name := "cycleSize", desc := "(LClearingHouse;[J)I" } : Jvm.MethodName)) ∈ lw_all := lw_g (lw_at lw_m5 131 rfl) rfl
theorem q1171 : (Jvm.Cond.static ({ cls := "ClearingHouseLaw", name := "cycleSize", desc := "(LClearingHouse;[J)I" } : Jvm.MethodName)) ∈ lw_all := lw_g (lw_at lw_m5 132 rfl) rfl
theorem q1172 : (Jvm.Cond.codeWith ({ cls := "ClearingHouseLaw", name := "cycleSize", desc := "(LClearingHouse;[J)I" } : Jvm.MethodName) method_17_code (3 : Nat) (Option.some Jvm.ClassFile.FieldType.int) [((0 : Nat), (8 : Nat), (11 : Nat), (39 : Nat))]) ∈ lw_all := lw_g (lw_at lw_m5 133 rfl) rfl
theorem q1173 : (Jvm.Cond.methodLink "ClearingHouseLaw" (66 : Nat) ({ cls := "ClearingHouse", name := "cycleSize", desc := "()I" } : Jvm.MethodName)) ∈ lw_all := lw_g (lw_at lw_m5 134 rfl) rfl
theorem q1179 : (Jvm.Cond.methodLink "ClearingHouseLaw" (203 : Nat) ({ cls := "ClearingHouseLaw", name := "cycleParty", desc := "(LClearingHouse;I[J)I" } : Jvm.MethodName)) ∈ lw_all := lw_g (lw_at lw_m5 140 rfl) rfl
theorem q1180 : (Jvm.Cond.static ({ cls := "ClearingHouseLaw", name := "cycleParty", desc := "(LClearingHouse;I[J)I" } : Jvm.MethodName)) ∈ lw_all := lw_g (lw_at lw_m5 141 rfl) rfl
theorem q1181 : (Jvm.Cond.codeWith ({ cls := "ClearingHouseLaw", name := "cycleParty", desc := "(LClearingHouse;I[J)I" } : Jvm.MethodName) method_18_code (4 : Nat) (Option.some Jvm.ClassFile.FieldType.int) [((0 : Nat), (9 : Nat), (12 : Nat), (39 : Nat)), ((0 : Nat), (9 : Nat), (15 : Nat), (21 : Nat))]) ∈ lw_all := lw_g (lw_at lw_m5 142 rfl) rfl
theorem q1182 : (Jvm.Cond.methodLink "ClearingHouseLaw" (69 : Nat) ({ cls := "ClearingHouse", name := "cycleParty", desc := "(I)I" } : Jvm.MethodName)) ∈ lw_all := lw_g (lw_at lw_m5 143 rfl) rfl
theorem q1188 : (Jvm.Cond.methodLink "ClearingHouseLaw" (206 : Nat) ({ cls := "ClearingHouseLaw", name := "cycleAmount", desc := "(LClearingHouse;[J)I" } : Jvm.MethodName)) ∈ lw_all := lw_g (lw_at lw_m5 149 rfl) rfl
theorem q1189 : (Jvm.Cond.static ({ cls := "ClearingHouseLaw", name := "cycleAmount", desc := "(LClearingHouse;[J)I" } : Jvm.MethodName)) ∈ lw_all := lw_g (lw_at lw_m5 150 rfl) rfl
theorem q1190 : (Jvm.Cond.codeWith ({ cls := "ClearingHouseLaw", name := "cycleAmount", desc := "(LClearingHouse;[J)I" } : Jvm.MethodName) method_19_code (3 : Nat) (Option.some Jvm.ClassFile.FieldType.int) [((0 : Nat), (8 : Nat), (11 : Nat), (39 : Nat))]) ∈ lw_all := lw_g (lw_at lw_m5 151 rfl) rfl
theorem q1191 : (Jvm.Cond.methodLink "ClearingHouseLaw" (72 : Nat) ({ cls := "ClearingHouse", name := "cycleAmount", desc := "()I" } : Jvm.MethodName)) ∈ lw_all := lw_g (lw_at lw_m5 152 rfl) rfl
theorem q1195 : (Jvm.Cond.methodLink "ClearingHouseLaw" (217 : Nat) ({ cls := "ClearingHouseLaw", name := "shareOf", desc := "(LClearingHouse;II[J)I" } : Jvm.MethodName)) ∈ lw_all := lw_g (lw_at lw_m5 156 rfl) rfl
theorem q1196 : (Jvm.Cond.static ({ cls := "ClearingHouseLaw", name := "shareOf", desc := "(LClearingHouse;II[J)I" } : Jvm.MethodName)) ∈ lw_all := lw_g (lw_at lw_m5 157 rfl) rfl
theorem q1197 : (Jvm.Cond.codeWith ({ cls := "ClearingHouseLaw", name := "shareOf", desc := "(LClearingHouse;II[J)I" } : Jvm.MethodName) method_20_code (5 : Nat) (Option.some Jvm.ClassFile.FieldType.int) [((0 : Nat), (10 : Nat), (13 : Nat), (21 : Nat)), ((0 : Nat), (10 : Nat), (17 : Nat), (15 : Nat))]) ∈ lw_all := lw_g (lw_at lw_m5 158 rfl) rfl
theorem q1198 : (Jvm.Cond.methodLink "ClearingHouseLaw" (75 : Nat) ({ cls := "ClearingHouse", name := "shareOf", desc := "(II)I" } : Jvm.MethodName)) ∈ lw_all := lw_g (lw_at lw_m5 159 rfl) rfl
theorem q1209 : (Jvm.Cond.methodLink "ClearingHouseLaw" (220 : Nat) ({ cls := "ClearingHouseLaw", name := "shareByCounting", desc := "(LClearingHouse;II[J)I" } : Jvm.MethodName)) ∈ lw_all := lw_g (lw_at lw_m5 170 rfl) rfl
theorem q1210 : (Jvm.Cond.static ({ cls := "ClearingHouseLaw", name := "shareByCounting", desc := "(LClearingHouse;II[J)I" } : Jvm.MethodName)) ∈ lw_all := lw_g (lw_at lw_m5 171 rfl) rfl
theorem q1211 : (Jvm.Cond.codeWith ({ cls := "ClearingHouseLaw", name := "shareByCounting", desc := "(LClearingHouse;II[J)I" } : Jvm.MethodName) method_21_code (5 : Nat) (Option.some Jvm.ClassFile.FieldType.int) [((0 : Nat), (10 : Nat), (13 : Nat), (21 : Nat)), ((0 : Nat), (10 : Nat), (17 : Nat), (15 : Nat))]) ∈ lw_all := lw_g (lw_at lw_m5 172 rfl) rfl
theorem q1212 : (Jvm.Cond.methodLink "ClearingHouseLaw" (78 : Nat) ({ cls := "ClearingHouse", name := "shareByCounting", desc := "(II)I" } : Jvm.MethodName)) ∈ lw_all := lw_g (lw_at lw_m5 173 rfl) rfl
theorem q1217 : (Jvm.Cond.methodLink "ClearingHouseLaw" (260 : Nat) ({ cls := "ClearingHouseLaw", name := "meanObligations", desc := "(LClearingHouse;[D)I" } : Jvm.MethodName)) ∈ lw_all := lw_g (lw_at lw_m5 178 rfl) rfl
theorem q1218 : (Jvm.Cond.static ({ cls := "ClearingHouseLaw", name := "meanObligations", desc := "(LClearingHouse;[D)I" } : Jvm.MethodName)) ∈ lw_all := lw_g (lw_at lw_m5 179 rfl) rfl
theorem q1219 : (Jvm.Cond.codeWith ({ cls := "ClearingHouseLaw", name := "meanObligations", desc := "(LClearingHouse;[D)I" } : Jvm.MethodName) method_22_code (3 : Nat) (Option.some Jvm.ClassFile.FieldType.int) [((0 : Nat), (7 : Nat), (10 : Nat), (85 : Nat))]) ∈ lw_all := lw_g (lw_at lw_m5 180 rfl) rfl
theorem q1220 : (Jvm.Cond.classLink "ClearingHouseLaw" (85 : Nat) "java/lang/ArithmeticException") ∈ lw_all := lw_g (lw_at lw_m5 181 rfl) rfl
theorem q1234 : (Jvm.Cond.methodLink "ClearingHouseLaw" (81 : Nat) ({ cls := "ClearingHouse", name := "meanObligations", desc := "()D" } : Jvm.MethodName)) ∈ lw_all := lw_g (lw_at lw_m5 195 rfl) rfl
theorem q1246 : (Jvm.Cond.methodLink "ClearingHouseLaw" (264 : Nat) ({ cls := "ClearingHouseLaw", name := "coverage", desc := "(LClearingHouse;[D)I" } : Jvm.MethodName)) ∈ lw_all := lw_g (lw_at lw_m5 207 rfl) rfl
theorem q1247 : (Jvm.Cond.static ({ cls := "ClearingHouseLaw", name := "coverage", desc := "(LClearingHouse;[D)I" } : Jvm.MethodName)) ∈ lw_all := lw_g (lw_at lw_m5 208 rfl) rfl
theorem q1248 : (Jvm.Cond.codeWith ({ cls := "ClearingHouseLaw", name := "coverage", desc := "(LClearingHouse;[D)I" } : Jvm.MethodName) method_23_code (3 : Nat) (Option.some Jvm.ClassFile.FieldType.int) [((0 : Nat), (8 : Nat), (11 : Nat), (85 : Nat))]) ∈ lw_all := lw_g (lw_at lw_m5 209 rfl) rfl
theorem q1249 : (Jvm.Cond.methodLink "ClearingHouseLaw" (87 : Nat) ({ cls := "ClearingHouse", name := "coverage", desc := "()F" } : Jvm.MethodName)) ∈ lw_all := lw_g (lw_at lw_m5 210 rfl) rfl
theorem q1253 : (Jvm.Cond.methodLink "ClearingHouseLaw" (271 : Nat) ({ cls := "ClearingHouseLaw", name := "append", desc := "(LClearingHouse;C[J)I" } : Jvm.MethodName)) ∈ lw_all := lw_g (lw_at lw_m5 214 rfl) rfl
theorem q1254 : (Jvm.Cond.static ({ cls := "ClearingHouseLaw", name := "append", desc := "(LClearingHouse;C[J)I" } : Jvm.MethodName)) ∈ lw_all := lw_g (lw_at lw_m5 215 rfl) rfl
theorem q1255 : (Jvm.Cond.codeWith ({ cls := "ClearingHouseLaw", name := "append", desc := "(LClearingHouse;C[J)I" } : Jvm.MethodName) method_24_code (4 : Nat) (Option.some Jvm.ClassFile.FieldType.int) [((0 : Nat), (9 : Nat), (12 : Nat), (15 : Nat))]) ∈ lw_all := lw_g (lw_at lw_m5 216 rfl) rfl
theorem q1256 : (Jvm.Cond.methodLink "ClearingHouseLaw" (91 : Nat) ({ cls := "ClearingHouse", name := "append", desc := "(C)I" } : Jvm.MethodName)) ∈ lw_all := lw_g (lw_at lw_m5 217 rfl) rfl
theorem q1355 : (Jvm.Cond.methodLink "ClearingHouseLaw" (275 : Nat) ({ cls := "ClearingHouseLaw", name := "run", desc := "(LClearingHouse;[J)I" } : Jvm.MethodName)) ∈ lw_all := lw_g (lw_at lw_m6 76 rfl) rfl
theorem q1356 : (Jvm.Cond.static ({ cls := "ClearingHouseLaw", name := "run", desc := "(LClearingHouse;[J)I" } : Jvm.MethodName)) ∈ lw_all := lw_g (lw_at lw_m6 77 rfl) rfl
theorem q1357 : (Jvm.Cond.codeWith ({ cls := "ClearingHouseLaw", name := "run", desc := "(LClearingHouse;[J)I" } : Jvm.MethodName) method_25_code (3 : Nat) (Option.some Jvm.ClassFile.FieldType.int) [((0 : Nat), (8 : Nat), (11 : Nat), (13 : Nat)), ((0 : Nat), (8 : Nat), (14 : Nat), (30 : Nat))]) ∈ lw_all := lw_g (lw_at lw_m6 78 rfl) rfl
theorem q1358 : (Jvm.Cond.methodLink "ClearingHouseLaw" (95 : Nat) ({ cls := "ClearingHouse", name := "run", desc := "()I" } : Jvm.MethodName)) ∈ lw_all := lw_g (lw_at lw_m6 79 rfl) rfl
theorem q1791 : (Jvm.Cond.methodLink "ClearingHouseLaw" (278 : Nat) ({ cls := "ClearingHouseLaw", name := "errorPosition", desc := "(LClearingHouse;[J)I" } : Jvm.MethodName)) ∈ lw_all := lw_g (lw_at lw_m8 32 rfl) rfl
theorem q1792 : (Jvm.Cond.static ({ cls := "ClearingHouseLaw", name := "errorPosition", desc := "(LClearingHouse;[J)I" } : Jvm.MethodName)) ∈ lw_all := lw_g (lw_at lw_m8 33 rfl) rfl
theorem q1793 : (Jvm.Cond.codeWith ({ cls := "ClearingHouseLaw", name := "errorPosition", desc := "(LClearingHouse;[J)I" } : Jvm.MethodName) method_26_code (3 : Nat) (Option.some Jvm.ClassFile.FieldType.int) [((0 : Nat), (8 : Nat), (11 : Nat), (39 : Nat))]) ∈ lw_all := lw_g (lw_at lw_m8 34 rfl) rfl
theorem q1794 : (Jvm.Cond.methodLink "ClearingHouseLaw" (98 : Nat) ({ cls := "ClearingHouse", name := "errorPosition", desc := "()I" } : Jvm.MethodName)) ∈ lw_all := lw_g (lw_at lw_m8 35 rfl) rfl
theorem q1798 : (Jvm.Cond.methodLink "ClearingHouseLaw" (281 : Nat) ({ cls := "ClearingHouseLaw", name := "failedCommand", desc := "(LClearingHouse;[J)I" } : Jvm.MethodName)) ∈ lw_all := lw_g (lw_at lw_m8 39 rfl) rfl
theorem q1799 : (Jvm.Cond.static ({ cls := "ClearingHouseLaw", name := "failedCommand", desc := "(LClearingHouse;[J)I" } : Jvm.MethodName)) ∈ lw_all := lw_g (lw_at lw_m8 40 rfl) rfl
theorem q1800 : (Jvm.Cond.codeWith ({ cls := "ClearingHouseLaw", name := "failedCommand", desc := "(LClearingHouse;[J)I" } : Jvm.MethodName) method_27_code (3 : Nat) (Option.some Jvm.ClassFile.FieldType.int) [((0 : Nat), (8 : Nat), (11 : Nat), (39 : Nat))]) ∈ lw_all := lw_g (lw_at lw_m8 41 rfl) rfl
theorem q1801 : (Jvm.Cond.methodLink "ClearingHouseLaw" (101 : Nat) ({ cls := "ClearingHouse", name := "failedCommand", desc := "()I" } : Jvm.MethodName)) ∈ lw_all := lw_g (lw_at lw_m8 42 rfl) rfl
theorem q1805 : (Jvm.Cond.methodLink "ClearingHouseLaw" (284 : Nat) ({ cls := "ClearingHouseLaw", name := "writeParty", desc := "(LClearingHouse;I[J)I" } : Jvm.MethodName)) ∈ lw_all := lw_g (lw_at lw_m8 46 rfl) rfl
theorem q1806 : (Jvm.Cond.static ({ cls := "ClearingHouseLaw", name := "writeParty", desc := "(LClearingHouse;I[J)I" } : Jvm.MethodName)) ∈ lw_all := lw_g (lw_at lw_m8 47 rfl) rfl
theorem q1807 : (Jvm.Cond.codeWith ({ cls := "ClearingHouseLaw", name := "writeParty", desc := "(LClearingHouse;I[J)I" } : Jvm.MethodName) method_28_code (4 : Nat) (Option.some Jvm.ClassFile.FieldType.int) [((0 : Nat), (9 : Nat), (12 : Nat), (21 : Nat))]) ∈ lw_all := lw_g (lw_at lw_m8 48 rfl) rfl
theorem q1808 : (Jvm.Cond.methodLink "ClearingHouseLaw" (104 : Nat) ({ cls := "ClearingHouse", name := "writeParty", desc := "(I)I" } : Jvm.MethodName)) ∈ lw_all := lw_g (lw_at lw_m8 49 rfl) rfl
theorem q1826 : (Jvm.Cond.methodLink "ClearingHouseLaw" (287 : Nat) ({ cls := "ClearingHouseLaw", name := "writeCycle", desc := "(LClearingHouse;[J)I" } : Jvm.MethodName)) ∈ lw_all := lw_g (lw_at lw_m8 67 rfl) rfl
theorem q1827 : (Jvm.Cond.static ({ cls := "ClearingHouseLaw", name := "writeCycle", desc := "(LClearingHouse;[J)I" } : Jvm.MethodName)) ∈ lw_all := lw_g (lw_at lw_m8 68 rfl) rfl
theorem q1828 : (Jvm.Cond.codeWith ({ cls := "ClearingHouseLaw", name := "writeCycle", desc := "(LClearingHouse;[J)I" } : Jvm.MethodName) method_29_code (3 : Nat) (Option.some Jvm.ClassFile.FieldType.int) [((0 : Nat), (8 : Nat), (11 : Nat), (39 : Nat))]) ∈ lw_all := lw_g (lw_at lw_m8 69 rfl) rfl
theorem q1829 : (Jvm.Cond.methodLink "ClearingHouseLaw" (107 : Nat) ({ cls := "ClearingHouse", name := "writeCycle", desc := "()I" } : Jvm.MethodName)) ∈ lw_all := lw_g (lw_at lw_m8 70 rfl) rfl
theorem q1845 : (Jvm.Cond.methodLink "ClearingHouseLaw" (290 : Nat) ({ cls := "ClearingHouseLaw", name := "outputAt", desc := "(LClearingHouse;I[J)I" } : Jvm.MethodName)) ∈ lw_all := lw_g (lw_at lw_m8 86 rfl) rfl
theorem q1846 : (Jvm.Cond.static ({ cls := "ClearingHouseLaw", name := "outputAt", desc := "(LClearingHouse;I[J)I" } : Jvm.MethodName)) ∈ lw_all := lw_g (lw_at lw_m8 87 rfl) rfl
theorem q1847 : (Jvm.Cond.codeWith ({ cls := "ClearingHouseLaw", name := "outputAt", desc := "(LClearingHouse;I[J)I" } : Jvm.MethodName) method_30_code (4 : Nat) (Option.some Jvm.ClassFile.FieldType.int) [((0 : Nat), (9 : Nat), (12 : Nat), (21 : Nat))]) ∈ lw_all := lw_g (lw_at lw_m8 88 rfl) rfl
theorem q1848 : (Jvm.Cond.methodLink "ClearingHouseLaw" (110 : Nat) ({ cls := "ClearingHouse", name := "outputAt", desc := "(I)C" } : Jvm.MethodName)) ∈ lw_all := lw_g (lw_at lw_m8 89 rfl) rfl
theorem q1853 : (Jvm.Cond.methodLink "ClearingHouseLaw" (293 : Nat) ({ cls := "ClearingHouseLaw", name := "undo", desc := "(LClearingHouse;[J)I" } : Jvm.MethodName)) ∈ lw_all := lw_g (lw_at lw_m8 94 rfl) rfl
theorem q1854 : (Jvm.Cond.static ({ cls := "ClearingHouseLaw", name := "undo", desc := "(LClearingHouse;[J)I" } : Jvm.MethodName)) ∈ lw_all := lw_g (lw_at lw_m8 95 rfl) rfl
theorem q1855 : (Jvm.Cond.codeWith ({ cls := "ClearingHouseLaw", name := "undo", desc := "(LClearingHouse;[J)I" } : Jvm.MethodName) method_31_code (3 : Nat) (Option.some Jvm.ClassFile.FieldType.int) [((0 : Nat), (8 : Nat), (11 : Nat), (15 : Nat))]) ∈ lw_all := lw_g (lw_at lw_m8 96 rfl) rfl
theorem q1856 : (Jvm.Cond.methodLink "ClearingHouseLaw" (114 : Nat) ({ cls := "ClearingHouse", name := "undo", desc := "()I" } : Jvm.MethodName)) ∈ lw_all := lw_g (lw_at lw_m8 97 rfl) rfl
theorem q1884 : (Jvm.Cond.methodLink "ClearingHouseLaw" (300 : Nat) ({ cls := "ClearingHouseLaw", name := "restore", desc := "(LClearingHouse;)I" } : Jvm.MethodName)) ∈ lw_all := lw_g (lw_at lw_m8 125 rfl) rfl
theorem q1885 : (Jvm.Cond.static ({ cls := "ClearingHouseLaw", name := "restore", desc := "(LClearingHouse;)I" } : Jvm.MethodName)) ∈ lw_all := lw_g (lw_at lw_m8 126 rfl) rfl
theorem q1886 : (Jvm.Cond.codeWith ({ cls := "ClearingHouseLaw", name := "restore", desc := "(LClearingHouse;)I" } : Jvm.MethodName) method_32_code (2 : Nat) (Option.some Jvm.ClassFile.FieldType.int) [((0 : Nat), (4 : Nat), (7 : Nat), (15 : Nat))]) ∈ lw_all := lw_g (lw_at lw_m8 127 rfl) rfl
theorem q1887 : (Jvm.Cond.methodLink "ClearingHouseLaw" (117 : Nat) ({ cls := "ClearingHouse", name := "restore", desc := "()V" } : Jvm.MethodName)) ∈ lw_all := lw_g (lw_at lw_m8 128 rfl) rfl
theorem q1902 : (Jvm.Cond.classLink "ClearingHouseLaw" (121 : Nat) "ClearingHouseModel") ∈ lw_all := lw_g (lw_at lw_m8 143 rfl) rfl
theorem q1904 : (Jvm.Cond.methodLink "ClearingHouseLaw" (123 : Nat) ({ cls := "ClearingHouseModel", name := "<init>", desc := "()V" } : Jvm.MethodName)) ∈ lw_all := lw_g (lw_at lw_m8 145 rfl) rfl
theorem q1976 : (Jvm.Cond.methodLink "ClearingHouseLaw" (130 : Nat) ({ cls := "ClearingHouseModel", name := "thrown", desc := "()I" } : Jvm.MethodName)) ∈ lw_all := lw_g (lw_at lw_m8 217 rfl) rfl
theorem q1980 : (Jvm.Cond.methodLink "ClearingHouseLaw" (129 : Nat) ({ cls := "ClearingHouseModel", name := "addParty", desc := "(I)I" } : Jvm.MethodName)) ∈ lw_all := lw_g (lw_at lw_m8 221 rfl) rfl
theorem q1998 : (Jvm.Cond.methodLink "ClearingHouseLaw" (136 : Nat) ({ cls := "ClearingHouseModel", name := "deposit", desc := "(II)I" } : Jvm.MethodName)) ∈ lw_all := lw_g (lw_at lw_m8 239 rfl) rfl
theorem q2010 : (Jvm.Cond.methodLink "ClearingHouseLaw" (140 : Nat) ({ cls := "ClearingHouseModel", name := "owe", desc := "(III)I" } : Jvm.MethodName)) ∈ lw_all := lw_g (lw_at lw_m9 11 rfl) rfl
theorem q2022 : (Jvm.Cond.methodLink "ClearingHouseLaw" (143 : Nat) ({ cls := "ClearingHouseModel", name := "pay", desc := "(III)I" } : Jvm.MethodName)) ∈ lw_all := lw_g (lw_at lw_m9 23 rfl) rfl
theorem q2030 : (Jvm.Cond.methodLink "ClearingHouseLaw" (146 : Nat) ({ cls := "ClearingHouseModel", name := "netPair", desc := "(II)I" } : Jvm.MethodName)) ∈ lw_all := lw_g (lw_at lw_m9 31 rfl) rfl
theorem q2037 : (Jvm.Cond.methodLink "ClearingHouseLaw" (150 : Nat) ({ cls := "ClearingHouseModel", name := "netCycle", desc := "()I" } : Jvm.MethodName)) ∈ lw_all := lw_g (lw_at lw_m9 38 rfl) rfl
theorem q2057 : (Jvm.Cond.methodLink "ClearingHouseLaw" (154 : Nat) ({ cls := "ClearingHouseModel", name := "netAll", desc := "()I" } : Jvm.MethodName)) ∈ lw_all := lw_g (lw_at lw_m9 58 rfl) rfl
theorem q2061 : (Jvm.Cond.methodLink "ClearingHouseLaw" (195 : Nat) ({ cls := "ClearingHouseModel", name := "hasCycle", desc := "()Z" } : Jvm.MethodName)) ∈ lw_all := lw_g (lw_at lw_m9 62 rfl) rfl
theorem q2065 : (Jvm.Cond.methodLink "ClearingHouseLaw" (199 : Nat) ({ cls := "ClearingHouseModel", name := "hasCycleByLeavingOut", desc := "()Z" } : Jvm.MethodName)) ∈ lw_all := lw_g (lw_at lw_m9 66 rfl) rfl
theorem q2069 : (Jvm.Cond.methodLink "ClearingHouseLaw" (202 : Nat) ({ cls := "ClearingHouseModel", name := "cycleSize", desc := "()I" } : Jvm.MethodName)) ∈ lw_all := lw_g (lw_at lw_m9 70 rfl) rfl
theorem q2073 : (Jvm.Cond.methodLink "ClearingHouseLaw" (205 : Nat) ({ cls := "ClearingHouseModel", name := "cycleParty", desc := "(I)I" } : Jvm.MethodName)) ∈ lw_all := lw_g (lw_at lw_m9 74 rfl) rfl
theorem q2077 : (Jvm.Cond.methodLink "ClearingHouseLaw" (208 : Nat) ({ cls := "ClearingHouseModel", name := "cycleAmount", desc := "()I" } : Jvm.MethodName)) ∈ lw_all := lw_g (lw_at lw_m9 78 rfl) rfl
theorem q2081 : (Jvm.Cond.methodLink "ClearingHouseLaw" (157 : Nat) ({ cls := "ClearingHouseModel", name := "declareDefault", desc := "(I)I" } : Jvm.MethodName)) ∈ lw_all := lw_g (lw_at lw_m9 82 rfl) rfl
theorem q2109 : (Jvm.Cond.methodLink "ClearingHouseLaw" (161 : Nat) ({ cls := "ClearingHouseModel", name := "cascade", desc := "()I" } : Jvm.MethodName)) ∈ lw_all := lw_g (lw_at lw_m9 110 rfl) rfl
theorem q2117 : (Jvm.Cond.methodLink "ClearingHouseLaw" (226 : Nat) ({ cls := "ClearingHouseModel", name := "defaultsAhead", desc := "()I" } : Jvm.MethodName)) ∈ lw_all := lw_g (lw_at lw_m9 118 rfl) rfl
theorem q2121 : (Jvm.Cond.methodLink "ClearingHouseLaw" (219 : Nat) ({ cls := "ClearingHouseModel", name := "shareOf", desc := "(II)I" } : Jvm.MethodName)) ∈ lw_all := lw_g (lw_at lw_m9 122 rfl) rfl
theorem q2129 : (Jvm.Cond.methodLink "ClearingHouseLaw" (222 : Nat) ({ cls := "ClearingHouseModel", name := "shareByCounting", desc := "(II)I" } : Jvm.MethodName)) ∈ lw_all := lw_g (lw_at lw_m9 130 rfl) rfl
theorem q2133 : (Jvm.Cond.methodLink "ClearingHouseLaw" (165 : Nat) ({ cls := "ClearingHouseModel", name := "call", desc := "()I" } : Jvm.MethodName)) ∈ lw_all := lw_g (lw_at lw_m9 134 rfl) rfl
theorem q2137 : (Jvm.Cond.methodLink "ClearingHouseLaw" (169 : Nat) ({ cls := "ClearingHouseModel", name := "partyCount", desc := "()I" } : Jvm.MethodName)) ∈ lw_all := lw_g (lw_at lw_m9 138 rfl) rfl
theorem q2141 : (Jvm.Cond.methodLink "ClearingHouseLaw" (172 : Nat) ({ cls := "ClearingHouseModel", name := "cash", desc := "(I)I" } : Jvm.MethodName)) ∈ lw_all := lw_g (lw_at lw_m9 142 rfl) rfl
theorem q2145 : (Jvm.Cond.methodLink "ClearingHouseLaw" (175 : Nat) ({ cls := "ClearingHouseModel", name := "debt", desc := "(II)I" } : Jvm.MethodName)) ∈ lw_all := lw_g (lw_at lw_m9 146 rfl) rfl
theorem q2149 : (Jvm.Cond.methodLink "ClearingHouseLaw" (178 : Nat) ({ cls := "ClearingHouseModel", name := "claims", desc := "(I)I" } : Jvm.MethodName)) ∈ lw_all := lw_g (lw_at lw_m9 150 rfl) rfl
theorem q2153 : (Jvm.Cond.methodLink "ClearingHouseLaw" (181 : Nat) ({ cls := "ClearingHouseModel", name := "obligations", desc := "(I)I" } : Jvm.MethodName)) ∈ lw_all := lw_g (lw_at lw_m9 154 rfl) rfl
theorem q2157 : (Jvm.Cond.methodLink "ClearingHouseLaw" (184 : Nat) ({ cls := "ClearingHouseModel", name := "netPosition", desc := "(I)I" } : Jvm.MethodName)) ∈ lw_all := lw_g (lw_at lw_m9 158 rfl) rfl
theorem q2165 : (Jvm.Cond.methodLink "ClearingHouseLaw" (187 : Nat) ({ cls := "ClearingHouseModel", name := "isInsolvent", desc := "(I)Z" } : Jvm.MethodName)) ∈ lw_all := lw_g (lw_at lw_m9 166 rfl) rfl
theorem q2169 : (Jvm.Cond.methodLink "ClearingHouseLaw" (190 : Nat) ({ cls := "ClearingHouseModel", name := "partyAtRank", desc := "(I)I" } : Jvm.MethodName)) ∈ lw_all := lw_g (lw_at lw_m9 170 rfl) rfl
theorem q2177 : (Jvm.Cond.methodLink "ClearingHouseLaw" (212 : Nat) ({ cls := "ClearingHouseModel", name := "fewestPayments", desc := "()I" } : Jvm.MethodName)) ∈ lw_all := lw_g (lw_at lw_m9 178 rfl) rfl
theorem q2185 : (Jvm.Cond.methodLink "ClearingHouseLaw" (216 : Nat) ({ cls := "ClearingHouseModel", name := "fewestPaymentsByTrying", desc := "()I" } : Jvm.MethodName)) ∈ lw_all := lw_g (lw_at lw_m9 186 rfl) rfl
theorem q2189 : (Jvm.Cond.methodLink "ClearingHouseLaw" (230 : Nat) ({ cls := "ClearingHouseModel", name := "day", desc := "()I" } : Jvm.MethodName)) ∈ lw_all := lw_g (lw_at lw_m9 190 rfl) rfl
theorem q2193 : (Jvm.Cond.methodLink "ClearingHouseLaw" (234 : Nat) ({ cls := "ClearingHouseModel", name := "debtTotal", desc := "()I" } : Jvm.MethodName)) ∈ lw_all := lw_g (lw_at lw_m9 194 rfl) rfl
theorem q2201 : (Jvm.Cond.methodLink "ClearingHouseLaw" (238 : Nat) ({ cls := "ClearingHouseModel", name := "debtByAccounts", desc := "()I" } : Jvm.MethodName)) ∈ lw_all := lw_g (lw_at lw_m9 202 rfl) rfl
theorem q2205 : (Jvm.Cond.methodLink "ClearingHouseLaw" (242 : Nat) ({ cls := "ClearingHouseModel", name := "cashTotal", desc := "()I" } : Jvm.MethodName)) ∈ lw_all := lw_g (lw_at lw_m9 206 rfl) rfl
theorem q2213 : (Jvm.Cond.methodLink "ClearingHouseLaw" (247 : Nat) ({ cls := "ClearingHouseModel", name := "nettedTotal", desc := "()J" } : Jvm.MethodName)) ∈ lw_all := lw_g (lw_at lw_m9 214 rfl) rfl
theorem q2217 : (Jvm.Cond.methodLink "ClearingHouseLaw" (251 : Nat) ({ cls := "ClearingHouseModel", name := "writtenOff", desc := "()I" } : Jvm.MethodName)) ∈ lw_all := lw_g (lw_at lw_m9 218 rfl) rfl
theorem q2221 : (Jvm.Cond.methodLink "ClearingHouseLaw" (255 : Nat) ({ cls := "ClearingHouseModel", name := "defaults", desc := "()I" } : Jvm.MethodName)) ∈ lw_all := lw_g (lw_at lw_m9 222 rfl) rfl
theorem q2225 : (Jvm.Cond.methodLink "ClearingHouseLaw" (259 : Nat) ({ cls := "ClearingHouseModel", name := "debtBits", desc := "()J" } : Jvm.MethodName)) ∈ lw_all := lw_g (lw_at lw_m9 226 rfl) rfl
theorem q2229 : (Jvm.Cond.methodLink "ClearingHouseLaw" (263 : Nat) ({ cls := "ClearingHouseModel", name := "meanObligations", desc := "()D" } : Jvm.MethodName)) ∈ lw_all := lw_g (lw_at lw_m9 230 rfl) rfl
theorem q2233 : (Jvm.Cond.methodLink "ClearingHouseLaw" (266 : Nat) ({ cls := "ClearingHouseModel", name := "coverage", desc := "()F" } : Jvm.MethodName)) ∈ lw_all := lw_g (lw_at lw_m9 234 rfl) rfl
theorem q2237 : (Jvm.Cond.methodLink "ClearingHouseLaw" (270 : Nat) ({ cls := "ClearingHouseModel", name := "isConsistent", desc := "()Z" } : Jvm.MethodName)) ∈ lw_all := lw_g (lw_at lw_m9 238 rfl) rfl
theorem q2241 : (Jvm.Cond.methodLink "ClearingHouseLaw" (274 : Nat) ({ cls := "ClearingHouseModel", name := "append", desc := "(C)I" } : Jvm.MethodName)) ∈ lw_all := lw_g (lw_at lw_m10 2 rfl) rfl
theorem q2245 : (Jvm.Cond.methodLink "ClearingHouseLaw" (277 : Nat) ({ cls := "ClearingHouseModel", name := "run", desc := "()I" } : Jvm.MethodName)) ∈ lw_all := lw_g (lw_at lw_m10 6 rfl) rfl
theorem q2311 : (Jvm.Cond.methodLink "ClearingHouseLaw" (280 : Nat) ({ cls := "ClearingHouseModel", name := "errorPosition", desc := "()I" } : Jvm.MethodName)) ∈ lw_all := lw_g (lw_at lw_m10 72 rfl) rfl
theorem q2315 : (Jvm.Cond.methodLink "ClearingHouseLaw" (283 : Nat) ({ cls := "ClearingHouseModel", name := "failedCommand", desc := "()I" } : Jvm.MethodName)) ∈ lw_all := lw_g (lw_at lw_m10 76 rfl) rfl
theorem q2319 : (Jvm.Cond.methodLink "ClearingHouseLaw" (286 : Nat) ({ cls := "ClearingHouseModel", name := "writeParty", desc := "(I)I" } : Jvm.MethodName)) ∈ lw_all := lw_g (lw_at lw_m10 80 rfl) rfl
theorem q2335 : (Jvm.Cond.methodLink "ClearingHouseLaw" (289 : Nat) ({ cls := "ClearingHouseModel", name := "writeCycle", desc := "()I" } : Jvm.MethodName)) ∈ lw_all := lw_g (lw_at lw_m10 96 rfl) rfl
theorem q2339 : (Jvm.Cond.methodLink "ClearingHouseLaw" (292 : Nat) ({ cls := "ClearingHouseModel", name := "outputAt", desc := "(I)C" } : Jvm.MethodName)) ∈ lw_all := lw_g (lw_at lw_m10 100 rfl) rfl
theorem q2343 : (Jvm.Cond.methodLink "ClearingHouseLaw" (295 : Nat) ({ cls := "ClearingHouseModel", name := "undo", desc := "()I" } : Jvm.MethodName)) ∈ lw_all := lw_g (lw_at lw_m10 104 rfl) rfl
theorem q2347 : (Jvm.Cond.methodLink "ClearingHouseLaw" (299 : Nat) ({ cls := "ClearingHouseModel", name := "save", desc := "()V" } : Jvm.MethodName)) ∈ lw_all := lw_g (lw_at lw_m10 108 rfl) rfl
theorem q2351 : (Jvm.Cond.methodLink "ClearingHouseLaw" (303 : Nat) ({ cls := "ClearingHouseModel", name := "restore", desc := "()V" } : Jvm.MethodName)) ∈ lw_all := lw_g (lw_at lw_m10 112 rfl) rfl
