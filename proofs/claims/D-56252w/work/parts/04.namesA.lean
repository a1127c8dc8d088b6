/-! ClearingHouse -/
set_option maxRecDepth 100000
def RX1 : String := "ClearingHouse"
def TX1 : u_T := fun k => match k with
  | 0 => ("ClearingHouse", "house", "LClearingHouse$House;", false)
  | 1 => ("ClearingHouse", "saved", "LClearingHouse$House;", false)
  | 2 => ("ClearingHouse", "history", "Ljava/util/Deque;", true)
  | 3 => ("ClearingHouse", "buffer", "Ljava/lang/StringBuilder;", true)
  | 4 => ("ClearingHouse", "output", "Ljava/lang/String;", false)
  | 5 => ("ClearingHouse", "errorPosition", "I", false)
  | _ => ("ClearingHouse", "failedCommand", "I", false)
def tyX1 : Nat → FieldType := fun k => match k with
  | 0 => .object "ClearingHouse$House"
  | 1 => .object "ClearingHouse$House"
  | 2 => .object "java/util/Deque"
  | 3 => .object "java/lang/StringBuilder"
  | 4 => .object "java/lang/String"
  | 5 => .int
  | _ => .int
abbrev wsX10 : List Cond := u_ws RX1 TX1 7
theorem nmX1 : ∀ a, a < 7 → ∀ b, b < 7 → a ≠ b → (TX1 a).2.1 ≠ (TX1 b).2.1 := by decide +kernel
theorem tyX1_ok : ∀ k, k < 7 → parseFieldDescriptor (TX1 k).2.2.1 = some (tyX1 k) := by decide +kernel
abbrev cX1_init : ByteArray := prog_1_method_8_code
def yX1_init : MethodName := ⟨RX1, "<init>", "()V"⟩
def dkwX1_init_2 : List UInt8 := [181, 0, 58, 42, 2, 181, 0, 62, 177]
abbrev dktX1_init_2 : List UInt8 := dkwX1_init_2 ++ []
def dkwX1_init_1 : List UInt8 := [181, 0, 41, 42, 187, 0, 45, 89, 183, 0, 47, 181, 0, 48, 42, 18, 52, 181, 0, 54, 42, 2]
abbrev dktX1_init_1 : List UInt8 := dkwX1_init_1 ++ dktX1_init_2
def dkwX1_init_0 : List UInt8 := [42, 183, 0, 28, 42, 187, 0, 31, 89, 183, 0, 33, 181, 0, 34, 42, 187, 0, 38, 89, 183, 0, 40]
abbrev dktX1_init_0 : List UInt8 := dkwX1_init_0 ++ dktX1_init_1
theorem dksX1_init_0 : cX1_init.data.toList.drop 0 = dktX1_init_0 := by decide +kernel
theorem dksX1_init_1 : cX1_init.data.toList.drop 23 = dktX1_init_1 := dk_seg dksX1_init_0 23 rfl rfl
theorem dksX1_init_2 : cX1_init.data.toList.drop 45 = dktX1_init_2 := dk_seg dksX1_init_1 22 rfl rfl
theorem dX1_init_0 : decode cX1_init 0 = .ok (.aload_n 0, 1) := dk_42 (dk_at dksX1_init_0 0 rfl rfl)
theorem dX1_init_1 : decode cX1_init 1 = .ok (.invokespecial 28, 3) := dk_183 0 28 (dk_at dksX1_init_0 1 rfl rfl)
theorem dX1_init_4 : decode cX1_init 4 = .ok (.aload_n 0, 1) := dk_42 (dk_at dksX1_init_0 4 rfl rfl)
theorem dX1_init_5 : decode cX1_init 5 = .ok (.new 31, 3) := dk_187 0 31 (dk_at dksX1_init_0 5 rfl rfl)
theorem dX1_init_8 : decode cX1_init 8 = .ok (.dup, 1) := dk_89 (dk_at dksX1_init_0 8 rfl rfl)
theorem dX1_init_9 : decode cX1_init 9 = .ok (.invokespecial 33, 3) := dk_183 0 33 (dk_at dksX1_init_0 9 rfl rfl)
theorem dX1_init_12 : decode cX1_init 12 = .ok (.putfield 34, 3) := dk_181 0 34 (dk_at dksX1_init_0 12 rfl rfl)
theorem dX1_init_15 : decode cX1_init 15 = .ok (.aload_n 0, 1) := dk_42 (dk_at dksX1_init_0 15 rfl rfl)
theorem dX1_init_16 : decode cX1_init 16 = .ok (.new 38, 3) := dk_187 0 38 (dk_at dksX1_init_0 16 rfl rfl)
theorem dX1_init_19 : decode cX1_init 19 = .ok (.dup, 1) := dk_89 (dk_at dksX1_init_0 19 rfl rfl)
theorem dX1_init_20 : decode cX1_init 20 = .ok (.invokespecial 40, 3) := dk_183 0 40 (dk_at dksX1_init_0 20 rfl rfl)
theorem dX1_init_23 : decode cX1_init 23 = .ok (.putfield 41, 3) := dk_181 0 41 (dk_at dksX1_init_1 0 rfl rfl)
theorem dX1_init_26 : decode cX1_init 26 = .ok (.aload_n 0, 1) := dk_42 (dk_at dksX1_init_1 3 rfl rfl)
theorem dX1_init_27 : decode cX1_init 27 = .ok (.new 45, 3) := dk_187 0 45 (dk_at dksX1_init_1 4 rfl rfl)
theorem dX1_init_30 : decode cX1_init 30 = .ok (.dup, 1) := dk_89 (dk_at dksX1_init_1 7 rfl rfl)
theorem dX1_init_31 : decode cX1_init 31 = .ok (.invokespecial 47, 3) := dk_183 0 47 (dk_at dksX1_init_1 8 rfl rfl)
theorem dX1_init_34 : decode cX1_init 34 = .ok (.putfield 48, 3) := dk_181 0 48 (dk_at dksX1_init_1 11 rfl rfl)
theorem dX1_init_37 : decode cX1_init 37 = .ok (.aload_n 0, 1) := dk_42 (dk_at dksX1_init_1 14 rfl rfl)
theorem dX1_init_38 : decode cX1_init 38 = .ok (.ldc 52, 2) := dk_18 52 (dk_at dksX1_init_1 15 rfl rfl)
theorem dX1_init_40 : decode cX1_init 40 = .ok (.putfield 54, 3) := dk_181 0 54 (dk_at dksX1_init_1 17 rfl rfl)
theorem dX1_init_43 : decode cX1_init 43 = .ok (.aload_n 0, 1) := dk_42 (dk_at dksX1_init_1 20 rfl rfl)
theorem dX1_init_44 : decode cX1_init 44 = .ok (.iconst (-1), 1) := dk_2 (dk_at dksX1_init_1 21 rfl rfl)
theorem dX1_init_45 : decode cX1_init 45 = .ok (.putfield 58, 3) := dk_181 0 58 (dk_at dksX1_init_2 0 rfl rfl)
theorem dX1_init_48 : decode cX1_init 48 = .ok (.aload_n 0, 1) := dk_42 (dk_at dksX1_init_2 3 rfl rfl)
theorem dX1_init_49 : decode cX1_init 49 = .ok (.iconst (-1), 1) := dk_2 (dk_at dksX1_init_2 4 rfl rfl)
theorem dX1_init_50 : decode cX1_init 50 = .ok (.putfield 62, 3) := dk_181 0 62 (dk_at dksX1_init_2 5 rfl rfl)
theorem dX1_init_53 : decode cX1_init 53 = .ok (.return_, 1) := dk_177 (dk_at dksX1_init_2 8 rfl rfl)
abbrev cX1_netAll : ByteArray := prog_1_method_17_code
def yX1_netAll : MethodName := ⟨RX1, "netAll", "()I"⟩
def dkwX1_netAll_0 : List UInt8 := [42, 187, 0, 105, 89, 178, 0, 116, 183, 0, 113, 182, 0, 96, 172]
abbrev dktX1_netAll_0 : List UInt8 := dkwX1_netAll_0 ++ []
theorem dksX1_netAll_0 : cX1_netAll.data.toList.drop 0 = dktX1_netAll_0 := by decide +kernel
theorem dX1_netAll_0 : decode cX1_netAll 0 = .ok (.aload_n 0, 1) := dk_42 (dk_at dksX1_netAll_0 0 rfl rfl)
theorem dX1_netAll_1 : decode cX1_netAll 1 = .ok (.new 105, 3) := dk_187 0 105 (dk_at dksX1_netAll_0 1 rfl rfl)
theorem dX1_netAll_4 : decode cX1_netAll 4 = .ok (.dup, 1) := dk_89 (dk_at dksX1_netAll_0 4 rfl rfl)
theorem dX1_netAll_5 : decode cX1_netAll 5 = .ok (.getstatic 116, 3) := dk_178 0 116 (dk_at dksX1_netAll_0 5 rfl rfl)
theorem dX1_netAll_8 : decode cX1_netAll 8 = .ok (.invokespecial 113, 3) := dk_183 0 113 (dk_at dksX1_netAll_0 8 rfl rfl)
theorem dX1_netAll_11 : decode cX1_netAll 11 = .ok (.invokevirtual 96, 3) := dk_182 0 96 (dk_at dksX1_netAll_0 11 rfl rfl)
theorem dX1_netAll_14 : decode cX1_netAll 14 = .ok (.ireturn, 1) := dk_172 (dk_at dksX1_netAll_0 14 rfl rfl)
abbrev cX1_change : ByteArray := prog_1_method_10_code
def yX1_change : MethodName := ⟨RX1, "change", "(LClearingHouse$Order;)I"⟩
def dkwX1_change_1 : List UInt8 := [182, 0, 88, 29, 172]
abbrev dktX1_change_1 : List UInt8 := dkwX1_change_1 ++ []
def dkwX1_change_0 : List UInt8 := [187, 0, 31, 89, 42, 180, 0, 34, 183, 0, 79, 77, 43, 44, 185, 0, 82, 2, 0, 62, 42, 44]
abbrev dktX1_change_0 : List UInt8 := dkwX1_change_0 ++ dktX1_change_1
theorem dksX1_change_0 : cX1_change.data.toList.drop 0 = dktX1_change_0 := by decide +kernel
theorem dksX1_change_1 : cX1_change.data.toList.drop 22 = dktX1_change_1 := dk_seg dksX1_change_0 22 rfl rfl
theorem dX1_change_0 : decode cX1_change 0 = .ok (.new 31, 3) := dk_187 0 31 (dk_at dksX1_change_0 0 rfl rfl)
theorem dX1_change_3 : decode cX1_change 3 = .ok (.dup, 1) := dk_89 (dk_at dksX1_change_0 3 rfl rfl)
theorem dX1_change_4 : decode cX1_change 4 = .ok (.aload_n 0, 1) := dk_42 (dk_at dksX1_change_0 4 rfl rfl)
theorem dX1_change_5 : decode cX1_change 5 = .ok (.getfield 34, 3) := dk_180 0 34 (dk_at dksX1_change_0 5 rfl rfl)
theorem dX1_change_8 : decode cX1_change 8 = .ok (.invokespecial 79, 3) := dk_183 0 79 (dk_at dksX1_change_0 8 rfl rfl)
theorem dX1_change_11 : decode cX1_change 11 = .ok (.astore_n 2, 1) := dk_77 (dk_at dksX1_change_0 11 rfl rfl)
theorem dX1_change_12 : decode cX1_change 12 = .ok (.aload_n 1, 1) := dk_43 (dk_at dksX1_change_0 12 rfl rfl)
theorem dX1_change_13 : decode cX1_change 13 = .ok (.aload_n 2, 1) := dk_44 (dk_at dksX1_change_0 13 rfl rfl)
theorem dX1_change_14 : decode cX1_change 14 = .ok (.invokeinterface 82 2, 5) := by decide +kernel
theorem dX1_change_19 : decode cX1_change 19 = .ok (.istore_n 3, 1) := dk_62 (dk_at dksX1_change_0 19 rfl rfl)
theorem dX1_change_20 : decode cX1_change 20 = .ok (.aload_n 0, 1) := dk_42 (dk_at dksX1_change_0 20 rfl rfl)
theorem dX1_change_21 : decode cX1_change 21 = .ok (.aload_n 2, 1) := dk_44 (dk_at dksX1_change_0 21 rfl rfl)
theorem dX1_change_22 : decode cX1_change 22 = .ok (.invokevirtual 88, 3) := dk_182 0 88 (dk_at dksX1_change_1 0 rfl rfl)
theorem dX1_change_25 : decode cX1_change 25 = .ok (.iload_n 3, 1) := dk_29 (dk_at dksX1_change_1 3 rfl rfl)
theorem dX1_change_26 : decode cX1_change 26 = .ok (.ireturn, 1) := dk_172 (dk_at dksX1_change_1 4 rfl rfl)
abbrev cX1_requireIndex : ByteArray := prog_1_method_2_code
def yX1_requireIndex : MethodName := ⟨RX1, "requireIndex", "(II)V"⟩
def dkwX1_requireIndex_0 : List UInt8 := [26, 3, 27, 4, 100, 184, 0, 1, 154, 0, 11, 187, 0, 7, 89, 183, 0, 9, 191, 177]
abbrev dktX1_requireIndex_0 : List UInt8 := dkwX1_requireIndex_0 ++ []
theorem dksX1_requireIndex_0 : cX1_requireIndex.data.toList.drop 0 = dktX1_requireIndex_0 := by decide +kernel
theorem dX1_requireIndex_0 : decode cX1_requireIndex 0 = .ok (.iload_n 0, 1) := dk_26 (dk_at dksX1_requireIndex_0 0 rfl rfl)
theorem dX1_requireIndex_1 : decode cX1_requireIndex 1 = .ok (.iconst 0, 1) := dk_3 (dk_at dksX1_requireIndex_0 1 rfl rfl)
theorem dX1_requireIndex_2 : decode cX1_requireIndex 2 = .ok (.iload_n 1, 1) := dk_27 (dk_at dksX1_requireIndex_0 2 rfl rfl)
theorem dX1_requireIndex_3 : decode cX1_requireIndex 3 = .ok (.iconst 1, 1) := dk_4 (dk_at dksX1_requireIndex_0 3 rfl rfl)
theorem dX1_requireIndex_4 : decode cX1_requireIndex 4 = .ok (.isub, 1) := dk_100 (dk_at dksX1_requireIndex_0 4 rfl rfl)
theorem dX1_requireIndex_5 : decode cX1_requireIndex 5 = .ok (.invokestatic 1, 3) := dk_184 0 1 (dk_at dksX1_requireIndex_0 5 rfl rfl)
theorem dX1_requireIndex_8 : decode cX1_requireIndex 8 = .ok (.ifCond .ne 11, 3) := dk_154 0 11 (dk_at dksX1_requireIndex_0 8 rfl rfl)
theorem dX1_requireIndex_11 : decode cX1_requireIndex 11 = .ok (.new 7, 3) := dk_187 0 7 (dk_at dksX1_requireIndex_0 11 rfl rfl)
theorem dX1_requireIndex_14 : decode cX1_requireIndex 14 = .ok (.dup, 1) := dk_89 (dk_at dksX1_requireIndex_0 14 rfl rfl)
theorem dX1_requireIndex_15 : decode cX1_requireIndex 15 = .ok (.invokespecial 9, 3) := dk_183 0 9 (dk_at dksX1_requireIndex_0 15 rfl rfl)
theorem dX1_requireIndex_18 : decode cX1_requireIndex 18 = .ok (.athrow, 1) := dk_191 (dk_at dksX1_requireIndex_0 18 rfl rfl)
theorem dX1_requireIndex_19 : decode cX1_requireIndex 19 = .ok (.return_, 1) := dk_177 (dk_at dksX1_requireIndex_0 19 rfl rfl)
abbrev cX1_isBetween : ByteArray := prog_1_method_1_code
def yX1_isBetween : MethodName := ⟨RX1, "isBetween", "(III)Z"⟩
def dkwX1_isBetween_0 : List UInt8 := [27, 26, 163, 0, 12, 26, 28, 163, 0, 7, 4, 167, 0, 4, 3, 172]
abbrev dktX1_isBetween_0 : List UInt8 := dkwX1_isBetween_0 ++ []
theorem dksX1_isBetween_0 : cX1_isBetween.data.toList.drop 0 = dktX1_isBetween_0 := by decide +kernel
theorem dX1_isBetween_0 : decode cX1_isBetween 0 = .ok (.iload_n 1, 1) := dk_27 (dk_at dksX1_isBetween_0 0 rfl rfl)
theorem dX1_isBetween_1 : decode cX1_isBetween 1 = .ok (.iload_n 0, 1) := dk_26 (dk_at dksX1_isBetween_0 1 rfl rfl)
theorem dX1_isBetween_2 : decode cX1_isBetween 2 = .ok (.if_icmp .gt 12, 3) := dk_163 0 12 (dk_at dksX1_isBetween_0 2 rfl rfl)
theorem dX1_isBetween_5 : decode cX1_isBetween 5 = .ok (.iload_n 0, 1) := dk_26 (dk_at dksX1_isBetween_0 5 rfl rfl)
theorem dX1_isBetween_6 : decode cX1_isBetween 6 = .ok (.iload_n 2, 1) := dk_28 (dk_at dksX1_isBetween_0 6 rfl rfl)
theorem dX1_isBetween_7 : decode cX1_isBetween 7 = .ok (.if_icmp .gt 7, 3) := dk_163 0 7 (dk_at dksX1_isBetween_0 7 rfl rfl)
theorem dX1_isBetween_10 : decode cX1_isBetween 10 = .ok (.iconst 1, 1) := dk_4 (dk_at dksX1_isBetween_0 10 rfl rfl)
theorem dX1_isBetween_11 : decode cX1_isBetween 11 = .ok (.goto 4, 3) := dk_167 0 4 (dk_at dksX1_isBetween_0 11 rfl rfl)
theorem dX1_isBetween_14 : decode cX1_isBetween 14 = .ok (.iconst 0, 1) := dk_3 (dk_at dksX1_isBetween_0 14 rfl rfl)
theorem dX1_isBetween_15 : decode cX1_isBetween 15 = .ok (.ireturn, 1) := dk_172 (dk_at dksX1_isBetween_0 15 rfl rfl)
abbrev cX1_requireArgument : ByteArray := prog_1_method_3_code
def yX1_requireArgument : MethodName := ⟨RX1, "requireArgument", "(Z)V"⟩
def dkwX1_requireArgument_0 : List UInt8 := [26, 154, 0, 11, 187, 0, 13, 89, 183, 0, 15, 191, 177]
abbrev dktX1_requireArgument_0 : List UInt8 := dkwX1_requireArgument_0 ++ []
theorem dksX1_requireArgument_0 : cX1_requireArgument.data.toList.drop 0 = dktX1_requireArgument_0 := by decide +kernel
theorem dX1_requireArgument_0 : decode cX1_requireArgument 0 = .ok (.iload_n 0, 1) := dk_26 (dk_at dksX1_requireArgument_0 0 rfl rfl)
theorem dX1_requireArgument_1 : decode cX1_requireArgument 1 = .ok (.ifCond .ne 11, 3) := dk_154 0 11 (dk_at dksX1_requireArgument_0 1 rfl rfl)
theorem dX1_requireArgument_4 : decode cX1_requireArgument 4 = .ok (.new 13, 3) := dk_187 0 13 (dk_at dksX1_requireArgument_0 4 rfl rfl)
theorem dX1_requireArgument_7 : decode cX1_requireArgument 7 = .ok (.dup, 1) := dk_89 (dk_at dksX1_requireArgument_0 7 rfl rfl)
theorem dX1_requireArgument_8 : decode cX1_requireArgument 8 = .ok (.invokespecial 15, 3) := dk_183 0 15 (dk_at dksX1_requireArgument_0 8 rfl rfl)
theorem dX1_requireArgument_11 : decode cX1_requireArgument 11 = .ok (.athrow, 1) := dk_191 (dk_at dksX1_requireArgument_0 11 rfl rfl)
theorem dX1_requireArgument_12 : decode cX1_requireArgument 12 = .ok (.return_, 1) := dk_177 (dk_at dksX1_requireArgument_0 12 rfl rfl)
abbrev cX1_requireState : ByteArray := prog_1_method_4_code
def yX1_requireState : MethodName := ⟨RX1, "requireState", "(Z)V"⟩
def dkwX1_requireState_0 : List UInt8 := [26, 154, 0, 11, 187, 0, 16, 89, 183, 0, 18, 191, 177]
abbrev dktX1_requireState_0 : List UInt8 := dkwX1_requireState_0 ++ []
theorem dksX1_requireState_0 : cX1_requireState.data.toList.drop 0 = dktX1_requireState_0 := by decide +kernel
theorem dX1_requireState_0 : decode cX1_requireState 0 = .ok (.iload_n 0, 1) := dk_26 (dk_at dksX1_requireState_0 0 rfl rfl)
theorem dX1_requireState_1 : decode cX1_requireState 1 = .ok (.ifCond .ne 11, 3) := dk_154 0 11 (dk_at dksX1_requireState_0 1 rfl rfl)
theorem dX1_requireState_4 : decode cX1_requireState 4 = .ok (.new 16, 3) := dk_187 0 16 (dk_at dksX1_requireState_0 4 rfl rfl)
theorem dX1_requireState_7 : decode cX1_requireState 7 = .ok (.dup, 1) := dk_89 (dk_at dksX1_requireState_0 7 rfl rfl)
theorem dX1_requireState_8 : decode cX1_requireState 8 = .ok (.invokespecial 18, 3) := dk_183 0 18 (dk_at dksX1_requireState_0 8 rfl rfl)
theorem dX1_requireState_11 : decode cX1_requireState 11 = .ok (.athrow, 1) := dk_191 (dk_at dksX1_requireState_0 11 rfl rfl)
theorem dX1_requireState_12 : decode cX1_requireState 12 = .ok (.return_, 1) := dk_177 (dk_at dksX1_requireState_0 12 rfl rfl)
abbrev cX1_requireSupported : ByteArray := prog_1_method_5_code
def yX1_requireSupported : MethodName := ⟨RX1, "requireSupported", "(Z)V"⟩
def dkwX1_requireSupported_0 : List UInt8 := [26, 154, 0, 11, 187, 0, 19, 89, 183, 0, 21, 191, 177]
abbrev dktX1_requireSupported_0 : List UInt8 := dkwX1_requireSupported_0 ++ []
theorem dksX1_requireSupported_0 : cX1_requireSupported.data.toList.drop 0 = dktX1_requireSupported_0 := by decide +kernel
theorem dX1_requireSupported_0 : decode cX1_requireSupported 0 = .ok (.iload_n 0, 1) := dk_26 (dk_at dksX1_requireSupported_0 0 rfl rfl)
theorem dX1_requireSupported_1 : decode cX1_requireSupported 1 = .ok (.ifCond .ne 11, 3) := dk_154 0 11 (dk_at dksX1_requireSupported_0 1 rfl rfl)
theorem dX1_requireSupported_4 : decode cX1_requireSupported 4 = .ok (.new 19, 3) := dk_187 0 19 (dk_at dksX1_requireSupported_0 4 rfl rfl)
theorem dX1_requireSupported_7 : decode cX1_requireSupported 7 = .ok (.dup, 1) := dk_89 (dk_at dksX1_requireSupported_0 7 rfl rfl)
theorem dX1_requireSupported_8 : decode cX1_requireSupported 8 = .ok (.invokespecial 21, 3) := dk_183 0 21 (dk_at dksX1_requireSupported_0 8 rfl rfl)
theorem dX1_requireSupported_11 : decode cX1_requireSupported 11 = .ok (.athrow, 1) := dk_191 (dk_at dksX1_requireSupported_0 11 rfl rfl)
theorem dX1_requireSupported_12 : decode cX1_requireSupported 12 = .ok (.return_, 1) := dk_177 (dk_at dksX1_requireSupported_0 12 rfl rfl)
abbrev cX1_replaceHouse : ByteArray := prog_1_method_9_code
def yX1_replaceHouse : MethodName := ⟨RX1, "replaceHouse", "(LClearingHouse$House;)V"⟩
def dkwX1_replaceHouse_1 : List UInt8 := [42, 180, 0, 41, 42, 180, 0, 34, 185, 0, 75, 2, 0, 42, 43, 181, 0, 34, 177]
abbrev dktX1_replaceHouse_1 : List UInt8 := dkwX1_replaceHouse_1 ++ []
def dkwX1_replaceHouse_0 : List UInt8 := [42, 180, 0, 41, 185, 0, 65, 1, 0, 16, 8, 160, 0, 13, 42, 180, 0, 41, 185, 0, 71, 1, 0, 87]
abbrev dktX1_replaceHouse_0 : List UInt8 := dkwX1_replaceHouse_0 ++ dktX1_replaceHouse_1
theorem dksX1_replaceHouse_0 : cX1_replaceHouse.data.toList.drop 0 = dktX1_replaceHouse_0 := by decide +kernel
theorem dksX1_replaceHouse_1 : cX1_replaceHouse.data.toList.drop 24 = dktX1_replaceHouse_1 := dk_seg dksX1_replaceHouse_0 24 rfl rfl
theorem dX1_replaceHouse_0 : decode cX1_replaceHouse 0 = .ok (.aload_n 0, 1) := dk_42 (dk_at dksX1_replaceHouse_0 0 rfl rfl)
theorem dX1_replaceHouse_1 : decode cX1_replaceHouse 1 = .ok (.getfield 41, 3) := dk_180 0 41 (dk_at dksX1_replaceHouse_0 1 rfl rfl)
theorem dX1_replaceHouse_4 : decode cX1_replaceHouse 4 = .ok (.invokeinterface 65 1, 5) := by decide +kernel
theorem dX1_replaceHouse_9 : decode cX1_replaceHouse 9 = .ok (.bipush 8, 2) := dk_16 8 (dk_at dksX1_replaceHouse_0 9 rfl rfl)
theorem dX1_replaceHouse_11 : decode cX1_replaceHouse 11 = .ok (.if_icmp .ne 13, 3) := dk_160 0 13 (dk_at dksX1_replaceHouse_0 11 rfl rfl)
theorem dX1_replaceHouse_14 : decode cX1_replaceHouse 14 = .ok (.aload_n 0, 1) := dk_42 (dk_at dksX1_replaceHouse_0 14 rfl rfl)
theorem dX1_replaceHouse_15 : decode cX1_replaceHouse 15 = .ok (.getfield 41, 3) := dk_180 0 41 (dk_at dksX1_replaceHouse_0 15 rfl rfl)
theorem dX1_replaceHouse_18 : decode cX1_replaceHouse 18 = .ok (.invokeinterface 71 1, 5) := by decide +kernel
theorem dX1_replaceHouse_23 : decode cX1_replaceHouse 23 = .ok (.pop, 1) := dk_87 (dk_at dksX1_replaceHouse_0 23 rfl rfl)
theorem dX1_replaceHouse_24 : decode cX1_replaceHouse 24 = .ok (.aload_n 0, 1) := dk_42 (dk_at dksX1_replaceHouse_1 0 rfl rfl)
theorem dX1_replaceHouse_25 : decode cX1_replaceHouse 25 = .ok (.getfield 41, 3) := dk_180 0 41 (dk_at dksX1_replaceHouse_1 1 rfl rfl)
theorem dX1_replaceHouse_28 : decode cX1_replaceHouse 28 = .ok (.aload_n 0, 1) := dk_42 (dk_at dksX1_replaceHouse_1 4 rfl rfl)
theorem dX1_replaceHouse_29 : decode cX1_replaceHouse 29 = .ok (.getfield 34, 3) := dk_180 0 34 (dk_at dksX1_replaceHouse_1 5 rfl rfl)
theorem dX1_replaceHouse_32 : decode cX1_replaceHouse 32 = .ok (.invokeinterface 75 2, 5) := by decide +kernel
theorem dX1_replaceHouse_37 : decode cX1_replaceHouse 37 = .ok (.aload_n 0, 1) := dk_42 (dk_at dksX1_replaceHouse_1 13 rfl rfl)
theorem dX1_replaceHouse_38 : decode cX1_replaceHouse 38 = .ok (.aload_n 1, 1) := dk_43 (dk_at dksX1_replaceHouse_1 14 rfl rfl)
theorem dX1_replaceHouse_39 : decode cX1_replaceHouse 39 = .ok (.putfield 34, 3) := dk_181 0 34 (dk_at dksX1_replaceHouse_1 15 rfl rfl)
theorem dX1_replaceHouse_42 : decode cX1_replaceHouse 42 = .ok (.return_, 1) := dk_177 (dk_at dksX1_replaceHouse_1 18 rfl rfl)
abbrev cX1_cascade : ByteArray := prog_1_method_19_code
def yX1_cascade : MethodName := ⟨RX1, "cascade", "()I"⟩
def dkwX1_cascade_0 : List UInt8 := [42, 187, 0, 105, 89, 178, 0, 119, 183, 0, 113, 182, 0, 96, 172]
abbrev dktX1_cascade_0 : List UInt8 := dkwX1_cascade_0 ++ []
theorem dksX1_cascade_0 : cX1_cascade.data.toList.drop 0 = dktX1_cascade_0 := by decide +kernel
theorem dX1_cascade_0 : decode cX1_cascade 0 = .ok (.aload_n 0, 1) := dk_42 (dk_at dksX1_cascade_0 0 rfl rfl)
theorem dX1_cascade_1 : decode cX1_cascade 1 = .ok (.new 105, 3) := dk_187 0 105 (dk_at dksX1_cascade_0 1 rfl rfl)
theorem dX1_cascade_4 : decode cX1_cascade 4 = .ok (.dup, 1) := dk_89 (dk_at dksX1_cascade_0 4 rfl rfl)
theorem dX1_cascade_5 : decode cX1_cascade 5 = .ok (.getstatic 119, 3) := dk_178 0 119 (dk_at dksX1_cascade_0 5 rfl rfl)
theorem dX1_cascade_8 : decode cX1_cascade 8 = .ok (.invokespecial 113, 3) := dk_183 0 113 (dk_at dksX1_cascade_0 8 rfl rfl)
theorem dX1_cascade_11 : decode cX1_cascade 11 = .ok (.invokevirtual 96, 3) := dk_182 0 96 (dk_at dksX1_cascade_0 11 rfl rfl)
theorem dX1_cascade_14 : decode cX1_cascade 14 = .ok (.ireturn, 1) := dk_172 (dk_at dksX1_cascade_0 14 rfl rfl)
abbrev cX1_call : ByteArray := prog_1_method_20_code
def yX1_call : MethodName := ⟨RX1, "call", "()I"⟩
def dkwX1_call_0 : List UInt8 := [42, 187, 0, 105, 89, 178, 0, 122, 183, 0, 113, 182, 0, 96, 172]
abbrev dktX1_call_0 : List UInt8 := dkwX1_call_0 ++ []
theorem dksX1_call_0 : cX1_call.data.toList.drop 0 = dktX1_call_0 := by decide +kernel
theorem dX1_call_0 : decode cX1_call 0 = .ok (.aload_n 0, 1) := dk_42 (dk_at dksX1_call_0 0 rfl rfl)
theorem dX1_call_1 : decode cX1_call 1 = .ok (.new 105, 3) := dk_187 0 105 (dk_at dksX1_call_0 1 rfl rfl)
theorem dX1_call_4 : decode cX1_call 4 = .ok (.dup, 1) := dk_89 (dk_at dksX1_call_0 4 rfl rfl)
theorem dX1_call_5 : decode cX1_call 5 = .ok (.getstatic 122, 3) := dk_178 0 122 (dk_at dksX1_call_0 5 rfl rfl)
theorem dX1_call_8 : decode cX1_call 8 = .ok (.invokespecial 113, 3) := dk_183 0 113 (dk_at dksX1_call_0 8 rfl rfl)
theorem dX1_call_11 : decode cX1_call 11 = .ok (.invokevirtual 96, 3) := dk_182 0 96 (dk_at dksX1_call_0 11 rfl rfl)
theorem dX1_call_14 : decode cX1_call 14 = .ok (.ireturn, 1) := dk_172 (dk_at dksX1_call_0 14 rfl rfl)
abbrev cX1_partyCount : ByteArray := prog_1_method_21_code
def yX1_partyCount : MethodName := ⟨RX1, "partyCount", "()I"⟩
def dkwX1_partyCount_0 : List UInt8 := [42, 180, 0, 34, 180, 0, 125, 172]
abbrev dktX1_partyCount_0 : List UInt8 := dkwX1_partyCount_0 ++ []
theorem dksX1_partyCount_0 : cX1_partyCount.data.toList.drop 0 = dktX1_partyCount_0 := by decide +kernel
theorem dX1_partyCount_0 : decode cX1_partyCount 0 = .ok (.aload_n 0, 1) := dk_42 (dk_at dksX1_partyCount_0 0 rfl rfl)
theorem dX1_partyCount_1 : decode cX1_partyCount 1 = .ok (.getfield 34, 3) := dk_180 0 34 (dk_at dksX1_partyCount_0 1 rfl rfl)
theorem dX1_partyCount_4 : decode cX1_partyCount 4 = .ok (.getfield 125, 3) := dk_180 0 125 (dk_at dksX1_partyCount_0 4 rfl rfl)
theorem dX1_partyCount_7 : decode cX1_partyCount 7 = .ok (.ireturn, 1) := dk_172 (dk_at dksX1_partyCount_0 7 rfl rfl)
abbrev cX1_hasCycle : ByteArray := prog_1_method_29_code
def yX1_hasCycle : MethodName := ⟨RX1, "hasCycle", "()Z"⟩
def dkwX1_hasCycle_0 : List UInt8 := [42, 180, 0, 34, 182, 0, 164, 172]
abbrev dktX1_hasCycle_0 : List UInt8 := dkwX1_hasCycle_0 ++ []
theorem dksX1_hasCycle_0 : cX1_hasCycle.data.toList.drop 0 = dktX1_hasCycle_0 := by decide +kernel
theorem dX1_hasCycle_0 : decode cX1_hasCycle 0 = .ok (.aload_n 0, 1) := dk_42 (dk_at dksX1_hasCycle_0 0 rfl rfl)
theorem dX1_hasCycle_1 : decode cX1_hasCycle 1 = .ok (.getfield 34, 3) := dk_180 0 34 (dk_at dksX1_hasCycle_0 1 rfl rfl)
theorem dX1_hasCycle_4 : decode cX1_hasCycle 4 = .ok (.invokevirtual 164, 3) := dk_182 0 164 (dk_at dksX1_hasCycle_0 4 rfl rfl)
theorem dX1_hasCycle_7 : decode cX1_hasCycle 7 = .ok (.ireturn, 1) := dk_172 (dk_at dksX1_hasCycle_0 7 rfl rfl)
abbrev cX1_hasCycleByLeavingOut : ByteArray := prog_1_method_30_code
def yX1_hasCycleByLeavingOut : MethodName := ⟨RX1, "hasCycleByLeavingOut", "()Z"⟩
def dkwX1_hasCycleByLeavingOut_0 : List UInt8 := [42, 180, 0, 34, 182, 0, 168, 172]
abbrev dktX1_hasCycleByLeavingOut_0 : List UInt8 := dkwX1_hasCycleByLeavingOut_0 ++ []
theorem dksX1_hasCycleByLeavingOut_0 : cX1_hasCycleByLeavingOut.data.toList.drop 0 = dktX1_hasCycleByLeavingOut_0 := by decide +kernel
theorem dX1_hasCycleByLeavingOut_0 : decode cX1_hasCycleByLeavingOut 0 = .ok (.aload_n 0, 1) := dk_42 (dk_at dksX1_hasCycleByLeavingOut_0 0 rfl rfl)
theorem dX1_hasCycleByLeavingOut_1 : decode cX1_hasCycleByLeavingOut 1 = .ok (.getfield 34, 3) := dk_180 0 34 (dk_at dksX1_hasCycleByLeavingOut_0 1 rfl rfl)
theorem dX1_hasCycleByLeavingOut_4 : decode cX1_hasCycleByLeavingOut 4 = .ok (.invokevirtual 168, 3) := dk_182 0 168 (dk_at dksX1_hasCycleByLeavingOut_0 4 rfl rfl)
theorem dX1_hasCycleByLeavingOut_7 : decode cX1_hasCycleByLeavingOut 7 = .ok (.ireturn, 1) := dk_172 (dk_at dksX1_hasCycleByLeavingOut_0 7 rfl rfl)
abbrev cX1_fewestPayments : ByteArray := prog_1_method_34_code
def yX1_fewestPayments : MethodName := ⟨RX1, "fewestPayments", "()I"⟩
def dkwX1_fewestPayments_0 : List UInt8 := [42, 180, 0, 34, 182, 0, 187, 172]
abbrev dktX1_fewestPayments_0 : List UInt8 := dkwX1_fewestPayments_0 ++ []
theorem dksX1_fewestPayments_0 : cX1_fewestPayments.data.toList.drop 0 = dktX1_fewestPayments_0 := by decide +kernel
theorem dX1_fewestPayments_0 : decode cX1_fewestPayments 0 = .ok (.aload_n 0, 1) := dk_42 (dk_at dksX1_fewestPayments_0 0 rfl rfl)
theorem dX1_fewestPayments_1 : decode cX1_fewestPayments 1 = .ok (.getfield 34, 3) := dk_180 0 34 (dk_at dksX1_fewestPayments_0 1 rfl rfl)
theorem dX1_fewestPayments_4 : decode cX1_fewestPayments 4 = .ok (.invokevirtual 187, 3) := dk_182 0 187 (dk_at dksX1_fewestPayments_0 4 rfl rfl)
theorem dX1_fewestPayments_7 : decode cX1_fewestPayments 7 = .ok (.ireturn, 1) := dk_172 (dk_at dksX1_fewestPayments_0 7 rfl rfl)
abbrev cX1_fewestPaymentsByTrying : ByteArray := prog_1_method_35_code
def yX1_fewestPaymentsByTrying : MethodName := ⟨RX1, "fewestPaymentsByTrying", "()I"⟩
def dkwX1_fewestPaymentsByTrying_0 : List UInt8 := [42, 180, 0, 34, 182, 0, 190, 172]
abbrev dktX1_fewestPaymentsByTrying_0 : List UInt8 := dkwX1_fewestPaymentsByTrying_0 ++ []
theorem dksX1_fewestPaymentsByTrying_0 : cX1_fewestPaymentsByTrying.data.toList.drop 0 = dktX1_fewestPaymentsByTrying_0 := by decide +kernel
theorem dX1_fewestPaymentsByTrying_0 : decode cX1_fewestPaymentsByTrying 0 = .ok (.aload_n 0, 1) := dk_42 (dk_at dksX1_fewestPaymentsByTrying_0 0 rfl rfl)
theorem dX1_fewestPaymentsByTrying_1 : decode cX1_fewestPaymentsByTrying 1 = .ok (.getfield 34, 3) := dk_180 0 34 (dk_at dksX1_fewestPaymentsByTrying_0 1 rfl rfl)
theorem dX1_fewestPaymentsByTrying_4 : decode cX1_fewestPaymentsByTrying 4 = .ok (.invokevirtual 190, 3) := dk_182 0 190 (dk_at dksX1_fewestPaymentsByTrying_0 4 rfl rfl)
theorem dX1_fewestPaymentsByTrying_7 : decode cX1_fewestPaymentsByTrying 7 = .ok (.ireturn, 1) := dk_172 (dk_at dksX1_fewestPaymentsByTrying_0 7 rfl rfl)
abbrev cX1_defaultsAhead : ByteArray := prog_1_method_39_code
def yX1_defaultsAhead : MethodName := ⟨RX1, "defaultsAhead", "()I"⟩
def dkwX1_defaultsAhead_0 : List UInt8 := [187, 0, 31, 89, 42, 180, 0, 34, 183, 0, 79, 182, 0, 213, 172]
abbrev dktX1_defaultsAhead_0 : List UInt8 := dkwX1_defaultsAhead_0 ++ []
theorem dksX1_defaultsAhead_0 : cX1_defaultsAhead.data.toList.drop 0 = dktX1_defaultsAhead_0 := by decide +kernel
theorem dX1_defaultsAhead_0 : decode cX1_defaultsAhead 0 = .ok (.new 31, 3) := dk_187 0 31 (dk_at dksX1_defaultsAhead_0 0 rfl rfl)
theorem dX1_defaultsAhead_3 : decode cX1_defaultsAhead 3 = .ok (.dup, 1) := dk_89 (dk_at dksX1_defaultsAhead_0 3 rfl rfl)
theorem dX1_defaultsAhead_4 : decode cX1_defaultsAhead 4 = .ok (.aload_n 0, 1) := dk_42 (dk_at dksX1_defaultsAhead_0 4 rfl rfl)
theorem dX1_defaultsAhead_5 : decode cX1_defaultsAhead 5 = .ok (.getfield 34, 3) := dk_180 0 34 (dk_at dksX1_defaultsAhead_0 5 rfl rfl)
theorem dX1_defaultsAhead_8 : decode cX1_defaultsAhead 8 = .ok (.invokespecial 79, 3) := dk_183 0 79 (dk_at dksX1_defaultsAhead_0 8 rfl rfl)
theorem dX1_defaultsAhead_11 : decode cX1_defaultsAhead 11 = .ok (.invokevirtual 213, 3) := dk_182 0 213 (dk_at dksX1_defaultsAhead_0 11 rfl rfl)
theorem dX1_defaultsAhead_14 : decode cX1_defaultsAhead 14 = .ok (.ireturn, 1) := dk_172 (dk_at dksX1_defaultsAhead_0 14 rfl rfl)
abbrev cX1_day : ByteArray := prog_1_method_40_code
def yX1_day : MethodName := ⟨RX1, "day", "()I"⟩
def dkwX1_day_0 : List UInt8 := [42, 180, 0, 34, 180, 0, 216, 172]
abbrev dktX1_day_0 : List UInt8 := dkwX1_day_0 ++ []
theorem dksX1_day_0 : cX1_day.data.toList.drop 0 = dktX1_day_0 := by decide +kernel
theorem dX1_day_0 : decode cX1_day 0 = .ok (.aload_n 0, 1) := dk_42 (dk_at dksX1_day_0 0 rfl rfl)
theorem dX1_day_1 : decode cX1_day 1 = .ok (.getfield 34, 3) := dk_180 0 34 (dk_at dksX1_day_0 1 rfl rfl)
theorem dX1_day_4 : decode cX1_day 4 = .ok (.getfield 216, 3) := dk_180 0 216 (dk_at dksX1_day_0 4 rfl rfl)
theorem dX1_day_7 : decode cX1_day 7 = .ok (.ireturn, 1) := dk_172 (dk_at dksX1_day_0 7 rfl rfl)
abbrev cX1_debtTotal : ByteArray := prog_1_method_41_code
def yX1_debtTotal : MethodName := ⟨RX1, "debtTotal", "()I"⟩
def dkwX1_debtTotal_0 : List UInt8 := [42, 180, 0, 34, 182, 0, 219, 172]
abbrev dktX1_debtTotal_0 : List UInt8 := dkwX1_debtTotal_0 ++ []
theorem dksX1_debtTotal_0 : cX1_debtTotal.data.toList.drop 0 = dktX1_debtTotal_0 := by decide +kernel
theorem dX1_debtTotal_0 : decode cX1_debtTotal 0 = .ok (.aload_n 0, 1) := dk_42 (dk_at dksX1_debtTotal_0 0 rfl rfl)
theorem dX1_debtTotal_1 : decode cX1_debtTotal 1 = .ok (.getfield 34, 3) := dk_180 0 34 (dk_at dksX1_debtTotal_0 1 rfl rfl)
theorem dX1_debtTotal_4 : decode cX1_debtTotal 4 = .ok (.invokevirtual 219, 3) := dk_182 0 219 (dk_at dksX1_debtTotal_0 4 rfl rfl)
theorem dX1_debtTotal_7 : decode cX1_debtTotal 7 = .ok (.ireturn, 1) := dk_172 (dk_at dksX1_debtTotal_0 7 rfl rfl)
abbrev cX1_debtByAccounts : ByteArray := prog_1_method_42_code
def yX1_debtByAccounts : MethodName := ⟨RX1, "debtByAccounts", "()I"⟩
def dkwX1_debtByAccounts_0 : List UInt8 := [42, 180, 0, 34, 180, 0, 222, 182, 0, 226, 172]
abbrev dktX1_debtByAccounts_0 : List UInt8 := dkwX1_debtByAccounts_0 ++ []
theorem dksX1_debtByAccounts_0 : cX1_debtByAccounts.data.toList.drop 0 = dktX1_debtByAccounts_0 := by decide +kernel
theorem dX1_debtByAccounts_0 : decode cX1_debtByAccounts 0 = .ok (.aload_n 0, 1) := dk_42 (dk_at dksX1_debtByAccounts_0 0 rfl rfl)
theorem dX1_debtByAccounts_1 : decode cX1_debtByAccounts 1 = .ok (.getfield 34, 3) := dk_180 0 34 (dk_at dksX1_debtByAccounts_0 1 rfl rfl)
theorem dX1_debtByAccounts_4 : decode cX1_debtByAccounts 4 = .ok (.getfield 222, 3) := dk_180 0 222 (dk_at dksX1_debtByAccounts_0 4 rfl rfl)
theorem dX1_debtByAccounts_7 : decode cX1_debtByAccounts 7 = .ok (.invokevirtual 226, 3) := dk_182 0 226 (dk_at dksX1_debtByAccounts_0 7 rfl rfl)
theorem dX1_debtByAccounts_10 : decode cX1_debtByAccounts 10 = .ok (.ireturn, 1) := dk_172 (dk_at dksX1_debtByAccounts_0 10 rfl rfl)
abbrev cX1_cashTotal : ByteArray := prog_1_method_43_code
def yX1_cashTotal : MethodName := ⟨RX1, "cashTotal", "()I"⟩
def dkwX1_cashTotal_0 : List UInt8 := [42, 180, 0, 34, 182, 0, 231, 172]
abbrev dktX1_cashTotal_0 : List UInt8 := dkwX1_cashTotal_0 ++ []
theorem dksX1_cashTotal_0 : cX1_cashTotal.data.toList.drop 0 = dktX1_cashTotal_0 := by decide +kernel
theorem dX1_cashTotal_0 : decode cX1_cashTotal 0 = .ok (.aload_n 0, 1) := dk_42 (dk_at dksX1_cashTotal_0 0 rfl rfl)
theorem dX1_cashTotal_1 : decode cX1_cashTotal 1 = .ok (.getfield 34, 3) := dk_180 0 34 (dk_at dksX1_cashTotal_0 1 rfl rfl)
theorem dX1_cashTotal_4 : decode cX1_cashTotal 4 = .ok (.invokevirtual 231, 3) := dk_182 0 231 (dk_at dksX1_cashTotal_0 4 rfl rfl)
theorem dX1_cashTotal_7 : decode cX1_cashTotal 7 = .ok (.ireturn, 1) := dk_172 (dk_at dksX1_cashTotal_0 7 rfl rfl)
abbrev cX1_nettedTotal : ByteArray := prog_1_method_44_code
def yX1_nettedTotal : MethodName := ⟨RX1, "nettedTotal", "()J"⟩
def dkwX1_nettedTotal_0 : List UInt8 := [42, 180, 0, 34, 180, 0, 222, 180, 0, 234, 173]
abbrev dktX1_nettedTotal_0 : List UInt8 := dkwX1_nettedTotal_0 ++ []
theorem dksX1_nettedTotal_0 : cX1_nettedTotal.data.toList.drop 0 = dktX1_nettedTotal_0 := by decide +kernel
theorem dX1_nettedTotal_0 : decode cX1_nettedTotal 0 = .ok (.aload_n 0, 1) := dk_42 (dk_at dksX1_nettedTotal_0 0 rfl rfl)
theorem dX1_nettedTotal_1 : decode cX1_nettedTotal 1 = .ok (.getfield 34, 3) := dk_180 0 34 (dk_at dksX1_nettedTotal_0 1 rfl rfl)
theorem dX1_nettedTotal_4 : decode cX1_nettedTotal 4 = .ok (.getfield 222, 3) := dk_180 0 222 (dk_at dksX1_nettedTotal_0 4 rfl rfl)
theorem dX1_nettedTotal_7 : decode cX1_nettedTotal 7 = .ok (.getfield 234, 3) := dk_180 0 234 (dk_at dksX1_nettedTotal_0 7 rfl rfl)
theorem dX1_nettedTotal_10 : decode cX1_nettedTotal 10 = .ok (.lreturn, 1) := dk_173 (dk_at dksX1_nettedTotal_0 10 rfl rfl)
abbrev cX1_writtenOff : ByteArray := prog_1_method_45_code
def yX1_writtenOff : MethodName := ⟨RX1, "writtenOff", "()I"⟩
def dkwX1_writtenOff_0 : List UInt8 := [42, 180, 0, 34, 180, 0, 222, 180, 0, 238, 172]
abbrev dktX1_writtenOff_0 : List UInt8 := dkwX1_writtenOff_0 ++ []
theorem dksX1_writtenOff_0 : cX1_writtenOff.data.toList.drop 0 = dktX1_writtenOff_0 := by decide +kernel
theorem dX1_writtenOff_0 : decode cX1_writtenOff 0 = .ok (.aload_n 0, 1) := dk_42 (dk_at dksX1_writtenOff_0 0 rfl rfl)
theorem dX1_writtenOff_1 : decode cX1_writtenOff 1 = .ok (.getfield 34, 3) := dk_180 0 34 (dk_at dksX1_writtenOff_0 1 rfl rfl)
theorem dX1_writtenOff_4 : decode cX1_writtenOff 4 = .ok (.getfield 222, 3) := dk_180 0 222 (dk_at dksX1_writtenOff_0 4 rfl rfl)
theorem dX1_writtenOff_7 : decode cX1_writtenOff 7 = .ok (.getfield 238, 3) := dk_180 0 238 (dk_at dksX1_writtenOff_0 7 rfl rfl)
theorem dX1_writtenOff_10 : decode cX1_writtenOff 10 = .ok (.ireturn, 1) := dk_172 (dk_at dksX1_writtenOff_0 10 rfl rfl)
abbrev cX1_defaults : ByteArray := prog_1_method_46_code
def yX1_defaults : MethodName := ⟨RX1, "defaults", "()I"⟩
def dkwX1_defaults_0 : List UInt8 := [42, 180, 0, 34, 180, 0, 241, 172]
abbrev dktX1_defaults_0 : List UInt8 := dkwX1_defaults_0 ++ []
theorem dksX1_defaults_0 : cX1_defaults.data.toList.drop 0 = dktX1_defaults_0 := by decide +kernel
theorem dX1_defaults_0 : decode cX1_defaults 0 = .ok (.aload_n 0, 1) := dk_42 (dk_at dksX1_defaults_0 0 rfl rfl)
theorem dX1_defaults_1 : decode cX1_defaults 1 = .ok (.getfield 34, 3) := dk_180 0 34 (dk_at dksX1_defaults_0 1 rfl rfl)
theorem dX1_defaults_4 : decode cX1_defaults 4 = .ok (.getfield 241, 3) := dk_180 0 241 (dk_at dksX1_defaults_0 4 rfl rfl)
theorem dX1_defaults_7 : decode cX1_defaults 7 = .ok (.ireturn, 1) := dk_172 (dk_at dksX1_defaults_0 7 rfl rfl)
abbrev cX1_debtBits : ByteArray := prog_1_method_47_code
def yX1_debtBits : MethodName := ⟨RX1, "debtBits", "()J"⟩
def dkwX1_debtBits_0 : List UInt8 := [42, 180, 0, 34, 182, 0, 244, 173]
abbrev dktX1_debtBits_0 : List UInt8 := dkwX1_debtBits_0 ++ []
theorem dksX1_debtBits_0 : cX1_debtBits.data.toList.drop 0 = dktX1_debtBits_0 := by decide +kernel
theorem dX1_debtBits_0 : decode cX1_debtBits 0 = .ok (.aload_n 0, 1) := dk_42 (dk_at dksX1_debtBits_0 0 rfl rfl)
theorem dX1_debtBits_1 : decode cX1_debtBits 1 = .ok (.getfield 34, 3) := dk_180 0 34 (dk_at dksX1_debtBits_0 1 rfl rfl)
theorem dX1_debtBits_4 : decode cX1_debtBits 4 = .ok (.invokevirtual 244, 3) := dk_182 0 244 (dk_at dksX1_debtBits_0 4 rfl rfl)
theorem dX1_debtBits_7 : decode cX1_debtBits 7 = .ok (.lreturn, 1) := dk_173 (dk_at dksX1_debtBits_0 7 rfl rfl)
abbrev cX1_isConsistent : ByteArray := prog_1_method_50_code
def yX1_isConsistent : MethodName := ⟨RX1, "isConsistent", "()Z"⟩
def dkwX1_isConsistent_0 : List UInt8 := [42, 180, 0, 34, 182, 0, 251, 172]
abbrev dktX1_isConsistent_0 : List UInt8 := dkwX1_isConsistent_0 ++ []
theorem dksX1_isConsistent_0 : cX1_isConsistent.data.toList.drop 0 = dktX1_isConsistent_0 := by decide +kernel
theorem dX1_isConsistent_0 : decode cX1_isConsistent 0 = .ok (.aload_n 0, 1) := dk_42 (dk_at dksX1_isConsistent_0 0 rfl rfl)
theorem dX1_isConsistent_1 : decode cX1_isConsistent 1 = .ok (.getfield 34, 3) := dk_180 0 34 (dk_at dksX1_isConsistent_0 1 rfl rfl)
theorem dX1_isConsistent_4 : decode cX1_isConsistent 4 = .ok (.invokevirtual 251, 3) := dk_182 0 251 (dk_at dksX1_isConsistent_0 4 rfl rfl)
theorem dX1_isConsistent_7 : decode cX1_isConsistent 7 = .ok (.ireturn, 1) := dk_172 (dk_at dksX1_isConsistent_0 7 rfl rfl)
abbrev cX1_save : ByteArray := prog_1_method_61_code
def yX1_save : MethodName := ⟨RX1, "save", "()V"⟩
def dkwX1_save_0 : List UInt8 := [42, 42, 180, 0, 34, 181, 1, 68, 177]
abbrev dktX1_save_0 : List UInt8 := dkwX1_save_0 ++ []
theorem dksX1_save_0 : cX1_save.data.toList.drop 0 = dktX1_save_0 := by decide +kernel
theorem dX1_save_0 : decode cX1_save 0 = .ok (.aload_n 0, 1) := dk_42 (dk_at dksX1_save_0 0 rfl rfl)
theorem dX1_save_1 : decode cX1_save 1 = .ok (.aload_n 0, 1) := dk_42 (dk_at dksX1_save_0 1 rfl rfl)
theorem dX1_save_2 : decode cX1_save 2 = .ok (.getfield 34, 3) := dk_180 0 34 (dk_at dksX1_save_0 2 rfl rfl)
theorem dX1_save_5 : decode cX1_save 5 = .ok (.putfield 324, 3) := dk_181 1 68 (dk_at dksX1_save_0 5 rfl rfl)
theorem dX1_save_8 : decode cX1_save 8 = .ok (.return_, 1) := dk_177 (dk_at dksX1_save_0 8 rfl rfl)
abbrev cX1_addParty : ByteArray := prog_1_method_11_code
def yX1_addParty : MethodName := ⟨RX1, "addParty", "(I)I"⟩
def dkwX1_addParty_0 : List UInt8 := [42, 187, 0, 91, 89, 16, 106, 3, 27, 183, 0, 93, 182, 0, 96, 172]
abbrev dktX1_addParty_0 : List UInt8 := dkwX1_addParty_0 ++ []
theorem dksX1_addParty_0 : cX1_addParty.data.toList.drop 0 = dktX1_addParty_0 := by decide +kernel
theorem dX1_addParty_0 : decode cX1_addParty 0 = .ok (.aload_n 0, 1) := dk_42 (dk_at dksX1_addParty_0 0 rfl rfl)
theorem dX1_addParty_1 : decode cX1_addParty 1 = .ok (.new 91, 3) := dk_187 0 91 (dk_at dksX1_addParty_0 1 rfl rfl)
theorem dX1_addParty_4 : decode cX1_addParty 4 = .ok (.dup, 1) := dk_89 (dk_at dksX1_addParty_0 4 rfl rfl)
theorem dX1_addParty_5 : decode cX1_addParty 5 = .ok (.bipush 106, 2) := dk_16 106 (dk_at dksX1_addParty_0 5 rfl rfl)
theorem dX1_addParty_7 : decode cX1_addParty 7 = .ok (.iconst 0, 1) := dk_3 (dk_at dksX1_addParty_0 7 rfl rfl)
theorem dX1_addParty_8 : decode cX1_addParty 8 = .ok (.iload_n 1, 1) := dk_27 (dk_at dksX1_addParty_0 8 rfl rfl)
theorem dX1_addParty_9 : decode cX1_addParty 9 = .ok (.invokespecial 93, 3) := dk_183 0 93 (dk_at dksX1_addParty_0 9 rfl rfl)
theorem dX1_addParty_12 : decode cX1_addParty 12 = .ok (.invokevirtual 96, 3) := dk_182 0 96 (dk_at dksX1_addParty_0 12 rfl rfl)
theorem dX1_addParty_15 : decode cX1_addParty 15 = .ok (.ireturn, 1) := dk_172 (dk_at dksX1_addParty_0 15 rfl rfl)
abbrev cX1_deposit : ByteArray := prog_1_method_12_code
def yX1_deposit : MethodName := ⟨RX1, "deposit", "(II)I"⟩
def dkwX1_deposit_0 : List UInt8 := [42, 187, 0, 91, 89, 16, 99, 27, 28, 183, 0, 93, 182, 0, 96, 172]
abbrev dktX1_deposit_0 : List UInt8 := dkwX1_deposit_0 ++ []
theorem dksX1_deposit_0 : cX1_deposit.data.toList.drop 0 = dktX1_deposit_0 := by decide +kernel
theorem dX1_deposit_0 : decode cX1_deposit 0 = .ok (.aload_n 0, 1) := dk_42 (dk_at dksX1_deposit_0 0 rfl rfl)
theorem dX1_deposit_1 : decode cX1_deposit 1 = .ok (.new 91, 3) := dk_187 0 91 (dk_at dksX1_deposit_0 1 rfl rfl)
theorem dX1_deposit_4 : decode cX1_deposit 4 = .ok (.dup, 1) := dk_89 (dk_at dksX1_deposit_0 4 rfl rfl)
theorem dX1_deposit_5 : decode cX1_deposit 5 = .ok (.bipush 99, 2) := dk_16 99 (dk_at dksX1_deposit_0 5 rfl rfl)
theorem dX1_deposit_7 : decode cX1_deposit 7 = .ok (.iload_n 1, 1) := dk_27 (dk_at dksX1_deposit_0 7 rfl rfl)
theorem dX1_deposit_8 : decode cX1_deposit 8 = .ok (.iload_n 2, 1) := dk_28 (dk_at dksX1_deposit_0 8 rfl rfl)
theorem dX1_deposit_9 : decode cX1_deposit 9 = .ok (.invokespecial 93, 3) := dk_183 0 93 (dk_at dksX1_deposit_0 9 rfl rfl)
theorem dX1_deposit_12 : decode cX1_deposit 12 = .ok (.invokevirtual 96, 3) := dk_182 0 96 (dk_at dksX1_deposit_0 12 rfl rfl)
theorem dX1_deposit_15 : decode cX1_deposit 15 = .ok (.ireturn, 1) := dk_172 (dk_at dksX1_deposit_0 15 rfl rfl)
abbrev cX1_owe : ByteArray := prog_1_method_13_code
def yX1_owe : MethodName := ⟨RX1, "owe", "(III)I"⟩
def dkwX1_owe_0 : List UInt8 := [42, 187, 0, 100, 89, 16, 111, 27, 28, 29, 183, 0, 102, 182, 0, 96, 172]
abbrev dktX1_owe_0 : List UInt8 := dkwX1_owe_0 ++ []
theorem dksX1_owe_0 : cX1_owe.data.toList.drop 0 = dktX1_owe_0 := by decide +kernel
theorem dX1_owe_0 : decode cX1_owe 0 = .ok (.aload_n 0, 1) := dk_42 (dk_at dksX1_owe_0 0 rfl rfl)
theorem dX1_owe_1 : decode cX1_owe 1 = .ok (.new 100, 3) := dk_187 0 100 (dk_at dksX1_owe_0 1 rfl rfl)
theorem dX1_owe_4 : decode cX1_owe 4 = .ok (.dup, 1) := dk_89 (dk_at dksX1_owe_0 4 rfl rfl)
theorem dX1_owe_5 : decode cX1_owe 5 = .ok (.bipush 111, 2) := dk_16 111 (dk_at dksX1_owe_0 5 rfl rfl)
theorem dX1_owe_7 : decode cX1_owe 7 = .ok (.iload_n 1, 1) := dk_27 (dk_at dksX1_owe_0 7 rfl rfl)
theorem dX1_owe_8 : decode cX1_owe 8 = .ok (.iload_n 2, 1) := dk_28 (dk_at dksX1_owe_0 8 rfl rfl)
theorem dX1_owe_9 : decode cX1_owe 9 = .ok (.iload_n 3, 1) := dk_29 (dk_at dksX1_owe_0 9 rfl rfl)
theorem dX1_owe_10 : decode cX1_owe 10 = .ok (.invokespecial 102, 3) := dk_183 0 102 (dk_at dksX1_owe_0 10 rfl rfl)
theorem dX1_owe_13 : decode cX1_owe 13 = .ok (.invokevirtual 96, 3) := dk_182 0 96 (dk_at dksX1_owe_0 13 rfl rfl)
theorem dX1_owe_16 : decode cX1_owe 16 = .ok (.ireturn, 1) := dk_172 (dk_at dksX1_owe_0 16 rfl rfl)
abbrev cX1_pay : ByteArray := prog_1_method_14_code
def yX1_pay : MethodName := ⟨RX1, "pay", "(III)I"⟩
def dkwX1_pay_0 : List UInt8 := [42, 187, 0, 100, 89, 16, 112, 27, 28, 29, 183, 0, 102, 182, 0, 96, 172]
abbrev dktX1_pay_0 : List UInt8 := dkwX1_pay_0 ++ []
theorem dksX1_pay_0 : cX1_pay.data.toList.drop 0 = dktX1_pay_0 := by decide +kernel
theorem dX1_pay_0 : decode cX1_pay 0 = .ok (.aload_n 0, 1) := dk_42 (dk_at dksX1_pay_0 0 rfl rfl)
theorem dX1_pay_1 : decode cX1_pay 1 = .ok (.new 100, 3) := dk_187 0 100 (dk_at dksX1_pay_0 1 rfl rfl)
theorem dX1_pay_4 : decode cX1_pay 4 = .ok (.dup, 1) := dk_89 (dk_at dksX1_pay_0 4 rfl rfl)
theorem dX1_pay_5 : decode cX1_pay 5 = .ok (.bipush 112, 2) := dk_16 112 (dk_at dksX1_pay_0 5 rfl rfl)
theorem dX1_pay_7 : decode cX1_pay 7 = .ok (.iload_n 1, 1) := dk_27 (dk_at dksX1_pay_0 7 rfl rfl)
theorem dX1_pay_8 : decode cX1_pay 8 = .ok (.iload_n 2, 1) := dk_28 (dk_at dksX1_pay_0 8 rfl rfl)
theorem dX1_pay_9 : decode cX1_pay 9 = .ok (.iload_n 3, 1) := dk_29 (dk_at dksX1_pay_0 9 rfl rfl)
theorem dX1_pay_10 : decode cX1_pay 10 = .ok (.invokespecial 102, 3) := dk_183 0 102 (dk_at dksX1_pay_0 10 rfl rfl)
theorem dX1_pay_13 : decode cX1_pay 13 = .ok (.invokevirtual 96, 3) := dk_182 0 96 (dk_at dksX1_pay_0 13 rfl rfl)
theorem dX1_pay_16 : decode cX1_pay 16 = .ok (.ireturn, 1) := dk_172 (dk_at dksX1_pay_0 16 rfl rfl)
abbrev cX1_netPair : ByteArray := prog_1_method_15_code
def yX1_netPair : MethodName := ⟨RX1, "netPair", "(II)I"⟩
def dkwX1_netPair_0 : List UInt8 := [42, 187, 0, 100, 89, 16, 110, 27, 28, 3, 183, 0, 102, 182, 0, 96, 172]
abbrev dktX1_netPair_0 : List UInt8 := dkwX1_netPair_0 ++ []
theorem dksX1_netPair_0 : cX1_netPair.data.toList.drop 0 = dktX1_netPair_0 := by decide +kernel
theorem dX1_netPair_0 : decode cX1_netPair 0 = .ok (.aload_n 0, 1) := dk_42 (dk_at dksX1_netPair_0 0 rfl rfl)
theorem dX1_netPair_1 : decode cX1_netPair 1 = .ok (.new 100, 3) := dk_187 0 100 (dk_at dksX1_netPair_0 1 rfl rfl)
theorem dX1_netPair_4 : decode cX1_netPair 4 = .ok (.dup, 1) := dk_89 (dk_at dksX1_netPair_0 4 rfl rfl)
theorem dX1_netPair_5 : decode cX1_netPair 5 = .ok (.bipush 110, 2) := dk_16 110 (dk_at dksX1_netPair_0 5 rfl rfl)
theorem dX1_netPair_7 : decode cX1_netPair 7 = .ok (.iload_n 1, 1) := dk_27 (dk_at dksX1_netPair_0 7 rfl rfl)
theorem dX1_netPair_8 : decode cX1_netPair 8 = .ok (.iload_n 2, 1) := dk_28 (dk_at dksX1_netPair_0 8 rfl rfl)
theorem dX1_netPair_9 : decode cX1_netPair 9 = .ok (.iconst 0, 1) := dk_3 (dk_at dksX1_netPair_0 9 rfl rfl)
theorem dX1_netPair_10 : decode cX1_netPair 10 = .ok (.invokespecial 102, 3) := dk_183 0 102 (dk_at dksX1_netPair_0 10 rfl rfl)
theorem dX1_netPair_13 : decode cX1_netPair 13 = .ok (.invokevirtual 96, 3) := dk_182 0 96 (dk_at dksX1_netPair_0 13 rfl rfl)
theorem dX1_netPair_16 : decode cX1_netPair 16 = .ok (.ireturn, 1) := dk_172 (dk_at dksX1_netPair_0 16 rfl rfl)
abbrev cX1_netCycle : ByteArray := prog_1_method_16_code
def yX1_netCycle : MethodName := ⟨RX1, "netCycle", "()I"⟩
def dkwX1_netCycle_0 : List UInt8 := [42, 187, 0, 105, 89, 178, 0, 107, 183, 0, 113, 182, 0, 96, 172]
abbrev dktX1_netCycle_0 : List UInt8 := dkwX1_netCycle_0 ++ []
theorem dksX1_netCycle_0 : cX1_netCycle.data.toList.drop 0 = dktX1_netCycle_0 := by decide +kernel
theorem dX1_netCycle_0 : decode cX1_netCycle 0 = .ok (.aload_n 0, 1) := dk_42 (dk_at dksX1_netCycle_0 0 rfl rfl)
theorem dX1_netCycle_1 : decode cX1_netCycle 1 = .ok (.new 105, 3) := dk_187 0 105 (dk_at dksX1_netCycle_0 1 rfl rfl)
theorem dX1_netCycle_4 : decode cX1_netCycle 4 = .ok (.dup, 1) := dk_89 (dk_at dksX1_netCycle_0 4 rfl rfl)
theorem dX1_netCycle_5 : decode cX1_netCycle 5 = .ok (.getstatic 107, 3) := dk_178 0 107 (dk_at dksX1_netCycle_0 5 rfl rfl)
theorem dX1_netCycle_8 : decode cX1_netCycle 8 = .ok (.invokespecial 113, 3) := dk_183 0 113 (dk_at dksX1_netCycle_0 8 rfl rfl)
theorem dX1_netCycle_11 : decode cX1_netCycle 11 = .ok (.invokevirtual 96, 3) := dk_182 0 96 (dk_at dksX1_netCycle_0 11 rfl rfl)
theorem dX1_netCycle_14 : decode cX1_netCycle 14 = .ok (.ireturn, 1) := dk_172 (dk_at dksX1_netCycle_0 14 rfl rfl)
abbrev cX1_declareDefault : ByteArray := prog_1_method_18_code
def yX1_declareDefault : MethodName := ⟨RX1, "declareDefault", "(I)I"⟩
def dkwX1_declareDefault_0 : List UInt8 := [42, 187, 0, 91, 89, 16, 100, 27, 3, 183, 0, 93, 182, 0, 96, 172]
abbrev dktX1_declareDefault_0 : List UInt8 := dkwX1_declareDefault_0 ++ []
theorem dksX1_declareDefault_0 : cX1_declareDefault.data.toList.drop 0 = dktX1_declareDefault_0 := by decide +kernel
theorem dX1_declareDefault_0 : decode cX1_declareDefault 0 = .ok (.aload_n 0, 1) := dk_42 (dk_at dksX1_declareDefault_0 0 rfl rfl)
theorem dX1_declareDefault_1 : decode cX1_declareDefault 1 = .ok (.new 91, 3) := dk_187 0 91 (dk_at dksX1_declareDefault_0 1 rfl rfl)
theorem dX1_declareDefault_4 : decode cX1_declareDefault 4 = .ok (.dup, 1) := dk_89 (dk_at dksX1_declareDefault_0 4 rfl rfl)
theorem dX1_declareDefault_5 : decode cX1_declareDefault 5 = .ok (.bipush 100, 2) := dk_16 100 (dk_at dksX1_declareDefault_0 5 rfl rfl)
theorem dX1_declareDefault_7 : decode cX1_declareDefault 7 = .ok (.iload_n 1, 1) := dk_27 (dk_at dksX1_declareDefault_0 7 rfl rfl)
theorem dX1_declareDefault_8 : decode cX1_declareDefault 8 = .ok (.iconst 0, 1) := dk_3 (dk_at dksX1_declareDefault_0 8 rfl rfl)
theorem dX1_declareDefault_9 : decode cX1_declareDefault 9 = .ok (.invokespecial 93, 3) := dk_183 0 93 (dk_at dksX1_declareDefault_0 9 rfl rfl)
theorem dX1_declareDefault_12 : decode cX1_declareDefault 12 = .ok (.invokevirtual 96, 3) := dk_182 0 96 (dk_at dksX1_declareDefault_0 12 rfl rfl)
theorem dX1_declareDefault_15 : decode cX1_declareDefault 15 = .ok (.ireturn, 1) := dk_172 (dk_at dksX1_declareDefault_0 15 rfl rfl)
abbrev cX1_cash : ByteArray := prog_1_method_22_code
def yX1_cash : MethodName := ⟨RX1, "cash", "(I)I"⟩
def dkwX1_cash_0 : List UInt8 := [42, 180, 0, 34, 27, 182, 0, 128, 42, 180, 0, 34, 180, 0, 132, 27, 46, 172]
abbrev dktX1_cash_0 : List UInt8 := dkwX1_cash_0 ++ []
theorem dksX1_cash_0 : cX1_cash.data.toList.drop 0 = dktX1_cash_0 := by decide +kernel
theorem dX1_cash_0 : decode cX1_cash 0 = .ok (.aload_n 0, 1) := dk_42 (dk_at dksX1_cash_0 0 rfl rfl)
theorem dX1_cash_1 : decode cX1_cash 1 = .ok (.getfield 34, 3) := dk_180 0 34 (dk_at dksX1_cash_0 1 rfl rfl)
theorem dX1_cash_4 : decode cX1_cash 4 = .ok (.iload_n 1, 1) := dk_27 (dk_at dksX1_cash_0 4 rfl rfl)
theorem dX1_cash_5 : decode cX1_cash 5 = .ok (.invokevirtual 128, 3) := dk_182 0 128 (dk_at dksX1_cash_0 5 rfl rfl)
theorem dX1_cash_8 : decode cX1_cash 8 = .ok (.aload_n 0, 1) := dk_42 (dk_at dksX1_cash_0 8 rfl rfl)
theorem dX1_cash_9 : decode cX1_cash 9 = .ok (.getfield 34, 3) := dk_180 0 34 (dk_at dksX1_cash_0 9 rfl rfl)
theorem dX1_cash_12 : decode cX1_cash 12 = .ok (.getfield 132, 3) := dk_180 0 132 (dk_at dksX1_cash_0 12 rfl rfl)
theorem dX1_cash_15 : decode cX1_cash 15 = .ok (.iload_n 1, 1) := dk_27 (dk_at dksX1_cash_0 15 rfl rfl)
theorem dX1_cash_16 : decode cX1_cash 16 = .ok (.iaload, 1) := dk_46 (dk_at dksX1_cash_0 16 rfl rfl)
theorem dX1_cash_17 : decode cX1_cash 17 = .ok (.ireturn, 1) := dk_172 (dk_at dksX1_cash_0 17 rfl rfl)
abbrev cX1_debt : ByteArray := prog_1_method_23_code
def yX1_debt : MethodName := ⟨RX1, "debt", "(II)I"⟩
def dkwX1_debt_0 : List UInt8 := [42, 180, 0, 34, 27, 28, 182, 0, 136, 42, 180, 0, 34, 180, 0, 140, 27, 50, 28, 46, 172]
abbrev dktX1_debt_0 : List UInt8 := dkwX1_debt_0 ++ []
theorem dksX1_debt_0 : cX1_debt.data.toList.drop 0 = dktX1_debt_0 := by decide +kernel
theorem dX1_debt_0 : decode cX1_debt 0 = .ok (.aload_n 0, 1) := dk_42 (dk_at dksX1_debt_0 0 rfl rfl)
theorem dX1_debt_1 : decode cX1_debt 1 = .ok (.getfield 34, 3) := dk_180 0 34 (dk_at dksX1_debt_0 1 rfl rfl)
theorem dX1_debt_4 : decode cX1_debt 4 = .ok (.iload_n 1, 1) := dk_27 (dk_at dksX1_debt_0 4 rfl rfl)
theorem dX1_debt_5 : decode cX1_debt 5 = .ok (.iload_n 2, 1) := dk_28 (dk_at dksX1_debt_0 5 rfl rfl)
theorem dX1_debt_6 : decode cX1_debt 6 = .ok (.invokevirtual 136, 3) := dk_182 0 136 (dk_at dksX1_debt_0 6 rfl rfl)
theorem dX1_debt_9 : decode cX1_debt 9 = .ok (.aload_n 0, 1) := dk_42 (dk_at dksX1_debt_0 9 rfl rfl)
theorem dX1_debt_10 : decode cX1_debt 10 = .ok (.getfield 34, 3) := dk_180 0 34 (dk_at dksX1_debt_0 10 rfl rfl)
theorem dX1_debt_13 : decode cX1_debt 13 = .ok (.getfield 140, 3) := dk_180 0 140 (dk_at dksX1_debt_0 13 rfl rfl)
theorem dX1_debt_16 : decode cX1_debt 16 = .ok (.iload_n 1, 1) := dk_27 (dk_at dksX1_debt_0 16 rfl rfl)
theorem dX1_debt_17 : decode cX1_debt 17 = .ok (.aaload, 1) := dk_50 (dk_at dksX1_debt_0 17 rfl rfl)
theorem dX1_debt_18 : decode cX1_debt 18 = .ok (.iload_n 2, 1) := dk_28 (dk_at dksX1_debt_0 18 rfl rfl)
theorem dX1_debt_19 : decode cX1_debt 19 = .ok (.iaload, 1) := dk_46 (dk_at dksX1_debt_0 19 rfl rfl)
theorem dX1_debt_20 : decode cX1_debt 20 = .ok (.ireturn, 1) := dk_172 (dk_at dksX1_debt_0 20 rfl rfl)
abbrev cX1_claims : ByteArray := prog_1_method_24_code
def yX1_claims : MethodName := ⟨RX1, "claims", "(I)I"⟩
def dkwX1_claims_0 : List UInt8 := [42, 180, 0, 34, 27, 182, 0, 128, 42, 180, 0, 34, 27, 182, 0, 144, 172]
abbrev dktX1_claims_0 : List UInt8 := dkwX1_claims_0 ++ []
theorem dksX1_claims_0 : cX1_claims.data.toList.drop 0 = dktX1_claims_0 := by decide +kernel
theorem dX1_claims_0 : decode cX1_claims 0 = .ok (.aload_n 0, 1) := dk_42 (dk_at dksX1_claims_0 0 rfl rfl)
theorem dX1_claims_1 : decode cX1_claims 1 = .ok (.getfield 34, 3) := dk_180 0 34 (dk_at dksX1_claims_0 1 rfl rfl)
theorem dX1_claims_4 : decode cX1_claims 4 = .ok (.iload_n 1, 1) := dk_27 (dk_at dksX1_claims_0 4 rfl rfl)
theorem dX1_claims_5 : decode cX1_claims 5 = .ok (.invokevirtual 128, 3) := dk_182 0 128 (dk_at dksX1_claims_0 5 rfl rfl)
theorem dX1_claims_8 : decode cX1_claims 8 = .ok (.aload_n 0, 1) := dk_42 (dk_at dksX1_claims_0 8 rfl rfl)
theorem dX1_claims_9 : decode cX1_claims 9 = .ok (.getfield 34, 3) := dk_180 0 34 (dk_at dksX1_claims_0 9 rfl rfl)
theorem dX1_claims_12 : decode cX1_claims 12 = .ok (.iload_n 1, 1) := dk_27 (dk_at dksX1_claims_0 12 rfl rfl)
theorem dX1_claims_13 : decode cX1_claims 13 = .ok (.invokevirtual 144, 3) := dk_182 0 144 (dk_at dksX1_claims_0 13 rfl rfl)
theorem dX1_claims_16 : decode cX1_claims 16 = .ok (.ireturn, 1) := dk_172 (dk_at dksX1_claims_0 16 rfl rfl)
abbrev cX1_obligations : ByteArray := prog_1_method_25_code
def yX1_obligations : MethodName := ⟨RX1, "obligations", "(I)I"⟩
def dkwX1_obligations_0 : List UInt8 := [42, 180, 0, 34, 27, 182, 0, 128, 42, 180, 0, 34, 27, 182, 0, 148, 172]
abbrev dktX1_obligations_0 : List UInt8 := dkwX1_obligations_0 ++ []
theorem dksX1_obligations_0 : cX1_obligations.data.toList.drop 0 = dktX1_obligations_0 := by decide +kernel
theorem dX1_obligations_0 : decode cX1_obligations 0 = .ok (.aload_n 0, 1) := dk_42 (dk_at dksX1_obligations_0 0 rfl rfl)
theorem dX1_obligations_1 : decode cX1_obligations 1 = .ok (.getfield 34, 3) := dk_180 0 34 (dk_at dksX1_obligations_0 1 rfl rfl)
theorem dX1_obligations_4 : decode cX1_obligations 4 = .ok (.iload_n 1, 1) := dk_27 (dk_at dksX1_obligations_0 4 rfl rfl)
theorem dX1_obligations_5 : decode cX1_obligations 5 = .ok (.invokevirtual 128, 3) := dk_182 0 128 (dk_at dksX1_obligations_0 5 rfl rfl)
theorem dX1_obligations_8 : decode cX1_obligations 8 = .ok (.aload_n 0, 1) := dk_42 (dk_at dksX1_obligations_0 8 rfl rfl)
theorem dX1_obligations_9 : decode cX1_obligations 9 = .ok (.getfield 34, 3) := dk_180 0 34 (dk_at dksX1_obligations_0 9 rfl rfl)
theorem dX1_obligations_12 : decode cX1_obligations 12 = .ok (.iload_n 1, 1) := dk_27 (dk_at dksX1_obligations_0 12 rfl rfl)
theorem dX1_obligations_13 : decode cX1_obligations 13 = .ok (.invokevirtual 148, 3) := dk_182 0 148 (dk_at dksX1_obligations_0 13 rfl rfl)
theorem dX1_obligations_16 : decode cX1_obligations 16 = .ok (.ireturn, 1) := dk_172 (dk_at dksX1_obligations_0 16 rfl rfl)
abbrev cX1_netPosition : ByteArray := prog_1_method_26_code
def yX1_netPosition : MethodName := ⟨RX1, "netPosition", "(I)I"⟩
def dkwX1_netPosition_0 : List UInt8 := [42, 180, 0, 34, 27, 182, 0, 128, 42, 180, 0, 34, 27, 182, 0, 151, 172]
abbrev dktX1_netPosition_0 : List UInt8 := dkwX1_netPosition_0 ++ []
theorem dksX1_netPosition_0 : cX1_netPosition.data.toList.drop 0 = dktX1_netPosition_0 := by decide +kernel
theorem dX1_netPosition_0 : decode cX1_netPosition 0 = .ok (.aload_n 0, 1) := dk_42 (dk_at dksX1_netPosition_0 0 rfl rfl)
theorem dX1_netPosition_1 : decode cX1_netPosition 1 = .ok (.getfield 34, 3) := dk_180 0 34 (dk_at dksX1_netPosition_0 1 rfl rfl)
theorem dX1_netPosition_4 : decode cX1_netPosition 4 = .ok (.iload_n 1, 1) := dk_27 (dk_at dksX1_netPosition_0 4 rfl rfl)
theorem dX1_netPosition_5 : decode cX1_netPosition 5 = .ok (.invokevirtual 128, 3) := dk_182 0 128 (dk_at dksX1_netPosition_0 5 rfl rfl)
theorem dX1_netPosition_8 : decode cX1_netPosition 8 = .ok (.aload_n 0, 1) := dk_42 (dk_at dksX1_netPosition_0 8 rfl rfl)
theorem dX1_netPosition_9 : decode cX1_netPosition 9 = .ok (.getfield 34, 3) := dk_180 0 34 (dk_at dksX1_netPosition_0 9 rfl rfl)
theorem dX1_netPosition_12 : decode cX1_netPosition 12 = .ok (.iload_n 1, 1) := dk_27 (dk_at dksX1_netPosition_0 12 rfl rfl)
theorem dX1_netPosition_13 : decode cX1_netPosition 13 = .ok (.invokevirtual 151, 3) := dk_182 0 151 (dk_at dksX1_netPosition_0 13 rfl rfl)
theorem dX1_netPosition_16 : decode cX1_netPosition 16 = .ok (.ireturn, 1) := dk_172 (dk_at dksX1_netPosition_0 16 rfl rfl)
abbrev cX1_isInsolvent : ByteArray := prog_1_method_27_code
def yX1_isInsolvent : MethodName := ⟨RX1, "isInsolvent", "(I)Z"⟩
def dkwX1_isInsolvent_0 : List UInt8 := [42, 180, 0, 34, 27, 182, 0, 128, 42, 180, 0, 34, 27, 182, 0, 154, 172]
abbrev dktX1_isInsolvent_0 : List UInt8 := dkwX1_isInsolvent_0 ++ []
theorem dksX1_isInsolvent_0 : cX1_isInsolvent.data.toList.drop 0 = dktX1_isInsolvent_0 := by decide +kernel
theorem dX1_isInsolvent_0 : decode cX1_isInsolvent 0 = .ok (.aload_n 0, 1) := dk_42 (dk_at dksX1_isInsolvent_0 0 rfl rfl)
theorem dX1_isInsolvent_1 : decode cX1_isInsolvent 1 = .ok (.getfield 34, 3) := dk_180 0 34 (dk_at dksX1_isInsolvent_0 1 rfl rfl)
theorem dX1_isInsolvent_4 : decode cX1_isInsolvent 4 = .ok (.iload_n 1, 1) := dk_27 (dk_at dksX1_isInsolvent_0 4 rfl rfl)
theorem dX1_isInsolvent_5 : decode cX1_isInsolvent 5 = .ok (.invokevirtual 128, 3) := dk_182 0 128 (dk_at dksX1_isInsolvent_0 5 rfl rfl)
theorem dX1_isInsolvent_8 : decode cX1_isInsolvent 8 = .ok (.aload_n 0, 1) := dk_42 (dk_at dksX1_isInsolvent_0 8 rfl rfl)
theorem dX1_isInsolvent_9 : decode cX1_isInsolvent 9 = .ok (.getfield 34, 3) := dk_180 0 34 (dk_at dksX1_isInsolvent_0 9 rfl rfl)
theorem dX1_isInsolvent_12 : decode cX1_isInsolvent 12 = .ok (.iload_n 1, 1) := dk_27 (dk_at dksX1_isInsolvent_0 12 rfl rfl)
theorem dX1_isInsolvent_13 : decode cX1_isInsolvent 13 = .ok (.invokevirtual 154, 3) := dk_182 0 154 (dk_at dksX1_isInsolvent_0 13 rfl rfl)
theorem dX1_isInsolvent_16 : decode cX1_isInsolvent 16 = .ok (.ireturn, 1) := dk_172 (dk_at dksX1_isInsolvent_0 16 rfl rfl)
abbrev cX1_partyAtRank : ByteArray := prog_1_method_28_code
def yX1_partyAtRank : MethodName := ⟨RX1, "partyAtRank", "(I)I"⟩
def dkwX1_partyAtRank_0 : List UInt8 := [42, 180, 0, 34, 27, 182, 0, 158, 184, 0, 161, 172]
abbrev dktX1_partyAtRank_0 : List UInt8 := dkwX1_partyAtRank_0 ++ []
theorem dksX1_partyAtRank_0 : cX1_partyAtRank.data.toList.drop 0 = dktX1_partyAtRank_0 := by decide +kernel
theorem dX1_partyAtRank_0 : decode cX1_partyAtRank 0 = .ok (.aload_n 0, 1) := dk_42 (dk_at dksX1_partyAtRank_0 0 rfl rfl)
theorem dX1_partyAtRank_1 : decode cX1_partyAtRank 1 = .ok (.getfield 34, 3) := dk_180 0 34 (dk_at dksX1_partyAtRank_0 1 rfl rfl)
theorem dX1_partyAtRank_4 : decode cX1_partyAtRank 4 = .ok (.iload_n 1, 1) := dk_27 (dk_at dksX1_partyAtRank_0 4 rfl rfl)
theorem dX1_partyAtRank_5 : decode cX1_partyAtRank 5 = .ok (.invokevirtual 158, 3) := dk_182 0 158 (dk_at dksX1_partyAtRank_0 5 rfl rfl)
theorem dX1_partyAtRank_8 : decode cX1_partyAtRank 8 = .ok (.invokestatic 161, 3) := dk_184 0 161 (dk_at dksX1_partyAtRank_0 8 rfl rfl)
theorem dX1_partyAtRank_11 : decode cX1_partyAtRank 11 = .ok (.ireturn, 1) := dk_172 (dk_at dksX1_partyAtRank_0 11 rfl rfl)
abbrev cX1_requireFound : ByteArray := prog_1_method_6_code
def yX1_requireFound : MethodName := ⟨RX1, "requireFound", "(I)I"⟩
def dkwX1_requireFound_0 : List UInt8 := [26, 2, 160, 0, 11, 187, 0, 22, 89, 183, 0, 24, 191, 26, 172]
abbrev dktX1_requireFound_0 : List UInt8 := dkwX1_requireFound_0 ++ []
theorem dksX1_requireFound_0 : cX1_requireFound.data.toList.drop 0 = dktX1_requireFound_0 := by decide +kernel
theorem dX1_requireFound_0 : decode cX1_requireFound 0 = .ok (.iload_n 0, 1) := dk_26 (dk_at dksX1_requireFound_0 0 rfl rfl)
theorem dX1_requireFound_1 : decode cX1_requireFound 1 = .ok (.iconst (-1), 1) := dk_2 (dk_at dksX1_requireFound_0 1 rfl rfl)
theorem dX1_requireFound_2 : decode cX1_requireFound 2 = .ok (.if_icmp .ne 11, 3) := dk_160 0 11 (dk_at dksX1_requireFound_0 2 rfl rfl)
theorem dX1_requireFound_5 : decode cX1_requireFound 5 = .ok (.new 22, 3) := dk_187 0 22 (dk_at dksX1_requireFound_0 5 rfl rfl)
theorem dX1_requireFound_8 : decode cX1_requireFound 8 = .ok (.dup, 1) := dk_89 (dk_at dksX1_requireFound_0 8 rfl rfl)
theorem dX1_requireFound_9 : decode cX1_requireFound 9 = .ok (.invokespecial 24, 3) := dk_183 0 24 (dk_at dksX1_requireFound_0 9 rfl rfl)
theorem dX1_requireFound_12 : decode cX1_requireFound 12 = .ok (.athrow, 1) := dk_191 (dk_at dksX1_requireFound_0 12 rfl rfl)
theorem dX1_requireFound_13 : decode cX1_requireFound 13 = .ok (.iload_n 0, 1) := dk_26 (dk_at dksX1_requireFound_0 13 rfl rfl)
theorem dX1_requireFound_14 : decode cX1_requireFound 14 = .ok (.ireturn, 1) := dk_172 (dk_at dksX1_requireFound_0 14 rfl rfl)
abbrev cX1_cycleSize : ByteArray := prog_1_method_31_code
def yX1_cycleSize : MethodName := ⟨RX1, "cycleSize", "()I"⟩
def dkwX1_cycleSize_0 : List UInt8 := [42, 180, 0, 34, 182, 0, 171, 182, 0, 175, 172]
abbrev dktX1_cycleSize_0 : List UInt8 := dkwX1_cycleSize_0 ++ []
theorem dksX1_cycleSize_0 : cX1_cycleSize.data.toList.drop 0 = dktX1_cycleSize_0 := by decide +kernel
theorem dX1_cycleSize_0 : decode cX1_cycleSize 0 = .ok (.aload_n 0, 1) := dk_42 (dk_at dksX1_cycleSize_0 0 rfl rfl)
theorem dX1_cycleSize_1 : decode cX1_cycleSize 1 = .ok (.getfield 34, 3) := dk_180 0 34 (dk_at dksX1_cycleSize_0 1 rfl rfl)
theorem dX1_cycleSize_4 : decode cX1_cycleSize 4 = .ok (.invokevirtual 171, 3) := dk_182 0 171 (dk_at dksX1_cycleSize_0 4 rfl rfl)
theorem dX1_cycleSize_7 : decode cX1_cycleSize 7 = .ok (.invokevirtual 175, 3) := dk_182 0 175 (dk_at dksX1_cycleSize_0 7 rfl rfl)
theorem dX1_cycleSize_10 : decode cX1_cycleSize 10 = .ok (.ireturn, 1) := dk_172 (dk_at dksX1_cycleSize_0 10 rfl rfl)
abbrev cX1_cycleParty : ByteArray := prog_1_method_32_code
def yX1_cycleParty : MethodName := ⟨RX1, "cycleParty", "(I)I"⟩
def dkwX1_cycleParty_0 : List UInt8 := [42, 180, 0, 34, 182, 0, 171, 77, 27, 44, 182, 0, 175, 184, 0, 178, 44, 27, 182, 0, 181, 172]
abbrev dktX1_cycleParty_0 : List UInt8 := dkwX1_cycleParty_0 ++ []
theorem dksX1_cycleParty_0 : cX1_cycleParty.data.toList.drop 0 = dktX1_cycleParty_0 := by decide +kernel
theorem dX1_cycleParty_0 : decode cX1_cycleParty 0 = .ok (.aload_n 0, 1) := dk_42 (dk_at dksX1_cycleParty_0 0 rfl rfl)
theorem dX1_cycleParty_1 : decode cX1_cycleParty 1 = .ok (.getfield 34, 3) := dk_180 0 34 (dk_at dksX1_cycleParty_0 1 rfl rfl)
theorem dX1_cycleParty_4 : decode cX1_cycleParty 4 = .ok (.invokevirtual 171, 3) := dk_182 0 171 (dk_at dksX1_cycleParty_0 4 rfl rfl)
theorem dX1_cycleParty_7 : decode cX1_cycleParty 7 = .ok (.astore_n 2, 1) := dk_77 (dk_at dksX1_cycleParty_0 7 rfl rfl)
theorem dX1_cycleParty_8 : decode cX1_cycleParty 8 = .ok (.iload_n 1, 1) := dk_27 (dk_at dksX1_cycleParty_0 8 rfl rfl)
theorem dX1_cycleParty_9 : decode cX1_cycleParty 9 = .ok (.aload_n 2, 1) := dk_44 (dk_at dksX1_cycleParty_0 9 rfl rfl)
theorem dX1_cycleParty_10 : decode cX1_cycleParty 10 = .ok (.invokevirtual 175, 3) := dk_182 0 175 (dk_at dksX1_cycleParty_0 10 rfl rfl)
theorem dX1_cycleParty_13 : decode cX1_cycleParty 13 = .ok (.invokestatic 178, 3) := dk_184 0 178 (dk_at dksX1_cycleParty_0 13 rfl rfl)
theorem dX1_cycleParty_16 : decode cX1_cycleParty 16 = .ok (.aload_n 2, 1) := dk_44 (dk_at dksX1_cycleParty_0 16 rfl rfl)
theorem dX1_cycleParty_17 : decode cX1_cycleParty 17 = .ok (.iload_n 1, 1) := dk_27 (dk_at dksX1_cycleParty_0 17 rfl rfl)
theorem dX1_cycleParty_18 : decode cX1_cycleParty 18 = .ok (.invokevirtual 181, 3) := dk_182 0 181 (dk_at dksX1_cycleParty_0 18 rfl rfl)
theorem dX1_cycleParty_21 : decode cX1_cycleParty 21 = .ok (.ireturn, 1) := dk_172 (dk_at dksX1_cycleParty_0 21 rfl rfl)
abbrev cX1_cycleAmount : ByteArray := prog_1_method_33_code
def yX1_cycleAmount : MethodName := ⟨RX1, "cycleAmount", "()I"⟩
def dkwX1_cycleAmount_0 : List UInt8 := [42, 180, 0, 34, 182, 0, 171, 180, 0, 184, 172]
abbrev dktX1_cycleAmount_0 : List UInt8 := dkwX1_cycleAmount_0 ++ []
theorem dksX1_cycleAmount_0 : cX1_cycleAmount.data.toList.drop 0 = dktX1_cycleAmount_0 := by decide +kernel
theorem dX1_cycleAmount_0 : decode cX1_cycleAmount 0 = .ok (.aload_n 0, 1) := dk_42 (dk_at dksX1_cycleAmount_0 0 rfl rfl)
theorem dX1_cycleAmount_1 : decode cX1_cycleAmount 1 = .ok (.getfield 34, 3) := dk_180 0 34 (dk_at dksX1_cycleAmount_0 1 rfl rfl)
theorem dX1_cycleAmount_4 : decode cX1_cycleAmount 4 = .ok (.invokevirtual 171, 3) := dk_182 0 171 (dk_at dksX1_cycleAmount_0 4 rfl rfl)
theorem dX1_cycleAmount_7 : decode cX1_cycleAmount 7 = .ok (.getfield 184, 3) := dk_180 0 184 (dk_at dksX1_cycleAmount_0 7 rfl rfl)
theorem dX1_cycleAmount_10 : decode cX1_cycleAmount 10 = .ok (.ireturn, 1) := dk_172 (dk_at dksX1_cycleAmount_0 10 rfl rfl)
abbrev cX1_shareOf : ByteArray := prog_1_method_37_code
def yX1_shareOf : MethodName := ⟨RX1, "shareOf", "(II)I"⟩
def dkwX1_shareOf_0 : List UInt8 := [42, 27, 28, 182, 0, 200, 182, 0, 204, 28, 46, 172]
abbrev dktX1_shareOf_0 : List UInt8 := dkwX1_shareOf_0 ++ []
theorem dksX1_shareOf_0 : cX1_shareOf.data.toList.drop 0 = dktX1_shareOf_0 := by decide +kernel
theorem dX1_shareOf_0 : decode cX1_shareOf 0 = .ok (.aload_n 0, 1) := dk_42 (dk_at dksX1_shareOf_0 0 rfl rfl)
theorem dX1_shareOf_1 : decode cX1_shareOf 1 = .ok (.iload_n 1, 1) := dk_27 (dk_at dksX1_shareOf_0 1 rfl rfl)
theorem dX1_shareOf_2 : decode cX1_shareOf 2 = .ok (.iload_n 2, 1) := dk_28 (dk_at dksX1_shareOf_0 2 rfl rfl)
theorem dX1_shareOf_3 : decode cX1_shareOf 3 = .ok (.invokevirtual 200, 3) := dk_182 0 200 (dk_at dksX1_shareOf_0 3 rfl rfl)
theorem dX1_shareOf_6 : decode cX1_shareOf 6 = .ok (.invokevirtual 204, 3) := dk_182 0 204 (dk_at dksX1_shareOf_0 6 rfl rfl)
theorem dX1_shareOf_9 : decode cX1_shareOf 9 = .ok (.iload_n 2, 1) := dk_28 (dk_at dksX1_shareOf_0 9 rfl rfl)
theorem dX1_shareOf_10 : decode cX1_shareOf 10 = .ok (.iaload, 1) := dk_46 (dk_at dksX1_shareOf_0 10 rfl rfl)
theorem dX1_shareOf_11 : decode cX1_shareOf 11 = .ok (.ireturn, 1) := dk_172 (dk_at dksX1_shareOf_0 11 rfl rfl)
abbrev cX1_requireShares : ByteArray := prog_1_method_36_code
def yX1_requireShares : MethodName := ⟨RX1, "requireShares", "(II)LClearingHouse$Shares;"⟩
def dkwX1_requireShares_1 : List UInt8 := [182, 0, 196, 176]
abbrev dktX1_requireShares_1 : List UInt8 := dkwX1_requireShares_1 ++ []
def dkwX1_requireShares_0 : List UInt8 := [42, 180, 0, 34, 27, 28, 182, 0, 136, 42, 180, 0, 34, 27, 182, 0, 193, 42, 180, 0, 34, 27]
abbrev dktX1_requireShares_0 : List UInt8 := dkwX1_requireShares_0 ++ dktX1_requireShares_1
theorem dksX1_requireShares_0 : cX1_requireShares.data.toList.drop 0 = dktX1_requireShares_0 := by decide +kernel
theorem dksX1_requireShares_1 : cX1_requireShares.data.toList.drop 22 = dktX1_requireShares_1 := dk_seg dksX1_requireShares_0 22 rfl rfl
theorem dX1_requireShares_0 : decode cX1_requireShares 0 = .ok (.aload_n 0, 1) := dk_42 (dk_at dksX1_requireShares_0 0 rfl rfl)
theorem dX1_requireShares_1 : decode cX1_requireShares 1 = .ok (.getfield 34, 3) := dk_180 0 34 (dk_at dksX1_requireShares_0 1 rfl rfl)
theorem dX1_requireShares_4 : decode cX1_requireShares 4 = .ok (.iload_n 1, 1) := dk_27 (dk_at dksX1_requireShares_0 4 rfl rfl)
theorem dX1_requireShares_5 : decode cX1_requireShares 5 = .ok (.iload_n 2, 1) := dk_28 (dk_at dksX1_requireShares_0 5 rfl rfl)
theorem dX1_requireShares_6 : decode cX1_requireShares 6 = .ok (.invokevirtual 136, 3) := dk_182 0 136 (dk_at dksX1_requireShares_0 6 rfl rfl)
theorem dX1_requireShares_9 : decode cX1_requireShares 9 = .ok (.aload_n 0, 1) := dk_42 (dk_at dksX1_requireShares_0 9 rfl rfl)
theorem dX1_requireShares_10 : decode cX1_requireShares 10 = .ok (.getfield 34, 3) := dk_180 0 34 (dk_at dksX1_requireShares_0 10 rfl rfl)
theorem dX1_requireShares_13 : decode cX1_requireShares 13 = .ok (.iload_n 1, 1) := dk_27 (dk_at dksX1_requireShares_0 13 rfl rfl)
theorem dX1_requireShares_14 : decode cX1_requireShares 14 = .ok (.invokevirtual 193, 3) := dk_182 0 193 (dk_at dksX1_requireShares_0 14 rfl rfl)
theorem dX1_requireShares_17 : decode cX1_requireShares 17 = .ok (.aload_n 0, 1) := dk_42 (dk_at dksX1_requireShares_0 17 rfl rfl)
theorem dX1_requireShares_18 : decode cX1_requireShares 18 = .ok (.getfield 34, 3) := dk_180 0 34 (dk_at dksX1_requireShares_0 18 rfl rfl)
theorem dX1_requireShares_21 : decode cX1_requireShares 21 = .ok (.iload_n 1, 1) := dk_27 (dk_at dksX1_requireShares_0 21 rfl rfl)
theorem dX1_requireShares_22 : decode cX1_requireShares 22 = .ok (.invokevirtual 196, 3) := dk_182 0 196 (dk_at dksX1_requireShares_1 0 rfl rfl)
theorem dX1_requireShares_25 : decode cX1_requireShares 25 = .ok (.areturn, 1) := dk_176 (dk_at dksX1_requireShares_1 3 rfl rfl)
abbrev cX1_shareByCounting : ByteArray := prog_1_method_38_code
def yX1_shareByCounting : MethodName := ⟨RX1, "shareByCounting", "(II)I"⟩
def dkwX1_shareByCounting_0 : List UInt8 := [42, 27, 28, 182, 0, 200, 28, 182, 0, 210, 172]
abbrev dktX1_shareByCounting_0 : List UInt8 := dkwX1_shareByCounting_0 ++ []
theorem dksX1_shareByCounting_0 : cX1_shareByCounting.data.toList.drop 0 = dktX1_shareByCounting_0 := by decide +kernel
theorem dX1_shareByCounting_0 : decode cX1_shareByCounting 0 = .ok (.aload_n 0, 1) := dk_42 (dk_at dksX1_shareByCounting_0 0 rfl rfl)
theorem dX1_shareByCounting_1 : decode cX1_shareByCounting 1 = .ok (.iload_n 1, 1) := dk_27 (dk_at dksX1_shareByCounting_0 1 rfl rfl)
theorem dX1_shareByCounting_2 : decode cX1_shareByCounting 2 = .ok (.iload_n 2, 1) := dk_28 (dk_at dksX1_shareByCounting_0 2 rfl rfl)
theorem dX1_shareByCounting_3 : decode cX1_shareByCounting 3 = .ok (.invokevirtual 200, 3) := dk_182 0 200 (dk_at dksX1_shareByCounting_0 3 rfl rfl)
theorem dX1_shareByCounting_6 : decode cX1_shareByCounting 6 = .ok (.iload_n 2, 1) := dk_28 (dk_at dksX1_shareByCounting_0 6 rfl rfl)
theorem dX1_shareByCounting_7 : decode cX1_shareByCounting 7 = .ok (.invokevirtual 210, 3) := dk_182 0 210 (dk_at dksX1_shareByCounting_0 7 rfl rfl)
theorem dX1_shareByCounting_10 : decode cX1_shareByCounting 10 = .ok (.ireturn, 1) := dk_172 (dk_at dksX1_shareByCounting_0 10 rfl rfl)
abbrev cX1_meanObligations : ByteArray := prog_1_method_48_code
def yX1_meanObligations : MethodName := ⟨RX1, "meanObligations", "()D"⟩
def dkwX1_meanObligations_1 : List UInt8 := [180, 0, 125, 135, 111, 175]
abbrev dktX1_meanObligations_1 : List UInt8 := dkwX1_meanObligations_1 ++ []
def dkwX1_meanObligations_0 : List UInt8 := [42, 180, 0, 34, 180, 0, 125, 184, 0, 248, 42, 180, 0, 34, 182, 0, 219, 135, 42, 180, 0, 34]
abbrev dktX1_meanObligations_0 : List UInt8 := dkwX1_meanObligations_0 ++ dktX1_meanObligations_1
theorem dksX1_meanObligations_0 : cX1_meanObligations.data.toList.drop 0 = dktX1_meanObligations_0 := by decide +kernel
theorem dksX1_meanObligations_1 : cX1_meanObligations.data.toList.drop 22 = dktX1_meanObligations_1 := dk_seg dksX1_meanObligations_0 22 rfl rfl
theorem dX1_meanObligations_0 : decode cX1_meanObligations 0 = .ok (.aload_n 0, 1) := dk_42 (dk_at dksX1_meanObligations_0 0 rfl rfl)
theorem dX1_meanObligations_1 : decode cX1_meanObligations 1 = .ok (.getfield 34, 3) := dk_180 0 34 (dk_at dksX1_meanObligations_0 1 rfl rfl)
theorem dX1_meanObligations_4 : decode cX1_meanObligations 4 = .ok (.getfield 125, 3) := dk_180 0 125 (dk_at dksX1_meanObligations_0 4 rfl rfl)
theorem dX1_meanObligations_7 : decode cX1_meanObligations 7 = .ok (.invokestatic 248, 3) := dk_184 0 248 (dk_at dksX1_meanObligations_0 7 rfl rfl)
theorem dX1_meanObligations_10 : decode cX1_meanObligations 10 = .ok (.aload_n 0, 1) := dk_42 (dk_at dksX1_meanObligations_0 10 rfl rfl)
theorem dX1_meanObligations_11 : decode cX1_meanObligations 11 = .ok (.getfield 34, 3) := dk_180 0 34 (dk_at dksX1_meanObligations_0 11 rfl rfl)
theorem dX1_meanObligations_14 : decode cX1_meanObligations 14 = .ok (.invokevirtual 219, 3) := dk_182 0 219 (dk_at dksX1_meanObligations_0 14 rfl rfl)
theorem dX1_meanObligations_17 : decode cX1_meanObligations 17 = .ok (.i2d, 1) := dk_135 (dk_at dksX1_meanObligations_0 17 rfl rfl)
theorem dX1_meanObligations_18 : decode cX1_meanObligations 18 = .ok (.aload_n 0, 1) := dk_42 (dk_at dksX1_meanObligations_0 18 rfl rfl)
theorem dX1_meanObligations_19 : decode cX1_meanObligations 19 = .ok (.getfield 34, 3) := dk_180 0 34 (dk_at dksX1_meanObligations_0 19 rfl rfl)
theorem dX1_meanObligations_22 : decode cX1_meanObligations 22 = .ok (.getfield 125, 3) := dk_180 0 125 (dk_at dksX1_meanObligations_1 0 rfl rfl)
theorem dX1_meanObligations_25 : decode cX1_meanObligations 25 = .ok (.i2d, 1) := dk_135 (dk_at dksX1_meanObligations_1 3 rfl rfl)
theorem dX1_meanObligations_26 : decode cX1_meanObligations 26 = .ok (.ddiv, 1) := dk_111 (dk_at dksX1_meanObligations_1 4 rfl rfl)
theorem dX1_meanObligations_27 : decode cX1_meanObligations 27 = .ok (.dreturn, 1) := dk_175 (dk_at dksX1_meanObligations_1 5 rfl rfl)
abbrev cX1_requireSome : ByteArray := prog_1_method_7_code
def yX1_requireSome : MethodName := ⟨RX1, "requireSome", "(I)V"⟩
def dkwX1_requireSome_0 : List UInt8 := [26, 154, 0, 11, 187, 0, 25, 89, 183, 0, 27, 191, 177]
abbrev dktX1_requireSome_0 : List UInt8 := dkwX1_requireSome_0 ++ []
theorem dksX1_requireSome_0 : cX1_requireSome.data.toList.drop 0 = dktX1_requireSome_0 := by decide +kernel
theorem dX1_requireSome_0 : decode cX1_requireSome 0 = .ok (.iload_n 0, 1) := dk_26 (dk_at dksX1_requireSome_0 0 rfl rfl)
theorem dX1_requireSome_1 : decode cX1_requireSome 1 = .ok (.ifCond .ne 11, 3) := dk_154 0 11 (dk_at dksX1_requireSome_0 1 rfl rfl)
theorem dX1_requireSome_4 : decode cX1_requireSome 4 = .ok (.new 25, 3) := dk_187 0 25 (dk_at dksX1_requireSome_0 4 rfl rfl)
theorem dX1_requireSome_7 : decode cX1_requireSome 7 = .ok (.dup, 1) := dk_89 (dk_at dksX1_requireSome_0 7 rfl rfl)
theorem dX1_requireSome_8 : decode cX1_requireSome 8 = .ok (.invokespecial 27, 3) := dk_183 0 27 (dk_at dksX1_requireSome_0 8 rfl rfl)
theorem dX1_requireSome_11 : decode cX1_requireSome 11 = .ok (.athrow, 1) := dk_191 (dk_at dksX1_requireSome_0 11 rfl rfl)
theorem dX1_requireSome_12 : decode cX1_requireSome 12 = .ok (.return_, 1) := dk_177 (dk_at dksX1_requireSome_0 12 rfl rfl)
abbrev cX1_coverage : ByteArray := prog_1_method_49_code
def yX1_coverage : MethodName := ⟨RX1, "coverage", "()F"⟩
def dkwX1_coverage_1 : List UInt8 := [182, 0, 219, 134, 110, 174]
abbrev dktX1_coverage_1 : List UInt8 := dkwX1_coverage_1 ++ []
def dkwX1_coverage_0 : List UInt8 := [42, 180, 0, 34, 182, 0, 219, 184, 0, 248, 42, 180, 0, 34, 182, 0, 231, 134, 42, 180, 0, 34]
abbrev dktX1_coverage_0 : List UInt8 := dkwX1_coverage_0 ++ dktX1_coverage_1
theorem dksX1_coverage_0 : cX1_coverage.data.toList.drop 0 = dktX1_coverage_0 := by decide +kernel
theorem dksX1_coverage_1 : cX1_coverage.data.toList.drop 22 = dktX1_coverage_1 := dk_seg dksX1_coverage_0 22 rfl rfl
theorem dX1_coverage_0 : decode cX1_coverage 0 = .ok (.aload_n 0, 1) := dk_42 (dk_at dksX1_coverage_0 0 rfl rfl)
theorem dX1_coverage_1 : decode cX1_coverage 1 = .ok (.getfield 34, 3) := dk_180 0 34 (dk_at dksX1_coverage_0 1 rfl rfl)
theorem dX1_coverage_4 : decode cX1_coverage 4 = .ok (.invokevirtual 219, 3) := dk_182 0 219 (dk_at dksX1_coverage_0 4 rfl rfl)
theorem dX1_coverage_7 : decode cX1_coverage 7 = .ok (.invokestatic 248, 3) := dk_184 0 248 (dk_at dksX1_coverage_0 7 rfl rfl)
theorem dX1_coverage_10 : decode cX1_coverage 10 = .ok (.aload_n 0, 1) := dk_42 (dk_at dksX1_coverage_0 10 rfl rfl)
theorem dX1_coverage_11 : decode cX1_coverage 11 = .ok (.getfield 34, 3) := dk_180 0 34 (dk_at dksX1_coverage_0 11 rfl rfl)
theorem dX1_coverage_14 : decode cX1_coverage 14 = .ok (.invokevirtual 231, 3) := dk_182 0 231 (dk_at dksX1_coverage_0 14 rfl rfl)
theorem dX1_coverage_17 : decode cX1_coverage 17 = .ok (.i2f, 1) := dk_134 (dk_at dksX1_coverage_0 17 rfl rfl)
theorem dX1_coverage_18 : decode cX1_coverage 18 = .ok (.aload_n 0, 1) := dk_42 (dk_at dksX1_coverage_0 18 rfl rfl)
theorem dX1_coverage_19 : decode cX1_coverage 19 = .ok (.getfield 34, 3) := dk_180 0 34 (dk_at dksX1_coverage_0 19 rfl rfl)
theorem dX1_coverage_22 : decode cX1_coverage 22 = .ok (.invokevirtual 219, 3) := dk_182 0 219 (dk_at dksX1_coverage_1 0 rfl rfl)
theorem dX1_coverage_25 : decode cX1_coverage 25 = .ok (.i2f, 1) := dk_134 (dk_at dksX1_coverage_1 3 rfl rfl)
theorem dX1_coverage_26 : decode cX1_coverage 26 = .ok (.fdiv, 1) := dk_110 (dk_at dksX1_coverage_1 4 rfl rfl)
theorem dX1_coverage_27 : decode cX1_coverage 27 = .ok (.freturn, 1) := dk_174 (dk_at dksX1_coverage_1 5 rfl rfl)
abbrev cX1_append : ByteArray := prog_1_method_51_code
def yX1_append : MethodName := ⟨RX1, "append", "(C)I"⟩
def dkwX1_append_1 : List UInt8 := [27, 182, 1, 5, 87, 42, 180, 0, 48, 182, 0, 254, 172]
abbrev dktX1_append_1 : List UInt8 := dkwX1_append_1 ++ []
def dkwX1_append_0 : List UInt8 := [42, 180, 0, 48, 182, 0, 254, 16, 60, 162, 0, 7, 4, 167, 0, 4, 3, 184, 1, 1, 42, 180, 0, 48]
abbrev dktX1_append_0 : List UInt8 := dkwX1_append_0 ++ dktX1_append_1
theorem dksX1_append_0 : cX1_append.data.toList.drop 0 = dktX1_append_0 := by decide +kernel
theorem dksX1_append_1 : cX1_append.data.toList.drop 24 = dktX1_append_1 := dk_seg dksX1_append_0 24 rfl rfl
theorem dX1_append_0 : decode cX1_append 0 = .ok (.aload_n 0, 1) := dk_42 (dk_at dksX1_append_0 0 rfl rfl)
theorem dX1_append_1 : decode cX1_append 1 = .ok (.getfield 48, 3) := dk_180 0 48 (dk_at dksX1_append_0 1 rfl rfl)
theorem dX1_append_4 : decode cX1_append 4 = .ok (.invokevirtual 254, 3) := dk_182 0 254 (dk_at dksX1_append_0 4 rfl rfl)
theorem dX1_append_7 : decode cX1_append 7 = .ok (.bipush 60, 2) := dk_16 60 (dk_at dksX1_append_0 7 rfl rfl)
theorem dX1_append_9 : decode cX1_append 9 = .ok (.if_icmp .ge 7, 3) := dk_162 0 7 (dk_at dksX1_append_0 9 rfl rfl)
theorem dX1_append_12 : decode cX1_append 12 = .ok (.iconst 1, 1) := dk_4 (dk_at dksX1_append_0 12 rfl rfl)
theorem dX1_append_13 : decode cX1_append 13 = .ok (.goto 4, 3) := dk_167 0 4 (dk_at dksX1_append_0 13 rfl rfl)
theorem dX1_append_16 : decode cX1_append 16 = .ok (.iconst 0, 1) := dk_3 (dk_at dksX1_append_0 16 rfl rfl)
theorem dX1_append_17 : decode cX1_append 17 = .ok (.invokestatic 257, 3) := dk_184 1 1 (dk_at dksX1_append_0 17 rfl rfl)
theorem dX1_append_20 : decode cX1_append 20 = .ok (.aload_n 0, 1) := dk_42 (dk_at dksX1_append_0 20 rfl rfl)
theorem dX1_append_21 : decode cX1_append 21 = .ok (.getfield 48, 3) := dk_180 0 48 (dk_at dksX1_append_0 21 rfl rfl)
theorem dX1_append_24 : decode cX1_append 24 = .ok (.iload_n 1, 1) := dk_27 (dk_at dksX1_append_1 0 rfl rfl)
theorem dX1_append_25 : decode cX1_append 25 = .ok (.invokevirtual 261, 3) := dk_182 1 5 (dk_at dksX1_append_1 1 rfl rfl)
theorem dX1_append_28 : decode cX1_append 28 = .ok (.pop, 1) := dk_87 (dk_at dksX1_append_1 4 rfl rfl)
theorem dX1_append_29 : decode cX1_append 29 = .ok (.aload_n 0, 1) := dk_42 (dk_at dksX1_append_1 5 rfl rfl)
theorem dX1_append_30 : decode cX1_append 30 = .ok (.getfield 48, 3) := dk_180 0 48 (dk_at dksX1_append_1 6 rfl rfl)
theorem dX1_append_33 : decode cX1_append 33 = .ok (.invokevirtual 254, 3) := dk_182 0 254 (dk_at dksX1_append_1 9 rfl rfl)
theorem dX1_append_36 : decode cX1_append 36 = .ok (.ireturn, 1) := dk_172 (dk_at dksX1_append_1 12 rfl rfl)
abbrev cX1_run : ByteArray := prog_1_method_53_code
def yX1_run : MethodName := ⟨RX1, "run", "()I"⟩
def dkwX1_run_3 : List UInt8 := [58, 4, 42, 29, 181, 0, 62, 187, 0, 19, 89, 183, 0, 21, 191, 42, 44, 182, 0, 88, 29, 172]
abbrev dktX1_run_3 : List UInt8 := dkwX1_run_3 ++ []
def dkwX1_run_2 : List UInt8 := [192, 0, 83, 58, 5, 25, 5, 44, 185, 0, 82, 2, 0, 54, 6, 132, 3, 1, 167, 255, 221, 167, 0, 18]
abbrev dktX1_run_2 : List UInt8 := dkwX1_run_2 ++ dktX1_run_3
def dkwX1_run_1 : List UInt8 := [185, 1, 29, 1, 0, 58, 4, 25, 4, 185, 1, 35, 1, 0, 153, 0, 31, 25, 4, 185, 1, 40, 1, 0]
abbrev dktX1_run_1 : List UInt8 := dkwX1_run_1 ++ dktX1_run_2
def dkwX1_run_0 : List UInt8 := [42, 182, 1, 26, 76, 187, 0, 31, 89, 42, 180, 0, 34, 183, 0, 79, 77, 3, 62, 43]
abbrev dktX1_run_0 : List UInt8 := dkwX1_run_0 ++ dktX1_run_1
theorem dksX1_run_0 : cX1_run.data.toList.drop 0 = dktX1_run_0 := by decide +kernel
theorem dksX1_run_1 : cX1_run.data.toList.drop 20 = dktX1_run_1 := dk_seg dksX1_run_0 20 rfl rfl
theorem dksX1_run_2 : cX1_run.data.toList.drop 44 = dktX1_run_2 := dk_seg dksX1_run_1 24 rfl rfl
theorem dksX1_run_3 : cX1_run.data.toList.drop 68 = dktX1_run_3 := dk_seg dksX1_run_2 24 rfl rfl
theorem dX1_run_0 : decode cX1_run 0 = .ok (.aload_n 0, 1) := dk_42 (dk_at dksX1_run_0 0 rfl rfl)
theorem dX1_run_1 : decode cX1_run 1 = .ok (.invokevirtual 282, 3) := dk_182 1 26 (dk_at dksX1_run_0 1 rfl rfl)
theorem dX1_run_4 : decode cX1_run 4 = .ok (.astore_n 1, 1) := dk_76 (dk_at dksX1_run_0 4 rfl rfl)
theorem dX1_run_5 : decode cX1_run 5 = .ok (.new 31, 3) := dk_187 0 31 (dk_at dksX1_run_0 5 rfl rfl)
theorem dX1_run_8 : decode cX1_run 8 = .ok (.dup, 1) := dk_89 (dk_at dksX1_run_0 8 rfl rfl)
theorem dX1_run_9 : decode cX1_run 9 = .ok (.aload_n 0, 1) := dk_42 (dk_at dksX1_run_0 9 rfl rfl)
theorem dX1_run_10 : decode cX1_run 10 = .ok (.getfield 34, 3) := dk_180 0 34 (dk_at dksX1_run_0 10 rfl rfl)
theorem dX1_run_13 : decode cX1_run 13 = .ok (.invokespecial 79, 3) := dk_183 0 79 (dk_at dksX1_run_0 13 rfl rfl)
theorem dX1_run_16 : decode cX1_run 16 = .ok (.astore_n 2, 1) := dk_77 (dk_at dksX1_run_0 16 rfl rfl)
theorem dX1_run_17 : decode cX1_run 17 = .ok (.iconst 0, 1) := dk_3 (dk_at dksX1_run_0 17 rfl rfl)
theorem dX1_run_18 : decode cX1_run 18 = .ok (.istore_n 3, 1) := dk_62 (dk_at dksX1_run_0 18 rfl rfl)
theorem dX1_run_19 : decode cX1_run 19 = .ok (.aload_n 1, 1) := dk_43 (dk_at dksX1_run_0 19 rfl rfl)
theorem dX1_run_20 : decode cX1_run 20 = .ok (.invokeinterface 285 1, 5) := by decide +kernel
theorem dX1_run_25 : decode cX1_run 25 = .ok (.astore 4, 2) := dk_58 4 (dk_at dksX1_run_1 5 rfl rfl)
theorem dX1_run_27 : decode cX1_run 27 = .ok (.aload 4, 2) := dk_25 4 (dk_at dksX1_run_1 7 rfl rfl)
theorem dX1_run_29 : decode cX1_run 29 = .ok (.invokeinterface 291 1, 5) := by decide +kernel
theorem dX1_run_34 : decode cX1_run 34 = .ok (.ifCond .eq 31, 3) := dk_153 0 31 (dk_at dksX1_run_1 14 rfl rfl)
theorem dX1_run_37 : decode cX1_run 37 = .ok (.aload 4, 2) := dk_25 4 (dk_at dksX1_run_1 17 rfl rfl)
theorem dX1_run_39 : decode cX1_run 39 = .ok (.invokeinterface 296 1, 5) := by decide +kernel
theorem dX1_run_44 : decode cX1_run 44 = .ok (.checkcast 83, 3) := dk_192 0 83 (dk_at dksX1_run_2 0 rfl rfl)
theorem dX1_run_47 : decode cX1_run 47 = .ok (.astore 5, 2) := dk_58 5 (dk_at dksX1_run_2 3 rfl rfl)
theorem dX1_run_49 : decode cX1_run 49 = .ok (.aload 5, 2) := dk_25 5 (dk_at dksX1_run_2 5 rfl rfl)
theorem dX1_run_51 : decode cX1_run 51 = .ok (.aload_n 2, 1) := dk_44 (dk_at dksX1_run_2 7 rfl rfl)
theorem dX1_run_52 : decode cX1_run 52 = .ok (.invokeinterface 82 2, 5) := by decide +kernel
theorem dX1_run_57 : decode cX1_run 57 = .ok (.istore 6, 2) := dk_54 6 (dk_at dksX1_run_2 13 rfl rfl)
theorem dX1_run_59 : decode cX1_run 59 = .ok (.iinc 3 1, 3) := dk_132 3 1 (dk_at dksX1_run_2 15 rfl rfl)
theorem dX1_run_62 : decode cX1_run 62 = .ok (.goto (-35), 3) := dk_167 255 221 (dk_at dksX1_run_2 18 rfl rfl)
theorem dX1_run_65 : decode cX1_run 65 = .ok (.goto 18, 3) := dk_167 0 18 (dk_at dksX1_run_2 21 rfl rfl)
theorem dX1_run_68 : decode cX1_run 68 = .ok (.astore 4, 2) := dk_58 4 (dk_at dksX1_run_3 0 rfl rfl)
theorem dX1_run_70 : decode cX1_run 70 = .ok (.aload_n 0, 1) := dk_42 (dk_at dksX1_run_3 2 rfl rfl)
theorem dX1_run_71 : decode cX1_run 71 = .ok (.iload_n 3, 1) := dk_29 (dk_at dksX1_run_3 3 rfl rfl)
theorem dX1_run_72 : decode cX1_run 72 = .ok (.putfield 62, 3) := dk_181 0 62 (dk_at dksX1_run_3 4 rfl rfl)
theorem dX1_run_75 : decode cX1_run 75 = .ok (.new 19, 3) := dk_187 0 19 (dk_at dksX1_run_3 7 rfl rfl)
theorem dX1_run_78 : decode cX1_run 78 = .ok (.dup, 1) := dk_89 (dk_at dksX1_run_3 10 rfl rfl)
theorem dX1_run_79 : decode cX1_run 79 = .ok (.invokespecial 21, 3) := dk_183 0 21 (dk_at dksX1_run_3 11 rfl rfl)
theorem dX1_run_82 : decode cX1_run 82 = .ok (.athrow, 1) := dk_191 (dk_at dksX1_run_3 14 rfl rfl)
theorem dX1_run_83 : decode cX1_run 83 = .ok (.aload_n 0, 1) := dk_42 (dk_at dksX1_run_3 15 rfl rfl)
theorem dX1_run_84 : decode cX1_run 84 = .ok (.aload_n 2, 1) := dk_44 (dk_at dksX1_run_3 16 rfl rfl)
theorem dX1_run_85 : decode cX1_run 85 = .ok (.invokevirtual 88, 3) := dk_182 0 88 (dk_at dksX1_run_3 17 rfl rfl)
theorem dX1_run_88 : decode cX1_run 88 = .ok (.iload_n 3, 1) := dk_29 (dk_at dksX1_run_3 20 rfl rfl)
theorem dX1_run_89 : decode cX1_run 89 = .ok (.ireturn, 1) := dk_172 (dk_at dksX1_run_3 21 rfl rfl)
abbrev cX1_parseBuffer : ByteArray := prog_1_method_52_code
def yX1_parseBuffer : MethodName := ⟨RX1, "parseBuffer", "()Ljava/util/List;"⟩
def dkwX1_parseBuffer_1 : List UInt8 := [44, 180, 1, 23, 181, 0, 58, 187, 0, 13, 89, 183, 0, 15, 191]
abbrev dktX1_parseBuffer_1 : List UInt8 := dkwX1_parseBuffer_1 ++ []
def dkwX1_parseBuffer_0 : List UInt8 := [187, 1, 9, 89, 42, 183, 1, 11, 76, 42, 180, 0, 48, 3, 182, 1, 14, 43, 182, 1, 17, 176, 77, 42]
abbrev dktX1_parseBuffer_0 : List UInt8 := dkwX1_parseBuffer_0 ++ dktX1_parseBuffer_1
theorem dksX1_parseBuffer_0 : cX1_parseBuffer.data.toList.drop 0 = dktX1_parseBuffer_0 := by decide +kernel
theorem dksX1_parseBuffer_1 : cX1_parseBuffer.data.toList.drop 24 = dktX1_parseBuffer_1 := dk_seg dksX1_parseBuffer_0 24 rfl rfl
theorem dX1_parseBuffer_0 : decode cX1_parseBuffer 0 = .ok (.new 265, 3) := dk_187 1 9 (dk_at dksX1_parseBuffer_0 0 rfl rfl)
theorem dX1_parseBuffer_3 : decode cX1_parseBuffer 3 = .ok (.dup, 1) := dk_89 (dk_at dksX1_parseBuffer_0 3 rfl rfl)
theorem dX1_parseBuffer_4 : decode cX1_parseBuffer 4 = .ok (.aload_n 0, 1) := dk_42 (dk_at dksX1_parseBuffer_0 4 rfl rfl)
theorem dX1_parseBuffer_5 : decode cX1_parseBuffer 5 = .ok (.invokespecial 267, 3) := dk_183 1 11 (dk_at dksX1_parseBuffer_0 5 rfl rfl)
theorem dX1_parseBuffer_8 : decode cX1_parseBuffer 8 = .ok (.astore_n 1, 1) := dk_76 (dk_at dksX1_parseBuffer_0 8 rfl rfl)
theorem dX1_parseBuffer_9 : decode cX1_parseBuffer 9 = .ok (.aload_n 0, 1) := dk_42 (dk_at dksX1_parseBuffer_0 9 rfl rfl)
theorem dX1_parseBuffer_10 : decode cX1_parseBuffer 10 = .ok (.getfield 48, 3) := dk_180 0 48 (dk_at dksX1_parseBuffer_0 10 rfl rfl)
theorem dX1_parseBuffer_13 : decode cX1_parseBuffer 13 = .ok (.iconst 0, 1) := dk_3 (dk_at dksX1_parseBuffer_0 13 rfl rfl)
theorem dX1_parseBuffer_14 : decode cX1_parseBuffer 14 = .ok (.invokevirtual 270, 3) := dk_182 1 14 (dk_at dksX1_parseBuffer_0 14 rfl rfl)
theorem dX1_parseBuffer_17 : decode cX1_parseBuffer 17 = .ok (.aload_n 1, 1) := dk_43 (dk_at dksX1_parseBuffer_0 17 rfl rfl)
theorem dX1_parseBuffer_18 : decode cX1_parseBuffer 18 = .ok (.invokevirtual 273, 3) := dk_182 1 17 (dk_at dksX1_parseBuffer_0 18 rfl rfl)
theorem dX1_parseBuffer_21 : decode cX1_parseBuffer 21 = .ok (.areturn, 1) := dk_176 (dk_at dksX1_parseBuffer_0 21 rfl rfl)
theorem dX1_parseBuffer_22 : decode cX1_parseBuffer 22 = .ok (.astore_n 2, 1) := dk_77 (dk_at dksX1_parseBuffer_0 22 rfl rfl)
theorem dX1_parseBuffer_23 : decode cX1_parseBuffer 23 = .ok (.aload_n 0, 1) := dk_42 (dk_at dksX1_parseBuffer_0 23 rfl rfl)
theorem dX1_parseBuffer_24 : decode cX1_parseBuffer 24 = .ok (.aload_n 2, 1) := dk_44 (dk_at dksX1_parseBuffer_1 0 rfl rfl)
theorem dX1_parseBuffer_25 : decode cX1_parseBuffer 25 = .ok (.getfield 279, 3) := dk_180 1 23 (dk_at dksX1_parseBuffer_1 1 rfl rfl)
theorem dX1_parseBuffer_28 : decode cX1_parseBuffer 28 = .ok (.putfield 58, 3) := dk_181 0 58 (dk_at dksX1_parseBuffer_1 4 rfl rfl)
theorem dX1_parseBuffer_31 : decode cX1_parseBuffer 31 = .ok (.new 13, 3) := dk_187 0 13 (dk_at dksX1_parseBuffer_1 7 rfl rfl)
theorem dX1_parseBuffer_34 : decode cX1_parseBuffer 34 = .ok (.dup, 1) := dk_89 (dk_at dksX1_parseBuffer_1 10 rfl rfl)
theorem dX1_parseBuffer_35 : decode cX1_parseBuffer 35 = .ok (.invokespecial 15, 3) := dk_183 0 15 (dk_at dksX1_parseBuffer_1 11 rfl rfl)
theorem dX1_parseBuffer_38 : decode cX1_parseBuffer 38 = .ok (.athrow, 1) := dk_191 (dk_at dksX1_parseBuffer_1 14 rfl rfl)
abbrev cX1_errorPosition : ByteArray := prog_1_method_54_code
def yX1_errorPosition : MethodName := ⟨RX1, "errorPosition", "()I"⟩
def dkwX1_errorPosition_0 : List UInt8 := [42, 180, 0, 58, 184, 0, 161, 172]
abbrev dktX1_errorPosition_0 : List UInt8 := dkwX1_errorPosition_0 ++ []
theorem dksX1_errorPosition_0 : cX1_errorPosition.data.toList.drop 0 = dktX1_errorPosition_0 := by decide +kernel
theorem dX1_errorPosition_0 : decode cX1_errorPosition 0 = .ok (.aload_n 0, 1) := dk_42 (dk_at dksX1_errorPosition_0 0 rfl rfl)
theorem dX1_errorPosition_1 : decode cX1_errorPosition 1 = .ok (.getfield 58, 3) := dk_180 0 58 (dk_at dksX1_errorPosition_0 1 rfl rfl)
theorem dX1_errorPosition_4 : decode cX1_errorPosition 4 = .ok (.invokestatic 161, 3) := dk_184 0 161 (dk_at dksX1_errorPosition_0 4 rfl rfl)
theorem dX1_errorPosition_7 : decode cX1_errorPosition 7 = .ok (.ireturn, 1) := dk_172 (dk_at dksX1_errorPosition_0 7 rfl rfl)
abbrev cX1_failedCommand : ByteArray := prog_1_method_55_code
def yX1_failedCommand : MethodName := ⟨RX1, "failedCommand", "()I"⟩
def dkwX1_failedCommand_0 : List UInt8 := [42, 180, 0, 62, 184, 0, 161, 172]
abbrev dktX1_failedCommand_0 : List UInt8 := dkwX1_failedCommand_0 ++ []
theorem dksX1_failedCommand_0 : cX1_failedCommand.data.toList.drop 0 = dktX1_failedCommand_0 := by decide +kernel
theorem dX1_failedCommand_0 : decode cX1_failedCommand 0 = .ok (.aload_n 0, 1) := dk_42 (dk_at dksX1_failedCommand_0 0 rfl rfl)
theorem dX1_failedCommand_1 : decode cX1_failedCommand 1 = .ok (.getfield 62, 3) := dk_180 0 62 (dk_at dksX1_failedCommand_0 1 rfl rfl)
theorem dX1_failedCommand_4 : decode cX1_failedCommand 4 = .ok (.invokestatic 161, 3) := dk_184 0 161 (dk_at dksX1_failedCommand_0 4 rfl rfl)
theorem dX1_failedCommand_7 : decode cX1_failedCommand 7 = .ok (.ireturn, 1) := dk_172 (dk_at dksX1_failedCommand_0 7 rfl rfl)
abbrev cX1_writeParty : ByteArray := prog_1_method_57_code
def yX1_writeParty : MethodName := ⟨RX1, "writeParty", "(I)I"⟩
def dkwX1_writeParty_0 : List UInt8 := [42, 180, 0, 34, 27, 182, 0, 128, 42, 42, 180, 0, 34, 27, 182, 1, 46, 182, 1, 50, 172]
abbrev dktX1_writeParty_0 : List UInt8 := dkwX1_writeParty_0 ++ []
theorem dksX1_writeParty_0 : cX1_writeParty.data.toList.drop 0 = dktX1_writeParty_0 := by decide +kernel
theorem dX1_writeParty_0 : decode cX1_writeParty 0 = .ok (.aload_n 0, 1) := dk_42 (dk_at dksX1_writeParty_0 0 rfl rfl)
theorem dX1_writeParty_1 : decode cX1_writeParty 1 = .ok (.getfield 34, 3) := dk_180 0 34 (dk_at dksX1_writeParty_0 1 rfl rfl)
theorem dX1_writeParty_4 : decode cX1_writeParty 4 = .ok (.iload_n 1, 1) := dk_27 (dk_at dksX1_writeParty_0 4 rfl rfl)
theorem dX1_writeParty_5 : decode cX1_writeParty 5 = .ok (.invokevirtual 128, 3) := dk_182 0 128 (dk_at dksX1_writeParty_0 5 rfl rfl)
theorem dX1_writeParty_8 : decode cX1_writeParty 8 = .ok (.aload_n 0, 1) := dk_42 (dk_at dksX1_writeParty_0 8 rfl rfl)
theorem dX1_writeParty_9 : decode cX1_writeParty 9 = .ok (.aload_n 0, 1) := dk_42 (dk_at dksX1_writeParty_0 9 rfl rfl)
theorem dX1_writeParty_10 : decode cX1_writeParty 10 = .ok (.getfield 34, 3) := dk_180 0 34 (dk_at dksX1_writeParty_0 10 rfl rfl)
theorem dX1_writeParty_13 : decode cX1_writeParty 13 = .ok (.iload_n 1, 1) := dk_27 (dk_at dksX1_writeParty_0 13 rfl rfl)
theorem dX1_writeParty_14 : decode cX1_writeParty 14 = .ok (.invokevirtual 302, 3) := dk_182 1 46 (dk_at dksX1_writeParty_0 14 rfl rfl)
theorem dX1_writeParty_17 : decode cX1_writeParty 17 = .ok (.invokevirtual 306, 3) := dk_182 1 50 (dk_at dksX1_writeParty_0 17 rfl rfl)
theorem dX1_writeParty_20 : decode cX1_writeParty 20 = .ok (.ireturn, 1) := dk_172 (dk_at dksX1_writeParty_0 20 rfl rfl)
abbrev cX1_write : ByteArray := prog_1_method_56_code
def yX1_write : MethodName := ⟨RX1, "write", "(Ljava/lang/String;)I"⟩
def dkwX1_write_0 : List UInt8 := [42, 43, 181, 0, 54, 42, 180, 0, 54, 182, 1, 43, 172]
abbrev dktX1_write_0 : List UInt8 := dkwX1_write_0 ++ []
theorem dksX1_write_0 : cX1_write.data.toList.drop 0 = dktX1_write_0 := by decide +kernel
theorem dX1_write_0 : decode cX1_write 0 = .ok (.aload_n 0, 1) := dk_42 (dk_at dksX1_write_0 0 rfl rfl)
theorem dX1_write_1 : decode cX1_write 1 = .ok (.aload_n 1, 1) := dk_43 (dk_at dksX1_write_0 1 rfl rfl)
theorem dX1_write_2 : decode cX1_write 2 = .ok (.putfield 54, 3) := dk_181 0 54 (dk_at dksX1_write_0 2 rfl rfl)
theorem dX1_write_5 : decode cX1_write 5 = .ok (.aload_n 0, 1) := dk_42 (dk_at dksX1_write_0 5 rfl rfl)
theorem dX1_write_6 : decode cX1_write 6 = .ok (.getfield 54, 3) := dk_180 0 54 (dk_at dksX1_write_0 6 rfl rfl)
theorem dX1_write_9 : decode cX1_write 9 = .ok (.invokevirtual 299, 3) := dk_182 1 43 (dk_at dksX1_write_0 9 rfl rfl)
theorem dX1_write_12 : decode cX1_write 12 = .ok (.ireturn, 1) := dk_172 (dk_at dksX1_write_0 12 rfl rfl)
abbrev cX1_writeCycle : ByteArray := prog_1_method_58_code
def yX1_writeCycle : MethodName := ⟨RX1, "writeCycle", "()I"⟩
def dkwX1_writeCycle_0 : List UInt8 := [42, 42, 180, 0, 34, 182, 0, 171, 182, 1, 54, 182, 1, 50, 172]
abbrev dktX1_writeCycle_0 : List UInt8 := dkwX1_writeCycle_0 ++ []
theorem dksX1_writeCycle_0 : cX1_writeCycle.data.toList.drop 0 = dktX1_writeCycle_0 := by decide +kernel
theorem dX1_writeCycle_0 : decode cX1_writeCycle 0 = .ok (.aload_n 0, 1) := dk_42 (dk_at dksX1_writeCycle_0 0 rfl rfl)
theorem dX1_writeCycle_1 : decode cX1_writeCycle 1 = .ok (.aload_n 0, 1) := dk_42 (dk_at dksX1_writeCycle_0 1 rfl rfl)
theorem dX1_writeCycle_2 : decode cX1_writeCycle 2 = .ok (.getfield 34, 3) := dk_180 0 34 (dk_at dksX1_writeCycle_0 2 rfl rfl)
theorem dX1_writeCycle_5 : decode cX1_writeCycle 5 = .ok (.invokevirtual 171, 3) := dk_182 0 171 (dk_at dksX1_writeCycle_0 5 rfl rfl)
theorem dX1_writeCycle_8 : decode cX1_writeCycle 8 = .ok (.invokevirtual 310, 3) := dk_182 1 54 (dk_at dksX1_writeCycle_0 8 rfl rfl)
theorem dX1_writeCycle_11 : decode cX1_writeCycle 11 = .ok (.invokevirtual 306, 3) := dk_182 1 50 (dk_at dksX1_writeCycle_0 11 rfl rfl)
theorem dX1_writeCycle_14 : decode cX1_writeCycle 14 = .ok (.ireturn, 1) := dk_172 (dk_at dksX1_writeCycle_0 14 rfl rfl)
abbrev cX1_outputAt : ByteArray := prog_1_method_59_code
def yX1_outputAt : MethodName := ⟨RX1, "outputAt", "(I)C"⟩
def dkwX1_outputAt_0 : List UInt8 := [27, 42, 180, 0, 54, 182, 1, 43, 184, 0, 178, 42, 180, 0, 54, 27, 182, 1, 58, 172]
abbrev dktX1_outputAt_0 : List UInt8 := dkwX1_outputAt_0 ++ []
theorem dksX1_outputAt_0 : cX1_outputAt.data.toList.drop 0 = dktX1_outputAt_0 := by decide +kernel
theorem dX1_outputAt_0 : decode cX1_outputAt 0 = .ok (.iload_n 1, 1) := dk_27 (dk_at dksX1_outputAt_0 0 rfl rfl)
theorem dX1_outputAt_1 : decode cX1_outputAt 1 = .ok (.aload_n 0, 1) := dk_42 (dk_at dksX1_outputAt_0 1 rfl rfl)
theorem dX1_outputAt_2 : decode cX1_outputAt 2 = .ok (.getfield 54, 3) := dk_180 0 54 (dk_at dksX1_outputAt_0 2 rfl rfl)
theorem dX1_outputAt_5 : decode cX1_outputAt 5 = .ok (.invokevirtual 299, 3) := dk_182 1 43 (dk_at dksX1_outputAt_0 5 rfl rfl)
theorem dX1_outputAt_8 : decode cX1_outputAt 8 = .ok (.invokestatic 178, 3) := dk_184 0 178 (dk_at dksX1_outputAt_0 8 rfl rfl)
theorem dX1_outputAt_11 : decode cX1_outputAt 11 = .ok (.aload_n 0, 1) := dk_42 (dk_at dksX1_outputAt_0 11 rfl rfl)
theorem dX1_outputAt_12 : decode cX1_outputAt 12 = .ok (.getfield 54, 3) := dk_180 0 54 (dk_at dksX1_outputAt_0 12 rfl rfl)
theorem dX1_outputAt_15 : decode cX1_outputAt 15 = .ok (.iload_n 1, 1) := dk_27 (dk_at dksX1_outputAt_0 15 rfl rfl)
theorem dX1_outputAt_16 : decode cX1_outputAt 16 = .ok (.invokevirtual 314, 3) := dk_182 1 58 (dk_at dksX1_outputAt_0 16 rfl rfl)
theorem dX1_outputAt_19 : decode cX1_outputAt 19 = .ok (.ireturn, 1) := dk_172 (dk_at dksX1_outputAt_0 19 rfl rfl)
abbrev cX1_undo : ByteArray := prog_1_method_60_code
def yX1_undo : MethodName := ⟨RX1, "undo", "()I"⟩
def dkwX1_undo_1 : List UInt8 := [180, 0, 41, 185, 1, 65, 1, 0, 192, 0, 31, 181, 0, 34, 42, 180, 0, 41, 185, 0, 65, 1, 0, 172]
abbrev dktX1_undo_1 : List UInt8 := dkwX1_undo_1 ++ []
def dkwX1_undo_0 : List UInt8 := [42, 180, 0, 41, 185, 1, 62, 1, 0, 154, 0, 7, 4, 167, 0, 4, 3, 184, 1, 1, 42, 42]
abbrev dktX1_undo_0 : List UInt8 := dkwX1_undo_0 ++ dktX1_undo_1
theorem dksX1_undo_0 : cX1_undo.data.toList.drop 0 = dktX1_undo_0 := by decide +kernel
theorem dksX1_undo_1 : cX1_undo.data.toList.drop 22 = dktX1_undo_1 := dk_seg dksX1_undo_0 22 rfl rfl
theorem dX1_undo_0 : decode cX1_undo 0 = .ok (.aload_n 0, 1) := dk_42 (dk_at dksX1_undo_0 0 rfl rfl)
theorem dX1_undo_1 : decode cX1_undo 1 = .ok (.getfield 41, 3) := dk_180 0 41 (dk_at dksX1_undo_0 1 rfl rfl)
theorem dX1_undo_4 : decode cX1_undo 4 = .ok (.invokeinterface 318 1, 5) := by decide +kernel
theorem dX1_undo_9 : decode cX1_undo 9 = .ok (.ifCond .ne 7, 3) := dk_154 0 7 (dk_at dksX1_undo_0 9 rfl rfl)
theorem dX1_undo_12 : decode cX1_undo 12 = .ok (.iconst 1, 1) := dk_4 (dk_at dksX1_undo_0 12 rfl rfl)
theorem dX1_undo_13 : decode cX1_undo 13 = .ok (.goto 4, 3) := dk_167 0 4 (dk_at dksX1_undo_0 13 rfl rfl)
theorem dX1_undo_16 : decode cX1_undo 16 = .ok (.iconst 0, 1) := dk_3 (dk_at dksX1_undo_0 16 rfl rfl)
theorem dX1_undo_17 : decode cX1_undo 17 = .ok (.invokestatic 257, 3) := dk_184 1 1 (dk_at dksX1_undo_0 17 rfl rfl)
theorem dX1_undo_20 : decode cX1_undo 20 = .ok (.aload_n 0, 1) := dk_42 (dk_at dksX1_undo_0 20 rfl rfl)
theorem dX1_undo_21 : decode cX1_undo 21 = .ok (.aload_n 0, 1) := dk_42 (dk_at dksX1_undo_0 21 rfl rfl)
theorem dX1_undo_22 : decode cX1_undo 22 = .ok (.getfield 41, 3) := dk_180 0 41 (dk_at dksX1_undo_1 0 rfl rfl)
theorem dX1_undo_25 : decode cX1_undo 25 = .ok (.invokeinterface 321 1, 5) := by decide +kernel
theorem dX1_undo_30 : decode cX1_undo 30 = .ok (.checkcast 31, 3) := dk_192 0 31 (dk_at dksX1_undo_1 8 rfl rfl)
theorem dX1_undo_33 : decode cX1_undo 33 = .ok (.putfield 34, 3) := dk_181 0 34 (dk_at dksX1_undo_1 11 rfl rfl)
theorem dX1_undo_36 : decode cX1_undo 36 = .ok (.aload_n 0, 1) := dk_42 (dk_at dksX1_undo_1 14 rfl rfl)
theorem dX1_undo_37 : decode cX1_undo 37 = .ok (.getfield 41, 3) := dk_180 0 41 (dk_at dksX1_undo_1 15 rfl rfl)
theorem dX1_undo_40 : decode cX1_undo 40 = .ok (.invokeinterface 65 1, 5) := by decide +kernel
theorem dX1_undo_45 : decode cX1_undo 45 = .ok (.ireturn, 1) := dk_172 (dk_at dksX1_undo_1 23 rfl rfl)
abbrev cX1_restore : ByteArray := prog_1_method_62_code
def yX1_restore : MethodName := ⟨RX1, "restore", "()V"⟩
def dkwX1_restore_1 : List UInt8 := [180, 0, 41, 185, 1, 71, 1, 0, 177]
abbrev dktX1_restore_1 : List UInt8 := dkwX1_restore_1 ++ []
def dkwX1_restore_0 : List UInt8 := [42, 180, 1, 68, 198, 0, 7, 4, 167, 0, 4, 3, 184, 1, 1, 42, 42, 180, 1, 68, 181, 0, 34, 42]
abbrev dktX1_restore_0 : List UInt8 := dkwX1_restore_0 ++ dktX1_restore_1
theorem dksX1_restore_0 : cX1_restore.data.toList.drop 0 = dktX1_restore_0 := by decide +kernel
theorem dksX1_restore_1 : cX1_restore.data.toList.drop 24 = dktX1_restore_1 := dk_seg dksX1_restore_0 24 rfl rfl
theorem dX1_restore_0 : decode cX1_restore 0 = .ok (.aload_n 0, 1) := dk_42 (dk_at dksX1_restore_0 0 rfl rfl)
theorem dX1_restore_1 : decode cX1_restore 1 = .ok (.getfield 324, 3) := dk_180 1 68 (dk_at dksX1_restore_0 1 rfl rfl)
theorem dX1_restore_4 : decode cX1_restore 4 = .ok (.ifnull 7, 3) := dk_198 0 7 (dk_at dksX1_restore_0 4 rfl rfl)
theorem dX1_restore_7 : decode cX1_restore 7 = .ok (.iconst 1, 1) := dk_4 (dk_at dksX1_restore_0 7 rfl rfl)
theorem dX1_restore_8 : decode cX1_restore 8 = .ok (.goto 4, 3) := dk_167 0 4 (dk_at dksX1_restore_0 8 rfl rfl)
theorem dX1_restore_11 : decode cX1_restore 11 = .ok (.iconst 0, 1) := dk_3 (dk_at dksX1_restore_0 11 rfl rfl)
theorem dX1_restore_12 : decode cX1_restore 12 = .ok (.invokestatic 257, 3) := dk_184 1 1 (dk_at dksX1_restore_0 12 rfl rfl)
theorem dX1_restore_15 : decode cX1_restore 15 = .ok (.aload_n 0, 1) := dk_42 (dk_at dksX1_restore_0 15 rfl rfl)
theorem dX1_restore_16 : decode cX1_restore 16 = .ok (.aload_n 0, 1) := dk_42 (dk_at dksX1_restore_0 16 rfl rfl)
theorem dX1_restore_17 : decode cX1_restore 17 = .ok (.getfield 324, 3) := dk_180 1 68 (dk_at dksX1_restore_0 17 rfl rfl)
theorem dX1_restore_20 : decode cX1_restore 20 = .ok (.putfield 34, 3) := dk_181 0 34 (dk_at dksX1_restore_0 20 rfl rfl)
theorem dX1_restore_23 : decode cX1_restore 23 = .ok (.aload_n 0, 1) := dk_42 (dk_at dksX1_restore_0 23 rfl rfl)
theorem dX1_restore_24 : decode cX1_restore 24 = .ok (.getfield 41, 3) := dk_180 0 41 (dk_at dksX1_restore_1 0 rfl rfl)
theorem dX1_restore_27 : decode cX1_restore 27 = .ok (.invokeinterface 327 1, 5) := by decide +kernel
theorem dX1_restore_32 : decode cX1_restore 32 = .ok (.return_, 1) := dk_177 (dk_at dksX1_restore_1 8 rfl rfl)
theorem q80 : (Jvm.Cond.initialized "ClearingHouse") ∈ lw_all := lw_g (lw_at lw_m1 1 rfl) rfl
theorem q126 : (Jvm.Cond.instantiable "ClearingHouse" (7 : Nat)) ∈ lw_all := lw_g (lw_at lw_m1 47 rfl) rfl
theorem q128 : (Jvm.Cond.instanceMethod ({ cls := "ClearingHouse", name := "<init>", desc := "()V" } : Jvm.MethodName)) ∈ lw_all := lw_g (lw_at lw_m1 49 rfl) rfl
theorem q129 : (Jvm.Cond.code ({ cls := "ClearingHouse", name := "<init>", desc := "()V" } : Jvm.MethodName) prog_1_method_8_code (1 : Nat) (Option.none : Option Jvm.ClassFile.FieldType)) ∈ lw_all := lw_g (lw_at lw_m1 50 rfl) rfl
theorem q130 : (Jvm.Cond.methodLink "ClearingHouse" (28 : Nat) ({ cls := "java/lang/Object", name := "<init>", desc := "()V" } : Jvm.MethodName)) ∈ lw_all := lw_g (lw_at lw_m1 51 rfl) rfl
theorem q133 : (Jvm.Cond.classLink "ClearingHouse" (31 : Nat) "ClearingHouse$House") ∈ lw_all := lw_g (lw_at lw_m1 54 rfl) rfl
theorem q135 : (Jvm.Cond.methodLink "ClearingHouse" (33 : Nat) ({ cls := "ClearingHouse$House", name := "<init>", desc := "()V" } : Jvm.MethodName)) ∈ lw_all := lw_g (lw_at lw_m1 56 rfl) rfl
theorem q150 : (Jvm.Cond.fieldLinkNest "ClearingHouse" (234 : Nat) "ClearingHouse$Account" "netted" "J" "ClearingHouse") ∈ lw_tbl := lw_at lw_m1 71 rfl
theorem q153 : (Jvm.Cond.fieldLinkNest "ClearingHouse" (238 : Nat) "ClearingHouse$Account" "writtenOff" "I" "ClearingHouse") ∈ lw_tbl := lw_at lw_m1 74 rfl
theorem q167 : (Jvm.Cond.fieldLinkNest "ClearingHouse" (140 : Nat) "ClearingHouse$House" "debts" "[[I" "ClearingHouse") ∈ lw_tbl := lw_at lw_m1 88 rfl
theorem q169 : (Jvm.Cond.fieldLinkNest "ClearingHouse" (132 : Nat) "ClearingHouse$House" "cash" "[I" "ClearingHouse") ∈ lw_tbl := lw_at lw_m1 90 rfl
theorem q171 : (Jvm.Cond.fieldLinkNest "ClearingHouse" (222 : Nat) "ClearingHouse$House" "account" "LClearingHouse$Account;" "ClearingHouse") ∈ lw_tbl := lw_at lw_m1 92 rfl
theorem q173 : (Jvm.Cond.fieldLinkNest "ClearingHouse" (125 : Nat) "ClearingHouse$House" "parties" "I" "ClearingHouse") ∈ lw_tbl := lw_at lw_m1 94 rfl
theorem q175 : (Jvm.Cond.fieldLinkNest "ClearingHouse" (241 : Nat) "ClearingHouse$House" "defaults" "I" "ClearingHouse") ∈ lw_tbl := lw_at lw_m1 96 rfl
theorem q177 : (Jvm.Cond.fieldLinkNest "ClearingHouse" (216 : Nat) "ClearingHouse$House" "day" "I" "ClearingHouse") ∈ lw_tbl := lw_at lw_m1 98 rfl
theorem q191 : (Jvm.Cond.classLink "ClearingHouse" (38 : Nat) "java/util/ArrayDeque") ∈ lw_all := lw_g (lw_at lw_m1 112 rfl) rfl
theorem q193 : (Jvm.Cond.methodLink "ClearingHouse" (40 : Nat) ({ cls := "java/util/ArrayDeque", name := "<init>", desc := "()V" } : Jvm.MethodName)) ∈ lw_all := lw_g (lw_at lw_m1 114 rfl) rfl
theorem q212 : (Jvm.Cond.classLink "ClearingHouse" (45 : Nat) "java/lang/StringBuilder") ∈ lw_all := lw_g (lw_at lw_m1 133 rfl) rfl
theorem q214 : (Jvm.Cond.methodLink "ClearingHouse" (47 : Nat) ({ cls := "java/lang/StringBuilder", name := "<init>", desc := "()V" } : Jvm.MethodName)) ∈ lw_all := lw_g (lw_at lw_m1 135 rfl) rfl
theorem q245 : (Jvm.Cond.stringRef "ClearingHouse" (52 : Nat) "") ∈ lw_tbl := lw_at lw_m1 166 rfl
theorem q246 : (Jvm.Cond.fieldLink "ClearingHouse" (34 : Nat) "ClearingHouse" "house" "LClearingHouse$House;") ∈ lw_all := lw_g (lw_at lw_m1 167 rfl) rfl
theorem q247 : (Jvm.Cond.fieldLink "ClearingHouse" (324 : Nat) "ClearingHouse" "saved" "LClearingHouse$House;") ∈ lw_all := lw_g (lw_at lw_m1 168 rfl) rfl
theorem q248 : (Jvm.Cond.fieldLink "ClearingHouse" (41 : Nat) "ClearingHouse" "history" "Ljava/util/Deque;") ∈ lw_all := lw_g (lw_at lw_m1 169 rfl) rfl
theorem q250 : (Jvm.Cond.fieldLink "ClearingHouse" (48 : Nat) "ClearingHouse" "buffer" "Ljava/lang/StringBuilder;") ∈ lw_all := lw_g (lw_at lw_m1 171 rfl) rfl
theorem q251 : (Jvm.Cond.fieldLink "ClearingHouse" (54 : Nat) "ClearingHouse" "output" "Ljava/lang/String;") ∈ lw_all := lw_g (lw_at lw_m1 172 rfl) rfl
theorem q252 : (Jvm.Cond.fieldLink "ClearingHouse" (58 : Nat) "ClearingHouse" "errorPosition" "I") ∈ lw_all := lw_g (lw_at lw_m1 173 rfl) rfl
theorem q253 : (Jvm.Cond.fieldLink "ClearingHouse" (62 : Nat) "ClearingHouse" "failedCommand" "I") ∈ lw_all := lw_g (lw_at lw_m1 174 rfl) rfl
theorem q254 : (Jvm.Cond.lays "ClearingHouse" "ClearingHouse" "house" "LClearingHouse$House;") ∈ lw_all := lw_g (lw_at lw_m1 175 rfl) rfl
theorem q255 : (Jvm.Cond.soleField "ClearingHouse" "house") ∈ lw_all := lw_g (lw_at lw_m1 176 rfl) rfl
theorem q256 : (Jvm.Cond.lays "ClearingHouse" "ClearingHouse" "saved" "LClearingHouse$House;") ∈ lw_all := lw_g (lw_at lw_m1 177 rfl) rfl
theorem q257 : (Jvm.Cond.soleField "ClearingHouse" "saved") ∈ lw_all := lw_g (lw_at lw_m1 178 rfl) rfl
theorem q258 : (Jvm.Cond.laysFinal "ClearingHouse" "ClearingHouse" "history" "Ljava/util/Deque;") ∈ lw_all := lw_g (lw_at lw_m1 179 rfl) rfl
theorem q259 : (Jvm.Cond.soleField "ClearingHouse" "history") ∈ lw_all := lw_g (lw_at lw_m1 180 rfl) rfl
theorem q260 : (Jvm.Cond.laysFinal "ClearingHouse" "ClearingHouse" "buffer" "Ljava/lang/StringBuilder;") ∈ lw_all := lw_g (lw_at lw_m1 181 rfl) rfl
theorem q261 : (Jvm.Cond.soleField "ClearingHouse" "buffer") ∈ lw_all := lw_g (lw_at lw_m1 182 rfl) rfl
theorem q262 : (Jvm.Cond.lays "ClearingHouse" "ClearingHouse" "output" "Ljava/lang/String;") ∈ lw_all := lw_g (lw_at lw_m1 183 rfl) rfl
theorem q263 : (Jvm.Cond.soleField "ClearingHouse" "output") ∈ lw_all := lw_g (lw_at lw_m1 184 rfl) rfl
theorem q264 : (Jvm.Cond.lays "ClearingHouse" "ClearingHouse" "errorPosition" "I") ∈ lw_all := lw_g (lw_at lw_m1 185 rfl) rfl
theorem q265 : (Jvm.Cond.soleField "ClearingHouse" "errorPosition") ∈ lw_all := lw_g (lw_at lw_m1 186 rfl) rfl
theorem q266 : (Jvm.Cond.lays "ClearingHouse" "ClearingHouse" "failedCommand" "I") ∈ lw_all := lw_g (lw_at lw_m1 187 rfl) rfl
theorem q267 : (Jvm.Cond.soleField "ClearingHouse" "failedCommand") ∈ lw_all := lw_g (lw_at lw_m1 188 rfl) rfl
theorem q268 : (Jvm.Cond.superclass "ClearingHouse" "java/lang/Object") ∈ lw_all := lw_g (lw_at lw_m1 189 rfl) rfl
theorem q270 : (Jvm.Cond.instanceMethod ({ cls := "ClearingHouse", name := "netAll", desc := "()I" } : Jvm.MethodName)) ∈ lw_all := lw_g (lw_at lw_m1 191 rfl) rfl
theorem q271 : (Jvm.Cond.selects "ClearingHouse" ({ cls := "ClearingHouse", name := "netAll", desc := "()I" } : Jvm.MethodName) ({ cls := "ClearingHouse", name := "netAll", desc := "()I" } : Jvm.MethodName)) ∈ lw_all := lw_g (lw_at lw_m1 192 rfl) rfl
theorem q272 : (Jvm.Cond.code ({ cls := "ClearingHouse", name := "netAll", desc := "()I" } : Jvm.MethodName) prog_1_method_17_code (1 : Nat) (Option.some Jvm.ClassFile.FieldType.int)) ∈ lw_all := lw_g (lw_at lw_m1 193 rfl) rfl
theorem q273 : (Jvm.Cond.classLink "ClearingHouse" (105 : Nat) "ClearingHouse$WholeOrder") ∈ lw_all := lw_g (lw_at lw_m1 194 rfl) rfl
theorem q275 : (Jvm.Cond.fieldLink "ClearingHouse" (116 : Nat) "ClearingHouse$Whole" "ALL" "LClearingHouse$Whole;") ∈ lw_all := lw_g (lw_at lw_m1 196 rfl) rfl
theorem q277 : (Jvm.Cond.methodLink "ClearingHouse" (113 : Nat) ({ cls := "ClearingHouse$WholeOrder", name := "<init>", desc := "(LClearingHouse$Whole;)V" } : Jvm.MethodName)) ∈ lw_all := lw_g (lw_at lw_m1 198 rfl) rfl
theorem q285 : (Jvm.Cond.methodLink "ClearingHouse" (96 : Nat) ({ cls := "ClearingHouse", name := "change", desc := "(LClearingHouse$Order;)I" } : Jvm.MethodName)) ∈ lw_all := lw_g (lw_at lw_m1 206 rfl) rfl
theorem q286 : (Jvm.Cond.privateMethod ({ cls := "ClearingHouse", name := "change", desc := "(LClearingHouse$Order;)I" } : Jvm.MethodName)) ∈ lw_tbl := lw_at lw_m1 207 rfl
theorem q287 : (Jvm.Cond.instanceMethod ({ cls := "ClearingHouse", name := "change", desc := "(LClearingHouse$Order;)I" } : Jvm.MethodName)) ∈ lw_all := lw_g (lw_at lw_m1 208 rfl) rfl
theorem q288 : (Jvm.Cond.code ({ cls := "ClearingHouse", name := "change", desc := "(LClearingHouse$Order;)I" } : Jvm.MethodName) prog_1_method_10_code (4 : Nat) (Option.some Jvm.ClassFile.FieldType.int)) ∈ lw_all := lw_g (lw_at lw_m1 209 rfl) rfl
theorem q289 : (Jvm.Cond.methodLink "ClearingHouse" (79 : Nat) ({ cls := "ClearingHouse$House", name := "<init>", desc := "(LClearingHouse$House;)V" } : Jvm.MethodName)) ∈ lw_all := lw_g (lw_at lw_m1 210 rfl) rfl
theorem q296 : (Jvm.Cond.interfaceEntry "ClearingHouse" (82 : Nat)) ∈ lw_tbl := lw_at lw_m1 217 rfl
theorem q297 : (Jvm.Cond.methodLink "ClearingHouse" (82 : Nat) ({ cls := "ClearingHouse$Order", name := "execute", desc := "(LClearingHouse$House;)I" } : Jvm.MethodName)) ∈ lw_all := lw_g (lw_at lw_m1 218 rfl) rfl
theorem q323 : (Jvm.Cond.static ({ cls := "ClearingHouse", name := "requireIndex", desc := "(II)V" } : Jvm.MethodName)) ∈ lw_all := lw_g (lw_at lw_m2 4 rfl) rfl
theorem q324 : (Jvm.Cond.code ({ cls := "ClearingHouse", name := "requireIndex", desc := "(II)V" } : Jvm.MethodName) prog_1_method_2_code (2 : Nat) (Option.none : Option Jvm.ClassFile.FieldType)) ∈ lw_all := lw_g (lw_at lw_m2 5 rfl) rfl
theorem q325 : (Jvm.Cond.methodLink "ClearingHouse" (1 : Nat) ({ cls := "ClearingHouse", name := "isBetween", desc := "(III)Z" } : Jvm.MethodName)) ∈ lw_all := lw_g (lw_at lw_m2 6 rfl) rfl
theorem q326 : (Jvm.Cond.static ({ cls := "ClearingHouse", name := "isBetween", desc := "(III)Z" } : Jvm.MethodName)) ∈ lw_all := lw_g (lw_at lw_m2 7 rfl) rfl
theorem q327 : (Jvm.Cond.code ({ cls := "ClearingHouse", name := "isBetween", desc := "(III)Z" } : Jvm.MethodName) prog_1_method_1_code (3 : Nat) (Option.some Jvm.ClassFile.FieldType.boolean)) ∈ lw_all := lw_g (lw_at lw_m2 8 rfl) rfl
theorem q328 : (Jvm.Cond.classLink "ClearingHouse" (7 : Nat) "java/lang/IndexOutOfBoundsException") ∈ lw_all := lw_g (lw_at lw_m2 9 rfl) rfl
theorem q375 : (Jvm.Cond.methodLink "ClearingHouse" (9 : Nat) ({ cls := "java/lang/IndexOutOfBoundsException", name := "<init>", desc := "()V" } : Jvm.MethodName)) ∈ lw_all := lw_g (lw_at lw_m2 56 rfl) rfl
theorem q399 : (Jvm.Cond.static ({ cls := "ClearingHouse", name := "requireArgument", desc := "(Z)V" } : Jvm.MethodName)) ∈ lw_all := lw_g (lw_at lw_m2 80 rfl) rfl
theorem q400 : (Jvm.Cond.code ({ cls := "ClearingHouse", name := "requireArgument", desc := "(Z)V" } : Jvm.MethodName) prog_1_method_3_code (1 : Nat) (Option.none : Option Jvm.ClassFile.FieldType)) ∈ lw_all := lw_g (lw_at lw_m2 81 rfl) rfl
theorem q401 : (Jvm.Cond.classLink "ClearingHouse" (13 : Nat) "java/lang/IllegalArgumentException") ∈ lw_all := lw_g (lw_at lw_m2 82 rfl) rfl
theorem q410 : (Jvm.Cond.methodLink "ClearingHouse" (15 : Nat) ({ cls := "java/lang/IllegalArgumentException", name := "<init>", desc := "()V" } : Jvm.MethodName)) ∈ lw_all := lw_g (lw_at lw_m2 91 rfl) rfl
theorem q421 : (Jvm.Cond.static ({ cls := "ClearingHouse", name := "requireState", desc := "(Z)V" } : Jvm.MethodName)) ∈ lw_all := lw_g (lw_at lw_m2 102 rfl) rfl
theorem q422 : (Jvm.Cond.code ({ cls := "ClearingHouse", name := "requireState", desc := "(Z)V" } : Jvm.MethodName) prog_1_method_4_code (1 : Nat) (Option.none : Option Jvm.ClassFile.FieldType)) ∈ lw_all := lw_g (lw_at lw_m2 103 rfl) rfl
theorem q423 : (Jvm.Cond.classLink "ClearingHouse" (16 : Nat) "java/lang/IllegalStateException") ∈ lw_all := lw_g (lw_at lw_m2 104 rfl) rfl
theorem q432 : (Jvm.Cond.methodLink "ClearingHouse" (18 : Nat) ({ cls := "java/lang/IllegalStateException", name := "<init>", desc := "()V" } : Jvm.MethodName)) ∈ lw_all := lw_g (lw_at lw_m2 113 rfl) rfl
theorem q447 : (Jvm.Cond.static ({ cls := "ClearingHouse", name := "requireSupported", desc := "(Z)V" } : Jvm.MethodName)) ∈ lw_all := lw_g (lw_at lw_m2 128 rfl) rfl
theorem q448 : (Jvm.Cond.code ({ cls := "ClearingHouse", name := "requireSupported", desc := "(Z)V" } : Jvm.MethodName) prog_1_method_5_code (1 : Nat) (Option.none : Option Jvm.ClassFile.FieldType)) ∈ lw_all := lw_g (lw_at lw_m2 129 rfl) rfl
theorem q449 : (Jvm.Cond.classLink "ClearingHouse" (19 : Nat) "java/lang/UnsupportedOperationException") ∈ lw_all := lw_g (lw_at lw_m2 130 rfl) rfl
theorem q458 : (Jvm.Cond.methodLink "ClearingHouse" (21 : Nat) ({ cls := "java/lang/UnsupportedOperationException", name := "<init>", desc := "()V" } : Jvm.MethodName)) ∈ lw_all := lw_g (lw_at lw_m2 139 rfl) rfl
theorem q617 : (Jvm.Cond.fieldLinkNest "ClearingHouse" (184 : Nat) "ClearingHouse$Cycle" "amount" "I" "ClearingHouse") ∈ lw_tbl := lw_at lw_m3 58 rfl
theorem q722 : (Jvm.Cond.methodLink "ClearingHouse" (88 : Nat) ({ cls := "ClearingHouse", name := "replaceHouse", desc := "(LClearingHouse$House;)V" } : Jvm.MethodName)) ∈ lw_all := lw_g (lw_at lw_m3 163 rfl) rfl
theorem q723 : (Jvm.Cond.privateMethod ({ cls := "ClearingHouse", name := "replaceHouse", desc := "(LClearingHouse$House;)V" } : Jvm.MethodName)) ∈ lw_tbl := lw_at lw_m3 164 rfl
theorem q724 : (Jvm.Cond.instanceMethod ({ cls := "ClearingHouse", name := "replaceHouse", desc := "(LClearingHouse$House;)V" } : Jvm.MethodName)) ∈ lw_all := lw_g (lw_at lw_m3 165 rfl) rfl
theorem q725 : (Jvm.Cond.code ({ cls := "ClearingHouse", name := "replaceHouse", desc := "(LClearingHouse$House;)V" } : Jvm.MethodName) prog_1_method_9_code (2 : Nat) (Option.none : Option Jvm.ClassFile.FieldType)) ∈ lw_all := lw_g (lw_at lw_m3 166 rfl) rfl
theorem q726 : (Jvm.Cond.interfaceEntry "ClearingHouse" (65 : Nat)) ∈ lw_tbl := lw_at lw_m3 167 rfl
theorem q727 : (Jvm.Cond.methodLink "ClearingHouse" (65 : Nat) ({ cls := "java/util/Deque", name := "size", desc := "()I" } : Jvm.MethodName)) ∈ lw_all := lw_g (lw_at lw_m3 168 rfl) rfl
theorem q739 : (Jvm.Cond.interfaceEntry "ClearingHouse" (71 : Nat)) ∈ lw_tbl := lw_at lw_m3 180 rfl
theorem q740 : (Jvm.Cond.methodLink "ClearingHouse" (71 : Nat) ({ cls := "java/util/Deque", name := "removeFirst", desc := "()Ljava/lang/Object;" } : Jvm.MethodName)) ∈ lw_all := lw_g (lw_at lw_m3 181 rfl) rfl
theorem q760 : (Jvm.Cond.interfaceEntry "ClearingHouse" (75 : Nat)) ∈ lw_tbl := lw_at lw_m3 201 rfl
theorem q761 : (Jvm.Cond.methodLink "ClearingHouse" (75 : Nat) ({ cls := "java/util/Deque", name := "addLast", desc := "(Ljava/lang/Object;)V" } : Jvm.MethodName)) ∈ lw_all := lw_g (lw_at lw_m3 202 rfl) rfl
theorem q791 : (Jvm.Cond.selects "ClearingHouse" ({ cls := "java/lang/Object", name := "getClass", desc := "()Ljava/lang/Class;" } : Jvm.MethodName) ({ cls := "java/lang/Object", name := "getClass", desc := "()Ljava/lang/Class;" } : Jvm.MethodName)) ∈ lw_all := lw_g (lw_at lw_m3 232 rfl) rfl
theorem q833 : (Jvm.Cond.instanceMethod ({ cls := "ClearingHouse", name := "cascade", desc := "()I" } : Jvm.MethodName)) ∈ lw_all := lw_g (lw_at lw_m4 34 rfl) rfl
theorem q834 : (Jvm.Cond.selects "ClearingHouse" ({ cls := "ClearingHouse", name := "cascade", desc := "()I" } : Jvm.MethodName) ({ cls := "ClearingHouse", name := "cascade", desc := "()I" } : Jvm.MethodName)) ∈ lw_all := lw_g (lw_at lw_m4 35 rfl) rfl
theorem q835 : (Jvm.Cond.code ({ cls := "ClearingHouse", name := "cascade", desc := "()I" } : Jvm.MethodName) prog_1_method_19_code (1 : Nat) (Option.some Jvm.ClassFile.FieldType.int)) ∈ lw_all := lw_g (lw_at lw_m4 36 rfl) rfl
theorem q836 : (Jvm.Cond.fieldLink "ClearingHouse" (119 : Nat) "ClearingHouse$Whole" "CASCADE" "LClearingHouse$Whole;") ∈ lw_all := lw_g (lw_at lw_m4 37 rfl) rfl
theorem q839 : (Jvm.Cond.instanceMethod ({ cls := "ClearingHouse", name := "call", desc := "()I" } : Jvm.MethodName)) ∈ lw_all := lw_g (lw_at lw_m4 40 rfl) rfl
theorem q840 : (Jvm.Cond.selects "ClearingHouse" ({ cls := "ClearingHouse", name := "call", desc := "()I" } : Jvm.MethodName) ({ cls := "ClearingHouse", name := "call", desc := "()I" } : Jvm.MethodName)) ∈ lw_all := lw_g (lw_at lw_m4 41 rfl) rfl
theorem q841 : (Jvm.Cond.code ({ cls := "ClearingHouse", name := "call", desc := "()I" } : Jvm.MethodName) prog_1_method_20_code (1 : Nat) (Option.some Jvm.ClassFile.FieldType.int)) ∈ lw_all := lw_g (lw_at lw_m4 42 rfl) rfl
theorem q842 : (Jvm.Cond.fieldLink "ClearingHouse" (122 : Nat) "ClearingHouse$Whole" "CALL" "LClearingHouse$Whole;") ∈ lw_all := lw_g (lw_at lw_m4 43 rfl) rfl
theorem q845 : (Jvm.Cond.instanceMethod ({ cls := "ClearingHouse", name := "partyCount", desc := "()I" } : Jvm.MethodName)) ∈ lw_all := lw_g (lw_at lw_m4 46 rfl) rfl
theorem q846 : (Jvm.Cond.selects "ClearingHouse" ({ cls := "ClearingHouse", name := "partyCount", desc := "()I" } : Jvm.MethodName) ({ cls := "ClearingHouse", name := "partyCount", desc := "()I" } : Jvm.MethodName)) ∈ lw_all := lw_g (lw_at lw_m4 47 rfl) rfl
theorem q847 : (Jvm.Cond.code ({ cls := "ClearingHouse", name := "partyCount", desc := "()I" } : Jvm.MethodName) prog_1_method_21_code (1 : Nat) (Option.some Jvm.ClassFile.FieldType.int)) ∈ lw_all := lw_g (lw_at lw_m4 48 rfl) rfl
theorem q849 : (Jvm.Cond.instanceMethod ({ cls := "ClearingHouse", name := "hasCycle", desc := "()Z" } : Jvm.MethodName)) ∈ lw_all := lw_g (lw_at lw_m4 50 rfl) rfl
theorem q850 : (Jvm.Cond.selects "ClearingHouse" ({ cls := "ClearingHouse", name := "hasCycle", desc := "()Z" } : Jvm.MethodName) ({ cls := "ClearingHouse", name := "hasCycle", desc := "()Z" } : Jvm.MethodName)) ∈ lw_all := lw_g (lw_at lw_m4 51 rfl) rfl
theorem q851 : (Jvm.Cond.code ({ cls := "ClearingHouse", name := "hasCycle", desc := "()Z" } : Jvm.MethodName) prog_1_method_29_code (1 : Nat) (Option.some Jvm.ClassFile.FieldType.boolean)) ∈ lw_all := lw_g (lw_at lw_m4 52 rfl) rfl
theorem q852 : (Jvm.Cond.methodLink "ClearingHouse" (164 : Nat) ({ cls := "ClearingHouse$House", name := "hasCycle", desc := "()Z" } : Jvm.MethodName)) ∈ lw_all := lw_g (lw_at lw_m4 53 rfl) rfl
theorem q869 : (Jvm.Cond.instanceMethod ({ cls := "ClearingHouse", name := "hasCycleByLeavingOut", desc := "()Z" } : Jvm.MethodName)) ∈ lw_all := lw_g (lw_at lw_m4 70 rfl) rfl
theorem q870 : (Jvm.Cond.selects "ClearingHouse" ({ cls := "ClearingHouse", name := "hasCycleByLeavingOut", desc := "()Z" } : Jvm.MethodName) ({ cls := "ClearingHouse", name := "hasCycleByLeavingOut", desc := "()Z" } : Jvm.MethodName)) ∈ lw_all := lw_g (lw_at lw_m4 71 rfl) rfl
theorem q871 : (Jvm.Cond.code ({ cls := "ClearingHouse", name := "hasCycleByLeavingOut", desc := "()Z" } : Jvm.MethodName) prog_1_method_30_code (1 : Nat) (Option.some Jvm.ClassFile.FieldType.boolean)) ∈ lw_all := lw_g (lw_at lw_m4 72 rfl) rfl
theorem q872 : (Jvm.Cond.methodLink "ClearingHouse" (168 : Nat) ({ cls := "ClearingHouse$House", name := "hasCycleByLeavingOut", desc := "()Z" } : Jvm.MethodName)) ∈ lw_all := lw_g (lw_at lw_m4 73 rfl) rfl
theorem q881 : (Jvm.Cond.instanceMethod ({ cls := "ClearingHouse", name := "fewestPayments", desc := "()I" } : Jvm.MethodName)) ∈ lw_all := lw_g (lw_at lw_m4 82 rfl) rfl
theorem q882 : (Jvm.Cond.selects "ClearingHouse" ({ cls := "ClearingHouse", name := "fewestPayments", desc := "()I" } : Jvm.MethodName) ({ cls := "ClearingHouse", name := "fewestPayments", desc := "()I" } : Jvm.MethodName)) ∈ lw_all := lw_g (lw_at lw_m4 83 rfl) rfl
theorem q883 : (Jvm.Cond.code ({ cls := "ClearingHouse", name := "fewestPayments", desc := "()I" } : Jvm.MethodName) prog_1_method_34_code (1 : Nat) (Option.some Jvm.ClassFile.FieldType.int)) ∈ lw_all := lw_g (lw_at lw_m4 84 rfl) rfl
theorem q884 : (Jvm.Cond.methodLink "ClearingHouse" (187 : Nat) ({ cls := "ClearingHouse$House", name := "fewestPayments", desc := "()I" } : Jvm.MethodName)) ∈ lw_all := lw_g (lw_at lw_m4 85 rfl) rfl
theorem q899 : (Jvm.Cond.instanceMethod ({ cls := "ClearingHouse", name := "fewestPaymentsByTrying", desc := "()I" } : Jvm.MethodName)) ∈ lw_all := lw_g (lw_at lw_m4 100 rfl) rfl
theorem q900 : (Jvm.Cond.selects "ClearingHouse" ({ cls := "ClearingHouse", name := "fewestPaymentsByTrying", desc := "()I" } : Jvm.MethodName) ({ cls := "ClearingHouse", name := "fewestPaymentsByTrying", desc := "()I" } : Jvm.MethodName)) ∈ lw_all := lw_g (lw_at lw_m4 101 rfl) rfl
theorem q901 : (Jvm.Cond.code ({ cls := "ClearingHouse", name := "fewestPaymentsByTrying", desc := "()I" } : Jvm.MethodName) prog_1_method_35_code (1 : Nat) (Option.some Jvm.ClassFile.FieldType.int)) ∈ lw_all := lw_g (lw_at lw_m4 102 rfl) rfl
theorem q902 : (Jvm.Cond.methodLink "ClearingHouse" (190 : Nat) ({ cls := "ClearingHouse$House", name := "fewestPaymentsByTrying", desc := "()I" } : Jvm.MethodName)) ∈ lw_all := lw_g (lw_at lw_m4 103 rfl) rfl
theorem q910 : (Jvm.Cond.instanceMethod ({ cls := "ClearingHouse", name := "defaultsAhead", desc := "()I" } : Jvm.MethodName)) ∈ lw_all := lw_g (lw_at lw_m4 111 rfl) rfl
theorem q911 : (Jvm.Cond.selects "ClearingHouse" ({ cls := "ClearingHouse", name := "defaultsAhead", desc := "()I" } : Jvm.MethodName) ({ cls := "ClearingHouse", name := "defaultsAhead", desc := "()I" } : Jvm.MethodName)) ∈ lw_all := lw_g (lw_at lw_m4 112 rfl) rfl
theorem q912 : (Jvm.Cond.code ({ cls := "ClearingHouse", name := "defaultsAhead", desc := "()I" } : Jvm.MethodName) prog_1_method_39_code (1 : Nat) (Option.some Jvm.ClassFile.FieldType.int)) ∈ lw_all := lw_g (lw_at lw_m4 113 rfl) rfl
theorem q913 : (Jvm.Cond.methodLink "ClearingHouse" (213 : Nat) ({ cls := "ClearingHouse$House", name := "cascade", desc := "()I" } : Jvm.MethodName)) ∈ lw_all := lw_g (lw_at lw_m4 114 rfl) rfl
theorem q915 : (Jvm.Cond.instanceMethod ({ cls := "ClearingHouse", name := "day", desc := "()I" } : Jvm.MethodName)) ∈ lw_all := lw_g (lw_at lw_m4 116 rfl) rfl
theorem q916 : (Jvm.Cond.selects "ClearingHouse" ({ cls := "ClearingHouse", name := "day", desc := "()I" } : Jvm.MethodName) ({ cls := "ClearingHouse", name := "day", desc := "()I" } : Jvm.MethodName)) ∈ lw_all := lw_g (lw_at lw_m4 117 rfl) rfl
theorem q917 : (Jvm.Cond.code ({ cls := "ClearingHouse", name := "day", desc := "()I" } : Jvm.MethodName) prog_1_method_40_code (1 : Nat) (Option.some Jvm.ClassFile.FieldType.int)) ∈ lw_all := lw_g (lw_at lw_m4 118 rfl) rfl
theorem q919 : (Jvm.Cond.instanceMethod ({ cls := "ClearingHouse", name := "debtTotal", desc := "()I" } : Jvm.MethodName)) ∈ lw_all := lw_g (lw_at lw_m4 120 rfl) rfl
theorem q920 : (Jvm.Cond.selects "ClearingHouse" ({ cls := "ClearingHouse", name := "debtTotal", desc := "()I" } : Jvm.MethodName) ({ cls := "ClearingHouse", name := "debtTotal", desc := "()I" } : Jvm.MethodName)) ∈ lw_all := lw_g (lw_at lw_m4 121 rfl) rfl
theorem q921 : (Jvm.Cond.code ({ cls := "ClearingHouse", name := "debtTotal", desc := "()I" } : Jvm.MethodName) prog_1_method_41_code (1 : Nat) (Option.some Jvm.ClassFile.FieldType.int)) ∈ lw_all := lw_g (lw_at lw_m4 122 rfl) rfl
theorem q922 : (Jvm.Cond.methodLink "ClearingHouse" (219 : Nat) ({ cls := "ClearingHouse$House", name := "debtTotal", desc := "()I" } : Jvm.MethodName)) ∈ lw_all := lw_g (lw_at lw_m4 123 rfl) rfl
theorem q927 : (Jvm.Cond.instanceMethod ({ cls := "ClearingHouse", name := "debtByAccounts", desc := "()I" } : Jvm.MethodName)) ∈ lw_all := lw_g (lw_at lw_m4 128 rfl) rfl
theorem q928 : (Jvm.Cond.selects "ClearingHouse" ({ cls := "ClearingHouse", name := "debtByAccounts", desc := "()I" } : Jvm.MethodName) ({ cls := "ClearingHouse", name := "debtByAccounts", desc := "()I" } : Jvm.MethodName)) ∈ lw_all := lw_g (lw_at lw_m4 129 rfl) rfl
theorem q929 : (Jvm.Cond.code ({ cls := "ClearingHouse", name := "debtByAccounts", desc := "()I" } : Jvm.MethodName) prog_1_method_42_code (1 : Nat) (Option.some Jvm.ClassFile.FieldType.int)) ∈ lw_all := lw_g (lw_at lw_m4 130 rfl) rfl
theorem q930 : (Jvm.Cond.methodLink "ClearingHouse" (226 : Nat) ({ cls := "ClearingHouse$Account", name := "left", desc := "()I" } : Jvm.MethodName)) ∈ lw_all := lw_g (lw_at lw_m4 131 rfl) rfl
theorem q935 : (Jvm.Cond.instanceMethod ({ cls := "ClearingHouse", name := "cashTotal", desc := "()I" } : Jvm.MethodName)) ∈ lw_all := lw_g (lw_at lw_m4 136 rfl) rfl
theorem q936 : (Jvm.Cond.selects "ClearingHouse" ({ cls := "ClearingHouse", name := "cashTotal", desc := "()I" } : Jvm.MethodName) ({ cls := "ClearingHouse", name := "cashTotal", desc := "()I" } : Jvm.MethodName)) ∈ lw_all := lw_g (lw_at lw_m4 137 rfl) rfl
theorem q937 : (Jvm.Cond.code ({ cls := "ClearingHouse", name := "cashTotal", desc := "()I" } : Jvm.MethodName) prog_1_method_43_code (1 : Nat) (Option.some Jvm.ClassFile.FieldType.int)) ∈ lw_all := lw_g (lw_at lw_m4 138 rfl) rfl
theorem q938 : (Jvm.Cond.methodLink "ClearingHouse" (231 : Nat) ({ cls := "ClearingHouse$House", name := "cashTotal", desc := "()I" } : Jvm.MethodName)) ∈ lw_all := lw_g (lw_at lw_m4 139 rfl) rfl
theorem q943 : (Jvm.Cond.instanceMethod ({ cls := "ClearingHouse", name := "nettedTotal", desc := "()J" } : Jvm.MethodName)) ∈ lw_all := lw_g (lw_at lw_m4 144 rfl) rfl
theorem q944 : (Jvm.Cond.selects "ClearingHouse" ({ cls := "ClearingHouse", name := "nettedTotal", desc := "()J" } : Jvm.MethodName) ({ cls := "ClearingHouse", name := "nettedTotal", desc := "()J" } : Jvm.MethodName)) ∈ lw_all := lw_g (lw_at lw_m4 145 rfl) rfl
theorem q945 : (Jvm.Cond.code ({ cls := "ClearingHouse", name := "nettedTotal", desc := "()J" } : Jvm.MethodName) prog_1_method_44_code (1 : Nat) (Option.some Jvm.ClassFile.FieldType.long)) ∈ lw_all := lw_g (lw_at lw_m4 146 rfl) rfl
theorem q947 : (Jvm.Cond.instanceMethod ({ cls := "ClearingHouse", name := "writtenOff", desc := "()I" } : Jvm.MethodName)) ∈ lw_all := lw_g (lw_at lw_m4 148 rfl) rfl
theorem q948 : (Jvm.Cond.selects "ClearingHouse" ({ cls := "ClearingHouse", name := "writtenOff", desc := "()I" } : Jvm.MethodName) ({ cls := "ClearingHouse", name := "writtenOff", desc := "()I" } : Jvm.MethodName)) ∈ lw_all := lw_g (lw_at lw_m4 149 rfl) rfl
theorem q949 : (Jvm.Cond.code ({ cls := "ClearingHouse", name := "writtenOff", desc := "()I" } : Jvm.MethodName) prog_1_method_45_code (1 : Nat) (Option.some Jvm.ClassFile.FieldType.int)) ∈ lw_all := lw_g (lw_at lw_m4 150 rfl) rfl
theorem q951 : (Jvm.Cond.instanceMethod ({ cls := "ClearingHouse", name := "defaults", desc := "()I" } : Jvm.MethodName)) ∈ lw_all := lw_g (lw_at lw_m4 152 rfl) rfl
theorem q952 : (Jvm.Cond.selects "ClearingHouse" ({ cls := "ClearingHouse", name := "defaults", desc := "()I" } : Jvm.MethodName) ({ cls := "ClearingHouse", name := "defaults", desc := "()I" } : Jvm.MethodName)) ∈ lw_all := lw_g (lw_at lw_m4 153 rfl) rfl
theorem q953 : (Jvm.Cond.code ({ cls := "ClearingHouse", name := "defaults", desc := "()I" } : Jvm.MethodName) prog_1_method_46_code (1 : Nat) (Option.some Jvm.ClassFile.FieldType.int)) ∈ lw_all := lw_g (lw_at lw_m4 154 rfl) rfl
theorem q955 : (Jvm.Cond.instanceMethod ({ cls := "ClearingHouse", name := "debtBits", desc := "()J" } : Jvm.MethodName)) ∈ lw_all := lw_g (lw_at lw_m4 156 rfl) rfl
theorem q956 : (Jvm.Cond.selects "ClearingHouse" ({ cls := "ClearingHouse", name := "debtBits", desc := "()J" } : Jvm.MethodName) ({ cls := "ClearingHouse", name := "debtBits", desc := "()J" } : Jvm.MethodName)) ∈ lw_all := lw_g (lw_at lw_m4 157 rfl) rfl
theorem q957 : (Jvm.Cond.code ({ cls := "ClearingHouse", name := "debtBits", desc := "()J" } : Jvm.MethodName) prog_1_method_47_code (1 : Nat) (Option.some Jvm.ClassFile.FieldType.long)) ∈ lw_all := lw_g (lw_at lw_m4 158 rfl) rfl
theorem q958 : (Jvm.Cond.methodLink "ClearingHouse" (244 : Nat) ({ cls := "ClearingHouse$House", name := "debtBits", desc := "()J" } : Jvm.MethodName)) ∈ lw_all := lw_g (lw_at lw_m4 159 rfl) rfl
theorem q963 : (Jvm.Cond.instanceMethod ({ cls := "ClearingHouse", name := "isConsistent", desc := "()Z" } : Jvm.MethodName)) ∈ lw_all := lw_g (lw_at lw_m4 164 rfl) rfl
theorem q964 : (Jvm.Cond.selects "ClearingHouse" ({ cls := "ClearingHouse", name := "isConsistent", desc := "()Z" } : Jvm.MethodName) ({ cls := "ClearingHouse", name := "isConsistent", desc := "()Z" } : Jvm.MethodName)) ∈ lw_all := lw_g (lw_at lw_m4 165 rfl) rfl
theorem q965 : (Jvm.Cond.code ({ cls := "ClearingHouse", name := "isConsistent", desc := "()Z" } : Jvm.MethodName) prog_1_method_50_code (1 : Nat) (Option.some Jvm.ClassFile.FieldType.boolean)) ∈ lw_all := lw_g (lw_at lw_m4 166 rfl) rfl
theorem q966 : (Jvm.Cond.methodLink "ClearingHouse" (251 : Nat) ({ cls := "ClearingHouse$House", name := "isConsistent", desc := "()Z" } : Jvm.MethodName)) ∈ lw_all := lw_g (lw_at lw_m4 167 rfl) rfl
theorem q985 : (Jvm.Cond.instanceMethod ({ cls := "ClearingHouse", name := "save", desc := "()V" } : Jvm.MethodName)) ∈ lw_all := lw_g (lw_at lw_m4 186 rfl) rfl
theorem q986 : (Jvm.Cond.selects "ClearingHouse" ({ cls := "ClearingHouse", name := "save", desc := "()V" } : Jvm.MethodName) ({ cls := "ClearingHouse", name := "save", desc := "()V" } : Jvm.MethodName)) ∈ lw_all := lw_g (lw_at lw_m4 187 rfl) rfl
theorem q987 : (Jvm.Cond.code ({ cls := "ClearingHouse", name := "save", desc := "()V" } : Jvm.MethodName) prog_1_method_61_code (1 : Nat) (Option.none : Option Jvm.ClassFile.FieldType)) ∈ lw_all := lw_g (lw_at lw_m4 188 rfl) rfl
theorem q994 : (Jvm.Cond.instanceMethod ({ cls := "ClearingHouse", name := "addParty", desc := "(I)I" } : Jvm.MethodName)) ∈ lw_all := lw_g (lw_at lw_m4 195 rfl) rfl
theorem q995 : (Jvm.Cond.selects "ClearingHouse" ({ cls := "ClearingHouse", name := "addParty", desc := "(I)I" } : Jvm.MethodName) ({ cls := "ClearingHouse", name := "addParty", desc := "(I)I" } : Jvm.MethodName)) ∈ lw_all := lw_g (lw_at lw_m4 196 rfl) rfl
theorem q996 : (Jvm.Cond.code ({ cls := "ClearingHouse", name := "addParty", desc := "(I)I" } : Jvm.MethodName) prog_1_method_11_code (2 : Nat) (Option.some Jvm.ClassFile.FieldType.int)) ∈ lw_all := lw_g (lw_at lw_m4 197 rfl) rfl
theorem q997 : (Jvm.Cond.classLink "ClearingHouse" (91 : Nat) "ClearingHouse$PartyOrder") ∈ lw_all := lw_g (lw_at lw_m4 198 rfl) rfl
theorem q999 : (Jvm.Cond.methodLink "ClearingHouse" (93 : Nat) ({ cls := "ClearingHouse$PartyOrder", name := "<init>", desc := "(CII)V" } : Jvm.MethodName)) ∈ lw_all := lw_g (lw_at lw_m4 200 rfl) rfl
theorem q1041 : (Jvm.Cond.instanceMethod ({ cls := "ClearingHouse", name := "deposit", desc := "(II)I" } : Jvm.MethodName)) ∈ lw_all := lw_g (lw_at lw_m5 2 rfl) rfl
theorem q1042 : (Jvm.Cond.selects "ClearingHouse" ({ cls := "ClearingHouse", name := "deposit", desc := "(II)I" } : Jvm.MethodName) ({ cls := "ClearingHouse", name := "deposit", desc := "(II)I" } : Jvm.MethodName)) ∈ lw_all := lw_g (lw_at lw_m5 3 rfl) rfl
theorem q1043 : (Jvm.Cond.code ({ cls := "ClearingHouse", name := "deposit", desc := "(II)I" } : Jvm.MethodName) prog_1_method_12_code (3 : Nat) (Option.some Jvm.ClassFile.FieldType.int)) ∈ lw_all := lw_g (lw_at lw_m5 4 rfl) rfl
theorem q1048 : (Jvm.Cond.instanceMethod ({ cls := "ClearingHouse", name := "owe", desc := "(III)I" } : Jvm.MethodName)) ∈ lw_all := lw_g (lw_at lw_m5 9 rfl) rfl
theorem q1049 : (Jvm.Cond.selects "ClearingHouse" ({ cls := "ClearingHouse", name := "owe", desc := "(III)I" } : Jvm.MethodName) ({ cls := "ClearingHouse", name := "owe", desc := "(III)I" } : Jvm.MethodName)) ∈ lw_all := lw_g (lw_at lw_m5 10 rfl) rfl
theorem q1050 : (Jvm.Cond.code ({ cls := "ClearingHouse", name := "owe", desc := "(III)I" } : Jvm.MethodName) prog_1_method_13_code (4 : Nat) (Option.some Jvm.ClassFile.FieldType.int)) ∈ lw_all := lw_g (lw_at lw_m5 11 rfl) rfl
theorem q1051 : (Jvm.Cond.classLink "ClearingHouse" (100 : Nat) "ClearingHouse$PairOrder") ∈ lw_all := lw_g (lw_at lw_m5 12 rfl) rfl
theorem q1053 : (Jvm.Cond.methodLink "ClearingHouse" (102 : Nat) ({ cls := "ClearingHouse$PairOrder", name := "<init>", desc := "(CIII)V" } : Jvm.MethodName)) ∈ lw_all := lw_g (lw_at lw_m5 14 rfl) rfl
theorem q1075 : (Jvm.Cond.instanceMethod ({ cls := "ClearingHouse", name := "pay", desc := "(III)I" } : Jvm.MethodName)) ∈ lw_all := lw_g (lw_at lw_m5 36 rfl) rfl
theorem q1076 : (Jvm.Cond.selects "ClearingHouse" ({ cls := "ClearingHouse", name := "pay", desc := "(III)I" } : Jvm.MethodName) ({ cls := "ClearingHouse", name := "pay", desc := "(III)I" } : Jvm.MethodName)) ∈ lw_all := lw_g (lw_at lw_m5 37 rfl) rfl
theorem q1077 : (Jvm.Cond.code ({ cls := "ClearingHouse", name := "pay", desc := "(III)I" } : Jvm.MethodName) prog_1_method_14_code (4 : Nat) (Option.some Jvm.ClassFile.FieldType.int)) ∈ lw_all := lw_g (lw_at lw_m5 38 rfl) rfl
theorem q1082 : (Jvm.Cond.instanceMethod ({ cls := "ClearingHouse", name := "netPair", desc := "(II)I" } : Jvm.MethodName)) ∈ lw_all := lw_g (lw_at lw_m5 43 rfl) rfl
theorem q1083 : (Jvm.Cond.selects "ClearingHouse" ({ cls := "ClearingHouse", name := "netPair", desc := "(II)I" } : Jvm.MethodName) ({ cls := "ClearingHouse", name := "netPair", desc := "(II)I" } : Jvm.MethodName)) ∈ lw_all := lw_g (lw_at lw_m5 44 rfl) rfl
theorem q1084 : (Jvm.Cond.code ({ cls := "ClearingHouse", name := "netPair", desc := "(II)I" } : Jvm.MethodName) prog_1_method_15_code (3 : Nat) (Option.some Jvm.ClassFile.FieldType.int)) ∈ lw_all := lw_g (lw_at lw_m5 45 rfl) rfl
theorem q1090 : (Jvm.Cond.instanceMethod ({ cls := "ClearingHouse", name := "netCycle", desc := "()I" } : Jvm.MethodName)) ∈ lw_all := lw_g (lw_at lw_m5 51 rfl) rfl
theorem q1091 : (Jvm.Cond.selects "ClearingHouse" ({ cls := "ClearingHouse", name := "netCycle", desc := "()I" } : Jvm.MethodName) ({ cls := "ClearingHouse", name := "netCycle", desc := "()I" } : Jvm.MethodName)) ∈ lw_all := lw_g (lw_at lw_m5 52 rfl) rfl
theorem q1092 : (Jvm.Cond.code ({ cls := "ClearingHouse", name := "netCycle", desc := "()I" } : Jvm.MethodName) prog_1_method_16_code (1 : Nat) (Option.some Jvm.ClassFile.FieldType.int)) ∈ lw_all := lw_g (lw_at lw_m5 53 rfl) rfl
theorem q1093 : (Jvm.Cond.fieldLink "ClearingHouse" (107 : Nat) "ClearingHouse$Whole" "CYCLE" "LClearingHouse$Whole;") ∈ lw_all := lw_g (lw_at lw_m5 54 rfl) rfl
theorem q1099 : (Jvm.Cond.instanceMethod ({ cls := "ClearingHouse", name := "declareDefault", desc := "(I)I" } : Jvm.MethodName)) ∈ lw_all := lw_g (lw_at lw_m5 60 rfl) rfl
theorem q1100 : (Jvm.Cond.selects "ClearingHouse" ({ cls := "ClearingHouse", name := "declareDefault", desc := "(I)I" } : Jvm.MethodName) ({ cls := "ClearingHouse", name := "declareDefault", desc := "(I)I" } : Jvm.MethodName)) ∈ lw_all := lw_g (lw_at lw_m5 61 rfl) rfl
theorem q1101 : (Jvm.Cond.code ({ cls := "ClearingHouse", name := "declareDefault", desc := "(I)I" } : Jvm.MethodName) prog_1_method_18_code (2 : Nat) (Option.some Jvm.ClassFile.FieldType.int)) ∈ lw_all := lw_g (lw_at lw_m5 62 rfl) rfl
theorem q1106 : (Jvm.Cond.instanceMethod ({ cls := "ClearingHouse", name := "cash", desc := "(I)I" } : Jvm.MethodName)) ∈ lw_all := lw_g (lw_at lw_m5 67 rfl) rfl
theorem q1107 : (Jvm.Cond.selects "ClearingHouse" ({ cls := "ClearingHouse", name := "cash", desc := "(I)I" } : Jvm.MethodName) ({ cls := "ClearingHouse", name := "cash", desc := "(I)I" } : Jvm.MethodName)) ∈ lw_all := lw_g (lw_at lw_m5 68 rfl) rfl
theorem q1108 : (Jvm.Cond.code ({ cls := "ClearingHouse", name := "cash", desc := "(I)I" } : Jvm.MethodName) prog_1_method_22_code (2 : Nat) (Option.some Jvm.ClassFile.FieldType.int)) ∈ lw_all := lw_g (lw_at lw_m5 69 rfl) rfl
theorem q1109 : (Jvm.Cond.methodLink "ClearingHouse" (128 : Nat) ({ cls := "ClearingHouse$House", name := "requireParty", desc := "(I)V" } : Jvm.MethodName)) ∈ lw_all := lw_g (lw_at lw_m5 70 rfl) rfl
theorem q1114 : (Jvm.Cond.instanceMethod ({ cls := "ClearingHouse", name := "debt", desc := "(II)I" } : Jvm.MethodName)) ∈ lw_all := lw_g (lw_at lw_m5 75 rfl) rfl
theorem q1115 : (Jvm.Cond.selects "ClearingHouse" ({ cls := "ClearingHouse", name := "debt", desc := "(II)I" } : Jvm.MethodName) ({ cls := "ClearingHouse", name := "debt", desc := "(II)I" } : Jvm.MethodName)) ∈ lw_all := lw_g (lw_at lw_m5 76 rfl) rfl
theorem q1116 : (Jvm.Cond.code ({ cls := "ClearingHouse", name := "debt", desc := "(II)I" } : Jvm.MethodName) prog_1_method_23_code (3 : Nat) (Option.some Jvm.ClassFile.FieldType.int)) ∈ lw_all := lw_g (lw_at lw_m5 77 rfl) rfl
theorem q1117 : (Jvm.Cond.methodLink "ClearingHouse" (136 : Nat) ({ cls := "ClearingHouse$House", name := "requireBoth", desc := "(II)V" } : Jvm.MethodName)) ∈ lw_all := lw_g (lw_at lw_m5 78 rfl) rfl
theorem q1122 : (Jvm.Cond.instanceMethod ({ cls := "ClearingHouse", name := "claims", desc := "(I)I" } : Jvm.MethodName)) ∈ lw_all := lw_g (lw_at lw_m5 83 rfl) rfl
theorem q1123 : (Jvm.Cond.selects "ClearingHouse" ({ cls := "ClearingHouse", name := "claims", desc := "(I)I" } : Jvm.MethodName) ({ cls := "ClearingHouse", name := "claims", desc := "(I)I" } : Jvm.MethodName)) ∈ lw_all := lw_g (lw_at lw_m5 84 rfl) rfl
theorem q1124 : (Jvm.Cond.code ({ cls := "ClearingHouse", name := "claims", desc := "(I)I" } : Jvm.MethodName) prog_1_method_24_code (2 : Nat) (Option.some Jvm.ClassFile.FieldType.int)) ∈ lw_all := lw_g (lw_at lw_m5 85 rfl) rfl
theorem q1125 : (Jvm.Cond.methodLink "ClearingHouse" (144 : Nat) ({ cls := "ClearingHouse$House", name := "claims", desc := "(I)I" } : Jvm.MethodName)) ∈ lw_all := lw_g (lw_at lw_m5 86 rfl) rfl
theorem q1130 : (Jvm.Cond.instanceMethod ({ cls := "ClearingHouse", name := "obligations", desc := "(I)I" } : Jvm.MethodName)) ∈ lw_all := lw_g (lw_at lw_m5 91 rfl) rfl
theorem q1131 : (Jvm.Cond.selects "ClearingHouse" ({ cls := "ClearingHouse", name := "obligations", desc := "(I)I" } : Jvm.MethodName) ({ cls := "ClearingHouse", name := "obligations", desc := "(I)I" } : Jvm.MethodName)) ∈ lw_all := lw_g (lw_at lw_m5 92 rfl) rfl
theorem q1132 : (Jvm.Cond.code ({ cls := "ClearingHouse", name := "obligations", desc := "(I)I" } : Jvm.MethodName) prog_1_method_25_code (2 : Nat) (Option.some Jvm.ClassFile.FieldType.int)) ∈ lw_all := lw_g (lw_at lw_m5 93 rfl) rfl
theorem q1133 : (Jvm.Cond.methodLink "ClearingHouse" (148 : Nat) ({ cls := "ClearingHouse$House", name := "obligations", desc := "(I)I" } : Jvm.MethodName)) ∈ lw_all := lw_g (lw_at lw_m5 94 rfl) rfl
theorem q1138 : (Jvm.Cond.instanceMethod ({ cls := "ClearingHouse", name := "netPosition", desc := "(I)I" } : Jvm.MethodName)) ∈ lw_all := lw_g (lw_at lw_m5 99 rfl) rfl
theorem q1139 : (Jvm.Cond.selects "ClearingHouse" ({ cls := "ClearingHouse", name := "netPosition", desc := "(I)I" } : Jvm.MethodName) ({ cls := "ClearingHouse", name := "netPosition", desc := "(I)I" } : Jvm.MethodName)) ∈ lw_all := lw_g (lw_at lw_m5 100 rfl) rfl
theorem q1140 : (Jvm.Cond.code ({ cls := "ClearingHouse", name := "netPosition", desc := "(I)I" } : Jvm.MethodName) prog_1_method_26_code (2 : Nat) (Option.some Jvm.ClassFile.FieldType.int)) ∈ lw_all := lw_g (lw_at lw_m5 101 rfl) rfl
theorem q1141 : (Jvm.Cond.methodLink "ClearingHouse" (151 : Nat) ({ cls := "ClearingHouse$House", name := "netPosition", desc := "(I)I" } : Jvm.MethodName)) ∈ lw_all := lw_g (lw_at lw_m5 102 rfl) rfl
theorem q1146 : (Jvm.Cond.instanceMethod ({ cls := "ClearingHouse", name := "isInsolvent", desc := "(I)Z" } : Jvm.MethodName)) ∈ lw_all := lw_g (lw_at lw_m5 107 rfl) rfl
theorem q1147 : (Jvm.Cond.selects "ClearingHouse" ({ cls := "ClearingHouse", name := "isInsolvent", desc := "(I)Z" } : Jvm.MethodName) ({ cls := "ClearingHouse", name := "isInsolvent", desc := "(I)Z" } : Jvm.MethodName)) ∈ lw_all := lw_g (lw_at lw_m5 108 rfl) rfl
theorem q1148 : (Jvm.Cond.code ({ cls := "ClearingHouse", name := "isInsolvent", desc := "(I)Z" } : Jvm.MethodName) prog_1_method_27_code (2 : Nat) (Option.some Jvm.ClassFile.FieldType.boolean)) ∈ lw_all := lw_g (lw_at lw_m5 109 rfl) rfl
theorem q1149 : (Jvm.Cond.methodLink "ClearingHouse" (154 : Nat) ({ cls := "ClearingHouse$House", name := "isInsolvent", desc := "(I)Z" } : Jvm.MethodName)) ∈ lw_all := lw_g (lw_at lw_m5 110 rfl) rfl
theorem q1154 : (Jvm.Cond.instanceMethod ({ cls := "ClearingHouse", name := "partyAtRank", desc := "(I)I" } : Jvm.MethodName)) ∈ lw_all := lw_g (lw_at lw_m5 115 rfl) rfl
theorem q1155 : (Jvm.Cond.selects "ClearingHouse" ({ cls := "ClearingHouse", name := "partyAtRank", desc := "(I)I" } : Jvm.MethodName) ({ cls := "ClearingHouse", name := "partyAtRank", desc := "(I)I" } : Jvm.MethodName)) ∈ lw_all := lw_g (lw_at lw_m5 116 rfl) rfl
theorem q1156 : (Jvm.Cond.code ({ cls := "ClearingHouse", name := "partyAtRank", desc := "(I)I" } : Jvm.MethodName) prog_1_method_28_code (2 : Nat) (Option.some Jvm.ClassFile.FieldType.int)) ∈ lw_all := lw_g (lw_at lw_m5 117 rfl) rfl
theorem q1157 : (Jvm.Cond.methodLink "ClearingHouse" (158 : Nat) ({ cls := "ClearingHouse$House", name := "partyAtRank", desc := "(I)I" } : Jvm.MethodName)) ∈ lw_all := lw_g (lw_at lw_m5 118 rfl) rfl
theorem q1165 : (Jvm.Cond.methodLink "ClearingHouse" (161 : Nat) ({ cls := "ClearingHouse", name := "requireFound", desc := "(I)I" } : Jvm.MethodName)) ∈ lw_all := lw_g (lw_at lw_m5 126 rfl) rfl
theorem q1166 : (Jvm.Cond.static ({ cls := "ClearingHouse", name := "requireFound", desc := "(I)I" } : Jvm.MethodName)) ∈ lw_all := lw_g (lw_at lw_m5 127 rfl) rfl
theorem q1167 : (Jvm.Cond.code ({ cls := "ClearingHouse", name := "requireFound", desc := "(I)I" } : Jvm.MethodName) prog_1_method_6_code (1 : Nat) (Option.some Jvm.ClassFile.FieldType.int)) ∈ lw_all := lw_g (lw_at lw_m5 128 rfl) rfl
theorem q1168 : (Jvm.Cond.classLink "ClearingHouse" (22 : Nat) "java/util/NoSuchElementException") ∈ lw_all := lw_g (lw_at lw_m5 129 rfl) rfl
theorem q1169 : (Jvm.Cond.methodLink "ClearingHouse" (24 : Nat) ({ cls := "java/util/NoSuchElementException", name := "<init>", desc := "()V" } : Jvm.MethodName)) ∈ lw_all := lw_g (lw_at lw_m5 130 rfl) rfl
theorem q1174 : (Jvm.Cond.instanceMethod ({ cls := "ClearingHouse", name := "cycleSize", desc := "()I" } : Jvm.MethodName)) ∈ lw_all := lw_g (lw_at lw_m5 135 rfl) rfl
theorem q1175 : (Jvm.Cond.selects "ClearingHouse" ({ cls := "ClearingHouse", name := "cycleSize", desc := "()I" } : Jvm.MethodName) ({ cls := "ClearingHouse", name := "cycleSize", desc := "()I" } : Jvm.MethodName)) ∈ lw_all := lw_g (lw_at lw_m5 136 rfl) rfl
theorem q1176 : (Jvm.Cond.code ({ cls := "ClearingHouse", name := "cycleSize", desc := "()I" } : Jvm.MethodName) prog_1_method_31_code (1 : Nat) (Option.some Jvm.ClassFile.FieldType.int)) ∈ lw_all := lw_g (lw_at lw_m5 137 rfl) rfl
theorem q1177 : (Jvm.Cond.methodLink "ClearingHouse" (171 : Nat) ({ cls := "ClearingHouse$House", name := "requireCycle", desc := "()LClearingHouse$Cycle;" } : Jvm.MethodName)) ∈ lw_all := lw_g (lw_at lw_m5 138 rfl) rfl
theorem q1178 : (Jvm.Cond.methodLink "ClearingHouse" (175 : Nat) ({ cls := "ClearingHouse$Cycle", name := "size", desc := "()I" } : Jvm.MethodName)) ∈ lw_all := lw_g (lw_at lw_m5 139 rfl) rfl
theorem q1183 : (Jvm.Cond.instanceMethod ({ cls := "ClearingHouse", name := "cycleParty", desc := "(I)I" } : Jvm.MethodName)) ∈ lw_all := lw_g (lw_at lw_m5 144 rfl) rfl
theorem q1184 : (Jvm.Cond.selects "ClearingHouse" ({ cls := "ClearingHouse", name := "cycleParty", desc := "(I)I" } : Jvm.MethodName) ({ cls := "ClearingHouse", name := "cycleParty", desc := "(I)I" } : Jvm.MethodName)) ∈ lw_all := lw_g (lw_at lw_m5 145 rfl) rfl
theorem q1185 : (Jvm.Cond.code ({ cls := "ClearingHouse", name := "cycleParty", desc := "(I)I" } : Jvm.MethodName) prog_1_method_32_code (3 : Nat) (Option.some Jvm.ClassFile.FieldType.int)) ∈ lw_all := lw_g (lw_at lw_m5 146 rfl) rfl
theorem q1186 : (Jvm.Cond.methodLink "ClearingHouse" (178 : Nat) ({ cls := "ClearingHouse", name := "requireIndex", desc := "(II)V" } : Jvm.MethodName)) ∈ lw_all := lw_g (lw_at lw_m5 147 rfl) rfl
theorem q1187 : (Jvm.Cond.methodLink "ClearingHouse" (181 : Nat) ({ cls := "ClearingHouse$Cycle", name := "party", desc := "(I)I" } : Jvm.MethodName)) ∈ lw_all := lw_g (lw_at lw_m5 148 rfl) rfl
theorem q1192 : (Jvm.Cond.instanceMethod ({ cls := "ClearingHouse", name := "cycleAmount", desc := "()I" } : Jvm.MethodName)) ∈ lw_all := lw_g (lw_at lw_m5 153 rfl) rfl
theorem q1193 : (Jvm.Cond.selects "ClearingHouse" ({ cls := "ClearingHouse", name := "cycleAmount", desc := "()I" } : Jvm.MethodName) ({ cls := "ClearingHouse", name := "cycleAmount", desc := "()I" } : Jvm.MethodName)) ∈ lw_all := lw_g (lw_at lw_m5 154 rfl) rfl
theorem q1194 : (Jvm.Cond.code ({ cls := "ClearingHouse", name := "cycleAmount", desc := "()I" } : Jvm.MethodName) prog_1_method_33_code (1 : Nat) (Option.some Jvm.ClassFile.FieldType.int)) ∈ lw_all := lw_g (lw_at lw_m5 155 rfl) rfl
theorem q1199 : (Jvm.Cond.instanceMethod ({ cls := "ClearingHouse", name := "shareOf", desc := "(II)I" } : Jvm.MethodName)) ∈ lw_all := lw_g (lw_at lw_m5 160 rfl) rfl
theorem q1200 : (Jvm.Cond.selects "ClearingHouse" ({ cls := "ClearingHouse", name := "shareOf", desc := "(II)I" } : Jvm.MethodName) ({ cls := "ClearingHouse", name := "shareOf", desc := "(II)I" } : Jvm.MethodName)) ∈ lw_all := lw_g (lw_at lw_m5 161 rfl) rfl
theorem q1201 : (Jvm.Cond.code ({ cls := "ClearingHouse", name := "shareOf", desc := "(II)I" } : Jvm.MethodName) prog_1_method_37_code (3 : Nat) (Option.some Jvm.ClassFile.FieldType.int)) ∈ lw_all := lw_g (lw_at lw_m5 162 rfl) rfl
theorem q1202 : (Jvm.Cond.methodLink "ClearingHouse" (200 : Nat) ({ cls := "ClearingHouse", name := "requireShares", desc := "(II)LClearingHouse$Shares;" } : Jvm.MethodName)) ∈ lw_all := lw_g (lw_at lw_m5 163 rfl) rfl
theorem q1203 : (Jvm.Cond.privateMethod ({ cls := "ClearingHouse", name := "requireShares", desc := "(II)LClearingHouse$Shares;" } : Jvm.MethodName)) ∈ lw_tbl := lw_at lw_m5 164 rfl
theorem q1204 : (Jvm.Cond.instanceMethod ({ cls := "ClearingHouse", name := "requireShares", desc := "(II)LClearingHouse$Shares;" } : Jvm.MethodName)) ∈ lw_all := lw_g (lw_at lw_m5 165 rfl) rfl
theorem q1205 : (Jvm.Cond.code ({ cls := "ClearingHouse", name := "requireShares", desc := "(II)LClearingHouse$Shares;" } : Jvm.MethodName) prog_1_method_36_code (3 : Nat) (Option.some (Jvm.ClassFile.FieldType.object "ClearingHouse$Shares"))) ∈ lw_all := lw_g (lw_at lw_m5 166 rfl) rfl
theorem q1206 : (Jvm.Cond.methodLink "ClearingHouse" (193 : Nat) ({ cls := "ClearingHouse$House", name := "requireInsolvent", desc := "(I)V" } : Jvm.MethodName)) ∈ lw_all := lw_g (lw_at lw_m5 167 rfl) rfl
theorem q1207 : (Jvm.Cond.methodLink "ClearingHouse" (196 : Nat) ({ cls := "ClearingHouse$House", name := "shares", desc := "(I)LClearingHouse$Shares;" } : Jvm.MethodName)) ∈ lw_all := lw_g (lw_at lw_m5 168 rfl) rfl
theorem q1208 : (Jvm.Cond.methodLink "ClearingHouse" (204 : Nat) ({ cls := "ClearingHouse$Shares", name := "give", desc := "()[I" } : Jvm.MethodName)) ∈ lw_all := lw_g (lw_at lw_m5 169 rfl) rfl
theorem q1213 : (Jvm.Cond.instanceMethod ({ cls := "ClearingHouse", name := "shareByCounting", desc := "(II)I" } : Jvm.MethodName)) ∈ lw_all := lw_g (lw_at lw_m5 174 rfl) rfl
theorem q1214 : (Jvm.Cond.selects "ClearingHouse" ({ cls := "ClearingHouse", name := "shareByCounting", desc := "(II)I" } : Jvm.MethodName) ({ cls := "ClearingHouse", name := "shareByCounting", desc := "(II)I" } : Jvm.MethodName)) ∈ lw_all := lw_g (lw_at lw_m5 175 rfl) rfl
theorem q1215 : (Jvm.Cond.code ({ cls := "ClearingHouse", name := "shareByCounting", desc := "(II)I" } : Jvm.MethodName) prog_1_method_38_code (3 : Nat) (Option.some Jvm.ClassFile.FieldType.int)) ∈ lw_all := lw_g (lw_at lw_m5 176 rfl) rfl
theorem q1216 : (Jvm.Cond.methodLink "ClearingHouse" (210 : Nat) ({ cls := "ClearingHouse$Shares", name := "byCounting", desc := "(I)I" } : Jvm.MethodName)) ∈ lw_all := lw_g (lw_at lw_m5 177 rfl) rfl
theorem q1235 : (Jvm.Cond.instanceMethod ({ cls := "ClearingHouse", name := "meanObligations", desc := "()D" } : Jvm.MethodName)) ∈ lw_all := lw_g (lw_at lw_m5 196 rfl) rfl
theorem q1236 : (Jvm.Cond.selects "ClearingHouse" ({ cls := "ClearingHouse", name := "meanObligations", desc := "()D" } : Jvm.MethodName) ({ cls := "ClearingHouse", name := "meanObligations", desc := "()D" } : Jvm.MethodName)) ∈ lw_all := lw_g (lw_at lw_m5 197 rfl) rfl
theorem q1237 : (Jvm.Cond.code ({ cls := "ClearingHouse", name := "meanObligations", desc := "()D" } : Jvm.MethodName) prog_1_method_48_code (1 : Nat) (Option.some Jvm.ClassFile.FieldType.double)) ∈ lw_all := lw_g (lw_at lw_m5 198 rfl) rfl
theorem q1238 : (Jvm.Cond.methodLink "ClearingHouse" (248 : Nat) ({ cls := "ClearingHouse", name := "requireSome", desc := "(I)V" } : Jvm.MethodName)) ∈ lw_all := lw_g (lw_at lw_m5 199 rfl) rfl
theorem q1239 : (Jvm.Cond.static ({ cls := "ClearingHouse", name := "requireSome", desc := "(I)V" } : Jvm.MethodName)) ∈ lw_all := lw_g (lw_at lw_m5 200 rfl) rfl
theorem q1240 : (Jvm.Cond.code ({ cls := "ClearingHouse", name := "requireSome", desc := "(I)V" } : Jvm.MethodName) prog_1_method_7_code (1 : Nat) (Option.none : Option Jvm.ClassFile.FieldType)) ∈ lw_all := lw_g (lw_at lw_m5 201 rfl) rfl
theorem q1241 : (Jvm.Cond.classLink "ClearingHouse" (25 : Nat) "java/lang/ArithmeticException") ∈ lw_all := lw_g (lw_at lw_m5 202 rfl) rfl
theorem q1242 : (Jvm.Cond.methodLink "ClearingHouse" (27 : Nat) ({ cls := "java/lang/ArithmeticException", name := "<init>", desc := "()V" } : Jvm.MethodName)) ∈ lw_all := lw_g (lw_at lw_m5 203 rfl) rfl
theorem q1250 : (Jvm.Cond.instanceMethod ({ cls := "ClearingHouse", name := "coverage", desc := "()F" } : Jvm.MethodName)) ∈ lw_all := lw_g (lw_at lw_m5 211 rfl) rfl
theorem q1251 : (Jvm.Cond.selects "ClearingHouse" ({ cls := "ClearingHouse", name := "coverage", desc := "()F" } : Jvm.MethodName) ({ cls := "ClearingHouse", name := "coverage", desc := "()F" } : Jvm.MethodName)) ∈ lw_all := lw_g (lw_at lw_m5 212 rfl) rfl
theorem q1252 : (Jvm.Cond.code ({ cls := "ClearingHouse", name := "coverage", desc := "()F" } : Jvm.MethodName) prog_1_method_49_code (1 : Nat) (Option.some Jvm.ClassFile.FieldType.float)) ∈ lw_all := lw_g (lw_at lw_m5 213 rfl) rfl
theorem q1257 : (Jvm.Cond.instanceMethod ({ cls := "ClearingHouse", name := "append", desc := "(C)I" } : Jvm.MethodName)) ∈ lw_all := lw_g (lw_at lw_m5 218 rfl) rfl
theorem q1258 : (Jvm.Cond.selects "ClearingHouse" ({ cls := "ClearingHouse", name := "append", desc := "(C)I" } : Jvm.MethodName) ({ cls := "ClearingHouse", name := "append", desc := "(C)I" } : Jvm.MethodName)) ∈ lw_all := lw_g (lw_at lw_m5 219 rfl) rfl
theorem q1259 : (Jvm.Cond.code ({ cls := "ClearingHouse", name := "append", desc := "(C)I" } : Jvm.MethodName) prog_1_method_51_code (2 : Nat) (Option.some Jvm.ClassFile.FieldType.int)) ∈ lw_all := lw_g (lw_at lw_m5 220 rfl) rfl
theorem q1260 : (Jvm.Cond.methodLink "ClearingHouse" (254 : Nat) ({ cls := "java/lang/StringBuilder", name := "length", desc := "()I" } : Jvm.MethodName)) ∈ lw_all := lw_g (lw_at lw_m5 221 rfl) rfl
theorem q1267 : (Jvm.Cond.methodLink "ClearingHouse" (257 : Nat) ({ cls := "ClearingHouse", name := "requireState", desc := "(Z)V" } : Jvm.MethodName)) ∈ lw_all := lw_g (lw_at lw_m5 228 rfl) rfl
theorem q1268 : (Jvm.Cond.methodLink "ClearingHouse" (261 : Nat) ({ cls := "java/lang/StringBuilder", name := "append", desc := "(C)Ljava/lang/StringBuilder;" } : Jvm.MethodName)) ∈ lw_all := lw_g (lw_at lw_m5 229 rfl) rfl
theorem q1359 : (Jvm.Cond.instanceMethod ({ cls := "ClearingHouse", name := "run", desc := "()I" } : Jvm.MethodName)) ∈ lw_all := lw_g (lw_at lw_m6 80 rfl) rfl
theorem q1360 : (Jvm.Cond.selects "ClearingHouse" ({ cls := "ClearingHouse", name := "run", desc := "()I" } : Jvm.MethodName) ({ cls := "ClearingHouse", name := "run", desc := "()I" } : Jvm.MethodName)) ∈ lw_all := lw_g (lw_at lw_m6 81 rfl) rfl
theorem q1361 : (Jvm.Cond.codeWith ({ cls := "ClearingHouse", name := "run", desc := "()I" } : Jvm.MethodName) prog_1_method_53_code (7 : Nat) (Option.some Jvm.ClassFile.FieldType.int) [((19 : Nat), (65 : Nat), (68 : Nat), (7 : Nat)), ((19 : Nat), (65 : Nat), (68 : Nat), (13 : Nat)), ((19 : Nat), (65 : Nat), (68 : Nat), (16 : Nat)), ((19 : Nat), (65 : Nat), (68 : Nat), (22 : Nat)), ((19 : Nat), (65 : Nat), (68 : Nat), (19 : Nat))]) ∈ lw_all := lw_g (lw_at lw_m6 82 rfl) rfl
theorem q1362 : (Jvm.Cond.methodLink "ClearingHouse" (282 : Nat) ({ cls := "ClearingHouse", name := "parseBuffer", desc := "()Ljava/util/List;" } : Jvm.MethodName)) ∈ lw_all := lw_g (lw_at lw_m6 83 rfl) rfl
theorem q1363 : (Jvm.Cond.privateMethod ({ cls := "ClearingHouse", name := "parseBuffer", desc := "()Ljava/util/List;" } : Jvm.MethodName)) ∈ lw_tbl := lw_at lw_m6 84 rfl
theorem q1364 : (Jvm.Cond.instanceMethod ({ cls := "ClearingHouse", name := "parseBuffer", desc := "()Ljava/util/List;" } : Jvm.MethodName)) ∈ lw_all := lw_g (lw_at lw_m6 85 rfl) rfl
theorem q1365 : (Jvm.Cond.codeWith ({ cls := "ClearingHouse", name := "parseBuffer", desc := "()Ljava/util/List;" } : Jvm.MethodName) prog_1_method_52_code (3 : Nat) (Option.some (Jvm.ClassFile.FieldType.object "java/util/List")) [((17 : Nat), (21 : Nat), (22 : Nat), (277 : Nat))]) ∈ lw_all := lw_g (lw_at lw_m6 86 rfl) rfl
theorem q1366 : (Jvm.Cond.classLink "ClearingHouse" (277 : Nat) "ClearingHouse$SyntaxException") ∈ lw_all := lw_g (lw_at lw_m6 87 rfl) rfl
theorem q1367 : (Jvm.Cond.classLink "ClearingHouse" (265 : Nat) "ClearingHouse$Parser") ∈ lw_all := lw_g (lw_at lw_m6 88 rfl) rfl
theorem q1369 : (Jvm.Cond.methodLinkNest "ClearingHouse" (267 : Nat) ({ cls := "ClearingHouse$Parser", name := "<init>", desc := "(LClearingHouse;)V" } : Jvm.MethodName) "ClearingHouse") ∈ lw_tbl := lw_at lw_m6 90 rfl
theorem q1512 : (Jvm.Cond.methodLink "ClearingHouse" (270 : Nat) ({ cls := "java/lang/StringBuilder", name := "setLength", desc := "(I)V" } : Jvm.MethodName)) ∈ lw_all := lw_g (lw_at lw_m6 233 rfl) rfl
theorem q1564 : (Jvm.Cond.methodLink "ClearingHouse" (273 : Nat) ({ cls := "ClearingHouse$Parser", name := "parseProgram", desc := "()Ljava/util/List;" } : Jvm.MethodName)) ∈ lw_all := lw_g (lw_at lw_m7 45 rfl) rfl
theorem q1636 : (Jvm.Cond.fieldLinkNest "ClearingHouse" (279 : Nat) "ClearingHouse$SyntaxException" "position" "I" "ClearingHouse") ∈ lw_tbl := lw_at lw_m7 117 rfl
theorem q1737 : (Jvm.Cond.interfaceEntry "ClearingHouse" (285 : Nat)) ∈ lw_tbl := lw_at lw_m7 218 rfl
theorem q1738 : (Jvm.Cond.methodLink "ClearingHouse" (285 : Nat) ({ cls := "java/util/List", name := "iterator", desc := "()Ljava/util/Iterator;" } : Jvm.MethodName)) ∈ lw_all := lw_g (lw_at lw_m7 219 rfl) rfl
theorem q1765 : (Jvm.Cond.interfaceEntry "ClearingHouse" (291 : Nat)) ∈ lw_tbl := lw_at lw_m8 6 rfl
theorem q1766 : (Jvm.Cond.methodLink "ClearingHouse" (291 : Nat) ({ cls := "java/util/Iterator", name := "hasNext", desc := "()Z" } : Jvm.MethodName)) ∈ lw_all := lw_g (lw_at lw_m8 7 rfl) rfl
theorem q1775 : (Jvm.Cond.interfaceEntry "ClearingHouse" (296 : Nat)) ∈ lw_tbl := lw_at lw_m8 16 rfl
theorem q1776 : (Jvm.Cond.methodLink "ClearingHouse" (296 : Nat) ({ cls := "java/util/Iterator", name := "next", desc := "()Ljava/lang/Object;" } : Jvm.MethodName)) ∈ lw_all := lw_g (lw_at lw_m8 17 rfl) rfl
theorem q1790 : (Jvm.Cond.classLink "ClearingHouse" (83 : Nat) "ClearingHouse$Order") ∈ lw_all := lw_g (lw_at lw_m8 31 rfl) rfl
theorem q1795 : (Jvm.Cond.instanceMethod ({ cls := "ClearingHouse", name := "errorPosition", desc := "()I" } : Jvm.MethodName)) ∈ lw_all := lw_g (lw_at lw_m8 36 rfl) rfl
theorem q1796 : (Jvm.Cond.selects "ClearingHouse" ({ cls := "ClearingHouse", name := "errorPosition", desc := "()I" } : Jvm.MethodName) ({ cls := "ClearingHouse", name := "errorPosition", desc := "()I" } : Jvm.MethodName)) ∈ lw_all := lw_g (lw_at lw_m8 37 rfl) rfl
theorem q1797 : (Jvm.Cond.code ({ cls := "ClearingHouse", name := "errorPosition", desc := "()I" } : Jvm.MethodName) prog_1_method_54_code (1 : Nat) (Option.some Jvm.ClassFile.FieldType.int)) ∈ lw_all := lw_g (lw_at lw_m8 38 rfl) rfl
theorem q1802 : (Jvm.Cond.instanceMethod ({ cls := "ClearingHouse", name := "failedCommand", desc := "()I" } : Jvm.MethodName)) ∈ lw_all := lw_g (lw_at lw_m8 43 rfl) rfl
theorem q1803 : (Jvm.Cond.selects "ClearingHouse" ({ cls := "ClearingHouse", name := "failedCommand", desc := "()I" } : Jvm.MethodName) ({ cls := "ClearingHouse", name := "failedCommand", desc := "()I" } : Jvm.MethodName)) ∈ lw_all := lw_g (lw_at lw_m8 44 rfl) rfl
theorem q1804 : (Jvm.Cond.code ({ cls := "ClearingHouse", name := "failedCommand", desc := "()I" } : Jvm.MethodName) prog_1_method_55_code (1 : Nat) (Option.some Jvm.ClassFile.FieldType.int)) ∈ lw_all := lw_g (lw_at lw_m8 45 rfl) rfl
theorem q1809 : (Jvm.Cond.instanceMethod ({ cls := "ClearingHouse", name := "writeParty", desc := "(I)I" } : Jvm.MethodName)) ∈ lw_all := lw_g (lw_at lw_m8 50 rfl) rfl
theorem q1810 : (Jvm.Cond.selects "ClearingHouse" ({ cls := "ClearingHouse", name := "writeParty", desc := "(I)I" } : Jvm.MethodName) ({ cls := "ClearingHouse", name := "writeParty", desc := "(I)I" } : Jvm.MethodName)) ∈ lw_all := lw_g (lw_at lw_m8 51 rfl) rfl
theorem q1811 : (Jvm.Cond.code ({ cls := "ClearingHouse", name := "writeParty", desc := "(I)I" } : Jvm.MethodName) prog_1_method_57_code (2 : Nat) (Option.some Jvm.ClassFile.FieldType.int)) ∈ lw_all := lw_g (lw_at lw_m8 52 rfl) rfl
theorem q1812 : (Jvm.Cond.methodLink "ClearingHouse" (302 : Nat) ({ cls := "ClearingHouse$House", name := "describe", desc := "(I)Ljava/lang/String;" } : Jvm.MethodName)) ∈ lw_all := lw_g (lw_at lw_m8 53 rfl) rfl
theorem q1821 : (Jvm.Cond.methodLink "ClearingHouse" (306 : Nat) ({ cls := "ClearingHouse", name := "write", desc := "(Ljava/lang/String;)I" } : Jvm.MethodName)) ∈ lw_all := lw_g (lw_at lw_m8 62 rfl) rfl
theorem q1822 : (Jvm.Cond.privateMethod ({ cls := "ClearingHouse", name := "write", desc := "(Ljava/lang/String;)I" } : Jvm.MethodName)) ∈ lw_tbl := lw_at lw_m8 63 rfl
theorem q1823 : (Jvm.Cond.instanceMethod ({ cls := "ClearingHouse", name := "write", desc := "(Ljava/lang/String;)I" } : Jvm.MethodName)) ∈ lw_all := lw_g (lw_at lw_m8 64 rfl) rfl
theorem q1824 : (Jvm.Cond.code ({ cls := "ClearingHouse", name := "write", desc := "(Ljava/lang/String;)I" } : Jvm.MethodName) prog_1_method_56_code (2 : Nat) (Option.some Jvm.ClassFile.FieldType.int)) ∈ lw_all := lw_g (lw_at lw_m8 65 rfl) rfl
theorem q1825 : (Jvm.Cond.methodLink "ClearingHouse" (299 : Nat) ({ cls := "java/lang/String", name := "length", desc := "()I" } : Jvm.MethodName)) ∈ lw_all := lw_g (lw_at lw_m8 66 rfl) rfl
theorem q1830 : (Jvm.Cond.instanceMethod ({ cls := "ClearingHouse", name := "writeCycle", desc := "()I" } : Jvm.MethodName)) ∈ lw_all := lw_g (lw_at lw_m8 71 rfl) rfl
theorem q1831 : (Jvm.Cond.selects "ClearingHouse" ({ cls := "ClearingHouse", name := "writeCycle", desc := "()I" } : Jvm.MethodName) ({ cls := "ClearingHouse", name := "writeCycle", desc := "()I" } : Jvm.MethodName)) ∈ lw_all := lw_g (lw_at lw_m8 72 rfl) rfl
theorem q1832 : (Jvm.Cond.code ({ cls := "ClearingHouse", name := "writeCycle", desc := "()I" } : Jvm.MethodName) prog_1_method_58_code (1 : Nat) (Option.some Jvm.ClassFile.FieldType.int)) ∈ lw_all := lw_g (lw_at lw_m8 73 rfl) rfl
theorem q1833 : (Jvm.Cond.methodLink "ClearingHouse" (310 : Nat) ({ cls := "ClearingHouse$Cycle", name := "toString", desc := "()Ljava/lang/String;" } : Jvm.MethodName)) ∈ lw_all := lw_g (lw_at lw_m8 74 rfl) rfl
theorem q1849 : (Jvm.Cond.instanceMethod ({ cls := "ClearingHouse", name := "outputAt", desc := "(I)C" } : Jvm.MethodName)) ∈ lw_all := lw_g (lw_at lw_m8 90 rfl) rfl
theorem q1850 : (Jvm.Cond.selects "ClearingHouse" ({ cls := "ClearingHouse", name := "outputAt", desc := "(I)C" } : Jvm.MethodName) ({ cls := "ClearingHouse", name := "outputAt", desc := "(I)C" } : Jvm.MethodName)) ∈ lw_all := lw_g (lw_at lw_m8 91 rfl) rfl
theorem q1851 : (Jvm.Cond.code ({ cls := "ClearingHouse", name := "outputAt", desc := "(I)C" } : Jvm.MethodName) prog_1_method_59_code (2 : Nat) (Option.some Jvm.ClassFile.FieldType.char)) ∈ lw_all := lw_g (lw_at lw_m8 92 rfl) rfl
theorem q1852 : (Jvm.Cond.methodLink "ClearingHouse" (314 : Nat) ({ cls := "java/lang/String", name := "charAt", desc := "(I)C" } : Jvm.MethodName)) ∈ lw_all := lw_g (lw_at lw_m8 93 rfl) rfl
theorem q1857 : (Jvm.Cond.instanceMethod ({ cls := "ClearingHouse", name := "undo", desc := "()I" } : Jvm.MethodName)) ∈ lw_all := lw_g (lw_at lw_m8 98 rfl) rfl
theorem q1858 : (Jvm.Cond.selects "ClearingHouse" ({ cls := "ClearingHouse", name := "undo", desc := "()I" } : Jvm.MethodName) ({ cls := "ClearingHouse", name := "undo", desc := "()I" } : Jvm.MethodName)) ∈ lw_all := lw_g (lw_at lw_m8 99 rfl) rfl
theorem q1859 : (Jvm.Cond.code ({ cls := "ClearingHouse", name := "undo", desc := "()I" } : Jvm.MethodName) prog_1_method_60_code (1 : Nat) (Option.some Jvm.ClassFile.FieldType.int)) ∈ lw_all := lw_g (lw_at lw_m8 100 rfl) rfl
theorem q1860 : (Jvm.Cond.interfaceEntry "ClearingHouse" (318 : Nat)) ∈ lw_tbl := lw_at lw_m8 101 rfl
theorem q1868 : (Jvm.Cond.interfaceEntry "ClearingHouse" (321 : Nat)) ∈ lw_tbl := lw_at lw_m8 109 rfl
theorem q1869 : (Jvm.Cond.methodLink "ClearingHouse" (321 : Nat) ({ cls := "java/util/Deque", name := "removeLast", desc := "()Ljava/lang/Object;" } : Jvm.MethodName)) ∈ lw_all := lw_g (lw_at lw_m8 110 rfl) rfl
theorem q1888 : (Jvm.Cond.instanceMethod ({ cls := "ClearingHouse", name := "restore", desc := "()V" } : Jvm.MethodName)) ∈ lw_all := lw_g (lw_at lw_m8 129 rfl) rfl
theorem q1889 : (Jvm.Cond.selects "ClearingHouse" ({ cls := "ClearingHouse", name := "restore", desc := "()V" } : Jvm.MethodName) ({ cls := "ClearingHouse", name := "restore", desc := "()V" } : Jvm.MethodName)) ∈ lw_all := lw_g (lw_at lw_m8 130 rfl) rfl
theorem q1890 : (Jvm.Cond.code ({ cls := "ClearingHouse", name := "restore", desc := "()V" } : Jvm.MethodName) prog_1_method_62_code (1 : Nat) (Option.none : Option Jvm.ClassFile.FieldType)) ∈ lw_all := lw_g (lw_at lw_m8 131 rfl) rfl
theorem q1891 : (Jvm.Cond.interfaceEntry "ClearingHouse" (327 : Nat)) ∈ lw_tbl := lw_at lw_m8 132 rfl
theorem q2374 : (Jvm.Cond.castable "ClearingHouse" "java/lang/Object") ∈ lw_tbl := lw_at lw_m10 135 rfl
theorem in_X1 : ∀ w ∈ wsX10, w ∈ lw_all := lw_in wsX10 [254, 256, 258, 260, 262, 264, 266] (by decide +kernel) (by decide +kernel)
/-! ClearingHouse$House -/
set_option maxRecDepth 100000
def RX2 : String := "ClearingHouse$House"
def TX2 : u_T := fun k => match k with
  | 0 => ("ClearingHouse$House", "debts", "[[I", true)
  | 1 => ("ClearingHouse$House", "cash", "[I", true)
  | 2 => ("ClearingHouse$House", "account", "LClearingHouse$Account;", true)
  | 3 => ("ClearingHouse$House", "parties", "I", false)
  | 4 => ("ClearingHouse$House", "defaults", "I", false)
  | _ => ("ClearingHouse$House", "day", "I", false)
def tyX2 : Nat → FieldType := fun k => match k with
  | 0 => .array (.array .int)
  | 1 => .array .int
  | 2 => .object "ClearingHouse$Account"
  | 3 => .int
  | 4 => .int
  | _ => .int
abbrev wsX20 : List Cond := u_ws RX2 TX2 6
theorem nmX2 : ∀ a, a < 6 → ∀ b, b < 6 → a ≠ b → (TX2 a).2.1 ≠ (TX2 b).2.1 := by decide +kernel
theorem tyX2_ok : ∀ k, k < 6 → parseFieldDescriptor (TX2 k).2.2.1 = some (tyX2 k) := by decide +kernel
abbrev cX2_init : ByteArray := prog_4_method_1_code
def yX2_init : MethodName := ⟨RX2, "<init>", "()V"⟩
def dkwX2_init_1 : List UInt8 := [42, 187, 0, 20, 89, 183, 0, 22, 181, 0, 23, 177]
abbrev dktX2_init_1 : List UInt8 := dkwX2_init_1 ++ []
def dkwX2_init_0 : List UInt8 := [42, 183, 0, 3, 42, 16, 7, 16, 7, 197, 0, 9, 2, 181, 0, 11, 42, 16, 7, 188, 10, 181, 0, 16]
abbrev dktX2_init_0 : List UInt8 := dkwX2_init_0 ++ dktX2_init_1
theorem dksX2_init_0 : cX2_init.data.toList.drop 0 = dktX2_init_0 := by decide +kernel
theorem dksX2_init_1 : cX2_init.data.toList.drop 24 = dktX2_init_1 := dk_seg dksX2_init_0 24 rfl rfl
theorem dX2_init_0 : decode cX2_init 0 = .ok (.aload_n 0, 1) := dk_42 (dk_at dksX2_init_0 0 rfl rfl)
theorem dX2_init_1 : decode cX2_init 1 = .ok (.invokespecial 3, 3) := dk_183 0 3 (dk_at dksX2_init_0 1 rfl rfl)
theorem dX2_init_4 : decode cX2_init 4 = .ok (.aload_n 0, 1) := dk_42 (dk_at dksX2_init_0 4 rfl rfl)
theorem dX2_init_5 : decode cX2_init 5 = .ok (.bipush 7, 2) := dk_16 7 (dk_at dksX2_init_0 5 rfl rfl)
theorem dX2_init_7 : decode cX2_init 7 = .ok (.bipush 7, 2) := dk_16 7 (dk_at dksX2_init_0 7 rfl rfl)
theorem dX2_init_9 : decode cX2_init 9 = .ok (.multianewarray 9 2, 4) := by decide +kernel
theorem dX2_init_13 : decode cX2_init 13 = .ok (.putfield 11, 3) := dk_181 0 11 (dk_at dksX2_init_0 13 rfl rfl)
theorem dX2_init_16 : decode cX2_init 16 = .ok (.aload_n 0, 1) := dk_42 (dk_at dksX2_init_0 16 rfl rfl)
theorem dX2_init_17 : decode cX2_init 17 = .ok (.bipush 7, 2) := dk_16 7 (dk_at dksX2_init_0 17 rfl rfl)
theorem dX2_init_19 : decode cX2_init 19 = .ok (.newarray .int, 2) := dk_188_10 (dk_at dksX2_init_0 19 rfl rfl)
theorem dX2_init_21 : decode cX2_init 21 = .ok (.putfield 16, 3) := dk_181 0 16 (dk_at dksX2_init_0 21 rfl rfl)
theorem dX2_init_24 : decode cX2_init 24 = .ok (.aload_n 0, 1) := dk_42 (dk_at dksX2_init_1 0 rfl rfl)
theorem dX2_init_25 : decode cX2_init 25 = .ok (.new 20, 3) := dk_187 0 20 (dk_at dksX2_init_1 1 rfl rfl)
theorem dX2_init_28 : decode cX2_init 28 = .ok (.dup, 1) := dk_89 (dk_at dksX2_init_1 4 rfl rfl)
theorem dX2_init_29 : decode cX2_init 29 = .ok (.invokespecial 22, 3) := dk_183 0 22 (dk_at dksX2_init_1 5 rfl rfl)
theorem dX2_init_32 : decode cX2_init 32 = .ok (.putfield 23, 3) := dk_181 0 23 (dk_at dksX2_init_1 8 rfl rfl)
theorem dX2_init_35 : decode cX2_init 35 = .ok (.return_, 1) := dk_177 (dk_at dksX2_init_1 11 rfl rfl)
abbrev cX2_init_2 : ByteArray := prog_4_method_2_code
def yX2_init_2 : MethodName := ⟨RX2, "<init>", "(LClearingHouse$House;)V"⟩
def dkwX2_init_2_5 : List UInt8 := [43, 180, 0, 38, 181, 0, 38, 177]
abbrev dktX2_init_2_5 : List UInt8 := dkwX2_init_2_5 ++ []
def dkwX2_init_2_4 : List UInt8 := [43, 180, 0, 23, 182, 0, 27, 42, 43, 180, 0, 31, 181, 0, 31, 42, 43, 180, 0, 35, 181, 0, 35, 42]
abbrev dktX2_init_2_4 : List UInt8 := dkwX2_init_2_4 ++ dktX2_init_2_5
def dkwX2_init_2_3 : List UInt8 := [180, 0, 11, 28, 50, 29, 46, 79, 132, 3, 1, 167, 255, 231, 132, 2, 1, 167, 255, 205, 42, 180, 0, 23]
abbrev dktX2_init_2_3 : List UInt8 := dkwX2_init_2_3 ++ dktX2_init_2_4
def dkwX2_init_2_2 : List UInt8 := [43, 180, 0, 16, 28, 46, 79, 3, 62, 29, 16, 7, 162, 0, 25, 42, 180, 0, 11, 28, 50, 29, 43]
abbrev dktX2_init_2_2 : List UInt8 := dkwX2_init_2_2 ++ dktX2_init_2_3
def dkwX2_init_2_1 : List UInt8 := [42, 187, 0, 20, 89, 183, 0, 22, 181, 0, 23, 3, 61, 28, 16, 7, 162, 0, 51, 42, 180, 0, 16, 28]
abbrev dktX2_init_2_1 : List UInt8 := dkwX2_init_2_1 ++ dktX2_init_2_2
def dkwX2_init_2_0 : List UInt8 := [42, 183, 0, 3, 42, 16, 7, 16, 7, 197, 0, 9, 2, 181, 0, 11, 42, 16, 7, 188, 10, 181, 0, 16]
abbrev dktX2_init_2_0 : List UInt8 := dkwX2_init_2_0 ++ dktX2_init_2_1
theorem dksX2_init_2_0 : cX2_init_2.data.toList.drop 0 = dktX2_init_2_0 := by decide +kernel
theorem dksX2_init_2_1 : cX2_init_2.data.toList.drop 24 = dktX2_init_2_1 := dk_seg dksX2_init_2_0 24 rfl rfl
theorem dksX2_init_2_2 : cX2_init_2.data.toList.drop 48 = dktX2_init_2_2 := dk_seg dksX2_init_2_1 24 rfl rfl
theorem dksX2_init_2_3 : cX2_init_2.data.toList.drop 71 = dktX2_init_2_3 := dk_seg dksX2_init_2_2 23 rfl rfl
theorem dksX2_init_2_4 : cX2_init_2.data.toList.drop 95 = dktX2_init_2_4 := dk_seg dksX2_init_2_3 24 rfl rfl
theorem dksX2_init_2_5 : cX2_init_2.data.toList.drop 119 = dktX2_init_2_5 := dk_seg dksX2_init_2_4 24 rfl rfl
theorem dX2_init_2_0 : decode cX2_init_2 0 = .ok (.aload_n 0, 1) := dk_42 (dk_at dksX2_init_2_0 0 rfl rfl)
theorem dX2_init_2_1 : decode cX2_init_2 1 = .ok (.invokespecial 3, 3) := dk_183 0 3 (dk_at dksX2_init_2_0 1 rfl rfl)
theorem dX2_init_2_4 : decode cX2_init_2 4 = .ok (.aload_n 0, 1) := dk_42 (dk_at dksX2_init_2_0 4 rfl rfl)
theorem dX2_init_2_5 : decode cX2_init_2 5 = .ok (.bipush 7, 2) := dk_16 7 (dk_at dksX2_init_2_0 5 rfl rfl)
theorem dX2_init_2_7 : decode cX2_init_2 7 = .ok (.bipush 7, 2) := dk_16 7 (dk_at dksX2_init_2_0 7 rfl rfl)
theorem dX2_init_2_9 : decode cX2_init_2 9 = .ok (.multianewarray 9 2, 4) := by decide +kernel
theorem dX2_init_2_13 : decode cX2_init_2 13 = .ok (.putfield 11, 3) := dk_181 0 11 (dk_at dksX2_init_2_0 13 rfl rfl)
theorem dX2_init_2_16 : decode cX2_init_2 16 = .ok (.aload_n 0, 1) := dk_42 (dk_at dksX2_init_2_0 16 rfl rfl)
theorem dX2_init_2_17 : decode cX2_init_2 17 = .ok (.bipush 7, 2) := dk_16 7 (dk_at dksX2_init_2_0 17 rfl rfl)
theorem dX2_init_2_19 : decode cX2_init_2 19 = .ok (.newarray .int, 2) := dk_188_10 (dk_at dksX2_init_2_0 19 rfl rfl)
theorem dX2_init_2_21 : decode cX2_init_2 21 = .ok (.putfield 16, 3) := dk_181 0 16 (dk_at dksX2_init_2_0 21 rfl rfl)
theorem dX2_init_2_24 : decode cX2_init_2 24 = .ok (.aload_n 0, 1) := dk_42 (dk_at dksX2_init_2_1 0 rfl rfl)
theorem dX2_init_2_25 : decode cX2_init_2 25 = .ok (.new 20, 3) := dk_187 0 20 (dk_at dksX2_init_2_1 1 rfl rfl)
theorem dX2_init_2_28 : decode cX2_init_2 28 = .ok (.dup, 1) := dk_89 (dk_at dksX2_init_2_1 4 rfl rfl)
theorem dX2_init_2_29 : decode cX2_init_2 29 = .ok (.invokespecial 22, 3) := dk_183 0 22 (dk_at dksX2_init_2_1 5 rfl rfl)
theorem dX2_init_2_32 : decode cX2_init_2 32 = .ok (.putfield 23, 3) := dk_181 0 23 (dk_at dksX2_init_2_1 8 rfl rfl)
theorem dX2_init_2_35 : decode cX2_init_2 35 = .ok (.iconst 0, 1) := dk_3 (dk_at dksX2_init_2_1 11 rfl rfl)
theorem dX2_init_2_36 : decode cX2_init_2 36 = .ok (.istore_n 2, 1) := dk_61 (dk_at dksX2_init_2_1 12 rfl rfl)
theorem dX2_init_2_37 : decode cX2_init_2 37 = .ok (.iload_n 2, 1) := dk_28 (dk_at dksX2_init_2_1 13 rfl rfl)
theorem dX2_init_2_38 : decode cX2_init_2 38 = .ok (.bipush 7, 2) := dk_16 7 (dk_at dksX2_init_2_1 14 rfl rfl)
theorem dX2_init_2_40 : decode cX2_init_2 40 = .ok (.if_icmp .ge 51, 3) := dk_162 0 51 (dk_at dksX2_init_2_1 16 rfl rfl)
theorem dX2_init_2_43 : decode cX2_init_2 43 = .ok (.aload_n 0, 1) := dk_42 (dk_at dksX2_init_2_1 19 rfl rfl)
theorem dX2_init_2_44 : decode cX2_init_2 44 = .ok (.getfield 16, 3) := dk_180 0 16 (dk_at dksX2_init_2_1 20 rfl rfl)
theorem dX2_init_2_47 : decode cX2_init_2 47 = .ok (.iload_n 2, 1) := dk_28 (dk_at dksX2_init_2_1 23 rfl rfl)
theorem dX2_init_2_48 : decode cX2_init_2 48 = .ok (.aload_n 1, 1) := dk_43 (dk_at dksX2_init_2_2 0 rfl rfl)
theorem dX2_init_2_49 : decode cX2_init_2 49 = .ok (.getfield 16, 3) := dk_180 0 16 (dk_at dksX2_init_2_2 1 rfl rfl)
theorem dX2_init_2_52 : decode cX2_init_2 52 = .ok (.iload_n 2, 1) := dk_28 (dk_at dksX2_init_2_2 4 rfl rfl)
theorem dX2_init_2_53 : decode cX2_init_2 53 = .ok (.iaload, 1) := dk_46 (dk_at dksX2_init_2_2 5 rfl rfl)
theorem dX2_init_2_54 : decode cX2_init_2 54 = .ok (.iastore, 1) := dk_79 (dk_at dksX2_init_2_2 6 rfl rfl)
theorem dX2_init_2_55 : decode cX2_init_2 55 = .ok (.iconst 0, 1) := dk_3 (dk_at dksX2_init_2_2 7 rfl rfl)
theorem dX2_init_2_56 : decode cX2_init_2 56 = .ok (.istore_n 3, 1) := dk_62 (dk_at dksX2_init_2_2 8 rfl rfl)
theorem dX2_init_2_57 : decode cX2_init_2 57 = .ok (.iload_n 3, 1) := dk_29 (dk_at dksX2_init_2_2 9 rfl rfl)
theorem dX2_init_2_58 : decode cX2_init_2 58 = .ok (.bipush 7, 2) := dk_16 7 (dk_at dksX2_init_2_2 10 rfl rfl)
theorem dX2_init_2_60 : decode cX2_init_2 60 = .ok (.if_icmp .ge 25, 3) := dk_162 0 25 (dk_at dksX2_init_2_2 12 rfl rfl)
theorem dX2_init_2_63 : decode cX2_init_2 63 = .ok (.aload_n 0, 1) := dk_42 (dk_at dksX2_init_2_2 15 rfl rfl)
theorem dX2_init_2_64 : decode cX2_init_2 64 = .ok (.getfield 11, 3) := dk_180 0 11 (dk_at dksX2_init_2_2 16 rfl rfl)
theorem dX2_init_2_67 : decode cX2_init_2 67 = .ok (.iload_n 2, 1) := dk_28 (dk_at dksX2_init_2_2 19 rfl rfl)
theorem dX2_init_2_68 : decode cX2_init_2 68 = .ok (.aaload, 1) := dk_50 (dk_at dksX2_init_2_2 20 rfl rfl)
theorem dX2_init_2_69 : decode cX2_init_2 69 = .ok (.iload_n 3, 1) := dk_29 (dk_at dksX2_init_2_2 21 rfl rfl)
theorem dX2_init_2_70 : decode cX2_init_2 70 = .ok (.aload_n 1, 1) := dk_43 (dk_at dksX2_init_2_2 22 rfl rfl)
theorem dX2_init_2_71 : decode cX2_init_2 71 = .ok (.getfield 11, 3) := dk_180 0 11 (dk_at dksX2_init_2_3 0 rfl rfl)
theorem dX2_init_2_74 : decode cX2_init_2 74 = .ok (.iload_n 2, 1) := dk_28 (dk_at dksX2_init_2_3 3 rfl rfl)
theorem dX2_init_2_75 : decode cX2_init_2 75 = .ok (.aaload, 1) := dk_50 (dk_at dksX2_init_2_3 4 rfl rfl)
theorem dX2_init_2_76 : decode cX2_init_2 76 = .ok (.iload_n 3, 1) := dk_29 (dk_at dksX2_init_2_3 5 rfl rfl)
theorem dX2_init_2_77 : decode cX2_init_2 77 = .ok (.iaload, 1) := dk_46 (dk_at dksX2_init_2_3 6 rfl rfl)
theorem dX2_init_2_78 : decode cX2_init_2 78 = .ok (.iastore, 1) := dk_79 (dk_at dksX2_init_2_3 7 rfl rfl)
theorem dX2_init_2_79 : decode cX2_init_2 79 = .ok (.iinc 3 1, 3) := dk_132 3 1 (dk_at dksX2_init_2_3 8 rfl rfl)
theorem dX2_init_2_82 : decode cX2_init_2 82 = .ok (.goto (-25), 3) := dk_167 255 231 (dk_at dksX2_init_2_3 11 rfl rfl)
theorem dX2_init_2_85 : decode cX2_init_2 85 = .ok (.iinc 2 1, 3) := dk_132 2 1 (dk_at dksX2_init_2_3 14 rfl rfl)
theorem dX2_init_2_88 : decode cX2_init_2 88 = .ok (.goto (-51), 3) := dk_167 255 205 (dk_at dksX2_init_2_3 17 rfl rfl)
theorem dX2_init_2_91 : decode cX2_init_2 91 = .ok (.aload_n 0, 1) := dk_42 (dk_at dksX2_init_2_3 20 rfl rfl)
theorem dX2_init_2_92 : decode cX2_init_2 92 = .ok (.getfield 23, 3) := dk_180 0 23 (dk_at dksX2_init_2_3 21 rfl rfl)
theorem dX2_init_2_95 : decode cX2_init_2 95 = .ok (.aload_n 1, 1) := dk_43 (dk_at dksX2_init_2_4 0 rfl rfl)
theorem dX2_init_2_96 : decode cX2_init_2 96 = .ok (.getfield 23, 3) := dk_180 0 23 (dk_at dksX2_init_2_4 1 rfl rfl)
theorem dX2_init_2_99 : decode cX2_init_2 99 = .ok (.invokevirtual 27, 3) := dk_182 0 27 (dk_at dksX2_init_2_4 4 rfl rfl)
theorem dX2_init_2_102 : decode cX2_init_2 102 = .ok (.aload_n 0, 1) := dk_42 (dk_at dksX2_init_2_4 7 rfl rfl)
theorem dX2_init_2_103 : decode cX2_init_2 103 = .ok (.aload_n 1, 1) := dk_43 (dk_at dksX2_init_2_4 8 rfl rfl)
theorem dX2_init_2_104 : decode cX2_init_2 104 = .ok (.getfield 31, 3) := dk_180 0 31 (dk_at dksX2_init_2_4 9 rfl rfl)
theorem dX2_init_2_107 : decode cX2_init_2 107 = .ok (.putfield 31, 3) := dk_181 0 31 (dk_at dksX2_init_2_4 12 rfl rfl)
theorem dX2_init_2_110 : decode cX2_init_2 110 = .ok (.aload_n 0, 1) := dk_42 (dk_at dksX2_init_2_4 15 rfl rfl)
theorem dX2_init_2_111 : decode cX2_init_2 111 = .ok (.aload_n 1, 1) := dk_43 (dk_at dksX2_init_2_4 16 rfl rfl)
theorem dX2_init_2_112 : decode cX2_init_2 112 = .ok (.getfield 35, 3) := dk_180 0 35 (dk_at dksX2_init_2_4 17 rfl rfl)
theorem dX2_init_2_115 : decode cX2_init_2 115 = .ok (.putfield 35, 3) := dk_181 0 35 (dk_at dksX2_init_2_4 20 rfl rfl)
theorem dX2_init_2_118 : decode cX2_init_2 118 = .ok (.aload_n 0, 1) := dk_42 (dk_at dksX2_init_2_4 23 rfl rfl)
theorem dX2_init_2_119 : decode cX2_init_2 119 = .ok (.aload_n 1, 1) := dk_43 (dk_at dksX2_init_2_5 0 rfl rfl)
theorem dX2_init_2_120 : decode cX2_init_2 120 = .ok (.getfield 38, 3) := dk_180 0 38 (dk_at dksX2_init_2_5 1 rfl rfl)
theorem dX2_init_2_123 : decode cX2_init_2 123 = .ok (.putfield 38, 3) := dk_181 0 38 (dk_at dksX2_init_2_5 4 rfl rfl)
theorem dX2_init_2_126 : decode cX2_init_2 126 = .ok (.return_, 1) := dk_177 (dk_at dksX2_init_2_5 7 rfl rfl)
abbrev cX2_owe : ByteArray := prog_4_method_9_code
def yX2_owe : MethodName := ⟨RX2, "owe", "(III)I"⟩
def dkwX2_owe_2 : List UInt8 := [180, 0, 23, 29, 182, 0, 69, 42, 180, 0, 11, 27, 50, 28, 46, 172]
abbrev dktX2_owe_2 : List UInt8 := dkwX2_owe_2 ++ []
def dkwX2_owe_1 : List UInt8 := [163, 0, 7, 4, 167, 0, 4, 3, 184, 0, 60, 42, 180, 0, 11, 27, 50, 28, 92, 46, 29, 96, 79, 42]
abbrev dktX2_owe_1 : List UInt8 := dkwX2_owe_1 ++ dktX2_owe_2
def dkwX2_owe_0 : List UInt8 := [42, 27, 28, 182, 0, 66, 29, 184, 0, 63, 42, 180, 0, 11, 27, 50, 28, 46, 29, 96, 17, 3, 231]
abbrev dktX2_owe_0 : List UInt8 := dkwX2_owe_0 ++ dktX2_owe_1
theorem dksX2_owe_0 : cX2_owe.data.toList.drop 0 = dktX2_owe_0 := by decide +kernel
theorem dksX2_owe_1 : cX2_owe.data.toList.drop 23 = dktX2_owe_1 := dk_seg dksX2_owe_0 23 rfl rfl
theorem dksX2_owe_2 : cX2_owe.data.toList.drop 47 = dktX2_owe_2 := dk_seg dksX2_owe_1 24 rfl rfl
theorem dX2_owe_0 : decode cX2_owe 0 = .ok (.aload_n 0, 1) := dk_42 (dk_at dksX2_owe_0 0 rfl rfl)
theorem dX2_owe_1 : decode cX2_owe 1 = .ok (.iload_n 1, 1) := dk_27 (dk_at dksX2_owe_0 1 rfl rfl)
theorem dX2_owe_2 : decode cX2_owe 2 = .ok (.iload_n 2, 1) := dk_28 (dk_at dksX2_owe_0 2 rfl rfl)
theorem dX2_owe_3 : decode cX2_owe 3 = .ok (.invokevirtual 66, 3) := dk_182 0 66 (dk_at dksX2_owe_0 3 rfl rfl)
theorem dX2_owe_6 : decode cX2_owe 6 = .ok (.iload_n 3, 1) := dk_29 (dk_at dksX2_owe_0 6 rfl rfl)
theorem dX2_owe_7 : decode cX2_owe 7 = .ok (.invokestatic 63, 3) := dk_184 0 63 (dk_at dksX2_owe_0 7 rfl rfl)
theorem dX2_owe_10 : decode cX2_owe 10 = .ok (.aload_n 0, 1) := dk_42 (dk_at dksX2_owe_0 10 rfl rfl)
theorem dX2_owe_11 : decode cX2_owe 11 = .ok (.getfield 11, 3) := dk_180 0 11 (dk_at dksX2_owe_0 11 rfl rfl)
theorem dX2_owe_14 : decode cX2_owe 14 = .ok (.iload_n 1, 1) := dk_27 (dk_at dksX2_owe_0 14 rfl rfl)
theorem dX2_owe_15 : decode cX2_owe 15 = .ok (.aaload, 1) := dk_50 (dk_at dksX2_owe_0 15 rfl rfl)
theorem dX2_owe_16 : decode cX2_owe 16 = .ok (.iload_n 2, 1) := dk_28 (dk_at dksX2_owe_0 16 rfl rfl)
theorem dX2_owe_17 : decode cX2_owe 17 = .ok (.iaload, 1) := dk_46 (dk_at dksX2_owe_0 17 rfl rfl)
theorem dX2_owe_18 : decode cX2_owe 18 = .ok (.iload_n 3, 1) := dk_29 (dk_at dksX2_owe_0 18 rfl rfl)
theorem dX2_owe_19 : decode cX2_owe 19 = .ok (.iadd, 1) := dk_96 (dk_at dksX2_owe_0 19 rfl rfl)
theorem dX2_owe_20 : decode cX2_owe 20 = .ok (.sipush 999, 3) := dk_17 3 231 (dk_at dksX2_owe_0 20 rfl rfl)
theorem dX2_owe_23 : decode cX2_owe 23 = .ok (.if_icmp .gt 7, 3) := dk_163 0 7 (dk_at dksX2_owe_1 0 rfl rfl)
theorem dX2_owe_26 : decode cX2_owe 26 = .ok (.iconst 1, 1) := dk_4 (dk_at dksX2_owe_1 3 rfl rfl)
theorem dX2_owe_27 : decode cX2_owe 27 = .ok (.goto 4, 3) := dk_167 0 4 (dk_at dksX2_owe_1 4 rfl rfl)
theorem dX2_owe_30 : decode cX2_owe 30 = .ok (.iconst 0, 1) := dk_3 (dk_at dksX2_owe_1 7 rfl rfl)
theorem dX2_owe_31 : decode cX2_owe 31 = .ok (.invokestatic 60, 3) := dk_184 0 60 (dk_at dksX2_owe_1 8 rfl rfl)
theorem dX2_owe_34 : decode cX2_owe 34 = .ok (.aload_n 0, 1) := dk_42 (dk_at dksX2_owe_1 11 rfl rfl)
theorem dX2_owe_35 : decode cX2_owe 35 = .ok (.getfield 11, 3) := dk_180 0 11 (dk_at dksX2_owe_1 12 rfl rfl)
theorem dX2_owe_38 : decode cX2_owe 38 = .ok (.iload_n 1, 1) := dk_27 (dk_at dksX2_owe_1 15 rfl rfl)
theorem dX2_owe_39 : decode cX2_owe 39 = .ok (.aaload, 1) := dk_50 (dk_at dksX2_owe_1 16 rfl rfl)
theorem dX2_owe_40 : decode cX2_owe 40 = .ok (.iload_n 2, 1) := dk_28 (dk_at dksX2_owe_1 17 rfl rfl)
theorem dX2_owe_41 : decode cX2_owe 41 = .ok (.dup2, 1) := dk_92 (dk_at dksX2_owe_1 18 rfl rfl)
theorem dX2_owe_42 : decode cX2_owe 42 = .ok (.iaload, 1) := dk_46 (dk_at dksX2_owe_1 19 rfl rfl)
theorem dX2_owe_43 : decode cX2_owe 43 = .ok (.iload_n 3, 1) := dk_29 (dk_at dksX2_owe_1 20 rfl rfl)
theorem dX2_owe_44 : decode cX2_owe 44 = .ok (.iadd, 1) := dk_96 (dk_at dksX2_owe_1 21 rfl rfl)
theorem dX2_owe_45 : decode cX2_owe 45 = .ok (.iastore, 1) := dk_79 (dk_at dksX2_owe_1 22 rfl rfl)
theorem dX2_owe_46 : decode cX2_owe 46 = .ok (.aload_n 0, 1) := dk_42 (dk_at dksX2_owe_1 23 rfl rfl)
theorem dX2_owe_47 : decode cX2_owe 47 = .ok (.getfield 23, 3) := dk_180 0 23 (dk_at dksX2_owe_2 0 rfl rfl)
theorem dX2_owe_50 : decode cX2_owe 50 = .ok (.iload_n 3, 1) := dk_29 (dk_at dksX2_owe_2 3 rfl rfl)
theorem dX2_owe_51 : decode cX2_owe 51 = .ok (.invokevirtual 69, 3) := dk_182 0 69 (dk_at dksX2_owe_2 4 rfl rfl)
theorem dX2_owe_54 : decode cX2_owe 54 = .ok (.aload_n 0, 1) := dk_42 (dk_at dksX2_owe_2 7 rfl rfl)
theorem dX2_owe_55 : decode cX2_owe 55 = .ok (.getfield 11, 3) := dk_180 0 11 (dk_at dksX2_owe_2 8 rfl rfl)
theorem dX2_owe_58 : decode cX2_owe 58 = .ok (.iload_n 1, 1) := dk_27 (dk_at dksX2_owe_2 11 rfl rfl)
theorem dX2_owe_59 : decode cX2_owe 59 = .ok (.aaload, 1) := dk_50 (dk_at dksX2_owe_2 12 rfl rfl)
theorem dX2_owe_60 : decode cX2_owe 60 = .ok (.iload_n 2, 1) := dk_28 (dk_at dksX2_owe_2 13 rfl rfl)
theorem dX2_owe_61 : decode cX2_owe 61 = .ok (.iaload, 1) := dk_46 (dk_at dksX2_owe_2 14 rfl rfl)
theorem dX2_owe_62 : decode cX2_owe 62 = .ok (.ireturn, 1) := dk_172 (dk_at dksX2_owe_2 15 rfl rfl)
abbrev cX2_requireDifferent : ByteArray := prog_4_method_5_code
def yX2_requireDifferent : MethodName := ⟨RX2, "requireDifferent", "(II)V"⟩
def dkwX2_requireDifferent_0 : List UInt8 := [42, 27, 28, 182, 0, 49, 27, 28, 159, 0, 7, 4, 167, 0, 4, 3, 184, 0, 52, 177]
abbrev dktX2_requireDifferent_0 : List UInt8 := dkwX2_requireDifferent_0 ++ []
theorem dksX2_requireDifferent_0 : cX2_requireDifferent.data.toList.drop 0 = dktX2_requireDifferent_0 := by decide +kernel
theorem dX2_requireDifferent_0 : decode cX2_requireDifferent 0 = .ok (.aload_n 0, 1) := dk_42 (dk_at dksX2_requireDifferent_0 0 rfl rfl)
theorem dX2_requireDifferent_1 : decode cX2_requireDifferent 1 = .ok (.iload_n 1, 1) := dk_27 (dk_at dksX2_requireDifferent_0 1 rfl rfl)
theorem dX2_requireDifferent_2 : decode cX2_requireDifferent 2 = .ok (.iload_n 2, 1) := dk_28 (dk_at dksX2_requireDifferent_0 2 rfl rfl)
theorem dX2_requireDifferent_3 : decode cX2_requireDifferent 3 = .ok (.invokevirtual 49, 3) := dk_182 0 49 (dk_at dksX2_requireDifferent_0 3 rfl rfl)
theorem dX2_requireDifferent_6 : decode cX2_requireDifferent 6 = .ok (.iload_n 1, 1) := dk_27 (dk_at dksX2_requireDifferent_0 6 rfl rfl)
theorem dX2_requireDifferent_7 : decode cX2_requireDifferent 7 = .ok (.iload_n 2, 1) := dk_28 (dk_at dksX2_requireDifferent_0 7 rfl rfl)
theorem dX2_requireDifferent_8 : decode cX2_requireDifferent 8 = .ok (.if_icmp .eq 7, 3) := dk_159 0 7 (dk_at dksX2_requireDifferent_0 8 rfl rfl)
theorem dX2_requireDifferent_11 : decode cX2_requireDifferent 11 = .ok (.iconst 1, 1) := dk_4 (dk_at dksX2_requireDifferent_0 11 rfl rfl)
theorem dX2_requireDifferent_12 : decode cX2_requireDifferent 12 = .ok (.goto 4, 3) := dk_167 0 4 (dk_at dksX2_requireDifferent_0 12 rfl rfl)
theorem dX2_requireDifferent_15 : decode cX2_requireDifferent 15 = .ok (.iconst 0, 1) := dk_3 (dk_at dksX2_requireDifferent_0 15 rfl rfl)
theorem dX2_requireDifferent_16 : decode cX2_requireDifferent 16 = .ok (.invokestatic 52, 3) := dk_184 0 52 (dk_at dksX2_requireDifferent_0 16 rfl rfl)
theorem dX2_requireDifferent_19 : decode cX2_requireDifferent 19 = .ok (.return_, 1) := dk_177 (dk_at dksX2_requireDifferent_0 19 rfl rfl)
abbrev cX2_requireBoth : ByteArray := prog_4_method_4_code
def yX2_requireBoth : MethodName := ⟨RX2, "requireBoth", "(II)V"⟩
def dkwX2_requireBoth_0 : List UInt8 := [42, 27, 182, 0, 45, 42, 28, 182, 0, 45, 177]
abbrev dktX2_requireBoth_0 : List UInt8 := dkwX2_requireBoth_0 ++ []
theorem dksX2_requireBoth_0 : cX2_requireBoth.data.toList.drop 0 = dktX2_requireBoth_0 := by decide +kernel
theorem dX2_requireBoth_0 : decode cX2_requireBoth 0 = .ok (.aload_n 0, 1) := dk_42 (dk_at dksX2_requireBoth_0 0 rfl rfl)
theorem dX2_requireBoth_1 : decode cX2_requireBoth 1 = .ok (.iload_n 1, 1) := dk_27 (dk_at dksX2_requireBoth_0 1 rfl rfl)
theorem dX2_requireBoth_2 : decode cX2_requireBoth 2 = .ok (.invokevirtual 45, 3) := dk_182 0 45 (dk_at dksX2_requireBoth_0 2 rfl rfl)
theorem dX2_requireBoth_5 : decode cX2_requireBoth 5 = .ok (.aload_n 0, 1) := dk_42 (dk_at dksX2_requireBoth_0 5 rfl rfl)
theorem dX2_requireBoth_6 : decode cX2_requireBoth 6 = .ok (.iload_n 2, 1) := dk_28 (dk_at dksX2_requireBoth_0 6 rfl rfl)
theorem dX2_requireBoth_7 : decode cX2_requireBoth 7 = .ok (.invokevirtual 45, 3) := dk_182 0 45 (dk_at dksX2_requireBoth_0 7 rfl rfl)
theorem dX2_requireBoth_10 : decode cX2_requireBoth 10 = .ok (.return_, 1) := dk_177 (dk_at dksX2_requireBoth_0 10 rfl rfl)
abbrev cX2_requireParty : ByteArray := prog_4_method_3_code
def yX2_requireParty : MethodName := ⟨RX2, "requireParty", "(I)V"⟩
def dkwX2_requireParty_0 : List UInt8 := [27, 42, 180, 0, 31, 184, 0, 41, 177]
abbrev dktX2_requireParty_0 : List UInt8 := dkwX2_requireParty_0 ++ []
theorem dksX2_requireParty_0 : cX2_requireParty.data.toList.drop 0 = dktX2_requireParty_0 := by decide +kernel
theorem dX2_requireParty_0 : decode cX2_requireParty 0 = .ok (.iload_n 1, 1) := dk_27 (dk_at dksX2_requireParty_0 0 rfl rfl)
theorem dX2_requireParty_1 : decode cX2_requireParty 1 = .ok (.aload_n 0, 1) := dk_42 (dk_at dksX2_requireParty_0 1 rfl rfl)
theorem dX2_requireParty_2 : decode cX2_requireParty 2 = .ok (.getfield 31, 3) := dk_180 0 31 (dk_at dksX2_requireParty_0 2 rfl rfl)
theorem dX2_requireParty_5 : decode cX2_requireParty 5 = .ok (.invokestatic 41, 3) := dk_184 0 41 (dk_at dksX2_requireParty_0 5 rfl rfl)
theorem dX2_requireParty_8 : decode cX2_requireParty 8 = .ok (.return_, 1) := dk_177 (dk_at dksX2_requireParty_0 8 rfl rfl)
abbrev cX2_requireAmount : ByteArray := prog_4_method_6_code
def yX2_requireAmount : MethodName := ⟨RX2, "requireAmount", "(I)V"⟩
def dkwX2_requireAmount_0 : List UInt8 := [26, 4, 17, 3, 231, 184, 0, 56, 184, 0, 52, 177]
abbrev dktX2_requireAmount_0 : List UInt8 := dkwX2_requireAmount_0 ++ []
theorem dksX2_requireAmount_0 : cX2_requireAmount.data.toList.drop 0 = dktX2_requireAmount_0 := by decide +kernel
theorem dX2_requireAmount_0 : decode cX2_requireAmount 0 = .ok (.iload_n 0, 1) := dk_26 (dk_at dksX2_requireAmount_0 0 rfl rfl)
theorem dX2_requireAmount_1 : decode cX2_requireAmount 1 = .ok (.iconst 1, 1) := dk_4 (dk_at dksX2_requireAmount_0 1 rfl rfl)
theorem dX2_requireAmount_2 : decode cX2_requireAmount 2 = .ok (.sipush 999, 3) := dk_17 3 231 (dk_at dksX2_requireAmount_0 2 rfl rfl)
theorem dX2_requireAmount_5 : decode cX2_requireAmount 5 = .ok (.invokestatic 56, 3) := dk_184 0 56 (dk_at dksX2_requireAmount_0 5 rfl rfl)
theorem dX2_requireAmount_8 : decode cX2_requireAmount 8 = .ok (.invokestatic 52, 3) := dk_184 0 52 (dk_at dksX2_requireAmount_0 8 rfl rfl)
theorem dX2_requireAmount_11 : decode cX2_requireAmount 11 = .ok (.return_, 1) := dk_177 (dk_at dksX2_requireAmount_0 11 rfl rfl)
abbrev cX2_pay : ByteArray := prog_4_method_11_code
def yX2_pay : MethodName := ⟨RX2, "pay", "(III)I"⟩
def dkwX2_pay_2 : List UInt8 := [184, 0, 75, 42, 27, 28, 29, 182, 0, 78, 42, 180, 0, 11, 27, 50, 28, 46, 172]
abbrev dktX2_pay_2 : List UInt8 := dkwX2_pay_2 ++ []
def dkwX2_pay_1 : List UInt8 := [167, 0, 4, 3, 184, 0, 60, 29, 42, 180, 0, 16, 27, 46, 163, 0, 7, 4, 167, 0, 4, 3]
abbrev dktX2_pay_1 : List UInt8 := dkwX2_pay_1 ++ dktX2_pay_2
def dkwX2_pay_0 : List UInt8 := [42, 27, 28, 182, 0, 66, 29, 184, 0, 63, 29, 42, 180, 0, 11, 27, 50, 28, 46, 163, 0, 7, 4]
abbrev dktX2_pay_0 : List UInt8 := dkwX2_pay_0 ++ dktX2_pay_1
theorem dksX2_pay_0 : cX2_pay.data.toList.drop 0 = dktX2_pay_0 := by decide +kernel
theorem dksX2_pay_1 : cX2_pay.data.toList.drop 23 = dktX2_pay_1 := dk_seg dksX2_pay_0 23 rfl rfl
theorem dksX2_pay_2 : cX2_pay.data.toList.drop 45 = dktX2_pay_2 := dk_seg dksX2_pay_1 22 rfl rfl
theorem dX2_pay_0 : decode cX2_pay 0 = .ok (.aload_n 0, 1) := dk_42 (dk_at dksX2_pay_0 0 rfl rfl)
theorem dX2_pay_1 : decode cX2_pay 1 = .ok (.iload_n 1, 1) := dk_27 (dk_at dksX2_pay_0 1 rfl rfl)
theorem dX2_pay_2 : decode cX2_pay 2 = .ok (.iload_n 2, 1) := dk_28 (dk_at dksX2_pay_0 2 rfl rfl)
theorem dX2_pay_3 : decode cX2_pay 3 = .ok (.invokevirtual 66, 3) := dk_182 0 66 (dk_at dksX2_pay_0 3 rfl rfl)
theorem dX2_pay_6 : decode cX2_pay 6 = .ok (.iload_n 3, 1) := dk_29 (dk_at dksX2_pay_0 6 rfl rfl)
theorem dX2_pay_7 : decode cX2_pay 7 = .ok (.invokestatic 63, 3) := dk_184 0 63 (dk_at dksX2_pay_0 7 rfl rfl)
theorem dX2_pay_10 : decode cX2_pay 10 = .ok (.iload_n 3, 1) := dk_29 (dk_at dksX2_pay_0 10 rfl rfl)
theorem dX2_pay_11 : decode cX2_pay 11 = .ok (.aload_n 0, 1) := dk_42 (dk_at dksX2_pay_0 11 rfl rfl)
theorem dX2_pay_12 : decode cX2_pay 12 = .ok (.getfield 11, 3) := dk_180 0 11 (dk_at dksX2_pay_0 12 rfl rfl)
theorem dX2_pay_15 : decode cX2_pay 15 = .ok (.iload_n 1, 1) := dk_27 (dk_at dksX2_pay_0 15 rfl rfl)
theorem dX2_pay_16 : decode cX2_pay 16 = .ok (.aaload, 1) := dk_50 (dk_at dksX2_pay_0 16 rfl rfl)
theorem dX2_pay_17 : decode cX2_pay 17 = .ok (.iload_n 2, 1) := dk_28 (dk_at dksX2_pay_0 17 rfl rfl)
theorem dX2_pay_18 : decode cX2_pay 18 = .ok (.iaload, 1) := dk_46 (dk_at dksX2_pay_0 18 rfl rfl)
theorem dX2_pay_19 : decode cX2_pay 19 = .ok (.if_icmp .gt 7, 3) := dk_163 0 7 (dk_at dksX2_pay_0 19 rfl rfl)
theorem dX2_pay_22 : decode cX2_pay 22 = .ok (.iconst 1, 1) := dk_4 (dk_at dksX2_pay_0 22 rfl rfl)
theorem dX2_pay_23 : decode cX2_pay 23 = .ok (.goto 4, 3) := dk_167 0 4 (dk_at dksX2_pay_1 0 rfl rfl)
theorem dX2_pay_26 : decode cX2_pay 26 = .ok (.iconst 0, 1) := dk_3 (dk_at dksX2_pay_1 3 rfl rfl)
theorem dX2_pay_27 : decode cX2_pay 27 = .ok (.invokestatic 60, 3) := dk_184 0 60 (dk_at dksX2_pay_1 4 rfl rfl)
theorem dX2_pay_30 : decode cX2_pay 30 = .ok (.iload_n 3, 1) := dk_29 (dk_at dksX2_pay_1 7 rfl rfl)
theorem dX2_pay_31 : decode cX2_pay 31 = .ok (.aload_n 0, 1) := dk_42 (dk_at dksX2_pay_1 8 rfl rfl)
theorem dX2_pay_32 : decode cX2_pay 32 = .ok (.getfield 16, 3) := dk_180 0 16 (dk_at dksX2_pay_1 9 rfl rfl)
theorem dX2_pay_35 : decode cX2_pay 35 = .ok (.iload_n 1, 1) := dk_27 (dk_at dksX2_pay_1 12 rfl rfl)
theorem dX2_pay_36 : decode cX2_pay 36 = .ok (.iaload, 1) := dk_46 (dk_at dksX2_pay_1 13 rfl rfl)
theorem dX2_pay_37 : decode cX2_pay 37 = .ok (.if_icmp .gt 7, 3) := dk_163 0 7 (dk_at dksX2_pay_1 14 rfl rfl)
theorem dX2_pay_40 : decode cX2_pay 40 = .ok (.iconst 1, 1) := dk_4 (dk_at dksX2_pay_1 17 rfl rfl)
theorem dX2_pay_41 : decode cX2_pay 41 = .ok (.goto 4, 3) := dk_167 0 4 (dk_at dksX2_pay_1 18 rfl rfl)
theorem dX2_pay_44 : decode cX2_pay 44 = .ok (.iconst 0, 1) := dk_3 (dk_at dksX2_pay_1 21 rfl rfl)
theorem dX2_pay_45 : decode cX2_pay 45 = .ok (.invokestatic 75, 3) := dk_184 0 75 (dk_at dksX2_pay_2 0 rfl rfl)
theorem dX2_pay_48 : decode cX2_pay 48 = .ok (.aload_n 0, 1) := dk_42 (dk_at dksX2_pay_2 3 rfl rfl)
theorem dX2_pay_49 : decode cX2_pay 49 = .ok (.iload_n 1, 1) := dk_27 (dk_at dksX2_pay_2 4 rfl rfl)
theorem dX2_pay_50 : decode cX2_pay 50 = .ok (.iload_n 2, 1) := dk_28 (dk_at dksX2_pay_2 5 rfl rfl)
theorem dX2_pay_51 : decode cX2_pay 51 = .ok (.iload_n 3, 1) := dk_29 (dk_at dksX2_pay_2 6 rfl rfl)
theorem dX2_pay_52 : decode cX2_pay 52 = .ok (.invokevirtual 78, 3) := dk_182 0 78 (dk_at dksX2_pay_2 7 rfl rfl)
theorem dX2_pay_55 : decode cX2_pay 55 = .ok (.aload_n 0, 1) := dk_42 (dk_at dksX2_pay_2 10 rfl rfl)
theorem dX2_pay_56 : decode cX2_pay 56 = .ok (.getfield 11, 3) := dk_180 0 11 (dk_at dksX2_pay_2 11 rfl rfl)
theorem dX2_pay_59 : decode cX2_pay 59 = .ok (.iload_n 1, 1) := dk_27 (dk_at dksX2_pay_2 14 rfl rfl)
theorem dX2_pay_60 : decode cX2_pay 60 = .ok (.aaload, 1) := dk_50 (dk_at dksX2_pay_2 15 rfl rfl)
theorem dX2_pay_61 : decode cX2_pay 61 = .ok (.iload_n 2, 1) := dk_28 (dk_at dksX2_pay_2 16 rfl rfl)
theorem dX2_pay_62 : decode cX2_pay 62 = .ok (.iaload, 1) := dk_46 (dk_at dksX2_pay_2 17 rfl rfl)
theorem dX2_pay_63 : decode cX2_pay 63 = .ok (.ireturn, 1) := dk_172 (dk_at dksX2_pay_2 18 rfl rfl)
abbrev cX2_transfer : ByteArray := prog_4_method_10_code
def yX2_transfer : MethodName := ⟨RX2, "transfer", "(III)V"⟩
def dkwX2_transfer_1 : List UInt8 := [27, 50, 28, 92, 46, 29, 100, 79, 42, 180, 0, 23, 29, 182, 0, 72, 177]
abbrev dktX2_transfer_1 : List UInt8 := dkwX2_transfer_1 ++ []
def dkwX2_transfer_0 : List UInt8 := [42, 180, 0, 16, 27, 92, 46, 29, 100, 79, 42, 180, 0, 16, 28, 92, 46, 29, 96, 79, 42, 180, 0, 11]
abbrev dktX2_transfer_0 : List UInt8 := dkwX2_transfer_0 ++ dktX2_transfer_1
theorem dksX2_transfer_0 : cX2_transfer.data.toList.drop 0 = dktX2_transfer_0 := by decide +kernel
theorem dksX2_transfer_1 : cX2_transfer.data.toList.drop 24 = dktX2_transfer_1 := dk_seg dksX2_transfer_0 24 rfl rfl
theorem dX2_transfer_0 : decode cX2_transfer 0 = .ok (.aload_n 0, 1) := dk_42 (dk_at dksX2_transfer_0 0 rfl rfl)
theorem dX2_transfer_1 : decode cX2_transfer 1 = .ok (.getfield 16, 3) := dk_180 0 16 (dk_at dksX2_transfer_0 1 rfl rfl)
theorem dX2_transfer_4 : decode cX2_transfer 4 = .ok (.iload_n 1, 1) := dk_27 (dk_at dksX2_transfer_0 4 rfl rfl)
theorem dX2_transfer_5 : decode cX2_transfer 5 = .ok (.dup2, 1) := dk_92 (dk_at dksX2_transfer_0 5 rfl rfl)
theorem dX2_transfer_6 : decode cX2_transfer 6 = .ok (.iaload, 1) := dk_46 (dk_at dksX2_transfer_0 6 rfl rfl)
theorem dX2_transfer_7 : decode cX2_transfer 7 = .ok (.iload_n 3, 1) := dk_29 (dk_at dksX2_transfer_0 7 rfl rfl)
theorem dX2_transfer_8 : decode cX2_transfer 8 = .ok (.isub, 1) := dk_100 (dk_at dksX2_transfer_0 8 rfl rfl)
theorem dX2_transfer_9 : decode cX2_transfer 9 = .ok (.iastore, 1) := dk_79 (dk_at dksX2_transfer_0 9 rfl rfl)
theorem dX2_transfer_10 : decode cX2_transfer 10 = .ok (.aload_n 0, 1) := dk_42 (dk_at dksX2_transfer_0 10 rfl rfl)
theorem dX2_transfer_11 : decode cX2_transfer 11 = .ok (.getfield 16, 3) := dk_180 0 16 (dk_at dksX2_transfer_0 11 rfl rfl)
theorem dX2_transfer_14 : decode cX2_transfer 14 = .ok (.iload_n 2, 1) := dk_28 (dk_at dksX2_transfer_0 14 rfl rfl)
theorem dX2_transfer_15 : decode cX2_transfer 15 = .ok (.dup2, 1) := dk_92 (dk_at dksX2_transfer_0 15 rfl rfl)
theorem dX2_transfer_16 : decode cX2_transfer 16 = .ok (.iaload, 1) := dk_46 (dk_at dksX2_transfer_0 16 rfl rfl)
theorem dX2_transfer_17 : decode cX2_transfer 17 = .ok (.iload_n 3, 1) := dk_29 (dk_at dksX2_transfer_0 17 rfl rfl)
theorem dX2_transfer_18 : decode cX2_transfer 18 = .ok (.iadd, 1) := dk_96 (dk_at dksX2_transfer_0 18 rfl rfl)
theorem dX2_transfer_19 : decode cX2_transfer 19 = .ok (.iastore, 1) := dk_79 (dk_at dksX2_transfer_0 19 rfl rfl)
theorem dX2_transfer_20 : decode cX2_transfer 20 = .ok (.aload_n 0, 1) := dk_42 (dk_at dksX2_transfer_0 20 rfl rfl)
theorem dX2_transfer_21 : decode cX2_transfer 21 = .ok (.getfield 11, 3) := dk_180 0 11 (dk_at dksX2_transfer_0 21 rfl rfl)
theorem dX2_transfer_24 : decode cX2_transfer 24 = .ok (.iload_n 1, 1) := dk_27 (dk_at dksX2_transfer_1 0 rfl rfl)
theorem dX2_transfer_25 : decode cX2_transfer 25 = .ok (.aaload, 1) := dk_50 (dk_at dksX2_transfer_1 1 rfl rfl)
theorem dX2_transfer_26 : decode cX2_transfer 26 = .ok (.iload_n 2, 1) := dk_28 (dk_at dksX2_transfer_1 2 rfl rfl)
theorem dX2_transfer_27 : decode cX2_transfer 27 = .ok (.dup2, 1) := dk_92 (dk_at dksX2_transfer_1 3 rfl rfl)
theorem dX2_transfer_28 : decode cX2_transfer 28 = .ok (.iaload, 1) := dk_46 (dk_at dksX2_transfer_1 4 rfl rfl)
theorem dX2_transfer_29 : decode cX2_transfer 29 = .ok (.iload_n 3, 1) := dk_29 (dk_at dksX2_transfer_1 5 rfl rfl)
theorem dX2_transfer_30 : decode cX2_transfer 30 = .ok (.isub, 1) := dk_100 (dk_at dksX2_transfer_1 6 rfl rfl)
theorem dX2_transfer_31 : decode cX2_transfer 31 = .ok (.iastore, 1) := dk_79 (dk_at dksX2_transfer_1 7 rfl rfl)
theorem dX2_transfer_32 : decode cX2_transfer 32 = .ok (.aload_n 0, 1) := dk_42 (dk_at dksX2_transfer_1 8 rfl rfl)
theorem dX2_transfer_33 : decode cX2_transfer 33 = .ok (.getfield 23, 3) := dk_180 0 23 (dk_at dksX2_transfer_1 9 rfl rfl)
theorem dX2_transfer_36 : decode cX2_transfer 36 = .ok (.iload_n 3, 1) := dk_29 (dk_at dksX2_transfer_1 12 rfl rfl)
theorem dX2_transfer_37 : decode cX2_transfer 37 = .ok (.invokevirtual 72, 3) := dk_182 0 72 (dk_at dksX2_transfer_1 13 rfl rfl)
theorem dX2_transfer_40 : decode cX2_transfer 40 = .ok (.return_, 1) := dk_177 (dk_at dksX2_transfer_1 16 rfl rfl)
abbrev cX2_netPair : ByteArray := prog_4_method_13_code
def yX2_netPair : MethodName := ⟨RX2, "netPair", "(II)I"⟩
def dkwX2_netPair_1 : List UInt8 := [184, 0, 85, 62, 42, 27, 28, 29, 182, 0, 91, 42, 28, 27, 29, 182, 0, 91, 29, 172]
abbrev dktX2_netPair_1 : List UInt8 := dkwX2_netPair_1 ++ []
def dkwX2_netPair_0 : List UInt8 := [42, 27, 28, 182, 0, 66, 42, 180, 0, 11, 27, 50, 28, 46, 42, 180, 0, 11, 28, 50, 27, 46]
abbrev dktX2_netPair_0 : List UInt8 := dkwX2_netPair_0 ++ dktX2_netPair_1
theorem dksX2_netPair_0 : cX2_netPair.data.toList.drop 0 = dktX2_netPair_0 := by decide +kernel
theorem dksX2_netPair_1 : cX2_netPair.data.toList.drop 22 = dktX2_netPair_1 := dk_seg dksX2_netPair_0 22 rfl rfl
theorem dX2_netPair_0 : decode cX2_netPair 0 = .ok (.aload_n 0, 1) := dk_42 (dk_at dksX2_netPair_0 0 rfl rfl)
theorem dX2_netPair_1 : decode cX2_netPair 1 = .ok (.iload_n 1, 1) := dk_27 (dk_at dksX2_netPair_0 1 rfl rfl)
theorem dX2_netPair_2 : decode cX2_netPair 2 = .ok (.iload_n 2, 1) := dk_28 (dk_at dksX2_netPair_0 2 rfl rfl)
theorem dX2_netPair_3 : decode cX2_netPair 3 = .ok (.invokevirtual 66, 3) := dk_182 0 66 (dk_at dksX2_netPair_0 3 rfl rfl)
theorem dX2_netPair_6 : decode cX2_netPair 6 = .ok (.aload_n 0, 1) := dk_42 (dk_at dksX2_netPair_0 6 rfl rfl)
theorem dX2_netPair_7 : decode cX2_netPair 7 = .ok (.getfield 11, 3) := dk_180 0 11 (dk_at dksX2_netPair_0 7 rfl rfl)
theorem dX2_netPair_10 : decode cX2_netPair 10 = .ok (.iload_n 1, 1) := dk_27 (dk_at dksX2_netPair_0 10 rfl rfl)
theorem dX2_netPair_11 : decode cX2_netPair 11 = .ok (.aaload, 1) := dk_50 (dk_at dksX2_netPair_0 11 rfl rfl)
theorem dX2_netPair_12 : decode cX2_netPair 12 = .ok (.iload_n 2, 1) := dk_28 (dk_at dksX2_netPair_0 12 rfl rfl)
theorem dX2_netPair_13 : decode cX2_netPair 13 = .ok (.iaload, 1) := dk_46 (dk_at dksX2_netPair_0 13 rfl rfl)
theorem dX2_netPair_14 : decode cX2_netPair 14 = .ok (.aload_n 0, 1) := dk_42 (dk_at dksX2_netPair_0 14 rfl rfl)
theorem dX2_netPair_15 : decode cX2_netPair 15 = .ok (.getfield 11, 3) := dk_180 0 11 (dk_at dksX2_netPair_0 15 rfl rfl)
theorem dX2_netPair_18 : decode cX2_netPair 18 = .ok (.iload_n 2, 1) := dk_28 (dk_at dksX2_netPair_0 18 rfl rfl)
theorem dX2_netPair_19 : decode cX2_netPair 19 = .ok (.aaload, 1) := dk_50 (dk_at dksX2_netPair_0 19 rfl rfl)
theorem dX2_netPair_20 : decode cX2_netPair 20 = .ok (.iload_n 1, 1) := dk_27 (dk_at dksX2_netPair_0 20 rfl rfl)
theorem dX2_netPair_21 : decode cX2_netPair 21 = .ok (.iaload, 1) := dk_46 (dk_at dksX2_netPair_0 21 rfl rfl)
theorem dX2_netPair_22 : decode cX2_netPair 22 = .ok (.invokestatic 85, 3) := dk_184 0 85 (dk_at dksX2_netPair_1 0 rfl rfl)
theorem dX2_netPair_25 : decode cX2_netPair 25 = .ok (.istore_n 3, 1) := dk_62 (dk_at dksX2_netPair_1 3 rfl rfl)
theorem dX2_netPair_26 : decode cX2_netPair 26 = .ok (.aload_n 0, 1) := dk_42 (dk_at dksX2_netPair_1 4 rfl rfl)
theorem dX2_netPair_27 : decode cX2_netPair 27 = .ok (.iload_n 1, 1) := dk_27 (dk_at dksX2_netPair_1 5 rfl rfl)
theorem dX2_netPair_28 : decode cX2_netPair 28 = .ok (.iload_n 2, 1) := dk_28 (dk_at dksX2_netPair_1 6 rfl rfl)
theorem dX2_netPair_29 : decode cX2_netPair 29 = .ok (.iload_n 3, 1) := dk_29 (dk_at dksX2_netPair_1 7 rfl rfl)
theorem dX2_netPair_30 : decode cX2_netPair 30 = .ok (.invokevirtual 91, 3) := dk_182 0 91 (dk_at dksX2_netPair_1 8 rfl rfl)
theorem dX2_netPair_33 : decode cX2_netPair 33 = .ok (.aload_n 0, 1) := dk_42 (dk_at dksX2_netPair_1 11 rfl rfl)
theorem dX2_netPair_34 : decode cX2_netPair 34 = .ok (.iload_n 2, 1) := dk_28 (dk_at dksX2_netPair_1 12 rfl rfl)
theorem dX2_netPair_35 : decode cX2_netPair 35 = .ok (.iload_n 1, 1) := dk_27 (dk_at dksX2_netPair_1 13 rfl rfl)
theorem dX2_netPair_36 : decode cX2_netPair 36 = .ok (.iload_n 3, 1) := dk_29 (dk_at dksX2_netPair_1 14 rfl rfl)
theorem dX2_netPair_37 : decode cX2_netPair 37 = .ok (.invokevirtual 91, 3) := dk_182 0 91 (dk_at dksX2_netPair_1 15 rfl rfl)
theorem dX2_netPair_40 : decode cX2_netPair 40 = .ok (.iload_n 3, 1) := dk_29 (dk_at dksX2_netPair_1 18 rfl rfl)
theorem dX2_netPair_41 : decode cX2_netPair 41 = .ok (.ireturn, 1) := dk_172 (dk_at dksX2_netPair_1 19 rfl rfl)
abbrev cX2_lessen : ByteArray := prog_4_method_12_code
def yX2_lessen : MethodName := ⟨RX2, "lessen", "(III)V"⟩
def dkwX2_lessen_0 : List UInt8 := [42, 180, 0, 11, 27, 50, 28, 92, 46, 29, 100, 79, 42, 180, 0, 23, 29, 182, 0, 82, 177]
abbrev dktX2_lessen_0 : List UInt8 := dkwX2_lessen_0 ++ []
theorem dksX2_lessen_0 : cX2_lessen.data.toList.drop 0 = dktX2_lessen_0 := by decide +kernel
theorem dX2_lessen_0 : decode cX2_lessen 0 = .ok (.aload_n 0, 1) := dk_42 (dk_at dksX2_lessen_0 0 rfl rfl)
theorem dX2_lessen_1 : decode cX2_lessen 1 = .ok (.getfield 11, 3) := dk_180 0 11 (dk_at dksX2_lessen_0 1 rfl rfl)
theorem dX2_lessen_4 : decode cX2_lessen 4 = .ok (.iload_n 1, 1) := dk_27 (dk_at dksX2_lessen_0 4 rfl rfl)
theorem dX2_lessen_5 : decode cX2_lessen 5 = .ok (.aaload, 1) := dk_50 (dk_at dksX2_lessen_0 5 rfl rfl)
theorem dX2_lessen_6 : decode cX2_lessen 6 = .ok (.iload_n 2, 1) := dk_28 (dk_at dksX2_lessen_0 6 rfl rfl)
theorem dX2_lessen_7 : decode cX2_lessen 7 = .ok (.dup2, 1) := dk_92 (dk_at dksX2_lessen_0 7 rfl rfl)
theorem dX2_lessen_8 : decode cX2_lessen 8 = .ok (.iaload, 1) := dk_46 (dk_at dksX2_lessen_0 8 rfl rfl)
theorem dX2_lessen_9 : decode cX2_lessen 9 = .ok (.iload_n 3, 1) := dk_29 (dk_at dksX2_lessen_0 9 rfl rfl)
theorem dX2_lessen_10 : decode cX2_lessen 10 = .ok (.isub, 1) := dk_100 (dk_at dksX2_lessen_0 10 rfl rfl)
theorem dX2_lessen_11 : decode cX2_lessen 11 = .ok (.iastore, 1) := dk_79 (dk_at dksX2_lessen_0 11 rfl rfl)
theorem dX2_lessen_12 : decode cX2_lessen 12 = .ok (.aload_n 0, 1) := dk_42 (dk_at dksX2_lessen_0 12 rfl rfl)
theorem dX2_lessen_13 : decode cX2_lessen 13 = .ok (.getfield 23, 3) := dk_180 0 23 (dk_at dksX2_lessen_0 13 rfl rfl)
theorem dX2_lessen_16 : decode cX2_lessen 16 = .ok (.iload_n 3, 1) := dk_29 (dk_at dksX2_lessen_0 16 rfl rfl)
theorem dX2_lessen_17 : decode cX2_lessen 17 = .ok (.invokevirtual 82, 3) := dk_182 0 82 (dk_at dksX2_lessen_0 17 rfl rfl)
theorem dX2_lessen_20 : decode cX2_lessen 20 = .ok (.return_, 1) := dk_177 (dk_at dksX2_lessen_0 20 rfl rfl)
abbrev cX2_addParty : ByteArray := prog_4_method_7_code
def yX2_addParty : MethodName := ⟨RX2, "addParty", "(I)I"⟩
def dkwX2_addParty_2 : List UInt8 := [42, 180, 0, 31, 4, 100, 172]
abbrev dktX2_addParty_2 : List UInt8 := dkwX2_addParty_2 ++ []
def dkwX2_addParty_1 : List UInt8 := [3, 184, 0, 60, 42, 180, 0, 16, 42, 180, 0, 31, 27, 79, 42, 89, 180, 0, 31, 4, 96, 181, 0, 31]
abbrev dktX2_addParty_1 : List UInt8 := dkwX2_addParty_1 ++ dktX2_addParty_2
def dkwX2_addParty_0 : List UInt8 := [27, 3, 17, 3, 231, 184, 0, 56, 184, 0, 52, 42, 180, 0, 31, 16, 7, 162, 0, 7, 4, 167, 0, 4]
abbrev dktX2_addParty_0 : List UInt8 := dkwX2_addParty_0 ++ dktX2_addParty_1
theorem dksX2_addParty_0 : cX2_addParty.data.toList.drop 0 = dktX2_addParty_0 := by decide +kernel
theorem dksX2_addParty_1 : cX2_addParty.data.toList.drop 24 = dktX2_addParty_1 := dk_seg dksX2_addParty_0 24 rfl rfl
theorem dksX2_addParty_2 : cX2_addParty.data.toList.drop 48 = dktX2_addParty_2 := dk_seg dksX2_addParty_1 24 rfl rfl
theorem dX2_addParty_0 : decode cX2_addParty 0 = .ok (.iload_n 1, 1) := dk_27 (dk_at dksX2_addParty_0 0 rfl rfl)
theorem dX2_addParty_1 : decode cX2_addParty 1 = .ok (.iconst 0, 1) := dk_3 (dk_at dksX2_addParty_0 1 rfl rfl)
theorem dX2_addParty_2 : decode cX2_addParty 2 = .ok (.sipush 999, 3) := dk_17 3 231 (dk_at dksX2_addParty_0 2 rfl rfl)
theorem dX2_addParty_5 : decode cX2_addParty 5 = .ok (.invokestatic 56, 3) := dk_184 0 56 (dk_at dksX2_addParty_0 5 rfl rfl)
theorem dX2_addParty_8 : decode cX2_addParty 8 = .ok (.invokestatic 52, 3) := dk_184 0 52 (dk_at dksX2_addParty_0 8 rfl rfl)
theorem dX2_addParty_11 : decode cX2_addParty 11 = .ok (.aload_n 0, 1) := dk_42 (dk_at dksX2_addParty_0 11 rfl rfl)
theorem dX2_addParty_12 : decode cX2_addParty 12 = .ok (.getfield 31, 3) := dk_180 0 31 (dk_at dksX2_addParty_0 12 rfl rfl)
theorem dX2_addParty_15 : decode cX2_addParty 15 = .ok (.bipush 7, 2) := dk_16 7 (dk_at dksX2_addParty_0 15 rfl rfl)
theorem dX2_addParty_17 : decode cX2_addParty 17 = .ok (.if_icmp .ge 7, 3) := dk_162 0 7 (dk_at dksX2_addParty_0 17 rfl rfl)
theorem dX2_addParty_20 : decode cX2_addParty 20 = .ok (.iconst 1, 1) := dk_4 (dk_at dksX2_addParty_0 20 rfl rfl)
theorem dX2_addParty_21 : decode cX2_addParty 21 = .ok (.goto 4, 3) := dk_167 0 4 (dk_at dksX2_addParty_0 21 rfl rfl)
theorem dX2_addParty_24 : decode cX2_addParty 24 = .ok (.iconst 0, 1) := dk_3 (dk_at dksX2_addParty_1 0 rfl rfl)
theorem dX2_addParty_25 : decode cX2_addParty 25 = .ok (.invokestatic 60, 3) := dk_184 0 60 (dk_at dksX2_addParty_1 1 rfl rfl)
theorem dX2_addParty_28 : decode cX2_addParty 28 = .ok (.aload_n 0, 1) := dk_42 (dk_at dksX2_addParty_1 4 rfl rfl)
theorem dX2_addParty_29 : decode cX2_addParty 29 = .ok (.getfield 16, 3) := dk_180 0 16 (dk_at dksX2_addParty_1 5 rfl rfl)
theorem dX2_addParty_32 : decode cX2_addParty 32 = .ok (.aload_n 0, 1) := dk_42 (dk_at dksX2_addParty_1 8 rfl rfl)
theorem dX2_addParty_33 : decode cX2_addParty 33 = .ok (.getfield 31, 3) := dk_180 0 31 (dk_at dksX2_addParty_1 9 rfl rfl)
theorem dX2_addParty_36 : decode cX2_addParty 36 = .ok (.iload_n 1, 1) := dk_27 (dk_at dksX2_addParty_1 12 rfl rfl)
theorem dX2_addParty_37 : decode cX2_addParty 37 = .ok (.iastore, 1) := dk_79 (dk_at dksX2_addParty_1 13 rfl rfl)
theorem dX2_addParty_38 : decode cX2_addParty 38 = .ok (.aload_n 0, 1) := dk_42 (dk_at dksX2_addParty_1 14 rfl rfl)
theorem dX2_addParty_39 : decode cX2_addParty 39 = .ok (.dup, 1) := dk_89 (dk_at dksX2_addParty_1 15 rfl rfl)
theorem dX2_addParty_40 : decode cX2_addParty 40 = .ok (.getfield 31, 3) := dk_180 0 31 (dk_at dksX2_addParty_1 16 rfl rfl)
theorem dX2_addParty_43 : decode cX2_addParty 43 = .ok (.iconst 1, 1) := dk_4 (dk_at dksX2_addParty_1 19 rfl rfl)
theorem dX2_addParty_44 : decode cX2_addParty 44 = .ok (.iadd, 1) := dk_96 (dk_at dksX2_addParty_1 20 rfl rfl)
theorem dX2_addParty_45 : decode cX2_addParty 45 = .ok (.putfield 31, 3) := dk_181 0 31 (dk_at dksX2_addParty_1 21 rfl rfl)
theorem dX2_addParty_48 : decode cX2_addParty 48 = .ok (.aload_n 0, 1) := dk_42 (dk_at dksX2_addParty_2 0 rfl rfl)
theorem dX2_addParty_49 : decode cX2_addParty 49 = .ok (.getfield 31, 3) := dk_180 0 31 (dk_at dksX2_addParty_2 1 rfl rfl)
theorem dX2_addParty_52 : decode cX2_addParty 52 = .ok (.iconst 1, 1) := dk_4 (dk_at dksX2_addParty_2 4 rfl rfl)
theorem dX2_addParty_53 : decode cX2_addParty 53 = .ok (.isub, 1) := dk_100 (dk_at dksX2_addParty_2 5 rfl rfl)
theorem dX2_addParty_54 : decode cX2_addParty 54 = .ok (.ireturn, 1) := dk_172 (dk_at dksX2_addParty_2 6 rfl rfl)
abbrev cX2_deposit : ByteArray := prog_4_method_8_code
def yX2_deposit : MethodName := ⟨RX2, "deposit", "(II)I"⟩
def dkwX2_deposit_1 : List UInt8 := [46, 172]
abbrev dktX2_deposit_1 : List UInt8 := dkwX2_deposit_1 ++ []
def dkwX2_deposit_0 : List UInt8 := [42, 27, 182, 0, 45, 28, 184, 0, 63, 42, 180, 0, 16, 27, 92, 46, 28, 96, 79, 42, 180, 0, 16, 27]
abbrev dktX2_deposit_0 : List UInt8 := dkwX2_deposit_0 ++ dktX2_deposit_1
theorem dksX2_deposit_0 : cX2_deposit.data.toList.drop 0 = dktX2_deposit_0 := by decide +kernel
theorem dksX2_deposit_1 : cX2_deposit.data.toList.drop 24 = dktX2_deposit_1 := dk_seg dksX2_deposit_0 24 rfl rfl
theorem dX2_deposit_0 : decode cX2_deposit 0 = .ok (.aload_n 0, 1) := dk_42 (dk_at dksX2_deposit_0 0 rfl rfl)
theorem dX2_deposit_1 : decode cX2_deposit 1 = .ok (.iload_n 1, 1) := dk_27 (dk_at dksX2_deposit_0 1 rfl rfl)
theorem dX2_deposit_2 : decode cX2_deposit 2 = .ok (.invokevirtual 45, 3) := dk_182 0 45 (dk_at dksX2_deposit_0 2 rfl rfl)
theorem dX2_deposit_5 : decode cX2_deposit 5 = .ok (.iload_n 2, 1) := dk_28 (dk_at dksX2_deposit_0 5 rfl rfl)
theorem dX2_deposit_6 : decode cX2_deposit 6 = .ok (.invokestatic 63, 3) := dk_184 0 63 (dk_at dksX2_deposit_0 6 rfl rfl)
theorem dX2_deposit_9 : decode cX2_deposit 9 = .ok (.aload_n 0, 1) := dk_42 (dk_at dksX2_deposit_0 9 rfl rfl)
theorem dX2_deposit_10 : decode cX2_deposit 10 = .ok (.getfield 16, 3) := dk_180 0 16 (dk_at dksX2_deposit_0 10 rfl rfl)
theorem dX2_deposit_13 : decode cX2_deposit 13 = .ok (.iload_n 1, 1) := dk_27 (dk_at dksX2_deposit_0 13 rfl rfl)
theorem dX2_deposit_14 : decode cX2_deposit 14 = .ok (.dup2, 1) := dk_92 (dk_at dksX2_deposit_0 14 rfl rfl)
theorem dX2_deposit_15 : decode cX2_deposit 15 = .ok (.iaload, 1) := dk_46 (dk_at dksX2_deposit_0 15 rfl rfl)
theorem dX2_deposit_16 : decode cX2_deposit 16 = .ok (.iload_n 2, 1) := dk_28 (dk_at dksX2_deposit_0 16 rfl rfl)
theorem dX2_deposit_17 : decode cX2_deposit 17 = .ok (.iadd, 1) := dk_96 (dk_at dksX2_deposit_0 17 rfl rfl)
theorem dX2_deposit_18 : decode cX2_deposit 18 = .ok (.iastore, 1) := dk_79 (dk_at dksX2_deposit_0 18 rfl rfl)
theorem dX2_deposit_19 : decode cX2_deposit 19 = .ok (.aload_n 0, 1) := dk_42 (dk_at dksX2_deposit_0 19 rfl rfl)
theorem dX2_deposit_20 : decode cX2_deposit 20 = .ok (.getfield 16, 3) := dk_180 0 16 (dk_at dksX2_deposit_0 20 rfl rfl)
theorem dX2_deposit_23 : decode cX2_deposit 23 = .ok (.iload_n 1, 1) := dk_27 (dk_at dksX2_deposit_0 23 rfl rfl)
theorem dX2_deposit_24 : decode cX2_deposit 24 = .ok (.iaload, 1) := dk_46 (dk_at dksX2_deposit_1 0 rfl rfl)
theorem dX2_deposit_25 : decode cX2_deposit 25 = .ok (.ireturn, 1) := dk_172 (dk_at dksX2_deposit_1 1 rfl rfl)
abbrev cX2_declareDefault : ByteArray := prog_4_method_22_code
def yX2_declareDefault : MethodName := ⟨RX2, "declareDefault", "(I)I"⟩
def dkwX2_declareDefault_0 : List UInt8 := [42, 27, 182, 0, 161, 42, 27, 182, 0, 164, 172]
abbrev dktX2_declareDefault_0 : List UInt8 := dkwX2_declareDefault_0 ++ []
theorem dksX2_declareDefault_0 : cX2_declareDefault.data.toList.drop 0 = dktX2_declareDefault_0 := by decide +kernel
theorem dX2_declareDefault_0 : decode cX2_declareDefault 0 = .ok (.aload_n 0, 1) := dk_42 (dk_at dksX2_declareDefault_0 0 rfl rfl)
theorem dX2_declareDefault_1 : decode cX2_declareDefault 1 = .ok (.iload_n 1, 1) := dk_27 (dk_at dksX2_declareDefault_0 1 rfl rfl)
theorem dX2_declareDefault_2 : decode cX2_declareDefault 2 = .ok (.invokevirtual 161, 3) := dk_182 0 161 (dk_at dksX2_declareDefault_0 2 rfl rfl)
theorem dX2_declareDefault_5 : decode cX2_declareDefault 5 = .ok (.aload_n 0, 1) := dk_42 (dk_at dksX2_declareDefault_0 5 rfl rfl)
theorem dX2_declareDefault_6 : decode cX2_declareDefault 6 = .ok (.iload_n 1, 1) := dk_27 (dk_at dksX2_declareDefault_0 6 rfl rfl)
theorem dX2_declareDefault_7 : decode cX2_declareDefault 7 = .ok (.invokevirtual 164, 3) := dk_182 0 164 (dk_at dksX2_declareDefault_0 7 rfl rfl)
theorem dX2_declareDefault_10 : decode cX2_declareDefault 10 = .ok (.ireturn, 1) := dk_172 (dk_at dksX2_declareDefault_0 10 rfl rfl)
abbrev cX2_requireInsolvent : ByteArray := prog_4_method_21_code
def yX2_requireInsolvent : MethodName := ⟨RX2, "requireInsolvent", "(I)V"⟩
def dkwX2_requireInsolvent_0 : List UInt8 := [42, 27, 182, 0, 45, 42, 27, 182, 0, 157, 184, 0, 60, 177]
abbrev dktX2_requireInsolvent_0 : List UInt8 := dkwX2_requireInsolvent_0 ++ []
theorem dksX2_requireInsolvent_0 : cX2_requireInsolvent.data.toList.drop 0 = dktX2_requireInsolvent_0 := by decide +kernel
theorem dX2_requireInsolvent_0 : decode cX2_requireInsolvent 0 = .ok (.aload_n 0, 1) := dk_42 (dk_at dksX2_requireInsolvent_0 0 rfl rfl)
theorem dX2_requireInsolvent_1 : decode cX2_requireInsolvent 1 = .ok (.iload_n 1, 1) := dk_27 (dk_at dksX2_requireInsolvent_0 1 rfl rfl)
theorem dX2_requireInsolvent_2 : decode cX2_requireInsolvent 2 = .ok (.invokevirtual 45, 3) := dk_182 0 45 (dk_at dksX2_requireInsolvent_0 2 rfl rfl)
theorem dX2_requireInsolvent_5 : decode cX2_requireInsolvent 5 = .ok (.aload_n 0, 1) := dk_42 (dk_at dksX2_requireInsolvent_0 5 rfl rfl)
theorem dX2_requireInsolvent_6 : decode cX2_requireInsolvent 6 = .ok (.iload_n 1, 1) := dk_27 (dk_at dksX2_requireInsolvent_0 6 rfl rfl)
theorem dX2_requireInsolvent_7 : decode cX2_requireInsolvent 7 = .ok (.invokevirtual 157, 3) := dk_182 0 157 (dk_at dksX2_requireInsolvent_0 7 rfl rfl)
theorem dX2_requireInsolvent_10 : decode cX2_requireInsolvent 10 = .ok (.invokestatic 60, 3) := dk_184 0 60 (dk_at dksX2_requireInsolvent_0 10 rfl rfl)
theorem dX2_requireInsolvent_13 : decode cX2_requireInsolvent 13 = .ok (.return_, 1) := dk_177 (dk_at dksX2_requireInsolvent_0 13 rfl rfl)
abbrev cX2_isInsolvent : ByteArray := prog_4_method_30_code
def yX2_isInsolvent : MethodName := ⟨RX2, "isInsolvent", "(I)Z"⟩
def dkwX2_isInsolvent_0 : List UInt8 := [42, 27, 182, 0, 166, 158, 0, 7, 4, 167, 0, 4, 3, 172]
abbrev dktX2_isInsolvent_0 : List UInt8 := dkwX2_isInsolvent_0 ++ []
theorem dksX2_isInsolvent_0 : cX2_isInsolvent.data.toList.drop 0 = dktX2_isInsolvent_0 := by decide +kernel
theorem dX2_isInsolvent_0 : decode cX2_isInsolvent 0 = .ok (.aload_n 0, 1) := dk_42 (dk_at dksX2_isInsolvent_0 0 rfl rfl)
theorem dX2_isInsolvent_1 : decode cX2_isInsolvent 1 = .ok (.iload_n 1, 1) := dk_27 (dk_at dksX2_isInsolvent_0 1 rfl rfl)
theorem dX2_isInsolvent_2 : decode cX2_isInsolvent 2 = .ok (.invokevirtual 166, 3) := dk_182 0 166 (dk_at dksX2_isInsolvent_0 2 rfl rfl)
theorem dX2_isInsolvent_5 : decode cX2_isInsolvent 5 = .ok (.ifCond .le 7, 3) := dk_158 0 7 (dk_at dksX2_isInsolvent_0 5 rfl rfl)
theorem dX2_isInsolvent_8 : decode cX2_isInsolvent 8 = .ok (.iconst 1, 1) := dk_4 (dk_at dksX2_isInsolvent_0 8 rfl rfl)
theorem dX2_isInsolvent_9 : decode cX2_isInsolvent 9 = .ok (.goto 4, 3) := dk_167 0 4 (dk_at dksX2_isInsolvent_0 9 rfl rfl)
theorem dX2_isInsolvent_12 : decode cX2_isInsolvent 12 = .ok (.iconst 0, 1) := dk_3 (dk_at dksX2_isInsolvent_0 12 rfl rfl)
theorem dX2_isInsolvent_13 : decode cX2_isInsolvent 13 = .ok (.ireturn, 1) := dk_172 (dk_at dksX2_isInsolvent_0 13 rfl rfl)
abbrev cX2_shortfall : ByteArray := prog_4_method_29_code
def yX2_shortfall : MethodName := ⟨RX2, "shortfall", "(I)I"⟩
def dkwX2_shortfall_0 : List UInt8 := [42, 27, 182, 0, 175, 116, 42, 180, 0, 16, 27, 46, 100, 172]
abbrev dktX2_shortfall_0 : List UInt8 := dkwX2_shortfall_0 ++ []
theorem dksX2_shortfall_0 : cX2_shortfall.data.toList.drop 0 = dktX2_shortfall_0 := by decide +kernel
theorem dX2_shortfall_0 : decode cX2_shortfall 0 = .ok (.aload_n 0, 1) := dk_42 (dk_at dksX2_shortfall_0 0 rfl rfl)
theorem dX2_shortfall_1 : decode cX2_shortfall 1 = .ok (.iload_n 1, 1) := dk_27 (dk_at dksX2_shortfall_0 1 rfl rfl)
theorem dX2_shortfall_2 : decode cX2_shortfall 2 = .ok (.invokevirtual 175, 3) := dk_182 0 175 (dk_at dksX2_shortfall_0 2 rfl rfl)
theorem dX2_shortfall_5 : decode cX2_shortfall 5 = .ok (.ineg, 1) := dk_116 (dk_at dksX2_shortfall_0 5 rfl rfl)
theorem dX2_shortfall_6 : decode cX2_shortfall 6 = .ok (.aload_n 0, 1) := dk_42 (dk_at dksX2_shortfall_0 6 rfl rfl)
theorem dX2_shortfall_7 : decode cX2_shortfall 7 = .ok (.getfield 16, 3) := dk_180 0 16 (dk_at dksX2_shortfall_0 7 rfl rfl)
theorem dX2_shortfall_10 : decode cX2_shortfall 10 = .ok (.iload_n 1, 1) := dk_27 (dk_at dksX2_shortfall_0 10 rfl rfl)
theorem dX2_shortfall_11 : decode cX2_shortfall 11 = .ok (.iaload, 1) := dk_46 (dk_at dksX2_shortfall_0 11 rfl rfl)
theorem dX2_shortfall_12 : decode cX2_shortfall 12 = .ok (.isub, 1) := dk_100 (dk_at dksX2_shortfall_0 12 rfl rfl)
theorem dX2_shortfall_13 : decode cX2_shortfall 13 = .ok (.ireturn, 1) := dk_172 (dk_at dksX2_shortfall_0 13 rfl rfl)
abbrev cX2_netPosition : ByteArray := prog_4_method_28_code
def yX2_netPosition : MethodName := ⟨RX2, "netPosition", "(I)I"⟩
def dkwX2_netPosition_0 : List UInt8 := [42, 27, 182, 0, 172, 42, 27, 182, 0, 137, 100, 172]
abbrev dktX2_netPosition_0 : List UInt8 := dkwX2_netPosition_0 ++ []
theorem dksX2_netPosition_0 : cX2_netPosition.data.toList.drop 0 = dktX2_netPosition_0 := by decide +kernel
theorem dX2_netPosition_0 : decode cX2_netPosition 0 = .ok (.aload_n 0, 1) := dk_42 (dk_at dksX2_netPosition_0 0 rfl rfl)
theorem dX2_netPosition_1 : decode cX2_netPosition 1 = .ok (.iload_n 1, 1) := dk_27 (dk_at dksX2_netPosition_0 1 rfl rfl)
theorem dX2_netPosition_2 : decode cX2_netPosition 2 = .ok (.invokevirtual 172, 3) := dk_182 0 172 (dk_at dksX2_netPosition_0 2 rfl rfl)
theorem dX2_netPosition_5 : decode cX2_netPosition 5 = .ok (.aload_n 0, 1) := dk_42 (dk_at dksX2_netPosition_0 5 rfl rfl)
theorem dX2_netPosition_6 : decode cX2_netPosition 6 = .ok (.iload_n 1, 1) := dk_27 (dk_at dksX2_netPosition_0 6 rfl rfl)
theorem dX2_netPosition_7 : decode cX2_netPosition 7 = .ok (.invokevirtual 137, 3) := dk_182 0 137 (dk_at dksX2_netPosition_0 7 rfl rfl)
theorem dX2_netPosition_10 : decode cX2_netPosition 10 = .ok (.isub, 1) := dk_100 (dk_at dksX2_netPosition_0 10 rfl rfl)
theorem dX2_netPosition_11 : decode cX2_netPosition 11 = .ok (.ireturn, 1) := dk_172 (dk_at dksX2_netPosition_0 11 rfl rfl)
abbrev cX2_claims : ByteArray := prog_4_method_26_code
def yX2_claims : MethodName := ⟨RX2, "claims", "(I)I"⟩
def dkwX2_claims_1 : List UInt8 := [132, 3, 1, 167, 255, 234, 28, 172]
abbrev dktX2_claims_1 : List UInt8 := dkwX2_claims_1 ++ []
def dkwX2_claims_0 : List UInt8 := [3, 61, 3, 62, 29, 42, 180, 0, 31, 162, 0, 20, 28, 42, 180, 0, 11, 29, 50, 27, 46, 96, 61]
abbrev dktX2_claims_0 : List UInt8 := dkwX2_claims_0 ++ dktX2_claims_1
theorem dksX2_claims_0 : cX2_claims.data.toList.drop 0 = dktX2_claims_0 := by decide +kernel
theorem dksX2_claims_1 : cX2_claims.data.toList.drop 23 = dktX2_claims_1 := dk_seg dksX2_claims_0 23 rfl rfl
theorem dX2_claims_0 : decode cX2_claims 0 = .ok (.iconst 0, 1) := dk_3 (dk_at dksX2_claims_0 0 rfl rfl)
theorem dX2_claims_1 : decode cX2_claims 1 = .ok (.istore_n 2, 1) := dk_61 (dk_at dksX2_claims_0 1 rfl rfl)
theorem dX2_claims_2 : decode cX2_claims 2 = .ok (.iconst 0, 1) := dk_3 (dk_at dksX2_claims_0 2 rfl rfl)
theorem dX2_claims_3 : decode cX2_claims 3 = .ok (.istore_n 3, 1) := dk_62 (dk_at dksX2_claims_0 3 rfl rfl)
theorem dX2_claims_4 : decode cX2_claims 4 = .ok (.iload_n 3, 1) := dk_29 (dk_at dksX2_claims_0 4 rfl rfl)
theorem dX2_claims_5 : decode cX2_claims 5 = .ok (.aload_n 0, 1) := dk_42 (dk_at dksX2_claims_0 5 rfl rfl)
theorem dX2_claims_6 : decode cX2_claims 6 = .ok (.getfield 31, 3) := dk_180 0 31 (dk_at dksX2_claims_0 6 rfl rfl)
theorem dX2_claims_9 : decode cX2_claims 9 = .ok (.if_icmp .ge 20, 3) := dk_162 0 20 (dk_at dksX2_claims_0 9 rfl rfl)
theorem dX2_claims_12 : decode cX2_claims 12 = .ok (.iload_n 2, 1) := dk_28 (dk_at dksX2_claims_0 12 rfl rfl)
theorem dX2_claims_13 : decode cX2_claims 13 = .ok (.aload_n 0, 1) := dk_42 (dk_at dksX2_claims_0 13 rfl rfl)
theorem dX2_claims_14 : decode cX2_claims 14 = .ok (.getfield 11, 3) := dk_180 0 11 (dk_at dksX2_claims_0 14 rfl rfl)
theorem dX2_claims_17 : decode cX2_claims 17 = .ok (.iload_n 3, 1) := dk_29 (dk_at dksX2_claims_0 17 rfl rfl)
theorem dX2_claims_18 : decode cX2_claims 18 = .ok (.aaload, 1) := dk_50 (dk_at dksX2_claims_0 18 rfl rfl)
theorem dX2_claims_19 : decode cX2_claims 19 = .ok (.iload_n 1, 1) := dk_27 (dk_at dksX2_claims_0 19 rfl rfl)
theorem dX2_claims_20 : decode cX2_claims 20 = .ok (.iaload, 1) := dk_46 (dk_at dksX2_claims_0 20 rfl rfl)
theorem dX2_claims_21 : decode cX2_claims 21 = .ok (.iadd, 1) := dk_96 (dk_at dksX2_claims_0 21 rfl rfl)
theorem dX2_claims_22 : decode cX2_claims 22 = .ok (.istore_n 2, 1) := dk_61 (dk_at dksX2_claims_0 22 rfl rfl)
theorem dX2_claims_23 : decode cX2_claims 23 = .ok (.iinc 3 1, 3) := dk_132 3 1 (dk_at dksX2_claims_1 0 rfl rfl)
theorem dX2_claims_26 : decode cX2_claims 26 = .ok (.goto (-22), 3) := dk_167 255 234 (dk_at dksX2_claims_1 3 rfl rfl)
theorem dX2_claims_29 : decode cX2_claims 29 = .ok (.iload_n 2, 1) := dk_28 (dk_at dksX2_claims_1 6 rfl rfl)
theorem dX2_claims_30 : decode cX2_claims 30 = .ok (.ireturn, 1) := dk_172 (dk_at dksX2_claims_1 7 rfl rfl)
abbrev cX2_obligations : ByteArray := prog_4_method_27_code
def yX2_obligations : MethodName := ⟨RX2, "obligations", "(I)I"⟩
def dkwX2_obligations_1 : List UInt8 := [132, 3, 1, 167, 255, 234, 28, 172]
abbrev dktX2_obligations_1 : List UInt8 := dkwX2_obligations_1 ++ []
def dkwX2_obligations_0 : List UInt8 := [3, 61, 3, 62, 29, 42, 180, 0, 31, 162, 0, 20, 28, 42, 180, 0, 11, 27, 50, 29, 46, 96, 61]
abbrev dktX2_obligations_0 : List UInt8 := dkwX2_obligations_0 ++ dktX2_obligations_1
theorem dksX2_obligations_0 : cX2_obligations.data.toList.drop 0 = dktX2_obligations_0 := by decide +kernel
theorem dksX2_obligations_1 : cX2_obligations.data.toList.drop 23 = dktX2_obligations_1 := dk_seg dksX2_obligations_0 23 rfl rfl
theorem dX2_obligations_0 : decode cX2_obligations 0 = .ok (.iconst 0, 1) := dk_3 (dk_at dksX2_obligations_0 0 rfl rfl)
theorem dX2_obligations_1 : decode cX2_obligations 1 = .ok (.istore_n 2, 1) := dk_61 (dk_at dksX2_obligations_0 1 rfl rfl)
theorem dX2_obligations_2 : decode cX2_obligations 2 = .ok (.iconst 0, 1) := dk_3 (dk_at dksX2_obligations_0 2 rfl rfl)
theorem dX2_obligations_3 : decode cX2_obligations 3 = .ok (.istore_n 3, 1) := dk_62 (dk_at dksX2_obligations_0 3 rfl rfl)
theorem dX2_obligations_4 : decode cX2_obligations 4 = .ok (.iload_n 3, 1) := dk_29 (dk_at dksX2_obligations_0 4 rfl rfl)
theorem dX2_obligations_5 : decode cX2_obligations 5 = .ok (.aload_n 0, 1) := dk_42 (dk_at dksX2_obligations_0 5 rfl rfl)
theorem dX2_obligations_6 : decode cX2_obligations 6 = .ok (.getfield 31, 3) := dk_180 0 31 (dk_at dksX2_obligations_0 6 rfl rfl)
theorem dX2_obligations_9 : decode cX2_obligations 9 = .ok (.if_icmp .ge 20, 3) := dk_162 0 20 (dk_at dksX2_obligations_0 9 rfl rfl)
theorem dX2_obligations_12 : decode cX2_obligations 12 = .ok (.iload_n 2, 1) := dk_28 (dk_at dksX2_obligations_0 12 rfl rfl)
theorem dX2_obligations_13 : decode cX2_obligations 13 = .ok (.aload_n 0, 1) := dk_42 (dk_at dksX2_obligations_0 13 rfl rfl)
theorem dX2_obligations_14 : decode cX2_obligations 14 = .ok (.getfield 11, 3) := dk_180 0 11 (dk_at dksX2_obligations_0 14 rfl rfl)
theorem dX2_obligations_17 : decode cX2_obligations 17 = .ok (.iload_n 1, 1) := dk_27 (dk_at dksX2_obligations_0 17 rfl rfl)
theorem dX2_obligations_18 : decode cX2_obligations 18 = .ok (.aaload, 1) := dk_50 (dk_at dksX2_obligations_0 18 rfl rfl)
theorem dX2_obligations_19 : decode cX2_obligations 19 = .ok (.iload_n 3, 1) := dk_29 (dk_at dksX2_obligations_0 19 rfl rfl)
theorem dX2_obligations_20 : decode cX2_obligations 20 = .ok (.iaload, 1) := dk_46 (dk_at dksX2_obligations_0 20 rfl rfl)
theorem dX2_obligations_21 : decode cX2_obligations 21 = .ok (.iadd, 1) := dk_96 (dk_at dksX2_obligations_0 21 rfl rfl)
theorem dX2_obligations_22 : decode cX2_obligations 22 = .ok (.istore_n 2, 1) := dk_61 (dk_at dksX2_obligations_0 22 rfl rfl)
theorem dX2_obligations_23 : decode cX2_obligations 23 = .ok (.iinc 3 1, 3) := dk_132 3 1 (dk_at dksX2_obligations_1 0 rfl rfl)
theorem dX2_obligations_26 : decode cX2_obligations 26 = .ok (.goto (-22), 3) := dk_167 255 234 (dk_at dksX2_obligations_1 3 rfl rfl)
theorem dX2_obligations_29 : decode cX2_obligations 29 = .ok (.iload_n 2, 1) := dk_28 (dk_at dksX2_obligations_1 6 rfl rfl)
theorem dX2_obligations_30 : decode cX2_obligations 30 = .ok (.ireturn, 1) := dk_172 (dk_at dksX2_obligations_1 7 rfl rfl)
abbrev cX2_fail : ByteArray := prog_4_method_19_code
def yX2_fail : MethodName := ⟨RX2, "fail", "(I)I"⟩
def dkwX2_fail_3 : List UInt8 := [42, 180, 0, 16, 27, 3, 79, 42, 89, 180, 0, 35, 4, 96, 181, 0, 35, 29, 172]
abbrev dktX2_fail_3 : List UInt8 := dkwX2_fail_3 ++ []
def dkwX2_fail_2 : List UInt8 := [21, 4, 3, 79, 132, 4, 1, 167, 255, 220, 42, 180, 0, 23, 42, 180, 0, 16, 27, 46, 29, 182, 0, 154]
abbrev dktX2_fail_2 : List UInt8 := dkwX2_fail_2 ++ dktX2_fail_3
def dkwX2_fail_1 : List UInt8 := [162, 0, 33, 42, 180, 0, 16, 21, 4, 92, 46, 44, 21, 4, 46, 96, 79, 42, 180, 0, 11, 27, 50]
abbrev dktX2_fail_1 : List UInt8 := dkwX2_fail_1 ++ dktX2_fail_2
def dkwX2_fail_0 : List UInt8 := [42, 27, 182, 0, 143, 182, 0, 147, 77, 42, 27, 182, 0, 151, 62, 3, 54, 4, 21, 4, 42, 180, 0, 31]
abbrev dktX2_fail_0 : List UInt8 := dkwX2_fail_0 ++ dktX2_fail_1
theorem dksX2_fail_0 : cX2_fail.data.toList.drop 0 = dktX2_fail_0 := by decide +kernel
theorem dksX2_fail_1 : cX2_fail.data.toList.drop 24 = dktX2_fail_1 := dk_seg dksX2_fail_0 24 rfl rfl
theorem dksX2_fail_2 : cX2_fail.data.toList.drop 47 = dktX2_fail_2 := dk_seg dksX2_fail_1 23 rfl rfl
theorem dksX2_fail_3 : cX2_fail.data.toList.drop 71 = dktX2_fail_3 := dk_seg dksX2_fail_2 24 rfl rfl
theorem dX2_fail_0 : decode cX2_fail 0 = .ok (.aload_n 0, 1) := dk_42 (dk_at dksX2_fail_0 0 rfl rfl)
theorem dX2_fail_1 : decode cX2_fail 1 = .ok (.iload_n 1, 1) := dk_27 (dk_at dksX2_fail_0 1 rfl rfl)
theorem dX2_fail_2 : decode cX2_fail 2 = .ok (.invokevirtual 143, 3) := dk_182 0 143 (dk_at dksX2_fail_0 2 rfl rfl)
theorem dX2_fail_5 : decode cX2_fail 5 = .ok (.invokevirtual 147, 3) := dk_182 0 147 (dk_at dksX2_fail_0 5 rfl rfl)
theorem dX2_fail_8 : decode cX2_fail 8 = .ok (.astore_n 2, 1) := dk_77 (dk_at dksX2_fail_0 8 rfl rfl)
theorem dX2_fail_9 : decode cX2_fail 9 = .ok (.aload_n 0, 1) := dk_42 (dk_at dksX2_fail_0 9 rfl rfl)
theorem dX2_fail_10 : decode cX2_fail 10 = .ok (.iload_n 1, 1) := dk_27 (dk_at dksX2_fail_0 10 rfl rfl)
theorem dX2_fail_11 : decode cX2_fail 11 = .ok (.invokevirtual 151, 3) := dk_182 0 151 (dk_at dksX2_fail_0 11 rfl rfl)
theorem dX2_fail_14 : decode cX2_fail 14 = .ok (.istore_n 3, 1) := dk_62 (dk_at dksX2_fail_0 14 rfl rfl)
theorem dX2_fail_15 : decode cX2_fail 15 = .ok (.iconst 0, 1) := dk_3 (dk_at dksX2_fail_0 15 rfl rfl)
theorem dX2_fail_16 : decode cX2_fail 16 = .ok (.istore 4, 2) := dk_54 4 (dk_at dksX2_fail_0 16 rfl rfl)
theorem dX2_fail_18 : decode cX2_fail 18 = .ok (.iload 4, 2) := dk_21 4 (dk_at dksX2_fail_0 18 rfl rfl)
theorem dX2_fail_20 : decode cX2_fail 20 = .ok (.aload_n 0, 1) := dk_42 (dk_at dksX2_fail_0 20 rfl rfl)
theorem dX2_fail_21 : decode cX2_fail 21 = .ok (.getfield 31, 3) := dk_180 0 31 (dk_at dksX2_fail_0 21 rfl rfl)
theorem dX2_fail_24 : decode cX2_fail 24 = .ok (.if_icmp .ge 33, 3) := dk_162 0 33 (dk_at dksX2_fail_1 0 rfl rfl)
theorem dX2_fail_27 : decode cX2_fail 27 = .ok (.aload_n 0, 1) := dk_42 (dk_at dksX2_fail_1 3 rfl rfl)
theorem dX2_fail_28 : decode cX2_fail 28 = .ok (.getfield 16, 3) := dk_180 0 16 (dk_at dksX2_fail_1 4 rfl rfl)
theorem dX2_fail_31 : decode cX2_fail 31 = .ok (.iload 4, 2) := dk_21 4 (dk_at dksX2_fail_1 7 rfl rfl)
theorem dX2_fail_33 : decode cX2_fail 33 = .ok (.dup2, 1) := dk_92 (dk_at dksX2_fail_1 9 rfl rfl)
theorem dX2_fail_34 : decode cX2_fail 34 = .ok (.iaload, 1) := dk_46 (dk_at dksX2_fail_1 10 rfl rfl)
theorem dX2_fail_35 : decode cX2_fail 35 = .ok (.aload_n 2, 1) := dk_44 (dk_at dksX2_fail_1 11 rfl rfl)
theorem dX2_fail_36 : decode cX2_fail 36 = .ok (.iload 4, 2) := dk_21 4 (dk_at dksX2_fail_1 12 rfl rfl)
theorem dX2_fail_38 : decode cX2_fail 38 = .ok (.iaload, 1) := dk_46 (dk_at dksX2_fail_1 14 rfl rfl)
theorem dX2_fail_39 : decode cX2_fail 39 = .ok (.iadd, 1) := dk_96 (dk_at dksX2_fail_1 15 rfl rfl)
theorem dX2_fail_40 : decode cX2_fail 40 = .ok (.iastore, 1) := dk_79 (dk_at dksX2_fail_1 16 rfl rfl)
theorem dX2_fail_41 : decode cX2_fail 41 = .ok (.aload_n 0, 1) := dk_42 (dk_at dksX2_fail_1 17 rfl rfl)
theorem dX2_fail_42 : decode cX2_fail 42 = .ok (.getfield 11, 3) := dk_180 0 11 (dk_at dksX2_fail_1 18 rfl rfl)
theorem dX2_fail_45 : decode cX2_fail 45 = .ok (.iload_n 1, 1) := dk_27 (dk_at dksX2_fail_1 21 rfl rfl)
theorem dX2_fail_46 : decode cX2_fail 46 = .ok (.aaload, 1) := dk_50 (dk_at dksX2_fail_1 22 rfl rfl)
theorem dX2_fail_47 : decode cX2_fail 47 = .ok (.iload 4, 2) := dk_21 4 (dk_at dksX2_fail_2 0 rfl rfl)
theorem dX2_fail_49 : decode cX2_fail 49 = .ok (.iconst 0, 1) := dk_3 (dk_at dksX2_fail_2 2 rfl rfl)
theorem dX2_fail_50 : decode cX2_fail 50 = .ok (.iastore, 1) := dk_79 (dk_at dksX2_fail_2 3 rfl rfl)
theorem dX2_fail_51 : decode cX2_fail 51 = .ok (.iinc 4 1, 3) := dk_132 4 1 (dk_at dksX2_fail_2 4 rfl rfl)
theorem dX2_fail_54 : decode cX2_fail 54 = .ok (.goto (-36), 3) := dk_167 255 220 (dk_at dksX2_fail_2 7 rfl rfl)
theorem dX2_fail_57 : decode cX2_fail 57 = .ok (.aload_n 0, 1) := dk_42 (dk_at dksX2_fail_2 10 rfl rfl)
theorem dX2_fail_58 : decode cX2_fail 58 = .ok (.getfield 23, 3) := dk_180 0 23 (dk_at dksX2_fail_2 11 rfl rfl)
theorem dX2_fail_61 : decode cX2_fail 61 = .ok (.aload_n 0, 1) := dk_42 (dk_at dksX2_fail_2 14 rfl rfl)
theorem dX2_fail_62 : decode cX2_fail 62 = .ok (.getfield 16, 3) := dk_180 0 16 (dk_at dksX2_fail_2 15 rfl rfl)
theorem dX2_fail_65 : decode cX2_fail 65 = .ok (.iload_n 1, 1) := dk_27 (dk_at dksX2_fail_2 18 rfl rfl)
theorem dX2_fail_66 : decode cX2_fail 66 = .ok (.iaload, 1) := dk_46 (dk_at dksX2_fail_2 19 rfl rfl)
theorem dX2_fail_67 : decode cX2_fail 67 = .ok (.iload_n 3, 1) := dk_29 (dk_at dksX2_fail_2 20 rfl rfl)
theorem dX2_fail_68 : decode cX2_fail 68 = .ok (.invokevirtual 154, 3) := dk_182 0 154 (dk_at dksX2_fail_2 21 rfl rfl)
theorem dX2_fail_71 : decode cX2_fail 71 = .ok (.aload_n 0, 1) := dk_42 (dk_at dksX2_fail_3 0 rfl rfl)
theorem dX2_fail_72 : decode cX2_fail 72 = .ok (.getfield 16, 3) := dk_180 0 16 (dk_at dksX2_fail_3 1 rfl rfl)
theorem dX2_fail_75 : decode cX2_fail 75 = .ok (.iload_n 1, 1) := dk_27 (dk_at dksX2_fail_3 4 rfl rfl)
theorem dX2_fail_76 : decode cX2_fail 76 = .ok (.iconst 0, 1) := dk_3 (dk_at dksX2_fail_3 5 rfl rfl)
theorem dX2_fail_77 : decode cX2_fail 77 = .ok (.iastore, 1) := dk_79 (dk_at dksX2_fail_3 6 rfl rfl)
theorem dX2_fail_78 : decode cX2_fail 78 = .ok (.aload_n 0, 1) := dk_42 (dk_at dksX2_fail_3 7 rfl rfl)
theorem dX2_fail_79 : decode cX2_fail 79 = .ok (.dup, 1) := dk_89 (dk_at dksX2_fail_3 8 rfl rfl)
theorem dX2_fail_80 : decode cX2_fail 80 = .ok (.getfield 35, 3) := dk_180 0 35 (dk_at dksX2_fail_3 9 rfl rfl)
theorem dX2_fail_83 : decode cX2_fail 83 = .ok (.iconst 1, 1) := dk_4 (dk_at dksX2_fail_3 12 rfl rfl)
theorem dX2_fail_84 : decode cX2_fail 84 = .ok (.iadd, 1) := dk_96 (dk_at dksX2_fail_3 13 rfl rfl)
theorem dX2_fail_85 : decode cX2_fail 85 = .ok (.putfield 35, 3) := dk_181 0 35 (dk_at dksX2_fail_3 14 rfl rfl)
theorem dX2_fail_88 : decode cX2_fail 88 = .ok (.iload_n 3, 1) := dk_29 (dk_at dksX2_fail_3 17 rfl rfl)
theorem dX2_fail_89 : decode cX2_fail 89 = .ok (.ireturn, 1) := dk_172 (dk_at dksX2_fail_3 18 rfl rfl)
abbrev cX2_shares : ByteArray := prog_4_method_17_code
def yX2_shares : MethodName := ⟨RX2, "shares", "(I)LClearingHouse$Shares;"⟩
def dkwX2_shares_0 : List UInt8 := [187, 0, 131, 89, 42, 180, 0, 16, 27, 46, 42, 27, 182, 0, 133, 42, 27, 182, 0, 137, 183, 0, 140, 176]
abbrev dktX2_shares_0 : List UInt8 := dkwX2_shares_0 ++ []
theorem dksX2_shares_0 : cX2_shares.data.toList.drop 0 = dktX2_shares_0 := by decide +kernel
theorem dX2_shares_0 : decode cX2_shares 0 = .ok (.new 131, 3) := dk_187 0 131 (dk_at dksX2_shares_0 0 rfl rfl)
theorem dX2_shares_3 : decode cX2_shares 3 = .ok (.dup, 1) := dk_89 (dk_at dksX2_shares_0 3 rfl rfl)
theorem dX2_shares_4 : decode cX2_shares 4 = .ok (.aload_n 0, 1) := dk_42 (dk_at dksX2_shares_0 4 rfl rfl)
theorem dX2_shares_5 : decode cX2_shares 5 = .ok (.getfield 16, 3) := dk_180 0 16 (dk_at dksX2_shares_0 5 rfl rfl)
theorem dX2_shares_8 : decode cX2_shares 8 = .ok (.iload_n 1, 1) := dk_27 (dk_at dksX2_shares_0 8 rfl rfl)
theorem dX2_shares_9 : decode cX2_shares 9 = .ok (.iaload, 1) := dk_46 (dk_at dksX2_shares_0 9 rfl rfl)
theorem dX2_shares_10 : decode cX2_shares 10 = .ok (.aload_n 0, 1) := dk_42 (dk_at dksX2_shares_0 10 rfl rfl)
theorem dX2_shares_11 : decode cX2_shares 11 = .ok (.iload_n 1, 1) := dk_27 (dk_at dksX2_shares_0 11 rfl rfl)
theorem dX2_shares_12 : decode cX2_shares 12 = .ok (.invokevirtual 133, 3) := dk_182 0 133 (dk_at dksX2_shares_0 12 rfl rfl)
theorem dX2_shares_15 : decode cX2_shares 15 = .ok (.aload_n 0, 1) := dk_42 (dk_at dksX2_shares_0 15 rfl rfl)
theorem dX2_shares_16 : decode cX2_shares 16 = .ok (.iload_n 1, 1) := dk_27 (dk_at dksX2_shares_0 16 rfl rfl)
theorem dX2_shares_17 : decode cX2_shares 17 = .ok (.invokevirtual 137, 3) := dk_182 0 137 (dk_at dksX2_shares_0 17 rfl rfl)
theorem dX2_shares_20 : decode cX2_shares 20 = .ok (.invokespecial 140, 3) := dk_183 0 140 (dk_at dksX2_shares_0 20 rfl rfl)
theorem dX2_shares_23 : decode cX2_shares 23 = .ok (.areturn, 1) := dk_176 (dk_at dksX2_shares_0 23 rfl rfl)
abbrev cX2_debtsOf : ByteArray := prog_4_method_18_code
def yX2_debtsOf : MethodName := ⟨RX2, "debtsOf", "(I)[I"⟩
def dkwX2_debtsOf_1 : List UInt8 := [50, 29, 46, 79, 132, 3, 1, 167, 255, 234, 44, 176]
abbrev dktX2_debtsOf_1 : List UInt8 := dkwX2_debtsOf_1 ++ []
def dkwX2_debtsOf_0 : List UInt8 := [42, 180, 0, 31, 188, 10, 77, 3, 62, 29, 42, 180, 0, 31, 162, 0, 20, 44, 29, 42, 180, 0, 11, 27]
abbrev dktX2_debtsOf_0 : List UInt8 := dkwX2_debtsOf_0 ++ dktX2_debtsOf_1
theorem dksX2_debtsOf_0 : cX2_debtsOf.data.toList.drop 0 = dktX2_debtsOf_0 := by decide +kernel
theorem dksX2_debtsOf_1 : cX2_debtsOf.data.toList.drop 24 = dktX2_debtsOf_1 := dk_seg dksX2_debtsOf_0 24 rfl rfl
theorem dX2_debtsOf_0 : decode cX2_debtsOf 0 = .ok (.aload_n 0, 1) := dk_42 (dk_at dksX2_debtsOf_0 0 rfl rfl)
theorem dX2_debtsOf_1 : decode cX2_debtsOf 1 = .ok (.getfield 31, 3) := dk_180 0 31 (dk_at dksX2_debtsOf_0 1 rfl rfl)
theorem dX2_debtsOf_4 : decode cX2_debtsOf 4 = .ok (.newarray .int, 2) := dk_188_10 (dk_at dksX2_debtsOf_0 4 rfl rfl)
theorem dX2_debtsOf_6 : decode cX2_debtsOf 6 = .ok (.astore_n 2, 1) := dk_77 (dk_at dksX2_debtsOf_0 6 rfl rfl)
theorem dX2_debtsOf_7 : decode cX2_debtsOf 7 = .ok (.iconst 0, 1) := dk_3 (dk_at dksX2_debtsOf_0 7 rfl rfl)
theorem dX2_debtsOf_8 : decode cX2_debtsOf 8 = .ok (.istore_n 3, 1) := dk_62 (dk_at dksX2_debtsOf_0 8 rfl rfl)
theorem dX2_debtsOf_9 : decode cX2_debtsOf 9 = .ok (.iload_n 3, 1) := dk_29 (dk_at dksX2_debtsOf_0 9 rfl rfl)
theorem dX2_debtsOf_10 : decode cX2_debtsOf 10 = .ok (.aload_n 0, 1) := dk_42 (dk_at dksX2_debtsOf_0 10 rfl rfl)
theorem dX2_debtsOf_11 : decode cX2_debtsOf 11 = .ok (.getfield 31, 3) := dk_180 0 31 (dk_at dksX2_debtsOf_0 11 rfl rfl)
theorem dX2_debtsOf_14 : decode cX2_debtsOf 14 = .ok (.if_icmp .ge 20, 3) := dk_162 0 20 (dk_at dksX2_debtsOf_0 14 rfl rfl)
theorem dX2_debtsOf_17 : decode cX2_debtsOf 17 = .ok (.aload_n 2, 1) := dk_44 (dk_at dksX2_debtsOf_0 17 rfl rfl)
theorem dX2_debtsOf_18 : decode cX2_debtsOf 18 = .ok (.iload_n 3, 1) := dk_29 (dk_at dksX2_debtsOf_0 18 rfl rfl)
theorem dX2_debtsOf_19 : decode cX2_debtsOf 19 = .ok (.aload_n 0, 1) := dk_42 (dk_at dksX2_debtsOf_0 19 rfl rfl)
theorem dX2_debtsOf_20 : decode cX2_debtsOf 20 = .ok (.getfield 11, 3) := dk_180 0 11 (dk_at dksX2_debtsOf_0 20 rfl rfl)
theorem dX2_debtsOf_23 : decode cX2_debtsOf 23 = .ok (.iload_n 1, 1) := dk_27 (dk_at dksX2_debtsOf_0 23 rfl rfl)
theorem dX2_debtsOf_24 : decode cX2_debtsOf 24 = .ok (.aaload, 1) := dk_50 (dk_at dksX2_debtsOf_1 0 rfl rfl)
theorem dX2_debtsOf_25 : decode cX2_debtsOf 25 = .ok (.iload_n 3, 1) := dk_29 (dk_at dksX2_debtsOf_1 1 rfl rfl)
theorem dX2_debtsOf_26 : decode cX2_debtsOf 26 = .ok (.iaload, 1) := dk_46 (dk_at dksX2_debtsOf_1 2 rfl rfl)
theorem dX2_debtsOf_27 : decode cX2_debtsOf 27 = .ok (.iastore, 1) := dk_79 (dk_at dksX2_debtsOf_1 3 rfl rfl)
theorem dX2_debtsOf_28 : decode cX2_debtsOf 28 = .ok (.iinc 3 1, 3) := dk_132 3 1 (dk_at dksX2_debtsOf_1 4 rfl rfl)
theorem dX2_debtsOf_31 : decode cX2_debtsOf 31 = .ok (.goto (-22), 3) := dk_167 255 234 (dk_at dksX2_debtsOf_1 7 rfl rfl)
theorem dX2_debtsOf_34 : decode cX2_debtsOf 34 = .ok (.aload_n 2, 1) := dk_44 (dk_at dksX2_debtsOf_1 10 rfl rfl)
theorem dX2_debtsOf_35 : decode cX2_debtsOf 35 = .ok (.areturn, 1) := dk_176 (dk_at dksX2_debtsOf_1 11 rfl rfl)
abbrev cX2_shortOfCash : ByteArray := prog_4_method_20_code
def yX2_shortOfCash : MethodName := ⟨RX2, "shortOfCash", "(I)I"⟩
def dkwX2_shortOfCash_0 : List UInt8 := [42, 27, 182, 0, 137, 42, 180, 0, 16, 27, 46, 100, 172]
abbrev dktX2_shortOfCash_0 : List UInt8 := dkwX2_shortOfCash_0 ++ []
theorem dksX2_shortOfCash_0 : cX2_shortOfCash.data.toList.drop 0 = dktX2_shortOfCash_0 := by decide +kernel
theorem dX2_shortOfCash_0 : decode cX2_shortOfCash 0 = .ok (.aload_n 0, 1) := dk_42 (dk_at dksX2_shortOfCash_0 0 rfl rfl)
theorem dX2_shortOfCash_1 : decode cX2_shortOfCash 1 = .ok (.iload_n 1, 1) := dk_27 (dk_at dksX2_shortOfCash_0 1 rfl rfl)
theorem dX2_shortOfCash_2 : decode cX2_shortOfCash 2 = .ok (.invokevirtual 137, 3) := dk_182 0 137 (dk_at dksX2_shortOfCash_0 2 rfl rfl)
theorem dX2_shortOfCash_5 : decode cX2_shortOfCash 5 = .ok (.aload_n 0, 1) := dk_42 (dk_at dksX2_shortOfCash_0 5 rfl rfl)
theorem dX2_shortOfCash_6 : decode cX2_shortOfCash 6 = .ok (.getfield 16, 3) := dk_180 0 16 (dk_at dksX2_shortOfCash_0 6 rfl rfl)
theorem dX2_shortOfCash_9 : decode cX2_shortOfCash 9 = .ok (.iload_n 1, 1) := dk_27 (dk_at dksX2_shortOfCash_0 9 rfl rfl)
theorem dX2_shortOfCash_10 : decode cX2_shortOfCash 10 = .ok (.iaload, 1) := dk_46 (dk_at dksX2_shortOfCash_0 10 rfl rfl)
theorem dX2_shortOfCash_11 : decode cX2_shortOfCash 11 = .ok (.isub, 1) := dk_100 (dk_at dksX2_shortOfCash_0 11 rfl rfl)
theorem dX2_shortOfCash_12 : decode cX2_shortOfCash 12 = .ok (.ireturn, 1) := dk_172 (dk_at dksX2_shortOfCash_0 12 rfl rfl)
abbrev cX2_netCycle : ByteArray := prog_4_method_15_code
def yX2_netCycle : MethodName := ⟨RX2, "netCycle", "()I"⟩
def dkwX2_netCycle_0 : List UInt8 := [42, 42, 182, 0, 110, 182, 0, 114, 172]
abbrev dktX2_netCycle_0 : List UInt8 := dkwX2_netCycle_0 ++ []
theorem dksX2_netCycle_0 : cX2_netCycle.data.toList.drop 0 = dktX2_netCycle_0 := by decide +kernel
theorem dX2_netCycle_0 : decode cX2_netCycle 0 = .ok (.aload_n 0, 1) := dk_42 (dk_at dksX2_netCycle_0 0 rfl rfl)
theorem dX2_netCycle_1 : decode cX2_netCycle 1 = .ok (.aload_n 0, 1) := dk_42 (dk_at dksX2_netCycle_0 1 rfl rfl)
theorem dX2_netCycle_2 : decode cX2_netCycle 2 = .ok (.invokevirtual 110, 3) := dk_182 0 110 (dk_at dksX2_netCycle_0 2 rfl rfl)
theorem dX2_netCycle_5 : decode cX2_netCycle 5 = .ok (.invokevirtual 114, 3) := dk_182 0 114 (dk_at dksX2_netCycle_0 5 rfl rfl)
theorem dX2_netCycle_8 : decode cX2_netCycle 8 = .ok (.ireturn, 1) := dk_172 (dk_at dksX2_netCycle_0 8 rfl rfl)
abbrev cX2_requireCycle : ByteArray := prog_4_method_37_code
def yX2_requireCycle : MethodName := ⟨RX2, "requireCycle", "()LClearingHouse$Cycle;"⟩
def dkwX2_requireCycle_1 : List UInt8 := [192, 0, 95, 176]
abbrev dktX2_requireCycle_1 : List UInt8 := dkwX2_requireCycle_1 ++ []
def dkwX2_requireCycle_0 : List UInt8 := [42, 182, 0, 117, 76, 43, 182, 0, 121, 154, 0, 11, 187, 0, 203, 89, 183, 0, 205, 191, 43, 182, 0, 127]
abbrev dktX2_requireCycle_0 : List UInt8 := dkwX2_requireCycle_0 ++ dktX2_requireCycle_1
theorem dksX2_requireCycle_0 : cX2_requireCycle.data.toList.drop 0 = dktX2_requireCycle_0 := by decide +kernel
theorem dksX2_requireCycle_1 : cX2_requireCycle.data.toList.drop 24 = dktX2_requireCycle_1 := dk_seg dksX2_requireCycle_0 24 rfl rfl
theorem dX2_requireCycle_0 : decode cX2_requireCycle 0 = .ok (.aload_n 0, 1) := dk_42 (dk_at dksX2_requireCycle_0 0 rfl rfl)
theorem dX2_requireCycle_1 : decode cX2_requireCycle 1 = .ok (.invokevirtual 117, 3) := dk_182 0 117 (dk_at dksX2_requireCycle_0 1 rfl rfl)
theorem dX2_requireCycle_4 : decode cX2_requireCycle 4 = .ok (.astore_n 1, 1) := dk_76 (dk_at dksX2_requireCycle_0 4 rfl rfl)
theorem dX2_requireCycle_5 : decode cX2_requireCycle 5 = .ok (.aload_n 1, 1) := dk_43 (dk_at dksX2_requireCycle_0 5 rfl rfl)
theorem dX2_requireCycle_6 : decode cX2_requireCycle 6 = .ok (.invokevirtual 121, 3) := dk_182 0 121 (dk_at dksX2_requireCycle_0 6 rfl rfl)
theorem dX2_requireCycle_9 : decode cX2_requireCycle 9 = .ok (.ifCond .ne 11, 3) := dk_154 0 11 (dk_at dksX2_requireCycle_0 9 rfl rfl)
theorem dX2_requireCycle_12 : decode cX2_requireCycle 12 = .ok (.new 203, 3) := dk_187 0 203 (dk_at dksX2_requireCycle_0 12 rfl rfl)
theorem dX2_requireCycle_15 : decode cX2_requireCycle 15 = .ok (.dup, 1) := dk_89 (dk_at dksX2_requireCycle_0 15 rfl rfl)
theorem dX2_requireCycle_16 : decode cX2_requireCycle 16 = .ok (.invokespecial 205, 3) := dk_183 0 205 (dk_at dksX2_requireCycle_0 16 rfl rfl)
theorem dX2_requireCycle_19 : decode cX2_requireCycle 19 = .ok (.athrow, 1) := dk_191 (dk_at dksX2_requireCycle_0 19 rfl rfl)
theorem dX2_requireCycle_20 : decode cX2_requireCycle 20 = .ok (.aload_n 1, 1) := dk_43 (dk_at dksX2_requireCycle_0 20 rfl rfl)
theorem dX2_requireCycle_21 : decode cX2_requireCycle 21 = .ok (.invokevirtual 127, 3) := dk_182 0 127 (dk_at dksX2_requireCycle_0 21 rfl rfl)
theorem dX2_requireCycle_24 : decode cX2_requireCycle 24 = .ok (.checkcast 95, 3) := dk_192 0 95 (dk_at dksX2_requireCycle_1 0 rfl rfl)
theorem dX2_requireCycle_27 : decode cX2_requireCycle 27 = .ok (.areturn, 1) := dk_176 (dk_at dksX2_requireCycle_1 3 rfl rfl)
abbrev cX2_nextCycle : ByteArray := prog_4_method_36_code
def yX2_nextCycle : MethodName := ⟨RX2, "nextCycle", "()Ljava/util/Optional;"⟩
def dkwX2_nextCycle_3 : List UInt8 := [184, 0, 200, 176]
abbrev dktX2_nextCycle_3 : List UInt8 := dkwX2_nextCycle_3 ++ []
def dkwX2_nextCycle_2 : List UInt8 := [43, 28, 182, 0, 189, 183, 0, 193, 184, 0, 196, 176, 132, 3, 1, 167, 255, 212, 132, 2, 1, 167, 255, 196]
abbrev dktX2_nextCycle_2 : List UInt8 := dkwX2_nextCycle_2 ++ dktX2_nextCycle_3
def dkwX2_nextCycle_1 : List UInt8 := [162, 0, 42, 43, 3, 29, 79, 42, 43, 4, 28, 182, 0, 186, 153, 0, 22, 187, 0, 95, 89, 43, 28, 42]
abbrev dktX2_nextCycle_1 : List UInt8 := dkwX2_nextCycle_1 ++ dktX2_nextCycle_2
def dkwX2_nextCycle_0 : List UInt8 := [16, 7, 188, 10, 76, 5, 61, 28, 42, 180, 0, 31, 163, 0, 58, 3, 62, 29, 42, 180, 0, 31]
abbrev dktX2_nextCycle_0 : List UInt8 := dkwX2_nextCycle_0 ++ dktX2_nextCycle_1
theorem dksX2_nextCycle_0 : cX2_nextCycle.data.toList.drop 0 = dktX2_nextCycle_0 := by decide +kernel
theorem dksX2_nextCycle_1 : cX2_nextCycle.data.toList.drop 22 = dktX2_nextCycle_1 := dk_seg dksX2_nextCycle_0 22 rfl rfl
theorem dksX2_nextCycle_2 : cX2_nextCycle.data.toList.drop 46 = dktX2_nextCycle_2 := dk_seg dksX2_nextCycle_1 24 rfl rfl
theorem dksX2_nextCycle_3 : cX2_nextCycle.data.toList.drop 70 = dktX2_nextCycle_3 := dk_seg dksX2_nextCycle_2 24 rfl rfl
theorem dX2_nextCycle_0 : decode cX2_nextCycle 0 = .ok (.bipush 7, 2) := dk_16 7 (dk_at dksX2_nextCycle_0 0 rfl rfl)
theorem dX2_nextCycle_2 : decode cX2_nextCycle 2 = .ok (.newarray .int, 2) := dk_188_10 (dk_at dksX2_nextCycle_0 2 rfl rfl)
theorem dX2_nextCycle_4 : decode cX2_nextCycle 4 = .ok (.astore_n 1, 1) := dk_76 (dk_at dksX2_nextCycle_0 4 rfl rfl)
theorem dX2_nextCycle_5 : decode cX2_nextCycle 5 = .ok (.iconst 2, 1) := dk_5 (dk_at dksX2_nextCycle_0 5 rfl rfl)
theorem dX2_nextCycle_6 : decode cX2_nextCycle 6 = .ok (.istore_n 2, 1) := dk_61 (dk_at dksX2_nextCycle_0 6 rfl rfl)
theorem dX2_nextCycle_7 : decode cX2_nextCycle 7 = .ok (.iload_n 2, 1) := dk_28 (dk_at dksX2_nextCycle_0 7 rfl rfl)
theorem dX2_nextCycle_8 : decode cX2_nextCycle 8 = .ok (.aload_n 0, 1) := dk_42 (dk_at dksX2_nextCycle_0 8 rfl rfl)
theorem dX2_nextCycle_9 : decode cX2_nextCycle 9 = .ok (.getfield 31, 3) := dk_180 0 31 (dk_at dksX2_nextCycle_0 9 rfl rfl)
theorem dX2_nextCycle_12 : decode cX2_nextCycle 12 = .ok (.if_icmp .gt 58, 3) := dk_163 0 58 (dk_at dksX2_nextCycle_0 12 rfl rfl)
theorem dX2_nextCycle_15 : decode cX2_nextCycle 15 = .ok (.iconst 0, 1) := dk_3 (dk_at dksX2_nextCycle_0 15 rfl rfl)
theorem dX2_nextCycle_16 : decode cX2_nextCycle 16 = .ok (.istore_n 3, 1) := dk_62 (dk_at dksX2_nextCycle_0 16 rfl rfl)
theorem dX2_nextCycle_17 : decode cX2_nextCycle 17 = .ok (.iload_n 3, 1) := dk_29 (dk_at dksX2_nextCycle_0 17 rfl rfl)
theorem dX2_nextCycle_18 : decode cX2_nextCycle 18 = .ok (.aload_n 0, 1) := dk_42 (dk_at dksX2_nextCycle_0 18 rfl rfl)
theorem dX2_nextCycle_19 : decode cX2_nextCycle 19 = .ok (.getfield 31, 3) := dk_180 0 31 (dk_at dksX2_nextCycle_0 19 rfl rfl)
theorem dX2_nextCycle_22 : decode cX2_nextCycle 22 = .ok (.if_icmp .ge 42, 3) := dk_162 0 42 (dk_at dksX2_nextCycle_1 0 rfl rfl)
theorem dX2_nextCycle_25 : decode cX2_nextCycle 25 = .ok (.aload_n 1, 1) := dk_43 (dk_at dksX2_nextCycle_1 3 rfl rfl)
theorem dX2_nextCycle_26 : decode cX2_nextCycle 26 = .ok (.iconst 0, 1) := dk_3 (dk_at dksX2_nextCycle_1 4 rfl rfl)
theorem dX2_nextCycle_27 : decode cX2_nextCycle 27 = .ok (.iload_n 3, 1) := dk_29 (dk_at dksX2_nextCycle_1 5 rfl rfl)
theorem dX2_nextCycle_28 : decode cX2_nextCycle 28 = .ok (.iastore, 1) := dk_79 (dk_at dksX2_nextCycle_1 6 rfl rfl)
theorem dX2_nextCycle_29 : decode cX2_nextCycle 29 = .ok (.aload_n 0, 1) := dk_42 (dk_at dksX2_nextCycle_1 7 rfl rfl)
theorem dX2_nextCycle_30 : decode cX2_nextCycle 30 = .ok (.aload_n 1, 1) := dk_43 (dk_at dksX2_nextCycle_1 8 rfl rfl)
theorem dX2_nextCycle_31 : decode cX2_nextCycle 31 = .ok (.iconst 1, 1) := dk_4 (dk_at dksX2_nextCycle_1 9 rfl rfl)
theorem dX2_nextCycle_32 : decode cX2_nextCycle 32 = .ok (.iload_n 2, 1) := dk_28 (dk_at dksX2_nextCycle_1 10 rfl rfl)
theorem dX2_nextCycle_33 : decode cX2_nextCycle 33 = .ok (.invokevirtual 186, 3) := dk_182 0 186 (dk_at dksX2_nextCycle_1 11 rfl rfl)
theorem dX2_nextCycle_36 : decode cX2_nextCycle 36 = .ok (.ifCond .eq 22, 3) := dk_153 0 22 (dk_at dksX2_nextCycle_1 14 rfl rfl)
theorem dX2_nextCycle_39 : decode cX2_nextCycle 39 = .ok (.new 95, 3) := dk_187 0 95 (dk_at dksX2_nextCycle_1 17 rfl rfl)
theorem dX2_nextCycle_42 : decode cX2_nextCycle 42 = .ok (.dup, 1) := dk_89 (dk_at dksX2_nextCycle_1 20 rfl rfl)
theorem dX2_nextCycle_43 : decode cX2_nextCycle 43 = .ok (.aload_n 1, 1) := dk_43 (dk_at dksX2_nextCycle_1 21 rfl rfl)
theorem dX2_nextCycle_44 : decode cX2_nextCycle 44 = .ok (.iload_n 2, 1) := dk_28 (dk_at dksX2_nextCycle_1 22 rfl rfl)
theorem dX2_nextCycle_45 : decode cX2_nextCycle 45 = .ok (.aload_n 0, 1) := dk_42 (dk_at dksX2_nextCycle_1 23 rfl rfl)
theorem dX2_nextCycle_46 : decode cX2_nextCycle 46 = .ok (.aload_n 1, 1) := dk_43 (dk_at dksX2_nextCycle_2 0 rfl rfl)
theorem dX2_nextCycle_47 : decode cX2_nextCycle 47 = .ok (.iload_n 2, 1) := dk_28 (dk_at dksX2_nextCycle_2 1 rfl rfl)
theorem dX2_nextCycle_48 : decode cX2_nextCycle 48 = .ok (.invokevirtual 189, 3) := dk_182 0 189 (dk_at dksX2_nextCycle_2 2 rfl rfl)
theorem dX2_nextCycle_51 : decode cX2_nextCycle 51 = .ok (.invokespecial 193, 3) := dk_183 0 193 (dk_at dksX2_nextCycle_2 5 rfl rfl)
theorem dX2_nextCycle_54 : decode cX2_nextCycle 54 = .ok (.invokestatic 196, 3) := dk_184 0 196 (dk_at dksX2_nextCycle_2 8 rfl rfl)
theorem dX2_nextCycle_57 : decode cX2_nextCycle 57 = .ok (.areturn, 1) := dk_176 (dk_at dksX2_nextCycle_2 11 rfl rfl)
theorem dX2_nextCycle_58 : decode cX2_nextCycle 58 = .ok (.iinc 3 1, 3) := dk_132 3 1 (dk_at dksX2_nextCycle_2 12 rfl rfl)
theorem dX2_nextCycle_61 : decode cX2_nextCycle 61 = .ok (.goto (-44), 3) := dk_167 255 212 (dk_at dksX2_nextCycle_2 15 rfl rfl)
theorem dX2_nextCycle_64 : decode cX2_nextCycle 64 = .ok (.iinc 2 1, 3) := dk_132 2 1 (dk_at dksX2_nextCycle_2 18 rfl rfl)
theorem dX2_nextCycle_67 : decode cX2_nextCycle 67 = .ok (.goto (-60), 3) := dk_167 255 196 (dk_at dksX2_nextCycle_2 21 rfl rfl)
theorem dX2_nextCycle_70 : decode cX2_nextCycle 70 = .ok (.invokestatic 200, 3) := dk_184 0 200 (dk_at dksX2_nextCycle_3 0 rfl rfl)
theorem dX2_nextCycle_73 : decode cX2_nextCycle 73 = .ok (.areturn, 1) := dk_176 (dk_at dksX2_nextCycle_3 3 rfl rfl)
abbrev cX2_isClosed : ByteArray := prog_4_method_35_code
def yX2_isClosed : MethodName := ⟨RX2, "isClosed", "([III)Z"⟩
def dkwX2_isClosed_4 : List UInt8 := [132, 5, 1, 167, 255, 202, 3, 172]
abbrev dktX2_isClosed_4 : List UInt8 := dkwX2_isClosed_4 ++ []
def dkwX2_isClosed_3 : List UInt8 := [154, 0, 22, 43, 28, 21, 5, 79, 42, 43, 28, 4, 96, 29, 182, 0, 186, 153, 0, 5, 4, 172]
abbrev dktX2_isClosed_3 : List UInt8 := dkwX2_isClosed_3 ++ dktX2_isClosed_4
def dkwX2_isClosed_2 : List UInt8 := [162, 0, 51, 42, 180, 0, 11, 21, 4, 50, 21, 5, 46, 158, 0, 32, 43, 28, 21, 5, 184, 0, 182]
abbrev dktX2_isClosed_2 : List UInt8 := dkwX2_isClosed_2 ++ dktX2_isClosed_3
def dkwX2_isClosed_1 : List UInt8 := [158, 0, 7, 4, 167, 0, 4, 3, 172, 43, 3, 46, 4, 96, 54, 5, 21, 5, 42, 180, 0, 31]
abbrev dktX2_isClosed_1 : List UInt8 := dkwX2_isClosed_1 ++ dktX2_isClosed_2
def dkwX2_isClosed_0 : List UInt8 := [43, 28, 4, 100, 46, 54, 4, 28, 29, 160, 0, 23, 42, 180, 0, 11, 21, 4, 50, 43, 3, 46, 46]
abbrev dktX2_isClosed_0 : List UInt8 := dkwX2_isClosed_0 ++ dktX2_isClosed_1
theorem dksX2_isClosed_0 : cX2_isClosed.data.toList.drop 0 = dktX2_isClosed_0 := by decide +kernel
theorem dksX2_isClosed_1 : cX2_isClosed.data.toList.drop 23 = dktX2_isClosed_1 := dk_seg dksX2_isClosed_0 23 rfl rfl
theorem dksX2_isClosed_2 : cX2_isClosed.data.toList.drop 45 = dktX2_isClosed_2 := dk_seg dksX2_isClosed_1 22 rfl rfl
theorem dksX2_isClosed_3 : cX2_isClosed.data.toList.drop 68 = dktX2_isClosed_3 := dk_seg dksX2_isClosed_2 23 rfl rfl
theorem dksX2_isClosed_4 : cX2_isClosed.data.toList.drop 90 = dktX2_isClosed_4 := dk_seg dksX2_isClosed_3 22 rfl rfl
theorem dX2_isClosed_0 : decode cX2_isClosed 0 = .ok (.aload_n 1, 1) := dk_43 (dk_at dksX2_isClosed_0 0 rfl rfl)
theorem dX2_isClosed_1 : decode cX2_isClosed 1 = .ok (.iload_n 2, 1) := dk_28 (dk_at dksX2_isClosed_0 1 rfl rfl)
theorem dX2_isClosed_2 : decode cX2_isClosed 2 = .ok (.iconst 1, 1) := dk_4 (dk_at dksX2_isClosed_0 2 rfl rfl)
theorem dX2_isClosed_3 : decode cX2_isClosed 3 = .ok (.isub, 1) := dk_100 (dk_at dksX2_isClosed_0 3 rfl rfl)
theorem dX2_isClosed_4 : decode cX2_isClosed 4 = .ok (.iaload, 1) := dk_46 (dk_at dksX2_isClosed_0 4 rfl rfl)
theorem dX2_isClosed_5 : decode cX2_isClosed 5 = .ok (.istore 4, 2) := dk_54 4 (dk_at dksX2_isClosed_0 5 rfl rfl)
theorem dX2_isClosed_7 : decode cX2_isClosed 7 = .ok (.iload_n 2, 1) := dk_28 (dk_at dksX2_isClosed_0 7 rfl rfl)
theorem dX2_isClosed_8 : decode cX2_isClosed 8 = .ok (.iload_n 3, 1) := dk_29 (dk_at dksX2_isClosed_0 8 rfl rfl)
theorem dX2_isClosed_9 : decode cX2_isClosed 9 = .ok (.if_icmp .ne 23, 3) := dk_160 0 23 (dk_at dksX2_isClosed_0 9 rfl rfl)
theorem dX2_isClosed_12 : decode cX2_isClosed 12 = .ok (.aload_n 0, 1) := dk_42 (dk_at dksX2_isClosed_0 12 rfl rfl)
theorem dX2_isClosed_13 : decode cX2_isClosed 13 = .ok (.getfield 11, 3) := dk_180 0 11 (dk_at dksX2_isClosed_0 13 rfl rfl)
theorem dX2_isClosed_16 : decode cX2_isClosed 16 = .ok (.iload 4, 2) := dk_21 4 (dk_at dksX2_isClosed_0 16 rfl rfl)
theorem dX2_isClosed_18 : decode cX2_isClosed 18 = .ok (.aaload, 1) := dk_50 (dk_at dksX2_isClosed_0 18 rfl rfl)
theorem dX2_isClosed_19 : decode cX2_isClosed 19 = .ok (.aload_n 1, 1) := dk_43 (dk_at dksX2_isClosed_0 19 rfl rfl)
theorem dX2_isClosed_20 : decode cX2_isClosed 20 = .ok (.iconst 0, 1) := dk_3 (dk_at dksX2_isClosed_0 20 rfl rfl)
theorem dX2_isClosed_21 : decode cX2_isClosed 21 = .ok (.iaload, 1) := dk_46 (dk_at dksX2_isClosed_0 21 rfl rfl)
theorem dX2_isClosed_22 : decode cX2_isClosed 22 = .ok (.iaload, 1) := dk_46 (dk_at dksX2_isClosed_0 22 rfl rfl)
theorem dX2_isClosed_23 : decode cX2_isClosed 23 = .ok (.ifCond .le 7, 3) := dk_158 0 7 (dk_at dksX2_isClosed_1 0 rfl rfl)
theorem dX2_isClosed_26 : decode cX2_isClosed 26 = .ok (.iconst 1, 1) := dk_4 (dk_at dksX2_isClosed_1 3 rfl rfl)
theorem dX2_isClosed_27 : decode cX2_isClosed 27 = .ok (.goto 4, 3) := dk_167 0 4 (dk_at dksX2_isClosed_1 4 rfl rfl)
theorem dX2_isClosed_30 : decode cX2_isClosed 30 = .ok (.iconst 0, 1) := dk_3 (dk_at dksX2_isClosed_1 7 rfl rfl)
theorem dX2_isClosed_31 : decode cX2_isClosed 31 = .ok (.ireturn, 1) := dk_172 (dk_at dksX2_isClosed_1 8 rfl rfl)
theorem dX2_isClosed_32 : decode cX2_isClosed 32 = .ok (.aload_n 1, 1) := dk_43 (dk_at dksX2_isClosed_1 9 rfl rfl)
theorem dX2_isClosed_33 : decode cX2_isClosed 33 = .ok (.iconst 0, 1) := dk_3 (dk_at dksX2_isClosed_1 10 rfl rfl)
theorem dX2_isClosed_34 : decode cX2_isClosed 34 = .ok (.iaload, 1) := dk_46 (dk_at dksX2_isClosed_1 11 rfl rfl)
theorem dX2_isClosed_35 : decode cX2_isClosed 35 = .ok (.iconst 1, 1) := dk_4 (dk_at dksX2_isClosed_1 12 rfl rfl)
theorem dX2_isClosed_36 : decode cX2_isClosed 36 = .ok (.iadd, 1) := dk_96 (dk_at dksX2_isClosed_1 13 rfl rfl)
theorem dX2_isClosed_37 : decode cX2_isClosed 37 = .ok (.istore 5, 2) := dk_54 5 (dk_at dksX2_isClosed_1 14 rfl rfl)
theorem dX2_isClosed_39 : decode cX2_isClosed 39 = .ok (.iload 5, 2) := dk_21 5 (dk_at dksX2_isClosed_1 16 rfl rfl)
theorem dX2_isClosed_41 : decode cX2_isClosed 41 = .ok (.aload_n 0, 1) := dk_42 (dk_at dksX2_isClosed_1 18 rfl rfl)
theorem dX2_isClosed_42 : decode cX2_isClosed 42 = .ok (.getfield 31, 3) := dk_180 0 31 (dk_at dksX2_isClosed_1 19 rfl rfl)
theorem dX2_isClosed_45 : decode cX2_isClosed 45 = .ok (.if_icmp .ge 51, 3) := dk_162 0 51 (dk_at dksX2_isClosed_2 0 rfl rfl)
theorem dX2_isClosed_48 : decode cX2_isClosed 48 = .ok (.aload_n 0, 1) := dk_42 (dk_at dksX2_isClosed_2 3 rfl rfl)
theorem dX2_isClosed_49 : decode cX2_isClosed 49 = .ok (.getfield 11, 3) := dk_180 0 11 (dk_at dksX2_isClosed_2 4 rfl rfl)
theorem dX2_isClosed_52 : decode cX2_isClosed 52 = .ok (.iload 4, 2) := dk_21 4 (dk_at dksX2_isClosed_2 7 rfl rfl)
theorem dX2_isClosed_54 : decode cX2_isClosed 54 = .ok (.aaload, 1) := dk_50 (dk_at dksX2_isClosed_2 9 rfl rfl)
theorem dX2_isClosed_55 : decode cX2_isClosed 55 = .ok (.iload 5, 2) := dk_21 5 (dk_at dksX2_isClosed_2 10 rfl rfl)
theorem dX2_isClosed_57 : decode cX2_isClosed 57 = .ok (.iaload, 1) := dk_46 (dk_at dksX2_isClosed_2 12 rfl rfl)
theorem dX2_isClosed_58 : decode cX2_isClosed 58 = .ok (.ifCond .le 32, 3) := dk_158 0 32 (dk_at dksX2_isClosed_2 13 rfl rfl)
theorem dX2_isClosed_61 : decode cX2_isClosed 61 = .ok (.aload_n 1, 1) := dk_43 (dk_at dksX2_isClosed_2 16 rfl rfl)
theorem dX2_isClosed_62 : decode cX2_isClosed 62 = .ok (.iload_n 2, 1) := dk_28 (dk_at dksX2_isClosed_2 17 rfl rfl)
theorem dX2_isClosed_63 : decode cX2_isClosed 63 = .ok (.iload 5, 2) := dk_21 5 (dk_at dksX2_isClosed_2 18 rfl rfl)
theorem dX2_isClosed_65 : decode cX2_isClosed 65 = .ok (.invokestatic 182, 3) := dk_184 0 182 (dk_at dksX2_isClosed_2 20 rfl rfl)
theorem dX2_isClosed_68 : decode cX2_isClosed 68 = .ok (.ifCond .ne 22, 3) := dk_154 0 22 (dk_at dksX2_isClosed_3 0 rfl rfl)
theorem dX2_isClosed_71 : decode cX2_isClosed 71 = .ok (.aload_n 1, 1) := dk_43 (dk_at dksX2_isClosed_3 3 rfl rfl)
theorem dX2_isClosed_72 : decode cX2_isClosed 72 = .ok (.iload_n 2, 1) := dk_28 (dk_at dksX2_isClosed_3 4 rfl rfl)
theorem dX2_isClosed_73 : decode cX2_isClosed 73 = .ok (.iload 5, 2) := dk_21 5 (dk_at dksX2_isClosed_3 5 rfl rfl)
theorem dX2_isClosed_75 : decode cX2_isClosed 75 = .ok (.iastore, 1) := dk_79 (dk_at dksX2_isClosed_3 7 rfl rfl)
theorem dX2_isClosed_76 : decode cX2_isClosed 76 = .ok (.aload_n 0, 1) := dk_42 (dk_at dksX2_isClosed_3 8 rfl rfl)
theorem dX2_isClosed_77 : decode cX2_isClosed 77 = .ok (.aload_n 1, 1) := dk_43 (dk_at dksX2_isClosed_3 9 rfl rfl)
theorem dX2_isClosed_78 : decode cX2_isClosed 78 = .ok (.iload_n 2, 1) := dk_28 (dk_at dksX2_isClosed_3 10 rfl rfl)
theorem dX2_isClosed_79 : decode cX2_isClosed 79 = .ok (.iconst 1, 1) := dk_4 (dk_at dksX2_isClosed_3 11 rfl rfl)
theorem dX2_isClosed_80 : decode cX2_isClosed 80 = .ok (.iadd, 1) := dk_96 (dk_at dksX2_isClosed_3 12 rfl rfl)
theorem dX2_isClosed_81 : decode cX2_isClosed 81 = .ok (.iload_n 3, 1) := dk_29 (dk_at dksX2_isClosed_3 13 rfl rfl)
theorem dX2_isClosed_82 : decode cX2_isClosed 82 = .ok (.invokevirtual 186, 3) := dk_182 0 186 (dk_at dksX2_isClosed_3 14 rfl rfl)
theorem dX2_isClosed_85 : decode cX2_isClosed 85 = .ok (.ifCond .eq 5, 3) := dk_153 0 5 (dk_at dksX2_isClosed_3 17 rfl rfl)
theorem dX2_isClosed_88 : decode cX2_isClosed 88 = .ok (.iconst 1, 1) := dk_4 (dk_at dksX2_isClosed_3 20 rfl rfl)
theorem dX2_isClosed_89 : decode cX2_isClosed 89 = .ok (.ireturn, 1) := dk_172 (dk_at dksX2_isClosed_3 21 rfl rfl)
theorem dX2_isClosed_90 : decode cX2_isClosed 90 = .ok (.iinc 5 1, 3) := dk_132 5 1 (dk_at dksX2_isClosed_4 0 rfl rfl)
theorem dX2_isClosed_93 : decode cX2_isClosed 93 = .ok (.goto (-54), 3) := dk_167 255 202 (dk_at dksX2_isClosed_4 3 rfl rfl)
theorem dX2_isClosed_96 : decode cX2_isClosed 96 = .ok (.iconst 0, 1) := dk_3 (dk_at dksX2_isClosed_4 6 rfl rfl)
theorem dX2_isClosed_97 : decode cX2_isClosed 97 = .ok (.ireturn, 1) := dk_172 (dk_at dksX2_isClosed_4 7 rfl rfl)
abbrev cX2_isOn : ByteArray := prog_4_method_34_code
def yX2_isOn : MethodName := ⟨RX2, "isOn", "([III)Z"⟩
def dkwX2_isOn_0 : List UInt8 := [3, 62, 29, 27, 162, 0, 18, 42, 29, 46, 28, 160, 0, 5, 4, 172, 132, 3, 1, 167, 255, 239, 3, 172]
abbrev dktX2_isOn_0 : List UInt8 := dkwX2_isOn_0 ++ []
theorem dksX2_isOn_0 : cX2_isOn.data.toList.drop 0 = dktX2_isOn_0 := by decide +kernel
theorem dX2_isOn_0 : decode cX2_isOn 0 = .ok (.iconst 0, 1) := dk_3 (dk_at dksX2_isOn_0 0 rfl rfl)
theorem dX2_isOn_1 : decode cX2_isOn 1 = .ok (.istore_n 3, 1) := dk_62 (dk_at dksX2_isOn_0 1 rfl rfl)
theorem dX2_isOn_2 : decode cX2_isOn 2 = .ok (.iload_n 3, 1) := dk_29 (dk_at dksX2_isOn_0 2 rfl rfl)
theorem dX2_isOn_3 : decode cX2_isOn 3 = .ok (.iload_n 1, 1) := dk_27 (dk_at dksX2_isOn_0 3 rfl rfl)
theorem dX2_isOn_4 : decode cX2_isOn 4 = .ok (.if_icmp .ge 18, 3) := dk_162 0 18 (dk_at dksX2_isOn_0 4 rfl rfl)
theorem dX2_isOn_7 : decode cX2_isOn 7 = .ok (.aload_n 0, 1) := dk_42 (dk_at dksX2_isOn_0 7 rfl rfl)
theorem dX2_isOn_8 : decode cX2_isOn 8 = .ok (.iload_n 3, 1) := dk_29 (dk_at dksX2_isOn_0 8 rfl rfl)
theorem dX2_isOn_9 : decode cX2_isOn 9 = .ok (.iaload, 1) := dk_46 (dk_at dksX2_isOn_0 9 rfl rfl)
theorem dX2_isOn_10 : decode cX2_isOn 10 = .ok (.iload_n 2, 1) := dk_28 (dk_at dksX2_isOn_0 10 rfl rfl)
theorem dX2_isOn_11 : decode cX2_isOn 11 = .ok (.if_icmp .ne 5, 3) := dk_160 0 5 (dk_at dksX2_isOn_0 11 rfl rfl)
theorem dX2_isOn_14 : decode cX2_isOn 14 = .ok (.iconst 1, 1) := dk_4 (dk_at dksX2_isOn_0 14 rfl rfl)
theorem dX2_isOn_15 : decode cX2_isOn 15 = .ok (.ireturn, 1) := dk_172 (dk_at dksX2_isOn_0 15 rfl rfl)
theorem dX2_isOn_16 : decode cX2_isOn 16 = .ok (.iinc 3 1, 3) := dk_132 3 1 (dk_at dksX2_isOn_0 16 rfl rfl)
theorem dX2_isOn_19 : decode cX2_isOn 19 = .ok (.goto (-17), 3) := dk_167 255 239 (dk_at dksX2_isOn_0 19 rfl rfl)
theorem dX2_isOn_22 : decode cX2_isOn 22 = .ok (.iconst 0, 1) := dk_3 (dk_at dksX2_isOn_0 22 rfl rfl)
theorem dX2_isOn_23 : decode cX2_isOn 23 = .ok (.ireturn, 1) := dk_172 (dk_at dksX2_isOn_0 23 rfl rfl)
abbrev cX2_amountOf : ByteArray := prog_4_method_33_code
def yX2_amountOf : MethodName := ⟨RX2, "amountOf", "([II)I"⟩
def dkwX2_amountOf_2 : List UInt8 := [167, 255, 226, 29, 172]
abbrev dktX2_amountOf_2 : List UInt8 := dkwX2_amountOf_2 ++ []
def dkwX2_amountOf_1 : List UInt8 := [29, 42, 180, 0, 11, 43, 21, 4, 4, 100, 46, 50, 43, 21, 4, 46, 46, 184, 0, 85, 62, 132, 4, 1]
abbrev dktX2_amountOf_1 : List UInt8 := dkwX2_amountOf_1 ++ dktX2_amountOf_2
def dkwX2_amountOf_0 : List UInt8 := [42, 180, 0, 11, 43, 28, 4, 100, 46, 50, 43, 3, 46, 46, 62, 4, 54, 4, 21, 4, 28, 162, 0, 30]
abbrev dktX2_amountOf_0 : List UInt8 := dkwX2_amountOf_0 ++ dktX2_amountOf_1
theorem dksX2_amountOf_0 : cX2_amountOf.data.toList.drop 0 = dktX2_amountOf_0 := by decide +kernel
theorem dksX2_amountOf_1 : cX2_amountOf.data.toList.drop 24 = dktX2_amountOf_1 := dk_seg dksX2_amountOf_0 24 rfl rfl
theorem dksX2_amountOf_2 : cX2_amountOf.data.toList.drop 48 = dktX2_amountOf_2 := dk_seg dksX2_amountOf_1 24 rfl rfl
theorem dX2_amountOf_0 : decode cX2_amountOf 0 = .ok (.aload_n 0, 1) := dk_42 (dk_at dksX2_amountOf_0 0 rfl rfl)
theorem dX2_amountOf_1 : decode cX2_amountOf 1 = .ok (.getfield 11, 3) := dk_180 0 11 (dk_at dksX2_amountOf_0 1 rfl rfl)
theorem dX2_amountOf_4 : decode cX2_amountOf 4 = .ok (.aload_n 1, 1) := dk_43 (dk_at dksX2_amountOf_0 4 rfl rfl)
theorem dX2_amountOf_5 : decode cX2_amountOf 5 = .ok (.iload_n 2, 1) := dk_28 (dk_at dksX2_amountOf_0 5 rfl rfl)
theorem dX2_amountOf_6 : decode cX2_amountOf 6 = .ok (.iconst 1, 1) := dk_4 (dk_at dksX2_amountOf_0 6 rfl rfl)
theorem dX2_amountOf_7 : decode cX2_amountOf 7 = .ok (.isub, 1) := dk_100 (dk_at dksX2_amountOf_0 7 rfl rfl)
theorem dX2_amountOf_8 : decode cX2_amountOf 8 = .ok (.iaload, 1) := dk_46 (dk_at dksX2_amountOf_0 8 rfl rfl)
theorem dX2_amountOf_9 : decode cX2_amountOf 9 = .ok (.aaload, 1) := dk_50 (dk_at dksX2_amountOf_0 9 rfl rfl)
theorem dX2_amountOf_10 : decode cX2_amountOf 10 = .ok (.aload_n 1, 1) := dk_43 (dk_at dksX2_amountOf_0 10 rfl rfl)
theorem dX2_amountOf_11 : decode cX2_amountOf 11 = .ok (.iconst 0, 1) := dk_3 (dk_at dksX2_amountOf_0 11 rfl rfl)
theorem dX2_amountOf_12 : decode cX2_amountOf 12 = .ok (.iaload, 1) := dk_46 (dk_at dksX2_amountOf_0 12 rfl rfl)
theorem dX2_amountOf_13 : decode cX2_amountOf 13 = .ok (.iaload, 1) := dk_46 (dk_at dksX2_amountOf_0 13 rfl rfl)
theorem dX2_amountOf_14 : decode cX2_amountOf 14 = .ok (.istore_n 3, 1) := dk_62 (dk_at dksX2_amountOf_0 14 rfl rfl)
theorem dX2_amountOf_15 : decode cX2_amountOf 15 = .ok (.iconst 1, 1) := dk_4 (dk_at dksX2_amountOf_0 15 rfl rfl)
theorem dX2_amountOf_16 : decode cX2_amountOf 16 = .ok (.istore 4, 2) := dk_54 4 (dk_at dksX2_amountOf_0 16 rfl rfl)
theorem dX2_amountOf_18 : decode cX2_amountOf 18 = .ok (.iload 4, 2) := dk_21 4 (dk_at dksX2_amountOf_0 18 rfl rfl)
theorem dX2_amountOf_20 : decode cX2_amountOf 20 = .ok (.iload_n 2, 1) := dk_28 (dk_at dksX2_amountOf_0 20 rfl rfl)
theorem dX2_amountOf_21 : decode cX2_amountOf 21 = .ok (.if_icmp .ge 30, 3) := dk_162 0 30 (dk_at dksX2_amountOf_0 21 rfl rfl)
theorem dX2_amountOf_24 : decode cX2_amountOf 24 = .ok (.iload_n 3, 1) := dk_29 (dk_at dksX2_amountOf_1 0 rfl rfl)
theorem dX2_amountOf_25 : decode cX2_amountOf 25 = .ok (.aload_n 0, 1) := dk_42 (dk_at dksX2_amountOf_1 1 rfl rfl)
theorem dX2_amountOf_26 : decode cX2_amountOf 26 = .ok (.getfield 11, 3) := dk_180 0 11 (dk_at dksX2_amountOf_1 2 rfl rfl)
theorem dX2_amountOf_29 : decode cX2_amountOf 29 = .ok (.aload_n 1, 1) := dk_43 (dk_at dksX2_amountOf_1 5 rfl rfl)
theorem dX2_amountOf_30 : decode cX2_amountOf 30 = .ok (.iload 4, 2) := dk_21 4 (dk_at dksX2_amountOf_1 6 rfl rfl)
theorem dX2_amountOf_32 : decode cX2_amountOf 32 = .ok (.iconst 1, 1) := dk_4 (dk_at dksX2_amountOf_1 8 rfl rfl)
theorem dX2_amountOf_33 : decode cX2_amountOf 33 = .ok (.isub, 1) := dk_100 (dk_at dksX2_amountOf_1 9 rfl rfl)
theorem dX2_amountOf_34 : decode cX2_amountOf 34 = .ok (.iaload, 1) := dk_46 (dk_at dksX2_amountOf_1 10 rfl rfl)
theorem dX2_amountOf_35 : decode cX2_amountOf 35 = .ok (.aaload, 1) := dk_50 (dk_at dksX2_amountOf_1 11 rfl rfl)
theorem dX2_amountOf_36 : decode cX2_amountOf 36 = .ok (.aload_n 1, 1) := dk_43 (dk_at dksX2_amountOf_1 12 rfl rfl)
theorem dX2_amountOf_37 : decode cX2_amountOf 37 = .ok (.iload 4, 2) := dk_21 4 (dk_at dksX2_amountOf_1 13 rfl rfl)
theorem dX2_amountOf_39 : decode cX2_amountOf 39 = .ok (.iaload, 1) := dk_46 (dk_at dksX2_amountOf_1 15 rfl rfl)
theorem dX2_amountOf_40 : decode cX2_amountOf 40 = .ok (.iaload, 1) := dk_46 (dk_at dksX2_amountOf_1 16 rfl rfl)
theorem dX2_amountOf_41 : decode cX2_amountOf 41 = .ok (.invokestatic 85, 3) := dk_184 0 85 (dk_at dksX2_amountOf_1 17 rfl rfl)
theorem dX2_amountOf_44 : decode cX2_amountOf 44 = .ok (.istore_n 3, 1) := dk_62 (dk_at dksX2_amountOf_1 20 rfl rfl)
theorem dX2_amountOf_45 : decode cX2_amountOf 45 = .ok (.iinc 4 1, 3) := dk_132 4 1 (dk_at dksX2_amountOf_1 21 rfl rfl)
theorem dX2_amountOf_48 : decode cX2_amountOf 48 = .ok (.goto (-30), 3) := dk_167 255 226 (dk_at dksX2_amountOf_2 0 rfl rfl)
theorem dX2_amountOf_51 : decode cX2_amountOf 51 = .ok (.iload_n 3, 1) := dk_29 (dk_at dksX2_amountOf_2 3 rfl rfl)
theorem dX2_amountOf_52 : decode cX2_amountOf 52 = .ok (.ireturn, 1) := dk_172 (dk_at dksX2_amountOf_2 4 rfl rfl)
abbrev cX2_net : ByteArray := prog_4_method_14_code
def yX2_net : MethodName := ⟨RX2, "net", "(LClearingHouse$Cycle;)I"⟩
def dkwX2_net_1 : List UInt8 := [180, 0, 107, 182, 0, 91, 132, 2, 1, 167, 255, 227, 43, 180, 0, 107, 172]
abbrev dktX2_net_1 : List UInt8 := dkwX2_net_1 ++ []
def dkwX2_net_0 : List UInt8 := [3, 61, 28, 43, 182, 0, 94, 162, 0, 27, 42, 43, 28, 182, 0, 100, 43, 28, 182, 0, 104, 43]
abbrev dktX2_net_0 : List UInt8 := dkwX2_net_0 ++ dktX2_net_1
theorem dksX2_net_0 : cX2_net.data.toList.drop 0 = dktX2_net_0 := by decide +kernel
theorem dksX2_net_1 : cX2_net.data.toList.drop 22 = dktX2_net_1 := dk_seg dksX2_net_0 22 rfl rfl
theorem dX2_net_0 : decode cX2_net 0 = .ok (.iconst 0, 1) := dk_3 (dk_at dksX2_net_0 0 rfl rfl)
theorem dX2_net_1 : decode cX2_net 1 = .ok (.istore_n 2, 1) := dk_61 (dk_at dksX2_net_0 1 rfl rfl)
theorem dX2_net_2 : decode cX2_net 2 = .ok (.iload_n 2, 1) := dk_28 (dk_at dksX2_net_0 2 rfl rfl)
theorem dX2_net_3 : decode cX2_net 3 = .ok (.aload_n 1, 1) := dk_43 (dk_at dksX2_net_0 3 rfl rfl)
theorem dX2_net_4 : decode cX2_net 4 = .ok (.invokevirtual 94, 3) := dk_182 0 94 (dk_at dksX2_net_0 4 rfl rfl)
theorem dX2_net_7 : decode cX2_net 7 = .ok (.if_icmp .ge 27, 3) := dk_162 0 27 (dk_at dksX2_net_0 7 rfl rfl)
theorem dX2_net_10 : decode cX2_net 10 = .ok (.aload_n 0, 1) := dk_42 (dk_at dksX2_net_0 10 rfl rfl)
theorem dX2_net_11 : decode cX2_net 11 = .ok (.aload_n 1, 1) := dk_43 (dk_at dksX2_net_0 11 rfl rfl)
theorem dX2_net_12 : decode cX2_net 12 = .ok (.iload_n 2, 1) := dk_28 (dk_at dksX2_net_0 12 rfl rfl)
theorem dX2_net_13 : decode cX2_net 13 = .ok (.invokevirtual 100, 3) := dk_182 0 100 (dk_at dksX2_net_0 13 rfl rfl)
theorem dX2_net_16 : decode cX2_net 16 = .ok (.aload_n 1, 1) := dk_43 (dk_at dksX2_net_0 16 rfl rfl)
theorem dX2_net_17 : decode cX2_net 17 = .ok (.iload_n 2, 1) := dk_28 (dk_at dksX2_net_0 17 rfl rfl)
theorem dX2_net_18 : decode cX2_net 18 = .ok (.invokevirtual 104, 3) := dk_182 0 104 (dk_at dksX2_net_0 18 rfl rfl)
theorem dX2_net_21 : decode cX2_net 21 = .ok (.aload_n 1, 1) := dk_43 (dk_at dksX2_net_0 21 rfl rfl)
theorem dX2_net_22 : decode cX2_net 22 = .ok (.getfield 107, 3) := dk_180 0 107 (dk_at dksX2_net_1 0 rfl rfl)
theorem dX2_net_25 : decode cX2_net 25 = .ok (.invokevirtual 91, 3) := dk_182 0 91 (dk_at dksX2_net_1 3 rfl rfl)
theorem dX2_net_28 : decode cX2_net 28 = .ok (.iinc 2 1, 3) := dk_132 2 1 (dk_at dksX2_net_1 6 rfl rfl)
theorem dX2_net_31 : decode cX2_net 31 = .ok (.goto (-29), 3) := dk_167 255 227 (dk_at dksX2_net_1 9 rfl rfl)
theorem dX2_net_34 : decode cX2_net 34 = .ok (.aload_n 1, 1) := dk_43 (dk_at dksX2_net_1 12 rfl rfl)
theorem dX2_net_35 : decode cX2_net 35 = .ok (.getfield 107, 3) := dk_180 0 107 (dk_at dksX2_net_1 13 rfl rfl)
theorem dX2_net_38 : decode cX2_net 38 = .ok (.ireturn, 1) := dk_172 (dk_at dksX2_net_1 16 rfl rfl)
abbrev cX2_netAll : ByteArray := prog_4_method_16_code
def yX2_netAll : MethodName := ⟨RX2, "netAll", "()I"⟩
def dkwX2_netAll_1 : List UInt8 := [182, 0, 114, 62, 132, 1, 1, 42, 182, 0, 117, 77, 167, 255, 229, 27, 172]
abbrev dktX2_netAll_1 : List UInt8 := dkwX2_netAll_1 ++ []
def dkwX2_netAll_0 : List UInt8 := [3, 60, 42, 182, 0, 117, 77, 44, 182, 0, 121, 153, 0, 26, 42, 44, 182, 0, 127, 192, 0, 95]
abbrev dktX2_netAll_0 : List UInt8 := dkwX2_netAll_0 ++ dktX2_netAll_1
theorem dksX2_netAll_0 : cX2_netAll.data.toList.drop 0 = dktX2_netAll_0 := by decide +kernel
theorem dksX2_netAll_1 : cX2_netAll.data.toList.drop 22 = dktX2_netAll_1 := dk_seg dksX2_netAll_0 22 rfl rfl
theorem dX2_netAll_0 : decode cX2_netAll 0 = .ok (.iconst 0, 1) := dk_3 (dk_at dksX2_netAll_0 0 rfl rfl)
theorem dX2_netAll_1 : decode cX2_netAll 1 = .ok (.istore_n 1, 1) := dk_60 (dk_at dksX2_netAll_0 1 rfl rfl)
theorem dX2_netAll_2 : decode cX2_netAll 2 = .ok (.aload_n 0, 1) := dk_42 (dk_at dksX2_netAll_0 2 rfl rfl)
theorem dX2_netAll_3 : decode cX2_netAll 3 = .ok (.invokevirtual 117, 3) := dk_182 0 117 (dk_at dksX2_netAll_0 3 rfl rfl)
theorem dX2_netAll_6 : decode cX2_netAll 6 = .ok (.astore_n 2, 1) := dk_77 (dk_at dksX2_netAll_0 6 rfl rfl)
theorem dX2_netAll_7 : decode cX2_netAll 7 = .ok (.aload_n 2, 1) := dk_44 (dk_at dksX2_netAll_0 7 rfl rfl)
theorem dX2_netAll_8 : decode cX2_netAll 8 = .ok (.invokevirtual 121, 3) := dk_182 0 121 (dk_at dksX2_netAll_0 8 rfl rfl)
theorem dX2_netAll_11 : decode cX2_netAll 11 = .ok (.ifCond .eq 26, 3) := dk_153 0 26 (dk_at dksX2_netAll_0 11 rfl rfl)
theorem dX2_netAll_14 : decode cX2_netAll 14 = .ok (.aload_n 0, 1) := dk_42 (dk_at dksX2_netAll_0 14 rfl rfl)
theorem dX2_netAll_15 : decode cX2_netAll 15 = .ok (.aload_n 2, 1) := dk_44 (dk_at dksX2_netAll_0 15 rfl rfl)
theorem dX2_netAll_16 : decode cX2_netAll 16 = .ok (.invokevirtual 127, 3) := dk_182 0 127 (dk_at dksX2_netAll_0 16 rfl rfl)
theorem dX2_netAll_19 : decode cX2_netAll 19 = .ok (.checkcast 95, 3) := dk_192 0 95 (dk_at dksX2_netAll_0 19 rfl rfl)
theorem dX2_netAll_22 : decode cX2_netAll 22 = .ok (.invokevirtual 114, 3) := dk_182 0 114 (dk_at dksX2_netAll_1 0 rfl rfl)
theorem dX2_netAll_25 : decode cX2_netAll 25 = .ok (.istore_n 3, 1) := dk_62 (dk_at dksX2_netAll_1 3 rfl rfl)
theorem dX2_netAll_26 : decode cX2_netAll 26 = .ok (.iinc 1 1, 3) := dk_132 1 1 (dk_at dksX2_netAll_1 4 rfl rfl)
theorem dX2_netAll_29 : decode cX2_netAll 29 = .ok (.aload_n 0, 1) := dk_42 (dk_at dksX2_netAll_1 7 rfl rfl)
theorem dX2_netAll_30 : decode cX2_netAll 30 = .ok (.invokevirtual 117, 3) := dk_182 0 117 (dk_at dksX2_netAll_1 8 rfl rfl)
theorem dX2_netAll_33 : decode cX2_netAll 33 = .ok (.astore_n 2, 1) := dk_77 (dk_at dksX2_netAll_1 11 rfl rfl)
theorem dX2_netAll_34 : decode cX2_netAll 34 = .ok (.goto (-27), 3) := dk_167 255 229 (dk_at dksX2_netAll_1 12 rfl rfl)
theorem dX2_netAll_37 : decode cX2_netAll 37 = .ok (.iload_n 1, 1) := dk_27 (dk_at dksX2_netAll_1 15 rfl rfl)
theorem dX2_netAll_38 : decode cX2_netAll 38 = .ok (.ireturn, 1) := dk_172 (dk_at dksX2_netAll_1 16 rfl rfl)
abbrev cX2_cascade : ByteArray := prog_4_method_24_code
def yX2_cascade : MethodName := ⟨RX2, "cascade", "()I"⟩
def dkwX2_cascade_1 : List UInt8 := [182, 0, 169, 61, 167, 255, 237, 27, 172]
abbrev dktX2_cascade_1 : List UInt8 := dkwX2_cascade_1 ++ []
def dkwX2_cascade_0 : List UInt8 := [3, 60, 42, 182, 0, 169, 61, 28, 2, 159, 0, 20, 42, 28, 182, 0, 164, 62, 132, 1, 1, 42]
abbrev dktX2_cascade_0 : List UInt8 := dkwX2_cascade_0 ++ dktX2_cascade_1
theorem dksX2_cascade_0 : cX2_cascade.data.toList.drop 0 = dktX2_cascade_0 := by decide +kernel
theorem dksX2_cascade_1 : cX2_cascade.data.toList.drop 22 = dktX2_cascade_1 := dk_seg dksX2_cascade_0 22 rfl rfl
theorem dX2_cascade_0 : decode cX2_cascade 0 = .ok (.iconst 0, 1) := dk_3 (dk_at dksX2_cascade_0 0 rfl rfl)
theorem dX2_cascade_1 : decode cX2_cascade 1 = .ok (.istore_n 1, 1) := dk_60 (dk_at dksX2_cascade_0 1 rfl rfl)
theorem dX2_cascade_2 : decode cX2_cascade 2 = .ok (.aload_n 0, 1) := dk_42 (dk_at dksX2_cascade_0 2 rfl rfl)
theorem dX2_cascade_3 : decode cX2_cascade 3 = .ok (.invokevirtual 169, 3) := dk_182 0 169 (dk_at dksX2_cascade_0 3 rfl rfl)
theorem dX2_cascade_6 : decode cX2_cascade 6 = .ok (.istore_n 2, 1) := dk_61 (dk_at dksX2_cascade_0 6 rfl rfl)
theorem dX2_cascade_7 : decode cX2_cascade 7 = .ok (.iload_n 2, 1) := dk_28 (dk_at dksX2_cascade_0 7 rfl rfl)
theorem dX2_cascade_8 : decode cX2_cascade 8 = .ok (.iconst (-1), 1) := dk_2 (dk_at dksX2_cascade_0 8 rfl rfl)
theorem dX2_cascade_9 : decode cX2_cascade 9 = .ok (.if_icmp .eq 20, 3) := dk_159 0 20 (dk_at dksX2_cascade_0 9 rfl rfl)
theorem dX2_cascade_12 : decode cX2_cascade 12 = .ok (.aload_n 0, 1) := dk_42 (dk_at dksX2_cascade_0 12 rfl rfl)
theorem dX2_cascade_13 : decode cX2_cascade 13 = .ok (.iload_n 2, 1) := dk_28 (dk_at dksX2_cascade_0 13 rfl rfl)
theorem dX2_cascade_14 : decode cX2_cascade 14 = .ok (.invokevirtual 164, 3) := dk_182 0 164 (dk_at dksX2_cascade_0 14 rfl rfl)
theorem dX2_cascade_17 : decode cX2_cascade 17 = .ok (.istore_n 3, 1) := dk_62 (dk_at dksX2_cascade_0 17 rfl rfl)
theorem dX2_cascade_18 : decode cX2_cascade 18 = .ok (.iinc 1 1, 3) := dk_132 1 1 (dk_at dksX2_cascade_0 18 rfl rfl)
theorem dX2_cascade_21 : decode cX2_cascade 21 = .ok (.aload_n 0, 1) := dk_42 (dk_at dksX2_cascade_0 21 rfl rfl)
theorem dX2_cascade_22 : decode cX2_cascade 22 = .ok (.invokevirtual 169, 3) := dk_182 0 169 (dk_at dksX2_cascade_1 0 rfl rfl)
theorem dX2_cascade_25 : decode cX2_cascade 25 = .ok (.istore_n 2, 1) := dk_61 (dk_at dksX2_cascade_1 3 rfl rfl)
theorem dX2_cascade_26 : decode cX2_cascade 26 = .ok (.goto (-19), 3) := dk_167 255 237 (dk_at dksX2_cascade_1 4 rfl rfl)
theorem dX2_cascade_29 : decode cX2_cascade 29 = .ok (.iload_n 1, 1) := dk_27 (dk_at dksX2_cascade_1 7 rfl rfl)
theorem dX2_cascade_30 : decode cX2_cascade 30 = .ok (.ireturn, 1) := dk_172 (dk_at dksX2_cascade_1 8 rfl rfl)
abbrev cX2_weakest : ByteArray := prog_4_method_23_code
def yX2_weakest : MethodName := ⟨RX2, "weakest", "()I"⟩
def dkwX2_weakest_2 : List UInt8 := [28, 167, 0, 4, 27, 60, 132, 2, 1, 167, 255, 203, 27, 172]
abbrev dktX2_weakest_2 : List UInt8 := dkwX2_weakest_2 ++ []
def dkwX2_weakest_1 : List UInt8 := [182, 0, 166, 164, 0, 7, 4, 167, 0, 4, 3, 62, 42, 28, 182, 0, 157, 153, 0, 11, 29, 153, 0, 7]
abbrev dktX2_weakest_1 : List UInt8 := dkwX2_weakest_1 ++ dktX2_weakest_2
def dkwX2_weakest_0 : List UInt8 := [2, 60, 3, 61, 28, 42, 180, 0, 31, 162, 0, 51, 27, 2, 159, 0, 16, 42, 28, 182, 0, 166, 42, 27]
abbrev dktX2_weakest_0 : List UInt8 := dkwX2_weakest_0 ++ dktX2_weakest_1
theorem dksX2_weakest_0 : cX2_weakest.data.toList.drop 0 = dktX2_weakest_0 := by decide +kernel
theorem dksX2_weakest_1 : cX2_weakest.data.toList.drop 24 = dktX2_weakest_1 := dk_seg dksX2_weakest_0 24 rfl rfl
theorem dksX2_weakest_2 : cX2_weakest.data.toList.drop 48 = dktX2_weakest_2 := dk_seg dksX2_weakest_1 24 rfl rfl
theorem dX2_weakest_0 : decode cX2_weakest 0 = .ok (.iconst (-1), 1) := dk_2 (dk_at dksX2_weakest_0 0 rfl rfl)
theorem dX2_weakest_1 : decode cX2_weakest 1 = .ok (.istore_n 1, 1) := dk_60 (dk_at dksX2_weakest_0 1 rfl rfl)
theorem dX2_weakest_2 : decode cX2_weakest 2 = .ok (.iconst 0, 1) := dk_3 (dk_at dksX2_weakest_0 2 rfl rfl)
theorem dX2_weakest_3 : decode cX2_weakest 3 = .ok (.istore_n 2, 1) := dk_61 (dk_at dksX2_weakest_0 3 rfl rfl)
theorem dX2_weakest_4 : decode cX2_weakest 4 = .ok (.iload_n 2, 1) := dk_28 (dk_at dksX2_weakest_0 4 rfl rfl)
theorem dX2_weakest_5 : decode cX2_weakest 5 = .ok (.aload_n 0, 1) := dk_42 (dk_at dksX2_weakest_0 5 rfl rfl)
theorem dX2_weakest_6 : decode cX2_weakest 6 = .ok (.getfield 31, 3) := dk_180 0 31 (dk_at dksX2_weakest_0 6 rfl rfl)
theorem dX2_weakest_9 : decode cX2_weakest 9 = .ok (.if_icmp .ge 51, 3) := dk_162 0 51 (dk_at dksX2_weakest_0 9 rfl rfl)
theorem dX2_weakest_12 : decode cX2_weakest 12 = .ok (.iload_n 1, 1) := dk_27 (dk_at dksX2_weakest_0 12 rfl rfl)
theorem dX2_weakest_13 : decode cX2_weakest 13 = .ok (.iconst (-1), 1) := dk_2 (dk_at dksX2_weakest_0 13 rfl rfl)
theorem dX2_weakest_14 : decode cX2_weakest 14 = .ok (.if_icmp .eq 16, 3) := dk_159 0 16 (dk_at dksX2_weakest_0 14 rfl rfl)
theorem dX2_weakest_17 : decode cX2_weakest 17 = .ok (.aload_n 0, 1) := dk_42 (dk_at dksX2_weakest_0 17 rfl rfl)
theorem dX2_weakest_18 : decode cX2_weakest 18 = .ok (.iload_n 2, 1) := dk_28 (dk_at dksX2_weakest_0 18 rfl rfl)
theorem dX2_weakest_19 : decode cX2_weakest 19 = .ok (.invokevirtual 166, 3) := dk_182 0 166 (dk_at dksX2_weakest_0 19 rfl rfl)
theorem dX2_weakest_22 : decode cX2_weakest 22 = .ok (.aload_n 0, 1) := dk_42 (dk_at dksX2_weakest_0 22 rfl rfl)
theorem dX2_weakest_23 : decode cX2_weakest 23 = .ok (.iload_n 1, 1) := dk_27 (dk_at dksX2_weakest_0 23 rfl rfl)
theorem dX2_weakest_24 : decode cX2_weakest 24 = .ok (.invokevirtual 166, 3) := dk_182 0 166 (dk_at dksX2_weakest_1 0 rfl rfl)
theorem dX2_weakest_27 : decode cX2_weakest 27 = .ok (.if_icmp .le 7, 3) := dk_164 0 7 (dk_at dksX2_weakest_1 3 rfl rfl)
theorem dX2_weakest_30 : decode cX2_weakest 30 = .ok (.iconst 1, 1) := dk_4 (dk_at dksX2_weakest_1 6 rfl rfl)
theorem dX2_weakest_31 : decode cX2_weakest 31 = .ok (.goto 4, 3) := dk_167 0 4 (dk_at dksX2_weakest_1 7 rfl rfl)
theorem dX2_weakest_34 : decode cX2_weakest 34 = .ok (.iconst 0, 1) := dk_3 (dk_at dksX2_weakest_1 10 rfl rfl)
theorem dX2_weakest_35 : decode cX2_weakest 35 = .ok (.istore_n 3, 1) := dk_62 (dk_at dksX2_weakest_1 11 rfl rfl)
theorem dX2_weakest_36 : decode cX2_weakest 36 = .ok (.aload_n 0, 1) := dk_42 (dk_at dksX2_weakest_1 12 rfl rfl)
theorem dX2_weakest_37 : decode cX2_weakest 37 = .ok (.iload_n 2, 1) := dk_28 (dk_at dksX2_weakest_1 13 rfl rfl)
theorem dX2_weakest_38 : decode cX2_weakest 38 = .ok (.invokevirtual 157, 3) := dk_182 0 157 (dk_at dksX2_weakest_1 14 rfl rfl)
theorem dX2_weakest_41 : decode cX2_weakest 41 = .ok (.ifCond .eq 11, 3) := dk_153 0 11 (dk_at dksX2_weakest_1 17 rfl rfl)
theorem dX2_weakest_44 : decode cX2_weakest 44 = .ok (.iload_n 3, 1) := dk_29 (dk_at dksX2_weakest_1 20 rfl rfl)
theorem dX2_weakest_45 : decode cX2_weakest 45 = .ok (.ifCond .eq 7, 3) := dk_153 0 7 (dk_at dksX2_weakest_1 21 rfl rfl)
theorem dX2_weakest_48 : decode cX2_weakest 48 = .ok (.iload_n 2, 1) := dk_28 (dk_at dksX2_weakest_2 0 rfl rfl)
theorem dX2_weakest_49 : decode cX2_weakest 49 = .ok (.goto 4, 3) := dk_167 0 4 (dk_at dksX2_weakest_2 1 rfl rfl)
theorem dX2_weakest_52 : decode cX2_weakest 52 = .ok (.iload_n 1, 1) := dk_27 (dk_at dksX2_weakest_2 4 rfl rfl)
theorem dX2_weakest_53 : decode cX2_weakest 53 = .ok (.istore_n 1, 1) := dk_60 (dk_at dksX2_weakest_2 5 rfl rfl)
theorem dX2_weakest_54 : decode cX2_weakest 54 = .ok (.iinc 2 1, 3) := dk_132 2 1 (dk_at dksX2_weakest_2 6 rfl rfl)
theorem dX2_weakest_57 : decode cX2_weakest 57 = .ok (.goto (-53), 3) := dk_167 255 203 (dk_at dksX2_weakest_2 9 rfl rfl)
theorem dX2_weakest_60 : decode cX2_weakest 60 = .ok (.iload_n 1, 1) := dk_27 (dk_at dksX2_weakest_2 12 rfl rfl)
theorem dX2_weakest_61 : decode cX2_weakest 61 = .ok (.ireturn, 1) := dk_172 (dk_at dksX2_weakest_2 13 rfl rfl)
abbrev cX2_call : ByteArray := prog_4_method_25_code
def yX2_call : MethodName := ⟨RX2, "call", "()I"⟩
def dkwX2_call_3 : List UInt8 := [132, 2, 1, 167, 255, 197, 27, 172]
abbrev dktX2_call_3 : List UInt8 := dkwX2_call_3 ++ []
def dkwX2_call_2 : List UInt8 := [184, 0, 85, 54, 4, 42, 28, 29, 21, 4, 182, 0, 78, 27, 21, 4, 96, 60, 132, 3, 1, 167, 255, 213]
abbrev dktX2_call_2 : List UInt8 := dkwX2_call_2 ++ dktX2_call_3
def dkwX2_call_1 : List UInt8 := [29, 42, 180, 0, 31, 162, 0, 41, 42, 180, 0, 16, 28, 46, 42, 180, 0, 11, 28, 50, 29, 46]
abbrev dktX2_call_1 : List UInt8 := dkwX2_call_1 ++ dktX2_call_2
def dkwX2_call_0 : List UInt8 := [42, 89, 180, 0, 38, 4, 96, 181, 0, 38, 3, 60, 3, 61, 28, 42, 180, 0, 31, 162, 0, 57, 3, 62]
abbrev dktX2_call_0 : List UInt8 := dkwX2_call_0 ++ dktX2_call_1
theorem dksX2_call_0 : cX2_call.data.toList.drop 0 = dktX2_call_0 := by decide +kernel
theorem dksX2_call_1 : cX2_call.data.toList.drop 24 = dktX2_call_1 := dk_seg dksX2_call_0 24 rfl rfl
theorem dksX2_call_2 : cX2_call.data.toList.drop 46 = dktX2_call_2 := dk_seg dksX2_call_1 22 rfl rfl
theorem dksX2_call_3 : cX2_call.data.toList.drop 70 = dktX2_call_3 := dk_seg dksX2_call_2 24 rfl rfl
theorem dX2_call_0 : decode cX2_call 0 = .ok (.aload_n 0, 1) := dk_42 (dk_at dksX2_call_0 0 rfl rfl)
theorem dX2_call_1 : decode cX2_call 1 = .ok (.dup, 1) := dk_89 (dk_at dksX2_call_0 1 rfl rfl)
theorem dX2_call_2 : decode cX2_call 2 = .ok (.getfield 38, 3) := dk_180 0 38 (dk_at dksX2_call_0 2 rfl rfl)
theorem dX2_call_5 : decode cX2_call 5 = .ok (.iconst 1, 1) := dk_4 (dk_at dksX2_call_0 5 rfl rfl)
theorem dX2_call_6 : decode cX2_call 6 = .ok (.iadd, 1) := dk_96 (dk_at dksX2_call_0 6 rfl rfl)
theorem dX2_call_7 : decode cX2_call 7 = .ok (.putfield 38, 3) := dk_181 0 38 (dk_at dksX2_call_0 7 rfl rfl)
theorem dX2_call_10 : decode cX2_call 10 = .ok (.iconst 0, 1) := dk_3 (dk_at dksX2_call_0 10 rfl rfl)
theorem dX2_call_11 : decode cX2_call 11 = .ok (.istore_n 1, 1) := dk_60 (dk_at dksX2_call_0 11 rfl rfl)
theorem dX2_call_12 : decode cX2_call 12 = .ok (.iconst 0, 1) := dk_3 (dk_at dksX2_call_0 12 rfl rfl)
theorem dX2_call_13 : decode cX2_call 13 = .ok (.istore_n 2, 1) := dk_61 (dk_at dksX2_call_0 13 rfl rfl)
theorem dX2_call_14 : decode cX2_call 14 = .ok (.iload_n 2, 1) := dk_28 (dk_at dksX2_call_0 14 rfl rfl)
theorem dX2_call_15 : decode cX2_call 15 = .ok (.aload_n 0, 1) := dk_42 (dk_at dksX2_call_0 15 rfl rfl)
theorem dX2_call_16 : decode cX2_call 16 = .ok (.getfield 31, 3) := dk_180 0 31 (dk_at dksX2_call_0 16 rfl rfl)
theorem dX2_call_19 : decode cX2_call 19 = .ok (.if_icmp .ge 57, 3) := dk_162 0 57 (dk_at dksX2_call_0 19 rfl rfl)
theorem dX2_call_22 : decode cX2_call 22 = .ok (.iconst 0, 1) := dk_3 (dk_at dksX2_call_0 22 rfl rfl)
theorem dX2_call_23 : decode cX2_call 23 = .ok (.istore_n 3, 1) := dk_62 (dk_at dksX2_call_0 23 rfl rfl)
theorem dX2_call_24 : decode cX2_call 24 = .ok (.iload_n 3, 1) := dk_29 (dk_at dksX2_call_1 0 rfl rfl)
theorem dX2_call_25 : decode cX2_call 25 = .ok (.aload_n 0, 1) := dk_42 (dk_at dksX2_call_1 1 rfl rfl)
theorem dX2_call_26 : decode cX2_call 26 = .ok (.getfield 31, 3) := dk_180 0 31 (dk_at dksX2_call_1 2 rfl rfl)
theorem dX2_call_29 : decode cX2_call 29 = .ok (.if_icmp .ge 41, 3) := dk_162 0 41 (dk_at dksX2_call_1 5 rfl rfl)
theorem dX2_call_32 : decode cX2_call 32 = .ok (.aload_n 0, 1) := dk_42 (dk_at dksX2_call_1 8 rfl rfl)
theorem dX2_call_33 : decode cX2_call 33 = .ok (.getfield 16, 3) := dk_180 0 16 (dk_at dksX2_call_1 9 rfl rfl)
theorem dX2_call_36 : decode cX2_call 36 = .ok (.iload_n 2, 1) := dk_28 (dk_at dksX2_call_1 12 rfl rfl)
theorem dX2_call_37 : decode cX2_call 37 = .ok (.iaload, 1) := dk_46 (dk_at dksX2_call_1 13 rfl rfl)
theorem dX2_call_38 : decode cX2_call 38 = .ok (.aload_n 0, 1) := dk_42 (dk_at dksX2_call_1 14 rfl rfl)
theorem dX2_call_39 : decode cX2_call 39 = .ok (.getfield 11, 3) := dk_180 0 11 (dk_at dksX2_call_1 15 rfl rfl)
theorem dX2_call_42 : decode cX2_call 42 = .ok (.iload_n 2, 1) := dk_28 (dk_at dksX2_call_1 18 rfl rfl)
theorem dX2_call_43 : decode cX2_call 43 = .ok (.aaload, 1) := dk_50 (dk_at dksX2_call_1 19 rfl rfl)
theorem dX2_call_44 : decode cX2_call 44 = .ok (.iload_n 3, 1) := dk_29 (dk_at dksX2_call_1 20 rfl rfl)
theorem dX2_call_45 : decode cX2_call 45 = .ok (.iaload, 1) := dk_46 (dk_at dksX2_call_1 21 rfl rfl)
theorem dX2_call_46 : decode cX2_call 46 = .ok (.invokestatic 85, 3) := dk_184 0 85 (dk_at dksX2_call_2 0 rfl rfl)
theorem dX2_call_49 : decode cX2_call 49 = .ok (.istore 4, 2) := dk_54 4 (dk_at dksX2_call_2 3 rfl rfl)
theorem dX2_call_51 : decode cX2_call 51 = .ok (.aload_n 0, 1) := dk_42 (dk_at dksX2_call_2 5 rfl rfl)
theorem dX2_call_52 : decode cX2_call 52 = .ok (.iload_n 2, 1) := dk_28 (dk_at dksX2_call_2 6 rfl rfl)
theorem dX2_call_53 : decode cX2_call 53 = .ok (.iload_n 3, 1) := dk_29 (dk_at dksX2_call_2 7 rfl rfl)
theorem dX2_call_54 : decode cX2_call 54 = .ok (.iload 4, 2) := dk_21 4 (dk_at dksX2_call_2 8 rfl rfl)
theorem dX2_call_56 : decode cX2_call 56 = .ok (.invokevirtual 78, 3) := dk_182 0 78 (dk_at dksX2_call_2 10 rfl rfl)
theorem dX2_call_59 : decode cX2_call 59 = .ok (.iload_n 1, 1) := dk_27 (dk_at dksX2_call_2 13 rfl rfl)
theorem dX2_call_60 : decode cX2_call 60 = .ok (.iload 4, 2) := dk_21 4 (dk_at dksX2_call_2 14 rfl rfl)
theorem dX2_call_62 : decode cX2_call 62 = .ok (.iadd, 1) := dk_96 (dk_at dksX2_call_2 16 rfl rfl)
theorem dX2_call_63 : decode cX2_call 63 = .ok (.istore_n 1, 1) := dk_60 (dk_at dksX2_call_2 17 rfl rfl)
theorem dX2_call_64 : decode cX2_call 64 = .ok (.iinc 3 1, 3) := dk_132 3 1 (dk_at dksX2_call_2 18 rfl rfl)
theorem dX2_call_67 : decode cX2_call 67 = .ok (.goto (-43), 3) := dk_167 255 213 (dk_at dksX2_call_2 21 rfl rfl)
theorem dX2_call_70 : decode cX2_call 70 = .ok (.iinc 2 1, 3) := dk_132 2 1 (dk_at dksX2_call_3 0 rfl rfl)
theorem dX2_call_73 : decode cX2_call 73 = .ok (.goto (-59), 3) := dk_167 255 197 (dk_at dksX2_call_3 3 rfl rfl)
theorem dX2_call_76 : decode cX2_call 76 = .ok (.iload_n 1, 1) := dk_27 (dk_at dksX2_call_3 6 rfl rfl)
theorem dX2_call_77 : decode cX2_call 77 = .ok (.ireturn, 1) := dk_172 (dk_at dksX2_call_3 7 rfl rfl)
abbrev cX2_hasCycle : ByteArray := prog_4_method_39_code
def yX2_hasCycle : MethodName := ⟨RX2, "hasCycle", "()Z"⟩
def dkwX2_hasCycle_2 : List UInt8 := [166, 0, 14, 42, 28, 43, 182, 0, 215, 153, 0, 5, 4, 172, 132, 2, 1, 167, 255, 225, 3, 172]
abbrev dktX2_hasCycle_2 : List UInt8 := dkwX2_hasCycle_2 ++ []
def dkwX2_hasCycle_1 : List UInt8 := [132, 2, 1, 167, 255, 239, 3, 61, 28, 42, 180, 0, 31, 162, 0, 29, 43, 28, 50, 178, 0, 212]
abbrev dktX2_hasCycle_1 : List UInt8 := dkwX2_hasCycle_1 ++ dktX2_hasCycle_2
def dkwX2_hasCycle_0 : List UInt8 := [42, 180, 0, 31, 189, 0, 207, 76, 3, 61, 28, 42, 180, 0, 31, 162, 0, 15, 43, 28, 178, 0, 212, 83]
abbrev dktX2_hasCycle_0 : List UInt8 := dkwX2_hasCycle_0 ++ dktX2_hasCycle_1
theorem dksX2_hasCycle_0 : cX2_hasCycle.data.toList.drop 0 = dktX2_hasCycle_0 := by decide +kernel
theorem dksX2_hasCycle_1 : cX2_hasCycle.data.toList.drop 24 = dktX2_hasCycle_1 := dk_seg dksX2_hasCycle_0 24 rfl rfl
theorem dksX2_hasCycle_2 : cX2_hasCycle.data.toList.drop 46 = dktX2_hasCycle_2 := dk_seg dksX2_hasCycle_1 22 rfl rfl
theorem dX2_hasCycle_0 : decode cX2_hasCycle 0 = .ok (.aload_n 0, 1) := dk_42 (dk_at dksX2_hasCycle_0 0 rfl rfl)
theorem dX2_hasCycle_1 : decode cX2_hasCycle 1 = .ok (.getfield 31, 3) := dk_180 0 31 (dk_at dksX2_hasCycle_0 1 rfl rfl)
theorem dX2_hasCycle_4 : decode cX2_hasCycle 4 = .ok (.anewarray 207, 3) := dk_189 0 207 (dk_at dksX2_hasCycle_0 4 rfl rfl)
theorem dX2_hasCycle_7 : decode cX2_hasCycle 7 = .ok (.astore_n 1, 1) := dk_76 (dk_at dksX2_hasCycle_0 7 rfl rfl)
theorem dX2_hasCycle_8 : decode cX2_hasCycle 8 = .ok (.iconst 0, 1) := dk_3 (dk_at dksX2_hasCycle_0 8 rfl rfl)
theorem dX2_hasCycle_9 : decode cX2_hasCycle 9 = .ok (.istore_n 2, 1) := dk_61 (dk_at dksX2_hasCycle_0 9 rfl rfl)
theorem dX2_hasCycle_10 : decode cX2_hasCycle 10 = .ok (.iload_n 2, 1) := dk_28 (dk_at dksX2_hasCycle_0 10 rfl rfl)
theorem dX2_hasCycle_11 : decode cX2_hasCycle 11 = .ok (.aload_n 0, 1) := dk_42 (dk_at dksX2_hasCycle_0 11 rfl rfl)
theorem dX2_hasCycle_12 : decode cX2_hasCycle 12 = .ok (.getfield 31, 3) := dk_180 0 31 (dk_at dksX2_hasCycle_0 12 rfl rfl)
theorem dX2_hasCycle_15 : decode cX2_hasCycle 15 = .ok (.if_icmp .ge 15, 3) := dk_162 0 15 (dk_at dksX2_hasCycle_0 15 rfl rfl)
theorem dX2_hasCycle_18 : decode cX2_hasCycle 18 = .ok (.aload_n 1, 1) := dk_43 (dk_at dksX2_hasCycle_0 18 rfl rfl)
theorem dX2_hasCycle_19 : decode cX2_hasCycle 19 = .ok (.iload_n 2, 1) := dk_28 (dk_at dksX2_hasCycle_0 19 rfl rfl)
theorem dX2_hasCycle_20 : decode cX2_hasCycle 20 = .ok (.getstatic 212, 3) := dk_178 0 212 (dk_at dksX2_hasCycle_0 20 rfl rfl)
theorem dX2_hasCycle_23 : decode cX2_hasCycle 23 = .ok (.aastore, 1) := dk_83 (dk_at dksX2_hasCycle_0 23 rfl rfl)
theorem dX2_hasCycle_24 : decode cX2_hasCycle 24 = .ok (.iinc 2 1, 3) := dk_132 2 1 (dk_at dksX2_hasCycle_1 0 rfl rfl)
theorem dX2_hasCycle_27 : decode cX2_hasCycle 27 = .ok (.goto (-17), 3) := dk_167 255 239 (dk_at dksX2_hasCycle_1 3 rfl rfl)
theorem dX2_hasCycle_30 : decode cX2_hasCycle 30 = .ok (.iconst 0, 1) := dk_3 (dk_at dksX2_hasCycle_1 6 rfl rfl)
theorem dX2_hasCycle_31 : decode cX2_hasCycle 31 = .ok (.istore_n 2, 1) := dk_61 (dk_at dksX2_hasCycle_1 7 rfl rfl)
theorem dX2_hasCycle_32 : decode cX2_hasCycle 32 = .ok (.iload_n 2, 1) := dk_28 (dk_at dksX2_hasCycle_1 8 rfl rfl)
theorem dX2_hasCycle_33 : decode cX2_hasCycle 33 = .ok (.aload_n 0, 1) := dk_42 (dk_at dksX2_hasCycle_1 9 rfl rfl)
theorem dX2_hasCycle_34 : decode cX2_hasCycle 34 = .ok (.getfield 31, 3) := dk_180 0 31 (dk_at dksX2_hasCycle_1 10 rfl rfl)
theorem dX2_hasCycle_37 : decode cX2_hasCycle 37 = .ok (.if_icmp .ge 29, 3) := dk_162 0 29 (dk_at dksX2_hasCycle_1 13 rfl rfl)
theorem dX2_hasCycle_40 : decode cX2_hasCycle 40 = .ok (.aload_n 1, 1) := dk_43 (dk_at dksX2_hasCycle_1 16 rfl rfl)
theorem dX2_hasCycle_41 : decode cX2_hasCycle 41 = .ok (.iload_n 2, 1) := dk_28 (dk_at dksX2_hasCycle_1 17 rfl rfl)
theorem dX2_hasCycle_42 : decode cX2_hasCycle 42 = .ok (.aaload, 1) := dk_50 (dk_at dksX2_hasCycle_1 18 rfl rfl)
theorem dX2_hasCycle_43 : decode cX2_hasCycle 43 = .ok (.getstatic 212, 3) := dk_178 0 212 (dk_at dksX2_hasCycle_1 19 rfl rfl)
theorem dX2_hasCycle_46 : decode cX2_hasCycle 46 = .ok (.if_acmp .ne 14, 3) := dk_166 0 14 (dk_at dksX2_hasCycle_2 0 rfl rfl)
theorem dX2_hasCycle_49 : decode cX2_hasCycle 49 = .ok (.aload_n 0, 1) := dk_42 (dk_at dksX2_hasCycle_2 3 rfl rfl)
theorem dX2_hasCycle_50 : decode cX2_hasCycle 50 = .ok (.iload_n 2, 1) := dk_28 (dk_at dksX2_hasCycle_2 4 rfl rfl)
theorem dX2_hasCycle_51 : decode cX2_hasCycle 51 = .ok (.aload_n 1, 1) := dk_43 (dk_at dksX2_hasCycle_2 5 rfl rfl)
theorem dX2_hasCycle_52 : decode cX2_hasCycle 52 = .ok (.invokevirtual 215, 3) := dk_182 0 215 (dk_at dksX2_hasCycle_2 6 rfl rfl)
theorem dX2_hasCycle_55 : decode cX2_hasCycle 55 = .ok (.ifCond .eq 5, 3) := dk_153 0 5 (dk_at dksX2_hasCycle_2 9 rfl rfl)
theorem dX2_hasCycle_58 : decode cX2_hasCycle 58 = .ok (.iconst 1, 1) := dk_4 (dk_at dksX2_hasCycle_2 12 rfl rfl)
theorem dX2_hasCycle_59 : decode cX2_hasCycle 59 = .ok (.ireturn, 1) := dk_172 (dk_at dksX2_hasCycle_2 13 rfl rfl)
theorem dX2_hasCycle_60 : decode cX2_hasCycle 60 = .ok (.iinc 2 1, 3) := dk_132 2 1 (dk_at dksX2_hasCycle_2 14 rfl rfl)
theorem dX2_hasCycle_63 : decode cX2_hasCycle 63 = .ok (.goto (-31), 3) := dk_167 255 225 (dk_at dksX2_hasCycle_2 17 rfl rfl)
theorem dX2_hasCycle_66 : decode cX2_hasCycle 66 = .ok (.iconst 0, 1) := dk_3 (dk_at dksX2_hasCycle_2 20 rfl rfl)
theorem dX2_hasCycle_67 : decode cX2_hasCycle 67 = .ok (.ireturn, 1) := dk_172 (dk_at dksX2_hasCycle_2 21 rfl rfl)
abbrev cX2_comesAgain : ByteArray := prog_4_method_38_code
def yX2_comesAgain : MethodName := ⟨RX2, "comesAgain", "(I[LClearingHouse$Mark;)Z"⟩
def dkwX2_comesAgain_3 : List UInt8 := [167, 255, 193, 44, 27, 178, 0, 219, 83, 3, 172]
abbrev dktX2_comesAgain_3 : List UInt8 := dkwX2_comesAgain_3 ++ []
def dkwX2_comesAgain_2 : List UInt8 := [44, 29, 50, 178, 0, 212, 166, 0, 14, 42, 29, 44, 182, 0, 215, 153, 0, 5, 4, 172, 132, 3, 1]
abbrev dktX2_comesAgain_2 : List UInt8 := dkwX2_comesAgain_2 ++ dktX2_comesAgain_3
def dkwX2_comesAgain_1 : List UInt8 := [158, 0, 7, 4, 167, 0, 4, 3, 54, 4, 21, 4, 153, 0, 32, 44, 29, 50, 178, 0, 206, 165, 0, 21]
abbrev dktX2_comesAgain_1 : List UInt8 := dkwX2_comesAgain_1 ++ dktX2_comesAgain_2
def dkwX2_comesAgain_0 : List UInt8 := [44, 27, 178, 0, 206, 83, 3, 62, 29, 42, 180, 0, 31, 162, 0, 61, 42, 180, 0, 11, 27, 50, 29, 46]
abbrev dktX2_comesAgain_0 : List UInt8 := dkwX2_comesAgain_0 ++ dktX2_comesAgain_1
theorem dksX2_comesAgain_0 : cX2_comesAgain.data.toList.drop 0 = dktX2_comesAgain_0 := by decide +kernel
theorem dksX2_comesAgain_1 : cX2_comesAgain.data.toList.drop 24 = dktX2_comesAgain_1 := dk_seg dksX2_comesAgain_0 24 rfl rfl
theorem dksX2_comesAgain_2 : cX2_comesAgain.data.toList.drop 48 = dktX2_comesAgain_2 := dk_seg dksX2_comesAgain_1 24 rfl rfl
theorem dksX2_comesAgain_3 : cX2_comesAgain.data.toList.drop 71 = dktX2_comesAgain_3 := dk_seg dksX2_comesAgain_2 23 rfl rfl
theorem dX2_comesAgain_0 : decode cX2_comesAgain 0 = .ok (.aload_n 2, 1) := dk_44 (dk_at dksX2_comesAgain_0 0 rfl rfl)
theorem dX2_comesAgain_1 : decode cX2_comesAgain 1 = .ok (.iload_n 1, 1) := dk_27 (dk_at dksX2_comesAgain_0 1 rfl rfl)
theorem dX2_comesAgain_2 : decode cX2_comesAgain 2 = .ok (.getstatic 206, 3) := dk_178 0 206 (dk_at dksX2_comesAgain_0 2 rfl rfl)
theorem dX2_comesAgain_5 : decode cX2_comesAgain 5 = .ok (.aastore, 1) := dk_83 (dk_at dksX2_comesAgain_0 5 rfl rfl)
theorem dX2_comesAgain_6 : decode cX2_comesAgain 6 = .ok (.iconst 0, 1) := dk_3 (dk_at dksX2_comesAgain_0 6 rfl rfl)
theorem dX2_comesAgain_7 : decode cX2_comesAgain 7 = .ok (.istore_n 3, 1) := dk_62 (dk_at dksX2_comesAgain_0 7 rfl rfl)
theorem dX2_comesAgain_8 : decode cX2_comesAgain 8 = .ok (.iload_n 3, 1) := dk_29 (dk_at dksX2_comesAgain_0 8 rfl rfl)
theorem dX2_comesAgain_9 : decode cX2_comesAgain 9 = .ok (.aload_n 0, 1) := dk_42 (dk_at dksX2_comesAgain_0 9 rfl rfl)
theorem dX2_comesAgain_10 : decode cX2_comesAgain 10 = .ok (.getfield 31, 3) := dk_180 0 31 (dk_at dksX2_comesAgain_0 10 rfl rfl)
theorem dX2_comesAgain_13 : decode cX2_comesAgain 13 = .ok (.if_icmp .ge 61, 3) := dk_162 0 61 (dk_at dksX2_comesAgain_0 13 rfl rfl)
theorem dX2_comesAgain_16 : decode cX2_comesAgain 16 = .ok (.aload_n 0, 1) := dk_42 (dk_at dksX2_comesAgain_0 16 rfl rfl)
theorem dX2_comesAgain_17 : decode cX2_comesAgain 17 = .ok (.getfield 11, 3) := dk_180 0 11 (dk_at dksX2_comesAgain_0 17 rfl rfl)
theorem dX2_comesAgain_20 : decode cX2_comesAgain 20 = .ok (.iload_n 1, 1) := dk_27 (dk_at dksX2_comesAgain_0 20 rfl rfl)
theorem dX2_comesAgain_21 : decode cX2_comesAgain 21 = .ok (.aaload, 1) := dk_50 (dk_at dksX2_comesAgain_0 21 rfl rfl)
theorem dX2_comesAgain_22 : decode cX2_comesAgain 22 = .ok (.iload_n 3, 1) := dk_29 (dk_at dksX2_comesAgain_0 22 rfl rfl)
theorem dX2_comesAgain_23 : decode cX2_comesAgain 23 = .ok (.iaload, 1) := dk_46 (dk_at dksX2_comesAgain_0 23 rfl rfl)
theorem dX2_comesAgain_24 : decode cX2_comesAgain 24 = .ok (.ifCond .le 7, 3) := dk_158 0 7 (dk_at dksX2_comesAgain_1 0 rfl rfl)
theorem dX2_comesAgain_27 : decode cX2_comesAgain 27 = .ok (.iconst 1, 1) := dk_4 (dk_at dksX2_comesAgain_1 3 rfl rfl)
theorem dX2_comesAgain_28 : decode cX2_comesAgain 28 = .ok (.goto 4, 3) := dk_167 0 4 (dk_at dksX2_comesAgain_1 4 rfl rfl)
theorem dX2_comesAgain_31 : decode cX2_comesAgain 31 = .ok (.iconst 0, 1) := dk_3 (dk_at dksX2_comesAgain_1 7 rfl rfl)
theorem dX2_comesAgain_32 : decode cX2_comesAgain 32 = .ok (.istore 4, 2) := dk_54 4 (dk_at dksX2_comesAgain_1 8 rfl rfl)
theorem dX2_comesAgain_34 : decode cX2_comesAgain 34 = .ok (.iload 4, 2) := dk_21 4 (dk_at dksX2_comesAgain_1 10 rfl rfl)
theorem dX2_comesAgain_36 : decode cX2_comesAgain 36 = .ok (.ifCond .eq 32, 3) := dk_153 0 32 (dk_at dksX2_comesAgain_1 12 rfl rfl)
theorem dX2_comesAgain_39 : decode cX2_comesAgain 39 = .ok (.aload_n 2, 1) := dk_44 (dk_at dksX2_comesAgain_1 15 rfl rfl)
theorem dX2_comesAgain_40 : decode cX2_comesAgain 40 = .ok (.iload_n 3, 1) := dk_29 (dk_at dksX2_comesAgain_1 16 rfl rfl)
theorem dX2_comesAgain_41 : decode cX2_comesAgain 41 = .ok (.aaload, 1) := dk_50 (dk_at dksX2_comesAgain_1 17 rfl rfl)
theorem dX2_comesAgain_42 : decode cX2_comesAgain 42 = .ok (.getstatic 206, 3) := dk_178 0 206 (dk_at dksX2_comesAgain_1 18 rfl rfl)
theorem dX2_comesAgain_45 : decode cX2_comesAgain 45 = .ok (.if_acmp .eq 21, 3) := dk_165 0 21 (dk_at dksX2_comesAgain_1 21 rfl rfl)
theorem dX2_comesAgain_48 : decode cX2_comesAgain 48 = .ok (.aload_n 2, 1) := dk_44 (dk_at dksX2_comesAgain_2 0 rfl rfl)
theorem dX2_comesAgain_49 : decode cX2_comesAgain 49 = .ok (.iload_n 3, 1) := dk_29 (dk_at dksX2_comesAgain_2 1 rfl rfl)
theorem dX2_comesAgain_50 : decode cX2_comesAgain 50 = .ok (.aaload, 1) := dk_50 (dk_at dksX2_comesAgain_2 2 rfl rfl)
theorem dX2_comesAgain_51 : decode cX2_comesAgain 51 = .ok (.getstatic 212, 3) := dk_178 0 212 (dk_at dksX2_comesAgain_2 3 rfl rfl)
theorem dX2_comesAgain_54 : decode cX2_comesAgain 54 = .ok (.if_acmp .ne 14, 3) := dk_166 0 14 (dk_at dksX2_comesAgain_2 6 rfl rfl)
theorem dX2_comesAgain_57 : decode cX2_comesAgain 57 = .ok (.aload_n 0, 1) := dk_42 (dk_at dksX2_comesAgain_2 9 rfl rfl)
theorem dX2_comesAgain_58 : decode cX2_comesAgain 58 = .ok (.iload_n 3, 1) := dk_29 (dk_at dksX2_comesAgain_2 10 rfl rfl)
theorem dX2_comesAgain_59 : decode cX2_comesAgain 59 = .ok (.aload_n 2, 1) := dk_44 (dk_at dksX2_comesAgain_2 11 rfl rfl)
theorem dX2_comesAgain_60 : decode cX2_comesAgain 60 = .ok (.invokevirtual 215, 3) := dk_182 0 215 (dk_at dksX2_comesAgain_2 12 rfl rfl)
theorem dX2_comesAgain_63 : decode cX2_comesAgain 63 = .ok (.ifCond .eq 5, 3) := dk_153 0 5 (dk_at dksX2_comesAgain_2 15 rfl rfl)
theorem dX2_comesAgain_66 : decode cX2_comesAgain 66 = .ok (.iconst 1, 1) := dk_4 (dk_at dksX2_comesAgain_2 18 rfl rfl)
theorem dX2_comesAgain_67 : decode cX2_comesAgain 67 = .ok (.ireturn, 1) := dk_172 (dk_at dksX2_comesAgain_2 19 rfl rfl)
theorem dX2_comesAgain_68 : decode cX2_comesAgain 68 = .ok (.iinc 3 1, 3) := dk_132 3 1 (dk_at dksX2_comesAgain_2 20 rfl rfl)
theorem dX2_comesAgain_71 : decode cX2_comesAgain 71 = .ok (.goto (-63), 3) := dk_167 255 193 (dk_at dksX2_comesAgain_3 0 rfl rfl)
theorem dX2_comesAgain_74 : decode cX2_comesAgain 74 = .ok (.aload_n 2, 1) := dk_44 (dk_at dksX2_comesAgain_3 3 rfl rfl)
theorem dX2_comesAgain_75 : decode cX2_comesAgain 75 = .ok (.iload_n 1, 1) := dk_27 (dk_at dksX2_comesAgain_3 4 rfl rfl)
theorem dX2_comesAgain_76 : decode cX2_comesAgain 76 = .ok (.getstatic 219, 3) := dk_178 0 219 (dk_at dksX2_comesAgain_3 5 rfl rfl)
theorem dX2_comesAgain_79 : decode cX2_comesAgain 79 = .ok (.aastore, 1) := dk_83 (dk_at dksX2_comesAgain_3 8 rfl rfl)
theorem dX2_comesAgain_80 : decode cX2_comesAgain 80 = .ok (.iconst 0, 1) := dk_3 (dk_at dksX2_comesAgain_3 9 rfl rfl)
theorem dX2_comesAgain_81 : decode cX2_comesAgain 81 = .ok (.ireturn, 1) := dk_172 (dk_at dksX2_comesAgain_3 10 rfl rfl)
abbrev cX2_hasCycleByLeavingOut : ByteArray := prog_4_method_41_code
def yX2_hasCycleByLeavingOut : MethodName := ⟨RX2, "hasCycleByLeavingOut", "()Z"⟩
def dkwX2_hasCycleByLeavingOut_3 : List UInt8 := [3, 172]
abbrev dktX2_hasCycleByLeavingOut_3 : List UInt8 := dkwX2_hasCycleByLeavingOut_3 ++ []
def dkwX2_hasCycleByLeavingOut_2 : List UInt8 := [120, 2, 130, 126, 60, 4, 61, 132, 3, 1, 167, 255, 217, 167, 255, 206, 27, 153, 0, 7, 4, 167, 0, 4]
abbrev dktX2_hasCycleByLeavingOut_2 : List UInt8 := dkwX2_hasCycleByLeavingOut_2 ++ dktX2_hasCycleByLeavingOut_3
def dkwX2_hasCycleByLeavingOut_1 : List UInt8 := [162, 0, 37, 27, 29, 122, 4, 126, 4, 160, 0, 22, 42, 29, 27, 182, 0, 222, 154, 0, 13, 27, 4, 29]
abbrev dktX2_hasCycleByLeavingOut_1 : List UInt8 := dkwX2_hasCycleByLeavingOut_1 ++ dktX2_hasCycleByLeavingOut_2
def dkwX2_hasCycleByLeavingOut_0 : List UInt8 := [4, 42, 180, 0, 31, 120, 4, 100, 60, 4, 61, 28, 153, 0, 52, 3, 61, 3, 62, 29, 42, 180, 0, 31]
abbrev dktX2_hasCycleByLeavingOut_0 : List UInt8 := dkwX2_hasCycleByLeavingOut_0 ++ dktX2_hasCycleByLeavingOut_1
theorem dksX2_hasCycleByLeavingOut_0 : cX2_hasCycleByLeavingOut.data.toList.drop 0 = dktX2_hasCycleByLeavingOut_0 := by decide +kernel
theorem dksX2_hasCycleByLeavingOut_1 : cX2_hasCycleByLeavingOut.data.toList.drop 24 = dktX2_hasCycleByLeavingOut_1 := dk_seg dksX2_hasCycleByLeavingOut_0 24 rfl rfl
theorem dksX2_hasCycleByLeavingOut_2 : cX2_hasCycleByLeavingOut.data.toList.drop 48 = dktX2_hasCycleByLeavingOut_2 := dk_seg dksX2_hasCycleByLeavingOut_1 24 rfl rfl
theorem dksX2_hasCycleByLeavingOut_3 : cX2_hasCycleByLeavingOut.data.toList.drop 72 = dktX2_hasCycleByLeavingOut_3 := dk_seg dksX2_hasCycleByLeavingOut_2 24 rfl rfl
theorem dX2_hasCycleByLeavingOut_0 : decode cX2_hasCycleByLeavingOut 0 = .ok (.iconst 1, 1) := dk_4 (dk_at dksX2_hasCycleByLeavingOut_0 0 rfl rfl)
theorem dX2_hasCycleByLeavingOut_1 : decode cX2_hasCycleByLeavingOut 1 = .ok (.aload_n 0, 1) := dk_42 (dk_at dksX2_hasCycleByLeavingOut_0 1 rfl rfl)
theorem dX2_hasCycleByLeavingOut_2 : decode cX2_hasCycleByLeavingOut 2 = .ok (.getfield 31, 3) := dk_180 0 31 (dk_at dksX2_hasCycleByLeavingOut_0 2 rfl rfl)
theorem dX2_hasCycleByLeavingOut_5 : decode cX2_hasCycleByLeavingOut 5 = .ok (.ishl, 1) := dk_120 (dk_at dksX2_hasCycleByLeavingOut_0 5 rfl rfl)
theorem dX2_hasCycleByLeavingOut_6 : decode cX2_hasCycleByLeavingOut 6 = .ok (.iconst 1, 1) := dk_4 (dk_at dksX2_hasCycleByLeavingOut_0 6 rfl rfl)
theorem dX2_hasCycleByLeavingOut_7 : decode cX2_hasCycleByLeavingOut 7 = .ok (.isub, 1) := dk_100 (dk_at dksX2_hasCycleByLeavingOut_0 7 rfl rfl)
theorem dX2_hasCycleByLeavingOut_8 : decode cX2_hasCycleByLeavingOut 8 = .ok (.istore_n 1, 1) := dk_60 (dk_at dksX2_hasCycleByLeavingOut_0 8 rfl rfl)
theorem dX2_hasCycleByLeavingOut_9 : decode cX2_hasCycleByLeavingOut 9 = .ok (.iconst 1, 1) := dk_4 (dk_at dksX2_hasCycleByLeavingOut_0 9 rfl rfl)
theorem dX2_hasCycleByLeavingOut_10 : decode cX2_hasCycleByLeavingOut 10 = .ok (.istore_n 2, 1) := dk_61 (dk_at dksX2_hasCycleByLeavingOut_0 10 rfl rfl)
theorem dX2_hasCycleByLeavingOut_11 : decode cX2_hasCycleByLeavingOut 11 = .ok (.iload_n 2, 1) := dk_28 (dk_at dksX2_hasCycleByLeavingOut_0 11 rfl rfl)
theorem dX2_hasCycleByLeavingOut_12 : decode cX2_hasCycleByLeavingOut 12 = .ok (.ifCond .eq 52, 3) := dk_153 0 52 (dk_at dksX2_hasCycleByLeavingOut_0 12 rfl rfl)
theorem dX2_hasCycleByLeavingOut_15 : decode cX2_hasCycleByLeavingOut 15 = .ok (.iconst 0, 1) := dk_3 (dk_at dksX2_hasCycleByLeavingOut_0 15 rfl rfl)
theorem dX2_hasCycleByLeavingOut_16 : decode cX2_hasCycleByLeavingOut 16 = .ok (.istore_n 2, 1) := dk_61 (dk_at dksX2_hasCycleByLeavingOut_0 16 rfl rfl)
theorem dX2_hasCycleByLeavingOut_17 : decode cX2_hasCycleByLeavingOut 17 = .ok (.iconst 0, 1) := dk_3 (dk_at dksX2_hasCycleByLeavingOut_0 17 rfl rfl)
theorem dX2_hasCycleByLeavingOut_18 : decode cX2_hasCycleByLeavingOut 18 = .ok (.istore_n 3, 1) := dk_62 (dk_at dksX2_hasCycleByLeavingOut_0 18 rfl rfl)
theorem dX2_hasCycleByLeavingOut_19 : decode cX2_hasCycleByLeavingOut 19 = .ok (.iload_n 3, 1) := dk_29 (dk_at dksX2_hasCycleByLeavingOut_0 19 rfl rfl)
theorem dX2_hasCycleByLeavingOut_20 : decode cX2_hasCycleByLeavingOut 20 = .ok (.aload_n 0, 1) := dk_42 (dk_at dksX2_hasCycleByLeavingOut_0 20 rfl rfl)
theorem dX2_hasCycleByLeavingOut_21 : decode cX2_hasCycleByLeavingOut 21 = .ok (.getfield 31, 3) := dk_180 0 31 (dk_at dksX2_hasCycleByLeavingOut_0 21 rfl rfl)
theorem dX2_hasCycleByLeavingOut_24 : decode cX2_hasCycleByLeavingOut 24 = .ok (.if_icmp .ge 37, 3) := dk_162 0 37 (dk_at dksX2_hasCycleByLeavingOut_1 0 rfl rfl)
theorem dX2_hasCycleByLeavingOut_27 : decode cX2_hasCycleByLeavingOut 27 = .ok (.iload_n 1, 1) := dk_27 (dk_at dksX2_hasCycleByLeavingOut_1 3 rfl rfl)
theorem dX2_hasCycleByLeavingOut_28 : decode cX2_hasCycleByLeavingOut 28 = .ok (.iload_n 3, 1) := dk_29 (dk_at dksX2_hasCycleByLeavingOut_1 4 rfl rfl)
theorem dX2_hasCycleByLeavingOut_29 : decode cX2_hasCycleByLeavingOut 29 = .ok (.ishr, 1) := dk_122 (dk_at dksX2_hasCycleByLeavingOut_1 5 rfl rfl)
theorem dX2_hasCycleByLeavingOut_30 : decode cX2_hasCycleByLeavingOut 30 = .ok (.iconst 1, 1) := dk_4 (dk_at dksX2_hasCycleByLeavingOut_1 6 rfl rfl)
theorem dX2_hasCycleByLeavingOut_31 : decode cX2_hasCycleByLeavingOut 31 = .ok (.iand, 1) := dk_126 (dk_at dksX2_hasCycleByLeavingOut_1 7 rfl rfl)
theorem dX2_hasCycleByLeavingOut_32 : decode cX2_hasCycleByLeavingOut 32 = .ok (.iconst 1, 1) := dk_4 (dk_at dksX2_hasCycleByLeavingOut_1 8 rfl rfl)
theorem dX2_hasCycleByLeavingOut_33 : decode cX2_hasCycleByLeavingOut 33 = .ok (.if_icmp .ne 22, 3) := dk_160 0 22 (dk_at dksX2_hasCycleByLeavingOut_1 9 rfl rfl)
theorem dX2_hasCycleByLeavingOut_36 : decode cX2_hasCycleByLeavingOut 36 = .ok (.aload_n 0, 1) := dk_42 (dk_at dksX2_hasCycleByLeavingOut_1 12 rfl rfl)
theorem dX2_hasCycleByLeavingOut_37 : decode cX2_hasCycleByLeavingOut 37 = .ok (.iload_n 3, 1) := dk_29 (dk_at dksX2_hasCycleByLeavingOut_1 13 rfl rfl)
theorem dX2_hasCycleByLeavingOut_38 : decode cX2_hasCycleByLeavingOut 38 = .ok (.iload_n 1, 1) := dk_27 (dk_at dksX2_hasCycleByLeavingOut_1 14 rfl rfl)
theorem dX2_hasCycleByLeavingOut_39 : decode cX2_hasCycleByLeavingOut 39 = .ok (.invokevirtual 222, 3) := dk_182 0 222 (dk_at dksX2_hasCycleByLeavingOut_1 15 rfl rfl)
theorem dX2_hasCycleByLeavingOut_42 : decode cX2_hasCycleByLeavingOut 42 = .ok (.ifCond .ne 13, 3) := dk_154 0 13 (dk_at dksX2_hasCycleByLeavingOut_1 18 rfl rfl)
theorem dX2_hasCycleByLeavingOut_45 : decode cX2_hasCycleByLeavingOut 45 = .ok (.iload_n 1, 1) := dk_27 (dk_at dksX2_hasCycleByLeavingOut_1 21 rfl rfl)
theorem dX2_hasCycleByLeavingOut_46 : decode cX2_hasCycleByLeavingOut 46 = .ok (.iconst 1, 1) := dk_4 (dk_at dksX2_hasCycleByLeavingOut_1 22 rfl rfl)
theorem dX2_hasCycleByLeavingOut_47 : decode cX2_hasCycleByLeavingOut 47 = .ok (.iload_n 3, 1) := dk_29 (dk_at dksX2_hasCycleByLeavingOut_1 23 rfl rfl)
theorem dX2_hasCycleByLeavingOut_48 : decode cX2_hasCycleByLeavingOut 48 = .ok (.ishl, 1) := dk_120 (dk_at dksX2_hasCycleByLeavingOut_2 0 rfl rfl)
theorem dX2_hasCycleByLeavingOut_49 : decode cX2_hasCycleByLeavingOut 49 = .ok (.iconst (-1), 1) := dk_2 (dk_at dksX2_hasCycleByLeavingOut_2 1 rfl rfl)
theorem dX2_hasCycleByLeavingOut_50 : decode cX2_hasCycleByLeavingOut 50 = .ok (.ixor, 1) := dk_130 (dk_at dksX2_hasCycleByLeavingOut_2 2 rfl rfl)
theorem dX2_hasCycleByLeavingOut_51 : decode cX2_hasCycleByLeavingOut 51 = .ok (.iand, 1) := dk_126 (dk_at dksX2_hasCycleByLeavingOut_2 3 rfl rfl)
theorem dX2_hasCycleByLeavingOut_52 : decode cX2_hasCycleByLeavingOut 52 = .ok (.istore_n 1, 1) := dk_60 (dk_at dksX2_hasCycleByLeavingOut_2 4 rfl rfl)
theorem dX2_hasCycleByLeavingOut_53 : decode cX2_hasCycleByLeavingOut 53 = .ok (.iconst 1, 1) := dk_4 (dk_at dksX2_hasCycleByLeavingOut_2 5 rfl rfl)
theorem dX2_hasCycleByLeavingOut_54 : decode cX2_hasCycleByLeavingOut 54 = .ok (.istore_n 2, 1) := dk_61 (dk_at dksX2_hasCycleByLeavingOut_2 6 rfl rfl)
theorem dX2_hasCycleByLeavingOut_55 : decode cX2_hasCycleByLeavingOut 55 = .ok (.iinc 3 1, 3) := dk_132 3 1 (dk_at dksX2_hasCycleByLeavingOut_2 7 rfl rfl)
theorem dX2_hasCycleByLeavingOut_58 : decode cX2_hasCycleByLeavingOut 58 = .ok (.goto (-39), 3) := dk_167 255 217 (dk_at dksX2_hasCycleByLeavingOut_2 10 rfl rfl)
theorem dX2_hasCycleByLeavingOut_61 : decode cX2_hasCycleByLeavingOut 61 = .ok (.goto (-50), 3) := dk_167 255 206 (dk_at dksX2_hasCycleByLeavingOut_2 13 rfl rfl)
theorem dX2_hasCycleByLeavingOut_64 : decode cX2_hasCycleByLeavingOut 64 = .ok (.iload_n 1, 1) := dk_27 (dk_at dksX2_hasCycleByLeavingOut_2 16 rfl rfl)
theorem dX2_hasCycleByLeavingOut_65 : decode cX2_hasCycleByLeavingOut 65 = .ok (.ifCond .eq 7, 3) := dk_153 0 7 (dk_at dksX2_hasCycleByLeavingOut_2 17 rfl rfl)
theorem dX2_hasCycleByLeavingOut_68 : decode cX2_hasCycleByLeavingOut 68 = .ok (.iconst 1, 1) := dk_4 (dk_at dksX2_hasCycleByLeavingOut_2 20 rfl rfl)
theorem dX2_hasCycleByLeavingOut_69 : decode cX2_hasCycleByLeavingOut 69 = .ok (.goto 4, 3) := dk_167 0 4 (dk_at dksX2_hasCycleByLeavingOut_2 21 rfl rfl)
theorem dX2_hasCycleByLeavingOut_72 : decode cX2_hasCycleByLeavingOut 72 = .ok (.iconst 0, 1) := dk_3 (dk_at dksX2_hasCycleByLeavingOut_3 0 rfl rfl)
theorem dX2_hasCycleByLeavingOut_73 : decode cX2_hasCycleByLeavingOut 73 = .ok (.ireturn, 1) := dk_172 (dk_at dksX2_hasCycleByLeavingOut_3 1 rfl rfl)
abbrev cX2_isOwed : ByteArray := prog_4_method_40_code
def yX2_isOwed : MethodName := ⟨RX2, "isOwed", "(II)Z"⟩
def dkwX2_isOwed_1 : List UInt8 := [50, 27, 46, 158, 0, 5, 4, 172, 132, 3, 1, 167, 255, 223, 3, 172]
abbrev dktX2_isOwed_1 : List UInt8 := dkwX2_isOwed_1 ++ []
def dkwX2_isOwed_0 : List UInt8 := [3, 62, 29, 42, 180, 0, 31, 162, 0, 31, 28, 29, 122, 4, 126, 4, 160, 0, 16, 42, 180, 0, 11, 29]
abbrev dktX2_isOwed_0 : List UInt8 := dkwX2_isOwed_0 ++ dktX2_isOwed_1
theorem dksX2_isOwed_0 : cX2_isOwed.data.toList.drop 0 = dktX2_isOwed_0 := by decide +kernel
theorem dksX2_isOwed_1 : cX2_isOwed.data.toList.drop 24 = dktX2_isOwed_1 := dk_seg dksX2_isOwed_0 24 rfl rfl
theorem dX2_isOwed_0 : decode cX2_isOwed 0 = .ok (.iconst 0, 1) := dk_3 (dk_at dksX2_isOwed_0 0 rfl rfl)
theorem dX2_isOwed_1 : decode cX2_isOwed 1 = .ok (.istore_n 3, 1) := dk_62 (dk_at dksX2_isOwed_0 1 rfl rfl)
theorem dX2_isOwed_2 : decode cX2_isOwed 2 = .ok (.iload_n 3, 1) := dk_29 (dk_at dksX2_isOwed_0 2 rfl rfl)
theorem dX2_isOwed_3 : decode cX2_isOwed 3 = .ok (.aload_n 0, 1) := dk_42 (dk_at dksX2_isOwed_0 3 rfl rfl)
theorem dX2_isOwed_4 : decode cX2_isOwed 4 = .ok (.getfield 31, 3) := dk_180 0 31 (dk_at dksX2_isOwed_0 4 rfl rfl)
theorem dX2_isOwed_7 : decode cX2_isOwed 7 = .ok (.if_icmp .ge 31, 3) := dk_162 0 31 (dk_at dksX2_isOwed_0 7 rfl rfl)
theorem dX2_isOwed_10 : decode cX2_isOwed 10 = .ok (.iload_n 2, 1) := dk_28 (dk_at dksX2_isOwed_0 10 rfl rfl)
theorem dX2_isOwed_11 : decode cX2_isOwed 11 = .ok (.iload_n 3, 1) := dk_29 (dk_at dksX2_isOwed_0 11 rfl rfl)
theorem dX2_isOwed_12 : decode cX2_isOwed 12 = .ok (.ishr, 1) := dk_122 (dk_at dksX2_isOwed_0 12 rfl rfl)
theorem dX2_isOwed_13 : decode cX2_isOwed 13 = .ok (.iconst 1, 1) := dk_4 (dk_at dksX2_isOwed_0 13 rfl rfl)
theorem dX2_isOwed_14 : decode cX2_isOwed 14 = .ok (.iand, 1) := dk_126 (dk_at dksX2_isOwed_0 14 rfl rfl)
theorem dX2_isOwed_15 : decode cX2_isOwed 15 = .ok (.iconst 1, 1) := dk_4 (dk_at dksX2_isOwed_0 15 rfl rfl)
theorem dX2_isOwed_16 : decode cX2_isOwed 16 = .ok (.if_icmp .ne 16, 3) := dk_160 0 16 (dk_at dksX2_isOwed_0 16 rfl rfl)
theorem dX2_isOwed_19 : decode cX2_isOwed 19 = .ok (.aload_n 0, 1) := dk_42 (dk_at dksX2_isOwed_0 19 rfl rfl)
theorem dX2_isOwed_20 : decode cX2_isOwed 20 = .ok (.getfield 11, 3) := dk_180 0 11 (dk_at dksX2_isOwed_0 20 rfl rfl)
theorem dX2_isOwed_23 : decode cX2_isOwed 23 = .ok (.iload_n 3, 1) := dk_29 (dk_at dksX2_isOwed_0 23 rfl rfl)
theorem dX2_isOwed_24 : decode cX2_isOwed 24 = .ok (.aaload, 1) := dk_50 (dk_at dksX2_isOwed_1 0 rfl rfl)
theorem dX2_isOwed_25 : decode cX2_isOwed 25 = .ok (.iload_n 1, 1) := dk_27 (dk_at dksX2_isOwed_1 1 rfl rfl)
theorem dX2_isOwed_26 : decode cX2_isOwed 26 = .ok (.iaload, 1) := dk_46 (dk_at dksX2_isOwed_1 2 rfl rfl)
theorem dX2_isOwed_27 : decode cX2_isOwed 27 = .ok (.ifCond .le 5, 3) := dk_158 0 5 (dk_at dksX2_isOwed_1 3 rfl rfl)
theorem dX2_isOwed_30 : decode cX2_isOwed 30 = .ok (.iconst 1, 1) := dk_4 (dk_at dksX2_isOwed_1 6 rfl rfl)
theorem dX2_isOwed_31 : decode cX2_isOwed 31 = .ok (.ireturn, 1) := dk_172 (dk_at dksX2_isOwed_1 7 rfl rfl)
theorem dX2_isOwed_32 : decode cX2_isOwed 32 = .ok (.iinc 3 1, 3) := dk_132 3 1 (dk_at dksX2_isOwed_1 8 rfl rfl)
theorem dX2_isOwed_35 : decode cX2_isOwed 35 = .ok (.goto (-33), 3) := dk_167 255 223 (dk_at dksX2_isOwed_1 11 rfl rfl)
theorem dX2_isOwed_38 : decode cX2_isOwed 38 = .ok (.iconst 0, 1) := dk_3 (dk_at dksX2_isOwed_1 14 rfl rfl)
theorem dX2_isOwed_39 : decode cX2_isOwed 39 = .ok (.ireturn, 1) := dk_172 (dk_at dksX2_isOwed_1 15 rfl rfl)
abbrev cX2_fewestPayments : ByteArray := prog_4_method_44_code
def yX2_fewestPayments : MethodName := ⟨RX2, "fewestPayments", "()I"⟩
def dkwX2_fewestPayments_4 : List UInt8 := [43, 190, 44, 44, 190, 4, 100, 46, 100, 172]
abbrev dktX2_fewestPayments_4 : List UInt8 := dkwX2_fewestPayments_4 ++ []
def dkwX2_fewestPayments_3 : List UInt8 := [29, 21, 4, 43, 29, 184, 0, 231, 154, 0, 7, 4, 167, 0, 4, 3, 96, 79, 132, 3, 1, 167, 255, 177]
abbrev dktX2_fewestPayments_3 : List UInt8 := dkwX2_fewestPayments_3 ++ dktX2_fewestPayments_4
def dkwX2_fewestPayments_2 : List UInt8 := [21, 5, 120, 2, 130, 126, 46, 184, 0, 228, 167, 0, 5, 21, 4, 54, 4, 132, 5, 1, 167, 255, 214, 44]
abbrev dktX2_fewestPayments_2 : List UInt8 := dkwX2_fewestPayments_2 ++ dktX2_fewestPayments_3
def dkwX2_fewestPayments_1 : List UInt8 := [54, 5, 21, 5, 43, 190, 162, 0, 41, 29, 21, 5, 122, 4, 126, 4, 160, 0, 21, 21, 4, 44, 29, 4]
abbrev dktX2_fewestPayments_1 : List UInt8 := dkwX2_fewestPayments_1 ++ dktX2_fewestPayments_2
def dkwX2_fewestPayments_0 : List UInt8 := [42, 182, 0, 225, 76, 4, 43, 190, 120, 188, 10, 77, 4, 62, 29, 44, 190, 162, 0, 79, 3, 54, 4, 3]
abbrev dktX2_fewestPayments_0 : List UInt8 := dkwX2_fewestPayments_0 ++ dktX2_fewestPayments_1
theorem dksX2_fewestPayments_0 : cX2_fewestPayments.data.toList.drop 0 = dktX2_fewestPayments_0 := by decide +kernel
theorem dksX2_fewestPayments_1 : cX2_fewestPayments.data.toList.drop 24 = dktX2_fewestPayments_1 := dk_seg dksX2_fewestPayments_0 24 rfl rfl
theorem dksX2_fewestPayments_2 : cX2_fewestPayments.data.toList.drop 48 = dktX2_fewestPayments_2 := dk_seg dksX2_fewestPayments_1 24 rfl rfl
theorem dksX2_fewestPayments_3 : cX2_fewestPayments.data.toList.drop 72 = dktX2_fewestPayments_3 := dk_seg dksX2_fewestPayments_2 24 rfl rfl
theorem dksX2_fewestPayments_4 : cX2_fewestPayments.data.toList.drop 96 = dktX2_fewestPayments_4 := dk_seg dksX2_fewestPayments_3 24 rfl rfl
theorem dX2_fewestPayments_0 : decode cX2_fewestPayments 0 = .ok (.aload_n 0, 1) := dk_42 (dk_at dksX2_fewestPayments_0 0 rfl rfl)
theorem dX2_fewestPayments_1 : decode cX2_fewestPayments 1 = .ok (.invokevirtual 225, 3) := dk_182 0 225 (dk_at dksX2_fewestPayments_0 1 rfl rfl)
theorem dX2_fewestPayments_4 : decode cX2_fewestPayments 4 = .ok (.astore_n 1, 1) := dk_76 (dk_at dksX2_fewestPayments_0 4 rfl rfl)
theorem dX2_fewestPayments_5 : decode cX2_fewestPayments 5 = .ok (.iconst 1, 1) := dk_4 (dk_at dksX2_fewestPayments_0 5 rfl rfl)
theorem dX2_fewestPayments_6 : decode cX2_fewestPayments 6 = .ok (.aload_n 1, 1) := dk_43 (dk_at dksX2_fewestPayments_0 6 rfl rfl)
theorem dX2_fewestPayments_7 : decode cX2_fewestPayments 7 = .ok (.arraylength, 1) := dk_190 (dk_at dksX2_fewestPayments_0 7 rfl rfl)
theorem dX2_fewestPayments_8 : decode cX2_fewestPayments 8 = .ok (.ishl, 1) := dk_120 (dk_at dksX2_fewestPayments_0 8 rfl rfl)
theorem dX2_fewestPayments_9 : decode cX2_fewestPayments 9 = .ok (.newarray .int, 2) := dk_188_10 (dk_at dksX2_fewestPayments_0 9 rfl rfl)
theorem dX2_fewestPayments_11 : decode cX2_fewestPayments 11 = .ok (.astore_n 2, 1) := dk_77 (dk_at dksX2_fewestPayments_0 11 rfl rfl)
theorem dX2_fewestPayments_12 : decode cX2_fewestPayments 12 = .ok (.iconst 1, 1) := dk_4 (dk_at dksX2_fewestPayments_0 12 rfl rfl)
theorem dX2_fewestPayments_13 : decode cX2_fewestPayments 13 = .ok (.istore_n 3, 1) := dk_62 (dk_at dksX2_fewestPayments_0 13 rfl rfl)
theorem dX2_fewestPayments_14 : decode cX2_fewestPayments 14 = .ok (.iload_n 3, 1) := dk_29 (dk_at dksX2_fewestPayments_0 14 rfl rfl)
theorem dX2_fewestPayments_15 : decode cX2_fewestPayments 15 = .ok (.aload_n 2, 1) := dk_44 (dk_at dksX2_fewestPayments_0 15 rfl rfl)
theorem dX2_fewestPayments_16 : decode cX2_fewestPayments 16 = .ok (.arraylength, 1) := dk_190 (dk_at dksX2_fewestPayments_0 16 rfl rfl)
theorem dX2_fewestPayments_17 : decode cX2_fewestPayments 17 = .ok (.if_icmp .ge 79, 3) := dk_162 0 79 (dk_at dksX2_fewestPayments_0 17 rfl rfl)
theorem dX2_fewestPayments_20 : decode cX2_fewestPayments 20 = .ok (.iconst 0, 1) := dk_3 (dk_at dksX2_fewestPayments_0 20 rfl rfl)
theorem dX2_fewestPayments_21 : decode cX2_fewestPayments 21 = .ok (.istore 4, 2) := dk_54 4 (dk_at dksX2_fewestPayments_0 21 rfl rfl)
theorem dX2_fewestPayments_23 : decode cX2_fewestPayments 23 = .ok (.iconst 0, 1) := dk_3 (dk_at dksX2_fewestPayments_0 23 rfl rfl)
theorem dX2_fewestPayments_24 : decode cX2_fewestPayments 24 = .ok (.istore 5, 2) := dk_54 5 (dk_at dksX2_fewestPayments_1 0 rfl rfl)
theorem dX2_fewestPayments_26 : decode cX2_fewestPayments 26 = .ok (.iload 5, 2) := dk_21 5 (dk_at dksX2_fewestPayments_1 2 rfl rfl)
theorem dX2_fewestPayments_28 : decode cX2_fewestPayments 28 = .ok (.aload_n 1, 1) := dk_43 (dk_at dksX2_fewestPayments_1 4 rfl rfl)
theorem dX2_fewestPayments_29 : decode cX2_fewestPayments 29 = .ok (.arraylength, 1) := dk_190 (dk_at dksX2_fewestPayments_1 5 rfl rfl)
theorem dX2_fewestPayments_30 : decode cX2_fewestPayments 30 = .ok (.if_icmp .ge 41, 3) := dk_162 0 41 (dk_at dksX2_fewestPayments_1 6 rfl rfl)
theorem dX2_fewestPayments_33 : decode cX2_fewestPayments 33 = .ok (.iload_n 3, 1) := dk_29 (dk_at dksX2_fewestPayments_1 9 rfl rfl)
theorem dX2_fewestPayments_34 : decode cX2_fewestPayments 34 = .ok (.iload 5, 2) := dk_21 5 (dk_at dksX2_fewestPayments_1 10 rfl rfl)
theorem dX2_fewestPayments_36 : decode cX2_fewestPayments 36 = .ok (.ishr, 1) := dk_122 (dk_at dksX2_fewestPayments_1 12 rfl rfl)
theorem dX2_fewestPayments_37 : decode cX2_fewestPayments 37 = .ok (.iconst 1, 1) := dk_4 (dk_at dksX2_fewestPayments_1 13 rfl rfl)
theorem dX2_fewestPayments_38 : decode cX2_fewestPayments 38 = .ok (.iand, 1) := dk_126 (dk_at dksX2_fewestPayments_1 14 rfl rfl)
theorem dX2_fewestPayments_39 : decode cX2_fewestPayments 39 = .ok (.iconst 1, 1) := dk_4 (dk_at dksX2_fewestPayments_1 15 rfl rfl)
theorem dX2_fewestPayments_40 : decode cX2_fewestPayments 40 = .ok (.if_icmp .ne 21, 3) := dk_160 0 21 (dk_at dksX2_fewestPayments_1 16 rfl rfl)
theorem dX2_fewestPayments_43 : decode cX2_fewestPayments 43 = .ok (.iload 4, 2) := dk_21 4 (dk_at dksX2_fewestPayments_1 19 rfl rfl)
theorem dX2_fewestPayments_45 : decode cX2_fewestPayments 45 = .ok (.aload_n 2, 1) := dk_44 (dk_at dksX2_fewestPayments_1 21 rfl rfl)
theorem dX2_fewestPayments_46 : decode cX2_fewestPayments 46 = .ok (.iload_n 3, 1) := dk_29 (dk_at dksX2_fewestPayments_1 22 rfl rfl)
theorem dX2_fewestPayments_47 : decode cX2_fewestPayments 47 = .ok (.iconst 1, 1) := dk_4 (dk_at dksX2_fewestPayments_1 23 rfl rfl)
theorem dX2_fewestPayments_48 : decode cX2_fewestPayments 48 = .ok (.iload 5, 2) := dk_21 5 (dk_at dksX2_fewestPayments_2 0 rfl rfl)
theorem dX2_fewestPayments_50 : decode cX2_fewestPayments 50 = .ok (.ishl, 1) := dk_120 (dk_at dksX2_fewestPayments_2 2 rfl rfl)
theorem dX2_fewestPayments_51 : decode cX2_fewestPayments 51 = .ok (.iconst (-1), 1) := dk_2 (dk_at dksX2_fewestPayments_2 3 rfl rfl)
theorem dX2_fewestPayments_52 : decode cX2_fewestPayments 52 = .ok (.ixor, 1) := dk_130 (dk_at dksX2_fewestPayments_2 4 rfl rfl)
theorem dX2_fewestPayments_53 : decode cX2_fewestPayments 53 = .ok (.iand, 1) := dk_126 (dk_at dksX2_fewestPayments_2 5 rfl rfl)
theorem dX2_fewestPayments_54 : decode cX2_fewestPayments 54 = .ok (.iaload, 1) := dk_46 (dk_at dksX2_fewestPayments_2 6 rfl rfl)
theorem dX2_fewestPayments_55 : decode cX2_fewestPayments 55 = .ok (.invokestatic 228, 3) := dk_184 0 228 (dk_at dksX2_fewestPayments_2 7 rfl rfl)
theorem dX2_fewestPayments_58 : decode cX2_fewestPayments 58 = .ok (.goto 5, 3) := dk_167 0 5 (dk_at dksX2_fewestPayments_2 10 rfl rfl)
theorem dX2_fewestPayments_61 : decode cX2_fewestPayments 61 = .ok (.iload 4, 2) := dk_21 4 (dk_at dksX2_fewestPayments_2 13 rfl rfl)
theorem dX2_fewestPayments_63 : decode cX2_fewestPayments 63 = .ok (.istore 4, 2) := dk_54 4 (dk_at dksX2_fewestPayments_2 15 rfl rfl)
theorem dX2_fewestPayments_65 : decode cX2_fewestPayments 65 = .ok (.iinc 5 1, 3) := dk_132 5 1 (dk_at dksX2_fewestPayments_2 17 rfl rfl)
theorem dX2_fewestPayments_68 : decode cX2_fewestPayments 68 = .ok (.goto (-42), 3) := dk_167 255 214 (dk_at dksX2_fewestPayments_2 20 rfl rfl)
theorem dX2_fewestPayments_71 : decode cX2_fewestPayments 71 = .ok (.aload_n 2, 1) := dk_44 (dk_at dksX2_fewestPayments_2 23 rfl rfl)
theorem dX2_fewestPayments_72 : decode cX2_fewestPayments 72 = .ok (.iload_n 3, 1) := dk_29 (dk_at dksX2_fewestPayments_3 0 rfl rfl)
theorem dX2_fewestPayments_73 : decode cX2_fewestPayments 73 = .ok (.iload 4, 2) := dk_21 4 (dk_at dksX2_fewestPayments_3 1 rfl rfl)
theorem dX2_fewestPayments_75 : decode cX2_fewestPayments 75 = .ok (.aload_n 1, 1) := dk_43 (dk_at dksX2_fewestPayments_3 3 rfl rfl)
theorem dX2_fewestPayments_76 : decode cX2_fewestPayments 76 = .ok (.iload_n 3, 1) := dk_29 (dk_at dksX2_fewestPayments_3 4 rfl rfl)
theorem dX2_fewestPayments_77 : decode cX2_fewestPayments 77 = .ok (.invokestatic 231, 3) := dk_184 0 231 (dk_at dksX2_fewestPayments_3 5 rfl rfl)
theorem dX2_fewestPayments_80 : decode cX2_fewestPayments 80 = .ok (.ifCond .ne 7, 3) := dk_154 0 7 (dk_at dksX2_fewestPayments_3 8 rfl rfl)
theorem dX2_fewestPayments_83 : decode cX2_fewestPayments 83 = .ok (.iconst 1, 1) := dk_4 (dk_at dksX2_fewestPayments_3 11 rfl rfl)
theorem dX2_fewestPayments_84 : decode cX2_fewestPayments 84 = .ok (.goto 4, 3) := dk_167 0 4 (dk_at dksX2_fewestPayments_3 12 rfl rfl)
theorem dX2_fewestPayments_87 : decode cX2_fewestPayments 87 = .ok (.iconst 0, 1) := dk_3 (dk_at dksX2_fewestPayments_3 15 rfl rfl)
theorem dX2_fewestPayments_88 : decode cX2_fewestPayments 88 = .ok (.iadd, 1) := dk_96 (dk_at dksX2_fewestPayments_3 16 rfl rfl)
theorem dX2_fewestPayments_89 : decode cX2_fewestPayments 89 = .ok (.iastore, 1) := dk_79 (dk_at dksX2_fewestPayments_3 17 rfl rfl)
theorem dX2_fewestPayments_90 : decode cX2_fewestPayments 90 = .ok (.iinc 3 1, 3) := dk_132 3 1 (dk_at dksX2_fewestPayments_3 18 rfl rfl)
theorem dX2_fewestPayments_93 : decode cX2_fewestPayments 93 = .ok (.goto (-79), 3) := dk_167 255 177 (dk_at dksX2_fewestPayments_3 21 rfl rfl)
theorem dX2_fewestPayments_96 : decode cX2_fewestPayments 96 = .ok (.aload_n 1, 1) := dk_43 (dk_at dksX2_fewestPayments_4 0 rfl rfl)
theorem dX2_fewestPayments_97 : decode cX2_fewestPayments 97 = .ok (.arraylength, 1) := dk_190 (dk_at dksX2_fewestPayments_4 1 rfl rfl)
theorem dX2_fewestPayments_98 : decode cX2_fewestPayments 98 = .ok (.aload_n 2, 1) := dk_44 (dk_at dksX2_fewestPayments_4 2 rfl rfl)
theorem dX2_fewestPayments_99 : decode cX2_fewestPayments 99 = .ok (.aload_n 2, 1) := dk_44 (dk_at dksX2_fewestPayments_4 3 rfl rfl)
theorem dX2_fewestPayments_100 : decode cX2_fewestPayments 100 = .ok (.arraylength, 1) := dk_190 (dk_at dksX2_fewestPayments_4 4 rfl rfl)
theorem dX2_fewestPayments_101 : decode cX2_fewestPayments 101 = .ok (.iconst 1, 1) := dk_4 (dk_at dksX2_fewestPayments_4 5 rfl rfl)
theorem dX2_fewestPayments_102 : decode cX2_fewestPayments 102 = .ok (.isub, 1) := dk_100 (dk_at dksX2_fewestPayments_4 6 rfl rfl)
theorem dX2_fewestPayments_103 : decode cX2_fewestPayments 103 = .ok (.iaload, 1) := dk_46 (dk_at dksX2_fewestPayments_4 7 rfl rfl)
theorem dX2_fewestPayments_104 : decode cX2_fewestPayments 104 = .ok (.isub, 1) := dk_100 (dk_at dksX2_fewestPayments_4 8 rfl rfl)
theorem dX2_fewestPayments_105 : decode cX2_fewestPayments 105 = .ok (.ireturn, 1) := dk_172 (dk_at dksX2_fewestPayments_4 9 rfl rfl)
abbrev cX2_positions : ByteArray := prog_4_method_42_code
def yX2_positions : MethodName := ⟨RX2, "positions", "()[I"⟩
def dkwX2_positions_3 : List UInt8 := [176]
abbrev dktX2_positions_3 : List UInt8 := dkwX2_positions_3 ++ []
def dkwX2_positions_2 : List UInt8 := [3, 54, 4, 21, 4, 27, 162, 0, 17, 45, 21, 4, 44, 21, 4, 46, 79, 132, 4, 1, 167, 255, 239, 45]
abbrev dktX2_positions_2 : List UInt8 := dkwX2_positions_2 ++ dktX2_positions_3
def dkwX2_positions_1 : List UInt8 := [153, 0, 14, 44, 27, 42, 29, 182, 0, 175, 79, 132, 1, 1, 132, 3, 1, 167, 255, 226, 27, 188, 10, 78]
abbrev dktX2_positions_1 : List UInt8 := dkwX2_positions_1 ++ dktX2_positions_2
def dkwX2_positions_0 : List UInt8 := [3, 60, 42, 180, 0, 31, 188, 10, 77, 3, 62, 29, 42, 180, 0, 31, 162, 0, 28, 42, 29, 182, 0, 175]
abbrev dktX2_positions_0 : List UInt8 := dkwX2_positions_0 ++ dktX2_positions_1
theorem dksX2_positions_0 : cX2_positions.data.toList.drop 0 = dktX2_positions_0 := by decide +kernel
theorem dksX2_positions_1 : cX2_positions.data.toList.drop 24 = dktX2_positions_1 := dk_seg dksX2_positions_0 24 rfl rfl
theorem dksX2_positions_2 : cX2_positions.data.toList.drop 48 = dktX2_positions_2 := dk_seg dksX2_positions_1 24 rfl rfl
theorem dksX2_positions_3 : cX2_positions.data.toList.drop 72 = dktX2_positions_3 := dk_seg dksX2_positions_2 24 rfl rfl
theorem dX2_positions_0 : decode cX2_positions 0 = .ok (.iconst 0, 1) := dk_3 (dk_at dksX2_positions_0 0 rfl rfl)
theorem dX2_positions_1 : decode cX2_positions 1 = .ok (.istore_n 1, 1) := dk_60 (dk_at dksX2_positions_0 1 rfl rfl)
theorem dX2_positions_2 : decode cX2_positions 2 = .ok (.aload_n 0, 1) := dk_42 (dk_at dksX2_positions_0 2 rfl rfl)
theorem dX2_positions_3 : decode cX2_positions 3 = .ok (.getfield 31, 3) := dk_180 0 31 (dk_at dksX2_positions_0 3 rfl rfl)
theorem dX2_positions_6 : decode cX2_positions 6 = .ok (.newarray .int, 2) := dk_188_10 (dk_at dksX2_positions_0 6 rfl rfl)
theorem dX2_positions_8 : decode cX2_positions 8 = .ok (.astore_n 2, 1) := dk_77 (dk_at dksX2_positions_0 8 rfl rfl)
theorem dX2_positions_9 : decode cX2_positions 9 = .ok (.iconst 0, 1) := dk_3 (dk_at dksX2_positions_0 9 rfl rfl)
theorem dX2_positions_10 : decode cX2_positions 10 = .ok (.istore_n 3, 1) := dk_62 (dk_at dksX2_positions_0 10 rfl rfl)
theorem dX2_positions_11 : decode cX2_positions 11 = .ok (.iload_n 3, 1) := dk_29 (dk_at dksX2_positions_0 11 rfl rfl)
theorem dX2_positions_12 : decode cX2_positions 12 = .ok (.aload_n 0, 1) := dk_42 (dk_at dksX2_positions_0 12 rfl rfl)
theorem dX2_positions_13 : decode cX2_positions 13 = .ok (.getfield 31, 3) := dk_180 0 31 (dk_at dksX2_positions_0 13 rfl rfl)
theorem dX2_positions_16 : decode cX2_positions 16 = .ok (.if_icmp .ge 28, 3) := dk_162 0 28 (dk_at dksX2_positions_0 16 rfl rfl)
theorem dX2_positions_19 : decode cX2_positions 19 = .ok (.aload_n 0, 1) := dk_42 (dk_at dksX2_positions_0 19 rfl rfl)
theorem dX2_positions_20 : decode cX2_positions 20 = .ok (.iload_n 3, 1) := dk_29 (dk_at dksX2_positions_0 20 rfl rfl)
theorem dX2_positions_21 : decode cX2_positions 21 = .ok (.invokevirtual 175, 3) := dk_182 0 175 (dk_at dksX2_positions_0 21 rfl rfl)
theorem dX2_positions_24 : decode cX2_positions 24 = .ok (.ifCond .eq 14, 3) := dk_153 0 14 (dk_at dksX2_positions_1 0 rfl rfl)
theorem dX2_positions_27 : decode cX2_positions 27 = .ok (.aload_n 2, 1) := dk_44 (dk_at dksX2_positions_1 3 rfl rfl)
theorem dX2_positions_28 : decode cX2_positions 28 = .ok (.iload_n 1, 1) := dk_27 (dk_at dksX2_positions_1 4 rfl rfl)
theorem dX2_positions_29 : decode cX2_positions 29 = .ok (.aload_n 0, 1) := dk_42 (dk_at dksX2_positions_1 5 rfl rfl)
theorem dX2_positions_30 : decode cX2_positions 30 = .ok (.iload_n 3, 1) := dk_29 (dk_at dksX2_positions_1 6 rfl rfl)
theorem dX2_positions_31 : decode cX2_positions 31 = .ok (.invokevirtual 175, 3) := dk_182 0 175 (dk_at dksX2_positions_1 7 rfl rfl)
theorem dX2_positions_34 : decode cX2_positions 34 = .ok (.iastore, 1) := dk_79 (dk_at dksX2_positions_1 10 rfl rfl)
theorem dX2_positions_35 : decode cX2_positions 35 = .ok (.iinc 1 1, 3) := dk_132 1 1 (dk_at dksX2_positions_1 11 rfl rfl)
theorem dX2_positions_38 : decode cX2_positions 38 = .ok (.iinc 3 1, 3) := dk_132 3 1 (dk_at dksX2_positions_1 14 rfl rfl)
theorem dX2_positions_41 : decode cX2_positions 41 = .ok (.goto (-30), 3) := dk_167 255 226 (dk_at dksX2_positions_1 17 rfl rfl)
theorem dX2_positions_44 : decode cX2_positions 44 = .ok (.iload_n 1, 1) := dk_27 (dk_at dksX2_positions_1 20 rfl rfl)
theorem dX2_positions_45 : decode cX2_positions 45 = .ok (.newarray .int, 2) := dk_188_10 (dk_at dksX2_positions_1 21 rfl rfl)
theorem dX2_positions_47 : decode cX2_positions 47 = .ok (.astore_n 3, 1) := dk_78 (dk_at dksX2_positions_1 23 rfl rfl)
theorem dX2_positions_48 : decode cX2_positions 48 = .ok (.iconst 0, 1) := dk_3 (dk_at dksX2_positions_2 0 rfl rfl)
theorem dX2_positions_49 : decode cX2_positions 49 = .ok (.istore 4, 2) := dk_54 4 (dk_at dksX2_positions_2 1 rfl rfl)
theorem dX2_positions_51 : decode cX2_positions 51 = .ok (.iload 4, 2) := dk_21 4 (dk_at dksX2_positions_2 3 rfl rfl)
theorem dX2_positions_53 : decode cX2_positions 53 = .ok (.iload_n 1, 1) := dk_27 (dk_at dksX2_positions_2 5 rfl rfl)
theorem dX2_positions_54 : decode cX2_positions 54 = .ok (.if_icmp .ge 17, 3) := dk_162 0 17 (dk_at dksX2_positions_2 6 rfl rfl)
theorem dX2_positions_57 : decode cX2_positions 57 = .ok (.aload_n 3, 1) := dk_45 (dk_at dksX2_positions_2 9 rfl rfl)
theorem dX2_positions_58 : decode cX2_positions 58 = .ok (.iload 4, 2) := dk_21 4 (dk_at dksX2_positions_2 10 rfl rfl)
theorem dX2_positions_60 : decode cX2_positions 60 = .ok (.aload_n 2, 1) := dk_44 (dk_at dksX2_positions_2 12 rfl rfl)
theorem dX2_positions_61 : decode cX2_positions 61 = .ok (.iload 4, 2) := dk_21 4 (dk_at dksX2_positions_2 13 rfl rfl)
theorem dX2_positions_63 : decode cX2_positions 63 = .ok (.iaload, 1) := dk_46 (dk_at dksX2_positions_2 15 rfl rfl)
theorem dX2_positions_64 : decode cX2_positions 64 = .ok (.iastore, 1) := dk_79 (dk_at dksX2_positions_2 16 rfl rfl)
theorem dX2_positions_65 : decode cX2_positions 65 = .ok (.iinc 4 1, 3) := dk_132 4 1 (dk_at dksX2_positions_2 17 rfl rfl)
theorem dX2_positions_68 : decode cX2_positions 68 = .ok (.goto (-17), 3) := dk_167 255 239 (dk_at dksX2_positions_2 20 rfl rfl)
theorem dX2_positions_71 : decode cX2_positions 71 = .ok (.aload_n 3, 1) := dk_45 (dk_at dksX2_positions_2 23 rfl rfl)
theorem dX2_positions_72 : decode cX2_positions 72 = .ok (.areturn, 1) := dk_176 (dk_at dksX2_positions_3 0 rfl rfl)
abbrev cX2_sumOf : ByteArray := prog_4_method_43_code
def yX2_sumOf : MethodName := ⟨RX2, "sumOf", "([II)I"⟩
def dkwX2_sumOf_1 : List UInt8 := [167, 0, 4, 3, 96, 61, 132, 3, 1, 167, 255, 228, 28, 172]
abbrev dktX2_sumOf_1 : List UInt8 := dkwX2_sumOf_1 ++ []
def dkwX2_sumOf_0 : List UInt8 := [3, 61, 3, 62, 29, 42, 190, 162, 0, 28, 28, 27, 29, 122, 4, 126, 4, 160, 0, 9, 42, 29, 46]
abbrev dktX2_sumOf_0 : List UInt8 := dkwX2_sumOf_0 ++ dktX2_sumOf_1
theorem dksX2_sumOf_0 : cX2_sumOf.data.toList.drop 0 = dktX2_sumOf_0 := by decide +kernel
theorem dksX2_sumOf_1 : cX2_sumOf.data.toList.drop 23 = dktX2_sumOf_1 := dk_seg dksX2_sumOf_0 23 rfl rfl
theorem dX2_sumOf_0 : decode cX2_sumOf 0 = .ok (.iconst 0, 1) := dk_3 (dk_at dksX2_sumOf_0 0 rfl rfl)
theorem dX2_sumOf_1 : decode cX2_sumOf 1 = .ok (.istore_n 2, 1) := dk_61 (dk_at dksX2_sumOf_0 1 rfl rfl)
theorem dX2_sumOf_2 : decode cX2_sumOf 2 = .ok (.iconst 0, 1) := dk_3 (dk_at dksX2_sumOf_0 2 rfl rfl)
theorem dX2_sumOf_3 : decode cX2_sumOf 3 = .ok (.istore_n 3, 1) := dk_62 (dk_at dksX2_sumOf_0 3 rfl rfl)
theorem dX2_sumOf_4 : decode cX2_sumOf 4 = .ok (.iload_n 3, 1) := dk_29 (dk_at dksX2_sumOf_0 4 rfl rfl)
theorem dX2_sumOf_5 : decode cX2_sumOf 5 = .ok (.aload_n 0, 1) := dk_42 (dk_at dksX2_sumOf_0 5 rfl rfl)
theorem dX2_sumOf_6 : decode cX2_sumOf 6 = .ok (.arraylength, 1) := dk_190 (dk_at dksX2_sumOf_0 6 rfl rfl)
theorem dX2_sumOf_7 : decode cX2_sumOf 7 = .ok (.if_icmp .ge 28, 3) := dk_162 0 28 (dk_at dksX2_sumOf_0 7 rfl rfl)
theorem dX2_sumOf_10 : decode cX2_sumOf 10 = .ok (.iload_n 2, 1) := dk_28 (dk_at dksX2_sumOf_0 10 rfl rfl)
theorem dX2_sumOf_11 : decode cX2_sumOf 11 = .ok (.iload_n 1, 1) := dk_27 (dk_at dksX2_sumOf_0 11 rfl rfl)
theorem dX2_sumOf_12 : decode cX2_sumOf 12 = .ok (.iload_n 3, 1) := dk_29 (dk_at dksX2_sumOf_0 12 rfl rfl)
theorem dX2_sumOf_13 : decode cX2_sumOf 13 = .ok (.ishr, 1) := dk_122 (dk_at dksX2_sumOf_0 13 rfl rfl)
theorem dX2_sumOf_14 : decode cX2_sumOf 14 = .ok (.iconst 1, 1) := dk_4 (dk_at dksX2_sumOf_0 14 rfl rfl)
theorem dX2_sumOf_15 : decode cX2_sumOf 15 = .ok (.iand, 1) := dk_126 (dk_at dksX2_sumOf_0 15 rfl rfl)
theorem dX2_sumOf_16 : decode cX2_sumOf 16 = .ok (.iconst 1, 1) := dk_4 (dk_at dksX2_sumOf_0 16 rfl rfl)
theorem dX2_sumOf_17 : decode cX2_sumOf 17 = .ok (.if_icmp .ne 9, 3) := dk_160 0 9 (dk_at dksX2_sumOf_0 17 rfl rfl)
theorem dX2_sumOf_20 : decode cX2_sumOf 20 = .ok (.aload_n 0, 1) := dk_42 (dk_at dksX2_sumOf_0 20 rfl rfl)
theorem dX2_sumOf_21 : decode cX2_sumOf 21 = .ok (.iload_n 3, 1) := dk_29 (dk_at dksX2_sumOf_0 21 rfl rfl)
theorem dX2_sumOf_22 : decode cX2_sumOf 22 = .ok (.iaload, 1) := dk_46 (dk_at dksX2_sumOf_0 22 rfl rfl)
theorem dX2_sumOf_23 : decode cX2_sumOf 23 = .ok (.goto 4, 3) := dk_167 0 4 (dk_at dksX2_sumOf_1 0 rfl rfl)
theorem dX2_sumOf_26 : decode cX2_sumOf 26 = .ok (.iconst 0, 1) := dk_3 (dk_at dksX2_sumOf_1 3 rfl rfl)
theorem dX2_sumOf_27 : decode cX2_sumOf 27 = .ok (.iadd, 1) := dk_96 (dk_at dksX2_sumOf_1 4 rfl rfl)
theorem dX2_sumOf_28 : decode cX2_sumOf 28 = .ok (.istore_n 2, 1) := dk_61 (dk_at dksX2_sumOf_1 5 rfl rfl)
theorem dX2_sumOf_29 : decode cX2_sumOf 29 = .ok (.iinc 3 1, 3) := dk_132 3 1 (dk_at dksX2_sumOf_1 6 rfl rfl)
theorem dX2_sumOf_32 : decode cX2_sumOf 32 = .ok (.goto (-28), 3) := dk_167 255 228 (dk_at dksX2_sumOf_1 9 rfl rfl)
theorem dX2_sumOf_35 : decode cX2_sumOf 35 = .ok (.iload_n 2, 1) := dk_28 (dk_at dksX2_sumOf_1 12 rfl rfl)
theorem dX2_sumOf_36 : decode cX2_sumOf 36 = .ok (.ireturn, 1) := dk_172 (dk_at dksX2_sumOf_1 13 rfl rfl)
abbrev cX2_fewestPaymentsByTrying : ByteArray := prog_4_method_46_code
def yX2_fewestPaymentsByTrying : MethodName := ⟨RX2, "fewestPaymentsByTrying", "()I"⟩
def dkwX2_fewestPaymentsByTrying_0 : List UInt8 := [3, 42, 182, 0, 225, 184, 0, 234, 172]
abbrev dktX2_fewestPaymentsByTrying_0 : List UInt8 := dkwX2_fewestPaymentsByTrying_0 ++ []
theorem dksX2_fewestPaymentsByTrying_0 : cX2_fewestPaymentsByTrying.data.toList.drop 0 = dktX2_fewestPaymentsByTrying_0 := by decide +kernel
theorem dX2_fewestPaymentsByTrying_0 : decode cX2_fewestPaymentsByTrying 0 = .ok (.iconst 0, 1) := dk_3 (dk_at dksX2_fewestPaymentsByTrying_0 0 rfl rfl)
theorem dX2_fewestPaymentsByTrying_1 : decode cX2_fewestPaymentsByTrying 1 = .ok (.aload_n 0, 1) := dk_42 (dk_at dksX2_fewestPaymentsByTrying_0 1 rfl rfl)
theorem dX2_fewestPaymentsByTrying_2 : decode cX2_fewestPaymentsByTrying 2 = .ok (.invokevirtual 225, 3) := dk_182 0 225 (dk_at dksX2_fewestPaymentsByTrying_0 2 rfl rfl)
theorem dX2_fewestPaymentsByTrying_5 : decode cX2_fewestPaymentsByTrying 5 = .ok (.invokestatic 234, 3) := dk_184 0 234 (dk_at dksX2_fewestPaymentsByTrying_0 5 rfl rfl)
theorem dX2_fewestPaymentsByTrying_8 : decode cX2_fewestPaymentsByTrying 8 = .ok (.ireturn, 1) := dk_172 (dk_at dksX2_fewestPaymentsByTrying_0 8 rfl rfl)
abbrev cX2_fewestFrom : ByteArray := prog_4_method_45_code
def yX2_fewestFrom : MethodName := ⟨RX2, "fewestFrom", "(I[I)I"⟩
def dkwX2_fewestFrom_5 : List UInt8 := [29, 172]
abbrev dktX2_fewestFrom_5 : List UInt8 := dkwX2_fewestFrom_5 ++ []
def dkwX2_fewestFrom_4 : List UInt8 := [184, 0, 234, 96, 184, 0, 85, 62, 43, 21, 4, 92, 46, 43, 28, 46, 100, 79, 132, 4, 1, 167, 255, 179]
abbrev dktX2_fewestFrom_4 : List UInt8 := dkwX2_fewestFrom_4 ++ dktX2_fewestFrom_5
def dkwX2_fewestFrom_3 : List UInt8 := [21, 4, 46, 153, 0, 37, 43, 21, 4, 92, 46, 43, 28, 46, 96, 79, 29, 4, 28, 4, 96, 43]
abbrev dktX2_fewestFrom_3 : List UInt8 := dkwX2_fewestFrom_3 ++ dktX2_fewestFrom_4
def dkwX2_fewestFrom_2 : List UInt8 := [158, 0, 7, 4, 167, 0, 4, 3, 43, 21, 4, 46, 158, 0, 7, 4, 167, 0, 4, 3, 159, 0, 44, 43]
abbrev dktX2_fewestFrom_2 : List UInt8 := dkwX2_fewestFrom_2 ++ dktX2_fewestFrom_3
def dkwX2_fewestFrom_1 : List UInt8 := [160, 0, 5, 3, 172, 43, 190, 62, 28, 4, 96, 54, 4, 21, 4, 43, 190, 162, 0, 76, 43, 28, 46]
abbrev dktX2_fewestFrom_1 : List UInt8 := dkwX2_fewestFrom_1 ++ dktX2_fewestFrom_2
def dkwX2_fewestFrom_0 : List UInt8 := [26, 61, 28, 43, 190, 162, 0, 15, 43, 28, 46, 154, 0, 9, 132, 2, 1, 167, 255, 241, 28, 43, 190]
abbrev dktX2_fewestFrom_0 : List UInt8 := dkwX2_fewestFrom_0 ++ dktX2_fewestFrom_1
theorem dksX2_fewestFrom_0 : cX2_fewestFrom.data.toList.drop 0 = dktX2_fewestFrom_0 := by decide +kernel
theorem dksX2_fewestFrom_1 : cX2_fewestFrom.data.toList.drop 23 = dktX2_fewestFrom_1 := dk_seg dksX2_fewestFrom_0 23 rfl rfl
theorem dksX2_fewestFrom_2 : cX2_fewestFrom.data.toList.drop 46 = dktX2_fewestFrom_2 := dk_seg dksX2_fewestFrom_1 23 rfl rfl
theorem dksX2_fewestFrom_3 : cX2_fewestFrom.data.toList.drop 70 = dktX2_fewestFrom_3 := dk_seg dksX2_fewestFrom_2 24 rfl rfl
theorem dksX2_fewestFrom_4 : cX2_fewestFrom.data.toList.drop 92 = dktX2_fewestFrom_4 := dk_seg dksX2_fewestFrom_3 22 rfl rfl
theorem dksX2_fewestFrom_5 : cX2_fewestFrom.data.toList.drop 116 = dktX2_fewestFrom_5 := dk_seg dksX2_fewestFrom_4 24 rfl rfl
theorem dX2_fewestFrom_0 : decode cX2_fewestFrom 0 = .ok (.iload_n 0, 1) := dk_26 (dk_at dksX2_fewestFrom_0 0 rfl rfl)
theorem dX2_fewestFrom_1 : decode cX2_fewestFrom 1 = .ok (.istore_n 2, 1) := dk_61 (dk_at dksX2_fewestFrom_0 1 rfl rfl)
theorem dX2_fewestFrom_2 : decode cX2_fewestFrom 2 = .ok (.iload_n 2, 1) := dk_28 (dk_at dksX2_fewestFrom_0 2 rfl rfl)
theorem dX2_fewestFrom_3 : decode cX2_fewestFrom 3 = .ok (.aload_n 1, 1) := dk_43 (dk_at dksX2_fewestFrom_0 3 rfl rfl)
theorem dX2_fewestFrom_4 : decode cX2_fewestFrom 4 = .ok (.arraylength, 1) := dk_190 (dk_at dksX2_fewestFrom_0 4 rfl rfl)
theorem dX2_fewestFrom_5 : decode cX2_fewestFrom 5 = .ok (.if_icmp .ge 15, 3) := dk_162 0 15 (dk_at dksX2_fewestFrom_0 5 rfl rfl)
theorem dX2_fewestFrom_8 : decode cX2_fewestFrom 8 = .ok (.aload_n 1, 1) := dk_43 (dk_at dksX2_fewestFrom_0 8 rfl rfl)
theorem dX2_fewestFrom_9 : decode cX2_fewestFrom 9 = .ok (.iload_n 2, 1) := dk_28 (dk_at dksX2_fewestFrom_0 9 rfl rfl)
theorem dX2_fewestFrom_10 : decode cX2_fewestFrom 10 = .ok (.iaload, 1) := dk_46 (dk_at dksX2_fewestFrom_0 10 rfl rfl)
theorem dX2_fewestFrom_11 : decode cX2_fewestFrom 11 = .ok (.ifCond .ne 9, 3) := dk_154 0 9 (dk_at dksX2_fewestFrom_0 11 rfl rfl)
theorem dX2_fewestFrom_14 : decode cX2_fewestFrom 14 = .ok (.iinc 2 1, 3) := dk_132 2 1 (dk_at dksX2_fewestFrom_0 14 rfl rfl)
theorem dX2_fewestFrom_17 : decode cX2_fewestFrom 17 = .ok (.goto (-15), 3) := dk_167 255 241 (dk_at dksX2_fewestFrom_0 17 rfl rfl)
theorem dX2_fewestFrom_20 : decode cX2_fewestFrom 20 = .ok (.iload_n 2, 1) := dk_28 (dk_at dksX2_fewestFrom_0 20 rfl rfl)
theorem dX2_fewestFrom_21 : decode cX2_fewestFrom 21 = .ok (.aload_n 1, 1) := dk_43 (dk_at dksX2_fewestFrom_0 21 rfl rfl)
theorem dX2_fewestFrom_22 : decode cX2_fewestFrom 22 = .ok (.arraylength, 1) := dk_190 (dk_at dksX2_fewestFrom_0 22 rfl rfl)
theorem dX2_fewestFrom_23 : decode cX2_fewestFrom 23 = .ok (.if_icmp .ne 5, 3) := dk_160 0 5 (dk_at dksX2_fewestFrom_1 0 rfl rfl)
theorem dX2_fewestFrom_26 : decode cX2_fewestFrom 26 = .ok (.iconst 0, 1) := dk_3 (dk_at dksX2_fewestFrom_1 3 rfl rfl)
theorem dX2_fewestFrom_27 : decode cX2_fewestFrom 27 = .ok (.ireturn, 1) := dk_172 (dk_at dksX2_fewestFrom_1 4 rfl rfl)
theorem dX2_fewestFrom_28 : decode cX2_fewestFrom 28 = .ok (.aload_n 1, 1) := dk_43 (dk_at dksX2_fewestFrom_1 5 rfl rfl)
theorem dX2_fewestFrom_29 : decode cX2_fewestFrom 29 = .ok (.arraylength, 1) := dk_190 (dk_at dksX2_fewestFrom_1 6 rfl rfl)
theorem dX2_fewestFrom_30 : decode cX2_fewestFrom 30 = .ok (.istore_n 3, 1) := dk_62 (dk_at dksX2_fewestFrom_1 7 rfl rfl)
theorem dX2_fewestFrom_31 : decode cX2_fewestFrom 31 = .ok (.iload_n 2, 1) := dk_28 (dk_at dksX2_fewestFrom_1 8 rfl rfl)
theorem dX2_fewestFrom_32 : decode cX2_fewestFrom 32 = .ok (.iconst 1, 1) := dk_4 (dk_at dksX2_fewestFrom_1 9 rfl rfl)
theorem dX2_fewestFrom_33 : decode cX2_fewestFrom 33 = .ok (.iadd, 1) := dk_96 (dk_at dksX2_fewestFrom_1 10 rfl rfl)
theorem dX2_fewestFrom_34 : decode cX2_fewestFrom 34 = .ok (.istore 4, 2) := dk_54 4 (dk_at dksX2_fewestFrom_1 11 rfl rfl)
theorem dX2_fewestFrom_36 : decode cX2_fewestFrom 36 = .ok (.iload 4, 2) := dk_21 4 (dk_at dksX2_fewestFrom_1 13 rfl rfl)
theorem dX2_fewestFrom_38 : decode cX2_fewestFrom 38 = .ok (.aload_n 1, 1) := dk_43 (dk_at dksX2_fewestFrom_1 15 rfl rfl)
theorem dX2_fewestFrom_39 : decode cX2_fewestFrom 39 = .ok (.arraylength, 1) := dk_190 (dk_at dksX2_fewestFrom_1 16 rfl rfl)
theorem dX2_fewestFrom_40 : decode cX2_fewestFrom 40 = .ok (.if_icmp .ge 76, 3) := dk_162 0 76 (dk_at dksX2_fewestFrom_1 17 rfl rfl)
theorem dX2_fewestFrom_43 : decode cX2_fewestFrom 43 = .ok (.aload_n 1, 1) := dk_43 (dk_at dksX2_fewestFrom_1 20 rfl rfl)
theorem dX2_fewestFrom_44 : decode cX2_fewestFrom 44 = .ok (.iload_n 2, 1) := dk_28 (dk_at dksX2_fewestFrom_1 21 rfl rfl)
theorem dX2_fewestFrom_45 : decode cX2_fewestFrom 45 = .ok (.iaload, 1) := dk_46 (dk_at dksX2_fewestFrom_1 22 rfl rfl)
theorem dX2_fewestFrom_46 : decode cX2_fewestFrom 46 = .ok (.ifCond .le 7, 3) := dk_158 0 7 (dk_at dksX2_fewestFrom_2 0 rfl rfl)
theorem dX2_fewestFrom_49 : decode cX2_fewestFrom 49 = .ok (.iconst 1, 1) := dk_4 (dk_at dksX2_fewestFrom_2 3 rfl rfl)
theorem dX2_fewestFrom_50 : decode cX2_fewestFrom 50 = .ok (.goto 4, 3) := dk_167 0 4 (dk_at dksX2_fewestFrom_2 4 rfl rfl)
theorem dX2_fewestFrom_53 : decode cX2_fewestFrom 53 = .ok (.iconst 0, 1) := dk_3 (dk_at dksX2_fewestFrom_2 7 rfl rfl)
theorem dX2_fewestFrom_54 : decode cX2_fewestFrom 54 = .ok (.aload_n 1, 1) := dk_43 (dk_at dksX2_fewestFrom_2 8 rfl rfl)
theorem dX2_fewestFrom_55 : decode cX2_fewestFrom 55 = .ok (.iload 4, 2) := dk_21 4 (dk_at dksX2_fewestFrom_2 9 rfl rfl)
theorem dX2_fewestFrom_57 : decode cX2_fewestFrom 57 = .ok (.iaload, 1) := dk_46 (dk_at dksX2_fewestFrom_2 11 rfl rfl)
theorem dX2_fewestFrom_58 : decode cX2_fewestFrom 58 = .ok (.ifCond .le 7, 3) := dk_158 0 7 (dk_at dksX2_fewestFrom_2 12 rfl rfl)
theorem dX2_fewestFrom_61 : decode cX2_fewestFrom 61 = .ok (.iconst 1, 1) := dk_4 (dk_at dksX2_fewestFrom_2 15 rfl rfl)
theorem dX2_fewestFrom_62 : decode cX2_fewestFrom 62 = .ok (.goto 4, 3) := dk_167 0 4 (dk_at dksX2_fewestFrom_2 16 rfl rfl)
theorem dX2_fewestFrom_65 : decode cX2_fewestFrom 65 = .ok (.iconst 0, 1) := dk_3 (dk_at dksX2_fewestFrom_2 19 rfl rfl)
theorem dX2_fewestFrom_66 : decode cX2_fewestFrom 66 = .ok (.if_icmp .eq 44, 3) := dk_159 0 44 (dk_at dksX2_fewestFrom_2 20 rfl rfl)
theorem dX2_fewestFrom_69 : decode cX2_fewestFrom 69 = .ok (.aload_n 1, 1) := dk_43 (dk_at dksX2_fewestFrom_2 23 rfl rfl)
theorem dX2_fewestFrom_70 : decode cX2_fewestFrom 70 = .ok (.iload 4, 2) := dk_21 4 (dk_at dksX2_fewestFrom_3 0 rfl rfl)
theorem dX2_fewestFrom_72 : decode cX2_fewestFrom 72 = .ok (.iaload, 1) := dk_46 (dk_at dksX2_fewestFrom_3 2 rfl rfl)
theorem dX2_fewestFrom_73 : decode cX2_fewestFrom 73 = .ok (.ifCond .eq 37, 3) := dk_153 0 37 (dk_at dksX2_fewestFrom_3 3 rfl rfl)
theorem dX2_fewestFrom_76 : decode cX2_fewestFrom 76 = .ok (.aload_n 1, 1) := dk_43 (dk_at dksX2_fewestFrom_3 6 rfl rfl)
theorem dX2_fewestFrom_77 : decode cX2_fewestFrom 77 = .ok (.iload 4, 2) := dk_21 4 (dk_at dksX2_fewestFrom_3 7 rfl rfl)
theorem dX2_fewestFrom_79 : decode cX2_fewestFrom 79 = .ok (.dup2, 1) := dk_92 (dk_at dksX2_fewestFrom_3 9 rfl rfl)
theorem dX2_fewestFrom_80 : decode cX2_fewestFrom 80 = .ok (.iaload, 1) := dk_46 (dk_at dksX2_fewestFrom_3 10 rfl rfl)
theorem dX2_fewestFrom_81 : decode cX2_fewestFrom 81 = .ok (.aload_n 1, 1) := dk_43 (dk_at dksX2_fewestFrom_3 11 rfl rfl)
theorem dX2_fewestFrom_82 : decode cX2_fewestFrom 82 = .ok (.iload_n 2, 1) := dk_28 (dk_at dksX2_fewestFrom_3 12 rfl rfl)
theorem dX2_fewestFrom_83 : decode cX2_fewestFrom 83 = .ok (.iaload, 1) := dk_46 (dk_at dksX2_fewestFrom_3 13 rfl rfl)
theorem dX2_fewestFrom_84 : decode cX2_fewestFrom 84 = .ok (.iadd, 1) := dk_96 (dk_at dksX2_fewestFrom_3 14 rfl rfl)
theorem dX2_fewestFrom_85 : decode cX2_fewestFrom 85 = .ok (.iastore, 1) := dk_79 (dk_at dksX2_fewestFrom_3 15 rfl rfl)
theorem dX2_fewestFrom_86 : decode cX2_fewestFrom 86 = .ok (.iload_n 3, 1) := dk_29 (dk_at dksX2_fewestFrom_3 16 rfl rfl)
theorem dX2_fewestFrom_87 : decode cX2_fewestFrom 87 = .ok (.iconst 1, 1) := dk_4 (dk_at dksX2_fewestFrom_3 17 rfl rfl)
theorem dX2_fewestFrom_88 : decode cX2_fewestFrom 88 = .ok (.iload_n 2, 1) := dk_28 (dk_at dksX2_fewestFrom_3 18 rfl rfl)
theorem dX2_fewestFrom_89 : decode cX2_fewestFrom 89 = .ok (.iconst 1, 1) := dk_4 (dk_at dksX2_fewestFrom_3 19 rfl rfl)
theorem dX2_fewestFrom_90 : decode cX2_fewestFrom 90 = .ok (.iadd, 1) := dk_96 (dk_at dksX2_fewestFrom_3 20 rfl rfl)
theorem dX2_fewestFrom_91 : decode cX2_fewestFrom 91 = .ok (.aload_n 1, 1) := dk_43 (dk_at dksX2_fewestFrom_3 21 rfl rfl)
theorem dX2_fewestFrom_92 : decode cX2_fewestFrom 92 = .ok (.invokestatic 234, 3) := dk_184 0 234 (dk_at dksX2_fewestFrom_4 0 rfl rfl)
theorem dX2_fewestFrom_95 : decode cX2_fewestFrom 95 = .ok (.iadd, 1) := dk_96 (dk_at dksX2_fewestFrom_4 3 rfl rfl)
theorem dX2_fewestFrom_96 : decode cX2_fewestFrom 96 = .ok (.invokestatic 85, 3) := dk_184 0 85 (dk_at dksX2_fewestFrom_4 4 rfl rfl)
theorem dX2_fewestFrom_99 : decode cX2_fewestFrom 99 = .ok (.istore_n 3, 1) := dk_62 (dk_at dksX2_fewestFrom_4 7 rfl rfl)
theorem dX2_fewestFrom_100 : decode cX2_fewestFrom 100 = .ok (.aload_n 1, 1) := dk_43 (dk_at dksX2_fewestFrom_4 8 rfl rfl)
theorem dX2_fewestFrom_101 : decode cX2_fewestFrom 101 = .ok (.iload 4, 2) := dk_21 4 (dk_at dksX2_fewestFrom_4 9 rfl rfl)
theorem dX2_fewestFrom_103 : decode cX2_fewestFrom 103 = .ok (.dup2, 1) := dk_92 (dk_at dksX2_fewestFrom_4 11 rfl rfl)
theorem dX2_fewestFrom_104 : decode cX2_fewestFrom 104 = .ok (.iaload, 1) := dk_46 (dk_at dksX2_fewestFrom_4 12 rfl rfl)
theorem dX2_fewestFrom_105 : decode cX2_fewestFrom 105 = .ok (.aload_n 1, 1) := dk_43 (dk_at dksX2_fewestFrom_4 13 rfl rfl)
theorem dX2_fewestFrom_106 : decode cX2_fewestFrom 106 = .ok (.iload_n 2, 1) := dk_28 (dk_at dksX2_fewestFrom_4 14 rfl rfl)
theorem dX2_fewestFrom_107 : decode cX2_fewestFrom 107 = .ok (.iaload, 1) := dk_46 (dk_at dksX2_fewestFrom_4 15 rfl rfl)
theorem dX2_fewestFrom_108 : decode cX2_fewestFrom 108 = .ok (.isub, 1) := dk_100 (dk_at dksX2_fewestFrom_4 16 rfl rfl)
theorem dX2_fewestFrom_109 : decode cX2_fewestFrom 109 = .ok (.iastore, 1) := dk_79 (dk_at dksX2_fewestFrom_4 17 rfl rfl)
theorem dX2_fewestFrom_110 : decode cX2_fewestFrom 110 = .ok (.iinc 4 1, 3) := dk_132 4 1 (dk_at dksX2_fewestFrom_4 18 rfl rfl)
theorem dX2_fewestFrom_113 : decode cX2_fewestFrom 113 = .ok (.goto (-77), 3) := dk_167 255 179 (dk_at dksX2_fewestFrom_4 21 rfl rfl)
theorem dX2_fewestFrom_116 : decode cX2_fewestFrom 116 = .ok (.iload_n 3, 1) := dk_29 (dk_at dksX2_fewestFrom_5 0 rfl rfl)
theorem dX2_fewestFrom_117 : decode cX2_fewestFrom 117 = .ok (.ireturn, 1) := dk_172 (dk_at dksX2_fewestFrom_5 1 rfl rfl)
abbrev cX2_debtTotal : ByteArray := prog_4_method_47_code
def yX2_debtTotal : MethodName := ⟨RX2, "debtTotal", "()I"⟩
def dkwX2_debtTotal_1 : List UInt8 := [167, 255, 237, 27, 172]
abbrev dktX2_debtTotal_1 : List UInt8 := dkwX2_debtTotal_1 ++ []
def dkwX2_debtTotal_0 : List UInt8 := [3, 60, 3, 61, 28, 42, 180, 0, 31, 162, 0, 17, 27, 42, 28, 182, 0, 137, 96, 60, 132, 2, 1]
abbrev dktX2_debtTotal_0 : List UInt8 := dkwX2_debtTotal_0 ++ dktX2_debtTotal_1
theorem dksX2_debtTotal_0 : cX2_debtTotal.data.toList.drop 0 = dktX2_debtTotal_0 := by decide +kernel
theorem dksX2_debtTotal_1 : cX2_debtTotal.data.toList.drop 23 = dktX2_debtTotal_1 := dk_seg dksX2_debtTotal_0 23 rfl rfl
theorem dX2_debtTotal_0 : decode cX2_debtTotal 0 = .ok (.iconst 0, 1) := dk_3 (dk_at dksX2_debtTotal_0 0 rfl rfl)
theorem dX2_debtTotal_1 : decode cX2_debtTotal 1 = .ok (.istore_n 1, 1) := dk_60 (dk_at dksX2_debtTotal_0 1 rfl rfl)
theorem dX2_debtTotal_2 : decode cX2_debtTotal 2 = .ok (.iconst 0, 1) := dk_3 (dk_at dksX2_debtTotal_0 2 rfl rfl)
theorem dX2_debtTotal_3 : decode cX2_debtTotal 3 = .ok (.istore_n 2, 1) := dk_61 (dk_at dksX2_debtTotal_0 3 rfl rfl)
theorem dX2_debtTotal_4 : decode cX2_debtTotal 4 = .ok (.iload_n 2, 1) := dk_28 (dk_at dksX2_debtTotal_0 4 rfl rfl)
theorem dX2_debtTotal_5 : decode cX2_debtTotal 5 = .ok (.aload_n 0, 1) := dk_42 (dk_at dksX2_debtTotal_0 5 rfl rfl)
theorem dX2_debtTotal_6 : decode cX2_debtTotal 6 = .ok (.getfield 31, 3) := dk_180 0 31 (dk_at dksX2_debtTotal_0 6 rfl rfl)
theorem dX2_debtTotal_9 : decode cX2_debtTotal 9 = .ok (.if_icmp .ge 17, 3) := dk_162 0 17 (dk_at dksX2_debtTotal_0 9 rfl rfl)
theorem dX2_debtTotal_12 : decode cX2_debtTotal 12 = .ok (.iload_n 1, 1) := dk_27 (dk_at dksX2_debtTotal_0 12 rfl rfl)
theorem dX2_debtTotal_13 : decode cX2_debtTotal 13 = .ok (.aload_n 0, 1) := dk_42 (dk_at dksX2_debtTotal_0 13 rfl rfl)
theorem dX2_debtTotal_14 : decode cX2_debtTotal 14 = .ok (.iload_n 2, 1) := dk_28 (dk_at dksX2_debtTotal_0 14 rfl rfl)
theorem dX2_debtTotal_15 : decode cX2_debtTotal 15 = .ok (.invokevirtual 137, 3) := dk_182 0 137 (dk_at dksX2_debtTotal_0 15 rfl rfl)
theorem dX2_debtTotal_18 : decode cX2_debtTotal 18 = .ok (.iadd, 1) := dk_96 (dk_at dksX2_debtTotal_0 18 rfl rfl)
theorem dX2_debtTotal_19 : decode cX2_debtTotal 19 = .ok (.istore_n 1, 1) := dk_60 (dk_at dksX2_debtTotal_0 19 rfl rfl)
theorem dX2_debtTotal_20 : decode cX2_debtTotal 20 = .ok (.iinc 2 1, 3) := dk_132 2 1 (dk_at dksX2_debtTotal_0 20 rfl rfl)
theorem dX2_debtTotal_23 : decode cX2_debtTotal 23 = .ok (.goto (-19), 3) := dk_167 255 237 (dk_at dksX2_debtTotal_1 0 rfl rfl)
theorem dX2_debtTotal_26 : decode cX2_debtTotal 26 = .ok (.iload_n 1, 1) := dk_27 (dk_at dksX2_debtTotal_1 3 rfl rfl)
theorem dX2_debtTotal_27 : decode cX2_debtTotal 27 = .ok (.ireturn, 1) := dk_172 (dk_at dksX2_debtTotal_1 4 rfl rfl)
abbrev cX2_cashTotal : ByteArray := prog_4_method_48_code
def yX2_cashTotal : MethodName := ⟨RX2, "cashTotal", "()I"⟩
def dkwX2_cashTotal_1 : List UInt8 := [167, 255, 236, 27, 172]
abbrev dktX2_cashTotal_1 : List UInt8 := dkwX2_cashTotal_1 ++ []
def dkwX2_cashTotal_0 : List UInt8 := [3, 60, 3, 61, 28, 42, 180, 0, 31, 162, 0, 18, 27, 42, 180, 0, 16, 28, 46, 96, 60, 132, 2, 1]
abbrev dktX2_cashTotal_0 : List UInt8 := dkwX2_cashTotal_0 ++ dktX2_cashTotal_1
theorem dksX2_cashTotal_0 : cX2_cashTotal.data.toList.drop 0 = dktX2_cashTotal_0 := by decide +kernel
theorem dksX2_cashTotal_1 : cX2_cashTotal.data.toList.drop 24 = dktX2_cashTotal_1 := dk_seg dksX2_cashTotal_0 24 rfl rfl
theorem dX2_cashTotal_0 : decode cX2_cashTotal 0 = .ok (.iconst 0, 1) := dk_3 (dk_at dksX2_cashTotal_0 0 rfl rfl)
theorem dX2_cashTotal_1 : decode cX2_cashTotal 1 = .ok (.istore_n 1, 1) := dk_60 (dk_at dksX2_cashTotal_0 1 rfl rfl)
theorem dX2_cashTotal_2 : decode cX2_cashTotal 2 = .ok (.iconst 0, 1) := dk_3 (dk_at dksX2_cashTotal_0 2 rfl rfl)
theorem dX2_cashTotal_3 : decode cX2_cashTotal 3 = .ok (.istore_n 2, 1) := dk_61 (dk_at dksX2_cashTotal_0 3 rfl rfl)
theorem dX2_cashTotal_4 : decode cX2_cashTotal 4 = .ok (.iload_n 2, 1) := dk_28 (dk_at dksX2_cashTotal_0 4 rfl rfl)
theorem dX2_cashTotal_5 : decode cX2_cashTotal 5 = .ok (.aload_n 0, 1) := dk_42 (dk_at dksX2_cashTotal_0 5 rfl rfl)
theorem dX2_cashTotal_6 : decode cX2_cashTotal 6 = .ok (.getfield 31, 3) := dk_180 0 31 (dk_at dksX2_cashTotal_0 6 rfl rfl)
theorem dX2_cashTotal_9 : decode cX2_cashTotal 9 = .ok (.if_icmp .ge 18, 3) := dk_162 0 18 (dk_at dksX2_cashTotal_0 9 rfl rfl)
theorem dX2_cashTotal_12 : decode cX2_cashTotal 12 = .ok (.iload_n 1, 1) := dk_27 (dk_at dksX2_cashTotal_0 12 rfl rfl)
theorem dX2_cashTotal_13 : decode cX2_cashTotal 13 = .ok (.aload_n 0, 1) := dk_42 (dk_at dksX2_cashTotal_0 13 rfl rfl)
theorem dX2_cashTotal_14 : decode cX2_cashTotal 14 = .ok (.getfield 16, 3) := dk_180 0 16 (dk_at dksX2_cashTotal_0 14 rfl rfl)
theorem dX2_cashTotal_17 : decode cX2_cashTotal 17 = .ok (.iload_n 2, 1) := dk_28 (dk_at dksX2_cashTotal_0 17 rfl rfl)
theorem dX2_cashTotal_18 : decode cX2_cashTotal 18 = .ok (.iaload, 1) := dk_46 (dk_at dksX2_cashTotal_0 18 rfl rfl)
theorem dX2_cashTotal_19 : decode cX2_cashTotal 19 = .ok (.iadd, 1) := dk_96 (dk_at dksX2_cashTotal_0 19 rfl rfl)
theorem dX2_cashTotal_20 : decode cX2_cashTotal 20 = .ok (.istore_n 1, 1) := dk_60 (dk_at dksX2_cashTotal_0 20 rfl rfl)
theorem dX2_cashTotal_21 : decode cX2_cashTotal 21 = .ok (.iinc 2 1, 3) := dk_132 2 1 (dk_at dksX2_cashTotal_0 21 rfl rfl)
theorem dX2_cashTotal_24 : decode cX2_cashTotal 24 = .ok (.goto (-20), 3) := dk_167 255 236 (dk_at dksX2_cashTotal_1 0 rfl rfl)
theorem dX2_cashTotal_27 : decode cX2_cashTotal 27 = .ok (.iload_n 1, 1) := dk_27 (dk_at dksX2_cashTotal_1 3 rfl rfl)
theorem dX2_cashTotal_28 : decode cX2_cashTotal 28 = .ok (.ireturn, 1) := dk_172 (dk_at dksX2_cashTotal_1 4 rfl rfl)
abbrev cX2_debtBits : ByteArray := prog_4_method_49_code
def yX2_debtBits : MethodName := ⟨RX2, "debtBits", "()J"⟩
def dkwX2_debtBits_2 : List UInt8 := [167, 0, 4, 9, 129, 64, 132, 4, 1, 167, 255, 216, 132, 3, 1, 167, 255, 199, 31, 173]
abbrev dktX2_debtBits_2 : List UInt8 := dkwX2_debtBits_2 ++ []
def dkwX2_debtBits_1 : List UInt8 := [31, 42, 180, 0, 11, 29, 50, 21, 4, 46, 158, 0, 15, 10, 16, 7, 29, 104, 21, 4, 96, 121]
abbrev dktX2_debtBits_1 : List UInt8 := dkwX2_debtBits_1 ++ dktX2_debtBits_2
def dkwX2_debtBits_0 : List UInt8 := [9, 64, 3, 62, 29, 42, 180, 0, 31, 162, 0, 55, 3, 54, 4, 21, 4, 42, 180, 0, 31, 162, 0, 37]
abbrev dktX2_debtBits_0 : List UInt8 := dkwX2_debtBits_0 ++ dktX2_debtBits_1
theorem dksX2_debtBits_0 : cX2_debtBits.data.toList.drop 0 = dktX2_debtBits_0 := by decide +kernel
theorem dksX2_debtBits_1 : cX2_debtBits.data.toList.drop 24 = dktX2_debtBits_1 := dk_seg dksX2_debtBits_0 24 rfl rfl
theorem dksX2_debtBits_2 : cX2_debtBits.data.toList.drop 46 = dktX2_debtBits_2 := dk_seg dksX2_debtBits_1 22 rfl rfl
theorem dX2_debtBits_0 : decode cX2_debtBits 0 = .ok (.lconst 0, 1) := dk_9 (dk_at dksX2_debtBits_0 0 rfl rfl)
theorem dX2_debtBits_1 : decode cX2_debtBits 1 = .ok (.lstore_n 1, 1) := dk_64 (dk_at dksX2_debtBits_0 1 rfl rfl)
theorem dX2_debtBits_2 : decode cX2_debtBits 2 = .ok (.iconst 0, 1) := dk_3 (dk_at dksX2_debtBits_0 2 rfl rfl)
theorem dX2_debtBits_3 : decode cX2_debtBits 3 = .ok (.istore_n 3, 1) := dk_62 (dk_at dksX2_debtBits_0 3 rfl rfl)
theorem dX2_debtBits_4 : decode cX2_debtBits 4 = .ok (.iload_n 3, 1) := dk_29 (dk_at dksX2_debtBits_0 4 rfl rfl)
theorem dX2_debtBits_5 : decode cX2_debtBits 5 = .ok (.aload_n 0, 1) := dk_42 (dk_at dksX2_debtBits_0 5 rfl rfl)
theorem dX2_debtBits_6 : decode cX2_debtBits 6 = .ok (.getfield 31, 3) := dk_180 0 31 (dk_at dksX2_debtBits_0 6 rfl rfl)
theorem dX2_debtBits_9 : decode cX2_debtBits 9 = .ok (.if_icmp .ge 55, 3) := dk_162 0 55 (dk_at dksX2_debtBits_0 9 rfl rfl)
theorem dX2_debtBits_12 : decode cX2_debtBits 12 = .ok (.iconst 0, 1) := dk_3 (dk_at dksX2_debtBits_0 12 rfl rfl)
theorem dX2_debtBits_13 : decode cX2_debtBits 13 = .ok (.istore 4, 2) := dk_54 4 (dk_at dksX2_debtBits_0 13 rfl rfl)
theorem dX2_debtBits_15 : decode cX2_debtBits 15 = .ok (.iload 4, 2) := dk_21 4 (dk_at dksX2_debtBits_0 15 rfl rfl)
theorem dX2_debtBits_17 : decode cX2_debtBits 17 = .ok (.aload_n 0, 1) := dk_42 (dk_at dksX2_debtBits_0 17 rfl rfl)
theorem dX2_debtBits_18 : decode cX2_debtBits 18 = .ok (.getfield 31, 3) := dk_180 0 31 (dk_at dksX2_debtBits_0 18 rfl rfl)
theorem dX2_debtBits_21 : decode cX2_debtBits 21 = .ok (.if_icmp .ge 37, 3) := dk_162 0 37 (dk_at dksX2_debtBits_0 21 rfl rfl)
theorem dX2_debtBits_24 : decode cX2_debtBits 24 = .ok (.lload_n 1, 1) := dk_31 (dk_at dksX2_debtBits_1 0 rfl rfl)
theorem dX2_debtBits_25 : decode cX2_debtBits 25 = .ok (.aload_n 0, 1) := dk_42 (dk_at dksX2_debtBits_1 1 rfl rfl)
theorem dX2_debtBits_26 : decode cX2_debtBits 26 = .ok (.getfield 11, 3) := dk_180 0 11 (dk_at dksX2_debtBits_1 2 rfl rfl)
theorem dX2_debtBits_29 : decode cX2_debtBits 29 = .ok (.iload_n 3, 1) := dk_29 (dk_at dksX2_debtBits_1 5 rfl rfl)
theorem dX2_debtBits_30 : decode cX2_debtBits 30 = .ok (.aaload, 1) := dk_50 (dk_at dksX2_debtBits_1 6 rfl rfl)
theorem dX2_debtBits_31 : decode cX2_debtBits 31 = .ok (.iload 4, 2) := dk_21 4 (dk_at dksX2_debtBits_1 7 rfl rfl)
theorem dX2_debtBits_33 : decode cX2_debtBits 33 = .ok (.iaload, 1) := dk_46 (dk_at dksX2_debtBits_1 9 rfl rfl)
theorem dX2_debtBits_34 : decode cX2_debtBits 34 = .ok (.ifCond .le 15, 3) := dk_158 0 15 (dk_at dksX2_debtBits_1 10 rfl rfl)
theorem dX2_debtBits_37 : decode cX2_debtBits 37 = .ok (.lconst 1, 1) := dk_10 (dk_at dksX2_debtBits_1 13 rfl rfl)
theorem dX2_debtBits_38 : decode cX2_debtBits 38 = .ok (.bipush 7, 2) := dk_16 7 (dk_at dksX2_debtBits_1 14 rfl rfl)
theorem dX2_debtBits_40 : decode cX2_debtBits 40 = .ok (.iload_n 3, 1) := dk_29 (dk_at dksX2_debtBits_1 16 rfl rfl)
theorem dX2_debtBits_41 : decode cX2_debtBits 41 = .ok (.imul, 1) := dk_104 (dk_at dksX2_debtBits_1 17 rfl rfl)
theorem dX2_debtBits_42 : decode cX2_debtBits 42 = .ok (.iload 4, 2) := dk_21 4 (dk_at dksX2_debtBits_1 18 rfl rfl)
theorem dX2_debtBits_44 : decode cX2_debtBits 44 = .ok (.iadd, 1) := dk_96 (dk_at dksX2_debtBits_1 20 rfl rfl)
theorem dX2_debtBits_45 : decode cX2_debtBits 45 = .ok (.lshl, 1) := dk_121 (dk_at dksX2_debtBits_1 21 rfl rfl)
theorem dX2_debtBits_46 : decode cX2_debtBits 46 = .ok (.goto 4, 3) := dk_167 0 4 (dk_at dksX2_debtBits_2 0 rfl rfl)
theorem dX2_debtBits_49 : decode cX2_debtBits 49 = .ok (.lconst 0, 1) := dk_9 (dk_at dksX2_debtBits_2 3 rfl rfl)
theorem dX2_debtBits_50 : decode cX2_debtBits 50 = .ok (.lor, 1) := dk_129 (dk_at dksX2_debtBits_2 4 rfl rfl)
theorem dX2_debtBits_51 : decode cX2_debtBits 51 = .ok (.lstore_n 1, 1) := dk_64 (dk_at dksX2_debtBits_2 5 rfl rfl)
theorem dX2_debtBits_52 : decode cX2_debtBits 52 = .ok (.iinc 4 1, 3) := dk_132 4 1 (dk_at dksX2_debtBits_2 6 rfl rfl)
theorem dX2_debtBits_55 : decode cX2_debtBits 55 = .ok (.goto (-40), 3) := dk_167 255 216 (dk_at dksX2_debtBits_2 9 rfl rfl)
theorem dX2_debtBits_58 : decode cX2_debtBits 58 = .ok (.iinc 3 1, 3) := dk_132 3 1 (dk_at dksX2_debtBits_2 12 rfl rfl)
theorem dX2_debtBits_61 : decode cX2_debtBits 61 = .ok (.goto (-57), 3) := dk_167 255 199 (dk_at dksX2_debtBits_2 15 rfl rfl)
theorem dX2_debtBits_64 : decode cX2_debtBits 64 = .ok (.lload_n 1, 1) := dk_31 (dk_at dksX2_debtBits_2 18 rfl rfl)
theorem dX2_debtBits_65 : decode cX2_debtBits 65 = .ok (.lreturn, 1) := dk_173 (dk_at dksX2_debtBits_2 19 rfl rfl)
abbrev cX2_isConsistent : ByteArray := prog_4_method_51_code
def yX2_isConsistent : MethodName := ⟨RX2, "isConsistent", "()Z"⟩
def dkwX2_isConsistent_4 : List UInt8 := [126, 60, 132, 3, 1, 167, 255, 213, 27, 153, 0, 11, 28, 154, 0, 7, 4, 167, 0, 4, 3, 172]
abbrev dktX2_isConsistent_4 : List UInt8 := dkwX2_isConsistent_4 ++ []
def dkwX2_isConsistent_3 : List UInt8 := [96, 61, 27, 42, 29, 182, 0, 157, 153, 0, 11, 42, 29, 182, 1, 3, 153, 0, 7, 4, 167, 0, 4, 3]
abbrev dktX2_isConsistent_3 : List UInt8 := dkwX2_isConsistent_3 ++ dktX2_isConsistent_4
def dkwX2_isConsistent_2 : List UInt8 := [167, 0, 4, 3, 126, 60, 3, 61, 3, 62, 29, 42, 180, 0, 31, 162, 0, 41, 28, 42, 29, 182, 0, 175]
abbrev dktX2_isConsistent_2 : List UInt8 := dkwX2_isConsistent_2 ++ dktX2_isConsistent_3
def dkwX2_isConsistent_1 : List UInt8 := [160, 0, 7, 4, 167, 0, 4, 3, 60, 27, 42, 182, 0, 253, 42, 182, 1, 0, 160, 0, 7, 4]
abbrev dktX2_isConsistent_1 : List UInt8 := dkwX2_isConsistent_1 ++ dktX2_isConsistent_2
def dkwX2_isConsistent_0 : List UInt8 := [42, 182, 0, 241, 42, 180, 0, 23, 182, 0, 244, 160, 0, 18, 42, 182, 0, 247, 42, 182, 0, 250]
abbrev dktX2_isConsistent_0 : List UInt8 := dkwX2_isConsistent_0 ++ dktX2_isConsistent_1
theorem dksX2_isConsistent_0 : cX2_isConsistent.data.toList.drop 0 = dktX2_isConsistent_0 := by decide +kernel
theorem dksX2_isConsistent_1 : cX2_isConsistent.data.toList.drop 22 = dktX2_isConsistent_1 := dk_seg dksX2_isConsistent_0 22 rfl rfl
theorem dksX2_isConsistent_2 : cX2_isConsistent.data.toList.drop 44 = dktX2_isConsistent_2 := dk_seg dksX2_isConsistent_1 22 rfl rfl
theorem dksX2_isConsistent_3 : cX2_isConsistent.data.toList.drop 68 = dktX2_isConsistent_3 := dk_seg dksX2_isConsistent_2 24 rfl rfl
theorem dksX2_isConsistent_4 : cX2_isConsistent.data.toList.drop 92 = dktX2_isConsistent_4 := dk_seg dksX2_isConsistent_3 24 rfl rfl
theorem dX2_isConsistent_0 : decode cX2_isConsistent 0 = .ok (.aload_n 0, 1) := dk_42 (dk_at dksX2_isConsistent_0 0 rfl rfl)
theorem dX2_isConsistent_1 : decode cX2_isConsistent 1 = .ok (.invokevirtual 241, 3) := dk_182 0 241 (dk_at dksX2_isConsistent_0 1 rfl rfl)
theorem dX2_isConsistent_4 : decode cX2_isConsistent 4 = .ok (.aload_n 0, 1) := dk_42 (dk_at dksX2_isConsistent_0 4 rfl rfl)
theorem dX2_isConsistent_5 : decode cX2_isConsistent 5 = .ok (.getfield 23, 3) := dk_180 0 23 (dk_at dksX2_isConsistent_0 5 rfl rfl)
theorem dX2_isConsistent_8 : decode cX2_isConsistent 8 = .ok (.invokevirtual 244, 3) := dk_182 0 244 (dk_at dksX2_isConsistent_0 8 rfl rfl)
theorem dX2_isConsistent_11 : decode cX2_isConsistent 11 = .ok (.if_icmp .ne 18, 3) := dk_160 0 18 (dk_at dksX2_isConsistent_0 11 rfl rfl)
theorem dX2_isConsistent_14 : decode cX2_isConsistent 14 = .ok (.aload_n 0, 1) := dk_42 (dk_at dksX2_isConsistent_0 14 rfl rfl)
theorem dX2_isConsistent_15 : decode cX2_isConsistent 15 = .ok (.invokevirtual 247, 3) := dk_182 0 247 (dk_at dksX2_isConsistent_0 15 rfl rfl)
theorem dX2_isConsistent_18 : decode cX2_isConsistent 18 = .ok (.aload_n 0, 1) := dk_42 (dk_at dksX2_isConsistent_0 18 rfl rfl)
theorem dX2_isConsistent_19 : decode cX2_isConsistent 19 = .ok (.invokevirtual 250, 3) := dk_182 0 250 (dk_at dksX2_isConsistent_0 19 rfl rfl)
theorem dX2_isConsistent_22 : decode cX2_isConsistent 22 = .ok (.if_icmp .ne 7, 3) := dk_160 0 7 (dk_at dksX2_isConsistent_1 0 rfl rfl)
theorem dX2_isConsistent_25 : decode cX2_isConsistent 25 = .ok (.iconst 1, 1) := dk_4 (dk_at dksX2_isConsistent_1 3 rfl rfl)
theorem dX2_isConsistent_26 : decode cX2_isConsistent 26 = .ok (.goto 4, 3) := dk_167 0 4 (dk_at dksX2_isConsistent_1 4 rfl rfl)
theorem dX2_isConsistent_29 : decode cX2_isConsistent 29 = .ok (.iconst 0, 1) := dk_3 (dk_at dksX2_isConsistent_1 7 rfl rfl)
theorem dX2_isConsistent_30 : decode cX2_isConsistent 30 = .ok (.istore_n 1, 1) := dk_60 (dk_at dksX2_isConsistent_1 8 rfl rfl)
theorem dX2_isConsistent_31 : decode cX2_isConsistent 31 = .ok (.iload_n 1, 1) := dk_27 (dk_at dksX2_isConsistent_1 9 rfl rfl)
theorem dX2_isConsistent_32 : decode cX2_isConsistent 32 = .ok (.aload_n 0, 1) := dk_42 (dk_at dksX2_isConsistent_1 10 rfl rfl)
theorem dX2_isConsistent_33 : decode cX2_isConsistent 33 = .ok (.invokevirtual 253, 3) := dk_182 0 253 (dk_at dksX2_isConsistent_1 11 rfl rfl)
theorem dX2_isConsistent_36 : decode cX2_isConsistent 36 = .ok (.aload_n 0, 1) := dk_42 (dk_at dksX2_isConsistent_1 14 rfl rfl)
theorem dX2_isConsistent_37 : decode cX2_isConsistent 37 = .ok (.invokevirtual 256, 3) := dk_182 1 0 (dk_at dksX2_isConsistent_1 15 rfl rfl)
theorem dX2_isConsistent_40 : decode cX2_isConsistent 40 = .ok (.if_icmp .ne 7, 3) := dk_160 0 7 (dk_at dksX2_isConsistent_1 18 rfl rfl)
theorem dX2_isConsistent_43 : decode cX2_isConsistent 43 = .ok (.iconst 1, 1) := dk_4 (dk_at dksX2_isConsistent_1 21 rfl rfl)
theorem dX2_isConsistent_44 : decode cX2_isConsistent 44 = .ok (.goto 4, 3) := dk_167 0 4 (dk_at dksX2_isConsistent_2 0 rfl rfl)
theorem dX2_isConsistent_47 : decode cX2_isConsistent 47 = .ok (.iconst 0, 1) := dk_3 (dk_at dksX2_isConsistent_2 3 rfl rfl)
theorem dX2_isConsistent_48 : decode cX2_isConsistent 48 = .ok (.iand, 1) := dk_126 (dk_at dksX2_isConsistent_2 4 rfl rfl)
theorem dX2_isConsistent_49 : decode cX2_isConsistent 49 = .ok (.istore_n 1, 1) := dk_60 (dk_at dksX2_isConsistent_2 5 rfl rfl)
theorem dX2_isConsistent_50 : decode cX2_isConsistent 50 = .ok (.iconst 0, 1) := dk_3 (dk_at dksX2_isConsistent_2 6 rfl rfl)
theorem dX2_isConsistent_51 : decode cX2_isConsistent 51 = .ok (.istore_n 2, 1) := dk_61 (dk_at dksX2_isConsistent_2 7 rfl rfl)
theorem dX2_isConsistent_52 : decode cX2_isConsistent 52 = .ok (.iconst 0, 1) := dk_3 (dk_at dksX2_isConsistent_2 8 rfl rfl)
theorem dX2_isConsistent_53 : decode cX2_isConsistent 53 = .ok (.istore_n 3, 1) := dk_62 (dk_at dksX2_isConsistent_2 9 rfl rfl)
theorem dX2_isConsistent_54 : decode cX2_isConsistent 54 = .ok (.iload_n 3, 1) := dk_29 (dk_at dksX2_isConsistent_2 10 rfl rfl)
theorem dX2_isConsistent_55 : decode cX2_isConsistent 55 = .ok (.aload_n 0, 1) := dk_42 (dk_at dksX2_isConsistent_2 11 rfl rfl)
theorem dX2_isConsistent_56 : decode cX2_isConsistent 56 = .ok (.getfield 31, 3) := dk_180 0 31 (dk_at dksX2_isConsistent_2 12 rfl rfl)
theorem dX2_isConsistent_59 : decode cX2_isConsistent 59 = .ok (.if_icmp .ge 41, 3) := dk_162 0 41 (dk_at dksX2_isConsistent_2 15 rfl rfl)
theorem dX2_isConsistent_62 : decode cX2_isConsistent 62 = .ok (.iload_n 2, 1) := dk_28 (dk_at dksX2_isConsistent_2 18 rfl rfl)
theorem dX2_isConsistent_63 : decode cX2_isConsistent 63 = .ok (.aload_n 0, 1) := dk_42 (dk_at dksX2_isConsistent_2 19 rfl rfl)
theorem dX2_isConsistent_64 : decode cX2_isConsistent 64 = .ok (.iload_n 3, 1) := dk_29 (dk_at dksX2_isConsistent_2 20 rfl rfl)
theorem dX2_isConsistent_65 : decode cX2_isConsistent 65 = .ok (.invokevirtual 175, 3) := dk_182 0 175 (dk_at dksX2_isConsistent_2 21 rfl rfl)
theorem dX2_isConsistent_68 : decode cX2_isConsistent 68 = .ok (.iadd, 1) := dk_96 (dk_at dksX2_isConsistent_3 0 rfl rfl)
theorem dX2_isConsistent_69 : decode cX2_isConsistent 69 = .ok (.istore_n 2, 1) := dk_61 (dk_at dksX2_isConsistent_3 1 rfl rfl)
theorem dX2_isConsistent_70 : decode cX2_isConsistent 70 = .ok (.iload_n 1, 1) := dk_27 (dk_at dksX2_isConsistent_3 2 rfl rfl)
theorem dX2_isConsistent_71 : decode cX2_isConsistent 71 = .ok (.aload_n 0, 1) := dk_42 (dk_at dksX2_isConsistent_3 3 rfl rfl)
theorem dX2_isConsistent_72 : decode cX2_isConsistent 72 = .ok (.iload_n 3, 1) := dk_29 (dk_at dksX2_isConsistent_3 4 rfl rfl)
theorem dX2_isConsistent_73 : decode cX2_isConsistent 73 = .ok (.invokevirtual 157, 3) := dk_182 0 157 (dk_at dksX2_isConsistent_3 5 rfl rfl)
theorem dX2_isConsistent_76 : decode cX2_isConsistent 76 = .ok (.ifCond .eq 11, 3) := dk_153 0 11 (dk_at dksX2_isConsistent_3 8 rfl rfl)
theorem dX2_isConsistent_79 : decode cX2_isConsistent 79 = .ok (.aload_n 0, 1) := dk_42 (dk_at dksX2_isConsistent_3 11 rfl rfl)
theorem dX2_isConsistent_80 : decode cX2_isConsistent 80 = .ok (.iload_n 3, 1) := dk_29 (dk_at dksX2_isConsistent_3 12 rfl rfl)
theorem dX2_isConsistent_81 : decode cX2_isConsistent 81 = .ok (.invokevirtual 259, 3) := dk_182 1 3 (dk_at dksX2_isConsistent_3 13 rfl rfl)
theorem dX2_isConsistent_84 : decode cX2_isConsistent 84 = .ok (.ifCond .eq 7, 3) := dk_153 0 7 (dk_at dksX2_isConsistent_3 16 rfl rfl)
theorem dX2_isConsistent_87 : decode cX2_isConsistent 87 = .ok (.iconst 1, 1) := dk_4 (dk_at dksX2_isConsistent_3 19 rfl rfl)
theorem dX2_isConsistent_88 : decode cX2_isConsistent 88 = .ok (.goto 4, 3) := dk_167 0 4 (dk_at dksX2_isConsistent_3 20 rfl rfl)
theorem dX2_isConsistent_91 : decode cX2_isConsistent 91 = .ok (.iconst 0, 1) := dk_3 (dk_at dksX2_isConsistent_3 23 rfl rfl)
theorem dX2_isConsistent_92 : decode cX2_isConsistent 92 = .ok (.iand, 1) := dk_126 (dk_at dksX2_isConsistent_4 0 rfl rfl)
theorem dX2_isConsistent_93 : decode cX2_isConsistent 93 = .ok (.istore_n 1, 1) := dk_60 (dk_at dksX2_isConsistent_4 1 rfl rfl)
theorem dX2_isConsistent_94 : decode cX2_isConsistent 94 = .ok (.iinc 3 1, 3) := dk_132 3 1 (dk_at dksX2_isConsistent_4 2 rfl rfl)
theorem dX2_isConsistent_97 : decode cX2_isConsistent 97 = .ok (.goto (-43), 3) := dk_167 255 213 (dk_at dksX2_isConsistent_4 5 rfl rfl)
theorem dX2_isConsistent_100 : decode cX2_isConsistent 100 = .ok (.iload_n 1, 1) := dk_27 (dk_at dksX2_isConsistent_4 8 rfl rfl)
theorem dX2_isConsistent_101 : decode cX2_isConsistent 101 = .ok (.ifCond .eq 11, 3) := dk_153 0 11 (dk_at dksX2_isConsistent_4 9 rfl rfl)
theorem dX2_isConsistent_104 : decode cX2_isConsistent 104 = .ok (.iload_n 2, 1) := dk_28 (dk_at dksX2_isConsistent_4 12 rfl rfl)
theorem dX2_isConsistent_105 : decode cX2_isConsistent 105 = .ok (.ifCond .ne 7, 3) := dk_154 0 7 (dk_at dksX2_isConsistent_4 13 rfl rfl)
theorem dX2_isConsistent_108 : decode cX2_isConsistent 108 = .ok (.iconst 1, 1) := dk_4 (dk_at dksX2_isConsistent_4 16 rfl rfl)
theorem dX2_isConsistent_109 : decode cX2_isConsistent 109 = .ok (.goto 4, 3) := dk_167 0 4 (dk_at dksX2_isConsistent_4 17 rfl rfl)
theorem dX2_isConsistent_112 : decode cX2_isConsistent 112 = .ok (.iconst 0, 1) := dk_3 (dk_at dksX2_isConsistent_4 20 rfl rfl)
theorem dX2_isConsistent_113 : decode cX2_isConsistent 113 = .ok (.ireturn, 1) := dk_172 (dk_at dksX2_isConsistent_4 21 rfl rfl)
abbrev cX2_areSharesSo : ByteArray := prog_4_method_50_code
def yX2_areSharesSo : MethodName := ⟨RX2, "areSharesSo", "(I)Z"⟩
def dkwX2_areSharesSo_3 : List UInt8 := [21, 4, 153, 0, 18, 21, 5, 42, 180, 0, 16, 27, 46, 160, 0, 7, 4, 167, 0, 4, 3, 172]
abbrev dktX2_areSharesSo_3 : List UInt8 := dkwX2_areSharesSo_3 ++ []
def dkwX2_areSharesSo_2 : List UInt8 := [4, 167, 0, 4, 3, 126, 54, 4, 21, 5, 44, 21, 6, 46, 96, 54, 5, 132, 6, 1, 167, 255, 212]
abbrev dktX2_areSharesSo_2 : List UInt8 := dkwX2_areSharesSo_2 ++ dktX2_areSharesSo_3
def dkwX2_areSharesSo_1 : List UInt8 := [21, 6, 42, 180, 0, 31, 162, 0, 41, 21, 4, 44, 21, 6, 46, 45, 21, 6, 182, 0, 238, 160, 0, 7]
abbrev dktX2_areSharesSo_1 : List UInt8 := dkwX2_areSharesSo_1 ++ dktX2_areSharesSo_2
def dkwX2_areSharesSo_0 : List UInt8 := [42, 27, 182, 0, 143, 182, 0, 147, 77, 42, 27, 182, 0, 143, 78, 4, 54, 4, 3, 54, 5, 3, 54, 6]
abbrev dktX2_areSharesSo_0 : List UInt8 := dkwX2_areSharesSo_0 ++ dktX2_areSharesSo_1
theorem dksX2_areSharesSo_0 : cX2_areSharesSo.data.toList.drop 0 = dktX2_areSharesSo_0 := by decide +kernel
theorem dksX2_areSharesSo_1 : cX2_areSharesSo.data.toList.drop 24 = dktX2_areSharesSo_1 := dk_seg dksX2_areSharesSo_0 24 rfl rfl
theorem dksX2_areSharesSo_2 : cX2_areSharesSo.data.toList.drop 48 = dktX2_areSharesSo_2 := dk_seg dksX2_areSharesSo_1 24 rfl rfl
theorem dksX2_areSharesSo_3 : cX2_areSharesSo.data.toList.drop 71 = dktX2_areSharesSo_3 := dk_seg dksX2_areSharesSo_2 23 rfl rfl
theorem dX2_areSharesSo_0 : decode cX2_areSharesSo 0 = .ok (.aload_n 0, 1) := dk_42 (dk_at dksX2_areSharesSo_0 0 rfl rfl)
theorem dX2_areSharesSo_1 : decode cX2_areSharesSo 1 = .ok (.iload_n 1, 1) := dk_27 (dk_at dksX2_areSharesSo_0 1 rfl rfl)
theorem dX2_areSharesSo_2 : decode cX2_areSharesSo 2 = .ok (.invokevirtual 143, 3) := dk_182 0 143 (dk_at dksX2_areSharesSo_0 2 rfl rfl)
theorem dX2_areSharesSo_5 : decode cX2_areSharesSo 5 = .ok (.invokevirtual 147, 3) := dk_182 0 147 (dk_at dksX2_areSharesSo_0 5 rfl rfl)
theorem dX2_areSharesSo_8 : decode cX2_areSharesSo 8 = .ok (.astore_n 2, 1) := dk_77 (dk_at dksX2_areSharesSo_0 8 rfl rfl)
theorem dX2_areSharesSo_9 : decode cX2_areSharesSo 9 = .ok (.aload_n 0, 1) := dk_42 (dk_at dksX2_areSharesSo_0 9 rfl rfl)
theorem dX2_areSharesSo_10 : decode cX2_areSharesSo 10 = .ok (.iload_n 1, 1) := dk_27 (dk_at dksX2_areSharesSo_0 10 rfl rfl)
theorem dX2_areSharesSo_11 : decode cX2_areSharesSo 11 = .ok (.invokevirtual 143, 3) := dk_182 0 143 (dk_at dksX2_areSharesSo_0 11 rfl rfl)
theorem dX2_areSharesSo_14 : decode cX2_areSharesSo 14 = .ok (.astore_n 3, 1) := dk_78 (dk_at dksX2_areSharesSo_0 14 rfl rfl)
theorem dX2_areSharesSo_15 : decode cX2_areSharesSo 15 = .ok (.iconst 1, 1) := dk_4 (dk_at dksX2_areSharesSo_0 15 rfl rfl)
theorem dX2_areSharesSo_16 : decode cX2_areSharesSo 16 = .ok (.istore 4, 2) := dk_54 4 (dk_at dksX2_areSharesSo_0 16 rfl rfl)
theorem dX2_areSharesSo_18 : decode cX2_areSharesSo 18 = .ok (.iconst 0, 1) := dk_3 (dk_at dksX2_areSharesSo_0 18 rfl rfl)
theorem dX2_areSharesSo_19 : decode cX2_areSharesSo 19 = .ok (.istore 5, 2) := dk_54 5 (dk_at dksX2_areSharesSo_0 19 rfl rfl)
theorem dX2_areSharesSo_21 : decode cX2_areSharesSo 21 = .ok (.iconst 0, 1) := dk_3 (dk_at dksX2_areSharesSo_0 21 rfl rfl)
theorem dX2_areSharesSo_22 : decode cX2_areSharesSo 22 = .ok (.istore 6, 2) := dk_54 6 (dk_at dksX2_areSharesSo_0 22 rfl rfl)
theorem dX2_areSharesSo_24 : decode cX2_areSharesSo 24 = .ok (.iload 6, 2) := dk_21 6 (dk_at dksX2_areSharesSo_1 0 rfl rfl)
theorem dX2_areSharesSo_26 : decode cX2_areSharesSo 26 = .ok (.aload_n 0, 1) := dk_42 (dk_at dksX2_areSharesSo_1 2 rfl rfl)
theorem dX2_areSharesSo_27 : decode cX2_areSharesSo 27 = .ok (.getfield 31, 3) := dk_180 0 31 (dk_at dksX2_areSharesSo_1 3 rfl rfl)
theorem dX2_areSharesSo_30 : decode cX2_areSharesSo 30 = .ok (.if_icmp .ge 41, 3) := dk_162 0 41 (dk_at dksX2_areSharesSo_1 6 rfl rfl)
theorem dX2_areSharesSo_33 : decode cX2_areSharesSo 33 = .ok (.iload 4, 2) := dk_21 4 (dk_at dksX2_areSharesSo_1 9 rfl rfl)
theorem dX2_areSharesSo_35 : decode cX2_areSharesSo 35 = .ok (.aload_n 2, 1) := dk_44 (dk_at dksX2_areSharesSo_1 11 rfl rfl)
theorem dX2_areSharesSo_36 : decode cX2_areSharesSo 36 = .ok (.iload 6, 2) := dk_21 6 (dk_at dksX2_areSharesSo_1 12 rfl rfl)
theorem dX2_areSharesSo_38 : decode cX2_areSharesSo 38 = .ok (.iaload, 1) := dk_46 (dk_at dksX2_areSharesSo_1 14 rfl rfl)
theorem dX2_areSharesSo_39 : decode cX2_areSharesSo 39 = .ok (.aload_n 3, 1) := dk_45 (dk_at dksX2_areSharesSo_1 15 rfl rfl)
theorem dX2_areSharesSo_40 : decode cX2_areSharesSo 40 = .ok (.iload 6, 2) := dk_21 6 (dk_at dksX2_areSharesSo_1 16 rfl rfl)
theorem dX2_areSharesSo_42 : decode cX2_areSharesSo 42 = .ok (.invokevirtual 238, 3) := dk_182 0 238 (dk_at dksX2_areSharesSo_1 18 rfl rfl)
theorem dX2_areSharesSo_45 : decode cX2_areSharesSo 45 = .ok (.if_icmp .ne 7, 3) := dk_160 0 7 (dk_at dksX2_areSharesSo_1 21 rfl rfl)
theorem dX2_areSharesSo_48 : decode cX2_areSharesSo 48 = .ok (.iconst 1, 1) := dk_4 (dk_at dksX2_areSharesSo_2 0 rfl rfl)
theorem dX2_areSharesSo_49 : decode cX2_areSharesSo 49 = .ok (.goto 4, 3) := dk_167 0 4 (dk_at dksX2_areSharesSo_2 1 rfl rfl)
theorem dX2_areSharesSo_52 : decode cX2_areSharesSo 52 = .ok (.iconst 0, 1) := dk_3 (dk_at dksX2_areSharesSo_2 4 rfl rfl)
theorem dX2_areSharesSo_53 : decode cX2_areSharesSo 53 = .ok (.iand, 1) := dk_126 (dk_at dksX2_areSharesSo_2 5 rfl rfl)
theorem dX2_areSharesSo_54 : decode cX2_areSharesSo 54 = .ok (.istore 4, 2) := dk_54 4 (dk_at dksX2_areSharesSo_2 6 rfl rfl)
theorem dX2_areSharesSo_56 : decode cX2_areSharesSo 56 = .ok (.iload 5, 2) := dk_21 5 (dk_at dksX2_areSharesSo_2 8 rfl rfl)
theorem dX2_areSharesSo_58 : decode cX2_areSharesSo 58 = .ok (.aload_n 2, 1) := dk_44 (dk_at dksX2_areSharesSo_2 10 rfl rfl)
theorem dX2_areSharesSo_59 : decode cX2_areSharesSo 59 = .ok (.iload 6, 2) := dk_21 6 (dk_at dksX2_areSharesSo_2 11 rfl rfl)
theorem dX2_areSharesSo_61 : decode cX2_areSharesSo 61 = .ok (.iaload, 1) := dk_46 (dk_at dksX2_areSharesSo_2 13 rfl rfl)
theorem dX2_areSharesSo_62 : decode cX2_areSharesSo 62 = .ok (.iadd, 1) := dk_96 (dk_at dksX2_areSharesSo_2 14 rfl rfl)
theorem dX2_areSharesSo_63 : decode cX2_areSharesSo 63 = .ok (.istore 5, 2) := dk_54 5 (dk_at dksX2_areSharesSo_2 15 rfl rfl)
theorem dX2_areSharesSo_65 : decode cX2_areSharesSo 65 = .ok (.iinc 6 1, 3) := dk_132 6 1 (dk_at dksX2_areSharesSo_2 17 rfl rfl)
theorem dX2_areSharesSo_68 : decode cX2_areSharesSo 68 = .ok (.goto (-44), 3) := dk_167 255 212 (dk_at dksX2_areSharesSo_2 20 rfl rfl)
theorem dX2_areSharesSo_71 : decode cX2_areSharesSo 71 = .ok (.iload 4, 2) := dk_21 4 (dk_at dksX2_areSharesSo_3 0 rfl rfl)
theorem dX2_areSharesSo_73 : decode cX2_areSharesSo 73 = .ok (.ifCond .eq 18, 3) := dk_153 0 18 (dk_at dksX2_areSharesSo_3 2 rfl rfl)
theorem dX2_areSharesSo_76 : decode cX2_areSharesSo 76 = .ok (.iload 5, 2) := dk_21 5 (dk_at dksX2_areSharesSo_3 5 rfl rfl)
theorem dX2_areSharesSo_78 : decode cX2_areSharesSo 78 = .ok (.aload_n 0, 1) := dk_42 (dk_at dksX2_areSharesSo_3 7 rfl rfl)
theorem dX2_areSharesSo_79 : decode cX2_areSharesSo 79 = .ok (.getfield 16, 3) := dk_180 0 16 (dk_at dksX2_areSharesSo_3 8 rfl rfl)
theorem dX2_areSharesSo_82 : decode cX2_areSharesSo 82 = .ok (.iload_n 1, 1) := dk_27 (dk_at dksX2_areSharesSo_3 11 rfl rfl)
theorem dX2_areSharesSo_83 : decode cX2_areSharesSo 83 = .ok (.iaload, 1) := dk_46 (dk_at dksX2_areSharesSo_3 12 rfl rfl)
theorem dX2_areSharesSo_84 : decode cX2_areSharesSo 84 = .ok (.if_icmp .ne 7, 3) := dk_160 0 7 (dk_at dksX2_areSharesSo_3 13 rfl rfl)
theorem dX2_areSharesSo_87 : decode cX2_areSharesSo 87 = .ok (.iconst 1, 1) := dk_4 (dk_at dksX2_areSharesSo_3 16 rfl rfl)
theorem dX2_areSharesSo_88 : decode cX2_areSharesSo 88 = .ok (.goto 4, 3) := dk_167 0 4 (dk_at dksX2_areSharesSo_3 17 rfl rfl)
theorem dX2_areSharesSo_91 : decode cX2_areSharesSo 91 = .ok (.iconst 0, 1) := dk_3 (dk_at dksX2_areSharesSo_3 20 rfl rfl)
theorem dX2_areSharesSo_92 : decode cX2_areSharesSo 92 = .ok (.ireturn, 1) := dk_172 (dk_at dksX2_areSharesSo_3 21 rfl rfl)
abbrev cX2_partyAtRank : ByteArray := prog_4_method_32_code
def yX2_partyAtRank : MethodName := ⟨RX2, "partyAtRank", "(I)I"⟩
def dkwX2_partyAtRank_3 : List UInt8 := [132, 4, 1, 167, 255, 198, 29, 27, 160, 0, 5, 28, 172, 132, 2, 1, 167, 255, 172, 2, 172]
abbrev dktX2_partyAtRank_3 : List UInt8 := dkwX2_partyAtRank_3 ++ []
def dkwX2_partyAtRank_2 : List UInt8 := [42, 21, 4, 28, 182, 0, 178, 154, 0, 8, 21, 5, 153, 0, 7, 4, 167, 0, 4, 3, 96, 62]
abbrev dktX2_partyAtRank_2 : List UInt8 := dkwX2_partyAtRank_2 ++ dktX2_partyAtRank_3
def dkwX2_partyAtRank_1 : List UInt8 := [42, 28, 21, 4, 182, 0, 178, 154, 0, 13, 21, 4, 28, 162, 0, 7, 4, 167, 0, 4, 3, 54, 5, 29]
abbrev dktX2_partyAtRank_1 : List UInt8 := dkwX2_partyAtRank_1 ++ dktX2_partyAtRank_2
def dkwX2_partyAtRank_0 : List UInt8 := [3, 61, 28, 42, 180, 0, 31, 162, 0, 82, 3, 62, 3, 54, 4, 21, 4, 42, 180, 0, 31, 162, 0, 55]
abbrev dktX2_partyAtRank_0 : List UInt8 := dkwX2_partyAtRank_0 ++ dktX2_partyAtRank_1
theorem dksX2_partyAtRank_0 : cX2_partyAtRank.data.toList.drop 0 = dktX2_partyAtRank_0 := by decide +kernel
theorem dksX2_partyAtRank_1 : cX2_partyAtRank.data.toList.drop 24 = dktX2_partyAtRank_1 := dk_seg dksX2_partyAtRank_0 24 rfl rfl
theorem dksX2_partyAtRank_2 : cX2_partyAtRank.data.toList.drop 48 = dktX2_partyAtRank_2 := dk_seg dksX2_partyAtRank_1 24 rfl rfl
theorem dksX2_partyAtRank_3 : cX2_partyAtRank.data.toList.drop 70 = dktX2_partyAtRank_3 := dk_seg dksX2_partyAtRank_2 22 rfl rfl
theorem dX2_partyAtRank_0 : decode cX2_partyAtRank 0 = .ok (.iconst 0, 1) := dk_3 (dk_at dksX2_partyAtRank_0 0 rfl rfl)
theorem dX2_partyAtRank_1 : decode cX2_partyAtRank 1 = .ok (.istore_n 2, 1) := dk_61 (dk_at dksX2_partyAtRank_0 1 rfl rfl)
theorem dX2_partyAtRank_2 : decode cX2_partyAtRank 2 = .ok (.iload_n 2, 1) := dk_28 (dk_at dksX2_partyAtRank_0 2 rfl rfl)
theorem dX2_partyAtRank_3 : decode cX2_partyAtRank 3 = .ok (.aload_n 0, 1) := dk_42 (dk_at dksX2_partyAtRank_0 3 rfl rfl)
theorem dX2_partyAtRank_4 : decode cX2_partyAtRank 4 = .ok (.getfield 31, 3) := dk_180 0 31 (dk_at dksX2_partyAtRank_0 4 rfl rfl)
theorem dX2_partyAtRank_7 : decode cX2_partyAtRank 7 = .ok (.if_icmp .ge 82, 3) := dk_162 0 82 (dk_at dksX2_partyAtRank_0 7 rfl rfl)
theorem dX2_partyAtRank_10 : decode cX2_partyAtRank 10 = .ok (.iconst 0, 1) := dk_3 (dk_at dksX2_partyAtRank_0 10 rfl rfl)
theorem dX2_partyAtRank_11 : decode cX2_partyAtRank 11 = .ok (.istore_n 3, 1) := dk_62 (dk_at dksX2_partyAtRank_0 11 rfl rfl)
theorem dX2_partyAtRank_12 : decode cX2_partyAtRank 12 = .ok (.iconst 0, 1) := dk_3 (dk_at dksX2_partyAtRank_0 12 rfl rfl)
theorem dX2_partyAtRank_13 : decode cX2_partyAtRank 13 = .ok (.istore 4, 2) := dk_54 4 (dk_at dksX2_partyAtRank_0 13 rfl rfl)
theorem dX2_partyAtRank_15 : decode cX2_partyAtRank 15 = .ok (.iload 4, 2) := dk_21 4 (dk_at dksX2_partyAtRank_0 15 rfl rfl)
theorem dX2_partyAtRank_17 : decode cX2_partyAtRank 17 = .ok (.aload_n 0, 1) := dk_42 (dk_at dksX2_partyAtRank_0 17 rfl rfl)
theorem dX2_partyAtRank_18 : decode cX2_partyAtRank 18 = .ok (.getfield 31, 3) := dk_180 0 31 (dk_at dksX2_partyAtRank_0 18 rfl rfl)
theorem dX2_partyAtRank_21 : decode cX2_partyAtRank 21 = .ok (.if_icmp .ge 55, 3) := dk_162 0 55 (dk_at dksX2_partyAtRank_0 21 rfl rfl)
theorem dX2_partyAtRank_24 : decode cX2_partyAtRank 24 = .ok (.aload_n 0, 1) := dk_42 (dk_at dksX2_partyAtRank_1 0 rfl rfl)
theorem dX2_partyAtRank_25 : decode cX2_partyAtRank 25 = .ok (.iload_n 2, 1) := dk_28 (dk_at dksX2_partyAtRank_1 1 rfl rfl)
theorem dX2_partyAtRank_26 : decode cX2_partyAtRank 26 = .ok (.iload 4, 2) := dk_21 4 (dk_at dksX2_partyAtRank_1 2 rfl rfl)
theorem dX2_partyAtRank_28 : decode cX2_partyAtRank 28 = .ok (.invokevirtual 178, 3) := dk_182 0 178 (dk_at dksX2_partyAtRank_1 4 rfl rfl)
theorem dX2_partyAtRank_31 : decode cX2_partyAtRank 31 = .ok (.ifCond .ne 13, 3) := dk_154 0 13 (dk_at dksX2_partyAtRank_1 7 rfl rfl)
theorem dX2_partyAtRank_34 : decode cX2_partyAtRank 34 = .ok (.iload 4, 2) := dk_21 4 (dk_at dksX2_partyAtRank_1 10 rfl rfl)
theorem dX2_partyAtRank_36 : decode cX2_partyAtRank 36 = .ok (.iload_n 2, 1) := dk_28 (dk_at dksX2_partyAtRank_1 12 rfl rfl)
theorem dX2_partyAtRank_37 : decode cX2_partyAtRank 37 = .ok (.if_icmp .ge 7, 3) := dk_162 0 7 (dk_at dksX2_partyAtRank_1 13 rfl rfl)
theorem dX2_partyAtRank_40 : decode cX2_partyAtRank 40 = .ok (.iconst 1, 1) := dk_4 (dk_at dksX2_partyAtRank_1 16 rfl rfl)
theorem dX2_partyAtRank_41 : decode cX2_partyAtRank 41 = .ok (.goto 4, 3) := dk_167 0 4 (dk_at dksX2_partyAtRank_1 17 rfl rfl)
theorem dX2_partyAtRank_44 : decode cX2_partyAtRank 44 = .ok (.iconst 0, 1) := dk_3 (dk_at dksX2_partyAtRank_1 20 rfl rfl)
theorem dX2_partyAtRank_45 : decode cX2_partyAtRank 45 = .ok (.istore 5, 2) := dk_54 5 (dk_at dksX2_partyAtRank_1 21 rfl rfl)
theorem dX2_partyAtRank_47 : decode cX2_partyAtRank 47 = .ok (.iload_n 3, 1) := dk_29 (dk_at dksX2_partyAtRank_1 23 rfl rfl)
theorem dX2_partyAtRank_48 : decode cX2_partyAtRank 48 = .ok (.aload_n 0, 1) := dk_42 (dk_at dksX2_partyAtRank_2 0 rfl rfl)
theorem dX2_partyAtRank_49 : decode cX2_partyAtRank 49 = .ok (.iload 4, 2) := dk_21 4 (dk_at dksX2_partyAtRank_2 1 rfl rfl)
theorem dX2_partyAtRank_51 : decode cX2_partyAtRank 51 = .ok (.iload_n 2, 1) := dk_28 (dk_at dksX2_partyAtRank_2 3 rfl rfl)
theorem dX2_partyAtRank_52 : decode cX2_partyAtRank 52 = .ok (.invokevirtual 178, 3) := dk_182 0 178 (dk_at dksX2_partyAtRank_2 4 rfl rfl)
theorem dX2_partyAtRank_55 : decode cX2_partyAtRank 55 = .ok (.ifCond .ne 8, 3) := dk_154 0 8 (dk_at dksX2_partyAtRank_2 7 rfl rfl)
theorem dX2_partyAtRank_58 : decode cX2_partyAtRank 58 = .ok (.iload 5, 2) := dk_21 5 (dk_at dksX2_partyAtRank_2 10 rfl rfl)
theorem dX2_partyAtRank_60 : decode cX2_partyAtRank 60 = .ok (.ifCond .eq 7, 3) := dk_153 0 7 (dk_at dksX2_partyAtRank_2 12 rfl rfl)
theorem dX2_partyAtRank_63 : decode cX2_partyAtRank 63 = .ok (.iconst 1, 1) := dk_4 (dk_at dksX2_partyAtRank_2 15 rfl rfl)
theorem dX2_partyAtRank_64 : decode cX2_partyAtRank 64 = .ok (.goto 4, 3) := dk_167 0 4 (dk_at dksX2_partyAtRank_2 16 rfl rfl)
theorem dX2_partyAtRank_67 : decode cX2_partyAtRank 67 = .ok (.iconst 0, 1) := dk_3 (dk_at dksX2_partyAtRank_2 19 rfl rfl)
theorem dX2_partyAtRank_68 : decode cX2_partyAtRank 68 = .ok (.iadd, 1) := dk_96 (dk_at dksX2_partyAtRank_2 20 rfl rfl)
theorem dX2_partyAtRank_69 : decode cX2_partyAtRank 69 = .ok (.istore_n 3, 1) := dk_62 (dk_at dksX2_partyAtRank_2 21 rfl rfl)
theorem dX2_partyAtRank_70 : decode cX2_partyAtRank 70 = .ok (.iinc 4 1, 3) := dk_132 4 1 (dk_at dksX2_partyAtRank_3 0 rfl rfl)
theorem dX2_partyAtRank_73 : decode cX2_partyAtRank 73 = .ok (.goto (-58), 3) := dk_167 255 198 (dk_at dksX2_partyAtRank_3 3 rfl rfl)
theorem dX2_partyAtRank_76 : decode cX2_partyAtRank 76 = .ok (.iload_n 3, 1) := dk_29 (dk_at dksX2_partyAtRank_3 6 rfl rfl)
theorem dX2_partyAtRank_77 : decode cX2_partyAtRank 77 = .ok (.iload_n 1, 1) := dk_27 (dk_at dksX2_partyAtRank_3 7 rfl rfl)
theorem dX2_partyAtRank_78 : decode cX2_partyAtRank 78 = .ok (.if_icmp .ne 5, 3) := dk_160 0 5 (dk_at dksX2_partyAtRank_3 8 rfl rfl)
theorem dX2_partyAtRank_81 : decode cX2_partyAtRank 81 = .ok (.iload_n 2, 1) := dk_28 (dk_at dksX2_partyAtRank_3 11 rfl rfl)
theorem dX2_partyAtRank_82 : decode cX2_partyAtRank 82 = .ok (.ireturn, 1) := dk_172 (dk_at dksX2_partyAtRank_3 12 rfl rfl)
theorem dX2_partyAtRank_83 : decode cX2_partyAtRank 83 = .ok (.iinc 2 1, 3) := dk_132 2 1 (dk_at dksX2_partyAtRank_3 13 rfl rfl)
theorem dX2_partyAtRank_86 : decode cX2_partyAtRank 86 = .ok (.goto (-84), 3) := dk_167 255 172 (dk_at dksX2_partyAtRank_3 16 rfl rfl)
theorem dX2_partyAtRank_89 : decode cX2_partyAtRank 89 = .ok (.iconst (-1), 1) := dk_2 (dk_at dksX2_partyAtRank_3 19 rfl rfl)
theorem dX2_partyAtRank_90 : decode cX2_partyAtRank 90 = .ok (.ireturn, 1) := dk_172 (dk_at dksX2_partyAtRank_3 20 rfl rfl)
abbrev cX2_isRankedBefore : ByteArray := prog_4_method_31_code
def yX2_isRankedBefore : MethodName := ⟨RX2, "isRankedBefore", "(II)Z"⟩
def dkwX2_isRankedBefore_2 : List UInt8 := [172]
abbrev dktX2_isRankedBefore_2 : List UInt8 := dkwX2_isRankedBefore_2 ++ []
def dkwX2_isRankedBefore_1 : List UInt8 := [3, 167, 0, 23, 42, 180, 0, 16, 27, 46, 42, 180, 0, 16, 28, 46, 162, 0, 7, 4, 167, 0, 4, 3]
abbrev dktX2_isRankedBefore_1 : List UInt8 := dkwX2_isRankedBefore_1 ++ dktX2_isRankedBefore_2
def dkwX2_isRankedBefore_0 : List UInt8 := [42, 28, 182, 0, 175, 42, 27, 182, 0, 175, 100, 62, 29, 153, 0, 15, 29, 158, 0, 7, 4, 167, 0, 27]
abbrev dktX2_isRankedBefore_0 : List UInt8 := dkwX2_isRankedBefore_0 ++ dktX2_isRankedBefore_1
theorem dksX2_isRankedBefore_0 : cX2_isRankedBefore.data.toList.drop 0 = dktX2_isRankedBefore_0 := by decide +kernel
theorem dksX2_isRankedBefore_1 : cX2_isRankedBefore.data.toList.drop 24 = dktX2_isRankedBefore_1 := dk_seg dksX2_isRankedBefore_0 24 rfl rfl
theorem dksX2_isRankedBefore_2 : cX2_isRankedBefore.data.toList.drop 48 = dktX2_isRankedBefore_2 := dk_seg dksX2_isRankedBefore_1 24 rfl rfl
theorem dX2_isRankedBefore_0 : decode cX2_isRankedBefore 0 = .ok (.aload_n 0, 1) := dk_42 (dk_at dksX2_isRankedBefore_0 0 rfl rfl)
theorem dX2_isRankedBefore_1 : decode cX2_isRankedBefore 1 = .ok (.iload_n 2, 1) := dk_28 (dk_at dksX2_isRankedBefore_0 1 rfl rfl)
theorem dX2_isRankedBefore_2 : decode cX2_isRankedBefore 2 = .ok (.invokevirtual 175, 3) := dk_182 0 175 (dk_at dksX2_isRankedBefore_0 2 rfl rfl)
theorem dX2_isRankedBefore_5 : decode cX2_isRankedBefore 5 = .ok (.aload_n 0, 1) := dk_42 (dk_at dksX2_isRankedBefore_0 5 rfl rfl)
theorem dX2_isRankedBefore_6 : decode cX2_isRankedBefore 6 = .ok (.iload_n 1, 1) := dk_27 (dk_at dksX2_isRankedBefore_0 6 rfl rfl)
theorem dX2_isRankedBefore_7 : decode cX2_isRankedBefore 7 = .ok (.invokevirtual 175, 3) := dk_182 0 175 (dk_at dksX2_isRankedBefore_0 7 rfl rfl)
theorem dX2_isRankedBefore_10 : decode cX2_isRankedBefore 10 = .ok (.isub, 1) := dk_100 (dk_at dksX2_isRankedBefore_0 10 rfl rfl)
theorem dX2_isRankedBefore_11 : decode cX2_isRankedBefore 11 = .ok (.istore_n 3, 1) := dk_62 (dk_at dksX2_isRankedBefore_0 11 rfl rfl)
theorem dX2_isRankedBefore_12 : decode cX2_isRankedBefore 12 = .ok (.iload_n 3, 1) := dk_29 (dk_at dksX2_isRankedBefore_0 12 rfl rfl)
theorem dX2_isRankedBefore_13 : decode cX2_isRankedBefore 13 = .ok (.ifCond .eq 15, 3) := dk_153 0 15 (dk_at dksX2_isRankedBefore_0 13 rfl rfl)
theorem dX2_isRankedBefore_16 : decode cX2_isRankedBefore 16 = .ok (.iload_n 3, 1) := dk_29 (dk_at dksX2_isRankedBefore_0 16 rfl rfl)
theorem dX2_isRankedBefore_17 : decode cX2_isRankedBefore 17 = .ok (.ifCond .le 7, 3) := dk_158 0 7 (dk_at dksX2_isRankedBefore_0 17 rfl rfl)
theorem dX2_isRankedBefore_20 : decode cX2_isRankedBefore 20 = .ok (.iconst 1, 1) := dk_4 (dk_at dksX2_isRankedBefore_0 20 rfl rfl)
theorem dX2_isRankedBefore_21 : decode cX2_isRankedBefore 21 = .ok (.goto 27, 3) := dk_167 0 27 (dk_at dksX2_isRankedBefore_0 21 rfl rfl)
theorem dX2_isRankedBefore_24 : decode cX2_isRankedBefore 24 = .ok (.iconst 0, 1) := dk_3 (dk_at dksX2_isRankedBefore_1 0 rfl rfl)
theorem dX2_isRankedBefore_25 : decode cX2_isRankedBefore 25 = .ok (.goto 23, 3) := dk_167 0 23 (dk_at dksX2_isRankedBefore_1 1 rfl rfl)
theorem dX2_isRankedBefore_28 : decode cX2_isRankedBefore 28 = .ok (.aload_n 0, 1) := dk_42 (dk_at dksX2_isRankedBefore_1 4 rfl rfl)
theorem dX2_isRankedBefore_29 : decode cX2_isRankedBefore 29 = .ok (.getfield 16, 3) := dk_180 0 16 (dk_at dksX2_isRankedBefore_1 5 rfl rfl)
theorem dX2_isRankedBefore_32 : decode cX2_isRankedBefore 32 = .ok (.iload_n 1, 1) := dk_27 (dk_at dksX2_isRankedBefore_1 8 rfl rfl)
theorem dX2_isRankedBefore_33 : decode cX2_isRankedBefore 33 = .ok (.iaload, 1) := dk_46 (dk_at dksX2_isRankedBefore_1 9 rfl rfl)
theorem dX2_isRankedBefore_34 : decode cX2_isRankedBefore 34 = .ok (.aload_n 0, 1) := dk_42 (dk_at dksX2_isRankedBefore_1 10 rfl rfl)
theorem dX2_isRankedBefore_35 : decode cX2_isRankedBefore 35 = .ok (.getfield 16, 3) := dk_180 0 16 (dk_at dksX2_isRankedBefore_1 11 rfl rfl)
theorem dX2_isRankedBefore_38 : decode cX2_isRankedBefore 38 = .ok (.iload_n 2, 1) := dk_28 (dk_at dksX2_isRankedBefore_1 14 rfl rfl)
theorem dX2_isRankedBefore_39 : decode cX2_isRankedBefore 39 = .ok (.iaload, 1) := dk_46 (dk_at dksX2_isRankedBefore_1 15 rfl rfl)
theorem dX2_isRankedBefore_40 : decode cX2_isRankedBefore 40 = .ok (.if_icmp .ge 7, 3) := dk_162 0 7 (dk_at dksX2_isRankedBefore_1 16 rfl rfl)
theorem dX2_isRankedBefore_43 : decode cX2_isRankedBefore 43 = .ok (.iconst 1, 1) := dk_4 (dk_at dksX2_isRankedBefore_1 19 rfl rfl)
theorem dX2_isRankedBefore_44 : decode cX2_isRankedBefore 44 = .ok (.goto 4, 3) := dk_167 0 4 (dk_at dksX2_isRankedBefore_1 20 rfl rfl)
theorem dX2_isRankedBefore_47 : decode cX2_isRankedBefore 47 = .ok (.iconst 0, 1) := dk_3 (dk_at dksX2_isRankedBefore_1 23 rfl rfl)
theorem dX2_isRankedBefore_48 : decode cX2_isRankedBefore 48 = .ok (.ireturn, 1) := dk_172 (dk_at dksX2_isRankedBefore_2 0 rfl rfl)
abbrev cX2_describe : ByteArray := prog_4_method_52_code
def yX2_describe : MethodName := ⟨RX2, "describe", "(I)Ljava/lang/String;"⟩
def dkwX2_describe_3 : List UInt8 := [29, 46, 182, 1, 9, 87, 132, 3, 1, 167, 255, 207, 44, 182, 1, 16, 176]
abbrev dktX2_describe_3 : List UInt8 := dkwX2_describe_3 ++ []
def dkwX2_describe_2 : List UInt8 := [158, 0, 30, 44, 16, 62, 182, 1, 13, 29, 182, 1, 9, 16, 61, 182, 1, 13, 42, 180, 0, 11, 27, 50]
abbrev dktX2_describe_2 : List UInt8 := dkwX2_describe_2 ++ dktX2_describe_3
def dkwX2_describe_1 : List UInt8 := [182, 1, 9, 87, 3, 62, 29, 42, 180, 0, 31, 162, 0, 47, 42, 180, 0, 11, 27, 50, 29, 46]
abbrev dktX2_describe_1 : List UInt8 := dkwX2_describe_1 ++ dktX2_describe_2
def dkwX2_describe_0 : List UInt8 := [187, 1, 6, 89, 183, 1, 8, 77, 44, 27, 182, 1, 9, 16, 36, 182, 1, 13, 42, 180, 0, 16, 27, 46]
abbrev dktX2_describe_0 : List UInt8 := dkwX2_describe_0 ++ dktX2_describe_1
theorem dksX2_describe_0 : cX2_describe.data.toList.drop 0 = dktX2_describe_0 := by decide +kernel
theorem dksX2_describe_1 : cX2_describe.data.toList.drop 24 = dktX2_describe_1 := dk_seg dksX2_describe_0 24 rfl rfl
theorem dksX2_describe_2 : cX2_describe.data.toList.drop 46 = dktX2_describe_2 := dk_seg dksX2_describe_1 22 rfl rfl
theorem dksX2_describe_3 : cX2_describe.data.toList.drop 70 = dktX2_describe_3 := dk_seg dksX2_describe_2 24 rfl rfl
theorem dX2_describe_0 : decode cX2_describe 0 = .ok (.new 262, 3) := dk_187 1 6 (dk_at dksX2_describe_0 0 rfl rfl)
theorem dX2_describe_3 : decode cX2_describe 3 = .ok (.dup, 1) := dk_89 (dk_at dksX2_describe_0 3 rfl rfl)
theorem dX2_describe_4 : decode cX2_describe 4 = .ok (.invokespecial 264, 3) := dk_183 1 8 (dk_at dksX2_describe_0 4 rfl rfl)
theorem dX2_describe_7 : decode cX2_describe 7 = .ok (.astore_n 2, 1) := dk_77 (dk_at dksX2_describe_0 7 rfl rfl)
theorem dX2_describe_8 : decode cX2_describe 8 = .ok (.aload_n 2, 1) := dk_44 (dk_at dksX2_describe_0 8 rfl rfl)
theorem dX2_describe_9 : decode cX2_describe 9 = .ok (.iload_n 1, 1) := dk_27 (dk_at dksX2_describe_0 9 rfl rfl)
theorem dX2_describe_10 : decode cX2_describe 10 = .ok (.invokevirtual 265, 3) := dk_182 1 9 (dk_at dksX2_describe_0 10 rfl rfl)
theorem dX2_describe_13 : decode cX2_describe 13 = .ok (.bipush 36, 2) := dk_16 36 (dk_at dksX2_describe_0 13 rfl rfl)
theorem dX2_describe_15 : decode cX2_describe 15 = .ok (.invokevirtual 269, 3) := dk_182 1 13 (dk_at dksX2_describe_0 15 rfl rfl)
theorem dX2_describe_18 : decode cX2_describe 18 = .ok (.aload_n 0, 1) := dk_42 (dk_at dksX2_describe_0 18 rfl rfl)
theorem dX2_describe_19 : decode cX2_describe 19 = .ok (.getfield 16, 3) := dk_180 0 16 (dk_at dksX2_describe_0 19 rfl rfl)
theorem dX2_describe_22 : decode cX2_describe 22 = .ok (.iload_n 1, 1) := dk_27 (dk_at dksX2_describe_0 22 rfl rfl)
theorem dX2_describe_23 : decode cX2_describe 23 = .ok (.iaload, 1) := dk_46 (dk_at dksX2_describe_0 23 rfl rfl)
theorem dX2_describe_24 : decode cX2_describe 24 = .ok (.invokevirtual 265, 3) := dk_182 1 9 (dk_at dksX2_describe_1 0 rfl rfl)
theorem dX2_describe_27 : decode cX2_describe 27 = .ok (.pop, 1) := dk_87 (dk_at dksX2_describe_1 3 rfl rfl)
theorem dX2_describe_28 : decode cX2_describe 28 = .ok (.iconst 0, 1) := dk_3 (dk_at dksX2_describe_1 4 rfl rfl)
theorem dX2_describe_29 : decode cX2_describe 29 = .ok (.istore_n 3, 1) := dk_62 (dk_at dksX2_describe_1 5 rfl rfl)
theorem dX2_describe_30 : decode cX2_describe 30 = .ok (.iload_n 3, 1) := dk_29 (dk_at dksX2_describe_1 6 rfl rfl)
theorem dX2_describe_31 : decode cX2_describe 31 = .ok (.aload_n 0, 1) := dk_42 (dk_at dksX2_describe_1 7 rfl rfl)
theorem dX2_describe_32 : decode cX2_describe 32 = .ok (.getfield 31, 3) := dk_180 0 31 (dk_at dksX2_describe_1 8 rfl rfl)
theorem dX2_describe_35 : decode cX2_describe 35 = .ok (.if_icmp .ge 47, 3) := dk_162 0 47 (dk_at dksX2_describe_1 11 rfl rfl)
theorem dX2_describe_38 : decode cX2_describe 38 = .ok (.aload_n 0, 1) := dk_42 (dk_at dksX2_describe_1 14 rfl rfl)
theorem dX2_describe_39 : decode cX2_describe 39 = .ok (.getfield 11, 3) := dk_180 0 11 (dk_at dksX2_describe_1 15 rfl rfl)
theorem dX2_describe_42 : decode cX2_describe 42 = .ok (.iload_n 1, 1) := dk_27 (dk_at dksX2_describe_1 18 rfl rfl)
theorem dX2_describe_43 : decode cX2_describe 43 = .ok (.aaload, 1) := dk_50 (dk_at dksX2_describe_1 19 rfl rfl)
theorem dX2_describe_44 : decode cX2_describe 44 = .ok (.iload_n 3, 1) := dk_29 (dk_at dksX2_describe_1 20 rfl rfl)
theorem dX2_describe_45 : decode cX2_describe 45 = .ok (.iaload, 1) := dk_46 (dk_at dksX2_describe_1 21 rfl rfl)
theorem dX2_describe_46 : decode cX2_describe 46 = .ok (.ifCond .le 30, 3) := dk_158 0 30 (dk_at dksX2_describe_2 0 rfl rfl)
theorem dX2_describe_49 : decode cX2_describe 49 = .ok (.aload_n 2, 1) := dk_44 (dk_at dksX2_describe_2 3 rfl rfl)
theorem dX2_describe_50 : decode cX2_describe 50 = .ok (.bipush 62, 2) := dk_16 62 (dk_at dksX2_describe_2 4 rfl rfl)
theorem dX2_describe_52 : decode cX2_describe 52 = .ok (.invokevirtual 269, 3) := dk_182 1 13 (dk_at dksX2_describe_2 6 rfl rfl)
theorem dX2_describe_55 : decode cX2_describe 55 = .ok (.iload_n 3, 1) := dk_29 (dk_at dksX2_describe_2 9 rfl rfl)
theorem dX2_describe_56 : decode cX2_describe 56 = .ok (.invokevirtual 265, 3) := dk_182 1 9 (dk_at dksX2_describe_2 10 rfl rfl)
theorem dX2_describe_59 : decode cX2_describe 59 = .ok (.bipush 61, 2) := dk_16 61 (dk_at dksX2_describe_2 13 rfl rfl)
theorem dX2_describe_61 : decode cX2_describe 61 = .ok (.invokevirtual 269, 3) := dk_182 1 13 (dk_at dksX2_describe_2 15 rfl rfl)
theorem dX2_describe_64 : decode cX2_describe 64 = .ok (.aload_n 0, 1) := dk_42 (dk_at dksX2_describe_2 18 rfl rfl)
theorem dX2_describe_65 : decode cX2_describe 65 = .ok (.getfield 11, 3) := dk_180 0 11 (dk_at dksX2_describe_2 19 rfl rfl)
theorem dX2_describe_68 : decode cX2_describe 68 = .ok (.iload_n 1, 1) := dk_27 (dk_at dksX2_describe_2 22 rfl rfl)
theorem dX2_describe_69 : decode cX2_describe 69 = .ok (.aaload, 1) := dk_50 (dk_at dksX2_describe_2 23 rfl rfl)
theorem dX2_describe_70 : decode cX2_describe 70 = .ok (.iload_n 3, 1) := dk_29 (dk_at dksX2_describe_3 0 rfl rfl)
theorem dX2_describe_71 : decode cX2_describe 71 = .ok (.iaload, 1) := dk_46 (dk_at dksX2_describe_3 1 rfl rfl)
theorem dX2_describe_72 : decode cX2_describe 72 = .ok (.invokevirtual 265, 3) := dk_182 1 9 (dk_at dksX2_describe_3 2 rfl rfl)
theorem dX2_describe_75 : decode cX2_describe 75 = .ok (.pop, 1) := dk_87 (dk_at dksX2_describe_3 5 rfl rfl)
theorem dX2_describe_76 : decode cX2_describe 76 = .ok (.iinc 3 1, 3) := dk_132 3 1 (dk_at dksX2_describe_3 6 rfl rfl)
theorem dX2_describe_79 : decode cX2_describe 79 = .ok (.goto (-49), 3) := dk_167 255 207 (dk_at dksX2_describe_3 9 rfl rfl)
theorem dX2_describe_82 : decode cX2_describe 82 = .ok (.aload_n 2, 1) := dk_44 (dk_at dksX2_describe_3 12 rfl rfl)
theorem dX2_describe_83 : decode cX2_describe 83 = .ok (.invokevirtual 272, 3) := dk_182 1 16 (dk_at dksX2_describe_3 13 rfl rfl)
theorem dX2_describe_86 : decode cX2_describe 86 = .ok (.areturn, 1) := dk_176 (dk_at dksX2_describe_3 16 rfl rfl)
theorem q81 : (Jvm.Cond.initialized "ClearingHouse$House") ∈ lw_all := lw_g (lw_at lw_m1 2 rfl) rfl
theorem q134 : (Jvm.Cond.instantiable "ClearingHouse$House" (6 : Nat)) ∈ lw_all := lw_g (lw_at lw_m1 55 rfl) rfl
theorem q136 : (Jvm.Cond.instanceMethod ({ cls := "ClearingHouse$House", name := "<init>", desc := "()V" } : Jvm.MethodName)) ∈ lw_all := lw_g (lw_at lw_m1 57 rfl) rfl
theorem q137 : (Jvm.Cond.code ({ cls := "ClearingHouse$House", name := "<init>", desc := "()V" } : Jvm.MethodName) prog_4_method_1_code (1 : Nat) (Option.none : Option Jvm.ClassFile.FieldType)) ∈ lw_all := lw_g (lw_at lw_m1 58 rfl) rfl
theorem q138 : (Jvm.Cond.methodLink "ClearingHouse$House" (3 : Nat) ({ cls := "java/lang/Object", name := "<init>", desc := "()V" } : Jvm.MethodName)) ∈ lw_all := lw_g (lw_at lw_m1 59 rfl) rfl
theorem q139 : (Jvm.Cond.classLink "ClearingHouse$House" (9 : Nat) "[[I") ∈ lw_all := lw_g (lw_at lw_m1 60 rfl) rfl
theorem q141 : (Jvm.Cond.classLink "ClearingHouse$House" (20 : Nat) "ClearingHouse$Account") ∈ lw_all := lw_g (lw_at lw_m1 62 rfl) rfl
theorem q143 : (Jvm.Cond.methodLinkNest "ClearingHouse$House" (22 : Nat) ({ cls := "ClearingHouse$Account", name := "<init>", desc := "()V" } : Jvm.MethodName) "ClearingHouse") ∈ lw_tbl := lw_at lw_m1 64 rfl
theorem q166 : (Jvm.Cond.fieldLink "ClearingHouse$House" (11 : Nat) "ClearingHouse$House" "debts" "[[I") ∈ lw_all := lw_g (lw_at lw_m1 87 rfl) rfl
theorem q168 : (Jvm.Cond.fieldLink "ClearingHouse$House" (16 : Nat) "ClearingHouse$House" "cash" "[I") ∈ lw_all := lw_g (lw_at lw_m1 89 rfl) rfl
theorem q170 : (Jvm.Cond.fieldLink "ClearingHouse$House" (23 : Nat) "ClearingHouse$House" "account" "LClearingHouse$Account;") ∈ lw_all := lw_g (lw_at lw_m1 91 rfl) rfl
theorem q172 : (Jvm.Cond.fieldLink "ClearingHouse$House" (31 : Nat) "ClearingHouse$House" "parties" "I") ∈ lw_all := lw_g (lw_at lw_m1 93 rfl) rfl
theorem q174 : (Jvm.Cond.fieldLink "ClearingHouse$House" (35 : Nat) "ClearingHouse$House" "defaults" "I") ∈ lw_all := lw_g (lw_at lw_m1 95 rfl) rfl
theorem q176 : (Jvm.Cond.fieldLink "ClearingHouse$House" (38 : Nat) "ClearingHouse$House" "day" "I") ∈ lw_all := lw_g (lw_at lw_m1 97 rfl) rfl
theorem q178 : (Jvm.Cond.laysFinal "ClearingHouse$House" "ClearingHouse$House" "debts" "[[I") ∈ lw_all := lw_g (lw_at lw_m1 99 rfl) rfl
theorem q179 : (Jvm.Cond.soleField "ClearingHouse$House" "debts") ∈ lw_all := lw_g (lw_at lw_m1 100 rfl) rfl
theorem q180 : (Jvm.Cond.laysFinal "ClearingHouse$House" "ClearingHouse$House" "cash" "[I") ∈ lw_all := lw_g (lw_at lw_m1 101 rfl) rfl
theorem q181 : (Jvm.Cond.soleField "ClearingHouse$House" "cash") ∈ lw_all := lw_g (lw_at lw_m1 102 rfl) rfl
theorem q182 : (Jvm.Cond.laysFinal "ClearingHouse$House" "ClearingHouse$House" "account" "LClearingHouse$Account;") ∈ lw_all := lw_g (lw_at lw_m1 103 rfl) rfl
theorem q183 : (Jvm.Cond.soleField "ClearingHouse$House" "account") ∈ lw_all := lw_g (lw_at lw_m1 104 rfl) rfl
theorem q184 : (Jvm.Cond.lays "ClearingHouse$House" "ClearingHouse$House" "parties" "I") ∈ lw_all := lw_g (lw_at lw_m1 105 rfl) rfl
theorem q185 : (Jvm.Cond.soleField "ClearingHouse$House" "parties") ∈ lw_all := lw_g (lw_at lw_m1 106 rfl) rfl
theorem q186 : (Jvm.Cond.lays "ClearingHouse$House" "ClearingHouse$House" "defaults" "I") ∈ lw_all := lw_g (lw_at lw_m1 107 rfl) rfl
theorem q187 : (Jvm.Cond.soleField "ClearingHouse$House" "defaults") ∈ lw_all := lw_g (lw_at lw_m1 108 rfl) rfl
theorem q188 : (Jvm.Cond.lays "ClearingHouse$House" "ClearingHouse$House" "day" "I") ∈ lw_all := lw_g (lw_at lw_m1 109 rfl) rfl
theorem q189 : (Jvm.Cond.soleField "ClearingHouse$House" "day") ∈ lw_all := lw_g (lw_at lw_m1 110 rfl) rfl
theorem q190 : (Jvm.Cond.superclass "ClearingHouse$House" "java/lang/Object") ∈ lw_all := lw_g (lw_at lw_m1 111 rfl) rfl
theorem q290 : (Jvm.Cond.instanceMethod ({ cls := "ClearingHouse$House", name := "<init>", desc := "(LClearingHouse$House;)V" } : Jvm.MethodName)) ∈ lw_all := lw_g (lw_at lw_m1 211 rfl) rfl
theorem q291 : (Jvm.Cond.code ({ cls := "ClearingHouse$House", name := "<init>", desc := "(LClearingHouse$House;)V" } : Jvm.MethodName) prog_4_method_2_code (4 : Nat) (Option.none : Option Jvm.ClassFile.FieldType)) ∈ lw_all := lw_g (lw_at lw_m1 212 rfl) rfl
theorem q292 : (Jvm.Cond.methodLink "ClearingHouse$House" (27 : Nat) ({ cls := "ClearingHouse$Account", name := "take", desc := "(LClearingHouse$Account;)V" } : Jvm.MethodName)) ∈ lw_all := lw_g (lw_at lw_m1 213 rfl) rfl
theorem q307 : (Jvm.Cond.instanceMethod ({ cls := "ClearingHouse$House", name := "owe", desc := "(III)I" } : Jvm.MethodName)) ∈ lw_all := lw_g (lw_at lw_m1 228 rfl) rfl
theorem q308 : (Jvm.Cond.selects "ClearingHouse$House" ({ cls := "ClearingHouse$House", name := "owe", desc := "(III)I" } : Jvm.MethodName) ({ cls := "ClearingHouse$House", name := "owe", desc := "(III)I" } : Jvm.MethodName)) ∈ lw_all := lw_g (lw_at lw_m1 229 rfl) rfl
theorem q309 : (Jvm.Cond.code ({ cls := "ClearingHouse$House", name := "owe", desc := "(III)I" } : Jvm.MethodName) prog_4_method_9_code (4 : Nat) (Option.some Jvm.ClassFile.FieldType.int)) ∈ lw_all := lw_g (lw_at lw_m1 230 rfl) rfl
theorem q310 : (Jvm.Cond.methodLink "ClearingHouse$House" (66 : Nat) ({ cls := "ClearingHouse$House", name := "requireDifferent", desc := "(II)V" } : Jvm.MethodName)) ∈ lw_all := lw_g (lw_at lw_m1 231 rfl) rfl
theorem q311 : (Jvm.Cond.privateMethod ({ cls := "ClearingHouse$House", name := "requireDifferent", desc := "(II)V" } : Jvm.MethodName)) ∈ lw_tbl := lw_at lw_m1 232 rfl
theorem q312 : (Jvm.Cond.instanceMethod ({ cls := "ClearingHouse$House", name := "requireDifferent", desc := "(II)V" } : Jvm.MethodName)) ∈ lw_all := lw_g (lw_at lw_m1 233 rfl) rfl
theorem q313 : (Jvm.Cond.code ({ cls := "ClearingHouse$House", name := "requireDifferent", desc := "(II)V" } : Jvm.MethodName) prog_4_method_5_code (3 : Nat) (Option.none : Option Jvm.ClassFile.FieldType)) ∈ lw_all := lw_g (lw_at lw_m1 234 rfl) rfl
theorem q314 : (Jvm.Cond.methodLink "ClearingHouse$House" (49 : Nat) ({ cls := "ClearingHouse$House", name := "requireBoth", desc := "(II)V" } : Jvm.MethodName)) ∈ lw_all := lw_g (lw_at lw_m1 235 rfl) rfl
theorem q315 : (Jvm.Cond.instanceMethod ({ cls := "ClearingHouse$House", name := "requireBoth", desc := "(II)V" } : Jvm.MethodName)) ∈ lw_all := lw_g (lw_at lw_m1 236 rfl) rfl
theorem q316 : (Jvm.Cond.selects "ClearingHouse$House" ({ cls := "ClearingHouse$House", name := "requireBoth", desc := "(II)V" } : Jvm.MethodName) ({ cls := "ClearingHouse$House", name := "requireBoth", desc := "(II)V" } : Jvm.MethodName)) ∈ lw_all := lw_g (lw_at lw_m1 237 rfl) rfl
theorem q317 : (Jvm.Cond.code ({ cls := "ClearingHouse$House", name := "requireBoth", desc := "(II)V" } : Jvm.MethodName) prog_4_method_4_code (3 : Nat) (Option.none : Option Jvm.ClassFile.FieldType)) ∈ lw_all := lw_g (lw_at lw_m1 238 rfl) rfl
theorem q318 : (Jvm.Cond.methodLink "ClearingHouse$House" (45 : Nat) ({ cls := "ClearingHouse$House", name := "requireParty", desc := "(I)V" } : Jvm.MethodName)) ∈ lw_all := lw_g (lw_at lw_m1 239 rfl) rfl
theorem q319 : (Jvm.Cond.instanceMethod ({ cls := "ClearingHouse$House", name := "requireParty", desc := "(I)V" } : Jvm.MethodName)) ∈ lw_all := lw_g (lw_at lw_m2 0 rfl) rfl
theorem q320 : (Jvm.Cond.selects "ClearingHouse$House" ({ cls := "ClearingHouse$House", name := "requireParty", desc := "(I)V" } : Jvm.MethodName) ({ cls := "ClearingHouse$House", name := "requireParty", desc := "(I)V" } : Jvm.MethodName)) ∈ lw_all := lw_g (lw_at lw_m2 1 rfl) rfl
theorem q321 : (Jvm.Cond.code ({ cls := "ClearingHouse$House", name := "requireParty", desc := "(I)V" } : Jvm.MethodName) prog_4_method_3_code (2 : Nat) (Option.none : Option Jvm.ClassFile.FieldType)) ∈ lw_all := lw_g (lw_at lw_m2 2 rfl) rfl
theorem q322 : (Jvm.Cond.methodLinkNest "ClearingHouse$House" (41 : Nat) ({ cls := "ClearingHouse", name := "requireIndex", desc := "(II)V" } : Jvm.MethodName) "ClearingHouse") ∈ lw_tbl := lw_at lw_m2 3 rfl
theorem q398 : (Jvm.Cond.methodLinkNest "ClearingHouse$House" (52 : Nat) ({ cls := "ClearingHouse", name := "requireArgument", desc := "(Z)V" } : Jvm.MethodName) "ClearingHouse") ∈ lw_tbl := lw_at lw_m2 79 rfl
theorem q416 : (Jvm.Cond.methodLink "ClearingHouse$House" (63 : Nat) ({ cls := "ClearingHouse$House", name := "requireAmount", desc := "(I)V" } : Jvm.MethodName)) ∈ lw_all := lw_g (lw_at lw_m2 97 rfl) rfl
theorem q417 : (Jvm.Cond.static ({ cls := "ClearingHouse$House", name := "requireAmount", desc := "(I)V" } : Jvm.MethodName)) ∈ lw_all := lw_g (lw_at lw_m2 98 rfl) rfl
theorem q418 : (Jvm.Cond.code ({ cls := "ClearingHouse$House", name := "requireAmount", desc := "(I)V" } : Jvm.MethodName) prog_4_method_6_code (1 : Nat) (Option.none : Option Jvm.ClassFile.FieldType)) ∈ lw_all := lw_g (lw_at lw_m2 99 rfl) rfl
theorem q419 : (Jvm.Cond.methodLinkNest "ClearingHouse$House" (56 : Nat) ({ cls := "ClearingHouse", name := "isBetween", desc := "(III)Z" } : Jvm.MethodName) "ClearingHouse") ∈ lw_tbl := lw_at lw_m2 100 rfl
theorem q420 : (Jvm.Cond.methodLinkNest "ClearingHouse$House" (60 : Nat) ({ cls := "ClearingHouse", name := "requireState", desc := "(Z)V" } : Jvm.MethodName) "ClearingHouse") ∈ lw_tbl := lw_at lw_m2 101 rfl
theorem q438 : (Jvm.Cond.methodLink "ClearingHouse$House" (69 : Nat) ({ cls := "ClearingHouse$Account", name := "make", desc := "(I)V" } : Jvm.MethodName)) ∈ lw_all := lw_g (lw_at lw_m2 119 rfl) rfl
theorem q443 : (Jvm.Cond.instanceMethod ({ cls := "ClearingHouse$House", name := "pay", desc := "(III)I" } : Jvm.MethodName)) ∈ lw_all := lw_g (lw_at lw_m2 124 rfl) rfl
theorem q444 : (Jvm.Cond.selects "ClearingHouse$House" ({ cls := "ClearingHouse$House", name := "pay", desc := "(III)I" } : Jvm.MethodName) ({ cls := "ClearingHouse$House", name := "pay", desc := "(III)I" } : Jvm.MethodName)) ∈ lw_all := lw_g (lw_at lw_m2 125 rfl) rfl
theorem q445 : (Jvm.Cond.code ({ cls := "ClearingHouse$House", name := "pay", desc := "(III)I" } : Jvm.MethodName) prog_4_method_11_code (4 : Nat) (Option.some Jvm.ClassFile.FieldType.int)) ∈ lw_all := lw_g (lw_at lw_m2 126 rfl) rfl
theorem q446 : (Jvm.Cond.methodLinkNest "ClearingHouse$House" (75 : Nat) ({ cls := "ClearingHouse", name := "requireSupported", desc := "(Z)V" } : Jvm.MethodName) "ClearingHouse") ∈ lw_tbl := lw_at lw_m2 127 rfl
theorem q464 : (Jvm.Cond.methodLink "ClearingHouse$House" (78 : Nat) ({ cls := "ClearingHouse$House", name := "transfer", desc := "(III)V" } : Jvm.MethodName)) ∈ lw_all := lw_g (lw_at lw_m2 145 rfl) rfl
theorem q465 : (Jvm.Cond.privateMethod ({ cls := "ClearingHouse$House", name := "transfer", desc := "(III)V" } : Jvm.MethodName)) ∈ lw_tbl := lw_at lw_m2 146 rfl
theorem q466 : (Jvm.Cond.instanceMethod ({ cls := "ClearingHouse$House", name := "transfer", desc := "(III)V" } : Jvm.MethodName)) ∈ lw_all := lw_g (lw_at lw_m2 147 rfl) rfl
theorem q467 : (Jvm.Cond.code ({ cls := "ClearingHouse$House", name := "transfer", desc := "(III)V" } : Jvm.MethodName) prog_4_method_10_code (4 : Nat) (Option.none : Option Jvm.ClassFile.FieldType)) ∈ lw_all := lw_g (lw_at lw_m2 148 rfl) rfl
theorem q468 : (Jvm.Cond.methodLink "ClearingHouse$House" (72 : Nat) ({ cls := "ClearingHouse$Account", name := "pay", desc := "(I)V" } : Jvm.MethodName)) ∈ lw_all := lw_g (lw_at lw_m2 149 rfl) rfl
theorem q473 : (Jvm.Cond.instanceMethod ({ cls := "ClearingHouse$House", name := "netPair", desc := "(II)I" } : Jvm.MethodName)) ∈ lw_all := lw_g (lw_at lw_m2 154 rfl) rfl
theorem q474 : (Jvm.Cond.selects "ClearingHouse$House" ({ cls := "ClearingHouse$House", name := "netPair", desc := "(II)I" } : Jvm.MethodName) ({ cls := "ClearingHouse$House", name := "netPair", desc := "(II)I" } : Jvm.MethodName)) ∈ lw_all := lw_g (lw_at lw_m2 155 rfl) rfl
theorem q475 : (Jvm.Cond.code ({ cls := "ClearingHouse$House", name := "netPair", desc := "(II)I" } : Jvm.MethodName) prog_4_method_13_code (4 : Nat) (Option.some Jvm.ClassFile.FieldType.int)) ∈ lw_all := lw_g (lw_at lw_m2 156 rfl) rfl
theorem q476 : (Jvm.Cond.methodLink "ClearingHouse$House" (85 : Nat) ({ cls := "java/lang/Math", name := "min", desc := "(II)I" } : Jvm.MethodName)) ∈ lw_all := lw_g (lw_at lw_m2 157 rfl) rfl
theorem q479 : (Jvm.Cond.methodLink "ClearingHouse$House" (91 : Nat) ({ cls := "ClearingHouse$House", name := "lessen", desc := "(III)V" } : Jvm.MethodName)) ∈ lw_all := lw_g (lw_at lw_m2 160 rfl) rfl
theorem q480 : (Jvm.Cond.privateMethod ({ cls := "ClearingHouse$House", name := "lessen", desc := "(III)V" } : Jvm.MethodName)) ∈ lw_tbl := lw_at lw_m2 161 rfl
theorem q481 : (Jvm.Cond.instanceMethod ({ cls := "ClearingHouse$House", name := "lessen", desc := "(III)V" } : Jvm.MethodName)) ∈ lw_all := lw_g (lw_at lw_m2 162 rfl) rfl
theorem q482 : (Jvm.Cond.code ({ cls := "ClearingHouse$House", name := "lessen", desc := "(III)V" } : Jvm.MethodName) prog_4_method_12_code (4 : Nat) (Option.none : Option Jvm.ClassFile.FieldType)) ∈ lw_all := lw_g (lw_at lw_m2 163 rfl) rfl
theorem q483 : (Jvm.Cond.methodLink "ClearingHouse$House" (82 : Nat) ({ cls := "ClearingHouse$Account", name := "net", desc := "(I)V" } : Jvm.MethodName)) ∈ lw_all := lw_g (lw_at lw_m2 164 rfl) rfl
theorem q494 : (Jvm.Cond.instanceMethod ({ cls := "ClearingHouse$House", name := "addParty", desc := "(I)I" } : Jvm.MethodName)) ∈ lw_all := lw_g (lw_at lw_m2 175 rfl) rfl
theorem q495 : (Jvm.Cond.selects "ClearingHouse$House" ({ cls := "ClearingHouse$House", name := "addParty", desc := "(I)I" } : Jvm.MethodName) ({ cls := "ClearingHouse$House", name := "addParty", desc := "(I)I" } : Jvm.MethodName)) ∈ lw_all := lw_g (lw_at lw_m2 176 rfl) rfl
theorem q496 : (Jvm.Cond.code ({ cls := "ClearingHouse$House", name := "addParty", desc := "(I)I" } : Jvm.MethodName) prog_4_method_7_code (2 : Nat) (Option.some Jvm.ClassFile.FieldType.int)) ∈ lw_all := lw_g (lw_at lw_m2 177 rfl) rfl
theorem q498 : (Jvm.Cond.instanceMethod ({ cls := "ClearingHouse$House", name := "deposit", desc := "(II)I" } : Jvm.MethodName)) ∈ lw_all := lw_g (lw_at lw_m2 179 rfl) rfl
theorem q499 : (Jvm.Cond.selects "ClearingHouse$House" ({ cls := "ClearingHouse$House", name := "deposit", desc := "(II)I" } : Jvm.MethodName) ({ cls := "ClearingHouse$House", name := "deposit", desc := "(II)I" } : Jvm.MethodName)) ∈ lw_all := lw_g (lw_at lw_m2 180 rfl) rfl
theorem q500 : (Jvm.Cond.code ({ cls := "ClearingHouse$House", name := "deposit", desc := "(II)I" } : Jvm.MethodName) prog_4_method_8_code (3 : Nat) (Option.some Jvm.ClassFile.FieldType.int)) ∈ lw_all := lw_g (lw_at lw_m2 181 rfl) rfl
theorem q502 : (Jvm.Cond.instanceMethod ({ cls := "ClearingHouse$House", name := "declareDefault", desc := "(I)I" } : Jvm.MethodName)) ∈ lw_all := lw_g (lw_at lw_m2 183 rfl) rfl
theorem q503 : (Jvm.Cond.selects "ClearingHouse$House" ({ cls := "ClearingHouse$House", name := "declareDefault", desc := "(I)I" } : Jvm.MethodName) ({ cls := "ClearingHouse$House", name := "declareDefault", desc := "(I)I" } : Jvm.MethodName)) ∈ lw_all := lw_g (lw_at lw_m2 184 rfl) rfl
theorem q504 : (Jvm.Cond.code ({ cls := "ClearingHouse$House", name := "declareDefault", desc := "(I)I" } : Jvm.MethodName) prog_4_method_22_code (2 : Nat) (Option.some Jvm.ClassFile.FieldType.int)) ∈ lw_all := lw_g (lw_at lw_m2 185 rfl) rfl
theorem q505 : (Jvm.Cond.methodLink "ClearingHouse$House" (161 : Nat) ({ cls := "ClearingHouse$House", name := "requireInsolvent", desc := "(I)V" } : Jvm.MethodName)) ∈ lw_all := lw_g (lw_at lw_m2 186 rfl) rfl
theorem q506 : (Jvm.Cond.instanceMethod ({ cls := "ClearingHouse$House", name := "requireInsolvent", desc := "(I)V" } : Jvm.MethodName)) ∈ lw_all := lw_g (lw_at lw_m2 187 rfl) rfl
theorem q507 : (Jvm.Cond.selects "ClearingHouse$House" ({ cls := "ClearingHouse$House", name := "requireInsolvent", desc := "(I)V" } : Jvm.MethodName) ({ cls := "ClearingHouse$House", name := "requireInsolvent", desc := "(I)V" } : Jvm.MethodName)) ∈ lw_all := lw_g (lw_at lw_m2 188 rfl) rfl
theorem q508 : (Jvm.Cond.code ({ cls := "ClearingHouse$House", name := "requireInsolvent", desc := "(I)V" } : Jvm.MethodName) prog_4_method_21_code (2 : Nat) (Option.none : Option Jvm.ClassFile.FieldType)) ∈ lw_all := lw_g (lw_at lw_m2 189 rfl) rfl
theorem q509 : (Jvm.Cond.methodLink "ClearingHouse$House" (157 : Nat) ({ cls := "ClearingHouse$House", name := "isInsolvent", desc := "(I)Z" } : Jvm.MethodName)) ∈ lw_all := lw_g (lw_at lw_m2 190 rfl) rfl
theorem q510 : (Jvm.Cond.instanceMethod ({ cls := "ClearingHouse$House", name := "isInsolvent", desc := "(I)Z" } : Jvm.MethodName)) ∈ lw_all := lw_g (lw_at lw_m2 191 rfl) rfl
theorem q511 : (Jvm.Cond.selects "ClearingHouse$House" ({ cls := "ClearingHouse$House", name := "isInsolvent", desc := "(I)Z" } : Jvm.MethodName) ({ cls := "ClearingHouse$House", name := "isInsolvent", desc := "(I)Z" } : Jvm.MethodName)) ∈ lw_all := lw_g (lw_at lw_m2 192 rfl) rfl
theorem q512 : (Jvm.Cond.code ({ cls := "ClearingHouse$House", name := "isInsolvent", desc := "(I)Z" } : Jvm.MethodName) prog_4_method_30_code (2 : Nat) (Option.some Jvm.ClassFile.FieldType.boolean)) ∈ lw_all := lw_g (lw_at lw_m2 193 rfl) rfl
theorem q513 : (Jvm.Cond.methodLink "ClearingHouse$House" (166 : Nat) ({ cls := "ClearingHouse$House", name := "shortfall", desc := "(I)I" } : Jvm.MethodName)) ∈ lw_all := lw_g (lw_at lw_m2 194 rfl) rfl
theorem q514 : (Jvm.Cond.privateMethod ({ cls := "ClearingHouse$House", name := "shortfall", desc := "(I)I" } : Jvm.MethodName)) ∈ lw_tbl := lw_at lw_m2 195 rfl
theorem q515 : (Jvm.Cond.instanceMethod ({ cls := "ClearingHouse$House", name := "shortfall", desc := "(I)I" } : Jvm.MethodName)) ∈ lw_all := lw_g (lw_at lw_m2 196 rfl) rfl
theorem q516 : (Jvm.Cond.code ({ cls := "ClearingHouse$House", name := "shortfall", desc := "(I)I" } : Jvm.MethodName) prog_4_method_29_code (2 : Nat) (Option.some Jvm.ClassFile.FieldType.int)) ∈ lw_all := lw_g (lw_at lw_m2 197 rfl) rfl
theorem q517 : (Jvm.Cond.methodLink "ClearingHouse$House" (175 : Nat) ({ cls := "ClearingHouse$House", name := "netPosition", desc := "(I)I" } : Jvm.MethodName)) ∈ lw_all := lw_g (lw_at lw_m2 198 rfl) rfl
theorem q518 : (Jvm.Cond.instanceMethod ({ cls := "ClearingHouse$House", name := "netPosition", desc := "(I)I" } : Jvm.MethodName)) ∈ lw_all := lw_g (lw_at lw_m2 199 rfl) rfl
theorem q519 : (Jvm.Cond.selects "ClearingHouse$House" ({ cls := "ClearingHouse$House", name := "netPosition", desc := "(I)I" } : Jvm.MethodName) ({ cls := "ClearingHouse$House", name := "netPosition", desc := "(I)I" } : Jvm.MethodName)) ∈ lw_all := lw_g (lw_at lw_m2 200 rfl) rfl
theorem q520 : (Jvm.Cond.code ({ cls := "ClearingHouse$House", name := "netPosition", desc := "(I)I" } : Jvm.MethodName) prog_4_method_28_code (2 : Nat) (Option.some Jvm.ClassFile.FieldType.int)) ∈ lw_all := lw_g (lw_at lw_m2 201 rfl) rfl
theorem q521 : (Jvm.Cond.methodLink "ClearingHouse$House" (172 : Nat) ({ cls := "ClearingHouse$House", name := "claims", desc := "(I)I" } : Jvm.MethodName)) ∈ lw_all := lw_g (lw_at lw_m2 202 rfl) rfl
theorem q522 : (Jvm.Cond.instanceMethod ({ cls := "ClearingHouse$House", name := "claims", desc := "(I)I" } : Jvm.MethodName)) ∈ lw_all := lw_g (lw_at lw_m2 203 rfl) rfl
theorem q523 : (Jvm.Cond.selects "ClearingHouse$House" ({ cls := "ClearingHouse$House", name := "claims", desc := "(I)I" } : Jvm.MethodName) ({ cls := "ClearingHouse$House", name := "claims", desc := "(I)I" } : Jvm.MethodName)) ∈ lw_all := lw_g (lw_at lw_m2 204 rfl) rfl
theorem q524 : (Jvm.Cond.code ({ cls := "ClearingHouse$House", name := "claims", desc := "(I)I" } : Jvm.MethodName) prog_4_method_26_code (4 : Nat) (Option.some Jvm.ClassFile.FieldType.int)) ∈ lw_all := lw_g (lw_at lw_m2 205 rfl) rfl
theorem q525 : (Jvm.Cond.methodLink "ClearingHouse$House" (137 : Nat) ({ cls := "ClearingHouse$House", name := "obligations", desc := "(I)I" } : Jvm.MethodName)) ∈ lw_all := lw_g (lw_at lw_m2 206 rfl) rfl
theorem q526 : (Jvm.Cond.instanceMethod ({ cls := "ClearingHouse$House", name := "obligations", desc := "(I)I" } : Jvm.MethodName)) ∈ lw_all := lw_g (lw_at lw_m2 207 rfl) rfl
theorem q527 : (Jvm.Cond.selects "ClearingHouse$House" ({ cls := "ClearingHouse$House", name := "obligations", desc := "(I)I" } : Jvm.MethodName) ({ cls := "ClearingHouse$House", name := "obligations", desc := "(I)I" } : Jvm.MethodName)) ∈ lw_all := lw_g (lw_at lw_m2 208 rfl) rfl
theorem q528 : (Jvm.Cond.code ({ cls := "ClearingHouse$House", name := "obligations", desc := "(I)I" } : Jvm.MethodName) prog_4_method_27_code (4 : Nat) (Option.some Jvm.ClassFile.FieldType.int)) ∈ lw_all := lw_g (lw_at lw_m2 209 rfl) rfl
theorem q529 : (Jvm.Cond.methodLink "ClearingHouse$House" (164 : Nat) ({ cls := "ClearingHouse$House", name := "fail", desc := "(I)I" } : Jvm.MethodName)) ∈ lw_all := lw_g (lw_at lw_m2 210 rfl) rfl
theorem q530 : (Jvm.Cond.privateMethod ({ cls := "ClearingHouse$House", name := "fail", desc := "(I)I" } : Jvm.MethodName)) ∈ lw_tbl := lw_at lw_m2 211 rfl
theorem q531 : (Jvm.Cond.instanceMethod ({ cls := "ClearingHouse$House", name := "fail", desc := "(I)I" } : Jvm.MethodName)) ∈ lw_all := lw_g (lw_at lw_m2 212 rfl) rfl
theorem q532 : (Jvm.Cond.code ({ cls := "ClearingHouse$House", name := "fail", desc := "(I)I" } : Jvm.MethodName) prog_4_method_19_code (5 : Nat) (Option.some Jvm.ClassFile.FieldType.int)) ∈ lw_all := lw_g (lw_at lw_m2 213 rfl) rfl
theorem q533 : (Jvm.Cond.methodLink "ClearingHouse$House" (143 : Nat) ({ cls := "ClearingHouse$House", name := "shares", desc := "(I)LClearingHouse$Shares;" } : Jvm.MethodName)) ∈ lw_all := lw_g (lw_at lw_m2 214 rfl) rfl
theorem q534 : (Jvm.Cond.instanceMethod ({ cls := "ClearingHouse$House", name := "shares", desc := "(I)LClearingHouse$Shares;" } : Jvm.MethodName)) ∈ lw_all := lw_g (lw_at lw_m2 215 rfl) rfl
theorem q535 : (Jvm.Cond.selects "ClearingHouse$House" ({ cls := "ClearingHouse$House", name := "shares", desc := "(I)LClearingHouse$Shares;" } : Jvm.MethodName) ({ cls := "ClearingHouse$House", name := "shares", desc := "(I)LClearingHouse$Shares;" } : Jvm.MethodName)) ∈ lw_all := lw_g (lw_at lw_m2 216 rfl) rfl
theorem q536 : (Jvm.Cond.code ({ cls := "ClearingHouse$House", name := "shares", desc := "(I)LClearingHouse$Shares;" } : Jvm.MethodName) prog_4_method_17_code (2 : Nat) (Option.some (Jvm.ClassFile.FieldType.object "ClearingHouse$Shares"))) ∈ lw_all := lw_g (lw_at lw_m2 217 rfl) rfl
theorem q537 : (Jvm.Cond.classLink "ClearingHouse$House" (131 : Nat) "ClearingHouse$Shares") ∈ lw_all := lw_g (lw_at lw_m2 218 rfl) rfl
theorem q539 : (Jvm.Cond.methodLink "ClearingHouse$House" (133 : Nat) ({ cls := "ClearingHouse$House", name := "debtsOf", desc := "(I)[I" } : Jvm.MethodName)) ∈ lw_all := lw_g (lw_at lw_m2 220 rfl) rfl
theorem q540 : (Jvm.Cond.privateMethod ({ cls := "ClearingHouse$House", name := "debtsOf", desc := "(I)[I" } : Jvm.MethodName)) ∈ lw_tbl := lw_at lw_m2 221 rfl
theorem q541 : (Jvm.Cond.instanceMethod ({ cls := "ClearingHouse$House", name := "debtsOf", desc := "(I)[I" } : Jvm.MethodName)) ∈ lw_all := lw_g (lw_at lw_m2 222 rfl) rfl
theorem q542 : (Jvm.Cond.code ({ cls := "ClearingHouse$House", name := "debtsOf", desc := "(I)[I" } : Jvm.MethodName) prog_4_method_18_code (4 : Nat) (Option.some (Jvm.ClassFile.FieldType.array Jvm.ClassFile.FieldType.int))) ∈ lw_all := lw_g (lw_at lw_m2 223 rfl) rfl
theorem q543 : (Jvm.Cond.methodLink "ClearingHouse$House" (140 : Nat) ({ cls := "ClearingHouse$Shares", name := "<init>", desc := "(I[II)V" } : Jvm.MethodName)) ∈ lw_all := lw_g (lw_at lw_m2 224 rfl) rfl
theorem q561 : (Jvm.Cond.methodLink "ClearingHouse$House" (147 : Nat) ({ cls := "ClearingHouse$Shares", name := "give", desc := "()[I" } : Jvm.MethodName)) ∈ lw_all := lw_g (lw_at lw_m3 2 rfl) rfl
theorem q565 : (Jvm.Cond.methodLink "ClearingHouse$House" (151 : Nat) ({ cls := "ClearingHouse$House", name := "shortOfCash", desc := "(I)I" } : Jvm.MethodName)) ∈ lw_all := lw_g (lw_at lw_m3 6 rfl) rfl
theorem q566 : (Jvm.Cond.privateMethod ({ cls := "ClearingHouse$House", name := "shortOfCash", desc := "(I)I" } : Jvm.MethodName)) ∈ lw_tbl := lw_at lw_m3 7 rfl
theorem q567 : (Jvm.Cond.instanceMethod ({ cls := "ClearingHouse$House", name := "shortOfCash", desc := "(I)I" } : Jvm.MethodName)) ∈ lw_all := lw_g (lw_at lw_m3 8 rfl) rfl
theorem q568 : (Jvm.Cond.code ({ cls := "ClearingHouse$House", name := "shortOfCash", desc := "(I)I" } : Jvm.MethodName) prog_4_method_20_code (2 : Nat) (Option.some Jvm.ClassFile.FieldType.int)) ∈ lw_all := lw_g (lw_at lw_m3 9 rfl) rfl
theorem q569 : (Jvm.Cond.methodLink "ClearingHouse$House" (154 : Nat) ({ cls := "ClearingHouse$Account", name := "fail", desc := "(II)V" } : Jvm.MethodName)) ∈ lw_all := lw_g (lw_at lw_m3 10 rfl) rfl
theorem q586 : (Jvm.Cond.instanceMethod ({ cls := "ClearingHouse$House", name := "netCycle", desc := "()I" } : Jvm.MethodName)) ∈ lw_all := lw_g (lw_at lw_m3 27 rfl) rfl
theorem q587 : (Jvm.Cond.selects "ClearingHouse$House" ({ cls := "ClearingHouse$House", name := "netCycle", desc := "()I" } : Jvm.MethodName) ({ cls := "ClearingHouse$House", name := "netCycle", desc := "()I" } : Jvm.MethodName)) ∈ lw_all := lw_g (lw_at lw_m3 28 rfl) rfl
theorem q588 : (Jvm.Cond.code ({ cls := "ClearingHouse$House", name := "netCycle", desc := "()I" } : Jvm.MethodName) prog_4_method_15_code (1 : Nat) (Option.some Jvm.ClassFile.FieldType.int)) ∈ lw_all := lw_g (lw_at lw_m3 29 rfl) rfl
theorem q589 : (Jvm.Cond.methodLink "ClearingHouse$House" (110 : Nat) ({ cls := "ClearingHouse$House", name := "requireCycle", desc := "()LClearingHouse$Cycle;" } : Jvm.MethodName)) ∈ lw_all := lw_g (lw_at lw_m3 30 rfl) rfl
theorem q590 : (Jvm.Cond.instanceMethod ({ cls := "ClearingHouse$House", name := "requireCycle", desc := "()LClearingHouse$Cycle;" } : Jvm.MethodName)) ∈ lw_all := lw_g (lw_at lw_m3 31 rfl) rfl
theorem q591 : (Jvm.Cond.selects "ClearingHouse$House" ({ cls := "ClearingHouse$House", name := "requireCycle", desc := "()LClearingHouse$Cycle;" } : Jvm.MethodName) ({ cls := "ClearingHouse$House", name := "requireCycle", desc := "()LClearingHouse$Cycle;" } : Jvm.MethodName)) ∈ lw_all := lw_g (lw_at lw_m3 32 rfl) rfl
theorem q592 : (Jvm.Cond.code ({ cls := "ClearingHouse$House", name := "requireCycle", desc := "()LClearingHouse$Cycle;" } : Jvm.MethodName) prog_4_method_37_code (2 : Nat) (Option.some (Jvm.ClassFile.FieldType.object "ClearingHouse$Cycle"))) ∈ lw_all := lw_g (lw_at lw_m3 33 rfl) rfl
theorem q593 : (Jvm.Cond.methodLink "ClearingHouse$House" (117 : Nat) ({ cls := "ClearingHouse$House", name := "nextCycle", desc := "()Ljava/util/Optional;" } : Jvm.MethodName)) ∈ lw_all := lw_g (lw_at lw_m3 34 rfl) rfl
theorem q594 : (Jvm.Cond.instanceMethod ({ cls := "ClearingHouse$House", name := "nextCycle", desc := "()Ljava/util/Optional;" } : Jvm.MethodName)) ∈ lw_all := lw_g (lw_at lw_m3 35 rfl) rfl
theorem q595 : (Jvm.Cond.selects "ClearingHouse$House" ({ cls := "ClearingHouse$House", name := "nextCycle", desc := "()Ljava/util/Optional;" } : Jvm.MethodName) ({ cls := "ClearingHouse$House", name := "nextCycle", desc := "()Ljava/util/Optional;" } : Jvm.MethodName)) ∈ lw_all := lw_g (lw_at lw_m3 36 rfl) rfl
theorem q596 : (Jvm.Cond.code ({ cls := "ClearingHouse$House", name := "nextCycle", desc := "()Ljava/util/Optional;" } : Jvm.MethodName) prog_4_method_36_code (4 : Nat) (Option.some (Jvm.ClassFile.FieldType.object "java/util/Optional"))) ∈ lw_all := lw_g (lw_at lw_m3 37 rfl) rfl
theorem q597 : (Jvm.Cond.methodLink "ClearingHouse$House" (186 : Nat) ({ cls := "ClearingHouse$House", name := "isClosed", desc := "([III)Z" } : Jvm.MethodName)) ∈ lw_all := lw_g (lw_at lw_m3 38 rfl) rfl
theorem q598 : (Jvm.Cond.privateMethod ({ cls := "ClearingHouse$House", name := "isClosed", desc := "([III)Z" } : Jvm.MethodName)) ∈ lw_tbl := lw_at lw_m3 39 rfl
theorem q599 : (Jvm.Cond.instanceMethod ({ cls := "ClearingHouse$House", name := "isClosed", desc := "([III)Z" } : Jvm.MethodName)) ∈ lw_all := lw_g (lw_at lw_m3 40 rfl) rfl
theorem q600 : (Jvm.Cond.code ({ cls := "ClearingHouse$House", name := "isClosed", desc := "([III)Z" } : Jvm.MethodName) prog_4_method_35_code (6 : Nat) (Option.some Jvm.ClassFile.FieldType.boolean)) ∈ lw_all := lw_g (lw_at lw_m3 41 rfl) rfl
theorem q601 : (Jvm.Cond.methodLink "ClearingHouse$House" (182 : Nat) ({ cls := "ClearingHouse$House", name := "isOn", desc := "([III)Z" } : Jvm.MethodName)) ∈ lw_all := lw_g (lw_at lw_m3 42 rfl) rfl
theorem q602 : (Jvm.Cond.static ({ cls := "ClearingHouse$House", name := "isOn", desc := "([III)Z" } : Jvm.MethodName)) ∈ lw_all := lw_g (lw_at lw_m3 43 rfl) rfl
theorem q603 : (Jvm.Cond.code ({ cls := "ClearingHouse$House", name := "isOn", desc := "([III)Z" } : Jvm.MethodName) prog_4_method_34_code (4 : Nat) (Option.some Jvm.ClassFile.FieldType.boolean)) ∈ lw_all := lw_g (lw_at lw_m3 44 rfl) rfl
theorem q604 : (Jvm.Cond.classLink "ClearingHouse$House" (95 : Nat) "ClearingHouse$Cycle") ∈ lw_all := lw_g (lw_at lw_m3 45 rfl) rfl
theorem q606 : (Jvm.Cond.methodLink "ClearingHouse$House" (189 : Nat) ({ cls := "ClearingHouse$House", name := "amountOf", desc := "([II)I" } : Jvm.MethodName)) ∈ lw_all := lw_g (lw_at lw_m3 47 rfl) rfl
theorem q607 : (Jvm.Cond.privateMethod ({ cls := "ClearingHouse$House", name := "amountOf", desc := "([II)I" } : Jvm.MethodName)) ∈ lw_tbl := lw_at lw_m3 48 rfl
theorem q608 : (Jvm.Cond.instanceMethod ({ cls := "ClearingHouse$House", name := "amountOf", desc := "([II)I" } : Jvm.MethodName)) ∈ lw_all := lw_g (lw_at lw_m3 49 rfl) rfl
theorem q609 : (Jvm.Cond.code ({ cls := "ClearingHouse$House", name := "amountOf", desc := "([II)I" } : Jvm.MethodName) prog_4_method_33_code (5 : Nat) (Option.some Jvm.ClassFile.FieldType.int)) ∈ lw_all := lw_g (lw_at lw_m3 50 rfl) rfl
theorem q610 : (Jvm.Cond.methodLink "ClearingHouse$House" (193 : Nat) ({ cls := "ClearingHouse$Cycle", name := "<init>", desc := "([III)V" } : Jvm.MethodName)) ∈ lw_all := lw_g (lw_at lw_m3 51 rfl) rfl
theorem q616 : (Jvm.Cond.fieldLinkNest "ClearingHouse$House" (107 : Nat) "ClearingHouse$Cycle" "amount" "I" "ClearingHouse") ∈ lw_tbl := lw_at lw_m3 57 rfl
theorem q623 : (Jvm.Cond.methodLink "ClearingHouse$House" (196 : Nat) ({ cls := "java/util/Optional", name := "of", desc := "(Ljava/lang/Object;)Ljava/util/Optional;" } : Jvm.MethodName)) ∈ lw_all := lw_g (lw_at lw_m3 64 rfl) rfl
theorem q639 : (Jvm.Cond.methodLink "ClearingHouse$House" (200 : Nat) ({ cls := "java/util/Optional", name := "empty", desc := "()Ljava/util/Optional;" } : Jvm.MethodName)) ∈ lw_all := lw_g (lw_at lw_m3 80 rfl) rfl
theorem q644 : (Jvm.Cond.methodLink "ClearingHouse$House" (121 : Nat) ({ cls := "java/util/Optional", name := "isPresent", desc := "()Z" } : Jvm.MethodName)) ∈ lw_all := lw_g (lw_at lw_m3 85 rfl) rfl
theorem q648 : (Jvm.Cond.classLink "ClearingHouse$House" (203 : Nat) "java/util/NoSuchElementException") ∈ lw_all := lw_g (lw_at lw_m3 89 rfl) rfl
theorem q657 : (Jvm.Cond.methodLink "ClearingHouse$House" (205 : Nat) ({ cls := "java/util/NoSuchElementException", name := "<init>", desc := "()V" } : Jvm.MethodName)) ∈ lw_all := lw_g (lw_at lw_m3 98 rfl) rfl
theorem q663 : (Jvm.Cond.methodLink "ClearingHouse$House" (127 : Nat) ({ cls := "java/util/Optional", name := "get", desc := "()Ljava/lang/Object;" } : Jvm.MethodName)) ∈ lw_all := lw_g (lw_at lw_m3 104 rfl) rfl
theorem q681 : (Jvm.Cond.methodLink "ClearingHouse$House" (114 : Nat) ({ cls := "ClearingHouse$House", name := "net", desc := "(LClearingHouse$Cycle;)I" } : Jvm.MethodName)) ∈ lw_all := lw_g (lw_at lw_m3 122 rfl) rfl
theorem q682 : (Jvm.Cond.privateMethod ({ cls := "ClearingHouse$House", name := "net", desc := "(LClearingHouse$Cycle;)I" } : Jvm.MethodName)) ∈ lw_tbl := lw_at lw_m3 123 rfl
theorem q683 : (Jvm.Cond.instanceMethod ({ cls := "ClearingHouse$House", name := "net", desc := "(LClearingHouse$Cycle;)I" } : Jvm.MethodName)) ∈ lw_all := lw_g (lw_at lw_m3 124 rfl) rfl
theorem q684 : (Jvm.Cond.code ({ cls := "ClearingHouse$House", name := "net", desc := "(LClearingHouse$Cycle;)I" } : Jvm.MethodName) prog_4_method_14_code (3 : Nat) (Option.some Jvm.ClassFile.FieldType.int)) ∈ lw_all := lw_g (lw_at lw_m3 125 rfl) rfl
theorem q685 : (Jvm.Cond.methodLink "ClearingHouse$House" (94 : Nat) ({ cls := "ClearingHouse$Cycle", name := "size", desc := "()I" } : Jvm.MethodName)) ∈ lw_all := lw_g (lw_at lw_m3 126 rfl) rfl
theorem q689 : (Jvm.Cond.methodLink "ClearingHouse$House" (100 : Nat) ({ cls := "ClearingHouse$Cycle", name := "party", desc := "(I)I" } : Jvm.MethodName)) ∈ lw_all := lw_g (lw_at lw_m3 130 rfl) rfl
theorem q693 : (Jvm.Cond.methodLink "ClearingHouse$House" (104 : Nat) ({ cls := "ClearingHouse$Cycle", name := "after", desc := "(I)I" } : Jvm.MethodName)) ∈ lw_all := lw_g (lw_at lw_m3 134 rfl) rfl
theorem q701 : (Jvm.Cond.instanceMethod ({ cls := "ClearingHouse$House", name := "netAll", desc := "()I" } : Jvm.MethodName)) ∈ lw_all := lw_g (lw_at lw_m3 142 rfl) rfl
theorem q702 : (Jvm.Cond.selects "ClearingHouse$House" ({ cls := "ClearingHouse$House", name := "netAll", desc := "()I" } : Jvm.MethodName) ({ cls := "ClearingHouse$House", name := "netAll", desc := "()I" } : Jvm.MethodName)) ∈ lw_all := lw_g (lw_at lw_m3 143 rfl) rfl
theorem q703 : (Jvm.Cond.code ({ cls := "ClearingHouse$House", name := "netAll", desc := "()I" } : Jvm.MethodName) prog_4_method_16_code (4 : Nat) (Option.some Jvm.ClassFile.FieldType.int)) ∈ lw_all := lw_g (lw_at lw_m3 144 rfl) rfl
theorem q708 : (Jvm.Cond.instanceMethod ({ cls := "ClearingHouse$House", name := "cascade", desc := "()I" } : Jvm.MethodName)) ∈ lw_all := lw_g (lw_at lw_m3 149 rfl) rfl
theorem q709 : (Jvm.Cond.selects "ClearingHouse$House" ({ cls := "ClearingHouse$House", name := "cascade", desc := "()I" } : Jvm.MethodName) ({ cls := "ClearingHouse$House", name := "cascade", desc := "()I" } : Jvm.MethodName)) ∈ lw_all := lw_g (lw_at lw_m3 150 rfl) rfl
theorem q710 : (Jvm.Cond.code ({ cls := "ClearingHouse$House", name := "cascade", desc := "()I" } : Jvm.MethodName) prog_4_method_24_code (4 : Nat) (Option.some Jvm.ClassFile.FieldType.int)) ∈ lw_all := lw_g (lw_at lw_m3 151 rfl) rfl
theorem q711 : (Jvm.Cond.methodLink "ClearingHouse$House" (169 : Nat) ({ cls := "ClearingHouse$House", name := "weakest", desc := "()I" } : Jvm.MethodName)) ∈ lw_all := lw_g (lw_at lw_m3 152 rfl) rfl
theorem q712 : (Jvm.Cond.privateMethod ({ cls := "ClearingHouse$House", name := "weakest", desc := "()I" } : Jvm.MethodName)) ∈ lw_tbl := lw_at lw_m3 153 rfl
theorem q713 : (Jvm.Cond.instanceMethod ({ cls := "ClearingHouse$House", name := "weakest", desc := "()I" } : Jvm.MethodName)) ∈ lw_all := lw_g (lw_at lw_m3 154 rfl) rfl
theorem q714 : (Jvm.Cond.code ({ cls := "ClearingHouse$House", name := "weakest", desc := "()I" } : Jvm.MethodName) prog_4_method_23_code (4 : Nat) (Option.some Jvm.ClassFile.FieldType.int)) ∈ lw_all := lw_g (lw_at lw_m3 155 rfl) rfl
theorem q719 : (Jvm.Cond.instanceMethod ({ cls := "ClearingHouse$House", name := "call", desc := "()I" } : Jvm.MethodName)) ∈ lw_all := lw_g (lw_at lw_m3 160 rfl) rfl
theorem q720 : (Jvm.Cond.selects "ClearingHouse$House" ({ cls := "ClearingHouse$House", name := "call", desc := "()I" } : Jvm.MethodName) ({ cls := "ClearingHouse$House", name := "call", desc := "()I" } : Jvm.MethodName)) ∈ lw_all := lw_g (lw_at lw_m3 161 rfl) rfl
theorem q721 : (Jvm.Cond.code ({ cls := "ClearingHouse$House", name := "call", desc := "()I" } : Jvm.MethodName) prog_4_method_25_code (5 : Nat) (Option.some Jvm.ClassFile.FieldType.int)) ∈ lw_all := lw_g (lw_at lw_m3 162 rfl) rfl
theorem q794 : (Jvm.Cond.selects "ClearingHouse$House" ({ cls := "java/lang/Object", name := "getClass", desc := "()Ljava/lang/Class;" } : Jvm.MethodName) ({ cls := "java/lang/Object", name := "getClass", desc := "()Ljava/lang/Class;" } : Jvm.MethodName)) ∈ lw_all := lw_g (lw_at lw_m3 235 rfl) rfl
theorem q853 : (Jvm.Cond.instanceMethod ({ cls := "ClearingHouse$House", name := "hasCycle", desc := "()Z" } : Jvm.MethodName)) ∈ lw_all := lw_g (lw_at lw_m4 54 rfl) rfl
theorem q854 : (Jvm.Cond.selects "ClearingHouse$House" ({ cls := "ClearingHouse$House", name := "hasCycle", desc := "()Z" } : Jvm.MethodName) ({ cls := "ClearingHouse$House", name := "hasCycle", desc := "()Z" } : Jvm.MethodName)) ∈ lw_all := lw_g (lw_at lw_m4 55 rfl) rfl
theorem q855 : (Jvm.Cond.code ({ cls := "ClearingHouse$House", name := "hasCycle", desc := "()Z" } : Jvm.MethodName) prog_4_method_39_code (3 : Nat) (Option.some Jvm.ClassFile.FieldType.boolean)) ∈ lw_all := lw_g (lw_at lw_m4 56 rfl) rfl
theorem q856 : (Jvm.Cond.classLink "ClearingHouse$House" (207 : Nat) "ClearingHouse$Mark") ∈ lw_all := lw_g (lw_at lw_m4 57 rfl) rfl
theorem q858 : (Jvm.Cond.fieldLink "ClearingHouse$House" (212 : Nat) "ClearingHouse$Mark" "NEW" "LClearingHouse$Mark;") ∈ lw_all := lw_g (lw_at lw_m4 59 rfl) rfl
theorem q860 : (Jvm.Cond.methodLink "ClearingHouse$House" (215 : Nat) ({ cls := "ClearingHouse$House", name := "comesAgain", desc := "(I[LClearingHouse$Mark;)Z" } : Jvm.MethodName)) ∈ lw_all := lw_g (lw_at lw_m4 61 rfl) rfl
theorem q861 : (Jvm.Cond.privateMethod ({ cls := "ClearingHouse$House", name := "comesAgain", desc := "(I[LClearingHouse$Mark;)Z" } : Jvm.MethodName)) ∈ lw_tbl := lw_at lw_m4 62 rfl
theorem q862 : (Jvm.Cond.instanceMethod ({ cls := "ClearingHouse$House", name := "comesAgain", desc := "(I[LClearingHouse$Mark;)Z" } : Jvm.MethodName)) ∈ lw_all := lw_g (lw_at lw_m4 63 rfl) rfl
theorem q863 : (Jvm.Cond.code ({ cls := "ClearingHouse$House", name := "comesAgain", desc := "(I[LClearingHouse$Mark;)Z" } : Jvm.MethodName) prog_4_method_38_code (5 : Nat) (Option.some Jvm.ClassFile.FieldType.boolean)) ∈ lw_all := lw_g (lw_at lw_m4 64 rfl) rfl
theorem q864 : (Jvm.Cond.fieldLink "ClearingHouse$House" (206 : Nat) "ClearingHouse$Mark" "OPEN" "LClearingHouse$Mark;") ∈ lw_all := lw_g (lw_at lw_m4 65 rfl) rfl
theorem q866 : (Jvm.Cond.fieldLink "ClearingHouse$House" (219 : Nat) "ClearingHouse$Mark" "DONE" "LClearingHouse$Mark;") ∈ lw_all := lw_g (lw_at lw_m4 67 rfl) rfl
theorem q873 : (Jvm.Cond.instanceMethod ({ cls := "ClearingHouse$House", name := "hasCycleByLeavingOut", desc := "()Z" } : Jvm.MethodName)) ∈ lw_all := lw_g (lw_at lw_m4 74 rfl) rfl
theorem q874 : (Jvm.Cond.selects "ClearingHouse$House" ({ cls := "ClearingHouse$House", name := "hasCycleByLeavingOut", desc := "()Z" } : Jvm.MethodName) ({ cls := "ClearingHouse$House", name := "hasCycleByLeavingOut", desc := "()Z" } : Jvm.MethodName)) ∈ lw_all := lw_g (lw_at lw_m4 75 rfl) rfl
theorem q875 : (Jvm.Cond.code ({ cls := "ClearingHouse$House", name := "hasCycleByLeavingOut", desc := "()Z" } : Jvm.MethodName) prog_4_method_41_code (4 : Nat) (Option.some Jvm.ClassFile.FieldType.boolean)) ∈ lw_all := lw_g (lw_at lw_m4 76 rfl) rfl
theorem q876 : (Jvm.Cond.methodLink "ClearingHouse$House" (222 : Nat) ({ cls := "ClearingHouse$House", name := "isOwed", desc := "(II)Z" } : Jvm.MethodName)) ∈ lw_all := lw_g (lw_at lw_m4 77 rfl) rfl
theorem q877 : (Jvm.Cond.privateMethod ({ cls := "ClearingHouse$House", name := "isOwed", desc := "(II)Z" } : Jvm.MethodName)) ∈ lw_tbl := lw_at lw_m4 78 rfl
theorem q878 : (Jvm.Cond.instanceMethod ({ cls := "ClearingHouse$House", name := "isOwed", desc := "(II)Z" } : Jvm.MethodName)) ∈ lw_all := lw_g (lw_at lw_m4 79 rfl) rfl
theorem q879 : (Jvm.Cond.code ({ cls := "ClearingHouse$House", name := "isOwed", desc := "(II)Z" } : Jvm.MethodName) prog_4_method_40_code (4 : Nat) (Option.some Jvm.ClassFile.FieldType.boolean)) ∈ lw_all := lw_g (lw_at lw_m4 80 rfl) rfl
theorem q885 : (Jvm.Cond.instanceMethod ({ cls := "ClearingHouse$House", name := "fewestPayments", desc := "()I" } : Jvm.MethodName)) ∈ lw_all := lw_g (lw_at lw_m4 86 rfl) rfl
theorem q886 : (Jvm.Cond.selects "ClearingHouse$House" ({ cls := "ClearingHouse$House", name := "fewestPayments", desc := "()I" } : Jvm.MethodName) ({ cls := "ClearingHouse$House", name := "fewestPayments", desc := "()I" } : Jvm.MethodName)) ∈ lw_all := lw_g (lw_at lw_m4 87 rfl) rfl
theorem q887 : (Jvm.Cond.code ({ cls := "ClearingHouse$House", name := "fewestPayments", desc := "()I" } : Jvm.MethodName) prog_4_method_44_code (6 : Nat) (Option.some Jvm.ClassFile.FieldType.int)) ∈ lw_all := lw_g (lw_at lw_m4 88 rfl) rfl
theorem q888 : (Jvm.Cond.methodLink "ClearingHouse$House" (225 : Nat) ({ cls := "ClearingHouse$House", name := "positions", desc := "()[I" } : Jvm.MethodName)) ∈ lw_all := lw_g (lw_at lw_m4 89 rfl) rfl
theorem q889 : (Jvm.Cond.privateMethod ({ cls := "ClearingHouse$House", name := "positions", desc := "()[I" } : Jvm.MethodName)) ∈ lw_tbl := lw_at lw_m4 90 rfl
theorem q890 : (Jvm.Cond.instanceMethod ({ cls := "ClearingHouse$House", name := "positions", desc := "()[I" } : Jvm.MethodName)) ∈ lw_all := lw_g (lw_at lw_m4 91 rfl) rfl
theorem q891 : (Jvm.Cond.code ({ cls := "ClearingHouse$House", name := "positions", desc := "()[I" } : Jvm.MethodName) prog_4_method_42_code (5 : Nat) (Option.some (Jvm.ClassFile.FieldType.array Jvm.ClassFile.FieldType.int))) ∈ lw_all := lw_g (lw_at lw_m4 92 rfl) rfl
theorem q892 : (Jvm.Cond.methodLink "ClearingHouse$House" (228 : Nat) ({ cls := "java/lang/Math", name := "max", desc := "(II)I" } : Jvm.MethodName)) ∈ lw_all := lw_g (lw_at lw_m4 93 rfl) rfl
theorem q895 : (Jvm.Cond.methodLink "ClearingHouse$House" (231 : Nat) ({ cls := "ClearingHouse$House", name := "sumOf", desc := "([II)I" } : Jvm.MethodName)) ∈ lw_all := lw_g (lw_at lw_m4 96 rfl) rfl
theorem q896 : (Jvm.Cond.static ({ cls := "ClearingHouse$House", name := "sumOf", desc := "([II)I" } : Jvm.MethodName)) ∈ lw_all := lw_g (lw_at lw_m4 97 rfl) rfl
theorem q897 : (Jvm.Cond.code ({ cls := "ClearingHouse$House", name := "sumOf", desc := "([II)I" } : Jvm.MethodName) prog_4_method_43_code (4 : Nat) (Option.some Jvm.ClassFile.FieldType.int)) ∈ lw_all := lw_g (lw_at lw_m4 98 rfl) rfl
theorem q903 : (Jvm.Cond.instanceMethod ({ cls := "ClearingHouse$House", name := "fewestPaymentsByTrying", desc := "()I" } : Jvm.MethodName)) ∈ lw_all := lw_g (lw_at lw_m4 104 rfl) rfl
theorem q904 : (Jvm.Cond.selects "ClearingHouse$House" ({ cls := "ClearingHouse$House", name := "fewestPaymentsByTrying", desc := "()I" } : Jvm.MethodName) ({ cls := "ClearingHouse$House", name := "fewestPaymentsByTrying", desc := "()I" } : Jvm.MethodName)) ∈ lw_all := lw_g (lw_at lw_m4 105 rfl) rfl
theorem q905 : (Jvm.Cond.code ({ cls := "ClearingHouse$House", name := "fewestPaymentsByTrying", desc := "()I" } : Jvm.MethodName) prog_4_method_46_code (1 : Nat) (Option.some Jvm.ClassFile.FieldType.int)) ∈ lw_all := lw_g (lw_at lw_m4 106 rfl) rfl
theorem q906 : (Jvm.Cond.methodLink "ClearingHouse$House" (234 : Nat) ({ cls := "ClearingHouse$House", name := "fewestFrom", desc := "(I[I)I" } : Jvm.MethodName)) ∈ lw_all := lw_g (lw_at lw_m4 107 rfl) rfl
theorem q907 : (Jvm.Cond.static ({ cls := "ClearingHouse$House", name := "fewestFrom", desc := "(I[I)I" } : Jvm.MethodName)) ∈ lw_all := lw_g (lw_at lw_m4 108 rfl) rfl
theorem q908 : (Jvm.Cond.code ({ cls := "ClearingHouse$House", name := "fewestFrom", desc := "(I[I)I" } : Jvm.MethodName) prog_4_method_45_code (5 : Nat) (Option.some Jvm.ClassFile.FieldType.int)) ∈ lw_all := lw_g (lw_at lw_m4 109 rfl) rfl
theorem q923 : (Jvm.Cond.instanceMethod ({ cls := "ClearingHouse$House", name := "debtTotal", desc := "()I" } : Jvm.MethodName)) ∈ lw_all := lw_g (lw_at lw_m4 124 rfl) rfl
theorem q924 : (Jvm.Cond.selects "ClearingHouse$House" ({ cls := "ClearingHouse$House", name := "debtTotal", desc := "()I" } : Jvm.MethodName) ({ cls := "ClearingHouse$House", name := "debtTotal", desc := "()I" } : Jvm.MethodName)) ∈ lw_all := lw_g (lw_at lw_m4 125 rfl) rfl
theorem q925 : (Jvm.Cond.code ({ cls := "ClearingHouse$House", name := "debtTotal", desc := "()I" } : Jvm.MethodName) prog_4_method_47_code (3 : Nat) (Option.some Jvm.ClassFile.FieldType.int)) ∈ lw_all := lw_g (lw_at lw_m4 126 rfl) rfl
theorem q939 : (Jvm.Cond.instanceMethod ({ cls := "ClearingHouse$House", name := "cashTotal", desc := "()I" } : Jvm.MethodName)) ∈ lw_all := lw_g (lw_at lw_m4 140 rfl) rfl
theorem q940 : (Jvm.Cond.selects "ClearingHouse$House" ({ cls := "ClearingHouse$House", name := "cashTotal", desc := "()I" } : Jvm.MethodName) ({ cls := "ClearingHouse$House", name := "cashTotal", desc := "()I" } : Jvm.MethodName)) ∈ lw_all := lw_g (lw_at lw_m4 141 rfl) rfl
theorem q941 : (Jvm.Cond.code ({ cls := "ClearingHouse$House", name := "cashTotal", desc := "()I" } : Jvm.MethodName) prog_4_method_48_code (3 : Nat) (Option.some Jvm.ClassFile.FieldType.int)) ∈ lw_all := lw_g (lw_at lw_m4 142 rfl) rfl
theorem q959 : (Jvm.Cond.instanceMethod ({ cls := "ClearingHouse$House", name := "debtBits", desc := "()J" } : Jvm.MethodName)) ∈ lw_all := lw_g (lw_at lw_m4 160 rfl) rfl
theorem q960 : (Jvm.Cond.selects "ClearingHouse$House" ({ cls := "ClearingHouse$House", name := "debtBits", desc := "()J" } : Jvm.MethodName) ({ cls := "ClearingHouse$House", name := "debtBits", desc := "()J" } : Jvm.MethodName)) ∈ lw_all := lw_g (lw_at lw_m4 161 rfl) rfl
theorem q961 : (Jvm.Cond.code ({ cls := "ClearingHouse$House", name := "debtBits", desc := "()J" } : Jvm.MethodName) prog_4_method_49_code (5 : Nat) (Option.some Jvm.ClassFile.FieldType.long)) ∈ lw_all := lw_g (lw_at lw_m4 162 rfl) rfl
theorem q967 : (Jvm.Cond.instanceMethod ({ cls := "ClearingHouse$House", name := "isConsistent", desc := "()Z" } : Jvm.MethodName)) ∈ lw_all := lw_g (lw_at lw_m4 168 rfl) rfl
theorem q968 : (Jvm.Cond.selects "ClearingHouse$House" ({ cls := "ClearingHouse$House", name := "isConsistent", desc := "()Z" } : Jvm.MethodName) ({ cls := "ClearingHouse$House", name := "isConsistent", desc := "()Z" } : Jvm.MethodName)) ∈ lw_all := lw_g (lw_at lw_m4 169 rfl) rfl
theorem q969 : (Jvm.Cond.code ({ cls := "ClearingHouse$House", name := "isConsistent", desc := "()Z" } : Jvm.MethodName) prog_4_method_51_code (4 : Nat) (Option.some Jvm.ClassFile.FieldType.boolean)) ∈ lw_all := lw_g (lw_at lw_m4 170 rfl) rfl
theorem q970 : (Jvm.Cond.methodLink "ClearingHouse$House" (241 : Nat) ({ cls := "ClearingHouse$House", name := "debtTotal", desc := "()I" } : Jvm.MethodName)) ∈ lw_all := lw_g (lw_at lw_m4 171 rfl) rfl
theorem q971 : (Jvm.Cond.methodLink "ClearingHouse$House" (244 : Nat) ({ cls := "ClearingHouse$Account", name := "left", desc := "()I" } : Jvm.MethodName)) ∈ lw_all := lw_g (lw_at lw_m4 172 rfl) rfl
theorem q972 : (Jvm.Cond.methodLink "ClearingHouse$House" (247 : Nat) ({ cls := "ClearingHouse$House", name := "hasCycle", desc := "()Z" } : Jvm.MethodName)) ∈ lw_all := lw_g (lw_at lw_m4 173 rfl) rfl
theorem q973 : (Jvm.Cond.methodLink "ClearingHouse$House" (250 : Nat) ({ cls := "ClearingHouse$House", name := "hasCycleByLeavingOut", desc := "()Z" } : Jvm.MethodName)) ∈ lw_all := lw_g (lw_at lw_m4 174 rfl) rfl
theorem q974 : (Jvm.Cond.methodLink "ClearingHouse$House" (253 : Nat) ({ cls := "ClearingHouse$House", name := "fewestPayments", desc := "()I" } : Jvm.MethodName)) ∈ lw_all := lw_g (lw_at lw_m4 175 rfl) rfl
theorem q975 : (Jvm.Cond.methodLink "ClearingHouse$House" (256 : Nat) ({ cls := "ClearingHouse$House", name := "fewestPaymentsByTrying", desc := "()I" } : Jvm.MethodName)) ∈ lw_all := lw_g (lw_at lw_m4 176 rfl) rfl
theorem q976 : (Jvm.Cond.methodLink "ClearingHouse$House" (259 : Nat) ({ cls := "ClearingHouse$House", name := "areSharesSo", desc := "(I)Z" } : Jvm.MethodName)) ∈ lw_all := lw_g (lw_at lw_m4 177 rfl) rfl
theorem q977 : (Jvm.Cond.privateMethod ({ cls := "ClearingHouse$House", name := "areSharesSo", desc := "(I)Z" } : Jvm.MethodName)) ∈ lw_tbl := lw_at lw_m4 178 rfl
theorem q978 : (Jvm.Cond.instanceMethod ({ cls := "ClearingHouse$House", name := "areSharesSo", desc := "(I)Z" } : Jvm.MethodName)) ∈ lw_all := lw_g (lw_at lw_m4 179 rfl) rfl
theorem q979 : (Jvm.Cond.code ({ cls := "ClearingHouse$House", name := "areSharesSo", desc := "(I)Z" } : Jvm.MethodName) prog_4_method_50_code (7 : Nat) (Option.some Jvm.ClassFile.FieldType.boolean)) ∈ lw_all := lw_g (lw_at lw_m4 180 rfl) rfl
theorem q980 : (Jvm.Cond.methodLink "ClearingHouse$House" (238 : Nat) ({ cls := "ClearingHouse$Shares", name := "byCounting", desc := "(I)I" } : Jvm.MethodName)) ∈ lw_all := lw_g (lw_at lw_m4 181 rfl) rfl
theorem q1158 : (Jvm.Cond.instanceMethod ({ cls := "ClearingHouse$House", name := "partyAtRank", desc := "(I)I" } : Jvm.MethodName)) ∈ lw_all := lw_g (lw_at lw_m5 119 rfl) rfl
theorem q1159 : (Jvm.Cond.selects "ClearingHouse$House" ({ cls := "ClearingHouse$House", name := "partyAtRank", desc := "(I)I" } : Jvm.MethodName) ({ cls := "ClearingHouse$House", name := "partyAtRank", desc := "(I)I" } : Jvm.MethodName)) ∈ lw_all := lw_g (lw_at lw_m5 120 rfl) rfl
theorem q1160 : (Jvm.Cond.code ({ cls := "ClearingHouse$House", name := "partyAtRank", desc := "(I)I" } : Jvm.MethodName) prog_4_method_32_code (6 : Nat) (Option.some Jvm.ClassFile.FieldType.int)) ∈ lw_all := lw_g (lw_at lw_m5 121 rfl) rfl
theorem q1161 : (Jvm.Cond.methodLink "ClearingHouse$House" (178 : Nat) ({ cls := "ClearingHouse$House", name := "isRankedBefore", desc := "(II)Z" } : Jvm.MethodName)) ∈ lw_all := lw_g (lw_at lw_m5 122 rfl) rfl
theorem q1162 : (Jvm.Cond.privateMethod ({ cls := "ClearingHouse$House", name := "isRankedBefore", desc := "(II)Z" } : Jvm.MethodName)) ∈ lw_tbl := lw_at lw_m5 123 rfl
theorem q1163 : (Jvm.Cond.instanceMethod ({ cls := "ClearingHouse$House", name := "isRankedBefore", desc := "(II)Z" } : Jvm.MethodName)) ∈ lw_all := lw_g (lw_at lw_m5 124 rfl) rfl
theorem q1164 : (Jvm.Cond.code ({ cls := "ClearingHouse$House", name := "isRankedBefore", desc := "(II)Z" } : Jvm.MethodName) prog_4_method_31_code (4 : Nat) (Option.some Jvm.ClassFile.FieldType.boolean)) ∈ lw_all := lw_g (lw_at lw_m5 125 rfl) rfl
theorem q1813 : (Jvm.Cond.instanceMethod ({ cls := "ClearingHouse$House", name := "describe", desc := "(I)Ljava/lang/String;" } : Jvm.MethodName)) ∈ lw_all := lw_g (lw_at lw_m8 54 rfl) rfl
theorem q1814 : (Jvm.Cond.selects "ClearingHouse$House" ({ cls := "ClearingHouse$House", name := "describe", desc := "(I)Ljava/lang/String;" } : Jvm.MethodName) ({ cls := "ClearingHouse$House", name := "describe", desc := "(I)Ljava/lang/String;" } : Jvm.MethodName)) ∈ lw_all := lw_g (lw_at lw_m8 55 rfl) rfl
theorem q1815 : (Jvm.Cond.code ({ cls := "ClearingHouse$House", name := "describe", desc := "(I)Ljava/lang/String;" } : Jvm.MethodName) prog_4_method_52_code (4 : Nat) (Option.some (Jvm.ClassFile.FieldType.object "java/lang/String"))) ∈ lw_all := lw_g (lw_at lw_m8 56 rfl) rfl
theorem q1816 : (Jvm.Cond.classLink "ClearingHouse$House" (262 : Nat) "java/lang/StringBuilder") ∈ lw_all := lw_g (lw_at lw_m8 57 rfl) rfl
theorem q1817 : (Jvm.Cond.methodLink "ClearingHouse$House" (264 : Nat) ({ cls := "java/lang/StringBuilder", name := "<init>", desc := "()V" } : Jvm.MethodName)) ∈ lw_all := lw_g (lw_at lw_m8 58 rfl) rfl
theorem q1818 : (Jvm.Cond.methodLink "ClearingHouse$House" (265 : Nat) ({ cls := "java/lang/StringBuilder", name := "append", desc := "(I)Ljava/lang/StringBuilder;" } : Jvm.MethodName)) ∈ lw_all := lw_g (lw_at lw_m8 59 rfl) rfl
theorem q1819 : (Jvm.Cond.methodLink "ClearingHouse$House" (269 : Nat) ({ cls := "java/lang/StringBuilder", name := "append", desc := "(C)Ljava/lang/StringBuilder;" } : Jvm.MethodName)) ∈ lw_all := lw_g (lw_at lw_m8 60 rfl) rfl
theorem q1820 : (Jvm.Cond.methodLink "ClearingHouse$House" (272 : Nat) ({ cls := "java/lang/StringBuilder", name := "toString", desc := "()Ljava/lang/String;" } : Jvm.MethodName)) ∈ lw_all := lw_g (lw_at lw_m8 61 rfl) rfl
theorem q2375 : (Jvm.Cond.castable "ClearingHouse$House" "java/lang/Object") ∈ lw_tbl := lw_at lw_m10 136 rfl
theorem in_X2 : ∀ w ∈ wsX20, w ∈ lw_all := lw_in wsX20 [178, 180, 182, 184, 186, 188] (by decide +kernel) (by decide +kernel)
/-! ClearingHouse$Account -/
set_option maxRecDepth 100000
def RX3 : String := "ClearingHouse$Account"
def TX3 : u_T := fun k => match k with
  | 0 => ("ClearingHouse$Account", "made", "I", false)
  | 1 => ("ClearingHouse$Account", "paid", "I", false)
  | 2 => ("ClearingHouse$Account", "netted", "J", false)
  | 3 => ("ClearingHouse$Account", "shared", "I", false)
  | _ => ("ClearingHouse$Account", "writtenOff", "I", false)
def tyX3 : Nat → FieldType := fun k => match k with
  | 0 => .int
  | 1 => .int
  | 2 => .long
  | 3 => .int
  | _ => .int
abbrev wsX30 : List Cond := u_ws RX3 TX3 5
theorem nmX3 : ∀ a, a < 5 → ∀ b, b < 5 → a ≠ b → (TX3 a).2.1 ≠ (TX3 b).2.1 := by decide +kernel
theorem tyX3_ok : ∀ k, k < 5 → parseFieldDescriptor (TX3 k).2.2.1 = some (tyX3 k) := by decide +kernel
abbrev cX3_init : ByteArray := prog_2_method_1_code
def yX3_init : MethodName := ⟨RX3, "<init>", "()V"⟩
theorem dX3_init_0 : decode cX3_init 0 = .ok (.aload_n 0, 1) := by decide +kernel
theorem dX3_init_1 : decode cX3_init 1 = .ok (.invokespecial 1, 3) := by decide +kernel
theorem dX3_init_4 : decode cX3_init 4 = .ok (.return_, 1) := by decide +kernel
theorem q82 : (Jvm.Cond.initialized "ClearingHouse$Account") ∈ lw_all := lw_g (lw_at lw_m1 3 rfl) rfl
theorem q142 : (Jvm.Cond.instantiable "ClearingHouse$Account" (5 : Nat)) ∈ lw_all := lw_g (lw_at lw_m1 63 rfl) rfl
theorem q144 : (Jvm.Cond.instanceMethod ({ cls := "ClearingHouse$Account", name := "<init>", desc := "()V" } : Jvm.MethodName)) ∈ lw_all := lw_g (lw_at lw_m1 65 rfl) rfl
theorem q145 : (Jvm.Cond.code ({ cls := "ClearingHouse$Account", name := "<init>", desc := "()V" } : Jvm.MethodName) prog_2_method_1_code (1 : Nat) (Option.none : Option Jvm.ClassFile.FieldType)) ∈ lw_all := lw_g (lw_at lw_m1 66 rfl) rfl
theorem q146 : (Jvm.Cond.methodLink "ClearingHouse$Account" (1 : Nat) ({ cls := "java/lang/Object", name := "<init>", desc := "()V" } : Jvm.MethodName)) ∈ lw_all := lw_g (lw_at lw_m1 67 rfl) rfl
theorem q147 : (Jvm.Cond.fieldLink "ClearingHouse$Account" (7 : Nat) "ClearingHouse$Account" "made" "I") ∈ lw_all := lw_g (lw_at lw_m1 68 rfl) rfl
theorem q148 : (Jvm.Cond.fieldLink "ClearingHouse$Account" (13 : Nat) "ClearingHouse$Account" "paid" "I") ∈ lw_all := lw_g (lw_at lw_m1 69 rfl) rfl
theorem q149 : (Jvm.Cond.fieldLink "ClearingHouse$Account" (16 : Nat) "ClearingHouse$Account" "netted" "J") ∈ lw_all := lw_g (lw_at lw_m1 70 rfl) rfl
theorem q151 : (Jvm.Cond.fieldLink "ClearingHouse$Account" (20 : Nat) "ClearingHouse$Account" "shared" "I") ∈ lw_all := lw_g (lw_at lw_m1 72 rfl) rfl
theorem q152 : (Jvm.Cond.fieldLink "ClearingHouse$Account" (23 : Nat) "ClearingHouse$Account" "writtenOff" "I") ∈ lw_all := lw_g (lw_at lw_m1 73 rfl) rfl
theorem q154 : (Jvm.Cond.lays "ClearingHouse$Account" "ClearingHouse$Account" "made" "I") ∈ lw_all := lw_g (lw_at lw_m1 75 rfl) rfl
theorem q155 : (Jvm.Cond.soleField "ClearingHouse$Account" "made") ∈ lw_all := lw_g (lw_at lw_m1 76 rfl) rfl
theorem q156 : (Jvm.Cond.lays "ClearingHouse$Account" "ClearingHouse$Account" "paid" "I") ∈ lw_all := lw_g (lw_at lw_m1 77 rfl) rfl
theorem q157 : (Jvm.Cond.soleField "ClearingHouse$Account" "paid") ∈ lw_all := lw_g (lw_at lw_m1 78 rfl) rfl
theorem q158 : (Jvm.Cond.lays "ClearingHouse$Account" "ClearingHouse$Account" "netted" "J") ∈ lw_all := lw_g (lw_at lw_m1 79 rfl) rfl
theorem q159 : (Jvm.Cond.soleField "ClearingHouse$Account" "netted") ∈ lw_all := lw_g (lw_at lw_m1 80 rfl) rfl
theorem q160 : (Jvm.Cond.lays "ClearingHouse$Account" "ClearingHouse$Account" "shared" "I") ∈ lw_all := lw_g (lw_at lw_m1 81 rfl) rfl
theorem q161 : (Jvm.Cond.soleField "ClearingHouse$Account" "shared") ∈ lw_all := lw_g (lw_at lw_m1 82 rfl) rfl
theorem q162 : (Jvm.Cond.lays "ClearingHouse$Account" "ClearingHouse$Account" "writtenOff" "I") ∈ lw_all := lw_g (lw_at lw_m1 83 rfl) rfl
theorem q163 : (Jvm.Cond.soleField "ClearingHouse$Account" "writtenOff") ∈ lw_all := lw_g (lw_at lw_m1 84 rfl) rfl
theorem q164 : (Jvm.Cond.superclass "ClearingHouse$Account" "java/lang/Object") ∈ lw_all := lw_g (lw_at lw_m1 85 rfl) rfl
theorem q293 : (Jvm.Cond.instanceMethod ({ cls := "ClearingHouse$Account", name := "take", desc := "(LClearingHouse$Account;)V" } : Jvm.MethodName)) ∈ lw_all := lw_g (lw_at lw_m1 214 rfl) rfl
theorem q294 : (Jvm.Cond.selects "ClearingHouse$Account" ({ cls := "ClearingHouse$Account", name := "take", desc := "(LClearingHouse$Account;)V" } : Jvm.MethodName) ({ cls := "ClearingHouse$Account", name := "take", desc := "(LClearingHouse$Account;)V" } : Jvm.MethodName)) ∈ lw_all := lw_g (lw_at lw_m1 215 rfl) rfl
theorem q295 : (Jvm.Cond.codeSync ({ cls := "ClearingHouse$Account", name := "take", desc := "(LClearingHouse$Account;)V" } : Jvm.MethodName) prog_2_method_7_code (2 : Nat) (Option.none : Option Jvm.ClassFile.FieldType)) ∈ lw_all := lw_g (lw_at lw_m1 216 rfl) rfl
theorem q439 : (Jvm.Cond.instanceMethod ({ cls := "ClearingHouse$Account", name := "make", desc := "(I)V" } : Jvm.MethodName)) ∈ lw_all := lw_g (lw_at lw_m2 120 rfl) rfl
theorem q440 : (Jvm.Cond.selects "ClearingHouse$Account" ({ cls := "ClearingHouse$Account", name := "make", desc := "(I)V" } : Jvm.MethodName) ({ cls := "ClearingHouse$Account", name := "make", desc := "(I)V" } : Jvm.MethodName)) ∈ lw_all := lw_g (lw_at lw_m2 121 rfl) rfl
theorem q441 : (Jvm.Cond.codeSync ({ cls := "ClearingHouse$Account", name := "make", desc := "(I)V" } : Jvm.MethodName) prog_2_method_2_code (2 : Nat) (Option.none : Option Jvm.ClassFile.FieldType)) ∈ lw_all := lw_g (lw_at lw_m2 122 rfl) rfl
theorem q469 : (Jvm.Cond.instanceMethod ({ cls := "ClearingHouse$Account", name := "pay", desc := "(I)V" } : Jvm.MethodName)) ∈ lw_all := lw_g (lw_at lw_m2 150 rfl) rfl
theorem q470 : (Jvm.Cond.selects "ClearingHouse$Account" ({ cls := "ClearingHouse$Account", name := "pay", desc := "(I)V" } : Jvm.MethodName) ({ cls := "ClearingHouse$Account", name := "pay", desc := "(I)V" } : Jvm.MethodName)) ∈ lw_all := lw_g (lw_at lw_m2 151 rfl) rfl
theorem q471 : (Jvm.Cond.codeSync ({ cls := "ClearingHouse$Account", name := "pay", desc := "(I)V" } : Jvm.MethodName) prog_2_method_3_code (2 : Nat) (Option.none : Option Jvm.ClassFile.FieldType)) ∈ lw_all := lw_g (lw_at lw_m2 152 rfl) rfl
theorem q484 : (Jvm.Cond.instanceMethod ({ cls := "ClearingHouse$Account", name := "net", desc := "(I)V" } : Jvm.MethodName)) ∈ lw_all := lw_g (lw_at lw_m2 165 rfl) rfl
theorem q485 : (Jvm.Cond.selects "ClearingHouse$Account" ({ cls := "ClearingHouse$Account", name := "net", desc := "(I)V" } : Jvm.MethodName) ({ cls := "ClearingHouse$Account", name := "net", desc := "(I)V" } : Jvm.MethodName)) ∈ lw_all := lw_g (lw_at lw_m2 166 rfl) rfl
theorem q486 : (Jvm.Cond.codeSync ({ cls := "ClearingHouse$Account", name := "net", desc := "(I)V" } : Jvm.MethodName) prog_2_method_4_code (2 : Nat) (Option.none : Option Jvm.ClassFile.FieldType)) ∈ lw_all := lw_g (lw_at lw_m2 167 rfl) rfl
theorem q570 : (Jvm.Cond.instanceMethod ({ cls := "ClearingHouse$Account", name := "fail", desc := "(II)V" } : Jvm.MethodName)) ∈ lw_all := lw_g (lw_at lw_m3 11 rfl) rfl
theorem q571 : (Jvm.Cond.selects "ClearingHouse$Account" ({ cls := "ClearingHouse$Account", name := "fail", desc := "(II)V" } : Jvm.MethodName) ({ cls := "ClearingHouse$Account", name := "fail", desc := "(II)V" } : Jvm.MethodName)) ∈ lw_all := lw_g (lw_at lw_m3 12 rfl) rfl
theorem q572 : (Jvm.Cond.codeSync ({ cls := "ClearingHouse$Account", name := "fail", desc := "(II)V" } : Jvm.MethodName) prog_2_method_5_code (3 : Nat) (Option.none : Option Jvm.ClassFile.FieldType)) ∈ lw_all := lw_g (lw_at lw_m3 13 rfl) rfl
theorem q792 : (Jvm.Cond.selects "ClearingHouse$Account" ({ cls := "java/lang/Object", name := "getClass", desc := "()Ljava/lang/Class;" } : Jvm.MethodName) ({ cls := "java/lang/Object", name := "getClass", desc := "()Ljava/lang/Class;" } : Jvm.MethodName)) ∈ lw_all := lw_g (lw_at lw_m3 233 rfl) rfl
theorem q931 : (Jvm.Cond.instanceMethod ({ cls := "ClearingHouse$Account", name := "left", desc := "()I" } : Jvm.MethodName)) ∈ lw_all := lw_g (lw_at lw_m4 132 rfl) rfl
theorem q932 : (Jvm.Cond.selects "ClearingHouse$Account" ({ cls := "ClearingHouse$Account", name := "left", desc := "()I" } : Jvm.MethodName) ({ cls := "ClearingHouse$Account", name := "left", desc := "()I" } : Jvm.MethodName)) ∈ lw_all := lw_g (lw_at lw_m4 133 rfl) rfl
theorem q933 : (Jvm.Cond.codeSync ({ cls := "ClearingHouse$Account", name := "left", desc := "()I" } : Jvm.MethodName) prog_2_method_6_code (1 : Nat) (Option.some Jvm.ClassFile.FieldType.int)) ∈ lw_all := lw_g (lw_at lw_m4 134 rfl) rfl
theorem q2376 : (Jvm.Cond.castable "ClearingHouse$Account" "java/lang/Object") ∈ lw_tbl := lw_at lw_m10 137 rfl
theorem in_X3 : ∀ w ∈ wsX30, w ∈ lw_all := lw_in wsX30 [154, 156, 158, 160, 162] (by decide +kernel) (by decide +kernel)
/-! ClearingHouse$PartyOrder -/
set_option maxRecDepth 100000
def RX5 : String := "ClearingHouse$PartyOrder"
def TX5 : u_T := fun k => match k with
  | 0 => ("ClearingHouse$PartyOrder", "kind", "C", true)
  | 1 => ("ClearingHouse$PartyOrder", "party", "I", true)
  | _ => ("ClearingHouse$PartyOrder", "amount", "I", true)
def tyX5 : Nat → FieldType := fun k => match k with
  | 0 => .char
  | 1 => .int
  | _ => .int
abbrev wsX50 : List Cond := u_ws RX5 TX5 3
theorem nmX5 : ∀ a, a < 3 → ∀ b, b < 3 → a ≠ b → (TX5 a).2.1 ≠ (TX5 b).2.1 := by decide +kernel
theorem tyX5_ok : ∀ k, k < 3 → parseFieldDescriptor (TX5 k).2.2.1 = some (tyX5 k) := by decide +kernel
abbrev cX5_execute : ByteArray := prog_9_method_2_code
def yX5_execute : MethodName := ⟨RX5, "execute", "(LClearingHouse$House;)I"⟩
def dkwX5_execute_3 : List UInt8 := [180, 0, 13, 182, 0, 30, 172]
abbrev dktX5_execute_3 : List UInt8 := dkwX5_execute_3 ++ []
def dkwX5_execute_2 : List UInt8 := [43, 42, 180, 0, 17, 182, 0, 20, 172, 43, 42, 180, 0, 13, 42, 180, 0, 17, 182, 0, 26, 172, 43, 42]
abbrev dktX5_execute_2 : List UInt8 := dkwX5_execute_2 ++ dktX5_execute_3
def dkwX5_execute_1 : List UInt8 := [171, 0, 0, 0, 0, 0, 0, 50, 0, 0, 0, 2, 0, 0, 0, 99, 0, 0, 0, 37, 0, 0, 0, 106, 0, 0, 0, 28]
abbrev dktX5_execute_1 : List UInt8 := dkwX5_execute_1 ++ dktX5_execute_2
def dkwX5_execute_0 : List UInt8 := [42, 180, 0, 7]
abbrev dktX5_execute_0 : List UInt8 := dkwX5_execute_0 ++ dktX5_execute_1
theorem dksX5_execute_0 : cX5_execute.data.toList.drop 0 = dktX5_execute_0 := by decide +kernel
theorem dksX5_execute_1 : cX5_execute.data.toList.drop 4 = dktX5_execute_1 := dk_seg dksX5_execute_0 4 rfl rfl
theorem dksX5_execute_2 : cX5_execute.data.toList.drop 32 = dktX5_execute_2 := dk_seg dksX5_execute_1 28 rfl rfl
theorem dksX5_execute_3 : cX5_execute.data.toList.drop 56 = dktX5_execute_3 := dk_seg dksX5_execute_2 24 rfl rfl
theorem dX5_execute_0 : decode cX5_execute 0 = .ok (.aload_n 0, 1) := dk_42 (dk_at dksX5_execute_0 0 rfl rfl)
theorem dX5_execute_1 : decode cX5_execute 1 = .ok (.getfield 7, 3) := dk_180 0 7 (dk_at dksX5_execute_0 1 rfl rfl)
theorem dX5_execute_4 : decode cX5_execute 4 = .ok (.lookupswitch 50 #[(99, 37), (106, 28)], 28) := by decide +kernel
theorem dX5_execute_32 : decode cX5_execute 32 = .ok (.aload_n 1, 1) := dk_43 (dk_at dksX5_execute_2 0 rfl rfl)
theorem dX5_execute_33 : decode cX5_execute 33 = .ok (.aload_n 0, 1) := dk_42 (dk_at dksX5_execute_2 1 rfl rfl)
theorem dX5_execute_34 : decode cX5_execute 34 = .ok (.getfield 17, 3) := dk_180 0 17 (dk_at dksX5_execute_2 2 rfl rfl)
theorem dX5_execute_37 : decode cX5_execute 37 = .ok (.invokevirtual 20, 3) := dk_182 0 20 (dk_at dksX5_execute_2 5 rfl rfl)
theorem dX5_execute_40 : decode cX5_execute 40 = .ok (.ireturn, 1) := dk_172 (dk_at dksX5_execute_2 8 rfl rfl)
theorem dX5_execute_41 : decode cX5_execute 41 = .ok (.aload_n 1, 1) := dk_43 (dk_at dksX5_execute_2 9 rfl rfl)
theorem dX5_execute_42 : decode cX5_execute 42 = .ok (.aload_n 0, 1) := dk_42 (dk_at dksX5_execute_2 10 rfl rfl)
theorem dX5_execute_43 : decode cX5_execute 43 = .ok (.getfield 13, 3) := dk_180 0 13 (dk_at dksX5_execute_2 11 rfl rfl)
theorem dX5_execute_46 : decode cX5_execute 46 = .ok (.aload_n 0, 1) := dk_42 (dk_at dksX5_execute_2 14 rfl rfl)
theorem dX5_execute_47 : decode cX5_execute 47 = .ok (.getfield 17, 3) := dk_180 0 17 (dk_at dksX5_execute_2 15 rfl rfl)
theorem dX5_execute_50 : decode cX5_execute 50 = .ok (.invokevirtual 26, 3) := dk_182 0 26 (dk_at dksX5_execute_2 18 rfl rfl)
theorem dX5_execute_53 : decode cX5_execute 53 = .ok (.ireturn, 1) := dk_172 (dk_at dksX5_execute_2 21 rfl rfl)
theorem dX5_execute_54 : decode cX5_execute 54 = .ok (.aload_n 1, 1) := dk_43 (dk_at dksX5_execute_2 22 rfl rfl)
theorem dX5_execute_55 : decode cX5_execute 55 = .ok (.aload_n 0, 1) := dk_42 (dk_at dksX5_execute_2 23 rfl rfl)
theorem dX5_execute_56 : decode cX5_execute 56 = .ok (.getfield 13, 3) := dk_180 0 13 (dk_at dksX5_execute_3 0 rfl rfl)
theorem dX5_execute_59 : decode cX5_execute 59 = .ok (.invokevirtual 30, 3) := dk_182 0 30 (dk_at dksX5_execute_3 3 rfl rfl)
theorem dX5_execute_62 : decode cX5_execute 62 = .ok (.ireturn, 1) := dk_172 (dk_at dksX5_execute_3 6 rfl rfl)
abbrev cX5_init : ByteArray := prog_9_method_1_code
def yX5_init : MethodName := ⟨RX5, "<init>", "(CII)V"⟩
def dkwX5_init_0 : List UInt8 := [42, 183, 0, 1, 42, 27, 181, 0, 7, 42, 28, 181, 0, 13, 42, 29, 181, 0, 17, 177]
abbrev dktX5_init_0 : List UInt8 := dkwX5_init_0 ++ []
theorem dksX5_init_0 : cX5_init.data.toList.drop 0 = dktX5_init_0 := by decide +kernel
theorem dX5_init_0 : decode cX5_init 0 = .ok (.aload_n 0, 1) := dk_42 (dk_at dksX5_init_0 0 rfl rfl)
theorem dX5_init_1 : decode cX5_init 1 = .ok (.invokespecial 1, 3) := dk_183 0 1 (dk_at dksX5_init_0 1 rfl rfl)
theorem dX5_init_4 : decode cX5_init 4 = .ok (.aload_n 0, 1) := dk_42 (dk_at dksX5_init_0 4 rfl rfl)
theorem dX5_init_5 : decode cX5_init 5 = .ok (.iload_n 1, 1) := dk_27 (dk_at dksX5_init_0 5 rfl rfl)
theorem dX5_init_6 : decode cX5_init 6 = .ok (.putfield 7, 3) := dk_181 0 7 (dk_at dksX5_init_0 6 rfl rfl)
theorem dX5_init_9 : decode cX5_init 9 = .ok (.aload_n 0, 1) := dk_42 (dk_at dksX5_init_0 9 rfl rfl)
theorem dX5_init_10 : decode cX5_init 10 = .ok (.iload_n 2, 1) := dk_28 (dk_at dksX5_init_0 10 rfl rfl)
theorem dX5_init_11 : decode cX5_init 11 = .ok (.putfield 13, 3) := dk_181 0 13 (dk_at dksX5_init_0 11 rfl rfl)
theorem dX5_init_14 : decode cX5_init 14 = .ok (.aload_n 0, 1) := dk_42 (dk_at dksX5_init_0 14 rfl rfl)
theorem dX5_init_15 : decode cX5_init 15 = .ok (.iload_n 3, 1) := dk_29 (dk_at dksX5_init_0 15 rfl rfl)
theorem dX5_init_16 : decode cX5_init 16 = .ok (.putfield 17, 3) := dk_181 0 17 (dk_at dksX5_init_0 16 rfl rfl)
theorem dX5_init_19 : decode cX5_init 19 = .ok (.return_, 1) := dk_177 (dk_at dksX5_init_0 19 rfl rfl)
theorem q90 : (Jvm.Cond.initialized "ClearingHouse$PartyOrder") ∈ lw_all := lw_g (lw_at lw_m1 11 rfl) rfl
theorem q487 : (Jvm.Cond.castable "ClearingHouse$PartyOrder" "ClearingHouse$Order") ∈ lw_tbl := lw_at lw_m2 168 rfl
theorem q488 : (Jvm.Cond.selects "ClearingHouse$PartyOrder" ({ cls := "ClearingHouse$Order", name := "execute", desc := "(LClearingHouse$House;)I" } : Jvm.MethodName) ({ cls := "ClearingHouse$PartyOrder", name := "execute", desc := "(LClearingHouse$House;)I" } : Jvm.MethodName)) ∈ lw_all := lw_g (lw_at lw_m2 169 rfl) rfl
theorem q489 : (Jvm.Cond.unhidden "ClearingHouse$PartyOrder" "execute" "(LClearingHouse$House;)I") ∈ lw_tbl := lw_at lw_m2 170 rfl
theorem q490 : (Jvm.Cond.instanceMethod ({ cls := "ClearingHouse$PartyOrder", name := "execute", desc := "(LClearingHouse$House;)I" } : Jvm.MethodName)) ∈ lw_all := lw_g (lw_at lw_m2 171 rfl) rfl
theorem q491 : (Jvm.Cond.publicMethod ({ cls := "ClearingHouse$PartyOrder", name := "execute", desc := "(LClearingHouse$House;)I" } : Jvm.MethodName)) ∈ lw_tbl := lw_at lw_m2 172 rfl
theorem q492 : (Jvm.Cond.code ({ cls := "ClearingHouse$PartyOrder", name := "execute", desc := "(LClearingHouse$House;)I" } : Jvm.MethodName) prog_9_method_2_code (2 : Nat) (Option.some Jvm.ClassFile.FieldType.int)) ∈ lw_all := lw_g (lw_at lw_m2 173 rfl) rfl
theorem q493 : (Jvm.Cond.methodLink "ClearingHouse$PartyOrder" (20 : Nat) ({ cls := "ClearingHouse$House", name := "addParty", desc := "(I)I" } : Jvm.MethodName)) ∈ lw_all := lw_g (lw_at lw_m2 174 rfl) rfl
theorem q497 : (Jvm.Cond.methodLink "ClearingHouse$PartyOrder" (26 : Nat) ({ cls := "ClearingHouse$House", name := "deposit", desc := "(II)I" } : Jvm.MethodName)) ∈ lw_all := lw_g (lw_at lw_m2 178 rfl) rfl
theorem q501 : (Jvm.Cond.methodLink "ClearingHouse$PartyOrder" (30 : Nat) ({ cls := "ClearingHouse$House", name := "declareDefault", desc := "(I)I" } : Jvm.MethodName)) ∈ lw_all := lw_g (lw_at lw_m2 182 rfl) rfl
theorem q798 : (Jvm.Cond.selects "ClearingHouse$PartyOrder" ({ cls := "java/lang/Object", name := "getClass", desc := "()Ljava/lang/Class;" } : Jvm.MethodName) ({ cls := "java/lang/Object", name := "getClass", desc := "()Ljava/lang/Class;" } : Jvm.MethodName)) ∈ lw_all := lw_g (lw_at lw_m3 239 rfl) rfl
theorem q998 : (Jvm.Cond.instantiable "ClearingHouse$PartyOrder" (3 : Nat)) ∈ lw_all := lw_g (lw_at lw_m4 199 rfl) rfl
theorem q1000 : (Jvm.Cond.instanceMethod ({ cls := "ClearingHouse$PartyOrder", name := "<init>", desc := "(CII)V" } : Jvm.MethodName)) ∈ lw_all := lw_g (lw_at lw_m4 201 rfl) rfl
theorem q1001 : (Jvm.Cond.code ({ cls := "ClearingHouse$PartyOrder", name := "<init>", desc := "(CII)V" } : Jvm.MethodName) prog_9_method_1_code (4 : Nat) (Option.none : Option Jvm.ClassFile.FieldType)) ∈ lw_all := lw_g (lw_at lw_m4 202 rfl) rfl
theorem q1002 : (Jvm.Cond.methodLink "ClearingHouse$PartyOrder" (1 : Nat) ({ cls := "java/lang/Object", name := "<init>", desc := "()V" } : Jvm.MethodName)) ∈ lw_all := lw_g (lw_at lw_m4 203 rfl) rfl
theorem q1003 : (Jvm.Cond.fieldLink "ClearingHouse$PartyOrder" (7 : Nat) "ClearingHouse$PartyOrder" "kind" "C") ∈ lw_all := lw_g (lw_at lw_m4 204 rfl) rfl
theorem q1004 : (Jvm.Cond.fieldLink "ClearingHouse$PartyOrder" (13 : Nat) "ClearingHouse$PartyOrder" "party" "I") ∈ lw_all := lw_g (lw_at lw_m4 205 rfl) rfl
theorem q1005 : (Jvm.Cond.fieldLink "ClearingHouse$PartyOrder" (17 : Nat) "ClearingHouse$PartyOrder" "amount" "I") ∈ lw_all := lw_g (lw_at lw_m4 206 rfl) rfl
theorem q1006 : (Jvm.Cond.laysFinal "ClearingHouse$PartyOrder" "ClearingHouse$PartyOrder" "kind" "C") ∈ lw_all := lw_g (lw_at lw_m4 207 rfl) rfl
theorem q1007 : (Jvm.Cond.soleField "ClearingHouse$PartyOrder" "kind") ∈ lw_all := lw_g (lw_at lw_m4 208 rfl) rfl
theorem q1008 : (Jvm.Cond.laysFinal "ClearingHouse$PartyOrder" "ClearingHouse$PartyOrder" "party" "I") ∈ lw_all := lw_g (lw_at lw_m4 209 rfl) rfl
theorem q1009 : (Jvm.Cond.soleField "ClearingHouse$PartyOrder" "party") ∈ lw_all := lw_g (lw_at lw_m4 210 rfl) rfl
theorem q1010 : (Jvm.Cond.laysFinal "ClearingHouse$PartyOrder" "ClearingHouse$PartyOrder" "amount" "I") ∈ lw_all := lw_g (lw_at lw_m4 211 rfl) rfl
theorem q1011 : (Jvm.Cond.soleField "ClearingHouse$PartyOrder" "amount") ∈ lw_all := lw_g (lw_at lw_m4 212 rfl) rfl
theorem q1012 : (Jvm.Cond.superclass "ClearingHouse$PartyOrder" "java/lang/Object") ∈ lw_all := lw_g (lw_at lw_m4 213 rfl) rfl
theorem q2380 : (Jvm.Cond.castable "ClearingHouse$PartyOrder" "java/lang/Object") ∈ lw_tbl := lw_at lw_m10 141 rfl
theorem in_X5 : ∀ w ∈ wsX50, w ∈ lw_all := lw_in wsX50 [1006, 1008, 1010] (by decide +kernel) (by decide +kernel)
/-! ClearingHouse$Shares -/
set_option maxRecDepth 100000
def RX6 : String := "ClearingHouse$Shares"
def TX6 : u_T := fun k => match k with
  | 0 => ("ClearingHouse$Shares", "parts", "[I", true)
  | 1 => ("ClearingHouse$Shares", "rests", "[I", true)
  | 2 => ("ClearingHouse$Shares", "isCreditor", "[Z", true)
  | _ => ("ClearingHouse$Shares", "left", "I", false)
def tyX6 : Nat → FieldType := fun k => match k with
  | 0 => .array .int
  | 1 => .array .int
  | 2 => .array .boolean
  | _ => .int
abbrev wsX60 : List Cond := u_ws RX6 TX6 4
theorem nmX6 : ∀ a, a < 4 → ∀ b, b < 4 → a ≠ b → (TX6 a).2.1 ≠ (TX6 b).2.1 := by decide +kernel
theorem tyX6_ok : ∀ k, k < 4 → parseFieldDescriptor (TX6 k).2.2.1 = some (tyX6 k) := by decide +kernel
abbrev cX6_init : ByteArray := prog_10_method_1_code
def yX6_init : MethodName := ⟨RX6, "<init>", "(I[II)V"⟩
def dkwX6_init_4 : List UInt8 := [180, 0, 22, 42, 180, 0, 9, 21, 4, 46, 100, 181, 0, 22, 132, 4, 1, 167, 255, 181, 177]
abbrev dktX6_init_4 : List UInt8 := dkwX6_init_4 ++ []
def dkwX6_init_3 : List UInt8 := [112, 79, 42, 180, 0, 18, 21, 4, 44, 21, 4, 46, 158, 0, 7, 4, 167, 0, 4, 3, 84, 42, 89]
abbrev dktX6_init_3 : List UInt8 := dkwX6_init_3 ++ dktX6_init_4
def dkwX6_init_2 : List UInt8 := [21, 4, 27, 44, 21, 4, 46, 104, 29, 108, 79, 42, 180, 0, 15, 21, 4, 27, 44, 21, 4, 46, 104, 29]
abbrev dktX6_init_2 : List UInt8 := dkwX6_init_2 ++ dktX6_init_3
def dkwX6_init_1 : List UInt8 := [188, 4, 181, 0, 18, 42, 27, 181, 0, 22, 3, 54, 4, 21, 4, 44, 190, 162, 0, 74, 42, 180, 0, 9]
abbrev dktX6_init_1 : List UInt8 := dkwX6_init_1 ++ dktX6_init_2
def dkwX6_init_0 : List UInt8 := [42, 183, 0, 3, 42, 44, 190, 188, 10, 181, 0, 9, 42, 44, 190, 188, 10, 181, 0, 15, 42, 44, 190]
abbrev dktX6_init_0 : List UInt8 := dkwX6_init_0 ++ dktX6_init_1
theorem dksX6_init_0 : cX6_init.data.toList.drop 0 = dktX6_init_0 := by decide +kernel
theorem dksX6_init_1 : cX6_init.data.toList.drop 23 = dktX6_init_1 := dk_seg dksX6_init_0 23 rfl rfl
theorem dksX6_init_2 : cX6_init.data.toList.drop 47 = dktX6_init_2 := dk_seg dksX6_init_1 24 rfl rfl
theorem dksX6_init_3 : cX6_init.data.toList.drop 71 = dktX6_init_3 := dk_seg dksX6_init_2 24 rfl rfl
theorem dksX6_init_4 : cX6_init.data.toList.drop 94 = dktX6_init_4 := dk_seg dksX6_init_3 23 rfl rfl
theorem dX6_init_0 : decode cX6_init 0 = .ok (.aload_n 0, 1) := dk_42 (dk_at dksX6_init_0 0 rfl rfl)
theorem dX6_init_1 : decode cX6_init 1 = .ok (.invokespecial 3, 3) := dk_183 0 3 (dk_at dksX6_init_0 1 rfl rfl)
theorem dX6_init_4 : decode cX6_init 4 = .ok (.aload_n 0, 1) := dk_42 (dk_at dksX6_init_0 4 rfl rfl)
theorem dX6_init_5 : decode cX6_init 5 = .ok (.aload_n 2, 1) := dk_44 (dk_at dksX6_init_0 5 rfl rfl)
theorem dX6_init_6 : decode cX6_init 6 = .ok (.arraylength, 1) := dk_190 (dk_at dksX6_init_0 6 rfl rfl)
theorem dX6_init_7 : decode cX6_init 7 = .ok (.newarray .int, 2) := dk_188_10 (dk_at dksX6_init_0 7 rfl rfl)
theorem dX6_init_9 : decode cX6_init 9 = .ok (.putfield 9, 3) := dk_181 0 9 (dk_at dksX6_init_0 9 rfl rfl)
theorem dX6_init_12 : decode cX6_init 12 = .ok (.aload_n 0, 1) := dk_42 (dk_at dksX6_init_0 12 rfl rfl)
theorem dX6_init_13 : decode cX6_init 13 = .ok (.aload_n 2, 1) := dk_44 (dk_at dksX6_init_0 13 rfl rfl)
theorem dX6_init_14 : decode cX6_init 14 = .ok (.arraylength, 1) := dk_190 (dk_at dksX6_init_0 14 rfl rfl)
theorem dX6_init_15 : decode cX6_init 15 = .ok (.newarray .int, 2) := dk_188_10 (dk_at dksX6_init_0 15 rfl rfl)
theorem dX6_init_17 : decode cX6_init 17 = .ok (.putfield 15, 3) := dk_181 0 15 (dk_at dksX6_init_0 17 rfl rfl)
theorem dX6_init_20 : decode cX6_init 20 = .ok (.aload_n 0, 1) := dk_42 (dk_at dksX6_init_0 20 rfl rfl)
theorem dX6_init_21 : decode cX6_init 21 = .ok (.aload_n 2, 1) := dk_44 (dk_at dksX6_init_0 21 rfl rfl)
theorem dX6_init_22 : decode cX6_init 22 = .ok (.arraylength, 1) := dk_190 (dk_at dksX6_init_0 22 rfl rfl)
theorem dX6_init_23 : decode cX6_init 23 = .ok (.newarray .boolean, 2) := dk_188_4 (dk_at dksX6_init_1 0 rfl rfl)
theorem dX6_init_25 : decode cX6_init 25 = .ok (.putfield 18, 3) := dk_181 0 18 (dk_at dksX6_init_1 2 rfl rfl)
theorem dX6_init_28 : decode cX6_init 28 = .ok (.aload_n 0, 1) := dk_42 (dk_at dksX6_init_1 5 rfl rfl)
theorem dX6_init_29 : decode cX6_init 29 = .ok (.iload_n 1, 1) := dk_27 (dk_at dksX6_init_1 6 rfl rfl)
theorem dX6_init_30 : decode cX6_init 30 = .ok (.putfield 22, 3) := dk_181 0 22 (dk_at dksX6_init_1 7 rfl rfl)
theorem dX6_init_33 : decode cX6_init 33 = .ok (.iconst 0, 1) := dk_3 (dk_at dksX6_init_1 10 rfl rfl)
theorem dX6_init_34 : decode cX6_init 34 = .ok (.istore 4, 2) := dk_54 4 (dk_at dksX6_init_1 11 rfl rfl)
theorem dX6_init_36 : decode cX6_init 36 = .ok (.iload 4, 2) := dk_21 4 (dk_at dksX6_init_1 13 rfl rfl)
theorem dX6_init_38 : decode cX6_init 38 = .ok (.aload_n 2, 1) := dk_44 (dk_at dksX6_init_1 15 rfl rfl)
theorem dX6_init_39 : decode cX6_init 39 = .ok (.arraylength, 1) := dk_190 (dk_at dksX6_init_1 16 rfl rfl)
theorem dX6_init_40 : decode cX6_init 40 = .ok (.if_icmp .ge 74, 3) := dk_162 0 74 (dk_at dksX6_init_1 17 rfl rfl)
theorem dX6_init_43 : decode cX6_init 43 = .ok (.aload_n 0, 1) := dk_42 (dk_at dksX6_init_1 20 rfl rfl)
theorem dX6_init_44 : decode cX6_init 44 = .ok (.getfield 9, 3) := dk_180 0 9 (dk_at dksX6_init_1 21 rfl rfl)
theorem dX6_init_47 : decode cX6_init 47 = .ok (.iload 4, 2) := dk_21 4 (dk_at dksX6_init_2 0 rfl rfl)
theorem dX6_init_49 : decode cX6_init 49 = .ok (.iload_n 1, 1) := dk_27 (dk_at dksX6_init_2 2 rfl rfl)
theorem dX6_init_50 : decode cX6_init 50 = .ok (.aload_n 2, 1) := dk_44 (dk_at dksX6_init_2 3 rfl rfl)
theorem dX6_init_51 : decode cX6_init 51 = .ok (.iload 4, 2) := dk_21 4 (dk_at dksX6_init_2 4 rfl rfl)
theorem dX6_init_53 : decode cX6_init 53 = .ok (.iaload, 1) := dk_46 (dk_at dksX6_init_2 6 rfl rfl)
theorem dX6_init_54 : decode cX6_init 54 = .ok (.imul, 1) := dk_104 (dk_at dksX6_init_2 7 rfl rfl)
theorem dX6_init_55 : decode cX6_init 55 = .ok (.iload_n 3, 1) := dk_29 (dk_at dksX6_init_2 8 rfl rfl)
theorem dX6_init_56 : decode cX6_init 56 = .ok (.idiv, 1) := dk_108 (dk_at dksX6_init_2 9 rfl rfl)
theorem dX6_init_57 : decode cX6_init 57 = .ok (.iastore, 1) := dk_79 (dk_at dksX6_init_2 10 rfl rfl)
theorem dX6_init_58 : decode cX6_init 58 = .ok (.aload_n 0, 1) := dk_42 (dk_at dksX6_init_2 11 rfl rfl)
theorem dX6_init_59 : decode cX6_init 59 = .ok (.getfield 15, 3) := dk_180 0 15 (dk_at dksX6_init_2 12 rfl rfl)
theorem dX6_init_62 : decode cX6_init 62 = .ok (.iload 4, 2) := dk_21 4 (dk_at dksX6_init_2 15 rfl rfl)
theorem dX6_init_64 : decode cX6_init 64 = .ok (.iload_n 1, 1) := dk_27 (dk_at dksX6_init_2 17 rfl rfl)
theorem dX6_init_65 : decode cX6_init 65 = .ok (.aload_n 2, 1) := dk_44 (dk_at dksX6_init_2 18 rfl rfl)
theorem dX6_init_66 : decode cX6_init 66 = .ok (.iload 4, 2) := dk_21 4 (dk_at dksX6_init_2 19 rfl rfl)
theorem dX6_init_68 : decode cX6_init 68 = .ok (.iaload, 1) := dk_46 (dk_at dksX6_init_2 21 rfl rfl)
theorem dX6_init_69 : decode cX6_init 69 = .ok (.imul, 1) := dk_104 (dk_at dksX6_init_2 22 rfl rfl)
theorem dX6_init_70 : decode cX6_init 70 = .ok (.iload_n 3, 1) := dk_29 (dk_at dksX6_init_2 23 rfl rfl)
theorem dX6_init_71 : decode cX6_init 71 = .ok (.irem, 1) := dk_112 (dk_at dksX6_init_3 0 rfl rfl)
theorem dX6_init_72 : decode cX6_init 72 = .ok (.iastore, 1) := dk_79 (dk_at dksX6_init_3 1 rfl rfl)
theorem dX6_init_73 : decode cX6_init 73 = .ok (.aload_n 0, 1) := dk_42 (dk_at dksX6_init_3 2 rfl rfl)
theorem dX6_init_74 : decode cX6_init 74 = .ok (.getfield 18, 3) := dk_180 0 18 (dk_at dksX6_init_3 3 rfl rfl)
theorem dX6_init_77 : decode cX6_init 77 = .ok (.iload 4, 2) := dk_21 4 (dk_at dksX6_init_3 6 rfl rfl)
theorem dX6_init_79 : decode cX6_init 79 = .ok (.aload_n 2, 1) := dk_44 (dk_at dksX6_init_3 8 rfl rfl)
theorem dX6_init_80 : decode cX6_init 80 = .ok (.iload 4, 2) := dk_21 4 (dk_at dksX6_init_3 9 rfl rfl)
theorem dX6_init_82 : decode cX6_init 82 = .ok (.iaload, 1) := dk_46 (dk_at dksX6_init_3 11 rfl rfl)
theorem dX6_init_83 : decode cX6_init 83 = .ok (.ifCond .le 7, 3) := dk_158 0 7 (dk_at dksX6_init_3 12 rfl rfl)
theorem dX6_init_86 : decode cX6_init 86 = .ok (.iconst 1, 1) := dk_4 (dk_at dksX6_init_3 15 rfl rfl)
theorem dX6_init_87 : decode cX6_init 87 = .ok (.goto 4, 3) := dk_167 0 4 (dk_at dksX6_init_3 16 rfl rfl)
theorem dX6_init_90 : decode cX6_init 90 = .ok (.iconst 0, 1) := dk_3 (dk_at dksX6_init_3 19 rfl rfl)
theorem dX6_init_91 : decode cX6_init 91 = .ok (.bastore, 1) := dk_84 (dk_at dksX6_init_3 20 rfl rfl)
theorem dX6_init_92 : decode cX6_init 92 = .ok (.aload_n 0, 1) := dk_42 (dk_at dksX6_init_3 21 rfl rfl)
theorem dX6_init_93 : decode cX6_init 93 = .ok (.dup, 1) := dk_89 (dk_at dksX6_init_3 22 rfl rfl)
theorem dX6_init_94 : decode cX6_init 94 = .ok (.getfield 22, 3) := dk_180 0 22 (dk_at dksX6_init_4 0 rfl rfl)
theorem dX6_init_97 : decode cX6_init 97 = .ok (.aload_n 0, 1) := dk_42 (dk_at dksX6_init_4 3 rfl rfl)
theorem dX6_init_98 : decode cX6_init 98 = .ok (.getfield 9, 3) := dk_180 0 9 (dk_at dksX6_init_4 4 rfl rfl)
theorem dX6_init_101 : decode cX6_init 101 = .ok (.iload 4, 2) := dk_21 4 (dk_at dksX6_init_4 7 rfl rfl)
theorem dX6_init_103 : decode cX6_init 103 = .ok (.iaload, 1) := dk_46 (dk_at dksX6_init_4 9 rfl rfl)
theorem dX6_init_104 : decode cX6_init 104 = .ok (.isub, 1) := dk_100 (dk_at dksX6_init_4 10 rfl rfl)
theorem dX6_init_105 : decode cX6_init 105 = .ok (.putfield 22, 3) := dk_181 0 22 (dk_at dksX6_init_4 11 rfl rfl)
theorem dX6_init_108 : decode cX6_init 108 = .ok (.iinc 4 1, 3) := dk_132 4 1 (dk_at dksX6_init_4 14 rfl rfl)
theorem dX6_init_111 : decode cX6_init 111 = .ok (.goto (-75), 3) := dk_167 255 181 (dk_at dksX6_init_4 17 rfl rfl)
theorem dX6_init_114 : decode cX6_init 114 = .ok (.return_, 1) := dk_177 (dk_at dksX6_init_4 20 rfl rfl)
abbrev cX6_give : ByteArray := prog_10_method_2_code
def yX6_give : MethodName := ⟨RX6, "give", "()[I"⟩
def dkwX6_give_6 : List UInt8 := [46, 44, 29, 51, 153, 0, 7, 4, 167, 0, 4, 3, 96, 79, 132, 3, 1, 167, 255, 223, 43, 176]
abbrev dktX6_give_6 : List UInt8 := dkwX6_give_6 ++ []
def dkwX6_give_5 : List UInt8 := [132, 3, 1, 167, 255, 157, 3, 62, 29, 42, 180, 0, 9, 190, 162, 0, 30, 43, 29, 42, 180, 0, 9, 29]
abbrev dktX6_give_5 : List UInt8 := dkwX6_give_5 ++ dktX6_give_6
def dkwX6_give_4 : List UInt8 := [153, 0, 8, 21, 5, 167, 0, 5, 21, 4, 54, 4, 132, 5, 1, 167, 255, 182, 44, 21, 4, 4, 84]
abbrev dktX6_give_4 : List UInt8 := dkwX6_give_4 ++ dktX6_give_5
def dkwX6_give_3 : List UInt8 := [3, 54, 6, 42, 180, 0, 18, 21, 5, 51, 153, 0, 20, 44, 21, 5, 51, 154, 0, 13, 21, 6]
abbrev dktX6_give_3 : List UInt8 := dkwX6_give_3 ++ dktX6_give_4
def dkwX6_give_2 : List UInt8 := [159, 0, 20, 42, 180, 0, 15, 21, 5, 46, 42, 180, 0, 15, 21, 4, 46, 164, 0, 7, 4, 167, 0, 4]
abbrev dktX6_give_2 : List UInt8 := dkwX6_give_2 ++ dktX6_give_3
def dkwX6_give_1 : List UInt8 := [162, 0, 97, 2, 54, 4, 3, 54, 5, 21, 5, 42, 180, 0, 9, 190, 162, 0, 70, 21, 4, 2]
abbrev dktX6_give_1 : List UInt8 := dkwX6_give_1 ++ dktX6_give_2
def dkwX6_give_0 : List UInt8 := [42, 180, 0, 9, 190, 188, 10, 76, 42, 180, 0, 9, 190, 188, 4, 77, 3, 62, 29, 42, 180, 0, 22]
abbrev dktX6_give_0 : List UInt8 := dkwX6_give_0 ++ dktX6_give_1
theorem dksX6_give_0 : cX6_give.data.toList.drop 0 = dktX6_give_0 := by decide +kernel
theorem dksX6_give_1 : cX6_give.data.toList.drop 23 = dktX6_give_1 := dk_seg dksX6_give_0 23 rfl rfl
theorem dksX6_give_2 : cX6_give.data.toList.drop 45 = dktX6_give_2 := dk_seg dksX6_give_1 22 rfl rfl
theorem dksX6_give_3 : cX6_give.data.toList.drop 69 = dktX6_give_3 := dk_seg dksX6_give_2 24 rfl rfl
theorem dksX6_give_4 : cX6_give.data.toList.drop 91 = dktX6_give_4 := dk_seg dksX6_give_3 22 rfl rfl
theorem dksX6_give_5 : cX6_give.data.toList.drop 114 = dktX6_give_5 := dk_seg dksX6_give_4 23 rfl rfl
theorem dksX6_give_6 : cX6_give.data.toList.drop 138 = dktX6_give_6 := dk_seg dksX6_give_5 24 rfl rfl
theorem dX6_give_0 : decode cX6_give 0 = .ok (.aload_n 0, 1) := dk_42 (dk_at dksX6_give_0 0 rfl rfl)
theorem dX6_give_1 : decode cX6_give 1 = .ok (.getfield 9, 3) := dk_180 0 9 (dk_at dksX6_give_0 1 rfl rfl)
theorem dX6_give_4 : decode cX6_give 4 = .ok (.arraylength, 1) := dk_190 (dk_at dksX6_give_0 4 rfl rfl)
theorem dX6_give_5 : decode cX6_give 5 = .ok (.newarray .int, 2) := dk_188_10 (dk_at dksX6_give_0 5 rfl rfl)
theorem dX6_give_7 : decode cX6_give 7 = .ok (.astore_n 1, 1) := dk_76 (dk_at dksX6_give_0 7 rfl rfl)
theorem dX6_give_8 : decode cX6_give 8 = .ok (.aload_n 0, 1) := dk_42 (dk_at dksX6_give_0 8 rfl rfl)
theorem dX6_give_9 : decode cX6_give 9 = .ok (.getfield 9, 3) := dk_180 0 9 (dk_at dksX6_give_0 9 rfl rfl)
theorem dX6_give_12 : decode cX6_give 12 = .ok (.arraylength, 1) := dk_190 (dk_at dksX6_give_0 12 rfl rfl)
theorem dX6_give_13 : decode cX6_give 13 = .ok (.newarray .boolean, 2) := dk_188_4 (dk_at dksX6_give_0 13 rfl rfl)
theorem dX6_give_15 : decode cX6_give 15 = .ok (.astore_n 2, 1) := dk_77 (dk_at dksX6_give_0 15 rfl rfl)
theorem dX6_give_16 : decode cX6_give 16 = .ok (.iconst 0, 1) := dk_3 (dk_at dksX6_give_0 16 rfl rfl)
theorem dX6_give_17 : decode cX6_give 17 = .ok (.istore_n 3, 1) := dk_62 (dk_at dksX6_give_0 17 rfl rfl)
theorem dX6_give_18 : decode cX6_give 18 = .ok (.iload_n 3, 1) := dk_29 (dk_at dksX6_give_0 18 rfl rfl)
theorem dX6_give_19 : decode cX6_give 19 = .ok (.aload_n 0, 1) := dk_42 (dk_at dksX6_give_0 19 rfl rfl)
theorem dX6_give_20 : decode cX6_give 20 = .ok (.getfield 22, 3) := dk_180 0 22 (dk_at dksX6_give_0 20 rfl rfl)
theorem dX6_give_23 : decode cX6_give 23 = .ok (.if_icmp .ge 97, 3) := dk_162 0 97 (dk_at dksX6_give_1 0 rfl rfl)
theorem dX6_give_26 : decode cX6_give 26 = .ok (.iconst (-1), 1) := dk_2 (dk_at dksX6_give_1 3 rfl rfl)
theorem dX6_give_27 : decode cX6_give 27 = .ok (.istore 4, 2) := dk_54 4 (dk_at dksX6_give_1 4 rfl rfl)
theorem dX6_give_29 : decode cX6_give 29 = .ok (.iconst 0, 1) := dk_3 (dk_at dksX6_give_1 6 rfl rfl)
theorem dX6_give_30 : decode cX6_give 30 = .ok (.istore 5, 2) := dk_54 5 (dk_at dksX6_give_1 7 rfl rfl)
theorem dX6_give_32 : decode cX6_give 32 = .ok (.iload 5, 2) := dk_21 5 (dk_at dksX6_give_1 9 rfl rfl)
theorem dX6_give_34 : decode cX6_give 34 = .ok (.aload_n 0, 1) := dk_42 (dk_at dksX6_give_1 11 rfl rfl)
theorem dX6_give_35 : decode cX6_give 35 = .ok (.getfield 9, 3) := dk_180 0 9 (dk_at dksX6_give_1 12 rfl rfl)
theorem dX6_give_38 : decode cX6_give 38 = .ok (.arraylength, 1) := dk_190 (dk_at dksX6_give_1 15 rfl rfl)
theorem dX6_give_39 : decode cX6_give 39 = .ok (.if_icmp .ge 70, 3) := dk_162 0 70 (dk_at dksX6_give_1 16 rfl rfl)
theorem dX6_give_42 : decode cX6_give 42 = .ok (.iload 4, 2) := dk_21 4 (dk_at dksX6_give_1 19 rfl rfl)
theorem dX6_give_44 : decode cX6_give 44 = .ok (.iconst (-1), 1) := dk_2 (dk_at dksX6_give_1 21 rfl rfl)
theorem dX6_give_45 : decode cX6_give 45 = .ok (.if_icmp .eq 20, 3) := dk_159 0 20 (dk_at dksX6_give_2 0 rfl rfl)
theorem dX6_give_48 : decode cX6_give 48 = .ok (.aload_n 0, 1) := dk_42 (dk_at dksX6_give_2 3 rfl rfl)
theorem dX6_give_49 : decode cX6_give 49 = .ok (.getfield 15, 3) := dk_180 0 15 (dk_at dksX6_give_2 4 rfl rfl)
theorem dX6_give_52 : decode cX6_give 52 = .ok (.iload 5, 2) := dk_21 5 (dk_at dksX6_give_2 7 rfl rfl)
theorem dX6_give_54 : decode cX6_give 54 = .ok (.iaload, 1) := dk_46 (dk_at dksX6_give_2 9 rfl rfl)
theorem dX6_give_55 : decode cX6_give 55 = .ok (.aload_n 0, 1) := dk_42 (dk_at dksX6_give_2 10 rfl rfl)
theorem dX6_give_56 : decode cX6_give 56 = .ok (.getfield 15, 3) := dk_180 0 15 (dk_at dksX6_give_2 11 rfl rfl)
theorem dX6_give_59 : decode cX6_give 59 = .ok (.iload 4, 2) := dk_21 4 (dk_at dksX6_give_2 14 rfl rfl)
theorem dX6_give_61 : decode cX6_give 61 = .ok (.iaload, 1) := dk_46 (dk_at dksX6_give_2 16 rfl rfl)
theorem dX6_give_62 : decode cX6_give 62 = .ok (.if_icmp .le 7, 3) := dk_164 0 7 (dk_at dksX6_give_2 17 rfl rfl)
theorem dX6_give_65 : decode cX6_give 65 = .ok (.iconst 1, 1) := dk_4 (dk_at dksX6_give_2 20 rfl rfl)
theorem dX6_give_66 : decode cX6_give 66 = .ok (.goto 4, 3) := dk_167 0 4 (dk_at dksX6_give_2 21 rfl rfl)
theorem dX6_give_69 : decode cX6_give 69 = .ok (.iconst 0, 1) := dk_3 (dk_at dksX6_give_3 0 rfl rfl)
theorem dX6_give_70 : decode cX6_give 70 = .ok (.istore 6, 2) := dk_54 6 (dk_at dksX6_give_3 1 rfl rfl)
theorem dX6_give_72 : decode cX6_give 72 = .ok (.aload_n 0, 1) := dk_42 (dk_at dksX6_give_3 3 rfl rfl)
theorem dX6_give_73 : decode cX6_give 73 = .ok (.getfield 18, 3) := dk_180 0 18 (dk_at dksX6_give_3 4 rfl rfl)
theorem dX6_give_76 : decode cX6_give 76 = .ok (.iload 5, 2) := dk_21 5 (dk_at dksX6_give_3 7 rfl rfl)
theorem dX6_give_78 : decode cX6_give 78 = .ok (.baload, 1) := dk_51 (dk_at dksX6_give_3 9 rfl rfl)
theorem dX6_give_79 : decode cX6_give 79 = .ok (.ifCond .eq 20, 3) := dk_153 0 20 (dk_at dksX6_give_3 10 rfl rfl)
theorem dX6_give_82 : decode cX6_give 82 = .ok (.aload_n 2, 1) := dk_44 (dk_at dksX6_give_3 13 rfl rfl)
theorem dX6_give_83 : decode cX6_give 83 = .ok (.iload 5, 2) := dk_21 5 (dk_at dksX6_give_3 14 rfl rfl)
theorem dX6_give_85 : decode cX6_give 85 = .ok (.baload, 1) := dk_51 (dk_at dksX6_give_3 16 rfl rfl)
theorem dX6_give_86 : decode cX6_give 86 = .ok (.ifCond .ne 13, 3) := dk_154 0 13 (dk_at dksX6_give_3 17 rfl rfl)
theorem dX6_give_89 : decode cX6_give 89 = .ok (.iload 6, 2) := dk_21 6 (dk_at dksX6_give_3 20 rfl rfl)
theorem dX6_give_91 : decode cX6_give 91 = .ok (.ifCond .eq 8, 3) := dk_153 0 8 (dk_at dksX6_give_4 0 rfl rfl)
theorem dX6_give_94 : decode cX6_give 94 = .ok (.iload 5, 2) := dk_21 5 (dk_at dksX6_give_4 3 rfl rfl)
theorem dX6_give_96 : decode cX6_give 96 = .ok (.goto 5, 3) := dk_167 0 5 (dk_at dksX6_give_4 5 rfl rfl)
theorem dX6_give_99 : decode cX6_give 99 = .ok (.iload 4, 2) := dk_21 4 (dk_at dksX6_give_4 8 rfl rfl)
theorem dX6_give_101 : decode cX6_give 101 = .ok (.istore 4, 2) := dk_54 4 (dk_at dksX6_give_4 10 rfl rfl)
theorem dX6_give_103 : decode cX6_give 103 = .ok (.iinc 5 1, 3) := dk_132 5 1 (dk_at dksX6_give_4 12 rfl rfl)
theorem dX6_give_106 : decode cX6_give 106 = .ok (.goto (-74), 3) := dk_167 255 182 (dk_at dksX6_give_4 15 rfl rfl)
theorem dX6_give_109 : decode cX6_give 109 = .ok (.aload_n 2, 1) := dk_44 (dk_at dksX6_give_4 18 rfl rfl)
theorem dX6_give_110 : decode cX6_give 110 = .ok (.iload 4, 2) := dk_21 4 (dk_at dksX6_give_4 19 rfl rfl)
theorem dX6_give_112 : decode cX6_give 112 = .ok (.iconst 1, 1) := dk_4 (dk_at dksX6_give_4 21 rfl rfl)
theorem dX6_give_113 : decode cX6_give 113 = .ok (.bastore, 1) := dk_84 (dk_at dksX6_give_4 22 rfl rfl)
theorem dX6_give_114 : decode cX6_give 114 = .ok (.iinc 3 1, 3) := dk_132 3 1 (dk_at dksX6_give_5 0 rfl rfl)
theorem dX6_give_117 : decode cX6_give 117 = .ok (.goto (-99), 3) := dk_167 255 157 (dk_at dksX6_give_5 3 rfl rfl)
theorem dX6_give_120 : decode cX6_give 120 = .ok (.iconst 0, 1) := dk_3 (dk_at dksX6_give_5 6 rfl rfl)
theorem dX6_give_121 : decode cX6_give 121 = .ok (.istore_n 3, 1) := dk_62 (dk_at dksX6_give_5 7 rfl rfl)
theorem dX6_give_122 : decode cX6_give 122 = .ok (.iload_n 3, 1) := dk_29 (dk_at dksX6_give_5 8 rfl rfl)
theorem dX6_give_123 : decode cX6_give 123 = .ok (.aload_n 0, 1) := dk_42 (dk_at dksX6_give_5 9 rfl rfl)
theorem dX6_give_124 : decode cX6_give 124 = .ok (.getfield 9, 3) := dk_180 0 9 (dk_at dksX6_give_5 10 rfl rfl)
theorem dX6_give_127 : decode cX6_give 127 = .ok (.arraylength, 1) := dk_190 (dk_at dksX6_give_5 13 rfl rfl)
theorem dX6_give_128 : decode cX6_give 128 = .ok (.if_icmp .ge 30, 3) := dk_162 0 30 (dk_at dksX6_give_5 14 rfl rfl)
theorem dX6_give_131 : decode cX6_give 131 = .ok (.aload_n 1, 1) := dk_43 (dk_at dksX6_give_5 17 rfl rfl)
theorem dX6_give_132 : decode cX6_give 132 = .ok (.iload_n 3, 1) := dk_29 (dk_at dksX6_give_5 18 rfl rfl)
theorem dX6_give_133 : decode cX6_give 133 = .ok (.aload_n 0, 1) := dk_42 (dk_at dksX6_give_5 19 rfl rfl)
theorem dX6_give_134 : decode cX6_give 134 = .ok (.getfield 9, 3) := dk_180 0 9 (dk_at dksX6_give_5 20 rfl rfl)
theorem dX6_give_137 : decode cX6_give 137 = .ok (.iload_n 3, 1) := dk_29 (dk_at dksX6_give_5 23 rfl rfl)
theorem dX6_give_138 : decode cX6_give 138 = .ok (.iaload, 1) := dk_46 (dk_at dksX6_give_6 0 rfl rfl)
theorem dX6_give_139 : decode cX6_give 139 = .ok (.aload_n 2, 1) := dk_44 (dk_at dksX6_give_6 1 rfl rfl)
theorem dX6_give_140 : decode cX6_give 140 = .ok (.iload_n 3, 1) := dk_29 (dk_at dksX6_give_6 2 rfl rfl)
theorem dX6_give_141 : decode cX6_give 141 = .ok (.baload, 1) := dk_51 (dk_at dksX6_give_6 3 rfl rfl)
theorem dX6_give_142 : decode cX6_give 142 = .ok (.ifCond .eq 7, 3) := dk_153 0 7 (dk_at dksX6_give_6 4 rfl rfl)
theorem dX6_give_145 : decode cX6_give 145 = .ok (.iconst 1, 1) := dk_4 (dk_at dksX6_give_6 7 rfl rfl)
theorem dX6_give_146 : decode cX6_give 146 = .ok (.goto 4, 3) := dk_167 0 4 (dk_at dksX6_give_6 8 rfl rfl)
theorem dX6_give_149 : decode cX6_give 149 = .ok (.iconst 0, 1) := dk_3 (dk_at dksX6_give_6 11 rfl rfl)
theorem dX6_give_150 : decode cX6_give 150 = .ok (.iadd, 1) := dk_96 (dk_at dksX6_give_6 12 rfl rfl)
theorem dX6_give_151 : decode cX6_give 151 = .ok (.iastore, 1) := dk_79 (dk_at dksX6_give_6 13 rfl rfl)
theorem dX6_give_152 : decode cX6_give 152 = .ok (.iinc 3 1, 3) := dk_132 3 1 (dk_at dksX6_give_6 14 rfl rfl)
theorem dX6_give_155 : decode cX6_give 155 = .ok (.goto (-33), 3) := dk_167 255 223 (dk_at dksX6_give_6 17 rfl rfl)
theorem dX6_give_158 : decode cX6_give 158 = .ok (.aload_n 1, 1) := dk_43 (dk_at dksX6_give_6 20 rfl rfl)
theorem dX6_give_159 : decode cX6_give 159 = .ok (.areturn, 1) := dk_176 (dk_at dksX6_give_6 21 rfl rfl)
abbrev cX6_byCounting : ByteArray := prog_10_method_3_code
def yX6_byCounting : MethodName := ⟨RX6, "byCounting", "(I)I"⟩
def dkwX6_byCounting_4 : List UInt8 := [167, 255, 180, 42, 180, 0, 9, 27, 46, 28, 42, 180, 0, 22, 162, 0, 7, 4, 167, 0, 4, 3, 96, 172]
abbrev dktX6_byCounting_4 : List UInt8 := dkwX6_byCounting_4 ++ []
def dkwX6_byCounting_3 : List UInt8 := [180, 0, 18, 29, 51, 153, 0, 12, 21, 4, 153, 0, 7, 4, 167, 0, 4, 3, 96, 61, 132, 3, 1]
abbrev dktX6_byCounting_3 : List UInt8 := dkwX6_byCounting_3 ++ dktX6_byCounting_4
def dkwX6_byCounting_2 : List UInt8 := [180, 0, 15, 27, 46, 160, 0, 12, 29, 27, 162, 0, 7, 4, 167, 0, 4, 3, 54, 4, 28, 42]
abbrev dktX6_byCounting_2 : List UInt8 := dkwX6_byCounting_2 ++ dktX6_byCounting_3
def dkwX6_byCounting_1 : List UInt8 := [42, 180, 0, 15, 29, 46, 42, 180, 0, 15, 27, 46, 163, 0, 23, 42, 180, 0, 15, 29, 46, 42]
abbrev dktX6_byCounting_1 : List UInt8 := dkwX6_byCounting_1 ++ dktX6_byCounting_2
def dkwX6_byCounting_0 : List UInt8 := [42, 180, 0, 18, 27, 51, 154, 0, 5, 3, 172, 3, 61, 3, 62, 29, 42, 180, 0, 9, 190, 162, 0, 73]
abbrev dktX6_byCounting_0 : List UInt8 := dkwX6_byCounting_0 ++ dktX6_byCounting_1
theorem dksX6_byCounting_0 : cX6_byCounting.data.toList.drop 0 = dktX6_byCounting_0 := by decide +kernel
theorem dksX6_byCounting_1 : cX6_byCounting.data.toList.drop 24 = dktX6_byCounting_1 := dk_seg dksX6_byCounting_0 24 rfl rfl
theorem dksX6_byCounting_2 : cX6_byCounting.data.toList.drop 46 = dktX6_byCounting_2 := dk_seg dksX6_byCounting_1 22 rfl rfl
theorem dksX6_byCounting_3 : cX6_byCounting.data.toList.drop 68 = dktX6_byCounting_3 := dk_seg dksX6_byCounting_2 22 rfl rfl
theorem dksX6_byCounting_4 : cX6_byCounting.data.toList.drop 91 = dktX6_byCounting_4 := dk_seg dksX6_byCounting_3 23 rfl rfl
theorem dX6_byCounting_0 : decode cX6_byCounting 0 = .ok (.aload_n 0, 1) := dk_42 (dk_at dksX6_byCounting_0 0 rfl rfl)
theorem dX6_byCounting_1 : decode cX6_byCounting 1 = .ok (.getfield 18, 3) := dk_180 0 18 (dk_at dksX6_byCounting_0 1 rfl rfl)
theorem dX6_byCounting_4 : decode cX6_byCounting 4 = .ok (.iload_n 1, 1) := dk_27 (dk_at dksX6_byCounting_0 4 rfl rfl)
theorem dX6_byCounting_5 : decode cX6_byCounting 5 = .ok (.baload, 1) := dk_51 (dk_at dksX6_byCounting_0 5 rfl rfl)
theorem dX6_byCounting_6 : decode cX6_byCounting 6 = .ok (.ifCond .ne 5, 3) := dk_154 0 5 (dk_at dksX6_byCounting_0 6 rfl rfl)
theorem dX6_byCounting_9 : decode cX6_byCounting 9 = .ok (.iconst 0, 1) := dk_3 (dk_at dksX6_byCounting_0 9 rfl rfl)
theorem dX6_byCounting_10 : decode cX6_byCounting 10 = .ok (.ireturn, 1) := dk_172 (dk_at dksX6_byCounting_0 10 rfl rfl)
theorem dX6_byCounting_11 : decode cX6_byCounting 11 = .ok (.iconst 0, 1) := dk_3 (dk_at dksX6_byCounting_0 11 rfl rfl)
theorem dX6_byCounting_12 : decode cX6_byCounting 12 = .ok (.istore_n 2, 1) := dk_61 (dk_at dksX6_byCounting_0 12 rfl rfl)
theorem dX6_byCounting_13 : decode cX6_byCounting 13 = .ok (.iconst 0, 1) := dk_3 (dk_at dksX6_byCounting_0 13 rfl rfl)
theorem dX6_byCounting_14 : decode cX6_byCounting 14 = .ok (.istore_n 3, 1) := dk_62 (dk_at dksX6_byCounting_0 14 rfl rfl)
theorem dX6_byCounting_15 : decode cX6_byCounting 15 = .ok (.iload_n 3, 1) := dk_29 (dk_at dksX6_byCounting_0 15 rfl rfl)
theorem dX6_byCounting_16 : decode cX6_byCounting 16 = .ok (.aload_n 0, 1) := dk_42 (dk_at dksX6_byCounting_0 16 rfl rfl)
theorem dX6_byCounting_17 : decode cX6_byCounting 17 = .ok (.getfield 9, 3) := dk_180 0 9 (dk_at dksX6_byCounting_0 17 rfl rfl)
theorem dX6_byCounting_20 : decode cX6_byCounting 20 = .ok (.arraylength, 1) := dk_190 (dk_at dksX6_byCounting_0 20 rfl rfl)
theorem dX6_byCounting_21 : decode cX6_byCounting 21 = .ok (.if_icmp .ge 73, 3) := dk_162 0 73 (dk_at dksX6_byCounting_0 21 rfl rfl)
theorem dX6_byCounting_24 : decode cX6_byCounting 24 = .ok (.aload_n 0, 1) := dk_42 (dk_at dksX6_byCounting_1 0 rfl rfl)
theorem dX6_byCounting_25 : decode cX6_byCounting 25 = .ok (.getfield 15, 3) := dk_180 0 15 (dk_at dksX6_byCounting_1 1 rfl rfl)
theorem dX6_byCounting_28 : decode cX6_byCounting 28 = .ok (.iload_n 3, 1) := dk_29 (dk_at dksX6_byCounting_1 4 rfl rfl)
theorem dX6_byCounting_29 : decode cX6_byCounting 29 = .ok (.iaload, 1) := dk_46 (dk_at dksX6_byCounting_1 5 rfl rfl)
theorem dX6_byCounting_30 : decode cX6_byCounting 30 = .ok (.aload_n 0, 1) := dk_42 (dk_at dksX6_byCounting_1 6 rfl rfl)
theorem dX6_byCounting_31 : decode cX6_byCounting 31 = .ok (.getfield 15, 3) := dk_180 0 15 (dk_at dksX6_byCounting_1 7 rfl rfl)
theorem dX6_byCounting_34 : decode cX6_byCounting 34 = .ok (.iload_n 1, 1) := dk_27 (dk_at dksX6_byCounting_1 10 rfl rfl)
theorem dX6_byCounting_35 : decode cX6_byCounting 35 = .ok (.iaload, 1) := dk_46 (dk_at dksX6_byCounting_1 11 rfl rfl)
theorem dX6_byCounting_36 : decode cX6_byCounting 36 = .ok (.if_icmp .gt 23, 3) := dk_163 0 23 (dk_at dksX6_byCounting_1 12 rfl rfl)
theorem dX6_byCounting_39 : decode cX6_byCounting 39 = .ok (.aload_n 0, 1) := dk_42 (dk_at dksX6_byCounting_1 15 rfl rfl)
theorem dX6_byCounting_40 : decode cX6_byCounting 40 = .ok (.getfield 15, 3) := dk_180 0 15 (dk_at dksX6_byCounting_1 16 rfl rfl)
theorem dX6_byCounting_43 : decode cX6_byCounting 43 = .ok (.iload_n 3, 1) := dk_29 (dk_at dksX6_byCounting_1 19 rfl rfl)
theorem dX6_byCounting_44 : decode cX6_byCounting 44 = .ok (.iaload, 1) := dk_46 (dk_at dksX6_byCounting_1 20 rfl rfl)
theorem dX6_byCounting_45 : decode cX6_byCounting 45 = .ok (.aload_n 0, 1) := dk_42 (dk_at dksX6_byCounting_1 21 rfl rfl)
theorem dX6_byCounting_46 : decode cX6_byCounting 46 = .ok (.getfield 15, 3) := dk_180 0 15 (dk_at dksX6_byCounting_2 0 rfl rfl)
theorem dX6_byCounting_49 : decode cX6_byCounting 49 = .ok (.iload_n 1, 1) := dk_27 (dk_at dksX6_byCounting_2 3 rfl rfl)
theorem dX6_byCounting_50 : decode cX6_byCounting 50 = .ok (.iaload, 1) := dk_46 (dk_at dksX6_byCounting_2 4 rfl rfl)
theorem dX6_byCounting_51 : decode cX6_byCounting 51 = .ok (.if_icmp .ne 12, 3) := dk_160 0 12 (dk_at dksX6_byCounting_2 5 rfl rfl)
theorem dX6_byCounting_54 : decode cX6_byCounting 54 = .ok (.iload_n 3, 1) := dk_29 (dk_at dksX6_byCounting_2 8 rfl rfl)
theorem dX6_byCounting_55 : decode cX6_byCounting 55 = .ok (.iload_n 1, 1) := dk_27 (dk_at dksX6_byCounting_2 9 rfl rfl)
theorem dX6_byCounting_56 : decode cX6_byCounting 56 = .ok (.if_icmp .ge 7, 3) := dk_162 0 7 (dk_at dksX6_byCounting_2 10 rfl rfl)
theorem dX6_byCounting_59 : decode cX6_byCounting 59 = .ok (.iconst 1, 1) := dk_4 (dk_at dksX6_byCounting_2 13 rfl rfl)
theorem dX6_byCounting_60 : decode cX6_byCounting 60 = .ok (.goto 4, 3) := dk_167 0 4 (dk_at dksX6_byCounting_2 14 rfl rfl)
theorem dX6_byCounting_63 : decode cX6_byCounting 63 = .ok (.iconst 0, 1) := dk_3 (dk_at dksX6_byCounting_2 17 rfl rfl)
theorem dX6_byCounting_64 : decode cX6_byCounting 64 = .ok (.istore 4, 2) := dk_54 4 (dk_at dksX6_byCounting_2 18 rfl rfl)
theorem dX6_byCounting_66 : decode cX6_byCounting 66 = .ok (.iload_n 2, 1) := dk_28 (dk_at dksX6_byCounting_2 20 rfl rfl)
theorem dX6_byCounting_67 : decode cX6_byCounting 67 = .ok (.aload_n 0, 1) := dk_42 (dk_at dksX6_byCounting_2 21 rfl rfl)
theorem dX6_byCounting_68 : decode cX6_byCounting 68 = .ok (.getfield 18, 3) := dk_180 0 18 (dk_at dksX6_byCounting_3 0 rfl rfl)
theorem dX6_byCounting_71 : decode cX6_byCounting 71 = .ok (.iload_n 3, 1) := dk_29 (dk_at dksX6_byCounting_3 3 rfl rfl)
theorem dX6_byCounting_72 : decode cX6_byCounting 72 = .ok (.baload, 1) := dk_51 (dk_at dksX6_byCounting_3 4 rfl rfl)
theorem dX6_byCounting_73 : decode cX6_byCounting 73 = .ok (.ifCond .eq 12, 3) := dk_153 0 12 (dk_at dksX6_byCounting_3 5 rfl rfl)
theorem dX6_byCounting_76 : decode cX6_byCounting 76 = .ok (.iload 4, 2) := dk_21 4 (dk_at dksX6_byCounting_3 8 rfl rfl)
theorem dX6_byCounting_78 : decode cX6_byCounting 78 = .ok (.ifCond .eq 7, 3) := dk_153 0 7 (dk_at dksX6_byCounting_3 10 rfl rfl)
theorem dX6_byCounting_81 : decode cX6_byCounting 81 = .ok (.iconst 1, 1) := dk_4 (dk_at dksX6_byCounting_3 13 rfl rfl)
theorem dX6_byCounting_82 : decode cX6_byCounting 82 = .ok (.goto 4, 3) := dk_167 0 4 (dk_at dksX6_byCounting_3 14 rfl rfl)
theorem dX6_byCounting_85 : decode cX6_byCounting 85 = .ok (.iconst 0, 1) := dk_3 (dk_at dksX6_byCounting_3 17 rfl rfl)
theorem dX6_byCounting_86 : decode cX6_byCounting 86 = .ok (.iadd, 1) := dk_96 (dk_at dksX6_byCounting_3 18 rfl rfl)
theorem dX6_byCounting_87 : decode cX6_byCounting 87 = .ok (.istore_n 2, 1) := dk_61 (dk_at dksX6_byCounting_3 19 rfl rfl)
theorem dX6_byCounting_88 : decode cX6_byCounting 88 = .ok (.iinc 3 1, 3) := dk_132 3 1 (dk_at dksX6_byCounting_3 20 rfl rfl)
theorem dX6_byCounting_91 : decode cX6_byCounting 91 = .ok (.goto (-76), 3) := dk_167 255 180 (dk_at dksX6_byCounting_4 0 rfl rfl)
theorem dX6_byCounting_94 : decode cX6_byCounting 94 = .ok (.aload_n 0, 1) := dk_42 (dk_at dksX6_byCounting_4 3 rfl rfl)
theorem dX6_byCounting_95 : decode cX6_byCounting 95 = .ok (.getfield 9, 3) := dk_180 0 9 (dk_at dksX6_byCounting_4 4 rfl rfl)
theorem dX6_byCounting_98 : decode cX6_byCounting 98 = .ok (.iload_n 1, 1) := dk_27 (dk_at dksX6_byCounting_4 7 rfl rfl)
theorem dX6_byCounting_99 : decode cX6_byCounting 99 = .ok (.iaload, 1) := dk_46 (dk_at dksX6_byCounting_4 8 rfl rfl)
theorem dX6_byCounting_100 : decode cX6_byCounting 100 = .ok (.iload_n 2, 1) := dk_28 (dk_at dksX6_byCounting_4 9 rfl rfl)
theorem dX6_byCounting_101 : decode cX6_byCounting 101 = .ok (.aload_n 0, 1) := dk_42 (dk_at dksX6_byCounting_4 10 rfl rfl)
theorem dX6_byCounting_102 : decode cX6_byCounting 102 = .ok (.getfield 22, 3) := dk_180 0 22 (dk_at dksX6_byCounting_4 11 rfl rfl)
theorem dX6_byCounting_105 : decode cX6_byCounting 105 = .ok (.if_icmp .ge 7, 3) := dk_162 0 7 (dk_at dksX6_byCounting_4 14 rfl rfl)
theorem dX6_byCounting_108 : decode cX6_byCounting 108 = .ok (.iconst 1, 1) := dk_4 (dk_at dksX6_byCounting_4 17 rfl rfl)
theorem dX6_byCounting_109 : decode cX6_byCounting 109 = .ok (.goto 4, 3) := dk_167 0 4 (dk_at dksX6_byCounting_4 18 rfl rfl)
theorem dX6_byCounting_112 : decode cX6_byCounting 112 = .ok (.iconst 0, 1) := dk_3 (dk_at dksX6_byCounting_4 21 rfl rfl)
theorem dX6_byCounting_113 : decode cX6_byCounting 113 = .ok (.iadd, 1) := dk_96 (dk_at dksX6_byCounting_4 22 rfl rfl)
theorem dX6_byCounting_114 : decode cX6_byCounting 114 = .ok (.ireturn, 1) := dk_172 (dk_at dksX6_byCounting_4 23 rfl rfl)
theorem q99 : (Jvm.Cond.initialized "ClearingHouse$Shares") ∈ lw_all := lw_g (lw_at lw_m1 20 rfl) rfl
theorem q538 : (Jvm.Cond.instantiable "ClearingHouse$Shares" (4 : Nat)) ∈ lw_all := lw_g (lw_at lw_m2 219 rfl) rfl
theorem q544 : (Jvm.Cond.instanceMethod ({ cls := "ClearingHouse$Shares", name := "<init>", desc := "(I[II)V" } : Jvm.MethodName)) ∈ lw_all := lw_g (lw_at lw_m2 225 rfl) rfl
theorem q545 : (Jvm.Cond.code ({ cls := "ClearingHouse$Shares", name := "<init>", desc := "(I[II)V" } : Jvm.MethodName) prog_10_method_1_code (5 : Nat) (Option.none : Option Jvm.ClassFile.FieldType)) ∈ lw_all := lw_g (lw_at lw_m2 226 rfl) rfl
theorem q546 : (Jvm.Cond.methodLink "ClearingHouse$Shares" (3 : Nat) ({ cls := "java/lang/Object", name := "<init>", desc := "()V" } : Jvm.MethodName)) ∈ lw_all := lw_g (lw_at lw_m2 227 rfl) rfl
theorem q547 : (Jvm.Cond.fieldLink "ClearingHouse$Shares" (9 : Nat) "ClearingHouse$Shares" "parts" "[I") ∈ lw_all := lw_g (lw_at lw_m2 228 rfl) rfl
theorem q548 : (Jvm.Cond.fieldLink "ClearingHouse$Shares" (15 : Nat) "ClearingHouse$Shares" "rests" "[I") ∈ lw_all := lw_g (lw_at lw_m2 229 rfl) rfl
theorem q549 : (Jvm.Cond.fieldLink "ClearingHouse$Shares" (18 : Nat) "ClearingHouse$Shares" "isCreditor" "[Z") ∈ lw_all := lw_g (lw_at lw_m2 230 rfl) rfl
theorem q550 : (Jvm.Cond.fieldLink "ClearingHouse$Shares" (22 : Nat) "ClearingHouse$Shares" "left" "I") ∈ lw_all := lw_g (lw_at lw_m2 231 rfl) rfl
theorem q551 : (Jvm.Cond.laysFinal "ClearingHouse$Shares" "ClearingHouse$Shares" "parts" "[I") ∈ lw_all := lw_g (lw_at lw_m2 232 rfl) rfl
theorem q552 : (Jvm.Cond.soleField "ClearingHouse$Shares" "parts") ∈ lw_all := lw_g (lw_at lw_m2 233 rfl) rfl
theorem q553 : (Jvm.Cond.laysFinal "ClearingHouse$Shares" "ClearingHouse$Shares" "rests" "[I") ∈ lw_all := lw_g (lw_at lw_m2 234 rfl) rfl
theorem q554 : (Jvm.Cond.soleField "ClearingHouse$Shares" "rests") ∈ lw_all := lw_g (lw_at lw_m2 235 rfl) rfl
theorem q555 : (Jvm.Cond.laysFinal "ClearingHouse$Shares" "ClearingHouse$Shares" "isCreditor" "[Z") ∈ lw_all := lw_g (lw_at lw_m2 236 rfl) rfl
theorem q556 : (Jvm.Cond.soleField "ClearingHouse$Shares" "isCreditor") ∈ lw_all := lw_g (lw_at lw_m2 237 rfl) rfl
theorem q557 : (Jvm.Cond.lays "ClearingHouse$Shares" "ClearingHouse$Shares" "left" "I") ∈ lw_all := lw_g (lw_at lw_m2 238 rfl) rfl
theorem q558 : (Jvm.Cond.soleField "ClearingHouse$Shares" "left") ∈ lw_all := lw_g (lw_at lw_m2 239 rfl) rfl
theorem q559 : (Jvm.Cond.superclass "ClearingHouse$Shares" "java/lang/Object") ∈ lw_all := lw_g (lw_at lw_m3 0 rfl) rfl
theorem q562 : (Jvm.Cond.instanceMethod ({ cls := "ClearingHouse$Shares", name := "give", desc := "()[I" } : Jvm.MethodName)) ∈ lw_all := lw_g (lw_at lw_m3 3 rfl) rfl
theorem q563 : (Jvm.Cond.selects "ClearingHouse$Shares" ({ cls := "ClearingHouse$Shares", name := "give", desc := "()[I" } : Jvm.MethodName) ({ cls := "ClearingHouse$Shares", name := "give", desc := "()[I" } : Jvm.MethodName)) ∈ lw_all := lw_g (lw_at lw_m3 4 rfl) rfl
theorem q564 : (Jvm.Cond.code ({ cls := "ClearingHouse$Shares", name := "give", desc := "()[I" } : Jvm.MethodName) prog_10_method_2_code (7 : Nat) (Option.some (Jvm.ClassFile.FieldType.array Jvm.ClassFile.FieldType.int))) ∈ lw_all := lw_g (lw_at lw_m3 5 rfl) rfl
theorem q799 : (Jvm.Cond.selects "ClearingHouse$Shares" ({ cls := "java/lang/Object", name := "getClass", desc := "()Ljava/lang/Class;" } : Jvm.MethodName) ({ cls := "java/lang/Object", name := "getClass", desc := "()Ljava/lang/Class;" } : Jvm.MethodName)) ∈ lw_all := lw_g (lw_at lw_m4 0 rfl) rfl
theorem q981 : (Jvm.Cond.instanceMethod ({ cls := "ClearingHouse$Shares", name := "byCounting", desc := "(I)I" } : Jvm.MethodName)) ∈ lw_all := lw_g (lw_at lw_m4 182 rfl) rfl
theorem q982 : (Jvm.Cond.selects "ClearingHouse$Shares" ({ cls := "ClearingHouse$Shares", name := "byCounting", desc := "(I)I" } : Jvm.MethodName) ({ cls := "ClearingHouse$Shares", name := "byCounting", desc := "(I)I" } : Jvm.MethodName)) ∈ lw_all := lw_g (lw_at lw_m4 183 rfl) rfl
theorem q983 : (Jvm.Cond.code ({ cls := "ClearingHouse$Shares", name := "byCounting", desc := "(I)I" } : Jvm.MethodName) prog_10_method_3_code (5 : Nat) (Option.some Jvm.ClassFile.FieldType.int)) ∈ lw_all := lw_g (lw_at lw_m4 184 rfl) rfl
theorem q2384 : (Jvm.Cond.castable "ClearingHouse$Shares" "java/lang/Object") ∈ lw_tbl := lw_at lw_m10 145 rfl
theorem in_X6 : ∀ w ∈ wsX60, w ∈ lw_all := lw_in wsX60 [551, 553, 555, 557] (by decide +kernel) (by decide +kernel)
/-! ClearingHouse$Cycle -/
set_option maxRecDepth 100000
def RX7 : String := "ClearingHouse$Cycle"
def TX7 : u_T := fun k => match k with
  | 0 => ("ClearingHouse$Cycle", "parties", "[I", true)
  | _ => ("ClearingHouse$Cycle", "amount", "I", true)
def tyX7 : Nat → FieldType := fun k => match k with
  | 0 => .array .int
  | _ => .int
abbrev wsX70 : List Cond := u_ws RX7 TX7 2
theorem nmX7 : ∀ a, a < 2 → ∀ b, b < 2 → a ≠ b → (TX7 a).2.1 ≠ (TX7 b).2.1 := by decide +kernel
theorem tyX7_ok : ∀ k, k < 2 → parseFieldDescriptor (TX7 k).2.2.1 = some (tyX7 k) := by decide +kernel
abbrev cX7_init : ByteArray := prog_3_method_1_code
def yX7_init : MethodName := ⟨RX7, "<init>", "([III)V"⟩
def dkwX7_init_1 : List UInt8 := [21, 4, 43, 21, 4, 46, 79, 132, 4, 1, 167, 255, 236, 42, 29, 181, 0, 13, 177]
abbrev dktX7_init_1 : List UInt8 := dkwX7_init_1 ++ []
def dkwX7_init_0 : List UInt8 := [42, 183, 0, 1, 42, 28, 188, 10, 181, 0, 7, 3, 54, 4, 21, 4, 28, 162, 0, 20, 42, 180, 0, 7]
abbrev dktX7_init_0 : List UInt8 := dkwX7_init_0 ++ dktX7_init_1
theorem dksX7_init_0 : cX7_init.data.toList.drop 0 = dktX7_init_0 := by decide +kernel
theorem dksX7_init_1 : cX7_init.data.toList.drop 24 = dktX7_init_1 := dk_seg dksX7_init_0 24 rfl rfl
theorem dX7_init_0 : decode cX7_init 0 = .ok (.aload_n 0, 1) := dk_42 (dk_at dksX7_init_0 0 rfl rfl)
theorem dX7_init_1 : decode cX7_init 1 = .ok (.invokespecial 1, 3) := dk_183 0 1 (dk_at dksX7_init_0 1 rfl rfl)
theorem dX7_init_4 : decode cX7_init 4 = .ok (.aload_n 0, 1) := dk_42 (dk_at dksX7_init_0 4 rfl rfl)
theorem dX7_init_5 : decode cX7_init 5 = .ok (.iload_n 2, 1) := dk_28 (dk_at dksX7_init_0 5 rfl rfl)
theorem dX7_init_6 : decode cX7_init 6 = .ok (.newarray .int, 2) := dk_188_10 (dk_at dksX7_init_0 6 rfl rfl)
theorem dX7_init_8 : decode cX7_init 8 = .ok (.putfield 7, 3) := dk_181 0 7 (dk_at dksX7_init_0 8 rfl rfl)
theorem dX7_init_11 : decode cX7_init 11 = .ok (.iconst 0, 1) := dk_3 (dk_at dksX7_init_0 11 rfl rfl)
theorem dX7_init_12 : decode cX7_init 12 = .ok (.istore 4, 2) := dk_54 4 (dk_at dksX7_init_0 12 rfl rfl)
theorem dX7_init_14 : decode cX7_init 14 = .ok (.iload 4, 2) := dk_21 4 (dk_at dksX7_init_0 14 rfl rfl)
theorem dX7_init_16 : decode cX7_init 16 = .ok (.iload_n 2, 1) := dk_28 (dk_at dksX7_init_0 16 rfl rfl)
theorem dX7_init_17 : decode cX7_init 17 = .ok (.if_icmp .ge 20, 3) := dk_162 0 20 (dk_at dksX7_init_0 17 rfl rfl)
theorem dX7_init_20 : decode cX7_init 20 = .ok (.aload_n 0, 1) := dk_42 (dk_at dksX7_init_0 20 rfl rfl)
theorem dX7_init_21 : decode cX7_init 21 = .ok (.getfield 7, 3) := dk_180 0 7 (dk_at dksX7_init_0 21 rfl rfl)
theorem dX7_init_24 : decode cX7_init 24 = .ok (.iload 4, 2) := dk_21 4 (dk_at dksX7_init_1 0 rfl rfl)
theorem dX7_init_26 : decode cX7_init 26 = .ok (.aload_n 1, 1) := dk_43 (dk_at dksX7_init_1 2 rfl rfl)
theorem dX7_init_27 : decode cX7_init 27 = .ok (.iload 4, 2) := dk_21 4 (dk_at dksX7_init_1 3 rfl rfl)
theorem dX7_init_29 : decode cX7_init 29 = .ok (.iaload, 1) := dk_46 (dk_at dksX7_init_1 5 rfl rfl)
theorem dX7_init_30 : decode cX7_init 30 = .ok (.iastore, 1) := dk_79 (dk_at dksX7_init_1 6 rfl rfl)
theorem dX7_init_31 : decode cX7_init 31 = .ok (.iinc 4 1, 3) := dk_132 4 1 (dk_at dksX7_init_1 7 rfl rfl)
theorem dX7_init_34 : decode cX7_init 34 = .ok (.goto (-20), 3) := dk_167 255 236 (dk_at dksX7_init_1 10 rfl rfl)
theorem dX7_init_37 : decode cX7_init 37 = .ok (.aload_n 0, 1) := dk_42 (dk_at dksX7_init_1 13 rfl rfl)
theorem dX7_init_38 : decode cX7_init 38 = .ok (.iload_n 3, 1) := dk_29 (dk_at dksX7_init_1 14 rfl rfl)
theorem dX7_init_39 : decode cX7_init 39 = .ok (.putfield 13, 3) := dk_181 0 13 (dk_at dksX7_init_1 15 rfl rfl)
theorem dX7_init_42 : decode cX7_init 42 = .ok (.return_, 1) := dk_177 (dk_at dksX7_init_1 18 rfl rfl)
abbrev cX7_size : ByteArray := prog_3_method_2_code
def yX7_size : MethodName := ⟨RX7, "size", "()I"⟩
def dkwX7_size_0 : List UInt8 := [42, 180, 0, 7, 190, 172]
abbrev dktX7_size_0 : List UInt8 := dkwX7_size_0 ++ []
theorem dksX7_size_0 : cX7_size.data.toList.drop 0 = dktX7_size_0 := by decide +kernel
theorem dX7_size_0 : decode cX7_size 0 = .ok (.aload_n 0, 1) := dk_42 (dk_at dksX7_size_0 0 rfl rfl)
theorem dX7_size_1 : decode cX7_size 1 = .ok (.getfield 7, 3) := dk_180 0 7 (dk_at dksX7_size_0 1 rfl rfl)
theorem dX7_size_4 : decode cX7_size 4 = .ok (.arraylength, 1) := dk_190 (dk_at dksX7_size_0 4 rfl rfl)
theorem dX7_size_5 : decode cX7_size 5 = .ok (.ireturn, 1) := dk_172 (dk_at dksX7_size_0 5 rfl rfl)
abbrev cX7_party : ByteArray := prog_3_method_3_code
def yX7_party : MethodName := ⟨RX7, "party", "(I)I"⟩
def dkwX7_party_0 : List UInt8 := [42, 180, 0, 7, 27, 46, 172]
abbrev dktX7_party_0 : List UInt8 := dkwX7_party_0 ++ []
theorem dksX7_party_0 : cX7_party.data.toList.drop 0 = dktX7_party_0 := by decide +kernel
theorem dX7_party_0 : decode cX7_party 0 = .ok (.aload_n 0, 1) := dk_42 (dk_at dksX7_party_0 0 rfl rfl)
theorem dX7_party_1 : decode cX7_party 1 = .ok (.getfield 7, 3) := dk_180 0 7 (dk_at dksX7_party_0 1 rfl rfl)
theorem dX7_party_4 : decode cX7_party 4 = .ok (.iload_n 1, 1) := dk_27 (dk_at dksX7_party_0 4 rfl rfl)
theorem dX7_party_5 : decode cX7_party 5 = .ok (.iaload, 1) := dk_46 (dk_at dksX7_party_0 5 rfl rfl)
theorem dX7_party_6 : decode cX7_party 6 = .ok (.ireturn, 1) := dk_172 (dk_at dksX7_party_0 6 rfl rfl)
abbrev cX7_after : ByteArray := prog_3_method_4_code
def yX7_after : MethodName := ⟨RX7, "after", "(I)I"⟩
def dkwX7_after_0 : List UInt8 := [42, 180, 0, 7, 27, 4, 96, 42, 180, 0, 7, 190, 112, 46, 172]
abbrev dktX7_after_0 : List UInt8 := dkwX7_after_0 ++ []
theorem dksX7_after_0 : cX7_after.data.toList.drop 0 = dktX7_after_0 := by decide +kernel
theorem dX7_after_0 : decode cX7_after 0 = .ok (.aload_n 0, 1) := dk_42 (dk_at dksX7_after_0 0 rfl rfl)
theorem dX7_after_1 : decode cX7_after 1 = .ok (.getfield 7, 3) := dk_180 0 7 (dk_at dksX7_after_0 1 rfl rfl)
theorem dX7_after_4 : decode cX7_after 4 = .ok (.iload_n 1, 1) := dk_27 (dk_at dksX7_after_0 4 rfl rfl)
theorem dX7_after_5 : decode cX7_after 5 = .ok (.iconst 1, 1) := dk_4 (dk_at dksX7_after_0 5 rfl rfl)
theorem dX7_after_6 : decode cX7_after 6 = .ok (.iadd, 1) := dk_96 (dk_at dksX7_after_0 6 rfl rfl)
theorem dX7_after_7 : decode cX7_after 7 = .ok (.aload_n 0, 1) := dk_42 (dk_at dksX7_after_0 7 rfl rfl)
theorem dX7_after_8 : decode cX7_after 8 = .ok (.getfield 7, 3) := dk_180 0 7 (dk_at dksX7_after_0 8 rfl rfl)
theorem dX7_after_11 : decode cX7_after 11 = .ok (.arraylength, 1) := dk_190 (dk_at dksX7_after_0 11 rfl rfl)
theorem dX7_after_12 : decode cX7_after 12 = .ok (.irem, 1) := dk_112 (dk_at dksX7_after_0 12 rfl rfl)
theorem dX7_after_13 : decode cX7_after 13 = .ok (.iaload, 1) := dk_46 (dk_at dksX7_after_0 13 rfl rfl)
theorem dX7_after_14 : decode cX7_after 14 = .ok (.ireturn, 1) := dk_172 (dk_at dksX7_after_0 14 rfl rfl)
abbrev cX7_toString : ByteArray := prog_3_method_5_code
def yX7_toString : MethodName := ⟨RX7, "toString", "()Ljava/lang/String;"⟩
def dkwX7_toString_2 : List UInt8 := [167, 255, 219, 43, 16, 61, 182, 0, 31, 42, 180, 0, 13, 182, 0, 28, 182, 0, 34, 176]
abbrev dktX7_toString_2 : List UInt8 := dkwX7_toString_2 ++ []
def dkwX7_toString_1 : List UInt8 := [18, 20, 167, 0, 5, 18, 22, 182, 0, 24, 42, 180, 0, 7, 28, 46, 182, 0, 28, 87, 132, 2, 1]
abbrev dktX7_toString_1 : List UInt8 := dkwX7_toString_1 ++ dktX7_toString_2
def dkwX7_toString_0 : List UInt8 := [187, 0, 17, 89, 183, 0, 19, 76, 3, 61, 28, 42, 180, 0, 7, 190, 162, 0, 34, 43, 28, 154, 0, 8]
abbrev dktX7_toString_0 : List UInt8 := dkwX7_toString_0 ++ dktX7_toString_1
theorem dksX7_toString_0 : cX7_toString.data.toList.drop 0 = dktX7_toString_0 := by decide +kernel
theorem dksX7_toString_1 : cX7_toString.data.toList.drop 24 = dktX7_toString_1 := dk_seg dksX7_toString_0 24 rfl rfl
theorem dksX7_toString_2 : cX7_toString.data.toList.drop 47 = dktX7_toString_2 := dk_seg dksX7_toString_1 23 rfl rfl
theorem dX7_toString_0 : decode cX7_toString 0 = .ok (.new 17, 3) := dk_187 0 17 (dk_at dksX7_toString_0 0 rfl rfl)
theorem dX7_toString_3 : decode cX7_toString 3 = .ok (.dup, 1) := dk_89 (dk_at dksX7_toString_0 3 rfl rfl)
theorem dX7_toString_4 : decode cX7_toString 4 = .ok (.invokespecial 19, 3) := dk_183 0 19 (dk_at dksX7_toString_0 4 rfl rfl)
theorem dX7_toString_7 : decode cX7_toString 7 = .ok (.astore_n 1, 1) := dk_76 (dk_at dksX7_toString_0 7 rfl rfl)
theorem dX7_toString_8 : decode cX7_toString 8 = .ok (.iconst 0, 1) := dk_3 (dk_at dksX7_toString_0 8 rfl rfl)
theorem dX7_toString_9 : decode cX7_toString 9 = .ok (.istore_n 2, 1) := dk_61 (dk_at dksX7_toString_0 9 rfl rfl)
theorem dX7_toString_10 : decode cX7_toString 10 = .ok (.iload_n 2, 1) := dk_28 (dk_at dksX7_toString_0 10 rfl rfl)
theorem dX7_toString_11 : decode cX7_toString 11 = .ok (.aload_n 0, 1) := dk_42 (dk_at dksX7_toString_0 11 rfl rfl)
theorem dX7_toString_12 : decode cX7_toString 12 = .ok (.getfield 7, 3) := dk_180 0 7 (dk_at dksX7_toString_0 12 rfl rfl)
theorem dX7_toString_15 : decode cX7_toString 15 = .ok (.arraylength, 1) := dk_190 (dk_at dksX7_toString_0 15 rfl rfl)
theorem dX7_toString_16 : decode cX7_toString 16 = .ok (.if_icmp .ge 34, 3) := dk_162 0 34 (dk_at dksX7_toString_0 16 rfl rfl)
theorem dX7_toString_19 : decode cX7_toString 19 = .ok (.aload_n 1, 1) := dk_43 (dk_at dksX7_toString_0 19 rfl rfl)
theorem dX7_toString_20 : decode cX7_toString 20 = .ok (.iload_n 2, 1) := dk_28 (dk_at dksX7_toString_0 20 rfl rfl)
theorem dX7_toString_21 : decode cX7_toString 21 = .ok (.ifCond .ne 8, 3) := dk_154 0 8 (dk_at dksX7_toString_0 21 rfl rfl)
theorem dX7_toString_24 : decode cX7_toString 24 = .ok (.ldc 20, 2) := dk_18 20 (dk_at dksX7_toString_1 0 rfl rfl)
theorem dX7_toString_26 : decode cX7_toString 26 = .ok (.goto 5, 3) := dk_167 0 5 (dk_at dksX7_toString_1 2 rfl rfl)
theorem dX7_toString_29 : decode cX7_toString 29 = .ok (.ldc 22, 2) := dk_18 22 (dk_at dksX7_toString_1 5 rfl rfl)
theorem dX7_toString_31 : decode cX7_toString 31 = .ok (.invokevirtual 24, 3) := dk_182 0 24 (dk_at dksX7_toString_1 7 rfl rfl)
theorem dX7_toString_34 : decode cX7_toString 34 = .ok (.aload_n 0, 1) := dk_42 (dk_at dksX7_toString_1 10 rfl rfl)
theorem dX7_toString_35 : decode cX7_toString 35 = .ok (.getfield 7, 3) := dk_180 0 7 (dk_at dksX7_toString_1 11 rfl rfl)
theorem dX7_toString_38 : decode cX7_toString 38 = .ok (.iload_n 2, 1) := dk_28 (dk_at dksX7_toString_1 14 rfl rfl)
theorem dX7_toString_39 : decode cX7_toString 39 = .ok (.iaload, 1) := dk_46 (dk_at dksX7_toString_1 15 rfl rfl)
theorem dX7_toString_40 : decode cX7_toString 40 = .ok (.invokevirtual 28, 3) := dk_182 0 28 (dk_at dksX7_toString_1 16 rfl rfl)
theorem dX7_toString_43 : decode cX7_toString 43 = .ok (.pop, 1) := dk_87 (dk_at dksX7_toString_1 19 rfl rfl)
theorem dX7_toString_44 : decode cX7_toString 44 = .ok (.iinc 2 1, 3) := dk_132 2 1 (dk_at dksX7_toString_1 20 rfl rfl)
theorem dX7_toString_47 : decode cX7_toString 47 = .ok (.goto (-37), 3) := dk_167 255 219 (dk_at dksX7_toString_2 0 rfl rfl)
theorem dX7_toString_50 : decode cX7_toString 50 = .ok (.aload_n 1, 1) := dk_43 (dk_at dksX7_toString_2 3 rfl rfl)
theorem dX7_toString_51 : decode cX7_toString 51 = .ok (.bipush 61, 2) := dk_16 61 (dk_at dksX7_toString_2 4 rfl rfl)
theorem dX7_toString_53 : decode cX7_toString 53 = .ok (.invokevirtual 31, 3) := dk_182 0 31 (dk_at dksX7_toString_2 6 rfl rfl)
theorem dX7_toString_56 : decode cX7_toString 56 = .ok (.aload_n 0, 1) := dk_42 (dk_at dksX7_toString_2 9 rfl rfl)
theorem dX7_toString_57 : decode cX7_toString 57 = .ok (.getfield 13, 3) := dk_180 0 13 (dk_at dksX7_toString_2 10 rfl rfl)
theorem dX7_toString_60 : decode cX7_toString 60 = .ok (.invokevirtual 28, 3) := dk_182 0 28 (dk_at dksX7_toString_2 13 rfl rfl)
theorem dX7_toString_63 : decode cX7_toString 63 = .ok (.invokevirtual 34, 3) := dk_182 0 34 (dk_at dksX7_toString_2 16 rfl rfl)
theorem dX7_toString_66 : decode cX7_toString 66 = .ok (.areturn, 1) := dk_176 (dk_at dksX7_toString_2 19 rfl rfl)
theorem q100 : (Jvm.Cond.initialized "ClearingHouse$Cycle") ∈ lw_all := lw_g (lw_at lw_m1 21 rfl) rfl
theorem q605 : (Jvm.Cond.instantiable "ClearingHouse$Cycle" (2 : Nat)) ∈ lw_all := lw_g (lw_at lw_m3 46 rfl) rfl
theorem q611 : (Jvm.Cond.instanceMethod ({ cls := "ClearingHouse$Cycle", name := "<init>", desc := "([III)V" } : Jvm.MethodName)) ∈ lw_all := lw_g (lw_at lw_m3 52 rfl) rfl
theorem q612 : (Jvm.Cond.code ({ cls := "ClearingHouse$Cycle", name := "<init>", desc := "([III)V" } : Jvm.MethodName) prog_3_method_1_code (5 : Nat) (Option.none : Option Jvm.ClassFile.FieldType)) ∈ lw_all := lw_g (lw_at lw_m3 53 rfl) rfl
theorem q613 : (Jvm.Cond.methodLink "ClearingHouse$Cycle" (1 : Nat) ({ cls := "java/lang/Object", name := "<init>", desc := "()V" } : Jvm.MethodName)) ∈ lw_all := lw_g (lw_at lw_m3 54 rfl) rfl
theorem q614 : (Jvm.Cond.fieldLink "ClearingHouse$Cycle" (7 : Nat) "ClearingHouse$Cycle" "parties" "[I") ∈ lw_all := lw_g (lw_at lw_m3 55 rfl) rfl
theorem q615 : (Jvm.Cond.fieldLink "ClearingHouse$Cycle" (13 : Nat) "ClearingHouse$Cycle" "amount" "I") ∈ lw_all := lw_g (lw_at lw_m3 56 rfl) rfl
theorem q618 : (Jvm.Cond.laysFinal "ClearingHouse$Cycle" "ClearingHouse$Cycle" "parties" "[I") ∈ lw_all := lw_g (lw_at lw_m3 59 rfl) rfl
theorem q619 : (Jvm.Cond.soleField "ClearingHouse$Cycle" "parties") ∈ lw_all := lw_g (lw_at lw_m3 60 rfl) rfl
theorem q620 : (Jvm.Cond.laysFinal "ClearingHouse$Cycle" "ClearingHouse$Cycle" "amount" "I") ∈ lw_all := lw_g (lw_at lw_m3 61 rfl) rfl
theorem q621 : (Jvm.Cond.soleField "ClearingHouse$Cycle" "amount") ∈ lw_all := lw_g (lw_at lw_m3 62 rfl) rfl
theorem q622 : (Jvm.Cond.superclass "ClearingHouse$Cycle" "java/lang/Object") ∈ lw_all := lw_g (lw_at lw_m3 63 rfl) rfl
theorem q686 : (Jvm.Cond.instanceMethod ({ cls := "ClearingHouse$Cycle", name := "size", desc := "()I" } : Jvm.MethodName)) ∈ lw_all := lw_g (lw_at lw_m3 127 rfl) rfl
theorem q687 : (Jvm.Cond.selects "ClearingHouse$Cycle" ({ cls := "ClearingHouse$Cycle", name := "size", desc := "()I" } : Jvm.MethodName) ({ cls := "ClearingHouse$Cycle", name := "size", desc := "()I" } : Jvm.MethodName)) ∈ lw_all := lw_g (lw_at lw_m3 128 rfl) rfl
theorem q688 : (Jvm.Cond.code ({ cls := "ClearingHouse$Cycle", name := "size", desc := "()I" } : Jvm.MethodName) prog_3_method_2_code (1 : Nat) (Option.some Jvm.ClassFile.FieldType.int)) ∈ lw_all := lw_g (lw_at lw_m3 129 rfl) rfl
theorem q690 : (Jvm.Cond.instanceMethod ({ cls := "ClearingHouse$Cycle", name := "party", desc := "(I)I" } : Jvm.MethodName)) ∈ lw_all := lw_g (lw_at lw_m3 131 rfl) rfl
theorem q691 : (Jvm.Cond.selects "ClearingHouse$Cycle" ({ cls := "ClearingHouse$Cycle", name := "party", desc := "(I)I" } : Jvm.MethodName) ({ cls := "ClearingHouse$Cycle", name := "party", desc := "(I)I" } : Jvm.MethodName)) ∈ lw_all := lw_g (lw_at lw_m3 132 rfl) rfl
theorem q692 : (Jvm.Cond.code ({ cls := "ClearingHouse$Cycle", name := "party", desc := "(I)I" } : Jvm.MethodName) prog_3_method_3_code (2 : Nat) (Option.some Jvm.ClassFile.FieldType.int)) ∈ lw_all := lw_g (lw_at lw_m3 133 rfl) rfl
theorem q694 : (Jvm.Cond.instanceMethod ({ cls := "ClearingHouse$Cycle", name := "after", desc := "(I)I" } : Jvm.MethodName)) ∈ lw_all := lw_g (lw_at lw_m3 135 rfl) rfl
theorem q695 : (Jvm.Cond.selects "ClearingHouse$Cycle" ({ cls := "ClearingHouse$Cycle", name := "after", desc := "(I)I" } : Jvm.MethodName) ({ cls := "ClearingHouse$Cycle", name := "after", desc := "(I)I" } : Jvm.MethodName)) ∈ lw_all := lw_g (lw_at lw_m3 136 rfl) rfl
theorem q696 : (Jvm.Cond.code ({ cls := "ClearingHouse$Cycle", name := "after", desc := "(I)I" } : Jvm.MethodName) prog_3_method_4_code (2 : Nat) (Option.some Jvm.ClassFile.FieldType.int)) ∈ lw_all := lw_g (lw_at lw_m3 137 rfl) rfl
theorem q793 : (Jvm.Cond.selects "ClearingHouse$Cycle" ({ cls := "java/lang/Object", name := "getClass", desc := "()Ljava/lang/Class;" } : Jvm.MethodName) ({ cls := "java/lang/Object", name := "getClass", desc := "()Ljava/lang/Class;" } : Jvm.MethodName)) ∈ lw_all := lw_g (lw_at lw_m3 234 rfl) rfl
theorem q1834 : (Jvm.Cond.instanceMethod ({ cls := "ClearingHouse$Cycle", name := "toString", desc := "()Ljava/lang/String;" } : Jvm.MethodName)) ∈ lw_all := lw_g (lw_at lw_m8 75 rfl) rfl
theorem q1835 : (Jvm.Cond.selects "ClearingHouse$Cycle" ({ cls := "ClearingHouse$Cycle", name := "toString", desc := "()Ljava/lang/String;" } : Jvm.MethodName) ({ cls := "ClearingHouse$Cycle", name := "toString", desc := "()Ljava/lang/String;" } : Jvm.MethodName)) ∈ lw_all := lw_g (lw_at lw_m8 76 rfl) rfl
theorem q1836 : (Jvm.Cond.code ({ cls := "ClearingHouse$Cycle", name := "toString", desc := "()Ljava/lang/String;" } : Jvm.MethodName) prog_3_method_5_code (3 : Nat) (Option.some (Jvm.ClassFile.FieldType.object "java/lang/String"))) ∈ lw_all := lw_g (lw_at lw_m8 77 rfl) rfl
theorem q1837 : (Jvm.Cond.classLink "ClearingHouse$Cycle" (17 : Nat) "java/lang/StringBuilder") ∈ lw_all := lw_g (lw_at lw_m8 78 rfl) rfl
theorem q1838 : (Jvm.Cond.methodLink "ClearingHouse$Cycle" (19 : Nat) ({ cls := "java/lang/StringBuilder", name := "<init>", desc := "()V" } : Jvm.MethodName)) ∈ lw_all := lw_g (lw_at lw_m8 79 rfl) rfl
theorem q1839 : (Jvm.Cond.stringRef "ClearingHouse$Cycle" (20 : Nat) "") ∈ lw_tbl := lw_at lw_m8 80 rfl
theorem q1840 : (Jvm.Cond.stringRef "ClearingHouse$Cycle" (22 : Nat) ">") ∈ lw_tbl := lw_at lw_m8 81 rfl
theorem q1841 : (Jvm.Cond.methodLink "ClearingHouse$Cycle" (24 : Nat) ({ cls := "java/lang/StringBuilder", name := "append", desc := "(Ljava/lang/String;)Ljava/lang/StringBuilder;" } : Jvm.MethodName)) ∈ lw_all := lw_g (lw_at lw_m8 82 rfl) rfl
theorem q1842 : (Jvm.Cond.methodLink "ClearingHouse$Cycle" (28 : Nat) ({ cls := "java/lang/StringBuilder", name := "append", desc := "(I)Ljava/lang/StringBuilder;" } : Jvm.MethodName)) ∈ lw_all := lw_g (lw_at lw_m8 83 rfl) rfl
theorem q1843 : (Jvm.Cond.methodLink "ClearingHouse$Cycle" (31 : Nat) ({ cls := "java/lang/StringBuilder", name := "append", desc := "(C)Ljava/lang/StringBuilder;" } : Jvm.MethodName)) ∈ lw_all := lw_g (lw_at lw_m8 84 rfl) rfl
theorem q1844 : (Jvm.Cond.methodLink "ClearingHouse$Cycle" (34 : Nat) ({ cls := "java/lang/StringBuilder", name := "toString", desc := "()Ljava/lang/String;" } : Jvm.MethodName)) ∈ lw_all := lw_g (lw_at lw_m8 85 rfl) rfl
theorem q2394 : (Jvm.Cond.castable "ClearingHouse$Cycle" "java/lang/Object") ∈ lw_tbl := lw_at lw_m10 155 rfl
theorem in_X7 : ∀ w ∈ wsX70, w ∈ lw_all := lw_in wsX70 [618, 620] (by decide +kernel) (by decide +kernel)
/-! ClearingHouse$PairOrder -/
set_option maxRecDepth 100000
def RX8 : String := "ClearingHouse$PairOrder"
def TX8 : u_T := fun k => match k with
  | 0 => ("ClearingHouse$PairOrder", "kind", "C", true)
  | 1 => ("ClearingHouse$PairOrder", "debtor", "I", true)
  | 2 => ("ClearingHouse$PairOrder", "creditor", "I", true)
  | _ => ("ClearingHouse$PairOrder", "amount", "I", true)
def tyX8 : Nat → FieldType := fun k => match k with
  | 0 => .char
  | 1 => .int
  | 2 => .int
  | _ => .int
abbrev wsX80 : List Cond := u_ws RX8 TX8 4
theorem nmX8 : ∀ a, a < 4 → ∀ b, b < 4 → a ≠ b → (TX8 a).2.1 ≠ (TX8 b).2.1 := by decide +kernel
theorem tyX8_ok : ∀ k, k < 4 → parseFieldDescriptor (TX8 k).2.2.1 = some (tyX8 k) := by decide +kernel
abbrev cX8_execute : ByteArray := prog_7_method_2_code
def yX8_execute : MethodName := ⟨RX8, "execute", "(LClearingHouse$House;)I"⟩
def dkwX8_execute_3 : List UInt8 := [180, 0, 17, 42, 180, 0, 20, 182, 0, 29, 172, 43, 42, 180, 0, 13, 42, 180, 0, 17, 182, 0, 32, 172]
abbrev dktX8_execute_3 : List UInt8 := dkwX8_execute_3 ++ []
def dkwX8_execute_2 : List UInt8 := [43, 42, 180, 0, 13, 42, 180, 0, 17, 42, 180, 0, 20, 182, 0, 23, 172, 43, 42, 180, 0, 13, 42]
abbrev dktX8_execute_2 : List UInt8 := dkwX8_execute_2 ++ dktX8_execute_3
def dkwX8_execute_1 : List UInt8 := [171, 0, 0, 0, 0, 0, 0, 62, 0, 0, 0, 2, 0, 0, 0, 111, 0, 0, 0, 28, 0, 0, 0, 112, 0, 0, 0, 45]
abbrev dktX8_execute_1 : List UInt8 := dkwX8_execute_1 ++ dktX8_execute_2
def dkwX8_execute_0 : List UInt8 := [42, 180, 0, 7]
abbrev dktX8_execute_0 : List UInt8 := dkwX8_execute_0 ++ dktX8_execute_1
theorem dksX8_execute_0 : cX8_execute.data.toList.drop 0 = dktX8_execute_0 := by decide +kernel
theorem dksX8_execute_1 : cX8_execute.data.toList.drop 4 = dktX8_execute_1 := dk_seg dksX8_execute_0 4 rfl rfl
theorem dksX8_execute_2 : cX8_execute.data.toList.drop 32 = dktX8_execute_2 := dk_seg dksX8_execute_1 28 rfl rfl
theorem dksX8_execute_3 : cX8_execute.data.toList.drop 55 = dktX8_execute_3 := dk_seg dksX8_execute_2 23 rfl rfl
theorem dX8_execute_0 : decode cX8_execute 0 = .ok (.aload_n 0, 1) := dk_42 (dk_at dksX8_execute_0 0 rfl rfl)
theorem dX8_execute_1 : decode cX8_execute 1 = .ok (.getfield 7, 3) := dk_180 0 7 (dk_at dksX8_execute_0 1 rfl rfl)
theorem dX8_execute_4 : decode cX8_execute 4 = .ok (.lookupswitch 62 #[(111, 28), (112, 45)], 28) := by decide +kernel
theorem dX8_execute_32 : decode cX8_execute 32 = .ok (.aload_n 1, 1) := dk_43 (dk_at dksX8_execute_2 0 rfl rfl)
theorem dX8_execute_33 : decode cX8_execute 33 = .ok (.aload_n 0, 1) := dk_42 (dk_at dksX8_execute_2 1 rfl rfl)
theorem dX8_execute_34 : decode cX8_execute 34 = .ok (.getfield 13, 3) := dk_180 0 13 (dk_at dksX8_execute_2 2 rfl rfl)
theorem dX8_execute_37 : decode cX8_execute 37 = .ok (.aload_n 0, 1) := dk_42 (dk_at dksX8_execute_2 5 rfl rfl)
theorem dX8_execute_38 : decode cX8_execute 38 = .ok (.getfield 17, 3) := dk_180 0 17 (dk_at dksX8_execute_2 6 rfl rfl)
theorem dX8_execute_41 : decode cX8_execute 41 = .ok (.aload_n 0, 1) := dk_42 (dk_at dksX8_execute_2 9 rfl rfl)
theorem dX8_execute_42 : decode cX8_execute 42 = .ok (.getfield 20, 3) := dk_180 0 20 (dk_at dksX8_execute_2 10 rfl rfl)
theorem dX8_execute_45 : decode cX8_execute 45 = .ok (.invokevirtual 23, 3) := dk_182 0 23 (dk_at dksX8_execute_2 13 rfl rfl)
theorem dX8_execute_48 : decode cX8_execute 48 = .ok (.ireturn, 1) := dk_172 (dk_at dksX8_execute_2 16 rfl rfl)
theorem dX8_execute_49 : decode cX8_execute 49 = .ok (.aload_n 1, 1) := dk_43 (dk_at dksX8_execute_2 17 rfl rfl)
theorem dX8_execute_50 : decode cX8_execute 50 = .ok (.aload_n 0, 1) := dk_42 (dk_at dksX8_execute_2 18 rfl rfl)
theorem dX8_execute_51 : decode cX8_execute 51 = .ok (.getfield 13, 3) := dk_180 0 13 (dk_at dksX8_execute_2 19 rfl rfl)
theorem dX8_execute_54 : decode cX8_execute 54 = .ok (.aload_n 0, 1) := dk_42 (dk_at dksX8_execute_2 22 rfl rfl)
theorem dX8_execute_55 : decode cX8_execute 55 = .ok (.getfield 17, 3) := dk_180 0 17 (dk_at dksX8_execute_3 0 rfl rfl)
theorem dX8_execute_58 : decode cX8_execute 58 = .ok (.aload_n 0, 1) := dk_42 (dk_at dksX8_execute_3 3 rfl rfl)
theorem dX8_execute_59 : decode cX8_execute 59 = .ok (.getfield 20, 3) := dk_180 0 20 (dk_at dksX8_execute_3 4 rfl rfl)
theorem dX8_execute_62 : decode cX8_execute 62 = .ok (.invokevirtual 29, 3) := dk_182 0 29 (dk_at dksX8_execute_3 7 rfl rfl)
theorem dX8_execute_65 : decode cX8_execute 65 = .ok (.ireturn, 1) := dk_172 (dk_at dksX8_execute_3 10 rfl rfl)
theorem dX8_execute_66 : decode cX8_execute 66 = .ok (.aload_n 1, 1) := dk_43 (dk_at dksX8_execute_3 11 rfl rfl)
theorem dX8_execute_67 : decode cX8_execute 67 = .ok (.aload_n 0, 1) := dk_42 (dk_at dksX8_execute_3 12 rfl rfl)
theorem dX8_execute_68 : decode cX8_execute 68 = .ok (.getfield 13, 3) := dk_180 0 13 (dk_at dksX8_execute_3 13 rfl rfl)
theorem dX8_execute_71 : decode cX8_execute 71 = .ok (.aload_n 0, 1) := dk_42 (dk_at dksX8_execute_3 16 rfl rfl)
theorem dX8_execute_72 : decode cX8_execute 72 = .ok (.getfield 17, 3) := dk_180 0 17 (dk_at dksX8_execute_3 17 rfl rfl)
theorem dX8_execute_75 : decode cX8_execute 75 = .ok (.invokevirtual 32, 3) := dk_182 0 32 (dk_at dksX8_execute_3 20 rfl rfl)
theorem dX8_execute_78 : decode cX8_execute 78 = .ok (.ireturn, 1) := dk_172 (dk_at dksX8_execute_3 23 rfl rfl)
abbrev cX8_init : ByteArray := prog_7_method_1_code
def yX8_init : MethodName := ⟨RX8, "<init>", "(CIII)V"⟩
def dkwX8_init_1 : List UInt8 := [181, 0, 20, 177]
abbrev dktX8_init_1 : List UInt8 := dkwX8_init_1 ++ []
def dkwX8_init_0 : List UInt8 := [42, 183, 0, 1, 42, 27, 181, 0, 7, 42, 28, 181, 0, 13, 42, 29, 181, 0, 17, 42, 21, 4]
abbrev dktX8_init_0 : List UInt8 := dkwX8_init_0 ++ dktX8_init_1
theorem dksX8_init_0 : cX8_init.data.toList.drop 0 = dktX8_init_0 := by decide +kernel
theorem dksX8_init_1 : cX8_init.data.toList.drop 22 = dktX8_init_1 := dk_seg dksX8_init_0 22 rfl rfl
theorem dX8_init_0 : decode cX8_init 0 = .ok (.aload_n 0, 1) := dk_42 (dk_at dksX8_init_0 0 rfl rfl)
theorem dX8_init_1 : decode cX8_init 1 = .ok (.invokespecial 1, 3) := dk_183 0 1 (dk_at dksX8_init_0 1 rfl rfl)
theorem dX8_init_4 : decode cX8_init 4 = .ok (.aload_n 0, 1) := dk_42 (dk_at dksX8_init_0 4 rfl rfl)
theorem dX8_init_5 : decode cX8_init 5 = .ok (.iload_n 1, 1) := dk_27 (dk_at dksX8_init_0 5 rfl rfl)
theorem dX8_init_6 : decode cX8_init 6 = .ok (.putfield 7, 3) := dk_181 0 7 (dk_at dksX8_init_0 6 rfl rfl)
theorem dX8_init_9 : decode cX8_init 9 = .ok (.aload_n 0, 1) := dk_42 (dk_at dksX8_init_0 9 rfl rfl)
theorem dX8_init_10 : decode cX8_init 10 = .ok (.iload_n 2, 1) := dk_28 (dk_at dksX8_init_0 10 rfl rfl)
theorem dX8_init_11 : decode cX8_init 11 = .ok (.putfield 13, 3) := dk_181 0 13 (dk_at dksX8_init_0 11 rfl rfl)
theorem dX8_init_14 : decode cX8_init 14 = .ok (.aload_n 0, 1) := dk_42 (dk_at dksX8_init_0 14 rfl rfl)
theorem dX8_init_15 : decode cX8_init 15 = .ok (.iload_n 3, 1) := dk_29 (dk_at dksX8_init_0 15 rfl rfl)
theorem dX8_init_16 : decode cX8_init 16 = .ok (.putfield 17, 3) := dk_181 0 17 (dk_at dksX8_init_0 16 rfl rfl)
theorem dX8_init_19 : decode cX8_init 19 = .ok (.aload_n 0, 1) := dk_42 (dk_at dksX8_init_0 19 rfl rfl)
theorem dX8_init_20 : decode cX8_init 20 = .ok (.iload 4, 2) := dk_21 4 (dk_at dksX8_init_0 20 rfl rfl)
theorem dX8_init_22 : decode cX8_init 22 = .ok (.putfield 20, 3) := dk_181 0 20 (dk_at dksX8_init_1 0 rfl rfl)
theorem dX8_init_25 : decode cX8_init 25 = .ok (.return_, 1) := dk_177 (dk_at dksX8_init_1 3 rfl rfl)
theorem q108 : (Jvm.Cond.initialized "ClearingHouse$PairOrder") ∈ lw_all := lw_g (lw_at lw_m1 29 rfl) rfl
theorem q300 : (Jvm.Cond.castable "ClearingHouse$PairOrder" "ClearingHouse$Order") ∈ lw_tbl := lw_at lw_m1 221 rfl
theorem q301 : (Jvm.Cond.selects "ClearingHouse$PairOrder" ({ cls := "ClearingHouse$Order", name := "execute", desc := "(LClearingHouse$House;)I" } : Jvm.MethodName) ({ cls := "ClearingHouse$PairOrder", name := "execute", desc := "(LClearingHouse$House;)I" } : Jvm.MethodName)) ∈ lw_all := lw_g (lw_at lw_m1 222 rfl) rfl
theorem q302 : (Jvm.Cond.unhidden "ClearingHouse$PairOrder" "execute" "(LClearingHouse$House;)I") ∈ lw_tbl := lw_at lw_m1 223 rfl
theorem q303 : (Jvm.Cond.instanceMethod ({ cls := "ClearingHouse$PairOrder", name := "execute", desc := "(LClearingHouse$House;)I" } : Jvm.MethodName)) ∈ lw_all := lw_g (lw_at lw_m1 224 rfl) rfl
theorem q304 : (Jvm.Cond.publicMethod ({ cls := "ClearingHouse$PairOrder", name := "execute", desc := "(LClearingHouse$House;)I" } : Jvm.MethodName)) ∈ lw_tbl := lw_at lw_m1 225 rfl
theorem q305 : (Jvm.Cond.code ({ cls := "ClearingHouse$PairOrder", name := "execute", desc := "(LClearingHouse$House;)I" } : Jvm.MethodName) prog_7_method_2_code (2 : Nat) (Option.some Jvm.ClassFile.FieldType.int)) ∈ lw_all := lw_g (lw_at lw_m1 226 rfl) rfl
theorem q306 : (Jvm.Cond.methodLink "ClearingHouse$PairOrder" (23 : Nat) ({ cls := "ClearingHouse$House", name := "owe", desc := "(III)I" } : Jvm.MethodName)) ∈ lw_all := lw_g (lw_at lw_m1 227 rfl) rfl
theorem q442 : (Jvm.Cond.methodLink "ClearingHouse$PairOrder" (29 : Nat) ({ cls := "ClearingHouse$House", name := "pay", desc := "(III)I" } : Jvm.MethodName)) ∈ lw_all := lw_g (lw_at lw_m2 123 rfl) rfl
theorem q472 : (Jvm.Cond.methodLink "ClearingHouse$PairOrder" (32 : Nat) ({ cls := "ClearingHouse$House", name := "netPair", desc := "(II)I" } : Jvm.MethodName)) ∈ lw_all := lw_g (lw_at lw_m2 153 rfl) rfl
theorem q796 : (Jvm.Cond.selects "ClearingHouse$PairOrder" ({ cls := "java/lang/Object", name := "getClass", desc := "()Ljava/lang/Class;" } : Jvm.MethodName) ({ cls := "java/lang/Object", name := "getClass", desc := "()Ljava/lang/Class;" } : Jvm.MethodName)) ∈ lw_all := lw_g (lw_at lw_m3 237 rfl) rfl
theorem q1052 : (Jvm.Cond.instantiable "ClearingHouse$PairOrder" (4 : Nat)) ∈ lw_all := lw_g (lw_at lw_m5 13 rfl) rfl
theorem q1054 : (Jvm.Cond.instanceMethod ({ cls := "ClearingHouse$PairOrder", name := "<init>", desc := "(CIII)V" } : Jvm.MethodName)) ∈ lw_all := lw_g (lw_at lw_m5 15 rfl) rfl
theorem q1055 : (Jvm.Cond.code ({ cls := "ClearingHouse$PairOrder", name := "<init>", desc := "(CIII)V" } : Jvm.MethodName) prog_7_method_1_code (5 : Nat) (Option.none : Option Jvm.ClassFile.FieldType)) ∈ lw_all := lw_g (lw_at lw_m5 16 rfl) rfl
theorem q1056 : (Jvm.Cond.methodLink "ClearingHouse$PairOrder" (1 : Nat) ({ cls := "java/lang/Object", name := "<init>", desc := "()V" } : Jvm.MethodName)) ∈ lw_all := lw_g (lw_at lw_m5 17 rfl) rfl
theorem q1057 : (Jvm.Cond.fieldLink "ClearingHouse$PairOrder" (7 : Nat) "ClearingHouse$PairOrder" "kind" "C") ∈ lw_all := lw_g (lw_at lw_m5 18 rfl) rfl
theorem q1058 : (Jvm.Cond.fieldLink "ClearingHouse$PairOrder" (13 : Nat) "ClearingHouse$PairOrder" "debtor" "I") ∈ lw_all := lw_g (lw_at lw_m5 19 rfl) rfl
theorem q1059 : (Jvm.Cond.fieldLink "ClearingHouse$PairOrder" (17 : Nat) "ClearingHouse$PairOrder" "creditor" "I") ∈ lw_all := lw_g (lw_at lw_m5 20 rfl) rfl
theorem q1060 : (Jvm.Cond.fieldLink "ClearingHouse$PairOrder" (20 : Nat) "ClearingHouse$PairOrder" "amount" "I") ∈ lw_all := lw_g (lw_at lw_m5 21 rfl) rfl
theorem q1061 : (Jvm.Cond.laysFinal "ClearingHouse$PairOrder" "ClearingHouse$PairOrder" "kind" "C") ∈ lw_all := lw_g (lw_at lw_m5 22 rfl) rfl
theorem q1062 : (Jvm.Cond.soleField "ClearingHouse$PairOrder" "kind") ∈ lw_all := lw_g (lw_at lw_m5 23 rfl) rfl
theorem q1063 : (Jvm.Cond.laysFinal "ClearingHouse$PairOrder" "ClearingHouse$PairOrder" "debtor" "I") ∈ lw_all := lw_g (lw_at lw_m5 24 rfl) rfl
theorem q1064 : (Jvm.Cond.soleField "ClearingHouse$PairOrder" "debtor") ∈ lw_all := lw_g (lw_at lw_m5 25 rfl) rfl
theorem q1065 : (Jvm.Cond.laysFinal "ClearingHouse$PairOrder" "ClearingHouse$PairOrder" "creditor" "I") ∈ lw_all := lw_g (lw_at lw_m5 26 rfl) rfl
theorem q1066 : (Jvm.Cond.soleField "ClearingHouse$PairOrder" "creditor") ∈ lw_all := lw_g (lw_at lw_m5 27 rfl) rfl
theorem q1067 : (Jvm.Cond.laysFinal "ClearingHouse$PairOrder" "ClearingHouse$PairOrder" "amount" "I") ∈ lw_all := lw_g (lw_at lw_m5 28 rfl) rfl
theorem q1068 : (Jvm.Cond.soleField "ClearingHouse$PairOrder" "amount") ∈ lw_all := lw_g (lw_at lw_m5 29 rfl) rfl
theorem q1069 : (Jvm.Cond.superclass "ClearingHouse$PairOrder" "java/lang/Object") ∈ lw_all := lw_g (lw_at lw_m5 30 rfl) rfl
theorem q2387 : (Jvm.Cond.castable "ClearingHouse$PairOrder" "java/lang/Object") ∈ lw_tbl := lw_at lw_m10 148 rfl
theorem in_X8 : ∀ w ∈ wsX80, w ∈ lw_all := lw_in wsX80 [1061, 1063, 1065, 1067] (by decide +kernel) (by decide +kernel)
/-! ClearingHouse$WholeOrder -/
set_option maxRecDepth 100000
def RX9 : String := "ClearingHouse$WholeOrder"
def TX9 : u_T := fun k => match k with
  | _ => ("ClearingHouse$WholeOrder", "kind", "LClearingHouse$Whole;", true)
def tyX9 : Nat → FieldType := fun k => match k with
  | _ => .object "ClearingHouse$Whole"
abbrev wsX90 : List Cond := u_ws RX9 TX9 1
theorem nmX9 : ∀ a, a < 1 → ∀ b, b < 1 → a ≠ b → (TX9 a).2.1 ≠ (TX9 b).2.1 := by decide +kernel
theorem tyX9_ok : ∀ k, k < 1 → parseFieldDescriptor (TX9 k).2.2.1 = some (tyX9 k) := by decide +kernel
abbrev cX9_init : ByteArray := prog_17_method_1_code
def yX9_init : MethodName := ⟨RX9, "<init>", "(LClearingHouse$Whole;)V"⟩
def dkwX9_init_0 : List UInt8 := [42, 183, 0, 1, 42, 43, 181, 0, 7, 177]
abbrev dktX9_init_0 : List UInt8 := dkwX9_init_0 ++ []
theorem dksX9_init_0 : cX9_init.data.toList.drop 0 = dktX9_init_0 := by decide +kernel
theorem dX9_init_0 : decode cX9_init 0 = .ok (.aload_n 0, 1) := dk_42 (dk_at dksX9_init_0 0 rfl rfl)
theorem dX9_init_1 : decode cX9_init 1 = .ok (.invokespecial 1, 3) := dk_183 0 1 (dk_at dksX9_init_0 1 rfl rfl)
theorem dX9_init_4 : decode cX9_init 4 = .ok (.aload_n 0, 1) := dk_42 (dk_at dksX9_init_0 4 rfl rfl)
theorem dX9_init_5 : decode cX9_init 5 = .ok (.aload_n 1, 1) := dk_43 (dk_at dksX9_init_0 5 rfl rfl)
theorem dX9_init_6 : decode cX9_init 6 = .ok (.putfield 7, 3) := dk_181 0 7 (dk_at dksX9_init_0 6 rfl rfl)
theorem dX9_init_9 : decode cX9_init 9 = .ok (.return_, 1) := dk_177 (dk_at dksX9_init_0 9 rfl rfl)
abbrev cX9_execute : ByteArray := prog_17_method_2_code
def yX9_execute : MethodName := ⟨RX9, "execute", "(LClearingHouse$House;)I"⟩
def dkwX9_execute_0 : List UInt8 := [42, 180, 0, 7, 43, 182, 0, 13, 172]
abbrev dktX9_execute_0 : List UInt8 := dkwX9_execute_0 ++ []
theorem dksX9_execute_0 : cX9_execute.data.toList.drop 0 = dktX9_execute_0 := by decide +kernel
theorem dX9_execute_0 : decode cX9_execute 0 = .ok (.aload_n 0, 1) := dk_42 (dk_at dksX9_execute_0 0 rfl rfl)
theorem dX9_execute_1 : decode cX9_execute 1 = .ok (.getfield 7, 3) := dk_180 0 7 (dk_at dksX9_execute_0 1 rfl rfl)
theorem dX9_execute_4 : decode cX9_execute 4 = .ok (.aload_n 1, 1) := dk_43 (dk_at dksX9_execute_0 4 rfl rfl)
theorem dX9_execute_5 : decode cX9_execute 5 = .ok (.invokevirtual 13, 3) := dk_182 0 13 (dk_at dksX9_execute_0 5 rfl rfl)
theorem dX9_execute_8 : decode cX9_execute 8 = .ok (.ireturn, 1) := dk_172 (dk_at dksX9_execute_0 8 rfl rfl)
theorem q109 : (Jvm.Cond.initialized "ClearingHouse$WholeOrder") ∈ lw_all := lw_g (lw_at lw_m1 30 rfl) rfl
theorem q274 : (Jvm.Cond.instantiable "ClearingHouse$WholeOrder" (1 : Nat)) ∈ lw_all := lw_g (lw_at lw_m1 195 rfl) rfl
theorem q278 : (Jvm.Cond.instanceMethod ({ cls := "ClearingHouse$WholeOrder", name := "<init>", desc := "(LClearingHouse$Whole;)V" } : Jvm.MethodName)) ∈ lw_all := lw_g (lw_at lw_m1 199 rfl) rfl
theorem q279 : (Jvm.Cond.code ({ cls := "ClearingHouse$WholeOrder", name := "<init>", desc := "(LClearingHouse$Whole;)V" } : Jvm.MethodName) prog_17_method_1_code (2 : Nat) (Option.none : Option Jvm.ClassFile.FieldType)) ∈ lw_all := lw_g (lw_at lw_m1 200 rfl) rfl
theorem q280 : (Jvm.Cond.methodLink "ClearingHouse$WholeOrder" (1 : Nat) ({ cls := "java/lang/Object", name := "<init>", desc := "()V" } : Jvm.MethodName)) ∈ lw_all := lw_g (lw_at lw_m1 201 rfl) rfl
theorem q281 : (Jvm.Cond.fieldLink "ClearingHouse$WholeOrder" (7 : Nat) "ClearingHouse$WholeOrder" "kind" "LClearingHouse$Whole;") ∈ lw_all := lw_g (lw_at lw_m1 202 rfl) rfl
theorem q282 : (Jvm.Cond.laysFinal "ClearingHouse$WholeOrder" "ClearingHouse$WholeOrder" "kind" "LClearingHouse$Whole;") ∈ lw_all := lw_g (lw_at lw_m1 203 rfl) rfl
theorem q283 : (Jvm.Cond.soleField "ClearingHouse$WholeOrder" "kind") ∈ lw_all := lw_g (lw_at lw_m1 204 rfl) rfl
theorem q284 : (Jvm.Cond.superclass "ClearingHouse$WholeOrder" "java/lang/Object") ∈ lw_all := lw_g (lw_at lw_m1 205 rfl) rfl
theorem q573 : (Jvm.Cond.castable "ClearingHouse$WholeOrder" "ClearingHouse$Order") ∈ lw_tbl := lw_at lw_m3 14 rfl
theorem q574 : (Jvm.Cond.selects "ClearingHouse$WholeOrder" ({ cls := "ClearingHouse$Order", name := "execute", desc := "(LClearingHouse$House;)I" } : Jvm.MethodName) ({ cls := "ClearingHouse$WholeOrder", name := "execute", desc := "(LClearingHouse$House;)I" } : Jvm.MethodName)) ∈ lw_all := lw_g (lw_at lw_m3 15 rfl) rfl
theorem q575 : (Jvm.Cond.unhidden "ClearingHouse$WholeOrder" "execute" "(LClearingHouse$House;)I") ∈ lw_tbl := lw_at lw_m3 16 rfl
theorem q576 : (Jvm.Cond.instanceMethod ({ cls := "ClearingHouse$WholeOrder", name := "execute", desc := "(LClearingHouse$House;)I" } : Jvm.MethodName)) ∈ lw_all := lw_g (lw_at lw_m3 17 rfl) rfl
theorem q577 : (Jvm.Cond.publicMethod ({ cls := "ClearingHouse$WholeOrder", name := "execute", desc := "(LClearingHouse$House;)I" } : Jvm.MethodName)) ∈ lw_tbl := lw_at lw_m3 18 rfl
theorem q578 : (Jvm.Cond.code ({ cls := "ClearingHouse$WholeOrder", name := "execute", desc := "(LClearingHouse$House;)I" } : Jvm.MethodName) prog_17_method_2_code (2 : Nat) (Option.some Jvm.ClassFile.FieldType.int)) ∈ lw_all := lw_g (lw_at lw_m3 19 rfl) rfl
theorem q579 : (Jvm.Cond.methodLink "ClearingHouse$WholeOrder" (13 : Nat) ({ cls := "ClearingHouse$Whole", name := "execute", desc := "(LClearingHouse$House;)I" } : Jvm.MethodName)) ∈ lw_all := lw_g (lw_at lw_m3 20 rfl) rfl
theorem q805 : (Jvm.Cond.selects "ClearingHouse$WholeOrder" ({ cls := "java/lang/Object", name := "getClass", desc := "()Ljava/lang/Class;" } : Jvm.MethodName) ({ cls := "java/lang/Object", name := "getClass", desc := "()Ljava/lang/Class;" } : Jvm.MethodName)) ∈ lw_all := lw_g (lw_at lw_m4 6 rfl) rfl
theorem q2389 : (Jvm.Cond.castable "ClearingHouse$WholeOrder" "java/lang/Object") ∈ lw_tbl := lw_at lw_m10 150 rfl
theorem in_X9 : ∀ w ∈ wsX90, w ∈ lw_all := lw_in wsX90 [282] (by decide +kernel) (by decide +kernel)
