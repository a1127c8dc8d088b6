/-! ClearingHouseModel -/
set_option maxRecDepth 100000
def RX4 : String := "ClearingHouseModel"
def TX4 : u_T := fun k => match k with
  | 0 => ("ClearingHouseModel", "g", "[I", true)
  | 1 => ("ClearingHouseModel", "kept", "[I", true)
  | 2 => ("ClearingHouseModel", "saved", "[I", true)
  | 3 => ("ClearingHouseModel", "before", "[I", true)
  | 4 => ("ClearingHouseModel", "aside", "[I", true)
  | 5 => ("ClearingHouseModel", "isSaved", "Z", false)
  | 6 => ("ClearingHouseModel", "changes", "I", false)
  | 7 => ("ClearingHouseModel", "isWithin", "Z", false)
  | 8 => ("ClearingHouseModel", "code", "I", false)
  | 9 => ("ClearingHouseModel", "input", "[I", true)
  | 10 => ("ClearingHouseModel", "length", "I", false)
  | 11 => ("ClearingHouseModel", "fault", "I", false)
  | 12 => ("ClearingHouseModel", "failed", "I", false)
  | 13 => ("ClearingHouseModel", "signs", "[C", true)
  | 14 => ("ClearingHouseModel", "signMany", "I", false)
  | 15 => ("ClearingHouseModel", "cycle", "[I", true)
  | 16 => ("ClearingHouseModel", "shares", "[I", true)
  | 17 => ("ClearingHouseModel", "sums", "[I", true)
  | 18 => ("ClearingHouseModel", "groups", "[I", true)
  | 19 => ("ClearingHouseModel", "at", "I", false)
  | 20 => ("ClearingHouseModel", "told", "[I", true)
  | _ => ("ClearingHouseModel", "toldMany", "I", false)
def tyX4 : Nat → FieldType := fun k => match k with
  | 0 => .array .int
  | 1 => .array .int
  | 2 => .array .int
  | 3 => .array .int
  | 4 => .array .int
  | 5 => .boolean
  | 6 => .int
  | 7 => .boolean
  | 8 => .int
  | 9 => .array .int
  | 10 => .int
  | 11 => .int
  | 12 => .int
  | 13 => .array .char
  | 14 => .int
  | 15 => .array .int
  | 16 => .array .int
  | 17 => .array .int
  | 18 => .array .int
  | 19 => .int
  | 20 => .array .int
  | _ => .int
abbrev wsX40 : List Cond := u_ws RX4 TX4 22
set_option maxRecDepth 100000 in
theorem nmX4 : ∀ a, a < 22 → ∀ b, b < 22 → a ≠ b → (TX4 a).2.1 ≠ (TX4 b).2.1 := by decide +kernel
set_option maxRecDepth 100000 in
theorem tyX4_ok : ∀ k, k < 22 → parseFieldDescriptor (TX4 k).2.2.1 = some (tyX4 k) := by decide +kernel
abbrev cX4_init : ByteArray := prog_19_method_1_code
def yX4_init : MethodName := ⟨RX4, "<init>", "()V"⟩
def dkwX4_init_4 : List UInt8 := [42, 17, 0, 128, 188, 10, 181, 0, 48, 42, 16, 124, 188, 10, 181, 0, 51, 177]
abbrev dktX4_init_4 : List UInt8 := dkwX4_init_4 ++ []
def dkwX4_init_3 : List UInt8 := [16, 7, 188, 10, 181, 0, 39, 42, 16, 7, 188, 10, 181, 0, 42, 42, 17, 0, 128, 188, 10, 181, 0, 45]
abbrev dktX4_init_3 : List UInt8 := dkwX4_init_3 ++ dktX4_init_4
def dkwX4_init_2 : List UInt8 := [188, 10, 181, 0, 25, 42, 2, 181, 0, 28, 42, 2, 181, 0, 32, 42, 16, 80, 188, 5, 181, 0, 35, 42]
abbrev dktX4_init_2 : List UInt8 := dkwX4_init_2 ++ dktX4_init_3
def dkwX4_init_1 : List UInt8 := [188, 10, 181, 0, 16, 42, 16, 61, 188, 10, 181, 0, 19, 42, 16, 61, 188, 10, 181, 0, 22, 42, 16, 60]
abbrev dktX4_init_1 : List UInt8 := dkwX4_init_1 ++ dktX4_init_2
def dkwX4_init_0 : List UInt8 := [42, 183, 0, 1, 42, 16, 61, 188, 10, 181, 0, 7, 42, 17, 1, 232, 188, 10, 181, 0, 13, 42, 16, 61]
abbrev dktX4_init_0 : List UInt8 := dkwX4_init_0 ++ dktX4_init_1
theorem dksX4_init_0 : cX4_init.data.toList.drop 0 = dktX4_init_0 := by decide +kernel
theorem dksX4_init_1 : cX4_init.data.toList.drop 24 = dktX4_init_1 := dk_seg dksX4_init_0 24 rfl rfl
theorem dksX4_init_2 : cX4_init.data.toList.drop 48 = dktX4_init_2 := dk_seg dksX4_init_1 24 rfl rfl
theorem dksX4_init_3 : cX4_init.data.toList.drop 72 = dktX4_init_3 := dk_seg dksX4_init_2 24 rfl rfl
theorem dksX4_init_4 : cX4_init.data.toList.drop 96 = dktX4_init_4 := dk_seg dksX4_init_3 24 rfl rfl
theorem dX4_init_0 : decode cX4_init 0 = .ok (.aload_n 0, 1) := dk_42 (dk_at dksX4_init_0 0 rfl rfl)
theorem dX4_init_1 : decode cX4_init 1 = .ok (.invokespecial 1, 3) := dk_183 0 1 (dk_at dksX4_init_0 1 rfl rfl)
theorem dX4_init_4 : decode cX4_init 4 = .ok (.aload_n 0, 1) := dk_42 (dk_at dksX4_init_0 4 rfl rfl)
theorem dX4_init_5 : decode cX4_init 5 = .ok (.bipush 61, 2) := dk_16 61 (dk_at dksX4_init_0 5 rfl rfl)
theorem dX4_init_7 : decode cX4_init 7 = .ok (.newarray .int, 2) := dk_188_10 (dk_at dksX4_init_0 7 rfl rfl)
theorem dX4_init_9 : decode cX4_init 9 = .ok (.putfield 7, 3) := dk_181 0 7 (dk_at dksX4_init_0 9 rfl rfl)
theorem dX4_init_12 : decode cX4_init 12 = .ok (.aload_n 0, 1) := dk_42 (dk_at dksX4_init_0 12 rfl rfl)
theorem dX4_init_13 : decode cX4_init 13 = .ok (.sipush 488, 3) := dk_17 1 232 (dk_at dksX4_init_0 13 rfl rfl)
theorem dX4_init_16 : decode cX4_init 16 = .ok (.newarray .int, 2) := dk_188_10 (dk_at dksX4_init_0 16 rfl rfl)
theorem dX4_init_18 : decode cX4_init 18 = .ok (.putfield 13, 3) := dk_181 0 13 (dk_at dksX4_init_0 18 rfl rfl)
theorem dX4_init_21 : decode cX4_init 21 = .ok (.aload_n 0, 1) := dk_42 (dk_at dksX4_init_0 21 rfl rfl)
theorem dX4_init_22 : decode cX4_init 22 = .ok (.bipush 61, 2) := dk_16 61 (dk_at dksX4_init_0 22 rfl rfl)
theorem dX4_init_24 : decode cX4_init 24 = .ok (.newarray .int, 2) := dk_188_10 (dk_at dksX4_init_1 0 rfl rfl)
theorem dX4_init_26 : decode cX4_init 26 = .ok (.putfield 16, 3) := dk_181 0 16 (dk_at dksX4_init_1 2 rfl rfl)
theorem dX4_init_29 : decode cX4_init 29 = .ok (.aload_n 0, 1) := dk_42 (dk_at dksX4_init_1 5 rfl rfl)
theorem dX4_init_30 : decode cX4_init 30 = .ok (.bipush 61, 2) := dk_16 61 (dk_at dksX4_init_1 6 rfl rfl)
theorem dX4_init_32 : decode cX4_init 32 = .ok (.newarray .int, 2) := dk_188_10 (dk_at dksX4_init_1 8 rfl rfl)
theorem dX4_init_34 : decode cX4_init 34 = .ok (.putfield 19, 3) := dk_181 0 19 (dk_at dksX4_init_1 10 rfl rfl)
theorem dX4_init_37 : decode cX4_init 37 = .ok (.aload_n 0, 1) := dk_42 (dk_at dksX4_init_1 13 rfl rfl)
theorem dX4_init_38 : decode cX4_init 38 = .ok (.bipush 61, 2) := dk_16 61 (dk_at dksX4_init_1 14 rfl rfl)
theorem dX4_init_40 : decode cX4_init 40 = .ok (.newarray .int, 2) := dk_188_10 (dk_at dksX4_init_1 16 rfl rfl)
theorem dX4_init_42 : decode cX4_init 42 = .ok (.putfield 22, 3) := dk_181 0 22 (dk_at dksX4_init_1 18 rfl rfl)
theorem dX4_init_45 : decode cX4_init 45 = .ok (.aload_n 0, 1) := dk_42 (dk_at dksX4_init_1 21 rfl rfl)
theorem dX4_init_46 : decode cX4_init 46 = .ok (.bipush 60, 2) := dk_16 60 (dk_at dksX4_init_1 22 rfl rfl)
theorem dX4_init_48 : decode cX4_init 48 = .ok (.newarray .int, 2) := dk_188_10 (dk_at dksX4_init_2 0 rfl rfl)
theorem dX4_init_50 : decode cX4_init 50 = .ok (.putfield 25, 3) := dk_181 0 25 (dk_at dksX4_init_2 2 rfl rfl)
theorem dX4_init_53 : decode cX4_init 53 = .ok (.aload_n 0, 1) := dk_42 (dk_at dksX4_init_2 5 rfl rfl)
theorem dX4_init_54 : decode cX4_init 54 = .ok (.iconst (-1), 1) := dk_2 (dk_at dksX4_init_2 6 rfl rfl)
theorem dX4_init_55 : decode cX4_init 55 = .ok (.putfield 28, 3) := dk_181 0 28 (dk_at dksX4_init_2 7 rfl rfl)
theorem dX4_init_58 : decode cX4_init 58 = .ok (.aload_n 0, 1) := dk_42 (dk_at dksX4_init_2 10 rfl rfl)
theorem dX4_init_59 : decode cX4_init 59 = .ok (.iconst (-1), 1) := dk_2 (dk_at dksX4_init_2 11 rfl rfl)
theorem dX4_init_60 : decode cX4_init 60 = .ok (.putfield 32, 3) := dk_181 0 32 (dk_at dksX4_init_2 12 rfl rfl)
theorem dX4_init_63 : decode cX4_init 63 = .ok (.aload_n 0, 1) := dk_42 (dk_at dksX4_init_2 15 rfl rfl)
theorem dX4_init_64 : decode cX4_init 64 = .ok (.bipush 80, 2) := dk_16 80 (dk_at dksX4_init_2 16 rfl rfl)
theorem dX4_init_66 : decode cX4_init 66 = .ok (.newarray .char, 2) := dk_188_5 (dk_at dksX4_init_2 18 rfl rfl)
theorem dX4_init_68 : decode cX4_init 68 = .ok (.putfield 35, 3) := dk_181 0 35 (dk_at dksX4_init_2 20 rfl rfl)
theorem dX4_init_71 : decode cX4_init 71 = .ok (.aload_n 0, 1) := dk_42 (dk_at dksX4_init_2 23 rfl rfl)
theorem dX4_init_72 : decode cX4_init 72 = .ok (.bipush 7, 2) := dk_16 7 (dk_at dksX4_init_3 0 rfl rfl)
theorem dX4_init_74 : decode cX4_init 74 = .ok (.newarray .int, 2) := dk_188_10 (dk_at dksX4_init_3 2 rfl rfl)
theorem dX4_init_76 : decode cX4_init 76 = .ok (.putfield 39, 3) := dk_181 0 39 (dk_at dksX4_init_3 4 rfl rfl)
theorem dX4_init_79 : decode cX4_init 79 = .ok (.aload_n 0, 1) := dk_42 (dk_at dksX4_init_3 7 rfl rfl)
theorem dX4_init_80 : decode cX4_init 80 = .ok (.bipush 7, 2) := dk_16 7 (dk_at dksX4_init_3 8 rfl rfl)
theorem dX4_init_82 : decode cX4_init 82 = .ok (.newarray .int, 2) := dk_188_10 (dk_at dksX4_init_3 10 rfl rfl)
theorem dX4_init_84 : decode cX4_init 84 = .ok (.putfield 42, 3) := dk_181 0 42 (dk_at dksX4_init_3 12 rfl rfl)
theorem dX4_init_87 : decode cX4_init 87 = .ok (.aload_n 0, 1) := dk_42 (dk_at dksX4_init_3 15 rfl rfl)
theorem dX4_init_88 : decode cX4_init 88 = .ok (.sipush 128, 3) := dk_17 0 128 (dk_at dksX4_init_3 16 rfl rfl)
theorem dX4_init_91 : decode cX4_init 91 = .ok (.newarray .int, 2) := dk_188_10 (dk_at dksX4_init_3 19 rfl rfl)
theorem dX4_init_93 : decode cX4_init 93 = .ok (.putfield 45, 3) := dk_181 0 45 (dk_at dksX4_init_3 21 rfl rfl)
theorem dX4_init_96 : decode cX4_init 96 = .ok (.aload_n 0, 1) := dk_42 (dk_at dksX4_init_4 0 rfl rfl)
theorem dX4_init_97 : decode cX4_init 97 = .ok (.sipush 128, 3) := dk_17 0 128 (dk_at dksX4_init_4 1 rfl rfl)
theorem dX4_init_100 : decode cX4_init 100 = .ok (.newarray .int, 2) := dk_188_10 (dk_at dksX4_init_4 4 rfl rfl)
theorem dX4_init_102 : decode cX4_init 102 = .ok (.putfield 48, 3) := dk_181 0 48 (dk_at dksX4_init_4 6 rfl rfl)
theorem dX4_init_105 : decode cX4_init 105 = .ok (.aload_n 0, 1) := dk_42 (dk_at dksX4_init_4 9 rfl rfl)
theorem dX4_init_106 : decode cX4_init 106 = .ok (.bipush 124, 2) := dk_16 124 (dk_at dksX4_init_4 10 rfl rfl)
theorem dX4_init_108 : decode cX4_init 108 = .ok (.newarray .int, 2) := dk_188_10 (dk_at dksX4_init_4 12 rfl rfl)
theorem dX4_init_110 : decode cX4_init 110 = .ok (.putfield 51, 3) := dk_181 0 51 (dk_at dksX4_init_4 14 rfl rfl)
theorem dX4_init_113 : decode cX4_init 113 = .ok (.return_, 1) := dk_177 (dk_at dksX4_init_4 17 rfl rfl)
abbrev cX4_thrown : ByteArray := prog_19_method_2_code
def yX4_thrown : MethodName := ⟨RX4, "thrown", "()I"⟩
theorem dX4_thrown_0 : decode cX4_thrown 0 = .ok (.aload_n 0, 1) := by decide +kernel
theorem dX4_thrown_1 : decode cX4_thrown 1 = .ok (.getfield 54, 3) := by decide +kernel
theorem dX4_thrown_4 : decode cX4_thrown 4 = .ok (.ireturn, 1) := by decide +kernel
abbrev cX4_addParty : ByteArray := prog_19_method_16_code
def yX4_addParty : MethodName := ⟨RX4, "addParty", "(I)I"⟩
def dkwX4_addParty_3 : List UInt8 := [42, 180, 0, 7, 3, 46, 4, 100, 172]
abbrev dktX4_addParty_3 : List UInt8 := dkwX4_addParty_3 ++ []
def dkwX4_addParty_2 : List UInt8 := [42, 180, 0, 7, 8, 42, 180, 0, 7, 3, 46, 96, 27, 79, 42, 180, 0, 7, 3, 92, 46, 4, 96, 79]
abbrev dktX4_addParty_2 : List UInt8 := dkwX4_addParty_2 ++ dktX4_addParty_3
def dkwX4_addParty_1 : List UInt8 := [160, 0, 7, 5, 167, 0, 4, 3, 182, 0, 76, 153, 0, 5, 3, 172, 42, 42, 180, 0, 7, 182, 0, 90]
abbrev dktX4_addParty_1 : List UInt8 := dkwX4_addParty_1 ++ dktX4_addParty_2
def dkwX4_addParty_0 : List UInt8 := [42, 27, 3, 17, 3, 231, 184, 0, 68, 154, 0, 7, 4, 167, 0, 19, 42, 180, 0, 7, 3, 46, 16, 7]
abbrev dktX4_addParty_0 : List UInt8 := dkwX4_addParty_0 ++ dktX4_addParty_1
theorem dksX4_addParty_0 : cX4_addParty.data.toList.drop 0 = dktX4_addParty_0 := by decide +kernel
theorem dksX4_addParty_1 : cX4_addParty.data.toList.drop 24 = dktX4_addParty_1 := dk_seg dksX4_addParty_0 24 rfl rfl
theorem dksX4_addParty_2 : cX4_addParty.data.toList.drop 48 = dktX4_addParty_2 := dk_seg dksX4_addParty_1 24 rfl rfl
theorem dksX4_addParty_3 : cX4_addParty.data.toList.drop 72 = dktX4_addParty_3 := dk_seg dksX4_addParty_2 24 rfl rfl
theorem dX4_addParty_0 : decode cX4_addParty 0 = .ok (.aload_n 0, 1) := dk_42 (dk_at dksX4_addParty_0 0 rfl rfl)
theorem dX4_addParty_1 : decode cX4_addParty 1 = .ok (.iload_n 1, 1) := dk_27 (dk_at dksX4_addParty_0 1 rfl rfl)
theorem dX4_addParty_2 : decode cX4_addParty 2 = .ok (.iconst 0, 1) := dk_3 (dk_at dksX4_addParty_0 2 rfl rfl)
theorem dX4_addParty_3 : decode cX4_addParty 3 = .ok (.sipush 999, 3) := dk_17 3 231 (dk_at dksX4_addParty_0 3 rfl rfl)
theorem dX4_addParty_6 : decode cX4_addParty 6 = .ok (.invokestatic 68, 3) := dk_184 0 68 (dk_at dksX4_addParty_0 6 rfl rfl)
theorem dX4_addParty_9 : decode cX4_addParty 9 = .ok (.ifCond .ne 7, 3) := dk_154 0 7 (dk_at dksX4_addParty_0 9 rfl rfl)
theorem dX4_addParty_12 : decode cX4_addParty 12 = .ok (.iconst 1, 1) := dk_4 (dk_at dksX4_addParty_0 12 rfl rfl)
theorem dX4_addParty_13 : decode cX4_addParty 13 = .ok (.goto 19, 3) := dk_167 0 19 (dk_at dksX4_addParty_0 13 rfl rfl)
theorem dX4_addParty_16 : decode cX4_addParty 16 = .ok (.aload_n 0, 1) := dk_42 (dk_at dksX4_addParty_0 16 rfl rfl)
theorem dX4_addParty_17 : decode cX4_addParty 17 = .ok (.getfield 7, 3) := dk_180 0 7 (dk_at dksX4_addParty_0 17 rfl rfl)
theorem dX4_addParty_20 : decode cX4_addParty 20 = .ok (.iconst 0, 1) := dk_3 (dk_at dksX4_addParty_0 20 rfl rfl)
theorem dX4_addParty_21 : decode cX4_addParty 21 = .ok (.iaload, 1) := dk_46 (dk_at dksX4_addParty_0 21 rfl rfl)
theorem dX4_addParty_22 : decode cX4_addParty 22 = .ok (.bipush 7, 2) := dk_16 7 (dk_at dksX4_addParty_0 22 rfl rfl)
theorem dX4_addParty_24 : decode cX4_addParty 24 = .ok (.if_icmp .ne 7, 3) := dk_160 0 7 (dk_at dksX4_addParty_1 0 rfl rfl)
theorem dX4_addParty_27 : decode cX4_addParty 27 = .ok (.iconst 2, 1) := dk_5 (dk_at dksX4_addParty_1 3 rfl rfl)
theorem dX4_addParty_28 : decode cX4_addParty 28 = .ok (.goto 4, 3) := dk_167 0 4 (dk_at dksX4_addParty_1 4 rfl rfl)
theorem dX4_addParty_31 : decode cX4_addParty 31 = .ok (.iconst 0, 1) := dk_3 (dk_at dksX4_addParty_1 7 rfl rfl)
theorem dX4_addParty_32 : decode cX4_addParty 32 = .ok (.invokevirtual 76, 3) := dk_182 0 76 (dk_at dksX4_addParty_1 8 rfl rfl)
theorem dX4_addParty_35 : decode cX4_addParty 35 = .ok (.ifCond .eq 5, 3) := dk_153 0 5 (dk_at dksX4_addParty_1 11 rfl rfl)
theorem dX4_addParty_38 : decode cX4_addParty 38 = .ok (.iconst 0, 1) := dk_3 (dk_at dksX4_addParty_1 14 rfl rfl)
theorem dX4_addParty_39 : decode cX4_addParty 39 = .ok (.ireturn, 1) := dk_172 (dk_at dksX4_addParty_1 15 rfl rfl)
theorem dX4_addParty_40 : decode cX4_addParty 40 = .ok (.aload_n 0, 1) := dk_42 (dk_at dksX4_addParty_1 16 rfl rfl)
theorem dX4_addParty_41 : decode cX4_addParty 41 = .ok (.aload_n 0, 1) := dk_42 (dk_at dksX4_addParty_1 17 rfl rfl)
theorem dX4_addParty_42 : decode cX4_addParty 42 = .ok (.getfield 7, 3) := dk_180 0 7 (dk_at dksX4_addParty_1 18 rfl rfl)
theorem dX4_addParty_45 : decode cX4_addParty 45 = .ok (.invokevirtual 90, 3) := dk_182 0 90 (dk_at dksX4_addParty_1 21 rfl rfl)
theorem dX4_addParty_48 : decode cX4_addParty 48 = .ok (.aload_n 0, 1) := dk_42 (dk_at dksX4_addParty_2 0 rfl rfl)
theorem dX4_addParty_49 : decode cX4_addParty 49 = .ok (.getfield 7, 3) := dk_180 0 7 (dk_at dksX4_addParty_2 1 rfl rfl)
theorem dX4_addParty_52 : decode cX4_addParty 52 = .ok (.iconst 5, 1) := dk_8 (dk_at dksX4_addParty_2 4 rfl rfl)
theorem dX4_addParty_53 : decode cX4_addParty 53 = .ok (.aload_n 0, 1) := dk_42 (dk_at dksX4_addParty_2 5 rfl rfl)
theorem dX4_addParty_54 : decode cX4_addParty 54 = .ok (.getfield 7, 3) := dk_180 0 7 (dk_at dksX4_addParty_2 6 rfl rfl)
theorem dX4_addParty_57 : decode cX4_addParty 57 = .ok (.iconst 0, 1) := dk_3 (dk_at dksX4_addParty_2 9 rfl rfl)
theorem dX4_addParty_58 : decode cX4_addParty 58 = .ok (.iaload, 1) := dk_46 (dk_at dksX4_addParty_2 10 rfl rfl)
theorem dX4_addParty_59 : decode cX4_addParty 59 = .ok (.iadd, 1) := dk_96 (dk_at dksX4_addParty_2 11 rfl rfl)
theorem dX4_addParty_60 : decode cX4_addParty 60 = .ok (.iload_n 1, 1) := dk_27 (dk_at dksX4_addParty_2 12 rfl rfl)
theorem dX4_addParty_61 : decode cX4_addParty 61 = .ok (.iastore, 1) := dk_79 (dk_at dksX4_addParty_2 13 rfl rfl)
theorem dX4_addParty_62 : decode cX4_addParty 62 = .ok (.aload_n 0, 1) := dk_42 (dk_at dksX4_addParty_2 14 rfl rfl)
theorem dX4_addParty_63 : decode cX4_addParty 63 = .ok (.getfield 7, 3) := dk_180 0 7 (dk_at dksX4_addParty_2 15 rfl rfl)
theorem dX4_addParty_66 : decode cX4_addParty 66 = .ok (.iconst 0, 1) := dk_3 (dk_at dksX4_addParty_2 18 rfl rfl)
theorem dX4_addParty_67 : decode cX4_addParty 67 = .ok (.dup2, 1) := dk_92 (dk_at dksX4_addParty_2 19 rfl rfl)
theorem dX4_addParty_68 : decode cX4_addParty 68 = .ok (.iaload, 1) := dk_46 (dk_at dksX4_addParty_2 20 rfl rfl)
theorem dX4_addParty_69 : decode cX4_addParty 69 = .ok (.iconst 1, 1) := dk_4 (dk_at dksX4_addParty_2 21 rfl rfl)
theorem dX4_addParty_70 : decode cX4_addParty 70 = .ok (.iadd, 1) := dk_96 (dk_at dksX4_addParty_2 22 rfl rfl)
theorem dX4_addParty_71 : decode cX4_addParty 71 = .ok (.iastore, 1) := dk_79 (dk_at dksX4_addParty_2 23 rfl rfl)
theorem dX4_addParty_72 : decode cX4_addParty 72 = .ok (.aload_n 0, 1) := dk_42 (dk_at dksX4_addParty_3 0 rfl rfl)
theorem dX4_addParty_73 : decode cX4_addParty 73 = .ok (.getfield 7, 3) := dk_180 0 7 (dk_at dksX4_addParty_3 1 rfl rfl)
theorem dX4_addParty_76 : decode cX4_addParty 76 = .ok (.iconst 0, 1) := dk_3 (dk_at dksX4_addParty_3 4 rfl rfl)
theorem dX4_addParty_77 : decode cX4_addParty 77 = .ok (.iaload, 1) := dk_46 (dk_at dksX4_addParty_3 5 rfl rfl)
theorem dX4_addParty_78 : decode cX4_addParty 78 = .ok (.iconst 1, 1) := dk_4 (dk_at dksX4_addParty_3 6 rfl rfl)
theorem dX4_addParty_79 : decode cX4_addParty 79 = .ok (.isub, 1) := dk_100 (dk_at dksX4_addParty_3 7 rfl rfl)
theorem dX4_addParty_80 : decode cX4_addParty 80 = .ok (.ireturn, 1) := dk_172 (dk_at dksX4_addParty_3 8 rfl rfl)
abbrev cX4_in : ByteArray := prog_19_method_4_code
def yX4_in : MethodName := ⟨RX4, "in", "(III)Z"⟩
def dkwX4_in_0 : List UInt8 := [26, 27, 161, 0, 12, 26, 28, 163, 0, 7, 4, 167, 0, 4, 3, 172]
abbrev dktX4_in_0 : List UInt8 := dkwX4_in_0 ++ []
theorem dksX4_in_0 : cX4_in.data.toList.drop 0 = dktX4_in_0 := by decide +kernel
theorem dX4_in_0 : decode cX4_in 0 = .ok (.iload_n 0, 1) := dk_26 (dk_at dksX4_in_0 0 rfl rfl)
theorem dX4_in_1 : decode cX4_in 1 = .ok (.iload_n 1, 1) := dk_27 (dk_at dksX4_in_0 1 rfl rfl)
theorem dX4_in_2 : decode cX4_in 2 = .ok (.if_icmp .lt 12, 3) := dk_161 0 12 (dk_at dksX4_in_0 2 rfl rfl)
theorem dX4_in_5 : decode cX4_in 5 = .ok (.iload_n 0, 1) := dk_26 (dk_at dksX4_in_0 5 rfl rfl)
theorem dX4_in_6 : decode cX4_in 6 = .ok (.iload_n 2, 1) := dk_28 (dk_at dksX4_in_0 6 rfl rfl)
theorem dX4_in_7 : decode cX4_in 7 = .ok (.if_icmp .gt 7, 3) := dk_163 0 7 (dk_at dksX4_in_0 7 rfl rfl)
theorem dX4_in_10 : decode cX4_in 10 = .ok (.iconst 1, 1) := dk_4 (dk_at dksX4_in_0 10 rfl rfl)
theorem dX4_in_11 : decode cX4_in 11 = .ok (.goto 4, 3) := dk_167 0 4 (dk_at dksX4_in_0 11 rfl rfl)
theorem dX4_in_14 : decode cX4_in 14 = .ok (.iconst 0, 1) := dk_3 (dk_at dksX4_in_0 14 rfl rfl)
theorem dX4_in_15 : decode cX4_in 15 = .ok (.ireturn, 1) := dk_172 (dk_at dksX4_in_0 15 rfl rfl)
abbrev cX4_fails : ByteArray := prog_19_method_3_code
def yX4_fails : MethodName := ⟨RX4, "fails", "(I)Z"⟩
def dkwX4_fails_0 : List UInt8 := [42, 27, 181, 0, 54, 27, 158, 0, 7, 4, 167, 0, 4, 3, 172]
abbrev dktX4_fails_0 : List UInt8 := dkwX4_fails_0 ++ []
theorem dksX4_fails_0 : cX4_fails.data.toList.drop 0 = dktX4_fails_0 := by decide +kernel
theorem dX4_fails_0 : decode cX4_fails 0 = .ok (.aload_n 0, 1) := dk_42 (dk_at dksX4_fails_0 0 rfl rfl)
theorem dX4_fails_1 : decode cX4_fails 1 = .ok (.iload_n 1, 1) := dk_27 (dk_at dksX4_fails_0 1 rfl rfl)
theorem dX4_fails_2 : decode cX4_fails 2 = .ok (.putfield 54, 3) := dk_181 0 54 (dk_at dksX4_fails_0 2 rfl rfl)
theorem dX4_fails_5 : decode cX4_fails 5 = .ok (.iload_n 1, 1) := dk_27 (dk_at dksX4_fails_0 5 rfl rfl)
theorem dX4_fails_6 : decode cX4_fails 6 = .ok (.ifCond .le 7, 3) := dk_158 0 7 (dk_at dksX4_fails_0 6 rfl rfl)
theorem dX4_fails_9 : decode cX4_fails 9 = .ok (.iconst 1, 1) := dk_4 (dk_at dksX4_fails_0 9 rfl rfl)
theorem dX4_fails_10 : decode cX4_fails 10 = .ok (.goto 4, 3) := dk_167 0 4 (dk_at dksX4_fails_0 10 rfl rfl)
theorem dX4_fails_13 : decode cX4_fails 13 = .ok (.iconst 0, 1) := dk_3 (dk_at dksX4_fails_0 13 rfl rfl)
theorem dX4_fails_14 : decode cX4_fails 14 = .ok (.ireturn, 1) := dk_172 (dk_at dksX4_fails_0 14 rfl rfl)
abbrev cX4_keeps : ByteArray := prog_19_method_7_code
def yX4_keeps : MethodName := ⟨RX4, "keeps", "([I)V"⟩
def dkwX4_keeps_3 : List UInt8 := [42, 180, 0, 61, 104, 184, 0, 64, 42, 89, 180, 0, 61, 4, 96, 181, 0, 61, 177]
abbrev dktX4_keeps_3 : List UInt8 := dkwX4_keeps_3 ++ []
def dkwX4_keeps_2 : List UInt8 := [132, 2, 1, 167, 255, 231, 42, 89, 180, 0, 61, 4, 100, 181, 0, 61, 43, 3, 42, 180, 0, 13, 16, 61]
abbrev dktX4_keeps_2 : List UInt8 := dkwX4_keeps_2 ++ dktX4_keeps_3
def dkwX4_keeps_1 : List UInt8 := [28, 17, 1, 171, 162, 0, 24, 42, 180, 0, 13, 28, 42, 180, 0, 13, 28, 16, 61, 96, 46, 79]
abbrev dktX4_keeps_1 : List UInt8 := dkwX4_keeps_1 ++ dktX4_keeps_2
def dkwX4_keeps_0 : List UInt8 := [42, 3, 181, 0, 54, 42, 180, 0, 57, 153, 0, 4, 177, 42, 180, 0, 61, 16, 8, 160, 0, 43, 3, 61]
abbrev dktX4_keeps_0 : List UInt8 := dkwX4_keeps_0 ++ dktX4_keeps_1
theorem dksX4_keeps_0 : cX4_keeps.data.toList.drop 0 = dktX4_keeps_0 := by decide +kernel
theorem dksX4_keeps_1 : cX4_keeps.data.toList.drop 24 = dktX4_keeps_1 := dk_seg dksX4_keeps_0 24 rfl rfl
theorem dksX4_keeps_2 : cX4_keeps.data.toList.drop 46 = dktX4_keeps_2 := dk_seg dksX4_keeps_1 22 rfl rfl
theorem dksX4_keeps_3 : cX4_keeps.data.toList.drop 70 = dktX4_keeps_3 := dk_seg dksX4_keeps_2 24 rfl rfl
theorem dX4_keeps_0 : decode cX4_keeps 0 = .ok (.aload_n 0, 1) := dk_42 (dk_at dksX4_keeps_0 0 rfl rfl)
theorem dX4_keeps_1 : decode cX4_keeps 1 = .ok (.iconst 0, 1) := dk_3 (dk_at dksX4_keeps_0 1 rfl rfl)
theorem dX4_keeps_2 : decode cX4_keeps 2 = .ok (.putfield 54, 3) := dk_181 0 54 (dk_at dksX4_keeps_0 2 rfl rfl)
theorem dX4_keeps_5 : decode cX4_keeps 5 = .ok (.aload_n 0, 1) := dk_42 (dk_at dksX4_keeps_0 5 rfl rfl)
theorem dX4_keeps_6 : decode cX4_keeps 6 = .ok (.getfield 57, 3) := dk_180 0 57 (dk_at dksX4_keeps_0 6 rfl rfl)
theorem dX4_keeps_9 : decode cX4_keeps 9 = .ok (.ifCond .eq 4, 3) := dk_153 0 4 (dk_at dksX4_keeps_0 9 rfl rfl)
theorem dX4_keeps_12 : decode cX4_keeps 12 = .ok (.return_, 1) := dk_177 (dk_at dksX4_keeps_0 12 rfl rfl)
theorem dX4_keeps_13 : decode cX4_keeps 13 = .ok (.aload_n 0, 1) := dk_42 (dk_at dksX4_keeps_0 13 rfl rfl)
theorem dX4_keeps_14 : decode cX4_keeps 14 = .ok (.getfield 61, 3) := dk_180 0 61 (dk_at dksX4_keeps_0 14 rfl rfl)
theorem dX4_keeps_17 : decode cX4_keeps 17 = .ok (.bipush 8, 2) := dk_16 8 (dk_at dksX4_keeps_0 17 rfl rfl)
theorem dX4_keeps_19 : decode cX4_keeps 19 = .ok (.if_icmp .ne 43, 3) := dk_160 0 43 (dk_at dksX4_keeps_0 19 rfl rfl)
theorem dX4_keeps_22 : decode cX4_keeps 22 = .ok (.iconst 0, 1) := dk_3 (dk_at dksX4_keeps_0 22 rfl rfl)
theorem dX4_keeps_23 : decode cX4_keeps 23 = .ok (.istore_n 2, 1) := dk_61 (dk_at dksX4_keeps_0 23 rfl rfl)
theorem dX4_keeps_24 : decode cX4_keeps 24 = .ok (.iload_n 2, 1) := dk_28 (dk_at dksX4_keeps_1 0 rfl rfl)
theorem dX4_keeps_25 : decode cX4_keeps 25 = .ok (.sipush 427, 3) := dk_17 1 171 (dk_at dksX4_keeps_1 1 rfl rfl)
theorem dX4_keeps_28 : decode cX4_keeps 28 = .ok (.if_icmp .ge 24, 3) := dk_162 0 24 (dk_at dksX4_keeps_1 4 rfl rfl)
theorem dX4_keeps_31 : decode cX4_keeps 31 = .ok (.aload_n 0, 1) := dk_42 (dk_at dksX4_keeps_1 7 rfl rfl)
theorem dX4_keeps_32 : decode cX4_keeps 32 = .ok (.getfield 13, 3) := dk_180 0 13 (dk_at dksX4_keeps_1 8 rfl rfl)
theorem dX4_keeps_35 : decode cX4_keeps 35 = .ok (.iload_n 2, 1) := dk_28 (dk_at dksX4_keeps_1 11 rfl rfl)
theorem dX4_keeps_36 : decode cX4_keeps 36 = .ok (.aload_n 0, 1) := dk_42 (dk_at dksX4_keeps_1 12 rfl rfl)
theorem dX4_keeps_37 : decode cX4_keeps 37 = .ok (.getfield 13, 3) := dk_180 0 13 (dk_at dksX4_keeps_1 13 rfl rfl)
theorem dX4_keeps_40 : decode cX4_keeps 40 = .ok (.iload_n 2, 1) := dk_28 (dk_at dksX4_keeps_1 16 rfl rfl)
theorem dX4_keeps_41 : decode cX4_keeps 41 = .ok (.bipush 61, 2) := dk_16 61 (dk_at dksX4_keeps_1 17 rfl rfl)
theorem dX4_keeps_43 : decode cX4_keeps 43 = .ok (.iadd, 1) := dk_96 (dk_at dksX4_keeps_1 19 rfl rfl)
theorem dX4_keeps_44 : decode cX4_keeps 44 = .ok (.iaload, 1) := dk_46 (dk_at dksX4_keeps_1 20 rfl rfl)
theorem dX4_keeps_45 : decode cX4_keeps 45 = .ok (.iastore, 1) := dk_79 (dk_at dksX4_keeps_1 21 rfl rfl)
theorem dX4_keeps_46 : decode cX4_keeps 46 = .ok (.iinc 2 1, 3) := dk_132 2 1 (dk_at dksX4_keeps_2 0 rfl rfl)
theorem dX4_keeps_49 : decode cX4_keeps 49 = .ok (.goto (-25), 3) := dk_167 255 231 (dk_at dksX4_keeps_2 3 rfl rfl)
theorem dX4_keeps_52 : decode cX4_keeps 52 = .ok (.aload_n 0, 1) := dk_42 (dk_at dksX4_keeps_2 6 rfl rfl)
theorem dX4_keeps_53 : decode cX4_keeps 53 = .ok (.dup, 1) := dk_89 (dk_at dksX4_keeps_2 7 rfl rfl)
theorem dX4_keeps_54 : decode cX4_keeps 54 = .ok (.getfield 61, 3) := dk_180 0 61 (dk_at dksX4_keeps_2 8 rfl rfl)
theorem dX4_keeps_57 : decode cX4_keeps 57 = .ok (.iconst 1, 1) := dk_4 (dk_at dksX4_keeps_2 11 rfl rfl)
theorem dX4_keeps_58 : decode cX4_keeps 58 = .ok (.isub, 1) := dk_100 (dk_at dksX4_keeps_2 12 rfl rfl)
theorem dX4_keeps_59 : decode cX4_keeps 59 = .ok (.putfield 61, 3) := dk_181 0 61 (dk_at dksX4_keeps_2 13 rfl rfl)
theorem dX4_keeps_62 : decode cX4_keeps 62 = .ok (.aload_n 1, 1) := dk_43 (dk_at dksX4_keeps_2 16 rfl rfl)
theorem dX4_keeps_63 : decode cX4_keeps 63 = .ok (.iconst 0, 1) := dk_3 (dk_at dksX4_keeps_2 17 rfl rfl)
theorem dX4_keeps_64 : decode cX4_keeps 64 = .ok (.aload_n 0, 1) := dk_42 (dk_at dksX4_keeps_2 18 rfl rfl)
theorem dX4_keeps_65 : decode cX4_keeps 65 = .ok (.getfield 13, 3) := dk_180 0 13 (dk_at dksX4_keeps_2 19 rfl rfl)
theorem dX4_keeps_68 : decode cX4_keeps 68 = .ok (.bipush 61, 2) := dk_16 61 (dk_at dksX4_keeps_2 22 rfl rfl)
theorem dX4_keeps_70 : decode cX4_keeps 70 = .ok (.aload_n 0, 1) := dk_42 (dk_at dksX4_keeps_3 0 rfl rfl)
theorem dX4_keeps_71 : decode cX4_keeps 71 = .ok (.getfield 61, 3) := dk_180 0 61 (dk_at dksX4_keeps_3 1 rfl rfl)
theorem dX4_keeps_74 : decode cX4_keeps 74 = .ok (.imul, 1) := dk_104 (dk_at dksX4_keeps_3 4 rfl rfl)
theorem dX4_keeps_75 : decode cX4_keeps 75 = .ok (.invokestatic 64, 3) := dk_184 0 64 (dk_at dksX4_keeps_3 5 rfl rfl)
theorem dX4_keeps_78 : decode cX4_keeps 78 = .ok (.aload_n 0, 1) := dk_42 (dk_at dksX4_keeps_3 8 rfl rfl)
theorem dX4_keeps_79 : decode cX4_keeps 79 = .ok (.dup, 1) := dk_89 (dk_at dksX4_keeps_3 9 rfl rfl)
theorem dX4_keeps_80 : decode cX4_keeps 80 = .ok (.getfield 61, 3) := dk_180 0 61 (dk_at dksX4_keeps_3 10 rfl rfl)
theorem dX4_keeps_83 : decode cX4_keeps 83 = .ok (.iconst 1, 1) := dk_4 (dk_at dksX4_keeps_3 13 rfl rfl)
theorem dX4_keeps_84 : decode cX4_keeps 84 = .ok (.iadd, 1) := dk_96 (dk_at dksX4_keeps_3 14 rfl rfl)
theorem dX4_keeps_85 : decode cX4_keeps 85 = .ok (.putfield 61, 3) := dk_181 0 61 (dk_at dksX4_keeps_3 15 rfl rfl)
theorem dX4_keeps_88 : decode cX4_keeps 88 = .ok (.return_, 1) := dk_177 (dk_at dksX4_keeps_3 18 rfl rfl)
abbrev cX4_copies : ByteArray := prog_19_method_6_code
def yX4_copies : MethodName := ⟨RX4, "copies", "([II[II)V"⟩
def dkwX4_copies_1 : List UInt8 := [132, 4, 1, 167, 255, 234, 177]
abbrev dktX4_copies_1 : List UInt8 := dkwX4_copies_1 ++ []
def dkwX4_copies_0 : List UInt8 := [3, 54, 4, 21, 4, 16, 61, 162, 0, 21, 44, 29, 21, 4, 96, 42, 27, 21, 4, 96, 46, 79]
abbrev dktX4_copies_0 : List UInt8 := dkwX4_copies_0 ++ dktX4_copies_1
theorem dksX4_copies_0 : cX4_copies.data.toList.drop 0 = dktX4_copies_0 := by decide +kernel
theorem dksX4_copies_1 : cX4_copies.data.toList.drop 22 = dktX4_copies_1 := dk_seg dksX4_copies_0 22 rfl rfl
theorem dX4_copies_0 : decode cX4_copies 0 = .ok (.iconst 0, 1) := dk_3 (dk_at dksX4_copies_0 0 rfl rfl)
theorem dX4_copies_1 : decode cX4_copies 1 = .ok (.istore 4, 2) := dk_54 4 (dk_at dksX4_copies_0 1 rfl rfl)
theorem dX4_copies_3 : decode cX4_copies 3 = .ok (.iload 4, 2) := dk_21 4 (dk_at dksX4_copies_0 3 rfl rfl)
theorem dX4_copies_5 : decode cX4_copies 5 = .ok (.bipush 61, 2) := dk_16 61 (dk_at dksX4_copies_0 5 rfl rfl)
theorem dX4_copies_7 : decode cX4_copies 7 = .ok (.if_icmp .ge 21, 3) := dk_162 0 21 (dk_at dksX4_copies_0 7 rfl rfl)
theorem dX4_copies_10 : decode cX4_copies 10 = .ok (.aload_n 2, 1) := dk_44 (dk_at dksX4_copies_0 10 rfl rfl)
theorem dX4_copies_11 : decode cX4_copies 11 = .ok (.iload_n 3, 1) := dk_29 (dk_at dksX4_copies_0 11 rfl rfl)
theorem dX4_copies_12 : decode cX4_copies 12 = .ok (.iload 4, 2) := dk_21 4 (dk_at dksX4_copies_0 12 rfl rfl)
theorem dX4_copies_14 : decode cX4_copies 14 = .ok (.iadd, 1) := dk_96 (dk_at dksX4_copies_0 14 rfl rfl)
theorem dX4_copies_15 : decode cX4_copies 15 = .ok (.aload_n 0, 1) := dk_42 (dk_at dksX4_copies_0 15 rfl rfl)
theorem dX4_copies_16 : decode cX4_copies 16 = .ok (.iload_n 1, 1) := dk_27 (dk_at dksX4_copies_0 16 rfl rfl)
theorem dX4_copies_17 : decode cX4_copies 17 = .ok (.iload 4, 2) := dk_21 4 (dk_at dksX4_copies_0 17 rfl rfl)
theorem dX4_copies_19 : decode cX4_copies 19 = .ok (.iadd, 1) := dk_96 (dk_at dksX4_copies_0 19 rfl rfl)
theorem dX4_copies_20 : decode cX4_copies 20 = .ok (.iaload, 1) := dk_46 (dk_at dksX4_copies_0 20 rfl rfl)
theorem dX4_copies_21 : decode cX4_copies 21 = .ok (.iastore, 1) := dk_79 (dk_at dksX4_copies_0 21 rfl rfl)
theorem dX4_copies_22 : decode cX4_copies 22 = .ok (.iinc 4 1, 3) := dk_132 4 1 (dk_at dksX4_copies_1 0 rfl rfl)
theorem dX4_copies_25 : decode cX4_copies 25 = .ok (.goto (-22), 3) := dk_167 255 234 (dk_at dksX4_copies_1 3 rfl rfl)
theorem dX4_copies_28 : decode cX4_copies 28 = .ok (.return_, 1) := dk_177 (dk_at dksX4_copies_1 6 rfl rfl)
abbrev cX4_deposit : ByteArray := prog_19_method_17_code
def yX4_deposit : MethodName := ⟨RX4, "deposit", "(II)I"⟩
def dkwX4_deposit_2 : List UInt8 := [92, 46, 28, 96, 79, 42, 180, 0, 7, 8, 27, 96, 46, 172]
abbrev dktX4_deposit_2 : List UInt8 := dkwX4_deposit_2 ++ []
def dkwX4_deposit_1 : List UInt8 := [5, 182, 0, 76, 153, 0, 5, 3, 172, 42, 42, 180, 0, 7, 182, 0, 90, 42, 180, 0, 7, 8, 27, 96]
abbrev dktX4_deposit_1 : List UInt8 := dkwX4_deposit_1 ++ dktX4_deposit_2
def dkwX4_deposit_0 : List UInt8 := [42, 27, 182, 0, 94, 154, 0, 26, 42, 28, 4, 17, 3, 231, 184, 0, 68, 153, 0, 7, 3, 167, 0, 4]
abbrev dktX4_deposit_0 : List UInt8 := dkwX4_deposit_0 ++ dktX4_deposit_1
theorem dksX4_deposit_0 : cX4_deposit.data.toList.drop 0 = dktX4_deposit_0 := by decide +kernel
theorem dksX4_deposit_1 : cX4_deposit.data.toList.drop 24 = dktX4_deposit_1 := dk_seg dksX4_deposit_0 24 rfl rfl
theorem dksX4_deposit_2 : cX4_deposit.data.toList.drop 48 = dktX4_deposit_2 := dk_seg dksX4_deposit_1 24 rfl rfl
theorem dX4_deposit_0 : decode cX4_deposit 0 = .ok (.aload_n 0, 1) := dk_42 (dk_at dksX4_deposit_0 0 rfl rfl)
theorem dX4_deposit_1 : decode cX4_deposit 1 = .ok (.iload_n 1, 1) := dk_27 (dk_at dksX4_deposit_0 1 rfl rfl)
theorem dX4_deposit_2 : decode cX4_deposit 2 = .ok (.invokevirtual 94, 3) := dk_182 0 94 (dk_at dksX4_deposit_0 2 rfl rfl)
theorem dX4_deposit_5 : decode cX4_deposit 5 = .ok (.ifCond .ne 26, 3) := dk_154 0 26 (dk_at dksX4_deposit_0 5 rfl rfl)
theorem dX4_deposit_8 : decode cX4_deposit 8 = .ok (.aload_n 0, 1) := dk_42 (dk_at dksX4_deposit_0 8 rfl rfl)
theorem dX4_deposit_9 : decode cX4_deposit 9 = .ok (.iload_n 2, 1) := dk_28 (dk_at dksX4_deposit_0 9 rfl rfl)
theorem dX4_deposit_10 : decode cX4_deposit 10 = .ok (.iconst 1, 1) := dk_4 (dk_at dksX4_deposit_0 10 rfl rfl)
theorem dX4_deposit_11 : decode cX4_deposit 11 = .ok (.sipush 999, 3) := dk_17 3 231 (dk_at dksX4_deposit_0 11 rfl rfl)
theorem dX4_deposit_14 : decode cX4_deposit 14 = .ok (.invokestatic 68, 3) := dk_184 0 68 (dk_at dksX4_deposit_0 14 rfl rfl)
theorem dX4_deposit_17 : decode cX4_deposit 17 = .ok (.ifCond .eq 7, 3) := dk_153 0 7 (dk_at dksX4_deposit_0 17 rfl rfl)
theorem dX4_deposit_20 : decode cX4_deposit 20 = .ok (.iconst 0, 1) := dk_3 (dk_at dksX4_deposit_0 20 rfl rfl)
theorem dX4_deposit_21 : decode cX4_deposit 21 = .ok (.goto 4, 3) := dk_167 0 4 (dk_at dksX4_deposit_0 21 rfl rfl)
theorem dX4_deposit_24 : decode cX4_deposit 24 = .ok (.iconst 2, 1) := dk_5 (dk_at dksX4_deposit_1 0 rfl rfl)
theorem dX4_deposit_25 : decode cX4_deposit 25 = .ok (.invokevirtual 76, 3) := dk_182 0 76 (dk_at dksX4_deposit_1 1 rfl rfl)
theorem dX4_deposit_28 : decode cX4_deposit 28 = .ok (.ifCond .eq 5, 3) := dk_153 0 5 (dk_at dksX4_deposit_1 4 rfl rfl)
theorem dX4_deposit_31 : decode cX4_deposit 31 = .ok (.iconst 0, 1) := dk_3 (dk_at dksX4_deposit_1 7 rfl rfl)
theorem dX4_deposit_32 : decode cX4_deposit 32 = .ok (.ireturn, 1) := dk_172 (dk_at dksX4_deposit_1 8 rfl rfl)
theorem dX4_deposit_33 : decode cX4_deposit 33 = .ok (.aload_n 0, 1) := dk_42 (dk_at dksX4_deposit_1 9 rfl rfl)
theorem dX4_deposit_34 : decode cX4_deposit 34 = .ok (.aload_n 0, 1) := dk_42 (dk_at dksX4_deposit_1 10 rfl rfl)
theorem dX4_deposit_35 : decode cX4_deposit 35 = .ok (.getfield 7, 3) := dk_180 0 7 (dk_at dksX4_deposit_1 11 rfl rfl)
theorem dX4_deposit_38 : decode cX4_deposit 38 = .ok (.invokevirtual 90, 3) := dk_182 0 90 (dk_at dksX4_deposit_1 14 rfl rfl)
theorem dX4_deposit_41 : decode cX4_deposit 41 = .ok (.aload_n 0, 1) := dk_42 (dk_at dksX4_deposit_1 17 rfl rfl)
theorem dX4_deposit_42 : decode cX4_deposit 42 = .ok (.getfield 7, 3) := dk_180 0 7 (dk_at dksX4_deposit_1 18 rfl rfl)
theorem dX4_deposit_45 : decode cX4_deposit 45 = .ok (.iconst 5, 1) := dk_8 (dk_at dksX4_deposit_1 21 rfl rfl)
theorem dX4_deposit_46 : decode cX4_deposit 46 = .ok (.iload_n 1, 1) := dk_27 (dk_at dksX4_deposit_1 22 rfl rfl)
theorem dX4_deposit_47 : decode cX4_deposit 47 = .ok (.iadd, 1) := dk_96 (dk_at dksX4_deposit_1 23 rfl rfl)
theorem dX4_deposit_48 : decode cX4_deposit 48 = .ok (.dup2, 1) := dk_92 (dk_at dksX4_deposit_2 0 rfl rfl)
theorem dX4_deposit_49 : decode cX4_deposit 49 = .ok (.iaload, 1) := dk_46 (dk_at dksX4_deposit_2 1 rfl rfl)
theorem dX4_deposit_50 : decode cX4_deposit 50 = .ok (.iload_n 2, 1) := dk_28 (dk_at dksX4_deposit_2 2 rfl rfl)
theorem dX4_deposit_51 : decode cX4_deposit 51 = .ok (.iadd, 1) := dk_96 (dk_at dksX4_deposit_2 3 rfl rfl)
theorem dX4_deposit_52 : decode cX4_deposit 52 = .ok (.iastore, 1) := dk_79 (dk_at dksX4_deposit_2 4 rfl rfl)
theorem dX4_deposit_53 : decode cX4_deposit 53 = .ok (.aload_n 0, 1) := dk_42 (dk_at dksX4_deposit_2 5 rfl rfl)
theorem dX4_deposit_54 : decode cX4_deposit 54 = .ok (.getfield 7, 3) := dk_180 0 7 (dk_at dksX4_deposit_2 6 rfl rfl)
theorem dX4_deposit_57 : decode cX4_deposit 57 = .ok (.iconst 5, 1) := dk_8 (dk_at dksX4_deposit_2 9 rfl rfl)
theorem dX4_deposit_58 : decode cX4_deposit 58 = .ok (.iload_n 1, 1) := dk_27 (dk_at dksX4_deposit_2 10 rfl rfl)
theorem dX4_deposit_59 : decode cX4_deposit 59 = .ok (.iadd, 1) := dk_96 (dk_at dksX4_deposit_2 11 rfl rfl)
theorem dX4_deposit_60 : decode cX4_deposit 60 = .ok (.iaload, 1) := dk_46 (dk_at dksX4_deposit_2 12 rfl rfl)
theorem dX4_deposit_61 : decode cX4_deposit 61 = .ok (.ireturn, 1) := dk_172 (dk_at dksX4_deposit_2 13 rfl rfl)
abbrev cX4_isNone : ByteArray := prog_19_method_9_code
def yX4_isNone : MethodName := ⟨RX4, "isNone", "(I)Z"⟩
def dkwX4_isNone_0 : List UInt8 := [42, 42, 27, 182, 0, 72, 153, 0, 7, 3, 167, 0, 4, 4, 182, 0, 76, 172]
abbrev dktX4_isNone_0 : List UInt8 := dkwX4_isNone_0 ++ []
theorem dksX4_isNone_0 : cX4_isNone.data.toList.drop 0 = dktX4_isNone_0 := by decide +kernel
theorem dX4_isNone_0 : decode cX4_isNone 0 = .ok (.aload_n 0, 1) := dk_42 (dk_at dksX4_isNone_0 0 rfl rfl)
theorem dX4_isNone_1 : decode cX4_isNone 1 = .ok (.aload_n 0, 1) := dk_42 (dk_at dksX4_isNone_0 1 rfl rfl)
theorem dX4_isNone_2 : decode cX4_isNone 2 = .ok (.iload_n 1, 1) := dk_27 (dk_at dksX4_isNone_0 2 rfl rfl)
theorem dX4_isNone_3 : decode cX4_isNone 3 = .ok (.invokevirtual 72, 3) := dk_182 0 72 (dk_at dksX4_isNone_0 3 rfl rfl)
theorem dX4_isNone_6 : decode cX4_isNone 6 = .ok (.ifCond .eq 7, 3) := dk_153 0 7 (dk_at dksX4_isNone_0 6 rfl rfl)
theorem dX4_isNone_9 : decode cX4_isNone 9 = .ok (.iconst 0, 1) := dk_3 (dk_at dksX4_isNone_0 9 rfl rfl)
theorem dX4_isNone_10 : decode cX4_isNone 10 = .ok (.goto 4, 3) := dk_167 0 4 (dk_at dksX4_isNone_0 10 rfl rfl)
theorem dX4_isNone_13 : decode cX4_isNone 13 = .ok (.iconst 1, 1) := dk_4 (dk_at dksX4_isNone_0 13 rfl rfl)
theorem dX4_isNone_14 : decode cX4_isNone 14 = .ok (.invokevirtual 76, 3) := dk_182 0 76 (dk_at dksX4_isNone_0 14 rfl rfl)
theorem dX4_isNone_17 : decode cX4_isNone 17 = .ok (.ireturn, 1) := dk_172 (dk_at dksX4_isNone_0 17 rfl rfl)
abbrev cX4_isParty : ByteArray := prog_19_method_8_code
def yX4_isParty : MethodName := ⟨RX4, "isParty", "(I)Z"⟩
def dkwX4_isParty_0 : List UInt8 := [27, 3, 42, 180, 0, 7, 3, 46, 4, 100, 184, 0, 68, 172]
abbrev dktX4_isParty_0 : List UInt8 := dkwX4_isParty_0 ++ []
theorem dksX4_isParty_0 : cX4_isParty.data.toList.drop 0 = dktX4_isParty_0 := by decide +kernel
theorem dX4_isParty_0 : decode cX4_isParty 0 = .ok (.iload_n 1, 1) := dk_27 (dk_at dksX4_isParty_0 0 rfl rfl)
theorem dX4_isParty_1 : decode cX4_isParty 1 = .ok (.iconst 0, 1) := dk_3 (dk_at dksX4_isParty_0 1 rfl rfl)
theorem dX4_isParty_2 : decode cX4_isParty 2 = .ok (.aload_n 0, 1) := dk_42 (dk_at dksX4_isParty_0 2 rfl rfl)
theorem dX4_isParty_3 : decode cX4_isParty 3 = .ok (.getfield 7, 3) := dk_180 0 7 (dk_at dksX4_isParty_0 3 rfl rfl)
theorem dX4_isParty_6 : decode cX4_isParty 6 = .ok (.iconst 0, 1) := dk_3 (dk_at dksX4_isParty_0 6 rfl rfl)
theorem dX4_isParty_7 : decode cX4_isParty 7 = .ok (.iaload, 1) := dk_46 (dk_at dksX4_isParty_0 7 rfl rfl)
theorem dX4_isParty_8 : decode cX4_isParty 8 = .ok (.iconst 1, 1) := dk_4 (dk_at dksX4_isParty_0 8 rfl rfl)
theorem dX4_isParty_9 : decode cX4_isParty 9 = .ok (.isub, 1) := dk_100 (dk_at dksX4_isParty_0 9 rfl rfl)
theorem dX4_isParty_10 : decode cX4_isParty 10 = .ok (.invokestatic 68, 3) := dk_184 0 68 (dk_at dksX4_isParty_0 10 rfl rfl)
theorem dX4_isParty_13 : decode cX4_isParty 13 = .ok (.ireturn, 1) := dk_172 (dk_at dksX4_isParty_0 13 rfl rfl)
abbrev cX4_owe : ByteArray := prog_19_method_18_code
def yX4_owe : MethodName := ⟨RX4, "owe", "(III)I"⟩
def dkwX4_owe_3 : List UInt8 := [16, 12, 16, 7, 27, 104, 96, 28, 96, 92, 46, 29, 96, 79, 42, 27, 28, 182, 0, 79, 172]
abbrev dktX4_owe_3 : List UInt8 := dkwX4_owe_3 ++ []
def dkwX4_owe_2 : List UInt8 := [167, 0, 4, 3, 182, 0, 76, 153, 0, 5, 3, 172, 42, 42, 180, 0, 7, 182, 0, 90, 42, 180, 0, 7]
abbrev dktX4_owe_2 : List UInt8 := dkwX4_owe_2 ++ dktX4_owe_3
def dkwX4_owe_1 : List UInt8 := [154, 0, 7, 5, 167, 0, 22, 42, 27, 28, 182, 0, 79, 29, 96, 17, 3, 231, 164, 0, 7, 6]
abbrev dktX4_owe_1 : List UInt8 := dkwX4_owe_1 ++ dktX4_owe_2
def dkwX4_owe_0 : List UInt8 := [42, 27, 28, 182, 0, 97, 154, 0, 49, 42, 27, 28, 159, 0, 14, 29, 4, 17, 3, 231, 184, 0, 68]
abbrev dktX4_owe_0 : List UInt8 := dkwX4_owe_0 ++ dktX4_owe_1
theorem dksX4_owe_0 : cX4_owe.data.toList.drop 0 = dktX4_owe_0 := by decide +kernel
theorem dksX4_owe_1 : cX4_owe.data.toList.drop 23 = dktX4_owe_1 := dk_seg dksX4_owe_0 23 rfl rfl
theorem dksX4_owe_2 : cX4_owe.data.toList.drop 45 = dktX4_owe_2 := dk_seg dksX4_owe_1 22 rfl rfl
theorem dksX4_owe_3 : cX4_owe.data.toList.drop 69 = dktX4_owe_3 := dk_seg dksX4_owe_2 24 rfl rfl
theorem dX4_owe_0 : decode cX4_owe 0 = .ok (.aload_n 0, 1) := dk_42 (dk_at dksX4_owe_0 0 rfl rfl)
theorem dX4_owe_1 : decode cX4_owe 1 = .ok (.iload_n 1, 1) := dk_27 (dk_at dksX4_owe_0 1 rfl rfl)
theorem dX4_owe_2 : decode cX4_owe 2 = .ok (.iload_n 2, 1) := dk_28 (dk_at dksX4_owe_0 2 rfl rfl)
theorem dX4_owe_3 : decode cX4_owe 3 = .ok (.invokevirtual 97, 3) := dk_182 0 97 (dk_at dksX4_owe_0 3 rfl rfl)
theorem dX4_owe_6 : decode cX4_owe 6 = .ok (.ifCond .ne 49, 3) := dk_154 0 49 (dk_at dksX4_owe_0 6 rfl rfl)
theorem dX4_owe_9 : decode cX4_owe 9 = .ok (.aload_n 0, 1) := dk_42 (dk_at dksX4_owe_0 9 rfl rfl)
theorem dX4_owe_10 : decode cX4_owe 10 = .ok (.iload_n 1, 1) := dk_27 (dk_at dksX4_owe_0 10 rfl rfl)
theorem dX4_owe_11 : decode cX4_owe 11 = .ok (.iload_n 2, 1) := dk_28 (dk_at dksX4_owe_0 11 rfl rfl)
theorem dX4_owe_12 : decode cX4_owe 12 = .ok (.if_icmp .eq 14, 3) := dk_159 0 14 (dk_at dksX4_owe_0 12 rfl rfl)
theorem dX4_owe_15 : decode cX4_owe 15 = .ok (.iload_n 3, 1) := dk_29 (dk_at dksX4_owe_0 15 rfl rfl)
theorem dX4_owe_16 : decode cX4_owe 16 = .ok (.iconst 1, 1) := dk_4 (dk_at dksX4_owe_0 16 rfl rfl)
theorem dX4_owe_17 : decode cX4_owe 17 = .ok (.sipush 999, 3) := dk_17 3 231 (dk_at dksX4_owe_0 17 rfl rfl)
theorem dX4_owe_20 : decode cX4_owe 20 = .ok (.invokestatic 68, 3) := dk_184 0 68 (dk_at dksX4_owe_0 20 rfl rfl)
theorem dX4_owe_23 : decode cX4_owe 23 = .ok (.ifCond .ne 7, 3) := dk_154 0 7 (dk_at dksX4_owe_1 0 rfl rfl)
theorem dX4_owe_26 : decode cX4_owe 26 = .ok (.iconst 2, 1) := dk_5 (dk_at dksX4_owe_1 3 rfl rfl)
theorem dX4_owe_27 : decode cX4_owe 27 = .ok (.goto 22, 3) := dk_167 0 22 (dk_at dksX4_owe_1 4 rfl rfl)
theorem dX4_owe_30 : decode cX4_owe 30 = .ok (.aload_n 0, 1) := dk_42 (dk_at dksX4_owe_1 7 rfl rfl)
theorem dX4_owe_31 : decode cX4_owe 31 = .ok (.iload_n 1, 1) := dk_27 (dk_at dksX4_owe_1 8 rfl rfl)
theorem dX4_owe_32 : decode cX4_owe 32 = .ok (.iload_n 2, 1) := dk_28 (dk_at dksX4_owe_1 9 rfl rfl)
theorem dX4_owe_33 : decode cX4_owe 33 = .ok (.invokevirtual 79, 3) := dk_182 0 79 (dk_at dksX4_owe_1 10 rfl rfl)
theorem dX4_owe_36 : decode cX4_owe 36 = .ok (.iload_n 3, 1) := dk_29 (dk_at dksX4_owe_1 13 rfl rfl)
theorem dX4_owe_37 : decode cX4_owe 37 = .ok (.iadd, 1) := dk_96 (dk_at dksX4_owe_1 14 rfl rfl)
theorem dX4_owe_38 : decode cX4_owe 38 = .ok (.sipush 999, 3) := dk_17 3 231 (dk_at dksX4_owe_1 15 rfl rfl)
theorem dX4_owe_41 : decode cX4_owe 41 = .ok (.if_icmp .le 7, 3) := dk_164 0 7 (dk_at dksX4_owe_1 18 rfl rfl)
theorem dX4_owe_44 : decode cX4_owe 44 = .ok (.iconst 3, 1) := dk_6 (dk_at dksX4_owe_1 21 rfl rfl)
theorem dX4_owe_45 : decode cX4_owe 45 = .ok (.goto 4, 3) := dk_167 0 4 (dk_at dksX4_owe_2 0 rfl rfl)
theorem dX4_owe_48 : decode cX4_owe 48 = .ok (.iconst 0, 1) := dk_3 (dk_at dksX4_owe_2 3 rfl rfl)
theorem dX4_owe_49 : decode cX4_owe 49 = .ok (.invokevirtual 76, 3) := dk_182 0 76 (dk_at dksX4_owe_2 4 rfl rfl)
theorem dX4_owe_52 : decode cX4_owe 52 = .ok (.ifCond .eq 5, 3) := dk_153 0 5 (dk_at dksX4_owe_2 7 rfl rfl)
theorem dX4_owe_55 : decode cX4_owe 55 = .ok (.iconst 0, 1) := dk_3 (dk_at dksX4_owe_2 10 rfl rfl)
theorem dX4_owe_56 : decode cX4_owe 56 = .ok (.ireturn, 1) := dk_172 (dk_at dksX4_owe_2 11 rfl rfl)
theorem dX4_owe_57 : decode cX4_owe 57 = .ok (.aload_n 0, 1) := dk_42 (dk_at dksX4_owe_2 12 rfl rfl)
theorem dX4_owe_58 : decode cX4_owe 58 = .ok (.aload_n 0, 1) := dk_42 (dk_at dksX4_owe_2 13 rfl rfl)
theorem dX4_owe_59 : decode cX4_owe 59 = .ok (.getfield 7, 3) := dk_180 0 7 (dk_at dksX4_owe_2 14 rfl rfl)
theorem dX4_owe_62 : decode cX4_owe 62 = .ok (.invokevirtual 90, 3) := dk_182 0 90 (dk_at dksX4_owe_2 17 rfl rfl)
theorem dX4_owe_65 : decode cX4_owe 65 = .ok (.aload_n 0, 1) := dk_42 (dk_at dksX4_owe_2 20 rfl rfl)
theorem dX4_owe_66 : decode cX4_owe 66 = .ok (.getfield 7, 3) := dk_180 0 7 (dk_at dksX4_owe_2 21 rfl rfl)
theorem dX4_owe_69 : decode cX4_owe 69 = .ok (.bipush 12, 2) := dk_16 12 (dk_at dksX4_owe_3 0 rfl rfl)
theorem dX4_owe_71 : decode cX4_owe 71 = .ok (.bipush 7, 2) := dk_16 7 (dk_at dksX4_owe_3 2 rfl rfl)
theorem dX4_owe_73 : decode cX4_owe 73 = .ok (.iload_n 1, 1) := dk_27 (dk_at dksX4_owe_3 4 rfl rfl)
theorem dX4_owe_74 : decode cX4_owe 74 = .ok (.imul, 1) := dk_104 (dk_at dksX4_owe_3 5 rfl rfl)
theorem dX4_owe_75 : decode cX4_owe 75 = .ok (.iadd, 1) := dk_96 (dk_at dksX4_owe_3 6 rfl rfl)
theorem dX4_owe_76 : decode cX4_owe 76 = .ok (.iload_n 2, 1) := dk_28 (dk_at dksX4_owe_3 7 rfl rfl)
theorem dX4_owe_77 : decode cX4_owe 77 = .ok (.iadd, 1) := dk_96 (dk_at dksX4_owe_3 8 rfl rfl)
theorem dX4_owe_78 : decode cX4_owe 78 = .ok (.dup2, 1) := dk_92 (dk_at dksX4_owe_3 9 rfl rfl)
theorem dX4_owe_79 : decode cX4_owe 79 = .ok (.iaload, 1) := dk_46 (dk_at dksX4_owe_3 10 rfl rfl)
theorem dX4_owe_80 : decode cX4_owe 80 = .ok (.iload_n 3, 1) := dk_29 (dk_at dksX4_owe_3 11 rfl rfl)
theorem dX4_owe_81 : decode cX4_owe 81 = .ok (.iadd, 1) := dk_96 (dk_at dksX4_owe_3 12 rfl rfl)
theorem dX4_owe_82 : decode cX4_owe 82 = .ok (.iastore, 1) := dk_79 (dk_at dksX4_owe_3 13 rfl rfl)
theorem dX4_owe_83 : decode cX4_owe 83 = .ok (.aload_n 0, 1) := dk_42 (dk_at dksX4_owe_3 14 rfl rfl)
theorem dX4_owe_84 : decode cX4_owe 84 = .ok (.iload_n 1, 1) := dk_27 (dk_at dksX4_owe_3 15 rfl rfl)
theorem dX4_owe_85 : decode cX4_owe 85 = .ok (.iload_n 2, 1) := dk_28 (dk_at dksX4_owe_3 16 rfl rfl)
theorem dX4_owe_86 : decode cX4_owe 86 = .ok (.invokevirtual 79, 3) := dk_182 0 79 (dk_at dksX4_owe_3 17 rfl rfl)
theorem dX4_owe_89 : decode cX4_owe 89 = .ok (.ireturn, 1) := dk_172 (dk_at dksX4_owe_3 20 rfl rfl)
abbrev cX4_areNone : ByteArray := prog_19_method_10_code
def yX4_areNone : MethodName := ⟨RX4, "areNone", "(II)Z"⟩
def dkwX4_areNone_1 : List UInt8 := [182, 0, 76, 172]
abbrev dktX4_areNone_1 : List UInt8 := dkwX4_areNone_1 ++ []
def dkwX4_areNone_0 : List UInt8 := [42, 42, 27, 182, 0, 72, 153, 0, 15, 42, 28, 182, 0, 72, 153, 0, 7, 3, 167, 0, 4, 4]
abbrev dktX4_areNone_0 : List UInt8 := dkwX4_areNone_0 ++ dktX4_areNone_1
theorem dksX4_areNone_0 : cX4_areNone.data.toList.drop 0 = dktX4_areNone_0 := by decide +kernel
theorem dksX4_areNone_1 : cX4_areNone.data.toList.drop 22 = dktX4_areNone_1 := dk_seg dksX4_areNone_0 22 rfl rfl
theorem dX4_areNone_0 : decode cX4_areNone 0 = .ok (.aload_n 0, 1) := dk_42 (dk_at dksX4_areNone_0 0 rfl rfl)
theorem dX4_areNone_1 : decode cX4_areNone 1 = .ok (.aload_n 0, 1) := dk_42 (dk_at dksX4_areNone_0 1 rfl rfl)
theorem dX4_areNone_2 : decode cX4_areNone 2 = .ok (.iload_n 1, 1) := dk_27 (dk_at dksX4_areNone_0 2 rfl rfl)
theorem dX4_areNone_3 : decode cX4_areNone 3 = .ok (.invokevirtual 72, 3) := dk_182 0 72 (dk_at dksX4_areNone_0 3 rfl rfl)
theorem dX4_areNone_6 : decode cX4_areNone 6 = .ok (.ifCond .eq 15, 3) := dk_153 0 15 (dk_at dksX4_areNone_0 6 rfl rfl)
theorem dX4_areNone_9 : decode cX4_areNone 9 = .ok (.aload_n 0, 1) := dk_42 (dk_at dksX4_areNone_0 9 rfl rfl)
theorem dX4_areNone_10 : decode cX4_areNone 10 = .ok (.iload_n 2, 1) := dk_28 (dk_at dksX4_areNone_0 10 rfl rfl)
theorem dX4_areNone_11 : decode cX4_areNone 11 = .ok (.invokevirtual 72, 3) := dk_182 0 72 (dk_at dksX4_areNone_0 11 rfl rfl)
theorem dX4_areNone_14 : decode cX4_areNone 14 = .ok (.ifCond .eq 7, 3) := dk_153 0 7 (dk_at dksX4_areNone_0 14 rfl rfl)
theorem dX4_areNone_17 : decode cX4_areNone 17 = .ok (.iconst 0, 1) := dk_3 (dk_at dksX4_areNone_0 17 rfl rfl)
theorem dX4_areNone_18 : decode cX4_areNone 18 = .ok (.goto 4, 3) := dk_167 0 4 (dk_at dksX4_areNone_0 18 rfl rfl)
theorem dX4_areNone_21 : decode cX4_areNone 21 = .ok (.iconst 1, 1) := dk_4 (dk_at dksX4_areNone_0 21 rfl rfl)
theorem dX4_areNone_22 : decode cX4_areNone 22 = .ok (.invokevirtual 76, 3) := dk_182 0 76 (dk_at dksX4_areNone_1 0 rfl rfl)
theorem dX4_areNone_25 : decode cX4_areNone 25 = .ok (.ireturn, 1) := dk_172 (dk_at dksX4_areNone_1 3 rfl rfl)
abbrev cX4_owes : ByteArray := prog_19_method_11_code
def yX4_owes : MethodName := ⟨RX4, "owes", "(II)I"⟩
def dkwX4_owes_0 : List UInt8 := [42, 180, 0, 7, 16, 12, 16, 7, 27, 104, 96, 28, 96, 46, 172]
abbrev dktX4_owes_0 : List UInt8 := dkwX4_owes_0 ++ []
theorem dksX4_owes_0 : cX4_owes.data.toList.drop 0 = dktX4_owes_0 := by decide +kernel
theorem dX4_owes_0 : decode cX4_owes 0 = .ok (.aload_n 0, 1) := dk_42 (dk_at dksX4_owes_0 0 rfl rfl)
theorem dX4_owes_1 : decode cX4_owes 1 = .ok (.getfield 7, 3) := dk_180 0 7 (dk_at dksX4_owes_0 1 rfl rfl)
theorem dX4_owes_4 : decode cX4_owes 4 = .ok (.bipush 12, 2) := dk_16 12 (dk_at dksX4_owes_0 4 rfl rfl)
theorem dX4_owes_6 : decode cX4_owes 6 = .ok (.bipush 7, 2) := dk_16 7 (dk_at dksX4_owes_0 6 rfl rfl)
theorem dX4_owes_8 : decode cX4_owes 8 = .ok (.iload_n 1, 1) := dk_27 (dk_at dksX4_owes_0 8 rfl rfl)
theorem dX4_owes_9 : decode cX4_owes 9 = .ok (.imul, 1) := dk_104 (dk_at dksX4_owes_0 9 rfl rfl)
theorem dX4_owes_10 : decode cX4_owes 10 = .ok (.iadd, 1) := dk_96 (dk_at dksX4_owes_0 10 rfl rfl)
theorem dX4_owes_11 : decode cX4_owes 11 = .ok (.iload_n 2, 1) := dk_28 (dk_at dksX4_owes_0 11 rfl rfl)
theorem dX4_owes_12 : decode cX4_owes 12 = .ok (.iadd, 1) := dk_96 (dk_at dksX4_owes_0 12 rfl rfl)
theorem dX4_owes_13 : decode cX4_owes 13 = .ok (.iaload, 1) := dk_46 (dk_at dksX4_owes_0 13 rfl rfl)
theorem dX4_owes_14 : decode cX4_owes 14 = .ok (.ireturn, 1) := dk_172 (dk_at dksX4_owes_0 14 rfl rfl)
abbrev cX4_pay : ByteArray := prog_19_method_20_code
def yX4_pay : MethodName := ⟨RX4, "pay", "(III)I"⟩
def dkwX4_pay_3 : List UInt8 := [42, 42, 180, 0, 7, 182, 0, 90, 42, 27, 28, 29, 182, 0, 101, 42, 27, 28, 182, 0, 79, 172]
abbrev dktX4_pay_3 : List UInt8 := dkwX4_pay_3 ++ []
def dkwX4_pay_2 : List UInt8 := [180, 0, 7, 8, 27, 96, 46, 29, 162, 0, 7, 7, 167, 0, 4, 3, 182, 0, 76, 153, 0, 5, 3, 172]
abbrev dktX4_pay_2 : List UInt8 := dkwX4_pay_2 ++ dktX4_pay_3
def dkwX4_pay_1 : List UInt8 := [154, 0, 7, 5, 167, 0, 34, 42, 27, 28, 182, 0, 79, 29, 162, 0, 7, 6, 167, 0, 20, 42]
abbrev dktX4_pay_1 : List UInt8 := dkwX4_pay_1 ++ dktX4_pay_2
def dkwX4_pay_0 : List UInt8 := [42, 27, 28, 182, 0, 97, 154, 0, 61, 42, 27, 28, 159, 0, 14, 29, 4, 17, 3, 231, 184, 0, 68]
abbrev dktX4_pay_0 : List UInt8 := dkwX4_pay_0 ++ dktX4_pay_1
theorem dksX4_pay_0 : cX4_pay.data.toList.drop 0 = dktX4_pay_0 := by decide +kernel
theorem dksX4_pay_1 : cX4_pay.data.toList.drop 23 = dktX4_pay_1 := dk_seg dksX4_pay_0 23 rfl rfl
theorem dksX4_pay_2 : cX4_pay.data.toList.drop 45 = dktX4_pay_2 := dk_seg dksX4_pay_1 22 rfl rfl
theorem dksX4_pay_3 : cX4_pay.data.toList.drop 69 = dktX4_pay_3 := dk_seg dksX4_pay_2 24 rfl rfl
theorem dX4_pay_0 : decode cX4_pay 0 = .ok (.aload_n 0, 1) := dk_42 (dk_at dksX4_pay_0 0 rfl rfl)
theorem dX4_pay_1 : decode cX4_pay 1 = .ok (.iload_n 1, 1) := dk_27 (dk_at dksX4_pay_0 1 rfl rfl)
theorem dX4_pay_2 : decode cX4_pay 2 = .ok (.iload_n 2, 1) := dk_28 (dk_at dksX4_pay_0 2 rfl rfl)
theorem dX4_pay_3 : decode cX4_pay 3 = .ok (.invokevirtual 97, 3) := dk_182 0 97 (dk_at dksX4_pay_0 3 rfl rfl)
theorem dX4_pay_6 : decode cX4_pay 6 = .ok (.ifCond .ne 61, 3) := dk_154 0 61 (dk_at dksX4_pay_0 6 rfl rfl)
theorem dX4_pay_9 : decode cX4_pay 9 = .ok (.aload_n 0, 1) := dk_42 (dk_at dksX4_pay_0 9 rfl rfl)
theorem dX4_pay_10 : decode cX4_pay 10 = .ok (.iload_n 1, 1) := dk_27 (dk_at dksX4_pay_0 10 rfl rfl)
theorem dX4_pay_11 : decode cX4_pay 11 = .ok (.iload_n 2, 1) := dk_28 (dk_at dksX4_pay_0 11 rfl rfl)
theorem dX4_pay_12 : decode cX4_pay 12 = .ok (.if_icmp .eq 14, 3) := dk_159 0 14 (dk_at dksX4_pay_0 12 rfl rfl)
theorem dX4_pay_15 : decode cX4_pay 15 = .ok (.iload_n 3, 1) := dk_29 (dk_at dksX4_pay_0 15 rfl rfl)
theorem dX4_pay_16 : decode cX4_pay 16 = .ok (.iconst 1, 1) := dk_4 (dk_at dksX4_pay_0 16 rfl rfl)
theorem dX4_pay_17 : decode cX4_pay 17 = .ok (.sipush 999, 3) := dk_17 3 231 (dk_at dksX4_pay_0 17 rfl rfl)
theorem dX4_pay_20 : decode cX4_pay 20 = .ok (.invokestatic 68, 3) := dk_184 0 68 (dk_at dksX4_pay_0 20 rfl rfl)
theorem dX4_pay_23 : decode cX4_pay 23 = .ok (.ifCond .ne 7, 3) := dk_154 0 7 (dk_at dksX4_pay_1 0 rfl rfl)
theorem dX4_pay_26 : decode cX4_pay 26 = .ok (.iconst 2, 1) := dk_5 (dk_at dksX4_pay_1 3 rfl rfl)
theorem dX4_pay_27 : decode cX4_pay 27 = .ok (.goto 34, 3) := dk_167 0 34 (dk_at dksX4_pay_1 4 rfl rfl)
theorem dX4_pay_30 : decode cX4_pay 30 = .ok (.aload_n 0, 1) := dk_42 (dk_at dksX4_pay_1 7 rfl rfl)
theorem dX4_pay_31 : decode cX4_pay 31 = .ok (.iload_n 1, 1) := dk_27 (dk_at dksX4_pay_1 8 rfl rfl)
theorem dX4_pay_32 : decode cX4_pay 32 = .ok (.iload_n 2, 1) := dk_28 (dk_at dksX4_pay_1 9 rfl rfl)
theorem dX4_pay_33 : decode cX4_pay 33 = .ok (.invokevirtual 79, 3) := dk_182 0 79 (dk_at dksX4_pay_1 10 rfl rfl)
theorem dX4_pay_36 : decode cX4_pay 36 = .ok (.iload_n 3, 1) := dk_29 (dk_at dksX4_pay_1 13 rfl rfl)
theorem dX4_pay_37 : decode cX4_pay 37 = .ok (.if_icmp .ge 7, 3) := dk_162 0 7 (dk_at dksX4_pay_1 14 rfl rfl)
theorem dX4_pay_40 : decode cX4_pay 40 = .ok (.iconst 3, 1) := dk_6 (dk_at dksX4_pay_1 17 rfl rfl)
theorem dX4_pay_41 : decode cX4_pay 41 = .ok (.goto 20, 3) := dk_167 0 20 (dk_at dksX4_pay_1 18 rfl rfl)
theorem dX4_pay_44 : decode cX4_pay 44 = .ok (.aload_n 0, 1) := dk_42 (dk_at dksX4_pay_1 21 rfl rfl)
theorem dX4_pay_45 : decode cX4_pay 45 = .ok (.getfield 7, 3) := dk_180 0 7 (dk_at dksX4_pay_2 0 rfl rfl)
theorem dX4_pay_48 : decode cX4_pay 48 = .ok (.iconst 5, 1) := dk_8 (dk_at dksX4_pay_2 3 rfl rfl)
theorem dX4_pay_49 : decode cX4_pay 49 = .ok (.iload_n 1, 1) := dk_27 (dk_at dksX4_pay_2 4 rfl rfl)
theorem dX4_pay_50 : decode cX4_pay 50 = .ok (.iadd, 1) := dk_96 (dk_at dksX4_pay_2 5 rfl rfl)
theorem dX4_pay_51 : decode cX4_pay 51 = .ok (.iaload, 1) := dk_46 (dk_at dksX4_pay_2 6 rfl rfl)
theorem dX4_pay_52 : decode cX4_pay 52 = .ok (.iload_n 3, 1) := dk_29 (dk_at dksX4_pay_2 7 rfl rfl)
theorem dX4_pay_53 : decode cX4_pay 53 = .ok (.if_icmp .ge 7, 3) := dk_162 0 7 (dk_at dksX4_pay_2 8 rfl rfl)
theorem dX4_pay_56 : decode cX4_pay 56 = .ok (.iconst 4, 1) := dk_7 (dk_at dksX4_pay_2 11 rfl rfl)
theorem dX4_pay_57 : decode cX4_pay 57 = .ok (.goto 4, 3) := dk_167 0 4 (dk_at dksX4_pay_2 12 rfl rfl)
theorem dX4_pay_60 : decode cX4_pay 60 = .ok (.iconst 0, 1) := dk_3 (dk_at dksX4_pay_2 15 rfl rfl)
theorem dX4_pay_61 : decode cX4_pay 61 = .ok (.invokevirtual 76, 3) := dk_182 0 76 (dk_at dksX4_pay_2 16 rfl rfl)
theorem dX4_pay_64 : decode cX4_pay 64 = .ok (.ifCond .eq 5, 3) := dk_153 0 5 (dk_at dksX4_pay_2 19 rfl rfl)
theorem dX4_pay_67 : decode cX4_pay 67 = .ok (.iconst 0, 1) := dk_3 (dk_at dksX4_pay_2 22 rfl rfl)
theorem dX4_pay_68 : decode cX4_pay 68 = .ok (.ireturn, 1) := dk_172 (dk_at dksX4_pay_2 23 rfl rfl)
theorem dX4_pay_69 : decode cX4_pay 69 = .ok (.aload_n 0, 1) := dk_42 (dk_at dksX4_pay_3 0 rfl rfl)
theorem dX4_pay_70 : decode cX4_pay 70 = .ok (.aload_n 0, 1) := dk_42 (dk_at dksX4_pay_3 1 rfl rfl)
theorem dX4_pay_71 : decode cX4_pay 71 = .ok (.getfield 7, 3) := dk_180 0 7 (dk_at dksX4_pay_3 2 rfl rfl)
theorem dX4_pay_74 : decode cX4_pay 74 = .ok (.invokevirtual 90, 3) := dk_182 0 90 (dk_at dksX4_pay_3 5 rfl rfl)
theorem dX4_pay_77 : decode cX4_pay 77 = .ok (.aload_n 0, 1) := dk_42 (dk_at dksX4_pay_3 8 rfl rfl)
theorem dX4_pay_78 : decode cX4_pay 78 = .ok (.iload_n 1, 1) := dk_27 (dk_at dksX4_pay_3 9 rfl rfl)
theorem dX4_pay_79 : decode cX4_pay 79 = .ok (.iload_n 2, 1) := dk_28 (dk_at dksX4_pay_3 10 rfl rfl)
theorem dX4_pay_80 : decode cX4_pay 80 = .ok (.iload_n 3, 1) := dk_29 (dk_at dksX4_pay_3 11 rfl rfl)
theorem dX4_pay_81 : decode cX4_pay 81 = .ok (.invokevirtual 101, 3) := dk_182 0 101 (dk_at dksX4_pay_3 12 rfl rfl)
theorem dX4_pay_84 : decode cX4_pay 84 = .ok (.aload_n 0, 1) := dk_42 (dk_at dksX4_pay_3 15 rfl rfl)
theorem dX4_pay_85 : decode cX4_pay 85 = .ok (.iload_n 1, 1) := dk_27 (dk_at dksX4_pay_3 16 rfl rfl)
theorem dX4_pay_86 : decode cX4_pay 86 = .ok (.iload_n 2, 1) := dk_28 (dk_at dksX4_pay_3 17 rfl rfl)
theorem dX4_pay_87 : decode cX4_pay 87 = .ok (.invokevirtual 79, 3) := dk_182 0 79 (dk_at dksX4_pay_3 18 rfl rfl)
theorem dX4_pay_90 : decode cX4_pay 90 = .ok (.ireturn, 1) := dk_172 (dk_at dksX4_pay_3 21 rfl rfl)
abbrev cX4_moves : ByteArray := prog_19_method_19_code
def yX4_moves : MethodName := ⟨RX4, "moves", "(III)V"⟩
def dkwX4_moves_1 : List UInt8 := [96, 92, 46, 29, 100, 79, 42, 180, 0, 7, 8, 28, 96, 92, 46, 29, 96, 79, 177]
abbrev dktX4_moves_1 : List UInt8 := dkwX4_moves_1 ++ []
def dkwX4_moves_0 : List UInt8 := [42, 180, 0, 7, 16, 12, 16, 7, 27, 104, 96, 28, 96, 92, 46, 29, 100, 79, 42, 180, 0, 7, 8, 27]
abbrev dktX4_moves_0 : List UInt8 := dkwX4_moves_0 ++ dktX4_moves_1
theorem dksX4_moves_0 : cX4_moves.data.toList.drop 0 = dktX4_moves_0 := by decide +kernel
theorem dksX4_moves_1 : cX4_moves.data.toList.drop 24 = dktX4_moves_1 := dk_seg dksX4_moves_0 24 rfl rfl
theorem dX4_moves_0 : decode cX4_moves 0 = .ok (.aload_n 0, 1) := dk_42 (dk_at dksX4_moves_0 0 rfl rfl)
theorem dX4_moves_1 : decode cX4_moves 1 = .ok (.getfield 7, 3) := dk_180 0 7 (dk_at dksX4_moves_0 1 rfl rfl)
theorem dX4_moves_4 : decode cX4_moves 4 = .ok (.bipush 12, 2) := dk_16 12 (dk_at dksX4_moves_0 4 rfl rfl)
theorem dX4_moves_6 : decode cX4_moves 6 = .ok (.bipush 7, 2) := dk_16 7 (dk_at dksX4_moves_0 6 rfl rfl)
theorem dX4_moves_8 : decode cX4_moves 8 = .ok (.iload_n 1, 1) := dk_27 (dk_at dksX4_moves_0 8 rfl rfl)
theorem dX4_moves_9 : decode cX4_moves 9 = .ok (.imul, 1) := dk_104 (dk_at dksX4_moves_0 9 rfl rfl)
theorem dX4_moves_10 : decode cX4_moves 10 = .ok (.iadd, 1) := dk_96 (dk_at dksX4_moves_0 10 rfl rfl)
theorem dX4_moves_11 : decode cX4_moves 11 = .ok (.iload_n 2, 1) := dk_28 (dk_at dksX4_moves_0 11 rfl rfl)
theorem dX4_moves_12 : decode cX4_moves 12 = .ok (.iadd, 1) := dk_96 (dk_at dksX4_moves_0 12 rfl rfl)
theorem dX4_moves_13 : decode cX4_moves 13 = .ok (.dup2, 1) := dk_92 (dk_at dksX4_moves_0 13 rfl rfl)
theorem dX4_moves_14 : decode cX4_moves 14 = .ok (.iaload, 1) := dk_46 (dk_at dksX4_moves_0 14 rfl rfl)
theorem dX4_moves_15 : decode cX4_moves 15 = .ok (.iload_n 3, 1) := dk_29 (dk_at dksX4_moves_0 15 rfl rfl)
theorem dX4_moves_16 : decode cX4_moves 16 = .ok (.isub, 1) := dk_100 (dk_at dksX4_moves_0 16 rfl rfl)
theorem dX4_moves_17 : decode cX4_moves 17 = .ok (.iastore, 1) := dk_79 (dk_at dksX4_moves_0 17 rfl rfl)
theorem dX4_moves_18 : decode cX4_moves 18 = .ok (.aload_n 0, 1) := dk_42 (dk_at dksX4_moves_0 18 rfl rfl)
theorem dX4_moves_19 : decode cX4_moves 19 = .ok (.getfield 7, 3) := dk_180 0 7 (dk_at dksX4_moves_0 19 rfl rfl)
theorem dX4_moves_22 : decode cX4_moves 22 = .ok (.iconst 5, 1) := dk_8 (dk_at dksX4_moves_0 22 rfl rfl)
theorem dX4_moves_23 : decode cX4_moves 23 = .ok (.iload_n 1, 1) := dk_27 (dk_at dksX4_moves_0 23 rfl rfl)
theorem dX4_moves_24 : decode cX4_moves 24 = .ok (.iadd, 1) := dk_96 (dk_at dksX4_moves_1 0 rfl rfl)
theorem dX4_moves_25 : decode cX4_moves 25 = .ok (.dup2, 1) := dk_92 (dk_at dksX4_moves_1 1 rfl rfl)
theorem dX4_moves_26 : decode cX4_moves 26 = .ok (.iaload, 1) := dk_46 (dk_at dksX4_moves_1 2 rfl rfl)
theorem dX4_moves_27 : decode cX4_moves 27 = .ok (.iload_n 3, 1) := dk_29 (dk_at dksX4_moves_1 3 rfl rfl)
theorem dX4_moves_28 : decode cX4_moves 28 = .ok (.isub, 1) := dk_100 (dk_at dksX4_moves_1 4 rfl rfl)
theorem dX4_moves_29 : decode cX4_moves 29 = .ok (.iastore, 1) := dk_79 (dk_at dksX4_moves_1 5 rfl rfl)
theorem dX4_moves_30 : decode cX4_moves 30 = .ok (.aload_n 0, 1) := dk_42 (dk_at dksX4_moves_1 6 rfl rfl)
theorem dX4_moves_31 : decode cX4_moves 31 = .ok (.getfield 7, 3) := dk_180 0 7 (dk_at dksX4_moves_1 7 rfl rfl)
theorem dX4_moves_34 : decode cX4_moves 34 = .ok (.iconst 5, 1) := dk_8 (dk_at dksX4_moves_1 10 rfl rfl)
theorem dX4_moves_35 : decode cX4_moves 35 = .ok (.iload_n 2, 1) := dk_28 (dk_at dksX4_moves_1 11 rfl rfl)
theorem dX4_moves_36 : decode cX4_moves 36 = .ok (.iadd, 1) := dk_96 (dk_at dksX4_moves_1 12 rfl rfl)
theorem dX4_moves_37 : decode cX4_moves 37 = .ok (.dup2, 1) := dk_92 (dk_at dksX4_moves_1 13 rfl rfl)
theorem dX4_moves_38 : decode cX4_moves 38 = .ok (.iaload, 1) := dk_46 (dk_at dksX4_moves_1 14 rfl rfl)
theorem dX4_moves_39 : decode cX4_moves 39 = .ok (.iload_n 3, 1) := dk_29 (dk_at dksX4_moves_1 15 rfl rfl)
theorem dX4_moves_40 : decode cX4_moves 40 = .ok (.iadd, 1) := dk_96 (dk_at dksX4_moves_1 16 rfl rfl)
theorem dX4_moves_41 : decode cX4_moves 41 = .ok (.iastore, 1) := dk_79 (dk_at dksX4_moves_1 17 rfl rfl)
theorem dX4_moves_42 : decode cX4_moves 42 = .ok (.return_, 1) := dk_177 (dk_at dksX4_moves_1 18 rfl rfl)
abbrev cX4_netPair : ByteArray := prog_19_method_21_code
def yX4_netPair : MethodName := ⟨RX4, "netPair", "(II)I"⟩
def dkwX4_netPair_4 : List UInt8 := [46, 5, 29, 104, 96, 79, 29, 172]
abbrev dktX4_netPair_4 : List UInt8 := dkwX4_netPair_4 ++ []
def dkwX4_netPair_3 : List UInt8 := [42, 180, 0, 7, 16, 12, 16, 7, 28, 104, 96, 27, 96, 92, 46, 29, 100, 79, 42, 180, 0, 7, 5, 92]
abbrev dktX4_netPair_3 : List UInt8 := dkwX4_netPair_3 ++ dktX4_netPair_4
def dkwX4_netPair_2 : List UInt8 := [180, 0, 7, 182, 0, 90, 42, 180, 0, 7, 16, 12, 16, 7, 27, 104, 96, 28, 96, 92, 46, 29, 100, 79]
abbrev dktX4_netPair_2 : List UInt8 := dkwX4_netPair_2 ++ dktX4_netPair_3
def dkwX4_netPair_1 : List UInt8 := [153, 0, 5, 3, 172, 42, 27, 28, 182, 0, 79, 42, 28, 27, 182, 0, 79, 184, 0, 105, 62, 42, 42]
abbrev dktX4_netPair_1 : List UInt8 := dkwX4_netPair_1 ++ dktX4_netPair_2
def dkwX4_netPair_0 : List UInt8 := [42, 27, 28, 182, 0, 97, 154, 0, 20, 42, 27, 28, 160, 0, 7, 5, 167, 0, 4, 3, 182, 0, 76]
abbrev dktX4_netPair_0 : List UInt8 := dkwX4_netPair_0 ++ dktX4_netPair_1
theorem dksX4_netPair_0 : cX4_netPair.data.toList.drop 0 = dktX4_netPair_0 := by decide +kernel
theorem dksX4_netPair_1 : cX4_netPair.data.toList.drop 23 = dktX4_netPair_1 := dk_seg dksX4_netPair_0 23 rfl rfl
theorem dksX4_netPair_2 : cX4_netPair.data.toList.drop 46 = dktX4_netPair_2 := dk_seg dksX4_netPair_1 23 rfl rfl
theorem dksX4_netPair_3 : cX4_netPair.data.toList.drop 70 = dktX4_netPair_3 := dk_seg dksX4_netPair_2 24 rfl rfl
theorem dksX4_netPair_4 : cX4_netPair.data.toList.drop 94 = dktX4_netPair_4 := dk_seg dksX4_netPair_3 24 rfl rfl
theorem dX4_netPair_0 : decode cX4_netPair 0 = .ok (.aload_n 0, 1) := dk_42 (dk_at dksX4_netPair_0 0 rfl rfl)
theorem dX4_netPair_1 : decode cX4_netPair 1 = .ok (.iload_n 1, 1) := dk_27 (dk_at dksX4_netPair_0 1 rfl rfl)
theorem dX4_netPair_2 : decode cX4_netPair 2 = .ok (.iload_n 2, 1) := dk_28 (dk_at dksX4_netPair_0 2 rfl rfl)
theorem dX4_netPair_3 : decode cX4_netPair 3 = .ok (.invokevirtual 97, 3) := dk_182 0 97 (dk_at dksX4_netPair_0 3 rfl rfl)
theorem dX4_netPair_6 : decode cX4_netPair 6 = .ok (.ifCond .ne 20, 3) := dk_154 0 20 (dk_at dksX4_netPair_0 6 rfl rfl)
theorem dX4_netPair_9 : decode cX4_netPair 9 = .ok (.aload_n 0, 1) := dk_42 (dk_at dksX4_netPair_0 9 rfl rfl)
theorem dX4_netPair_10 : decode cX4_netPair 10 = .ok (.iload_n 1, 1) := dk_27 (dk_at dksX4_netPair_0 10 rfl rfl)
theorem dX4_netPair_11 : decode cX4_netPair 11 = .ok (.iload_n 2, 1) := dk_28 (dk_at dksX4_netPair_0 11 rfl rfl)
theorem dX4_netPair_12 : decode cX4_netPair 12 = .ok (.if_icmp .ne 7, 3) := dk_160 0 7 (dk_at dksX4_netPair_0 12 rfl rfl)
theorem dX4_netPair_15 : decode cX4_netPair 15 = .ok (.iconst 2, 1) := dk_5 (dk_at dksX4_netPair_0 15 rfl rfl)
theorem dX4_netPair_16 : decode cX4_netPair 16 = .ok (.goto 4, 3) := dk_167 0 4 (dk_at dksX4_netPair_0 16 rfl rfl)
theorem dX4_netPair_19 : decode cX4_netPair 19 = .ok (.iconst 0, 1) := dk_3 (dk_at dksX4_netPair_0 19 rfl rfl)
theorem dX4_netPair_20 : decode cX4_netPair 20 = .ok (.invokevirtual 76, 3) := dk_182 0 76 (dk_at dksX4_netPair_0 20 rfl rfl)
theorem dX4_netPair_23 : decode cX4_netPair 23 = .ok (.ifCond .eq 5, 3) := dk_153 0 5 (dk_at dksX4_netPair_1 0 rfl rfl)
theorem dX4_netPair_26 : decode cX4_netPair 26 = .ok (.iconst 0, 1) := dk_3 (dk_at dksX4_netPair_1 3 rfl rfl)
theorem dX4_netPair_27 : decode cX4_netPair 27 = .ok (.ireturn, 1) := dk_172 (dk_at dksX4_netPair_1 4 rfl rfl)
theorem dX4_netPair_28 : decode cX4_netPair 28 = .ok (.aload_n 0, 1) := dk_42 (dk_at dksX4_netPair_1 5 rfl rfl)
theorem dX4_netPair_29 : decode cX4_netPair 29 = .ok (.iload_n 1, 1) := dk_27 (dk_at dksX4_netPair_1 6 rfl rfl)
theorem dX4_netPair_30 : decode cX4_netPair 30 = .ok (.iload_n 2, 1) := dk_28 (dk_at dksX4_netPair_1 7 rfl rfl)
theorem dX4_netPair_31 : decode cX4_netPair 31 = .ok (.invokevirtual 79, 3) := dk_182 0 79 (dk_at dksX4_netPair_1 8 rfl rfl)
theorem dX4_netPair_34 : decode cX4_netPair 34 = .ok (.aload_n 0, 1) := dk_42 (dk_at dksX4_netPair_1 11 rfl rfl)
theorem dX4_netPair_35 : decode cX4_netPair 35 = .ok (.iload_n 2, 1) := dk_28 (dk_at dksX4_netPair_1 12 rfl rfl)
theorem dX4_netPair_36 : decode cX4_netPair 36 = .ok (.iload_n 1, 1) := dk_27 (dk_at dksX4_netPair_1 13 rfl rfl)
theorem dX4_netPair_37 : decode cX4_netPair 37 = .ok (.invokevirtual 79, 3) := dk_182 0 79 (dk_at dksX4_netPair_1 14 rfl rfl)
theorem dX4_netPair_40 : decode cX4_netPair 40 = .ok (.invokestatic 105, 3) := dk_184 0 105 (dk_at dksX4_netPair_1 17 rfl rfl)
theorem dX4_netPair_43 : decode cX4_netPair 43 = .ok (.istore_n 3, 1) := dk_62 (dk_at dksX4_netPair_1 20 rfl rfl)
theorem dX4_netPair_44 : decode cX4_netPair 44 = .ok (.aload_n 0, 1) := dk_42 (dk_at dksX4_netPair_1 21 rfl rfl)
theorem dX4_netPair_45 : decode cX4_netPair 45 = .ok (.aload_n 0, 1) := dk_42 (dk_at dksX4_netPair_1 22 rfl rfl)
theorem dX4_netPair_46 : decode cX4_netPair 46 = .ok (.getfield 7, 3) := dk_180 0 7 (dk_at dksX4_netPair_2 0 rfl rfl)
theorem dX4_netPair_49 : decode cX4_netPair 49 = .ok (.invokevirtual 90, 3) := dk_182 0 90 (dk_at dksX4_netPair_2 3 rfl rfl)
theorem dX4_netPair_52 : decode cX4_netPair 52 = .ok (.aload_n 0, 1) := dk_42 (dk_at dksX4_netPair_2 6 rfl rfl)
theorem dX4_netPair_53 : decode cX4_netPair 53 = .ok (.getfield 7, 3) := dk_180 0 7 (dk_at dksX4_netPair_2 7 rfl rfl)
theorem dX4_netPair_56 : decode cX4_netPair 56 = .ok (.bipush 12, 2) := dk_16 12 (dk_at dksX4_netPair_2 10 rfl rfl)
theorem dX4_netPair_58 : decode cX4_netPair 58 = .ok (.bipush 7, 2) := dk_16 7 (dk_at dksX4_netPair_2 12 rfl rfl)
theorem dX4_netPair_60 : decode cX4_netPair 60 = .ok (.iload_n 1, 1) := dk_27 (dk_at dksX4_netPair_2 14 rfl rfl)
theorem dX4_netPair_61 : decode cX4_netPair 61 = .ok (.imul, 1) := dk_104 (dk_at dksX4_netPair_2 15 rfl rfl)
theorem dX4_netPair_62 : decode cX4_netPair 62 = .ok (.iadd, 1) := dk_96 (dk_at dksX4_netPair_2 16 rfl rfl)
theorem dX4_netPair_63 : decode cX4_netPair 63 = .ok (.iload_n 2, 1) := dk_28 (dk_at dksX4_netPair_2 17 rfl rfl)
theorem dX4_netPair_64 : decode cX4_netPair 64 = .ok (.iadd, 1) := dk_96 (dk_at dksX4_netPair_2 18 rfl rfl)
theorem dX4_netPair_65 : decode cX4_netPair 65 = .ok (.dup2, 1) := dk_92 (dk_at dksX4_netPair_2 19 rfl rfl)
theorem dX4_netPair_66 : decode cX4_netPair 66 = .ok (.iaload, 1) := dk_46 (dk_at dksX4_netPair_2 20 rfl rfl)
theorem dX4_netPair_67 : decode cX4_netPair 67 = .ok (.iload_n 3, 1) := dk_29 (dk_at dksX4_netPair_2 21 rfl rfl)
theorem dX4_netPair_68 : decode cX4_netPair 68 = .ok (.isub, 1) := dk_100 (dk_at dksX4_netPair_2 22 rfl rfl)
theorem dX4_netPair_69 : decode cX4_netPair 69 = .ok (.iastore, 1) := dk_79 (dk_at dksX4_netPair_2 23 rfl rfl)
theorem dX4_netPair_70 : decode cX4_netPair 70 = .ok (.aload_n 0, 1) := dk_42 (dk_at dksX4_netPair_3 0 rfl rfl)
theorem dX4_netPair_71 : decode cX4_netPair 71 = .ok (.getfield 7, 3) := dk_180 0 7 (dk_at dksX4_netPair_3 1 rfl rfl)
theorem dX4_netPair_74 : decode cX4_netPair 74 = .ok (.bipush 12, 2) := dk_16 12 (dk_at dksX4_netPair_3 4 rfl rfl)
theorem dX4_netPair_76 : decode cX4_netPair 76 = .ok (.bipush 7, 2) := dk_16 7 (dk_at dksX4_netPair_3 6 rfl rfl)
theorem dX4_netPair_78 : decode cX4_netPair 78 = .ok (.iload_n 2, 1) := dk_28 (dk_at dksX4_netPair_3 8 rfl rfl)
theorem dX4_netPair_79 : decode cX4_netPair 79 = .ok (.imul, 1) := dk_104 (dk_at dksX4_netPair_3 9 rfl rfl)
theorem dX4_netPair_80 : decode cX4_netPair 80 = .ok (.iadd, 1) := dk_96 (dk_at dksX4_netPair_3 10 rfl rfl)
theorem dX4_netPair_81 : decode cX4_netPair 81 = .ok (.iload_n 1, 1) := dk_27 (dk_at dksX4_netPair_3 11 rfl rfl)
theorem dX4_netPair_82 : decode cX4_netPair 82 = .ok (.iadd, 1) := dk_96 (dk_at dksX4_netPair_3 12 rfl rfl)
theorem dX4_netPair_83 : decode cX4_netPair 83 = .ok (.dup2, 1) := dk_92 (dk_at dksX4_netPair_3 13 rfl rfl)
theorem dX4_netPair_84 : decode cX4_netPair 84 = .ok (.iaload, 1) := dk_46 (dk_at dksX4_netPair_3 14 rfl rfl)
theorem dX4_netPair_85 : decode cX4_netPair 85 = .ok (.iload_n 3, 1) := dk_29 (dk_at dksX4_netPair_3 15 rfl rfl)
theorem dX4_netPair_86 : decode cX4_netPair 86 = .ok (.isub, 1) := dk_100 (dk_at dksX4_netPair_3 16 rfl rfl)
theorem dX4_netPair_87 : decode cX4_netPair 87 = .ok (.iastore, 1) := dk_79 (dk_at dksX4_netPair_3 17 rfl rfl)
theorem dX4_netPair_88 : decode cX4_netPair 88 = .ok (.aload_n 0, 1) := dk_42 (dk_at dksX4_netPair_3 18 rfl rfl)
theorem dX4_netPair_89 : decode cX4_netPair 89 = .ok (.getfield 7, 3) := dk_180 0 7 (dk_at dksX4_netPair_3 19 rfl rfl)
theorem dX4_netPair_92 : decode cX4_netPair 92 = .ok (.iconst 2, 1) := dk_5 (dk_at dksX4_netPair_3 22 rfl rfl)
theorem dX4_netPair_93 : decode cX4_netPair 93 = .ok (.dup2, 1) := dk_92 (dk_at dksX4_netPair_3 23 rfl rfl)
theorem dX4_netPair_94 : decode cX4_netPair 94 = .ok (.iaload, 1) := dk_46 (dk_at dksX4_netPair_4 0 rfl rfl)
theorem dX4_netPair_95 : decode cX4_netPair 95 = .ok (.iconst 2, 1) := dk_5 (dk_at dksX4_netPair_4 1 rfl rfl)
theorem dX4_netPair_96 : decode cX4_netPair 96 = .ok (.iload_n 3, 1) := dk_29 (dk_at dksX4_netPair_4 2 rfl rfl)
theorem dX4_netPair_97 : decode cX4_netPair 97 = .ok (.imul, 1) := dk_104 (dk_at dksX4_netPair_4 3 rfl rfl)
theorem dX4_netPair_98 : decode cX4_netPair 98 = .ok (.iadd, 1) := dk_96 (dk_at dksX4_netPair_4 4 rfl rfl)
theorem dX4_netPair_99 : decode cX4_netPair 99 = .ok (.iastore, 1) := dk_79 (dk_at dksX4_netPair_4 5 rfl rfl)
theorem dX4_netPair_100 : decode cX4_netPair 100 = .ok (.iload_n 3, 1) := dk_29 (dk_at dksX4_netPair_4 6 rfl rfl)
theorem dX4_netPair_101 : decode cX4_netPair 101 = .ok (.ireturn, 1) := dk_172 (dk_at dksX4_netPair_4 7 rfl rfl)
abbrev cX4_least : ByteArray := prog_19_method_5_code
def yX4_least : MethodName := ⟨RX4, "least", "(II)I"⟩
def dkwX4_least_0 : List UInt8 := [26, 27, 162, 0, 7, 26, 167, 0, 4, 27, 172]
abbrev dktX4_least_0 : List UInt8 := dkwX4_least_0 ++ []
theorem dksX4_least_0 : cX4_least.data.toList.drop 0 = dktX4_least_0 := by decide +kernel
theorem dX4_least_0 : decode cX4_least 0 = .ok (.iload_n 0, 1) := dk_26 (dk_at dksX4_least_0 0 rfl rfl)
theorem dX4_least_1 : decode cX4_least 1 = .ok (.iload_n 1, 1) := dk_27 (dk_at dksX4_least_0 1 rfl rfl)
theorem dX4_least_2 : decode cX4_least 2 = .ok (.if_icmp .ge 7, 3) := dk_162 0 7 (dk_at dksX4_least_0 2 rfl rfl)
theorem dX4_least_5 : decode cX4_least 5 = .ok (.iload_n 0, 1) := dk_26 (dk_at dksX4_least_0 5 rfl rfl)
theorem dX4_least_6 : decode cX4_least 6 = .ok (.goto 4, 3) := dk_167 0 4 (dk_at dksX4_least_0 6 rfl rfl)
theorem dX4_least_9 : decode cX4_least 9 = .ok (.iload_n 1, 1) := dk_27 (dk_at dksX4_least_0 9 rfl rfl)
theorem dX4_least_10 : decode cX4_least 10 = .ok (.ireturn, 1) := dk_172 (dk_at dksX4_least_0 10 rfl rfl)
abbrev cX4_netCycle : ByteArray := prog_19_method_26_code
def yX4_netCycle : MethodName := ⟨RX4, "netCycle", "()I"⟩
def dkwX4_netCycle_1 : List UInt8 := [42, 180, 0, 7, 182, 0, 90, 42, 27, 182, 0, 118, 172]
abbrev dktX4_netCycle_1 : List UInt8 := dkwX4_netCycle_1 ++ []
def dkwX4_netCycle_0 : List UInt8 := [42, 182, 0, 114, 60, 42, 27, 154, 0, 7, 4, 167, 0, 4, 3, 182, 0, 76, 153, 0, 5, 3, 172, 42]
abbrev dktX4_netCycle_0 : List UInt8 := dkwX4_netCycle_0 ++ dktX4_netCycle_1
theorem dksX4_netCycle_0 : cX4_netCycle.data.toList.drop 0 = dktX4_netCycle_0 := by decide +kernel
theorem dksX4_netCycle_1 : cX4_netCycle.data.toList.drop 24 = dktX4_netCycle_1 := dk_seg dksX4_netCycle_0 24 rfl rfl
theorem dX4_netCycle_0 : decode cX4_netCycle 0 = .ok (.aload_n 0, 1) := dk_42 (dk_at dksX4_netCycle_0 0 rfl rfl)
theorem dX4_netCycle_1 : decode cX4_netCycle 1 = .ok (.invokevirtual 114, 3) := dk_182 0 114 (dk_at dksX4_netCycle_0 1 rfl rfl)
theorem dX4_netCycle_4 : decode cX4_netCycle 4 = .ok (.istore_n 1, 1) := dk_60 (dk_at dksX4_netCycle_0 4 rfl rfl)
theorem dX4_netCycle_5 : decode cX4_netCycle 5 = .ok (.aload_n 0, 1) := dk_42 (dk_at dksX4_netCycle_0 5 rfl rfl)
theorem dX4_netCycle_6 : decode cX4_netCycle 6 = .ok (.iload_n 1, 1) := dk_27 (dk_at dksX4_netCycle_0 6 rfl rfl)
theorem dX4_netCycle_7 : decode cX4_netCycle 7 = .ok (.ifCond .ne 7, 3) := dk_154 0 7 (dk_at dksX4_netCycle_0 7 rfl rfl)
theorem dX4_netCycle_10 : decode cX4_netCycle 10 = .ok (.iconst 1, 1) := dk_4 (dk_at dksX4_netCycle_0 10 rfl rfl)
theorem dX4_netCycle_11 : decode cX4_netCycle 11 = .ok (.goto 4, 3) := dk_167 0 4 (dk_at dksX4_netCycle_0 11 rfl rfl)
theorem dX4_netCycle_14 : decode cX4_netCycle 14 = .ok (.iconst 0, 1) := dk_3 (dk_at dksX4_netCycle_0 14 rfl rfl)
theorem dX4_netCycle_15 : decode cX4_netCycle 15 = .ok (.invokevirtual 76, 3) := dk_182 0 76 (dk_at dksX4_netCycle_0 15 rfl rfl)
theorem dX4_netCycle_18 : decode cX4_netCycle 18 = .ok (.ifCond .eq 5, 3) := dk_153 0 5 (dk_at dksX4_netCycle_0 18 rfl rfl)
theorem dX4_netCycle_21 : decode cX4_netCycle 21 = .ok (.iconst 0, 1) := dk_3 (dk_at dksX4_netCycle_0 21 rfl rfl)
theorem dX4_netCycle_22 : decode cX4_netCycle 22 = .ok (.ireturn, 1) := dk_172 (dk_at dksX4_netCycle_0 22 rfl rfl)
theorem dX4_netCycle_23 : decode cX4_netCycle 23 = .ok (.aload_n 0, 1) := dk_42 (dk_at dksX4_netCycle_0 23 rfl rfl)
theorem dX4_netCycle_24 : decode cX4_netCycle 24 = .ok (.aload_n 0, 1) := dk_42 (dk_at dksX4_netCycle_1 0 rfl rfl)
theorem dX4_netCycle_25 : decode cX4_netCycle 25 = .ok (.getfield 7, 3) := dk_180 0 7 (dk_at dksX4_netCycle_1 1 rfl rfl)
theorem dX4_netCycle_28 : decode cX4_netCycle 28 = .ok (.invokevirtual 90, 3) := dk_182 0 90 (dk_at dksX4_netCycle_1 4 rfl rfl)
theorem dX4_netCycle_31 : decode cX4_netCycle 31 = .ok (.aload_n 0, 1) := dk_42 (dk_at dksX4_netCycle_1 7 rfl rfl)
theorem dX4_netCycle_32 : decode cX4_netCycle 32 = .ok (.iload_n 1, 1) := dk_27 (dk_at dksX4_netCycle_1 8 rfl rfl)
theorem dX4_netCycle_33 : decode cX4_netCycle 33 = .ok (.invokevirtual 118, 3) := dk_182 0 118 (dk_at dksX4_netCycle_1 9 rfl rfl)
theorem dX4_netCycle_36 : decode cX4_netCycle 36 = .ok (.ireturn, 1) := dk_172 (dk_at dksX4_netCycle_1 12 rfl rfl)
abbrev cX4_looks : ByteArray := prog_19_method_23_code
def yX4_looks : MethodName := ⟨RX4, "looks", "()I"⟩
def dkwX4_looks_2 : List UInt8 := [132, 1, 1, 167, 255, 207, 3, 172]
abbrev dktX4_looks_2 : List UInt8 := dkwX4_looks_2 ++ []
def dkwX4_looks_1 : List UInt8 := [42, 180, 0, 39, 3, 28, 79, 42, 4, 27, 182, 0, 108, 153, 0, 5, 27, 172, 132, 2, 1, 167, 255, 225]
abbrev dktX4_looks_1 : List UInt8 := dkwX4_looks_1 ++ dktX4_looks_2
def dkwX4_looks_0 : List UInt8 := [5, 60, 27, 42, 180, 0, 7, 3, 46, 163, 0, 45, 3, 61, 28, 42, 180, 0, 7, 3, 46, 162, 0, 27]
abbrev dktX4_looks_0 : List UInt8 := dkwX4_looks_0 ++ dktX4_looks_1
theorem dksX4_looks_0 : cX4_looks.data.toList.drop 0 = dktX4_looks_0 := by decide +kernel
theorem dksX4_looks_1 : cX4_looks.data.toList.drop 24 = dktX4_looks_1 := dk_seg dksX4_looks_0 24 rfl rfl
theorem dksX4_looks_2 : cX4_looks.data.toList.drop 48 = dktX4_looks_2 := dk_seg dksX4_looks_1 24 rfl rfl
theorem dX4_looks_0 : decode cX4_looks 0 = .ok (.iconst 2, 1) := dk_5 (dk_at dksX4_looks_0 0 rfl rfl)
theorem dX4_looks_1 : decode cX4_looks 1 = .ok (.istore_n 1, 1) := dk_60 (dk_at dksX4_looks_0 1 rfl rfl)
theorem dX4_looks_2 : decode cX4_looks 2 = .ok (.iload_n 1, 1) := dk_27 (dk_at dksX4_looks_0 2 rfl rfl)
theorem dX4_looks_3 : decode cX4_looks 3 = .ok (.aload_n 0, 1) := dk_42 (dk_at dksX4_looks_0 3 rfl rfl)
theorem dX4_looks_4 : decode cX4_looks 4 = .ok (.getfield 7, 3) := dk_180 0 7 (dk_at dksX4_looks_0 4 rfl rfl)
theorem dX4_looks_7 : decode cX4_looks 7 = .ok (.iconst 0, 1) := dk_3 (dk_at dksX4_looks_0 7 rfl rfl)
theorem dX4_looks_8 : decode cX4_looks 8 = .ok (.iaload, 1) := dk_46 (dk_at dksX4_looks_0 8 rfl rfl)
theorem dX4_looks_9 : decode cX4_looks 9 = .ok (.if_icmp .gt 45, 3) := dk_163 0 45 (dk_at dksX4_looks_0 9 rfl rfl)
theorem dX4_looks_12 : decode cX4_looks 12 = .ok (.iconst 0, 1) := dk_3 (dk_at dksX4_looks_0 12 rfl rfl)
theorem dX4_looks_13 : decode cX4_looks 13 = .ok (.istore_n 2, 1) := dk_61 (dk_at dksX4_looks_0 13 rfl rfl)
theorem dX4_looks_14 : decode cX4_looks 14 = .ok (.iload_n 2, 1) := dk_28 (dk_at dksX4_looks_0 14 rfl rfl)
theorem dX4_looks_15 : decode cX4_looks 15 = .ok (.aload_n 0, 1) := dk_42 (dk_at dksX4_looks_0 15 rfl rfl)
theorem dX4_looks_16 : decode cX4_looks 16 = .ok (.getfield 7, 3) := dk_180 0 7 (dk_at dksX4_looks_0 16 rfl rfl)
theorem dX4_looks_19 : decode cX4_looks 19 = .ok (.iconst 0, 1) := dk_3 (dk_at dksX4_looks_0 19 rfl rfl)
theorem dX4_looks_20 : decode cX4_looks 20 = .ok (.iaload, 1) := dk_46 (dk_at dksX4_looks_0 20 rfl rfl)
theorem dX4_looks_21 : decode cX4_looks 21 = .ok (.if_icmp .ge 27, 3) := dk_162 0 27 (dk_at dksX4_looks_0 21 rfl rfl)
theorem dX4_looks_24 : decode cX4_looks 24 = .ok (.aload_n 0, 1) := dk_42 (dk_at dksX4_looks_1 0 rfl rfl)
theorem dX4_looks_25 : decode cX4_looks 25 = .ok (.getfield 39, 3) := dk_180 0 39 (dk_at dksX4_looks_1 1 rfl rfl)
theorem dX4_looks_28 : decode cX4_looks 28 = .ok (.iconst 0, 1) := dk_3 (dk_at dksX4_looks_1 4 rfl rfl)
theorem dX4_looks_29 : decode cX4_looks 29 = .ok (.iload_n 2, 1) := dk_28 (dk_at dksX4_looks_1 5 rfl rfl)
theorem dX4_looks_30 : decode cX4_looks 30 = .ok (.iastore, 1) := dk_79 (dk_at dksX4_looks_1 6 rfl rfl)
theorem dX4_looks_31 : decode cX4_looks 31 = .ok (.aload_n 0, 1) := dk_42 (dk_at dksX4_looks_1 7 rfl rfl)
theorem dX4_looks_32 : decode cX4_looks 32 = .ok (.iconst 1, 1) := dk_4 (dk_at dksX4_looks_1 8 rfl rfl)
theorem dX4_looks_33 : decode cX4_looks 33 = .ok (.iload_n 1, 1) := dk_27 (dk_at dksX4_looks_1 9 rfl rfl)
theorem dX4_looks_34 : decode cX4_looks 34 = .ok (.invokevirtual 108, 3) := dk_182 0 108 (dk_at dksX4_looks_1 10 rfl rfl)
theorem dX4_looks_37 : decode cX4_looks 37 = .ok (.ifCond .eq 5, 3) := dk_153 0 5 (dk_at dksX4_looks_1 13 rfl rfl)
theorem dX4_looks_40 : decode cX4_looks 40 = .ok (.iload_n 1, 1) := dk_27 (dk_at dksX4_looks_1 16 rfl rfl)
theorem dX4_looks_41 : decode cX4_looks 41 = .ok (.ireturn, 1) := dk_172 (dk_at dksX4_looks_1 17 rfl rfl)
theorem dX4_looks_42 : decode cX4_looks 42 = .ok (.iinc 2 1, 3) := dk_132 2 1 (dk_at dksX4_looks_1 18 rfl rfl)
theorem dX4_looks_45 : decode cX4_looks 45 = .ok (.goto (-31), 3) := dk_167 255 225 (dk_at dksX4_looks_1 21 rfl rfl)
theorem dX4_looks_48 : decode cX4_looks 48 = .ok (.iinc 1 1, 3) := dk_132 1 1 (dk_at dksX4_looks_2 0 rfl rfl)
theorem dX4_looks_51 : decode cX4_looks 51 = .ok (.goto (-49), 3) := dk_167 255 207 (dk_at dksX4_looks_2 3 rfl rfl)
theorem dX4_looks_54 : decode cX4_looks 54 = .ok (.iconst 0, 1) := dk_3 (dk_at dksX4_looks_2 6 rfl rfl)
theorem dX4_looks_55 : decode cX4_looks 55 = .ok (.ireturn, 1) := dk_172 (dk_at dksX4_looks_2 7 rfl rfl)
abbrev cX4_goesOn : ByteArray := prog_19_method_22_code
def yX4_goesOn : MethodName := ⟨RX4, "goesOn", "(II)Z"⟩
def dkwX4_goesOn_6 : List UInt8 := [132, 4, 1, 167, 255, 157, 3, 172]
abbrev dktX4_goesOn_6 : List UInt8 := dkwX4_goesOn_6 ++ []
def dkwX4_goesOn_5 : List UInt8 := [167, 0, 24, 42, 180, 0, 39, 27, 21, 4, 79, 42, 27, 4, 96, 28, 182, 0, 108, 153, 0, 5, 4, 172]
abbrev dktX4_goesOn_5 : List UInt8 := dkwX4_goesOn_5 ++ dktX4_goesOn_6
def dkwX4_goesOn_4 : List UInt8 := [21, 4, 159, 0, 7, 4, 167, 0, 4, 3, 54, 5, 132, 6, 1, 167, 255, 223, 21, 5, 154, 0, 6]
abbrev dktX4_goesOn_4 : List UInt8 := dkwX4_goesOn_4 ++ dktX4_goesOn_5
def dkwX4_goesOn_3 : List UInt8 := [54, 5, 4, 54, 6, 21, 6, 27, 162, 0, 33, 21, 5, 153, 0, 19, 42, 180, 0, 39, 21, 6, 46]
abbrev dktX4_goesOn_3 : List UInt8 := dkwX4_goesOn_3 ++ dktX4_goesOn_4
def dkwX4_goesOn_2 : List UInt8 := [42, 180, 0, 7, 3, 46, 162, 0, 94, 42, 29, 21, 4, 182, 0, 79, 158, 0, 7, 4, 167, 0, 4, 3]
abbrev dktX4_goesOn_2 : List UInt8 := dkwX4_goesOn_2 ++ dktX4_goesOn_3
def dkwX4_goesOn_1 : List UInt8 := [182, 0, 79, 158, 0, 7, 4, 167, 0, 4, 3, 172, 42, 180, 0, 39, 3, 46, 4, 96, 54, 4, 21, 4]
abbrev dktX4_goesOn_1 : List UInt8 := dkwX4_goesOn_1 ++ dktX4_goesOn_2
def dkwX4_goesOn_0 : List UInt8 := [42, 180, 0, 39, 27, 4, 100, 46, 62, 27, 28, 160, 0, 23, 42, 29, 42, 180, 0, 39, 3, 46]
abbrev dktX4_goesOn_0 : List UInt8 := dkwX4_goesOn_0 ++ dktX4_goesOn_1
theorem dksX4_goesOn_0 : cX4_goesOn.data.toList.drop 0 = dktX4_goesOn_0 := by decide +kernel
theorem dksX4_goesOn_1 : cX4_goesOn.data.toList.drop 22 = dktX4_goesOn_1 := dk_seg dksX4_goesOn_0 22 rfl rfl
theorem dksX4_goesOn_2 : cX4_goesOn.data.toList.drop 46 = dktX4_goesOn_2 := dk_seg dksX4_goesOn_1 24 rfl rfl
theorem dksX4_goesOn_3 : cX4_goesOn.data.toList.drop 70 = dktX4_goesOn_3 := dk_seg dksX4_goesOn_2 24 rfl rfl
theorem dksX4_goesOn_4 : cX4_goesOn.data.toList.drop 93 = dktX4_goesOn_4 := dk_seg dksX4_goesOn_3 23 rfl rfl
theorem dksX4_goesOn_5 : cX4_goesOn.data.toList.drop 116 = dktX4_goesOn_5 := dk_seg dksX4_goesOn_4 23 rfl rfl
theorem dksX4_goesOn_6 : cX4_goesOn.data.toList.drop 140 = dktX4_goesOn_6 := dk_seg dksX4_goesOn_5 24 rfl rfl
theorem dX4_goesOn_0 : decode cX4_goesOn 0 = .ok (.aload_n 0, 1) := dk_42 (dk_at dksX4_goesOn_0 0 rfl rfl)
theorem dX4_goesOn_1 : decode cX4_goesOn 1 = .ok (.getfield 39, 3) := dk_180 0 39 (dk_at dksX4_goesOn_0 1 rfl rfl)
theorem dX4_goesOn_4 : decode cX4_goesOn 4 = .ok (.iload_n 1, 1) := dk_27 (dk_at dksX4_goesOn_0 4 rfl rfl)
theorem dX4_goesOn_5 : decode cX4_goesOn 5 = .ok (.iconst 1, 1) := dk_4 (dk_at dksX4_goesOn_0 5 rfl rfl)
theorem dX4_goesOn_6 : decode cX4_goesOn 6 = .ok (.isub, 1) := dk_100 (dk_at dksX4_goesOn_0 6 rfl rfl)
theorem dX4_goesOn_7 : decode cX4_goesOn 7 = .ok (.iaload, 1) := dk_46 (dk_at dksX4_goesOn_0 7 rfl rfl)
theorem dX4_goesOn_8 : decode cX4_goesOn 8 = .ok (.istore_n 3, 1) := dk_62 (dk_at dksX4_goesOn_0 8 rfl rfl)
theorem dX4_goesOn_9 : decode cX4_goesOn 9 = .ok (.iload_n 1, 1) := dk_27 (dk_at dksX4_goesOn_0 9 rfl rfl)
theorem dX4_goesOn_10 : decode cX4_goesOn 10 = .ok (.iload_n 2, 1) := dk_28 (dk_at dksX4_goesOn_0 10 rfl rfl)
theorem dX4_goesOn_11 : decode cX4_goesOn 11 = .ok (.if_icmp .ne 23, 3) := dk_160 0 23 (dk_at dksX4_goesOn_0 11 rfl rfl)
theorem dX4_goesOn_14 : decode cX4_goesOn 14 = .ok (.aload_n 0, 1) := dk_42 (dk_at dksX4_goesOn_0 14 rfl rfl)
theorem dX4_goesOn_15 : decode cX4_goesOn 15 = .ok (.iload_n 3, 1) := dk_29 (dk_at dksX4_goesOn_0 15 rfl rfl)
theorem dX4_goesOn_16 : decode cX4_goesOn 16 = .ok (.aload_n 0, 1) := dk_42 (dk_at dksX4_goesOn_0 16 rfl rfl)
theorem dX4_goesOn_17 : decode cX4_goesOn 17 = .ok (.getfield 39, 3) := dk_180 0 39 (dk_at dksX4_goesOn_0 17 rfl rfl)
theorem dX4_goesOn_20 : decode cX4_goesOn 20 = .ok (.iconst 0, 1) := dk_3 (dk_at dksX4_goesOn_0 20 rfl rfl)
theorem dX4_goesOn_21 : decode cX4_goesOn 21 = .ok (.iaload, 1) := dk_46 (dk_at dksX4_goesOn_0 21 rfl rfl)
theorem dX4_goesOn_22 : decode cX4_goesOn 22 = .ok (.invokevirtual 79, 3) := dk_182 0 79 (dk_at dksX4_goesOn_1 0 rfl rfl)
theorem dX4_goesOn_25 : decode cX4_goesOn 25 = .ok (.ifCond .le 7, 3) := dk_158 0 7 (dk_at dksX4_goesOn_1 3 rfl rfl)
theorem dX4_goesOn_28 : decode cX4_goesOn 28 = .ok (.iconst 1, 1) := dk_4 (dk_at dksX4_goesOn_1 6 rfl rfl)
theorem dX4_goesOn_29 : decode cX4_goesOn 29 = .ok (.goto 4, 3) := dk_167 0 4 (dk_at dksX4_goesOn_1 7 rfl rfl)
theorem dX4_goesOn_32 : decode cX4_goesOn 32 = .ok (.iconst 0, 1) := dk_3 (dk_at dksX4_goesOn_1 10 rfl rfl)
theorem dX4_goesOn_33 : decode cX4_goesOn 33 = .ok (.ireturn, 1) := dk_172 (dk_at dksX4_goesOn_1 11 rfl rfl)
theorem dX4_goesOn_34 : decode cX4_goesOn 34 = .ok (.aload_n 0, 1) := dk_42 (dk_at dksX4_goesOn_1 12 rfl rfl)
theorem dX4_goesOn_35 : decode cX4_goesOn 35 = .ok (.getfield 39, 3) := dk_180 0 39 (dk_at dksX4_goesOn_1 13 rfl rfl)
theorem dX4_goesOn_38 : decode cX4_goesOn 38 = .ok (.iconst 0, 1) := dk_3 (dk_at dksX4_goesOn_1 16 rfl rfl)
theorem dX4_goesOn_39 : decode cX4_goesOn 39 = .ok (.iaload, 1) := dk_46 (dk_at dksX4_goesOn_1 17 rfl rfl)
theorem dX4_goesOn_40 : decode cX4_goesOn 40 = .ok (.iconst 1, 1) := dk_4 (dk_at dksX4_goesOn_1 18 rfl rfl)
theorem dX4_goesOn_41 : decode cX4_goesOn 41 = .ok (.iadd, 1) := dk_96 (dk_at dksX4_goesOn_1 19 rfl rfl)
theorem dX4_goesOn_42 : decode cX4_goesOn 42 = .ok (.istore 4, 2) := dk_54 4 (dk_at dksX4_goesOn_1 20 rfl rfl)
theorem dX4_goesOn_44 : decode cX4_goesOn 44 = .ok (.iload 4, 2) := dk_21 4 (dk_at dksX4_goesOn_1 22 rfl rfl)
theorem dX4_goesOn_46 : decode cX4_goesOn 46 = .ok (.aload_n 0, 1) := dk_42 (dk_at dksX4_goesOn_2 0 rfl rfl)
theorem dX4_goesOn_47 : decode cX4_goesOn 47 = .ok (.getfield 7, 3) := dk_180 0 7 (dk_at dksX4_goesOn_2 1 rfl rfl)
theorem dX4_goesOn_50 : decode cX4_goesOn 50 = .ok (.iconst 0, 1) := dk_3 (dk_at dksX4_goesOn_2 4 rfl rfl)
theorem dX4_goesOn_51 : decode cX4_goesOn 51 = .ok (.iaload, 1) := dk_46 (dk_at dksX4_goesOn_2 5 rfl rfl)
theorem dX4_goesOn_52 : decode cX4_goesOn 52 = .ok (.if_icmp .ge 94, 3) := dk_162 0 94 (dk_at dksX4_goesOn_2 6 rfl rfl)
theorem dX4_goesOn_55 : decode cX4_goesOn 55 = .ok (.aload_n 0, 1) := dk_42 (dk_at dksX4_goesOn_2 9 rfl rfl)
theorem dX4_goesOn_56 : decode cX4_goesOn 56 = .ok (.iload_n 3, 1) := dk_29 (dk_at dksX4_goesOn_2 10 rfl rfl)
theorem dX4_goesOn_57 : decode cX4_goesOn 57 = .ok (.iload 4, 2) := dk_21 4 (dk_at dksX4_goesOn_2 11 rfl rfl)
theorem dX4_goesOn_59 : decode cX4_goesOn 59 = .ok (.invokevirtual 79, 3) := dk_182 0 79 (dk_at dksX4_goesOn_2 13 rfl rfl)
theorem dX4_goesOn_62 : decode cX4_goesOn 62 = .ok (.ifCond .le 7, 3) := dk_158 0 7 (dk_at dksX4_goesOn_2 16 rfl rfl)
theorem dX4_goesOn_65 : decode cX4_goesOn 65 = .ok (.iconst 1, 1) := dk_4 (dk_at dksX4_goesOn_2 19 rfl rfl)
theorem dX4_goesOn_66 : decode cX4_goesOn 66 = .ok (.goto 4, 3) := dk_167 0 4 (dk_at dksX4_goesOn_2 20 rfl rfl)
theorem dX4_goesOn_69 : decode cX4_goesOn 69 = .ok (.iconst 0, 1) := dk_3 (dk_at dksX4_goesOn_2 23 rfl rfl)
theorem dX4_goesOn_70 : decode cX4_goesOn 70 = .ok (.istore 5, 2) := dk_54 5 (dk_at dksX4_goesOn_3 0 rfl rfl)
theorem dX4_goesOn_72 : decode cX4_goesOn 72 = .ok (.iconst 1, 1) := dk_4 (dk_at dksX4_goesOn_3 2 rfl rfl)
theorem dX4_goesOn_73 : decode cX4_goesOn 73 = .ok (.istore 6, 2) := dk_54 6 (dk_at dksX4_goesOn_3 3 rfl rfl)
theorem dX4_goesOn_75 : decode cX4_goesOn 75 = .ok (.iload 6, 2) := dk_21 6 (dk_at dksX4_goesOn_3 5 rfl rfl)
theorem dX4_goesOn_77 : decode cX4_goesOn 77 = .ok (.iload_n 1, 1) := dk_27 (dk_at dksX4_goesOn_3 7 rfl rfl)
theorem dX4_goesOn_78 : decode cX4_goesOn 78 = .ok (.if_icmp .ge 33, 3) := dk_162 0 33 (dk_at dksX4_goesOn_3 8 rfl rfl)
theorem dX4_goesOn_81 : decode cX4_goesOn 81 = .ok (.iload 5, 2) := dk_21 5 (dk_at dksX4_goesOn_3 11 rfl rfl)
theorem dX4_goesOn_83 : decode cX4_goesOn 83 = .ok (.ifCond .eq 19, 3) := dk_153 0 19 (dk_at dksX4_goesOn_3 13 rfl rfl)
theorem dX4_goesOn_86 : decode cX4_goesOn 86 = .ok (.aload_n 0, 1) := dk_42 (dk_at dksX4_goesOn_3 16 rfl rfl)
theorem dX4_goesOn_87 : decode cX4_goesOn 87 = .ok (.getfield 39, 3) := dk_180 0 39 (dk_at dksX4_goesOn_3 17 rfl rfl)
theorem dX4_goesOn_90 : decode cX4_goesOn 90 = .ok (.iload 6, 2) := dk_21 6 (dk_at dksX4_goesOn_3 20 rfl rfl)
theorem dX4_goesOn_92 : decode cX4_goesOn 92 = .ok (.iaload, 1) := dk_46 (dk_at dksX4_goesOn_3 22 rfl rfl)
theorem dX4_goesOn_93 : decode cX4_goesOn 93 = .ok (.iload 4, 2) := dk_21 4 (dk_at dksX4_goesOn_4 0 rfl rfl)
theorem dX4_goesOn_95 : decode cX4_goesOn 95 = .ok (.if_icmp .eq 7, 3) := dk_159 0 7 (dk_at dksX4_goesOn_4 2 rfl rfl)
theorem dX4_goesOn_98 : decode cX4_goesOn 98 = .ok (.iconst 1, 1) := dk_4 (dk_at dksX4_goesOn_4 5 rfl rfl)
theorem dX4_goesOn_99 : decode cX4_goesOn 99 = .ok (.goto 4, 3) := dk_167 0 4 (dk_at dksX4_goesOn_4 6 rfl rfl)
theorem dX4_goesOn_102 : decode cX4_goesOn 102 = .ok (.iconst 0, 1) := dk_3 (dk_at dksX4_goesOn_4 9 rfl rfl)
theorem dX4_goesOn_103 : decode cX4_goesOn 103 = .ok (.istore 5, 2) := dk_54 5 (dk_at dksX4_goesOn_4 10 rfl rfl)
theorem dX4_goesOn_105 : decode cX4_goesOn 105 = .ok (.iinc 6 1, 3) := dk_132 6 1 (dk_at dksX4_goesOn_4 12 rfl rfl)
theorem dX4_goesOn_108 : decode cX4_goesOn 108 = .ok (.goto (-33), 3) := dk_167 255 223 (dk_at dksX4_goesOn_4 15 rfl rfl)
theorem dX4_goesOn_111 : decode cX4_goesOn 111 = .ok (.iload 5, 2) := dk_21 5 (dk_at dksX4_goesOn_4 18 rfl rfl)
theorem dX4_goesOn_113 : decode cX4_goesOn 113 = .ok (.ifCond .ne 6, 3) := dk_154 0 6 (dk_at dksX4_goesOn_4 20 rfl rfl)
theorem dX4_goesOn_116 : decode cX4_goesOn 116 = .ok (.goto 24, 3) := dk_167 0 24 (dk_at dksX4_goesOn_5 0 rfl rfl)
theorem dX4_goesOn_119 : decode cX4_goesOn 119 = .ok (.aload_n 0, 1) := dk_42 (dk_at dksX4_goesOn_5 3 rfl rfl)
theorem dX4_goesOn_120 : decode cX4_goesOn 120 = .ok (.getfield 39, 3) := dk_180 0 39 (dk_at dksX4_goesOn_5 4 rfl rfl)
theorem dX4_goesOn_123 : decode cX4_goesOn 123 = .ok (.iload_n 1, 1) := dk_27 (dk_at dksX4_goesOn_5 7 rfl rfl)
theorem dX4_goesOn_124 : decode cX4_goesOn 124 = .ok (.iload 4, 2) := dk_21 4 (dk_at dksX4_goesOn_5 8 rfl rfl)
theorem dX4_goesOn_126 : decode cX4_goesOn 126 = .ok (.iastore, 1) := dk_79 (dk_at dksX4_goesOn_5 10 rfl rfl)
theorem dX4_goesOn_127 : decode cX4_goesOn 127 = .ok (.aload_n 0, 1) := dk_42 (dk_at dksX4_goesOn_5 11 rfl rfl)
theorem dX4_goesOn_128 : decode cX4_goesOn 128 = .ok (.iload_n 1, 1) := dk_27 (dk_at dksX4_goesOn_5 12 rfl rfl)
theorem dX4_goesOn_129 : decode cX4_goesOn 129 = .ok (.iconst 1, 1) := dk_4 (dk_at dksX4_goesOn_5 13 rfl rfl)
theorem dX4_goesOn_130 : decode cX4_goesOn 130 = .ok (.iadd, 1) := dk_96 (dk_at dksX4_goesOn_5 14 rfl rfl)
theorem dX4_goesOn_131 : decode cX4_goesOn 131 = .ok (.iload_n 2, 1) := dk_28 (dk_at dksX4_goesOn_5 15 rfl rfl)
theorem dX4_goesOn_132 : decode cX4_goesOn 132 = .ok (.invokevirtual 108, 3) := dk_182 0 108 (dk_at dksX4_goesOn_5 16 rfl rfl)
theorem dX4_goesOn_135 : decode cX4_goesOn 135 = .ok (.ifCond .eq 5, 3) := dk_153 0 5 (dk_at dksX4_goesOn_5 19 rfl rfl)
theorem dX4_goesOn_138 : decode cX4_goesOn 138 = .ok (.iconst 1, 1) := dk_4 (dk_at dksX4_goesOn_5 22 rfl rfl)
theorem dX4_goesOn_139 : decode cX4_goesOn 139 = .ok (.ireturn, 1) := dk_172 (dk_at dksX4_goesOn_5 23 rfl rfl)
theorem dX4_goesOn_140 : decode cX4_goesOn 140 = .ok (.iinc 4 1, 3) := dk_132 4 1 (dk_at dksX4_goesOn_6 0 rfl rfl)
theorem dX4_goesOn_143 : decode cX4_goesOn 143 = .ok (.goto (-99), 3) := dk_167 255 157 (dk_at dksX4_goesOn_6 3 rfl rfl)
theorem dX4_goesOn_146 : decode cX4_goesOn 146 = .ok (.iconst 0, 1) := dk_3 (dk_at dksX4_goesOn_6 6 rfl rfl)
theorem dX4_goesOn_147 : decode cX4_goesOn 147 = .ok (.ireturn, 1) := dk_172 (dk_at dksX4_goesOn_6 7 rfl rfl)
abbrev cX4_nets : ByteArray := prog_19_method_25_code
def yX4_nets : MethodName := ⟨RX4, "nets", "(I)I"⟩
def dkwX4_nets_2 : List UInt8 := [132, 3, 1, 167, 255, 216, 42, 180, 0, 7, 5, 92, 46, 27, 28, 104, 96, 79, 28, 172]
abbrev dktX4_nets_2 : List UInt8 := dkwX4_nets_2 ++ []
def dkwX4_nets_1 : List UInt8 := [180, 0, 39, 29, 46, 104, 96, 42, 180, 0, 39, 29, 4, 96, 27, 112, 46, 96, 92, 46, 28, 100, 79]
abbrev dktX4_nets_1 : List UInt8 := dkwX4_nets_1 ++ dktX4_nets_2
def dkwX4_nets_0 : List UInt8 := [42, 27, 182, 0, 111, 61, 3, 62, 29, 27, 162, 0, 41, 42, 180, 0, 7, 16, 12, 16, 7, 42]
abbrev dktX4_nets_0 : List UInt8 := dkwX4_nets_0 ++ dktX4_nets_1
theorem dksX4_nets_0 : cX4_nets.data.toList.drop 0 = dktX4_nets_0 := by decide +kernel
theorem dksX4_nets_1 : cX4_nets.data.toList.drop 22 = dktX4_nets_1 := dk_seg dksX4_nets_0 22 rfl rfl
theorem dksX4_nets_2 : cX4_nets.data.toList.drop 45 = dktX4_nets_2 := dk_seg dksX4_nets_1 23 rfl rfl
theorem dX4_nets_0 : decode cX4_nets 0 = .ok (.aload_n 0, 1) := dk_42 (dk_at dksX4_nets_0 0 rfl rfl)
theorem dX4_nets_1 : decode cX4_nets 1 = .ok (.iload_n 1, 1) := dk_27 (dk_at dksX4_nets_0 1 rfl rfl)
theorem dX4_nets_2 : decode cX4_nets 2 = .ok (.invokevirtual 111, 3) := dk_182 0 111 (dk_at dksX4_nets_0 2 rfl rfl)
theorem dX4_nets_5 : decode cX4_nets 5 = .ok (.istore_n 2, 1) := dk_61 (dk_at dksX4_nets_0 5 rfl rfl)
theorem dX4_nets_6 : decode cX4_nets 6 = .ok (.iconst 0, 1) := dk_3 (dk_at dksX4_nets_0 6 rfl rfl)
theorem dX4_nets_7 : decode cX4_nets 7 = .ok (.istore_n 3, 1) := dk_62 (dk_at dksX4_nets_0 7 rfl rfl)
theorem dX4_nets_8 : decode cX4_nets 8 = .ok (.iload_n 3, 1) := dk_29 (dk_at dksX4_nets_0 8 rfl rfl)
theorem dX4_nets_9 : decode cX4_nets 9 = .ok (.iload_n 1, 1) := dk_27 (dk_at dksX4_nets_0 9 rfl rfl)
theorem dX4_nets_10 : decode cX4_nets 10 = .ok (.if_icmp .ge 41, 3) := dk_162 0 41 (dk_at dksX4_nets_0 10 rfl rfl)
theorem dX4_nets_13 : decode cX4_nets 13 = .ok (.aload_n 0, 1) := dk_42 (dk_at dksX4_nets_0 13 rfl rfl)
theorem dX4_nets_14 : decode cX4_nets 14 = .ok (.getfield 7, 3) := dk_180 0 7 (dk_at dksX4_nets_0 14 rfl rfl)
theorem dX4_nets_17 : decode cX4_nets 17 = .ok (.bipush 12, 2) := dk_16 12 (dk_at dksX4_nets_0 17 rfl rfl)
theorem dX4_nets_19 : decode cX4_nets 19 = .ok (.bipush 7, 2) := dk_16 7 (dk_at dksX4_nets_0 19 rfl rfl)
theorem dX4_nets_21 : decode cX4_nets 21 = .ok (.aload_n 0, 1) := dk_42 (dk_at dksX4_nets_0 21 rfl rfl)
theorem dX4_nets_22 : decode cX4_nets 22 = .ok (.getfield 39, 3) := dk_180 0 39 (dk_at dksX4_nets_1 0 rfl rfl)
theorem dX4_nets_25 : decode cX4_nets 25 = .ok (.iload_n 3, 1) := dk_29 (dk_at dksX4_nets_1 3 rfl rfl)
theorem dX4_nets_26 : decode cX4_nets 26 = .ok (.iaload, 1) := dk_46 (dk_at dksX4_nets_1 4 rfl rfl)
theorem dX4_nets_27 : decode cX4_nets 27 = .ok (.imul, 1) := dk_104 (dk_at dksX4_nets_1 5 rfl rfl)
theorem dX4_nets_28 : decode cX4_nets 28 = .ok (.iadd, 1) := dk_96 (dk_at dksX4_nets_1 6 rfl rfl)
theorem dX4_nets_29 : decode cX4_nets 29 = .ok (.aload_n 0, 1) := dk_42 (dk_at dksX4_nets_1 7 rfl rfl)
theorem dX4_nets_30 : decode cX4_nets 30 = .ok (.getfield 39, 3) := dk_180 0 39 (dk_at dksX4_nets_1 8 rfl rfl)
theorem dX4_nets_33 : decode cX4_nets 33 = .ok (.iload_n 3, 1) := dk_29 (dk_at dksX4_nets_1 11 rfl rfl)
theorem dX4_nets_34 : decode cX4_nets 34 = .ok (.iconst 1, 1) := dk_4 (dk_at dksX4_nets_1 12 rfl rfl)
theorem dX4_nets_35 : decode cX4_nets 35 = .ok (.iadd, 1) := dk_96 (dk_at dksX4_nets_1 13 rfl rfl)
theorem dX4_nets_36 : decode cX4_nets 36 = .ok (.iload_n 1, 1) := dk_27 (dk_at dksX4_nets_1 14 rfl rfl)
theorem dX4_nets_37 : decode cX4_nets 37 = .ok (.irem, 1) := dk_112 (dk_at dksX4_nets_1 15 rfl rfl)
theorem dX4_nets_38 : decode cX4_nets 38 = .ok (.iaload, 1) := dk_46 (dk_at dksX4_nets_1 16 rfl rfl)
theorem dX4_nets_39 : decode cX4_nets 39 = .ok (.iadd, 1) := dk_96 (dk_at dksX4_nets_1 17 rfl rfl)
theorem dX4_nets_40 : decode cX4_nets 40 = .ok (.dup2, 1) := dk_92 (dk_at dksX4_nets_1 18 rfl rfl)
theorem dX4_nets_41 : decode cX4_nets 41 = .ok (.iaload, 1) := dk_46 (dk_at dksX4_nets_1 19 rfl rfl)
theorem dX4_nets_42 : decode cX4_nets 42 = .ok (.iload_n 2, 1) := dk_28 (dk_at dksX4_nets_1 20 rfl rfl)
theorem dX4_nets_43 : decode cX4_nets 43 = .ok (.isub, 1) := dk_100 (dk_at dksX4_nets_1 21 rfl rfl)
theorem dX4_nets_44 : decode cX4_nets 44 = .ok (.iastore, 1) := dk_79 (dk_at dksX4_nets_1 22 rfl rfl)
theorem dX4_nets_45 : decode cX4_nets 45 = .ok (.iinc 3 1, 3) := dk_132 3 1 (dk_at dksX4_nets_2 0 rfl rfl)
theorem dX4_nets_48 : decode cX4_nets 48 = .ok (.goto (-40), 3) := dk_167 255 216 (dk_at dksX4_nets_2 3 rfl rfl)
theorem dX4_nets_51 : decode cX4_nets 51 = .ok (.aload_n 0, 1) := dk_42 (dk_at dksX4_nets_2 6 rfl rfl)
theorem dX4_nets_52 : decode cX4_nets 52 = .ok (.getfield 7, 3) := dk_180 0 7 (dk_at dksX4_nets_2 7 rfl rfl)
theorem dX4_nets_55 : decode cX4_nets 55 = .ok (.iconst 2, 1) := dk_5 (dk_at dksX4_nets_2 10 rfl rfl)
theorem dX4_nets_56 : decode cX4_nets 56 = .ok (.dup2, 1) := dk_92 (dk_at dksX4_nets_2 11 rfl rfl)
theorem dX4_nets_57 : decode cX4_nets 57 = .ok (.iaload, 1) := dk_46 (dk_at dksX4_nets_2 12 rfl rfl)
theorem dX4_nets_58 : decode cX4_nets 58 = .ok (.iload_n 1, 1) := dk_27 (dk_at dksX4_nets_2 13 rfl rfl)
theorem dX4_nets_59 : decode cX4_nets 59 = .ok (.iload_n 2, 1) := dk_28 (dk_at dksX4_nets_2 14 rfl rfl)
theorem dX4_nets_60 : decode cX4_nets 60 = .ok (.imul, 1) := dk_104 (dk_at dksX4_nets_2 15 rfl rfl)
theorem dX4_nets_61 : decode cX4_nets 61 = .ok (.iadd, 1) := dk_96 (dk_at dksX4_nets_2 16 rfl rfl)
theorem dX4_nets_62 : decode cX4_nets 62 = .ok (.iastore, 1) := dk_79 (dk_at dksX4_nets_2 17 rfl rfl)
theorem dX4_nets_63 : decode cX4_nets 63 = .ok (.iload_n 2, 1) := dk_28 (dk_at dksX4_nets_2 18 rfl rfl)
theorem dX4_nets_64 : decode cX4_nets 64 = .ok (.ireturn, 1) := dk_172 (dk_at dksX4_nets_2 19 rfl rfl)
abbrev cX4_smallest : ByteArray := prog_19_method_24_code
def yX4_smallest : MethodName := ⟨RX4, "smallest", "(I)I"⟩
def dkwX4_smallest_1 : List UInt8 := [4, 96, 27, 112, 46, 182, 0, 79, 184, 0, 105, 61, 132, 3, 1, 167, 255, 223, 28, 172]
abbrev dktX4_smallest_1 : List UInt8 := dkwX4_smallest_1 ++ []
def dkwX4_smallest_0 : List UInt8 := [17, 3, 231, 61, 3, 62, 29, 27, 162, 0, 34, 28, 42, 42, 180, 0, 39, 29, 46, 42, 180, 0, 39, 29]
abbrev dktX4_smallest_0 : List UInt8 := dkwX4_smallest_0 ++ dktX4_smallest_1
theorem dksX4_smallest_0 : cX4_smallest.data.toList.drop 0 = dktX4_smallest_0 := by decide +kernel
theorem dksX4_smallest_1 : cX4_smallest.data.toList.drop 24 = dktX4_smallest_1 := dk_seg dksX4_smallest_0 24 rfl rfl
theorem dX4_smallest_0 : decode cX4_smallest 0 = .ok (.sipush 999, 3) := dk_17 3 231 (dk_at dksX4_smallest_0 0 rfl rfl)
theorem dX4_smallest_3 : decode cX4_smallest 3 = .ok (.istore_n 2, 1) := dk_61 (dk_at dksX4_smallest_0 3 rfl rfl)
theorem dX4_smallest_4 : decode cX4_smallest 4 = .ok (.iconst 0, 1) := dk_3 (dk_at dksX4_smallest_0 4 rfl rfl)
theorem dX4_smallest_5 : decode cX4_smallest 5 = .ok (.istore_n 3, 1) := dk_62 (dk_at dksX4_smallest_0 5 rfl rfl)
theorem dX4_smallest_6 : decode cX4_smallest 6 = .ok (.iload_n 3, 1) := dk_29 (dk_at dksX4_smallest_0 6 rfl rfl)
theorem dX4_smallest_7 : decode cX4_smallest 7 = .ok (.iload_n 1, 1) := dk_27 (dk_at dksX4_smallest_0 7 rfl rfl)
theorem dX4_smallest_8 : decode cX4_smallest 8 = .ok (.if_icmp .ge 34, 3) := dk_162 0 34 (dk_at dksX4_smallest_0 8 rfl rfl)
theorem dX4_smallest_11 : decode cX4_smallest 11 = .ok (.iload_n 2, 1) := dk_28 (dk_at dksX4_smallest_0 11 rfl rfl)
theorem dX4_smallest_12 : decode cX4_smallest 12 = .ok (.aload_n 0, 1) := dk_42 (dk_at dksX4_smallest_0 12 rfl rfl)
theorem dX4_smallest_13 : decode cX4_smallest 13 = .ok (.aload_n 0, 1) := dk_42 (dk_at dksX4_smallest_0 13 rfl rfl)
theorem dX4_smallest_14 : decode cX4_smallest 14 = .ok (.getfield 39, 3) := dk_180 0 39 (dk_at dksX4_smallest_0 14 rfl rfl)
theorem dX4_smallest_17 : decode cX4_smallest 17 = .ok (.iload_n 3, 1) := dk_29 (dk_at dksX4_smallest_0 17 rfl rfl)
theorem dX4_smallest_18 : decode cX4_smallest 18 = .ok (.iaload, 1) := dk_46 (dk_at dksX4_smallest_0 18 rfl rfl)
theorem dX4_smallest_19 : decode cX4_smallest 19 = .ok (.aload_n 0, 1) := dk_42 (dk_at dksX4_smallest_0 19 rfl rfl)
theorem dX4_smallest_20 : decode cX4_smallest 20 = .ok (.getfield 39, 3) := dk_180 0 39 (dk_at dksX4_smallest_0 20 rfl rfl)
theorem dX4_smallest_23 : decode cX4_smallest 23 = .ok (.iload_n 3, 1) := dk_29 (dk_at dksX4_smallest_0 23 rfl rfl)
theorem dX4_smallest_24 : decode cX4_smallest 24 = .ok (.iconst 1, 1) := dk_4 (dk_at dksX4_smallest_1 0 rfl rfl)
theorem dX4_smallest_25 : decode cX4_smallest 25 = .ok (.iadd, 1) := dk_96 (dk_at dksX4_smallest_1 1 rfl rfl)
theorem dX4_smallest_26 : decode cX4_smallest 26 = .ok (.iload_n 1, 1) := dk_27 (dk_at dksX4_smallest_1 2 rfl rfl)
theorem dX4_smallest_27 : decode cX4_smallest 27 = .ok (.irem, 1) := dk_112 (dk_at dksX4_smallest_1 3 rfl rfl)
theorem dX4_smallest_28 : decode cX4_smallest 28 = .ok (.iaload, 1) := dk_46 (dk_at dksX4_smallest_1 4 rfl rfl)
theorem dX4_smallest_29 : decode cX4_smallest 29 = .ok (.invokevirtual 79, 3) := dk_182 0 79 (dk_at dksX4_smallest_1 5 rfl rfl)
theorem dX4_smallest_32 : decode cX4_smallest 32 = .ok (.invokestatic 105, 3) := dk_184 0 105 (dk_at dksX4_smallest_1 8 rfl rfl)
theorem dX4_smallest_35 : decode cX4_smallest 35 = .ok (.istore_n 2, 1) := dk_61 (dk_at dksX4_smallest_1 11 rfl rfl)
theorem dX4_smallest_36 : decode cX4_smallest 36 = .ok (.iinc 3 1, 3) := dk_132 3 1 (dk_at dksX4_smallest_1 12 rfl rfl)
theorem dX4_smallest_39 : decode cX4_smallest 39 = .ok (.goto (-33), 3) := dk_167 255 223 (dk_at dksX4_smallest_1 15 rfl rfl)
theorem dX4_smallest_42 : decode cX4_smallest 42 = .ok (.iload_n 2, 1) := dk_28 (dk_at dksX4_smallest_1 18 rfl rfl)
theorem dX4_smallest_43 : decode cX4_smallest 43 = .ok (.ireturn, 1) := dk_172 (dk_at dksX4_smallest_1 19 rfl rfl)
abbrev cX4_netAll : ByteArray := prog_19_method_27_code
def yX4_netAll : MethodName := ⟨RX4, "netAll", "()I"⟩
def dkwX4_netAll_1 : List UInt8 := [87, 132, 1, 1, 42, 182, 0, 114, 61, 167, 255, 238, 27, 172]
abbrev dktX4_netAll_1 : List UInt8 := dkwX4_netAll_1 ++ []
def dkwX4_netAll_0 : List UInt8 := [42, 42, 180, 0, 7, 182, 0, 90, 3, 60, 42, 182, 0, 114, 61, 28, 158, 0, 20, 42, 28, 182, 0, 118]
abbrev dktX4_netAll_0 : List UInt8 := dkwX4_netAll_0 ++ dktX4_netAll_1
theorem dksX4_netAll_0 : cX4_netAll.data.toList.drop 0 = dktX4_netAll_0 := by decide +kernel
theorem dksX4_netAll_1 : cX4_netAll.data.toList.drop 24 = dktX4_netAll_1 := dk_seg dksX4_netAll_0 24 rfl rfl
theorem dX4_netAll_0 : decode cX4_netAll 0 = .ok (.aload_n 0, 1) := dk_42 (dk_at dksX4_netAll_0 0 rfl rfl)
theorem dX4_netAll_1 : decode cX4_netAll 1 = .ok (.aload_n 0, 1) := dk_42 (dk_at dksX4_netAll_0 1 rfl rfl)
theorem dX4_netAll_2 : decode cX4_netAll 2 = .ok (.getfield 7, 3) := dk_180 0 7 (dk_at dksX4_netAll_0 2 rfl rfl)
theorem dX4_netAll_5 : decode cX4_netAll 5 = .ok (.invokevirtual 90, 3) := dk_182 0 90 (dk_at dksX4_netAll_0 5 rfl rfl)
theorem dX4_netAll_8 : decode cX4_netAll 8 = .ok (.iconst 0, 1) := dk_3 (dk_at dksX4_netAll_0 8 rfl rfl)
theorem dX4_netAll_9 : decode cX4_netAll 9 = .ok (.istore_n 1, 1) := dk_60 (dk_at dksX4_netAll_0 9 rfl rfl)
theorem dX4_netAll_10 : decode cX4_netAll 10 = .ok (.aload_n 0, 1) := dk_42 (dk_at dksX4_netAll_0 10 rfl rfl)
theorem dX4_netAll_11 : decode cX4_netAll 11 = .ok (.invokevirtual 114, 3) := dk_182 0 114 (dk_at dksX4_netAll_0 11 rfl rfl)
theorem dX4_netAll_14 : decode cX4_netAll 14 = .ok (.istore_n 2, 1) := dk_61 (dk_at dksX4_netAll_0 14 rfl rfl)
theorem dX4_netAll_15 : decode cX4_netAll 15 = .ok (.iload_n 2, 1) := dk_28 (dk_at dksX4_netAll_0 15 rfl rfl)
theorem dX4_netAll_16 : decode cX4_netAll 16 = .ok (.ifCond .le 20, 3) := dk_158 0 20 (dk_at dksX4_netAll_0 16 rfl rfl)
theorem dX4_netAll_19 : decode cX4_netAll 19 = .ok (.aload_n 0, 1) := dk_42 (dk_at dksX4_netAll_0 19 rfl rfl)
theorem dX4_netAll_20 : decode cX4_netAll 20 = .ok (.iload_n 2, 1) := dk_28 (dk_at dksX4_netAll_0 20 rfl rfl)
theorem dX4_netAll_21 : decode cX4_netAll 21 = .ok (.invokevirtual 118, 3) := dk_182 0 118 (dk_at dksX4_netAll_0 21 rfl rfl)
theorem dX4_netAll_24 : decode cX4_netAll 24 = .ok (.pop, 1) := dk_87 (dk_at dksX4_netAll_1 0 rfl rfl)
theorem dX4_netAll_25 : decode cX4_netAll 25 = .ok (.iinc 1 1, 3) := dk_132 1 1 (dk_at dksX4_netAll_1 1 rfl rfl)
theorem dX4_netAll_28 : decode cX4_netAll 28 = .ok (.aload_n 0, 1) := dk_42 (dk_at dksX4_netAll_1 4 rfl rfl)
theorem dX4_netAll_29 : decode cX4_netAll 29 = .ok (.invokevirtual 114, 3) := dk_182 0 114 (dk_at dksX4_netAll_1 5 rfl rfl)
theorem dX4_netAll_32 : decode cX4_netAll 32 = .ok (.istore_n 2, 1) := dk_61 (dk_at dksX4_netAll_1 8 rfl rfl)
theorem dX4_netAll_33 : decode cX4_netAll 33 = .ok (.goto (-18), 3) := dk_167 255 238 (dk_at dksX4_netAll_1 9 rfl rfl)
theorem dX4_netAll_36 : decode cX4_netAll 36 = .ok (.iload_n 1, 1) := dk_27 (dk_at dksX4_netAll_1 12 rfl rfl)
theorem dX4_netAll_37 : decode cX4_netAll 37 = .ok (.ireturn, 1) := dk_172 (dk_at dksX4_netAll_1 13 rfl rfl)
abbrev cX4_hasCycle : ByteArray := prog_19_method_28_code
def yX4_hasCycle : MethodName := ⟨RX4, "hasCycle", "()Z"⟩
def dkwX4_hasCycle_0 : List UInt8 := [42, 3, 181, 0, 54, 42, 182, 0, 114, 158, 0, 7, 4, 167, 0, 4, 3, 172]
abbrev dktX4_hasCycle_0 : List UInt8 := dkwX4_hasCycle_0 ++ []
theorem dksX4_hasCycle_0 : cX4_hasCycle.data.toList.drop 0 = dktX4_hasCycle_0 := by decide +kernel
theorem dX4_hasCycle_0 : decode cX4_hasCycle 0 = .ok (.aload_n 0, 1) := dk_42 (dk_at dksX4_hasCycle_0 0 rfl rfl)
theorem dX4_hasCycle_1 : decode cX4_hasCycle 1 = .ok (.iconst 0, 1) := dk_3 (dk_at dksX4_hasCycle_0 1 rfl rfl)
theorem dX4_hasCycle_2 : decode cX4_hasCycle 2 = .ok (.putfield 54, 3) := dk_181 0 54 (dk_at dksX4_hasCycle_0 2 rfl rfl)
theorem dX4_hasCycle_5 : decode cX4_hasCycle 5 = .ok (.aload_n 0, 1) := dk_42 (dk_at dksX4_hasCycle_0 5 rfl rfl)
theorem dX4_hasCycle_6 : decode cX4_hasCycle 6 = .ok (.invokevirtual 114, 3) := dk_182 0 114 (dk_at dksX4_hasCycle_0 6 rfl rfl)
theorem dX4_hasCycle_9 : decode cX4_hasCycle 9 = .ok (.ifCond .le 7, 3) := dk_158 0 7 (dk_at dksX4_hasCycle_0 9 rfl rfl)
theorem dX4_hasCycle_12 : decode cX4_hasCycle 12 = .ok (.iconst 1, 1) := dk_4 (dk_at dksX4_hasCycle_0 12 rfl rfl)
theorem dX4_hasCycle_13 : decode cX4_hasCycle 13 = .ok (.goto 4, 3) := dk_167 0 4 (dk_at dksX4_hasCycle_0 13 rfl rfl)
theorem dX4_hasCycle_16 : decode cX4_hasCycle 16 = .ok (.iconst 0, 1) := dk_3 (dk_at dksX4_hasCycle_0 16 rfl rfl)
theorem dX4_hasCycle_17 : decode cX4_hasCycle 17 = .ok (.ireturn, 1) := dk_172 (dk_at dksX4_hasCycle_0 17 rfl rfl)
abbrev cX4_hasCycleByLeavingOut : ByteArray := prog_19_method_29_code
def yX4_hasCycleByLeavingOut : MethodName := ⟨RX4, "hasCycleByLeavingOut", "()Z"⟩
def dkwX4_hasCycleByLeavingOut_0 : List UInt8 := [42, 3, 181, 0, 54, 42, 182, 0, 114, 158, 0, 7, 4, 167, 0, 4, 3, 172]
abbrev dktX4_hasCycleByLeavingOut_0 : List UInt8 := dkwX4_hasCycleByLeavingOut_0 ++ []
theorem dksX4_hasCycleByLeavingOut_0 : cX4_hasCycleByLeavingOut.data.toList.drop 0 = dktX4_hasCycleByLeavingOut_0 := by decide +kernel
theorem dX4_hasCycleByLeavingOut_0 : decode cX4_hasCycleByLeavingOut 0 = .ok (.aload_n 0, 1) := dk_42 (dk_at dksX4_hasCycleByLeavingOut_0 0 rfl rfl)
theorem dX4_hasCycleByLeavingOut_1 : decode cX4_hasCycleByLeavingOut 1 = .ok (.iconst 0, 1) := dk_3 (dk_at dksX4_hasCycleByLeavingOut_0 1 rfl rfl)
theorem dX4_hasCycleByLeavingOut_2 : decode cX4_hasCycleByLeavingOut 2 = .ok (.putfield 54, 3) := dk_181 0 54 (dk_at dksX4_hasCycleByLeavingOut_0 2 rfl rfl)
theorem dX4_hasCycleByLeavingOut_5 : decode cX4_hasCycleByLeavingOut 5 = .ok (.aload_n 0, 1) := dk_42 (dk_at dksX4_hasCycleByLeavingOut_0 5 rfl rfl)
theorem dX4_hasCycleByLeavingOut_6 : decode cX4_hasCycleByLeavingOut 6 = .ok (.invokevirtual 114, 3) := dk_182 0 114 (dk_at dksX4_hasCycleByLeavingOut_0 6 rfl rfl)
theorem dX4_hasCycleByLeavingOut_9 : decode cX4_hasCycleByLeavingOut 9 = .ok (.ifCond .le 7, 3) := dk_158 0 7 (dk_at dksX4_hasCycleByLeavingOut_0 9 rfl rfl)
theorem dX4_hasCycleByLeavingOut_12 : decode cX4_hasCycleByLeavingOut 12 = .ok (.iconst 1, 1) := dk_4 (dk_at dksX4_hasCycleByLeavingOut_0 12 rfl rfl)
theorem dX4_hasCycleByLeavingOut_13 : decode cX4_hasCycleByLeavingOut 13 = .ok (.goto 4, 3) := dk_167 0 4 (dk_at dksX4_hasCycleByLeavingOut_0 13 rfl rfl)
theorem dX4_hasCycleByLeavingOut_16 : decode cX4_hasCycleByLeavingOut 16 = .ok (.iconst 0, 1) := dk_3 (dk_at dksX4_hasCycleByLeavingOut_0 16 rfl rfl)
theorem dX4_hasCycleByLeavingOut_17 : decode cX4_hasCycleByLeavingOut 17 = .ok (.ireturn, 1) := dk_172 (dk_at dksX4_hasCycleByLeavingOut_0 17 rfl rfl)
abbrev cX4_cycleSize : ByteArray := prog_19_method_30_code
def yX4_cycleSize : MethodName := ⟨RX4, "cycleSize", "()I"⟩
def dkwX4_cycleSize_1 : List UInt8 := [167, 0, 4, 27, 172]
abbrev dktX4_cycleSize_1 : List UInt8 := dkwX4_cycleSize_1 ++ []
def dkwX4_cycleSize_0 : List UInt8 := [42, 182, 0, 114, 60, 42, 27, 154, 0, 7, 4, 167, 0, 4, 3, 182, 0, 76, 153, 0, 7, 3]
abbrev dktX4_cycleSize_0 : List UInt8 := dkwX4_cycleSize_0 ++ dktX4_cycleSize_1
theorem dksX4_cycleSize_0 : cX4_cycleSize.data.toList.drop 0 = dktX4_cycleSize_0 := by decide +kernel
theorem dksX4_cycleSize_1 : cX4_cycleSize.data.toList.drop 22 = dktX4_cycleSize_1 := dk_seg dksX4_cycleSize_0 22 rfl rfl
theorem dX4_cycleSize_0 : decode cX4_cycleSize 0 = .ok (.aload_n 0, 1) := dk_42 (dk_at dksX4_cycleSize_0 0 rfl rfl)
theorem dX4_cycleSize_1 : decode cX4_cycleSize 1 = .ok (.invokevirtual 114, 3) := dk_182 0 114 (dk_at dksX4_cycleSize_0 1 rfl rfl)
theorem dX4_cycleSize_4 : decode cX4_cycleSize 4 = .ok (.istore_n 1, 1) := dk_60 (dk_at dksX4_cycleSize_0 4 rfl rfl)
theorem dX4_cycleSize_5 : decode cX4_cycleSize 5 = .ok (.aload_n 0, 1) := dk_42 (dk_at dksX4_cycleSize_0 5 rfl rfl)
theorem dX4_cycleSize_6 : decode cX4_cycleSize 6 = .ok (.iload_n 1, 1) := dk_27 (dk_at dksX4_cycleSize_0 6 rfl rfl)
theorem dX4_cycleSize_7 : decode cX4_cycleSize 7 = .ok (.ifCond .ne 7, 3) := dk_154 0 7 (dk_at dksX4_cycleSize_0 7 rfl rfl)
theorem dX4_cycleSize_10 : decode cX4_cycleSize 10 = .ok (.iconst 1, 1) := dk_4 (dk_at dksX4_cycleSize_0 10 rfl rfl)
theorem dX4_cycleSize_11 : decode cX4_cycleSize 11 = .ok (.goto 4, 3) := dk_167 0 4 (dk_at dksX4_cycleSize_0 11 rfl rfl)
theorem dX4_cycleSize_14 : decode cX4_cycleSize 14 = .ok (.iconst 0, 1) := dk_3 (dk_at dksX4_cycleSize_0 14 rfl rfl)
theorem dX4_cycleSize_15 : decode cX4_cycleSize 15 = .ok (.invokevirtual 76, 3) := dk_182 0 76 (dk_at dksX4_cycleSize_0 15 rfl rfl)
theorem dX4_cycleSize_18 : decode cX4_cycleSize 18 = .ok (.ifCond .eq 7, 3) := dk_153 0 7 (dk_at dksX4_cycleSize_0 18 rfl rfl)
theorem dX4_cycleSize_21 : decode cX4_cycleSize 21 = .ok (.iconst 0, 1) := dk_3 (dk_at dksX4_cycleSize_0 21 rfl rfl)
theorem dX4_cycleSize_22 : decode cX4_cycleSize 22 = .ok (.goto 4, 3) := dk_167 0 4 (dk_at dksX4_cycleSize_1 0 rfl rfl)
theorem dX4_cycleSize_25 : decode cX4_cycleSize 25 = .ok (.iload_n 1, 1) := dk_27 (dk_at dksX4_cycleSize_1 3 rfl rfl)
theorem dX4_cycleSize_26 : decode cX4_cycleSize 26 = .ok (.ireturn, 1) := dk_172 (dk_at dksX4_cycleSize_1 4 rfl rfl)
abbrev cX4_cycleParty : ByteArray := prog_19_method_31_code
def yX4_cycleParty : MethodName := ⟨RX4, "cycleParty", "(I)I"⟩
def dkwX4_cycleParty_2 : List UInt8 := [172]
abbrev dktX4_cycleParty_2 : List UInt8 := dkwX4_cycleParty_2 ++ []
def dkwX4_cycleParty_1 : List UInt8 := [153, 0, 7, 3, 167, 0, 4, 5, 182, 0, 76, 153, 0, 7, 3, 167, 0, 9, 42, 180, 0, 39, 27, 46]
abbrev dktX4_cycleParty_1 : List UInt8 := dkwX4_cycleParty_1 ++ dktX4_cycleParty_2
def dkwX4_cycleParty_0 : List UInt8 := [42, 182, 0, 114, 61, 42, 28, 154, 0, 7, 4, 167, 0, 19, 27, 3, 28, 4, 100, 184, 0, 68]
abbrev dktX4_cycleParty_0 : List UInt8 := dkwX4_cycleParty_0 ++ dktX4_cycleParty_1
theorem dksX4_cycleParty_0 : cX4_cycleParty.data.toList.drop 0 = dktX4_cycleParty_0 := by decide +kernel
theorem dksX4_cycleParty_1 : cX4_cycleParty.data.toList.drop 22 = dktX4_cycleParty_1 := dk_seg dksX4_cycleParty_0 22 rfl rfl
theorem dksX4_cycleParty_2 : cX4_cycleParty.data.toList.drop 46 = dktX4_cycleParty_2 := dk_seg dksX4_cycleParty_1 24 rfl rfl
theorem dX4_cycleParty_0 : decode cX4_cycleParty 0 = .ok (.aload_n 0, 1) := dk_42 (dk_at dksX4_cycleParty_0 0 rfl rfl)
theorem dX4_cycleParty_1 : decode cX4_cycleParty 1 = .ok (.invokevirtual 114, 3) := dk_182 0 114 (dk_at dksX4_cycleParty_0 1 rfl rfl)
theorem dX4_cycleParty_4 : decode cX4_cycleParty 4 = .ok (.istore_n 2, 1) := dk_61 (dk_at dksX4_cycleParty_0 4 rfl rfl)
theorem dX4_cycleParty_5 : decode cX4_cycleParty 5 = .ok (.aload_n 0, 1) := dk_42 (dk_at dksX4_cycleParty_0 5 rfl rfl)
theorem dX4_cycleParty_6 : decode cX4_cycleParty 6 = .ok (.iload_n 2, 1) := dk_28 (dk_at dksX4_cycleParty_0 6 rfl rfl)
theorem dX4_cycleParty_7 : decode cX4_cycleParty 7 = .ok (.ifCond .ne 7, 3) := dk_154 0 7 (dk_at dksX4_cycleParty_0 7 rfl rfl)
theorem dX4_cycleParty_10 : decode cX4_cycleParty 10 = .ok (.iconst 1, 1) := dk_4 (dk_at dksX4_cycleParty_0 10 rfl rfl)
theorem dX4_cycleParty_11 : decode cX4_cycleParty 11 = .ok (.goto 19, 3) := dk_167 0 19 (dk_at dksX4_cycleParty_0 11 rfl rfl)
theorem dX4_cycleParty_14 : decode cX4_cycleParty 14 = .ok (.iload_n 1, 1) := dk_27 (dk_at dksX4_cycleParty_0 14 rfl rfl)
theorem dX4_cycleParty_15 : decode cX4_cycleParty 15 = .ok (.iconst 0, 1) := dk_3 (dk_at dksX4_cycleParty_0 15 rfl rfl)
theorem dX4_cycleParty_16 : decode cX4_cycleParty 16 = .ok (.iload_n 2, 1) := dk_28 (dk_at dksX4_cycleParty_0 16 rfl rfl)
theorem dX4_cycleParty_17 : decode cX4_cycleParty 17 = .ok (.iconst 1, 1) := dk_4 (dk_at dksX4_cycleParty_0 17 rfl rfl)
theorem dX4_cycleParty_18 : decode cX4_cycleParty 18 = .ok (.isub, 1) := dk_100 (dk_at dksX4_cycleParty_0 18 rfl rfl)
theorem dX4_cycleParty_19 : decode cX4_cycleParty 19 = .ok (.invokestatic 68, 3) := dk_184 0 68 (dk_at dksX4_cycleParty_0 19 rfl rfl)
theorem dX4_cycleParty_22 : decode cX4_cycleParty 22 = .ok (.ifCond .eq 7, 3) := dk_153 0 7 (dk_at dksX4_cycleParty_1 0 rfl rfl)
theorem dX4_cycleParty_25 : decode cX4_cycleParty 25 = .ok (.iconst 0, 1) := dk_3 (dk_at dksX4_cycleParty_1 3 rfl rfl)
theorem dX4_cycleParty_26 : decode cX4_cycleParty 26 = .ok (.goto 4, 3) := dk_167 0 4 (dk_at dksX4_cycleParty_1 4 rfl rfl)
theorem dX4_cycleParty_29 : decode cX4_cycleParty 29 = .ok (.iconst 2, 1) := dk_5 (dk_at dksX4_cycleParty_1 7 rfl rfl)
theorem dX4_cycleParty_30 : decode cX4_cycleParty 30 = .ok (.invokevirtual 76, 3) := dk_182 0 76 (dk_at dksX4_cycleParty_1 8 rfl rfl)
theorem dX4_cycleParty_33 : decode cX4_cycleParty 33 = .ok (.ifCond .eq 7, 3) := dk_153 0 7 (dk_at dksX4_cycleParty_1 11 rfl rfl)
theorem dX4_cycleParty_36 : decode cX4_cycleParty 36 = .ok (.iconst 0, 1) := dk_3 (dk_at dksX4_cycleParty_1 14 rfl rfl)
theorem dX4_cycleParty_37 : decode cX4_cycleParty 37 = .ok (.goto 9, 3) := dk_167 0 9 (dk_at dksX4_cycleParty_1 15 rfl rfl)
theorem dX4_cycleParty_40 : decode cX4_cycleParty 40 = .ok (.aload_n 0, 1) := dk_42 (dk_at dksX4_cycleParty_1 18 rfl rfl)
theorem dX4_cycleParty_41 : decode cX4_cycleParty 41 = .ok (.getfield 39, 3) := dk_180 0 39 (dk_at dksX4_cycleParty_1 19 rfl rfl)
theorem dX4_cycleParty_44 : decode cX4_cycleParty 44 = .ok (.iload_n 1, 1) := dk_27 (dk_at dksX4_cycleParty_1 22 rfl rfl)
theorem dX4_cycleParty_45 : decode cX4_cycleParty 45 = .ok (.iaload, 1) := dk_46 (dk_at dksX4_cycleParty_1 23 rfl rfl)
theorem dX4_cycleParty_46 : decode cX4_cycleParty 46 = .ok (.ireturn, 1) := dk_172 (dk_at dksX4_cycleParty_2 0 rfl rfl)
abbrev cX4_cycleAmount : ByteArray := prog_19_method_32_code
def yX4_cycleAmount : MethodName := ⟨RX4, "cycleAmount", "()I"⟩
def dkwX4_cycleAmount_1 : List UInt8 := [167, 0, 8, 42, 27, 182, 0, 111, 172]
abbrev dktX4_cycleAmount_1 : List UInt8 := dkwX4_cycleAmount_1 ++ []
def dkwX4_cycleAmount_0 : List UInt8 := [42, 182, 0, 114, 60, 42, 27, 154, 0, 7, 4, 167, 0, 4, 3, 182, 0, 76, 153, 0, 7, 3]
abbrev dktX4_cycleAmount_0 : List UInt8 := dkwX4_cycleAmount_0 ++ dktX4_cycleAmount_1
theorem dksX4_cycleAmount_0 : cX4_cycleAmount.data.toList.drop 0 = dktX4_cycleAmount_0 := by decide +kernel
theorem dksX4_cycleAmount_1 : cX4_cycleAmount.data.toList.drop 22 = dktX4_cycleAmount_1 := dk_seg dksX4_cycleAmount_0 22 rfl rfl
theorem dX4_cycleAmount_0 : decode cX4_cycleAmount 0 = .ok (.aload_n 0, 1) := dk_42 (dk_at dksX4_cycleAmount_0 0 rfl rfl)
theorem dX4_cycleAmount_1 : decode cX4_cycleAmount 1 = .ok (.invokevirtual 114, 3) := dk_182 0 114 (dk_at dksX4_cycleAmount_0 1 rfl rfl)
theorem dX4_cycleAmount_4 : decode cX4_cycleAmount 4 = .ok (.istore_n 1, 1) := dk_60 (dk_at dksX4_cycleAmount_0 4 rfl rfl)
theorem dX4_cycleAmount_5 : decode cX4_cycleAmount 5 = .ok (.aload_n 0, 1) := dk_42 (dk_at dksX4_cycleAmount_0 5 rfl rfl)
theorem dX4_cycleAmount_6 : decode cX4_cycleAmount 6 = .ok (.iload_n 1, 1) := dk_27 (dk_at dksX4_cycleAmount_0 6 rfl rfl)
theorem dX4_cycleAmount_7 : decode cX4_cycleAmount 7 = .ok (.ifCond .ne 7, 3) := dk_154 0 7 (dk_at dksX4_cycleAmount_0 7 rfl rfl)
theorem dX4_cycleAmount_10 : decode cX4_cycleAmount 10 = .ok (.iconst 1, 1) := dk_4 (dk_at dksX4_cycleAmount_0 10 rfl rfl)
theorem dX4_cycleAmount_11 : decode cX4_cycleAmount 11 = .ok (.goto 4, 3) := dk_167 0 4 (dk_at dksX4_cycleAmount_0 11 rfl rfl)
theorem dX4_cycleAmount_14 : decode cX4_cycleAmount 14 = .ok (.iconst 0, 1) := dk_3 (dk_at dksX4_cycleAmount_0 14 rfl rfl)
theorem dX4_cycleAmount_15 : decode cX4_cycleAmount 15 = .ok (.invokevirtual 76, 3) := dk_182 0 76 (dk_at dksX4_cycleAmount_0 15 rfl rfl)
theorem dX4_cycleAmount_18 : decode cX4_cycleAmount 18 = .ok (.ifCond .eq 7, 3) := dk_153 0 7 (dk_at dksX4_cycleAmount_0 18 rfl rfl)
theorem dX4_cycleAmount_21 : decode cX4_cycleAmount 21 = .ok (.iconst 0, 1) := dk_3 (dk_at dksX4_cycleAmount_0 21 rfl rfl)
theorem dX4_cycleAmount_22 : decode cX4_cycleAmount 22 = .ok (.goto 8, 3) := dk_167 0 8 (dk_at dksX4_cycleAmount_1 0 rfl rfl)
theorem dX4_cycleAmount_25 : decode cX4_cycleAmount 25 = .ok (.aload_n 0, 1) := dk_42 (dk_at dksX4_cycleAmount_1 3 rfl rfl)
theorem dX4_cycleAmount_26 : decode cX4_cycleAmount 26 = .ok (.iload_n 1, 1) := dk_27 (dk_at dksX4_cycleAmount_1 4 rfl rfl)
theorem dX4_cycleAmount_27 : decode cX4_cycleAmount 27 = .ok (.invokevirtual 111, 3) := dk_182 0 111 (dk_at dksX4_cycleAmount_1 5 rfl rfl)
theorem dX4_cycleAmount_30 : decode cX4_cycleAmount 30 = .ok (.ireturn, 1) := dk_172 (dk_at dksX4_cycleAmount_1 8 rfl rfl)
abbrev cX4_declareDefault : ByteArray := prog_19_method_36_code
def yX4_declareDefault : MethodName := ⟨RX4, "declareDefault", "(I)I"⟩
def dkwX4_declareDefault_1 : List UInt8 := [182, 0, 76, 153, 0, 5, 3, 172, 42, 42, 180, 0, 7, 182, 0, 90, 42, 27, 182, 0, 130, 172]
abbrev dktX4_declareDefault_1 : List UInt8 := dkwX4_declareDefault_1 ++ []
def dkwX4_declareDefault_0 : List UInt8 := [42, 27, 182, 0, 94, 154, 0, 23, 42, 42, 27, 182, 0, 127, 158, 0, 7, 3, 167, 0, 4, 5]
abbrev dktX4_declareDefault_0 : List UInt8 := dkwX4_declareDefault_0 ++ dktX4_declareDefault_1
theorem dksX4_declareDefault_0 : cX4_declareDefault.data.toList.drop 0 = dktX4_declareDefault_0 := by decide +kernel
theorem dksX4_declareDefault_1 : cX4_declareDefault.data.toList.drop 22 = dktX4_declareDefault_1 := dk_seg dksX4_declareDefault_0 22 rfl rfl
theorem dX4_declareDefault_0 : decode cX4_declareDefault 0 = .ok (.aload_n 0, 1) := dk_42 (dk_at dksX4_declareDefault_0 0 rfl rfl)
theorem dX4_declareDefault_1 : decode cX4_declareDefault 1 = .ok (.iload_n 1, 1) := dk_27 (dk_at dksX4_declareDefault_0 1 rfl rfl)
theorem dX4_declareDefault_2 : decode cX4_declareDefault 2 = .ok (.invokevirtual 94, 3) := dk_182 0 94 (dk_at dksX4_declareDefault_0 2 rfl rfl)
theorem dX4_declareDefault_5 : decode cX4_declareDefault 5 = .ok (.ifCond .ne 23, 3) := dk_154 0 23 (dk_at dksX4_declareDefault_0 5 rfl rfl)
theorem dX4_declareDefault_8 : decode cX4_declareDefault 8 = .ok (.aload_n 0, 1) := dk_42 (dk_at dksX4_declareDefault_0 8 rfl rfl)
theorem dX4_declareDefault_9 : decode cX4_declareDefault 9 = .ok (.aload_n 0, 1) := dk_42 (dk_at dksX4_declareDefault_0 9 rfl rfl)
theorem dX4_declareDefault_10 : decode cX4_declareDefault 10 = .ok (.iload_n 1, 1) := dk_27 (dk_at dksX4_declareDefault_0 10 rfl rfl)
theorem dX4_declareDefault_11 : decode cX4_declareDefault 11 = .ok (.invokevirtual 127, 3) := dk_182 0 127 (dk_at dksX4_declareDefault_0 11 rfl rfl)
theorem dX4_declareDefault_14 : decode cX4_declareDefault 14 = .ok (.ifCond .le 7, 3) := dk_158 0 7 (dk_at dksX4_declareDefault_0 14 rfl rfl)
theorem dX4_declareDefault_17 : decode cX4_declareDefault 17 = .ok (.iconst 0, 1) := dk_3 (dk_at dksX4_declareDefault_0 17 rfl rfl)
theorem dX4_declareDefault_18 : decode cX4_declareDefault 18 = .ok (.goto 4, 3) := dk_167 0 4 (dk_at dksX4_declareDefault_0 18 rfl rfl)
theorem dX4_declareDefault_21 : decode cX4_declareDefault 21 = .ok (.iconst 2, 1) := dk_5 (dk_at dksX4_declareDefault_0 21 rfl rfl)
theorem dX4_declareDefault_22 : decode cX4_declareDefault 22 = .ok (.invokevirtual 76, 3) := dk_182 0 76 (dk_at dksX4_declareDefault_1 0 rfl rfl)
theorem dX4_declareDefault_25 : decode cX4_declareDefault 25 = .ok (.ifCond .eq 5, 3) := dk_153 0 5 (dk_at dksX4_declareDefault_1 3 rfl rfl)
theorem dX4_declareDefault_28 : decode cX4_declareDefault 28 = .ok (.iconst 0, 1) := dk_3 (dk_at dksX4_declareDefault_1 6 rfl rfl)
theorem dX4_declareDefault_29 : decode cX4_declareDefault 29 = .ok (.ireturn, 1) := dk_172 (dk_at dksX4_declareDefault_1 7 rfl rfl)
theorem dX4_declareDefault_30 : decode cX4_declareDefault 30 = .ok (.aload_n 0, 1) := dk_42 (dk_at dksX4_declareDefault_1 8 rfl rfl)
theorem dX4_declareDefault_31 : decode cX4_declareDefault 31 = .ok (.aload_n 0, 1) := dk_42 (dk_at dksX4_declareDefault_1 9 rfl rfl)
theorem dX4_declareDefault_32 : decode cX4_declareDefault 32 = .ok (.getfield 7, 3) := dk_180 0 7 (dk_at dksX4_declareDefault_1 10 rfl rfl)
theorem dX4_declareDefault_35 : decode cX4_declareDefault 35 = .ok (.invokevirtual 90, 3) := dk_182 0 90 (dk_at dksX4_declareDefault_1 13 rfl rfl)
theorem dX4_declareDefault_38 : decode cX4_declareDefault 38 = .ok (.aload_n 0, 1) := dk_42 (dk_at dksX4_declareDefault_1 16 rfl rfl)
theorem dX4_declareDefault_39 : decode cX4_declareDefault 39 = .ok (.iload_n 1, 1) := dk_27 (dk_at dksX4_declareDefault_1 17 rfl rfl)
theorem dX4_declareDefault_40 : decode cX4_declareDefault 40 = .ok (.invokevirtual 130, 3) := dk_182 0 130 (dk_at dksX4_declareDefault_1 18 rfl rfl)
theorem dX4_declareDefault_43 : decode cX4_declareDefault 43 = .ok (.ireturn, 1) := dk_172 (dk_at dksX4_declareDefault_1 21 rfl rfl)
abbrev cX4_lacks : ByteArray := prog_19_method_15_code
def yX4_lacks : MethodName := ⟨RX4, "lacks", "(I)I"⟩
def dkwX4_lacks_0 : List UInt8 := [42, 27, 182, 0, 87, 42, 180, 0, 7, 8, 27, 96, 46, 100, 42, 27, 182, 0, 83, 100, 172]
abbrev dktX4_lacks_0 : List UInt8 := dkwX4_lacks_0 ++ []
theorem dksX4_lacks_0 : cX4_lacks.data.toList.drop 0 = dktX4_lacks_0 := by decide +kernel
theorem dX4_lacks_0 : decode cX4_lacks 0 = .ok (.aload_n 0, 1) := dk_42 (dk_at dksX4_lacks_0 0 rfl rfl)
theorem dX4_lacks_1 : decode cX4_lacks 1 = .ok (.iload_n 1, 1) := dk_27 (dk_at dksX4_lacks_0 1 rfl rfl)
theorem dX4_lacks_2 : decode cX4_lacks 2 = .ok (.invokevirtual 87, 3) := dk_182 0 87 (dk_at dksX4_lacks_0 2 rfl rfl)
theorem dX4_lacks_5 : decode cX4_lacks 5 = .ok (.aload_n 0, 1) := dk_42 (dk_at dksX4_lacks_0 5 rfl rfl)
theorem dX4_lacks_6 : decode cX4_lacks 6 = .ok (.getfield 7, 3) := dk_180 0 7 (dk_at dksX4_lacks_0 6 rfl rfl)
theorem dX4_lacks_9 : decode cX4_lacks 9 = .ok (.iconst 5, 1) := dk_8 (dk_at dksX4_lacks_0 9 rfl rfl)
theorem dX4_lacks_10 : decode cX4_lacks 10 = .ok (.iload_n 1, 1) := dk_27 (dk_at dksX4_lacks_0 10 rfl rfl)
theorem dX4_lacks_11 : decode cX4_lacks 11 = .ok (.iadd, 1) := dk_96 (dk_at dksX4_lacks_0 11 rfl rfl)
theorem dX4_lacks_12 : decode cX4_lacks 12 = .ok (.iaload, 1) := dk_46 (dk_at dksX4_lacks_0 12 rfl rfl)
theorem dX4_lacks_13 : decode cX4_lacks 13 = .ok (.isub, 1) := dk_100 (dk_at dksX4_lacks_0 13 rfl rfl)
theorem dX4_lacks_14 : decode cX4_lacks 14 = .ok (.aload_n 0, 1) := dk_42 (dk_at dksX4_lacks_0 14 rfl rfl)
theorem dX4_lacks_15 : decode cX4_lacks 15 = .ok (.iload_n 1, 1) := dk_27 (dk_at dksX4_lacks_0 15 rfl rfl)
theorem dX4_lacks_16 : decode cX4_lacks 16 = .ok (.invokevirtual 83, 3) := dk_182 0 83 (dk_at dksX4_lacks_0 16 rfl rfl)
theorem dX4_lacks_19 : decode cX4_lacks 19 = .ok (.isub, 1) := dk_100 (dk_at dksX4_lacks_0 19 rfl rfl)
theorem dX4_lacks_20 : decode cX4_lacks 20 = .ok (.ireturn, 1) := dk_172 (dk_at dksX4_lacks_0 20 rfl rfl)
abbrev cX4_obliged : ByteArray := prog_19_method_13_code
def yX4_obliged : MethodName := ⟨RX4, "obliged", "(I)I"⟩
def dkwX4_obliged_1 : List UInt8 := [167, 255, 238, 28, 172]
abbrev dktX4_obliged_1 : List UInt8 := dkwX4_obliged_1 ++ []
def dkwX4_obliged_0 : List UInt8 := [3, 61, 3, 62, 29, 16, 7, 162, 0, 18, 28, 42, 27, 29, 182, 0, 79, 96, 61, 132, 3, 1]
abbrev dktX4_obliged_0 : List UInt8 := dkwX4_obliged_0 ++ dktX4_obliged_1
theorem dksX4_obliged_0 : cX4_obliged.data.toList.drop 0 = dktX4_obliged_0 := by decide +kernel
theorem dksX4_obliged_1 : cX4_obliged.data.toList.drop 22 = dktX4_obliged_1 := dk_seg dksX4_obliged_0 22 rfl rfl
theorem dX4_obliged_0 : decode cX4_obliged 0 = .ok (.iconst 0, 1) := dk_3 (dk_at dksX4_obliged_0 0 rfl rfl)
theorem dX4_obliged_1 : decode cX4_obliged 1 = .ok (.istore_n 2, 1) := dk_61 (dk_at dksX4_obliged_0 1 rfl rfl)
theorem dX4_obliged_2 : decode cX4_obliged 2 = .ok (.iconst 0, 1) := dk_3 (dk_at dksX4_obliged_0 2 rfl rfl)
theorem dX4_obliged_3 : decode cX4_obliged 3 = .ok (.istore_n 3, 1) := dk_62 (dk_at dksX4_obliged_0 3 rfl rfl)
theorem dX4_obliged_4 : decode cX4_obliged 4 = .ok (.iload_n 3, 1) := dk_29 (dk_at dksX4_obliged_0 4 rfl rfl)
theorem dX4_obliged_5 : decode cX4_obliged 5 = .ok (.bipush 7, 2) := dk_16 7 (dk_at dksX4_obliged_0 5 rfl rfl)
theorem dX4_obliged_7 : decode cX4_obliged 7 = .ok (.if_icmp .ge 18, 3) := dk_162 0 18 (dk_at dksX4_obliged_0 7 rfl rfl)
theorem dX4_obliged_10 : decode cX4_obliged 10 = .ok (.iload_n 2, 1) := dk_28 (dk_at dksX4_obliged_0 10 rfl rfl)
theorem dX4_obliged_11 : decode cX4_obliged 11 = .ok (.aload_n 0, 1) := dk_42 (dk_at dksX4_obliged_0 11 rfl rfl)
theorem dX4_obliged_12 : decode cX4_obliged 12 = .ok (.iload_n 1, 1) := dk_27 (dk_at dksX4_obliged_0 12 rfl rfl)
theorem dX4_obliged_13 : decode cX4_obliged 13 = .ok (.iload_n 3, 1) := dk_29 (dk_at dksX4_obliged_0 13 rfl rfl)
theorem dX4_obliged_14 : decode cX4_obliged 14 = .ok (.invokevirtual 79, 3) := dk_182 0 79 (dk_at dksX4_obliged_0 14 rfl rfl)
theorem dX4_obliged_17 : decode cX4_obliged 17 = .ok (.iadd, 1) := dk_96 (dk_at dksX4_obliged_0 17 rfl rfl)
theorem dX4_obliged_18 : decode cX4_obliged 18 = .ok (.istore_n 2, 1) := dk_61 (dk_at dksX4_obliged_0 18 rfl rfl)
theorem dX4_obliged_19 : decode cX4_obliged 19 = .ok (.iinc 3 1, 3) := dk_132 3 1 (dk_at dksX4_obliged_0 19 rfl rfl)
theorem dX4_obliged_22 : decode cX4_obliged 22 = .ok (.goto (-18), 3) := dk_167 255 238 (dk_at dksX4_obliged_1 0 rfl rfl)
theorem dX4_obliged_25 : decode cX4_obliged 25 = .ok (.iload_n 2, 1) := dk_28 (dk_at dksX4_obliged_1 3 rfl rfl)
theorem dX4_obliged_26 : decode cX4_obliged 26 = .ok (.ireturn, 1) := dk_172 (dk_at dksX4_obliged_1 4 rfl rfl)
abbrev cX4_claimed : ByteArray := prog_19_method_12_code
def yX4_claimed : MethodName := ⟨RX4, "claimed", "(I)I"⟩
def dkwX4_claimed_1 : List UInt8 := [167, 255, 238, 28, 172]
abbrev dktX4_claimed_1 : List UInt8 := dkwX4_claimed_1 ++ []
def dkwX4_claimed_0 : List UInt8 := [3, 61, 3, 62, 29, 16, 7, 162, 0, 18, 28, 42, 29, 27, 182, 0, 79, 96, 61, 132, 3, 1]
abbrev dktX4_claimed_0 : List UInt8 := dkwX4_claimed_0 ++ dktX4_claimed_1
theorem dksX4_claimed_0 : cX4_claimed.data.toList.drop 0 = dktX4_claimed_0 := by decide +kernel
theorem dksX4_claimed_1 : cX4_claimed.data.toList.drop 22 = dktX4_claimed_1 := dk_seg dksX4_claimed_0 22 rfl rfl
theorem dX4_claimed_0 : decode cX4_claimed 0 = .ok (.iconst 0, 1) := dk_3 (dk_at dksX4_claimed_0 0 rfl rfl)
theorem dX4_claimed_1 : decode cX4_claimed 1 = .ok (.istore_n 2, 1) := dk_61 (dk_at dksX4_claimed_0 1 rfl rfl)
theorem dX4_claimed_2 : decode cX4_claimed 2 = .ok (.iconst 0, 1) := dk_3 (dk_at dksX4_claimed_0 2 rfl rfl)
theorem dX4_claimed_3 : decode cX4_claimed 3 = .ok (.istore_n 3, 1) := dk_62 (dk_at dksX4_claimed_0 3 rfl rfl)
theorem dX4_claimed_4 : decode cX4_claimed 4 = .ok (.iload_n 3, 1) := dk_29 (dk_at dksX4_claimed_0 4 rfl rfl)
theorem dX4_claimed_5 : decode cX4_claimed 5 = .ok (.bipush 7, 2) := dk_16 7 (dk_at dksX4_claimed_0 5 rfl rfl)
theorem dX4_claimed_7 : decode cX4_claimed 7 = .ok (.if_icmp .ge 18, 3) := dk_162 0 18 (dk_at dksX4_claimed_0 7 rfl rfl)
theorem dX4_claimed_10 : decode cX4_claimed 10 = .ok (.iload_n 2, 1) := dk_28 (dk_at dksX4_claimed_0 10 rfl rfl)
theorem dX4_claimed_11 : decode cX4_claimed 11 = .ok (.aload_n 0, 1) := dk_42 (dk_at dksX4_claimed_0 11 rfl rfl)
theorem dX4_claimed_12 : decode cX4_claimed 12 = .ok (.iload_n 3, 1) := dk_29 (dk_at dksX4_claimed_0 12 rfl rfl)
theorem dX4_claimed_13 : decode cX4_claimed 13 = .ok (.iload_n 1, 1) := dk_27 (dk_at dksX4_claimed_0 13 rfl rfl)
theorem dX4_claimed_14 : decode cX4_claimed 14 = .ok (.invokevirtual 79, 3) := dk_182 0 79 (dk_at dksX4_claimed_0 14 rfl rfl)
theorem dX4_claimed_17 : decode cX4_claimed 17 = .ok (.iadd, 1) := dk_96 (dk_at dksX4_claimed_0 17 rfl rfl)
theorem dX4_claimed_18 : decode cX4_claimed 18 = .ok (.istore_n 2, 1) := dk_61 (dk_at dksX4_claimed_0 18 rfl rfl)
theorem dX4_claimed_19 : decode cX4_claimed 19 = .ok (.iinc 3 1, 3) := dk_132 3 1 (dk_at dksX4_claimed_0 19 rfl rfl)
theorem dX4_claimed_22 : decode cX4_claimed 22 = .ok (.goto (-18), 3) := dk_167 255 238 (dk_at dksX4_claimed_1 0 rfl rfl)
theorem dX4_claimed_25 : decode cX4_claimed 25 = .ok (.iload_n 2, 1) := dk_28 (dk_at dksX4_claimed_1 3 rfl rfl)
theorem dX4_claimed_26 : decode cX4_claimed 26 = .ok (.ireturn, 1) := dk_172 (dk_at dksX4_claimed_1 4 rfl rfl)
abbrev cX4_falls : ByteArray := prog_19_method_35_code
def yX4_falls : MethodName := ⟨RX4, "falls", "(I)I"⟩
def dkwX4_falls_4 : List UInt8 := [3, 79, 42, 180, 0, 7, 6, 92, 46, 28, 96, 79, 42, 180, 0, 7, 7, 92, 46, 4, 96, 79, 28, 172]
abbrev dktX4_falls_4 : List UInt8 := dkwX4_falls_4 ++ []
def dkwX4_falls_3 : List UInt8 := [16, 12, 16, 7, 27, 104, 96, 29, 96, 3, 79, 132, 3, 1, 167, 255, 215, 42, 180, 0, 7, 8, 27, 96]
abbrev dktX4_falls_3 : List UInt8 := dkwX4_falls_3 ++ dktX4_falls_4
def dkwX4_falls_2 : List UInt8 := [162, 0, 41, 42, 180, 0, 7, 8, 29, 96, 92, 46, 42, 180, 0, 42, 29, 46, 96, 79, 42, 180, 0, 7]
abbrev dktX4_falls_2 : List UInt8 := dkwX4_falls_2 ++ dktX4_falls_3
def dkwX4_falls_1 : List UInt8 := [180, 0, 42, 29, 42, 27, 29, 182, 0, 124, 79, 132, 3, 1, 167, 255, 235, 3, 62, 29, 16, 7]
abbrev dktX4_falls_1 : List UInt8 := dkwX4_falls_1 ++ dktX4_falls_2
def dkwX4_falls_0 : List UInt8 := [42, 27, 182, 0, 87, 42, 180, 0, 7, 8, 27, 96, 46, 100, 61, 3, 62, 29, 16, 7, 162, 0, 21, 42]
abbrev dktX4_falls_0 : List UInt8 := dkwX4_falls_0 ++ dktX4_falls_1
theorem dksX4_falls_0 : cX4_falls.data.toList.drop 0 = dktX4_falls_0 := by decide +kernel
theorem dksX4_falls_1 : cX4_falls.data.toList.drop 24 = dktX4_falls_1 := dk_seg dksX4_falls_0 24 rfl rfl
theorem dksX4_falls_2 : cX4_falls.data.toList.drop 46 = dktX4_falls_2 := dk_seg dksX4_falls_1 22 rfl rfl
theorem dksX4_falls_3 : cX4_falls.data.toList.drop 70 = dktX4_falls_3 := dk_seg dksX4_falls_2 24 rfl rfl
theorem dksX4_falls_4 : cX4_falls.data.toList.drop 94 = dktX4_falls_4 := dk_seg dksX4_falls_3 24 rfl rfl
theorem dX4_falls_0 : decode cX4_falls 0 = .ok (.aload_n 0, 1) := dk_42 (dk_at dksX4_falls_0 0 rfl rfl)
theorem dX4_falls_1 : decode cX4_falls 1 = .ok (.iload_n 1, 1) := dk_27 (dk_at dksX4_falls_0 1 rfl rfl)
theorem dX4_falls_2 : decode cX4_falls 2 = .ok (.invokevirtual 87, 3) := dk_182 0 87 (dk_at dksX4_falls_0 2 rfl rfl)
theorem dX4_falls_5 : decode cX4_falls 5 = .ok (.aload_n 0, 1) := dk_42 (dk_at dksX4_falls_0 5 rfl rfl)
theorem dX4_falls_6 : decode cX4_falls 6 = .ok (.getfield 7, 3) := dk_180 0 7 (dk_at dksX4_falls_0 6 rfl rfl)
theorem dX4_falls_9 : decode cX4_falls 9 = .ok (.iconst 5, 1) := dk_8 (dk_at dksX4_falls_0 9 rfl rfl)
theorem dX4_falls_10 : decode cX4_falls 10 = .ok (.iload_n 1, 1) := dk_27 (dk_at dksX4_falls_0 10 rfl rfl)
theorem dX4_falls_11 : decode cX4_falls 11 = .ok (.iadd, 1) := dk_96 (dk_at dksX4_falls_0 11 rfl rfl)
theorem dX4_falls_12 : decode cX4_falls 12 = .ok (.iaload, 1) := dk_46 (dk_at dksX4_falls_0 12 rfl rfl)
theorem dX4_falls_13 : decode cX4_falls 13 = .ok (.isub, 1) := dk_100 (dk_at dksX4_falls_0 13 rfl rfl)
theorem dX4_falls_14 : decode cX4_falls 14 = .ok (.istore_n 2, 1) := dk_61 (dk_at dksX4_falls_0 14 rfl rfl)
theorem dX4_falls_15 : decode cX4_falls 15 = .ok (.iconst 0, 1) := dk_3 (dk_at dksX4_falls_0 15 rfl rfl)
theorem dX4_falls_16 : decode cX4_falls 16 = .ok (.istore_n 3, 1) := dk_62 (dk_at dksX4_falls_0 16 rfl rfl)
theorem dX4_falls_17 : decode cX4_falls 17 = .ok (.iload_n 3, 1) := dk_29 (dk_at dksX4_falls_0 17 rfl rfl)
theorem dX4_falls_18 : decode cX4_falls 18 = .ok (.bipush 7, 2) := dk_16 7 (dk_at dksX4_falls_0 18 rfl rfl)
theorem dX4_falls_20 : decode cX4_falls 20 = .ok (.if_icmp .ge 21, 3) := dk_162 0 21 (dk_at dksX4_falls_0 20 rfl rfl)
theorem dX4_falls_23 : decode cX4_falls 23 = .ok (.aload_n 0, 1) := dk_42 (dk_at dksX4_falls_0 23 rfl rfl)
theorem dX4_falls_24 : decode cX4_falls 24 = .ok (.getfield 42, 3) := dk_180 0 42 (dk_at dksX4_falls_1 0 rfl rfl)
theorem dX4_falls_27 : decode cX4_falls 27 = .ok (.iload_n 3, 1) := dk_29 (dk_at dksX4_falls_1 3 rfl rfl)
theorem dX4_falls_28 : decode cX4_falls 28 = .ok (.aload_n 0, 1) := dk_42 (dk_at dksX4_falls_1 4 rfl rfl)
theorem dX4_falls_29 : decode cX4_falls 29 = .ok (.iload_n 1, 1) := dk_27 (dk_at dksX4_falls_1 5 rfl rfl)
theorem dX4_falls_30 : decode cX4_falls 30 = .ok (.iload_n 3, 1) := dk_29 (dk_at dksX4_falls_1 6 rfl rfl)
theorem dX4_falls_31 : decode cX4_falls 31 = .ok (.invokevirtual 124, 3) := dk_182 0 124 (dk_at dksX4_falls_1 7 rfl rfl)
theorem dX4_falls_34 : decode cX4_falls 34 = .ok (.iastore, 1) := dk_79 (dk_at dksX4_falls_1 10 rfl rfl)
theorem dX4_falls_35 : decode cX4_falls 35 = .ok (.iinc 3 1, 3) := dk_132 3 1 (dk_at dksX4_falls_1 11 rfl rfl)
theorem dX4_falls_38 : decode cX4_falls 38 = .ok (.goto (-21), 3) := dk_167 255 235 (dk_at dksX4_falls_1 14 rfl rfl)
theorem dX4_falls_41 : decode cX4_falls 41 = .ok (.iconst 0, 1) := dk_3 (dk_at dksX4_falls_1 17 rfl rfl)
theorem dX4_falls_42 : decode cX4_falls 42 = .ok (.istore_n 3, 1) := dk_62 (dk_at dksX4_falls_1 18 rfl rfl)
theorem dX4_falls_43 : decode cX4_falls 43 = .ok (.iload_n 3, 1) := dk_29 (dk_at dksX4_falls_1 19 rfl rfl)
theorem dX4_falls_44 : decode cX4_falls 44 = .ok (.bipush 7, 2) := dk_16 7 (dk_at dksX4_falls_1 20 rfl rfl)
theorem dX4_falls_46 : decode cX4_falls 46 = .ok (.if_icmp .ge 41, 3) := dk_162 0 41 (dk_at dksX4_falls_2 0 rfl rfl)
theorem dX4_falls_49 : decode cX4_falls 49 = .ok (.aload_n 0, 1) := dk_42 (dk_at dksX4_falls_2 3 rfl rfl)
theorem dX4_falls_50 : decode cX4_falls 50 = .ok (.getfield 7, 3) := dk_180 0 7 (dk_at dksX4_falls_2 4 rfl rfl)
theorem dX4_falls_53 : decode cX4_falls 53 = .ok (.iconst 5, 1) := dk_8 (dk_at dksX4_falls_2 7 rfl rfl)
theorem dX4_falls_54 : decode cX4_falls 54 = .ok (.iload_n 3, 1) := dk_29 (dk_at dksX4_falls_2 8 rfl rfl)
theorem dX4_falls_55 : decode cX4_falls 55 = .ok (.iadd, 1) := dk_96 (dk_at dksX4_falls_2 9 rfl rfl)
theorem dX4_falls_56 : decode cX4_falls 56 = .ok (.dup2, 1) := dk_92 (dk_at dksX4_falls_2 10 rfl rfl)
theorem dX4_falls_57 : decode cX4_falls 57 = .ok (.iaload, 1) := dk_46 (dk_at dksX4_falls_2 11 rfl rfl)
theorem dX4_falls_58 : decode cX4_falls 58 = .ok (.aload_n 0, 1) := dk_42 (dk_at dksX4_falls_2 12 rfl rfl)
theorem dX4_falls_59 : decode cX4_falls 59 = .ok (.getfield 42, 3) := dk_180 0 42 (dk_at dksX4_falls_2 13 rfl rfl)
theorem dX4_falls_62 : decode cX4_falls 62 = .ok (.iload_n 3, 1) := dk_29 (dk_at dksX4_falls_2 16 rfl rfl)
theorem dX4_falls_63 : decode cX4_falls 63 = .ok (.iaload, 1) := dk_46 (dk_at dksX4_falls_2 17 rfl rfl)
theorem dX4_falls_64 : decode cX4_falls 64 = .ok (.iadd, 1) := dk_96 (dk_at dksX4_falls_2 18 rfl rfl)
theorem dX4_falls_65 : decode cX4_falls 65 = .ok (.iastore, 1) := dk_79 (dk_at dksX4_falls_2 19 rfl rfl)
theorem dX4_falls_66 : decode cX4_falls 66 = .ok (.aload_n 0, 1) := dk_42 (dk_at dksX4_falls_2 20 rfl rfl)
theorem dX4_falls_67 : decode cX4_falls 67 = .ok (.getfield 7, 3) := dk_180 0 7 (dk_at dksX4_falls_2 21 rfl rfl)
theorem dX4_falls_70 : decode cX4_falls 70 = .ok (.bipush 12, 2) := dk_16 12 (dk_at dksX4_falls_3 0 rfl rfl)
theorem dX4_falls_72 : decode cX4_falls 72 = .ok (.bipush 7, 2) := dk_16 7 (dk_at dksX4_falls_3 2 rfl rfl)
theorem dX4_falls_74 : decode cX4_falls 74 = .ok (.iload_n 1, 1) := dk_27 (dk_at dksX4_falls_3 4 rfl rfl)
theorem dX4_falls_75 : decode cX4_falls 75 = .ok (.imul, 1) := dk_104 (dk_at dksX4_falls_3 5 rfl rfl)
theorem dX4_falls_76 : decode cX4_falls 76 = .ok (.iadd, 1) := dk_96 (dk_at dksX4_falls_3 6 rfl rfl)
theorem dX4_falls_77 : decode cX4_falls 77 = .ok (.iload_n 3, 1) := dk_29 (dk_at dksX4_falls_3 7 rfl rfl)
theorem dX4_falls_78 : decode cX4_falls 78 = .ok (.iadd, 1) := dk_96 (dk_at dksX4_falls_3 8 rfl rfl)
theorem dX4_falls_79 : decode cX4_falls 79 = .ok (.iconst 0, 1) := dk_3 (dk_at dksX4_falls_3 9 rfl rfl)
theorem dX4_falls_80 : decode cX4_falls 80 = .ok (.iastore, 1) := dk_79 (dk_at dksX4_falls_3 10 rfl rfl)
theorem dX4_falls_81 : decode cX4_falls 81 = .ok (.iinc 3 1, 3) := dk_132 3 1 (dk_at dksX4_falls_3 11 rfl rfl)
theorem dX4_falls_84 : decode cX4_falls 84 = .ok (.goto (-41), 3) := dk_167 255 215 (dk_at dksX4_falls_3 14 rfl rfl)
theorem dX4_falls_87 : decode cX4_falls 87 = .ok (.aload_n 0, 1) := dk_42 (dk_at dksX4_falls_3 17 rfl rfl)
theorem dX4_falls_88 : decode cX4_falls 88 = .ok (.getfield 7, 3) := dk_180 0 7 (dk_at dksX4_falls_3 18 rfl rfl)
theorem dX4_falls_91 : decode cX4_falls 91 = .ok (.iconst 5, 1) := dk_8 (dk_at dksX4_falls_3 21 rfl rfl)
theorem dX4_falls_92 : decode cX4_falls 92 = .ok (.iload_n 1, 1) := dk_27 (dk_at dksX4_falls_3 22 rfl rfl)
theorem dX4_falls_93 : decode cX4_falls 93 = .ok (.iadd, 1) := dk_96 (dk_at dksX4_falls_3 23 rfl rfl)
theorem dX4_falls_94 : decode cX4_falls 94 = .ok (.iconst 0, 1) := dk_3 (dk_at dksX4_falls_4 0 rfl rfl)
theorem dX4_falls_95 : decode cX4_falls 95 = .ok (.iastore, 1) := dk_79 (dk_at dksX4_falls_4 1 rfl rfl)
theorem dX4_falls_96 : decode cX4_falls 96 = .ok (.aload_n 0, 1) := dk_42 (dk_at dksX4_falls_4 2 rfl rfl)
theorem dX4_falls_97 : decode cX4_falls 97 = .ok (.getfield 7, 3) := dk_180 0 7 (dk_at dksX4_falls_4 3 rfl rfl)
theorem dX4_falls_100 : decode cX4_falls 100 = .ok (.iconst 3, 1) := dk_6 (dk_at dksX4_falls_4 6 rfl rfl)
theorem dX4_falls_101 : decode cX4_falls 101 = .ok (.dup2, 1) := dk_92 (dk_at dksX4_falls_4 7 rfl rfl)
theorem dX4_falls_102 : decode cX4_falls 102 = .ok (.iaload, 1) := dk_46 (dk_at dksX4_falls_4 8 rfl rfl)
theorem dX4_falls_103 : decode cX4_falls 103 = .ok (.iload_n 2, 1) := dk_28 (dk_at dksX4_falls_4 9 rfl rfl)
theorem dX4_falls_104 : decode cX4_falls 104 = .ok (.iadd, 1) := dk_96 (dk_at dksX4_falls_4 10 rfl rfl)
theorem dX4_falls_105 : decode cX4_falls 105 = .ok (.iastore, 1) := dk_79 (dk_at dksX4_falls_4 11 rfl rfl)
theorem dX4_falls_106 : decode cX4_falls 106 = .ok (.aload_n 0, 1) := dk_42 (dk_at dksX4_falls_4 12 rfl rfl)
theorem dX4_falls_107 : decode cX4_falls 107 = .ok (.getfield 7, 3) := dk_180 0 7 (dk_at dksX4_falls_4 13 rfl rfl)
theorem dX4_falls_110 : decode cX4_falls 110 = .ok (.iconst 4, 1) := dk_7 (dk_at dksX4_falls_4 16 rfl rfl)
theorem dX4_falls_111 : decode cX4_falls 111 = .ok (.dup2, 1) := dk_92 (dk_at dksX4_falls_4 17 rfl rfl)
theorem dX4_falls_112 : decode cX4_falls 112 = .ok (.iaload, 1) := dk_46 (dk_at dksX4_falls_4 18 rfl rfl)
theorem dX4_falls_113 : decode cX4_falls 113 = .ok (.iconst 1, 1) := dk_4 (dk_at dksX4_falls_4 19 rfl rfl)
theorem dX4_falls_114 : decode cX4_falls 114 = .ok (.iadd, 1) := dk_96 (dk_at dksX4_falls_4 20 rfl rfl)
theorem dX4_falls_115 : decode cX4_falls 115 = .ok (.iastore, 1) := dk_79 (dk_at dksX4_falls_4 21 rfl rfl)
theorem dX4_falls_116 : decode cX4_falls 116 = .ok (.iload_n 2, 1) := dk_28 (dk_at dksX4_falls_4 22 rfl rfl)
theorem dX4_falls_117 : decode cX4_falls 117 = .ok (.ireturn, 1) := dk_172 (dk_at dksX4_falls_4 23 rfl rfl)
abbrev cX4_share : ByteArray := prog_19_method_34_code
def yX4_share : MethodName := ⟨RX4, "share", "(II)I"⟩
def dkwX4_share_6 : List UInt8 := [21, 4, 29, 162, 0, 7, 4, 167, 0, 4, 3, 96, 172]
abbrev dktX4_share_6 : List UInt8 := dkwX4_share_6 ++ []
def dkwX4_share_5 : List UInt8 := [167, 255, 169, 42, 180, 0, 7, 8, 27, 96, 46, 42, 27, 28, 182, 0, 79, 104, 42, 27, 182, 0, 87, 108]
abbrev dktX4_share_5 : List UInt8 := dkwX4_share_5 ++ dktX4_share_6
def dkwX4_share_4 : List UInt8 := [21, 6, 154, 0, 13, 21, 5, 28, 162, 0, 7, 4, 167, 0, 4, 3, 96, 54, 4, 132, 5, 1]
abbrev dktX4_share_4 : List UInt8 := dkwX4_share_4 ++ dktX4_share_5
def dkwX4_share_3 : List UInt8 := [182, 0, 121, 100, 54, 6, 21, 4, 42, 27, 21, 5, 182, 0, 79, 158, 0, 23, 21, 6, 157, 0, 14]
abbrev dktX4_share_3 : List UInt8 := dkwX4_share_3 ++ dktX4_share_4
def dkwX4_share_2 : List UInt8 := [182, 0, 79, 104, 42, 27, 182, 0, 87, 108, 100, 62, 42, 27, 21, 5, 182, 0, 121, 42, 27, 28]
abbrev dktX4_share_2 : List UInt8 := dkwX4_share_2 ++ dktX4_share_3
def dkwX4_share_1 : List UInt8 := [54, 5, 21, 5, 16, 7, 162, 0, 86, 29, 42, 180, 0, 7, 8, 27, 96, 46, 42, 27, 21, 5]
abbrev dktX4_share_1 : List UInt8 := dkwX4_share_1 ++ dktX4_share_2
def dkwX4_share_0 : List UInt8 := [42, 27, 28, 182, 0, 79, 154, 0, 5, 3, 172, 42, 180, 0, 7, 8, 27, 96, 46, 62, 3, 54, 4, 3]
abbrev dktX4_share_0 : List UInt8 := dkwX4_share_0 ++ dktX4_share_1
theorem dksX4_share_0 : cX4_share.data.toList.drop 0 = dktX4_share_0 := by decide +kernel
theorem dksX4_share_1 : cX4_share.data.toList.drop 24 = dktX4_share_1 := dk_seg dksX4_share_0 24 rfl rfl
theorem dksX4_share_2 : cX4_share.data.toList.drop 46 = dktX4_share_2 := dk_seg dksX4_share_1 22 rfl rfl
theorem dksX4_share_3 : cX4_share.data.toList.drop 68 = dktX4_share_3 := dk_seg dksX4_share_2 22 rfl rfl
theorem dksX4_share_4 : cX4_share.data.toList.drop 91 = dktX4_share_4 := dk_seg dksX4_share_3 23 rfl rfl
theorem dksX4_share_5 : cX4_share.data.toList.drop 113 = dktX4_share_5 := dk_seg dksX4_share_4 22 rfl rfl
theorem dksX4_share_6 : cX4_share.data.toList.drop 137 = dktX4_share_6 := dk_seg dksX4_share_5 24 rfl rfl
theorem dX4_share_0 : decode cX4_share 0 = .ok (.aload_n 0, 1) := dk_42 (dk_at dksX4_share_0 0 rfl rfl)
theorem dX4_share_1 : decode cX4_share 1 = .ok (.iload_n 1, 1) := dk_27 (dk_at dksX4_share_0 1 rfl rfl)
theorem dX4_share_2 : decode cX4_share 2 = .ok (.iload_n 2, 1) := dk_28 (dk_at dksX4_share_0 2 rfl rfl)
theorem dX4_share_3 : decode cX4_share 3 = .ok (.invokevirtual 79, 3) := dk_182 0 79 (dk_at dksX4_share_0 3 rfl rfl)
theorem dX4_share_6 : decode cX4_share 6 = .ok (.ifCond .ne 5, 3) := dk_154 0 5 (dk_at dksX4_share_0 6 rfl rfl)
theorem dX4_share_9 : decode cX4_share 9 = .ok (.iconst 0, 1) := dk_3 (dk_at dksX4_share_0 9 rfl rfl)
theorem dX4_share_10 : decode cX4_share 10 = .ok (.ireturn, 1) := dk_172 (dk_at dksX4_share_0 10 rfl rfl)
theorem dX4_share_11 : decode cX4_share 11 = .ok (.aload_n 0, 1) := dk_42 (dk_at dksX4_share_0 11 rfl rfl)
theorem dX4_share_12 : decode cX4_share 12 = .ok (.getfield 7, 3) := dk_180 0 7 (dk_at dksX4_share_0 12 rfl rfl)
theorem dX4_share_15 : decode cX4_share 15 = .ok (.iconst 5, 1) := dk_8 (dk_at dksX4_share_0 15 rfl rfl)
theorem dX4_share_16 : decode cX4_share 16 = .ok (.iload_n 1, 1) := dk_27 (dk_at dksX4_share_0 16 rfl rfl)
theorem dX4_share_17 : decode cX4_share 17 = .ok (.iadd, 1) := dk_96 (dk_at dksX4_share_0 17 rfl rfl)
theorem dX4_share_18 : decode cX4_share 18 = .ok (.iaload, 1) := dk_46 (dk_at dksX4_share_0 18 rfl rfl)
theorem dX4_share_19 : decode cX4_share 19 = .ok (.istore_n 3, 1) := dk_62 (dk_at dksX4_share_0 19 rfl rfl)
theorem dX4_share_20 : decode cX4_share 20 = .ok (.iconst 0, 1) := dk_3 (dk_at dksX4_share_0 20 rfl rfl)
theorem dX4_share_21 : decode cX4_share 21 = .ok (.istore 4, 2) := dk_54 4 (dk_at dksX4_share_0 21 rfl rfl)
theorem dX4_share_23 : decode cX4_share 23 = .ok (.iconst 0, 1) := dk_3 (dk_at dksX4_share_0 23 rfl rfl)
theorem dX4_share_24 : decode cX4_share 24 = .ok (.istore 5, 2) := dk_54 5 (dk_at dksX4_share_1 0 rfl rfl)
theorem dX4_share_26 : decode cX4_share 26 = .ok (.iload 5, 2) := dk_21 5 (dk_at dksX4_share_1 2 rfl rfl)
theorem dX4_share_28 : decode cX4_share 28 = .ok (.bipush 7, 2) := dk_16 7 (dk_at dksX4_share_1 4 rfl rfl)
theorem dX4_share_30 : decode cX4_share 30 = .ok (.if_icmp .ge 86, 3) := dk_162 0 86 (dk_at dksX4_share_1 6 rfl rfl)
theorem dX4_share_33 : decode cX4_share 33 = .ok (.iload_n 3, 1) := dk_29 (dk_at dksX4_share_1 9 rfl rfl)
theorem dX4_share_34 : decode cX4_share 34 = .ok (.aload_n 0, 1) := dk_42 (dk_at dksX4_share_1 10 rfl rfl)
theorem dX4_share_35 : decode cX4_share 35 = .ok (.getfield 7, 3) := dk_180 0 7 (dk_at dksX4_share_1 11 rfl rfl)
theorem dX4_share_38 : decode cX4_share 38 = .ok (.iconst 5, 1) := dk_8 (dk_at dksX4_share_1 14 rfl rfl)
theorem dX4_share_39 : decode cX4_share 39 = .ok (.iload_n 1, 1) := dk_27 (dk_at dksX4_share_1 15 rfl rfl)
theorem dX4_share_40 : decode cX4_share 40 = .ok (.iadd, 1) := dk_96 (dk_at dksX4_share_1 16 rfl rfl)
theorem dX4_share_41 : decode cX4_share 41 = .ok (.iaload, 1) := dk_46 (dk_at dksX4_share_1 17 rfl rfl)
theorem dX4_share_42 : decode cX4_share 42 = .ok (.aload_n 0, 1) := dk_42 (dk_at dksX4_share_1 18 rfl rfl)
theorem dX4_share_43 : decode cX4_share 43 = .ok (.iload_n 1, 1) := dk_27 (dk_at dksX4_share_1 19 rfl rfl)
theorem dX4_share_44 : decode cX4_share 44 = .ok (.iload 5, 2) := dk_21 5 (dk_at dksX4_share_1 20 rfl rfl)
theorem dX4_share_46 : decode cX4_share 46 = .ok (.invokevirtual 79, 3) := dk_182 0 79 (dk_at dksX4_share_2 0 rfl rfl)
theorem dX4_share_49 : decode cX4_share 49 = .ok (.imul, 1) := dk_104 (dk_at dksX4_share_2 3 rfl rfl)
theorem dX4_share_50 : decode cX4_share 50 = .ok (.aload_n 0, 1) := dk_42 (dk_at dksX4_share_2 4 rfl rfl)
theorem dX4_share_51 : decode cX4_share 51 = .ok (.iload_n 1, 1) := dk_27 (dk_at dksX4_share_2 5 rfl rfl)
theorem dX4_share_52 : decode cX4_share 52 = .ok (.invokevirtual 87, 3) := dk_182 0 87 (dk_at dksX4_share_2 6 rfl rfl)
theorem dX4_share_55 : decode cX4_share 55 = .ok (.idiv, 1) := dk_108 (dk_at dksX4_share_2 9 rfl rfl)
theorem dX4_share_56 : decode cX4_share 56 = .ok (.isub, 1) := dk_100 (dk_at dksX4_share_2 10 rfl rfl)
theorem dX4_share_57 : decode cX4_share 57 = .ok (.istore_n 3, 1) := dk_62 (dk_at dksX4_share_2 11 rfl rfl)
theorem dX4_share_58 : decode cX4_share 58 = .ok (.aload_n 0, 1) := dk_42 (dk_at dksX4_share_2 12 rfl rfl)
theorem dX4_share_59 : decode cX4_share 59 = .ok (.iload_n 1, 1) := dk_27 (dk_at dksX4_share_2 13 rfl rfl)
theorem dX4_share_60 : decode cX4_share 60 = .ok (.iload 5, 2) := dk_21 5 (dk_at dksX4_share_2 14 rfl rfl)
theorem dX4_share_62 : decode cX4_share 62 = .ok (.invokevirtual 121, 3) := dk_182 0 121 (dk_at dksX4_share_2 16 rfl rfl)
theorem dX4_share_65 : decode cX4_share 65 = .ok (.aload_n 0, 1) := dk_42 (dk_at dksX4_share_2 19 rfl rfl)
theorem dX4_share_66 : decode cX4_share 66 = .ok (.iload_n 1, 1) := dk_27 (dk_at dksX4_share_2 20 rfl rfl)
theorem dX4_share_67 : decode cX4_share 67 = .ok (.iload_n 2, 1) := dk_28 (dk_at dksX4_share_2 21 rfl rfl)
theorem dX4_share_68 : decode cX4_share 68 = .ok (.invokevirtual 121, 3) := dk_182 0 121 (dk_at dksX4_share_3 0 rfl rfl)
theorem dX4_share_71 : decode cX4_share 71 = .ok (.isub, 1) := dk_100 (dk_at dksX4_share_3 3 rfl rfl)
theorem dX4_share_72 : decode cX4_share 72 = .ok (.istore 6, 2) := dk_54 6 (dk_at dksX4_share_3 4 rfl rfl)
theorem dX4_share_74 : decode cX4_share 74 = .ok (.iload 4, 2) := dk_21 4 (dk_at dksX4_share_3 6 rfl rfl)
theorem dX4_share_76 : decode cX4_share 76 = .ok (.aload_n 0, 1) := dk_42 (dk_at dksX4_share_3 8 rfl rfl)
theorem dX4_share_77 : decode cX4_share 77 = .ok (.iload_n 1, 1) := dk_27 (dk_at dksX4_share_3 9 rfl rfl)
theorem dX4_share_78 : decode cX4_share 78 = .ok (.iload 5, 2) := dk_21 5 (dk_at dksX4_share_3 10 rfl rfl)
theorem dX4_share_80 : decode cX4_share 80 = .ok (.invokevirtual 79, 3) := dk_182 0 79 (dk_at dksX4_share_3 12 rfl rfl)
theorem dX4_share_83 : decode cX4_share 83 = .ok (.ifCond .le 23, 3) := dk_158 0 23 (dk_at dksX4_share_3 15 rfl rfl)
theorem dX4_share_86 : decode cX4_share 86 = .ok (.iload 6, 2) := dk_21 6 (dk_at dksX4_share_3 18 rfl rfl)
theorem dX4_share_88 : decode cX4_share 88 = .ok (.ifCond .gt 14, 3) := dk_157 0 14 (dk_at dksX4_share_3 20 rfl rfl)
theorem dX4_share_91 : decode cX4_share 91 = .ok (.iload 6, 2) := dk_21 6 (dk_at dksX4_share_4 0 rfl rfl)
theorem dX4_share_93 : decode cX4_share 93 = .ok (.ifCond .ne 13, 3) := dk_154 0 13 (dk_at dksX4_share_4 2 rfl rfl)
theorem dX4_share_96 : decode cX4_share 96 = .ok (.iload 5, 2) := dk_21 5 (dk_at dksX4_share_4 5 rfl rfl)
theorem dX4_share_98 : decode cX4_share 98 = .ok (.iload_n 2, 1) := dk_28 (dk_at dksX4_share_4 7 rfl rfl)
theorem dX4_share_99 : decode cX4_share 99 = .ok (.if_icmp .ge 7, 3) := dk_162 0 7 (dk_at dksX4_share_4 8 rfl rfl)
theorem dX4_share_102 : decode cX4_share 102 = .ok (.iconst 1, 1) := dk_4 (dk_at dksX4_share_4 11 rfl rfl)
theorem dX4_share_103 : decode cX4_share 103 = .ok (.goto 4, 3) := dk_167 0 4 (dk_at dksX4_share_4 12 rfl rfl)
theorem dX4_share_106 : decode cX4_share 106 = .ok (.iconst 0, 1) := dk_3 (dk_at dksX4_share_4 15 rfl rfl)
theorem dX4_share_107 : decode cX4_share 107 = .ok (.iadd, 1) := dk_96 (dk_at dksX4_share_4 16 rfl rfl)
theorem dX4_share_108 : decode cX4_share 108 = .ok (.istore 4, 2) := dk_54 4 (dk_at dksX4_share_4 17 rfl rfl)
theorem dX4_share_110 : decode cX4_share 110 = .ok (.iinc 5 1, 3) := dk_132 5 1 (dk_at dksX4_share_4 19 rfl rfl)
theorem dX4_share_113 : decode cX4_share 113 = .ok (.goto (-87), 3) := dk_167 255 169 (dk_at dksX4_share_5 0 rfl rfl)
theorem dX4_share_116 : decode cX4_share 116 = .ok (.aload_n 0, 1) := dk_42 (dk_at dksX4_share_5 3 rfl rfl)
theorem dX4_share_117 : decode cX4_share 117 = .ok (.getfield 7, 3) := dk_180 0 7 (dk_at dksX4_share_5 4 rfl rfl)
theorem dX4_share_120 : decode cX4_share 120 = .ok (.iconst 5, 1) := dk_8 (dk_at dksX4_share_5 7 rfl rfl)
theorem dX4_share_121 : decode cX4_share 121 = .ok (.iload_n 1, 1) := dk_27 (dk_at dksX4_share_5 8 rfl rfl)
theorem dX4_share_122 : decode cX4_share 122 = .ok (.iadd, 1) := dk_96 (dk_at dksX4_share_5 9 rfl rfl)
theorem dX4_share_123 : decode cX4_share 123 = .ok (.iaload, 1) := dk_46 (dk_at dksX4_share_5 10 rfl rfl)
theorem dX4_share_124 : decode cX4_share 124 = .ok (.aload_n 0, 1) := dk_42 (dk_at dksX4_share_5 11 rfl rfl)
theorem dX4_share_125 : decode cX4_share 125 = .ok (.iload_n 1, 1) := dk_27 (dk_at dksX4_share_5 12 rfl rfl)
theorem dX4_share_126 : decode cX4_share 126 = .ok (.iload_n 2, 1) := dk_28 (dk_at dksX4_share_5 13 rfl rfl)
theorem dX4_share_127 : decode cX4_share 127 = .ok (.invokevirtual 79, 3) := dk_182 0 79 (dk_at dksX4_share_5 14 rfl rfl)
theorem dX4_share_130 : decode cX4_share 130 = .ok (.imul, 1) := dk_104 (dk_at dksX4_share_5 17 rfl rfl)
theorem dX4_share_131 : decode cX4_share 131 = .ok (.aload_n 0, 1) := dk_42 (dk_at dksX4_share_5 18 rfl rfl)
theorem dX4_share_132 : decode cX4_share 132 = .ok (.iload_n 1, 1) := dk_27 (dk_at dksX4_share_5 19 rfl rfl)
theorem dX4_share_133 : decode cX4_share 133 = .ok (.invokevirtual 87, 3) := dk_182 0 87 (dk_at dksX4_share_5 20 rfl rfl)
theorem dX4_share_136 : decode cX4_share 136 = .ok (.idiv, 1) := dk_108 (dk_at dksX4_share_5 23 rfl rfl)
theorem dX4_share_137 : decode cX4_share 137 = .ok (.iload 4, 2) := dk_21 4 (dk_at dksX4_share_6 0 rfl rfl)
theorem dX4_share_139 : decode cX4_share 139 = .ok (.iload_n 3, 1) := dk_29 (dk_at dksX4_share_6 2 rfl rfl)
theorem dX4_share_140 : decode cX4_share 140 = .ok (.if_icmp .ge 7, 3) := dk_162 0 7 (dk_at dksX4_share_6 3 rfl rfl)
theorem dX4_share_143 : decode cX4_share 143 = .ok (.iconst 1, 1) := dk_4 (dk_at dksX4_share_6 6 rfl rfl)
theorem dX4_share_144 : decode cX4_share 144 = .ok (.goto 4, 3) := dk_167 0 4 (dk_at dksX4_share_6 7 rfl rfl)
theorem dX4_share_147 : decode cX4_share 147 = .ok (.iconst 0, 1) := dk_3 (dk_at dksX4_share_6 10 rfl rfl)
theorem dX4_share_148 : decode cX4_share 148 = .ok (.iadd, 1) := dk_96 (dk_at dksX4_share_6 11 rfl rfl)
theorem dX4_share_149 : decode cX4_share 149 = .ok (.ireturn, 1) := dk_172 (dk_at dksX4_share_6 12 rfl rfl)
abbrev cX4_remains : ByteArray := prog_19_method_33_code
def yX4_remains : MethodName := ⟨RX4, "remains", "(II)I"⟩
def dkwX4_remains_0 : List UInt8 := [42, 180, 0, 7, 8, 27, 96, 46, 42, 27, 28, 182, 0, 79, 104, 42, 27, 182, 0, 87, 112, 172]
abbrev dktX4_remains_0 : List UInt8 := dkwX4_remains_0 ++ []
theorem dksX4_remains_0 : cX4_remains.data.toList.drop 0 = dktX4_remains_0 := by decide +kernel
theorem dX4_remains_0 : decode cX4_remains 0 = .ok (.aload_n 0, 1) := dk_42 (dk_at dksX4_remains_0 0 rfl rfl)
theorem dX4_remains_1 : decode cX4_remains 1 = .ok (.getfield 7, 3) := dk_180 0 7 (dk_at dksX4_remains_0 1 rfl rfl)
theorem dX4_remains_4 : decode cX4_remains 4 = .ok (.iconst 5, 1) := dk_8 (dk_at dksX4_remains_0 4 rfl rfl)
theorem dX4_remains_5 : decode cX4_remains 5 = .ok (.iload_n 1, 1) := dk_27 (dk_at dksX4_remains_0 5 rfl rfl)
theorem dX4_remains_6 : decode cX4_remains 6 = .ok (.iadd, 1) := dk_96 (dk_at dksX4_remains_0 6 rfl rfl)
theorem dX4_remains_7 : decode cX4_remains 7 = .ok (.iaload, 1) := dk_46 (dk_at dksX4_remains_0 7 rfl rfl)
theorem dX4_remains_8 : decode cX4_remains 8 = .ok (.aload_n 0, 1) := dk_42 (dk_at dksX4_remains_0 8 rfl rfl)
theorem dX4_remains_9 : decode cX4_remains 9 = .ok (.iload_n 1, 1) := dk_27 (dk_at dksX4_remains_0 9 rfl rfl)
theorem dX4_remains_10 : decode cX4_remains 10 = .ok (.iload_n 2, 1) := dk_28 (dk_at dksX4_remains_0 10 rfl rfl)
theorem dX4_remains_11 : decode cX4_remains 11 = .ok (.invokevirtual 79, 3) := dk_182 0 79 (dk_at dksX4_remains_0 11 rfl rfl)
theorem dX4_remains_14 : decode cX4_remains 14 = .ok (.imul, 1) := dk_104 (dk_at dksX4_remains_0 14 rfl rfl)
theorem dX4_remains_15 : decode cX4_remains 15 = .ok (.aload_n 0, 1) := dk_42 (dk_at dksX4_remains_0 15 rfl rfl)
theorem dX4_remains_16 : decode cX4_remains 16 = .ok (.iload_n 1, 1) := dk_27 (dk_at dksX4_remains_0 16 rfl rfl)
theorem dX4_remains_17 : decode cX4_remains 17 = .ok (.invokevirtual 87, 3) := dk_182 0 87 (dk_at dksX4_remains_0 17 rfl rfl)
theorem dX4_remains_20 : decode cX4_remains 20 = .ok (.irem, 1) := dk_112 (dk_at dksX4_remains_0 20 rfl rfl)
theorem dX4_remains_21 : decode cX4_remains 21 = .ok (.ireturn, 1) := dk_172 (dk_at dksX4_remains_0 21 rfl rfl)
abbrev cX4_cascade : ByteArray := prog_19_method_38_code
def yX4_cascade : MethodName := ⟨RX4, "cascade", "()I"⟩
def dkwX4_cascade_0 : List UInt8 := [42, 42, 180, 0, 7, 182, 0, 90, 42, 182, 0, 133, 172]
abbrev dktX4_cascade_0 : List UInt8 := dkwX4_cascade_0 ++ []
theorem dksX4_cascade_0 : cX4_cascade.data.toList.drop 0 = dktX4_cascade_0 := by decide +kernel
theorem dX4_cascade_0 : decode cX4_cascade 0 = .ok (.aload_n 0, 1) := dk_42 (dk_at dksX4_cascade_0 0 rfl rfl)
theorem dX4_cascade_1 : decode cX4_cascade 1 = .ok (.aload_n 0, 1) := dk_42 (dk_at dksX4_cascade_0 1 rfl rfl)
theorem dX4_cascade_2 : decode cX4_cascade 2 = .ok (.getfield 7, 3) := dk_180 0 7 (dk_at dksX4_cascade_0 2 rfl rfl)
theorem dX4_cascade_5 : decode cX4_cascade 5 = .ok (.invokevirtual 90, 3) := dk_182 0 90 (dk_at dksX4_cascade_0 5 rfl rfl)
theorem dX4_cascade_8 : decode cX4_cascade 8 = .ok (.aload_n 0, 1) := dk_42 (dk_at dksX4_cascade_0 8 rfl rfl)
theorem dX4_cascade_9 : decode cX4_cascade 9 = .ok (.invokevirtual 133, 3) := dk_182 0 133 (dk_at dksX4_cascade_0 9 rfl rfl)
theorem dX4_cascade_12 : decode cX4_cascade 12 = .ok (.ireturn, 1) := dk_172 (dk_at dksX4_cascade_0 12 rfl rfl)
abbrev cX4_fallsAll : ByteArray := prog_19_method_37_code
def yX4_fallsAll : MethodName := ⟨RX4, "fallsAll", "()I"⟩
def dkwX4_fallsAll_3 : List UInt8 := [167, 255, 190, 27, 172]
abbrev dktX4_fallsAll_3 : List UInt8 := dkwX4_fallsAll_3 ++ []
def dkwX4_fallsAll_2 : List UInt8 := [61, 132, 3, 1, 167, 255, 216, 28, 156, 0, 5, 27, 172, 42, 28, 182, 0, 130, 87, 132, 1, 1]
abbrev dktX4_fallsAll_2 : List UInt8 := dkwX4_fallsAll_2 ++ dktX4_fallsAll_3
def dkwX4_fallsAll_1 : List UInt8 := [182, 0, 127, 158, 0, 22, 28, 155, 0, 16, 42, 29, 182, 0, 127, 42, 28, 182, 0, 127, 164, 0, 5, 29]
abbrev dktX4_fallsAll_1 : List UInt8 := dkwX4_fallsAll_1 ++ dktX4_fallsAll_2
def dkwX4_fallsAll_0 : List UInt8 := [3, 60, 3, 61, 28, 155, 0, 68, 2, 61, 3, 62, 29, 42, 180, 0, 7, 3, 46, 162, 0, 36, 42, 29]
abbrev dktX4_fallsAll_0 : List UInt8 := dkwX4_fallsAll_0 ++ dktX4_fallsAll_1
theorem dksX4_fallsAll_0 : cX4_fallsAll.data.toList.drop 0 = dktX4_fallsAll_0 := by decide +kernel
theorem dksX4_fallsAll_1 : cX4_fallsAll.data.toList.drop 24 = dktX4_fallsAll_1 := dk_seg dksX4_fallsAll_0 24 rfl rfl
theorem dksX4_fallsAll_2 : cX4_fallsAll.data.toList.drop 48 = dktX4_fallsAll_2 := dk_seg dksX4_fallsAll_1 24 rfl rfl
theorem dksX4_fallsAll_3 : cX4_fallsAll.data.toList.drop 70 = dktX4_fallsAll_3 := dk_seg dksX4_fallsAll_2 22 rfl rfl
theorem dX4_fallsAll_0 : decode cX4_fallsAll 0 = .ok (.iconst 0, 1) := dk_3 (dk_at dksX4_fallsAll_0 0 rfl rfl)
theorem dX4_fallsAll_1 : decode cX4_fallsAll 1 = .ok (.istore_n 1, 1) := dk_60 (dk_at dksX4_fallsAll_0 1 rfl rfl)
theorem dX4_fallsAll_2 : decode cX4_fallsAll 2 = .ok (.iconst 0, 1) := dk_3 (dk_at dksX4_fallsAll_0 2 rfl rfl)
theorem dX4_fallsAll_3 : decode cX4_fallsAll 3 = .ok (.istore_n 2, 1) := dk_61 (dk_at dksX4_fallsAll_0 3 rfl rfl)
theorem dX4_fallsAll_4 : decode cX4_fallsAll 4 = .ok (.iload_n 2, 1) := dk_28 (dk_at dksX4_fallsAll_0 4 rfl rfl)
theorem dX4_fallsAll_5 : decode cX4_fallsAll 5 = .ok (.ifCond .lt 68, 3) := dk_155 0 68 (dk_at dksX4_fallsAll_0 5 rfl rfl)
theorem dX4_fallsAll_8 : decode cX4_fallsAll 8 = .ok (.iconst (-1), 1) := dk_2 (dk_at dksX4_fallsAll_0 8 rfl rfl)
theorem dX4_fallsAll_9 : decode cX4_fallsAll 9 = .ok (.istore_n 2, 1) := dk_61 (dk_at dksX4_fallsAll_0 9 rfl rfl)
theorem dX4_fallsAll_10 : decode cX4_fallsAll 10 = .ok (.iconst 0, 1) := dk_3 (dk_at dksX4_fallsAll_0 10 rfl rfl)
theorem dX4_fallsAll_11 : decode cX4_fallsAll 11 = .ok (.istore_n 3, 1) := dk_62 (dk_at dksX4_fallsAll_0 11 rfl rfl)
theorem dX4_fallsAll_12 : decode cX4_fallsAll 12 = .ok (.iload_n 3, 1) := dk_29 (dk_at dksX4_fallsAll_0 12 rfl rfl)
theorem dX4_fallsAll_13 : decode cX4_fallsAll 13 = .ok (.aload_n 0, 1) := dk_42 (dk_at dksX4_fallsAll_0 13 rfl rfl)
theorem dX4_fallsAll_14 : decode cX4_fallsAll 14 = .ok (.getfield 7, 3) := dk_180 0 7 (dk_at dksX4_fallsAll_0 14 rfl rfl)
theorem dX4_fallsAll_17 : decode cX4_fallsAll 17 = .ok (.iconst 0, 1) := dk_3 (dk_at dksX4_fallsAll_0 17 rfl rfl)
theorem dX4_fallsAll_18 : decode cX4_fallsAll 18 = .ok (.iaload, 1) := dk_46 (dk_at dksX4_fallsAll_0 18 rfl rfl)
theorem dX4_fallsAll_19 : decode cX4_fallsAll 19 = .ok (.if_icmp .ge 36, 3) := dk_162 0 36 (dk_at dksX4_fallsAll_0 19 rfl rfl)
theorem dX4_fallsAll_22 : decode cX4_fallsAll 22 = .ok (.aload_n 0, 1) := dk_42 (dk_at dksX4_fallsAll_0 22 rfl rfl)
theorem dX4_fallsAll_23 : decode cX4_fallsAll 23 = .ok (.iload_n 3, 1) := dk_29 (dk_at dksX4_fallsAll_0 23 rfl rfl)
theorem dX4_fallsAll_24 : decode cX4_fallsAll 24 = .ok (.invokevirtual 127, 3) := dk_182 0 127 (dk_at dksX4_fallsAll_1 0 rfl rfl)
theorem dX4_fallsAll_27 : decode cX4_fallsAll 27 = .ok (.ifCond .le 22, 3) := dk_158 0 22 (dk_at dksX4_fallsAll_1 3 rfl rfl)
theorem dX4_fallsAll_30 : decode cX4_fallsAll 30 = .ok (.iload_n 2, 1) := dk_28 (dk_at dksX4_fallsAll_1 6 rfl rfl)
theorem dX4_fallsAll_31 : decode cX4_fallsAll 31 = .ok (.ifCond .lt 16, 3) := dk_155 0 16 (dk_at dksX4_fallsAll_1 7 rfl rfl)
theorem dX4_fallsAll_34 : decode cX4_fallsAll 34 = .ok (.aload_n 0, 1) := dk_42 (dk_at dksX4_fallsAll_1 10 rfl rfl)
theorem dX4_fallsAll_35 : decode cX4_fallsAll 35 = .ok (.iload_n 3, 1) := dk_29 (dk_at dksX4_fallsAll_1 11 rfl rfl)
theorem dX4_fallsAll_36 : decode cX4_fallsAll 36 = .ok (.invokevirtual 127, 3) := dk_182 0 127 (dk_at dksX4_fallsAll_1 12 rfl rfl)
theorem dX4_fallsAll_39 : decode cX4_fallsAll 39 = .ok (.aload_n 0, 1) := dk_42 (dk_at dksX4_fallsAll_1 15 rfl rfl)
theorem dX4_fallsAll_40 : decode cX4_fallsAll 40 = .ok (.iload_n 2, 1) := dk_28 (dk_at dksX4_fallsAll_1 16 rfl rfl)
theorem dX4_fallsAll_41 : decode cX4_fallsAll 41 = .ok (.invokevirtual 127, 3) := dk_182 0 127 (dk_at dksX4_fallsAll_1 17 rfl rfl)
theorem dX4_fallsAll_44 : decode cX4_fallsAll 44 = .ok (.if_icmp .le 5, 3) := dk_164 0 5 (dk_at dksX4_fallsAll_1 20 rfl rfl)
theorem dX4_fallsAll_47 : decode cX4_fallsAll 47 = .ok (.iload_n 3, 1) := dk_29 (dk_at dksX4_fallsAll_1 23 rfl rfl)
theorem dX4_fallsAll_48 : decode cX4_fallsAll 48 = .ok (.istore_n 2, 1) := dk_61 (dk_at dksX4_fallsAll_2 0 rfl rfl)
theorem dX4_fallsAll_49 : decode cX4_fallsAll 49 = .ok (.iinc 3 1, 3) := dk_132 3 1 (dk_at dksX4_fallsAll_2 1 rfl rfl)
theorem dX4_fallsAll_52 : decode cX4_fallsAll 52 = .ok (.goto (-40), 3) := dk_167 255 216 (dk_at dksX4_fallsAll_2 4 rfl rfl)
theorem dX4_fallsAll_55 : decode cX4_fallsAll 55 = .ok (.iload_n 2, 1) := dk_28 (dk_at dksX4_fallsAll_2 7 rfl rfl)
theorem dX4_fallsAll_56 : decode cX4_fallsAll 56 = .ok (.ifCond .ge 5, 3) := dk_156 0 5 (dk_at dksX4_fallsAll_2 8 rfl rfl)
theorem dX4_fallsAll_59 : decode cX4_fallsAll 59 = .ok (.iload_n 1, 1) := dk_27 (dk_at dksX4_fallsAll_2 11 rfl rfl)
theorem dX4_fallsAll_60 : decode cX4_fallsAll 60 = .ok (.ireturn, 1) := dk_172 (dk_at dksX4_fallsAll_2 12 rfl rfl)
theorem dX4_fallsAll_61 : decode cX4_fallsAll 61 = .ok (.aload_n 0, 1) := dk_42 (dk_at dksX4_fallsAll_2 13 rfl rfl)
theorem dX4_fallsAll_62 : decode cX4_fallsAll 62 = .ok (.iload_n 2, 1) := dk_28 (dk_at dksX4_fallsAll_2 14 rfl rfl)
theorem dX4_fallsAll_63 : decode cX4_fallsAll 63 = .ok (.invokevirtual 130, 3) := dk_182 0 130 (dk_at dksX4_fallsAll_2 15 rfl rfl)
theorem dX4_fallsAll_66 : decode cX4_fallsAll 66 = .ok (.pop, 1) := dk_87 (dk_at dksX4_fallsAll_2 18 rfl rfl)
theorem dX4_fallsAll_67 : decode cX4_fallsAll 67 = .ok (.iinc 1 1, 3) := dk_132 1 1 (dk_at dksX4_fallsAll_2 19 rfl rfl)
theorem dX4_fallsAll_70 : decode cX4_fallsAll 70 = .ok (.goto (-66), 3) := dk_167 255 190 (dk_at dksX4_fallsAll_3 0 rfl rfl)
theorem dX4_fallsAll_73 : decode cX4_fallsAll 73 = .ok (.iload_n 1, 1) := dk_27 (dk_at dksX4_fallsAll_3 3 rfl rfl)
theorem dX4_fallsAll_74 : decode cX4_fallsAll 74 = .ok (.ireturn, 1) := dk_172 (dk_at dksX4_fallsAll_3 4 rfl rfl)
abbrev cX4_defaultsAhead : ByteArray := prog_19_method_39_code
def yX4_defaultsAhead : MethodName := ⟨RX4, "defaultsAhead", "()I"⟩
def dkwX4_defaultsAhead_1 : List UInt8 := [180, 0, 22, 3, 42, 180, 0, 7, 3, 184, 0, 64, 27, 172]
abbrev dktX4_defaultsAhead_1 : List UInt8 := dkwX4_defaultsAhead_1 ++ []
def dkwX4_defaultsAhead_0 : List UInt8 := [42, 3, 181, 0, 54, 42, 180, 0, 7, 3, 42, 180, 0, 22, 3, 184, 0, 64, 42, 182, 0, 133, 60, 42]
abbrev dktX4_defaultsAhead_0 : List UInt8 := dkwX4_defaultsAhead_0 ++ dktX4_defaultsAhead_1
theorem dksX4_defaultsAhead_0 : cX4_defaultsAhead.data.toList.drop 0 = dktX4_defaultsAhead_0 := by decide +kernel
theorem dksX4_defaultsAhead_1 : cX4_defaultsAhead.data.toList.drop 24 = dktX4_defaultsAhead_1 := dk_seg dksX4_defaultsAhead_0 24 rfl rfl
theorem dX4_defaultsAhead_0 : decode cX4_defaultsAhead 0 = .ok (.aload_n 0, 1) := dk_42 (dk_at dksX4_defaultsAhead_0 0 rfl rfl)
theorem dX4_defaultsAhead_1 : decode cX4_defaultsAhead 1 = .ok (.iconst 0, 1) := dk_3 (dk_at dksX4_defaultsAhead_0 1 rfl rfl)
theorem dX4_defaultsAhead_2 : decode cX4_defaultsAhead 2 = .ok (.putfield 54, 3) := dk_181 0 54 (dk_at dksX4_defaultsAhead_0 2 rfl rfl)
theorem dX4_defaultsAhead_5 : decode cX4_defaultsAhead 5 = .ok (.aload_n 0, 1) := dk_42 (dk_at dksX4_defaultsAhead_0 5 rfl rfl)
theorem dX4_defaultsAhead_6 : decode cX4_defaultsAhead 6 = .ok (.getfield 7, 3) := dk_180 0 7 (dk_at dksX4_defaultsAhead_0 6 rfl rfl)
theorem dX4_defaultsAhead_9 : decode cX4_defaultsAhead 9 = .ok (.iconst 0, 1) := dk_3 (dk_at dksX4_defaultsAhead_0 9 rfl rfl)
theorem dX4_defaultsAhead_10 : decode cX4_defaultsAhead 10 = .ok (.aload_n 0, 1) := dk_42 (dk_at dksX4_defaultsAhead_0 10 rfl rfl)
theorem dX4_defaultsAhead_11 : decode cX4_defaultsAhead 11 = .ok (.getfield 22, 3) := dk_180 0 22 (dk_at dksX4_defaultsAhead_0 11 rfl rfl)
theorem dX4_defaultsAhead_14 : decode cX4_defaultsAhead 14 = .ok (.iconst 0, 1) := dk_3 (dk_at dksX4_defaultsAhead_0 14 rfl rfl)
theorem dX4_defaultsAhead_15 : decode cX4_defaultsAhead 15 = .ok (.invokestatic 64, 3) := dk_184 0 64 (dk_at dksX4_defaultsAhead_0 15 rfl rfl)
theorem dX4_defaultsAhead_18 : decode cX4_defaultsAhead 18 = .ok (.aload_n 0, 1) := dk_42 (dk_at dksX4_defaultsAhead_0 18 rfl rfl)
theorem dX4_defaultsAhead_19 : decode cX4_defaultsAhead 19 = .ok (.invokevirtual 133, 3) := dk_182 0 133 (dk_at dksX4_defaultsAhead_0 19 rfl rfl)
theorem dX4_defaultsAhead_22 : decode cX4_defaultsAhead 22 = .ok (.istore_n 1, 1) := dk_60 (dk_at dksX4_defaultsAhead_0 22 rfl rfl)
theorem dX4_defaultsAhead_23 : decode cX4_defaultsAhead 23 = .ok (.aload_n 0, 1) := dk_42 (dk_at dksX4_defaultsAhead_0 23 rfl rfl)
theorem dX4_defaultsAhead_24 : decode cX4_defaultsAhead 24 = .ok (.getfield 22, 3) := dk_180 0 22 (dk_at dksX4_defaultsAhead_1 0 rfl rfl)
theorem dX4_defaultsAhead_27 : decode cX4_defaultsAhead 27 = .ok (.iconst 0, 1) := dk_3 (dk_at dksX4_defaultsAhead_1 3 rfl rfl)
theorem dX4_defaultsAhead_28 : decode cX4_defaultsAhead 28 = .ok (.aload_n 0, 1) := dk_42 (dk_at dksX4_defaultsAhead_1 4 rfl rfl)
theorem dX4_defaultsAhead_29 : decode cX4_defaultsAhead 29 = .ok (.getfield 7, 3) := dk_180 0 7 (dk_at dksX4_defaultsAhead_1 5 rfl rfl)
theorem dX4_defaultsAhead_32 : decode cX4_defaultsAhead 32 = .ok (.iconst 0, 1) := dk_3 (dk_at dksX4_defaultsAhead_1 8 rfl rfl)
theorem dX4_defaultsAhead_33 : decode cX4_defaultsAhead 33 = .ok (.invokestatic 64, 3) := dk_184 0 64 (dk_at dksX4_defaultsAhead_1 9 rfl rfl)
theorem dX4_defaultsAhead_36 : decode cX4_defaultsAhead 36 = .ok (.iload_n 1, 1) := dk_27 (dk_at dksX4_defaultsAhead_1 12 rfl rfl)
theorem dX4_defaultsAhead_37 : decode cX4_defaultsAhead 37 = .ok (.ireturn, 1) := dk_172 (dk_at dksX4_defaultsAhead_1 13 rfl rfl)
abbrev cX4_shareOf : ByteArray := prog_19_method_41_code
def yX4_shareOf : MethodName := ⟨RX4, "shareOf", "(II)I"⟩
def dkwX4_shareOf_0 : List UInt8 := [42, 27, 28, 182, 0, 136, 172]
abbrev dktX4_shareOf_0 : List UInt8 := dkwX4_shareOf_0 ++ []
theorem dksX4_shareOf_0 : cX4_shareOf.data.toList.drop 0 = dktX4_shareOf_0 := by decide +kernel
theorem dX4_shareOf_0 : decode cX4_shareOf 0 = .ok (.aload_n 0, 1) := dk_42 (dk_at dksX4_shareOf_0 0 rfl rfl)
theorem dX4_shareOf_1 : decode cX4_shareOf 1 = .ok (.iload_n 1, 1) := dk_27 (dk_at dksX4_shareOf_0 1 rfl rfl)
theorem dX4_shareOf_2 : decode cX4_shareOf 2 = .ok (.iload_n 2, 1) := dk_28 (dk_at dksX4_shareOf_0 2 rfl rfl)
theorem dX4_shareOf_3 : decode cX4_shareOf 3 = .ok (.invokevirtual 136, 3) := dk_182 0 136 (dk_at dksX4_shareOf_0 3 rfl rfl)
theorem dX4_shareOf_6 : decode cX4_shareOf 6 = .ok (.ireturn, 1) := dk_172 (dk_at dksX4_shareOf_0 6 rfl rfl)
abbrev cX4_shareTold : ByteArray := prog_19_method_40_code
def yX4_shareTold : MethodName := ⟨RX4, "shareTold", "(II)I"⟩
def dkwX4_shareTold_1 : List UInt8 := [182, 0, 76, 153, 0, 7, 3, 167, 0, 9, 42, 27, 28, 182, 0, 124, 172]
abbrev dktX4_shareTold_1 : List UInt8 := dkwX4_shareTold_1 ++ []
def dkwX4_shareTold_0 : List UInt8 := [42, 27, 28, 182, 0, 97, 154, 0, 23, 42, 42, 27, 182, 0, 127, 158, 0, 7, 3, 167, 0, 4, 5]
abbrev dktX4_shareTold_0 : List UInt8 := dkwX4_shareTold_0 ++ dktX4_shareTold_1
theorem dksX4_shareTold_0 : cX4_shareTold.data.toList.drop 0 = dktX4_shareTold_0 := by decide +kernel
theorem dksX4_shareTold_1 : cX4_shareTold.data.toList.drop 23 = dktX4_shareTold_1 := dk_seg dksX4_shareTold_0 23 rfl rfl
theorem dX4_shareTold_0 : decode cX4_shareTold 0 = .ok (.aload_n 0, 1) := dk_42 (dk_at dksX4_shareTold_0 0 rfl rfl)
theorem dX4_shareTold_1 : decode cX4_shareTold 1 = .ok (.iload_n 1, 1) := dk_27 (dk_at dksX4_shareTold_0 1 rfl rfl)
theorem dX4_shareTold_2 : decode cX4_shareTold 2 = .ok (.iload_n 2, 1) := dk_28 (dk_at dksX4_shareTold_0 2 rfl rfl)
theorem dX4_shareTold_3 : decode cX4_shareTold 3 = .ok (.invokevirtual 97, 3) := dk_182 0 97 (dk_at dksX4_shareTold_0 3 rfl rfl)
theorem dX4_shareTold_6 : decode cX4_shareTold 6 = .ok (.ifCond .ne 23, 3) := dk_154 0 23 (dk_at dksX4_shareTold_0 6 rfl rfl)
theorem dX4_shareTold_9 : decode cX4_shareTold 9 = .ok (.aload_n 0, 1) := dk_42 (dk_at dksX4_shareTold_0 9 rfl rfl)
theorem dX4_shareTold_10 : decode cX4_shareTold 10 = .ok (.aload_n 0, 1) := dk_42 (dk_at dksX4_shareTold_0 10 rfl rfl)
theorem dX4_shareTold_11 : decode cX4_shareTold 11 = .ok (.iload_n 1, 1) := dk_27 (dk_at dksX4_shareTold_0 11 rfl rfl)
theorem dX4_shareTold_12 : decode cX4_shareTold 12 = .ok (.invokevirtual 127, 3) := dk_182 0 127 (dk_at dksX4_shareTold_0 12 rfl rfl)
theorem dX4_shareTold_15 : decode cX4_shareTold 15 = .ok (.ifCond .le 7, 3) := dk_158 0 7 (dk_at dksX4_shareTold_0 15 rfl rfl)
theorem dX4_shareTold_18 : decode cX4_shareTold 18 = .ok (.iconst 0, 1) := dk_3 (dk_at dksX4_shareTold_0 18 rfl rfl)
theorem dX4_shareTold_19 : decode cX4_shareTold 19 = .ok (.goto 4, 3) := dk_167 0 4 (dk_at dksX4_shareTold_0 19 rfl rfl)
theorem dX4_shareTold_22 : decode cX4_shareTold 22 = .ok (.iconst 2, 1) := dk_5 (dk_at dksX4_shareTold_0 22 rfl rfl)
theorem dX4_shareTold_23 : decode cX4_shareTold 23 = .ok (.invokevirtual 76, 3) := dk_182 0 76 (dk_at dksX4_shareTold_1 0 rfl rfl)
theorem dX4_shareTold_26 : decode cX4_shareTold 26 = .ok (.ifCond .eq 7, 3) := dk_153 0 7 (dk_at dksX4_shareTold_1 3 rfl rfl)
theorem dX4_shareTold_29 : decode cX4_shareTold 29 = .ok (.iconst 0, 1) := dk_3 (dk_at dksX4_shareTold_1 6 rfl rfl)
theorem dX4_shareTold_30 : decode cX4_shareTold 30 = .ok (.goto 9, 3) := dk_167 0 9 (dk_at dksX4_shareTold_1 7 rfl rfl)
theorem dX4_shareTold_33 : decode cX4_shareTold 33 = .ok (.aload_n 0, 1) := dk_42 (dk_at dksX4_shareTold_1 10 rfl rfl)
theorem dX4_shareTold_34 : decode cX4_shareTold 34 = .ok (.iload_n 1, 1) := dk_27 (dk_at dksX4_shareTold_1 11 rfl rfl)
theorem dX4_shareTold_35 : decode cX4_shareTold 35 = .ok (.iload_n 2, 1) := dk_28 (dk_at dksX4_shareTold_1 12 rfl rfl)
theorem dX4_shareTold_36 : decode cX4_shareTold 36 = .ok (.invokevirtual 124, 3) := dk_182 0 124 (dk_at dksX4_shareTold_1 13 rfl rfl)
theorem dX4_shareTold_39 : decode cX4_shareTold 39 = .ok (.ireturn, 1) := dk_172 (dk_at dksX4_shareTold_1 16 rfl rfl)
abbrev cX4_shareByCounting : ByteArray := prog_19_method_42_code
def yX4_shareByCounting : MethodName := ⟨RX4, "shareByCounting", "(II)I"⟩
def dkwX4_shareByCounting_0 : List UInt8 := [42, 27, 28, 182, 0, 136, 172]
abbrev dktX4_shareByCounting_0 : List UInt8 := dkwX4_shareByCounting_0 ++ []
theorem dksX4_shareByCounting_0 : cX4_shareByCounting.data.toList.drop 0 = dktX4_shareByCounting_0 := by decide +kernel
theorem dX4_shareByCounting_0 : decode cX4_shareByCounting 0 = .ok (.aload_n 0, 1) := dk_42 (dk_at dksX4_shareByCounting_0 0 rfl rfl)
theorem dX4_shareByCounting_1 : decode cX4_shareByCounting 1 = .ok (.iload_n 1, 1) := dk_27 (dk_at dksX4_shareByCounting_0 1 rfl rfl)
theorem dX4_shareByCounting_2 : decode cX4_shareByCounting 2 = .ok (.iload_n 2, 1) := dk_28 (dk_at dksX4_shareByCounting_0 2 rfl rfl)
theorem dX4_shareByCounting_3 : decode cX4_shareByCounting 3 = .ok (.invokevirtual 136, 3) := dk_182 0 136 (dk_at dksX4_shareByCounting_0 3 rfl rfl)
theorem dX4_shareByCounting_6 : decode cX4_shareByCounting 6 = .ok (.ireturn, 1) := dk_172 (dk_at dksX4_shareByCounting_0 6 rfl rfl)
abbrev cX4_call : ByteArray := prog_19_method_43_code
def yX4_call : MethodName := ⟨RX4, "call", "()I"⟩
def dkwX4_call_3 : List UInt8 := [21, 4, 96, 60, 132, 3, 1, 167, 255, 211, 132, 2, 1, 167, 255, 193, 27, 172]
abbrev dktX4_call_3 : List UInt8 := dkwX4_call_3 ++ []
def dkwX4_call_2 : List UInt8 := [8, 28, 96, 46, 42, 28, 29, 182, 0, 79, 184, 0, 105, 54, 4, 42, 28, 29, 21, 4, 182, 0, 101, 27]
abbrev dktX4_call_2 : List UInt8 := dkwX4_call_2 ++ dktX4_call_3
def dkwX4_call_1 : List UInt8 := [180, 0, 7, 3, 46, 162, 0, 59, 3, 62, 29, 42, 180, 0, 7, 3, 46, 162, 0, 41, 42, 180, 0, 7]
abbrev dktX4_call_1 : List UInt8 := dkwX4_call_1 ++ dktX4_call_2
def dkwX4_call_0 : List UInt8 := [42, 42, 180, 0, 7, 182, 0, 90, 42, 180, 0, 7, 4, 92, 46, 4, 96, 79, 3, 60, 3, 61, 28, 42]
abbrev dktX4_call_0 : List UInt8 := dkwX4_call_0 ++ dktX4_call_1
theorem dksX4_call_0 : cX4_call.data.toList.drop 0 = dktX4_call_0 := by decide +kernel
theorem dksX4_call_1 : cX4_call.data.toList.drop 24 = dktX4_call_1 := dk_seg dksX4_call_0 24 rfl rfl
theorem dksX4_call_2 : cX4_call.data.toList.drop 48 = dktX4_call_2 := dk_seg dksX4_call_1 24 rfl rfl
theorem dksX4_call_3 : cX4_call.data.toList.drop 72 = dktX4_call_3 := dk_seg dksX4_call_2 24 rfl rfl
theorem dX4_call_0 : decode cX4_call 0 = .ok (.aload_n 0, 1) := dk_42 (dk_at dksX4_call_0 0 rfl rfl)
theorem dX4_call_1 : decode cX4_call 1 = .ok (.aload_n 0, 1) := dk_42 (dk_at dksX4_call_0 1 rfl rfl)
theorem dX4_call_2 : decode cX4_call 2 = .ok (.getfield 7, 3) := dk_180 0 7 (dk_at dksX4_call_0 2 rfl rfl)
theorem dX4_call_5 : decode cX4_call 5 = .ok (.invokevirtual 90, 3) := dk_182 0 90 (dk_at dksX4_call_0 5 rfl rfl)
theorem dX4_call_8 : decode cX4_call 8 = .ok (.aload_n 0, 1) := dk_42 (dk_at dksX4_call_0 8 rfl rfl)
theorem dX4_call_9 : decode cX4_call 9 = .ok (.getfield 7, 3) := dk_180 0 7 (dk_at dksX4_call_0 9 rfl rfl)
theorem dX4_call_12 : decode cX4_call 12 = .ok (.iconst 1, 1) := dk_4 (dk_at dksX4_call_0 12 rfl rfl)
theorem dX4_call_13 : decode cX4_call 13 = .ok (.dup2, 1) := dk_92 (dk_at dksX4_call_0 13 rfl rfl)
theorem dX4_call_14 : decode cX4_call 14 = .ok (.iaload, 1) := dk_46 (dk_at dksX4_call_0 14 rfl rfl)
theorem dX4_call_15 : decode cX4_call 15 = .ok (.iconst 1, 1) := dk_4 (dk_at dksX4_call_0 15 rfl rfl)
theorem dX4_call_16 : decode cX4_call 16 = .ok (.iadd, 1) := dk_96 (dk_at dksX4_call_0 16 rfl rfl)
theorem dX4_call_17 : decode cX4_call 17 = .ok (.iastore, 1) := dk_79 (dk_at dksX4_call_0 17 rfl rfl)
theorem dX4_call_18 : decode cX4_call 18 = .ok (.iconst 0, 1) := dk_3 (dk_at dksX4_call_0 18 rfl rfl)
theorem dX4_call_19 : decode cX4_call 19 = .ok (.istore_n 1, 1) := dk_60 (dk_at dksX4_call_0 19 rfl rfl)
theorem dX4_call_20 : decode cX4_call 20 = .ok (.iconst 0, 1) := dk_3 (dk_at dksX4_call_0 20 rfl rfl)
theorem dX4_call_21 : decode cX4_call 21 = .ok (.istore_n 2, 1) := dk_61 (dk_at dksX4_call_0 21 rfl rfl)
theorem dX4_call_22 : decode cX4_call 22 = .ok (.iload_n 2, 1) := dk_28 (dk_at dksX4_call_0 22 rfl rfl)
theorem dX4_call_23 : decode cX4_call 23 = .ok (.aload_n 0, 1) := dk_42 (dk_at dksX4_call_0 23 rfl rfl)
theorem dX4_call_24 : decode cX4_call 24 = .ok (.getfield 7, 3) := dk_180 0 7 (dk_at dksX4_call_1 0 rfl rfl)
theorem dX4_call_27 : decode cX4_call 27 = .ok (.iconst 0, 1) := dk_3 (dk_at dksX4_call_1 3 rfl rfl)
theorem dX4_call_28 : decode cX4_call 28 = .ok (.iaload, 1) := dk_46 (dk_at dksX4_call_1 4 rfl rfl)
theorem dX4_call_29 : decode cX4_call 29 = .ok (.if_icmp .ge 59, 3) := dk_162 0 59 (dk_at dksX4_call_1 5 rfl rfl)
theorem dX4_call_32 : decode cX4_call 32 = .ok (.iconst 0, 1) := dk_3 (dk_at dksX4_call_1 8 rfl rfl)
theorem dX4_call_33 : decode cX4_call 33 = .ok (.istore_n 3, 1) := dk_62 (dk_at dksX4_call_1 9 rfl rfl)
theorem dX4_call_34 : decode cX4_call 34 = .ok (.iload_n 3, 1) := dk_29 (dk_at dksX4_call_1 10 rfl rfl)
theorem dX4_call_35 : decode cX4_call 35 = .ok (.aload_n 0, 1) := dk_42 (dk_at dksX4_call_1 11 rfl rfl)
theorem dX4_call_36 : decode cX4_call 36 = .ok (.getfield 7, 3) := dk_180 0 7 (dk_at dksX4_call_1 12 rfl rfl)
theorem dX4_call_39 : decode cX4_call 39 = .ok (.iconst 0, 1) := dk_3 (dk_at dksX4_call_1 15 rfl rfl)
theorem dX4_call_40 : decode cX4_call 40 = .ok (.iaload, 1) := dk_46 (dk_at dksX4_call_1 16 rfl rfl)
theorem dX4_call_41 : decode cX4_call 41 = .ok (.if_icmp .ge 41, 3) := dk_162 0 41 (dk_at dksX4_call_1 17 rfl rfl)
theorem dX4_call_44 : decode cX4_call 44 = .ok (.aload_n 0, 1) := dk_42 (dk_at dksX4_call_1 20 rfl rfl)
theorem dX4_call_45 : decode cX4_call 45 = .ok (.getfield 7, 3) := dk_180 0 7 (dk_at dksX4_call_1 21 rfl rfl)
theorem dX4_call_48 : decode cX4_call 48 = .ok (.iconst 5, 1) := dk_8 (dk_at dksX4_call_2 0 rfl rfl)
theorem dX4_call_49 : decode cX4_call 49 = .ok (.iload_n 2, 1) := dk_28 (dk_at dksX4_call_2 1 rfl rfl)
theorem dX4_call_50 : decode cX4_call 50 = .ok (.iadd, 1) := dk_96 (dk_at dksX4_call_2 2 rfl rfl)
theorem dX4_call_51 : decode cX4_call 51 = .ok (.iaload, 1) := dk_46 (dk_at dksX4_call_2 3 rfl rfl)
theorem dX4_call_52 : decode cX4_call 52 = .ok (.aload_n 0, 1) := dk_42 (dk_at dksX4_call_2 4 rfl rfl)
theorem dX4_call_53 : decode cX4_call 53 = .ok (.iload_n 2, 1) := dk_28 (dk_at dksX4_call_2 5 rfl rfl)
theorem dX4_call_54 : decode cX4_call 54 = .ok (.iload_n 3, 1) := dk_29 (dk_at dksX4_call_2 6 rfl rfl)
theorem dX4_call_55 : decode cX4_call 55 = .ok (.invokevirtual 79, 3) := dk_182 0 79 (dk_at dksX4_call_2 7 rfl rfl)
theorem dX4_call_58 : decode cX4_call 58 = .ok (.invokestatic 105, 3) := dk_184 0 105 (dk_at dksX4_call_2 10 rfl rfl)
theorem dX4_call_61 : decode cX4_call 61 = .ok (.istore 4, 2) := dk_54 4 (dk_at dksX4_call_2 13 rfl rfl)
theorem dX4_call_63 : decode cX4_call 63 = .ok (.aload_n 0, 1) := dk_42 (dk_at dksX4_call_2 15 rfl rfl)
theorem dX4_call_64 : decode cX4_call 64 = .ok (.iload_n 2, 1) := dk_28 (dk_at dksX4_call_2 16 rfl rfl)
theorem dX4_call_65 : decode cX4_call 65 = .ok (.iload_n 3, 1) := dk_29 (dk_at dksX4_call_2 17 rfl rfl)
theorem dX4_call_66 : decode cX4_call 66 = .ok (.iload 4, 2) := dk_21 4 (dk_at dksX4_call_2 18 rfl rfl)
theorem dX4_call_68 : decode cX4_call 68 = .ok (.invokevirtual 101, 3) := dk_182 0 101 (dk_at dksX4_call_2 20 rfl rfl)
theorem dX4_call_71 : decode cX4_call 71 = .ok (.iload_n 1, 1) := dk_27 (dk_at dksX4_call_2 23 rfl rfl)
theorem dX4_call_72 : decode cX4_call 72 = .ok (.iload 4, 2) := dk_21 4 (dk_at dksX4_call_3 0 rfl rfl)
theorem dX4_call_74 : decode cX4_call 74 = .ok (.iadd, 1) := dk_96 (dk_at dksX4_call_3 2 rfl rfl)
theorem dX4_call_75 : decode cX4_call 75 = .ok (.istore_n 1, 1) := dk_60 (dk_at dksX4_call_3 3 rfl rfl)
theorem dX4_call_76 : decode cX4_call 76 = .ok (.iinc 3 1, 3) := dk_132 3 1 (dk_at dksX4_call_3 4 rfl rfl)
theorem dX4_call_79 : decode cX4_call 79 = .ok (.goto (-45), 3) := dk_167 255 211 (dk_at dksX4_call_3 7 rfl rfl)
theorem dX4_call_82 : decode cX4_call 82 = .ok (.iinc 2 1, 3) := dk_132 2 1 (dk_at dksX4_call_3 10 rfl rfl)
theorem dX4_call_85 : decode cX4_call 85 = .ok (.goto (-63), 3) := dk_167 255 193 (dk_at dksX4_call_3 13 rfl rfl)
theorem dX4_call_88 : decode cX4_call 88 = .ok (.iload_n 1, 1) := dk_27 (dk_at dksX4_call_3 16 rfl rfl)
theorem dX4_call_89 : decode cX4_call 89 = .ok (.ireturn, 1) := dk_172 (dk_at dksX4_call_3 17 rfl rfl)
abbrev cX4_partyCount : ByteArray := prog_19_method_44_code
def yX4_partyCount : MethodName := ⟨RX4, "partyCount", "()I"⟩
def dkwX4_partyCount_0 : List UInt8 := [42, 3, 181, 0, 54, 42, 180, 0, 7, 3, 46, 172]
abbrev dktX4_partyCount_0 : List UInt8 := dkwX4_partyCount_0 ++ []
theorem dksX4_partyCount_0 : cX4_partyCount.data.toList.drop 0 = dktX4_partyCount_0 := by decide +kernel
theorem dX4_partyCount_0 : decode cX4_partyCount 0 = .ok (.aload_n 0, 1) := dk_42 (dk_at dksX4_partyCount_0 0 rfl rfl)
theorem dX4_partyCount_1 : decode cX4_partyCount 1 = .ok (.iconst 0, 1) := dk_3 (dk_at dksX4_partyCount_0 1 rfl rfl)
theorem dX4_partyCount_2 : decode cX4_partyCount 2 = .ok (.putfield 54, 3) := dk_181 0 54 (dk_at dksX4_partyCount_0 2 rfl rfl)
theorem dX4_partyCount_5 : decode cX4_partyCount 5 = .ok (.aload_n 0, 1) := dk_42 (dk_at dksX4_partyCount_0 5 rfl rfl)
theorem dX4_partyCount_6 : decode cX4_partyCount 6 = .ok (.getfield 7, 3) := dk_180 0 7 (dk_at dksX4_partyCount_0 6 rfl rfl)
theorem dX4_partyCount_9 : decode cX4_partyCount 9 = .ok (.iconst 0, 1) := dk_3 (dk_at dksX4_partyCount_0 9 rfl rfl)
theorem dX4_partyCount_10 : decode cX4_partyCount 10 = .ok (.iaload, 1) := dk_46 (dk_at dksX4_partyCount_0 10 rfl rfl)
theorem dX4_partyCount_11 : decode cX4_partyCount 11 = .ok (.ireturn, 1) := dk_172 (dk_at dksX4_partyCount_0 11 rfl rfl)
abbrev cX4_cash : ByteArray := prog_19_method_45_code
def yX4_cash : MethodName := ⟨RX4, "cash", "(I)I"⟩
def dkwX4_cash_0 : List UInt8 := [42, 27, 182, 0, 94, 153, 0, 7, 3, 167, 0, 11, 42, 180, 0, 7, 8, 27, 96, 46, 172]
abbrev dktX4_cash_0 : List UInt8 := dkwX4_cash_0 ++ []
theorem dksX4_cash_0 : cX4_cash.data.toList.drop 0 = dktX4_cash_0 := by decide +kernel
theorem dX4_cash_0 : decode cX4_cash 0 = .ok (.aload_n 0, 1) := dk_42 (dk_at dksX4_cash_0 0 rfl rfl)
theorem dX4_cash_1 : decode cX4_cash 1 = .ok (.iload_n 1, 1) := dk_27 (dk_at dksX4_cash_0 1 rfl rfl)
theorem dX4_cash_2 : decode cX4_cash 2 = .ok (.invokevirtual 94, 3) := dk_182 0 94 (dk_at dksX4_cash_0 2 rfl rfl)
theorem dX4_cash_5 : decode cX4_cash 5 = .ok (.ifCond .eq 7, 3) := dk_153 0 7 (dk_at dksX4_cash_0 5 rfl rfl)
theorem dX4_cash_8 : decode cX4_cash 8 = .ok (.iconst 0, 1) := dk_3 (dk_at dksX4_cash_0 8 rfl rfl)
theorem dX4_cash_9 : decode cX4_cash 9 = .ok (.goto 11, 3) := dk_167 0 11 (dk_at dksX4_cash_0 9 rfl rfl)
theorem dX4_cash_12 : decode cX4_cash 12 = .ok (.aload_n 0, 1) := dk_42 (dk_at dksX4_cash_0 12 rfl rfl)
theorem dX4_cash_13 : decode cX4_cash 13 = .ok (.getfield 7, 3) := dk_180 0 7 (dk_at dksX4_cash_0 13 rfl rfl)
theorem dX4_cash_16 : decode cX4_cash 16 = .ok (.iconst 5, 1) := dk_8 (dk_at dksX4_cash_0 16 rfl rfl)
theorem dX4_cash_17 : decode cX4_cash 17 = .ok (.iload_n 1, 1) := dk_27 (dk_at dksX4_cash_0 17 rfl rfl)
theorem dX4_cash_18 : decode cX4_cash 18 = .ok (.iadd, 1) := dk_96 (dk_at dksX4_cash_0 18 rfl rfl)
theorem dX4_cash_19 : decode cX4_cash 19 = .ok (.iaload, 1) := dk_46 (dk_at dksX4_cash_0 19 rfl rfl)
theorem dX4_cash_20 : decode cX4_cash 20 = .ok (.ireturn, 1) := dk_172 (dk_at dksX4_cash_0 20 rfl rfl)
abbrev cX4_debt : ByteArray := prog_19_method_46_code
def yX4_debt : MethodName := ⟨RX4, "debt", "(II)I"⟩
def dkwX4_debt_0 : List UInt8 := [42, 27, 28, 182, 0, 97, 153, 0, 7, 3, 167, 0, 9, 42, 27, 28, 182, 0, 79, 172]
abbrev dktX4_debt_0 : List UInt8 := dkwX4_debt_0 ++ []
theorem dksX4_debt_0 : cX4_debt.data.toList.drop 0 = dktX4_debt_0 := by decide +kernel
theorem dX4_debt_0 : decode cX4_debt 0 = .ok (.aload_n 0, 1) := dk_42 (dk_at dksX4_debt_0 0 rfl rfl)
theorem dX4_debt_1 : decode cX4_debt 1 = .ok (.iload_n 1, 1) := dk_27 (dk_at dksX4_debt_0 1 rfl rfl)
theorem dX4_debt_2 : decode cX4_debt 2 = .ok (.iload_n 2, 1) := dk_28 (dk_at dksX4_debt_0 2 rfl rfl)
theorem dX4_debt_3 : decode cX4_debt 3 = .ok (.invokevirtual 97, 3) := dk_182 0 97 (dk_at dksX4_debt_0 3 rfl rfl)
theorem dX4_debt_6 : decode cX4_debt 6 = .ok (.ifCond .eq 7, 3) := dk_153 0 7 (dk_at dksX4_debt_0 6 rfl rfl)
theorem dX4_debt_9 : decode cX4_debt 9 = .ok (.iconst 0, 1) := dk_3 (dk_at dksX4_debt_0 9 rfl rfl)
theorem dX4_debt_10 : decode cX4_debt 10 = .ok (.goto 9, 3) := dk_167 0 9 (dk_at dksX4_debt_0 10 rfl rfl)
theorem dX4_debt_13 : decode cX4_debt 13 = .ok (.aload_n 0, 1) := dk_42 (dk_at dksX4_debt_0 13 rfl rfl)
theorem dX4_debt_14 : decode cX4_debt 14 = .ok (.iload_n 1, 1) := dk_27 (dk_at dksX4_debt_0 14 rfl rfl)
theorem dX4_debt_15 : decode cX4_debt 15 = .ok (.iload_n 2, 1) := dk_28 (dk_at dksX4_debt_0 15 rfl rfl)
theorem dX4_debt_16 : decode cX4_debt 16 = .ok (.invokevirtual 79, 3) := dk_182 0 79 (dk_at dksX4_debt_0 16 rfl rfl)
theorem dX4_debt_19 : decode cX4_debt 19 = .ok (.ireturn, 1) := dk_172 (dk_at dksX4_debt_0 19 rfl rfl)
abbrev cX4_claims : ByteArray := prog_19_method_47_code
def yX4_claims : MethodName := ⟨RX4, "claims", "(I)I"⟩
def dkwX4_claims_0 : List UInt8 := [42, 27, 182, 0, 94, 153, 0, 7, 3, 167, 0, 8, 42, 27, 182, 0, 83, 172]
abbrev dktX4_claims_0 : List UInt8 := dkwX4_claims_0 ++ []
theorem dksX4_claims_0 : cX4_claims.data.toList.drop 0 = dktX4_claims_0 := by decide +kernel
theorem dX4_claims_0 : decode cX4_claims 0 = .ok (.aload_n 0, 1) := dk_42 (dk_at dksX4_claims_0 0 rfl rfl)
theorem dX4_claims_1 : decode cX4_claims 1 = .ok (.iload_n 1, 1) := dk_27 (dk_at dksX4_claims_0 1 rfl rfl)
theorem dX4_claims_2 : decode cX4_claims 2 = .ok (.invokevirtual 94, 3) := dk_182 0 94 (dk_at dksX4_claims_0 2 rfl rfl)
theorem dX4_claims_5 : decode cX4_claims 5 = .ok (.ifCond .eq 7, 3) := dk_153 0 7 (dk_at dksX4_claims_0 5 rfl rfl)
theorem dX4_claims_8 : decode cX4_claims 8 = .ok (.iconst 0, 1) := dk_3 (dk_at dksX4_claims_0 8 rfl rfl)
theorem dX4_claims_9 : decode cX4_claims 9 = .ok (.goto 8, 3) := dk_167 0 8 (dk_at dksX4_claims_0 9 rfl rfl)
theorem dX4_claims_12 : decode cX4_claims 12 = .ok (.aload_n 0, 1) := dk_42 (dk_at dksX4_claims_0 12 rfl rfl)
theorem dX4_claims_13 : decode cX4_claims 13 = .ok (.iload_n 1, 1) := dk_27 (dk_at dksX4_claims_0 13 rfl rfl)
theorem dX4_claims_14 : decode cX4_claims 14 = .ok (.invokevirtual 83, 3) := dk_182 0 83 (dk_at dksX4_claims_0 14 rfl rfl)
theorem dX4_claims_17 : decode cX4_claims 17 = .ok (.ireturn, 1) := dk_172 (dk_at dksX4_claims_0 17 rfl rfl)
abbrev cX4_obligations : ByteArray := prog_19_method_48_code
def yX4_obligations : MethodName := ⟨RX4, "obligations", "(I)I"⟩
def dkwX4_obligations_0 : List UInt8 := [42, 27, 182, 0, 94, 153, 0, 7, 3, 167, 0, 8, 42, 27, 182, 0, 87, 172]
abbrev dktX4_obligations_0 : List UInt8 := dkwX4_obligations_0 ++ []
theorem dksX4_obligations_0 : cX4_obligations.data.toList.drop 0 = dktX4_obligations_0 := by decide +kernel
theorem dX4_obligations_0 : decode cX4_obligations 0 = .ok (.aload_n 0, 1) := dk_42 (dk_at dksX4_obligations_0 0 rfl rfl)
theorem dX4_obligations_1 : decode cX4_obligations 1 = .ok (.iload_n 1, 1) := dk_27 (dk_at dksX4_obligations_0 1 rfl rfl)
theorem dX4_obligations_2 : decode cX4_obligations 2 = .ok (.invokevirtual 94, 3) := dk_182 0 94 (dk_at dksX4_obligations_0 2 rfl rfl)
theorem dX4_obligations_5 : decode cX4_obligations 5 = .ok (.ifCond .eq 7, 3) := dk_153 0 7 (dk_at dksX4_obligations_0 5 rfl rfl)
theorem dX4_obligations_8 : decode cX4_obligations 8 = .ok (.iconst 0, 1) := dk_3 (dk_at dksX4_obligations_0 8 rfl rfl)
theorem dX4_obligations_9 : decode cX4_obligations 9 = .ok (.goto 8, 3) := dk_167 0 8 (dk_at dksX4_obligations_0 9 rfl rfl)
theorem dX4_obligations_12 : decode cX4_obligations 12 = .ok (.aload_n 0, 1) := dk_42 (dk_at dksX4_obligations_0 12 rfl rfl)
theorem dX4_obligations_13 : decode cX4_obligations 13 = .ok (.iload_n 1, 1) := dk_27 (dk_at dksX4_obligations_0 13 rfl rfl)
theorem dX4_obligations_14 : decode cX4_obligations 14 = .ok (.invokevirtual 87, 3) := dk_182 0 87 (dk_at dksX4_obligations_0 14 rfl rfl)
theorem dX4_obligations_17 : decode cX4_obligations 17 = .ok (.ireturn, 1) := dk_172 (dk_at dksX4_obligations_0 17 rfl rfl)
abbrev cX4_netPosition : ByteArray := prog_19_method_49_code
def yX4_netPosition : MethodName := ⟨RX4, "netPosition", "(I)I"⟩
def dkwX4_netPosition_0 : List UInt8 := [42, 27, 182, 0, 94, 153, 0, 7, 3, 167, 0, 8, 42, 27, 182, 0, 139, 172]
abbrev dktX4_netPosition_0 : List UInt8 := dkwX4_netPosition_0 ++ []
theorem dksX4_netPosition_0 : cX4_netPosition.data.toList.drop 0 = dktX4_netPosition_0 := by decide +kernel
theorem dX4_netPosition_0 : decode cX4_netPosition 0 = .ok (.aload_n 0, 1) := dk_42 (dk_at dksX4_netPosition_0 0 rfl rfl)
theorem dX4_netPosition_1 : decode cX4_netPosition 1 = .ok (.iload_n 1, 1) := dk_27 (dk_at dksX4_netPosition_0 1 rfl rfl)
theorem dX4_netPosition_2 : decode cX4_netPosition 2 = .ok (.invokevirtual 94, 3) := dk_182 0 94 (dk_at dksX4_netPosition_0 2 rfl rfl)
theorem dX4_netPosition_5 : decode cX4_netPosition 5 = .ok (.ifCond .eq 7, 3) := dk_153 0 7 (dk_at dksX4_netPosition_0 5 rfl rfl)
theorem dX4_netPosition_8 : decode cX4_netPosition 8 = .ok (.iconst 0, 1) := dk_3 (dk_at dksX4_netPosition_0 8 rfl rfl)
theorem dX4_netPosition_9 : decode cX4_netPosition 9 = .ok (.goto 8, 3) := dk_167 0 8 (dk_at dksX4_netPosition_0 9 rfl rfl)
theorem dX4_netPosition_12 : decode cX4_netPosition 12 = .ok (.aload_n 0, 1) := dk_42 (dk_at dksX4_netPosition_0 12 rfl rfl)
theorem dX4_netPosition_13 : decode cX4_netPosition 13 = .ok (.iload_n 1, 1) := dk_27 (dk_at dksX4_netPosition_0 13 rfl rfl)
theorem dX4_netPosition_14 : decode cX4_netPosition 14 = .ok (.invokevirtual 139, 3) := dk_182 0 139 (dk_at dksX4_netPosition_0 14 rfl rfl)
theorem dX4_netPosition_17 : decode cX4_netPosition 17 = .ok (.ireturn, 1) := dk_172 (dk_at dksX4_netPosition_0 17 rfl rfl)
abbrev cX4_net : ByteArray := prog_19_method_14_code
def yX4_net : MethodName := ⟨RX4, "net", "(I)I"⟩
def dkwX4_net_0 : List UInt8 := [42, 27, 182, 0, 83, 42, 27, 182, 0, 87, 100, 172]
abbrev dktX4_net_0 : List UInt8 := dkwX4_net_0 ++ []
theorem dksX4_net_0 : cX4_net.data.toList.drop 0 = dktX4_net_0 := by decide +kernel
theorem dX4_net_0 : decode cX4_net 0 = .ok (.aload_n 0, 1) := dk_42 (dk_at dksX4_net_0 0 rfl rfl)
theorem dX4_net_1 : decode cX4_net 1 = .ok (.iload_n 1, 1) := dk_27 (dk_at dksX4_net_0 1 rfl rfl)
theorem dX4_net_2 : decode cX4_net 2 = .ok (.invokevirtual 83, 3) := dk_182 0 83 (dk_at dksX4_net_0 2 rfl rfl)
theorem dX4_net_5 : decode cX4_net 5 = .ok (.aload_n 0, 1) := dk_42 (dk_at dksX4_net_0 5 rfl rfl)
theorem dX4_net_6 : decode cX4_net 6 = .ok (.iload_n 1, 1) := dk_27 (dk_at dksX4_net_0 6 rfl rfl)
theorem dX4_net_7 : decode cX4_net 7 = .ok (.invokevirtual 87, 3) := dk_182 0 87 (dk_at dksX4_net_0 7 rfl rfl)
theorem dX4_net_10 : decode cX4_net 10 = .ok (.isub, 1) := dk_100 (dk_at dksX4_net_0 10 rfl rfl)
theorem dX4_net_11 : decode cX4_net 11 = .ok (.ireturn, 1) := dk_172 (dk_at dksX4_net_0 11 rfl rfl)
abbrev cX4_isInsolvent : ByteArray := prog_19_method_50_code
def yX4_isInsolvent : MethodName := ⟨RX4, "isInsolvent", "(I)Z"⟩
def dkwX4_isInsolvent_0 : List UInt8 := [42, 27, 182, 0, 94, 154, 0, 15, 42, 27, 182, 0, 127, 158, 0, 7, 4, 167, 0, 4, 3, 172]
abbrev dktX4_isInsolvent_0 : List UInt8 := dkwX4_isInsolvent_0 ++ []
theorem dksX4_isInsolvent_0 : cX4_isInsolvent.data.toList.drop 0 = dktX4_isInsolvent_0 := by decide +kernel
theorem dX4_isInsolvent_0 : decode cX4_isInsolvent 0 = .ok (.aload_n 0, 1) := dk_42 (dk_at dksX4_isInsolvent_0 0 rfl rfl)
theorem dX4_isInsolvent_1 : decode cX4_isInsolvent 1 = .ok (.iload_n 1, 1) := dk_27 (dk_at dksX4_isInsolvent_0 1 rfl rfl)
theorem dX4_isInsolvent_2 : decode cX4_isInsolvent 2 = .ok (.invokevirtual 94, 3) := dk_182 0 94 (dk_at dksX4_isInsolvent_0 2 rfl rfl)
theorem dX4_isInsolvent_5 : decode cX4_isInsolvent 5 = .ok (.ifCond .ne 15, 3) := dk_154 0 15 (dk_at dksX4_isInsolvent_0 5 rfl rfl)
theorem dX4_isInsolvent_8 : decode cX4_isInsolvent 8 = .ok (.aload_n 0, 1) := dk_42 (dk_at dksX4_isInsolvent_0 8 rfl rfl)
theorem dX4_isInsolvent_9 : decode cX4_isInsolvent 9 = .ok (.iload_n 1, 1) := dk_27 (dk_at dksX4_isInsolvent_0 9 rfl rfl)
theorem dX4_isInsolvent_10 : decode cX4_isInsolvent 10 = .ok (.invokevirtual 127, 3) := dk_182 0 127 (dk_at dksX4_isInsolvent_0 10 rfl rfl)
theorem dX4_isInsolvent_13 : decode cX4_isInsolvent 13 = .ok (.ifCond .le 7, 3) := dk_158 0 7 (dk_at dksX4_isInsolvent_0 13 rfl rfl)
theorem dX4_isInsolvent_16 : decode cX4_isInsolvent 16 = .ok (.iconst 1, 1) := dk_4 (dk_at dksX4_isInsolvent_0 16 rfl rfl)
theorem dX4_isInsolvent_17 : decode cX4_isInsolvent 17 = .ok (.goto 4, 3) := dk_167 0 4 (dk_at dksX4_isInsolvent_0 17 rfl rfl)
theorem dX4_isInsolvent_20 : decode cX4_isInsolvent 20 = .ok (.iconst 0, 1) := dk_3 (dk_at dksX4_isInsolvent_0 20 rfl rfl)
theorem dX4_isInsolvent_21 : decode cX4_isInsolvent 21 = .ok (.ireturn, 1) := dk_172 (dk_at dksX4_isInsolvent_0 21 rfl rfl)
abbrev cX4_partyAtRank : ByteArray := prog_19_method_52_code
def yX4_partyAtRank : MethodName := ⟨RX4, "partyAtRank", "(I)I"⟩
def dkwX4_partyAtRank_3 : List UInt8 := [181, 0, 54, 28, 172, 132, 2, 1, 167, 255, 182, 42, 4, 181, 0, 54, 3, 172]
abbrev dktX4_partyAtRank_3 : List UInt8 := dkwX4_partyAtRank_3 ++ []
def dkwX4_partyAtRank_2 : List UInt8 := [167, 0, 4, 3, 96, 62, 132, 4, 1, 167, 255, 218, 29, 27, 159, 0, 6, 167, 0, 10, 42, 3]
abbrev dktX4_partyAtRank_2 : List UInt8 := dkwX4_partyAtRank_2 ++ dktX4_partyAtRank_3
def dkwX4_partyAtRank_1 : List UInt8 := [46, 162, 0, 33, 29, 21, 4, 28, 159, 0, 17, 42, 21, 4, 28, 182, 0, 142, 153, 0, 7, 4]
abbrev dktX4_partyAtRank_1 : List UInt8 := dkwX4_partyAtRank_1 ++ dktX4_partyAtRank_2
def dkwX4_partyAtRank_0 : List UInt8 := [3, 61, 28, 42, 180, 0, 7, 3, 46, 162, 0, 70, 3, 62, 3, 54, 4, 21, 4, 42, 180, 0, 7, 3]
abbrev dktX4_partyAtRank_0 : List UInt8 := dkwX4_partyAtRank_0 ++ dktX4_partyAtRank_1
theorem dksX4_partyAtRank_0 : cX4_partyAtRank.data.toList.drop 0 = dktX4_partyAtRank_0 := by decide +kernel
theorem dksX4_partyAtRank_1 : cX4_partyAtRank.data.toList.drop 24 = dktX4_partyAtRank_1 := dk_seg dksX4_partyAtRank_0 24 rfl rfl
theorem dksX4_partyAtRank_2 : cX4_partyAtRank.data.toList.drop 46 = dktX4_partyAtRank_2 := dk_seg dksX4_partyAtRank_1 22 rfl rfl
theorem dksX4_partyAtRank_3 : cX4_partyAtRank.data.toList.drop 68 = dktX4_partyAtRank_3 := dk_seg dksX4_partyAtRank_2 22 rfl rfl
theorem dX4_partyAtRank_0 : decode cX4_partyAtRank 0 = .ok (.iconst 0, 1) := dk_3 (dk_at dksX4_partyAtRank_0 0 rfl rfl)
theorem dX4_partyAtRank_1 : decode cX4_partyAtRank 1 = .ok (.istore_n 2, 1) := dk_61 (dk_at dksX4_partyAtRank_0 1 rfl rfl)
theorem dX4_partyAtRank_2 : decode cX4_partyAtRank 2 = .ok (.iload_n 2, 1) := dk_28 (dk_at dksX4_partyAtRank_0 2 rfl rfl)
theorem dX4_partyAtRank_3 : decode cX4_partyAtRank 3 = .ok (.aload_n 0, 1) := dk_42 (dk_at dksX4_partyAtRank_0 3 rfl rfl)
theorem dX4_partyAtRank_4 : decode cX4_partyAtRank 4 = .ok (.getfield 7, 3) := dk_180 0 7 (dk_at dksX4_partyAtRank_0 4 rfl rfl)
theorem dX4_partyAtRank_7 : decode cX4_partyAtRank 7 = .ok (.iconst 0, 1) := dk_3 (dk_at dksX4_partyAtRank_0 7 rfl rfl)
theorem dX4_partyAtRank_8 : decode cX4_partyAtRank 8 = .ok (.iaload, 1) := dk_46 (dk_at dksX4_partyAtRank_0 8 rfl rfl)
theorem dX4_partyAtRank_9 : decode cX4_partyAtRank 9 = .ok (.if_icmp .ge 70, 3) := dk_162 0 70 (dk_at dksX4_partyAtRank_0 9 rfl rfl)
theorem dX4_partyAtRank_12 : decode cX4_partyAtRank 12 = .ok (.iconst 0, 1) := dk_3 (dk_at dksX4_partyAtRank_0 12 rfl rfl)
theorem dX4_partyAtRank_13 : decode cX4_partyAtRank 13 = .ok (.istore_n 3, 1) := dk_62 (dk_at dksX4_partyAtRank_0 13 rfl rfl)
theorem dX4_partyAtRank_14 : decode cX4_partyAtRank 14 = .ok (.iconst 0, 1) := dk_3 (dk_at dksX4_partyAtRank_0 14 rfl rfl)
theorem dX4_partyAtRank_15 : decode cX4_partyAtRank 15 = .ok (.istore 4, 2) := dk_54 4 (dk_at dksX4_partyAtRank_0 15 rfl rfl)
theorem dX4_partyAtRank_17 : decode cX4_partyAtRank 17 = .ok (.iload 4, 2) := dk_21 4 (dk_at dksX4_partyAtRank_0 17 rfl rfl)
theorem dX4_partyAtRank_19 : decode cX4_partyAtRank 19 = .ok (.aload_n 0, 1) := dk_42 (dk_at dksX4_partyAtRank_0 19 rfl rfl)
theorem dX4_partyAtRank_20 : decode cX4_partyAtRank 20 = .ok (.getfield 7, 3) := dk_180 0 7 (dk_at dksX4_partyAtRank_0 20 rfl rfl)
theorem dX4_partyAtRank_23 : decode cX4_partyAtRank 23 = .ok (.iconst 0, 1) := dk_3 (dk_at dksX4_partyAtRank_0 23 rfl rfl)
theorem dX4_partyAtRank_24 : decode cX4_partyAtRank 24 = .ok (.iaload, 1) := dk_46 (dk_at dksX4_partyAtRank_1 0 rfl rfl)
theorem dX4_partyAtRank_25 : decode cX4_partyAtRank 25 = .ok (.if_icmp .ge 33, 3) := dk_162 0 33 (dk_at dksX4_partyAtRank_1 1 rfl rfl)
theorem dX4_partyAtRank_28 : decode cX4_partyAtRank 28 = .ok (.iload_n 3, 1) := dk_29 (dk_at dksX4_partyAtRank_1 4 rfl rfl)
theorem dX4_partyAtRank_29 : decode cX4_partyAtRank 29 = .ok (.iload 4, 2) := dk_21 4 (dk_at dksX4_partyAtRank_1 5 rfl rfl)
theorem dX4_partyAtRank_31 : decode cX4_partyAtRank 31 = .ok (.iload_n 2, 1) := dk_28 (dk_at dksX4_partyAtRank_1 7 rfl rfl)
theorem dX4_partyAtRank_32 : decode cX4_partyAtRank 32 = .ok (.if_icmp .eq 17, 3) := dk_159 0 17 (dk_at dksX4_partyAtRank_1 8 rfl rfl)
theorem dX4_partyAtRank_35 : decode cX4_partyAtRank 35 = .ok (.aload_n 0, 1) := dk_42 (dk_at dksX4_partyAtRank_1 11 rfl rfl)
theorem dX4_partyAtRank_36 : decode cX4_partyAtRank 36 = .ok (.iload 4, 2) := dk_21 4 (dk_at dksX4_partyAtRank_1 12 rfl rfl)
theorem dX4_partyAtRank_38 : decode cX4_partyAtRank 38 = .ok (.iload_n 2, 1) := dk_28 (dk_at dksX4_partyAtRank_1 14 rfl rfl)
theorem dX4_partyAtRank_39 : decode cX4_partyAtRank 39 = .ok (.invokevirtual 142, 3) := dk_182 0 142 (dk_at dksX4_partyAtRank_1 15 rfl rfl)
theorem dX4_partyAtRank_42 : decode cX4_partyAtRank 42 = .ok (.ifCond .eq 7, 3) := dk_153 0 7 (dk_at dksX4_partyAtRank_1 18 rfl rfl)
theorem dX4_partyAtRank_45 : decode cX4_partyAtRank 45 = .ok (.iconst 1, 1) := dk_4 (dk_at dksX4_partyAtRank_1 21 rfl rfl)
theorem dX4_partyAtRank_46 : decode cX4_partyAtRank 46 = .ok (.goto 4, 3) := dk_167 0 4 (dk_at dksX4_partyAtRank_2 0 rfl rfl)
theorem dX4_partyAtRank_49 : decode cX4_partyAtRank 49 = .ok (.iconst 0, 1) := dk_3 (dk_at dksX4_partyAtRank_2 3 rfl rfl)
theorem dX4_partyAtRank_50 : decode cX4_partyAtRank 50 = .ok (.iadd, 1) := dk_96 (dk_at dksX4_partyAtRank_2 4 rfl rfl)
theorem dX4_partyAtRank_51 : decode cX4_partyAtRank 51 = .ok (.istore_n 3, 1) := dk_62 (dk_at dksX4_partyAtRank_2 5 rfl rfl)
theorem dX4_partyAtRank_52 : decode cX4_partyAtRank 52 = .ok (.iinc 4 1, 3) := dk_132 4 1 (dk_at dksX4_partyAtRank_2 6 rfl rfl)
theorem dX4_partyAtRank_55 : decode cX4_partyAtRank 55 = .ok (.goto (-38), 3) := dk_167 255 218 (dk_at dksX4_partyAtRank_2 9 rfl rfl)
theorem dX4_partyAtRank_58 : decode cX4_partyAtRank 58 = .ok (.iload_n 3, 1) := dk_29 (dk_at dksX4_partyAtRank_2 12 rfl rfl)
theorem dX4_partyAtRank_59 : decode cX4_partyAtRank 59 = .ok (.iload_n 1, 1) := dk_27 (dk_at dksX4_partyAtRank_2 13 rfl rfl)
theorem dX4_partyAtRank_60 : decode cX4_partyAtRank 60 = .ok (.if_icmp .eq 6, 3) := dk_159 0 6 (dk_at dksX4_partyAtRank_2 14 rfl rfl)
theorem dX4_partyAtRank_63 : decode cX4_partyAtRank 63 = .ok (.goto 10, 3) := dk_167 0 10 (dk_at dksX4_partyAtRank_2 17 rfl rfl)
theorem dX4_partyAtRank_66 : decode cX4_partyAtRank 66 = .ok (.aload_n 0, 1) := dk_42 (dk_at dksX4_partyAtRank_2 20 rfl rfl)
theorem dX4_partyAtRank_67 : decode cX4_partyAtRank 67 = .ok (.iconst 0, 1) := dk_3 (dk_at dksX4_partyAtRank_2 21 rfl rfl)
theorem dX4_partyAtRank_68 : decode cX4_partyAtRank 68 = .ok (.putfield 54, 3) := dk_181 0 54 (dk_at dksX4_partyAtRank_3 0 rfl rfl)
theorem dX4_partyAtRank_71 : decode cX4_partyAtRank 71 = .ok (.iload_n 2, 1) := dk_28 (dk_at dksX4_partyAtRank_3 3 rfl rfl)
theorem dX4_partyAtRank_72 : decode cX4_partyAtRank 72 = .ok (.ireturn, 1) := dk_172 (dk_at dksX4_partyAtRank_3 4 rfl rfl)
theorem dX4_partyAtRank_73 : decode cX4_partyAtRank 73 = .ok (.iinc 2 1, 3) := dk_132 2 1 (dk_at dksX4_partyAtRank_3 5 rfl rfl)
theorem dX4_partyAtRank_76 : decode cX4_partyAtRank 76 = .ok (.goto (-74), 3) := dk_167 255 182 (dk_at dksX4_partyAtRank_3 8 rfl rfl)
theorem dX4_partyAtRank_79 : decode cX4_partyAtRank 79 = .ok (.aload_n 0, 1) := dk_42 (dk_at dksX4_partyAtRank_3 11 rfl rfl)
theorem dX4_partyAtRank_80 : decode cX4_partyAtRank 80 = .ok (.iconst 1, 1) := dk_4 (dk_at dksX4_partyAtRank_3 12 rfl rfl)
theorem dX4_partyAtRank_81 : decode cX4_partyAtRank 81 = .ok (.putfield 54, 3) := dk_181 0 54 (dk_at dksX4_partyAtRank_3 13 rfl rfl)
theorem dX4_partyAtRank_84 : decode cX4_partyAtRank 84 = .ok (.iconst 0, 1) := dk_3 (dk_at dksX4_partyAtRank_3 16 rfl rfl)
theorem dX4_partyAtRank_85 : decode cX4_partyAtRank 85 = .ok (.ireturn, 1) := dk_172 (dk_at dksX4_partyAtRank_3 17 rfl rfl)
abbrev cX4_isAhead : ByteArray := prog_19_method_51_code
def yX4_isAhead : MethodName := ⟨RX4, "isAhead", "(II)Z"⟩
def dkwX4_isAhead_3 : List UInt8 := [167, 0, 17, 3, 167, 0, 13, 27, 28, 162, 0, 7, 4, 167, 0, 4, 3, 172]
abbrev dktX4_isAhead_3 : List UInt8 := dkwX4_isAhead_3 ++ []
def dkwX4_isAhead_2 : List UInt8 := [46, 159, 0, 30, 42, 180, 0, 7, 8, 27, 96, 46, 42, 180, 0, 7, 8, 28, 96, 46, 162, 0, 7, 4]
abbrev dktX4_isAhead_2 : List UInt8 := dkwX4_isAhead_2 ++ dktX4_isAhead_3
def dkwX4_isAhead_1 : List UInt8 := [162, 0, 7, 4, 167, 0, 4, 3, 172, 42, 180, 0, 7, 8, 27, 96, 46, 42, 180, 0, 7, 8, 28, 96]
abbrev dktX4_isAhead_1 : List UInt8 := dkwX4_isAhead_1 ++ dktX4_isAhead_2
def dkwX4_isAhead_0 : List UInt8 := [42, 27, 182, 0, 139, 42, 28, 182, 0, 139, 159, 0, 22, 42, 27, 182, 0, 139, 42, 28, 182, 0, 139]
abbrev dktX4_isAhead_0 : List UInt8 := dkwX4_isAhead_0 ++ dktX4_isAhead_1
theorem dksX4_isAhead_0 : cX4_isAhead.data.toList.drop 0 = dktX4_isAhead_0 := by decide +kernel
theorem dksX4_isAhead_1 : cX4_isAhead.data.toList.drop 23 = dktX4_isAhead_1 := dk_seg dksX4_isAhead_0 23 rfl rfl
theorem dksX4_isAhead_2 : cX4_isAhead.data.toList.drop 47 = dktX4_isAhead_2 := dk_seg dksX4_isAhead_1 24 rfl rfl
theorem dksX4_isAhead_3 : cX4_isAhead.data.toList.drop 71 = dktX4_isAhead_3 := dk_seg dksX4_isAhead_2 24 rfl rfl
theorem dX4_isAhead_0 : decode cX4_isAhead 0 = .ok (.aload_n 0, 1) := dk_42 (dk_at dksX4_isAhead_0 0 rfl rfl)
theorem dX4_isAhead_1 : decode cX4_isAhead 1 = .ok (.iload_n 1, 1) := dk_27 (dk_at dksX4_isAhead_0 1 rfl rfl)
theorem dX4_isAhead_2 : decode cX4_isAhead 2 = .ok (.invokevirtual 139, 3) := dk_182 0 139 (dk_at dksX4_isAhead_0 2 rfl rfl)
theorem dX4_isAhead_5 : decode cX4_isAhead 5 = .ok (.aload_n 0, 1) := dk_42 (dk_at dksX4_isAhead_0 5 rfl rfl)
theorem dX4_isAhead_6 : decode cX4_isAhead 6 = .ok (.iload_n 2, 1) := dk_28 (dk_at dksX4_isAhead_0 6 rfl rfl)
theorem dX4_isAhead_7 : decode cX4_isAhead 7 = .ok (.invokevirtual 139, 3) := dk_182 0 139 (dk_at dksX4_isAhead_0 7 rfl rfl)
theorem dX4_isAhead_10 : decode cX4_isAhead 10 = .ok (.if_icmp .eq 22, 3) := dk_159 0 22 (dk_at dksX4_isAhead_0 10 rfl rfl)
theorem dX4_isAhead_13 : decode cX4_isAhead 13 = .ok (.aload_n 0, 1) := dk_42 (dk_at dksX4_isAhead_0 13 rfl rfl)
theorem dX4_isAhead_14 : decode cX4_isAhead 14 = .ok (.iload_n 1, 1) := dk_27 (dk_at dksX4_isAhead_0 14 rfl rfl)
theorem dX4_isAhead_15 : decode cX4_isAhead 15 = .ok (.invokevirtual 139, 3) := dk_182 0 139 (dk_at dksX4_isAhead_0 15 rfl rfl)
theorem dX4_isAhead_18 : decode cX4_isAhead 18 = .ok (.aload_n 0, 1) := dk_42 (dk_at dksX4_isAhead_0 18 rfl rfl)
theorem dX4_isAhead_19 : decode cX4_isAhead 19 = .ok (.iload_n 2, 1) := dk_28 (dk_at dksX4_isAhead_0 19 rfl rfl)
theorem dX4_isAhead_20 : decode cX4_isAhead 20 = .ok (.invokevirtual 139, 3) := dk_182 0 139 (dk_at dksX4_isAhead_0 20 rfl rfl)
theorem dX4_isAhead_23 : decode cX4_isAhead 23 = .ok (.if_icmp .ge 7, 3) := dk_162 0 7 (dk_at dksX4_isAhead_1 0 rfl rfl)
theorem dX4_isAhead_26 : decode cX4_isAhead 26 = .ok (.iconst 1, 1) := dk_4 (dk_at dksX4_isAhead_1 3 rfl rfl)
theorem dX4_isAhead_27 : decode cX4_isAhead 27 = .ok (.goto 4, 3) := dk_167 0 4 (dk_at dksX4_isAhead_1 4 rfl rfl)
theorem dX4_isAhead_30 : decode cX4_isAhead 30 = .ok (.iconst 0, 1) := dk_3 (dk_at dksX4_isAhead_1 7 rfl rfl)
theorem dX4_isAhead_31 : decode cX4_isAhead 31 = .ok (.ireturn, 1) := dk_172 (dk_at dksX4_isAhead_1 8 rfl rfl)
theorem dX4_isAhead_32 : decode cX4_isAhead 32 = .ok (.aload_n 0, 1) := dk_42 (dk_at dksX4_isAhead_1 9 rfl rfl)
theorem dX4_isAhead_33 : decode cX4_isAhead 33 = .ok (.getfield 7, 3) := dk_180 0 7 (dk_at dksX4_isAhead_1 10 rfl rfl)
theorem dX4_isAhead_36 : decode cX4_isAhead 36 = .ok (.iconst 5, 1) := dk_8 (dk_at dksX4_isAhead_1 13 rfl rfl)
theorem dX4_isAhead_37 : decode cX4_isAhead 37 = .ok (.iload_n 1, 1) := dk_27 (dk_at dksX4_isAhead_1 14 rfl rfl)
theorem dX4_isAhead_38 : decode cX4_isAhead 38 = .ok (.iadd, 1) := dk_96 (dk_at dksX4_isAhead_1 15 rfl rfl)
theorem dX4_isAhead_39 : decode cX4_isAhead 39 = .ok (.iaload, 1) := dk_46 (dk_at dksX4_isAhead_1 16 rfl rfl)
theorem dX4_isAhead_40 : decode cX4_isAhead 40 = .ok (.aload_n 0, 1) := dk_42 (dk_at dksX4_isAhead_1 17 rfl rfl)
theorem dX4_isAhead_41 : decode cX4_isAhead 41 = .ok (.getfield 7, 3) := dk_180 0 7 (dk_at dksX4_isAhead_1 18 rfl rfl)
theorem dX4_isAhead_44 : decode cX4_isAhead 44 = .ok (.iconst 5, 1) := dk_8 (dk_at dksX4_isAhead_1 21 rfl rfl)
theorem dX4_isAhead_45 : decode cX4_isAhead 45 = .ok (.iload_n 2, 1) := dk_28 (dk_at dksX4_isAhead_1 22 rfl rfl)
theorem dX4_isAhead_46 : decode cX4_isAhead 46 = .ok (.iadd, 1) := dk_96 (dk_at dksX4_isAhead_1 23 rfl rfl)
theorem dX4_isAhead_47 : decode cX4_isAhead 47 = .ok (.iaload, 1) := dk_46 (dk_at dksX4_isAhead_2 0 rfl rfl)
theorem dX4_isAhead_48 : decode cX4_isAhead 48 = .ok (.if_icmp .eq 30, 3) := dk_159 0 30 (dk_at dksX4_isAhead_2 1 rfl rfl)
theorem dX4_isAhead_51 : decode cX4_isAhead 51 = .ok (.aload_n 0, 1) := dk_42 (dk_at dksX4_isAhead_2 4 rfl rfl)
theorem dX4_isAhead_52 : decode cX4_isAhead 52 = .ok (.getfield 7, 3) := dk_180 0 7 (dk_at dksX4_isAhead_2 5 rfl rfl)
theorem dX4_isAhead_55 : decode cX4_isAhead 55 = .ok (.iconst 5, 1) := dk_8 (dk_at dksX4_isAhead_2 8 rfl rfl)
theorem dX4_isAhead_56 : decode cX4_isAhead 56 = .ok (.iload_n 1, 1) := dk_27 (dk_at dksX4_isAhead_2 9 rfl rfl)
theorem dX4_isAhead_57 : decode cX4_isAhead 57 = .ok (.iadd, 1) := dk_96 (dk_at dksX4_isAhead_2 10 rfl rfl)
theorem dX4_isAhead_58 : decode cX4_isAhead 58 = .ok (.iaload, 1) := dk_46 (dk_at dksX4_isAhead_2 11 rfl rfl)
theorem dX4_isAhead_59 : decode cX4_isAhead 59 = .ok (.aload_n 0, 1) := dk_42 (dk_at dksX4_isAhead_2 12 rfl rfl)
theorem dX4_isAhead_60 : decode cX4_isAhead 60 = .ok (.getfield 7, 3) := dk_180 0 7 (dk_at dksX4_isAhead_2 13 rfl rfl)
theorem dX4_isAhead_63 : decode cX4_isAhead 63 = .ok (.iconst 5, 1) := dk_8 (dk_at dksX4_isAhead_2 16 rfl rfl)
theorem dX4_isAhead_64 : decode cX4_isAhead 64 = .ok (.iload_n 2, 1) := dk_28 (dk_at dksX4_isAhead_2 17 rfl rfl)
theorem dX4_isAhead_65 : decode cX4_isAhead 65 = .ok (.iadd, 1) := dk_96 (dk_at dksX4_isAhead_2 18 rfl rfl)
theorem dX4_isAhead_66 : decode cX4_isAhead 66 = .ok (.iaload, 1) := dk_46 (dk_at dksX4_isAhead_2 19 rfl rfl)
theorem dX4_isAhead_67 : decode cX4_isAhead 67 = .ok (.if_icmp .ge 7, 3) := dk_162 0 7 (dk_at dksX4_isAhead_2 20 rfl rfl)
theorem dX4_isAhead_70 : decode cX4_isAhead 70 = .ok (.iconst 1, 1) := dk_4 (dk_at dksX4_isAhead_2 23 rfl rfl)
theorem dX4_isAhead_71 : decode cX4_isAhead 71 = .ok (.goto 17, 3) := dk_167 0 17 (dk_at dksX4_isAhead_3 0 rfl rfl)
theorem dX4_isAhead_74 : decode cX4_isAhead 74 = .ok (.iconst 0, 1) := dk_3 (dk_at dksX4_isAhead_3 3 rfl rfl)
theorem dX4_isAhead_75 : decode cX4_isAhead 75 = .ok (.goto 13, 3) := dk_167 0 13 (dk_at dksX4_isAhead_3 4 rfl rfl)
theorem dX4_isAhead_78 : decode cX4_isAhead 78 = .ok (.iload_n 1, 1) := dk_27 (dk_at dksX4_isAhead_3 7 rfl rfl)
theorem dX4_isAhead_79 : decode cX4_isAhead 79 = .ok (.iload_n 2, 1) := dk_28 (dk_at dksX4_isAhead_3 8 rfl rfl)
theorem dX4_isAhead_80 : decode cX4_isAhead 80 = .ok (.if_icmp .ge 7, 3) := dk_162 0 7 (dk_at dksX4_isAhead_3 9 rfl rfl)
theorem dX4_isAhead_83 : decode cX4_isAhead 83 = .ok (.iconst 1, 1) := dk_4 (dk_at dksX4_isAhead_3 12 rfl rfl)
theorem dX4_isAhead_84 : decode cX4_isAhead 84 = .ok (.goto 4, 3) := dk_167 0 4 (dk_at dksX4_isAhead_3 13 rfl rfl)
theorem dX4_isAhead_87 : decode cX4_isAhead 87 = .ok (.iconst 0, 1) := dk_3 (dk_at dksX4_isAhead_3 16 rfl rfl)
theorem dX4_isAhead_88 : decode cX4_isAhead 88 = .ok (.ireturn, 1) := dk_172 (dk_at dksX4_isAhead_3 17 rfl rfl)
abbrev cX4_fewestPayments : ByteArray := prog_19_method_54_code
def yX4_fewestPayments : MethodName := ⟨RX4, "fewestPayments", "()I"⟩
theorem dX4_fewestPayments_0 : decode cX4_fewestPayments 0 = .ok (.aload_n 0, 1) := by decide +kernel
theorem dX4_fewestPayments_1 : decode cX4_fewestPayments 1 = .ok (.invokevirtual 145, 3) := by decide +kernel
theorem dX4_fewestPayments_4 : decode cX4_fewestPayments 4 = .ok (.ireturn, 1) := by decide +kernel
abbrev cX4_payments : ByteArray := prog_19_method_53_code
def yX4_payments : MethodName := ⟨RX4, "payments", "()I"⟩
def dkwX4_payments_9 : List UInt8 := [29, 100, 100, 172]
abbrev dktX4_payments_9 : List UInt8 := dkwX4_payments_9 ++ []
def dkwX4_payments_8 : List UInt8 := [42, 180, 0, 7, 3, 46, 28, 100, 62, 28, 154, 0, 7, 3, 167, 0, 13, 28, 42, 180, 0, 48, 27, 46]
abbrev dktX4_payments_8 : List UInt8 := dkwX4_payments_8 ++ dktX4_payments_9
def dkwX4_payments_7 : List UInt8 := [21, 4, 42, 180, 0, 45, 29, 46, 154, 0, 7, 4, 167, 0, 4, 3, 96, 79, 132, 3, 1, 167, 255, 139]
abbrev dktX4_payments_7 : List UInt8 := dkwX4_payments_7 ++ dktX4_payments_8
def dkwX4_payments_6 : List UInt8 := [164, 0, 8, 21, 6, 167, 0, 5, 21, 4, 54, 4, 132, 5, 1, 167, 255, 186, 42, 180, 0, 48, 29]
abbrev dktX4_payments_6 : List UInt8 := dkwX4_payments_6 ++ dktX4_payments_7
def dkwX4_payments_5 : List UInt8 := [21, 5, 182, 0, 139, 96, 79, 42, 180, 0, 48, 29, 4, 21, 5, 120, 130, 46, 54, 6, 21, 6, 21, 4]
abbrev dktX4_payments_5 : List UInt8 := dkwX4_payments_5 ++ dktX4_payments_6
def dkwX4_payments_4 : List UInt8 := [162, 0, 65, 29, 21, 5, 122, 4, 126, 154, 0, 6, 167, 0, 47, 42, 180, 0, 45, 29, 92, 46, 42]
abbrev dktX4_payments_4 : List UInt8 := dkwX4_payments_4 ++ dktX4_payments_5
def dkwX4_payments_3 : List UInt8 := [163, 0, 118, 3, 54, 4, 42, 180, 0, 45, 29, 3, 79, 3, 54, 5, 21, 5, 42, 180, 0, 7, 3, 46]
abbrev dktX4_payments_3 : List UInt8 := dkwX4_payments_3 ++ dktX4_payments_4
def dkwX4_payments_2 : List UInt8 := [182, 0, 139, 154, 0, 7, 3, 167, 0, 4, 4, 96, 61, 132, 3, 1, 167, 255, 227, 4, 62, 29, 27]
abbrev dktX4_payments_2 : List UInt8 := dkwX4_payments_2 ++ dktX4_payments_3
def dkwX4_payments_1 : List UInt8 := [79, 42, 180, 0, 48, 3, 3, 79, 3, 62, 29, 42, 180, 0, 7, 3, 46, 162, 0, 25, 28, 42, 29]
abbrev dktX4_payments_1 : List UInt8 := dkwX4_payments_1 ++ dktX4_payments_2
def dkwX4_payments_0 : List UInt8 := [42, 3, 181, 0, 54, 4, 42, 180, 0, 7, 3, 46, 120, 4, 100, 60, 3, 61, 42, 180, 0, 45, 3, 3]
abbrev dktX4_payments_0 : List UInt8 := dkwX4_payments_0 ++ dktX4_payments_1
theorem dksX4_payments_0 : cX4_payments.data.toList.drop 0 = dktX4_payments_0 := by decide +kernel
theorem dksX4_payments_1 : cX4_payments.data.toList.drop 24 = dktX4_payments_1 := dk_seg dksX4_payments_0 24 rfl rfl
theorem dksX4_payments_2 : cX4_payments.data.toList.drop 47 = dktX4_payments_2 := dk_seg dksX4_payments_1 23 rfl rfl
theorem dksX4_payments_3 : cX4_payments.data.toList.drop 70 = dktX4_payments_3 := dk_seg dksX4_payments_2 23 rfl rfl
theorem dksX4_payments_4 : cX4_payments.data.toList.drop 94 = dktX4_payments_4 := dk_seg dksX4_payments_3 24 rfl rfl
theorem dksX4_payments_5 : cX4_payments.data.toList.drop 117 = dktX4_payments_5 := dk_seg dksX4_payments_4 23 rfl rfl
theorem dksX4_payments_6 : cX4_payments.data.toList.drop 141 = dktX4_payments_6 := dk_seg dksX4_payments_5 24 rfl rfl
theorem dksX4_payments_7 : cX4_payments.data.toList.drop 164 = dktX4_payments_7 := dk_seg dksX4_payments_6 23 rfl rfl
theorem dksX4_payments_8 : cX4_payments.data.toList.drop 188 = dktX4_payments_8 := dk_seg dksX4_payments_7 24 rfl rfl
theorem dksX4_payments_9 : cX4_payments.data.toList.drop 212 = dktX4_payments_9 := dk_seg dksX4_payments_8 24 rfl rfl
theorem dX4_payments_0 : decode cX4_payments 0 = .ok (.aload_n 0, 1) := dk_42 (dk_at dksX4_payments_0 0 rfl rfl)
theorem dX4_payments_1 : decode cX4_payments 1 = .ok (.iconst 0, 1) := dk_3 (dk_at dksX4_payments_0 1 rfl rfl)
theorem dX4_payments_2 : decode cX4_payments 2 = .ok (.putfield 54, 3) := dk_181 0 54 (dk_at dksX4_payments_0 2 rfl rfl)
theorem dX4_payments_5 : decode cX4_payments 5 = .ok (.iconst 1, 1) := dk_4 (dk_at dksX4_payments_0 5 rfl rfl)
theorem dX4_payments_6 : decode cX4_payments 6 = .ok (.aload_n 0, 1) := dk_42 (dk_at dksX4_payments_0 6 rfl rfl)
theorem dX4_payments_7 : decode cX4_payments 7 = .ok (.getfield 7, 3) := dk_180 0 7 (dk_at dksX4_payments_0 7 rfl rfl)
theorem dX4_payments_10 : decode cX4_payments 10 = .ok (.iconst 0, 1) := dk_3 (dk_at dksX4_payments_0 10 rfl rfl)
theorem dX4_payments_11 : decode cX4_payments 11 = .ok (.iaload, 1) := dk_46 (dk_at dksX4_payments_0 11 rfl rfl)
theorem dX4_payments_12 : decode cX4_payments 12 = .ok (.ishl, 1) := dk_120 (dk_at dksX4_payments_0 12 rfl rfl)
theorem dX4_payments_13 : decode cX4_payments 13 = .ok (.iconst 1, 1) := dk_4 (dk_at dksX4_payments_0 13 rfl rfl)
theorem dX4_payments_14 : decode cX4_payments 14 = .ok (.isub, 1) := dk_100 (dk_at dksX4_payments_0 14 rfl rfl)
theorem dX4_payments_15 : decode cX4_payments 15 = .ok (.istore_n 1, 1) := dk_60 (dk_at dksX4_payments_0 15 rfl rfl)
theorem dX4_payments_16 : decode cX4_payments 16 = .ok (.iconst 0, 1) := dk_3 (dk_at dksX4_payments_0 16 rfl rfl)
theorem dX4_payments_17 : decode cX4_payments 17 = .ok (.istore_n 2, 1) := dk_61 (dk_at dksX4_payments_0 17 rfl rfl)
theorem dX4_payments_18 : decode cX4_payments 18 = .ok (.aload_n 0, 1) := dk_42 (dk_at dksX4_payments_0 18 rfl rfl)
theorem dX4_payments_19 : decode cX4_payments 19 = .ok (.getfield 45, 3) := dk_180 0 45 (dk_at dksX4_payments_0 19 rfl rfl)
theorem dX4_payments_22 : decode cX4_payments 22 = .ok (.iconst 0, 1) := dk_3 (dk_at dksX4_payments_0 22 rfl rfl)
theorem dX4_payments_23 : decode cX4_payments 23 = .ok (.iconst 0, 1) := dk_3 (dk_at dksX4_payments_0 23 rfl rfl)
theorem dX4_payments_24 : decode cX4_payments 24 = .ok (.iastore, 1) := dk_79 (dk_at dksX4_payments_1 0 rfl rfl)
theorem dX4_payments_25 : decode cX4_payments 25 = .ok (.aload_n 0, 1) := dk_42 (dk_at dksX4_payments_1 1 rfl rfl)
theorem dX4_payments_26 : decode cX4_payments 26 = .ok (.getfield 48, 3) := dk_180 0 48 (dk_at dksX4_payments_1 2 rfl rfl)
theorem dX4_payments_29 : decode cX4_payments 29 = .ok (.iconst 0, 1) := dk_3 (dk_at dksX4_payments_1 5 rfl rfl)
theorem dX4_payments_30 : decode cX4_payments 30 = .ok (.iconst 0, 1) := dk_3 (dk_at dksX4_payments_1 6 rfl rfl)
theorem dX4_payments_31 : decode cX4_payments 31 = .ok (.iastore, 1) := dk_79 (dk_at dksX4_payments_1 7 rfl rfl)
theorem dX4_payments_32 : decode cX4_payments 32 = .ok (.iconst 0, 1) := dk_3 (dk_at dksX4_payments_1 8 rfl rfl)
theorem dX4_payments_33 : decode cX4_payments 33 = .ok (.istore_n 3, 1) := dk_62 (dk_at dksX4_payments_1 9 rfl rfl)
theorem dX4_payments_34 : decode cX4_payments 34 = .ok (.iload_n 3, 1) := dk_29 (dk_at dksX4_payments_1 10 rfl rfl)
theorem dX4_payments_35 : decode cX4_payments 35 = .ok (.aload_n 0, 1) := dk_42 (dk_at dksX4_payments_1 11 rfl rfl)
theorem dX4_payments_36 : decode cX4_payments 36 = .ok (.getfield 7, 3) := dk_180 0 7 (dk_at dksX4_payments_1 12 rfl rfl)
theorem dX4_payments_39 : decode cX4_payments 39 = .ok (.iconst 0, 1) := dk_3 (dk_at dksX4_payments_1 15 rfl rfl)
theorem dX4_payments_40 : decode cX4_payments 40 = .ok (.iaload, 1) := dk_46 (dk_at dksX4_payments_1 16 rfl rfl)
theorem dX4_payments_41 : decode cX4_payments 41 = .ok (.if_icmp .ge 25, 3) := dk_162 0 25 (dk_at dksX4_payments_1 17 rfl rfl)
theorem dX4_payments_44 : decode cX4_payments 44 = .ok (.iload_n 2, 1) := dk_28 (dk_at dksX4_payments_1 20 rfl rfl)
theorem dX4_payments_45 : decode cX4_payments 45 = .ok (.aload_n 0, 1) := dk_42 (dk_at dksX4_payments_1 21 rfl rfl)
theorem dX4_payments_46 : decode cX4_payments 46 = .ok (.iload_n 3, 1) := dk_29 (dk_at dksX4_payments_1 22 rfl rfl)
theorem dX4_payments_47 : decode cX4_payments 47 = .ok (.invokevirtual 139, 3) := dk_182 0 139 (dk_at dksX4_payments_2 0 rfl rfl)
theorem dX4_payments_50 : decode cX4_payments 50 = .ok (.ifCond .ne 7, 3) := dk_154 0 7 (dk_at dksX4_payments_2 3 rfl rfl)
theorem dX4_payments_53 : decode cX4_payments 53 = .ok (.iconst 0, 1) := dk_3 (dk_at dksX4_payments_2 6 rfl rfl)
theorem dX4_payments_54 : decode cX4_payments 54 = .ok (.goto 4, 3) := dk_167 0 4 (dk_at dksX4_payments_2 7 rfl rfl)
theorem dX4_payments_57 : decode cX4_payments 57 = .ok (.iconst 1, 1) := dk_4 (dk_at dksX4_payments_2 10 rfl rfl)
theorem dX4_payments_58 : decode cX4_payments 58 = .ok (.iadd, 1) := dk_96 (dk_at dksX4_payments_2 11 rfl rfl)
theorem dX4_payments_59 : decode cX4_payments 59 = .ok (.istore_n 2, 1) := dk_61 (dk_at dksX4_payments_2 12 rfl rfl)
theorem dX4_payments_60 : decode cX4_payments 60 = .ok (.iinc 3 1, 3) := dk_132 3 1 (dk_at dksX4_payments_2 13 rfl rfl)
theorem dX4_payments_63 : decode cX4_payments 63 = .ok (.goto (-29), 3) := dk_167 255 227 (dk_at dksX4_payments_2 16 rfl rfl)
theorem dX4_payments_66 : decode cX4_payments 66 = .ok (.iconst 1, 1) := dk_4 (dk_at dksX4_payments_2 19 rfl rfl)
theorem dX4_payments_67 : decode cX4_payments 67 = .ok (.istore_n 3, 1) := dk_62 (dk_at dksX4_payments_2 20 rfl rfl)
theorem dX4_payments_68 : decode cX4_payments 68 = .ok (.iload_n 3, 1) := dk_29 (dk_at dksX4_payments_2 21 rfl rfl)
theorem dX4_payments_69 : decode cX4_payments 69 = .ok (.iload_n 1, 1) := dk_27 (dk_at dksX4_payments_2 22 rfl rfl)
theorem dX4_payments_70 : decode cX4_payments 70 = .ok (.if_icmp .gt 118, 3) := dk_163 0 118 (dk_at dksX4_payments_3 0 rfl rfl)
theorem dX4_payments_73 : decode cX4_payments 73 = .ok (.iconst 0, 1) := dk_3 (dk_at dksX4_payments_3 3 rfl rfl)
theorem dX4_payments_74 : decode cX4_payments 74 = .ok (.istore 4, 2) := dk_54 4 (dk_at dksX4_payments_3 4 rfl rfl)
theorem dX4_payments_76 : decode cX4_payments 76 = .ok (.aload_n 0, 1) := dk_42 (dk_at dksX4_payments_3 6 rfl rfl)
theorem dX4_payments_77 : decode cX4_payments 77 = .ok (.getfield 45, 3) := dk_180 0 45 (dk_at dksX4_payments_3 7 rfl rfl)
theorem dX4_payments_80 : decode cX4_payments 80 = .ok (.iload_n 3, 1) := dk_29 (dk_at dksX4_payments_3 10 rfl rfl)
theorem dX4_payments_81 : decode cX4_payments 81 = .ok (.iconst 0, 1) := dk_3 (dk_at dksX4_payments_3 11 rfl rfl)
theorem dX4_payments_82 : decode cX4_payments 82 = .ok (.iastore, 1) := dk_79 (dk_at dksX4_payments_3 12 rfl rfl)
theorem dX4_payments_83 : decode cX4_payments 83 = .ok (.iconst 0, 1) := dk_3 (dk_at dksX4_payments_3 13 rfl rfl)
theorem dX4_payments_84 : decode cX4_payments 84 = .ok (.istore 5, 2) := dk_54 5 (dk_at dksX4_payments_3 14 rfl rfl)
theorem dX4_payments_86 : decode cX4_payments 86 = .ok (.iload 5, 2) := dk_21 5 (dk_at dksX4_payments_3 16 rfl rfl)
theorem dX4_payments_88 : decode cX4_payments 88 = .ok (.aload_n 0, 1) := dk_42 (dk_at dksX4_payments_3 18 rfl rfl)
theorem dX4_payments_89 : decode cX4_payments 89 = .ok (.getfield 7, 3) := dk_180 0 7 (dk_at dksX4_payments_3 19 rfl rfl)
theorem dX4_payments_92 : decode cX4_payments 92 = .ok (.iconst 0, 1) := dk_3 (dk_at dksX4_payments_3 22 rfl rfl)
theorem dX4_payments_93 : decode cX4_payments 93 = .ok (.iaload, 1) := dk_46 (dk_at dksX4_payments_3 23 rfl rfl)
theorem dX4_payments_94 : decode cX4_payments 94 = .ok (.if_icmp .ge 65, 3) := dk_162 0 65 (dk_at dksX4_payments_4 0 rfl rfl)
theorem dX4_payments_97 : decode cX4_payments 97 = .ok (.iload_n 3, 1) := dk_29 (dk_at dksX4_payments_4 3 rfl rfl)
theorem dX4_payments_98 : decode cX4_payments 98 = .ok (.iload 5, 2) := dk_21 5 (dk_at dksX4_payments_4 4 rfl rfl)
theorem dX4_payments_100 : decode cX4_payments 100 = .ok (.ishr, 1) := dk_122 (dk_at dksX4_payments_4 6 rfl rfl)
theorem dX4_payments_101 : decode cX4_payments 101 = .ok (.iconst 1, 1) := dk_4 (dk_at dksX4_payments_4 7 rfl rfl)
theorem dX4_payments_102 : decode cX4_payments 102 = .ok (.iand, 1) := dk_126 (dk_at dksX4_payments_4 8 rfl rfl)
theorem dX4_payments_103 : decode cX4_payments 103 = .ok (.ifCond .ne 6, 3) := dk_154 0 6 (dk_at dksX4_payments_4 9 rfl rfl)
theorem dX4_payments_106 : decode cX4_payments 106 = .ok (.goto 47, 3) := dk_167 0 47 (dk_at dksX4_payments_4 12 rfl rfl)
theorem dX4_payments_109 : decode cX4_payments 109 = .ok (.aload_n 0, 1) := dk_42 (dk_at dksX4_payments_4 15 rfl rfl)
theorem dX4_payments_110 : decode cX4_payments 110 = .ok (.getfield 45, 3) := dk_180 0 45 (dk_at dksX4_payments_4 16 rfl rfl)
theorem dX4_payments_113 : decode cX4_payments 113 = .ok (.iload_n 3, 1) := dk_29 (dk_at dksX4_payments_4 19 rfl rfl)
theorem dX4_payments_114 : decode cX4_payments 114 = .ok (.dup2, 1) := dk_92 (dk_at dksX4_payments_4 20 rfl rfl)
theorem dX4_payments_115 : decode cX4_payments 115 = .ok (.iaload, 1) := dk_46 (dk_at dksX4_payments_4 21 rfl rfl)
theorem dX4_payments_116 : decode cX4_payments 116 = .ok (.aload_n 0, 1) := dk_42 (dk_at dksX4_payments_4 22 rfl rfl)
theorem dX4_payments_117 : decode cX4_payments 117 = .ok (.iload 5, 2) := dk_21 5 (dk_at dksX4_payments_5 0 rfl rfl)
theorem dX4_payments_119 : decode cX4_payments 119 = .ok (.invokevirtual 139, 3) := dk_182 0 139 (dk_at dksX4_payments_5 2 rfl rfl)
theorem dX4_payments_122 : decode cX4_payments 122 = .ok (.iadd, 1) := dk_96 (dk_at dksX4_payments_5 5 rfl rfl)
theorem dX4_payments_123 : decode cX4_payments 123 = .ok (.iastore, 1) := dk_79 (dk_at dksX4_payments_5 6 rfl rfl)
theorem dX4_payments_124 : decode cX4_payments 124 = .ok (.aload_n 0, 1) := dk_42 (dk_at dksX4_payments_5 7 rfl rfl)
theorem dX4_payments_125 : decode cX4_payments 125 = .ok (.getfield 48, 3) := dk_180 0 48 (dk_at dksX4_payments_5 8 rfl rfl)
theorem dX4_payments_128 : decode cX4_payments 128 = .ok (.iload_n 3, 1) := dk_29 (dk_at dksX4_payments_5 11 rfl rfl)
theorem dX4_payments_129 : decode cX4_payments 129 = .ok (.iconst 1, 1) := dk_4 (dk_at dksX4_payments_5 12 rfl rfl)
theorem dX4_payments_130 : decode cX4_payments 130 = .ok (.iload 5, 2) := dk_21 5 (dk_at dksX4_payments_5 13 rfl rfl)
theorem dX4_payments_132 : decode cX4_payments 132 = .ok (.ishl, 1) := dk_120 (dk_at dksX4_payments_5 15 rfl rfl)
theorem dX4_payments_133 : decode cX4_payments 133 = .ok (.ixor, 1) := dk_130 (dk_at dksX4_payments_5 16 rfl rfl)
theorem dX4_payments_134 : decode cX4_payments 134 = .ok (.iaload, 1) := dk_46 (dk_at dksX4_payments_5 17 rfl rfl)
theorem dX4_payments_135 : decode cX4_payments 135 = .ok (.istore 6, 2) := dk_54 6 (dk_at dksX4_payments_5 18 rfl rfl)
theorem dX4_payments_137 : decode cX4_payments 137 = .ok (.iload 6, 2) := dk_21 6 (dk_at dksX4_payments_5 20 rfl rfl)
theorem dX4_payments_139 : decode cX4_payments 139 = .ok (.iload 4, 2) := dk_21 4 (dk_at dksX4_payments_5 22 rfl rfl)
theorem dX4_payments_141 : decode cX4_payments 141 = .ok (.if_icmp .le 8, 3) := dk_164 0 8 (dk_at dksX4_payments_6 0 rfl rfl)
theorem dX4_payments_144 : decode cX4_payments 144 = .ok (.iload 6, 2) := dk_21 6 (dk_at dksX4_payments_6 3 rfl rfl)
theorem dX4_payments_146 : decode cX4_payments 146 = .ok (.goto 5, 3) := dk_167 0 5 (dk_at dksX4_payments_6 5 rfl rfl)
theorem dX4_payments_149 : decode cX4_payments 149 = .ok (.iload 4, 2) := dk_21 4 (dk_at dksX4_payments_6 8 rfl rfl)
theorem dX4_payments_151 : decode cX4_payments 151 = .ok (.istore 4, 2) := dk_54 4 (dk_at dksX4_payments_6 10 rfl rfl)
theorem dX4_payments_153 : decode cX4_payments 153 = .ok (.iinc 5 1, 3) := dk_132 5 1 (dk_at dksX4_payments_6 12 rfl rfl)
theorem dX4_payments_156 : decode cX4_payments 156 = .ok (.goto (-70), 3) := dk_167 255 186 (dk_at dksX4_payments_6 15 rfl rfl)
theorem dX4_payments_159 : decode cX4_payments 159 = .ok (.aload_n 0, 1) := dk_42 (dk_at dksX4_payments_6 18 rfl rfl)
theorem dX4_payments_160 : decode cX4_payments 160 = .ok (.getfield 48, 3) := dk_180 0 48 (dk_at dksX4_payments_6 19 rfl rfl)
theorem dX4_payments_163 : decode cX4_payments 163 = .ok (.iload_n 3, 1) := dk_29 (dk_at dksX4_payments_6 22 rfl rfl)
theorem dX4_payments_164 : decode cX4_payments 164 = .ok (.iload 4, 2) := dk_21 4 (dk_at dksX4_payments_7 0 rfl rfl)
theorem dX4_payments_166 : decode cX4_payments 166 = .ok (.aload_n 0, 1) := dk_42 (dk_at dksX4_payments_7 2 rfl rfl)
theorem dX4_payments_167 : decode cX4_payments 167 = .ok (.getfield 45, 3) := dk_180 0 45 (dk_at dksX4_payments_7 3 rfl rfl)
theorem dX4_payments_170 : decode cX4_payments 170 = .ok (.iload_n 3, 1) := dk_29 (dk_at dksX4_payments_7 6 rfl rfl)
theorem dX4_payments_171 : decode cX4_payments 171 = .ok (.iaload, 1) := dk_46 (dk_at dksX4_payments_7 7 rfl rfl)
theorem dX4_payments_172 : decode cX4_payments 172 = .ok (.ifCond .ne 7, 3) := dk_154 0 7 (dk_at dksX4_payments_7 8 rfl rfl)
theorem dX4_payments_175 : decode cX4_payments 175 = .ok (.iconst 1, 1) := dk_4 (dk_at dksX4_payments_7 11 rfl rfl)
theorem dX4_payments_176 : decode cX4_payments 176 = .ok (.goto 4, 3) := dk_167 0 4 (dk_at dksX4_payments_7 12 rfl rfl)
theorem dX4_payments_179 : decode cX4_payments 179 = .ok (.iconst 0, 1) := dk_3 (dk_at dksX4_payments_7 15 rfl rfl)
theorem dX4_payments_180 : decode cX4_payments 180 = .ok (.iadd, 1) := dk_96 (dk_at dksX4_payments_7 16 rfl rfl)
theorem dX4_payments_181 : decode cX4_payments 181 = .ok (.iastore, 1) := dk_79 (dk_at dksX4_payments_7 17 rfl rfl)
theorem dX4_payments_182 : decode cX4_payments 182 = .ok (.iinc 3 1, 3) := dk_132 3 1 (dk_at dksX4_payments_7 18 rfl rfl)
theorem dX4_payments_185 : decode cX4_payments 185 = .ok (.goto (-117), 3) := dk_167 255 139 (dk_at dksX4_payments_7 21 rfl rfl)
theorem dX4_payments_188 : decode cX4_payments 188 = .ok (.aload_n 0, 1) := dk_42 (dk_at dksX4_payments_8 0 rfl rfl)
theorem dX4_payments_189 : decode cX4_payments 189 = .ok (.getfield 7, 3) := dk_180 0 7 (dk_at dksX4_payments_8 1 rfl rfl)
theorem dX4_payments_192 : decode cX4_payments 192 = .ok (.iconst 0, 1) := dk_3 (dk_at dksX4_payments_8 4 rfl rfl)
theorem dX4_payments_193 : decode cX4_payments 193 = .ok (.iaload, 1) := dk_46 (dk_at dksX4_payments_8 5 rfl rfl)
theorem dX4_payments_194 : decode cX4_payments 194 = .ok (.iload_n 2, 1) := dk_28 (dk_at dksX4_payments_8 6 rfl rfl)
theorem dX4_payments_195 : decode cX4_payments 195 = .ok (.isub, 1) := dk_100 (dk_at dksX4_payments_8 7 rfl rfl)
theorem dX4_payments_196 : decode cX4_payments 196 = .ok (.istore_n 3, 1) := dk_62 (dk_at dksX4_payments_8 8 rfl rfl)
theorem dX4_payments_197 : decode cX4_payments 197 = .ok (.iload_n 2, 1) := dk_28 (dk_at dksX4_payments_8 9 rfl rfl)
theorem dX4_payments_198 : decode cX4_payments 198 = .ok (.ifCond .ne 7, 3) := dk_154 0 7 (dk_at dksX4_payments_8 10 rfl rfl)
theorem dX4_payments_201 : decode cX4_payments 201 = .ok (.iconst 0, 1) := dk_3 (dk_at dksX4_payments_8 13 rfl rfl)
theorem dX4_payments_202 : decode cX4_payments 202 = .ok (.goto 13, 3) := dk_167 0 13 (dk_at dksX4_payments_8 14 rfl rfl)
theorem dX4_payments_205 : decode cX4_payments 205 = .ok (.iload_n 2, 1) := dk_28 (dk_at dksX4_payments_8 17 rfl rfl)
theorem dX4_payments_206 : decode cX4_payments 206 = .ok (.aload_n 0, 1) := dk_42 (dk_at dksX4_payments_8 18 rfl rfl)
theorem dX4_payments_207 : decode cX4_payments 207 = .ok (.getfield 48, 3) := dk_180 0 48 (dk_at dksX4_payments_8 19 rfl rfl)
theorem dX4_payments_210 : decode cX4_payments 210 = .ok (.iload_n 1, 1) := dk_27 (dk_at dksX4_payments_8 22 rfl rfl)
theorem dX4_payments_211 : decode cX4_payments 211 = .ok (.iaload, 1) := dk_46 (dk_at dksX4_payments_8 23 rfl rfl)
theorem dX4_payments_212 : decode cX4_payments 212 = .ok (.iload_n 3, 1) := dk_29 (dk_at dksX4_payments_9 0 rfl rfl)
theorem dX4_payments_213 : decode cX4_payments 213 = .ok (.isub, 1) := dk_100 (dk_at dksX4_payments_9 1 rfl rfl)
theorem dX4_payments_214 : decode cX4_payments 214 = .ok (.isub, 1) := dk_100 (dk_at dksX4_payments_9 2 rfl rfl)
theorem dX4_payments_215 : decode cX4_payments 215 = .ok (.ireturn, 1) := dk_172 (dk_at dksX4_payments_9 3 rfl rfl)
abbrev cX4_fewestPaymentsByTrying : ByteArray := prog_19_method_55_code
def yX4_fewestPaymentsByTrying : MethodName := ⟨RX4, "fewestPaymentsByTrying", "()I"⟩
theorem dX4_fewestPaymentsByTrying_0 : decode cX4_fewestPaymentsByTrying 0 = .ok (.aload_n 0, 1) := by decide +kernel
theorem dX4_fewestPaymentsByTrying_1 : decode cX4_fewestPaymentsByTrying 1 = .ok (.invokevirtual 145, 3) := by decide +kernel
theorem dX4_fewestPaymentsByTrying_4 : decode cX4_fewestPaymentsByTrying 4 = .ok (.ireturn, 1) := by decide +kernel
abbrev cX4_day : ByteArray := prog_19_method_56_code
def yX4_day : MethodName := ⟨RX4, "day", "()I"⟩
def dkwX4_day_0 : List UInt8 := [42, 3, 181, 0, 54, 42, 180, 0, 7, 4, 46, 172]
abbrev dktX4_day_0 : List UInt8 := dkwX4_day_0 ++ []
theorem dksX4_day_0 : cX4_day.data.toList.drop 0 = dktX4_day_0 := by decide +kernel
theorem dX4_day_0 : decode cX4_day 0 = .ok (.aload_n 0, 1) := dk_42 (dk_at dksX4_day_0 0 rfl rfl)
theorem dX4_day_1 : decode cX4_day 1 = .ok (.iconst 0, 1) := dk_3 (dk_at dksX4_day_0 1 rfl rfl)
theorem dX4_day_2 : decode cX4_day 2 = .ok (.putfield 54, 3) := dk_181 0 54 (dk_at dksX4_day_0 2 rfl rfl)
theorem dX4_day_5 : decode cX4_day 5 = .ok (.aload_n 0, 1) := dk_42 (dk_at dksX4_day_0 5 rfl rfl)
theorem dX4_day_6 : decode cX4_day 6 = .ok (.getfield 7, 3) := dk_180 0 7 (dk_at dksX4_day_0 6 rfl rfl)
theorem dX4_day_9 : decode cX4_day 9 = .ok (.iconst 1, 1) := dk_4 (dk_at dksX4_day_0 9 rfl rfl)
theorem dX4_day_10 : decode cX4_day 10 = .ok (.iaload, 1) := dk_46 (dk_at dksX4_day_0 10 rfl rfl)
theorem dX4_day_11 : decode cX4_day 11 = .ok (.ireturn, 1) := dk_172 (dk_at dksX4_day_0 11 rfl rfl)
abbrev cX4_debtTotal : ByteArray := prog_19_method_59_code
def yX4_debtTotal : MethodName := ⟨RX4, "debtTotal", "()I"⟩
def dkwX4_debtTotal_0 : List UInt8 := [42, 3, 181, 0, 54, 42, 182, 0, 148, 172]
abbrev dktX4_debtTotal_0 : List UInt8 := dkwX4_debtTotal_0 ++ []
theorem dksX4_debtTotal_0 : cX4_debtTotal.data.toList.drop 0 = dktX4_debtTotal_0 := by decide +kernel
theorem dX4_debtTotal_0 : decode cX4_debtTotal 0 = .ok (.aload_n 0, 1) := dk_42 (dk_at dksX4_debtTotal_0 0 rfl rfl)
theorem dX4_debtTotal_1 : decode cX4_debtTotal 1 = .ok (.iconst 0, 1) := dk_3 (dk_at dksX4_debtTotal_0 1 rfl rfl)
theorem dX4_debtTotal_2 : decode cX4_debtTotal 2 = .ok (.putfield 54, 3) := dk_181 0 54 (dk_at dksX4_debtTotal_0 2 rfl rfl)
theorem dX4_debtTotal_5 : decode cX4_debtTotal 5 = .ok (.aload_n 0, 1) := dk_42 (dk_at dksX4_debtTotal_0 5 rfl rfl)
theorem dX4_debtTotal_6 : decode cX4_debtTotal 6 = .ok (.invokevirtual 148, 3) := dk_182 0 148 (dk_at dksX4_debtTotal_0 6 rfl rfl)
theorem dX4_debtTotal_9 : decode cX4_debtTotal 9 = .ok (.ireturn, 1) := dk_172 (dk_at dksX4_debtTotal_0 9 rfl rfl)
abbrev cX4_owedAll : ByteArray := prog_19_method_57_code
def yX4_owedAll : MethodName := ⟨RX4, "owedAll", "()I"⟩
def dkwX4_owedAll_1 : List UInt8 := [132, 2, 1, 167, 255, 235, 27, 172]
abbrev dktX4_owedAll_1 : List UInt8 := dkwX4_owedAll_1 ++ []
def dkwX4_owedAll_0 : List UInt8 := [3, 60, 3, 61, 28, 16, 49, 162, 0, 21, 27, 42, 180, 0, 7, 16, 12, 28, 96, 46, 96, 60]
abbrev dktX4_owedAll_0 : List UInt8 := dkwX4_owedAll_0 ++ dktX4_owedAll_1
theorem dksX4_owedAll_0 : cX4_owedAll.data.toList.drop 0 = dktX4_owedAll_0 := by decide +kernel
theorem dksX4_owedAll_1 : cX4_owedAll.data.toList.drop 22 = dktX4_owedAll_1 := dk_seg dksX4_owedAll_0 22 rfl rfl
theorem dX4_owedAll_0 : decode cX4_owedAll 0 = .ok (.iconst 0, 1) := dk_3 (dk_at dksX4_owedAll_0 0 rfl rfl)
theorem dX4_owedAll_1 : decode cX4_owedAll 1 = .ok (.istore_n 1, 1) := dk_60 (dk_at dksX4_owedAll_0 1 rfl rfl)
theorem dX4_owedAll_2 : decode cX4_owedAll 2 = .ok (.iconst 0, 1) := dk_3 (dk_at dksX4_owedAll_0 2 rfl rfl)
theorem dX4_owedAll_3 : decode cX4_owedAll 3 = .ok (.istore_n 2, 1) := dk_61 (dk_at dksX4_owedAll_0 3 rfl rfl)
theorem dX4_owedAll_4 : decode cX4_owedAll 4 = .ok (.iload_n 2, 1) := dk_28 (dk_at dksX4_owedAll_0 4 rfl rfl)
theorem dX4_owedAll_5 : decode cX4_owedAll 5 = .ok (.bipush 49, 2) := dk_16 49 (dk_at dksX4_owedAll_0 5 rfl rfl)
theorem dX4_owedAll_7 : decode cX4_owedAll 7 = .ok (.if_icmp .ge 21, 3) := dk_162 0 21 (dk_at dksX4_owedAll_0 7 rfl rfl)
theorem dX4_owedAll_10 : decode cX4_owedAll 10 = .ok (.iload_n 1, 1) := dk_27 (dk_at dksX4_owedAll_0 10 rfl rfl)
theorem dX4_owedAll_11 : decode cX4_owedAll 11 = .ok (.aload_n 0, 1) := dk_42 (dk_at dksX4_owedAll_0 11 rfl rfl)
theorem dX4_owedAll_12 : decode cX4_owedAll 12 = .ok (.getfield 7, 3) := dk_180 0 7 (dk_at dksX4_owedAll_0 12 rfl rfl)
theorem dX4_owedAll_15 : decode cX4_owedAll 15 = .ok (.bipush 12, 2) := dk_16 12 (dk_at dksX4_owedAll_0 15 rfl rfl)
theorem dX4_owedAll_17 : decode cX4_owedAll 17 = .ok (.iload_n 2, 1) := dk_28 (dk_at dksX4_owedAll_0 17 rfl rfl)
theorem dX4_owedAll_18 : decode cX4_owedAll 18 = .ok (.iadd, 1) := dk_96 (dk_at dksX4_owedAll_0 18 rfl rfl)
theorem dX4_owedAll_19 : decode cX4_owedAll 19 = .ok (.iaload, 1) := dk_46 (dk_at dksX4_owedAll_0 19 rfl rfl)
theorem dX4_owedAll_20 : decode cX4_owedAll 20 = .ok (.iadd, 1) := dk_96 (dk_at dksX4_owedAll_0 20 rfl rfl)
theorem dX4_owedAll_21 : decode cX4_owedAll 21 = .ok (.istore_n 1, 1) := dk_60 (dk_at dksX4_owedAll_0 21 rfl rfl)
theorem dX4_owedAll_22 : decode cX4_owedAll 22 = .ok (.iinc 2 1, 3) := dk_132 2 1 (dk_at dksX4_owedAll_1 0 rfl rfl)
theorem dX4_owedAll_25 : decode cX4_owedAll 25 = .ok (.goto (-21), 3) := dk_167 255 235 (dk_at dksX4_owedAll_1 3 rfl rfl)
theorem dX4_owedAll_28 : decode cX4_owedAll 28 = .ok (.iload_n 1, 1) := dk_27 (dk_at dksX4_owedAll_1 6 rfl rfl)
theorem dX4_owedAll_29 : decode cX4_owedAll 29 = .ok (.ireturn, 1) := dk_172 (dk_at dksX4_owedAll_1 7 rfl rfl)
abbrev cX4_debtByAccounts : ByteArray := prog_19_method_60_code
def yX4_debtByAccounts : MethodName := ⟨RX4, "debtByAccounts", "()I"⟩
def dkwX4_debtByAccounts_0 : List UInt8 := [42, 3, 181, 0, 54, 42, 182, 0, 148, 172]
abbrev dktX4_debtByAccounts_0 : List UInt8 := dkwX4_debtByAccounts_0 ++ []
theorem dksX4_debtByAccounts_0 : cX4_debtByAccounts.data.toList.drop 0 = dktX4_debtByAccounts_0 := by decide +kernel
theorem dX4_debtByAccounts_0 : decode cX4_debtByAccounts 0 = .ok (.aload_n 0, 1) := dk_42 (dk_at dksX4_debtByAccounts_0 0 rfl rfl)
theorem dX4_debtByAccounts_1 : decode cX4_debtByAccounts 1 = .ok (.iconst 0, 1) := dk_3 (dk_at dksX4_debtByAccounts_0 1 rfl rfl)
theorem dX4_debtByAccounts_2 : decode cX4_debtByAccounts 2 = .ok (.putfield 54, 3) := dk_181 0 54 (dk_at dksX4_debtByAccounts_0 2 rfl rfl)
theorem dX4_debtByAccounts_5 : decode cX4_debtByAccounts 5 = .ok (.aload_n 0, 1) := dk_42 (dk_at dksX4_debtByAccounts_0 5 rfl rfl)
theorem dX4_debtByAccounts_6 : decode cX4_debtByAccounts 6 = .ok (.invokevirtual 148, 3) := dk_182 0 148 (dk_at dksX4_debtByAccounts_0 6 rfl rfl)
theorem dX4_debtByAccounts_9 : decode cX4_debtByAccounts 9 = .ok (.ireturn, 1) := dk_172 (dk_at dksX4_debtByAccounts_0 9 rfl rfl)
abbrev cX4_cashTotal : ByteArray := prog_19_method_61_code
def yX4_cashTotal : MethodName := ⟨RX4, "cashTotal", "()I"⟩
def dkwX4_cashTotal_0 : List UInt8 := [42, 3, 181, 0, 54, 42, 182, 0, 151, 172]
abbrev dktX4_cashTotal_0 : List UInt8 := dkwX4_cashTotal_0 ++ []
theorem dksX4_cashTotal_0 : cX4_cashTotal.data.toList.drop 0 = dktX4_cashTotal_0 := by decide +kernel
theorem dX4_cashTotal_0 : decode cX4_cashTotal 0 = .ok (.aload_n 0, 1) := dk_42 (dk_at dksX4_cashTotal_0 0 rfl rfl)
theorem dX4_cashTotal_1 : decode cX4_cashTotal 1 = .ok (.iconst 0, 1) := dk_3 (dk_at dksX4_cashTotal_0 1 rfl rfl)
theorem dX4_cashTotal_2 : decode cX4_cashTotal 2 = .ok (.putfield 54, 3) := dk_181 0 54 (dk_at dksX4_cashTotal_0 2 rfl rfl)
theorem dX4_cashTotal_5 : decode cX4_cashTotal 5 = .ok (.aload_n 0, 1) := dk_42 (dk_at dksX4_cashTotal_0 5 rfl rfl)
theorem dX4_cashTotal_6 : decode cX4_cashTotal 6 = .ok (.invokevirtual 151, 3) := dk_182 0 151 (dk_at dksX4_cashTotal_0 6 rfl rfl)
theorem dX4_cashTotal_9 : decode cX4_cashTotal 9 = .ok (.ireturn, 1) := dk_172 (dk_at dksX4_cashTotal_0 9 rfl rfl)
abbrev cX4_cashAll : ByteArray := prog_19_method_58_code
def yX4_cashAll : MethodName := ⟨RX4, "cashAll", "()I"⟩
def dkwX4_cashAll_1 : List UInt8 := [167, 255, 236, 27, 172]
abbrev dktX4_cashAll_1 : List UInt8 := dkwX4_cashAll_1 ++ []
def dkwX4_cashAll_0 : List UInt8 := [3, 60, 3, 61, 28, 16, 7, 162, 0, 20, 27, 42, 180, 0, 7, 8, 28, 96, 46, 96, 60, 132, 2, 1]
abbrev dktX4_cashAll_0 : List UInt8 := dkwX4_cashAll_0 ++ dktX4_cashAll_1
theorem dksX4_cashAll_0 : cX4_cashAll.data.toList.drop 0 = dktX4_cashAll_0 := by decide +kernel
theorem dksX4_cashAll_1 : cX4_cashAll.data.toList.drop 24 = dktX4_cashAll_1 := dk_seg dksX4_cashAll_0 24 rfl rfl
theorem dX4_cashAll_0 : decode cX4_cashAll 0 = .ok (.iconst 0, 1) := dk_3 (dk_at dksX4_cashAll_0 0 rfl rfl)
theorem dX4_cashAll_1 : decode cX4_cashAll 1 = .ok (.istore_n 1, 1) := dk_60 (dk_at dksX4_cashAll_0 1 rfl rfl)
theorem dX4_cashAll_2 : decode cX4_cashAll 2 = .ok (.iconst 0, 1) := dk_3 (dk_at dksX4_cashAll_0 2 rfl rfl)
theorem dX4_cashAll_3 : decode cX4_cashAll 3 = .ok (.istore_n 2, 1) := dk_61 (dk_at dksX4_cashAll_0 3 rfl rfl)
theorem dX4_cashAll_4 : decode cX4_cashAll 4 = .ok (.iload_n 2, 1) := dk_28 (dk_at dksX4_cashAll_0 4 rfl rfl)
theorem dX4_cashAll_5 : decode cX4_cashAll 5 = .ok (.bipush 7, 2) := dk_16 7 (dk_at dksX4_cashAll_0 5 rfl rfl)
theorem dX4_cashAll_7 : decode cX4_cashAll 7 = .ok (.if_icmp .ge 20, 3) := dk_162 0 20 (dk_at dksX4_cashAll_0 7 rfl rfl)
theorem dX4_cashAll_10 : decode cX4_cashAll 10 = .ok (.iload_n 1, 1) := dk_27 (dk_at dksX4_cashAll_0 10 rfl rfl)
theorem dX4_cashAll_11 : decode cX4_cashAll 11 = .ok (.aload_n 0, 1) := dk_42 (dk_at dksX4_cashAll_0 11 rfl rfl)
theorem dX4_cashAll_12 : decode cX4_cashAll 12 = .ok (.getfield 7, 3) := dk_180 0 7 (dk_at dksX4_cashAll_0 12 rfl rfl)
theorem dX4_cashAll_15 : decode cX4_cashAll 15 = .ok (.iconst 5, 1) := dk_8 (dk_at dksX4_cashAll_0 15 rfl rfl)
theorem dX4_cashAll_16 : decode cX4_cashAll 16 = .ok (.iload_n 2, 1) := dk_28 (dk_at dksX4_cashAll_0 16 rfl rfl)
theorem dX4_cashAll_17 : decode cX4_cashAll 17 = .ok (.iadd, 1) := dk_96 (dk_at dksX4_cashAll_0 17 rfl rfl)
theorem dX4_cashAll_18 : decode cX4_cashAll 18 = .ok (.iaload, 1) := dk_46 (dk_at dksX4_cashAll_0 18 rfl rfl)
theorem dX4_cashAll_19 : decode cX4_cashAll 19 = .ok (.iadd, 1) := dk_96 (dk_at dksX4_cashAll_0 19 rfl rfl)
theorem dX4_cashAll_20 : decode cX4_cashAll 20 = .ok (.istore_n 1, 1) := dk_60 (dk_at dksX4_cashAll_0 20 rfl rfl)
theorem dX4_cashAll_21 : decode cX4_cashAll 21 = .ok (.iinc 2 1, 3) := dk_132 2 1 (dk_at dksX4_cashAll_0 21 rfl rfl)
theorem dX4_cashAll_24 : decode cX4_cashAll 24 = .ok (.goto (-20), 3) := dk_167 255 236 (dk_at dksX4_cashAll_1 0 rfl rfl)
theorem dX4_cashAll_27 : decode cX4_cashAll 27 = .ok (.iload_n 1, 1) := dk_27 (dk_at dksX4_cashAll_1 3 rfl rfl)
theorem dX4_cashAll_28 : decode cX4_cashAll 28 = .ok (.ireturn, 1) := dk_172 (dk_at dksX4_cashAll_1 4 rfl rfl)
abbrev cX4_nettedTotal : ByteArray := prog_19_method_62_code
def yX4_nettedTotal : MethodName := ⟨RX4, "nettedTotal", "()J"⟩
def dkwX4_nettedTotal_0 : List UInt8 := [42, 3, 181, 0, 54, 42, 180, 0, 7, 5, 46, 133, 173]
abbrev dktX4_nettedTotal_0 : List UInt8 := dkwX4_nettedTotal_0 ++ []
theorem dksX4_nettedTotal_0 : cX4_nettedTotal.data.toList.drop 0 = dktX4_nettedTotal_0 := by decide +kernel
theorem dX4_nettedTotal_0 : decode cX4_nettedTotal 0 = .ok (.aload_n 0, 1) := dk_42 (dk_at dksX4_nettedTotal_0 0 rfl rfl)
theorem dX4_nettedTotal_1 : decode cX4_nettedTotal 1 = .ok (.iconst 0, 1) := dk_3 (dk_at dksX4_nettedTotal_0 1 rfl rfl)
theorem dX4_nettedTotal_2 : decode cX4_nettedTotal 2 = .ok (.putfield 54, 3) := dk_181 0 54 (dk_at dksX4_nettedTotal_0 2 rfl rfl)
theorem dX4_nettedTotal_5 : decode cX4_nettedTotal 5 = .ok (.aload_n 0, 1) := dk_42 (dk_at dksX4_nettedTotal_0 5 rfl rfl)
theorem dX4_nettedTotal_6 : decode cX4_nettedTotal 6 = .ok (.getfield 7, 3) := dk_180 0 7 (dk_at dksX4_nettedTotal_0 6 rfl rfl)
theorem dX4_nettedTotal_9 : decode cX4_nettedTotal 9 = .ok (.iconst 2, 1) := dk_5 (dk_at dksX4_nettedTotal_0 9 rfl rfl)
theorem dX4_nettedTotal_10 : decode cX4_nettedTotal 10 = .ok (.iaload, 1) := dk_46 (dk_at dksX4_nettedTotal_0 10 rfl rfl)
theorem dX4_nettedTotal_11 : decode cX4_nettedTotal 11 = .ok (.i2l, 1) := dk_133 (dk_at dksX4_nettedTotal_0 11 rfl rfl)
theorem dX4_nettedTotal_12 : decode cX4_nettedTotal 12 = .ok (.lreturn, 1) := dk_173 (dk_at dksX4_nettedTotal_0 12 rfl rfl)
abbrev cX4_writtenOff : ByteArray := prog_19_method_63_code
def yX4_writtenOff : MethodName := ⟨RX4, "writtenOff", "()I"⟩
def dkwX4_writtenOff_0 : List UInt8 := [42, 3, 181, 0, 54, 42, 180, 0, 7, 6, 46, 172]
abbrev dktX4_writtenOff_0 : List UInt8 := dkwX4_writtenOff_0 ++ []
theorem dksX4_writtenOff_0 : cX4_writtenOff.data.toList.drop 0 = dktX4_writtenOff_0 := by decide +kernel
theorem dX4_writtenOff_0 : decode cX4_writtenOff 0 = .ok (.aload_n 0, 1) := dk_42 (dk_at dksX4_writtenOff_0 0 rfl rfl)
theorem dX4_writtenOff_1 : decode cX4_writtenOff 1 = .ok (.iconst 0, 1) := dk_3 (dk_at dksX4_writtenOff_0 1 rfl rfl)
theorem dX4_writtenOff_2 : decode cX4_writtenOff 2 = .ok (.putfield 54, 3) := dk_181 0 54 (dk_at dksX4_writtenOff_0 2 rfl rfl)
theorem dX4_writtenOff_5 : decode cX4_writtenOff 5 = .ok (.aload_n 0, 1) := dk_42 (dk_at dksX4_writtenOff_0 5 rfl rfl)
theorem dX4_writtenOff_6 : decode cX4_writtenOff 6 = .ok (.getfield 7, 3) := dk_180 0 7 (dk_at dksX4_writtenOff_0 6 rfl rfl)
theorem dX4_writtenOff_9 : decode cX4_writtenOff 9 = .ok (.iconst 3, 1) := dk_6 (dk_at dksX4_writtenOff_0 9 rfl rfl)
theorem dX4_writtenOff_10 : decode cX4_writtenOff 10 = .ok (.iaload, 1) := dk_46 (dk_at dksX4_writtenOff_0 10 rfl rfl)
theorem dX4_writtenOff_11 : decode cX4_writtenOff 11 = .ok (.ireturn, 1) := dk_172 (dk_at dksX4_writtenOff_0 11 rfl rfl)
abbrev cX4_defaults : ByteArray := prog_19_method_64_code
def yX4_defaults : MethodName := ⟨RX4, "defaults", "()I"⟩
def dkwX4_defaults_0 : List UInt8 := [42, 3, 181, 0, 54, 42, 180, 0, 7, 7, 46, 172]
abbrev dktX4_defaults_0 : List UInt8 := dkwX4_defaults_0 ++ []
theorem dksX4_defaults_0 : cX4_defaults.data.toList.drop 0 = dktX4_defaults_0 := by decide +kernel
theorem dX4_defaults_0 : decode cX4_defaults 0 = .ok (.aload_n 0, 1) := dk_42 (dk_at dksX4_defaults_0 0 rfl rfl)
theorem dX4_defaults_1 : decode cX4_defaults 1 = .ok (.iconst 0, 1) := dk_3 (dk_at dksX4_defaults_0 1 rfl rfl)
theorem dX4_defaults_2 : decode cX4_defaults 2 = .ok (.putfield 54, 3) := dk_181 0 54 (dk_at dksX4_defaults_0 2 rfl rfl)
theorem dX4_defaults_5 : decode cX4_defaults 5 = .ok (.aload_n 0, 1) := dk_42 (dk_at dksX4_defaults_0 5 rfl rfl)
theorem dX4_defaults_6 : decode cX4_defaults 6 = .ok (.getfield 7, 3) := dk_180 0 7 (dk_at dksX4_defaults_0 6 rfl rfl)
theorem dX4_defaults_9 : decode cX4_defaults 9 = .ok (.iconst 4, 1) := dk_7 (dk_at dksX4_defaults_0 9 rfl rfl)
theorem dX4_defaults_10 : decode cX4_defaults 10 = .ok (.iaload, 1) := dk_46 (dk_at dksX4_defaults_0 10 rfl rfl)
theorem dX4_defaults_11 : decode cX4_defaults 11 = .ok (.ireturn, 1) := dk_172 (dk_at dksX4_defaults_0 11 rfl rfl)
abbrev cX4_debtBits : ByteArray := prog_19_method_65_code
def yX4_debtBits : MethodName := ⟨RX4, "debtBits", "()J"⟩
def dkwX4_debtBits_1 : List UInt8 := [158, 0, 9, 31, 10, 29, 121, 129, 64, 132, 3, 1, 167, 255, 229, 31, 173]
abbrev dktX4_debtBits_1 : List UInt8 := dkwX4_debtBits_1 ++ []
def dkwX4_debtBits_0 : List UInt8 := [42, 3, 181, 0, 54, 9, 64, 3, 62, 29, 16, 49, 162, 0, 27, 42, 180, 0, 7, 16, 12, 29, 96, 46]
abbrev dktX4_debtBits_0 : List UInt8 := dkwX4_debtBits_0 ++ dktX4_debtBits_1
theorem dksX4_debtBits_0 : cX4_debtBits.data.toList.drop 0 = dktX4_debtBits_0 := by decide +kernel
theorem dksX4_debtBits_1 : cX4_debtBits.data.toList.drop 24 = dktX4_debtBits_1 := dk_seg dksX4_debtBits_0 24 rfl rfl
theorem dX4_debtBits_0 : decode cX4_debtBits 0 = .ok (.aload_n 0, 1) := dk_42 (dk_at dksX4_debtBits_0 0 rfl rfl)
theorem dX4_debtBits_1 : decode cX4_debtBits 1 = .ok (.iconst 0, 1) := dk_3 (dk_at dksX4_debtBits_0 1 rfl rfl)
theorem dX4_debtBits_2 : decode cX4_debtBits 2 = .ok (.putfield 54, 3) := dk_181 0 54 (dk_at dksX4_debtBits_0 2 rfl rfl)
theorem dX4_debtBits_5 : decode cX4_debtBits 5 = .ok (.lconst 0, 1) := dk_9 (dk_at dksX4_debtBits_0 5 rfl rfl)
theorem dX4_debtBits_6 : decode cX4_debtBits 6 = .ok (.lstore_n 1, 1) := dk_64 (dk_at dksX4_debtBits_0 6 rfl rfl)
theorem dX4_debtBits_7 : decode cX4_debtBits 7 = .ok (.iconst 0, 1) := dk_3 (dk_at dksX4_debtBits_0 7 rfl rfl)
theorem dX4_debtBits_8 : decode cX4_debtBits 8 = .ok (.istore_n 3, 1) := dk_62 (dk_at dksX4_debtBits_0 8 rfl rfl)
theorem dX4_debtBits_9 : decode cX4_debtBits 9 = .ok (.iload_n 3, 1) := dk_29 (dk_at dksX4_debtBits_0 9 rfl rfl)
theorem dX4_debtBits_10 : decode cX4_debtBits 10 = .ok (.bipush 49, 2) := dk_16 49 (dk_at dksX4_debtBits_0 10 rfl rfl)
theorem dX4_debtBits_12 : decode cX4_debtBits 12 = .ok (.if_icmp .ge 27, 3) := dk_162 0 27 (dk_at dksX4_debtBits_0 12 rfl rfl)
theorem dX4_debtBits_15 : decode cX4_debtBits 15 = .ok (.aload_n 0, 1) := dk_42 (dk_at dksX4_debtBits_0 15 rfl rfl)
theorem dX4_debtBits_16 : decode cX4_debtBits 16 = .ok (.getfield 7, 3) := dk_180 0 7 (dk_at dksX4_debtBits_0 16 rfl rfl)
theorem dX4_debtBits_19 : decode cX4_debtBits 19 = .ok (.bipush 12, 2) := dk_16 12 (dk_at dksX4_debtBits_0 19 rfl rfl)
theorem dX4_debtBits_21 : decode cX4_debtBits 21 = .ok (.iload_n 3, 1) := dk_29 (dk_at dksX4_debtBits_0 21 rfl rfl)
theorem dX4_debtBits_22 : decode cX4_debtBits 22 = .ok (.iadd, 1) := dk_96 (dk_at dksX4_debtBits_0 22 rfl rfl)
theorem dX4_debtBits_23 : decode cX4_debtBits 23 = .ok (.iaload, 1) := dk_46 (dk_at dksX4_debtBits_0 23 rfl rfl)
theorem dX4_debtBits_24 : decode cX4_debtBits 24 = .ok (.ifCond .le 9, 3) := dk_158 0 9 (dk_at dksX4_debtBits_1 0 rfl rfl)
theorem dX4_debtBits_27 : decode cX4_debtBits 27 = .ok (.lload_n 1, 1) := dk_31 (dk_at dksX4_debtBits_1 3 rfl rfl)
theorem dX4_debtBits_28 : decode cX4_debtBits 28 = .ok (.lconst 1, 1) := dk_10 (dk_at dksX4_debtBits_1 4 rfl rfl)
theorem dX4_debtBits_29 : decode cX4_debtBits 29 = .ok (.iload_n 3, 1) := dk_29 (dk_at dksX4_debtBits_1 5 rfl rfl)
theorem dX4_debtBits_30 : decode cX4_debtBits 30 = .ok (.lshl, 1) := dk_121 (dk_at dksX4_debtBits_1 6 rfl rfl)
theorem dX4_debtBits_31 : decode cX4_debtBits 31 = .ok (.lor, 1) := dk_129 (dk_at dksX4_debtBits_1 7 rfl rfl)
theorem dX4_debtBits_32 : decode cX4_debtBits 32 = .ok (.lstore_n 1, 1) := dk_64 (dk_at dksX4_debtBits_1 8 rfl rfl)
theorem dX4_debtBits_33 : decode cX4_debtBits 33 = .ok (.iinc 3 1, 3) := dk_132 3 1 (dk_at dksX4_debtBits_1 9 rfl rfl)
theorem dX4_debtBits_36 : decode cX4_debtBits 36 = .ok (.goto (-27), 3) := dk_167 255 229 (dk_at dksX4_debtBits_1 12 rfl rfl)
theorem dX4_debtBits_39 : decode cX4_debtBits 39 = .ok (.lload_n 1, 1) := dk_31 (dk_at dksX4_debtBits_1 15 rfl rfl)
theorem dX4_debtBits_40 : decode cX4_debtBits 40 = .ok (.lreturn, 1) := dk_173 (dk_at dksX4_debtBits_1 16 rfl rfl)
abbrev cX4_meanObligations : ByteArray := prog_19_method_66_code
def yX4_meanObligations : MethodName := ⟨RX4, "meanObligations", "()D"⟩
def dkwX4_meanObligations_1 : List UInt8 := [167, 0, 16, 42, 182, 0, 148, 135, 42, 180, 0, 7, 3, 46, 135, 111, 175]
abbrev dktX4_meanObligations_1 : List UInt8 := dkwX4_meanObligations_1 ++ []
def dkwX4_meanObligations_0 : List UInt8 := [42, 42, 180, 0, 7, 3, 46, 154, 0, 7, 4, 167, 0, 4, 3, 182, 0, 76, 153, 0, 7, 14]
abbrev dktX4_meanObligations_0 : List UInt8 := dkwX4_meanObligations_0 ++ dktX4_meanObligations_1
theorem dksX4_meanObligations_0 : cX4_meanObligations.data.toList.drop 0 = dktX4_meanObligations_0 := by decide +kernel
theorem dksX4_meanObligations_1 : cX4_meanObligations.data.toList.drop 22 = dktX4_meanObligations_1 := dk_seg dksX4_meanObligations_0 22 rfl rfl
theorem dX4_meanObligations_0 : decode cX4_meanObligations 0 = .ok (.aload_n 0, 1) := dk_42 (dk_at dksX4_meanObligations_0 0 rfl rfl)
theorem dX4_meanObligations_1 : decode cX4_meanObligations 1 = .ok (.aload_n 0, 1) := dk_42 (dk_at dksX4_meanObligations_0 1 rfl rfl)
theorem dX4_meanObligations_2 : decode cX4_meanObligations 2 = .ok (.getfield 7, 3) := dk_180 0 7 (dk_at dksX4_meanObligations_0 2 rfl rfl)
theorem dX4_meanObligations_5 : decode cX4_meanObligations 5 = .ok (.iconst 0, 1) := dk_3 (dk_at dksX4_meanObligations_0 5 rfl rfl)
theorem dX4_meanObligations_6 : decode cX4_meanObligations 6 = .ok (.iaload, 1) := dk_46 (dk_at dksX4_meanObligations_0 6 rfl rfl)
theorem dX4_meanObligations_7 : decode cX4_meanObligations 7 = .ok (.ifCond .ne 7, 3) := dk_154 0 7 (dk_at dksX4_meanObligations_0 7 rfl rfl)
theorem dX4_meanObligations_10 : decode cX4_meanObligations 10 = .ok (.iconst 1, 1) := dk_4 (dk_at dksX4_meanObligations_0 10 rfl rfl)
theorem dX4_meanObligations_11 : decode cX4_meanObligations 11 = .ok (.goto 4, 3) := dk_167 0 4 (dk_at dksX4_meanObligations_0 11 rfl rfl)
theorem dX4_meanObligations_14 : decode cX4_meanObligations 14 = .ok (.iconst 0, 1) := dk_3 (dk_at dksX4_meanObligations_0 14 rfl rfl)
theorem dX4_meanObligations_15 : decode cX4_meanObligations 15 = .ok (.invokevirtual 76, 3) := dk_182 0 76 (dk_at dksX4_meanObligations_0 15 rfl rfl)
theorem dX4_meanObligations_18 : decode cX4_meanObligations 18 = .ok (.ifCond .eq 7, 3) := dk_153 0 7 (dk_at dksX4_meanObligations_0 18 rfl rfl)
theorem dX4_meanObligations_21 : decode cX4_meanObligations 21 = .ok (.dconst 0, 1) := dk_14 (dk_at dksX4_meanObligations_0 21 rfl rfl)
theorem dX4_meanObligations_22 : decode cX4_meanObligations 22 = .ok (.goto 16, 3) := dk_167 0 16 (dk_at dksX4_meanObligations_1 0 rfl rfl)
theorem dX4_meanObligations_25 : decode cX4_meanObligations 25 = .ok (.aload_n 0, 1) := dk_42 (dk_at dksX4_meanObligations_1 3 rfl rfl)
theorem dX4_meanObligations_26 : decode cX4_meanObligations 26 = .ok (.invokevirtual 148, 3) := dk_182 0 148 (dk_at dksX4_meanObligations_1 4 rfl rfl)
theorem dX4_meanObligations_29 : decode cX4_meanObligations 29 = .ok (.i2d, 1) := dk_135 (dk_at dksX4_meanObligations_1 7 rfl rfl)
theorem dX4_meanObligations_30 : decode cX4_meanObligations 30 = .ok (.aload_n 0, 1) := dk_42 (dk_at dksX4_meanObligations_1 8 rfl rfl)
theorem dX4_meanObligations_31 : decode cX4_meanObligations 31 = .ok (.getfield 7, 3) := dk_180 0 7 (dk_at dksX4_meanObligations_1 9 rfl rfl)
theorem dX4_meanObligations_34 : decode cX4_meanObligations 34 = .ok (.iconst 0, 1) := dk_3 (dk_at dksX4_meanObligations_1 12 rfl rfl)
theorem dX4_meanObligations_35 : decode cX4_meanObligations 35 = .ok (.iaload, 1) := dk_46 (dk_at dksX4_meanObligations_1 13 rfl rfl)
theorem dX4_meanObligations_36 : decode cX4_meanObligations 36 = .ok (.i2d, 1) := dk_135 (dk_at dksX4_meanObligations_1 14 rfl rfl)
theorem dX4_meanObligations_37 : decode cX4_meanObligations 37 = .ok (.ddiv, 1) := dk_111 (dk_at dksX4_meanObligations_1 15 rfl rfl)
theorem dX4_meanObligations_38 : decode cX4_meanObligations 38 = .ok (.dreturn, 1) := dk_175 (dk_at dksX4_meanObligations_1 16 rfl rfl)
abbrev cX4_coverage : ByteArray := prog_19_method_67_code
def yX4_coverage : MethodName := ⟨RX4, "coverage", "()F"⟩
def dkwX4_coverage_1 : List UInt8 := [182, 0, 151, 134, 42, 182, 0, 148, 134, 110, 174]
abbrev dktX4_coverage_1 : List UInt8 := dkwX4_coverage_1 ++ []
def dkwX4_coverage_0 : List UInt8 := [42, 42, 182, 0, 148, 154, 0, 7, 4, 167, 0, 4, 3, 182, 0, 76, 153, 0, 7, 11, 167, 0, 14, 42]
abbrev dktX4_coverage_0 : List UInt8 := dkwX4_coverage_0 ++ dktX4_coverage_1
theorem dksX4_coverage_0 : cX4_coverage.data.toList.drop 0 = dktX4_coverage_0 := by decide +kernel
theorem dksX4_coverage_1 : cX4_coverage.data.toList.drop 24 = dktX4_coverage_1 := dk_seg dksX4_coverage_0 24 rfl rfl
theorem dX4_coverage_0 : decode cX4_coverage 0 = .ok (.aload_n 0, 1) := dk_42 (dk_at dksX4_coverage_0 0 rfl rfl)
theorem dX4_coverage_1 : decode cX4_coverage 1 = .ok (.aload_n 0, 1) := dk_42 (dk_at dksX4_coverage_0 1 rfl rfl)
theorem dX4_coverage_2 : decode cX4_coverage 2 = .ok (.invokevirtual 148, 3) := dk_182 0 148 (dk_at dksX4_coverage_0 2 rfl rfl)
theorem dX4_coverage_5 : decode cX4_coverage 5 = .ok (.ifCond .ne 7, 3) := dk_154 0 7 (dk_at dksX4_coverage_0 5 rfl rfl)
theorem dX4_coverage_8 : decode cX4_coverage 8 = .ok (.iconst 1, 1) := dk_4 (dk_at dksX4_coverage_0 8 rfl rfl)
theorem dX4_coverage_9 : decode cX4_coverage 9 = .ok (.goto 4, 3) := dk_167 0 4 (dk_at dksX4_coverage_0 9 rfl rfl)
theorem dX4_coverage_12 : decode cX4_coverage 12 = .ok (.iconst 0, 1) := dk_3 (dk_at dksX4_coverage_0 12 rfl rfl)
theorem dX4_coverage_13 : decode cX4_coverage 13 = .ok (.invokevirtual 76, 3) := dk_182 0 76 (dk_at dksX4_coverage_0 13 rfl rfl)
theorem dX4_coverage_16 : decode cX4_coverage 16 = .ok (.ifCond .eq 7, 3) := dk_153 0 7 (dk_at dksX4_coverage_0 16 rfl rfl)
theorem dX4_coverage_19 : decode cX4_coverage 19 = .ok (.fconst 0, 1) := dk_11 (dk_at dksX4_coverage_0 19 rfl rfl)
theorem dX4_coverage_20 : decode cX4_coverage 20 = .ok (.goto 14, 3) := dk_167 0 14 (dk_at dksX4_coverage_0 20 rfl rfl)
theorem dX4_coverage_23 : decode cX4_coverage 23 = .ok (.aload_n 0, 1) := dk_42 (dk_at dksX4_coverage_0 23 rfl rfl)
theorem dX4_coverage_24 : decode cX4_coverage 24 = .ok (.invokevirtual 151, 3) := dk_182 0 151 (dk_at dksX4_coverage_1 0 rfl rfl)
theorem dX4_coverage_27 : decode cX4_coverage 27 = .ok (.i2f, 1) := dk_134 (dk_at dksX4_coverage_1 3 rfl rfl)
theorem dX4_coverage_28 : decode cX4_coverage 28 = .ok (.aload_n 0, 1) := dk_42 (dk_at dksX4_coverage_1 4 rfl rfl)
theorem dX4_coverage_29 : decode cX4_coverage 29 = .ok (.invokevirtual 148, 3) := dk_182 0 148 (dk_at dksX4_coverage_1 5 rfl rfl)
theorem dX4_coverage_32 : decode cX4_coverage 32 = .ok (.i2f, 1) := dk_134 (dk_at dksX4_coverage_1 8 rfl rfl)
theorem dX4_coverage_33 : decode cX4_coverage 33 = .ok (.fdiv, 1) := dk_110 (dk_at dksX4_coverage_1 9 rfl rfl)
theorem dX4_coverage_34 : decode cX4_coverage 34 = .ok (.freturn, 1) := dk_174 (dk_at dksX4_coverage_1 10 rfl rfl)
abbrev cX4_isConsistent : ByteArray := prog_19_method_68_code
def yX4_isConsistent : MethodName := ⟨RX4, "isConsistent", "()Z"⟩
def dkwX4_isConsistent_5 : List UInt8 := [167, 0, 4, 3, 172]
abbrev dktX4_isConsistent_5 : List UInt8 := dkwX4_isConsistent_5 ++ []
def dkwX4_isConsistent_4 : List UInt8 := [61, 27, 42, 29, 182, 0, 139, 96, 60, 132, 3, 1, 167, 255, 161, 28, 153, 0, 11, 27, 154, 0, 7, 4]
abbrev dktX4_isConsistent_4 : List UInt8 := dkwX4_isConsistent_4 ++ dktX4_isConsistent_5
def dkwX4_isConsistent_3 : List UInt8 := [182, 0, 127, 158, 0, 16, 21, 4, 42, 180, 0, 7, 8, 29, 96, 46, 160, 0, 7, 4, 167, 0, 4, 3]
abbrev dktX4_isConsistent_3 : List UInt8 := dkwX4_isConsistent_3 ++ dktX4_isConsistent_4
def dkwX4_isConsistent_2 : List UInt8 := [42, 29, 21, 5, 182, 0, 124, 96, 54, 4, 132, 5, 1, 167, 255, 222, 28, 153, 0, 28, 42, 29]
abbrev dktX4_isConsistent_2 : List UInt8 := dkwX4_isConsistent_2 ++ dktX4_isConsistent_3
def dkwX4_isConsistent_1 : List UInt8 := [3, 54, 5, 21, 5, 42, 180, 0, 7, 3, 46, 162, 0, 29, 42, 29, 182, 0, 127, 158, 0, 21, 21, 4]
abbrev dktX4_isConsistent_1 : List UInt8 := dkwX4_isConsistent_1 ++ dktX4_isConsistent_2
def dkwX4_isConsistent_0 : List UInt8 := [42, 3, 181, 0, 54, 3, 60, 4, 61, 3, 62, 29, 42, 180, 0, 7, 3, 46, 162, 0, 91, 3, 54, 4]
abbrev dktX4_isConsistent_0 : List UInt8 := dkwX4_isConsistent_0 ++ dktX4_isConsistent_1
theorem dksX4_isConsistent_0 : cX4_isConsistent.data.toList.drop 0 = dktX4_isConsistent_0 := by decide +kernel
theorem dksX4_isConsistent_1 : cX4_isConsistent.data.toList.drop 24 = dktX4_isConsistent_1 := dk_seg dksX4_isConsistent_0 24 rfl rfl
theorem dksX4_isConsistent_2 : cX4_isConsistent.data.toList.drop 48 = dktX4_isConsistent_2 := dk_seg dksX4_isConsistent_1 24 rfl rfl
theorem dksX4_isConsistent_3 : cX4_isConsistent.data.toList.drop 70 = dktX4_isConsistent_3 := dk_seg dksX4_isConsistent_2 22 rfl rfl
theorem dksX4_isConsistent_4 : cX4_isConsistent.data.toList.drop 94 = dktX4_isConsistent_4 := dk_seg dksX4_isConsistent_3 24 rfl rfl
theorem dksX4_isConsistent_5 : cX4_isConsistent.data.toList.drop 118 = dktX4_isConsistent_5 := dk_seg dksX4_isConsistent_4 24 rfl rfl
theorem dX4_isConsistent_0 : decode cX4_isConsistent 0 = .ok (.aload_n 0, 1) := dk_42 (dk_at dksX4_isConsistent_0 0 rfl rfl)
theorem dX4_isConsistent_1 : decode cX4_isConsistent 1 = .ok (.iconst 0, 1) := dk_3 (dk_at dksX4_isConsistent_0 1 rfl rfl)
theorem dX4_isConsistent_2 : decode cX4_isConsistent 2 = .ok (.putfield 54, 3) := dk_181 0 54 (dk_at dksX4_isConsistent_0 2 rfl rfl)
theorem dX4_isConsistent_5 : decode cX4_isConsistent 5 = .ok (.iconst 0, 1) := dk_3 (dk_at dksX4_isConsistent_0 5 rfl rfl)
theorem dX4_isConsistent_6 : decode cX4_isConsistent 6 = .ok (.istore_n 1, 1) := dk_60 (dk_at dksX4_isConsistent_0 6 rfl rfl)
theorem dX4_isConsistent_7 : decode cX4_isConsistent 7 = .ok (.iconst 1, 1) := dk_4 (dk_at dksX4_isConsistent_0 7 rfl rfl)
theorem dX4_isConsistent_8 : decode cX4_isConsistent 8 = .ok (.istore_n 2, 1) := dk_61 (dk_at dksX4_isConsistent_0 8 rfl rfl)
theorem dX4_isConsistent_9 : decode cX4_isConsistent 9 = .ok (.iconst 0, 1) := dk_3 (dk_at dksX4_isConsistent_0 9 rfl rfl)
theorem dX4_isConsistent_10 : decode cX4_isConsistent 10 = .ok (.istore_n 3, 1) := dk_62 (dk_at dksX4_isConsistent_0 10 rfl rfl)
theorem dX4_isConsistent_11 : decode cX4_isConsistent 11 = .ok (.iload_n 3, 1) := dk_29 (dk_at dksX4_isConsistent_0 11 rfl rfl)
theorem dX4_isConsistent_12 : decode cX4_isConsistent 12 = .ok (.aload_n 0, 1) := dk_42 (dk_at dksX4_isConsistent_0 12 rfl rfl)
theorem dX4_isConsistent_13 : decode cX4_isConsistent 13 = .ok (.getfield 7, 3) := dk_180 0 7 (dk_at dksX4_isConsistent_0 13 rfl rfl)
theorem dX4_isConsistent_16 : decode cX4_isConsistent 16 = .ok (.iconst 0, 1) := dk_3 (dk_at dksX4_isConsistent_0 16 rfl rfl)
theorem dX4_isConsistent_17 : decode cX4_isConsistent 17 = .ok (.iaload, 1) := dk_46 (dk_at dksX4_isConsistent_0 17 rfl rfl)
theorem dX4_isConsistent_18 : decode cX4_isConsistent 18 = .ok (.if_icmp .ge 91, 3) := dk_162 0 91 (dk_at dksX4_isConsistent_0 18 rfl rfl)
theorem dX4_isConsistent_21 : decode cX4_isConsistent 21 = .ok (.iconst 0, 1) := dk_3 (dk_at dksX4_isConsistent_0 21 rfl rfl)
theorem dX4_isConsistent_22 : decode cX4_isConsistent 22 = .ok (.istore 4, 2) := dk_54 4 (dk_at dksX4_isConsistent_0 22 rfl rfl)
theorem dX4_isConsistent_24 : decode cX4_isConsistent 24 = .ok (.iconst 0, 1) := dk_3 (dk_at dksX4_isConsistent_1 0 rfl rfl)
theorem dX4_isConsistent_25 : decode cX4_isConsistent 25 = .ok (.istore 5, 2) := dk_54 5 (dk_at dksX4_isConsistent_1 1 rfl rfl)
theorem dX4_isConsistent_27 : decode cX4_isConsistent 27 = .ok (.iload 5, 2) := dk_21 5 (dk_at dksX4_isConsistent_1 3 rfl rfl)
theorem dX4_isConsistent_29 : decode cX4_isConsistent 29 = .ok (.aload_n 0, 1) := dk_42 (dk_at dksX4_isConsistent_1 5 rfl rfl)
theorem dX4_isConsistent_30 : decode cX4_isConsistent 30 = .ok (.getfield 7, 3) := dk_180 0 7 (dk_at dksX4_isConsistent_1 6 rfl rfl)
theorem dX4_isConsistent_33 : decode cX4_isConsistent 33 = .ok (.iconst 0, 1) := dk_3 (dk_at dksX4_isConsistent_1 9 rfl rfl)
theorem dX4_isConsistent_34 : decode cX4_isConsistent 34 = .ok (.iaload, 1) := dk_46 (dk_at dksX4_isConsistent_1 10 rfl rfl)
theorem dX4_isConsistent_35 : decode cX4_isConsistent 35 = .ok (.if_icmp .ge 29, 3) := dk_162 0 29 (dk_at dksX4_isConsistent_1 11 rfl rfl)
theorem dX4_isConsistent_38 : decode cX4_isConsistent 38 = .ok (.aload_n 0, 1) := dk_42 (dk_at dksX4_isConsistent_1 14 rfl rfl)
theorem dX4_isConsistent_39 : decode cX4_isConsistent 39 = .ok (.iload_n 3, 1) := dk_29 (dk_at dksX4_isConsistent_1 15 rfl rfl)
theorem dX4_isConsistent_40 : decode cX4_isConsistent 40 = .ok (.invokevirtual 127, 3) := dk_182 0 127 (dk_at dksX4_isConsistent_1 16 rfl rfl)
theorem dX4_isConsistent_43 : decode cX4_isConsistent 43 = .ok (.ifCond .le 21, 3) := dk_158 0 21 (dk_at dksX4_isConsistent_1 19 rfl rfl)
theorem dX4_isConsistent_46 : decode cX4_isConsistent 46 = .ok (.iload 4, 2) := dk_21 4 (dk_at dksX4_isConsistent_1 22 rfl rfl)
theorem dX4_isConsistent_48 : decode cX4_isConsistent 48 = .ok (.aload_n 0, 1) := dk_42 (dk_at dksX4_isConsistent_2 0 rfl rfl)
theorem dX4_isConsistent_49 : decode cX4_isConsistent 49 = .ok (.iload_n 3, 1) := dk_29 (dk_at dksX4_isConsistent_2 1 rfl rfl)
theorem dX4_isConsistent_50 : decode cX4_isConsistent 50 = .ok (.iload 5, 2) := dk_21 5 (dk_at dksX4_isConsistent_2 2 rfl rfl)
theorem dX4_isConsistent_52 : decode cX4_isConsistent 52 = .ok (.invokevirtual 124, 3) := dk_182 0 124 (dk_at dksX4_isConsistent_2 4 rfl rfl)
theorem dX4_isConsistent_55 : decode cX4_isConsistent 55 = .ok (.iadd, 1) := dk_96 (dk_at dksX4_isConsistent_2 7 rfl rfl)
theorem dX4_isConsistent_56 : decode cX4_isConsistent 56 = .ok (.istore 4, 2) := dk_54 4 (dk_at dksX4_isConsistent_2 8 rfl rfl)
theorem dX4_isConsistent_58 : decode cX4_isConsistent 58 = .ok (.iinc 5 1, 3) := dk_132 5 1 (dk_at dksX4_isConsistent_2 10 rfl rfl)
theorem dX4_isConsistent_61 : decode cX4_isConsistent 61 = .ok (.goto (-34), 3) := dk_167 255 222 (dk_at dksX4_isConsistent_2 13 rfl rfl)
theorem dX4_isConsistent_64 : decode cX4_isConsistent 64 = .ok (.iload_n 2, 1) := dk_28 (dk_at dksX4_isConsistent_2 16 rfl rfl)
theorem dX4_isConsistent_65 : decode cX4_isConsistent 65 = .ok (.ifCond .eq 28, 3) := dk_153 0 28 (dk_at dksX4_isConsistent_2 17 rfl rfl)
theorem dX4_isConsistent_68 : decode cX4_isConsistent 68 = .ok (.aload_n 0, 1) := dk_42 (dk_at dksX4_isConsistent_2 20 rfl rfl)
theorem dX4_isConsistent_69 : decode cX4_isConsistent 69 = .ok (.iload_n 3, 1) := dk_29 (dk_at dksX4_isConsistent_2 21 rfl rfl)
theorem dX4_isConsistent_70 : decode cX4_isConsistent 70 = .ok (.invokevirtual 127, 3) := dk_182 0 127 (dk_at dksX4_isConsistent_3 0 rfl rfl)
theorem dX4_isConsistent_73 : decode cX4_isConsistent 73 = .ok (.ifCond .le 16, 3) := dk_158 0 16 (dk_at dksX4_isConsistent_3 3 rfl rfl)
theorem dX4_isConsistent_76 : decode cX4_isConsistent 76 = .ok (.iload 4, 2) := dk_21 4 (dk_at dksX4_isConsistent_3 6 rfl rfl)
theorem dX4_isConsistent_78 : decode cX4_isConsistent 78 = .ok (.aload_n 0, 1) := dk_42 (dk_at dksX4_isConsistent_3 8 rfl rfl)
theorem dX4_isConsistent_79 : decode cX4_isConsistent 79 = .ok (.getfield 7, 3) := dk_180 0 7 (dk_at dksX4_isConsistent_3 9 rfl rfl)
theorem dX4_isConsistent_82 : decode cX4_isConsistent 82 = .ok (.iconst 5, 1) := dk_8 (dk_at dksX4_isConsistent_3 12 rfl rfl)
theorem dX4_isConsistent_83 : decode cX4_isConsistent 83 = .ok (.iload_n 3, 1) := dk_29 (dk_at dksX4_isConsistent_3 13 rfl rfl)
theorem dX4_isConsistent_84 : decode cX4_isConsistent 84 = .ok (.iadd, 1) := dk_96 (dk_at dksX4_isConsistent_3 14 rfl rfl)
theorem dX4_isConsistent_85 : decode cX4_isConsistent 85 = .ok (.iaload, 1) := dk_46 (dk_at dksX4_isConsistent_3 15 rfl rfl)
theorem dX4_isConsistent_86 : decode cX4_isConsistent 86 = .ok (.if_icmp .ne 7, 3) := dk_160 0 7 (dk_at dksX4_isConsistent_3 16 rfl rfl)
theorem dX4_isConsistent_89 : decode cX4_isConsistent 89 = .ok (.iconst 1, 1) := dk_4 (dk_at dksX4_isConsistent_3 19 rfl rfl)
theorem dX4_isConsistent_90 : decode cX4_isConsistent 90 = .ok (.goto 4, 3) := dk_167 0 4 (dk_at dksX4_isConsistent_3 20 rfl rfl)
theorem dX4_isConsistent_93 : decode cX4_isConsistent 93 = .ok (.iconst 0, 1) := dk_3 (dk_at dksX4_isConsistent_3 23 rfl rfl)
theorem dX4_isConsistent_94 : decode cX4_isConsistent 94 = .ok (.istore_n 2, 1) := dk_61 (dk_at dksX4_isConsistent_4 0 rfl rfl)
theorem dX4_isConsistent_95 : decode cX4_isConsistent 95 = .ok (.iload_n 1, 1) := dk_27 (dk_at dksX4_isConsistent_4 1 rfl rfl)
theorem dX4_isConsistent_96 : decode cX4_isConsistent 96 = .ok (.aload_n 0, 1) := dk_42 (dk_at dksX4_isConsistent_4 2 rfl rfl)
theorem dX4_isConsistent_97 : decode cX4_isConsistent 97 = .ok (.iload_n 3, 1) := dk_29 (dk_at dksX4_isConsistent_4 3 rfl rfl)
theorem dX4_isConsistent_98 : decode cX4_isConsistent 98 = .ok (.invokevirtual 139, 3) := dk_182 0 139 (dk_at dksX4_isConsistent_4 4 rfl rfl)
theorem dX4_isConsistent_101 : decode cX4_isConsistent 101 = .ok (.iadd, 1) := dk_96 (dk_at dksX4_isConsistent_4 7 rfl rfl)
theorem dX4_isConsistent_102 : decode cX4_isConsistent 102 = .ok (.istore_n 1, 1) := dk_60 (dk_at dksX4_isConsistent_4 8 rfl rfl)
theorem dX4_isConsistent_103 : decode cX4_isConsistent 103 = .ok (.iinc 3 1, 3) := dk_132 3 1 (dk_at dksX4_isConsistent_4 9 rfl rfl)
theorem dX4_isConsistent_106 : decode cX4_isConsistent 106 = .ok (.goto (-95), 3) := dk_167 255 161 (dk_at dksX4_isConsistent_4 12 rfl rfl)
theorem dX4_isConsistent_109 : decode cX4_isConsistent 109 = .ok (.iload_n 2, 1) := dk_28 (dk_at dksX4_isConsistent_4 15 rfl rfl)
theorem dX4_isConsistent_110 : decode cX4_isConsistent 110 = .ok (.ifCond .eq 11, 3) := dk_153 0 11 (dk_at dksX4_isConsistent_4 16 rfl rfl)
theorem dX4_isConsistent_113 : decode cX4_isConsistent 113 = .ok (.iload_n 1, 1) := dk_27 (dk_at dksX4_isConsistent_4 19 rfl rfl)
theorem dX4_isConsistent_114 : decode cX4_isConsistent 114 = .ok (.ifCond .ne 7, 3) := dk_154 0 7 (dk_at dksX4_isConsistent_4 20 rfl rfl)
theorem dX4_isConsistent_117 : decode cX4_isConsistent 117 = .ok (.iconst 1, 1) := dk_4 (dk_at dksX4_isConsistent_4 23 rfl rfl)
theorem dX4_isConsistent_118 : decode cX4_isConsistent 118 = .ok (.goto 4, 3) := dk_167 0 4 (dk_at dksX4_isConsistent_5 0 rfl rfl)
theorem dX4_isConsistent_121 : decode cX4_isConsistent 121 = .ok (.iconst 0, 1) := dk_3 (dk_at dksX4_isConsistent_5 3 rfl rfl)
theorem dX4_isConsistent_122 : decode cX4_isConsistent 122 = .ok (.ireturn, 1) := dk_172 (dk_at dksX4_isConsistent_5 4 rfl rfl)
abbrev cX4_append : ByteArray := prog_19_method_69_code
def yX4_append : MethodName := ⟨RX4, "append", "(C)I"⟩
def dkwX4_append_1 : List UInt8 := [180, 0, 25, 42, 180, 0, 154, 27, 79, 42, 89, 180, 0, 154, 4, 96, 181, 0, 154, 42, 180, 0, 154, 172]
abbrev dktX4_append_1 : List UInt8 := dkwX4_append_1 ++ []
def dkwX4_append_0 : List UInt8 := [42, 42, 180, 0, 154, 16, 60, 160, 0, 7, 4, 167, 0, 4, 3, 182, 0, 76, 153, 0, 5, 3, 172, 42]
abbrev dktX4_append_0 : List UInt8 := dkwX4_append_0 ++ dktX4_append_1
theorem dksX4_append_0 : cX4_append.data.toList.drop 0 = dktX4_append_0 := by decide +kernel
theorem dksX4_append_1 : cX4_append.data.toList.drop 24 = dktX4_append_1 := dk_seg dksX4_append_0 24 rfl rfl
theorem dX4_append_0 : decode cX4_append 0 = .ok (.aload_n 0, 1) := dk_42 (dk_at dksX4_append_0 0 rfl rfl)
theorem dX4_append_1 : decode cX4_append 1 = .ok (.aload_n 0, 1) := dk_42 (dk_at dksX4_append_0 1 rfl rfl)
theorem dX4_append_2 : decode cX4_append 2 = .ok (.getfield 154, 3) := dk_180 0 154 (dk_at dksX4_append_0 2 rfl rfl)
theorem dX4_append_5 : decode cX4_append 5 = .ok (.bipush 60, 2) := dk_16 60 (dk_at dksX4_append_0 5 rfl rfl)
theorem dX4_append_7 : decode cX4_append 7 = .ok (.if_icmp .ne 7, 3) := dk_160 0 7 (dk_at dksX4_append_0 7 rfl rfl)
theorem dX4_append_10 : decode cX4_append 10 = .ok (.iconst 1, 1) := dk_4 (dk_at dksX4_append_0 10 rfl rfl)
theorem dX4_append_11 : decode cX4_append 11 = .ok (.goto 4, 3) := dk_167 0 4 (dk_at dksX4_append_0 11 rfl rfl)
theorem dX4_append_14 : decode cX4_append 14 = .ok (.iconst 0, 1) := dk_3 (dk_at dksX4_append_0 14 rfl rfl)
theorem dX4_append_15 : decode cX4_append 15 = .ok (.invokevirtual 76, 3) := dk_182 0 76 (dk_at dksX4_append_0 15 rfl rfl)
theorem dX4_append_18 : decode cX4_append 18 = .ok (.ifCond .eq 5, 3) := dk_153 0 5 (dk_at dksX4_append_0 18 rfl rfl)
theorem dX4_append_21 : decode cX4_append 21 = .ok (.iconst 0, 1) := dk_3 (dk_at dksX4_append_0 21 rfl rfl)
theorem dX4_append_22 : decode cX4_append 22 = .ok (.ireturn, 1) := dk_172 (dk_at dksX4_append_0 22 rfl rfl)
theorem dX4_append_23 : decode cX4_append 23 = .ok (.aload_n 0, 1) := dk_42 (dk_at dksX4_append_0 23 rfl rfl)
theorem dX4_append_24 : decode cX4_append 24 = .ok (.getfield 25, 3) := dk_180 0 25 (dk_at dksX4_append_1 0 rfl rfl)
theorem dX4_append_27 : decode cX4_append 27 = .ok (.aload_n 0, 1) := dk_42 (dk_at dksX4_append_1 3 rfl rfl)
theorem dX4_append_28 : decode cX4_append 28 = .ok (.getfield 154, 3) := dk_180 0 154 (dk_at dksX4_append_1 4 rfl rfl)
theorem dX4_append_31 : decode cX4_append 31 = .ok (.iload_n 1, 1) := dk_27 (dk_at dksX4_append_1 7 rfl rfl)
theorem dX4_append_32 : decode cX4_append 32 = .ok (.iastore, 1) := dk_79 (dk_at dksX4_append_1 8 rfl rfl)
theorem dX4_append_33 : decode cX4_append 33 = .ok (.aload_n 0, 1) := dk_42 (dk_at dksX4_append_1 9 rfl rfl)
theorem dX4_append_34 : decode cX4_append 34 = .ok (.dup, 1) := dk_89 (dk_at dksX4_append_1 10 rfl rfl)
theorem dX4_append_35 : decode cX4_append 35 = .ok (.getfield 154, 3) := dk_180 0 154 (dk_at dksX4_append_1 11 rfl rfl)
theorem dX4_append_38 : decode cX4_append 38 = .ok (.iconst 1, 1) := dk_4 (dk_at dksX4_append_1 14 rfl rfl)
theorem dX4_append_39 : decode cX4_append 39 = .ok (.iadd, 1) := dk_96 (dk_at dksX4_append_1 15 rfl rfl)
theorem dX4_append_40 : decode cX4_append 40 = .ok (.putfield 154, 3) := dk_181 0 154 (dk_at dksX4_append_1 16 rfl rfl)
theorem dX4_append_43 : decode cX4_append 43 = .ok (.aload_n 0, 1) := dk_42 (dk_at dksX4_append_1 19 rfl rfl)
theorem dX4_append_44 : decode cX4_append 44 = .ok (.getfield 154, 3) := dk_180 0 154 (dk_at dksX4_append_1 20 rfl rfl)
theorem dX4_append_47 : decode cX4_append 47 = .ok (.ireturn, 1) := dk_172 (dk_at dksX4_append_1 23 rfl rfl)
abbrev cX4_run : ByteArray := prog_19_method_80_code
def yX4_run : MethodName := ⟨RX4, "run", "()I"⟩
def dkwX4_run_6 : List UInt8 := [167, 0, 4, 29, 172, 42, 42, 180, 0, 19, 182, 0, 90, 42, 180, 0, 163, 172]
abbrev dktX4_run_6 : List UInt8 := dkwX4_run_6 ++ []
def dkwX4_run_5 : List UInt8 := [180, 0, 7, 3, 184, 0, 64, 42, 28, 181, 0, 32, 42, 5, 181, 0, 54, 29, 158, 0, 7, 3]
abbrev dktX4_run_5 : List UInt8 := dkwX4_run_5 ++ dktX4_run_6
def dkwX4_run_4 : List UInt8 := [132, 2, 1, 167, 255, 223, 42, 3, 181, 0, 57, 42, 180, 0, 54, 158, 0, 36, 42, 180, 0, 19, 3, 42]
abbrev dktX4_run_4 : List UInt8 := dkwX4_run_4 ++ dktX4_run_5
def dkwX4_run_3 : List UInt8 := [42, 180, 0, 54, 154, 0, 24, 42, 7, 28, 104, 182, 0, 251, 62, 42, 180, 0, 54, 154, 255, 229]
abbrev dktX4_run_3 : List UInt8 := dkwX4_run_3 ++ dktX4_run_4
def dkwX4_run_2 : List UInt8 := [180, 0, 19, 3, 184, 0, 64, 42, 4, 181, 0, 57, 3, 61, 3, 62, 28, 42, 180, 0, 163, 162, 0, 31]
abbrev dktX4_run_2 : List UInt8 := dkwX4_run_2 ++ dktX4_run_3
def dkwX4_run_1 : List UInt8 := [153, 0, 7, 3, 167, 0, 4, 4, 182, 0, 76, 153, 0, 5, 3, 172, 42, 180, 0, 7, 3, 42]
abbrev dktX4_run_1 : List UInt8 := dkwX4_run_1 ++ dktX4_run_2
def dkwX4_run_0 : List UInt8 := [42, 182, 0, 248, 60, 27, 154, 0, 11, 42, 42, 180, 0, 157, 181, 0, 28, 42, 3, 181, 0, 154, 42, 27]
abbrev dktX4_run_0 : List UInt8 := dkwX4_run_0 ++ dktX4_run_1
theorem dksX4_run_0 : cX4_run.data.toList.drop 0 = dktX4_run_0 := by decide +kernel
theorem dksX4_run_1 : cX4_run.data.toList.drop 24 = dktX4_run_1 := dk_seg dksX4_run_0 24 rfl rfl
theorem dksX4_run_2 : cX4_run.data.toList.drop 46 = dktX4_run_2 := dk_seg dksX4_run_1 22 rfl rfl
theorem dksX4_run_3 : cX4_run.data.toList.drop 70 = dktX4_run_3 := dk_seg dksX4_run_2 24 rfl rfl
theorem dksX4_run_4 : cX4_run.data.toList.drop 92 = dktX4_run_4 := dk_seg dksX4_run_3 22 rfl rfl
theorem dksX4_run_5 : cX4_run.data.toList.drop 116 = dktX4_run_5 := dk_seg dksX4_run_4 24 rfl rfl
theorem dksX4_run_6 : cX4_run.data.toList.drop 138 = dktX4_run_6 := dk_seg dksX4_run_5 22 rfl rfl
theorem dX4_run_0 : decode cX4_run 0 = .ok (.aload_n 0, 1) := dk_42 (dk_at dksX4_run_0 0 rfl rfl)
theorem dX4_run_1 : decode cX4_run 1 = .ok (.invokevirtual 248, 3) := dk_182 0 248 (dk_at dksX4_run_0 1 rfl rfl)
theorem dX4_run_4 : decode cX4_run 4 = .ok (.istore_n 1, 1) := dk_60 (dk_at dksX4_run_0 4 rfl rfl)
theorem dX4_run_5 : decode cX4_run 5 = .ok (.iload_n 1, 1) := dk_27 (dk_at dksX4_run_0 5 rfl rfl)
theorem dX4_run_6 : decode cX4_run 6 = .ok (.ifCond .ne 11, 3) := dk_154 0 11 (dk_at dksX4_run_0 6 rfl rfl)
theorem dX4_run_9 : decode cX4_run 9 = .ok (.aload_n 0, 1) := dk_42 (dk_at dksX4_run_0 9 rfl rfl)
theorem dX4_run_10 : decode cX4_run 10 = .ok (.aload_n 0, 1) := dk_42 (dk_at dksX4_run_0 10 rfl rfl)
theorem dX4_run_11 : decode cX4_run 11 = .ok (.getfield 157, 3) := dk_180 0 157 (dk_at dksX4_run_0 11 rfl rfl)
theorem dX4_run_14 : decode cX4_run 14 = .ok (.putfield 28, 3) := dk_181 0 28 (dk_at dksX4_run_0 14 rfl rfl)
theorem dX4_run_17 : decode cX4_run 17 = .ok (.aload_n 0, 1) := dk_42 (dk_at dksX4_run_0 17 rfl rfl)
theorem dX4_run_18 : decode cX4_run 18 = .ok (.iconst 0, 1) := dk_3 (dk_at dksX4_run_0 18 rfl rfl)
theorem dX4_run_19 : decode cX4_run 19 = .ok (.putfield 154, 3) := dk_181 0 154 (dk_at dksX4_run_0 19 rfl rfl)
theorem dX4_run_22 : decode cX4_run 22 = .ok (.aload_n 0, 1) := dk_42 (dk_at dksX4_run_0 22 rfl rfl)
theorem dX4_run_23 : decode cX4_run 23 = .ok (.iload_n 1, 1) := dk_27 (dk_at dksX4_run_0 23 rfl rfl)
theorem dX4_run_24 : decode cX4_run 24 = .ok (.ifCond .eq 7, 3) := dk_153 0 7 (dk_at dksX4_run_1 0 rfl rfl)
theorem dX4_run_27 : decode cX4_run 27 = .ok (.iconst 0, 1) := dk_3 (dk_at dksX4_run_1 3 rfl rfl)
theorem dX4_run_28 : decode cX4_run 28 = .ok (.goto 4, 3) := dk_167 0 4 (dk_at dksX4_run_1 4 rfl rfl)
theorem dX4_run_31 : decode cX4_run 31 = .ok (.iconst 1, 1) := dk_4 (dk_at dksX4_run_1 7 rfl rfl)
theorem dX4_run_32 : decode cX4_run 32 = .ok (.invokevirtual 76, 3) := dk_182 0 76 (dk_at dksX4_run_1 8 rfl rfl)
theorem dX4_run_35 : decode cX4_run 35 = .ok (.ifCond .eq 5, 3) := dk_153 0 5 (dk_at dksX4_run_1 11 rfl rfl)
theorem dX4_run_38 : decode cX4_run 38 = .ok (.iconst 0, 1) := dk_3 (dk_at dksX4_run_1 14 rfl rfl)
theorem dX4_run_39 : decode cX4_run 39 = .ok (.ireturn, 1) := dk_172 (dk_at dksX4_run_1 15 rfl rfl)
theorem dX4_run_40 : decode cX4_run 40 = .ok (.aload_n 0, 1) := dk_42 (dk_at dksX4_run_1 16 rfl rfl)
theorem dX4_run_41 : decode cX4_run 41 = .ok (.getfield 7, 3) := dk_180 0 7 (dk_at dksX4_run_1 17 rfl rfl)
theorem dX4_run_44 : decode cX4_run 44 = .ok (.iconst 0, 1) := dk_3 (dk_at dksX4_run_1 20 rfl rfl)
theorem dX4_run_45 : decode cX4_run 45 = .ok (.aload_n 0, 1) := dk_42 (dk_at dksX4_run_1 21 rfl rfl)
theorem dX4_run_46 : decode cX4_run 46 = .ok (.getfield 19, 3) := dk_180 0 19 (dk_at dksX4_run_2 0 rfl rfl)
theorem dX4_run_49 : decode cX4_run 49 = .ok (.iconst 0, 1) := dk_3 (dk_at dksX4_run_2 3 rfl rfl)
theorem dX4_run_50 : decode cX4_run 50 = .ok (.invokestatic 64, 3) := dk_184 0 64 (dk_at dksX4_run_2 4 rfl rfl)
theorem dX4_run_53 : decode cX4_run 53 = .ok (.aload_n 0, 1) := dk_42 (dk_at dksX4_run_2 7 rfl rfl)
theorem dX4_run_54 : decode cX4_run 54 = .ok (.iconst 1, 1) := dk_4 (dk_at dksX4_run_2 8 rfl rfl)
theorem dX4_run_55 : decode cX4_run 55 = .ok (.putfield 57, 3) := dk_181 0 57 (dk_at dksX4_run_2 9 rfl rfl)
theorem dX4_run_58 : decode cX4_run 58 = .ok (.iconst 0, 1) := dk_3 (dk_at dksX4_run_2 12 rfl rfl)
theorem dX4_run_59 : decode cX4_run 59 = .ok (.istore_n 2, 1) := dk_61 (dk_at dksX4_run_2 13 rfl rfl)
theorem dX4_run_60 : decode cX4_run 60 = .ok (.iconst 0, 1) := dk_3 (dk_at dksX4_run_2 14 rfl rfl)
theorem dX4_run_61 : decode cX4_run 61 = .ok (.istore_n 3, 1) := dk_62 (dk_at dksX4_run_2 15 rfl rfl)
theorem dX4_run_62 : decode cX4_run 62 = .ok (.iload_n 2, 1) := dk_28 (dk_at dksX4_run_2 16 rfl rfl)
theorem dX4_run_63 : decode cX4_run 63 = .ok (.aload_n 0, 1) := dk_42 (dk_at dksX4_run_2 17 rfl rfl)
theorem dX4_run_64 : decode cX4_run 64 = .ok (.getfield 163, 3) := dk_180 0 163 (dk_at dksX4_run_2 18 rfl rfl)
theorem dX4_run_67 : decode cX4_run 67 = .ok (.if_icmp .ge 31, 3) := dk_162 0 31 (dk_at dksX4_run_2 21 rfl rfl)
theorem dX4_run_70 : decode cX4_run 70 = .ok (.aload_n 0, 1) := dk_42 (dk_at dksX4_run_3 0 rfl rfl)
theorem dX4_run_71 : decode cX4_run 71 = .ok (.getfield 54, 3) := dk_180 0 54 (dk_at dksX4_run_3 1 rfl rfl)
theorem dX4_run_74 : decode cX4_run 74 = .ok (.ifCond .ne 24, 3) := dk_154 0 24 (dk_at dksX4_run_3 4 rfl rfl)
theorem dX4_run_77 : decode cX4_run 77 = .ok (.aload_n 0, 1) := dk_42 (dk_at dksX4_run_3 7 rfl rfl)
theorem dX4_run_78 : decode cX4_run 78 = .ok (.iconst 4, 1) := dk_7 (dk_at dksX4_run_3 8 rfl rfl)
theorem dX4_run_79 : decode cX4_run 79 = .ok (.iload_n 2, 1) := dk_28 (dk_at dksX4_run_3 9 rfl rfl)
theorem dX4_run_80 : decode cX4_run 80 = .ok (.imul, 1) := dk_104 (dk_at dksX4_run_3 10 rfl rfl)
theorem dX4_run_81 : decode cX4_run 81 = .ok (.invokevirtual 251, 3) := dk_182 0 251 (dk_at dksX4_run_3 11 rfl rfl)
theorem dX4_run_84 : decode cX4_run 84 = .ok (.istore_n 3, 1) := dk_62 (dk_at dksX4_run_3 14 rfl rfl)
theorem dX4_run_85 : decode cX4_run 85 = .ok (.aload_n 0, 1) := dk_42 (dk_at dksX4_run_3 15 rfl rfl)
theorem dX4_run_86 : decode cX4_run 86 = .ok (.getfield 54, 3) := dk_180 0 54 (dk_at dksX4_run_3 16 rfl rfl)
theorem dX4_run_89 : decode cX4_run 89 = .ok (.ifCond .ne (-27), 3) := dk_154 255 229 (dk_at dksX4_run_3 19 rfl rfl)
theorem dX4_run_92 : decode cX4_run 92 = .ok (.iinc 2 1, 3) := dk_132 2 1 (dk_at dksX4_run_4 0 rfl rfl)
theorem dX4_run_95 : decode cX4_run 95 = .ok (.goto (-33), 3) := dk_167 255 223 (dk_at dksX4_run_4 3 rfl rfl)
theorem dX4_run_98 : decode cX4_run 98 = .ok (.aload_n 0, 1) := dk_42 (dk_at dksX4_run_4 6 rfl rfl)
theorem dX4_run_99 : decode cX4_run 99 = .ok (.iconst 0, 1) := dk_3 (dk_at dksX4_run_4 7 rfl rfl)
theorem dX4_run_100 : decode cX4_run 100 = .ok (.putfield 57, 3) := dk_181 0 57 (dk_at dksX4_run_4 8 rfl rfl)
theorem dX4_run_103 : decode cX4_run 103 = .ok (.aload_n 0, 1) := dk_42 (dk_at dksX4_run_4 11 rfl rfl)
theorem dX4_run_104 : decode cX4_run 104 = .ok (.getfield 54, 3) := dk_180 0 54 (dk_at dksX4_run_4 12 rfl rfl)
theorem dX4_run_107 : decode cX4_run 107 = .ok (.ifCond .le 36, 3) := dk_158 0 36 (dk_at dksX4_run_4 15 rfl rfl)
theorem dX4_run_110 : decode cX4_run 110 = .ok (.aload_n 0, 1) := dk_42 (dk_at dksX4_run_4 18 rfl rfl)
theorem dX4_run_111 : decode cX4_run 111 = .ok (.getfield 19, 3) := dk_180 0 19 (dk_at dksX4_run_4 19 rfl rfl)
theorem dX4_run_114 : decode cX4_run 114 = .ok (.iconst 0, 1) := dk_3 (dk_at dksX4_run_4 22 rfl rfl)
theorem dX4_run_115 : decode cX4_run 115 = .ok (.aload_n 0, 1) := dk_42 (dk_at dksX4_run_4 23 rfl rfl)
theorem dX4_run_116 : decode cX4_run 116 = .ok (.getfield 7, 3) := dk_180 0 7 (dk_at dksX4_run_5 0 rfl rfl)
theorem dX4_run_119 : decode cX4_run 119 = .ok (.iconst 0, 1) := dk_3 (dk_at dksX4_run_5 3 rfl rfl)
theorem dX4_run_120 : decode cX4_run 120 = .ok (.invokestatic 64, 3) := dk_184 0 64 (dk_at dksX4_run_5 4 rfl rfl)
theorem dX4_run_123 : decode cX4_run 123 = .ok (.aload_n 0, 1) := dk_42 (dk_at dksX4_run_5 7 rfl rfl)
theorem dX4_run_124 : decode cX4_run 124 = .ok (.iload_n 2, 1) := dk_28 (dk_at dksX4_run_5 8 rfl rfl)
theorem dX4_run_125 : decode cX4_run 125 = .ok (.putfield 32, 3) := dk_181 0 32 (dk_at dksX4_run_5 9 rfl rfl)
theorem dX4_run_128 : decode cX4_run 128 = .ok (.aload_n 0, 1) := dk_42 (dk_at dksX4_run_5 12 rfl rfl)
theorem dX4_run_129 : decode cX4_run 129 = .ok (.iconst 2, 1) := dk_5 (dk_at dksX4_run_5 13 rfl rfl)
theorem dX4_run_130 : decode cX4_run 130 = .ok (.putfield 54, 3) := dk_181 0 54 (dk_at dksX4_run_5 14 rfl rfl)
theorem dX4_run_133 : decode cX4_run 133 = .ok (.iload_n 3, 1) := dk_29 (dk_at dksX4_run_5 17 rfl rfl)
theorem dX4_run_134 : decode cX4_run 134 = .ok (.ifCond .le 7, 3) := dk_158 0 7 (dk_at dksX4_run_5 18 rfl rfl)
theorem dX4_run_137 : decode cX4_run 137 = .ok (.iconst 0, 1) := dk_3 (dk_at dksX4_run_5 21 rfl rfl)
theorem dX4_run_138 : decode cX4_run 138 = .ok (.goto 4, 3) := dk_167 0 4 (dk_at dksX4_run_6 0 rfl rfl)
theorem dX4_run_141 : decode cX4_run 141 = .ok (.iload_n 3, 1) := dk_29 (dk_at dksX4_run_6 3 rfl rfl)
theorem dX4_run_142 : decode cX4_run 142 = .ok (.ireturn, 1) := dk_172 (dk_at dksX4_run_6 4 rfl rfl)
theorem dX4_run_143 : decode cX4_run 143 = .ok (.aload_n 0, 1) := dk_42 (dk_at dksX4_run_6 5 rfl rfl)
theorem dX4_run_144 : decode cX4_run 144 = .ok (.aload_n 0, 1) := dk_42 (dk_at dksX4_run_6 6 rfl rfl)
theorem dX4_run_145 : decode cX4_run 145 = .ok (.getfield 19, 3) := dk_180 0 19 (dk_at dksX4_run_6 7 rfl rfl)
theorem dX4_run_148 : decode cX4_run 148 = .ok (.invokevirtual 90, 3) := dk_182 0 90 (dk_at dksX4_run_6 10 rfl rfl)
theorem dX4_run_151 : decode cX4_run 151 = .ok (.aload_n 0, 1) := dk_42 (dk_at dksX4_run_6 13 rfl rfl)
theorem dX4_run_152 : decode cX4_run 152 = .ok (.getfield 163, 3) := dk_180 0 163 (dk_at dksX4_run_6 14 rfl rfl)
theorem dX4_run_155 : decode cX4_run 155 = .ok (.ireturn, 1) := dk_172 (dk_at dksX4_run_6 17 rfl rfl)
abbrev cX4_isProgram : ByteArray := prog_19_method_78_code
def yX4_isProgram : MethodName := ⟨RX4, "isProgram", "()Z"⟩
def dkwX4_isProgram_2 : List UInt8 := [160, 0, 7, 4, 167, 0, 4, 3, 172]
abbrev dktX4_isProgram_2 : List UInt8 := dkwX4_isProgram_2 ++ []
def dkwX4_isProgram_1 : List UInt8 := [4, 96, 181, 0, 163, 42, 16, 59, 182, 0, 174, 154, 255, 231, 42, 180, 0, 157, 42, 180, 0, 154]
abbrev dktX4_isProgram_1 : List UInt8 := dkwX4_isProgram_1 ++ dktX4_isProgram_2
def dkwX4_isProgram_0 : List UInt8 := [42, 3, 181, 0, 157, 42, 3, 181, 0, 163, 42, 182, 0, 213, 154, 0, 5, 3, 172, 42, 89, 180, 0, 163]
abbrev dktX4_isProgram_0 : List UInt8 := dkwX4_isProgram_0 ++ dktX4_isProgram_1
theorem dksX4_isProgram_0 : cX4_isProgram.data.toList.drop 0 = dktX4_isProgram_0 := by decide +kernel
theorem dksX4_isProgram_1 : cX4_isProgram.data.toList.drop 24 = dktX4_isProgram_1 := dk_seg dksX4_isProgram_0 24 rfl rfl
theorem dksX4_isProgram_2 : cX4_isProgram.data.toList.drop 46 = dktX4_isProgram_2 := dk_seg dksX4_isProgram_1 22 rfl rfl
theorem dX4_isProgram_0 : decode cX4_isProgram 0 = .ok (.aload_n 0, 1) := dk_42 (dk_at dksX4_isProgram_0 0 rfl rfl)
theorem dX4_isProgram_1 : decode cX4_isProgram 1 = .ok (.iconst 0, 1) := dk_3 (dk_at dksX4_isProgram_0 1 rfl rfl)
theorem dX4_isProgram_2 : decode cX4_isProgram 2 = .ok (.putfield 157, 3) := dk_181 0 157 (dk_at dksX4_isProgram_0 2 rfl rfl)
theorem dX4_isProgram_5 : decode cX4_isProgram 5 = .ok (.aload_n 0, 1) := dk_42 (dk_at dksX4_isProgram_0 5 rfl rfl)
theorem dX4_isProgram_6 : decode cX4_isProgram 6 = .ok (.iconst 0, 1) := dk_3 (dk_at dksX4_isProgram_0 6 rfl rfl)
theorem dX4_isProgram_7 : decode cX4_isProgram 7 = .ok (.putfield 163, 3) := dk_181 0 163 (dk_at dksX4_isProgram_0 7 rfl rfl)
theorem dX4_isProgram_10 : decode cX4_isProgram 10 = .ok (.aload_n 0, 1) := dk_42 (dk_at dksX4_isProgram_0 10 rfl rfl)
theorem dX4_isProgram_11 : decode cX4_isProgram 11 = .ok (.invokevirtual 213, 3) := dk_182 0 213 (dk_at dksX4_isProgram_0 11 rfl rfl)
theorem dX4_isProgram_14 : decode cX4_isProgram 14 = .ok (.ifCond .ne 5, 3) := dk_154 0 5 (dk_at dksX4_isProgram_0 14 rfl rfl)
theorem dX4_isProgram_17 : decode cX4_isProgram 17 = .ok (.iconst 0, 1) := dk_3 (dk_at dksX4_isProgram_0 17 rfl rfl)
theorem dX4_isProgram_18 : decode cX4_isProgram 18 = .ok (.ireturn, 1) := dk_172 (dk_at dksX4_isProgram_0 18 rfl rfl)
theorem dX4_isProgram_19 : decode cX4_isProgram 19 = .ok (.aload_n 0, 1) := dk_42 (dk_at dksX4_isProgram_0 19 rfl rfl)
theorem dX4_isProgram_20 : decode cX4_isProgram 20 = .ok (.dup, 1) := dk_89 (dk_at dksX4_isProgram_0 20 rfl rfl)
theorem dX4_isProgram_21 : decode cX4_isProgram 21 = .ok (.getfield 163, 3) := dk_180 0 163 (dk_at dksX4_isProgram_0 21 rfl rfl)
theorem dX4_isProgram_24 : decode cX4_isProgram 24 = .ok (.iconst 1, 1) := dk_4 (dk_at dksX4_isProgram_1 0 rfl rfl)
theorem dX4_isProgram_25 : decode cX4_isProgram 25 = .ok (.iadd, 1) := dk_96 (dk_at dksX4_isProgram_1 1 rfl rfl)
theorem dX4_isProgram_26 : decode cX4_isProgram 26 = .ok (.putfield 163, 3) := dk_181 0 163 (dk_at dksX4_isProgram_1 2 rfl rfl)
theorem dX4_isProgram_29 : decode cX4_isProgram 29 = .ok (.aload_n 0, 1) := dk_42 (dk_at dksX4_isProgram_1 5 rfl rfl)
theorem dX4_isProgram_30 : decode cX4_isProgram 30 = .ok (.bipush 59, 2) := dk_16 59 (dk_at dksX4_isProgram_1 6 rfl rfl)
theorem dX4_isProgram_32 : decode cX4_isProgram 32 = .ok (.invokevirtual 174, 3) := dk_182 0 174 (dk_at dksX4_isProgram_1 8 rfl rfl)
theorem dX4_isProgram_35 : decode cX4_isProgram 35 = .ok (.ifCond .ne (-25), 3) := dk_154 255 231 (dk_at dksX4_isProgram_1 11 rfl rfl)
theorem dX4_isProgram_38 : decode cX4_isProgram 38 = .ok (.aload_n 0, 1) := dk_42 (dk_at dksX4_isProgram_1 14 rfl rfl)
theorem dX4_isProgram_39 : decode cX4_isProgram 39 = .ok (.getfield 157, 3) := dk_180 0 157 (dk_at dksX4_isProgram_1 15 rfl rfl)
theorem dX4_isProgram_42 : decode cX4_isProgram 42 = .ok (.aload_n 0, 1) := dk_42 (dk_at dksX4_isProgram_1 18 rfl rfl)
theorem dX4_isProgram_43 : decode cX4_isProgram 43 = .ok (.getfield 154, 3) := dk_180 0 154 (dk_at dksX4_isProgram_1 19 rfl rfl)
theorem dX4_isProgram_46 : decode cX4_isProgram 46 = .ok (.if_icmp .ne 7, 3) := dk_160 0 7 (dk_at dksX4_isProgram_2 0 rfl rfl)
theorem dX4_isProgram_49 : decode cX4_isProgram 49 = .ok (.iconst 1, 1) := dk_4 (dk_at dksX4_isProgram_2 3 rfl rfl)
theorem dX4_isProgram_50 : decode cX4_isProgram 50 = .ok (.goto 4, 3) := dk_167 0 4 (dk_at dksX4_isProgram_2 4 rfl rfl)
theorem dX4_isProgram_53 : decode cX4_isProgram 53 = .ok (.iconst 0, 1) := dk_3 (dk_at dksX4_isProgram_2 7 rfl rfl)
theorem dX4_isProgram_54 : decode cX4_isProgram 54 = .ok (.ireturn, 1) := dk_172 (dk_at dksX4_isProgram_2 8 rfl rfl)
abbrev cX4_commandHere : ByteArray := prog_19_method_77_code
def yX4_commandHere : MethodName := ⟨RX4, "commandHere", "()Z"⟩
def dkwX4_commandHere_10 : List UInt8 := [153, 0, 7, 4, 167, 0, 4, 3, 172]
abbrev dktX4_commandHere_10 : List UInt8 := dkwX4_commandHere_10 ++ []
def dkwX4_commandHere_9 : List UInt8 := [18, 211, 182, 0, 185, 153, 0, 26, 42, 27, 182, 0, 202, 153, 0, 18, 42, 27, 5, 96, 6, 182, 0, 180]
abbrev dktX4_commandHere_9 : List UInt8 := dkwX4_commandHere_9 ++ dktX4_commandHere_10
def dkwX4_commandHere_8 : List UInt8 := [182, 0, 185, 153, 0, 15, 42, 27, 182, 0, 202, 153, 0, 7, 4, 167, 0, 41, 3, 167, 0, 37, 42, 6]
abbrev dktX4_commandHere_8 : List UInt8 := dkwX4_commandHere_8 ++ dktX4_commandHere_9
def dkwX4_commandHere_7 : List UInt8 := [42, 16, 97, 182, 0, 174, 154, 0, 5, 3, 172, 42, 16, 105, 182, 0, 174, 153, 0, 29, 42, 7, 18, 209]
abbrev dktX4_commandHere_7 : List UInt8 := dkwX4_commandHere_7 ++ dktX4_commandHere_8
def dkwX4_commandHere_6 : List UInt8 := [42, 27, 4, 182, 0, 180, 153, 0, 7, 4, 167, 0, 4, 3, 172, 42, 16, 112, 182, 0, 174, 153, 0, 12]
abbrev dktX4_commandHere_6 : List UInt8 := dkwX4_commandHere_6 ++ dktX4_commandHere_7
def dkwX4_commandHere_5 : List UInt8 := [182, 0, 185, 172, 42, 16, 100, 182, 0, 174, 153, 0, 29, 42, 16, 7, 18, 207, 182, 0, 185, 153, 0, 16]
abbrev dktX4_commandHere_5 : List UInt8 := dkwX4_commandHere_5 ++ dktX4_commandHere_6
def dkwX4_commandHere_4 : List UInt8 := [153, 0, 7, 4, 167, 0, 4, 3, 172, 42, 16, 97, 182, 0, 174, 153, 0, 12, 42, 16, 6, 18, 205]
abbrev dktX4_commandHere_4 : List UInt8 := dkwX4_commandHere_4 ++ dktX4_commandHere_5
def dkwX4_commandHere_3 : List UInt8 := [18, 200, 182, 0, 185, 153, 0, 26, 42, 27, 182, 0, 202, 153, 0, 18, 42, 27, 5, 96, 6, 182, 0, 180]
abbrev dktX4_commandHere_3 : List UInt8 := dkwX4_commandHere_3 ++ dktX4_commandHere_4
def dkwX4_commandHere_2 : List UInt8 := [182, 0, 174, 153, 0, 9, 42, 27, 182, 0, 197, 172, 42, 16, 111, 182, 0, 174, 153, 0, 38, 42, 5]
abbrev dktX4_commandHere_2 : List UInt8 := dkwX4_commandHere_2 ++ dktX4_commandHere_3
def dkwX4_commandHere_1 : List UInt8 := [182, 0, 185, 153, 0, 16, 42, 27, 6, 182, 0, 180, 153, 0, 7, 4, 167, 0, 4, 3, 172, 42, 16, 99]
abbrev dktX4_commandHere_1 : List UInt8 := dkwX4_commandHere_1 ++ dktX4_commandHere_2
def dkwX4_commandHere_0 : List UInt8 := [7, 42, 180, 0, 163, 104, 4, 96, 60, 42, 16, 106, 182, 0, 174, 153, 0, 28, 42, 3, 18, 195]
abbrev dktX4_commandHere_0 : List UInt8 := dkwX4_commandHere_0 ++ dktX4_commandHere_1
theorem dksX4_commandHere_0 : cX4_commandHere.data.toList.drop 0 = dktX4_commandHere_0 := by decide +kernel
theorem dksX4_commandHere_1 : cX4_commandHere.data.toList.drop 22 = dktX4_commandHere_1 := dk_seg dksX4_commandHere_0 22 rfl rfl
theorem dksX4_commandHere_2 : cX4_commandHere.data.toList.drop 46 = dktX4_commandHere_2 := dk_seg dksX4_commandHere_1 24 rfl rfl
theorem dksX4_commandHere_3 : cX4_commandHere.data.toList.drop 69 = dktX4_commandHere_3 := dk_seg dksX4_commandHere_2 23 rfl rfl
theorem dksX4_commandHere_4 : cX4_commandHere.data.toList.drop 93 = dktX4_commandHere_4 := dk_seg dksX4_commandHere_3 24 rfl rfl
theorem dksX4_commandHere_5 : cX4_commandHere.data.toList.drop 116 = dktX4_commandHere_5 := dk_seg dksX4_commandHere_4 23 rfl rfl
theorem dksX4_commandHere_6 : cX4_commandHere.data.toList.drop 140 = dktX4_commandHere_6 := dk_seg dksX4_commandHere_5 24 rfl rfl
theorem dksX4_commandHere_7 : cX4_commandHere.data.toList.drop 164 = dktX4_commandHere_7 := dk_seg dksX4_commandHere_6 24 rfl rfl
theorem dksX4_commandHere_8 : cX4_commandHere.data.toList.drop 188 = dktX4_commandHere_8 := dk_seg dksX4_commandHere_7 24 rfl rfl
theorem dksX4_commandHere_9 : cX4_commandHere.data.toList.drop 212 = dktX4_commandHere_9 := dk_seg dksX4_commandHere_8 24 rfl rfl
theorem dksX4_commandHere_10 : cX4_commandHere.data.toList.drop 236 = dktX4_commandHere_10 := dk_seg dksX4_commandHere_9 24 rfl rfl
theorem dX4_commandHere_0 : decode cX4_commandHere 0 = .ok (.iconst 4, 1) := dk_7 (dk_at dksX4_commandHere_0 0 rfl rfl)
theorem dX4_commandHere_1 : decode cX4_commandHere 1 = .ok (.aload_n 0, 1) := dk_42 (dk_at dksX4_commandHere_0 1 rfl rfl)
theorem dX4_commandHere_2 : decode cX4_commandHere 2 = .ok (.getfield 163, 3) := dk_180 0 163 (dk_at dksX4_commandHere_0 2 rfl rfl)
theorem dX4_commandHere_5 : decode cX4_commandHere 5 = .ok (.imul, 1) := dk_104 (dk_at dksX4_commandHere_0 5 rfl rfl)
theorem dX4_commandHere_6 : decode cX4_commandHere 6 = .ok (.iconst 1, 1) := dk_4 (dk_at dksX4_commandHere_0 6 rfl rfl)
theorem dX4_commandHere_7 : decode cX4_commandHere 7 = .ok (.iadd, 1) := dk_96 (dk_at dksX4_commandHere_0 7 rfl rfl)
theorem dX4_commandHere_8 : decode cX4_commandHere 8 = .ok (.istore_n 1, 1) := dk_60 (dk_at dksX4_commandHere_0 8 rfl rfl)
theorem dX4_commandHere_9 : decode cX4_commandHere 9 = .ok (.aload_n 0, 1) := dk_42 (dk_at dksX4_commandHere_0 9 rfl rfl)
theorem dX4_commandHere_10 : decode cX4_commandHere 10 = .ok (.bipush 106, 2) := dk_16 106 (dk_at dksX4_commandHere_0 10 rfl rfl)
theorem dX4_commandHere_12 : decode cX4_commandHere 12 = .ok (.invokevirtual 174, 3) := dk_182 0 174 (dk_at dksX4_commandHere_0 12 rfl rfl)
theorem dX4_commandHere_15 : decode cX4_commandHere 15 = .ok (.ifCond .eq 28, 3) := dk_153 0 28 (dk_at dksX4_commandHere_0 15 rfl rfl)
theorem dX4_commandHere_18 : decode cX4_commandHere 18 = .ok (.aload_n 0, 1) := dk_42 (dk_at dksX4_commandHere_0 18 rfl rfl)
theorem dX4_commandHere_19 : decode cX4_commandHere 19 = .ok (.iconst 0, 1) := dk_3 (dk_at dksX4_commandHere_0 19 rfl rfl)
theorem dX4_commandHere_20 : decode cX4_commandHere 20 = .ok (.ldc 195, 2) := dk_18 195 (dk_at dksX4_commandHere_0 20 rfl rfl)
theorem dX4_commandHere_22 : decode cX4_commandHere 22 = .ok (.invokevirtual 185, 3) := dk_182 0 185 (dk_at dksX4_commandHere_1 0 rfl rfl)
theorem dX4_commandHere_25 : decode cX4_commandHere 25 = .ok (.ifCond .eq 16, 3) := dk_153 0 16 (dk_at dksX4_commandHere_1 3 rfl rfl)
theorem dX4_commandHere_28 : decode cX4_commandHere 28 = .ok (.aload_n 0, 1) := dk_42 (dk_at dksX4_commandHere_1 6 rfl rfl)
theorem dX4_commandHere_29 : decode cX4_commandHere 29 = .ok (.iload_n 1, 1) := dk_27 (dk_at dksX4_commandHere_1 7 rfl rfl)
theorem dX4_commandHere_30 : decode cX4_commandHere 30 = .ok (.iconst 3, 1) := dk_6 (dk_at dksX4_commandHere_1 8 rfl rfl)
theorem dX4_commandHere_31 : decode cX4_commandHere 31 = .ok (.invokevirtual 180, 3) := dk_182 0 180 (dk_at dksX4_commandHere_1 9 rfl rfl)
theorem dX4_commandHere_34 : decode cX4_commandHere 34 = .ok (.ifCond .eq 7, 3) := dk_153 0 7 (dk_at dksX4_commandHere_1 12 rfl rfl)
theorem dX4_commandHere_37 : decode cX4_commandHere 37 = .ok (.iconst 1, 1) := dk_4 (dk_at dksX4_commandHere_1 15 rfl rfl)
theorem dX4_commandHere_38 : decode cX4_commandHere 38 = .ok (.goto 4, 3) := dk_167 0 4 (dk_at dksX4_commandHere_1 16 rfl rfl)
theorem dX4_commandHere_41 : decode cX4_commandHere 41 = .ok (.iconst 0, 1) := dk_3 (dk_at dksX4_commandHere_1 19 rfl rfl)
theorem dX4_commandHere_42 : decode cX4_commandHere 42 = .ok (.ireturn, 1) := dk_172 (dk_at dksX4_commandHere_1 20 rfl rfl)
theorem dX4_commandHere_43 : decode cX4_commandHere 43 = .ok (.aload_n 0, 1) := dk_42 (dk_at dksX4_commandHere_1 21 rfl rfl)
theorem dX4_commandHere_44 : decode cX4_commandHere 44 = .ok (.bipush 99, 2) := dk_16 99 (dk_at dksX4_commandHere_1 22 rfl rfl)
theorem dX4_commandHere_46 : decode cX4_commandHere 46 = .ok (.invokevirtual 174, 3) := dk_182 0 174 (dk_at dksX4_commandHere_2 0 rfl rfl)
theorem dX4_commandHere_49 : decode cX4_commandHere 49 = .ok (.ifCond .eq 9, 3) := dk_153 0 9 (dk_at dksX4_commandHere_2 3 rfl rfl)
theorem dX4_commandHere_52 : decode cX4_commandHere 52 = .ok (.aload_n 0, 1) := dk_42 (dk_at dksX4_commandHere_2 6 rfl rfl)
theorem dX4_commandHere_53 : decode cX4_commandHere 53 = .ok (.iload_n 1, 1) := dk_27 (dk_at dksX4_commandHere_2 7 rfl rfl)
theorem dX4_commandHere_54 : decode cX4_commandHere 54 = .ok (.invokevirtual 197, 3) := dk_182 0 197 (dk_at dksX4_commandHere_2 8 rfl rfl)
theorem dX4_commandHere_57 : decode cX4_commandHere 57 = .ok (.ireturn, 1) := dk_172 (dk_at dksX4_commandHere_2 11 rfl rfl)
theorem dX4_commandHere_58 : decode cX4_commandHere 58 = .ok (.aload_n 0, 1) := dk_42 (dk_at dksX4_commandHere_2 12 rfl rfl)
theorem dX4_commandHere_59 : decode cX4_commandHere 59 = .ok (.bipush 111, 2) := dk_16 111 (dk_at dksX4_commandHere_2 13 rfl rfl)
theorem dX4_commandHere_61 : decode cX4_commandHere 61 = .ok (.invokevirtual 174, 3) := dk_182 0 174 (dk_at dksX4_commandHere_2 15 rfl rfl)
theorem dX4_commandHere_64 : decode cX4_commandHere 64 = .ok (.ifCond .eq 38, 3) := dk_153 0 38 (dk_at dksX4_commandHere_2 18 rfl rfl)
theorem dX4_commandHere_67 : decode cX4_commandHere 67 = .ok (.aload_n 0, 1) := dk_42 (dk_at dksX4_commandHere_2 21 rfl rfl)
theorem dX4_commandHere_68 : decode cX4_commandHere 68 = .ok (.iconst 2, 1) := dk_5 (dk_at dksX4_commandHere_2 22 rfl rfl)
theorem dX4_commandHere_69 : decode cX4_commandHere 69 = .ok (.ldc 200, 2) := dk_18 200 (dk_at dksX4_commandHere_3 0 rfl rfl)
theorem dX4_commandHere_71 : decode cX4_commandHere 71 = .ok (.invokevirtual 185, 3) := dk_182 0 185 (dk_at dksX4_commandHere_3 2 rfl rfl)
theorem dX4_commandHere_74 : decode cX4_commandHere 74 = .ok (.ifCond .eq 26, 3) := dk_153 0 26 (dk_at dksX4_commandHere_3 5 rfl rfl)
theorem dX4_commandHere_77 : decode cX4_commandHere 77 = .ok (.aload_n 0, 1) := dk_42 (dk_at dksX4_commandHere_3 8 rfl rfl)
theorem dX4_commandHere_78 : decode cX4_commandHere 78 = .ok (.iload_n 1, 1) := dk_27 (dk_at dksX4_commandHere_3 9 rfl rfl)
theorem dX4_commandHere_79 : decode cX4_commandHere 79 = .ok (.invokevirtual 202, 3) := dk_182 0 202 (dk_at dksX4_commandHere_3 10 rfl rfl)
theorem dX4_commandHere_82 : decode cX4_commandHere 82 = .ok (.ifCond .eq 18, 3) := dk_153 0 18 (dk_at dksX4_commandHere_3 13 rfl rfl)
theorem dX4_commandHere_85 : decode cX4_commandHere 85 = .ok (.aload_n 0, 1) := dk_42 (dk_at dksX4_commandHere_3 16 rfl rfl)
theorem dX4_commandHere_86 : decode cX4_commandHere 86 = .ok (.iload_n 1, 1) := dk_27 (dk_at dksX4_commandHere_3 17 rfl rfl)
theorem dX4_commandHere_87 : decode cX4_commandHere 87 = .ok (.iconst 2, 1) := dk_5 (dk_at dksX4_commandHere_3 18 rfl rfl)
theorem dX4_commandHere_88 : decode cX4_commandHere 88 = .ok (.iadd, 1) := dk_96 (dk_at dksX4_commandHere_3 19 rfl rfl)
theorem dX4_commandHere_89 : decode cX4_commandHere 89 = .ok (.iconst 3, 1) := dk_6 (dk_at dksX4_commandHere_3 20 rfl rfl)
theorem dX4_commandHere_90 : decode cX4_commandHere 90 = .ok (.invokevirtual 180, 3) := dk_182 0 180 (dk_at dksX4_commandHere_3 21 rfl rfl)
theorem dX4_commandHere_93 : decode cX4_commandHere 93 = .ok (.ifCond .eq 7, 3) := dk_153 0 7 (dk_at dksX4_commandHere_4 0 rfl rfl)
theorem dX4_commandHere_96 : decode cX4_commandHere 96 = .ok (.iconst 1, 1) := dk_4 (dk_at dksX4_commandHere_4 3 rfl rfl)
theorem dX4_commandHere_97 : decode cX4_commandHere 97 = .ok (.goto 4, 3) := dk_167 0 4 (dk_at dksX4_commandHere_4 4 rfl rfl)
theorem dX4_commandHere_100 : decode cX4_commandHere 100 = .ok (.iconst 0, 1) := dk_3 (dk_at dksX4_commandHere_4 7 rfl rfl)
theorem dX4_commandHere_101 : decode cX4_commandHere 101 = .ok (.ireturn, 1) := dk_172 (dk_at dksX4_commandHere_4 8 rfl rfl)
theorem dX4_commandHere_102 : decode cX4_commandHere 102 = .ok (.aload_n 0, 1) := dk_42 (dk_at dksX4_commandHere_4 9 rfl rfl)
theorem dX4_commandHere_103 : decode cX4_commandHere 103 = .ok (.bipush 97, 2) := dk_16 97 (dk_at dksX4_commandHere_4 10 rfl rfl)
theorem dX4_commandHere_105 : decode cX4_commandHere 105 = .ok (.invokevirtual 174, 3) := dk_182 0 174 (dk_at dksX4_commandHere_4 12 rfl rfl)
theorem dX4_commandHere_108 : decode cX4_commandHere 108 = .ok (.ifCond .eq 12, 3) := dk_153 0 12 (dk_at dksX4_commandHere_4 15 rfl rfl)
theorem dX4_commandHere_111 : decode cX4_commandHere 111 = .ok (.aload_n 0, 1) := dk_42 (dk_at dksX4_commandHere_4 18 rfl rfl)
theorem dX4_commandHere_112 : decode cX4_commandHere 112 = .ok (.bipush 6, 2) := dk_16 6 (dk_at dksX4_commandHere_4 19 rfl rfl)
theorem dX4_commandHere_114 : decode cX4_commandHere 114 = .ok (.ldc 205, 2) := dk_18 205 (dk_at dksX4_commandHere_4 21 rfl rfl)
theorem dX4_commandHere_116 : decode cX4_commandHere 116 = .ok (.invokevirtual 185, 3) := dk_182 0 185 (dk_at dksX4_commandHere_5 0 rfl rfl)
theorem dX4_commandHere_119 : decode cX4_commandHere 119 = .ok (.ireturn, 1) := dk_172 (dk_at dksX4_commandHere_5 3 rfl rfl)
theorem dX4_commandHere_120 : decode cX4_commandHere 120 = .ok (.aload_n 0, 1) := dk_42 (dk_at dksX4_commandHere_5 4 rfl rfl)
theorem dX4_commandHere_121 : decode cX4_commandHere 121 = .ok (.bipush 100, 2) := dk_16 100 (dk_at dksX4_commandHere_5 5 rfl rfl)
theorem dX4_commandHere_123 : decode cX4_commandHere 123 = .ok (.invokevirtual 174, 3) := dk_182 0 174 (dk_at dksX4_commandHere_5 7 rfl rfl)
theorem dX4_commandHere_126 : decode cX4_commandHere 126 = .ok (.ifCond .eq 29, 3) := dk_153 0 29 (dk_at dksX4_commandHere_5 10 rfl rfl)
theorem dX4_commandHere_129 : decode cX4_commandHere 129 = .ok (.aload_n 0, 1) := dk_42 (dk_at dksX4_commandHere_5 13 rfl rfl)
theorem dX4_commandHere_130 : decode cX4_commandHere 130 = .ok (.bipush 7, 2) := dk_16 7 (dk_at dksX4_commandHere_5 14 rfl rfl)
theorem dX4_commandHere_132 : decode cX4_commandHere 132 = .ok (.ldc 207, 2) := dk_18 207 (dk_at dksX4_commandHere_5 16 rfl rfl)
theorem dX4_commandHere_134 : decode cX4_commandHere 134 = .ok (.invokevirtual 185, 3) := dk_182 0 185 (dk_at dksX4_commandHere_5 18 rfl rfl)
theorem dX4_commandHere_137 : decode cX4_commandHere 137 = .ok (.ifCond .eq 16, 3) := dk_153 0 16 (dk_at dksX4_commandHere_5 21 rfl rfl)
theorem dX4_commandHere_140 : decode cX4_commandHere 140 = .ok (.aload_n 0, 1) := dk_42 (dk_at dksX4_commandHere_6 0 rfl rfl)
theorem dX4_commandHere_141 : decode cX4_commandHere 141 = .ok (.iload_n 1, 1) := dk_27 (dk_at dksX4_commandHere_6 1 rfl rfl)
theorem dX4_commandHere_142 : decode cX4_commandHere 142 = .ok (.iconst 1, 1) := dk_4 (dk_at dksX4_commandHere_6 2 rfl rfl)
theorem dX4_commandHere_143 : decode cX4_commandHere 143 = .ok (.invokevirtual 180, 3) := dk_182 0 180 (dk_at dksX4_commandHere_6 3 rfl rfl)
theorem dX4_commandHere_146 : decode cX4_commandHere 146 = .ok (.ifCond .eq 7, 3) := dk_153 0 7 (dk_at dksX4_commandHere_6 6 rfl rfl)
theorem dX4_commandHere_149 : decode cX4_commandHere 149 = .ok (.iconst 1, 1) := dk_4 (dk_at dksX4_commandHere_6 9 rfl rfl)
theorem dX4_commandHere_150 : decode cX4_commandHere 150 = .ok (.goto 4, 3) := dk_167 0 4 (dk_at dksX4_commandHere_6 10 rfl rfl)
theorem dX4_commandHere_153 : decode cX4_commandHere 153 = .ok (.iconst 0, 1) := dk_3 (dk_at dksX4_commandHere_6 13 rfl rfl)
theorem dX4_commandHere_154 : decode cX4_commandHere 154 = .ok (.ireturn, 1) := dk_172 (dk_at dksX4_commandHere_6 14 rfl rfl)
theorem dX4_commandHere_155 : decode cX4_commandHere 155 = .ok (.aload_n 0, 1) := dk_42 (dk_at dksX4_commandHere_6 15 rfl rfl)
theorem dX4_commandHere_156 : decode cX4_commandHere 156 = .ok (.bipush 112, 2) := dk_16 112 (dk_at dksX4_commandHere_6 16 rfl rfl)
theorem dX4_commandHere_158 : decode cX4_commandHere 158 = .ok (.invokevirtual 174, 3) := dk_182 0 174 (dk_at dksX4_commandHere_6 18 rfl rfl)
theorem dX4_commandHere_161 : decode cX4_commandHere 161 = .ok (.ifCond .eq 12, 3) := dk_153 0 12 (dk_at dksX4_commandHere_6 21 rfl rfl)
theorem dX4_commandHere_164 : decode cX4_commandHere 164 = .ok (.aload_n 0, 1) := dk_42 (dk_at dksX4_commandHere_7 0 rfl rfl)
theorem dX4_commandHere_165 : decode cX4_commandHere 165 = .ok (.bipush 97, 2) := dk_16 97 (dk_at dksX4_commandHere_7 1 rfl rfl)
theorem dX4_commandHere_167 : decode cX4_commandHere 167 = .ok (.invokevirtual 174, 3) := dk_182 0 174 (dk_at dksX4_commandHere_7 3 rfl rfl)
theorem dX4_commandHere_170 : decode cX4_commandHere 170 = .ok (.ifCond .ne 5, 3) := dk_154 0 5 (dk_at dksX4_commandHere_7 6 rfl rfl)
theorem dX4_commandHere_173 : decode cX4_commandHere 173 = .ok (.iconst 0, 1) := dk_3 (dk_at dksX4_commandHere_7 9 rfl rfl)
theorem dX4_commandHere_174 : decode cX4_commandHere 174 = .ok (.ireturn, 1) := dk_172 (dk_at dksX4_commandHere_7 10 rfl rfl)
theorem dX4_commandHere_175 : decode cX4_commandHere 175 = .ok (.aload_n 0, 1) := dk_42 (dk_at dksX4_commandHere_7 11 rfl rfl)
theorem dX4_commandHere_176 : decode cX4_commandHere 176 = .ok (.bipush 105, 2) := dk_16 105 (dk_at dksX4_commandHere_7 12 rfl rfl)
theorem dX4_commandHere_178 : decode cX4_commandHere 178 = .ok (.invokevirtual 174, 3) := dk_182 0 174 (dk_at dksX4_commandHere_7 14 rfl rfl)
theorem dX4_commandHere_181 : decode cX4_commandHere 181 = .ok (.ifCond .eq 29, 3) := dk_153 0 29 (dk_at dksX4_commandHere_7 17 rfl rfl)
theorem dX4_commandHere_184 : decode cX4_commandHere 184 = .ok (.aload_n 0, 1) := dk_42 (dk_at dksX4_commandHere_7 20 rfl rfl)
theorem dX4_commandHere_185 : decode cX4_commandHere 185 = .ok (.iconst 4, 1) := dk_7 (dk_at dksX4_commandHere_7 21 rfl rfl)
theorem dX4_commandHere_186 : decode cX4_commandHere 186 = .ok (.ldc 209, 2) := dk_18 209 (dk_at dksX4_commandHere_7 22 rfl rfl)
theorem dX4_commandHere_188 : decode cX4_commandHere 188 = .ok (.invokevirtual 185, 3) := dk_182 0 185 (dk_at dksX4_commandHere_8 0 rfl rfl)
theorem dX4_commandHere_191 : decode cX4_commandHere 191 = .ok (.ifCond .eq 15, 3) := dk_153 0 15 (dk_at dksX4_commandHere_8 3 rfl rfl)
theorem dX4_commandHere_194 : decode cX4_commandHere 194 = .ok (.aload_n 0, 1) := dk_42 (dk_at dksX4_commandHere_8 6 rfl rfl)
theorem dX4_commandHere_195 : decode cX4_commandHere 195 = .ok (.iload_n 1, 1) := dk_27 (dk_at dksX4_commandHere_8 7 rfl rfl)
theorem dX4_commandHere_196 : decode cX4_commandHere 196 = .ok (.invokevirtual 202, 3) := dk_182 0 202 (dk_at dksX4_commandHere_8 8 rfl rfl)
theorem dX4_commandHere_199 : decode cX4_commandHere 199 = .ok (.ifCond .eq 7, 3) := dk_153 0 7 (dk_at dksX4_commandHere_8 11 rfl rfl)
theorem dX4_commandHere_202 : decode cX4_commandHere 202 = .ok (.iconst 1, 1) := dk_4 (dk_at dksX4_commandHere_8 14 rfl rfl)
theorem dX4_commandHere_203 : decode cX4_commandHere 203 = .ok (.goto 41, 3) := dk_167 0 41 (dk_at dksX4_commandHere_8 15 rfl rfl)
theorem dX4_commandHere_206 : decode cX4_commandHere 206 = .ok (.iconst 0, 1) := dk_3 (dk_at dksX4_commandHere_8 18 rfl rfl)
theorem dX4_commandHere_207 : decode cX4_commandHere 207 = .ok (.goto 37, 3) := dk_167 0 37 (dk_at dksX4_commandHere_8 19 rfl rfl)
theorem dX4_commandHere_210 : decode cX4_commandHere 210 = .ok (.aload_n 0, 1) := dk_42 (dk_at dksX4_commandHere_8 22 rfl rfl)
theorem dX4_commandHere_211 : decode cX4_commandHere 211 = .ok (.iconst 3, 1) := dk_6 (dk_at dksX4_commandHere_8 23 rfl rfl)
theorem dX4_commandHere_212 : decode cX4_commandHere 212 = .ok (.ldc 211, 2) := dk_18 211 (dk_at dksX4_commandHere_9 0 rfl rfl)
theorem dX4_commandHere_214 : decode cX4_commandHere 214 = .ok (.invokevirtual 185, 3) := dk_182 0 185 (dk_at dksX4_commandHere_9 2 rfl rfl)
theorem dX4_commandHere_217 : decode cX4_commandHere 217 = .ok (.ifCond .eq 26, 3) := dk_153 0 26 (dk_at dksX4_commandHere_9 5 rfl rfl)
theorem dX4_commandHere_220 : decode cX4_commandHere 220 = .ok (.aload_n 0, 1) := dk_42 (dk_at dksX4_commandHere_9 8 rfl rfl)
theorem dX4_commandHere_221 : decode cX4_commandHere 221 = .ok (.iload_n 1, 1) := dk_27 (dk_at dksX4_commandHere_9 9 rfl rfl)
theorem dX4_commandHere_222 : decode cX4_commandHere 222 = .ok (.invokevirtual 202, 3) := dk_182 0 202 (dk_at dksX4_commandHere_9 10 rfl rfl)
theorem dX4_commandHere_225 : decode cX4_commandHere 225 = .ok (.ifCond .eq 18, 3) := dk_153 0 18 (dk_at dksX4_commandHere_9 13 rfl rfl)
theorem dX4_commandHere_228 : decode cX4_commandHere 228 = .ok (.aload_n 0, 1) := dk_42 (dk_at dksX4_commandHere_9 16 rfl rfl)
theorem dX4_commandHere_229 : decode cX4_commandHere 229 = .ok (.iload_n 1, 1) := dk_27 (dk_at dksX4_commandHere_9 17 rfl rfl)
theorem dX4_commandHere_230 : decode cX4_commandHere 230 = .ok (.iconst 2, 1) := dk_5 (dk_at dksX4_commandHere_9 18 rfl rfl)
theorem dX4_commandHere_231 : decode cX4_commandHere 231 = .ok (.iadd, 1) := dk_96 (dk_at dksX4_commandHere_9 19 rfl rfl)
theorem dX4_commandHere_232 : decode cX4_commandHere 232 = .ok (.iconst 3, 1) := dk_6 (dk_at dksX4_commandHere_9 20 rfl rfl)
theorem dX4_commandHere_233 : decode cX4_commandHere 233 = .ok (.invokevirtual 180, 3) := dk_182 0 180 (dk_at dksX4_commandHere_9 21 rfl rfl)
theorem dX4_commandHere_236 : decode cX4_commandHere 236 = .ok (.ifCond .eq 7, 3) := dk_153 0 7 (dk_at dksX4_commandHere_10 0 rfl rfl)
theorem dX4_commandHere_239 : decode cX4_commandHere 239 = .ok (.iconst 1, 1) := dk_4 (dk_at dksX4_commandHere_10 3 rfl rfl)
theorem dX4_commandHere_240 : decode cX4_commandHere 240 = .ok (.goto 4, 3) := dk_167 0 4 (dk_at dksX4_commandHere_10 4 rfl rfl)
theorem dX4_commandHere_243 : decode cX4_commandHere 243 = .ok (.iconst 0, 1) := dk_3 (dk_at dksX4_commandHere_10 7 rfl rfl)
theorem dX4_commandHere_244 : decode cX4_commandHere 244 = .ok (.ireturn, 1) := dk_172 (dk_at dksX4_commandHere_10 8 rfl rfl)
abbrev cX4_skips : ByteArray := prog_19_method_71_code
def yX4_skips : MethodName := ⟨RX4, "skips", "(I)Z"⟩
def dkwX4_skips_0 : List UInt8 := [42, 182, 0, 160, 27, 159, 0, 5, 3, 172, 42, 89, 180, 0, 157, 4, 96, 181, 0, 157, 4, 172]
abbrev dktX4_skips_0 : List UInt8 := dkwX4_skips_0 ++ []
theorem dksX4_skips_0 : cX4_skips.data.toList.drop 0 = dktX4_skips_0 := by decide +kernel
theorem dX4_skips_0 : decode cX4_skips 0 = .ok (.aload_n 0, 1) := dk_42 (dk_at dksX4_skips_0 0 rfl rfl)
theorem dX4_skips_1 : decode cX4_skips 1 = .ok (.invokevirtual 160, 3) := dk_182 0 160 (dk_at dksX4_skips_0 1 rfl rfl)
theorem dX4_skips_4 : decode cX4_skips 4 = .ok (.iload_n 1, 1) := dk_27 (dk_at dksX4_skips_0 4 rfl rfl)
theorem dX4_skips_5 : decode cX4_skips 5 = .ok (.if_icmp .eq 5, 3) := dk_159 0 5 (dk_at dksX4_skips_0 5 rfl rfl)
theorem dX4_skips_8 : decode cX4_skips 8 = .ok (.iconst 0, 1) := dk_3 (dk_at dksX4_skips_0 8 rfl rfl)
theorem dX4_skips_9 : decode cX4_skips 9 = .ok (.ireturn, 1) := dk_172 (dk_at dksX4_skips_0 9 rfl rfl)
theorem dX4_skips_10 : decode cX4_skips 10 = .ok (.aload_n 0, 1) := dk_42 (dk_at dksX4_skips_0 10 rfl rfl)
theorem dX4_skips_11 : decode cX4_skips 11 = .ok (.dup, 1) := dk_89 (dk_at dksX4_skips_0 11 rfl rfl)
theorem dX4_skips_12 : decode cX4_skips 12 = .ok (.getfield 157, 3) := dk_180 0 157 (dk_at dksX4_skips_0 12 rfl rfl)
theorem dX4_skips_15 : decode cX4_skips 15 = .ok (.iconst 1, 1) := dk_4 (dk_at dksX4_skips_0 15 rfl rfl)
theorem dX4_skips_16 : decode cX4_skips 16 = .ok (.iadd, 1) := dk_96 (dk_at dksX4_skips_0 16 rfl rfl)
theorem dX4_skips_17 : decode cX4_skips 17 = .ok (.putfield 157, 3) := dk_181 0 157 (dk_at dksX4_skips_0 17 rfl rfl)
theorem dX4_skips_20 : decode cX4_skips 20 = .ok (.iconst 1, 1) := dk_4 (dk_at dksX4_skips_0 20 rfl rfl)
theorem dX4_skips_21 : decode cX4_skips 21 = .ok (.ireturn, 1) := dk_172 (dk_at dksX4_skips_0 21 rfl rfl)
abbrev cX4_here : ByteArray := prog_19_method_70_code
def yX4_here : MethodName := ⟨RX4, "here", "()I"⟩
def dkwX4_here_1 : List UInt8 := [172]
abbrev dktX4_here_1 : List UInt8 := dkwX4_here_1 ++ []
def dkwX4_here_0 : List UInt8 := [42, 180, 0, 157, 42, 180, 0, 154, 162, 0, 15, 42, 180, 0, 25, 42, 180, 0, 157, 46, 167, 0, 4, 2]
abbrev dktX4_here_0 : List UInt8 := dkwX4_here_0 ++ dktX4_here_1
theorem dksX4_here_0 : cX4_here.data.toList.drop 0 = dktX4_here_0 := by decide +kernel
theorem dksX4_here_1 : cX4_here.data.toList.drop 24 = dktX4_here_1 := dk_seg dksX4_here_0 24 rfl rfl
theorem dX4_here_0 : decode cX4_here 0 = .ok (.aload_n 0, 1) := dk_42 (dk_at dksX4_here_0 0 rfl rfl)
theorem dX4_here_1 : decode cX4_here 1 = .ok (.getfield 157, 3) := dk_180 0 157 (dk_at dksX4_here_0 1 rfl rfl)
theorem dX4_here_4 : decode cX4_here 4 = .ok (.aload_n 0, 1) := dk_42 (dk_at dksX4_here_0 4 rfl rfl)
theorem dX4_here_5 : decode cX4_here 5 = .ok (.getfield 154, 3) := dk_180 0 154 (dk_at dksX4_here_0 5 rfl rfl)
theorem dX4_here_8 : decode cX4_here 8 = .ok (.if_icmp .ge 15, 3) := dk_162 0 15 (dk_at dksX4_here_0 8 rfl rfl)
theorem dX4_here_11 : decode cX4_here 11 = .ok (.aload_n 0, 1) := dk_42 (dk_at dksX4_here_0 11 rfl rfl)
theorem dX4_here_12 : decode cX4_here 12 = .ok (.getfield 25, 3) := dk_180 0 25 (dk_at dksX4_here_0 12 rfl rfl)
theorem dX4_here_15 : decode cX4_here 15 = .ok (.aload_n 0, 1) := dk_42 (dk_at dksX4_here_0 15 rfl rfl)
theorem dX4_here_16 : decode cX4_here 16 = .ok (.getfield 157, 3) := dk_180 0 157 (dk_at dksX4_here_0 16 rfl rfl)
theorem dX4_here_19 : decode cX4_here 19 = .ok (.iaload, 1) := dk_46 (dk_at dksX4_here_0 19 rfl rfl)
theorem dX4_here_20 : decode cX4_here 20 = .ok (.goto 4, 3) := dk_167 0 4 (dk_at dksX4_here_0 20 rfl rfl)
theorem dX4_here_23 : decode cX4_here 23 = .ok (.iconst (-1), 1) := dk_2 (dk_at dksX4_here_0 23 rfl rfl)
theorem dX4_here_24 : decode cX4_here 24 = .ok (.ireturn, 1) := dk_172 (dk_at dksX4_here_1 0 rfl rfl)
abbrev cX4_isWord : ByteArray := prog_19_method_72_code
def yX4_isWord : MethodName := ⟨RX4, "isWord", "(ILjava/lang/String;)Z"⟩
def dkwX4_isWord_1 : List UInt8 := [29, 182, 0, 170, 182, 0, 174, 154, 0, 5, 3, 172, 132, 3, 1, 167, 255, 231, 4, 172]
abbrev dktX4_isWord_1 : List UInt8 := dkwX4_isWord_1 ++ []
def dkwX4_isWord_0 : List UInt8 := [42, 180, 0, 51, 7, 42, 180, 0, 163, 104, 27, 79, 3, 62, 29, 44, 182, 0, 166, 162, 0, 23, 42, 44]
abbrev dktX4_isWord_0 : List UInt8 := dkwX4_isWord_0 ++ dktX4_isWord_1
theorem dksX4_isWord_0 : cX4_isWord.data.toList.drop 0 = dktX4_isWord_0 := by decide +kernel
theorem dksX4_isWord_1 : cX4_isWord.data.toList.drop 24 = dktX4_isWord_1 := dk_seg dksX4_isWord_0 24 rfl rfl
theorem dX4_isWord_0 : decode cX4_isWord 0 = .ok (.aload_n 0, 1) := dk_42 (dk_at dksX4_isWord_0 0 rfl rfl)
theorem dX4_isWord_1 : decode cX4_isWord 1 = .ok (.getfield 51, 3) := dk_180 0 51 (dk_at dksX4_isWord_0 1 rfl rfl)
theorem dX4_isWord_4 : decode cX4_isWord 4 = .ok (.iconst 4, 1) := dk_7 (dk_at dksX4_isWord_0 4 rfl rfl)
theorem dX4_isWord_5 : decode cX4_isWord 5 = .ok (.aload_n 0, 1) := dk_42 (dk_at dksX4_isWord_0 5 rfl rfl)
theorem dX4_isWord_6 : decode cX4_isWord 6 = .ok (.getfield 163, 3) := dk_180 0 163 (dk_at dksX4_isWord_0 6 rfl rfl)
theorem dX4_isWord_9 : decode cX4_isWord 9 = .ok (.imul, 1) := dk_104 (dk_at dksX4_isWord_0 9 rfl rfl)
theorem dX4_isWord_10 : decode cX4_isWord 10 = .ok (.iload_n 1, 1) := dk_27 (dk_at dksX4_isWord_0 10 rfl rfl)
theorem dX4_isWord_11 : decode cX4_isWord 11 = .ok (.iastore, 1) := dk_79 (dk_at dksX4_isWord_0 11 rfl rfl)
theorem dX4_isWord_12 : decode cX4_isWord 12 = .ok (.iconst 0, 1) := dk_3 (dk_at dksX4_isWord_0 12 rfl rfl)
theorem dX4_isWord_13 : decode cX4_isWord 13 = .ok (.istore_n 3, 1) := dk_62 (dk_at dksX4_isWord_0 13 rfl rfl)
theorem dX4_isWord_14 : decode cX4_isWord 14 = .ok (.iload_n 3, 1) := dk_29 (dk_at dksX4_isWord_0 14 rfl rfl)
theorem dX4_isWord_15 : decode cX4_isWord 15 = .ok (.aload_n 2, 1) := dk_44 (dk_at dksX4_isWord_0 15 rfl rfl)
theorem dX4_isWord_16 : decode cX4_isWord 16 = .ok (.invokevirtual 166, 3) := dk_182 0 166 (dk_at dksX4_isWord_0 16 rfl rfl)
theorem dX4_isWord_19 : decode cX4_isWord 19 = .ok (.if_icmp .ge 23, 3) := dk_162 0 23 (dk_at dksX4_isWord_0 19 rfl rfl)
theorem dX4_isWord_22 : decode cX4_isWord 22 = .ok (.aload_n 0, 1) := dk_42 (dk_at dksX4_isWord_0 22 rfl rfl)
theorem dX4_isWord_23 : decode cX4_isWord 23 = .ok (.aload_n 2, 1) := dk_44 (dk_at dksX4_isWord_0 23 rfl rfl)
theorem dX4_isWord_24 : decode cX4_isWord 24 = .ok (.iload_n 3, 1) := dk_29 (dk_at dksX4_isWord_1 0 rfl rfl)
theorem dX4_isWord_25 : decode cX4_isWord 25 = .ok (.invokevirtual 170, 3) := dk_182 0 170 (dk_at dksX4_isWord_1 1 rfl rfl)
theorem dX4_isWord_28 : decode cX4_isWord 28 = .ok (.invokevirtual 174, 3) := dk_182 0 174 (dk_at dksX4_isWord_1 4 rfl rfl)
theorem dX4_isWord_31 : decode cX4_isWord 31 = .ok (.ifCond .ne 5, 3) := dk_154 0 5 (dk_at dksX4_isWord_1 7 rfl rfl)
theorem dX4_isWord_34 : decode cX4_isWord 34 = .ok (.iconst 0, 1) := dk_3 (dk_at dksX4_isWord_1 10 rfl rfl)
theorem dX4_isWord_35 : decode cX4_isWord 35 = .ok (.ireturn, 1) := dk_172 (dk_at dksX4_isWord_1 11 rfl rfl)
theorem dX4_isWord_36 : decode cX4_isWord 36 = .ok (.iinc 3 1, 3) := dk_132 3 1 (dk_at dksX4_isWord_1 12 rfl rfl)
theorem dX4_isWord_39 : decode cX4_isWord 39 = .ok (.goto (-25), 3) := dk_167 255 231 (dk_at dksX4_isWord_1 15 rfl rfl)
theorem dX4_isWord_42 : decode cX4_isWord 42 = .ok (.iconst 1, 1) := dk_4 (dk_at dksX4_isWord_1 18 rfl rfl)
theorem dX4_isWord_43 : decode cX4_isWord 43 = .ok (.ireturn, 1) := dk_172 (dk_at dksX4_isWord_1 19 rfl rfl)
abbrev cX4_figures : ByteArray := prog_19_method_74_code
def yX4_figures : MethodName := ⟨RX4, "figures", "(II)Z"⟩
def dkwX4_figures_0 : List UInt8 := [42, 16, 32, 182, 0, 174, 153, 0, 16, 42, 27, 28, 182, 0, 177, 153, 0, 7, 4, 167, 0, 4, 3, 172]
abbrev dktX4_figures_0 : List UInt8 := dkwX4_figures_0 ++ []
theorem dksX4_figures_0 : cX4_figures.data.toList.drop 0 = dktX4_figures_0 := by decide +kernel
theorem dX4_figures_0 : decode cX4_figures 0 = .ok (.aload_n 0, 1) := dk_42 (dk_at dksX4_figures_0 0 rfl rfl)
theorem dX4_figures_1 : decode cX4_figures 1 = .ok (.bipush 32, 2) := dk_16 32 (dk_at dksX4_figures_0 1 rfl rfl)
theorem dX4_figures_3 : decode cX4_figures 3 = .ok (.invokevirtual 174, 3) := dk_182 0 174 (dk_at dksX4_figures_0 3 rfl rfl)
theorem dX4_figures_6 : decode cX4_figures 6 = .ok (.ifCond .eq 16, 3) := dk_153 0 16 (dk_at dksX4_figures_0 6 rfl rfl)
theorem dX4_figures_9 : decode cX4_figures 9 = .ok (.aload_n 0, 1) := dk_42 (dk_at dksX4_figures_0 9 rfl rfl)
theorem dX4_figures_10 : decode cX4_figures 10 = .ok (.iload_n 1, 1) := dk_27 (dk_at dksX4_figures_0 10 rfl rfl)
theorem dX4_figures_11 : decode cX4_figures 11 = .ok (.iload_n 2, 1) := dk_28 (dk_at dksX4_figures_0 11 rfl rfl)
theorem dX4_figures_12 : decode cX4_figures 12 = .ok (.invokevirtual 177, 3) := dk_182 0 177 (dk_at dksX4_figures_0 12 rfl rfl)
theorem dX4_figures_15 : decode cX4_figures 15 = .ok (.ifCond .eq 7, 3) := dk_153 0 7 (dk_at dksX4_figures_0 15 rfl rfl)
theorem dX4_figures_18 : decode cX4_figures 18 = .ok (.iconst 1, 1) := dk_4 (dk_at dksX4_figures_0 18 rfl rfl)
theorem dX4_figures_19 : decode cX4_figures 19 = .ok (.goto 4, 3) := dk_167 0 4 (dk_at dksX4_figures_0 19 rfl rfl)
theorem dX4_figures_22 : decode cX4_figures 22 = .ok (.iconst 0, 1) := dk_3 (dk_at dksX4_figures_0 22 rfl rfl)
theorem dX4_figures_23 : decode cX4_figures 23 = .ok (.ireturn, 1) := dk_172 (dk_at dksX4_figures_0 23 rfl rfl)
abbrev cX4_digits : ByteArray := prog_19_method_73_code
def yX4_digits : MethodName := ⟨RX4, "digits", "(II)Z"⟩
def dkwX4_digits_3 : List UInt8 := [4, 96, 181, 0, 157, 132, 3, 1, 167, 255, 201, 4, 172]
abbrev dktX4_digits_3 : List UInt8 := dkwX4_digits_3 ++ []
def dkwX4_digits_2 : List UInt8 := [27, 16, 10, 42, 180, 0, 51, 27, 46, 104, 42, 182, 0, 160, 96, 16, 48, 100, 79, 42, 89, 180, 0, 157]
abbrev dktX4_digits_2 : List UInt8 := dkwX4_digits_2 ++ dktX4_digits_3
def dkwX4_digits_1 : List UInt8 := [62, 29, 28, 162, 0, 56, 42, 182, 0, 160, 16, 48, 16, 57, 184, 0, 68, 153, 0, 42, 42, 180, 0, 51]
abbrev dktX4_digits_1 : List UInt8 := dkwX4_digits_1 ++ dktX4_digits_2
def dkwX4_digits_0 : List UInt8 := [42, 182, 0, 160, 16, 48, 16, 57, 184, 0, 68, 154, 0, 5, 3, 172, 42, 180, 0, 51, 27, 3, 79, 3]
abbrev dktX4_digits_0 : List UInt8 := dkwX4_digits_0 ++ dktX4_digits_1
theorem dksX4_digits_0 : cX4_digits.data.toList.drop 0 = dktX4_digits_0 := by decide +kernel
theorem dksX4_digits_1 : cX4_digits.data.toList.drop 24 = dktX4_digits_1 := dk_seg dksX4_digits_0 24 rfl rfl
theorem dksX4_digits_2 : cX4_digits.data.toList.drop 48 = dktX4_digits_2 := dk_seg dksX4_digits_1 24 rfl rfl
theorem dksX4_digits_3 : cX4_digits.data.toList.drop 72 = dktX4_digits_3 := dk_seg dksX4_digits_2 24 rfl rfl
theorem dX4_digits_0 : decode cX4_digits 0 = .ok (.aload_n 0, 1) := dk_42 (dk_at dksX4_digits_0 0 rfl rfl)
theorem dX4_digits_1 : decode cX4_digits 1 = .ok (.invokevirtual 160, 3) := dk_182 0 160 (dk_at dksX4_digits_0 1 rfl rfl)
theorem dX4_digits_4 : decode cX4_digits 4 = .ok (.bipush 48, 2) := dk_16 48 (dk_at dksX4_digits_0 4 rfl rfl)
theorem dX4_digits_6 : decode cX4_digits 6 = .ok (.bipush 57, 2) := dk_16 57 (dk_at dksX4_digits_0 6 rfl rfl)
theorem dX4_digits_8 : decode cX4_digits 8 = .ok (.invokestatic 68, 3) := dk_184 0 68 (dk_at dksX4_digits_0 8 rfl rfl)
theorem dX4_digits_11 : decode cX4_digits 11 = .ok (.ifCond .ne 5, 3) := dk_154 0 5 (dk_at dksX4_digits_0 11 rfl rfl)
theorem dX4_digits_14 : decode cX4_digits 14 = .ok (.iconst 0, 1) := dk_3 (dk_at dksX4_digits_0 14 rfl rfl)
theorem dX4_digits_15 : decode cX4_digits 15 = .ok (.ireturn, 1) := dk_172 (dk_at dksX4_digits_0 15 rfl rfl)
theorem dX4_digits_16 : decode cX4_digits 16 = .ok (.aload_n 0, 1) := dk_42 (dk_at dksX4_digits_0 16 rfl rfl)
theorem dX4_digits_17 : decode cX4_digits 17 = .ok (.getfield 51, 3) := dk_180 0 51 (dk_at dksX4_digits_0 17 rfl rfl)
theorem dX4_digits_20 : decode cX4_digits 20 = .ok (.iload_n 1, 1) := dk_27 (dk_at dksX4_digits_0 20 rfl rfl)
theorem dX4_digits_21 : decode cX4_digits 21 = .ok (.iconst 0, 1) := dk_3 (dk_at dksX4_digits_0 21 rfl rfl)
theorem dX4_digits_22 : decode cX4_digits 22 = .ok (.iastore, 1) := dk_79 (dk_at dksX4_digits_0 22 rfl rfl)
theorem dX4_digits_23 : decode cX4_digits 23 = .ok (.iconst 0, 1) := dk_3 (dk_at dksX4_digits_0 23 rfl rfl)
theorem dX4_digits_24 : decode cX4_digits 24 = .ok (.istore_n 3, 1) := dk_62 (dk_at dksX4_digits_1 0 rfl rfl)
theorem dX4_digits_25 : decode cX4_digits 25 = .ok (.iload_n 3, 1) := dk_29 (dk_at dksX4_digits_1 1 rfl rfl)
theorem dX4_digits_26 : decode cX4_digits 26 = .ok (.iload_n 2, 1) := dk_28 (dk_at dksX4_digits_1 2 rfl rfl)
theorem dX4_digits_27 : decode cX4_digits 27 = .ok (.if_icmp .ge 56, 3) := dk_162 0 56 (dk_at dksX4_digits_1 3 rfl rfl)
theorem dX4_digits_30 : decode cX4_digits 30 = .ok (.aload_n 0, 1) := dk_42 (dk_at dksX4_digits_1 6 rfl rfl)
theorem dX4_digits_31 : decode cX4_digits 31 = .ok (.invokevirtual 160, 3) := dk_182 0 160 (dk_at dksX4_digits_1 7 rfl rfl)
theorem dX4_digits_34 : decode cX4_digits 34 = .ok (.bipush 48, 2) := dk_16 48 (dk_at dksX4_digits_1 10 rfl rfl)
theorem dX4_digits_36 : decode cX4_digits 36 = .ok (.bipush 57, 2) := dk_16 57 (dk_at dksX4_digits_1 12 rfl rfl)
theorem dX4_digits_38 : decode cX4_digits 38 = .ok (.invokestatic 68, 3) := dk_184 0 68 (dk_at dksX4_digits_1 14 rfl rfl)
theorem dX4_digits_41 : decode cX4_digits 41 = .ok (.ifCond .eq 42, 3) := dk_153 0 42 (dk_at dksX4_digits_1 17 rfl rfl)
theorem dX4_digits_44 : decode cX4_digits 44 = .ok (.aload_n 0, 1) := dk_42 (dk_at dksX4_digits_1 20 rfl rfl)
theorem dX4_digits_45 : decode cX4_digits 45 = .ok (.getfield 51, 3) := dk_180 0 51 (dk_at dksX4_digits_1 21 rfl rfl)
theorem dX4_digits_48 : decode cX4_digits 48 = .ok (.iload_n 1, 1) := dk_27 (dk_at dksX4_digits_2 0 rfl rfl)
theorem dX4_digits_49 : decode cX4_digits 49 = .ok (.bipush 10, 2) := dk_16 10 (dk_at dksX4_digits_2 1 rfl rfl)
theorem dX4_digits_51 : decode cX4_digits 51 = .ok (.aload_n 0, 1) := dk_42 (dk_at dksX4_digits_2 3 rfl rfl)
theorem dX4_digits_52 : decode cX4_digits 52 = .ok (.getfield 51, 3) := dk_180 0 51 (dk_at dksX4_digits_2 4 rfl rfl)
theorem dX4_digits_55 : decode cX4_digits 55 = .ok (.iload_n 1, 1) := dk_27 (dk_at dksX4_digits_2 7 rfl rfl)
theorem dX4_digits_56 : decode cX4_digits 56 = .ok (.iaload, 1) := dk_46 (dk_at dksX4_digits_2 8 rfl rfl)
theorem dX4_digits_57 : decode cX4_digits 57 = .ok (.imul, 1) := dk_104 (dk_at dksX4_digits_2 9 rfl rfl)
theorem dX4_digits_58 : decode cX4_digits 58 = .ok (.aload_n 0, 1) := dk_42 (dk_at dksX4_digits_2 10 rfl rfl)
theorem dX4_digits_59 : decode cX4_digits 59 = .ok (.invokevirtual 160, 3) := dk_182 0 160 (dk_at dksX4_digits_2 11 rfl rfl)
theorem dX4_digits_62 : decode cX4_digits 62 = .ok (.iadd, 1) := dk_96 (dk_at dksX4_digits_2 14 rfl rfl)
theorem dX4_digits_63 : decode cX4_digits 63 = .ok (.bipush 48, 2) := dk_16 48 (dk_at dksX4_digits_2 15 rfl rfl)
theorem dX4_digits_65 : decode cX4_digits 65 = .ok (.isub, 1) := dk_100 (dk_at dksX4_digits_2 17 rfl rfl)
theorem dX4_digits_66 : decode cX4_digits 66 = .ok (.iastore, 1) := dk_79 (dk_at dksX4_digits_2 18 rfl rfl)
theorem dX4_digits_67 : decode cX4_digits 67 = .ok (.aload_n 0, 1) := dk_42 (dk_at dksX4_digits_2 19 rfl rfl)
theorem dX4_digits_68 : decode cX4_digits 68 = .ok (.dup, 1) := dk_89 (dk_at dksX4_digits_2 20 rfl rfl)
theorem dX4_digits_69 : decode cX4_digits 69 = .ok (.getfield 157, 3) := dk_180 0 157 (dk_at dksX4_digits_2 21 rfl rfl)
theorem dX4_digits_72 : decode cX4_digits 72 = .ok (.iconst 1, 1) := dk_4 (dk_at dksX4_digits_3 0 rfl rfl)
theorem dX4_digits_73 : decode cX4_digits 73 = .ok (.iadd, 1) := dk_96 (dk_at dksX4_digits_3 1 rfl rfl)
theorem dX4_digits_74 : decode cX4_digits 74 = .ok (.putfield 157, 3) := dk_181 0 157 (dk_at dksX4_digits_3 2 rfl rfl)
theorem dX4_digits_77 : decode cX4_digits 77 = .ok (.iinc 3 1, 3) := dk_132 3 1 (dk_at dksX4_digits_3 5 rfl rfl)
theorem dX4_digits_80 : decode cX4_digits 80 = .ok (.goto (-55), 3) := dk_167 255 201 (dk_at dksX4_digits_3 8 rfl rfl)
theorem dX4_digits_83 : decode cX4_digits 83 = .ok (.iconst 1, 1) := dk_4 (dk_at dksX4_digits_3 11 rfl rfl)
theorem dX4_digits_84 : decode cX4_digits 84 = .ok (.ireturn, 1) := dk_172 (dk_at dksX4_digits_3 12 rfl rfl)
abbrev cX4_withC : ByteArray := prog_19_method_76_code
def yX4_withC : MethodName := ⟨RX4, "withC", "(I)Z"⟩
def dkwX4_withC_4 : List UInt8 := [153, 0, 18, 42, 27, 4, 96, 6, 182, 0, 180, 153, 0, 7, 4, 167, 0, 4, 3, 172]
abbrev dktX4_withC_4 : List UInt8 := dkwX4_withC_4 ++ []
def dkwX4_withC_3 : List UInt8 := [182, 0, 185, 167, 0, 38, 42, 4, 18, 193, 182, 0, 185, 153, 0, 27, 42, 27, 4, 182, 0, 180]
abbrev dktX4_withC_3 : List UInt8 := dkwX4_withC_3 ++ dktX4_withC_4
def dkwX4_withC_2 : List UInt8 := [16, 115, 182, 0, 174, 154, 0, 5, 3, 172, 42, 16, 99, 182, 0, 174, 153, 0, 14, 42, 16, 8, 18, 191]
abbrev dktX4_withC_2 : List UInt8 := dkwX4_withC_2 ++ dktX4_withC_3
def dkwX4_withC_1 : List UInt8 := [154, 0, 5, 3, 172, 42, 16, 108, 182, 0, 174, 153, 0, 12, 42, 16, 9, 18, 189, 182, 0, 185, 172, 42]
abbrev dktX4_withC_1 : List UInt8 := dkwX4_withC_1 ++ dktX4_withC_2
def dkwX4_withC_0 : List UInt8 := [42, 16, 121, 182, 0, 174, 153, 0, 11, 42, 8, 18, 183, 182, 0, 185, 172, 42, 16, 97, 182, 0, 174]
abbrev dktX4_withC_0 : List UInt8 := dkwX4_withC_0 ++ dktX4_withC_1
theorem dksX4_withC_0 : cX4_withC.data.toList.drop 0 = dktX4_withC_0 := by decide +kernel
theorem dksX4_withC_1 : cX4_withC.data.toList.drop 23 = dktX4_withC_1 := dk_seg dksX4_withC_0 23 rfl rfl
theorem dksX4_withC_2 : cX4_withC.data.toList.drop 47 = dktX4_withC_2 := dk_seg dksX4_withC_1 24 rfl rfl
theorem dksX4_withC_3 : cX4_withC.data.toList.drop 71 = dktX4_withC_3 := dk_seg dksX4_withC_2 24 rfl rfl
theorem dksX4_withC_4 : cX4_withC.data.toList.drop 93 = dktX4_withC_4 := dk_seg dksX4_withC_3 22 rfl rfl
theorem dX4_withC_0 : decode cX4_withC 0 = .ok (.aload_n 0, 1) := dk_42 (dk_at dksX4_withC_0 0 rfl rfl)
theorem dX4_withC_1 : decode cX4_withC 1 = .ok (.bipush 121, 2) := dk_16 121 (dk_at dksX4_withC_0 1 rfl rfl)
theorem dX4_withC_3 : decode cX4_withC 3 = .ok (.invokevirtual 174, 3) := dk_182 0 174 (dk_at dksX4_withC_0 3 rfl rfl)
theorem dX4_withC_6 : decode cX4_withC 6 = .ok (.ifCond .eq 11, 3) := dk_153 0 11 (dk_at dksX4_withC_0 6 rfl rfl)
theorem dX4_withC_9 : decode cX4_withC 9 = .ok (.aload_n 0, 1) := dk_42 (dk_at dksX4_withC_0 9 rfl rfl)
theorem dX4_withC_10 : decode cX4_withC 10 = .ok (.iconst 5, 1) := dk_8 (dk_at dksX4_withC_0 10 rfl rfl)
theorem dX4_withC_11 : decode cX4_withC 11 = .ok (.ldc 183, 2) := dk_18 183 (dk_at dksX4_withC_0 11 rfl rfl)
theorem dX4_withC_13 : decode cX4_withC 13 = .ok (.invokevirtual 185, 3) := dk_182 0 185 (dk_at dksX4_withC_0 13 rfl rfl)
theorem dX4_withC_16 : decode cX4_withC 16 = .ok (.ireturn, 1) := dk_172 (dk_at dksX4_withC_0 16 rfl rfl)
theorem dX4_withC_17 : decode cX4_withC 17 = .ok (.aload_n 0, 1) := dk_42 (dk_at dksX4_withC_0 17 rfl rfl)
theorem dX4_withC_18 : decode cX4_withC 18 = .ok (.bipush 97, 2) := dk_16 97 (dk_at dksX4_withC_0 18 rfl rfl)
theorem dX4_withC_20 : decode cX4_withC 20 = .ok (.invokevirtual 174, 3) := dk_182 0 174 (dk_at dksX4_withC_0 20 rfl rfl)
theorem dX4_withC_23 : decode cX4_withC 23 = .ok (.ifCond .ne 5, 3) := dk_154 0 5 (dk_at dksX4_withC_1 0 rfl rfl)
theorem dX4_withC_26 : decode cX4_withC 26 = .ok (.iconst 0, 1) := dk_3 (dk_at dksX4_withC_1 3 rfl rfl)
theorem dX4_withC_27 : decode cX4_withC 27 = .ok (.ireturn, 1) := dk_172 (dk_at dksX4_withC_1 4 rfl rfl)
theorem dX4_withC_28 : decode cX4_withC 28 = .ok (.aload_n 0, 1) := dk_42 (dk_at dksX4_withC_1 5 rfl rfl)
theorem dX4_withC_29 : decode cX4_withC 29 = .ok (.bipush 108, 2) := dk_16 108 (dk_at dksX4_withC_1 6 rfl rfl)
theorem dX4_withC_31 : decode cX4_withC 31 = .ok (.invokevirtual 174, 3) := dk_182 0 174 (dk_at dksX4_withC_1 8 rfl rfl)
theorem dX4_withC_34 : decode cX4_withC 34 = .ok (.ifCond .eq 12, 3) := dk_153 0 12 (dk_at dksX4_withC_1 11 rfl rfl)
theorem dX4_withC_37 : decode cX4_withC 37 = .ok (.aload_n 0, 1) := dk_42 (dk_at dksX4_withC_1 14 rfl rfl)
theorem dX4_withC_38 : decode cX4_withC 38 = .ok (.bipush 9, 2) := dk_16 9 (dk_at dksX4_withC_1 15 rfl rfl)
theorem dX4_withC_40 : decode cX4_withC 40 = .ok (.ldc 189, 2) := dk_18 189 (dk_at dksX4_withC_1 17 rfl rfl)
theorem dX4_withC_42 : decode cX4_withC 42 = .ok (.invokevirtual 185, 3) := dk_182 0 185 (dk_at dksX4_withC_1 19 rfl rfl)
theorem dX4_withC_45 : decode cX4_withC 45 = .ok (.ireturn, 1) := dk_172 (dk_at dksX4_withC_1 22 rfl rfl)
theorem dX4_withC_46 : decode cX4_withC 46 = .ok (.aload_n 0, 1) := dk_42 (dk_at dksX4_withC_1 23 rfl rfl)
theorem dX4_withC_47 : decode cX4_withC 47 = .ok (.bipush 115, 2) := dk_16 115 (dk_at dksX4_withC_2 0 rfl rfl)
theorem dX4_withC_49 : decode cX4_withC 49 = .ok (.invokevirtual 174, 3) := dk_182 0 174 (dk_at dksX4_withC_2 2 rfl rfl)
theorem dX4_withC_52 : decode cX4_withC 52 = .ok (.ifCond .ne 5, 3) := dk_154 0 5 (dk_at dksX4_withC_2 5 rfl rfl)
theorem dX4_withC_55 : decode cX4_withC 55 = .ok (.iconst 0, 1) := dk_3 (dk_at dksX4_withC_2 8 rfl rfl)
theorem dX4_withC_56 : decode cX4_withC 56 = .ok (.ireturn, 1) := dk_172 (dk_at dksX4_withC_2 9 rfl rfl)
theorem dX4_withC_57 : decode cX4_withC 57 = .ok (.aload_n 0, 1) := dk_42 (dk_at dksX4_withC_2 10 rfl rfl)
theorem dX4_withC_58 : decode cX4_withC 58 = .ok (.bipush 99, 2) := dk_16 99 (dk_at dksX4_withC_2 11 rfl rfl)
theorem dX4_withC_60 : decode cX4_withC 60 = .ok (.invokevirtual 174, 3) := dk_182 0 174 (dk_at dksX4_withC_2 13 rfl rfl)
theorem dX4_withC_63 : decode cX4_withC 63 = .ok (.ifCond .eq 14, 3) := dk_153 0 14 (dk_at dksX4_withC_2 16 rfl rfl)
theorem dX4_withC_66 : decode cX4_withC 66 = .ok (.aload_n 0, 1) := dk_42 (dk_at dksX4_withC_2 19 rfl rfl)
theorem dX4_withC_67 : decode cX4_withC 67 = .ok (.bipush 8, 2) := dk_16 8 (dk_at dksX4_withC_2 20 rfl rfl)
theorem dX4_withC_69 : decode cX4_withC 69 = .ok (.ldc 191, 2) := dk_18 191 (dk_at dksX4_withC_2 22 rfl rfl)
theorem dX4_withC_71 : decode cX4_withC 71 = .ok (.invokevirtual 185, 3) := dk_182 0 185 (dk_at dksX4_withC_3 0 rfl rfl)
theorem dX4_withC_74 : decode cX4_withC 74 = .ok (.goto 38, 3) := dk_167 0 38 (dk_at dksX4_withC_3 3 rfl rfl)
theorem dX4_withC_77 : decode cX4_withC 77 = .ok (.aload_n 0, 1) := dk_42 (dk_at dksX4_withC_3 6 rfl rfl)
theorem dX4_withC_78 : decode cX4_withC 78 = .ok (.iconst 1, 1) := dk_4 (dk_at dksX4_withC_3 7 rfl rfl)
theorem dX4_withC_79 : decode cX4_withC 79 = .ok (.ldc 193, 2) := dk_18 193 (dk_at dksX4_withC_3 8 rfl rfl)
theorem dX4_withC_81 : decode cX4_withC 81 = .ok (.invokevirtual 185, 3) := dk_182 0 185 (dk_at dksX4_withC_3 10 rfl rfl)
theorem dX4_withC_84 : decode cX4_withC 84 = .ok (.ifCond .eq 27, 3) := dk_153 0 27 (dk_at dksX4_withC_3 13 rfl rfl)
theorem dX4_withC_87 : decode cX4_withC 87 = .ok (.aload_n 0, 1) := dk_42 (dk_at dksX4_withC_3 16 rfl rfl)
theorem dX4_withC_88 : decode cX4_withC 88 = .ok (.iload_n 1, 1) := dk_27 (dk_at dksX4_withC_3 17 rfl rfl)
theorem dX4_withC_89 : decode cX4_withC 89 = .ok (.iconst 1, 1) := dk_4 (dk_at dksX4_withC_3 18 rfl rfl)
theorem dX4_withC_90 : decode cX4_withC 90 = .ok (.invokevirtual 180, 3) := dk_182 0 180 (dk_at dksX4_withC_3 19 rfl rfl)
theorem dX4_withC_93 : decode cX4_withC 93 = .ok (.ifCond .eq 18, 3) := dk_153 0 18 (dk_at dksX4_withC_4 0 rfl rfl)
theorem dX4_withC_96 : decode cX4_withC 96 = .ok (.aload_n 0, 1) := dk_42 (dk_at dksX4_withC_4 3 rfl rfl)
theorem dX4_withC_97 : decode cX4_withC 97 = .ok (.iload_n 1, 1) := dk_27 (dk_at dksX4_withC_4 4 rfl rfl)
theorem dX4_withC_98 : decode cX4_withC 98 = .ok (.iconst 1, 1) := dk_4 (dk_at dksX4_withC_4 5 rfl rfl)
theorem dX4_withC_99 : decode cX4_withC 99 = .ok (.iadd, 1) := dk_96 (dk_at dksX4_withC_4 6 rfl rfl)
theorem dX4_withC_100 : decode cX4_withC 100 = .ok (.iconst 3, 1) := dk_6 (dk_at dksX4_withC_4 7 rfl rfl)
theorem dX4_withC_101 : decode cX4_withC 101 = .ok (.invokevirtual 180, 3) := dk_182 0 180 (dk_at dksX4_withC_4 8 rfl rfl)
theorem dX4_withC_104 : decode cX4_withC 104 = .ok (.ifCond .eq 7, 3) := dk_153 0 7 (dk_at dksX4_withC_4 11 rfl rfl)
theorem dX4_withC_107 : decode cX4_withC 107 = .ok (.iconst 1, 1) := dk_4 (dk_at dksX4_withC_4 14 rfl rfl)
theorem dX4_withC_108 : decode cX4_withC 108 = .ok (.goto 4, 3) := dk_167 0 4 (dk_at dksX4_withC_4 15 rfl rfl)
theorem dX4_withC_111 : decode cX4_withC 111 = .ok (.iconst 0, 1) := dk_3 (dk_at dksX4_withC_4 18 rfl rfl)
theorem dX4_withC_112 : decode cX4_withC 112 = .ok (.ireturn, 1) := dk_172 (dk_at dksX4_withC_4 19 rfl rfl)
abbrev cX4_pair : ByteArray := prog_19_method_75_code
def yX4_pair : MethodName := ⟨RX4, "pair", "(I)Z"⟩
def dkwX4_pair_1 : List UInt8 := [3, 172]
abbrev dktX4_pair_1 : List UInt8 := dkwX4_pair_1 ++ []
def dkwX4_pair_0 : List UInt8 := [42, 27, 4, 182, 0, 180, 153, 0, 18, 42, 27, 4, 96, 4, 182, 0, 177, 153, 0, 7, 4, 167, 0, 4]
abbrev dktX4_pair_0 : List UInt8 := dkwX4_pair_0 ++ dktX4_pair_1
theorem dksX4_pair_0 : cX4_pair.data.toList.drop 0 = dktX4_pair_0 := by decide +kernel
theorem dksX4_pair_1 : cX4_pair.data.toList.drop 24 = dktX4_pair_1 := dk_seg dksX4_pair_0 24 rfl rfl
theorem dX4_pair_0 : decode cX4_pair 0 = .ok (.aload_n 0, 1) := dk_42 (dk_at dksX4_pair_0 0 rfl rfl)
theorem dX4_pair_1 : decode cX4_pair 1 = .ok (.iload_n 1, 1) := dk_27 (dk_at dksX4_pair_0 1 rfl rfl)
theorem dX4_pair_2 : decode cX4_pair 2 = .ok (.iconst 1, 1) := dk_4 (dk_at dksX4_pair_0 2 rfl rfl)
theorem dX4_pair_3 : decode cX4_pair 3 = .ok (.invokevirtual 180, 3) := dk_182 0 180 (dk_at dksX4_pair_0 3 rfl rfl)
theorem dX4_pair_6 : decode cX4_pair 6 = .ok (.ifCond .eq 18, 3) := dk_153 0 18 (dk_at dksX4_pair_0 6 rfl rfl)
theorem dX4_pair_9 : decode cX4_pair 9 = .ok (.aload_n 0, 1) := dk_42 (dk_at dksX4_pair_0 9 rfl rfl)
theorem dX4_pair_10 : decode cX4_pair 10 = .ok (.iload_n 1, 1) := dk_27 (dk_at dksX4_pair_0 10 rfl rfl)
theorem dX4_pair_11 : decode cX4_pair 11 = .ok (.iconst 1, 1) := dk_4 (dk_at dksX4_pair_0 11 rfl rfl)
theorem dX4_pair_12 : decode cX4_pair 12 = .ok (.iadd, 1) := dk_96 (dk_at dksX4_pair_0 12 rfl rfl)
theorem dX4_pair_13 : decode cX4_pair 13 = .ok (.iconst 1, 1) := dk_4 (dk_at dksX4_pair_0 13 rfl rfl)
theorem dX4_pair_14 : decode cX4_pair 14 = .ok (.invokevirtual 177, 3) := dk_182 0 177 (dk_at dksX4_pair_0 14 rfl rfl)
theorem dX4_pair_17 : decode cX4_pair 17 = .ok (.ifCond .eq 7, 3) := dk_153 0 7 (dk_at dksX4_pair_0 17 rfl rfl)
theorem dX4_pair_20 : decode cX4_pair 20 = .ok (.iconst 1, 1) := dk_4 (dk_at dksX4_pair_0 20 rfl rfl)
theorem dX4_pair_21 : decode cX4_pair 21 = .ok (.goto 4, 3) := dk_167 0 4 (dk_at dksX4_pair_0 21 rfl rfl)
theorem dX4_pair_24 : decode cX4_pair 24 = .ok (.iconst 0, 1) := dk_3 (dk_at dksX4_pair_1 0 rfl rfl)
theorem dX4_pair_25 : decode cX4_pair 25 = .ok (.ireturn, 1) := dk_172 (dk_at dksX4_pair_1 1 rfl rfl)
abbrev cX4_carries : ByteArray := prog_19_method_79_code
def yX4_carries : MethodName := ⟨RX4, "carries", "(I)I"⟩
def dkwX4_carries_5 : List UInt8 := [172, 42, 182, 0, 245, 172]
abbrev dktX4_carries_5 : List UInt8 := dkwX4_carries_5 ++ []
def dkwX4_carries_4 : List UInt8 := [182, 0, 230, 172, 42, 182, 0, 233, 172, 42, 182, 0, 236, 172, 42, 28, 182, 0, 239, 172, 42, 182, 0, 242]
abbrev dktX4_carries_4 : List UInt8 := dkwX4_carries_4 ++ dktX4_carries_5
def dkwX4_carries_3 : List UInt8 := [182, 0, 223, 172, 42, 28, 29, 42, 180, 0, 51, 27, 6, 96, 46, 182, 0, 227, 172, 42, 28, 29]
abbrev dktX4_carries_3 : List UInt8 := dkwX4_carries_3 ++ dktX4_carries_4
def dkwX4_carries_2 : List UInt8 := [42, 28, 182, 0, 217, 172, 42, 28, 29, 182, 0, 220, 172, 42, 28, 29, 42, 180, 0, 51, 27, 6, 96, 46]
abbrev dktX4_carries_2 : List UInt8 := dkwX4_carries_2 ++ dktX4_carries_3
def dkwX4_carries_1 : List UInt8 := [170, 0, 0, 0, 0, 0, 0, 123, 0, 0, 0, 0, 0, 0, 0, 8, 0, 0, 0, 52, 0, 0, 0, 58, 0, 0, 0, 65, 0, 0, 0, 80, 0, 0, 0, 95, 0, 0, 0, 102, 0, 0, 0, 107, 0, 0, 0, 112, 0, 0, 0, 118]
abbrev dktX4_carries_1 : List UInt8 := dkwX4_carries_1 ++ dktX4_carries_2
def dkwX4_carries_0 : List UInt8 := [42, 180, 0, 51, 27, 4, 96, 46, 61, 42, 180, 0, 51, 27, 5, 96, 46, 62, 42, 180, 0, 51, 27, 46]
abbrev dktX4_carries_0 : List UInt8 := dkwX4_carries_0 ++ dktX4_carries_1
theorem dksX4_carries_0 : cX4_carries.data.toList.drop 0 = dktX4_carries_0 := by decide +kernel
theorem dksX4_carries_1 : cX4_carries.data.toList.drop 24 = dktX4_carries_1 := dk_seg dksX4_carries_0 24 rfl rfl
theorem dksX4_carries_2 : cX4_carries.data.toList.drop 76 = dktX4_carries_2 := dk_seg dksX4_carries_1 52 rfl rfl
theorem dksX4_carries_3 : cX4_carries.data.toList.drop 100 = dktX4_carries_3 := dk_seg dksX4_carries_2 24 rfl rfl
theorem dksX4_carries_4 : cX4_carries.data.toList.drop 122 = dktX4_carries_4 := dk_seg dksX4_carries_3 22 rfl rfl
theorem dksX4_carries_5 : cX4_carries.data.toList.drop 146 = dktX4_carries_5 := dk_seg dksX4_carries_4 24 rfl rfl
theorem dX4_carries_0 : decode cX4_carries 0 = .ok (.aload_n 0, 1) := dk_42 (dk_at dksX4_carries_0 0 rfl rfl)
theorem dX4_carries_1 : decode cX4_carries 1 = .ok (.getfield 51, 3) := dk_180 0 51 (dk_at dksX4_carries_0 1 rfl rfl)
theorem dX4_carries_4 : decode cX4_carries 4 = .ok (.iload_n 1, 1) := dk_27 (dk_at dksX4_carries_0 4 rfl rfl)
theorem dX4_carries_5 : decode cX4_carries 5 = .ok (.iconst 1, 1) := dk_4 (dk_at dksX4_carries_0 5 rfl rfl)
theorem dX4_carries_6 : decode cX4_carries 6 = .ok (.iadd, 1) := dk_96 (dk_at dksX4_carries_0 6 rfl rfl)
theorem dX4_carries_7 : decode cX4_carries 7 = .ok (.iaload, 1) := dk_46 (dk_at dksX4_carries_0 7 rfl rfl)
theorem dX4_carries_8 : decode cX4_carries 8 = .ok (.istore_n 2, 1) := dk_61 (dk_at dksX4_carries_0 8 rfl rfl)
theorem dX4_carries_9 : decode cX4_carries 9 = .ok (.aload_n 0, 1) := dk_42 (dk_at dksX4_carries_0 9 rfl rfl)
theorem dX4_carries_10 : decode cX4_carries 10 = .ok (.getfield 51, 3) := dk_180 0 51 (dk_at dksX4_carries_0 10 rfl rfl)
theorem dX4_carries_13 : decode cX4_carries 13 = .ok (.iload_n 1, 1) := dk_27 (dk_at dksX4_carries_0 13 rfl rfl)
theorem dX4_carries_14 : decode cX4_carries 14 = .ok (.iconst 2, 1) := dk_5 (dk_at dksX4_carries_0 14 rfl rfl)
theorem dX4_carries_15 : decode cX4_carries 15 = .ok (.iadd, 1) := dk_96 (dk_at dksX4_carries_0 15 rfl rfl)
theorem dX4_carries_16 : decode cX4_carries 16 = .ok (.iaload, 1) := dk_46 (dk_at dksX4_carries_0 16 rfl rfl)
theorem dX4_carries_17 : decode cX4_carries 17 = .ok (.istore_n 3, 1) := dk_62 (dk_at dksX4_carries_0 17 rfl rfl)
theorem dX4_carries_18 : decode cX4_carries 18 = .ok (.aload_n 0, 1) := dk_42 (dk_at dksX4_carries_0 18 rfl rfl)
theorem dX4_carries_19 : decode cX4_carries 19 = .ok (.getfield 51, 3) := dk_180 0 51 (dk_at dksX4_carries_0 19 rfl rfl)
theorem dX4_carries_22 : decode cX4_carries 22 = .ok (.iload_n 1, 1) := dk_27 (dk_at dksX4_carries_0 22 rfl rfl)
theorem dX4_carries_23 : decode cX4_carries 23 = .ok (.iaload, 1) := dk_46 (dk_at dksX4_carries_0 23 rfl rfl)
theorem dX4_carries_24 : decode cX4_carries 24 = .ok (.tableswitch 123 0 8 #[52, 58, 65, 80, 95, 102, 107, 112, 118], 52) := by decide +kernel
theorem dX4_carries_76 : decode cX4_carries 76 = .ok (.aload_n 0, 1) := dk_42 (dk_at dksX4_carries_2 0 rfl rfl)
theorem dX4_carries_77 : decode cX4_carries 77 = .ok (.iload_n 2, 1) := dk_28 (dk_at dksX4_carries_2 1 rfl rfl)
theorem dX4_carries_78 : decode cX4_carries 78 = .ok (.invokevirtual 217, 3) := dk_182 0 217 (dk_at dksX4_carries_2 2 rfl rfl)
theorem dX4_carries_81 : decode cX4_carries 81 = .ok (.ireturn, 1) := dk_172 (dk_at dksX4_carries_2 5 rfl rfl)
theorem dX4_carries_82 : decode cX4_carries 82 = .ok (.aload_n 0, 1) := dk_42 (dk_at dksX4_carries_2 6 rfl rfl)
theorem dX4_carries_83 : decode cX4_carries 83 = .ok (.iload_n 2, 1) := dk_28 (dk_at dksX4_carries_2 7 rfl rfl)
theorem dX4_carries_84 : decode cX4_carries 84 = .ok (.iload_n 3, 1) := dk_29 (dk_at dksX4_carries_2 8 rfl rfl)
theorem dX4_carries_85 : decode cX4_carries 85 = .ok (.invokevirtual 220, 3) := dk_182 0 220 (dk_at dksX4_carries_2 9 rfl rfl)
theorem dX4_carries_88 : decode cX4_carries 88 = .ok (.ireturn, 1) := dk_172 (dk_at dksX4_carries_2 12 rfl rfl)
theorem dX4_carries_89 : decode cX4_carries 89 = .ok (.aload_n 0, 1) := dk_42 (dk_at dksX4_carries_2 13 rfl rfl)
theorem dX4_carries_90 : decode cX4_carries 90 = .ok (.iload_n 2, 1) := dk_28 (dk_at dksX4_carries_2 14 rfl rfl)
theorem dX4_carries_91 : decode cX4_carries 91 = .ok (.iload_n 3, 1) := dk_29 (dk_at dksX4_carries_2 15 rfl rfl)
theorem dX4_carries_92 : decode cX4_carries 92 = .ok (.aload_n 0, 1) := dk_42 (dk_at dksX4_carries_2 16 rfl rfl)
theorem dX4_carries_93 : decode cX4_carries 93 = .ok (.getfield 51, 3) := dk_180 0 51 (dk_at dksX4_carries_2 17 rfl rfl)
theorem dX4_carries_96 : decode cX4_carries 96 = .ok (.iload_n 1, 1) := dk_27 (dk_at dksX4_carries_2 20 rfl rfl)
theorem dX4_carries_97 : decode cX4_carries 97 = .ok (.iconst 3, 1) := dk_6 (dk_at dksX4_carries_2 21 rfl rfl)
theorem dX4_carries_98 : decode cX4_carries 98 = .ok (.iadd, 1) := dk_96 (dk_at dksX4_carries_2 22 rfl rfl)
theorem dX4_carries_99 : decode cX4_carries 99 = .ok (.iaload, 1) := dk_46 (dk_at dksX4_carries_2 23 rfl rfl)
theorem dX4_carries_100 : decode cX4_carries 100 = .ok (.invokevirtual 223, 3) := dk_182 0 223 (dk_at dksX4_carries_3 0 rfl rfl)
theorem dX4_carries_103 : decode cX4_carries 103 = .ok (.ireturn, 1) := dk_172 (dk_at dksX4_carries_3 3 rfl rfl)
theorem dX4_carries_104 : decode cX4_carries 104 = .ok (.aload_n 0, 1) := dk_42 (dk_at dksX4_carries_3 4 rfl rfl)
theorem dX4_carries_105 : decode cX4_carries 105 = .ok (.iload_n 2, 1) := dk_28 (dk_at dksX4_carries_3 5 rfl rfl)
theorem dX4_carries_106 : decode cX4_carries 106 = .ok (.iload_n 3, 1) := dk_29 (dk_at dksX4_carries_3 6 rfl rfl)
theorem dX4_carries_107 : decode cX4_carries 107 = .ok (.aload_n 0, 1) := dk_42 (dk_at dksX4_carries_3 7 rfl rfl)
theorem dX4_carries_108 : decode cX4_carries 108 = .ok (.getfield 51, 3) := dk_180 0 51 (dk_at dksX4_carries_3 8 rfl rfl)
theorem dX4_carries_111 : decode cX4_carries 111 = .ok (.iload_n 1, 1) := dk_27 (dk_at dksX4_carries_3 11 rfl rfl)
theorem dX4_carries_112 : decode cX4_carries 112 = .ok (.iconst 3, 1) := dk_6 (dk_at dksX4_carries_3 12 rfl rfl)
theorem dX4_carries_113 : decode cX4_carries 113 = .ok (.iadd, 1) := dk_96 (dk_at dksX4_carries_3 13 rfl rfl)
theorem dX4_carries_114 : decode cX4_carries 114 = .ok (.iaload, 1) := dk_46 (dk_at dksX4_carries_3 14 rfl rfl)
theorem dX4_carries_115 : decode cX4_carries 115 = .ok (.invokevirtual 227, 3) := dk_182 0 227 (dk_at dksX4_carries_3 15 rfl rfl)
theorem dX4_carries_118 : decode cX4_carries 118 = .ok (.ireturn, 1) := dk_172 (dk_at dksX4_carries_3 18 rfl rfl)
theorem dX4_carries_119 : decode cX4_carries 119 = .ok (.aload_n 0, 1) := dk_42 (dk_at dksX4_carries_3 19 rfl rfl)
theorem dX4_carries_120 : decode cX4_carries 120 = .ok (.iload_n 2, 1) := dk_28 (dk_at dksX4_carries_3 20 rfl rfl)
theorem dX4_carries_121 : decode cX4_carries 121 = .ok (.iload_n 3, 1) := dk_29 (dk_at dksX4_carries_3 21 rfl rfl)
theorem dX4_carries_122 : decode cX4_carries 122 = .ok (.invokevirtual 230, 3) := dk_182 0 230 (dk_at dksX4_carries_4 0 rfl rfl)
theorem dX4_carries_125 : decode cX4_carries 125 = .ok (.ireturn, 1) := dk_172 (dk_at dksX4_carries_4 3 rfl rfl)
theorem dX4_carries_126 : decode cX4_carries 126 = .ok (.aload_n 0, 1) := dk_42 (dk_at dksX4_carries_4 4 rfl rfl)
theorem dX4_carries_127 : decode cX4_carries 127 = .ok (.invokevirtual 233, 3) := dk_182 0 233 (dk_at dksX4_carries_4 5 rfl rfl)
theorem dX4_carries_130 : decode cX4_carries 130 = .ok (.ireturn, 1) := dk_172 (dk_at dksX4_carries_4 8 rfl rfl)
theorem dX4_carries_131 : decode cX4_carries 131 = .ok (.aload_n 0, 1) := dk_42 (dk_at dksX4_carries_4 9 rfl rfl)
theorem dX4_carries_132 : decode cX4_carries 132 = .ok (.invokevirtual 236, 3) := dk_182 0 236 (dk_at dksX4_carries_4 10 rfl rfl)
theorem dX4_carries_135 : decode cX4_carries 135 = .ok (.ireturn, 1) := dk_172 (dk_at dksX4_carries_4 13 rfl rfl)
theorem dX4_carries_136 : decode cX4_carries 136 = .ok (.aload_n 0, 1) := dk_42 (dk_at dksX4_carries_4 14 rfl rfl)
theorem dX4_carries_137 : decode cX4_carries 137 = .ok (.iload_n 2, 1) := dk_28 (dk_at dksX4_carries_4 15 rfl rfl)
theorem dX4_carries_138 : decode cX4_carries 138 = .ok (.invokevirtual 239, 3) := dk_182 0 239 (dk_at dksX4_carries_4 16 rfl rfl)
theorem dX4_carries_141 : decode cX4_carries 141 = .ok (.ireturn, 1) := dk_172 (dk_at dksX4_carries_4 19 rfl rfl)
theorem dX4_carries_142 : decode cX4_carries 142 = .ok (.aload_n 0, 1) := dk_42 (dk_at dksX4_carries_4 20 rfl rfl)
theorem dX4_carries_143 : decode cX4_carries 143 = .ok (.invokevirtual 242, 3) := dk_182 0 242 (dk_at dksX4_carries_4 21 rfl rfl)
theorem dX4_carries_146 : decode cX4_carries 146 = .ok (.ireturn, 1) := dk_172 (dk_at dksX4_carries_5 0 rfl rfl)
theorem dX4_carries_147 : decode cX4_carries 147 = .ok (.aload_n 0, 1) := dk_42 (dk_at dksX4_carries_5 1 rfl rfl)
theorem dX4_carries_148 : decode cX4_carries 148 = .ok (.invokevirtual 245, 3) := dk_182 0 245 (dk_at dksX4_carries_5 2 rfl rfl)
theorem dX4_carries_151 : decode cX4_carries 151 = .ok (.ireturn, 1) := dk_172 (dk_at dksX4_carries_5 5 rfl rfl)
abbrev cX4_errorPosition : ByteArray := prog_19_method_81_code
def yX4_errorPosition : MethodName := ⟨RX4, "errorPosition", "()I"⟩
def dkwX4_errorPosition_1 : List UInt8 := [180, 0, 28, 172]
abbrev dktX4_errorPosition_1 : List UInt8 := dkwX4_errorPosition_1 ++ []
def dkwX4_errorPosition_0 : List UInt8 := [42, 42, 180, 0, 28, 156, 0, 7, 4, 167, 0, 4, 3, 182, 0, 76, 153, 0, 7, 3, 167, 0, 7, 42]
abbrev dktX4_errorPosition_0 : List UInt8 := dkwX4_errorPosition_0 ++ dktX4_errorPosition_1
theorem dksX4_errorPosition_0 : cX4_errorPosition.data.toList.drop 0 = dktX4_errorPosition_0 := by decide +kernel
theorem dksX4_errorPosition_1 : cX4_errorPosition.data.toList.drop 24 = dktX4_errorPosition_1 := dk_seg dksX4_errorPosition_0 24 rfl rfl
theorem dX4_errorPosition_0 : decode cX4_errorPosition 0 = .ok (.aload_n 0, 1) := dk_42 (dk_at dksX4_errorPosition_0 0 rfl rfl)
theorem dX4_errorPosition_1 : decode cX4_errorPosition 1 = .ok (.aload_n 0, 1) := dk_42 (dk_at dksX4_errorPosition_0 1 rfl rfl)
theorem dX4_errorPosition_2 : decode cX4_errorPosition 2 = .ok (.getfield 28, 3) := dk_180 0 28 (dk_at dksX4_errorPosition_0 2 rfl rfl)
theorem dX4_errorPosition_5 : decode cX4_errorPosition 5 = .ok (.ifCond .ge 7, 3) := dk_156 0 7 (dk_at dksX4_errorPosition_0 5 rfl rfl)
theorem dX4_errorPosition_8 : decode cX4_errorPosition 8 = .ok (.iconst 1, 1) := dk_4 (dk_at dksX4_errorPosition_0 8 rfl rfl)
theorem dX4_errorPosition_9 : decode cX4_errorPosition 9 = .ok (.goto 4, 3) := dk_167 0 4 (dk_at dksX4_errorPosition_0 9 rfl rfl)
theorem dX4_errorPosition_12 : decode cX4_errorPosition 12 = .ok (.iconst 0, 1) := dk_3 (dk_at dksX4_errorPosition_0 12 rfl rfl)
theorem dX4_errorPosition_13 : decode cX4_errorPosition 13 = .ok (.invokevirtual 76, 3) := dk_182 0 76 (dk_at dksX4_errorPosition_0 13 rfl rfl)
theorem dX4_errorPosition_16 : decode cX4_errorPosition 16 = .ok (.ifCond .eq 7, 3) := dk_153 0 7 (dk_at dksX4_errorPosition_0 16 rfl rfl)
theorem dX4_errorPosition_19 : decode cX4_errorPosition 19 = .ok (.iconst 0, 1) := dk_3 (dk_at dksX4_errorPosition_0 19 rfl rfl)
theorem dX4_errorPosition_20 : decode cX4_errorPosition 20 = .ok (.goto 7, 3) := dk_167 0 7 (dk_at dksX4_errorPosition_0 20 rfl rfl)
theorem dX4_errorPosition_23 : decode cX4_errorPosition 23 = .ok (.aload_n 0, 1) := dk_42 (dk_at dksX4_errorPosition_0 23 rfl rfl)
theorem dX4_errorPosition_24 : decode cX4_errorPosition 24 = .ok (.getfield 28, 3) := dk_180 0 28 (dk_at dksX4_errorPosition_1 0 rfl rfl)
theorem dX4_errorPosition_27 : decode cX4_errorPosition 27 = .ok (.ireturn, 1) := dk_172 (dk_at dksX4_errorPosition_1 3 rfl rfl)
abbrev cX4_failedCommand : ByteArray := prog_19_method_82_code
def yX4_failedCommand : MethodName := ⟨RX4, "failedCommand", "()I"⟩
def dkwX4_failedCommand_1 : List UInt8 := [180, 0, 32, 172]
abbrev dktX4_failedCommand_1 : List UInt8 := dkwX4_failedCommand_1 ++ []
def dkwX4_failedCommand_0 : List UInt8 := [42, 42, 180, 0, 32, 156, 0, 7, 4, 167, 0, 4, 3, 182, 0, 76, 153, 0, 7, 3, 167, 0, 7, 42]
abbrev dktX4_failedCommand_0 : List UInt8 := dkwX4_failedCommand_0 ++ dktX4_failedCommand_1
theorem dksX4_failedCommand_0 : cX4_failedCommand.data.toList.drop 0 = dktX4_failedCommand_0 := by decide +kernel
theorem dksX4_failedCommand_1 : cX4_failedCommand.data.toList.drop 24 = dktX4_failedCommand_1 := dk_seg dksX4_failedCommand_0 24 rfl rfl
theorem dX4_failedCommand_0 : decode cX4_failedCommand 0 = .ok (.aload_n 0, 1) := dk_42 (dk_at dksX4_failedCommand_0 0 rfl rfl)
theorem dX4_failedCommand_1 : decode cX4_failedCommand 1 = .ok (.aload_n 0, 1) := dk_42 (dk_at dksX4_failedCommand_0 1 rfl rfl)
theorem dX4_failedCommand_2 : decode cX4_failedCommand 2 = .ok (.getfield 32, 3) := dk_180 0 32 (dk_at dksX4_failedCommand_0 2 rfl rfl)
theorem dX4_failedCommand_5 : decode cX4_failedCommand 5 = .ok (.ifCond .ge 7, 3) := dk_156 0 7 (dk_at dksX4_failedCommand_0 5 rfl rfl)
theorem dX4_failedCommand_8 : decode cX4_failedCommand 8 = .ok (.iconst 1, 1) := dk_4 (dk_at dksX4_failedCommand_0 8 rfl rfl)
theorem dX4_failedCommand_9 : decode cX4_failedCommand 9 = .ok (.goto 4, 3) := dk_167 0 4 (dk_at dksX4_failedCommand_0 9 rfl rfl)
theorem dX4_failedCommand_12 : decode cX4_failedCommand 12 = .ok (.iconst 0, 1) := dk_3 (dk_at dksX4_failedCommand_0 12 rfl rfl)
theorem dX4_failedCommand_13 : decode cX4_failedCommand 13 = .ok (.invokevirtual 76, 3) := dk_182 0 76 (dk_at dksX4_failedCommand_0 13 rfl rfl)
theorem dX4_failedCommand_16 : decode cX4_failedCommand 16 = .ok (.ifCond .eq 7, 3) := dk_153 0 7 (dk_at dksX4_failedCommand_0 16 rfl rfl)
theorem dX4_failedCommand_19 : decode cX4_failedCommand 19 = .ok (.iconst 0, 1) := dk_3 (dk_at dksX4_failedCommand_0 19 rfl rfl)
theorem dX4_failedCommand_20 : decode cX4_failedCommand 20 = .ok (.goto 7, 3) := dk_167 0 7 (dk_at dksX4_failedCommand_0 20 rfl rfl)
theorem dX4_failedCommand_23 : decode cX4_failedCommand 23 = .ok (.aload_n 0, 1) := dk_42 (dk_at dksX4_failedCommand_0 23 rfl rfl)
theorem dX4_failedCommand_24 : decode cX4_failedCommand 24 = .ok (.getfield 32, 3) := dk_180 0 32 (dk_at dksX4_failedCommand_1 0 rfl rfl)
theorem dX4_failedCommand_27 : decode cX4_failedCommand 27 = .ok (.ireturn, 1) := dk_172 (dk_at dksX4_failedCommand_1 3 rfl rfl)
abbrev cX4_writeParty : ByteArray := prog_19_method_86_code
def yX4_writeParty : MethodName := ⟨RX4, "writeParty", "(I)I"⟩
def dkwX4_writeParty_3 : List UInt8 := [182, 1, 8, 132, 2, 1, 167, 255, 216, 42, 180, 0, 254, 172]
abbrev dktX4_writeParty_3 : List UInt8 := dkwX4_writeParty_3 ++ []
def dkwX4_writeParty_2 : List UInt8 := [154, 0, 6, 167, 0, 22, 42, 16, 62, 28, 182, 1, 8, 42, 16, 61, 42, 27, 28, 182, 0, 79]
abbrev dktX4_writeParty_2 : List UInt8 := dkwX4_writeParty_2 ++ dktX4_writeParty_3
def dkwX4_writeParty_1 : List UInt8 := [180, 0, 7, 8, 27, 96, 46, 182, 1, 8, 3, 61, 28, 16, 7, 162, 0, 40, 42, 27, 28, 182, 0, 79]
abbrev dktX4_writeParty_1 : List UInt8 := dkwX4_writeParty_1 ++ dktX4_writeParty_2
def dkwX4_writeParty_0 : List UInt8 := [42, 27, 182, 0, 94, 153, 0, 5, 3, 172, 42, 3, 181, 0, 254, 42, 27, 182, 1, 1, 42, 16, 36, 42]
abbrev dktX4_writeParty_0 : List UInt8 := dkwX4_writeParty_0 ++ dktX4_writeParty_1
theorem dksX4_writeParty_0 : cX4_writeParty.data.toList.drop 0 = dktX4_writeParty_0 := by decide +kernel
theorem dksX4_writeParty_1 : cX4_writeParty.data.toList.drop 24 = dktX4_writeParty_1 := dk_seg dksX4_writeParty_0 24 rfl rfl
theorem dksX4_writeParty_2 : cX4_writeParty.data.toList.drop 48 = dktX4_writeParty_2 := dk_seg dksX4_writeParty_1 24 rfl rfl
theorem dksX4_writeParty_3 : cX4_writeParty.data.toList.drop 70 = dktX4_writeParty_3 := dk_seg dksX4_writeParty_2 22 rfl rfl
theorem dX4_writeParty_0 : decode cX4_writeParty 0 = .ok (.aload_n 0, 1) := dk_42 (dk_at dksX4_writeParty_0 0 rfl rfl)
theorem dX4_writeParty_1 : decode cX4_writeParty 1 = .ok (.iload_n 1, 1) := dk_27 (dk_at dksX4_writeParty_0 1 rfl rfl)
theorem dX4_writeParty_2 : decode cX4_writeParty 2 = .ok (.invokevirtual 94, 3) := dk_182 0 94 (dk_at dksX4_writeParty_0 2 rfl rfl)
theorem dX4_writeParty_5 : decode cX4_writeParty 5 = .ok (.ifCond .eq 5, 3) := dk_153 0 5 (dk_at dksX4_writeParty_0 5 rfl rfl)
theorem dX4_writeParty_8 : decode cX4_writeParty 8 = .ok (.iconst 0, 1) := dk_3 (dk_at dksX4_writeParty_0 8 rfl rfl)
theorem dX4_writeParty_9 : decode cX4_writeParty 9 = .ok (.ireturn, 1) := dk_172 (dk_at dksX4_writeParty_0 9 rfl rfl)
theorem dX4_writeParty_10 : decode cX4_writeParty 10 = .ok (.aload_n 0, 1) := dk_42 (dk_at dksX4_writeParty_0 10 rfl rfl)
theorem dX4_writeParty_11 : decode cX4_writeParty 11 = .ok (.iconst 0, 1) := dk_3 (dk_at dksX4_writeParty_0 11 rfl rfl)
theorem dX4_writeParty_12 : decode cX4_writeParty 12 = .ok (.putfield 254, 3) := dk_181 0 254 (dk_at dksX4_writeParty_0 12 rfl rfl)
theorem dX4_writeParty_15 : decode cX4_writeParty 15 = .ok (.aload_n 0, 1) := dk_42 (dk_at dksX4_writeParty_0 15 rfl rfl)
theorem dX4_writeParty_16 : decode cX4_writeParty 16 = .ok (.iload_n 1, 1) := dk_27 (dk_at dksX4_writeParty_0 16 rfl rfl)
theorem dX4_writeParty_17 : decode cX4_writeParty 17 = .ok (.invokevirtual 257, 3) := dk_182 1 1 (dk_at dksX4_writeParty_0 17 rfl rfl)
theorem dX4_writeParty_20 : decode cX4_writeParty 20 = .ok (.aload_n 0, 1) := dk_42 (dk_at dksX4_writeParty_0 20 rfl rfl)
theorem dX4_writeParty_21 : decode cX4_writeParty 21 = .ok (.bipush 36, 2) := dk_16 36 (dk_at dksX4_writeParty_0 21 rfl rfl)
theorem dX4_writeParty_23 : decode cX4_writeParty 23 = .ok (.aload_n 0, 1) := dk_42 (dk_at dksX4_writeParty_0 23 rfl rfl)
theorem dX4_writeParty_24 : decode cX4_writeParty 24 = .ok (.getfield 7, 3) := dk_180 0 7 (dk_at dksX4_writeParty_1 0 rfl rfl)
theorem dX4_writeParty_27 : decode cX4_writeParty 27 = .ok (.iconst 5, 1) := dk_8 (dk_at dksX4_writeParty_1 3 rfl rfl)
theorem dX4_writeParty_28 : decode cX4_writeParty 28 = .ok (.iload_n 1, 1) := dk_27 (dk_at dksX4_writeParty_1 4 rfl rfl)
theorem dX4_writeParty_29 : decode cX4_writeParty 29 = .ok (.iadd, 1) := dk_96 (dk_at dksX4_writeParty_1 5 rfl rfl)
theorem dX4_writeParty_30 : decode cX4_writeParty 30 = .ok (.iaload, 1) := dk_46 (dk_at dksX4_writeParty_1 6 rfl rfl)
theorem dX4_writeParty_31 : decode cX4_writeParty 31 = .ok (.invokevirtual 264, 3) := dk_182 1 8 (dk_at dksX4_writeParty_1 7 rfl rfl)
theorem dX4_writeParty_34 : decode cX4_writeParty 34 = .ok (.iconst 0, 1) := dk_3 (dk_at dksX4_writeParty_1 10 rfl rfl)
theorem dX4_writeParty_35 : decode cX4_writeParty 35 = .ok (.istore_n 2, 1) := dk_61 (dk_at dksX4_writeParty_1 11 rfl rfl)
theorem dX4_writeParty_36 : decode cX4_writeParty 36 = .ok (.iload_n 2, 1) := dk_28 (dk_at dksX4_writeParty_1 12 rfl rfl)
theorem dX4_writeParty_37 : decode cX4_writeParty 37 = .ok (.bipush 7, 2) := dk_16 7 (dk_at dksX4_writeParty_1 13 rfl rfl)
theorem dX4_writeParty_39 : decode cX4_writeParty 39 = .ok (.if_icmp .ge 40, 3) := dk_162 0 40 (dk_at dksX4_writeParty_1 15 rfl rfl)
theorem dX4_writeParty_42 : decode cX4_writeParty 42 = .ok (.aload_n 0, 1) := dk_42 (dk_at dksX4_writeParty_1 18 rfl rfl)
theorem dX4_writeParty_43 : decode cX4_writeParty 43 = .ok (.iload_n 1, 1) := dk_27 (dk_at dksX4_writeParty_1 19 rfl rfl)
theorem dX4_writeParty_44 : decode cX4_writeParty 44 = .ok (.iload_n 2, 1) := dk_28 (dk_at dksX4_writeParty_1 20 rfl rfl)
theorem dX4_writeParty_45 : decode cX4_writeParty 45 = .ok (.invokevirtual 79, 3) := dk_182 0 79 (dk_at dksX4_writeParty_1 21 rfl rfl)
theorem dX4_writeParty_48 : decode cX4_writeParty 48 = .ok (.ifCond .ne 6, 3) := dk_154 0 6 (dk_at dksX4_writeParty_2 0 rfl rfl)
theorem dX4_writeParty_51 : decode cX4_writeParty 51 = .ok (.goto 22, 3) := dk_167 0 22 (dk_at dksX4_writeParty_2 3 rfl rfl)
theorem dX4_writeParty_54 : decode cX4_writeParty 54 = .ok (.aload_n 0, 1) := dk_42 (dk_at dksX4_writeParty_2 6 rfl rfl)
theorem dX4_writeParty_55 : decode cX4_writeParty 55 = .ok (.bipush 62, 2) := dk_16 62 (dk_at dksX4_writeParty_2 7 rfl rfl)
theorem dX4_writeParty_57 : decode cX4_writeParty 57 = .ok (.iload_n 2, 1) := dk_28 (dk_at dksX4_writeParty_2 9 rfl rfl)
theorem dX4_writeParty_58 : decode cX4_writeParty 58 = .ok (.invokevirtual 264, 3) := dk_182 1 8 (dk_at dksX4_writeParty_2 10 rfl rfl)
theorem dX4_writeParty_61 : decode cX4_writeParty 61 = .ok (.aload_n 0, 1) := dk_42 (dk_at dksX4_writeParty_2 13 rfl rfl)
theorem dX4_writeParty_62 : decode cX4_writeParty 62 = .ok (.bipush 61, 2) := dk_16 61 (dk_at dksX4_writeParty_2 14 rfl rfl)
theorem dX4_writeParty_64 : decode cX4_writeParty 64 = .ok (.aload_n 0, 1) := dk_42 (dk_at dksX4_writeParty_2 16 rfl rfl)
theorem dX4_writeParty_65 : decode cX4_writeParty 65 = .ok (.iload_n 1, 1) := dk_27 (dk_at dksX4_writeParty_2 17 rfl rfl)
theorem dX4_writeParty_66 : decode cX4_writeParty 66 = .ok (.iload_n 2, 1) := dk_28 (dk_at dksX4_writeParty_2 18 rfl rfl)
theorem dX4_writeParty_67 : decode cX4_writeParty 67 = .ok (.invokevirtual 79, 3) := dk_182 0 79 (dk_at dksX4_writeParty_2 19 rfl rfl)
theorem dX4_writeParty_70 : decode cX4_writeParty 70 = .ok (.invokevirtual 264, 3) := dk_182 1 8 (dk_at dksX4_writeParty_3 0 rfl rfl)
theorem dX4_writeParty_73 : decode cX4_writeParty 73 = .ok (.iinc 2 1, 3) := dk_132 2 1 (dk_at dksX4_writeParty_3 3 rfl rfl)
theorem dX4_writeParty_76 : decode cX4_writeParty 76 = .ok (.goto (-40), 3) := dk_167 255 216 (dk_at dksX4_writeParty_3 6 rfl rfl)
theorem dX4_writeParty_79 : decode cX4_writeParty 79 = .ok (.aload_n 0, 1) := dk_42 (dk_at dksX4_writeParty_3 9 rfl rfl)
theorem dX4_writeParty_80 : decode cX4_writeParty 80 = .ok (.getfield 254, 3) := dk_180 0 254 (dk_at dksX4_writeParty_3 10 rfl rfl)
theorem dX4_writeParty_83 : decode cX4_writeParty 83 = .ok (.ireturn, 1) := dk_172 (dk_at dksX4_writeParty_3 13 rfl rfl)
abbrev cX4_writesNumber : ByteArray := prog_19_method_84_code
def yX4_writesNumber : MethodName := ⟨RX4, "writesNumber", "(I)V"⟩
def dkwX4_writesNumber_1 : List UInt8 := [182, 1, 5, 177]
abbrev dktX4_writesNumber_1 : List UInt8 := dkwX4_writesNumber_1 ++ []
def dkwX4_writesNumber_0 : List UInt8 := [27, 16, 9, 164, 0, 11, 42, 27, 16, 10, 108, 182, 1, 1, 42, 16, 48, 27, 16, 10, 112, 96]
abbrev dktX4_writesNumber_0 : List UInt8 := dkwX4_writesNumber_0 ++ dktX4_writesNumber_1
theorem dksX4_writesNumber_0 : cX4_writesNumber.data.toList.drop 0 = dktX4_writesNumber_0 := by decide +kernel
theorem dksX4_writesNumber_1 : cX4_writesNumber.data.toList.drop 22 = dktX4_writesNumber_1 := dk_seg dksX4_writesNumber_0 22 rfl rfl
theorem dX4_writesNumber_0 : decode cX4_writesNumber 0 = .ok (.iload_n 1, 1) := dk_27 (dk_at dksX4_writesNumber_0 0 rfl rfl)
theorem dX4_writesNumber_1 : decode cX4_writesNumber 1 = .ok (.bipush 9, 2) := dk_16 9 (dk_at dksX4_writesNumber_0 1 rfl rfl)
theorem dX4_writesNumber_3 : decode cX4_writesNumber 3 = .ok (.if_icmp .le 11, 3) := dk_164 0 11 (dk_at dksX4_writesNumber_0 3 rfl rfl)
theorem dX4_writesNumber_6 : decode cX4_writesNumber 6 = .ok (.aload_n 0, 1) := dk_42 (dk_at dksX4_writesNumber_0 6 rfl rfl)
theorem dX4_writesNumber_7 : decode cX4_writesNumber 7 = .ok (.iload_n 1, 1) := dk_27 (dk_at dksX4_writesNumber_0 7 rfl rfl)
theorem dX4_writesNumber_8 : decode cX4_writesNumber 8 = .ok (.bipush 10, 2) := dk_16 10 (dk_at dksX4_writesNumber_0 8 rfl rfl)
theorem dX4_writesNumber_10 : decode cX4_writesNumber 10 = .ok (.idiv, 1) := dk_108 (dk_at dksX4_writesNumber_0 10 rfl rfl)
theorem dX4_writesNumber_11 : decode cX4_writesNumber 11 = .ok (.invokevirtual 257, 3) := dk_182 1 1 (dk_at dksX4_writesNumber_0 11 rfl rfl)
theorem dX4_writesNumber_14 : decode cX4_writesNumber 14 = .ok (.aload_n 0, 1) := dk_42 (dk_at dksX4_writesNumber_0 14 rfl rfl)
theorem dX4_writesNumber_15 : decode cX4_writesNumber 15 = .ok (.bipush 48, 2) := dk_16 48 (dk_at dksX4_writesNumber_0 15 rfl rfl)
theorem dX4_writesNumber_17 : decode cX4_writesNumber 17 = .ok (.iload_n 1, 1) := dk_27 (dk_at dksX4_writesNumber_0 17 rfl rfl)
theorem dX4_writesNumber_18 : decode cX4_writesNumber 18 = .ok (.bipush 10, 2) := dk_16 10 (dk_at dksX4_writesNumber_0 18 rfl rfl)
theorem dX4_writesNumber_20 : decode cX4_writesNumber 20 = .ok (.irem, 1) := dk_112 (dk_at dksX4_writesNumber_0 20 rfl rfl)
theorem dX4_writesNumber_21 : decode cX4_writesNumber 21 = .ok (.iadd, 1) := dk_96 (dk_at dksX4_writesNumber_0 21 rfl rfl)
theorem dX4_writesNumber_22 : decode cX4_writesNumber 22 = .ok (.invokevirtual 261, 3) := dk_182 1 5 (dk_at dksX4_writesNumber_1 0 rfl rfl)
theorem dX4_writesNumber_25 : decode cX4_writesNumber 25 = .ok (.return_, 1) := dk_177 (dk_at dksX4_writesNumber_1 3 rfl rfl)
abbrev cX4_writes : ByteArray := prog_19_method_83_code
def yX4_writes : MethodName := ⟨RX4, "writes", "(I)V"⟩
def dkwX4_writes_0 : List UInt8 := [42, 180, 0, 35, 42, 180, 0, 254, 27, 146, 85, 42, 89, 180, 0, 254, 4, 96, 181, 0, 254, 177]
abbrev dktX4_writes_0 : List UInt8 := dkwX4_writes_0 ++ []
theorem dksX4_writes_0 : cX4_writes.data.toList.drop 0 = dktX4_writes_0 := by decide +kernel
theorem dX4_writes_0 : decode cX4_writes 0 = .ok (.aload_n 0, 1) := dk_42 (dk_at dksX4_writes_0 0 rfl rfl)
theorem dX4_writes_1 : decode cX4_writes 1 = .ok (.getfield 35, 3) := dk_180 0 35 (dk_at dksX4_writes_0 1 rfl rfl)
theorem dX4_writes_4 : decode cX4_writes 4 = .ok (.aload_n 0, 1) := dk_42 (dk_at dksX4_writes_0 4 rfl rfl)
theorem dX4_writes_5 : decode cX4_writes 5 = .ok (.getfield 254, 3) := dk_180 0 254 (dk_at dksX4_writes_0 5 rfl rfl)
theorem dX4_writes_8 : decode cX4_writes 8 = .ok (.iload_n 1, 1) := dk_27 (dk_at dksX4_writes_0 8 rfl rfl)
theorem dX4_writes_9 : decode cX4_writes 9 = .ok (.i2c, 1) := dk_146 (dk_at dksX4_writes_0 9 rfl rfl)
theorem dX4_writes_10 : decode cX4_writes 10 = .ok (.castore, 1) := dk_85 (dk_at dksX4_writes_0 10 rfl rfl)
theorem dX4_writes_11 : decode cX4_writes 11 = .ok (.aload_n 0, 1) := dk_42 (dk_at dksX4_writes_0 11 rfl rfl)
theorem dX4_writes_12 : decode cX4_writes 12 = .ok (.dup, 1) := dk_89 (dk_at dksX4_writes_0 12 rfl rfl)
theorem dX4_writes_13 : decode cX4_writes 13 = .ok (.getfield 254, 3) := dk_180 0 254 (dk_at dksX4_writes_0 13 rfl rfl)
theorem dX4_writes_16 : decode cX4_writes 16 = .ok (.iconst 1, 1) := dk_4 (dk_at dksX4_writes_0 16 rfl rfl)
theorem dX4_writes_17 : decode cX4_writes 17 = .ok (.iadd, 1) := dk_96 (dk_at dksX4_writes_0 17 rfl rfl)
theorem dX4_writes_18 : decode cX4_writes 18 = .ok (.putfield 254, 3) := dk_181 0 254 (dk_at dksX4_writes_0 18 rfl rfl)
theorem dX4_writes_21 : decode cX4_writes 21 = .ok (.return_, 1) := dk_177 (dk_at dksX4_writes_0 21 rfl rfl)
abbrev cX4_writesBehind : ByteArray := prog_19_method_85_code
def yX4_writesBehind : MethodName := ⟨RX4, "writesBehind", "(II)V"⟩
def dkwX4_writesBehind_0 : List UInt8 := [42, 27, 182, 1, 5, 42, 28, 182, 1, 1, 177]
abbrev dktX4_writesBehind_0 : List UInt8 := dkwX4_writesBehind_0 ++ []
theorem dksX4_writesBehind_0 : cX4_writesBehind.data.toList.drop 0 = dktX4_writesBehind_0 := by decide +kernel
theorem dX4_writesBehind_0 : decode cX4_writesBehind 0 = .ok (.aload_n 0, 1) := dk_42 (dk_at dksX4_writesBehind_0 0 rfl rfl)
theorem dX4_writesBehind_1 : decode cX4_writesBehind 1 = .ok (.iload_n 1, 1) := dk_27 (dk_at dksX4_writesBehind_0 1 rfl rfl)
theorem dX4_writesBehind_2 : decode cX4_writesBehind 2 = .ok (.invokevirtual 261, 3) := dk_182 1 5 (dk_at dksX4_writesBehind_0 2 rfl rfl)
theorem dX4_writesBehind_5 : decode cX4_writesBehind 5 = .ok (.aload_n 0, 1) := dk_42 (dk_at dksX4_writesBehind_0 5 rfl rfl)
theorem dX4_writesBehind_6 : decode cX4_writesBehind 6 = .ok (.iload_n 2, 1) := dk_28 (dk_at dksX4_writesBehind_0 6 rfl rfl)
theorem dX4_writesBehind_7 : decode cX4_writesBehind 7 = .ok (.invokevirtual 257, 3) := dk_182 1 1 (dk_at dksX4_writesBehind_0 7 rfl rfl)
theorem dX4_writesBehind_10 : decode cX4_writesBehind 10 = .ok (.return_, 1) := dk_177 (dk_at dksX4_writesBehind_0 10 rfl rfl)
abbrev cX4_writeCycle : ByteArray := prog_19_method_87_code
def yX4_writeCycle : MethodName := ⟨RX4, "writeCycle", "()I"⟩
def dkwX4_writeCycle_3 : List UInt8 := [182, 1, 8, 42, 180, 0, 254, 172]
abbrev dktX4_writeCycle_3 : List UInt8 := dkwX4_writeCycle_3 ++ []
def dkwX4_writeCycle_2 : List UInt8 := [42, 180, 0, 39, 28, 46, 182, 1, 8, 132, 2, 1, 167, 255, 236, 42, 16, 61, 42, 27, 182, 0, 111]
abbrev dktX4_writeCycle_2 : List UInt8 := dkwX4_writeCycle_2 ++ dktX4_writeCycle_3
def dkwX4_writeCycle_1 : List UInt8 := [3, 181, 0, 254, 42, 42, 180, 0, 39, 3, 46, 182, 1, 1, 4, 61, 28, 27, 162, 0, 21, 42, 16, 62]
abbrev dktX4_writeCycle_1 : List UInt8 := dkwX4_writeCycle_1 ++ dktX4_writeCycle_2
def dkwX4_writeCycle_0 : List UInt8 := [42, 182, 0, 114, 60, 42, 27, 154, 0, 7, 4, 167, 0, 4, 3, 182, 0, 76, 153, 0, 5, 3, 172, 42]
abbrev dktX4_writeCycle_0 : List UInt8 := dkwX4_writeCycle_0 ++ dktX4_writeCycle_1
theorem dksX4_writeCycle_0 : cX4_writeCycle.data.toList.drop 0 = dktX4_writeCycle_0 := by decide +kernel
theorem dksX4_writeCycle_1 : cX4_writeCycle.data.toList.drop 24 = dktX4_writeCycle_1 := dk_seg dksX4_writeCycle_0 24 rfl rfl
theorem dksX4_writeCycle_2 : cX4_writeCycle.data.toList.drop 48 = dktX4_writeCycle_2 := dk_seg dksX4_writeCycle_1 24 rfl rfl
theorem dksX4_writeCycle_3 : cX4_writeCycle.data.toList.drop 71 = dktX4_writeCycle_3 := dk_seg dksX4_writeCycle_2 23 rfl rfl
theorem dX4_writeCycle_0 : decode cX4_writeCycle 0 = .ok (.aload_n 0, 1) := dk_42 (dk_at dksX4_writeCycle_0 0 rfl rfl)
theorem dX4_writeCycle_1 : decode cX4_writeCycle 1 = .ok (.invokevirtual 114, 3) := dk_182 0 114 (dk_at dksX4_writeCycle_0 1 rfl rfl)
theorem dX4_writeCycle_4 : decode cX4_writeCycle 4 = .ok (.istore_n 1, 1) := dk_60 (dk_at dksX4_writeCycle_0 4 rfl rfl)
theorem dX4_writeCycle_5 : decode cX4_writeCycle 5 = .ok (.aload_n 0, 1) := dk_42 (dk_at dksX4_writeCycle_0 5 rfl rfl)
theorem dX4_writeCycle_6 : decode cX4_writeCycle 6 = .ok (.iload_n 1, 1) := dk_27 (dk_at dksX4_writeCycle_0 6 rfl rfl)
theorem dX4_writeCycle_7 : decode cX4_writeCycle 7 = .ok (.ifCond .ne 7, 3) := dk_154 0 7 (dk_at dksX4_writeCycle_0 7 rfl rfl)
theorem dX4_writeCycle_10 : decode cX4_writeCycle 10 = .ok (.iconst 1, 1) := dk_4 (dk_at dksX4_writeCycle_0 10 rfl rfl)
theorem dX4_writeCycle_11 : decode cX4_writeCycle 11 = .ok (.goto 4, 3) := dk_167 0 4 (dk_at dksX4_writeCycle_0 11 rfl rfl)
theorem dX4_writeCycle_14 : decode cX4_writeCycle 14 = .ok (.iconst 0, 1) := dk_3 (dk_at dksX4_writeCycle_0 14 rfl rfl)
theorem dX4_writeCycle_15 : decode cX4_writeCycle 15 = .ok (.invokevirtual 76, 3) := dk_182 0 76 (dk_at dksX4_writeCycle_0 15 rfl rfl)
theorem dX4_writeCycle_18 : decode cX4_writeCycle 18 = .ok (.ifCond .eq 5, 3) := dk_153 0 5 (dk_at dksX4_writeCycle_0 18 rfl rfl)
theorem dX4_writeCycle_21 : decode cX4_writeCycle 21 = .ok (.iconst 0, 1) := dk_3 (dk_at dksX4_writeCycle_0 21 rfl rfl)
theorem dX4_writeCycle_22 : decode cX4_writeCycle 22 = .ok (.ireturn, 1) := dk_172 (dk_at dksX4_writeCycle_0 22 rfl rfl)
theorem dX4_writeCycle_23 : decode cX4_writeCycle 23 = .ok (.aload_n 0, 1) := dk_42 (dk_at dksX4_writeCycle_0 23 rfl rfl)
theorem dX4_writeCycle_24 : decode cX4_writeCycle 24 = .ok (.iconst 0, 1) := dk_3 (dk_at dksX4_writeCycle_1 0 rfl rfl)
theorem dX4_writeCycle_25 : decode cX4_writeCycle 25 = .ok (.putfield 254, 3) := dk_181 0 254 (dk_at dksX4_writeCycle_1 1 rfl rfl)
theorem dX4_writeCycle_28 : decode cX4_writeCycle 28 = .ok (.aload_n 0, 1) := dk_42 (dk_at dksX4_writeCycle_1 4 rfl rfl)
theorem dX4_writeCycle_29 : decode cX4_writeCycle 29 = .ok (.aload_n 0, 1) := dk_42 (dk_at dksX4_writeCycle_1 5 rfl rfl)
theorem dX4_writeCycle_30 : decode cX4_writeCycle 30 = .ok (.getfield 39, 3) := dk_180 0 39 (dk_at dksX4_writeCycle_1 6 rfl rfl)
theorem dX4_writeCycle_33 : decode cX4_writeCycle 33 = .ok (.iconst 0, 1) := dk_3 (dk_at dksX4_writeCycle_1 9 rfl rfl)
theorem dX4_writeCycle_34 : decode cX4_writeCycle 34 = .ok (.iaload, 1) := dk_46 (dk_at dksX4_writeCycle_1 10 rfl rfl)
theorem dX4_writeCycle_35 : decode cX4_writeCycle 35 = .ok (.invokevirtual 257, 3) := dk_182 1 1 (dk_at dksX4_writeCycle_1 11 rfl rfl)
theorem dX4_writeCycle_38 : decode cX4_writeCycle 38 = .ok (.iconst 1, 1) := dk_4 (dk_at dksX4_writeCycle_1 14 rfl rfl)
theorem dX4_writeCycle_39 : decode cX4_writeCycle 39 = .ok (.istore_n 2, 1) := dk_61 (dk_at dksX4_writeCycle_1 15 rfl rfl)
theorem dX4_writeCycle_40 : decode cX4_writeCycle 40 = .ok (.iload_n 2, 1) := dk_28 (dk_at dksX4_writeCycle_1 16 rfl rfl)
theorem dX4_writeCycle_41 : decode cX4_writeCycle 41 = .ok (.iload_n 1, 1) := dk_27 (dk_at dksX4_writeCycle_1 17 rfl rfl)
theorem dX4_writeCycle_42 : decode cX4_writeCycle 42 = .ok (.if_icmp .ge 21, 3) := dk_162 0 21 (dk_at dksX4_writeCycle_1 18 rfl rfl)
theorem dX4_writeCycle_45 : decode cX4_writeCycle 45 = .ok (.aload_n 0, 1) := dk_42 (dk_at dksX4_writeCycle_1 21 rfl rfl)
theorem dX4_writeCycle_46 : decode cX4_writeCycle 46 = .ok (.bipush 62, 2) := dk_16 62 (dk_at dksX4_writeCycle_1 22 rfl rfl)
theorem dX4_writeCycle_48 : decode cX4_writeCycle 48 = .ok (.aload_n 0, 1) := dk_42 (dk_at dksX4_writeCycle_2 0 rfl rfl)
theorem dX4_writeCycle_49 : decode cX4_writeCycle 49 = .ok (.getfield 39, 3) := dk_180 0 39 (dk_at dksX4_writeCycle_2 1 rfl rfl)
theorem dX4_writeCycle_52 : decode cX4_writeCycle 52 = .ok (.iload_n 2, 1) := dk_28 (dk_at dksX4_writeCycle_2 4 rfl rfl)
theorem dX4_writeCycle_53 : decode cX4_writeCycle 53 = .ok (.iaload, 1) := dk_46 (dk_at dksX4_writeCycle_2 5 rfl rfl)
theorem dX4_writeCycle_54 : decode cX4_writeCycle 54 = .ok (.invokevirtual 264, 3) := dk_182 1 8 (dk_at dksX4_writeCycle_2 6 rfl rfl)
theorem dX4_writeCycle_57 : decode cX4_writeCycle 57 = .ok (.iinc 2 1, 3) := dk_132 2 1 (dk_at dksX4_writeCycle_2 9 rfl rfl)
theorem dX4_writeCycle_60 : decode cX4_writeCycle 60 = .ok (.goto (-20), 3) := dk_167 255 236 (dk_at dksX4_writeCycle_2 12 rfl rfl)
theorem dX4_writeCycle_63 : decode cX4_writeCycle 63 = .ok (.aload_n 0, 1) := dk_42 (dk_at dksX4_writeCycle_2 15 rfl rfl)
theorem dX4_writeCycle_64 : decode cX4_writeCycle 64 = .ok (.bipush 61, 2) := dk_16 61 (dk_at dksX4_writeCycle_2 16 rfl rfl)
theorem dX4_writeCycle_66 : decode cX4_writeCycle 66 = .ok (.aload_n 0, 1) := dk_42 (dk_at dksX4_writeCycle_2 18 rfl rfl)
theorem dX4_writeCycle_67 : decode cX4_writeCycle 67 = .ok (.iload_n 1, 1) := dk_27 (dk_at dksX4_writeCycle_2 19 rfl rfl)
theorem dX4_writeCycle_68 : decode cX4_writeCycle 68 = .ok (.invokevirtual 111, 3) := dk_182 0 111 (dk_at dksX4_writeCycle_2 20 rfl rfl)
theorem dX4_writeCycle_71 : decode cX4_writeCycle 71 = .ok (.invokevirtual 264, 3) := dk_182 1 8 (dk_at dksX4_writeCycle_3 0 rfl rfl)
theorem dX4_writeCycle_74 : decode cX4_writeCycle 74 = .ok (.aload_n 0, 1) := dk_42 (dk_at dksX4_writeCycle_3 3 rfl rfl)
theorem dX4_writeCycle_75 : decode cX4_writeCycle 75 = .ok (.getfield 254, 3) := dk_180 0 254 (dk_at dksX4_writeCycle_3 4 rfl rfl)
theorem dX4_writeCycle_78 : decode cX4_writeCycle 78 = .ok (.ireturn, 1) := dk_172 (dk_at dksX4_writeCycle_3 7 rfl rfl)
abbrev cX4_outputAt : ByteArray := prog_19_method_88_code
def yX4_outputAt : MethodName := ⟨RX4, "outputAt", "(I)C"⟩
def dkwX4_outputAt_1 : List UInt8 := [153, 0, 8, 16, 32, 167, 0, 9, 42, 180, 0, 35, 27, 52, 172]
abbrev dktX4_outputAt_1 : List UInt8 := dkwX4_outputAt_1 ++ []
def dkwX4_outputAt_0 : List UInt8 := [42, 27, 3, 42, 180, 0, 254, 4, 100, 184, 0, 68, 153, 0, 7, 3, 167, 0, 4, 4, 182, 0, 76]
abbrev dktX4_outputAt_0 : List UInt8 := dkwX4_outputAt_0 ++ dktX4_outputAt_1
theorem dksX4_outputAt_0 : cX4_outputAt.data.toList.drop 0 = dktX4_outputAt_0 := by decide +kernel
theorem dksX4_outputAt_1 : cX4_outputAt.data.toList.drop 23 = dktX4_outputAt_1 := dk_seg dksX4_outputAt_0 23 rfl rfl
theorem dX4_outputAt_0 : decode cX4_outputAt 0 = .ok (.aload_n 0, 1) := dk_42 (dk_at dksX4_outputAt_0 0 rfl rfl)
theorem dX4_outputAt_1 : decode cX4_outputAt 1 = .ok (.iload_n 1, 1) := dk_27 (dk_at dksX4_outputAt_0 1 rfl rfl)
theorem dX4_outputAt_2 : decode cX4_outputAt 2 = .ok (.iconst 0, 1) := dk_3 (dk_at dksX4_outputAt_0 2 rfl rfl)
theorem dX4_outputAt_3 : decode cX4_outputAt 3 = .ok (.aload_n 0, 1) := dk_42 (dk_at dksX4_outputAt_0 3 rfl rfl)
theorem dX4_outputAt_4 : decode cX4_outputAt 4 = .ok (.getfield 254, 3) := dk_180 0 254 (dk_at dksX4_outputAt_0 4 rfl rfl)
theorem dX4_outputAt_7 : decode cX4_outputAt 7 = .ok (.iconst 1, 1) := dk_4 (dk_at dksX4_outputAt_0 7 rfl rfl)
theorem dX4_outputAt_8 : decode cX4_outputAt 8 = .ok (.isub, 1) := dk_100 (dk_at dksX4_outputAt_0 8 rfl rfl)
theorem dX4_outputAt_9 : decode cX4_outputAt 9 = .ok (.invokestatic 68, 3) := dk_184 0 68 (dk_at dksX4_outputAt_0 9 rfl rfl)
theorem dX4_outputAt_12 : decode cX4_outputAt 12 = .ok (.ifCond .eq 7, 3) := dk_153 0 7 (dk_at dksX4_outputAt_0 12 rfl rfl)
theorem dX4_outputAt_15 : decode cX4_outputAt 15 = .ok (.iconst 0, 1) := dk_3 (dk_at dksX4_outputAt_0 15 rfl rfl)
theorem dX4_outputAt_16 : decode cX4_outputAt 16 = .ok (.goto 4, 3) := dk_167 0 4 (dk_at dksX4_outputAt_0 16 rfl rfl)
theorem dX4_outputAt_19 : decode cX4_outputAt 19 = .ok (.iconst 1, 1) := dk_4 (dk_at dksX4_outputAt_0 19 rfl rfl)
theorem dX4_outputAt_20 : decode cX4_outputAt 20 = .ok (.invokevirtual 76, 3) := dk_182 0 76 (dk_at dksX4_outputAt_0 20 rfl rfl)
theorem dX4_outputAt_23 : decode cX4_outputAt 23 = .ok (.ifCond .eq 8, 3) := dk_153 0 8 (dk_at dksX4_outputAt_1 0 rfl rfl)
theorem dX4_outputAt_26 : decode cX4_outputAt 26 = .ok (.bipush 32, 2) := dk_16 32 (dk_at dksX4_outputAt_1 3 rfl rfl)
theorem dX4_outputAt_28 : decode cX4_outputAt 28 = .ok (.goto 9, 3) := dk_167 0 9 (dk_at dksX4_outputAt_1 5 rfl rfl)
theorem dX4_outputAt_31 : decode cX4_outputAt 31 = .ok (.aload_n 0, 1) := dk_42 (dk_at dksX4_outputAt_1 8 rfl rfl)
theorem dX4_outputAt_32 : decode cX4_outputAt 32 = .ok (.getfield 35, 3) := dk_180 0 35 (dk_at dksX4_outputAt_1 9 rfl rfl)
theorem dX4_outputAt_35 : decode cX4_outputAt 35 = .ok (.iload_n 1, 1) := dk_27 (dk_at dksX4_outputAt_1 12 rfl rfl)
theorem dX4_outputAt_36 : decode cX4_outputAt 36 = .ok (.caload, 1) := dk_52 (dk_at dksX4_outputAt_1 13 rfl rfl)
theorem dX4_outputAt_37 : decode cX4_outputAt 37 = .ok (.ireturn, 1) := dk_172 (dk_at dksX4_outputAt_1 14 rfl rfl)
abbrev cX4_undo : ByteArray := prog_19_method_89_code
def yX4_undo : MethodName := ⟨RX4, "undo", "()I"⟩
def dkwX4_undo_2 : List UInt8 := [184, 0, 64, 42, 180, 0, 61, 172]
abbrev dktX4_undo_2 : List UInt8 := dkwX4_undo_2 ++ []
def dkwX4_undo_1 : List UInt8 := [180, 0, 61, 4, 100, 181, 0, 61, 42, 180, 0, 13, 16, 61, 42, 180, 0, 61, 104, 42, 180, 0, 7, 3]
abbrev dktX4_undo_1 : List UInt8 := dkwX4_undo_1 ++ dktX4_undo_2
def dkwX4_undo_0 : List UInt8 := [42, 42, 180, 0, 61, 154, 0, 7, 4, 167, 0, 4, 3, 182, 0, 76, 153, 0, 5, 3, 172, 42, 89]
abbrev dktX4_undo_0 : List UInt8 := dkwX4_undo_0 ++ dktX4_undo_1
theorem dksX4_undo_0 : cX4_undo.data.toList.drop 0 = dktX4_undo_0 := by decide +kernel
theorem dksX4_undo_1 : cX4_undo.data.toList.drop 23 = dktX4_undo_1 := dk_seg dksX4_undo_0 23 rfl rfl
theorem dksX4_undo_2 : cX4_undo.data.toList.drop 47 = dktX4_undo_2 := dk_seg dksX4_undo_1 24 rfl rfl
theorem dX4_undo_0 : decode cX4_undo 0 = .ok (.aload_n 0, 1) := dk_42 (dk_at dksX4_undo_0 0 rfl rfl)
theorem dX4_undo_1 : decode cX4_undo 1 = .ok (.aload_n 0, 1) := dk_42 (dk_at dksX4_undo_0 1 rfl rfl)
theorem dX4_undo_2 : decode cX4_undo 2 = .ok (.getfield 61, 3) := dk_180 0 61 (dk_at dksX4_undo_0 2 rfl rfl)
theorem dX4_undo_5 : decode cX4_undo 5 = .ok (.ifCond .ne 7, 3) := dk_154 0 7 (dk_at dksX4_undo_0 5 rfl rfl)
theorem dX4_undo_8 : decode cX4_undo 8 = .ok (.iconst 1, 1) := dk_4 (dk_at dksX4_undo_0 8 rfl rfl)
theorem dX4_undo_9 : decode cX4_undo 9 = .ok (.goto 4, 3) := dk_167 0 4 (dk_at dksX4_undo_0 9 rfl rfl)
theorem dX4_undo_12 : decode cX4_undo 12 = .ok (.iconst 0, 1) := dk_3 (dk_at dksX4_undo_0 12 rfl rfl)
theorem dX4_undo_13 : decode cX4_undo 13 = .ok (.invokevirtual 76, 3) := dk_182 0 76 (dk_at dksX4_undo_0 13 rfl rfl)
theorem dX4_undo_16 : decode cX4_undo 16 = .ok (.ifCond .eq 5, 3) := dk_153 0 5 (dk_at dksX4_undo_0 16 rfl rfl)
theorem dX4_undo_19 : decode cX4_undo 19 = .ok (.iconst 0, 1) := dk_3 (dk_at dksX4_undo_0 19 rfl rfl)
theorem dX4_undo_20 : decode cX4_undo 20 = .ok (.ireturn, 1) := dk_172 (dk_at dksX4_undo_0 20 rfl rfl)
theorem dX4_undo_21 : decode cX4_undo 21 = .ok (.aload_n 0, 1) := dk_42 (dk_at dksX4_undo_0 21 rfl rfl)
theorem dX4_undo_22 : decode cX4_undo 22 = .ok (.dup, 1) := dk_89 (dk_at dksX4_undo_0 22 rfl rfl)
theorem dX4_undo_23 : decode cX4_undo 23 = .ok (.getfield 61, 3) := dk_180 0 61 (dk_at dksX4_undo_1 0 rfl rfl)
theorem dX4_undo_26 : decode cX4_undo 26 = .ok (.iconst 1, 1) := dk_4 (dk_at dksX4_undo_1 3 rfl rfl)
theorem dX4_undo_27 : decode cX4_undo 27 = .ok (.isub, 1) := dk_100 (dk_at dksX4_undo_1 4 rfl rfl)
theorem dX4_undo_28 : decode cX4_undo 28 = .ok (.putfield 61, 3) := dk_181 0 61 (dk_at dksX4_undo_1 5 rfl rfl)
theorem dX4_undo_31 : decode cX4_undo 31 = .ok (.aload_n 0, 1) := dk_42 (dk_at dksX4_undo_1 8 rfl rfl)
theorem dX4_undo_32 : decode cX4_undo 32 = .ok (.getfield 13, 3) := dk_180 0 13 (dk_at dksX4_undo_1 9 rfl rfl)
theorem dX4_undo_35 : decode cX4_undo 35 = .ok (.bipush 61, 2) := dk_16 61 (dk_at dksX4_undo_1 12 rfl rfl)
theorem dX4_undo_37 : decode cX4_undo 37 = .ok (.aload_n 0, 1) := dk_42 (dk_at dksX4_undo_1 14 rfl rfl)
theorem dX4_undo_38 : decode cX4_undo 38 = .ok (.getfield 61, 3) := dk_180 0 61 (dk_at dksX4_undo_1 15 rfl rfl)
theorem dX4_undo_41 : decode cX4_undo 41 = .ok (.imul, 1) := dk_104 (dk_at dksX4_undo_1 18 rfl rfl)
theorem dX4_undo_42 : decode cX4_undo 42 = .ok (.aload_n 0, 1) := dk_42 (dk_at dksX4_undo_1 19 rfl rfl)
theorem dX4_undo_43 : decode cX4_undo 43 = .ok (.getfield 7, 3) := dk_180 0 7 (dk_at dksX4_undo_1 20 rfl rfl)
theorem dX4_undo_46 : decode cX4_undo 46 = .ok (.iconst 0, 1) := dk_3 (dk_at dksX4_undo_1 23 rfl rfl)
theorem dX4_undo_47 : decode cX4_undo 47 = .ok (.invokestatic 64, 3) := dk_184 0 64 (dk_at dksX4_undo_2 0 rfl rfl)
theorem dX4_undo_50 : decode cX4_undo 50 = .ok (.aload_n 0, 1) := dk_42 (dk_at dksX4_undo_2 3 rfl rfl)
theorem dX4_undo_51 : decode cX4_undo 51 = .ok (.getfield 61, 3) := dk_180 0 61 (dk_at dksX4_undo_2 4 rfl rfl)
theorem dX4_undo_54 : decode cX4_undo 54 = .ok (.ireturn, 1) := dk_172 (dk_at dksX4_undo_2 7 rfl rfl)
abbrev cX4_save : ByteArray := prog_19_method_90_code
def yX4_save : MethodName := ⟨RX4, "save", "()V"⟩
def dkwX4_save_0 : List UInt8 := [42, 3, 181, 0, 54, 42, 4, 181, 1, 12, 42, 180, 0, 7, 3, 42, 180, 0, 16, 3, 184, 0, 64, 177]
abbrev dktX4_save_0 : List UInt8 := dkwX4_save_0 ++ []
theorem dksX4_save_0 : cX4_save.data.toList.drop 0 = dktX4_save_0 := by decide +kernel
theorem dX4_save_0 : decode cX4_save 0 = .ok (.aload_n 0, 1) := dk_42 (dk_at dksX4_save_0 0 rfl rfl)
theorem dX4_save_1 : decode cX4_save 1 = .ok (.iconst 0, 1) := dk_3 (dk_at dksX4_save_0 1 rfl rfl)
theorem dX4_save_2 : decode cX4_save 2 = .ok (.putfield 54, 3) := dk_181 0 54 (dk_at dksX4_save_0 2 rfl rfl)
theorem dX4_save_5 : decode cX4_save 5 = .ok (.aload_n 0, 1) := dk_42 (dk_at dksX4_save_0 5 rfl rfl)
theorem dX4_save_6 : decode cX4_save 6 = .ok (.iconst 1, 1) := dk_4 (dk_at dksX4_save_0 6 rfl rfl)
theorem dX4_save_7 : decode cX4_save 7 = .ok (.putfield 268, 3) := dk_181 1 12 (dk_at dksX4_save_0 7 rfl rfl)
theorem dX4_save_10 : decode cX4_save 10 = .ok (.aload_n 0, 1) := dk_42 (dk_at dksX4_save_0 10 rfl rfl)
theorem dX4_save_11 : decode cX4_save 11 = .ok (.getfield 7, 3) := dk_180 0 7 (dk_at dksX4_save_0 11 rfl rfl)
theorem dX4_save_14 : decode cX4_save 14 = .ok (.iconst 0, 1) := dk_3 (dk_at dksX4_save_0 14 rfl rfl)
theorem dX4_save_15 : decode cX4_save 15 = .ok (.aload_n 0, 1) := dk_42 (dk_at dksX4_save_0 15 rfl rfl)
theorem dX4_save_16 : decode cX4_save 16 = .ok (.getfield 16, 3) := dk_180 0 16 (dk_at dksX4_save_0 16 rfl rfl)
theorem dX4_save_19 : decode cX4_save 19 = .ok (.iconst 0, 1) := dk_3 (dk_at dksX4_save_0 19 rfl rfl)
theorem dX4_save_20 : decode cX4_save 20 = .ok (.invokestatic 64, 3) := dk_184 0 64 (dk_at dksX4_save_0 20 rfl rfl)
theorem dX4_save_23 : decode cX4_save 23 = .ok (.return_, 1) := dk_177 (dk_at dksX4_save_0 23 rfl rfl)
abbrev cX4_restore : ByteArray := prog_19_method_91_code
def yX4_restore : MethodName := ⟨RX4, "restore", "()V"⟩
def dkwX4_restore_1 : List UInt8 := [3, 42, 180, 0, 7, 3, 184, 0, 64, 42, 3, 181, 0, 61, 177]
abbrev dktX4_restore_1 : List UInt8 := dkwX4_restore_1 ++ []
def dkwX4_restore_0 : List UInt8 := [42, 42, 180, 1, 12, 153, 0, 7, 3, 167, 0, 4, 4, 182, 0, 76, 153, 0, 4, 177, 42, 180, 0, 16]
abbrev dktX4_restore_0 : List UInt8 := dkwX4_restore_0 ++ dktX4_restore_1
theorem dksX4_restore_0 : cX4_restore.data.toList.drop 0 = dktX4_restore_0 := by decide +kernel
theorem dksX4_restore_1 : cX4_restore.data.toList.drop 24 = dktX4_restore_1 := dk_seg dksX4_restore_0 24 rfl rfl
theorem dX4_restore_0 : decode cX4_restore 0 = .ok (.aload_n 0, 1) := dk_42 (dk_at dksX4_restore_0 0 rfl rfl)
theorem dX4_restore_1 : decode cX4_restore 1 = .ok (.aload_n 0, 1) := dk_42 (dk_at dksX4_restore_0 1 rfl rfl)
theorem dX4_restore_2 : decode cX4_restore 2 = .ok (.getfield 268, 3) := dk_180 1 12 (dk_at dksX4_restore_0 2 rfl rfl)
theorem dX4_restore_5 : decode cX4_restore 5 = .ok (.ifCond .eq 7, 3) := dk_153 0 7 (dk_at dksX4_restore_0 5 rfl rfl)
theorem dX4_restore_8 : decode cX4_restore 8 = .ok (.iconst 0, 1) := dk_3 (dk_at dksX4_restore_0 8 rfl rfl)
theorem dX4_restore_9 : decode cX4_restore 9 = .ok (.goto 4, 3) := dk_167 0 4 (dk_at dksX4_restore_0 9 rfl rfl)
theorem dX4_restore_12 : decode cX4_restore 12 = .ok (.iconst 1, 1) := dk_4 (dk_at dksX4_restore_0 12 rfl rfl)
theorem dX4_restore_13 : decode cX4_restore 13 = .ok (.invokevirtual 76, 3) := dk_182 0 76 (dk_at dksX4_restore_0 13 rfl rfl)
theorem dX4_restore_16 : decode cX4_restore 16 = .ok (.ifCond .eq 4, 3) := dk_153 0 4 (dk_at dksX4_restore_0 16 rfl rfl)
theorem dX4_restore_19 : decode cX4_restore 19 = .ok (.return_, 1) := dk_177 (dk_at dksX4_restore_0 19 rfl rfl)
theorem dX4_restore_20 : decode cX4_restore 20 = .ok (.aload_n 0, 1) := dk_42 (dk_at dksX4_restore_0 20 rfl rfl)
theorem dX4_restore_21 : decode cX4_restore 21 = .ok (.getfield 16, 3) := dk_180 0 16 (dk_at dksX4_restore_0 21 rfl rfl)
theorem dX4_restore_24 : decode cX4_restore 24 = .ok (.iconst 0, 1) := dk_3 (dk_at dksX4_restore_1 0 rfl rfl)
theorem dX4_restore_25 : decode cX4_restore 25 = .ok (.aload_n 0, 1) := dk_42 (dk_at dksX4_restore_1 1 rfl rfl)
theorem dX4_restore_26 : decode cX4_restore 26 = .ok (.getfield 7, 3) := dk_180 0 7 (dk_at dksX4_restore_1 2 rfl rfl)
theorem dX4_restore_29 : decode cX4_restore 29 = .ok (.iconst 0, 1) := dk_3 (dk_at dksX4_restore_1 5 rfl rfl)
theorem dX4_restore_30 : decode cX4_restore 30 = .ok (.invokestatic 64, 3) := dk_184 0 64 (dk_at dksX4_restore_1 6 rfl rfl)
theorem dX4_restore_33 : decode cX4_restore 33 = .ok (.aload_n 0, 1) := dk_42 (dk_at dksX4_restore_1 9 rfl rfl)
theorem dX4_restore_34 : decode cX4_restore 34 = .ok (.iconst 0, 1) := dk_3 (dk_at dksX4_restore_1 10 rfl rfl)
theorem dX4_restore_35 : decode cX4_restore 35 = .ok (.putfield 61, 3) := dk_181 0 61 (dk_at dksX4_restore_1 11 rfl rfl)
theorem dX4_restore_38 : decode cX4_restore 38 = .ok (.return_, 1) := dk_177 (dk_at dksX4_restore_1 14 rfl rfl)
theorem q89 : (Jvm.Cond.initialized "ClearingHouseModel") ∈ lw_all := lw_g (lw_at lw_m1 10 rfl) rfl
theorem q806 : (Jvm.Cond.selects "ClearingHouseModel" ({ cls := "java/lang/Object", name := "getClass", desc := "()Ljava/lang/Class;" } : Jvm.MethodName) ({ cls := "java/lang/Object", name := "getClass", desc := "()Ljava/lang/Class;" } : Jvm.MethodName)) ∈ lw_all := lw_g (lw_at lw_m4 7 rfl) rfl
theorem q1903 : (Jvm.Cond.instantiable "ClearingHouseModel" (22 : Nat)) ∈ lw_all := lw_g (lw_at lw_m8 144 rfl) rfl
theorem q1905 : (Jvm.Cond.instanceMethod ({ cls := "ClearingHouseModel", name := "<init>", desc := "()V" } : Jvm.MethodName)) ∈ lw_all := lw_g (lw_at lw_m8 146 rfl) rfl
theorem q1906 : (Jvm.Cond.code ({ cls := "ClearingHouseModel", name := "<init>", desc := "()V" } : Jvm.MethodName) prog_19_method_1_code (1 : Nat) (Option.none : Option Jvm.ClassFile.FieldType)) ∈ lw_all := lw_g (lw_at lw_m8 147 rfl) rfl
theorem q1907 : (Jvm.Cond.methodLink "ClearingHouseModel" (1 : Nat) ({ cls := "java/lang/Object", name := "<init>", desc := "()V" } : Jvm.MethodName)) ∈ lw_all := lw_g (lw_at lw_m8 148 rfl) rfl
theorem q1908 : (Jvm.Cond.fieldLink "ClearingHouseModel" (7 : Nat) "ClearingHouseModel" "g" "[I") ∈ lw_all := lw_g (lw_at lw_m8 149 rfl) rfl
theorem q1909 : (Jvm.Cond.fieldLink "ClearingHouseModel" (13 : Nat) "ClearingHouseModel" "kept" "[I") ∈ lw_all := lw_g (lw_at lw_m8 150 rfl) rfl
theorem q1910 : (Jvm.Cond.fieldLink "ClearingHouseModel" (16 : Nat) "ClearingHouseModel" "saved" "[I") ∈ lw_all := lw_g (lw_at lw_m8 151 rfl) rfl
theorem q1911 : (Jvm.Cond.fieldLink "ClearingHouseModel" (19 : Nat) "ClearingHouseModel" "before" "[I") ∈ lw_all := lw_g (lw_at lw_m8 152 rfl) rfl
theorem q1912 : (Jvm.Cond.fieldLink "ClearingHouseModel" (22 : Nat) "ClearingHouseModel" "aside" "[I") ∈ lw_all := lw_g (lw_at lw_m8 153 rfl) rfl
theorem q1913 : (Jvm.Cond.fieldLink "ClearingHouseModel" (268 : Nat) "ClearingHouseModel" "isSaved" "Z") ∈ lw_all := lw_g (lw_at lw_m8 154 rfl) rfl
theorem q1914 : (Jvm.Cond.fieldLink "ClearingHouseModel" (61 : Nat) "ClearingHouseModel" "changes" "I") ∈ lw_all := lw_g (lw_at lw_m8 155 rfl) rfl
theorem q1915 : (Jvm.Cond.fieldLink "ClearingHouseModel" (57 : Nat) "ClearingHouseModel" "isWithin" "Z") ∈ lw_all := lw_g (lw_at lw_m8 156 rfl) rfl
theorem q1916 : (Jvm.Cond.fieldLink "ClearingHouseModel" (54 : Nat) "ClearingHouseModel" "code" "I") ∈ lw_all := lw_g (lw_at lw_m8 157 rfl) rfl
theorem q1917 : (Jvm.Cond.fieldLink "ClearingHouseModel" (25 : Nat) "ClearingHouseModel" "input" "[I") ∈ lw_all := lw_g (lw_at lw_m8 158 rfl) rfl
theorem q1918 : (Jvm.Cond.fieldLink "ClearingHouseModel" (154 : Nat) "ClearingHouseModel" "length" "I") ∈ lw_all := lw_g (lw_at lw_m8 159 rfl) rfl
theorem q1919 : (Jvm.Cond.fieldLink "ClearingHouseModel" (28 : Nat) "ClearingHouseModel" "fault" "I") ∈ lw_all := lw_g (lw_at lw_m8 160 rfl) rfl
theorem q1920 : (Jvm.Cond.fieldLink "ClearingHouseModel" (32 : Nat) "ClearingHouseModel" "failed" "I") ∈ lw_all := lw_g (lw_at lw_m8 161 rfl) rfl
theorem q1921 : (Jvm.Cond.fieldLink "ClearingHouseModel" (35 : Nat) "ClearingHouseModel" "signs" "[C") ∈ lw_all := lw_g (lw_at lw_m8 162 rfl) rfl
theorem q1922 : (Jvm.Cond.fieldLink "ClearingHouseModel" (254 : Nat) "ClearingHouseModel" "signMany" "I") ∈ lw_all := lw_g (lw_at lw_m8 163 rfl) rfl
theorem q1923 : (Jvm.Cond.fieldLink "ClearingHouseModel" (39 : Nat) "ClearingHouseModel" "cycle" "[I") ∈ lw_all := lw_g (lw_at lw_m8 164 rfl) rfl
theorem q1924 : (Jvm.Cond.fieldLink "ClearingHouseModel" (42 : Nat) "ClearingHouseModel" "shares" "[I") ∈ lw_all := lw_g (lw_at lw_m8 165 rfl) rfl
theorem q1925 : (Jvm.Cond.fieldLink "ClearingHouseModel" (45 : Nat) "ClearingHouseModel" "sums" "[I") ∈ lw_all := lw_g (lw_at lw_m8 166 rfl) rfl
theorem q1926 : (Jvm.Cond.fieldLink "ClearingHouseModel" (48 : Nat) "ClearingHouseModel" "groups" "[I") ∈ lw_all := lw_g (lw_at lw_m8 167 rfl) rfl
theorem q1927 : (Jvm.Cond.fieldLink "ClearingHouseModel" (157 : Nat) "ClearingHouseModel" "at" "I") ∈ lw_all := lw_g (lw_at lw_m8 168 rfl) rfl
theorem q1928 : (Jvm.Cond.fieldLink "ClearingHouseModel" (51 : Nat) "ClearingHouseModel" "told" "[I") ∈ lw_all := lw_g (lw_at lw_m8 169 rfl) rfl
theorem q1929 : (Jvm.Cond.fieldLink "ClearingHouseModel" (163 : Nat) "ClearingHouseModel" "toldMany" "I") ∈ lw_all := lw_g (lw_at lw_m8 170 rfl) rfl
theorem q1930 : (Jvm.Cond.laysFinal "ClearingHouseModel" "ClearingHouseModel" "g" "[I") ∈ lw_all := lw_g (lw_at lw_m8 171 rfl) rfl
theorem q1931 : (Jvm.Cond.soleField "ClearingHouseModel" "g") ∈ lw_all := lw_g (lw_at lw_m8 172 rfl) rfl
theorem q1932 : (Jvm.Cond.laysFinal "ClearingHouseModel" "ClearingHouseModel" "kept" "[I") ∈ lw_all := lw_g (lw_at lw_m8 173 rfl) rfl
theorem q1933 : (Jvm.Cond.soleField "ClearingHouseModel" "kept") ∈ lw_all := lw_g (lw_at lw_m8 174 rfl) rfl
theorem q1934 : (Jvm.Cond.laysFinal "ClearingHouseModel" "ClearingHouseModel" "saved" "[I") ∈ lw_all := lw_g (lw_at lw_m8 175 rfl) rfl
theorem q1935 : (Jvm.Cond.soleField "ClearingHouseModel" "saved") ∈ lw_all := lw_g (lw_at lw_m8 176 rfl) rfl
theorem q1936 : (Jvm.Cond.laysFinal "ClearingHouseModel" "ClearingHouseModel" "before" "[I") ∈ lw_all := lw_g (lw_at lw_m8 177 rfl) rfl
theorem q1937 : (Jvm.Cond.soleField "ClearingHouseModel" "before") ∈ lw_all := lw_g (lw_at lw_m8 178 rfl) rfl
theorem q1938 : (Jvm.Cond.laysFinal "ClearingHouseModel" "ClearingHouseModel" "aside" "[I") ∈ lw_all := lw_g (lw_at lw_m8 179 rfl) rfl
theorem q1939 : (Jvm.Cond.soleField "ClearingHouseModel" "aside") ∈ lw_all := lw_g (lw_at lw_m8 180 rfl) rfl
theorem q1940 : (Jvm.Cond.lays "ClearingHouseModel" "ClearingHouseModel" "isSaved" "Z") ∈ lw_all := lw_g (lw_at lw_m8 181 rfl) rfl
theorem q1941 : (Jvm.Cond.soleField "ClearingHouseModel" "isSaved") ∈ lw_all := lw_g (lw_at lw_m8 182 rfl) rfl
theorem q1942 : (Jvm.Cond.lays "ClearingHouseModel" "ClearingHouseModel" "changes" "I") ∈ lw_all := lw_g (lw_at lw_m8 183 rfl) rfl
theorem q1943 : (Jvm.Cond.soleField "ClearingHouseModel" "changes") ∈ lw_all := lw_g (lw_at lw_m8 184 rfl) rfl
theorem q1944 : (Jvm.Cond.lays "ClearingHouseModel" "ClearingHouseModel" "isWithin" "Z") ∈ lw_all := lw_g (lw_at lw_m8 185 rfl) rfl
theorem q1945 : (Jvm.Cond.soleField "ClearingHouseModel" "isWithin") ∈ lw_all := lw_g (lw_at lw_m8 186 rfl) rfl
theorem q1946 : (Jvm.Cond.lays "ClearingHouseModel" "ClearingHouseModel" "code" "I") ∈ lw_all := lw_g (lw_at lw_m8 187 rfl) rfl
theorem q1947 : (Jvm.Cond.soleField "ClearingHouseModel" "code") ∈ lw_all := lw_g (lw_at lw_m8 188 rfl) rfl
theorem q1948 : (Jvm.Cond.laysFinal "ClearingHouseModel" "ClearingHouseModel" "input" "[I") ∈ lw_all := lw_g (lw_at lw_m8 189 rfl) rfl
theorem q1949 : (Jvm.Cond.soleField "ClearingHouseModel" "input") ∈ lw_all := lw_g (lw_at lw_m8 190 rfl) rfl
theorem q1950 : (Jvm.Cond.lays "ClearingHouseModel" "ClearingHouseModel" "length" "I") ∈ lw_all := lw_g (lw_at lw_m8 191 rfl) rfl
theorem q1951 : (Jvm.Cond.soleField "ClearingHouseModel" "length") ∈ lw_all := lw_g (lw_at lw_m8 192 rfl) rfl
theorem q1952 : (Jvm.Cond.lays "ClearingHouseModel" "ClearingHouseModel" "fault" "I") ∈ lw_all := lw_g (lw_at lw_m8 193 rfl) rfl
theorem q1953 : (Jvm.Cond.soleField "ClearingHouseModel" "fault") ∈ lw_all := lw_g (lw_at lw_m8 194 rfl) rfl
theorem q1954 : (Jvm.Cond.lays "ClearingHouseModel" "ClearingHouseModel" "failed" "I") ∈ lw_all := lw_g (lw_at lw_m8 195 rfl) rfl
theorem q1955 : (Jvm.Cond.soleField "ClearingHouseModel" "failed") ∈ lw_all := lw_g (lw_at lw_m8 196 rfl) rfl
theorem q1956 : (Jvm.Cond.laysFinal "ClearingHouseModel" "ClearingHouseModel" "signs" "[C") ∈ lw_all := lw_g (lw_at lw_m8 197 rfl) rfl
theorem q1957 : (Jvm.Cond.soleField "ClearingHouseModel" "signs") ∈ lw_all := lw_g (lw_at lw_m8 198 rfl) rfl
theorem q1958 : (Jvm.Cond.lays "ClearingHouseModel" "ClearingHouseModel" "signMany" "I") ∈ lw_all := lw_g (lw_at lw_m8 199 rfl) rfl
theorem q1959 : (Jvm.Cond.soleField "ClearingHouseModel" "signMany") ∈ lw_all := lw_g (lw_at lw_m8 200 rfl) rfl
theorem q1960 : (Jvm.Cond.laysFinal "ClearingHouseModel" "ClearingHouseModel" "cycle" "[I") ∈ lw_all := lw_g (lw_at lw_m8 201 rfl) rfl
theorem q1961 : (Jvm.Cond.soleField "ClearingHouseModel" "cycle") ∈ lw_all := lw_g (lw_at lw_m8 202 rfl) rfl
theorem q1962 : (Jvm.Cond.laysFinal "ClearingHouseModel" "ClearingHouseModel" "shares" "[I") ∈ lw_all := lw_g (lw_at lw_m8 203 rfl) rfl
theorem q1963 : (Jvm.Cond.soleField "ClearingHouseModel" "shares") ∈ lw_all := lw_g (lw_at lw_m8 204 rfl) rfl
theorem q1964 : (Jvm.Cond.laysFinal "ClearingHouseModel" "ClearingHouseModel" "sums" "[I") ∈ lw_all := lw_g (lw_at lw_m8 205 rfl) rfl
theorem q1965 : (Jvm.Cond.soleField "ClearingHouseModel" "sums") ∈ lw_all := lw_g (lw_at lw_m8 206 rfl) rfl
theorem q1966 : (Jvm.Cond.laysFinal "ClearingHouseModel" "ClearingHouseModel" "groups" "[I") ∈ lw_all := lw_g (lw_at lw_m8 207 rfl) rfl
theorem q1967 : (Jvm.Cond.soleField "ClearingHouseModel" "groups") ∈ lw_all := lw_g (lw_at lw_m8 208 rfl) rfl
theorem q1968 : (Jvm.Cond.lays "ClearingHouseModel" "ClearingHouseModel" "at" "I") ∈ lw_all := lw_g (lw_at lw_m8 209 rfl) rfl
theorem q1969 : (Jvm.Cond.soleField "ClearingHouseModel" "at") ∈ lw_all := lw_g (lw_at lw_m8 210 rfl) rfl
theorem q1970 : (Jvm.Cond.laysFinal "ClearingHouseModel" "ClearingHouseModel" "told" "[I") ∈ lw_all := lw_g (lw_at lw_m8 211 rfl) rfl
theorem q1971 : (Jvm.Cond.soleField "ClearingHouseModel" "told") ∈ lw_all := lw_g (lw_at lw_m8 212 rfl) rfl
theorem q1972 : (Jvm.Cond.lays "ClearingHouseModel" "ClearingHouseModel" "toldMany" "I") ∈ lw_all := lw_g (lw_at lw_m8 213 rfl) rfl
theorem q1973 : (Jvm.Cond.soleField "ClearingHouseModel" "toldMany") ∈ lw_all := lw_g (lw_at lw_m8 214 rfl) rfl
theorem q1974 : (Jvm.Cond.superclass "ClearingHouseModel" "java/lang/Object") ∈ lw_all := lw_g (lw_at lw_m8 215 rfl) rfl
theorem q1977 : (Jvm.Cond.instanceMethod ({ cls := "ClearingHouseModel", name := "thrown", desc := "()I" } : Jvm.MethodName)) ∈ lw_all := lw_g (lw_at lw_m8 218 rfl) rfl
theorem q1978 : (Jvm.Cond.selects "ClearingHouseModel" ({ cls := "ClearingHouseModel", name := "thrown", desc := "()I" } : Jvm.MethodName) ({ cls := "ClearingHouseModel", name := "thrown", desc := "()I" } : Jvm.MethodName)) ∈ lw_all := lw_g (lw_at lw_m8 219 rfl) rfl
theorem q1979 : (Jvm.Cond.code ({ cls := "ClearingHouseModel", name := "thrown", desc := "()I" } : Jvm.MethodName) prog_19_method_2_code (1 : Nat) (Option.some Jvm.ClassFile.FieldType.int)) ∈ lw_all := lw_g (lw_at lw_m8 220 rfl) rfl
theorem q1981 : (Jvm.Cond.instanceMethod ({ cls := "ClearingHouseModel", name := "addParty", desc := "(I)I" } : Jvm.MethodName)) ∈ lw_all := lw_g (lw_at lw_m8 222 rfl) rfl
theorem q1982 : (Jvm.Cond.selects "ClearingHouseModel" ({ cls := "ClearingHouseModel", name := "addParty", desc := "(I)I" } : Jvm.MethodName) ({ cls := "ClearingHouseModel", name := "addParty", desc := "(I)I" } : Jvm.MethodName)) ∈ lw_all := lw_g (lw_at lw_m8 223 rfl) rfl
theorem q1983 : (Jvm.Cond.code ({ cls := "ClearingHouseModel", name := "addParty", desc := "(I)I" } : Jvm.MethodName) prog_19_method_16_code (2 : Nat) (Option.some Jvm.ClassFile.FieldType.int)) ∈ lw_all := lw_g (lw_at lw_m8 224 rfl) rfl
theorem q1984 : (Jvm.Cond.methodLink "ClearingHouseModel" (68 : Nat) ({ cls := "ClearingHouseModel", name := "in", desc := "(III)Z" } : Jvm.MethodName)) ∈ lw_all := lw_g (lw_at lw_m8 225 rfl) rfl
theorem q1985 : (Jvm.Cond.static ({ cls := "ClearingHouseModel", name := "in", desc := "(III)Z" } : Jvm.MethodName)) ∈ lw_all := lw_g (lw_at lw_m8 226 rfl) rfl
theorem q1986 : (Jvm.Cond.code ({ cls := "ClearingHouseModel", name := "in", desc := "(III)Z" } : Jvm.MethodName) prog_19_method_4_code (3 : Nat) (Option.some Jvm.ClassFile.FieldType.boolean)) ∈ lw_all := lw_g (lw_at lw_m8 227 rfl) rfl
theorem q1987 : (Jvm.Cond.methodLink "ClearingHouseModel" (76 : Nat) ({ cls := "ClearingHouseModel", name := "fails", desc := "(I)Z" } : Jvm.MethodName)) ∈ lw_all := lw_g (lw_at lw_m8 228 rfl) rfl
theorem q1988 : (Jvm.Cond.privateMethod ({ cls := "ClearingHouseModel", name := "fails", desc := "(I)Z" } : Jvm.MethodName)) ∈ lw_tbl := lw_at lw_m8 229 rfl
theorem q1989 : (Jvm.Cond.instanceMethod ({ cls := "ClearingHouseModel", name := "fails", desc := "(I)Z" } : Jvm.MethodName)) ∈ lw_all := lw_g (lw_at lw_m8 230 rfl) rfl
theorem q1990 : (Jvm.Cond.code ({ cls := "ClearingHouseModel", name := "fails", desc := "(I)Z" } : Jvm.MethodName) prog_19_method_3_code (2 : Nat) (Option.some Jvm.ClassFile.FieldType.boolean)) ∈ lw_all := lw_g (lw_at lw_m8 231 rfl) rfl
theorem q1991 : (Jvm.Cond.methodLink "ClearingHouseModel" (90 : Nat) ({ cls := "ClearingHouseModel", name := "keeps", desc := "([I)V" } : Jvm.MethodName)) ∈ lw_all := lw_g (lw_at lw_m8 232 rfl) rfl
theorem q1992 : (Jvm.Cond.privateMethod ({ cls := "ClearingHouseModel", name := "keeps", desc := "([I)V" } : Jvm.MethodName)) ∈ lw_tbl := lw_at lw_m8 233 rfl
theorem q1993 : (Jvm.Cond.instanceMethod ({ cls := "ClearingHouseModel", name := "keeps", desc := "([I)V" } : Jvm.MethodName)) ∈ lw_all := lw_g (lw_at lw_m8 234 rfl) rfl
theorem q1994 : (Jvm.Cond.code ({ cls := "ClearingHouseModel", name := "keeps", desc := "([I)V" } : Jvm.MethodName) prog_19_method_7_code (3 : Nat) (Option.none : Option Jvm.ClassFile.FieldType)) ∈ lw_all := lw_g (lw_at lw_m8 235 rfl) rfl
theorem q1995 : (Jvm.Cond.methodLink "ClearingHouseModel" (64 : Nat) ({ cls := "ClearingHouseModel", name := "copies", desc := "([II[II)V" } : Jvm.MethodName)) ∈ lw_all := lw_g (lw_at lw_m8 236 rfl) rfl
theorem q1996 : (Jvm.Cond.static ({ cls := "ClearingHouseModel", name := "copies", desc := "([II[II)V" } : Jvm.MethodName)) ∈ lw_all := lw_g (lw_at lw_m8 237 rfl) rfl
theorem q1997 : (Jvm.Cond.code ({ cls := "ClearingHouseModel", name := "copies", desc := "([II[II)V" } : Jvm.MethodName) prog_19_method_6_code (5 : Nat) (Option.none : Option Jvm.ClassFile.FieldType)) ∈ lw_all := lw_g (lw_at lw_m8 238 rfl) rfl
theorem q1999 : (Jvm.Cond.instanceMethod ({ cls := "ClearingHouseModel", name := "deposit", desc := "(II)I" } : Jvm.MethodName)) ∈ lw_all := lw_g (lw_at lw_m9 0 rfl) rfl
theorem q2000 : (Jvm.Cond.selects "ClearingHouseModel" ({ cls := "ClearingHouseModel", name := "deposit", desc := "(II)I" } : Jvm.MethodName) ({ cls := "ClearingHouseModel", name := "deposit", desc := "(II)I" } : Jvm.MethodName)) ∈ lw_all := lw_g (lw_at lw_m9 1 rfl) rfl
theorem q2001 : (Jvm.Cond.code ({ cls := "ClearingHouseModel", name := "deposit", desc := "(II)I" } : Jvm.MethodName) prog_19_method_17_code (3 : Nat) (Option.some Jvm.ClassFile.FieldType.int)) ∈ lw_all := lw_g (lw_at lw_m9 2 rfl) rfl
theorem q2002 : (Jvm.Cond.methodLink "ClearingHouseModel" (94 : Nat) ({ cls := "ClearingHouseModel", name := "isNone", desc := "(I)Z" } : Jvm.MethodName)) ∈ lw_all := lw_g (lw_at lw_m9 3 rfl) rfl
theorem q2003 : (Jvm.Cond.privateMethod ({ cls := "ClearingHouseModel", name := "isNone", desc := "(I)Z" } : Jvm.MethodName)) ∈ lw_tbl := lw_at lw_m9 4 rfl
theorem q2004 : (Jvm.Cond.instanceMethod ({ cls := "ClearingHouseModel", name := "isNone", desc := "(I)Z" } : Jvm.MethodName)) ∈ lw_all := lw_g (lw_at lw_m9 5 rfl) rfl
theorem q2005 : (Jvm.Cond.code ({ cls := "ClearingHouseModel", name := "isNone", desc := "(I)Z" } : Jvm.MethodName) prog_19_method_9_code (2 : Nat) (Option.some Jvm.ClassFile.FieldType.boolean)) ∈ lw_all := lw_g (lw_at lw_m9 6 rfl) rfl
theorem q2006 : (Jvm.Cond.methodLink "ClearingHouseModel" (72 : Nat) ({ cls := "ClearingHouseModel", name := "isParty", desc := "(I)Z" } : Jvm.MethodName)) ∈ lw_all := lw_g (lw_at lw_m9 7 rfl) rfl
theorem q2007 : (Jvm.Cond.privateMethod ({ cls := "ClearingHouseModel", name := "isParty", desc := "(I)Z" } : Jvm.MethodName)) ∈ lw_tbl := lw_at lw_m9 8 rfl
theorem q2008 : (Jvm.Cond.instanceMethod ({ cls := "ClearingHouseModel", name := "isParty", desc := "(I)Z" } : Jvm.MethodName)) ∈ lw_all := lw_g (lw_at lw_m9 9 rfl) rfl
theorem q2009 : (Jvm.Cond.code ({ cls := "ClearingHouseModel", name := "isParty", desc := "(I)Z" } : Jvm.MethodName) prog_19_method_8_code (2 : Nat) (Option.some Jvm.ClassFile.FieldType.boolean)) ∈ lw_all := lw_g (lw_at lw_m9 10 rfl) rfl
theorem q2011 : (Jvm.Cond.instanceMethod ({ cls := "ClearingHouseModel", name := "owe", desc := "(III)I" } : Jvm.MethodName)) ∈ lw_all := lw_g (lw_at lw_m9 12 rfl) rfl
theorem q2012 : (Jvm.Cond.selects "ClearingHouseModel" ({ cls := "ClearingHouseModel", name := "owe", desc := "(III)I" } : Jvm.MethodName) ({ cls := "ClearingHouseModel", name := "owe", desc := "(III)I" } : Jvm.MethodName)) ∈ lw_all := lw_g (lw_at lw_m9 13 rfl) rfl
theorem q2013 : (Jvm.Cond.code ({ cls := "ClearingHouseModel", name := "owe", desc := "(III)I" } : Jvm.MethodName) prog_19_method_18_code (4 : Nat) (Option.some Jvm.ClassFile.FieldType.int)) ∈ lw_all := lw_g (lw_at lw_m9 14 rfl) rfl
theorem q2014 : (Jvm.Cond.methodLink "ClearingHouseModel" (97 : Nat) ({ cls := "ClearingHouseModel", name := "areNone", desc := "(II)Z" } : Jvm.MethodName)) ∈ lw_all := lw_g (lw_at lw_m9 15 rfl) rfl
theorem q2015 : (Jvm.Cond.privateMethod ({ cls := "ClearingHouseModel", name := "areNone", desc := "(II)Z" } : Jvm.MethodName)) ∈ lw_tbl := lw_at lw_m9 16 rfl
theorem q2016 : (Jvm.Cond.instanceMethod ({ cls := "ClearingHouseModel", name := "areNone", desc := "(II)Z" } : Jvm.MethodName)) ∈ lw_all := lw_g (lw_at lw_m9 17 rfl) rfl
theorem q2017 : (Jvm.Cond.code ({ cls := "ClearingHouseModel", name := "areNone", desc := "(II)Z" } : Jvm.MethodName) prog_19_method_10_code (3 : Nat) (Option.some Jvm.ClassFile.FieldType.boolean)) ∈ lw_all := lw_g (lw_at lw_m9 18 rfl) rfl
theorem q2018 : (Jvm.Cond.methodLink "ClearingHouseModel" (79 : Nat) ({ cls := "ClearingHouseModel", name := "owes", desc := "(II)I" } : Jvm.MethodName)) ∈ lw_all := lw_g (lw_at lw_m9 19 rfl) rfl
theorem q2019 : (Jvm.Cond.privateMethod ({ cls := "ClearingHouseModel", name := "owes", desc := "(II)I" } : Jvm.MethodName)) ∈ lw_tbl := lw_at lw_m9 20 rfl
theorem q2020 : (Jvm.Cond.instanceMethod ({ cls := "ClearingHouseModel", name := "owes", desc := "(II)I" } : Jvm.MethodName)) ∈ lw_all := lw_g (lw_at lw_m9 21 rfl) rfl
theorem q2021 : (Jvm.Cond.code ({ cls := "ClearingHouseModel", name := "owes", desc := "(II)I" } : Jvm.MethodName) prog_19_method_11_code (3 : Nat) (Option.some Jvm.ClassFile.FieldType.int)) ∈ lw_all := lw_g (lw_at lw_m9 22 rfl) rfl
theorem q2023 : (Jvm.Cond.instanceMethod ({ cls := "ClearingHouseModel", name := "pay", desc := "(III)I" } : Jvm.MethodName)) ∈ lw_all := lw_g (lw_at lw_m9 24 rfl) rfl
theorem q2024 : (Jvm.Cond.selects "ClearingHouseModel" ({ cls := "ClearingHouseModel", name := "pay", desc := "(III)I" } : Jvm.MethodName) ({ cls := "ClearingHouseModel", name := "pay", desc := "(III)I" } : Jvm.MethodName)) ∈ lw_all := lw_g (lw_at lw_m9 25 rfl) rfl
theorem q2025 : (Jvm.Cond.code ({ cls := "ClearingHouseModel", name := "pay", desc := "(III)I" } : Jvm.MethodName) prog_19_method_20_code (4 : Nat) (Option.some Jvm.ClassFile.FieldType.int)) ∈ lw_all := lw_g (lw_at lw_m9 26 rfl) rfl
theorem q2026 : (Jvm.Cond.methodLink "ClearingHouseModel" (101 : Nat) ({ cls := "ClearingHouseModel", name := "moves", desc := "(III)V" } : Jvm.MethodName)) ∈ lw_all := lw_g (lw_at lw_m9 27 rfl) rfl
theorem q2027 : (Jvm.Cond.privateMethod ({ cls := "ClearingHouseModel", name := "moves", desc := "(III)V" } : Jvm.MethodName)) ∈ lw_tbl := lw_at lw_m9 28 rfl
theorem q2028 : (Jvm.Cond.instanceMethod ({ cls := "ClearingHouseModel", name := "moves", desc := "(III)V" } : Jvm.MethodName)) ∈ lw_all := lw_g (lw_at lw_m9 29 rfl) rfl
theorem q2029 : (Jvm.Cond.code ({ cls := "ClearingHouseModel", name := "moves", desc := "(III)V" } : Jvm.MethodName) prog_19_method_19_code (4 : Nat) (Option.none : Option Jvm.ClassFile.FieldType)) ∈ lw_all := lw_g (lw_at lw_m9 30 rfl) rfl
theorem q2031 : (Jvm.Cond.instanceMethod ({ cls := "ClearingHouseModel", name := "netPair", desc := "(II)I" } : Jvm.MethodName)) ∈ lw_all := lw_g (lw_at lw_m9 32 rfl) rfl
theorem q2032 : (Jvm.Cond.selects "ClearingHouseModel" ({ cls := "ClearingHouseModel", name := "netPair", desc := "(II)I" } : Jvm.MethodName) ({ cls := "ClearingHouseModel", name := "netPair", desc := "(II)I" } : Jvm.MethodName)) ∈ lw_all := lw_g (lw_at lw_m9 33 rfl) rfl
theorem q2033 : (Jvm.Cond.code ({ cls := "ClearingHouseModel", name := "netPair", desc := "(II)I" } : Jvm.MethodName) prog_19_method_21_code (4 : Nat) (Option.some Jvm.ClassFile.FieldType.int)) ∈ lw_all := lw_g (lw_at lw_m9 34 rfl) rfl
theorem q2034 : (Jvm.Cond.methodLink "ClearingHouseModel" (105 : Nat) ({ cls := "ClearingHouseModel", name := "least", desc := "(II)I" } : Jvm.MethodName)) ∈ lw_all := lw_g (lw_at lw_m9 35 rfl) rfl
theorem q2035 : (Jvm.Cond.static ({ cls := "ClearingHouseModel", name := "least", desc := "(II)I" } : Jvm.MethodName)) ∈ lw_all := lw_g (lw_at lw_m9 36 rfl) rfl
theorem q2036 : (Jvm.Cond.code ({ cls := "ClearingHouseModel", name := "least", desc := "(II)I" } : Jvm.MethodName) prog_19_method_5_code (2 : Nat) (Option.some Jvm.ClassFile.FieldType.int)) ∈ lw_all := lw_g (lw_at lw_m9 37 rfl) rfl
theorem q2038 : (Jvm.Cond.instanceMethod ({ cls := "ClearingHouseModel", name := "netCycle", desc := "()I" } : Jvm.MethodName)) ∈ lw_all := lw_g (lw_at lw_m9 39 rfl) rfl
theorem q2039 : (Jvm.Cond.selects "ClearingHouseModel" ({ cls := "ClearingHouseModel", name := "netCycle", desc := "()I" } : Jvm.MethodName) ({ cls := "ClearingHouseModel", name := "netCycle", desc := "()I" } : Jvm.MethodName)) ∈ lw_all := lw_g (lw_at lw_m9 40 rfl) rfl
theorem q2040 : (Jvm.Cond.code ({ cls := "ClearingHouseModel", name := "netCycle", desc := "()I" } : Jvm.MethodName) prog_19_method_26_code (2 : Nat) (Option.some Jvm.ClassFile.FieldType.int)) ∈ lw_all := lw_g (lw_at lw_m9 41 rfl) rfl
theorem q2041 : (Jvm.Cond.methodLink "ClearingHouseModel" (114 : Nat) ({ cls := "ClearingHouseModel", name := "looks", desc := "()I" } : Jvm.MethodName)) ∈ lw_all := lw_g (lw_at lw_m9 42 rfl) rfl
theorem q2042 : (Jvm.Cond.privateMethod ({ cls := "ClearingHouseModel", name := "looks", desc := "()I" } : Jvm.MethodName)) ∈ lw_tbl := lw_at lw_m9 43 rfl
theorem q2043 : (Jvm.Cond.instanceMethod ({ cls := "ClearingHouseModel", name := "looks", desc := "()I" } : Jvm.MethodName)) ∈ lw_all := lw_g (lw_at lw_m9 44 rfl) rfl
theorem q2044 : (Jvm.Cond.code ({ cls := "ClearingHouseModel", name := "looks", desc := "()I" } : Jvm.MethodName) prog_19_method_23_code (3 : Nat) (Option.some Jvm.ClassFile.FieldType.int)) ∈ lw_all := lw_g (lw_at lw_m9 45 rfl) rfl
theorem q2045 : (Jvm.Cond.methodLink "ClearingHouseModel" (108 : Nat) ({ cls := "ClearingHouseModel", name := "goesOn", desc := "(II)Z" } : Jvm.MethodName)) ∈ lw_all := lw_g (lw_at lw_m9 46 rfl) rfl
theorem q2046 : (Jvm.Cond.privateMethod ({ cls := "ClearingHouseModel", name := "goesOn", desc := "(II)Z" } : Jvm.MethodName)) ∈ lw_tbl := lw_at lw_m9 47 rfl
theorem q2047 : (Jvm.Cond.instanceMethod ({ cls := "ClearingHouseModel", name := "goesOn", desc := "(II)Z" } : Jvm.MethodName)) ∈ lw_all := lw_g (lw_at lw_m9 48 rfl) rfl
theorem q2048 : (Jvm.Cond.code ({ cls := "ClearingHouseModel", name := "goesOn", desc := "(II)Z" } : Jvm.MethodName) prog_19_method_22_code (7 : Nat) (Option.some Jvm.ClassFile.FieldType.boolean)) ∈ lw_all := lw_g (lw_at lw_m9 49 rfl) rfl
theorem q2049 : (Jvm.Cond.methodLink "ClearingHouseModel" (118 : Nat) ({ cls := "ClearingHouseModel", name := "nets", desc := "(I)I" } : Jvm.MethodName)) ∈ lw_all := lw_g (lw_at lw_m9 50 rfl) rfl
theorem q2050 : (Jvm.Cond.privateMethod ({ cls := "ClearingHouseModel", name := "nets", desc := "(I)I" } : Jvm.MethodName)) ∈ lw_tbl := lw_at lw_m9 51 rfl
theorem q2051 : (Jvm.Cond.instanceMethod ({ cls := "ClearingHouseModel", name := "nets", desc := "(I)I" } : Jvm.MethodName)) ∈ lw_all := lw_g (lw_at lw_m9 52 rfl) rfl
theorem q2052 : (Jvm.Cond.code ({ cls := "ClearingHouseModel", name := "nets", desc := "(I)I" } : Jvm.MethodName) prog_19_method_25_code (4 : Nat) (Option.some Jvm.ClassFile.FieldType.int)) ∈ lw_all := lw_g (lw_at lw_m9 53 rfl) rfl
theorem q2053 : (Jvm.Cond.methodLink "ClearingHouseModel" (111 : Nat) ({ cls := "ClearingHouseModel", name := "smallest", desc := "(I)I" } : Jvm.MethodName)) ∈ lw_all := lw_g (lw_at lw_m9 54 rfl) rfl
theorem q2054 : (Jvm.Cond.privateMethod ({ cls := "ClearingHouseModel", name := "smallest", desc := "(I)I" } : Jvm.MethodName)) ∈ lw_tbl := lw_at lw_m9 55 rfl
theorem q2055 : (Jvm.Cond.instanceMethod ({ cls := "ClearingHouseModel", name := "smallest", desc := "(I)I" } : Jvm.MethodName)) ∈ lw_all := lw_g (lw_at lw_m9 56 rfl) rfl
theorem q2056 : (Jvm.Cond.code ({ cls := "ClearingHouseModel", name := "smallest", desc := "(I)I" } : Jvm.MethodName) prog_19_method_24_code (4 : Nat) (Option.some Jvm.ClassFile.FieldType.int)) ∈ lw_all := lw_g (lw_at lw_m9 57 rfl) rfl
theorem q2058 : (Jvm.Cond.instanceMethod ({ cls := "ClearingHouseModel", name := "netAll", desc := "()I" } : Jvm.MethodName)) ∈ lw_all := lw_g (lw_at lw_m9 59 rfl) rfl
theorem q2059 : (Jvm.Cond.selects "ClearingHouseModel" ({ cls := "ClearingHouseModel", name := "netAll", desc := "()I" } : Jvm.MethodName) ({ cls := "ClearingHouseModel", name := "netAll", desc := "()I" } : Jvm.MethodName)) ∈ lw_all := lw_g (lw_at lw_m9 60 rfl) rfl
theorem q2060 : (Jvm.Cond.code ({ cls := "ClearingHouseModel", name := "netAll", desc := "()I" } : Jvm.MethodName) prog_19_method_27_code (3 : Nat) (Option.some Jvm.ClassFile.FieldType.int)) ∈ lw_all := lw_g (lw_at lw_m9 61 rfl) rfl
theorem q2062 : (Jvm.Cond.instanceMethod ({ cls := "ClearingHouseModel", name := "hasCycle", desc := "()Z" } : Jvm.MethodName)) ∈ lw_all := lw_g (lw_at lw_m9 63 rfl) rfl
theorem q2063 : (Jvm.Cond.selects "ClearingHouseModel" ({ cls := "ClearingHouseModel", name := "hasCycle", desc := "()Z" } : Jvm.MethodName) ({ cls := "ClearingHouseModel", name := "hasCycle", desc := "()Z" } : Jvm.MethodName)) ∈ lw_all := lw_g (lw_at lw_m9 64 rfl) rfl
theorem q2064 : (Jvm.Cond.code ({ cls := "ClearingHouseModel", name := "hasCycle", desc := "()Z" } : Jvm.MethodName) prog_19_method_28_code (1 : Nat) (Option.some Jvm.ClassFile.FieldType.boolean)) ∈ lw_all := lw_g (lw_at lw_m9 65 rfl) rfl
theorem q2066 : (Jvm.Cond.instanceMethod ({ cls := "ClearingHouseModel", name := "hasCycleByLeavingOut", desc := "()Z" } : Jvm.MethodName)) ∈ lw_all := lw_g (lw_at lw_m9 67 rfl) rfl
theorem q2067 : (Jvm.Cond.selects "ClearingHouseModel" ({ cls := "ClearingHouseModel", name := "hasCycleByLeavingOut", desc := "()Z" } : Jvm.MethodName) ({ cls := "ClearingHouseModel", name := "hasCycleByLeavingOut", desc := "()Z" } : Jvm.MethodName)) ∈ lw_all := lw_g (lw_at lw_m9 68 rfl) rfl
theorem q2068 : (Jvm.Cond.code ({ cls := "ClearingHouseModel", name := "hasCycleByLeavingOut", desc := "()Z" } : Jvm.MethodName) prog_19_method_29_code (1 : Nat) (Option.some Jvm.ClassFile.FieldType.boolean)) ∈ lw_all := lw_g (lw_at lw_m9 69 rfl) rfl
theorem q2070 : (Jvm.Cond.instanceMethod ({ cls := "ClearingHouseModel", name := "cycleSize", desc := "()I" } : Jvm.MethodName)) ∈ lw_all := lw_g (lw_at lw_m9 71 rfl) rfl
theorem q2071 : (Jvm.Cond.selects "ClearingHouseModel" ({ cls := "ClearingHouseModel", name := "cycleSize", desc := "()I" } : Jvm.MethodName) ({ cls := "ClearingHouseModel", name := "cycleSize", desc := "()I" } : Jvm.MethodName)) ∈ lw_all := lw_g (lw_at lw_m9 72 rfl) rfl
theorem q2072 : (Jvm.Cond.code ({ cls := "ClearingHouseModel", name := "cycleSize", desc := "()I" } : Jvm.MethodName) prog_19_method_30_code (2 : Nat) (Option.some Jvm.ClassFile.FieldType.int)) ∈ lw_all := lw_g (lw_at lw_m9 73 rfl) rfl
theorem q2074 : (Jvm.Cond.instanceMethod ({ cls := "ClearingHouseModel", name := "cycleParty", desc := "(I)I" } : Jvm.MethodName)) ∈ lw_all := lw_g (lw_at lw_m9 75 rfl) rfl
theorem q2075 : (Jvm.Cond.selects "ClearingHouseModel" ({ cls := "ClearingHouseModel", name := "cycleParty", desc := "(I)I" } : Jvm.MethodName) ({ cls := "ClearingHouseModel", name := "cycleParty", desc := "(I)I" } : Jvm.MethodName)) ∈ lw_all := lw_g (lw_at lw_m9 76 rfl) rfl
theorem q2076 : (Jvm.Cond.code ({ cls := "ClearingHouseModel", name := "cycleParty", desc := "(I)I" } : Jvm.MethodName) prog_19_method_31_code (3 : Nat) (Option.some Jvm.ClassFile.FieldType.int)) ∈ lw_all := lw_g (lw_at lw_m9 77 rfl) rfl
theorem q2078 : (Jvm.Cond.instanceMethod ({ cls := "ClearingHouseModel", name := "cycleAmount", desc := "()I" } : Jvm.MethodName)) ∈ lw_all := lw_g (lw_at lw_m9 79 rfl) rfl
theorem q2079 : (Jvm.Cond.selects "ClearingHouseModel" ({ cls := "ClearingHouseModel", name := "cycleAmount", desc := "()I" } : Jvm.MethodName) ({ cls := "ClearingHouseModel", name := "cycleAmount", desc := "()I" } : Jvm.MethodName)) ∈ lw_all := lw_g (lw_at lw_m9 80 rfl) rfl
theorem q2080 : (Jvm.Cond.code ({ cls := "ClearingHouseModel", name := "cycleAmount", desc := "()I" } : Jvm.MethodName) prog_19_method_32_code (2 : Nat) (Option.some Jvm.ClassFile.FieldType.int)) ∈ lw_all := lw_g (lw_at lw_m9 81 rfl) rfl
theorem q2082 : (Jvm.Cond.instanceMethod ({ cls := "ClearingHouseModel", name := "declareDefault", desc := "(I)I" } : Jvm.MethodName)) ∈ lw_all := lw_g (lw_at lw_m9 83 rfl) rfl
theorem q2083 : (Jvm.Cond.selects "ClearingHouseModel" ({ cls := "ClearingHouseModel", name := "declareDefault", desc := "(I)I" } : Jvm.MethodName) ({ cls := "ClearingHouseModel", name := "declareDefault", desc := "(I)I" } : Jvm.MethodName)) ∈ lw_all := lw_g (lw_at lw_m9 84 rfl) rfl
theorem q2084 : (Jvm.Cond.code ({ cls := "ClearingHouseModel", name := "declareDefault", desc := "(I)I" } : Jvm.MethodName) prog_19_method_36_code (2 : Nat) (Option.some Jvm.ClassFile.FieldType.int)) ∈ lw_all := lw_g (lw_at lw_m9 85 rfl) rfl
theorem q2085 : (Jvm.Cond.methodLink "ClearingHouseModel" (127 : Nat) ({ cls := "ClearingHouseModel", name := "lacks", desc := "(I)I" } : Jvm.MethodName)) ∈ lw_all := lw_g (lw_at lw_m9 86 rfl) rfl
theorem q2086 : (Jvm.Cond.privateMethod ({ cls := "ClearingHouseModel", name := "lacks", desc := "(I)I" } : Jvm.MethodName)) ∈ lw_tbl := lw_at lw_m9 87 rfl
theorem q2087 : (Jvm.Cond.instanceMethod ({ cls := "ClearingHouseModel", name := "lacks", desc := "(I)I" } : Jvm.MethodName)) ∈ lw_all := lw_g (lw_at lw_m9 88 rfl) rfl
theorem q2088 : (Jvm.Cond.code ({ cls := "ClearingHouseModel", name := "lacks", desc := "(I)I" } : Jvm.MethodName) prog_19_method_15_code (2 : Nat) (Option.some Jvm.ClassFile.FieldType.int)) ∈ lw_all := lw_g (lw_at lw_m9 89 rfl) rfl
theorem q2089 : (Jvm.Cond.methodLink "ClearingHouseModel" (87 : Nat) ({ cls := "ClearingHouseModel", name := "obliged", desc := "(I)I" } : Jvm.MethodName)) ∈ lw_all := lw_g (lw_at lw_m9 90 rfl) rfl
theorem q2090 : (Jvm.Cond.privateMethod ({ cls := "ClearingHouseModel", name := "obliged", desc := "(I)I" } : Jvm.MethodName)) ∈ lw_tbl := lw_at lw_m9 91 rfl
theorem q2091 : (Jvm.Cond.instanceMethod ({ cls := "ClearingHouseModel", name := "obliged", desc := "(I)I" } : Jvm.MethodName)) ∈ lw_all := lw_g (lw_at lw_m9 92 rfl) rfl
theorem q2092 : (Jvm.Cond.code ({ cls := "ClearingHouseModel", name := "obliged", desc := "(I)I" } : Jvm.MethodName) prog_19_method_13_code (4 : Nat) (Option.some Jvm.ClassFile.FieldType.int)) ∈ lw_all := lw_g (lw_at lw_m9 93 rfl) rfl
theorem q2093 : (Jvm.Cond.methodLink "ClearingHouseModel" (83 : Nat) ({ cls := "ClearingHouseModel", name := "claimed", desc := "(I)I" } : Jvm.MethodName)) ∈ lw_all := lw_g (lw_at lw_m9 94 rfl) rfl
theorem q2094 : (Jvm.Cond.privateMethod ({ cls := "ClearingHouseModel", name := "claimed", desc := "(I)I" } : Jvm.MethodName)) ∈ lw_tbl := lw_at lw_m9 95 rfl
theorem q2095 : (Jvm.Cond.instanceMethod ({ cls := "ClearingHouseModel", name := "claimed", desc := "(I)I" } : Jvm.MethodName)) ∈ lw_all := lw_g (lw_at lw_m9 96 rfl) rfl
theorem q2096 : (Jvm.Cond.code ({ cls := "ClearingHouseModel", name := "claimed", desc := "(I)I" } : Jvm.MethodName) prog_19_method_12_code (4 : Nat) (Option.some Jvm.ClassFile.FieldType.int)) ∈ lw_all := lw_g (lw_at lw_m9 97 rfl) rfl
theorem q2097 : (Jvm.Cond.methodLink "ClearingHouseModel" (130 : Nat) ({ cls := "ClearingHouseModel", name := "falls", desc := "(I)I" } : Jvm.MethodName)) ∈ lw_all := lw_g (lw_at lw_m9 98 rfl) rfl
theorem q2098 : (Jvm.Cond.privateMethod ({ cls := "ClearingHouseModel", name := "falls", desc := "(I)I" } : Jvm.MethodName)) ∈ lw_tbl := lw_at lw_m9 99 rfl
theorem q2099 : (Jvm.Cond.instanceMethod ({ cls := "ClearingHouseModel", name := "falls", desc := "(I)I" } : Jvm.MethodName)) ∈ lw_all := lw_g (lw_at lw_m9 100 rfl) rfl
theorem q2100 : (Jvm.Cond.code ({ cls := "ClearingHouseModel", name := "falls", desc := "(I)I" } : Jvm.MethodName) prog_19_method_35_code (4 : Nat) (Option.some Jvm.ClassFile.FieldType.int)) ∈ lw_all := lw_g (lw_at lw_m9 101 rfl) rfl
theorem q2101 : (Jvm.Cond.methodLink "ClearingHouseModel" (124 : Nat) ({ cls := "ClearingHouseModel", name := "share", desc := "(II)I" } : Jvm.MethodName)) ∈ lw_all := lw_g (lw_at lw_m9 102 rfl) rfl
theorem q2102 : (Jvm.Cond.privateMethod ({ cls := "ClearingHouseModel", name := "share", desc := "(II)I" } : Jvm.MethodName)) ∈ lw_tbl := lw_at lw_m9 103 rfl
theorem q2103 : (Jvm.Cond.instanceMethod ({ cls := "ClearingHouseModel", name := "share", desc := "(II)I" } : Jvm.MethodName)) ∈ lw_all := lw_g (lw_at lw_m9 104 rfl) rfl
theorem q2104 : (Jvm.Cond.code ({ cls := "ClearingHouseModel", name := "share", desc := "(II)I" } : Jvm.MethodName) prog_19_method_34_code (7 : Nat) (Option.some Jvm.ClassFile.FieldType.int)) ∈ lw_all := lw_g (lw_at lw_m9 105 rfl) rfl
theorem q2105 : (Jvm.Cond.methodLink "ClearingHouseModel" (121 : Nat) ({ cls := "ClearingHouseModel", name := "remains", desc := "(II)I" } : Jvm.MethodName)) ∈ lw_all := lw_g (lw_at lw_m9 106 rfl) rfl
theorem q2106 : (Jvm.Cond.privateMethod ({ cls := "ClearingHouseModel", name := "remains", desc := "(II)I" } : Jvm.MethodName)) ∈ lw_tbl := lw_at lw_m9 107 rfl
theorem q2107 : (Jvm.Cond.instanceMethod ({ cls := "ClearingHouseModel", name := "remains", desc := "(II)I" } : Jvm.MethodName)) ∈ lw_all := lw_g (lw_at lw_m9 108 rfl) rfl
theorem q2108 : (Jvm.Cond.code ({ cls := "ClearingHouseModel", name := "remains", desc := "(II)I" } : Jvm.MethodName) prog_19_method_33_code (3 : Nat) (Option.some Jvm.ClassFile.FieldType.int)) ∈ lw_all := lw_g (lw_at lw_m9 109 rfl) rfl
theorem q2110 : (Jvm.Cond.instanceMethod ({ cls := "ClearingHouseModel", name := "cascade", desc := "()I" } : Jvm.MethodName)) ∈ lw_all := lw_g (lw_at lw_m9 111 rfl) rfl
theorem q2111 : (Jvm.Cond.selects "ClearingHouseModel" ({ cls := "ClearingHouseModel", name := "cascade", desc := "()I" } : Jvm.MethodName) ({ cls := "ClearingHouseModel", name := "cascade", desc := "()I" } : Jvm.MethodName)) ∈ lw_all := lw_g (lw_at lw_m9 112 rfl) rfl
theorem q2112 : (Jvm.Cond.code ({ cls := "ClearingHouseModel", name := "cascade", desc := "()I" } : Jvm.MethodName) prog_19_method_38_code (1 : Nat) (Option.some Jvm.ClassFile.FieldType.int)) ∈ lw_all := lw_g (lw_at lw_m9 113 rfl) rfl
theorem q2113 : (Jvm.Cond.methodLink "ClearingHouseModel" (133 : Nat) ({ cls := "ClearingHouseModel", name := "fallsAll", desc := "()I" } : Jvm.MethodName)) ∈ lw_all := lw_g (lw_at lw_m9 114 rfl) rfl
theorem q2114 : (Jvm.Cond.privateMethod ({ cls := "ClearingHouseModel", name := "fallsAll", desc := "()I" } : Jvm.MethodName)) ∈ lw_tbl := lw_at lw_m9 115 rfl
theorem q2115 : (Jvm.Cond.instanceMethod ({ cls := "ClearingHouseModel", name := "fallsAll", desc := "()I" } : Jvm.MethodName)) ∈ lw_all := lw_g (lw_at lw_m9 116 rfl) rfl
theorem q2116 : (Jvm.Cond.code ({ cls := "ClearingHouseModel", name := "fallsAll", desc := "()I" } : Jvm.MethodName) prog_19_method_37_code (4 : Nat) (Option.some Jvm.ClassFile.FieldType.int)) ∈ lw_all := lw_g (lw_at lw_m9 117 rfl) rfl
theorem q2118 : (Jvm.Cond.instanceMethod ({ cls := "ClearingHouseModel", name := "defaultsAhead", desc := "()I" } : Jvm.MethodName)) ∈ lw_all := lw_g (lw_at lw_m9 119 rfl) rfl
theorem q2119 : (Jvm.Cond.selects "ClearingHouseModel" ({ cls := "ClearingHouseModel", name := "defaultsAhead", desc := "()I" } : Jvm.MethodName) ({ cls := "ClearingHouseModel", name := "defaultsAhead", desc := "()I" } : Jvm.MethodName)) ∈ lw_all := lw_g (lw_at lw_m9 120 rfl) rfl
theorem q2120 : (Jvm.Cond.code ({ cls := "ClearingHouseModel", name := "defaultsAhead", desc := "()I" } : Jvm.MethodName) prog_19_method_39_code (2 : Nat) (Option.some Jvm.ClassFile.FieldType.int)) ∈ lw_all := lw_g (lw_at lw_m9 121 rfl) rfl
theorem q2122 : (Jvm.Cond.instanceMethod ({ cls := "ClearingHouseModel", name := "shareOf", desc := "(II)I" } : Jvm.MethodName)) ∈ lw_all := lw_g (lw_at lw_m9 123 rfl) rfl
theorem q2123 : (Jvm.Cond.selects "ClearingHouseModel" ({ cls := "ClearingHouseModel", name := "shareOf", desc := "(II)I" } : Jvm.MethodName) ({ cls := "ClearingHouseModel", name := "shareOf", desc := "(II)I" } : Jvm.MethodName)) ∈ lw_all := lw_g (lw_at lw_m9 124 rfl) rfl
theorem q2124 : (Jvm.Cond.code ({ cls := "ClearingHouseModel", name := "shareOf", desc := "(II)I" } : Jvm.MethodName) prog_19_method_41_code (3 : Nat) (Option.some Jvm.ClassFile.FieldType.int)) ∈ lw_all := lw_g (lw_at lw_m9 125 rfl) rfl
theorem q2125 : (Jvm.Cond.methodLink "ClearingHouseModel" (136 : Nat) ({ cls := "ClearingHouseModel", name := "shareTold", desc := "(II)I" } : Jvm.MethodName)) ∈ lw_all := lw_g (lw_at lw_m9 126 rfl) rfl
theorem q2126 : (Jvm.Cond.privateMethod ({ cls := "ClearingHouseModel", name := "shareTold", desc := "(II)I" } : Jvm.MethodName)) ∈ lw_tbl := lw_at lw_m9 127 rfl
theorem q2127 : (Jvm.Cond.instanceMethod ({ cls := "ClearingHouseModel", name := "shareTold", desc := "(II)I" } : Jvm.MethodName)) ∈ lw_all := lw_g (lw_at lw_m9 128 rfl) rfl
theorem q2128 : (Jvm.Cond.code ({ cls := "ClearingHouseModel", name := "shareTold", desc := "(II)I" } : Jvm.MethodName) prog_19_method_40_code (3 : Nat) (Option.some Jvm.ClassFile.FieldType.int)) ∈ lw_all := lw_g (lw_at lw_m9 129 rfl) rfl
theorem q2130 : (Jvm.Cond.instanceMethod ({ cls := "ClearingHouseModel", name := "shareByCounting", desc := "(II)I" } : Jvm.MethodName)) ∈ lw_all := lw_g (lw_at lw_m9 131 rfl) rfl
theorem q2131 : (Jvm.Cond.selects "ClearingHouseModel" ({ cls := "ClearingHouseModel", name := "shareByCounting", desc := "(II)I" } : Jvm.MethodName) ({ cls := "ClearingHouseModel", name := "shareByCounting", desc := "(II)I" } : Jvm.MethodName)) ∈ lw_all := lw_g (lw_at lw_m9 132 rfl) rfl
theorem q2132 : (Jvm.Cond.code ({ cls := "ClearingHouseModel", name := "shareByCounting", desc := "(II)I" } : Jvm.MethodName) prog_19_method_42_code (3 : Nat) (Option.some Jvm.ClassFile.FieldType.int)) ∈ lw_all := lw_g (lw_at lw_m9 133 rfl) rfl
theorem q2134 : (Jvm.Cond.instanceMethod ({ cls := "ClearingHouseModel", name := "call", desc := "()I" } : Jvm.MethodName)) ∈ lw_all := lw_g (lw_at lw_m9 135 rfl) rfl
theorem q2135 : (Jvm.Cond.selects "ClearingHouseModel" ({ cls := "ClearingHouseModel", name := "call", desc := "()I" } : Jvm.MethodName) ({ cls := "ClearingHouseModel", name := "call", desc := "()I" } : Jvm.MethodName)) ∈ lw_all := lw_g (lw_at lw_m9 136 rfl) rfl
theorem q2136 : (Jvm.Cond.code ({ cls := "ClearingHouseModel", name := "call", desc := "()I" } : Jvm.MethodName) prog_19_method_43_code (5 : Nat) (Option.some Jvm.ClassFile.FieldType.int)) ∈ lw_all := lw_g (lw_at lw_m9 137 rfl) rfl
theorem q2138 : (Jvm.Cond.instanceMethod ({ cls := "ClearingHouseModel", name := "partyCount", desc := "()I" } : Jvm.MethodName)) ∈ lw_all := lw_g (lw_at lw_m9 139 rfl) rfl
theorem q2139 : (Jvm.Cond.selects "ClearingHouseModel" ({ cls := "ClearingHouseModel", name := "partyCount", desc := "()I" } : Jvm.MethodName) ({ cls := "ClearingHouseModel", name := "partyCount", desc := "()I" } : Jvm.MethodName)) ∈ lw_all := lw_g (lw_at lw_m9 140 rfl) rfl
theorem q2140 : (Jvm.Cond.code ({ cls := "ClearingHouseModel", name := "partyCount", desc := "()I" } : Jvm.MethodName) prog_19_method_44_code (1 : Nat) (Option.some Jvm.ClassFile.FieldType.int)) ∈ lw_all := lw_g (lw_at lw_m9 141 rfl) rfl
theorem q2142 : (Jvm.Cond.instanceMethod ({ cls := "ClearingHouseModel", name := "cash", desc := "(I)I" } : Jvm.MethodName)) ∈ lw_all := lw_g (lw_at lw_m9 143 rfl) rfl
theorem q2143 : (Jvm.Cond.selects "ClearingHouseModel" ({ cls := "ClearingHouseModel", name := "cash", desc := "(I)I" } : Jvm.MethodName) ({ cls := "ClearingHouseModel", name := "cash", desc := "(I)I" } : Jvm.MethodName)) ∈ lw_all := lw_g (lw_at lw_m9 144 rfl) rfl
theorem q2144 : (Jvm.Cond.code ({ cls := "ClearingHouseModel", name := "cash", desc := "(I)I" } : Jvm.MethodName) prog_19_method_45_code (2 : Nat) (Option.some Jvm.ClassFile.FieldType.int)) ∈ lw_all := lw_g (lw_at lw_m9 145 rfl) rfl
theorem q2146 : (Jvm.Cond.instanceMethod ({ cls := "ClearingHouseModel", name := "debt", desc := "(II)I" } : Jvm.MethodName)) ∈ lw_all := lw_g (lw_at lw_m9 147 rfl) rfl
theorem q2147 : (Jvm.Cond.selects "ClearingHouseModel" ({ cls := "ClearingHouseModel", name := "debt", desc := "(II)I" } : Jvm.MethodName) ({ cls := "ClearingHouseModel", name := "debt", desc := "(II)I" } : Jvm.MethodName)) ∈ lw_all := lw_g (lw_at lw_m9 148 rfl) rfl
theorem q2148 : (Jvm.Cond.code ({ cls := "ClearingHouseModel", name := "debt", desc := "(II)I" } : Jvm.MethodName) prog_19_method_46_code (3 : Nat) (Option.some Jvm.ClassFile.FieldType.int)) ∈ lw_all := lw_g (lw_at lw_m9 149 rfl) rfl
theorem q2150 : (Jvm.Cond.instanceMethod ({ cls := "ClearingHouseModel", name := "claims", desc := "(I)I" } : Jvm.MethodName)) ∈ lw_all := lw_g (lw_at lw_m9 151 rfl) rfl
theorem q2151 : (Jvm.Cond.selects "ClearingHouseModel" ({ cls := "ClearingHouseModel", name := "claims", desc := "(I)I" } : Jvm.MethodName) ({ cls := "ClearingHouseModel", name := "claims", desc := "(I)I" } : Jvm.MethodName)) ∈ lw_all := lw_g (lw_at lw_m9 152 rfl) rfl
theorem q2152 : (Jvm.Cond.code ({ cls := "ClearingHouseModel", name := "claims", desc := "(I)I" } : Jvm.MethodName) prog_19_method_47_code (2 : Nat) (Option.some Jvm.ClassFile.FieldType.int)) ∈ lw_all := lw_g (lw_at lw_m9 153 rfl) rfl
theorem q2154 : (Jvm.Cond.instanceMethod ({ cls := "ClearingHouseModel", name := "obligations", desc := "(I)I" } : Jvm.MethodName)) ∈ lw_all := lw_g (lw_at lw_m9 155 rfl) rfl
theorem q2155 : (Jvm.Cond.selects "ClearingHouseModel" ({ cls := "ClearingHouseModel", name := "obligations", desc := "(I)I" } : Jvm.MethodName) ({ cls := "ClearingHouseModel", name := "obligations", desc := "(I)I" } : Jvm.MethodName)) ∈ lw_all := lw_g (lw_at lw_m9 156 rfl) rfl
theorem q2156 : (Jvm.Cond.code ({ cls := "ClearingHouseModel", name := "obligations", desc := "(I)I" } : Jvm.MethodName) prog_19_method_48_code (2 : Nat) (Option.some Jvm.ClassFile.FieldType.int)) ∈ lw_all := lw_g (lw_at lw_m9 157 rfl) rfl
theorem q2158 : (Jvm.Cond.instanceMethod ({ cls := "ClearingHouseModel", name := "netPosition", desc := "(I)I" } : Jvm.MethodName)) ∈ lw_all := lw_g (lw_at lw_m9 159 rfl) rfl
theorem q2159 : (Jvm.Cond.selects "ClearingHouseModel" ({ cls := "ClearingHouseModel", name := "netPosition", desc := "(I)I" } : Jvm.MethodName) ({ cls := "ClearingHouseModel", name := "netPosition", desc := "(I)I" } : Jvm.MethodName)) ∈ lw_all := lw_g (lw_at lw_m9 160 rfl) rfl
theorem q2160 : (Jvm.Cond.code ({ cls := "ClearingHouseModel", name := "netPosition", desc := "(I)I" } : Jvm.MethodName) prog_19_method_49_code (2 : Nat) (Option.some Jvm.ClassFile.FieldType.int)) ∈ lw_all := lw_g (lw_at lw_m9 161 rfl) rfl
theorem q2161 : (Jvm.Cond.methodLink "ClearingHouseModel" (139 : Nat) ({ cls := "ClearingHouseModel", name := "net", desc := "(I)I" } : Jvm.MethodName)) ∈ lw_all := lw_g (lw_at lw_m9 162 rfl) rfl
theorem q2162 : (Jvm.Cond.privateMethod ({ cls := "ClearingHouseModel", name := "net", desc := "(I)I" } : Jvm.MethodName)) ∈ lw_tbl := lw_at lw_m9 163 rfl
theorem q2163 : (Jvm.Cond.instanceMethod ({ cls := "ClearingHouseModel", name := "net", desc := "(I)I" } : Jvm.MethodName)) ∈ lw_all := lw_g (lw_at lw_m9 164 rfl) rfl
theorem q2164 : (Jvm.Cond.code ({ cls := "ClearingHouseModel", name := "net", desc := "(I)I" } : Jvm.MethodName) prog_19_method_14_code (2 : Nat) (Option.some Jvm.ClassFile.FieldType.int)) ∈ lw_all := lw_g (lw_at lw_m9 165 rfl) rfl
theorem q2166 : (Jvm.Cond.instanceMethod ({ cls := "ClearingHouseModel", name := "isInsolvent", desc := "(I)Z" } : Jvm.MethodName)) ∈ lw_all := lw_g (lw_at lw_m9 167 rfl) rfl
theorem q2167 : (Jvm.Cond.selects "ClearingHouseModel" ({ cls := "ClearingHouseModel", name := "isInsolvent", desc := "(I)Z" } : Jvm.MethodName) ({ cls := "ClearingHouseModel", name := "isInsolvent", desc := "(I)Z" } : Jvm.MethodName)) ∈ lw_all := lw_g (lw_at lw_m9 168 rfl) rfl
theorem q2168 : (Jvm.Cond.code ({ cls := "ClearingHouseModel", name := "isInsolvent", desc := "(I)Z" } : Jvm.MethodName) prog_19_method_50_code (2 : Nat) (Option.some Jvm.ClassFile.FieldType.boolean)) ∈ lw_all := lw_g (lw_at lw_m9 169 rfl) rfl
theorem q2170 : (Jvm.Cond.instanceMethod ({ cls := "ClearingHouseModel", name := "partyAtRank", desc := "(I)I" } : Jvm.MethodName)) ∈ lw_all := lw_g (lw_at lw_m9 171 rfl) rfl
theorem q2171 : (Jvm.Cond.selects "ClearingHouseModel" ({ cls := "ClearingHouseModel", name := "partyAtRank", desc := "(I)I" } : Jvm.MethodName) ({ cls := "ClearingHouseModel", name := "partyAtRank", desc := "(I)I" } : Jvm.MethodName)) ∈ lw_all := lw_g (lw_at lw_m9 172 rfl) rfl
theorem q2172 : (Jvm.Cond.code ({ cls := "ClearingHouseModel", name := "partyAtRank", desc := "(I)I" } : Jvm.MethodName) prog_19_method_52_code (5 : Nat) (Option.some Jvm.ClassFile.FieldType.int)) ∈ lw_all := lw_g (lw_at lw_m9 173 rfl) rfl
theorem q2173 : (Jvm.Cond.methodLink "ClearingHouseModel" (142 : Nat) ({ cls := "ClearingHouseModel", name := "isAhead", desc := "(II)Z" } : Jvm.MethodName)) ∈ lw_all := lw_g (lw_at lw_m9 174 rfl) rfl
theorem q2174 : (Jvm.Cond.privateMethod ({ cls := "ClearingHouseModel", name := "isAhead", desc := "(II)Z" } : Jvm.MethodName)) ∈ lw_tbl := lw_at lw_m9 175 rfl
theorem q2175 : (Jvm.Cond.instanceMethod ({ cls := "ClearingHouseModel", name := "isAhead", desc := "(II)Z" } : Jvm.MethodName)) ∈ lw_all := lw_g (lw_at lw_m9 176 rfl) rfl
theorem q2176 : (Jvm.Cond.code ({ cls := "ClearingHouseModel", name := "isAhead", desc := "(II)Z" } : Jvm.MethodName) prog_19_method_51_code (3 : Nat) (Option.some Jvm.ClassFile.FieldType.boolean)) ∈ lw_all := lw_g (lw_at lw_m9 177 rfl) rfl
theorem q2178 : (Jvm.Cond.instanceMethod ({ cls := "ClearingHouseModel", name := "fewestPayments", desc := "()I" } : Jvm.MethodName)) ∈ lw_all := lw_g (lw_at lw_m9 179 rfl) rfl
theorem q2179 : (Jvm.Cond.selects "ClearingHouseModel" ({ cls := "ClearingHouseModel", name := "fewestPayments", desc := "()I" } : Jvm.MethodName) ({ cls := "ClearingHouseModel", name := "fewestPayments", desc := "()I" } : Jvm.MethodName)) ∈ lw_all := lw_g (lw_at lw_m9 180 rfl) rfl
theorem q2180 : (Jvm.Cond.code ({ cls := "ClearingHouseModel", name := "fewestPayments", desc := "()I" } : Jvm.MethodName) prog_19_method_54_code (1 : Nat) (Option.some Jvm.ClassFile.FieldType.int)) ∈ lw_all := lw_g (lw_at lw_m9 181 rfl) rfl
theorem q2181 : (Jvm.Cond.methodLink "ClearingHouseModel" (145 : Nat) ({ cls := "ClearingHouseModel", name := "payments", desc := "()I" } : Jvm.MethodName)) ∈ lw_all := lw_g (lw_at lw_m9 182 rfl) rfl
theorem q2182 : (Jvm.Cond.privateMethod ({ cls := "ClearingHouseModel", name := "payments", desc := "()I" } : Jvm.MethodName)) ∈ lw_tbl := lw_at lw_m9 183 rfl
theorem q2183 : (Jvm.Cond.instanceMethod ({ cls := "ClearingHouseModel", name := "payments", desc := "()I" } : Jvm.MethodName)) ∈ lw_all := lw_g (lw_at lw_m9 184 rfl) rfl
theorem q2184 : (Jvm.Cond.code ({ cls := "ClearingHouseModel", name := "payments", desc := "()I" } : Jvm.MethodName) prog_19_method_53_code (7 : Nat) (Option.some Jvm.ClassFile.FieldType.int)) ∈ lw_all := lw_g (lw_at lw_m9 185 rfl) rfl
theorem q2186 : (Jvm.Cond.instanceMethod ({ cls := "ClearingHouseModel", name := "fewestPaymentsByTrying", desc := "()I" } : Jvm.MethodName)) ∈ lw_all := lw_g (lw_at lw_m9 187 rfl) rfl
theorem q2187 : (Jvm.Cond.selects "ClearingHouseModel" ({ cls := "ClearingHouseModel", name := "fewestPaymentsByTrying", desc := "()I" } : Jvm.MethodName) ({ cls := "ClearingHouseModel", name := "fewestPaymentsByTrying", desc := "()I" } : Jvm.MethodName)) ∈ lw_all := lw_g (lw_at lw_m9 188 rfl) rfl
theorem q2188 : (Jvm.Cond.code ({ cls := "ClearingHouseModel", name := "fewestPaymentsByTrying", desc := "()I" } : Jvm.MethodName) prog_19_method_55_code (1 : Nat) (Option.some Jvm.ClassFile.FieldType.int)) ∈ lw_all := lw_g (lw_at lw_m9 189 rfl) rfl
theorem q2190 : (Jvm.Cond.instanceMethod ({ cls := "ClearingHouseModel", name := "day", desc := "()I" } : Jvm.MethodName)) ∈ lw_all := lw_g (lw_at lw_m9 191 rfl) rfl
theorem q2191 : (Jvm.Cond.selects "ClearingHouseModel" ({ cls := "ClearingHouseModel", name := "day", desc := "()I" } : Jvm.MethodName) ({ cls := "ClearingHouseModel", name := "day", desc := "()I" } : Jvm.MethodName)) ∈ lw_all := lw_g (lw_at lw_m9 192 rfl) rfl
theorem q2192 : (Jvm.Cond.code ({ cls := "ClearingHouseModel", name := "day", desc := "()I" } : Jvm.MethodName) prog_19_method_56_code (1 : Nat) (Option.some Jvm.ClassFile.FieldType.int)) ∈ lw_all := lw_g (lw_at lw_m9 193 rfl) rfl
theorem q2194 : (Jvm.Cond.instanceMethod ({ cls := "ClearingHouseModel", name := "debtTotal", desc := "()I" } : Jvm.MethodName)) ∈ lw_all := lw_g (lw_at lw_m9 195 rfl) rfl
theorem q2195 : (Jvm.Cond.selects "ClearingHouseModel" ({ cls := "ClearingHouseModel", name := "debtTotal", desc := "()I" } : Jvm.MethodName) ({ cls := "ClearingHouseModel", name := "debtTotal", desc := "()I" } : Jvm.MethodName)) ∈ lw_all := lw_g (lw_at lw_m9 196 rfl) rfl
theorem q2196 : (Jvm.Cond.code ({ cls := "ClearingHouseModel", name := "debtTotal", desc := "()I" } : Jvm.MethodName) prog_19_method_59_code (1 : Nat) (Option.some Jvm.ClassFile.FieldType.int)) ∈ lw_all := lw_g (lw_at lw_m9 197 rfl) rfl
theorem q2197 : (Jvm.Cond.methodLink "ClearingHouseModel" (148 : Nat) ({ cls := "ClearingHouseModel", name := "owedAll", desc := "()I" } : Jvm.MethodName)) ∈ lw_all := lw_g (lw_at lw_m9 198 rfl) rfl
theorem q2198 : (Jvm.Cond.privateMethod ({ cls := "ClearingHouseModel", name := "owedAll", desc := "()I" } : Jvm.MethodName)) ∈ lw_tbl := lw_at lw_m9 199 rfl
theorem q2199 : (Jvm.Cond.instanceMethod ({ cls := "ClearingHouseModel", name := "owedAll", desc := "()I" } : Jvm.MethodName)) ∈ lw_all := lw_g (lw_at lw_m9 200 rfl) rfl
theorem q2200 : (Jvm.Cond.code ({ cls := "ClearingHouseModel", name := "owedAll", desc := "()I" } : Jvm.MethodName) prog_19_method_57_code (3 : Nat) (Option.some Jvm.ClassFile.FieldType.int)) ∈ lw_all := lw_g (lw_at lw_m9 201 rfl) rfl
theorem q2202 : (Jvm.Cond.instanceMethod ({ cls := "ClearingHouseModel", name := "debtByAccounts", desc := "()I" } : Jvm.MethodName)) ∈ lw_all := lw_g (lw_at lw_m9 203 rfl) rfl
theorem q2203 : (Jvm.Cond.selects "ClearingHouseModel" ({ cls := "ClearingHouseModel", name := "debtByAccounts", desc := "()I" } : Jvm.MethodName) ({ cls := "ClearingHouseModel", name := "debtByAccounts", desc := "()I" } : Jvm.MethodName)) ∈ lw_all := lw_g (lw_at lw_m9 204 rfl) rfl
theorem q2204 : (Jvm.Cond.code ({ cls := "ClearingHouseModel", name := "debtByAccounts", desc := "()I" } : Jvm.MethodName) prog_19_method_60_code (1 : Nat) (Option.some Jvm.ClassFile.FieldType.int)) ∈ lw_all := lw_g (lw_at lw_m9 205 rfl) rfl
theorem q2206 : (Jvm.Cond.instanceMethod ({ cls := "ClearingHouseModel", name := "cashTotal", desc := "()I" } : Jvm.MethodName)) ∈ lw_all := lw_g (lw_at lw_m9 207 rfl) rfl
theorem q2207 : (Jvm.Cond.selects "ClearingHouseModel" ({ cls := "ClearingHouseModel", name := "cashTotal", desc := "()I" } : Jvm.MethodName) ({ cls := "ClearingHouseModel", name := "cashTotal", desc := "()I" } : Jvm.MethodName)) ∈ lw_all := lw_g (lw_at lw_m9 208 rfl) rfl
theorem q2208 : (Jvm.Cond.code ({ cls := "ClearingHouseModel", name := "cashTotal", desc := "()I" } : Jvm.MethodName) prog_19_method_61_code (1 : Nat) (Option.some Jvm.ClassFile.FieldType.int)) ∈ lw_all := lw_g (lw_at lw_m9 209 rfl) rfl
theorem q2209 : (Jvm.Cond.methodLink "ClearingHouseModel" (151 : Nat) ({ cls := "ClearingHouseModel", name := "cashAll", desc := "()I" } : Jvm.MethodName)) ∈ lw_all := lw_g (lw_at lw_m9 210 rfl) rfl
theorem q2210 : (Jvm.Cond.privateMethod ({ cls := "ClearingHouseModel", name := "cashAll", desc := "()I" } : Jvm.MethodName)) ∈ lw_tbl := lw_at lw_m9 211 rfl
theorem q2211 : (Jvm.Cond.instanceMethod ({ cls := "ClearingHouseModel", name := "cashAll", desc := "()I" } : Jvm.MethodName)) ∈ lw_all := lw_g (lw_at lw_m9 212 rfl) rfl
theorem q2212 : (Jvm.Cond.code ({ cls := "ClearingHouseModel", name := "cashAll", desc := "()I" } : Jvm.MethodName) prog_19_method_58_code (3 : Nat) (Option.some Jvm.ClassFile.FieldType.int)) ∈ lw_all := lw_g (lw_at lw_m9 213 rfl) rfl
theorem q2214 : (Jvm.Cond.instanceMethod ({ cls := "ClearingHouseModel", name := "nettedTotal", desc := "()J" } : Jvm.MethodName)) ∈ lw_all := lw_g (lw_at lw_m9 215 rfl) rfl
theorem q2215 : (Jvm.Cond.selects "ClearingHouseModel" ({ cls := "ClearingHouseModel", name := "nettedTotal", desc := "()J" } : Jvm.MethodName) ({ cls := "ClearingHouseModel", name := "nettedTotal", desc := "()J" } : Jvm.MethodName)) ∈ lw_all := lw_g (lw_at lw_m9 216 rfl) rfl
theorem q2216 : (Jvm.Cond.code ({ cls := "ClearingHouseModel", name := "nettedTotal", desc := "()J" } : Jvm.MethodName) prog_19_method_62_code (1 : Nat) (Option.some Jvm.ClassFile.FieldType.long)) ∈ lw_all := lw_g (lw_at lw_m9 217 rfl) rfl
theorem q2218 : (Jvm.Cond.instanceMethod ({ cls := "ClearingHouseModel", name := "writtenOff", desc := "()I" } : Jvm.MethodName)) ∈ lw_all := lw_g (lw_at lw_m9 219 rfl) rfl
theorem q2219 : (Jvm.Cond.selects "ClearingHouseModel" ({ cls := "ClearingHouseModel", name := "writtenOff", desc := "()I" } : Jvm.MethodName) ({ cls := "ClearingHouseModel", name := "writtenOff", desc := "()I" } : Jvm.MethodName)) ∈ lw_all := lw_g (lw_at lw_m9 220 rfl) rfl
theorem q2220 : (Jvm.Cond.code ({ cls := "ClearingHouseModel", name := "writtenOff", desc := "()I" } : Jvm.MethodName) prog_19_method_63_code (1 : Nat) (Option.some Jvm.ClassFile.FieldType.int)) ∈ lw_all := lw_g (lw_at lw_m9 221 rfl) rfl
theorem q2222 : (Jvm.Cond.instanceMethod ({ cls := "ClearingHouseModel", name := "defaults", desc := "()I" } : Jvm.MethodName)) ∈ lw_all := lw_g (lw_at lw_m9 223 rfl) rfl
theorem q2223 : (Jvm.Cond.selects "ClearingHouseModel" ({ cls := "ClearingHouseModel", name := "defaults", desc := "()I" } : Jvm.MethodName) ({ cls := "ClearingHouseModel", name := "defaults", desc := "()I" } : Jvm.MethodName)) ∈ lw_all := lw_g (lw_at lw_m9 224 rfl) rfl
theorem q2224 : (Jvm.Cond.code ({ cls := "ClearingHouseModel", name := "defaults", desc := "()I" } : Jvm.MethodName) prog_19_method_64_code (1 : Nat) (Option.some Jvm.ClassFile.FieldType.int)) ∈ lw_all := lw_g (lw_at lw_m9 225 rfl) rfl
theorem q2226 : (Jvm.Cond.instanceMethod ({ cls := "ClearingHouseModel", name := "debtBits", desc := "()J" } : Jvm.MethodName)) ∈ lw_all := lw_g (lw_at lw_m9 227 rfl) rfl
theorem q2227 : (Jvm.Cond.selects "ClearingHouseModel" ({ cls := "ClearingHouseModel", name := "debtBits", desc := "()J" } : Jvm.MethodName) ({ cls := "ClearingHouseModel", name := "debtBits", desc := "()J" } : Jvm.MethodName)) ∈ lw_all := lw_g (lw_at lw_m9 228 rfl) rfl
theorem q2228 : (Jvm.Cond.code ({ cls := "ClearingHouseModel", name := "debtBits", desc := "()J" } : Jvm.MethodName) prog_19_method_65_code (4 : Nat) (Option.some Jvm.ClassFile.FieldType.long)) ∈ lw_all := lw_g (lw_at lw_m9 229 rfl) rfl
theorem q2230 : (Jvm.Cond.instanceMethod ({ cls := "ClearingHouseModel", name := "meanObligations", desc := "()D" } : Jvm.MethodName)) ∈ lw_all := lw_g (lw_at lw_m9 231 rfl) rfl
theorem q2231 : (Jvm.Cond.selects "ClearingHouseModel" ({ cls := "ClearingHouseModel", name := "meanObligations", desc := "()D" } : Jvm.MethodName) ({ cls := "ClearingHouseModel", name := "meanObligations", desc := "()D" } : Jvm.MethodName)) ∈ lw_all := lw_g (lw_at lw_m9 232 rfl) rfl
theorem q2232 : (Jvm.Cond.code ({ cls := "ClearingHouseModel", name := "meanObligations", desc := "()D" } : Jvm.MethodName) prog_19_method_66_code (1 : Nat) (Option.some Jvm.ClassFile.FieldType.double)) ∈ lw_all := lw_g (lw_at lw_m9 233 rfl) rfl
theorem q2234 : (Jvm.Cond.instanceMethod ({ cls := "ClearingHouseModel", name := "coverage", desc := "()F" } : Jvm.MethodName)) ∈ lw_all := lw_g (lw_at lw_m9 235 rfl) rfl
theorem q2235 : (Jvm.Cond.selects "ClearingHouseModel" ({ cls := "ClearingHouseModel", name := "coverage", desc := "()F" } : Jvm.MethodName) ({ cls := "ClearingHouseModel", name := "coverage", desc := "()F" } : Jvm.MethodName)) ∈ lw_all := lw_g (lw_at lw_m9 236 rfl) rfl
theorem q2236 : (Jvm.Cond.code ({ cls := "ClearingHouseModel", name := "coverage", desc := "()F" } : Jvm.MethodName) prog_19_method_67_code (1 : Nat) (Option.some Jvm.ClassFile.FieldType.float)) ∈ lw_all := lw_g (lw_at lw_m9 237 rfl) rfl
theorem q2238 : (Jvm.Cond.instanceMethod ({ cls := "ClearingHouseModel", name := "isConsistent", desc := "()Z" } : Jvm.MethodName)) ∈ lw_all := lw_g (lw_at lw_m9 239 rfl) rfl
theorem q2239 : (Jvm.Cond.selects "ClearingHouseModel" ({ cls := "ClearingHouseModel", name := "isConsistent", desc := "()Z" } : Jvm.MethodName) ({ cls := "ClearingHouseModel", name := "isConsistent", desc := "()Z" } : Jvm.MethodName)) ∈ lw_all := lw_g (lw_at lw_m10 0 rfl) rfl
theorem q2240 : (Jvm.Cond.code ({ cls := "ClearingHouseModel", name := "isConsistent", desc := "()Z" } : Jvm.MethodName) prog_19_method_68_code (6 : Nat) (Option.some Jvm.ClassFile.FieldType.boolean)) ∈ lw_all := lw_g (lw_at lw_m10 1 rfl) rfl
theorem q2242 : (Jvm.Cond.instanceMethod ({ cls := "ClearingHouseModel", name := "append", desc := "(C)I" } : Jvm.MethodName)) ∈ lw_all := lw_g (lw_at lw_m10 3 rfl) rfl
theorem q2243 : (Jvm.Cond.selects "ClearingHouseModel" ({ cls := "ClearingHouseModel", name := "append", desc := "(C)I" } : Jvm.MethodName) ({ cls := "ClearingHouseModel", name := "append", desc := "(C)I" } : Jvm.MethodName)) ∈ lw_all := lw_g (lw_at lw_m10 4 rfl) rfl
theorem q2244 : (Jvm.Cond.code ({ cls := "ClearingHouseModel", name := "append", desc := "(C)I" } : Jvm.MethodName) prog_19_method_69_code (2 : Nat) (Option.some Jvm.ClassFile.FieldType.int)) ∈ lw_all := lw_g (lw_at lw_m10 5 rfl) rfl
theorem q2246 : (Jvm.Cond.instanceMethod ({ cls := "ClearingHouseModel", name := "run", desc := "()I" } : Jvm.MethodName)) ∈ lw_all := lw_g (lw_at lw_m10 7 rfl) rfl
theorem q2247 : (Jvm.Cond.selects "ClearingHouseModel" ({ cls := "ClearingHouseModel", name := "run", desc := "()I" } : Jvm.MethodName) ({ cls := "ClearingHouseModel", name := "run", desc := "()I" } : Jvm.MethodName)) ∈ lw_all := lw_g (lw_at lw_m10 8 rfl) rfl
theorem q2248 : (Jvm.Cond.code ({ cls := "ClearingHouseModel", name := "run", desc := "()I" } : Jvm.MethodName) prog_19_method_80_code (4 : Nat) (Option.some Jvm.ClassFile.FieldType.int)) ∈ lw_all := lw_g (lw_at lw_m10 9 rfl) rfl
theorem q2249 : (Jvm.Cond.methodLink "ClearingHouseModel" (248 : Nat) ({ cls := "ClearingHouseModel", name := "isProgram", desc := "()Z" } : Jvm.MethodName)) ∈ lw_all := lw_g (lw_at lw_m10 10 rfl) rfl
theorem q2250 : (Jvm.Cond.privateMethod ({ cls := "ClearingHouseModel", name := "isProgram", desc := "()Z" } : Jvm.MethodName)) ∈ lw_tbl := lw_at lw_m10 11 rfl
theorem q2251 : (Jvm.Cond.instanceMethod ({ cls := "ClearingHouseModel", name := "isProgram", desc := "()Z" } : Jvm.MethodName)) ∈ lw_all := lw_g (lw_at lw_m10 12 rfl) rfl
theorem q2252 : (Jvm.Cond.code ({ cls := "ClearingHouseModel", name := "isProgram", desc := "()Z" } : Jvm.MethodName) prog_19_method_78_code (1 : Nat) (Option.some Jvm.ClassFile.FieldType.boolean)) ∈ lw_all := lw_g (lw_at lw_m10 13 rfl) rfl
theorem q2253 : (Jvm.Cond.methodLink "ClearingHouseModel" (213 : Nat) ({ cls := "ClearingHouseModel", name := "commandHere", desc := "()Z" } : Jvm.MethodName)) ∈ lw_all := lw_g (lw_at lw_m10 14 rfl) rfl
theorem q2254 : (Jvm.Cond.privateMethod ({ cls := "ClearingHouseModel", name := "commandHere", desc := "()Z" } : Jvm.MethodName)) ∈ lw_tbl := lw_at lw_m10 15 rfl
theorem q2255 : (Jvm.Cond.instanceMethod ({ cls := "ClearingHouseModel", name := "commandHere", desc := "()Z" } : Jvm.MethodName)) ∈ lw_all := lw_g (lw_at lw_m10 16 rfl) rfl
theorem q2256 : (Jvm.Cond.code ({ cls := "ClearingHouseModel", name := "commandHere", desc := "()Z" } : Jvm.MethodName) prog_19_method_77_code (2 : Nat) (Option.some Jvm.ClassFile.FieldType.boolean)) ∈ lw_all := lw_g (lw_at lw_m10 17 rfl) rfl
theorem q2257 : (Jvm.Cond.methodLink "ClearingHouseModel" (174 : Nat) ({ cls := "ClearingHouseModel", name := "skips", desc := "(I)Z" } : Jvm.MethodName)) ∈ lw_all := lw_g (lw_at lw_m10 18 rfl) rfl
theorem q2258 : (Jvm.Cond.privateMethod ({ cls := "ClearingHouseModel", name := "skips", desc := "(I)Z" } : Jvm.MethodName)) ∈ lw_tbl := lw_at lw_m10 19 rfl
theorem q2259 : (Jvm.Cond.instanceMethod ({ cls := "ClearingHouseModel", name := "skips", desc := "(I)Z" } : Jvm.MethodName)) ∈ lw_all := lw_g (lw_at lw_m10 20 rfl) rfl
theorem q2260 : (Jvm.Cond.code ({ cls := "ClearingHouseModel", name := "skips", desc := "(I)Z" } : Jvm.MethodName) prog_19_method_71_code (2 : Nat) (Option.some Jvm.ClassFile.FieldType.boolean)) ∈ lw_all := lw_g (lw_at lw_m10 21 rfl) rfl
theorem q2261 : (Jvm.Cond.methodLink "ClearingHouseModel" (160 : Nat) ({ cls := "ClearingHouseModel", name := "here", desc := "()I" } : Jvm.MethodName)) ∈ lw_all := lw_g (lw_at lw_m10 22 rfl) rfl
theorem q2262 : (Jvm.Cond.privateMethod ({ cls := "ClearingHouseModel", name := "here", desc := "()I" } : Jvm.MethodName)) ∈ lw_tbl := lw_at lw_m10 23 rfl
theorem q2263 : (Jvm.Cond.instanceMethod ({ cls := "ClearingHouseModel", name := "here", desc := "()I" } : Jvm.MethodName)) ∈ lw_all := lw_g (lw_at lw_m10 24 rfl) rfl
theorem q2264 : (Jvm.Cond.code ({ cls := "ClearingHouseModel", name := "here", desc := "()I" } : Jvm.MethodName) prog_19_method_70_code (1 : Nat) (Option.some Jvm.ClassFile.FieldType.int)) ∈ lw_all := lw_g (lw_at lw_m10 25 rfl) rfl
theorem q2265 : (Jvm.Cond.stringRef "ClearingHouseModel" (195 : Nat) "oin") ∈ lw_tbl := lw_at lw_m10 26 rfl
theorem q2266 : (Jvm.Cond.methodLink "ClearingHouseModel" (185 : Nat) ({ cls := "ClearingHouseModel", name := "isWord", desc := "(ILjava/lang/String;)Z" } : Jvm.MethodName)) ∈ lw_all := lw_g (lw_at lw_m10 27 rfl) rfl
theorem q2267 : (Jvm.Cond.privateMethod ({ cls := "ClearingHouseModel", name := "isWord", desc := "(ILjava/lang/String;)Z" } : Jvm.MethodName)) ∈ lw_tbl := lw_at lw_m10 28 rfl
theorem q2268 : (Jvm.Cond.instanceMethod ({ cls := "ClearingHouseModel", name := "isWord", desc := "(ILjava/lang/String;)Z" } : Jvm.MethodName)) ∈ lw_all := lw_g (lw_at lw_m10 29 rfl) rfl
theorem q2269 : (Jvm.Cond.code ({ cls := "ClearingHouseModel", name := "isWord", desc := "(ILjava/lang/String;)Z" } : Jvm.MethodName) prog_19_method_72_code (4 : Nat) (Option.some Jvm.ClassFile.FieldType.boolean)) ∈ lw_all := lw_g (lw_at lw_m10 30 rfl) rfl
theorem q2270 : (Jvm.Cond.methodLink "ClearingHouseModel" (166 : Nat) ({ cls := "java/lang/String", name := "length", desc := "()I" } : Jvm.MethodName)) ∈ lw_all := lw_g (lw_at lw_m10 31 rfl) rfl
theorem q2271 : (Jvm.Cond.methodLink "ClearingHouseModel" (170 : Nat) ({ cls := "java/lang/String", name := "charAt", desc := "(I)C" } : Jvm.MethodName)) ∈ lw_all := lw_g (lw_at lw_m10 32 rfl) rfl
theorem q2272 : (Jvm.Cond.methodLink "ClearingHouseModel" (180 : Nat) ({ cls := "ClearingHouseModel", name := "figures", desc := "(II)Z" } : Jvm.MethodName)) ∈ lw_all := lw_g (lw_at lw_m10 33 rfl) rfl
theorem q2273 : (Jvm.Cond.privateMethod ({ cls := "ClearingHouseModel", name := "figures", desc := "(II)Z" } : Jvm.MethodName)) ∈ lw_tbl := lw_at lw_m10 34 rfl
theorem q2274 : (Jvm.Cond.instanceMethod ({ cls := "ClearingHouseModel", name := "figures", desc := "(II)Z" } : Jvm.MethodName)) ∈ lw_all := lw_g (lw_at lw_m10 35 rfl) rfl
theorem q2275 : (Jvm.Cond.code ({ cls := "ClearingHouseModel", name := "figures", desc := "(II)Z" } : Jvm.MethodName) prog_19_method_74_code (3 : Nat) (Option.some Jvm.ClassFile.FieldType.boolean)) ∈ lw_all := lw_g (lw_at lw_m10 36 rfl) rfl
theorem q2276 : (Jvm.Cond.methodLink "ClearingHouseModel" (177 : Nat) ({ cls := "ClearingHouseModel", name := "digits", desc := "(II)Z" } : Jvm.MethodName)) ∈ lw_all := lw_g (lw_at lw_m10 37 rfl) rfl
theorem q2277 : (Jvm.Cond.privateMethod ({ cls := "ClearingHouseModel", name := "digits", desc := "(II)Z" } : Jvm.MethodName)) ∈ lw_tbl := lw_at lw_m10 38 rfl
theorem q2278 : (Jvm.Cond.instanceMethod ({ cls := "ClearingHouseModel", name := "digits", desc := "(II)Z" } : Jvm.MethodName)) ∈ lw_all := lw_g (lw_at lw_m10 39 rfl) rfl
theorem q2279 : (Jvm.Cond.code ({ cls := "ClearingHouseModel", name := "digits", desc := "(II)Z" } : Jvm.MethodName) prog_19_method_73_code (4 : Nat) (Option.some Jvm.ClassFile.FieldType.boolean)) ∈ lw_all := lw_g (lw_at lw_m10 40 rfl) rfl
theorem q2280 : (Jvm.Cond.methodLink "ClearingHouseModel" (197 : Nat) ({ cls := "ClearingHouseModel", name := "withC", desc := "(I)Z" } : Jvm.MethodName)) ∈ lw_all := lw_g (lw_at lw_m10 41 rfl) rfl
theorem q2281 : (Jvm.Cond.privateMethod ({ cls := "ClearingHouseModel", name := "withC", desc := "(I)Z" } : Jvm.MethodName)) ∈ lw_tbl := lw_at lw_m10 42 rfl
theorem q2282 : (Jvm.Cond.instanceMethod ({ cls := "ClearingHouseModel", name := "withC", desc := "(I)Z" } : Jvm.MethodName)) ∈ lw_all := lw_g (lw_at lw_m10 43 rfl) rfl
theorem q2283 : (Jvm.Cond.code ({ cls := "ClearingHouseModel", name := "withC", desc := "(I)Z" } : Jvm.MethodName) prog_19_method_76_code (2 : Nat) (Option.some Jvm.ClassFile.FieldType.boolean)) ∈ lw_all := lw_g (lw_at lw_m10 44 rfl) rfl
theorem q2284 : (Jvm.Cond.stringRef "ClearingHouseModel" (183 : Nat) "cle") ∈ lw_tbl := lw_at lw_m10 45 rfl
theorem q2285 : (Jvm.Cond.stringRef "ClearingHouseModel" (189 : Nat) "l") ∈ lw_tbl := lw_at lw_m10 46 rfl
theorem q2286 : (Jvm.Cond.stringRef "ClearingHouseModel" (191 : Nat) "ade") ∈ lw_tbl := lw_at lw_m10 47 rfl
theorem q2287 : (Jvm.Cond.stringRef "ClearingHouseModel" (193 : Nat) "h") ∈ lw_tbl := lw_at lw_m10 48 rfl
theorem q2288 : (Jvm.Cond.stringRef "ClearingHouseModel" (200 : Nat) "we") ∈ lw_tbl := lw_at lw_m10 49 rfl
theorem q2289 : (Jvm.Cond.methodLink "ClearingHouseModel" (202 : Nat) ({ cls := "ClearingHouseModel", name := "pair", desc := "(I)Z" } : Jvm.MethodName)) ∈ lw_all := lw_g (lw_at lw_m10 50 rfl) rfl
theorem q2290 : (Jvm.Cond.privateMethod ({ cls := "ClearingHouseModel", name := "pair", desc := "(I)Z" } : Jvm.MethodName)) ∈ lw_tbl := lw_at lw_m10 51 rfl
theorem q2291 : (Jvm.Cond.instanceMethod ({ cls := "ClearingHouseModel", name := "pair", desc := "(I)Z" } : Jvm.MethodName)) ∈ lw_all := lw_g (lw_at lw_m10 52 rfl) rfl
theorem q2292 : (Jvm.Cond.code ({ cls := "ClearingHouseModel", name := "pair", desc := "(I)Z" } : Jvm.MethodName) prog_19_method_75_code (2 : Nat) (Option.some Jvm.ClassFile.FieldType.boolean)) ∈ lw_all := lw_g (lw_at lw_m10 53 rfl) rfl
theorem q2293 : (Jvm.Cond.stringRef "ClearingHouseModel" (205 : Nat) "ll") ∈ lw_tbl := lw_at lw_m10 54 rfl
theorem q2294 : (Jvm.Cond.stringRef "ClearingHouseModel" (207 : Nat) "efault") ∈ lw_tbl := lw_at lw_m10 55 rfl
theorem q2295 : (Jvm.Cond.stringRef "ClearingHouseModel" (209 : Nat) "r") ∈ lw_tbl := lw_at lw_m10 56 rfl
theorem q2296 : (Jvm.Cond.stringRef "ClearingHouseModel" (211 : Nat) "y") ∈ lw_tbl := lw_at lw_m10 57 rfl
theorem q2297 : (Jvm.Cond.methodLink "ClearingHouseModel" (251 : Nat) ({ cls := "ClearingHouseModel", name := "carries", desc := "(I)I" } : Jvm.MethodName)) ∈ lw_all := lw_g (lw_at lw_m10 58 rfl) rfl
theorem q2298 : (Jvm.Cond.privateMethod ({ cls := "ClearingHouseModel", name := "carries", desc := "(I)I" } : Jvm.MethodName)) ∈ lw_tbl := lw_at lw_m10 59 rfl
theorem q2299 : (Jvm.Cond.instanceMethod ({ cls := "ClearingHouseModel", name := "carries", desc := "(I)I" } : Jvm.MethodName)) ∈ lw_all := lw_g (lw_at lw_m10 60 rfl) rfl
theorem q2300 : (Jvm.Cond.code ({ cls := "ClearingHouseModel", name := "carries", desc := "(I)I" } : Jvm.MethodName) prog_19_method_79_code (4 : Nat) (Option.some Jvm.ClassFile.FieldType.int)) ∈ lw_all := lw_g (lw_at lw_m10 61 rfl) rfl
theorem q2301 : (Jvm.Cond.methodLink "ClearingHouseModel" (217 : Nat) ({ cls := "ClearingHouseModel", name := "addParty", desc := "(I)I" } : Jvm.MethodName)) ∈ lw_all := lw_g (lw_at lw_m10 62 rfl) rfl
theorem q2302 : (Jvm.Cond.methodLink "ClearingHouseModel" (220 : Nat) ({ cls := "ClearingHouseModel", name := "deposit", desc := "(II)I" } : Jvm.MethodName)) ∈ lw_all := lw_g (lw_at lw_m10 63 rfl) rfl
theorem q2303 : (Jvm.Cond.methodLink "ClearingHouseModel" (223 : Nat) ({ cls := "ClearingHouseModel", name := "owe", desc := "(III)I" } : Jvm.MethodName)) ∈ lw_all := lw_g (lw_at lw_m10 64 rfl) rfl
theorem q2304 : (Jvm.Cond.methodLink "ClearingHouseModel" (227 : Nat) ({ cls := "ClearingHouseModel", name := "pay", desc := "(III)I" } : Jvm.MethodName)) ∈ lw_all := lw_g (lw_at lw_m10 65 rfl) rfl
theorem q2305 : (Jvm.Cond.methodLink "ClearingHouseModel" (230 : Nat) ({ cls := "ClearingHouseModel", name := "netPair", desc := "(II)I" } : Jvm.MethodName)) ∈ lw_all := lw_g (lw_at lw_m10 66 rfl) rfl
theorem q2306 : (Jvm.Cond.methodLink "ClearingHouseModel" (233 : Nat) ({ cls := "ClearingHouseModel", name := "netCycle", desc := "()I" } : Jvm.MethodName)) ∈ lw_all := lw_g (lw_at lw_m10 67 rfl) rfl
theorem q2307 : (Jvm.Cond.methodLink "ClearingHouseModel" (236 : Nat) ({ cls := "ClearingHouseModel", name := "netAll", desc := "()I" } : Jvm.MethodName)) ∈ lw_all := lw_g (lw_at lw_m10 68 rfl) rfl
theorem q2308 : (Jvm.Cond.methodLink "ClearingHouseModel" (239 : Nat) ({ cls := "ClearingHouseModel", name := "declareDefault", desc := "(I)I" } : Jvm.MethodName)) ∈ lw_all := lw_g (lw_at lw_m10 69 rfl) rfl
theorem q2309 : (Jvm.Cond.methodLink "ClearingHouseModel" (242 : Nat) ({ cls := "ClearingHouseModel", name := "cascade", desc := "()I" } : Jvm.MethodName)) ∈ lw_all := lw_g (lw_at lw_m10 70 rfl) rfl
theorem q2310 : (Jvm.Cond.methodLink "ClearingHouseModel" (245 : Nat) ({ cls := "ClearingHouseModel", name := "call", desc := "()I" } : Jvm.MethodName)) ∈ lw_all := lw_g (lw_at lw_m10 71 rfl) rfl
theorem q2312 : (Jvm.Cond.instanceMethod ({ cls := "ClearingHouseModel", name := "errorPosition", desc := "()I" } : Jvm.MethodName)) ∈ lw_all := lw_g (lw_at lw_m10 73 rfl) rfl
theorem q2313 : (Jvm.Cond.selects "ClearingHouseModel" ({ cls := "ClearingHouseModel", name := "errorPosition", desc := "()I" } : Jvm.MethodName) ({ cls := "ClearingHouseModel", name := "errorPosition", desc := "()I" } : Jvm.MethodName)) ∈ lw_all := lw_g (lw_at lw_m10 74 rfl) rfl
theorem q2314 : (Jvm.Cond.code ({ cls := "ClearingHouseModel", name := "errorPosition", desc := "()I" } : Jvm.MethodName) prog_19_method_81_code (1 : Nat) (Option.some Jvm.ClassFile.FieldType.int)) ∈ lw_all := lw_g (lw_at lw_m10 75 rfl) rfl
theorem q2316 : (Jvm.Cond.instanceMethod ({ cls := "ClearingHouseModel", name := "failedCommand", desc := "()I" } : Jvm.MethodName)) ∈ lw_all := lw_g (lw_at lw_m10 77 rfl) rfl
theorem q2317 : (Jvm.Cond.selects "ClearingHouseModel" ({ cls := "ClearingHouseModel", name := "failedCommand", desc := "()I" } : Jvm.MethodName) ({ cls := "ClearingHouseModel", name := "failedCommand", desc := "()I" } : Jvm.MethodName)) ∈ lw_all := lw_g (lw_at lw_m10 78 rfl) rfl
theorem q2318 : (Jvm.Cond.code ({ cls := "ClearingHouseModel", name := "failedCommand", desc := "()I" } : Jvm.MethodName) prog_19_method_82_code (1 : Nat) (Option.some Jvm.ClassFile.FieldType.int)) ∈ lw_all := lw_g (lw_at lw_m10 79 rfl) rfl
theorem q2320 : (Jvm.Cond.instanceMethod ({ cls := "ClearingHouseModel", name := "writeParty", desc := "(I)I" } : Jvm.MethodName)) ∈ lw_all := lw_g (lw_at lw_m10 81 rfl) rfl
theorem q2321 : (Jvm.Cond.selects "ClearingHouseModel" ({ cls := "ClearingHouseModel", name := "writeParty", desc := "(I)I" } : Jvm.MethodName) ({ cls := "ClearingHouseModel", name := "writeParty", desc := "(I)I" } : Jvm.MethodName)) ∈ lw_all := lw_g (lw_at lw_m10 82 rfl) rfl
theorem q2322 : (Jvm.Cond.code ({ cls := "ClearingHouseModel", name := "writeParty", desc := "(I)I" } : Jvm.MethodName) prog_19_method_86_code (3 : Nat) (Option.some Jvm.ClassFile.FieldType.int)) ∈ lw_all := lw_g (lw_at lw_m10 83 rfl) rfl
theorem q2323 : (Jvm.Cond.methodLink "ClearingHouseModel" (257 : Nat) ({ cls := "ClearingHouseModel", name := "writesNumber", desc := "(I)V" } : Jvm.MethodName)) ∈ lw_all := lw_g (lw_at lw_m10 84 rfl) rfl
theorem q2324 : (Jvm.Cond.privateMethod ({ cls := "ClearingHouseModel", name := "writesNumber", desc := "(I)V" } : Jvm.MethodName)) ∈ lw_tbl := lw_at lw_m10 85 rfl
theorem q2325 : (Jvm.Cond.instanceMethod ({ cls := "ClearingHouseModel", name := "writesNumber", desc := "(I)V" } : Jvm.MethodName)) ∈ lw_all := lw_g (lw_at lw_m10 86 rfl) rfl
theorem q2326 : (Jvm.Cond.code ({ cls := "ClearingHouseModel", name := "writesNumber", desc := "(I)V" } : Jvm.MethodName) prog_19_method_84_code (2 : Nat) (Option.none : Option Jvm.ClassFile.FieldType)) ∈ lw_all := lw_g (lw_at lw_m10 87 rfl) rfl
theorem q2327 : (Jvm.Cond.methodLink "ClearingHouseModel" (261 : Nat) ({ cls := "ClearingHouseModel", name := "writes", desc := "(I)V" } : Jvm.MethodName)) ∈ lw_all := lw_g (lw_at lw_m10 88 rfl) rfl
theorem q2328 : (Jvm.Cond.privateMethod ({ cls := "ClearingHouseModel", name := "writes", desc := "(I)V" } : Jvm.MethodName)) ∈ lw_tbl := lw_at lw_m10 89 rfl
theorem q2329 : (Jvm.Cond.instanceMethod ({ cls := "ClearingHouseModel", name := "writes", desc := "(I)V" } : Jvm.MethodName)) ∈ lw_all := lw_g (lw_at lw_m10 90 rfl) rfl
theorem q2330 : (Jvm.Cond.code ({ cls := "ClearingHouseModel", name := "writes", desc := "(I)V" } : Jvm.MethodName) prog_19_method_83_code (2 : Nat) (Option.none : Option Jvm.ClassFile.FieldType)) ∈ lw_all := lw_g (lw_at lw_m10 91 rfl) rfl
theorem q2331 : (Jvm.Cond.methodLink "ClearingHouseModel" (264 : Nat) ({ cls := "ClearingHouseModel", name := "writesBehind", desc := "(II)V" } : Jvm.MethodName)) ∈ lw_all := lw_g (lw_at lw_m10 92 rfl) rfl
theorem q2332 : (Jvm.Cond.privateMethod ({ cls := "ClearingHouseModel", name := "writesBehind", desc := "(II)V" } : Jvm.MethodName)) ∈ lw_tbl := lw_at lw_m10 93 rfl
theorem q2333 : (Jvm.Cond.instanceMethod ({ cls := "ClearingHouseModel", name := "writesBehind", desc := "(II)V" } : Jvm.MethodName)) ∈ lw_all := lw_g (lw_at lw_m10 94 rfl) rfl
theorem q2334 : (Jvm.Cond.code ({ cls := "ClearingHouseModel", name := "writesBehind", desc := "(II)V" } : Jvm.MethodName) prog_19_method_85_code (3 : Nat) (Option.none : Option Jvm.ClassFile.FieldType)) ∈ lw_all := lw_g (lw_at lw_m10 95 rfl) rfl
theorem q2336 : (Jvm.Cond.instanceMethod ({ cls := "ClearingHouseModel", name := "writeCycle", desc := "()I" } : Jvm.MethodName)) ∈ lw_all := lw_g (lw_at lw_m10 97 rfl) rfl
theorem q2337 : (Jvm.Cond.selects "ClearingHouseModel" ({ cls := "ClearingHouseModel", name := "writeCycle", desc := "()I" } : Jvm.MethodName) ({ cls := "ClearingHouseModel", name := "writeCycle", desc := "()I" } : Jvm.MethodName)) ∈ lw_all := lw_g (lw_at lw_m10 98 rfl) rfl
theorem q2338 : (Jvm.Cond.code ({ cls := "ClearingHouseModel", name := "writeCycle", desc := "()I" } : Jvm.MethodName) prog_19_method_87_code (3 : Nat) (Option.some Jvm.ClassFile.FieldType.int)) ∈ lw_all := lw_g (lw_at lw_m10 99 rfl) rfl
theorem q2340 : (Jvm.Cond.instanceMethod ({ cls := "ClearingHouseModel", name := "outputAt", desc := "(I)C" } : Jvm.MethodName)) ∈ lw_all := lw_g (lw_at lw_m10 101 rfl) rfl
theorem q2341 : (Jvm.Cond.selects "ClearingHouseModel" ({ cls := "ClearingHouseModel", name := "outputAt", desc := "(I)C" } : Jvm.MethodName) ({ cls := "ClearingHouseModel", name := "outputAt", desc := "(I)C" } : Jvm.MethodName)) ∈ lw_all := lw_g (lw_at lw_m10 102 rfl) rfl
theorem q2342 : (Jvm.Cond.code ({ cls := "ClearingHouseModel", name := "outputAt", desc := "(I)C" } : Jvm.MethodName) prog_19_method_88_code (2 : Nat) (Option.some Jvm.ClassFile.FieldType.char)) ∈ lw_all := lw_g (lw_at lw_m10 103 rfl) rfl
theorem q2344 : (Jvm.Cond.instanceMethod ({ cls := "ClearingHouseModel", name := "undo", desc := "()I" } : Jvm.MethodName)) ∈ lw_all := lw_g (lw_at lw_m10 105 rfl) rfl
theorem q2345 : (Jvm.Cond.selects "ClearingHouseModel" ({ cls := "ClearingHouseModel", name := "undo", desc := "()I" } : Jvm.MethodName) ({ cls := "ClearingHouseModel", name := "undo", desc := "()I" } : Jvm.MethodName)) ∈ lw_all := lw_g (lw_at lw_m10 106 rfl) rfl
theorem q2346 : (Jvm.Cond.code ({ cls := "ClearingHouseModel", name := "undo", desc := "()I" } : Jvm.MethodName) prog_19_method_89_code (1 : Nat) (Option.some Jvm.ClassFile.FieldType.int)) ∈ lw_all := lw_g (lw_at lw_m10 107 rfl) rfl
theorem q2348 : (Jvm.Cond.instanceMethod ({ cls := "ClearingHouseModel", name := "save", desc := "()V" } : Jvm.MethodName)) ∈ lw_all := lw_g (lw_at lw_m10 109 rfl) rfl
theorem q2349 : (Jvm.Cond.selects "ClearingHouseModel" ({ cls := "ClearingHouseModel", name := "save", desc := "()V" } : Jvm.MethodName) ({ cls := "ClearingHouseModel", name := "save", desc := "()V" } : Jvm.MethodName)) ∈ lw_all := lw_g (lw_at lw_m10 110 rfl) rfl
theorem q2350 : (Jvm.Cond.code ({ cls := "ClearingHouseModel", name := "save", desc := "()V" } : Jvm.MethodName) prog_19_method_90_code (1 : Nat) (Option.none : Option Jvm.ClassFile.FieldType)) ∈ lw_all := lw_g (lw_at lw_m10 111 rfl) rfl
theorem q2352 : (Jvm.Cond.instanceMethod ({ cls := "ClearingHouseModel", name := "restore", desc := "()V" } : Jvm.MethodName)) ∈ lw_all := lw_g (lw_at lw_m10 113 rfl) rfl
theorem q2353 : (Jvm.Cond.selects "ClearingHouseModel" ({ cls := "ClearingHouseModel", name := "restore", desc := "()V" } : Jvm.MethodName) ({ cls := "ClearingHouseModel", name := "restore", desc := "()V" } : Jvm.MethodName)) ∈ lw_all := lw_g (lw_at lw_m10 114 rfl) rfl
theorem q2354 : (Jvm.Cond.code ({ cls := "ClearingHouseModel", name := "restore", desc := "()V" } : Jvm.MethodName) prog_19_method_91_code (1 : Nat) (Option.none : Option Jvm.ClassFile.FieldType)) ∈ lw_all := lw_g (lw_at lw_m10 115 rfl) rfl
theorem q2379 : (Jvm.Cond.castable "ClearingHouseModel" "java/lang/Object") ∈ lw_tbl := lw_at lw_m10 140 rfl
theorem in_X4 : ∀ w ∈ wsX40, w ∈ lw_all := lw_in wsX40 [1930, 1932, 1934, 1936, 1938, 1940, 1942, 1944, 1946, 1948, 1950, 1952, 1954, 1956, 1958, 1960, 1962, 1964, 1966, 1968, 1970, 1972] (by decide +kernel) (by decide +kernel)
