/-! TaleDuelModel -/
set_option maxRecDepth 100000
def RX4 : String := "TaleDuelModel"
def TX4 : u_T := fun k => match k with
  | 0 => ("TaleDuelModel", "refusal", "I", false)
  | 1 => ("TaleDuelModel", "text", "[I", true)
  | 2 => ("TaleDuelModel", "size", "I", false)
  | 3 => ("TaleDuelModel", "now", "[I", true)
  | 4 => ("TaleDuelModel", "trial", "[I", true)
  | 5 => ("TaleDuelModel", "apart", "[I", true)
  | 6 => ("TaleDuelModel", "diary", "[I", true)
  | 7 => ("TaleDuelModel", "acts", "I", false)
  | 8 => ("TaleDuelModel", "kept", "[I", true)
  | 9 => ("TaleDuelModel", "isKept", "[Z", true)
  | 10 => ("TaleDuelModel", "gains", "[I", true)
  | 11 => ("TaleDuelModel", "best", "[I", true)
  | 12 => ("TaleDuelModel", "bestLength", "I", false)
  | 13 => ("TaleDuelModel", "bestPoints", "I", false)
  | 14 => ("TaleDuelModel", "tried", "[I", true)
  | _ => ("TaleDuelModel", "triedLength", "I", false)
def tyX4 : Nat → FieldType := fun k => match k with
  | 0 => .int
  | 1 => .array .int
  | 2 => .int
  | 3 => .array .int
  | 4 => .array .int
  | 5 => .array .int
  | 6 => .array .int
  | 7 => .int
  | 8 => .array .int
  | 9 => .array .boolean
  | 10 => .array .int
  | 11 => .array .int
  | 12 => .int
  | 13 => .int
  | 14 => .array .int
  | _ => .int
abbrev wsX40 : List Cond := u_ws RX4 TX4 16
set_option maxRecDepth 100000 in
theorem nmX4 : ∀ a, a < 16 → ∀ b, b < 16 → a ≠ b → (TX4 a).2.1 ≠ (TX4 b).2.1 := by decide +kernel
set_option maxRecDepth 100000 in
theorem tyX4_ok : ∀ k, k < 16 → parseFieldDescriptor (TX4 k).2.2.1 = some (tyX4 k) := by decide +kernel
abbrev cX4_init : ByteArray := prog_11_method_1_code
def yX4_init : MethodName := ⟨RX4, "<init>", "()V"⟩
def dkwX4_init_5 : List UInt8 := [177]
abbrev dktX4_init_5 : List UInt8 := dkwX4_init_5 ++ []
def dkwX4_init_4 : List UInt8 := [180, 0, 13, 16, 8, 6, 79, 42, 180, 0, 13, 16, 9, 6, 79, 42, 180, 0, 13, 16, 10, 16, 30, 79]
abbrev dktX4_init_4 : List UInt8 := dkwX4_init_4 ++ dktX4_init_5
def dkwX4_init_3 : List UInt8 := [8, 188, 10, 181, 0, 35, 42, 8, 188, 10, 181, 0, 38, 42, 180, 0, 13, 16, 7, 6, 79, 42]
abbrev dktX4_init_3 : List UInt8 := dkwX4_init_3 ++ dktX4_init_4
def dkwX4_init_2 : List UInt8 := [17, 0, 178, 188, 10, 181, 0, 25, 42, 5, 188, 4, 181, 0, 28, 42, 16, 18, 188, 10, 181, 0, 32, 42]
abbrev dktX4_init_2 : List UInt8 := dkwX4_init_2 ++ dktX4_init_3
def dkwX4_init_1 : List UInt8 := [188, 10, 181, 0, 16, 42, 16, 89, 188, 10, 181, 0, 19, 42, 17, 4, 222, 188, 10, 181, 0, 22, 42]
abbrev dktX4_init_1 : List UInt8 := dkwX4_init_1 ++ dktX4_init_2
def dkwX4_init_0 : List UInt8 := [42, 183, 0, 1, 42, 16, 20, 188, 10, 181, 0, 7, 42, 16, 89, 188, 10, 181, 0, 13, 42, 16, 89]
abbrev dktX4_init_0 : List UInt8 := dkwX4_init_0 ++ dktX4_init_1
theorem dksX4_init_0 : cX4_init.data.toList.drop 0 = dktX4_init_0 := by decide +kernel
theorem dksX4_init_1 : cX4_init.data.toList.drop 23 = dktX4_init_1 := dk_seg dksX4_init_0 23 rfl rfl
theorem dksX4_init_2 : cX4_init.data.toList.drop 46 = dktX4_init_2 := dk_seg dksX4_init_1 23 rfl rfl
theorem dksX4_init_3 : cX4_init.data.toList.drop 70 = dktX4_init_3 := dk_seg dksX4_init_2 24 rfl rfl
theorem dksX4_init_4 : cX4_init.data.toList.drop 92 = dktX4_init_4 := dk_seg dksX4_init_3 22 rfl rfl
theorem dksX4_init_5 : cX4_init.data.toList.drop 116 = dktX4_init_5 := dk_seg dksX4_init_4 24 rfl rfl
theorem dX4_init_0 : decode cX4_init 0 = .ok (.aload_n 0, 1) := dk_42 (dk_at dksX4_init_0 0 rfl rfl)
theorem dX4_init_1 : decode cX4_init 1 = .ok (.invokespecial 1, 3) := dk_183 0 1 (dk_at dksX4_init_0 1 rfl rfl)
theorem dX4_init_4 : decode cX4_init 4 = .ok (.aload_n 0, 1) := dk_42 (dk_at dksX4_init_0 4 rfl rfl)
theorem dX4_init_5 : decode cX4_init 5 = .ok (.bipush 20, 2) := dk_16 20 (dk_at dksX4_init_0 5 rfl rfl)
theorem dX4_init_7 : decode cX4_init 7 = .ok (.newarray .int, 2) := dk_188_10 (dk_at dksX4_init_0 7 rfl rfl)
theorem dX4_init_9 : decode cX4_init 9 = .ok (.putfield 7, 3) := dk_181 0 7 (dk_at dksX4_init_0 9 rfl rfl)
theorem dX4_init_12 : decode cX4_init 12 = .ok (.aload_n 0, 1) := dk_42 (dk_at dksX4_init_0 12 rfl rfl)
theorem dX4_init_13 : decode cX4_init 13 = .ok (.bipush 89, 2) := dk_16 89 (dk_at dksX4_init_0 13 rfl rfl)
theorem dX4_init_15 : decode cX4_init 15 = .ok (.newarray .int, 2) := dk_188_10 (dk_at dksX4_init_0 15 rfl rfl)
theorem dX4_init_17 : decode cX4_init 17 = .ok (.putfield 13, 3) := dk_181 0 13 (dk_at dksX4_init_0 17 rfl rfl)
theorem dX4_init_20 : decode cX4_init 20 = .ok (.aload_n 0, 1) := dk_42 (dk_at dksX4_init_0 20 rfl rfl)
theorem dX4_init_21 : decode cX4_init 21 = .ok (.bipush 89, 2) := dk_16 89 (dk_at dksX4_init_0 21 rfl rfl)
theorem dX4_init_23 : decode cX4_init 23 = .ok (.newarray .int, 2) := dk_188_10 (dk_at dksX4_init_1 0 rfl rfl)
theorem dX4_init_25 : decode cX4_init 25 = .ok (.putfield 16, 3) := dk_181 0 16 (dk_at dksX4_init_1 2 rfl rfl)
theorem dX4_init_28 : decode cX4_init 28 = .ok (.aload_n 0, 1) := dk_42 (dk_at dksX4_init_1 5 rfl rfl)
theorem dX4_init_29 : decode cX4_init 29 = .ok (.bipush 89, 2) := dk_16 89 (dk_at dksX4_init_1 6 rfl rfl)
theorem dX4_init_31 : decode cX4_init 31 = .ok (.newarray .int, 2) := dk_188_10 (dk_at dksX4_init_1 8 rfl rfl)
theorem dX4_init_33 : decode cX4_init 33 = .ok (.putfield 19, 3) := dk_181 0 19 (dk_at dksX4_init_1 10 rfl rfl)
theorem dX4_init_36 : decode cX4_init 36 = .ok (.aload_n 0, 1) := dk_42 (dk_at dksX4_init_1 13 rfl rfl)
theorem dX4_init_37 : decode cX4_init 37 = .ok (.sipush 1246, 3) := dk_17 4 222 (dk_at dksX4_init_1 14 rfl rfl)
theorem dX4_init_40 : decode cX4_init 40 = .ok (.newarray .int, 2) := dk_188_10 (dk_at dksX4_init_1 17 rfl rfl)
theorem dX4_init_42 : decode cX4_init 42 = .ok (.putfield 22, 3) := dk_181 0 22 (dk_at dksX4_init_1 19 rfl rfl)
theorem dX4_init_45 : decode cX4_init 45 = .ok (.aload_n 0, 1) := dk_42 (dk_at dksX4_init_1 22 rfl rfl)
theorem dX4_init_46 : decode cX4_init 46 = .ok (.sipush 178, 3) := dk_17 0 178 (dk_at dksX4_init_2 0 rfl rfl)
theorem dX4_init_49 : decode cX4_init 49 = .ok (.newarray .int, 2) := dk_188_10 (dk_at dksX4_init_2 3 rfl rfl)
theorem dX4_init_51 : decode cX4_init 51 = .ok (.putfield 25, 3) := dk_181 0 25 (dk_at dksX4_init_2 5 rfl rfl)
theorem dX4_init_54 : decode cX4_init 54 = .ok (.aload_n 0, 1) := dk_42 (dk_at dksX4_init_2 8 rfl rfl)
theorem dX4_init_55 : decode cX4_init 55 = .ok (.iconst 2, 1) := dk_5 (dk_at dksX4_init_2 9 rfl rfl)
theorem dX4_init_56 : decode cX4_init 56 = .ok (.newarray .boolean, 2) := dk_188_4 (dk_at dksX4_init_2 10 rfl rfl)
theorem dX4_init_58 : decode cX4_init 58 = .ok (.putfield 28, 3) := dk_181 0 28 (dk_at dksX4_init_2 12 rfl rfl)
theorem dX4_init_61 : decode cX4_init 61 = .ok (.aload_n 0, 1) := dk_42 (dk_at dksX4_init_2 15 rfl rfl)
theorem dX4_init_62 : decode cX4_init 62 = .ok (.bipush 18, 2) := dk_16 18 (dk_at dksX4_init_2 16 rfl rfl)
theorem dX4_init_64 : decode cX4_init 64 = .ok (.newarray .int, 2) := dk_188_10 (dk_at dksX4_init_2 18 rfl rfl)
theorem dX4_init_66 : decode cX4_init 66 = .ok (.putfield 32, 3) := dk_181 0 32 (dk_at dksX4_init_2 20 rfl rfl)
theorem dX4_init_69 : decode cX4_init 69 = .ok (.aload_n 0, 1) := dk_42 (dk_at dksX4_init_2 23 rfl rfl)
theorem dX4_init_70 : decode cX4_init 70 = .ok (.iconst 5, 1) := dk_8 (dk_at dksX4_init_3 0 rfl rfl)
theorem dX4_init_71 : decode cX4_init 71 = .ok (.newarray .int, 2) := dk_188_10 (dk_at dksX4_init_3 1 rfl rfl)
theorem dX4_init_73 : decode cX4_init 73 = .ok (.putfield 35, 3) := dk_181 0 35 (dk_at dksX4_init_3 3 rfl rfl)
theorem dX4_init_76 : decode cX4_init 76 = .ok (.aload_n 0, 1) := dk_42 (dk_at dksX4_init_3 6 rfl rfl)
theorem dX4_init_77 : decode cX4_init 77 = .ok (.iconst 5, 1) := dk_8 (dk_at dksX4_init_3 7 rfl rfl)
theorem dX4_init_78 : decode cX4_init 78 = .ok (.newarray .int, 2) := dk_188_10 (dk_at dksX4_init_3 8 rfl rfl)
theorem dX4_init_80 : decode cX4_init 80 = .ok (.putfield 38, 3) := dk_181 0 38 (dk_at dksX4_init_3 10 rfl rfl)
theorem dX4_init_83 : decode cX4_init 83 = .ok (.aload_n 0, 1) := dk_42 (dk_at dksX4_init_3 13 rfl rfl)
theorem dX4_init_84 : decode cX4_init 84 = .ok (.getfield 13, 3) := dk_180 0 13 (dk_at dksX4_init_3 14 rfl rfl)
theorem dX4_init_87 : decode cX4_init 87 = .ok (.bipush 7, 2) := dk_16 7 (dk_at dksX4_init_3 17 rfl rfl)
theorem dX4_init_89 : decode cX4_init 89 = .ok (.iconst 3, 1) := dk_6 (dk_at dksX4_init_3 19 rfl rfl)
theorem dX4_init_90 : decode cX4_init 90 = .ok (.iastore, 1) := dk_79 (dk_at dksX4_init_3 20 rfl rfl)
theorem dX4_init_91 : decode cX4_init 91 = .ok (.aload_n 0, 1) := dk_42 (dk_at dksX4_init_3 21 rfl rfl)
theorem dX4_init_92 : decode cX4_init 92 = .ok (.getfield 13, 3) := dk_180 0 13 (dk_at dksX4_init_4 0 rfl rfl)
theorem dX4_init_95 : decode cX4_init 95 = .ok (.bipush 8, 2) := dk_16 8 (dk_at dksX4_init_4 3 rfl rfl)
theorem dX4_init_97 : decode cX4_init 97 = .ok (.iconst 3, 1) := dk_6 (dk_at dksX4_init_4 5 rfl rfl)
theorem dX4_init_98 : decode cX4_init 98 = .ok (.iastore, 1) := dk_79 (dk_at dksX4_init_4 6 rfl rfl)
theorem dX4_init_99 : decode cX4_init 99 = .ok (.aload_n 0, 1) := dk_42 (dk_at dksX4_init_4 7 rfl rfl)
theorem dX4_init_100 : decode cX4_init 100 = .ok (.getfield 13, 3) := dk_180 0 13 (dk_at dksX4_init_4 8 rfl rfl)
theorem dX4_init_103 : decode cX4_init 103 = .ok (.bipush 9, 2) := dk_16 9 (dk_at dksX4_init_4 11 rfl rfl)
theorem dX4_init_105 : decode cX4_init 105 = .ok (.iconst 3, 1) := dk_6 (dk_at dksX4_init_4 13 rfl rfl)
theorem dX4_init_106 : decode cX4_init 106 = .ok (.iastore, 1) := dk_79 (dk_at dksX4_init_4 14 rfl rfl)
theorem dX4_init_107 : decode cX4_init 107 = .ok (.aload_n 0, 1) := dk_42 (dk_at dksX4_init_4 15 rfl rfl)
theorem dX4_init_108 : decode cX4_init 108 = .ok (.getfield 13, 3) := dk_180 0 13 (dk_at dksX4_init_4 16 rfl rfl)
theorem dX4_init_111 : decode cX4_init 111 = .ok (.bipush 10, 2) := dk_16 10 (dk_at dksX4_init_4 19 rfl rfl)
theorem dX4_init_113 : decode cX4_init 113 = .ok (.bipush 30, 2) := dk_16 30 (dk_at dksX4_init_4 21 rfl rfl)
theorem dX4_init_115 : decode cX4_init 115 = .ok (.iastore, 1) := dk_79 (dk_at dksX4_init_4 23 rfl rfl)
theorem dX4_init_116 : decode cX4_init 116 = .ok (.return_, 1) := dk_177 (dk_at dksX4_init_5 0 rfl rfl)
abbrev cX4_thrown : ByteArray := prog_11_method_2_code
def yX4_thrown : MethodName := ⟨RX4, "thrown", "()I"⟩
theorem dX4_thrown_0 : decode cX4_thrown 0 = .ok (.aload_n 0, 1) := by decide +kernel
theorem dX4_thrown_1 : decode cX4_thrown 1 = .ok (.getfield 41, 3) := by decide +kernel
theorem dX4_thrown_4 : decode cX4_thrown 4 = .ok (.ireturn, 1) := by decide +kernel
abbrev cX4_append : ByteArray := prog_11_method_33_code
def yX4_append : MethodName := ⟨RX4, "append", "(I)I"⟩
def dkwX4_append_2 : List UInt8 := [27, 79, 42, 89, 180, 0, 158, 4, 96, 181, 0, 158, 42, 180, 0, 158, 172]
abbrev dktX4_append_2 : List UInt8 := dkwX4_append_2 ++ []
def dkwX4_append_1 : List UInt8 := [160, 0, 7, 5, 167, 0, 4, 3, 182, 0, 161, 153, 0, 5, 3, 172, 42, 180, 0, 7, 42, 180, 0, 158]
abbrev dktX4_append_1 : List UInt8 := dkwX4_append_1 ++ dktX4_append_2
def dkwX4_append_0 : List UInt8 := [42, 27, 133, 9, 20, 0, 156, 184, 0, 45, 154, 0, 7, 4, 167, 0, 17, 42, 180, 0, 158, 16, 20]
abbrev dktX4_append_0 : List UInt8 := dkwX4_append_0 ++ dktX4_append_1
theorem dksX4_append_0 : cX4_append.data.toList.drop 0 = dktX4_append_0 := by decide +kernel
theorem dksX4_append_1 : cX4_append.data.toList.drop 23 = dktX4_append_1 := dk_seg dksX4_append_0 23 rfl rfl
theorem dksX4_append_2 : cX4_append.data.toList.drop 47 = dktX4_append_2 := dk_seg dksX4_append_1 24 rfl rfl
theorem dX4_append_0 : decode cX4_append 0 = .ok (.aload_n 0, 1) := dk_42 (dk_at dksX4_append_0 0 rfl rfl)
theorem dX4_append_1 : decode cX4_append 1 = .ok (.iload_n 1, 1) := dk_27 (dk_at dksX4_append_0 1 rfl rfl)
theorem dX4_append_2 : decode cX4_append 2 = .ok (.i2l, 1) := dk_133 (dk_at dksX4_append_0 2 rfl rfl)
theorem dX4_append_3 : decode cX4_append 3 = .ok (.lconst 0, 1) := dk_9 (dk_at dksX4_append_0 3 rfl rfl)
theorem dX4_append_4 : decode cX4_append 4 = .ok (.ldc2_w 156, 3) := dk_20 0 156 (dk_at dksX4_append_0 4 rfl rfl)
theorem dX4_append_7 : decode cX4_append 7 = .ok (.invokestatic 45, 3) := dk_184 0 45 (dk_at dksX4_append_0 7 rfl rfl)
theorem dX4_append_10 : decode cX4_append 10 = .ok (.ifCond .ne 7, 3) := dk_154 0 7 (dk_at dksX4_append_0 10 rfl rfl)
theorem dX4_append_13 : decode cX4_append 13 = .ok (.iconst 1, 1) := dk_4 (dk_at dksX4_append_0 13 rfl rfl)
theorem dX4_append_14 : decode cX4_append 14 = .ok (.goto 17, 3) := dk_167 0 17 (dk_at dksX4_append_0 14 rfl rfl)
theorem dX4_append_17 : decode cX4_append 17 = .ok (.aload_n 0, 1) := dk_42 (dk_at dksX4_append_0 17 rfl rfl)
theorem dX4_append_18 : decode cX4_append 18 = .ok (.getfield 158, 3) := dk_180 0 158 (dk_at dksX4_append_0 18 rfl rfl)
theorem dX4_append_21 : decode cX4_append 21 = .ok (.bipush 20, 2) := dk_16 20 (dk_at dksX4_append_0 21 rfl rfl)
theorem dX4_append_23 : decode cX4_append 23 = .ok (.if_icmp .ne 7, 3) := dk_160 0 7 (dk_at dksX4_append_1 0 rfl rfl)
theorem dX4_append_26 : decode cX4_append 26 = .ok (.iconst 2, 1) := dk_5 (dk_at dksX4_append_1 3 rfl rfl)
theorem dX4_append_27 : decode cX4_append 27 = .ok (.goto 4, 3) := dk_167 0 4 (dk_at dksX4_append_1 4 rfl rfl)
theorem dX4_append_30 : decode cX4_append 30 = .ok (.iconst 0, 1) := dk_3 (dk_at dksX4_append_1 7 rfl rfl)
theorem dX4_append_31 : decode cX4_append 31 = .ok (.invokevirtual 161, 3) := dk_182 0 161 (dk_at dksX4_append_1 8 rfl rfl)
theorem dX4_append_34 : decode cX4_append 34 = .ok (.ifCond .eq 5, 3) := dk_153 0 5 (dk_at dksX4_append_1 11 rfl rfl)
theorem dX4_append_37 : decode cX4_append 37 = .ok (.iconst 0, 1) := dk_3 (dk_at dksX4_append_1 14 rfl rfl)
theorem dX4_append_38 : decode cX4_append 38 = .ok (.ireturn, 1) := dk_172 (dk_at dksX4_append_1 15 rfl rfl)
theorem dX4_append_39 : decode cX4_append 39 = .ok (.aload_n 0, 1) := dk_42 (dk_at dksX4_append_1 16 rfl rfl)
theorem dX4_append_40 : decode cX4_append 40 = .ok (.getfield 7, 3) := dk_180 0 7 (dk_at dksX4_append_1 17 rfl rfl)
theorem dX4_append_43 : decode cX4_append 43 = .ok (.aload_n 0, 1) := dk_42 (dk_at dksX4_append_1 20 rfl rfl)
theorem dX4_append_44 : decode cX4_append 44 = .ok (.getfield 158, 3) := dk_180 0 158 (dk_at dksX4_append_1 21 rfl rfl)
theorem dX4_append_47 : decode cX4_append 47 = .ok (.iload_n 1, 1) := dk_27 (dk_at dksX4_append_2 0 rfl rfl)
theorem dX4_append_48 : decode cX4_append 48 = .ok (.iastore, 1) := dk_79 (dk_at dksX4_append_2 1 rfl rfl)
theorem dX4_append_49 : decode cX4_append 49 = .ok (.aload_n 0, 1) := dk_42 (dk_at dksX4_append_2 2 rfl rfl)
theorem dX4_append_50 : decode cX4_append 50 = .ok (.dup, 1) := dk_89 (dk_at dksX4_append_2 3 rfl rfl)
theorem dX4_append_51 : decode cX4_append 51 = .ok (.getfield 158, 3) := dk_180 0 158 (dk_at dksX4_append_2 4 rfl rfl)
theorem dX4_append_54 : decode cX4_append 54 = .ok (.iconst 1, 1) := dk_4 (dk_at dksX4_append_2 7 rfl rfl)
theorem dX4_append_55 : decode cX4_append 55 = .ok (.iadd, 1) := dk_96 (dk_at dksX4_append_2 8 rfl rfl)
theorem dX4_append_56 : decode cX4_append 56 = .ok (.putfield 158, 3) := dk_181 0 158 (dk_at dksX4_append_2 9 rfl rfl)
theorem dX4_append_59 : decode cX4_append 59 = .ok (.aload_n 0, 1) := dk_42 (dk_at dksX4_append_2 12 rfl rfl)
theorem dX4_append_60 : decode cX4_append 60 = .ok (.getfield 158, 3) := dk_180 0 158 (dk_at dksX4_append_2 13 rfl rfl)
theorem dX4_append_63 : decode cX4_append 63 = .ok (.ireturn, 1) := dk_172 (dk_at dksX4_append_2 16 rfl rfl)
abbrev cX4_in : ByteArray := prog_11_method_4_code
def yX4_in : MethodName := ⟨RX4, "in", "(JJJ)Z"⟩
def dkwX4_in_0 : List UInt8 := [30, 32, 148, 155, 0, 14, 30, 22, 4, 148, 157, 0, 7, 4, 167, 0, 4, 3, 172]
abbrev dktX4_in_0 : List UInt8 := dkwX4_in_0 ++ []
theorem dksX4_in_0 : cX4_in.data.toList.drop 0 = dktX4_in_0 := by decide +kernel
theorem dX4_in_0 : decode cX4_in 0 = .ok (.lload_n 0, 1) := dk_30 (dk_at dksX4_in_0 0 rfl rfl)
theorem dX4_in_1 : decode cX4_in 1 = .ok (.lload_n 2, 1) := dk_32 (dk_at dksX4_in_0 1 rfl rfl)
theorem dX4_in_2 : decode cX4_in 2 = .ok (.lcmp, 1) := dk_148 (dk_at dksX4_in_0 2 rfl rfl)
theorem dX4_in_3 : decode cX4_in 3 = .ok (.ifCond .lt 14, 3) := dk_155 0 14 (dk_at dksX4_in_0 3 rfl rfl)
theorem dX4_in_6 : decode cX4_in 6 = .ok (.lload_n 0, 1) := dk_30 (dk_at dksX4_in_0 6 rfl rfl)
theorem dX4_in_7 : decode cX4_in 7 = .ok (.lload 4, 2) := dk_22 4 (dk_at dksX4_in_0 7 rfl rfl)
theorem dX4_in_9 : decode cX4_in 9 = .ok (.lcmp, 1) := dk_148 (dk_at dksX4_in_0 9 rfl rfl)
theorem dX4_in_10 : decode cX4_in 10 = .ok (.ifCond .gt 7, 3) := dk_157 0 7 (dk_at dksX4_in_0 10 rfl rfl)
theorem dX4_in_13 : decode cX4_in 13 = .ok (.iconst 1, 1) := dk_4 (dk_at dksX4_in_0 13 rfl rfl)
theorem dX4_in_14 : decode cX4_in 14 = .ok (.goto 4, 3) := dk_167 0 4 (dk_at dksX4_in_0 14 rfl rfl)
theorem dX4_in_17 : decode cX4_in 17 = .ok (.iconst 0, 1) := dk_3 (dk_at dksX4_in_0 17 rfl rfl)
theorem dX4_in_18 : decode cX4_in 18 = .ok (.ireturn, 1) := dk_172 (dk_at dksX4_in_0 18 rfl rfl)
abbrev cX4_refused : ByteArray := prog_11_method_3_code
def yX4_refused : MethodName := ⟨RX4, "refused", "(I)Z"⟩
def dkwX4_refused_0 : List UInt8 := [42, 27, 181, 0, 41, 27, 158, 0, 7, 4, 167, 0, 4, 3, 172]
abbrev dktX4_refused_0 : List UInt8 := dkwX4_refused_0 ++ []
theorem dksX4_refused_0 : cX4_refused.data.toList.drop 0 = dktX4_refused_0 := by decide +kernel
theorem dX4_refused_0 : decode cX4_refused 0 = .ok (.aload_n 0, 1) := dk_42 (dk_at dksX4_refused_0 0 rfl rfl)
theorem dX4_refused_1 : decode cX4_refused 1 = .ok (.iload_n 1, 1) := dk_27 (dk_at dksX4_refused_0 1 rfl rfl)
theorem dX4_refused_2 : decode cX4_refused 2 = .ok (.putfield 41, 3) := dk_181 0 41 (dk_at dksX4_refused_0 2 rfl rfl)
theorem dX4_refused_5 : decode cX4_refused 5 = .ok (.iload_n 1, 1) := dk_27 (dk_at dksX4_refused_0 5 rfl rfl)
theorem dX4_refused_6 : decode cX4_refused 6 = .ok (.ifCond .le 7, 3) := dk_158 0 7 (dk_at dksX4_refused_0 6 rfl rfl)
theorem dX4_refused_9 : decode cX4_refused 9 = .ok (.iconst 1, 1) := dk_4 (dk_at dksX4_refused_0 9 rfl rfl)
theorem dX4_refused_10 : decode cX4_refused 10 = .ok (.goto 4, 3) := dk_167 0 4 (dk_at dksX4_refused_0 10 rfl rfl)
theorem dX4_refused_13 : decode cX4_refused 13 = .ok (.iconst 0, 1) := dk_3 (dk_at dksX4_refused_0 13 rfl rfl)
theorem dX4_refused_14 : decode cX4_refused 14 = .ok (.ireturn, 1) := dk_172 (dk_at dksX4_refused_0 14 rfl rfl)
abbrev cX4_clearText : ByteArray := prog_11_method_34_code
def yX4_clearText : MethodName := ⟨RX4, "clearText", "()I"⟩
def dkwX4_clearText_0 : List UInt8 := [42, 3, 181, 0, 41, 42, 180, 0, 158, 60, 42, 3, 181, 0, 158, 27, 172]
abbrev dktX4_clearText_0 : List UInt8 := dkwX4_clearText_0 ++ []
theorem dksX4_clearText_0 : cX4_clearText.data.toList.drop 0 = dktX4_clearText_0 := by decide +kernel
theorem dX4_clearText_0 : decode cX4_clearText 0 = .ok (.aload_n 0, 1) := dk_42 (dk_at dksX4_clearText_0 0 rfl rfl)
theorem dX4_clearText_1 : decode cX4_clearText 1 = .ok (.iconst 0, 1) := dk_3 (dk_at dksX4_clearText_0 1 rfl rfl)
theorem dX4_clearText_2 : decode cX4_clearText 2 = .ok (.putfield 41, 3) := dk_181 0 41 (dk_at dksX4_clearText_0 2 rfl rfl)
theorem dX4_clearText_5 : decode cX4_clearText 5 = .ok (.aload_n 0, 1) := dk_42 (dk_at dksX4_clearText_0 5 rfl rfl)
theorem dX4_clearText_6 : decode cX4_clearText 6 = .ok (.getfield 158, 3) := dk_180 0 158 (dk_at dksX4_clearText_0 6 rfl rfl)
theorem dX4_clearText_9 : decode cX4_clearText 9 = .ok (.istore_n 1, 1) := dk_60 (dk_at dksX4_clearText_0 9 rfl rfl)
theorem dX4_clearText_10 : decode cX4_clearText 10 = .ok (.aload_n 0, 1) := dk_42 (dk_at dksX4_clearText_0 10 rfl rfl)
theorem dX4_clearText_11 : decode cX4_clearText 11 = .ok (.iconst 0, 1) := dk_3 (dk_at dksX4_clearText_0 11 rfl rfl)
theorem dX4_clearText_12 : decode cX4_clearText 12 = .ok (.putfield 158, 3) := dk_181 0 158 (dk_at dksX4_clearText_0 12 rfl rfl)
theorem dX4_clearText_15 : decode cX4_clearText 15 = .ok (.iload_n 1, 1) := dk_27 (dk_at dksX4_clearText_0 15 rfl rfl)
theorem dX4_clearText_16 : decode cX4_clearText 16 = .ok (.ireturn, 1) := dk_172 (dk_at dksX4_clearText_0 16 rfl rfl)
abbrev cX4_errorPosition : ByteArray := prog_11_method_36_code
def yX4_errorPosition : MethodName := ⟨RX4, "errorPosition", "()I"⟩
def dkwX4_errorPosition_0 : List UInt8 := [42, 3, 181, 0, 41, 42, 182, 0, 167, 172]
abbrev dktX4_errorPosition_0 : List UInt8 := dkwX4_errorPosition_0 ++ []
theorem dksX4_errorPosition_0 : cX4_errorPosition.data.toList.drop 0 = dktX4_errorPosition_0 := by decide +kernel
theorem dX4_errorPosition_0 : decode cX4_errorPosition 0 = .ok (.aload_n 0, 1) := dk_42 (dk_at dksX4_errorPosition_0 0 rfl rfl)
theorem dX4_errorPosition_1 : decode cX4_errorPosition 1 = .ok (.iconst 0, 1) := dk_3 (dk_at dksX4_errorPosition_0 1 rfl rfl)
theorem dX4_errorPosition_2 : decode cX4_errorPosition 2 = .ok (.putfield 41, 3) := dk_181 0 41 (dk_at dksX4_errorPosition_0 2 rfl rfl)
theorem dX4_errorPosition_5 : decode cX4_errorPosition 5 = .ok (.aload_n 0, 1) := dk_42 (dk_at dksX4_errorPosition_0 5 rfl rfl)
theorem dX4_errorPosition_6 : decode cX4_errorPosition 6 = .ok (.invokevirtual 167, 3) := dk_182 0 167 (dk_at dksX4_errorPosition_0 6 rfl rfl)
theorem dX4_errorPosition_9 : decode cX4_errorPosition 9 = .ok (.ireturn, 1) := dk_172 (dk_at dksX4_errorPosition_0 9 rfl rfl)
abbrev cX4_readText : ByteArray := prog_11_method_35_code
def yX4_readText : MethodName := ⟨RX4, "readText", "()I"⟩
def dkwX4_readText_8 : List UInt8 := [159, 0, 8, 27, 8, 160, 0, 7, 2, 167, 0, 7, 42, 180, 0, 158, 172]
abbrev dktX4_readText_8 : List UInt8 := dkwX4_readText_8 ++ []
def dkwX4_readText_7 : List UInt8 := [167, 0, 13, 27, 5, 162, 0, 7, 5, 167, 0, 4, 8, 60, 132, 2, 1, 167, 255, 85, 27, 6]
abbrev dktX4_readText_7 : List UInt8 := dkwX4_readText_7 ++ dktX4_readText_8
def dkwX4_readText_6 : List UInt8 := [29, 182, 0, 82, 21, 4, 5, 160, 0, 9, 27, 4, 96, 167, 0, 23, 21, 4, 4, 160, 0, 7, 6]
abbrev dktX4_readText_6 : List UInt8 := dkwX4_readText_6 ++ dktX4_readText_7
def dkwX4_readText_5 : List UInt8 := [159, 0, 7, 4, 167, 0, 4, 3, 54, 5, 132, 6, 1, 167, 255, 221, 21, 5, 154, 0, 5, 28, 172, 42]
abbrev dktX4_readText_5 : List UInt8 := dkwX4_readText_5 ++ dktX4_readText_6
def dkwX4_readText_4 : List UInt8 := [54, 6, 21, 6, 42, 180, 0, 73, 162, 0, 32, 21, 5, 153, 0, 18, 42, 180, 0, 38, 21, 6, 46, 29]
abbrev dktX4_readText_4 : List UInt8 := dkwX4_readText_4 ++ dktX4_readText_5
def dkwX4_readText_3 : List UInt8 := [21, 4, 5, 160, 0, 16, 27, 153, 0, 8, 27, 6, 160, 0, 7, 4, 167, 0, 4, 3, 54, 5, 3]
abbrev dktX4_readText_3 : List UInt8 := dkwX4_readText_3 ++ dktX4_readText_4
def dkwX4_readText_2 : List UInt8 := [154, 0, 13, 27, 5, 159, 0, 8, 27, 8, 160, 0, 29, 21, 4, 4, 160, 0, 8, 27, 5, 159, 0, 18]
abbrev dktX4_readText_2 : List UInt8 := dkwX4_readText_2 ++ dktX4_readText_3
def dkwX4_readText_1 : List UInt8 := [16, 97, 100, 62, 29, 184, 0, 164, 153, 0, 9, 29, 6, 112, 167, 0, 4, 2, 54, 4, 21, 4]
abbrev dktX4_readText_1 : List UInt8 := dkwX4_readText_1 ++ dktX4_readText_2
def dkwX4_readText_0 : List UInt8 := [42, 3, 181, 0, 73, 3, 60, 3, 61, 28, 42, 180, 0, 158, 162, 0, 169, 42, 180, 0, 7, 28, 46]
abbrev dktX4_readText_0 : List UInt8 := dkwX4_readText_0 ++ dktX4_readText_1
theorem dksX4_readText_0 : cX4_readText.data.toList.drop 0 = dktX4_readText_0 := by decide +kernel
theorem dksX4_readText_1 : cX4_readText.data.toList.drop 23 = dktX4_readText_1 := dk_seg dksX4_readText_0 23 rfl rfl
theorem dksX4_readText_2 : cX4_readText.data.toList.drop 45 = dktX4_readText_2 := dk_seg dksX4_readText_1 22 rfl rfl
theorem dksX4_readText_3 : cX4_readText.data.toList.drop 69 = dktX4_readText_3 := dk_seg dksX4_readText_2 24 rfl rfl
theorem dksX4_readText_4 : cX4_readText.data.toList.drop 92 = dktX4_readText_4 := dk_seg dksX4_readText_3 23 rfl rfl
theorem dksX4_readText_5 : cX4_readText.data.toList.drop 116 = dktX4_readText_5 := dk_seg dksX4_readText_4 24 rfl rfl
theorem dksX4_readText_6 : cX4_readText.data.toList.drop 140 = dktX4_readText_6 := dk_seg dksX4_readText_5 24 rfl rfl
theorem dksX4_readText_7 : cX4_readText.data.toList.drop 163 = dktX4_readText_7 := dk_seg dksX4_readText_6 23 rfl rfl
theorem dksX4_readText_8 : cX4_readText.data.toList.drop 185 = dktX4_readText_8 := dk_seg dksX4_readText_7 22 rfl rfl
theorem dX4_readText_0 : decode cX4_readText 0 = .ok (.aload_n 0, 1) := dk_42 (dk_at dksX4_readText_0 0 rfl rfl)
theorem dX4_readText_1 : decode cX4_readText 1 = .ok (.iconst 0, 1) := dk_3 (dk_at dksX4_readText_0 1 rfl rfl)
theorem dX4_readText_2 : decode cX4_readText 2 = .ok (.putfield 73, 3) := dk_181 0 73 (dk_at dksX4_readText_0 2 rfl rfl)
theorem dX4_readText_5 : decode cX4_readText 5 = .ok (.iconst 0, 1) := dk_3 (dk_at dksX4_readText_0 5 rfl rfl)
theorem dX4_readText_6 : decode cX4_readText 6 = .ok (.istore_n 1, 1) := dk_60 (dk_at dksX4_readText_0 6 rfl rfl)
theorem dX4_readText_7 : decode cX4_readText 7 = .ok (.iconst 0, 1) := dk_3 (dk_at dksX4_readText_0 7 rfl rfl)
theorem dX4_readText_8 : decode cX4_readText 8 = .ok (.istore_n 2, 1) := dk_61 (dk_at dksX4_readText_0 8 rfl rfl)
theorem dX4_readText_9 : decode cX4_readText 9 = .ok (.iload_n 2, 1) := dk_28 (dk_at dksX4_readText_0 9 rfl rfl)
theorem dX4_readText_10 : decode cX4_readText 10 = .ok (.aload_n 0, 1) := dk_42 (dk_at dksX4_readText_0 10 rfl rfl)
theorem dX4_readText_11 : decode cX4_readText 11 = .ok (.getfield 158, 3) := dk_180 0 158 (dk_at dksX4_readText_0 11 rfl rfl)
theorem dX4_readText_14 : decode cX4_readText 14 = .ok (.if_icmp .ge 169, 3) := dk_162 0 169 (dk_at dksX4_readText_0 14 rfl rfl)
theorem dX4_readText_17 : decode cX4_readText 17 = .ok (.aload_n 0, 1) := dk_42 (dk_at dksX4_readText_0 17 rfl rfl)
theorem dX4_readText_18 : decode cX4_readText 18 = .ok (.getfield 7, 3) := dk_180 0 7 (dk_at dksX4_readText_0 18 rfl rfl)
theorem dX4_readText_21 : decode cX4_readText 21 = .ok (.iload_n 2, 1) := dk_28 (dk_at dksX4_readText_0 21 rfl rfl)
theorem dX4_readText_22 : decode cX4_readText 22 = .ok (.iaload, 1) := dk_46 (dk_at dksX4_readText_0 22 rfl rfl)
theorem dX4_readText_23 : decode cX4_readText 23 = .ok (.bipush 97, 2) := dk_16 97 (dk_at dksX4_readText_1 0 rfl rfl)
theorem dX4_readText_25 : decode cX4_readText 25 = .ok (.isub, 1) := dk_100 (dk_at dksX4_readText_1 2 rfl rfl)
theorem dX4_readText_26 : decode cX4_readText 26 = .ok (.istore_n 3, 1) := dk_62 (dk_at dksX4_readText_1 3 rfl rfl)
theorem dX4_readText_27 : decode cX4_readText 27 = .ok (.iload_n 3, 1) := dk_29 (dk_at dksX4_readText_1 4 rfl rfl)
theorem dX4_readText_28 : decode cX4_readText 28 = .ok (.invokestatic 164, 3) := dk_184 0 164 (dk_at dksX4_readText_1 5 rfl rfl)
theorem dX4_readText_31 : decode cX4_readText 31 = .ok (.ifCond .eq 9, 3) := dk_153 0 9 (dk_at dksX4_readText_1 8 rfl rfl)
theorem dX4_readText_34 : decode cX4_readText 34 = .ok (.iload_n 3, 1) := dk_29 (dk_at dksX4_readText_1 11 rfl rfl)
theorem dX4_readText_35 : decode cX4_readText 35 = .ok (.iconst 3, 1) := dk_6 (dk_at dksX4_readText_1 12 rfl rfl)
theorem dX4_readText_36 : decode cX4_readText 36 = .ok (.irem, 1) := dk_112 (dk_at dksX4_readText_1 13 rfl rfl)
theorem dX4_readText_37 : decode cX4_readText 37 = .ok (.goto 4, 3) := dk_167 0 4 (dk_at dksX4_readText_1 14 rfl rfl)
theorem dX4_readText_40 : decode cX4_readText 40 = .ok (.iconst (-1), 1) := dk_2 (dk_at dksX4_readText_1 17 rfl rfl)
theorem dX4_readText_41 : decode cX4_readText 41 = .ok (.istore 4, 2) := dk_54 4 (dk_at dksX4_readText_1 18 rfl rfl)
theorem dX4_readText_43 : decode cX4_readText 43 = .ok (.iload 4, 2) := dk_21 4 (dk_at dksX4_readText_1 20 rfl rfl)
theorem dX4_readText_45 : decode cX4_readText 45 = .ok (.ifCond .ne 13, 3) := dk_154 0 13 (dk_at dksX4_readText_2 0 rfl rfl)
theorem dX4_readText_48 : decode cX4_readText 48 = .ok (.iload_n 1, 1) := dk_27 (dk_at dksX4_readText_2 3 rfl rfl)
theorem dX4_readText_49 : decode cX4_readText 49 = .ok (.iconst 2, 1) := dk_5 (dk_at dksX4_readText_2 4 rfl rfl)
theorem dX4_readText_50 : decode cX4_readText 50 = .ok (.if_icmp .eq 8, 3) := dk_159 0 8 (dk_at dksX4_readText_2 5 rfl rfl)
theorem dX4_readText_53 : decode cX4_readText 53 = .ok (.iload_n 1, 1) := dk_27 (dk_at dksX4_readText_2 8 rfl rfl)
theorem dX4_readText_54 : decode cX4_readText 54 = .ok (.iconst 5, 1) := dk_8 (dk_at dksX4_readText_2 9 rfl rfl)
theorem dX4_readText_55 : decode cX4_readText 55 = .ok (.if_icmp .ne 29, 3) := dk_160 0 29 (dk_at dksX4_readText_2 10 rfl rfl)
theorem dX4_readText_58 : decode cX4_readText 58 = .ok (.iload 4, 2) := dk_21 4 (dk_at dksX4_readText_2 13 rfl rfl)
theorem dX4_readText_60 : decode cX4_readText 60 = .ok (.iconst 1, 1) := dk_4 (dk_at dksX4_readText_2 15 rfl rfl)
theorem dX4_readText_61 : decode cX4_readText 61 = .ok (.if_icmp .ne 8, 3) := dk_160 0 8 (dk_at dksX4_readText_2 16 rfl rfl)
theorem dX4_readText_64 : decode cX4_readText 64 = .ok (.iload_n 1, 1) := dk_27 (dk_at dksX4_readText_2 19 rfl rfl)
theorem dX4_readText_65 : decode cX4_readText 65 = .ok (.iconst 2, 1) := dk_5 (dk_at dksX4_readText_2 20 rfl rfl)
theorem dX4_readText_66 : decode cX4_readText 66 = .ok (.if_icmp .eq 18, 3) := dk_159 0 18 (dk_at dksX4_readText_2 21 rfl rfl)
theorem dX4_readText_69 : decode cX4_readText 69 = .ok (.iload 4, 2) := dk_21 4 (dk_at dksX4_readText_3 0 rfl rfl)
theorem dX4_readText_71 : decode cX4_readText 71 = .ok (.iconst 2, 1) := dk_5 (dk_at dksX4_readText_3 2 rfl rfl)
theorem dX4_readText_72 : decode cX4_readText 72 = .ok (.if_icmp .ne 16, 3) := dk_160 0 16 (dk_at dksX4_readText_3 3 rfl rfl)
theorem dX4_readText_75 : decode cX4_readText 75 = .ok (.iload_n 1, 1) := dk_27 (dk_at dksX4_readText_3 6 rfl rfl)
theorem dX4_readText_76 : decode cX4_readText 76 = .ok (.ifCond .eq 8, 3) := dk_153 0 8 (dk_at dksX4_readText_3 7 rfl rfl)
theorem dX4_readText_79 : decode cX4_readText 79 = .ok (.iload_n 1, 1) := dk_27 (dk_at dksX4_readText_3 10 rfl rfl)
theorem dX4_readText_80 : decode cX4_readText 80 = .ok (.iconst 3, 1) := dk_6 (dk_at dksX4_readText_3 11 rfl rfl)
theorem dX4_readText_81 : decode cX4_readText 81 = .ok (.if_icmp .ne 7, 3) := dk_160 0 7 (dk_at dksX4_readText_3 12 rfl rfl)
theorem dX4_readText_84 : decode cX4_readText 84 = .ok (.iconst 1, 1) := dk_4 (dk_at dksX4_readText_3 15 rfl rfl)
theorem dX4_readText_85 : decode cX4_readText 85 = .ok (.goto 4, 3) := dk_167 0 4 (dk_at dksX4_readText_3 16 rfl rfl)
theorem dX4_readText_88 : decode cX4_readText 88 = .ok (.iconst 0, 1) := dk_3 (dk_at dksX4_readText_3 19 rfl rfl)
theorem dX4_readText_89 : decode cX4_readText 89 = .ok (.istore 5, 2) := dk_54 5 (dk_at dksX4_readText_3 20 rfl rfl)
theorem dX4_readText_91 : decode cX4_readText 91 = .ok (.iconst 0, 1) := dk_3 (dk_at dksX4_readText_3 22 rfl rfl)
theorem dX4_readText_92 : decode cX4_readText 92 = .ok (.istore 6, 2) := dk_54 6 (dk_at dksX4_readText_4 0 rfl rfl)
theorem dX4_readText_94 : decode cX4_readText 94 = .ok (.iload 6, 2) := dk_21 6 (dk_at dksX4_readText_4 2 rfl rfl)
theorem dX4_readText_96 : decode cX4_readText 96 = .ok (.aload_n 0, 1) := dk_42 (dk_at dksX4_readText_4 4 rfl rfl)
theorem dX4_readText_97 : decode cX4_readText 97 = .ok (.getfield 73, 3) := dk_180 0 73 (dk_at dksX4_readText_4 5 rfl rfl)
theorem dX4_readText_100 : decode cX4_readText 100 = .ok (.if_icmp .ge 32, 3) := dk_162 0 32 (dk_at dksX4_readText_4 8 rfl rfl)
theorem dX4_readText_103 : decode cX4_readText 103 = .ok (.iload 5, 2) := dk_21 5 (dk_at dksX4_readText_4 11 rfl rfl)
theorem dX4_readText_105 : decode cX4_readText 105 = .ok (.ifCond .eq 18, 3) := dk_153 0 18 (dk_at dksX4_readText_4 13 rfl rfl)
theorem dX4_readText_108 : decode cX4_readText 108 = .ok (.aload_n 0, 1) := dk_42 (dk_at dksX4_readText_4 16 rfl rfl)
theorem dX4_readText_109 : decode cX4_readText 109 = .ok (.getfield 38, 3) := dk_180 0 38 (dk_at dksX4_readText_4 17 rfl rfl)
theorem dX4_readText_112 : decode cX4_readText 112 = .ok (.iload 6, 2) := dk_21 6 (dk_at dksX4_readText_4 20 rfl rfl)
theorem dX4_readText_114 : decode cX4_readText 114 = .ok (.iaload, 1) := dk_46 (dk_at dksX4_readText_4 22 rfl rfl)
theorem dX4_readText_115 : decode cX4_readText 115 = .ok (.iload_n 3, 1) := dk_29 (dk_at dksX4_readText_4 23 rfl rfl)
theorem dX4_readText_116 : decode cX4_readText 116 = .ok (.if_icmp .eq 7, 3) := dk_159 0 7 (dk_at dksX4_readText_5 0 rfl rfl)
theorem dX4_readText_119 : decode cX4_readText 119 = .ok (.iconst 1, 1) := dk_4 (dk_at dksX4_readText_5 3 rfl rfl)
theorem dX4_readText_120 : decode cX4_readText 120 = .ok (.goto 4, 3) := dk_167 0 4 (dk_at dksX4_readText_5 4 rfl rfl)
theorem dX4_readText_123 : decode cX4_readText 123 = .ok (.iconst 0, 1) := dk_3 (dk_at dksX4_readText_5 7 rfl rfl)
theorem dX4_readText_124 : decode cX4_readText 124 = .ok (.istore 5, 2) := dk_54 5 (dk_at dksX4_readText_5 8 rfl rfl)
theorem dX4_readText_126 : decode cX4_readText 126 = .ok (.iinc 6 1, 3) := dk_132 6 1 (dk_at dksX4_readText_5 10 rfl rfl)
theorem dX4_readText_129 : decode cX4_readText 129 = .ok (.goto (-35), 3) := dk_167 255 221 (dk_at dksX4_readText_5 13 rfl rfl)
theorem dX4_readText_132 : decode cX4_readText 132 = .ok (.iload 5, 2) := dk_21 5 (dk_at dksX4_readText_5 16 rfl rfl)
theorem dX4_readText_134 : decode cX4_readText 134 = .ok (.ifCond .ne 5, 3) := dk_154 0 5 (dk_at dksX4_readText_5 18 rfl rfl)
theorem dX4_readText_137 : decode cX4_readText 137 = .ok (.iload_n 2, 1) := dk_28 (dk_at dksX4_readText_5 21 rfl rfl)
theorem dX4_readText_138 : decode cX4_readText 138 = .ok (.ireturn, 1) := dk_172 (dk_at dksX4_readText_5 22 rfl rfl)
theorem dX4_readText_139 : decode cX4_readText 139 = .ok (.aload_n 0, 1) := dk_42 (dk_at dksX4_readText_5 23 rfl rfl)
theorem dX4_readText_140 : decode cX4_readText 140 = .ok (.iload_n 3, 1) := dk_29 (dk_at dksX4_readText_6 0 rfl rfl)
theorem dX4_readText_141 : decode cX4_readText 141 = .ok (.invokevirtual 82, 3) := dk_182 0 82 (dk_at dksX4_readText_6 1 rfl rfl)
theorem dX4_readText_144 : decode cX4_readText 144 = .ok (.iload 4, 2) := dk_21 4 (dk_at dksX4_readText_6 4 rfl rfl)
theorem dX4_readText_146 : decode cX4_readText 146 = .ok (.iconst 2, 1) := dk_5 (dk_at dksX4_readText_6 6 rfl rfl)
theorem dX4_readText_147 : decode cX4_readText 147 = .ok (.if_icmp .ne 9, 3) := dk_160 0 9 (dk_at dksX4_readText_6 7 rfl rfl)
theorem dX4_readText_150 : decode cX4_readText 150 = .ok (.iload_n 1, 1) := dk_27 (dk_at dksX4_readText_6 10 rfl rfl)
theorem dX4_readText_151 : decode cX4_readText 151 = .ok (.iconst 1, 1) := dk_4 (dk_at dksX4_readText_6 11 rfl rfl)
theorem dX4_readText_152 : decode cX4_readText 152 = .ok (.iadd, 1) := dk_96 (dk_at dksX4_readText_6 12 rfl rfl)
theorem dX4_readText_153 : decode cX4_readText 153 = .ok (.goto 23, 3) := dk_167 0 23 (dk_at dksX4_readText_6 13 rfl rfl)
theorem dX4_readText_156 : decode cX4_readText 156 = .ok (.iload 4, 2) := dk_21 4 (dk_at dksX4_readText_6 16 rfl rfl)
theorem dX4_readText_158 : decode cX4_readText 158 = .ok (.iconst 1, 1) := dk_4 (dk_at dksX4_readText_6 18 rfl rfl)
theorem dX4_readText_159 : decode cX4_readText 159 = .ok (.if_icmp .ne 7, 3) := dk_160 0 7 (dk_at dksX4_readText_6 19 rfl rfl)
theorem dX4_readText_162 : decode cX4_readText 162 = .ok (.iconst 3, 1) := dk_6 (dk_at dksX4_readText_6 22 rfl rfl)
theorem dX4_readText_163 : decode cX4_readText 163 = .ok (.goto 13, 3) := dk_167 0 13 (dk_at dksX4_readText_7 0 rfl rfl)
theorem dX4_readText_166 : decode cX4_readText 166 = .ok (.iload_n 1, 1) := dk_27 (dk_at dksX4_readText_7 3 rfl rfl)
theorem dX4_readText_167 : decode cX4_readText 167 = .ok (.iconst 2, 1) := dk_5 (dk_at dksX4_readText_7 4 rfl rfl)
theorem dX4_readText_168 : decode cX4_readText 168 = .ok (.if_icmp .ge 7, 3) := dk_162 0 7 (dk_at dksX4_readText_7 5 rfl rfl)
theorem dX4_readText_171 : decode cX4_readText 171 = .ok (.iconst 2, 1) := dk_5 (dk_at dksX4_readText_7 8 rfl rfl)
theorem dX4_readText_172 : decode cX4_readText 172 = .ok (.goto 4, 3) := dk_167 0 4 (dk_at dksX4_readText_7 9 rfl rfl)
theorem dX4_readText_175 : decode cX4_readText 175 = .ok (.iconst 5, 1) := dk_8 (dk_at dksX4_readText_7 12 rfl rfl)
theorem dX4_readText_176 : decode cX4_readText 176 = .ok (.istore_n 1, 1) := dk_60 (dk_at dksX4_readText_7 13 rfl rfl)
theorem dX4_readText_177 : decode cX4_readText 177 = .ok (.iinc 2 1, 3) := dk_132 2 1 (dk_at dksX4_readText_7 14 rfl rfl)
theorem dX4_readText_180 : decode cX4_readText 180 = .ok (.goto (-171), 3) := dk_167 255 85 (dk_at dksX4_readText_7 17 rfl rfl)
theorem dX4_readText_183 : decode cX4_readText 183 = .ok (.iload_n 1, 1) := dk_27 (dk_at dksX4_readText_7 20 rfl rfl)
theorem dX4_readText_184 : decode cX4_readText 184 = .ok (.iconst 3, 1) := dk_6 (dk_at dksX4_readText_7 21 rfl rfl)
theorem dX4_readText_185 : decode cX4_readText 185 = .ok (.if_icmp .eq 8, 3) := dk_159 0 8 (dk_at dksX4_readText_8 0 rfl rfl)
theorem dX4_readText_188 : decode cX4_readText 188 = .ok (.iload_n 1, 1) := dk_27 (dk_at dksX4_readText_8 3 rfl rfl)
theorem dX4_readText_189 : decode cX4_readText 189 = .ok (.iconst 5, 1) := dk_8 (dk_at dksX4_readText_8 4 rfl rfl)
theorem dX4_readText_190 : decode cX4_readText 190 = .ok (.if_icmp .ne 7, 3) := dk_160 0 7 (dk_at dksX4_readText_8 5 rfl rfl)
theorem dX4_readText_193 : decode cX4_readText 193 = .ok (.iconst (-1), 1) := dk_2 (dk_at dksX4_readText_8 8 rfl rfl)
theorem dX4_readText_194 : decode cX4_readText 194 = .ok (.goto 7, 3) := dk_167 0 7 (dk_at dksX4_readText_8 9 rfl rfl)
theorem dX4_readText_197 : decode cX4_readText 197 = .ok (.aload_n 0, 1) := dk_42 (dk_at dksX4_readText_8 12 rfl rfl)
theorem dX4_readText_198 : decode cX4_readText 198 = .ok (.getfield 158, 3) := dk_180 0 158 (dk_at dksX4_readText_8 13 rfl rfl)
theorem dX4_readText_201 : decode cX4_readText 201 = .ok (.ireturn, 1) := dk_172 (dk_at dksX4_readText_8 16 rfl rfl)
abbrev cX4_isWord : ByteArray := prog_11_method_8_code
def yX4_isWord : MethodName := ⟨RX4, "isWord", "(I)Z"⟩
def dkwX4_isWord_0 : List UInt8 := [26, 133, 9, 20, 0, 49, 184, 0, 45, 172]
abbrev dktX4_isWord_0 : List UInt8 := dkwX4_isWord_0 ++ []
theorem dksX4_isWord_0 : cX4_isWord.data.toList.drop 0 = dktX4_isWord_0 := by decide +kernel
theorem dX4_isWord_0 : decode cX4_isWord 0 = .ok (.iload_n 0, 1) := dk_26 (dk_at dksX4_isWord_0 0 rfl rfl)
theorem dX4_isWord_1 : decode cX4_isWord 1 = .ok (.i2l, 1) := dk_133 (dk_at dksX4_isWord_0 1 rfl rfl)
theorem dX4_isWord_2 : decode cX4_isWord 2 = .ok (.lconst 0, 1) := dk_9 (dk_at dksX4_isWord_0 2 rfl rfl)
theorem dX4_isWord_3 : decode cX4_isWord 3 = .ok (.ldc2_w 49, 3) := dk_20 0 49 (dk_at dksX4_isWord_0 3 rfl rfl)
theorem dX4_isWord_6 : decode cX4_isWord 6 = .ok (.invokestatic 45, 3) := dk_184 0 45 (dk_at dksX4_isWord_0 6 rfl rfl)
theorem dX4_isWord_9 : decode cX4_isWord 9 = .ok (.ireturn, 1) := dk_172 (dk_at dksX4_isWord_0 9 rfl rfl)
abbrev cX4_tryWord : ByteArray := prog_11_method_17_code
def yX4_tryWord : MethodName := ⟨RX4, "tryWord", "(I)V"⟩
def dkwX4_tryWord_0 : List UInt8 := [42, 180, 0, 38, 42, 180, 0, 73, 27, 79, 42, 89, 180, 0, 73, 4, 96, 181, 0, 73, 177]
abbrev dktX4_tryWord_0 : List UInt8 := dkwX4_tryWord_0 ++ []
theorem dksX4_tryWord_0 : cX4_tryWord.data.toList.drop 0 = dktX4_tryWord_0 := by decide +kernel
theorem dX4_tryWord_0 : decode cX4_tryWord 0 = .ok (.aload_n 0, 1) := dk_42 (dk_at dksX4_tryWord_0 0 rfl rfl)
theorem dX4_tryWord_1 : decode cX4_tryWord 1 = .ok (.getfield 38, 3) := dk_180 0 38 (dk_at dksX4_tryWord_0 1 rfl rfl)
theorem dX4_tryWord_4 : decode cX4_tryWord 4 = .ok (.aload_n 0, 1) := dk_42 (dk_at dksX4_tryWord_0 4 rfl rfl)
theorem dX4_tryWord_5 : decode cX4_tryWord 5 = .ok (.getfield 73, 3) := dk_180 0 73 (dk_at dksX4_tryWord_0 5 rfl rfl)
theorem dX4_tryWord_8 : decode cX4_tryWord 8 = .ok (.iload_n 1, 1) := dk_27 (dk_at dksX4_tryWord_0 8 rfl rfl)
theorem dX4_tryWord_9 : decode cX4_tryWord 9 = .ok (.iastore, 1) := dk_79 (dk_at dksX4_tryWord_0 9 rfl rfl)
theorem dX4_tryWord_10 : decode cX4_tryWord 10 = .ok (.aload_n 0, 1) := dk_42 (dk_at dksX4_tryWord_0 10 rfl rfl)
theorem dX4_tryWord_11 : decode cX4_tryWord 11 = .ok (.dup, 1) := dk_89 (dk_at dksX4_tryWord_0 11 rfl rfl)
theorem dX4_tryWord_12 : decode cX4_tryWord 12 = .ok (.getfield 73, 3) := dk_180 0 73 (dk_at dksX4_tryWord_0 12 rfl rfl)
theorem dX4_tryWord_15 : decode cX4_tryWord 15 = .ok (.iconst 1, 1) := dk_4 (dk_at dksX4_tryWord_0 15 rfl rfl)
theorem dX4_tryWord_16 : decode cX4_tryWord 16 = .ok (.iadd, 1) := dk_96 (dk_at dksX4_tryWord_0 16 rfl rfl)
theorem dX4_tryWord_17 : decode cX4_tryWord 17 = .ok (.putfield 73, 3) := dk_181 0 73 (dk_at dksX4_tryWord_0 17 rfl rfl)
theorem dX4_tryWord_20 : decode cX4_tryWord 20 = .ok (.return_, 1) := dk_177 (dk_at dksX4_tryWord_0 20 rfl rfl)
abbrev cX4_about : ByteArray := prog_11_method_37_code
def yX4_about : MethodName := ⟨RX4, "about", "(I)I"⟩
def dkwX4_about_5 : List UInt8 := [46, 104, 96, 167, 0, 19, 27, 16, 7, 160, 0, 7, 28, 167, 0, 9, 42, 180, 0, 13, 27, 46, 172]
abbrev dktX4_about_5 : List UInt8 := dkwX4_about_5 ++ []
def dkwX4_about_4 : List UInt8 := [42, 180, 0, 13, 16, 17, 46, 5, 42, 180, 0, 13, 16, 18, 46, 104, 96, 7, 42, 180, 0, 13, 16, 19]
abbrev dktX4_about_4 : List UInt8 := dkwX4_about_4 ++ dktX4_about_5
def dkwX4_about_3 : List UInt8 := [167, 255, 226, 27, 4, 160, 0, 13, 42, 180, 0, 13, 184, 0, 130, 167, 0, 55, 27, 16, 6, 160, 0, 33]
abbrev dktX4_about_3 : List UInt8 := dkwX4_about_3 ++ dktX4_about_4
def dkwX4_about_2 : List UInt8 := [42, 180, 0, 13, 29, 184, 0, 59, 153, 0, 9, 4, 29, 120, 167, 0, 4, 3, 128, 61, 132, 3, 1]
abbrev dktX4_about_2 : List UInt8 := dkwX4_about_2 ++ dktX4_about_3
def dkwX4_about_1 : List UInt8 := [3, 172, 42, 180, 0, 13, 3, 46, 154, 0, 5, 3, 172, 3, 61, 3, 62, 29, 16, 18, 162, 0, 30, 28]
abbrev dktX4_about_1 : List UInt8 := dkwX4_about_1 ++ dktX4_about_2
def dkwX4_about_0 : List UInt8 := [42, 27, 133, 9, 20, 0, 170, 184, 0, 45, 153, 0, 7, 3, 167, 0, 4, 4, 182, 0, 161, 153, 0, 5]
abbrev dktX4_about_0 : List UInt8 := dkwX4_about_0 ++ dktX4_about_1
theorem dksX4_about_0 : cX4_about.data.toList.drop 0 = dktX4_about_0 := by decide +kernel
theorem dksX4_about_1 : cX4_about.data.toList.drop 24 = dktX4_about_1 := dk_seg dksX4_about_0 24 rfl rfl
theorem dksX4_about_2 : cX4_about.data.toList.drop 48 = dktX4_about_2 := dk_seg dksX4_about_1 24 rfl rfl
theorem dksX4_about_3 : cX4_about.data.toList.drop 71 = dktX4_about_3 := dk_seg dksX4_about_2 23 rfl rfl
theorem dksX4_about_4 : cX4_about.data.toList.drop 95 = dktX4_about_4 := dk_seg dksX4_about_3 24 rfl rfl
theorem dksX4_about_5 : cX4_about.data.toList.drop 119 = dktX4_about_5 := dk_seg dksX4_about_4 24 rfl rfl
theorem dX4_about_0 : decode cX4_about 0 = .ok (.aload_n 0, 1) := dk_42 (dk_at dksX4_about_0 0 rfl rfl)
theorem dX4_about_1 : decode cX4_about 1 = .ok (.iload_n 1, 1) := dk_27 (dk_at dksX4_about_0 1 rfl rfl)
theorem dX4_about_2 : decode cX4_about 2 = .ok (.i2l, 1) := dk_133 (dk_at dksX4_about_0 2 rfl rfl)
theorem dX4_about_3 : decode cX4_about 3 = .ok (.lconst 0, 1) := dk_9 (dk_at dksX4_about_0 3 rfl rfl)
theorem dX4_about_4 : decode cX4_about 4 = .ok (.ldc2_w 170, 3) := dk_20 0 170 (dk_at dksX4_about_0 4 rfl rfl)
theorem dX4_about_7 : decode cX4_about 7 = .ok (.invokestatic 45, 3) := dk_184 0 45 (dk_at dksX4_about_0 7 rfl rfl)
theorem dX4_about_10 : decode cX4_about 10 = .ok (.ifCond .eq 7, 3) := dk_153 0 7 (dk_at dksX4_about_0 10 rfl rfl)
theorem dX4_about_13 : decode cX4_about 13 = .ok (.iconst 0, 1) := dk_3 (dk_at dksX4_about_0 13 rfl rfl)
theorem dX4_about_14 : decode cX4_about 14 = .ok (.goto 4, 3) := dk_167 0 4 (dk_at dksX4_about_0 14 rfl rfl)
theorem dX4_about_17 : decode cX4_about 17 = .ok (.iconst 1, 1) := dk_4 (dk_at dksX4_about_0 17 rfl rfl)
theorem dX4_about_18 : decode cX4_about 18 = .ok (.invokevirtual 161, 3) := dk_182 0 161 (dk_at dksX4_about_0 18 rfl rfl)
theorem dX4_about_21 : decode cX4_about 21 = .ok (.ifCond .eq 5, 3) := dk_153 0 5 (dk_at dksX4_about_0 21 rfl rfl)
theorem dX4_about_24 : decode cX4_about 24 = .ok (.iconst 0, 1) := dk_3 (dk_at dksX4_about_1 0 rfl rfl)
theorem dX4_about_25 : decode cX4_about 25 = .ok (.ireturn, 1) := dk_172 (dk_at dksX4_about_1 1 rfl rfl)
theorem dX4_about_26 : decode cX4_about 26 = .ok (.aload_n 0, 1) := dk_42 (dk_at dksX4_about_1 2 rfl rfl)
theorem dX4_about_27 : decode cX4_about 27 = .ok (.getfield 13, 3) := dk_180 0 13 (dk_at dksX4_about_1 3 rfl rfl)
theorem dX4_about_30 : decode cX4_about 30 = .ok (.iconst 0, 1) := dk_3 (dk_at dksX4_about_1 6 rfl rfl)
theorem dX4_about_31 : decode cX4_about 31 = .ok (.iaload, 1) := dk_46 (dk_at dksX4_about_1 7 rfl rfl)
theorem dX4_about_32 : decode cX4_about 32 = .ok (.ifCond .ne 5, 3) := dk_154 0 5 (dk_at dksX4_about_1 8 rfl rfl)
theorem dX4_about_35 : decode cX4_about 35 = .ok (.iconst 0, 1) := dk_3 (dk_at dksX4_about_1 11 rfl rfl)
theorem dX4_about_36 : decode cX4_about 36 = .ok (.ireturn, 1) := dk_172 (dk_at dksX4_about_1 12 rfl rfl)
theorem dX4_about_37 : decode cX4_about 37 = .ok (.iconst 0, 1) := dk_3 (dk_at dksX4_about_1 13 rfl rfl)
theorem dX4_about_38 : decode cX4_about 38 = .ok (.istore_n 2, 1) := dk_61 (dk_at dksX4_about_1 14 rfl rfl)
theorem dX4_about_39 : decode cX4_about 39 = .ok (.iconst 0, 1) := dk_3 (dk_at dksX4_about_1 15 rfl rfl)
theorem dX4_about_40 : decode cX4_about 40 = .ok (.istore_n 3, 1) := dk_62 (dk_at dksX4_about_1 16 rfl rfl)
theorem dX4_about_41 : decode cX4_about 41 = .ok (.iload_n 3, 1) := dk_29 (dk_at dksX4_about_1 17 rfl rfl)
theorem dX4_about_42 : decode cX4_about 42 = .ok (.bipush 18, 2) := dk_16 18 (dk_at dksX4_about_1 18 rfl rfl)
theorem dX4_about_44 : decode cX4_about 44 = .ok (.if_icmp .ge 30, 3) := dk_162 0 30 (dk_at dksX4_about_1 20 rfl rfl)
theorem dX4_about_47 : decode cX4_about 47 = .ok (.iload_n 2, 1) := dk_28 (dk_at dksX4_about_1 23 rfl rfl)
theorem dX4_about_48 : decode cX4_about 48 = .ok (.aload_n 0, 1) := dk_42 (dk_at dksX4_about_2 0 rfl rfl)
theorem dX4_about_49 : decode cX4_about 49 = .ok (.getfield 13, 3) := dk_180 0 13 (dk_at dksX4_about_2 1 rfl rfl)
theorem dX4_about_52 : decode cX4_about 52 = .ok (.iload_n 3, 1) := dk_29 (dk_at dksX4_about_2 4 rfl rfl)
theorem dX4_about_53 : decode cX4_about 53 = .ok (.invokestatic 59, 3) := dk_184 0 59 (dk_at dksX4_about_2 5 rfl rfl)
theorem dX4_about_56 : decode cX4_about 56 = .ok (.ifCond .eq 9, 3) := dk_153 0 9 (dk_at dksX4_about_2 8 rfl rfl)
theorem dX4_about_59 : decode cX4_about 59 = .ok (.iconst 1, 1) := dk_4 (dk_at dksX4_about_2 11 rfl rfl)
theorem dX4_about_60 : decode cX4_about 60 = .ok (.iload_n 3, 1) := dk_29 (dk_at dksX4_about_2 12 rfl rfl)
theorem dX4_about_61 : decode cX4_about 61 = .ok (.ishl, 1) := dk_120 (dk_at dksX4_about_2 13 rfl rfl)
theorem dX4_about_62 : decode cX4_about 62 = .ok (.goto 4, 3) := dk_167 0 4 (dk_at dksX4_about_2 14 rfl rfl)
theorem dX4_about_65 : decode cX4_about 65 = .ok (.iconst 0, 1) := dk_3 (dk_at dksX4_about_2 17 rfl rfl)
theorem dX4_about_66 : decode cX4_about 66 = .ok (.ior, 1) := dk_128 (dk_at dksX4_about_2 18 rfl rfl)
theorem dX4_about_67 : decode cX4_about 67 = .ok (.istore_n 2, 1) := dk_61 (dk_at dksX4_about_2 19 rfl rfl)
theorem dX4_about_68 : decode cX4_about 68 = .ok (.iinc 3 1, 3) := dk_132 3 1 (dk_at dksX4_about_2 20 rfl rfl)
theorem dX4_about_71 : decode cX4_about 71 = .ok (.goto (-30), 3) := dk_167 255 226 (dk_at dksX4_about_3 0 rfl rfl)
theorem dX4_about_74 : decode cX4_about 74 = .ok (.iload_n 1, 1) := dk_27 (dk_at dksX4_about_3 3 rfl rfl)
theorem dX4_about_75 : decode cX4_about 75 = .ok (.iconst 1, 1) := dk_4 (dk_at dksX4_about_3 4 rfl rfl)
theorem dX4_about_76 : decode cX4_about 76 = .ok (.if_icmp .ne 13, 3) := dk_160 0 13 (dk_at dksX4_about_3 5 rfl rfl)
theorem dX4_about_79 : decode cX4_about 79 = .ok (.aload_n 0, 1) := dk_42 (dk_at dksX4_about_3 8 rfl rfl)
theorem dX4_about_80 : decode cX4_about 80 = .ok (.getfield 13, 3) := dk_180 0 13 (dk_at dksX4_about_3 9 rfl rfl)
theorem dX4_about_83 : decode cX4_about 83 = .ok (.invokestatic 130, 3) := dk_184 0 130 (dk_at dksX4_about_3 12 rfl rfl)
theorem dX4_about_86 : decode cX4_about 86 = .ok (.goto 55, 3) := dk_167 0 55 (dk_at dksX4_about_3 15 rfl rfl)
theorem dX4_about_89 : decode cX4_about 89 = .ok (.iload_n 1, 1) := dk_27 (dk_at dksX4_about_3 18 rfl rfl)
theorem dX4_about_90 : decode cX4_about 90 = .ok (.bipush 6, 2) := dk_16 6 (dk_at dksX4_about_3 19 rfl rfl)
theorem dX4_about_92 : decode cX4_about 92 = .ok (.if_icmp .ne 33, 3) := dk_160 0 33 (dk_at dksX4_about_3 21 rfl rfl)
theorem dX4_about_95 : decode cX4_about 95 = .ok (.aload_n 0, 1) := dk_42 (dk_at dksX4_about_4 0 rfl rfl)
theorem dX4_about_96 : decode cX4_about 96 = .ok (.getfield 13, 3) := dk_180 0 13 (dk_at dksX4_about_4 1 rfl rfl)
theorem dX4_about_99 : decode cX4_about 99 = .ok (.bipush 17, 2) := dk_16 17 (dk_at dksX4_about_4 4 rfl rfl)
theorem dX4_about_101 : decode cX4_about 101 = .ok (.iaload, 1) := dk_46 (dk_at dksX4_about_4 6 rfl rfl)
theorem dX4_about_102 : decode cX4_about 102 = .ok (.iconst 2, 1) := dk_5 (dk_at dksX4_about_4 7 rfl rfl)
theorem dX4_about_103 : decode cX4_about 103 = .ok (.aload_n 0, 1) := dk_42 (dk_at dksX4_about_4 8 rfl rfl)
theorem dX4_about_104 : decode cX4_about 104 = .ok (.getfield 13, 3) := dk_180 0 13 (dk_at dksX4_about_4 9 rfl rfl)
theorem dX4_about_107 : decode cX4_about 107 = .ok (.bipush 18, 2) := dk_16 18 (dk_at dksX4_about_4 12 rfl rfl)
theorem dX4_about_109 : decode cX4_about 109 = .ok (.iaload, 1) := dk_46 (dk_at dksX4_about_4 14 rfl rfl)
theorem dX4_about_110 : decode cX4_about 110 = .ok (.imul, 1) := dk_104 (dk_at dksX4_about_4 15 rfl rfl)
theorem dX4_about_111 : decode cX4_about 111 = .ok (.iadd, 1) := dk_96 (dk_at dksX4_about_4 16 rfl rfl)
theorem dX4_about_112 : decode cX4_about 112 = .ok (.iconst 4, 1) := dk_7 (dk_at dksX4_about_4 17 rfl rfl)
theorem dX4_about_113 : decode cX4_about 113 = .ok (.aload_n 0, 1) := dk_42 (dk_at dksX4_about_4 18 rfl rfl)
theorem dX4_about_114 : decode cX4_about 114 = .ok (.getfield 13, 3) := dk_180 0 13 (dk_at dksX4_about_4 19 rfl rfl)
theorem dX4_about_117 : decode cX4_about 117 = .ok (.bipush 19, 2) := dk_16 19 (dk_at dksX4_about_4 22 rfl rfl)
theorem dX4_about_119 : decode cX4_about 119 = .ok (.iaload, 1) := dk_46 (dk_at dksX4_about_5 0 rfl rfl)
theorem dX4_about_120 : decode cX4_about 120 = .ok (.imul, 1) := dk_104 (dk_at dksX4_about_5 1 rfl rfl)
theorem dX4_about_121 : decode cX4_about 121 = .ok (.iadd, 1) := dk_96 (dk_at dksX4_about_5 2 rfl rfl)
theorem dX4_about_122 : decode cX4_about 122 = .ok (.goto 19, 3) := dk_167 0 19 (dk_at dksX4_about_5 3 rfl rfl)
theorem dX4_about_125 : decode cX4_about 125 = .ok (.iload_n 1, 1) := dk_27 (dk_at dksX4_about_5 6 rfl rfl)
theorem dX4_about_126 : decode cX4_about 126 = .ok (.bipush 7, 2) := dk_16 7 (dk_at dksX4_about_5 7 rfl rfl)
theorem dX4_about_128 : decode cX4_about 128 = .ok (.if_icmp .ne 7, 3) := dk_160 0 7 (dk_at dksX4_about_5 9 rfl rfl)
theorem dX4_about_131 : decode cX4_about 131 = .ok (.iload_n 2, 1) := dk_28 (dk_at dksX4_about_5 12 rfl rfl)
theorem dX4_about_132 : decode cX4_about 132 = .ok (.goto 9, 3) := dk_167 0 9 (dk_at dksX4_about_5 13 rfl rfl)
theorem dX4_about_135 : decode cX4_about 135 = .ok (.aload_n 0, 1) := dk_42 (dk_at dksX4_about_5 16 rfl rfl)
theorem dX4_about_136 : decode cX4_about 136 = .ok (.getfield 13, 3) := dk_180 0 13 (dk_at dksX4_about_5 17 rfl rfl)
theorem dX4_about_139 : decode cX4_about 139 = .ok (.iload_n 1, 1) := dk_27 (dk_at dksX4_about_5 20 rfl rfl)
theorem dX4_about_140 : decode cX4_about 140 = .ok (.iaload, 1) := dk_46 (dk_at dksX4_about_5 21 rfl rfl)
theorem dX4_about_141 : decode cX4_about 141 = .ok (.ireturn, 1) := dk_172 (dk_at dksX4_about_5 22 rfl rfl)
abbrev cX4_isRemembered : ByteArray := prog_11_method_13_code
def yX4_isRemembered : MethodName := ⟨RX4, "isRemembered", "([II)Z"⟩
def dkwX4_isRemembered_1 : List UInt8 := [160, 0, 5, 4, 172, 132, 3, 1, 167, 255, 236, 132, 2, 1, 167, 255, 220, 3, 172]
abbrev dktX4_isRemembered_1 : List UInt8 := dkwX4_isRemembered_1 ++ []
def dkwX4_isRemembered_0 : List UInt8 := [3, 61, 28, 42, 16, 7, 46, 162, 0, 34, 3, 62, 29, 8, 162, 0, 21, 42, 28, 29, 184, 0, 55, 27]
abbrev dktX4_isRemembered_0 : List UInt8 := dkwX4_isRemembered_0 ++ dktX4_isRemembered_1
theorem dksX4_isRemembered_0 : cX4_isRemembered.data.toList.drop 0 = dktX4_isRemembered_0 := by decide +kernel
theorem dksX4_isRemembered_1 : cX4_isRemembered.data.toList.drop 24 = dktX4_isRemembered_1 := dk_seg dksX4_isRemembered_0 24 rfl rfl
theorem dX4_isRemembered_0 : decode cX4_isRemembered 0 = .ok (.iconst 0, 1) := dk_3 (dk_at dksX4_isRemembered_0 0 rfl rfl)
theorem dX4_isRemembered_1 : decode cX4_isRemembered 1 = .ok (.istore_n 2, 1) := dk_61 (dk_at dksX4_isRemembered_0 1 rfl rfl)
theorem dX4_isRemembered_2 : decode cX4_isRemembered 2 = .ok (.iload_n 2, 1) := dk_28 (dk_at dksX4_isRemembered_0 2 rfl rfl)
theorem dX4_isRemembered_3 : decode cX4_isRemembered 3 = .ok (.aload_n 0, 1) := dk_42 (dk_at dksX4_isRemembered_0 3 rfl rfl)
theorem dX4_isRemembered_4 : decode cX4_isRemembered 4 = .ok (.bipush 7, 2) := dk_16 7 (dk_at dksX4_isRemembered_0 4 rfl rfl)
theorem dX4_isRemembered_6 : decode cX4_isRemembered 6 = .ok (.iaload, 1) := dk_46 (dk_at dksX4_isRemembered_0 6 rfl rfl)
theorem dX4_isRemembered_7 : decode cX4_isRemembered 7 = .ok (.if_icmp .ge 34, 3) := dk_162 0 34 (dk_at dksX4_isRemembered_0 7 rfl rfl)
theorem dX4_isRemembered_10 : decode cX4_isRemembered 10 = .ok (.iconst 0, 1) := dk_3 (dk_at dksX4_isRemembered_0 10 rfl rfl)
theorem dX4_isRemembered_11 : decode cX4_isRemembered 11 = .ok (.istore_n 3, 1) := dk_62 (dk_at dksX4_isRemembered_0 11 rfl rfl)
theorem dX4_isRemembered_12 : decode cX4_isRemembered 12 = .ok (.iload_n 3, 1) := dk_29 (dk_at dksX4_isRemembered_0 12 rfl rfl)
theorem dX4_isRemembered_13 : decode cX4_isRemembered 13 = .ok (.iconst 5, 1) := dk_8 (dk_at dksX4_isRemembered_0 13 rfl rfl)
theorem dX4_isRemembered_14 : decode cX4_isRemembered 14 = .ok (.if_icmp .ge 21, 3) := dk_162 0 21 (dk_at dksX4_isRemembered_0 14 rfl rfl)
theorem dX4_isRemembered_17 : decode cX4_isRemembered 17 = .ok (.aload_n 0, 1) := dk_42 (dk_at dksX4_isRemembered_0 17 rfl rfl)
theorem dX4_isRemembered_18 : decode cX4_isRemembered 18 = .ok (.iload_n 2, 1) := dk_28 (dk_at dksX4_isRemembered_0 18 rfl rfl)
theorem dX4_isRemembered_19 : decode cX4_isRemembered 19 = .ok (.iload_n 3, 1) := dk_29 (dk_at dksX4_isRemembered_0 19 rfl rfl)
theorem dX4_isRemembered_20 : decode cX4_isRemembered 20 = .ok (.invokestatic 55, 3) := dk_184 0 55 (dk_at dksX4_isRemembered_0 20 rfl rfl)
theorem dX4_isRemembered_23 : decode cX4_isRemembered 23 = .ok (.iload_n 1, 1) := dk_27 (dk_at dksX4_isRemembered_0 23 rfl rfl)
theorem dX4_isRemembered_24 : decode cX4_isRemembered 24 = .ok (.if_icmp .ne 5, 3) := dk_160 0 5 (dk_at dksX4_isRemembered_1 0 rfl rfl)
theorem dX4_isRemembered_27 : decode cX4_isRemembered 27 = .ok (.iconst 1, 1) := dk_4 (dk_at dksX4_isRemembered_1 3 rfl rfl)
theorem dX4_isRemembered_28 : decode cX4_isRemembered 28 = .ok (.ireturn, 1) := dk_172 (dk_at dksX4_isRemembered_1 4 rfl rfl)
theorem dX4_isRemembered_29 : decode cX4_isRemembered 29 = .ok (.iinc 3 1, 3) := dk_132 3 1 (dk_at dksX4_isRemembered_1 5 rfl rfl)
theorem dX4_isRemembered_32 : decode cX4_isRemembered 32 = .ok (.goto (-20), 3) := dk_167 255 236 (dk_at dksX4_isRemembered_1 8 rfl rfl)
theorem dX4_isRemembered_35 : decode cX4_isRemembered 35 = .ok (.iinc 2 1, 3) := dk_132 2 1 (dk_at dksX4_isRemembered_1 11 rfl rfl)
theorem dX4_isRemembered_38 : decode cX4_isRemembered 38 = .ok (.goto (-36), 3) := dk_167 255 220 (dk_at dksX4_isRemembered_1 14 rfl rfl)
theorem dX4_isRemembered_41 : decode cX4_isRemembered 41 = .ok (.iconst 0, 1) := dk_3 (dk_at dksX4_isRemembered_1 17 rfl rfl)
theorem dX4_isRemembered_42 : decode cX4_isRemembered 42 = .ok (.ireturn, 1) := dk_172 (dk_at dksX4_isRemembered_1 18 rfl rfl)
abbrev cX4_logged : ByteArray := prog_11_method_12_code
def yX4_logged : MethodName := ⟨RX4, "logged", "([III)I"⟩
def dkwX4_logged_1 : List UInt8 := [27, 104, 96, 4, 96, 28, 96, 46, 167, 0, 4, 2, 172]
abbrev dktX4_logged_1 : List UInt8 := dkwX4_logged_1 ++ []
def dkwX4_logged_0 : List UInt8 := [27, 16, 6, 162, 0, 32, 28, 42, 16, 53, 16, 6, 27, 104, 96, 46, 162, 0, 19, 42, 16, 53, 16, 6]
abbrev dktX4_logged_0 : List UInt8 := dkwX4_logged_0 ++ dktX4_logged_1
theorem dksX4_logged_0 : cX4_logged.data.toList.drop 0 = dktX4_logged_0 := by decide +kernel
theorem dksX4_logged_1 : cX4_logged.data.toList.drop 24 = dktX4_logged_1 := dk_seg dksX4_logged_0 24 rfl rfl
theorem dX4_logged_0 : decode cX4_logged 0 = .ok (.iload_n 1, 1) := dk_27 (dk_at dksX4_logged_0 0 rfl rfl)
theorem dX4_logged_1 : decode cX4_logged 1 = .ok (.bipush 6, 2) := dk_16 6 (dk_at dksX4_logged_0 1 rfl rfl)
theorem dX4_logged_3 : decode cX4_logged 3 = .ok (.if_icmp .ge 32, 3) := dk_162 0 32 (dk_at dksX4_logged_0 3 rfl rfl)
theorem dX4_logged_6 : decode cX4_logged 6 = .ok (.iload_n 2, 1) := dk_28 (dk_at dksX4_logged_0 6 rfl rfl)
theorem dX4_logged_7 : decode cX4_logged 7 = .ok (.aload_n 0, 1) := dk_42 (dk_at dksX4_logged_0 7 rfl rfl)
theorem dX4_logged_8 : decode cX4_logged 8 = .ok (.bipush 53, 2) := dk_16 53 (dk_at dksX4_logged_0 8 rfl rfl)
theorem dX4_logged_10 : decode cX4_logged 10 = .ok (.bipush 6, 2) := dk_16 6 (dk_at dksX4_logged_0 10 rfl rfl)
theorem dX4_logged_12 : decode cX4_logged 12 = .ok (.iload_n 1, 1) := dk_27 (dk_at dksX4_logged_0 12 rfl rfl)
theorem dX4_logged_13 : decode cX4_logged 13 = .ok (.imul, 1) := dk_104 (dk_at dksX4_logged_0 13 rfl rfl)
theorem dX4_logged_14 : decode cX4_logged 14 = .ok (.iadd, 1) := dk_96 (dk_at dksX4_logged_0 14 rfl rfl)
theorem dX4_logged_15 : decode cX4_logged 15 = .ok (.iaload, 1) := dk_46 (dk_at dksX4_logged_0 15 rfl rfl)
theorem dX4_logged_16 : decode cX4_logged 16 = .ok (.if_icmp .ge 19, 3) := dk_162 0 19 (dk_at dksX4_logged_0 16 rfl rfl)
theorem dX4_logged_19 : decode cX4_logged 19 = .ok (.aload_n 0, 1) := dk_42 (dk_at dksX4_logged_0 19 rfl rfl)
theorem dX4_logged_20 : decode cX4_logged 20 = .ok (.bipush 53, 2) := dk_16 53 (dk_at dksX4_logged_0 20 rfl rfl)
theorem dX4_logged_22 : decode cX4_logged 22 = .ok (.bipush 6, 2) := dk_16 6 (dk_at dksX4_logged_0 22 rfl rfl)
theorem dX4_logged_24 : decode cX4_logged 24 = .ok (.iload_n 1, 1) := dk_27 (dk_at dksX4_logged_1 0 rfl rfl)
theorem dX4_logged_25 : decode cX4_logged 25 = .ok (.imul, 1) := dk_104 (dk_at dksX4_logged_1 1 rfl rfl)
theorem dX4_logged_26 : decode cX4_logged 26 = .ok (.iadd, 1) := dk_96 (dk_at dksX4_logged_1 2 rfl rfl)
theorem dX4_logged_27 : decode cX4_logged 27 = .ok (.iconst 1, 1) := dk_4 (dk_at dksX4_logged_1 3 rfl rfl)
theorem dX4_logged_28 : decode cX4_logged 28 = .ok (.iadd, 1) := dk_96 (dk_at dksX4_logged_1 4 rfl rfl)
theorem dX4_logged_29 : decode cX4_logged 29 = .ok (.iload_n 2, 1) := dk_28 (dk_at dksX4_logged_1 5 rfl rfl)
theorem dX4_logged_30 : decode cX4_logged 30 = .ok (.iadd, 1) := dk_96 (dk_at dksX4_logged_1 6 rfl rfl)
theorem dX4_logged_31 : decode cX4_logged 31 = .ok (.iaload, 1) := dk_46 (dk_at dksX4_logged_1 7 rfl rfl)
theorem dX4_logged_32 : decode cX4_logged 32 = .ok (.goto 4, 3) := dk_167 0 4 (dk_at dksX4_logged_1 8 rfl rfl)
theorem dX4_logged_35 : decode cX4_logged 35 = .ok (.iconst (-1), 1) := dk_2 (dk_at dksX4_logged_1 11 rfl rfl)
theorem dX4_logged_36 : decode cX4_logged 36 = .ok (.ireturn, 1) := dk_172 (dk_at dksX4_logged_1 12 rfl rfl)
abbrev cX4_next : ByteArray := prog_11_method_23_code
def yX4_next : MethodName := ⟨RX4, "next", "([I)I"⟩
def dkwX4_next_0 : List UInt8 := [42, 8, 46, 4, 160, 0, 7, 2, 167, 0, 6, 42, 4, 46, 172]
abbrev dktX4_next_0 : List UInt8 := dkwX4_next_0 ++ []
theorem dksX4_next_0 : cX4_next.data.toList.drop 0 = dktX4_next_0 := by decide +kernel
theorem dX4_next_0 : decode cX4_next 0 = .ok (.aload_n 0, 1) := dk_42 (dk_at dksX4_next_0 0 rfl rfl)
theorem dX4_next_1 : decode cX4_next 1 = .ok (.iconst 5, 1) := dk_8 (dk_at dksX4_next_0 1 rfl rfl)
theorem dX4_next_2 : decode cX4_next 2 = .ok (.iaload, 1) := dk_46 (dk_at dksX4_next_0 2 rfl rfl)
theorem dX4_next_3 : decode cX4_next 3 = .ok (.iconst 1, 1) := dk_4 (dk_at dksX4_next_0 3 rfl rfl)
theorem dX4_next_4 : decode cX4_next 4 = .ok (.if_icmp .ne 7, 3) := dk_160 0 7 (dk_at dksX4_next_0 4 rfl rfl)
theorem dX4_next_7 : decode cX4_next 7 = .ok (.iconst (-1), 1) := dk_2 (dk_at dksX4_next_0 7 rfl rfl)
theorem dX4_next_8 : decode cX4_next 8 = .ok (.goto 6, 3) := dk_167 0 6 (dk_at dksX4_next_0 8 rfl rfl)
theorem dX4_next_11 : decode cX4_next 11 = .ok (.aload_n 0, 1) := dk_42 (dk_at dksX4_next_0 11 rfl rfl)
theorem dX4_next_12 : decode cX4_next 12 = .ok (.iconst 1, 1) := dk_4 (dk_at dksX4_next_0 12 rfl rfl)
theorem dX4_next_13 : decode cX4_next 13 = .ok (.iaload, 1) := dk_46 (dk_at dksX4_next_0 13 rfl rfl)
theorem dX4_next_14 : decode cX4_next 14 = .ok (.ireturn, 1) := dk_172 (dk_at dksX4_next_0 14 rfl rfl)
abbrev cX4_teller : ByteArray := prog_11_method_38_code
def yX4_teller : MethodName := ⟨RX4, "teller", "(II)I"⟩
def dkwX4_teller_7 : List UInt8 := [42, 180, 0, 13, 27, 184, 0, 51, 4, 96, 46, 172]
abbrev dktX4_teller_7 : List UInt8 := dkwX4_teller_7 ++ []
def dkwX4_teller_6 : List UInt8 := [180, 0, 13, 27, 184, 0, 51, 16, 9, 96, 46, 167, 0, 24, 28, 6, 160, 0, 8, 21, 4, 167, 0, 14]
abbrev dktX4_teller_6 : List UInt8 := dkwX4_teller_6 ++ dktX4_teller_7
def dkwX4_teller_5 : List UInt8 := [184, 0, 51, 3, 96, 46, 167, 0, 53, 28, 4, 160, 0, 7, 29, 167, 0, 44, 28, 5, 160, 0, 18, 42]
abbrev dktX4_teller_5 : List UInt8 := dkwX4_teller_5 ++ dktX4_teller_6
def dkwX4_teller_4 : List UInt8 := [120, 167, 0, 4, 3, 128, 54, 4, 132, 5, 1, 167, 255, 196, 28, 154, 0, 17, 42, 180, 0, 13, 27]
abbrev dktX4_teller_4 : List UInt8 := dkwX4_teller_4 ++ dktX4_teller_5
def dkwX4_teller_3 : List UInt8 := [167, 0, 4, 3, 128, 62, 21, 4, 42, 180, 0, 13, 27, 21, 5, 184, 0, 110, 153, 0, 10, 4, 21, 5]
abbrev dktX4_teller_3 : List UInt8 := dkwX4_teller_3 ++ dktX4_teller_4
def dkwX4_teller_2 : List UInt8 := [16, 18, 162, 0, 59, 29, 42, 180, 0, 13, 27, 21, 5, 184, 0, 70, 153, 0, 10, 4, 21, 5, 120]
abbrev dktX4_teller_2 : List UInt8 := dkwX4_teller_2 ++ dktX4_teller_3
def dkwX4_teller_1 : List UInt8 := [3, 167, 0, 4, 5, 182, 0, 161, 153, 0, 5, 3, 172, 3, 62, 3, 54, 4, 3, 54, 5, 21, 5]
abbrev dktX4_teller_1 : List UInt8 := dkwX4_teller_1 ++ dktX4_teller_2
def dkwX4_teller_0 : List UInt8 := [42, 27, 184, 0, 172, 154, 0, 7, 4, 167, 0, 20, 28, 133, 9, 20, 0, 175, 184, 0, 45, 153, 0, 7]
abbrev dktX4_teller_0 : List UInt8 := dkwX4_teller_0 ++ dktX4_teller_1
theorem dksX4_teller_0 : cX4_teller.data.toList.drop 0 = dktX4_teller_0 := by decide +kernel
theorem dksX4_teller_1 : cX4_teller.data.toList.drop 24 = dktX4_teller_1 := dk_seg dksX4_teller_0 24 rfl rfl
theorem dksX4_teller_2 : cX4_teller.data.toList.drop 47 = dktX4_teller_2 := dk_seg dksX4_teller_1 23 rfl rfl
theorem dksX4_teller_3 : cX4_teller.data.toList.drop 70 = dktX4_teller_3 := dk_seg dksX4_teller_2 23 rfl rfl
theorem dksX4_teller_4 : cX4_teller.data.toList.drop 94 = dktX4_teller_4 := dk_seg dksX4_teller_3 24 rfl rfl
theorem dksX4_teller_5 : cX4_teller.data.toList.drop 117 = dktX4_teller_5 := dk_seg dksX4_teller_4 23 rfl rfl
theorem dksX4_teller_6 : cX4_teller.data.toList.drop 141 = dktX4_teller_6 := dk_seg dksX4_teller_5 24 rfl rfl
theorem dksX4_teller_7 : cX4_teller.data.toList.drop 165 = dktX4_teller_7 := dk_seg dksX4_teller_6 24 rfl rfl
theorem dX4_teller_0 : decode cX4_teller 0 = .ok (.aload_n 0, 1) := dk_42 (dk_at dksX4_teller_0 0 rfl rfl)
theorem dX4_teller_1 : decode cX4_teller 1 = .ok (.iload_n 1, 1) := dk_27 (dk_at dksX4_teller_0 1 rfl rfl)
theorem dX4_teller_2 : decode cX4_teller 2 = .ok (.invokestatic 172, 3) := dk_184 0 172 (dk_at dksX4_teller_0 2 rfl rfl)
theorem dX4_teller_5 : decode cX4_teller 5 = .ok (.ifCond .ne 7, 3) := dk_154 0 7 (dk_at dksX4_teller_0 5 rfl rfl)
theorem dX4_teller_8 : decode cX4_teller 8 = .ok (.iconst 1, 1) := dk_4 (dk_at dksX4_teller_0 8 rfl rfl)
theorem dX4_teller_9 : decode cX4_teller 9 = .ok (.goto 20, 3) := dk_167 0 20 (dk_at dksX4_teller_0 9 rfl rfl)
theorem dX4_teller_12 : decode cX4_teller 12 = .ok (.iload_n 2, 1) := dk_28 (dk_at dksX4_teller_0 12 rfl rfl)
theorem dX4_teller_13 : decode cX4_teller 13 = .ok (.i2l, 1) := dk_133 (dk_at dksX4_teller_0 13 rfl rfl)
theorem dX4_teller_14 : decode cX4_teller 14 = .ok (.lconst 0, 1) := dk_9 (dk_at dksX4_teller_0 14 rfl rfl)
theorem dX4_teller_15 : decode cX4_teller 15 = .ok (.ldc2_w 175, 3) := dk_20 0 175 (dk_at dksX4_teller_0 15 rfl rfl)
theorem dX4_teller_18 : decode cX4_teller 18 = .ok (.invokestatic 45, 3) := dk_184 0 45 (dk_at dksX4_teller_0 18 rfl rfl)
theorem dX4_teller_21 : decode cX4_teller 21 = .ok (.ifCond .eq 7, 3) := dk_153 0 7 (dk_at dksX4_teller_0 21 rfl rfl)
theorem dX4_teller_24 : decode cX4_teller 24 = .ok (.iconst 0, 1) := dk_3 (dk_at dksX4_teller_1 0 rfl rfl)
theorem dX4_teller_25 : decode cX4_teller 25 = .ok (.goto 4, 3) := dk_167 0 4 (dk_at dksX4_teller_1 1 rfl rfl)
theorem dX4_teller_28 : decode cX4_teller 28 = .ok (.iconst 2, 1) := dk_5 (dk_at dksX4_teller_1 4 rfl rfl)
theorem dX4_teller_29 : decode cX4_teller 29 = .ok (.invokevirtual 161, 3) := dk_182 0 161 (dk_at dksX4_teller_1 5 rfl rfl)
theorem dX4_teller_32 : decode cX4_teller 32 = .ok (.ifCond .eq 5, 3) := dk_153 0 5 (dk_at dksX4_teller_1 8 rfl rfl)
theorem dX4_teller_35 : decode cX4_teller 35 = .ok (.iconst 0, 1) := dk_3 (dk_at dksX4_teller_1 11 rfl rfl)
theorem dX4_teller_36 : decode cX4_teller 36 = .ok (.ireturn, 1) := dk_172 (dk_at dksX4_teller_1 12 rfl rfl)
theorem dX4_teller_37 : decode cX4_teller 37 = .ok (.iconst 0, 1) := dk_3 (dk_at dksX4_teller_1 13 rfl rfl)
theorem dX4_teller_38 : decode cX4_teller 38 = .ok (.istore_n 3, 1) := dk_62 (dk_at dksX4_teller_1 14 rfl rfl)
theorem dX4_teller_39 : decode cX4_teller 39 = .ok (.iconst 0, 1) := dk_3 (dk_at dksX4_teller_1 15 rfl rfl)
theorem dX4_teller_40 : decode cX4_teller 40 = .ok (.istore 4, 2) := dk_54 4 (dk_at dksX4_teller_1 16 rfl rfl)
theorem dX4_teller_42 : decode cX4_teller 42 = .ok (.iconst 0, 1) := dk_3 (dk_at dksX4_teller_1 18 rfl rfl)
theorem dX4_teller_43 : decode cX4_teller 43 = .ok (.istore 5, 2) := dk_54 5 (dk_at dksX4_teller_1 19 rfl rfl)
theorem dX4_teller_45 : decode cX4_teller 45 = .ok (.iload 5, 2) := dk_21 5 (dk_at dksX4_teller_1 21 rfl rfl)
theorem dX4_teller_47 : decode cX4_teller 47 = .ok (.bipush 18, 2) := dk_16 18 (dk_at dksX4_teller_2 0 rfl rfl)
theorem dX4_teller_49 : decode cX4_teller 49 = .ok (.if_icmp .ge 59, 3) := dk_162 0 59 (dk_at dksX4_teller_2 2 rfl rfl)
theorem dX4_teller_52 : decode cX4_teller 52 = .ok (.iload_n 3, 1) := dk_29 (dk_at dksX4_teller_2 5 rfl rfl)
theorem dX4_teller_53 : decode cX4_teller 53 = .ok (.aload_n 0, 1) := dk_42 (dk_at dksX4_teller_2 6 rfl rfl)
theorem dX4_teller_54 : decode cX4_teller 54 = .ok (.getfield 13, 3) := dk_180 0 13 (dk_at dksX4_teller_2 7 rfl rfl)
theorem dX4_teller_57 : decode cX4_teller 57 = .ok (.iload_n 1, 1) := dk_27 (dk_at dksX4_teller_2 10 rfl rfl)
theorem dX4_teller_58 : decode cX4_teller 58 = .ok (.iload 5, 2) := dk_21 5 (dk_at dksX4_teller_2 11 rfl rfl)
theorem dX4_teller_60 : decode cX4_teller 60 = .ok (.invokestatic 70, 3) := dk_184 0 70 (dk_at dksX4_teller_2 13 rfl rfl)
theorem dX4_teller_63 : decode cX4_teller 63 = .ok (.ifCond .eq 10, 3) := dk_153 0 10 (dk_at dksX4_teller_2 16 rfl rfl)
theorem dX4_teller_66 : decode cX4_teller 66 = .ok (.iconst 1, 1) := dk_4 (dk_at dksX4_teller_2 19 rfl rfl)
theorem dX4_teller_67 : decode cX4_teller 67 = .ok (.iload 5, 2) := dk_21 5 (dk_at dksX4_teller_2 20 rfl rfl)
theorem dX4_teller_69 : decode cX4_teller 69 = .ok (.ishl, 1) := dk_120 (dk_at dksX4_teller_2 22 rfl rfl)
theorem dX4_teller_70 : decode cX4_teller 70 = .ok (.goto 4, 3) := dk_167 0 4 (dk_at dksX4_teller_3 0 rfl rfl)
theorem dX4_teller_73 : decode cX4_teller 73 = .ok (.iconst 0, 1) := dk_3 (dk_at dksX4_teller_3 3 rfl rfl)
theorem dX4_teller_74 : decode cX4_teller 74 = .ok (.ior, 1) := dk_128 (dk_at dksX4_teller_3 4 rfl rfl)
theorem dX4_teller_75 : decode cX4_teller 75 = .ok (.istore_n 3, 1) := dk_62 (dk_at dksX4_teller_3 5 rfl rfl)
theorem dX4_teller_76 : decode cX4_teller 76 = .ok (.iload 4, 2) := dk_21 4 (dk_at dksX4_teller_3 6 rfl rfl)
theorem dX4_teller_78 : decode cX4_teller 78 = .ok (.aload_n 0, 1) := dk_42 (dk_at dksX4_teller_3 8 rfl rfl)
theorem dX4_teller_79 : decode cX4_teller 79 = .ok (.getfield 13, 3) := dk_180 0 13 (dk_at dksX4_teller_3 9 rfl rfl)
theorem dX4_teller_82 : decode cX4_teller 82 = .ok (.iload_n 1, 1) := dk_27 (dk_at dksX4_teller_3 12 rfl rfl)
theorem dX4_teller_83 : decode cX4_teller 83 = .ok (.iload 5, 2) := dk_21 5 (dk_at dksX4_teller_3 13 rfl rfl)
theorem dX4_teller_85 : decode cX4_teller 85 = .ok (.invokestatic 110, 3) := dk_184 0 110 (dk_at dksX4_teller_3 15 rfl rfl)
theorem dX4_teller_88 : decode cX4_teller 88 = .ok (.ifCond .eq 10, 3) := dk_153 0 10 (dk_at dksX4_teller_3 18 rfl rfl)
theorem dX4_teller_91 : decode cX4_teller 91 = .ok (.iconst 1, 1) := dk_4 (dk_at dksX4_teller_3 21 rfl rfl)
theorem dX4_teller_92 : decode cX4_teller 92 = .ok (.iload 5, 2) := dk_21 5 (dk_at dksX4_teller_3 22 rfl rfl)
theorem dX4_teller_94 : decode cX4_teller 94 = .ok (.ishl, 1) := dk_120 (dk_at dksX4_teller_4 0 rfl rfl)
theorem dX4_teller_95 : decode cX4_teller 95 = .ok (.goto 4, 3) := dk_167 0 4 (dk_at dksX4_teller_4 1 rfl rfl)
theorem dX4_teller_98 : decode cX4_teller 98 = .ok (.iconst 0, 1) := dk_3 (dk_at dksX4_teller_4 4 rfl rfl)
theorem dX4_teller_99 : decode cX4_teller 99 = .ok (.ior, 1) := dk_128 (dk_at dksX4_teller_4 5 rfl rfl)
theorem dX4_teller_100 : decode cX4_teller 100 = .ok (.istore 4, 2) := dk_54 4 (dk_at dksX4_teller_4 6 rfl rfl)
theorem dX4_teller_102 : decode cX4_teller 102 = .ok (.iinc 5 1, 3) := dk_132 5 1 (dk_at dksX4_teller_4 8 rfl rfl)
theorem dX4_teller_105 : decode cX4_teller 105 = .ok (.goto (-60), 3) := dk_167 255 196 (dk_at dksX4_teller_4 11 rfl rfl)
theorem dX4_teller_108 : decode cX4_teller 108 = .ok (.iload_n 2, 1) := dk_28 (dk_at dksX4_teller_4 14 rfl rfl)
theorem dX4_teller_109 : decode cX4_teller 109 = .ok (.ifCond .ne 17, 3) := dk_154 0 17 (dk_at dksX4_teller_4 15 rfl rfl)
theorem dX4_teller_112 : decode cX4_teller 112 = .ok (.aload_n 0, 1) := dk_42 (dk_at dksX4_teller_4 18 rfl rfl)
theorem dX4_teller_113 : decode cX4_teller 113 = .ok (.getfield 13, 3) := dk_180 0 13 (dk_at dksX4_teller_4 19 rfl rfl)
theorem dX4_teller_116 : decode cX4_teller 116 = .ok (.iload_n 1, 1) := dk_27 (dk_at dksX4_teller_4 22 rfl rfl)
theorem dX4_teller_117 : decode cX4_teller 117 = .ok (.invokestatic 51, 3) := dk_184 0 51 (dk_at dksX4_teller_5 0 rfl rfl)
theorem dX4_teller_120 : decode cX4_teller 120 = .ok (.iconst 0, 1) := dk_3 (dk_at dksX4_teller_5 3 rfl rfl)
theorem dX4_teller_121 : decode cX4_teller 121 = .ok (.iadd, 1) := dk_96 (dk_at dksX4_teller_5 4 rfl rfl)
theorem dX4_teller_122 : decode cX4_teller 122 = .ok (.iaload, 1) := dk_46 (dk_at dksX4_teller_5 5 rfl rfl)
theorem dX4_teller_123 : decode cX4_teller 123 = .ok (.goto 53, 3) := dk_167 0 53 (dk_at dksX4_teller_5 6 rfl rfl)
theorem dX4_teller_126 : decode cX4_teller 126 = .ok (.iload_n 2, 1) := dk_28 (dk_at dksX4_teller_5 9 rfl rfl)
theorem dX4_teller_127 : decode cX4_teller 127 = .ok (.iconst 1, 1) := dk_4 (dk_at dksX4_teller_5 10 rfl rfl)
theorem dX4_teller_128 : decode cX4_teller 128 = .ok (.if_icmp .ne 7, 3) := dk_160 0 7 (dk_at dksX4_teller_5 11 rfl rfl)
theorem dX4_teller_131 : decode cX4_teller 131 = .ok (.iload_n 3, 1) := dk_29 (dk_at dksX4_teller_5 14 rfl rfl)
theorem dX4_teller_132 : decode cX4_teller 132 = .ok (.goto 44, 3) := dk_167 0 44 (dk_at dksX4_teller_5 15 rfl rfl)
theorem dX4_teller_135 : decode cX4_teller 135 = .ok (.iload_n 2, 1) := dk_28 (dk_at dksX4_teller_5 18 rfl rfl)
theorem dX4_teller_136 : decode cX4_teller 136 = .ok (.iconst 2, 1) := dk_5 (dk_at dksX4_teller_5 19 rfl rfl)
theorem dX4_teller_137 : decode cX4_teller 137 = .ok (.if_icmp .ne 18, 3) := dk_160 0 18 (dk_at dksX4_teller_5 20 rfl rfl)
theorem dX4_teller_140 : decode cX4_teller 140 = .ok (.aload_n 0, 1) := dk_42 (dk_at dksX4_teller_5 23 rfl rfl)
theorem dX4_teller_141 : decode cX4_teller 141 = .ok (.getfield 13, 3) := dk_180 0 13 (dk_at dksX4_teller_6 0 rfl rfl)
theorem dX4_teller_144 : decode cX4_teller 144 = .ok (.iload_n 1, 1) := dk_27 (dk_at dksX4_teller_6 3 rfl rfl)
theorem dX4_teller_145 : decode cX4_teller 145 = .ok (.invokestatic 51, 3) := dk_184 0 51 (dk_at dksX4_teller_6 4 rfl rfl)
theorem dX4_teller_148 : decode cX4_teller 148 = .ok (.bipush 9, 2) := dk_16 9 (dk_at dksX4_teller_6 7 rfl rfl)
theorem dX4_teller_150 : decode cX4_teller 150 = .ok (.iadd, 1) := dk_96 (dk_at dksX4_teller_6 9 rfl rfl)
theorem dX4_teller_151 : decode cX4_teller 151 = .ok (.iaload, 1) := dk_46 (dk_at dksX4_teller_6 10 rfl rfl)
theorem dX4_teller_152 : decode cX4_teller 152 = .ok (.goto 24, 3) := dk_167 0 24 (dk_at dksX4_teller_6 11 rfl rfl)
theorem dX4_teller_155 : decode cX4_teller 155 = .ok (.iload_n 2, 1) := dk_28 (dk_at dksX4_teller_6 14 rfl rfl)
theorem dX4_teller_156 : decode cX4_teller 156 = .ok (.iconst 3, 1) := dk_6 (dk_at dksX4_teller_6 15 rfl rfl)
theorem dX4_teller_157 : decode cX4_teller 157 = .ok (.if_icmp .ne 8, 3) := dk_160 0 8 (dk_at dksX4_teller_6 16 rfl rfl)
theorem dX4_teller_160 : decode cX4_teller 160 = .ok (.iload 4, 2) := dk_21 4 (dk_at dksX4_teller_6 19 rfl rfl)
theorem dX4_teller_162 : decode cX4_teller 162 = .ok (.goto 14, 3) := dk_167 0 14 (dk_at dksX4_teller_6 21 rfl rfl)
theorem dX4_teller_165 : decode cX4_teller 165 = .ok (.aload_n 0, 1) := dk_42 (dk_at dksX4_teller_7 0 rfl rfl)
theorem dX4_teller_166 : decode cX4_teller 166 = .ok (.getfield 13, 3) := dk_180 0 13 (dk_at dksX4_teller_7 1 rfl rfl)
theorem dX4_teller_169 : decode cX4_teller 169 = .ok (.iload_n 1, 1) := dk_27 (dk_at dksX4_teller_7 4 rfl rfl)
theorem dX4_teller_170 : decode cX4_teller 170 = .ok (.invokestatic 51, 3) := dk_184 0 51 (dk_at dksX4_teller_7 5 rfl rfl)
theorem dX4_teller_173 : decode cX4_teller 173 = .ok (.iconst 1, 1) := dk_4 (dk_at dksX4_teller_7 8 rfl rfl)
theorem dX4_teller_174 : decode cX4_teller 174 = .ok (.iadd, 1) := dk_96 (dk_at dksX4_teller_7 9 rfl rfl)
theorem dX4_teller_175 : decode cX4_teller 175 = .ok (.iaload, 1) := dk_46 (dk_at dksX4_teller_7 10 rfl rfl)
theorem dX4_teller_176 : decode cX4_teller 176 = .ok (.ireturn, 1) := dk_172 (dk_at dksX4_teller_7 11 rfl rfl)
abbrev cX4_isTeller : ByteArray := prog_11_method_7_code
def yX4_isTeller : MethodName := ⟨RX4, "isTeller", "(I)Z"⟩
def dkwX4_isTeller_0 : List UInt8 := [26, 133, 9, 10, 184, 0, 45, 172]
abbrev dktX4_isTeller_0 : List UInt8 := dkwX4_isTeller_0 ++ []
theorem dksX4_isTeller_0 : cX4_isTeller.data.toList.drop 0 = dktX4_isTeller_0 := by decide +kernel
theorem dX4_isTeller_0 : decode cX4_isTeller 0 = .ok (.iload_n 0, 1) := dk_26 (dk_at dksX4_isTeller_0 0 rfl rfl)
theorem dX4_isTeller_1 : decode cX4_isTeller 1 = .ok (.i2l, 1) := dk_133 (dk_at dksX4_isTeller_0 1 rfl rfl)
theorem dX4_isTeller_2 : decode cX4_isTeller 2 = .ok (.lconst 0, 1) := dk_9 (dk_at dksX4_isTeller_0 2 rfl rfl)
theorem dX4_isTeller_3 : decode cX4_isTeller 3 = .ok (.lconst 1, 1) := dk_10 (dk_at dksX4_isTeller_0 3 rfl rfl)
theorem dX4_isTeller_4 : decode cX4_isTeller 4 = .ok (.invokestatic 45, 3) := dk_184 0 45 (dk_at dksX4_isTeller_0 4 rfl rfl)
theorem dX4_isTeller_7 : decode cX4_isTeller 7 = .ok (.ireturn, 1) := dk_172 (dk_at dksX4_isTeller_0 7 rfl rfl)
abbrev cX4_isForbidden : ByteArray := prog_11_method_10_code
def yX4_isForbidden : MethodName := ⟨RX4, "isForbidden", "([III)Z"⟩
def dkwX4_isForbidden_1 : List UInt8 := [28, 160, 0, 5, 4, 172, 132, 3, 1, 167, 255, 225, 3, 172]
abbrev dktX4_isForbidden_1 : List UInt8 := dkwX4_isForbidden_1 ++ []
def dkwX4_isForbidden_0 : List UInt8 := [3, 62, 29, 42, 27, 184, 0, 51, 5, 96, 46, 162, 0, 25, 42, 27, 184, 0, 51, 6, 96, 29, 96, 46]
abbrev dktX4_isForbidden_0 : List UInt8 := dkwX4_isForbidden_0 ++ dktX4_isForbidden_1
theorem dksX4_isForbidden_0 : cX4_isForbidden.data.toList.drop 0 = dktX4_isForbidden_0 := by decide +kernel
theorem dksX4_isForbidden_1 : cX4_isForbidden.data.toList.drop 24 = dktX4_isForbidden_1 := dk_seg dksX4_isForbidden_0 24 rfl rfl
theorem dX4_isForbidden_0 : decode cX4_isForbidden 0 = .ok (.iconst 0, 1) := dk_3 (dk_at dksX4_isForbidden_0 0 rfl rfl)
theorem dX4_isForbidden_1 : decode cX4_isForbidden 1 = .ok (.istore_n 3, 1) := dk_62 (dk_at dksX4_isForbidden_0 1 rfl rfl)
theorem dX4_isForbidden_2 : decode cX4_isForbidden 2 = .ok (.iload_n 3, 1) := dk_29 (dk_at dksX4_isForbidden_0 2 rfl rfl)
theorem dX4_isForbidden_3 : decode cX4_isForbidden 3 = .ok (.aload_n 0, 1) := dk_42 (dk_at dksX4_isForbidden_0 3 rfl rfl)
theorem dX4_isForbidden_4 : decode cX4_isForbidden 4 = .ok (.iload_n 1, 1) := dk_27 (dk_at dksX4_isForbidden_0 4 rfl rfl)
theorem dX4_isForbidden_5 : decode cX4_isForbidden 5 = .ok (.invokestatic 51, 3) := dk_184 0 51 (dk_at dksX4_isForbidden_0 5 rfl rfl)
theorem dX4_isForbidden_8 : decode cX4_isForbidden 8 = .ok (.iconst 2, 1) := dk_5 (dk_at dksX4_isForbidden_0 8 rfl rfl)
theorem dX4_isForbidden_9 : decode cX4_isForbidden 9 = .ok (.iadd, 1) := dk_96 (dk_at dksX4_isForbidden_0 9 rfl rfl)
theorem dX4_isForbidden_10 : decode cX4_isForbidden 10 = .ok (.iaload, 1) := dk_46 (dk_at dksX4_isForbidden_0 10 rfl rfl)
theorem dX4_isForbidden_11 : decode cX4_isForbidden 11 = .ok (.if_icmp .ge 25, 3) := dk_162 0 25 (dk_at dksX4_isForbidden_0 11 rfl rfl)
theorem dX4_isForbidden_14 : decode cX4_isForbidden 14 = .ok (.aload_n 0, 1) := dk_42 (dk_at dksX4_isForbidden_0 14 rfl rfl)
theorem dX4_isForbidden_15 : decode cX4_isForbidden 15 = .ok (.iload_n 1, 1) := dk_27 (dk_at dksX4_isForbidden_0 15 rfl rfl)
theorem dX4_isForbidden_16 : decode cX4_isForbidden 16 = .ok (.invokestatic 51, 3) := dk_184 0 51 (dk_at dksX4_isForbidden_0 16 rfl rfl)
theorem dX4_isForbidden_19 : decode cX4_isForbidden 19 = .ok (.iconst 3, 1) := dk_6 (dk_at dksX4_isForbidden_0 19 rfl rfl)
theorem dX4_isForbidden_20 : decode cX4_isForbidden 20 = .ok (.iadd, 1) := dk_96 (dk_at dksX4_isForbidden_0 20 rfl rfl)
theorem dX4_isForbidden_21 : decode cX4_isForbidden 21 = .ok (.iload_n 3, 1) := dk_29 (dk_at dksX4_isForbidden_0 21 rfl rfl)
theorem dX4_isForbidden_22 : decode cX4_isForbidden 22 = .ok (.iadd, 1) := dk_96 (dk_at dksX4_isForbidden_0 22 rfl rfl)
theorem dX4_isForbidden_23 : decode cX4_isForbidden 23 = .ok (.iaload, 1) := dk_46 (dk_at dksX4_isForbidden_0 23 rfl rfl)
theorem dX4_isForbidden_24 : decode cX4_isForbidden 24 = .ok (.iload_n 2, 1) := dk_28 (dk_at dksX4_isForbidden_1 0 rfl rfl)
theorem dX4_isForbidden_25 : decode cX4_isForbidden 25 = .ok (.if_icmp .ne 5, 3) := dk_160 0 5 (dk_at dksX4_isForbidden_1 1 rfl rfl)
theorem dX4_isForbidden_28 : decode cX4_isForbidden 28 = .ok (.iconst 1, 1) := dk_4 (dk_at dksX4_isForbidden_1 4 rfl rfl)
theorem dX4_isForbidden_29 : decode cX4_isForbidden 29 = .ok (.ireturn, 1) := dk_172 (dk_at dksX4_isForbidden_1 5 rfl rfl)
theorem dX4_isForbidden_30 : decode cX4_isForbidden 30 = .ok (.iinc 3 1, 3) := dk_132 3 1 (dk_at dksX4_isForbidden_1 6 rfl rfl)
theorem dX4_isForbidden_33 : decode cX4_isForbidden 33 = .ok (.goto (-31), 3) := dk_167 255 225 (dk_at dksX4_isForbidden_1 9 rfl rfl)
theorem dX4_isForbidden_36 : decode cX4_isForbidden 36 = .ok (.iconst 0, 1) := dk_3 (dk_at dksX4_isForbidden_1 12 rfl rfl)
theorem dX4_isForbidden_37 : decode cX4_isForbidden 37 = .ok (.ireturn, 1) := dk_172 (dk_at dksX4_isForbidden_1 13 rfl rfl)
abbrev cX4_at : ByteArray := prog_11_method_6_code
def yX4_at : MethodName := ⟨RX4, "at", "(I)I"⟩
def dkwX4_at_0 : List UInt8 := [16, 23, 16, 15, 26, 104, 96, 172]
abbrev dktX4_at_0 : List UInt8 := dkwX4_at_0 ++ []
theorem dksX4_at_0 : cX4_at.data.toList.drop 0 = dktX4_at_0 := by decide +kernel
theorem dX4_at_0 : decode cX4_at 0 = .ok (.bipush 23, 2) := dk_16 23 (dk_at dksX4_at_0 0 rfl rfl)
theorem dX4_at_2 : decode cX4_at 2 = .ok (.bipush 15, 2) := dk_16 15 (dk_at dksX4_at_0 2 rfl rfl)
theorem dX4_at_4 : decode cX4_at 4 = .ok (.iload_n 0, 1) := dk_26 (dk_at dksX4_at_0 4 rfl rfl)
theorem dX4_at_5 : decode cX4_at 5 = .ok (.imul, 1) := dk_104 (dk_at dksX4_at_0 5 rfl rfl)
theorem dX4_at_6 : decode cX4_at 6 = .ok (.iadd, 1) := dk_96 (dk_at dksX4_at_0 6 rfl rfl)
theorem dX4_at_7 : decode cX4_at 7 = .ok (.ireturn, 1) := dk_172 (dk_at dksX4_at_0 7 rfl rfl)
abbrev cX4_wasTold : ByteArray := prog_11_method_11_code
def yX4_wasTold : MethodName := ⟨RX4, "wasTold", "([III)Z"⟩
def dkwX4_wasTold_1 : List UInt8 := [96, 46, 28, 160, 0, 5, 4, 172, 132, 3, 1, 167, 255, 223, 3, 172]
abbrev dktX4_wasTold_1 : List UInt8 := dkwX4_wasTold_1 ++ []
def dkwX4_wasTold_0 : List UInt8 := [3, 62, 29, 42, 27, 184, 0, 51, 16, 9, 96, 46, 162, 0, 26, 42, 27, 184, 0, 51, 16, 10, 96, 29]
abbrev dktX4_wasTold_0 : List UInt8 := dkwX4_wasTold_0 ++ dktX4_wasTold_1
theorem dksX4_wasTold_0 : cX4_wasTold.data.toList.drop 0 = dktX4_wasTold_0 := by decide +kernel
theorem dksX4_wasTold_1 : cX4_wasTold.data.toList.drop 24 = dktX4_wasTold_1 := dk_seg dksX4_wasTold_0 24 rfl rfl
theorem dX4_wasTold_0 : decode cX4_wasTold 0 = .ok (.iconst 0, 1) := dk_3 (dk_at dksX4_wasTold_0 0 rfl rfl)
theorem dX4_wasTold_1 : decode cX4_wasTold 1 = .ok (.istore_n 3, 1) := dk_62 (dk_at dksX4_wasTold_0 1 rfl rfl)
theorem dX4_wasTold_2 : decode cX4_wasTold 2 = .ok (.iload_n 3, 1) := dk_29 (dk_at dksX4_wasTold_0 2 rfl rfl)
theorem dX4_wasTold_3 : decode cX4_wasTold 3 = .ok (.aload_n 0, 1) := dk_42 (dk_at dksX4_wasTold_0 3 rfl rfl)
theorem dX4_wasTold_4 : decode cX4_wasTold 4 = .ok (.iload_n 1, 1) := dk_27 (dk_at dksX4_wasTold_0 4 rfl rfl)
theorem dX4_wasTold_5 : decode cX4_wasTold 5 = .ok (.invokestatic 51, 3) := dk_184 0 51 (dk_at dksX4_wasTold_0 5 rfl rfl)
theorem dX4_wasTold_8 : decode cX4_wasTold 8 = .ok (.bipush 9, 2) := dk_16 9 (dk_at dksX4_wasTold_0 8 rfl rfl)
theorem dX4_wasTold_10 : decode cX4_wasTold 10 = .ok (.iadd, 1) := dk_96 (dk_at dksX4_wasTold_0 10 rfl rfl)
theorem dX4_wasTold_11 : decode cX4_wasTold 11 = .ok (.iaload, 1) := dk_46 (dk_at dksX4_wasTold_0 11 rfl rfl)
theorem dX4_wasTold_12 : decode cX4_wasTold 12 = .ok (.if_icmp .ge 26, 3) := dk_162 0 26 (dk_at dksX4_wasTold_0 12 rfl rfl)
theorem dX4_wasTold_15 : decode cX4_wasTold 15 = .ok (.aload_n 0, 1) := dk_42 (dk_at dksX4_wasTold_0 15 rfl rfl)
theorem dX4_wasTold_16 : decode cX4_wasTold 16 = .ok (.iload_n 1, 1) := dk_27 (dk_at dksX4_wasTold_0 16 rfl rfl)
theorem dX4_wasTold_17 : decode cX4_wasTold 17 = .ok (.invokestatic 51, 3) := dk_184 0 51 (dk_at dksX4_wasTold_0 17 rfl rfl)
theorem dX4_wasTold_20 : decode cX4_wasTold 20 = .ok (.bipush 10, 2) := dk_16 10 (dk_at dksX4_wasTold_0 20 rfl rfl)
theorem dX4_wasTold_22 : decode cX4_wasTold 22 = .ok (.iadd, 1) := dk_96 (dk_at dksX4_wasTold_0 22 rfl rfl)
theorem dX4_wasTold_23 : decode cX4_wasTold 23 = .ok (.iload_n 3, 1) := dk_29 (dk_at dksX4_wasTold_0 23 rfl rfl)
theorem dX4_wasTold_24 : decode cX4_wasTold 24 = .ok (.iadd, 1) := dk_96 (dk_at dksX4_wasTold_1 0 rfl rfl)
theorem dX4_wasTold_25 : decode cX4_wasTold 25 = .ok (.iaload, 1) := dk_46 (dk_at dksX4_wasTold_1 1 rfl rfl)
theorem dX4_wasTold_26 : decode cX4_wasTold 26 = .ok (.iload_n 2, 1) := dk_28 (dk_at dksX4_wasTold_1 2 rfl rfl)
theorem dX4_wasTold_27 : decode cX4_wasTold 27 = .ok (.if_icmp .ne 5, 3) := dk_160 0 5 (dk_at dksX4_wasTold_1 3 rfl rfl)
theorem dX4_wasTold_30 : decode cX4_wasTold 30 = .ok (.iconst 1, 1) := dk_4 (dk_at dksX4_wasTold_1 6 rfl rfl)
theorem dX4_wasTold_31 : decode cX4_wasTold 31 = .ok (.ireturn, 1) := dk_172 (dk_at dksX4_wasTold_1 7 rfl rfl)
theorem dX4_wasTold_32 : decode cX4_wasTold 32 = .ok (.iinc 3 1, 3) := dk_132 3 1 (dk_at dksX4_wasTold_1 8 rfl rfl)
theorem dX4_wasTold_35 : decode cX4_wasTold 35 = .ok (.goto (-33), 3) := dk_167 255 223 (dk_at dksX4_wasTold_1 11 rfl rfl)
theorem dX4_wasTold_38 : decode cX4_wasTold 38 = .ok (.iconst 0, 1) := dk_3 (dk_at dksX4_wasTold_1 14 rfl rfl)
theorem dX4_wasTold_39 : decode cX4_wasTold 39 = .ok (.ireturn, 1) := dk_172 (dk_at dksX4_wasTold_1 15 rfl rfl)
abbrev cX4_forbidden : ByteArray := prog_11_method_39_code
def yX4_forbidden : MethodName := ⟨RX4, "forbidden", "(II)I"⟩
def dkwX4_forbidden_2 : List UInt8 := [27, 184, 0, 51, 6, 96, 28, 96, 46, 167, 0, 4, 2, 172]
abbrev dktX4_forbidden_2 : List UInt8 := dkwX4_forbidden_2 ++ []
def dkwX4_forbidden_1 : List UInt8 := [153, 0, 5, 3, 172, 28, 42, 180, 0, 13, 27, 184, 0, 51, 5, 96, 46, 162, 0, 19, 42, 180, 0, 13]
abbrev dktX4_forbidden_1 : List UInt8 := dkwX4_forbidden_1 ++ dktX4_forbidden_2
def dkwX4_forbidden_0 : List UInt8 := [42, 27, 184, 0, 172, 154, 0, 7, 4, 167, 0, 12, 28, 155, 0, 7, 3, 167, 0, 4, 5, 182, 0, 161]
abbrev dktX4_forbidden_0 : List UInt8 := dkwX4_forbidden_0 ++ dktX4_forbidden_1
theorem dksX4_forbidden_0 : cX4_forbidden.data.toList.drop 0 = dktX4_forbidden_0 := by decide +kernel
theorem dksX4_forbidden_1 : cX4_forbidden.data.toList.drop 24 = dktX4_forbidden_1 := dk_seg dksX4_forbidden_0 24 rfl rfl
theorem dksX4_forbidden_2 : cX4_forbidden.data.toList.drop 48 = dktX4_forbidden_2 := dk_seg dksX4_forbidden_1 24 rfl rfl
theorem dX4_forbidden_0 : decode cX4_forbidden 0 = .ok (.aload_n 0, 1) := dk_42 (dk_at dksX4_forbidden_0 0 rfl rfl)
theorem dX4_forbidden_1 : decode cX4_forbidden 1 = .ok (.iload_n 1, 1) := dk_27 (dk_at dksX4_forbidden_0 1 rfl rfl)
theorem dX4_forbidden_2 : decode cX4_forbidden 2 = .ok (.invokestatic 172, 3) := dk_184 0 172 (dk_at dksX4_forbidden_0 2 rfl rfl)
theorem dX4_forbidden_5 : decode cX4_forbidden 5 = .ok (.ifCond .ne 7, 3) := dk_154 0 7 (dk_at dksX4_forbidden_0 5 rfl rfl)
theorem dX4_forbidden_8 : decode cX4_forbidden 8 = .ok (.iconst 1, 1) := dk_4 (dk_at dksX4_forbidden_0 8 rfl rfl)
theorem dX4_forbidden_9 : decode cX4_forbidden 9 = .ok (.goto 12, 3) := dk_167 0 12 (dk_at dksX4_forbidden_0 9 rfl rfl)
theorem dX4_forbidden_12 : decode cX4_forbidden 12 = .ok (.iload_n 2, 1) := dk_28 (dk_at dksX4_forbidden_0 12 rfl rfl)
theorem dX4_forbidden_13 : decode cX4_forbidden 13 = .ok (.ifCond .lt 7, 3) := dk_155 0 7 (dk_at dksX4_forbidden_0 13 rfl rfl)
theorem dX4_forbidden_16 : decode cX4_forbidden 16 = .ok (.iconst 0, 1) := dk_3 (dk_at dksX4_forbidden_0 16 rfl rfl)
theorem dX4_forbidden_17 : decode cX4_forbidden 17 = .ok (.goto 4, 3) := dk_167 0 4 (dk_at dksX4_forbidden_0 17 rfl rfl)
theorem dX4_forbidden_20 : decode cX4_forbidden 20 = .ok (.iconst 2, 1) := dk_5 (dk_at dksX4_forbidden_0 20 rfl rfl)
theorem dX4_forbidden_21 : decode cX4_forbidden 21 = .ok (.invokevirtual 161, 3) := dk_182 0 161 (dk_at dksX4_forbidden_0 21 rfl rfl)
theorem dX4_forbidden_24 : decode cX4_forbidden 24 = .ok (.ifCond .eq 5, 3) := dk_153 0 5 (dk_at dksX4_forbidden_1 0 rfl rfl)
theorem dX4_forbidden_27 : decode cX4_forbidden 27 = .ok (.iconst 0, 1) := dk_3 (dk_at dksX4_forbidden_1 3 rfl rfl)
theorem dX4_forbidden_28 : decode cX4_forbidden 28 = .ok (.ireturn, 1) := dk_172 (dk_at dksX4_forbidden_1 4 rfl rfl)
theorem dX4_forbidden_29 : decode cX4_forbidden 29 = .ok (.iload_n 2, 1) := dk_28 (dk_at dksX4_forbidden_1 5 rfl rfl)
theorem dX4_forbidden_30 : decode cX4_forbidden 30 = .ok (.aload_n 0, 1) := dk_42 (dk_at dksX4_forbidden_1 6 rfl rfl)
theorem dX4_forbidden_31 : decode cX4_forbidden 31 = .ok (.getfield 13, 3) := dk_180 0 13 (dk_at dksX4_forbidden_1 7 rfl rfl)
theorem dX4_forbidden_34 : decode cX4_forbidden 34 = .ok (.iload_n 1, 1) := dk_27 (dk_at dksX4_forbidden_1 10 rfl rfl)
theorem dX4_forbidden_35 : decode cX4_forbidden 35 = .ok (.invokestatic 51, 3) := dk_184 0 51 (dk_at dksX4_forbidden_1 11 rfl rfl)
theorem dX4_forbidden_38 : decode cX4_forbidden 38 = .ok (.iconst 2, 1) := dk_5 (dk_at dksX4_forbidden_1 14 rfl rfl)
theorem dX4_forbidden_39 : decode cX4_forbidden 39 = .ok (.iadd, 1) := dk_96 (dk_at dksX4_forbidden_1 15 rfl rfl)
theorem dX4_forbidden_40 : decode cX4_forbidden 40 = .ok (.iaload, 1) := dk_46 (dk_at dksX4_forbidden_1 16 rfl rfl)
theorem dX4_forbidden_41 : decode cX4_forbidden 41 = .ok (.if_icmp .ge 19, 3) := dk_162 0 19 (dk_at dksX4_forbidden_1 17 rfl rfl)
theorem dX4_forbidden_44 : decode cX4_forbidden 44 = .ok (.aload_n 0, 1) := dk_42 (dk_at dksX4_forbidden_1 20 rfl rfl)
theorem dX4_forbidden_45 : decode cX4_forbidden 45 = .ok (.getfield 13, 3) := dk_180 0 13 (dk_at dksX4_forbidden_1 21 rfl rfl)
theorem dX4_forbidden_48 : decode cX4_forbidden 48 = .ok (.iload_n 1, 1) := dk_27 (dk_at dksX4_forbidden_2 0 rfl rfl)
theorem dX4_forbidden_49 : decode cX4_forbidden 49 = .ok (.invokestatic 51, 3) := dk_184 0 51 (dk_at dksX4_forbidden_2 1 rfl rfl)
theorem dX4_forbidden_52 : decode cX4_forbidden 52 = .ok (.iconst 3, 1) := dk_6 (dk_at dksX4_forbidden_2 4 rfl rfl)
theorem dX4_forbidden_53 : decode cX4_forbidden 53 = .ok (.iadd, 1) := dk_96 (dk_at dksX4_forbidden_2 5 rfl rfl)
theorem dX4_forbidden_54 : decode cX4_forbidden 54 = .ok (.iload_n 2, 1) := dk_28 (dk_at dksX4_forbidden_2 6 rfl rfl)
theorem dX4_forbidden_55 : decode cX4_forbidden 55 = .ok (.iadd, 1) := dk_96 (dk_at dksX4_forbidden_2 7 rfl rfl)
theorem dX4_forbidden_56 : decode cX4_forbidden 56 = .ok (.iaload, 1) := dk_46 (dk_at dksX4_forbidden_2 8 rfl rfl)
theorem dX4_forbidden_57 : decode cX4_forbidden 57 = .ok (.goto 4, 3) := dk_167 0 4 (dk_at dksX4_forbidden_2 9 rfl rfl)
theorem dX4_forbidden_60 : decode cX4_forbidden 60 = .ok (.iconst (-1), 1) := dk_2 (dk_at dksX4_forbidden_2 12 rfl rfl)
theorem dX4_forbidden_61 : decode cX4_forbidden 61 = .ok (.ireturn, 1) := dk_172 (dk_at dksX4_forbidden_2 13 rfl rfl)
abbrev cX4_listener : ByteArray := prog_11_method_40_code
def yX4_listener : MethodName := ⟨RX4, "listener", "(II)I"⟩
def dkwX4_listener_4 : List UInt8 := [180, 0, 13, 16, 20, 27, 96, 46, 172]
abbrev dktX4_listener_4 : List UInt8 := dkwX4_listener_4 ++ []
def dkwX4_listener_3 : List UInt8 := [46, 167, 0, 29, 28, 5, 160, 0, 15, 42, 180, 0, 13, 16, 17, 27, 96, 46, 167, 0, 12, 42]
abbrev dktX4_listener_3 : List UInt8 := dkwX4_listener_3 ++ dktX4_listener_4
def dkwX4_listener_2 : List UInt8 := [180, 0, 13, 16, 11, 27, 96, 46, 167, 0, 46, 28, 4, 160, 0, 15, 42, 180, 0, 13, 16, 14, 27, 96]
abbrev dktX4_listener_2 : List UInt8 := dkwX4_listener_2 ++ dktX4_listener_3
def dkwX4_listener_1 : List UInt8 := [184, 0, 45, 153, 0, 7, 3, 167, 0, 4, 5, 182, 0, 161, 153, 0, 5, 3, 172, 28, 154, 0, 15, 42]
abbrev dktX4_listener_1 : List UInt8 := dkwX4_listener_1 ++ dktX4_listener_2
def dkwX4_listener_0 : List UInt8 := [42, 27, 133, 9, 20, 0, 177, 184, 0, 45, 154, 0, 7, 4, 167, 0, 20, 28, 133, 9, 20, 0, 146]
abbrev dktX4_listener_0 : List UInt8 := dkwX4_listener_0 ++ dktX4_listener_1
theorem dksX4_listener_0 : cX4_listener.data.toList.drop 0 = dktX4_listener_0 := by decide +kernel
theorem dksX4_listener_1 : cX4_listener.data.toList.drop 23 = dktX4_listener_1 := dk_seg dksX4_listener_0 23 rfl rfl
theorem dksX4_listener_2 : cX4_listener.data.toList.drop 47 = dktX4_listener_2 := dk_seg dksX4_listener_1 24 rfl rfl
theorem dksX4_listener_3 : cX4_listener.data.toList.drop 71 = dktX4_listener_3 := dk_seg dksX4_listener_2 24 rfl rfl
theorem dksX4_listener_4 : cX4_listener.data.toList.drop 93 = dktX4_listener_4 := dk_seg dksX4_listener_3 22 rfl rfl
theorem dX4_listener_0 : decode cX4_listener 0 = .ok (.aload_n 0, 1) := dk_42 (dk_at dksX4_listener_0 0 rfl rfl)
theorem dX4_listener_1 : decode cX4_listener 1 = .ok (.iload_n 1, 1) := dk_27 (dk_at dksX4_listener_0 1 rfl rfl)
theorem dX4_listener_2 : decode cX4_listener 2 = .ok (.i2l, 1) := dk_133 (dk_at dksX4_listener_0 2 rfl rfl)
theorem dX4_listener_3 : decode cX4_listener 3 = .ok (.lconst 0, 1) := dk_9 (dk_at dksX4_listener_0 3 rfl rfl)
theorem dX4_listener_4 : decode cX4_listener 4 = .ok (.ldc2_w 177, 3) := dk_20 0 177 (dk_at dksX4_listener_0 4 rfl rfl)
theorem dX4_listener_7 : decode cX4_listener 7 = .ok (.invokestatic 45, 3) := dk_184 0 45 (dk_at dksX4_listener_0 7 rfl rfl)
theorem dX4_listener_10 : decode cX4_listener 10 = .ok (.ifCond .ne 7, 3) := dk_154 0 7 (dk_at dksX4_listener_0 10 rfl rfl)
theorem dX4_listener_13 : decode cX4_listener 13 = .ok (.iconst 1, 1) := dk_4 (dk_at dksX4_listener_0 13 rfl rfl)
theorem dX4_listener_14 : decode cX4_listener 14 = .ok (.goto 20, 3) := dk_167 0 20 (dk_at dksX4_listener_0 14 rfl rfl)
theorem dX4_listener_17 : decode cX4_listener 17 = .ok (.iload_n 2, 1) := dk_28 (dk_at dksX4_listener_0 17 rfl rfl)
theorem dX4_listener_18 : decode cX4_listener 18 = .ok (.i2l, 1) := dk_133 (dk_at dksX4_listener_0 18 rfl rfl)
theorem dX4_listener_19 : decode cX4_listener 19 = .ok (.lconst 0, 1) := dk_9 (dk_at dksX4_listener_0 19 rfl rfl)
theorem dX4_listener_20 : decode cX4_listener 20 = .ok (.ldc2_w 146, 3) := dk_20 0 146 (dk_at dksX4_listener_0 20 rfl rfl)
theorem dX4_listener_23 : decode cX4_listener 23 = .ok (.invokestatic 45, 3) := dk_184 0 45 (dk_at dksX4_listener_1 0 rfl rfl)
theorem dX4_listener_26 : decode cX4_listener 26 = .ok (.ifCond .eq 7, 3) := dk_153 0 7 (dk_at dksX4_listener_1 3 rfl rfl)
theorem dX4_listener_29 : decode cX4_listener 29 = .ok (.iconst 0, 1) := dk_3 (dk_at dksX4_listener_1 6 rfl rfl)
theorem dX4_listener_30 : decode cX4_listener 30 = .ok (.goto 4, 3) := dk_167 0 4 (dk_at dksX4_listener_1 7 rfl rfl)
theorem dX4_listener_33 : decode cX4_listener 33 = .ok (.iconst 2, 1) := dk_5 (dk_at dksX4_listener_1 10 rfl rfl)
theorem dX4_listener_34 : decode cX4_listener 34 = .ok (.invokevirtual 161, 3) := dk_182 0 161 (dk_at dksX4_listener_1 11 rfl rfl)
theorem dX4_listener_37 : decode cX4_listener 37 = .ok (.ifCond .eq 5, 3) := dk_153 0 5 (dk_at dksX4_listener_1 14 rfl rfl)
theorem dX4_listener_40 : decode cX4_listener 40 = .ok (.iconst 0, 1) := dk_3 (dk_at dksX4_listener_1 17 rfl rfl)
theorem dX4_listener_41 : decode cX4_listener 41 = .ok (.ireturn, 1) := dk_172 (dk_at dksX4_listener_1 18 rfl rfl)
theorem dX4_listener_42 : decode cX4_listener 42 = .ok (.iload_n 2, 1) := dk_28 (dk_at dksX4_listener_1 19 rfl rfl)
theorem dX4_listener_43 : decode cX4_listener 43 = .ok (.ifCond .ne 15, 3) := dk_154 0 15 (dk_at dksX4_listener_1 20 rfl rfl)
theorem dX4_listener_46 : decode cX4_listener 46 = .ok (.aload_n 0, 1) := dk_42 (dk_at dksX4_listener_1 23 rfl rfl)
theorem dX4_listener_47 : decode cX4_listener 47 = .ok (.getfield 13, 3) := dk_180 0 13 (dk_at dksX4_listener_2 0 rfl rfl)
theorem dX4_listener_50 : decode cX4_listener 50 = .ok (.bipush 11, 2) := dk_16 11 (dk_at dksX4_listener_2 3 rfl rfl)
theorem dX4_listener_52 : decode cX4_listener 52 = .ok (.iload_n 1, 1) := dk_27 (dk_at dksX4_listener_2 5 rfl rfl)
theorem dX4_listener_53 : decode cX4_listener 53 = .ok (.iadd, 1) := dk_96 (dk_at dksX4_listener_2 6 rfl rfl)
theorem dX4_listener_54 : decode cX4_listener 54 = .ok (.iaload, 1) := dk_46 (dk_at dksX4_listener_2 7 rfl rfl)
theorem dX4_listener_55 : decode cX4_listener 55 = .ok (.goto 46, 3) := dk_167 0 46 (dk_at dksX4_listener_2 8 rfl rfl)
theorem dX4_listener_58 : decode cX4_listener 58 = .ok (.iload_n 2, 1) := dk_28 (dk_at dksX4_listener_2 11 rfl rfl)
theorem dX4_listener_59 : decode cX4_listener 59 = .ok (.iconst 1, 1) := dk_4 (dk_at dksX4_listener_2 12 rfl rfl)
theorem dX4_listener_60 : decode cX4_listener 60 = .ok (.if_icmp .ne 15, 3) := dk_160 0 15 (dk_at dksX4_listener_2 13 rfl rfl)
theorem dX4_listener_63 : decode cX4_listener 63 = .ok (.aload_n 0, 1) := dk_42 (dk_at dksX4_listener_2 16 rfl rfl)
theorem dX4_listener_64 : decode cX4_listener 64 = .ok (.getfield 13, 3) := dk_180 0 13 (dk_at dksX4_listener_2 17 rfl rfl)
theorem dX4_listener_67 : decode cX4_listener 67 = .ok (.bipush 14, 2) := dk_16 14 (dk_at dksX4_listener_2 20 rfl rfl)
theorem dX4_listener_69 : decode cX4_listener 69 = .ok (.iload_n 1, 1) := dk_27 (dk_at dksX4_listener_2 22 rfl rfl)
theorem dX4_listener_70 : decode cX4_listener 70 = .ok (.iadd, 1) := dk_96 (dk_at dksX4_listener_2 23 rfl rfl)
theorem dX4_listener_71 : decode cX4_listener 71 = .ok (.iaload, 1) := dk_46 (dk_at dksX4_listener_3 0 rfl rfl)
theorem dX4_listener_72 : decode cX4_listener 72 = .ok (.goto 29, 3) := dk_167 0 29 (dk_at dksX4_listener_3 1 rfl rfl)
theorem dX4_listener_75 : decode cX4_listener 75 = .ok (.iload_n 2, 1) := dk_28 (dk_at dksX4_listener_3 4 rfl rfl)
theorem dX4_listener_76 : decode cX4_listener 76 = .ok (.iconst 2, 1) := dk_5 (dk_at dksX4_listener_3 5 rfl rfl)
theorem dX4_listener_77 : decode cX4_listener 77 = .ok (.if_icmp .ne 15, 3) := dk_160 0 15 (dk_at dksX4_listener_3 6 rfl rfl)
theorem dX4_listener_80 : decode cX4_listener 80 = .ok (.aload_n 0, 1) := dk_42 (dk_at dksX4_listener_3 9 rfl rfl)
theorem dX4_listener_81 : decode cX4_listener 81 = .ok (.getfield 13, 3) := dk_180 0 13 (dk_at dksX4_listener_3 10 rfl rfl)
theorem dX4_listener_84 : decode cX4_listener 84 = .ok (.bipush 17, 2) := dk_16 17 (dk_at dksX4_listener_3 13 rfl rfl)
theorem dX4_listener_86 : decode cX4_listener 86 = .ok (.iload_n 1, 1) := dk_27 (dk_at dksX4_listener_3 15 rfl rfl)
theorem dX4_listener_87 : decode cX4_listener 87 = .ok (.iadd, 1) := dk_96 (dk_at dksX4_listener_3 16 rfl rfl)
theorem dX4_listener_88 : decode cX4_listener 88 = .ok (.iaload, 1) := dk_46 (dk_at dksX4_listener_3 17 rfl rfl)
theorem dX4_listener_89 : decode cX4_listener 89 = .ok (.goto 12, 3) := dk_167 0 12 (dk_at dksX4_listener_3 18 rfl rfl)
theorem dX4_listener_92 : decode cX4_listener 92 = .ok (.aload_n 0, 1) := dk_42 (dk_at dksX4_listener_3 21 rfl rfl)
theorem dX4_listener_93 : decode cX4_listener 93 = .ok (.getfield 13, 3) := dk_180 0 13 (dk_at dksX4_listener_4 0 rfl rfl)
theorem dX4_listener_96 : decode cX4_listener 96 = .ok (.bipush 20, 2) := dk_16 20 (dk_at dksX4_listener_4 3 rfl rfl)
theorem dX4_listener_98 : decode cX4_listener 98 = .ok (.iload_n 1, 1) := dk_27 (dk_at dksX4_listener_4 5 rfl rfl)
theorem dX4_listener_99 : decode cX4_listener 99 = .ok (.iadd, 1) := dk_96 (dk_at dksX4_listener_4 6 rfl rfl)
theorem dX4_listener_100 : decode cX4_listener 100 = .ok (.iaload, 1) := dk_46 (dk_at dksX4_listener_4 7 rfl rfl)
theorem dX4_listener_101 : decode cX4_listener 101 = .ok (.ireturn, 1) := dk_172 (dk_at dksX4_listener_4 8 rfl rfl)
abbrev cX4_told : ByteArray := prog_11_method_41_code
def yX4_told : MethodName := ⟨RX4, "told", "(II)I"⟩
def dkwX4_told_1 : List UInt8 := [180, 0, 13, 27, 28, 184, 0, 55, 172]
abbrev dktX4_told_1 : List UInt8 := dkwX4_told_1 ++ []
def dkwX4_told_0 : List UInt8 := [42, 27, 155, 0, 11, 28, 155, 0, 7, 3, 167, 0, 4, 4, 182, 0, 161, 153, 0, 5, 3, 172, 42]
abbrev dktX4_told_0 : List UInt8 := dkwX4_told_0 ++ dktX4_told_1
theorem dksX4_told_0 : cX4_told.data.toList.drop 0 = dktX4_told_0 := by decide +kernel
theorem dksX4_told_1 : cX4_told.data.toList.drop 23 = dktX4_told_1 := dk_seg dksX4_told_0 23 rfl rfl
theorem dX4_told_0 : decode cX4_told 0 = .ok (.aload_n 0, 1) := dk_42 (dk_at dksX4_told_0 0 rfl rfl)
theorem dX4_told_1 : decode cX4_told 1 = .ok (.iload_n 1, 1) := dk_27 (dk_at dksX4_told_0 1 rfl rfl)
theorem dX4_told_2 : decode cX4_told 2 = .ok (.ifCond .lt 11, 3) := dk_155 0 11 (dk_at dksX4_told_0 2 rfl rfl)
theorem dX4_told_5 : decode cX4_told 5 = .ok (.iload_n 2, 1) := dk_28 (dk_at dksX4_told_0 5 rfl rfl)
theorem dX4_told_6 : decode cX4_told 6 = .ok (.ifCond .lt 7, 3) := dk_155 0 7 (dk_at dksX4_told_0 6 rfl rfl)
theorem dX4_told_9 : decode cX4_told 9 = .ok (.iconst 0, 1) := dk_3 (dk_at dksX4_told_0 9 rfl rfl)
theorem dX4_told_10 : decode cX4_told 10 = .ok (.goto 4, 3) := dk_167 0 4 (dk_at dksX4_told_0 10 rfl rfl)
theorem dX4_told_13 : decode cX4_told 13 = .ok (.iconst 1, 1) := dk_4 (dk_at dksX4_told_0 13 rfl rfl)
theorem dX4_told_14 : decode cX4_told 14 = .ok (.invokevirtual 161, 3) := dk_182 0 161 (dk_at dksX4_told_0 14 rfl rfl)
theorem dX4_told_17 : decode cX4_told 17 = .ok (.ifCond .eq 5, 3) := dk_153 0 5 (dk_at dksX4_told_0 17 rfl rfl)
theorem dX4_told_20 : decode cX4_told 20 = .ok (.iconst 0, 1) := dk_3 (dk_at dksX4_told_0 20 rfl rfl)
theorem dX4_told_21 : decode cX4_told 21 = .ok (.ireturn, 1) := dk_172 (dk_at dksX4_told_0 21 rfl rfl)
theorem dX4_told_22 : decode cX4_told 22 = .ok (.aload_n 0, 1) := dk_42 (dk_at dksX4_told_0 22 rfl rfl)
theorem dX4_told_23 : decode cX4_told 23 = .ok (.getfield 13, 3) := dk_180 0 13 (dk_at dksX4_told_1 0 rfl rfl)
theorem dX4_told_26 : decode cX4_told 26 = .ok (.iload_n 1, 1) := dk_27 (dk_at dksX4_told_1 3 rfl rfl)
theorem dX4_told_27 : decode cX4_told 27 = .ok (.iload_n 2, 1) := dk_28 (dk_at dksX4_told_1 4 rfl rfl)
theorem dX4_told_28 : decode cX4_told 28 = .ok (.invokestatic 55, 3) := dk_184 0 55 (dk_at dksX4_told_1 5 rfl rfl)
theorem dX4_told_31 : decode cX4_told 31 = .ok (.ireturn, 1) := dk_172 (dk_at dksX4_told_1 8 rfl rfl)
abbrev cX4_setting : ByteArray := prog_11_method_42_code
def yX4_setting : MethodName := ⟨RX4, "setting", "(I)I"⟩
def dkwX4_setting_1 : List UInt8 := [3, 172, 42, 180, 0, 13, 16, 7, 27, 96, 46, 172]
abbrev dktX4_setting_1 : List UInt8 := dkwX4_setting_1 ++ []
def dkwX4_setting_0 : List UInt8 := [42, 27, 133, 9, 20, 0, 146, 184, 0, 45, 153, 0, 7, 3, 167, 0, 4, 4, 182, 0, 161, 153, 0, 5]
abbrev dktX4_setting_0 : List UInt8 := dkwX4_setting_0 ++ dktX4_setting_1
theorem dksX4_setting_0 : cX4_setting.data.toList.drop 0 = dktX4_setting_0 := by decide +kernel
theorem dksX4_setting_1 : cX4_setting.data.toList.drop 24 = dktX4_setting_1 := dk_seg dksX4_setting_0 24 rfl rfl
theorem dX4_setting_0 : decode cX4_setting 0 = .ok (.aload_n 0, 1) := dk_42 (dk_at dksX4_setting_0 0 rfl rfl)
theorem dX4_setting_1 : decode cX4_setting 1 = .ok (.iload_n 1, 1) := dk_27 (dk_at dksX4_setting_0 1 rfl rfl)
theorem dX4_setting_2 : decode cX4_setting 2 = .ok (.i2l, 1) := dk_133 (dk_at dksX4_setting_0 2 rfl rfl)
theorem dX4_setting_3 : decode cX4_setting 3 = .ok (.lconst 0, 1) := dk_9 (dk_at dksX4_setting_0 3 rfl rfl)
theorem dX4_setting_4 : decode cX4_setting 4 = .ok (.ldc2_w 146, 3) := dk_20 0 146 (dk_at dksX4_setting_0 4 rfl rfl)
theorem dX4_setting_7 : decode cX4_setting 7 = .ok (.invokestatic 45, 3) := dk_184 0 45 (dk_at dksX4_setting_0 7 rfl rfl)
theorem dX4_setting_10 : decode cX4_setting 10 = .ok (.ifCond .eq 7, 3) := dk_153 0 7 (dk_at dksX4_setting_0 10 rfl rfl)
theorem dX4_setting_13 : decode cX4_setting 13 = .ok (.iconst 0, 1) := dk_3 (dk_at dksX4_setting_0 13 rfl rfl)
theorem dX4_setting_14 : decode cX4_setting 14 = .ok (.goto 4, 3) := dk_167 0 4 (dk_at dksX4_setting_0 14 rfl rfl)
theorem dX4_setting_17 : decode cX4_setting 17 = .ok (.iconst 1, 1) := dk_4 (dk_at dksX4_setting_0 17 rfl rfl)
theorem dX4_setting_18 : decode cX4_setting 18 = .ok (.invokevirtual 161, 3) := dk_182 0 161 (dk_at dksX4_setting_0 18 rfl rfl)
theorem dX4_setting_21 : decode cX4_setting 21 = .ok (.ifCond .eq 5, 3) := dk_153 0 5 (dk_at dksX4_setting_0 21 rfl rfl)
theorem dX4_setting_24 : decode cX4_setting 24 = .ok (.iconst 0, 1) := dk_3 (dk_at dksX4_setting_1 0 rfl rfl)
theorem dX4_setting_25 : decode cX4_setting 25 = .ok (.ireturn, 1) := dk_172 (dk_at dksX4_setting_1 1 rfl rfl)
theorem dX4_setting_26 : decode cX4_setting 26 = .ok (.aload_n 0, 1) := dk_42 (dk_at dksX4_setting_1 2 rfl rfl)
theorem dX4_setting_27 : decode cX4_setting 27 = .ok (.getfield 13, 3) := dk_180 0 13 (dk_at dksX4_setting_1 3 rfl rfl)
theorem dX4_setting_30 : decode cX4_setting 30 = .ok (.bipush 7, 2) := dk_16 7 (dk_at dksX4_setting_1 6 rfl rfl)
theorem dX4_setting_32 : decode cX4_setting 32 = .ok (.iload_n 1, 1) := dk_27 (dk_at dksX4_setting_1 8 rfl rfl)
theorem dX4_setting_33 : decode cX4_setting 33 = .ok (.iadd, 1) := dk_96 (dk_at dksX4_setting_1 9 rfl rfl)
theorem dX4_setting_34 : decode cX4_setting 34 = .ok (.iaload, 1) := dk_46 (dk_at dksX4_setting_1 10 rfl rfl)
theorem dX4_setting_35 : decode cX4_setting 35 = .ok (.ireturn, 1) := dk_172 (dk_at dksX4_setting_1 11 rfl rfl)
abbrev cX4_begin : ByteArray := prog_11_method_44_code
def yX4_begin : MethodName := ⟨RX4, "begin", "(J)I"⟩
def dkwX4_begin_8 : List UInt8 := [132, 7, 1, 167, 255, 234, 21, 6, 172]
abbrev dktX4_begin_8 : List UInt8 := dkwX4_begin_8 ++ []
def dkwX4_begin_7 : List UInt8 := [3, 54, 7, 21, 7, 16, 18, 162, 0, 21, 21, 6, 21, 5, 21, 7, 122, 4, 126, 96, 54, 6]
abbrev dktX4_begin_7 : List UInt8 := dkwX4_begin_7 ++ dktX4_begin_8
def dkwX4_begin_6 : List UInt8 := [21, 5, 42, 180, 0, 13, 16, 11, 21, 6, 96, 46, 128, 54, 5, 132, 6, 1, 167, 255, 164, 3, 54, 6]
abbrev dktX4_begin_6 : List UInt8 := dkwX4_begin_6 ++ dktX4_begin_7
def dkwX4_begin_5 : List UInt8 := [125, 136, 6, 112, 154, 0, 10, 4, 21, 7, 120, 167, 0, 4, 3, 128, 79, 132, 7, 1, 167, 255, 205]
abbrev dktX4_begin_5 : List UInt8 := dkwX4_begin_5 ++ dktX4_begin_6
def dkwX4_begin_4 : List UInt8 := [33, 20, 0, 187, 105, 20, 0, 189, 97, 66, 42, 180, 0, 13, 16, 11, 21, 6, 96, 92, 46, 33, 16, 33]
abbrev dktX4_begin_4 : List UInt8 := dkwX4_begin_4 ++ dktX4_begin_5
def dkwX4_begin_3 : List UInt8 := [162, 0, 92, 42, 180, 0, 13, 16, 17, 21, 6, 96, 4, 79, 3, 54, 7, 21, 7, 16, 18, 162, 0, 50]
abbrev dktX4_begin_3 : List UInt8 := dkwX4_begin_3 ++ dktX4_begin_4
def dkwX4_begin_2 : List UInt8 := [132, 3, 1, 167, 255, 217, 42, 180, 0, 13, 3, 4, 79, 31, 66, 3, 54, 5, 3, 54, 6, 21, 6, 6]
abbrev dktX4_begin_2 : List UInt8 := dkwX4_begin_2 ++ dktX4_begin_3
def dkwX4_begin_1 : List UInt8 := [20, 0, 170, 20, 0, 185, 184, 0, 45, 153, 0, 12, 42, 180, 0, 13, 29, 46, 167, 0, 4, 3, 79]
abbrev dktX4_begin_1 : List UInt8 := dkwX4_begin_1 ++ dktX4_begin_2
def dkwX4_begin_0 : List UInt8 := [42, 3, 181, 0, 41, 42, 182, 0, 182, 3, 62, 29, 16, 89, 162, 0, 39, 42, 180, 0, 13, 29, 29, 133]
abbrev dktX4_begin_0 : List UInt8 := dkwX4_begin_0 ++ dktX4_begin_1
theorem dksX4_begin_0 : cX4_begin.data.toList.drop 0 = dktX4_begin_0 := by decide +kernel
theorem dksX4_begin_1 : cX4_begin.data.toList.drop 24 = dktX4_begin_1 := dk_seg dksX4_begin_0 24 rfl rfl
theorem dksX4_begin_2 : cX4_begin.data.toList.drop 47 = dktX4_begin_2 := dk_seg dksX4_begin_1 23 rfl rfl
theorem dksX4_begin_3 : cX4_begin.data.toList.drop 71 = dktX4_begin_3 := dk_seg dksX4_begin_2 24 rfl rfl
theorem dksX4_begin_4 : cX4_begin.data.toList.drop 95 = dktX4_begin_4 := dk_seg dksX4_begin_3 24 rfl rfl
theorem dksX4_begin_5 : cX4_begin.data.toList.drop 119 = dktX4_begin_5 := dk_seg dksX4_begin_4 24 rfl rfl
theorem dksX4_begin_6 : cX4_begin.data.toList.drop 142 = dktX4_begin_6 := dk_seg dksX4_begin_5 23 rfl rfl
theorem dksX4_begin_7 : cX4_begin.data.toList.drop 166 = dktX4_begin_7 := dk_seg dksX4_begin_6 24 rfl rfl
theorem dksX4_begin_8 : cX4_begin.data.toList.drop 188 = dktX4_begin_8 := dk_seg dksX4_begin_7 22 rfl rfl
theorem dX4_begin_0 : decode cX4_begin 0 = .ok (.aload_n 0, 1) := dk_42 (dk_at dksX4_begin_0 0 rfl rfl)
theorem dX4_begin_1 : decode cX4_begin 1 = .ok (.iconst 0, 1) := dk_3 (dk_at dksX4_begin_0 1 rfl rfl)
theorem dX4_begin_2 : decode cX4_begin 2 = .ok (.putfield 41, 3) := dk_181 0 41 (dk_at dksX4_begin_0 2 rfl rfl)
theorem dX4_begin_5 : decode cX4_begin 5 = .ok (.aload_n 0, 1) := dk_42 (dk_at dksX4_begin_0 5 rfl rfl)
theorem dX4_begin_6 : decode cX4_begin 6 = .ok (.invokevirtual 182, 3) := dk_182 0 182 (dk_at dksX4_begin_0 6 rfl rfl)
theorem dX4_begin_9 : decode cX4_begin 9 = .ok (.iconst 0, 1) := dk_3 (dk_at dksX4_begin_0 9 rfl rfl)
theorem dX4_begin_10 : decode cX4_begin 10 = .ok (.istore_n 3, 1) := dk_62 (dk_at dksX4_begin_0 10 rfl rfl)
theorem dX4_begin_11 : decode cX4_begin 11 = .ok (.iload_n 3, 1) := dk_29 (dk_at dksX4_begin_0 11 rfl rfl)
theorem dX4_begin_12 : decode cX4_begin 12 = .ok (.bipush 89, 2) := dk_16 89 (dk_at dksX4_begin_0 12 rfl rfl)
theorem dX4_begin_14 : decode cX4_begin 14 = .ok (.if_icmp .ge 39, 3) := dk_162 0 39 (dk_at dksX4_begin_0 14 rfl rfl)
theorem dX4_begin_17 : decode cX4_begin 17 = .ok (.aload_n 0, 1) := dk_42 (dk_at dksX4_begin_0 17 rfl rfl)
theorem dX4_begin_18 : decode cX4_begin 18 = .ok (.getfield 13, 3) := dk_180 0 13 (dk_at dksX4_begin_0 18 rfl rfl)
theorem dX4_begin_21 : decode cX4_begin 21 = .ok (.iload_n 3, 1) := dk_29 (dk_at dksX4_begin_0 21 rfl rfl)
theorem dX4_begin_22 : decode cX4_begin 22 = .ok (.iload_n 3, 1) := dk_29 (dk_at dksX4_begin_0 22 rfl rfl)
theorem dX4_begin_23 : decode cX4_begin 23 = .ok (.i2l, 1) := dk_133 (dk_at dksX4_begin_0 23 rfl rfl)
theorem dX4_begin_24 : decode cX4_begin 24 = .ok (.ldc2_w 170, 3) := dk_20 0 170 (dk_at dksX4_begin_1 0 rfl rfl)
theorem dX4_begin_27 : decode cX4_begin 27 = .ok (.ldc2_w 185, 3) := dk_20 0 185 (dk_at dksX4_begin_1 3 rfl rfl)
theorem dX4_begin_30 : decode cX4_begin 30 = .ok (.invokestatic 45, 3) := dk_184 0 45 (dk_at dksX4_begin_1 6 rfl rfl)
theorem dX4_begin_33 : decode cX4_begin 33 = .ok (.ifCond .eq 12, 3) := dk_153 0 12 (dk_at dksX4_begin_1 9 rfl rfl)
theorem dX4_begin_36 : decode cX4_begin 36 = .ok (.aload_n 0, 1) := dk_42 (dk_at dksX4_begin_1 12 rfl rfl)
theorem dX4_begin_37 : decode cX4_begin 37 = .ok (.getfield 13, 3) := dk_180 0 13 (dk_at dksX4_begin_1 13 rfl rfl)
theorem dX4_begin_40 : decode cX4_begin 40 = .ok (.iload_n 3, 1) := dk_29 (dk_at dksX4_begin_1 16 rfl rfl)
theorem dX4_begin_41 : decode cX4_begin 41 = .ok (.iaload, 1) := dk_46 (dk_at dksX4_begin_1 17 rfl rfl)
theorem dX4_begin_42 : decode cX4_begin 42 = .ok (.goto 4, 3) := dk_167 0 4 (dk_at dksX4_begin_1 18 rfl rfl)
theorem dX4_begin_45 : decode cX4_begin 45 = .ok (.iconst 0, 1) := dk_3 (dk_at dksX4_begin_1 21 rfl rfl)
theorem dX4_begin_46 : decode cX4_begin 46 = .ok (.iastore, 1) := dk_79 (dk_at dksX4_begin_1 22 rfl rfl)
theorem dX4_begin_47 : decode cX4_begin 47 = .ok (.iinc 3 1, 3) := dk_132 3 1 (dk_at dksX4_begin_2 0 rfl rfl)
theorem dX4_begin_50 : decode cX4_begin 50 = .ok (.goto (-39), 3) := dk_167 255 217 (dk_at dksX4_begin_2 3 rfl rfl)
theorem dX4_begin_53 : decode cX4_begin 53 = .ok (.aload_n 0, 1) := dk_42 (dk_at dksX4_begin_2 6 rfl rfl)
theorem dX4_begin_54 : decode cX4_begin 54 = .ok (.getfield 13, 3) := dk_180 0 13 (dk_at dksX4_begin_2 7 rfl rfl)
theorem dX4_begin_57 : decode cX4_begin 57 = .ok (.iconst 0, 1) := dk_3 (dk_at dksX4_begin_2 10 rfl rfl)
theorem dX4_begin_58 : decode cX4_begin 58 = .ok (.iconst 1, 1) := dk_4 (dk_at dksX4_begin_2 11 rfl rfl)
theorem dX4_begin_59 : decode cX4_begin 59 = .ok (.iastore, 1) := dk_79 (dk_at dksX4_begin_2 12 rfl rfl)
theorem dX4_begin_60 : decode cX4_begin 60 = .ok (.lload_n 1, 1) := dk_31 (dk_at dksX4_begin_2 13 rfl rfl)
theorem dX4_begin_61 : decode cX4_begin 61 = .ok (.lstore_n 3, 1) := dk_66 (dk_at dksX4_begin_2 14 rfl rfl)
theorem dX4_begin_62 : decode cX4_begin 62 = .ok (.iconst 0, 1) := dk_3 (dk_at dksX4_begin_2 15 rfl rfl)
theorem dX4_begin_63 : decode cX4_begin 63 = .ok (.istore 5, 2) := dk_54 5 (dk_at dksX4_begin_2 16 rfl rfl)
theorem dX4_begin_65 : decode cX4_begin 65 = .ok (.iconst 0, 1) := dk_3 (dk_at dksX4_begin_2 18 rfl rfl)
theorem dX4_begin_66 : decode cX4_begin 66 = .ok (.istore 6, 2) := dk_54 6 (dk_at dksX4_begin_2 19 rfl rfl)
theorem dX4_begin_68 : decode cX4_begin 68 = .ok (.iload 6, 2) := dk_21 6 (dk_at dksX4_begin_2 21 rfl rfl)
theorem dX4_begin_70 : decode cX4_begin 70 = .ok (.iconst 3, 1) := dk_6 (dk_at dksX4_begin_2 23 rfl rfl)
theorem dX4_begin_71 : decode cX4_begin 71 = .ok (.if_icmp .ge 92, 3) := dk_162 0 92 (dk_at dksX4_begin_3 0 rfl rfl)
theorem dX4_begin_74 : decode cX4_begin 74 = .ok (.aload_n 0, 1) := dk_42 (dk_at dksX4_begin_3 3 rfl rfl)
theorem dX4_begin_75 : decode cX4_begin 75 = .ok (.getfield 13, 3) := dk_180 0 13 (dk_at dksX4_begin_3 4 rfl rfl)
theorem dX4_begin_78 : decode cX4_begin 78 = .ok (.bipush 17, 2) := dk_16 17 (dk_at dksX4_begin_3 7 rfl rfl)
theorem dX4_begin_80 : decode cX4_begin 80 = .ok (.iload 6, 2) := dk_21 6 (dk_at dksX4_begin_3 9 rfl rfl)
theorem dX4_begin_82 : decode cX4_begin 82 = .ok (.iadd, 1) := dk_96 (dk_at dksX4_begin_3 11 rfl rfl)
theorem dX4_begin_83 : decode cX4_begin 83 = .ok (.iconst 1, 1) := dk_4 (dk_at dksX4_begin_3 12 rfl rfl)
theorem dX4_begin_84 : decode cX4_begin 84 = .ok (.iastore, 1) := dk_79 (dk_at dksX4_begin_3 13 rfl rfl)
theorem dX4_begin_85 : decode cX4_begin 85 = .ok (.iconst 0, 1) := dk_3 (dk_at dksX4_begin_3 14 rfl rfl)
theorem dX4_begin_86 : decode cX4_begin 86 = .ok (.istore 7, 2) := dk_54 7 (dk_at dksX4_begin_3 15 rfl rfl)
theorem dX4_begin_88 : decode cX4_begin 88 = .ok (.iload 7, 2) := dk_21 7 (dk_at dksX4_begin_3 17 rfl rfl)
theorem dX4_begin_90 : decode cX4_begin 90 = .ok (.bipush 18, 2) := dk_16 18 (dk_at dksX4_begin_3 19 rfl rfl)
theorem dX4_begin_92 : decode cX4_begin 92 = .ok (.if_icmp .ge 50, 3) := dk_162 0 50 (dk_at dksX4_begin_3 21 rfl rfl)
theorem dX4_begin_95 : decode cX4_begin 95 = .ok (.lload_n 3, 1) := dk_33 (dk_at dksX4_begin_4 0 rfl rfl)
theorem dX4_begin_96 : decode cX4_begin 96 = .ok (.ldc2_w 187, 3) := dk_20 0 187 (dk_at dksX4_begin_4 1 rfl rfl)
theorem dX4_begin_99 : decode cX4_begin 99 = .ok (.lmul, 1) := dk_105 (dk_at dksX4_begin_4 4 rfl rfl)
theorem dX4_begin_100 : decode cX4_begin 100 = .ok (.ldc2_w 189, 3) := dk_20 0 189 (dk_at dksX4_begin_4 5 rfl rfl)
theorem dX4_begin_103 : decode cX4_begin 103 = .ok (.ladd, 1) := dk_97 (dk_at dksX4_begin_4 8 rfl rfl)
theorem dX4_begin_104 : decode cX4_begin 104 = .ok (.lstore_n 3, 1) := dk_66 (dk_at dksX4_begin_4 9 rfl rfl)
theorem dX4_begin_105 : decode cX4_begin 105 = .ok (.aload_n 0, 1) := dk_42 (dk_at dksX4_begin_4 10 rfl rfl)
theorem dX4_begin_106 : decode cX4_begin 106 = .ok (.getfield 13, 3) := dk_180 0 13 (dk_at dksX4_begin_4 11 rfl rfl)
theorem dX4_begin_109 : decode cX4_begin 109 = .ok (.bipush 11, 2) := dk_16 11 (dk_at dksX4_begin_4 14 rfl rfl)
theorem dX4_begin_111 : decode cX4_begin 111 = .ok (.iload 6, 2) := dk_21 6 (dk_at dksX4_begin_4 16 rfl rfl)
theorem dX4_begin_113 : decode cX4_begin 113 = .ok (.iadd, 1) := dk_96 (dk_at dksX4_begin_4 18 rfl rfl)
theorem dX4_begin_114 : decode cX4_begin 114 = .ok (.dup2, 1) := dk_92 (dk_at dksX4_begin_4 19 rfl rfl)
theorem dX4_begin_115 : decode cX4_begin 115 = .ok (.iaload, 1) := dk_46 (dk_at dksX4_begin_4 20 rfl rfl)
theorem dX4_begin_116 : decode cX4_begin 116 = .ok (.lload_n 3, 1) := dk_33 (dk_at dksX4_begin_4 21 rfl rfl)
theorem dX4_begin_117 : decode cX4_begin 117 = .ok (.bipush 33, 2) := dk_16 33 (dk_at dksX4_begin_4 22 rfl rfl)
theorem dX4_begin_119 : decode cX4_begin 119 = .ok (.lushr, 1) := dk_125 (dk_at dksX4_begin_5 0 rfl rfl)
theorem dX4_begin_120 : decode cX4_begin 120 = .ok (.l2i, 1) := dk_136 (dk_at dksX4_begin_5 1 rfl rfl)
theorem dX4_begin_121 : decode cX4_begin 121 = .ok (.iconst 3, 1) := dk_6 (dk_at dksX4_begin_5 2 rfl rfl)
theorem dX4_begin_122 : decode cX4_begin 122 = .ok (.irem, 1) := dk_112 (dk_at dksX4_begin_5 3 rfl rfl)
theorem dX4_begin_123 : decode cX4_begin 123 = .ok (.ifCond .ne 10, 3) := dk_154 0 10 (dk_at dksX4_begin_5 4 rfl rfl)
theorem dX4_begin_126 : decode cX4_begin 126 = .ok (.iconst 1, 1) := dk_4 (dk_at dksX4_begin_5 7 rfl rfl)
theorem dX4_begin_127 : decode cX4_begin 127 = .ok (.iload 7, 2) := dk_21 7 (dk_at dksX4_begin_5 8 rfl rfl)
theorem dX4_begin_129 : decode cX4_begin 129 = .ok (.ishl, 1) := dk_120 (dk_at dksX4_begin_5 10 rfl rfl)
theorem dX4_begin_130 : decode cX4_begin 130 = .ok (.goto 4, 3) := dk_167 0 4 (dk_at dksX4_begin_5 11 rfl rfl)
theorem dX4_begin_133 : decode cX4_begin 133 = .ok (.iconst 0, 1) := dk_3 (dk_at dksX4_begin_5 14 rfl rfl)
theorem dX4_begin_134 : decode cX4_begin 134 = .ok (.ior, 1) := dk_128 (dk_at dksX4_begin_5 15 rfl rfl)
theorem dX4_begin_135 : decode cX4_begin 135 = .ok (.iastore, 1) := dk_79 (dk_at dksX4_begin_5 16 rfl rfl)
theorem dX4_begin_136 : decode cX4_begin 136 = .ok (.iinc 7 1, 3) := dk_132 7 1 (dk_at dksX4_begin_5 17 rfl rfl)
theorem dX4_begin_139 : decode cX4_begin 139 = .ok (.goto (-51), 3) := dk_167 255 205 (dk_at dksX4_begin_5 20 rfl rfl)
theorem dX4_begin_142 : decode cX4_begin 142 = .ok (.iload 5, 2) := dk_21 5 (dk_at dksX4_begin_6 0 rfl rfl)
theorem dX4_begin_144 : decode cX4_begin 144 = .ok (.aload_n 0, 1) := dk_42 (dk_at dksX4_begin_6 2 rfl rfl)
theorem dX4_begin_145 : decode cX4_begin 145 = .ok (.getfield 13, 3) := dk_180 0 13 (dk_at dksX4_begin_6 3 rfl rfl)
theorem dX4_begin_148 : decode cX4_begin 148 = .ok (.bipush 11, 2) := dk_16 11 (dk_at dksX4_begin_6 6 rfl rfl)
theorem dX4_begin_150 : decode cX4_begin 150 = .ok (.iload 6, 2) := dk_21 6 (dk_at dksX4_begin_6 8 rfl rfl)
theorem dX4_begin_152 : decode cX4_begin 152 = .ok (.iadd, 1) := dk_96 (dk_at dksX4_begin_6 10 rfl rfl)
theorem dX4_begin_153 : decode cX4_begin 153 = .ok (.iaload, 1) := dk_46 (dk_at dksX4_begin_6 11 rfl rfl)
theorem dX4_begin_154 : decode cX4_begin 154 = .ok (.ior, 1) := dk_128 (dk_at dksX4_begin_6 12 rfl rfl)
theorem dX4_begin_155 : decode cX4_begin 155 = .ok (.istore 5, 2) := dk_54 5 (dk_at dksX4_begin_6 13 rfl rfl)
theorem dX4_begin_157 : decode cX4_begin 157 = .ok (.iinc 6 1, 3) := dk_132 6 1 (dk_at dksX4_begin_6 15 rfl rfl)
theorem dX4_begin_160 : decode cX4_begin 160 = .ok (.goto (-92), 3) := dk_167 255 164 (dk_at dksX4_begin_6 18 rfl rfl)
theorem dX4_begin_163 : decode cX4_begin 163 = .ok (.iconst 0, 1) := dk_3 (dk_at dksX4_begin_6 21 rfl rfl)
theorem dX4_begin_164 : decode cX4_begin 164 = .ok (.istore 6, 2) := dk_54 6 (dk_at dksX4_begin_6 22 rfl rfl)
theorem dX4_begin_166 : decode cX4_begin 166 = .ok (.iconst 0, 1) := dk_3 (dk_at dksX4_begin_7 0 rfl rfl)
theorem dX4_begin_167 : decode cX4_begin 167 = .ok (.istore 7, 2) := dk_54 7 (dk_at dksX4_begin_7 1 rfl rfl)
theorem dX4_begin_169 : decode cX4_begin 169 = .ok (.iload 7, 2) := dk_21 7 (dk_at dksX4_begin_7 3 rfl rfl)
theorem dX4_begin_171 : decode cX4_begin 171 = .ok (.bipush 18, 2) := dk_16 18 (dk_at dksX4_begin_7 5 rfl rfl)
theorem dX4_begin_173 : decode cX4_begin 173 = .ok (.if_icmp .ge 21, 3) := dk_162 0 21 (dk_at dksX4_begin_7 7 rfl rfl)
theorem dX4_begin_176 : decode cX4_begin 176 = .ok (.iload 6, 2) := dk_21 6 (dk_at dksX4_begin_7 10 rfl rfl)
theorem dX4_begin_178 : decode cX4_begin 178 = .ok (.iload 5, 2) := dk_21 5 (dk_at dksX4_begin_7 12 rfl rfl)
theorem dX4_begin_180 : decode cX4_begin 180 = .ok (.iload 7, 2) := dk_21 7 (dk_at dksX4_begin_7 14 rfl rfl)
theorem dX4_begin_182 : decode cX4_begin 182 = .ok (.ishr, 1) := dk_122 (dk_at dksX4_begin_7 16 rfl rfl)
theorem dX4_begin_183 : decode cX4_begin 183 = .ok (.iconst 1, 1) := dk_4 (dk_at dksX4_begin_7 17 rfl rfl)
theorem dX4_begin_184 : decode cX4_begin 184 = .ok (.iand, 1) := dk_126 (dk_at dksX4_begin_7 18 rfl rfl)
theorem dX4_begin_185 : decode cX4_begin 185 = .ok (.iadd, 1) := dk_96 (dk_at dksX4_begin_7 19 rfl rfl)
theorem dX4_begin_186 : decode cX4_begin 186 = .ok (.istore 6, 2) := dk_54 6 (dk_at dksX4_begin_7 20 rfl rfl)
theorem dX4_begin_188 : decode cX4_begin 188 = .ok (.iinc 7 1, 3) := dk_132 7 1 (dk_at dksX4_begin_8 0 rfl rfl)
theorem dX4_begin_191 : decode cX4_begin 191 = .ok (.goto (-22), 3) := dk_167 255 234 (dk_at dksX4_begin_8 3 rfl rfl)
theorem dX4_begin_194 : decode cX4_begin 194 = .ok (.iload 6, 2) := dk_21 6 (dk_at dksX4_begin_8 6 rfl rfl)
theorem dX4_begin_196 : decode cX4_begin 196 = .ok (.ireturn, 1) := dk_172 (dk_at dksX4_begin_8 8 rfl rfl)
abbrev cX4_remember : ByteArray := prog_11_method_43_code
def yX4_remember : MethodName := ⟨RX4, "remember", "()V"⟩
def dkwX4_remember_3 : List UInt8 := [180, 0, 179, 4, 96, 181, 0, 179, 177]
abbrev dktX4_remember_3 : List UInt8 := dkwX4_remember_3 ++ []
def dkwX4_remember_2 : List UInt8 := [181, 0, 179, 42, 180, 0, 13, 3, 42, 180, 0, 22, 16, 89, 42, 180, 0, 179, 104, 184, 0, 123, 42, 89]
abbrev dktX4_remember_2 : List UInt8 := dkwX4_remember_2 ++ dktX4_remember_3
def dkwX4_remember_1 : List UInt8 := [180, 0, 22, 27, 16, 89, 96, 46, 79, 132, 1, 1, 167, 255, 231, 42, 89, 180, 0, 179, 4, 100]
abbrev dktX4_remember_1 : List UInt8 := dkwX4_remember_1 ++ dktX4_remember_2
def dkwX4_remember_0 : List UInt8 := [42, 180, 0, 179, 16, 14, 160, 0, 43, 3, 60, 27, 17, 4, 133, 162, 0, 24, 42, 180, 0, 22, 27, 42]
abbrev dktX4_remember_0 : List UInt8 := dkwX4_remember_0 ++ dktX4_remember_1
theorem dksX4_remember_0 : cX4_remember.data.toList.drop 0 = dktX4_remember_0 := by decide +kernel
theorem dksX4_remember_1 : cX4_remember.data.toList.drop 24 = dktX4_remember_1 := dk_seg dksX4_remember_0 24 rfl rfl
theorem dksX4_remember_2 : cX4_remember.data.toList.drop 46 = dktX4_remember_2 := dk_seg dksX4_remember_1 22 rfl rfl
theorem dksX4_remember_3 : cX4_remember.data.toList.drop 70 = dktX4_remember_3 := dk_seg dksX4_remember_2 24 rfl rfl
theorem dX4_remember_0 : decode cX4_remember 0 = .ok (.aload_n 0, 1) := dk_42 (dk_at dksX4_remember_0 0 rfl rfl)
theorem dX4_remember_1 : decode cX4_remember 1 = .ok (.getfield 179, 3) := dk_180 0 179 (dk_at dksX4_remember_0 1 rfl rfl)
theorem dX4_remember_4 : decode cX4_remember 4 = .ok (.bipush 14, 2) := dk_16 14 (dk_at dksX4_remember_0 4 rfl rfl)
theorem dX4_remember_6 : decode cX4_remember 6 = .ok (.if_icmp .ne 43, 3) := dk_160 0 43 (dk_at dksX4_remember_0 6 rfl rfl)
theorem dX4_remember_9 : decode cX4_remember 9 = .ok (.iconst 0, 1) := dk_3 (dk_at dksX4_remember_0 9 rfl rfl)
theorem dX4_remember_10 : decode cX4_remember 10 = .ok (.istore_n 1, 1) := dk_60 (dk_at dksX4_remember_0 10 rfl rfl)
theorem dX4_remember_11 : decode cX4_remember 11 = .ok (.iload_n 1, 1) := dk_27 (dk_at dksX4_remember_0 11 rfl rfl)
theorem dX4_remember_12 : decode cX4_remember 12 = .ok (.sipush 1157, 3) := dk_17 4 133 (dk_at dksX4_remember_0 12 rfl rfl)
theorem dX4_remember_15 : decode cX4_remember 15 = .ok (.if_icmp .ge 24, 3) := dk_162 0 24 (dk_at dksX4_remember_0 15 rfl rfl)
theorem dX4_remember_18 : decode cX4_remember 18 = .ok (.aload_n 0, 1) := dk_42 (dk_at dksX4_remember_0 18 rfl rfl)
theorem dX4_remember_19 : decode cX4_remember 19 = .ok (.getfield 22, 3) := dk_180 0 22 (dk_at dksX4_remember_0 19 rfl rfl)
theorem dX4_remember_22 : decode cX4_remember 22 = .ok (.iload_n 1, 1) := dk_27 (dk_at dksX4_remember_0 22 rfl rfl)
theorem dX4_remember_23 : decode cX4_remember 23 = .ok (.aload_n 0, 1) := dk_42 (dk_at dksX4_remember_0 23 rfl rfl)
theorem dX4_remember_24 : decode cX4_remember 24 = .ok (.getfield 22, 3) := dk_180 0 22 (dk_at dksX4_remember_1 0 rfl rfl)
theorem dX4_remember_27 : decode cX4_remember 27 = .ok (.iload_n 1, 1) := dk_27 (dk_at dksX4_remember_1 3 rfl rfl)
theorem dX4_remember_28 : decode cX4_remember 28 = .ok (.bipush 89, 2) := dk_16 89 (dk_at dksX4_remember_1 4 rfl rfl)
theorem dX4_remember_30 : decode cX4_remember 30 = .ok (.iadd, 1) := dk_96 (dk_at dksX4_remember_1 6 rfl rfl)
theorem dX4_remember_31 : decode cX4_remember 31 = .ok (.iaload, 1) := dk_46 (dk_at dksX4_remember_1 7 rfl rfl)
theorem dX4_remember_32 : decode cX4_remember 32 = .ok (.iastore, 1) := dk_79 (dk_at dksX4_remember_1 8 rfl rfl)
theorem dX4_remember_33 : decode cX4_remember 33 = .ok (.iinc 1 1, 3) := dk_132 1 1 (dk_at dksX4_remember_1 9 rfl rfl)
theorem dX4_remember_36 : decode cX4_remember 36 = .ok (.goto (-25), 3) := dk_167 255 231 (dk_at dksX4_remember_1 12 rfl rfl)
theorem dX4_remember_39 : decode cX4_remember 39 = .ok (.aload_n 0, 1) := dk_42 (dk_at dksX4_remember_1 15 rfl rfl)
theorem dX4_remember_40 : decode cX4_remember 40 = .ok (.dup, 1) := dk_89 (dk_at dksX4_remember_1 16 rfl rfl)
theorem dX4_remember_41 : decode cX4_remember 41 = .ok (.getfield 179, 3) := dk_180 0 179 (dk_at dksX4_remember_1 17 rfl rfl)
theorem dX4_remember_44 : decode cX4_remember 44 = .ok (.iconst 1, 1) := dk_4 (dk_at dksX4_remember_1 20 rfl rfl)
theorem dX4_remember_45 : decode cX4_remember 45 = .ok (.isub, 1) := dk_100 (dk_at dksX4_remember_1 21 rfl rfl)
theorem dX4_remember_46 : decode cX4_remember 46 = .ok (.putfield 179, 3) := dk_181 0 179 (dk_at dksX4_remember_2 0 rfl rfl)
theorem dX4_remember_49 : decode cX4_remember 49 = .ok (.aload_n 0, 1) := dk_42 (dk_at dksX4_remember_2 3 rfl rfl)
theorem dX4_remember_50 : decode cX4_remember 50 = .ok (.getfield 13, 3) := dk_180 0 13 (dk_at dksX4_remember_2 4 rfl rfl)
theorem dX4_remember_53 : decode cX4_remember 53 = .ok (.iconst 0, 1) := dk_3 (dk_at dksX4_remember_2 7 rfl rfl)
theorem dX4_remember_54 : decode cX4_remember 54 = .ok (.aload_n 0, 1) := dk_42 (dk_at dksX4_remember_2 8 rfl rfl)
theorem dX4_remember_55 : decode cX4_remember 55 = .ok (.getfield 22, 3) := dk_180 0 22 (dk_at dksX4_remember_2 9 rfl rfl)
theorem dX4_remember_58 : decode cX4_remember 58 = .ok (.bipush 89, 2) := dk_16 89 (dk_at dksX4_remember_2 12 rfl rfl)
theorem dX4_remember_60 : decode cX4_remember 60 = .ok (.aload_n 0, 1) := dk_42 (dk_at dksX4_remember_2 14 rfl rfl)
theorem dX4_remember_61 : decode cX4_remember 61 = .ok (.getfield 179, 3) := dk_180 0 179 (dk_at dksX4_remember_2 15 rfl rfl)
theorem dX4_remember_64 : decode cX4_remember 64 = .ok (.imul, 1) := dk_104 (dk_at dksX4_remember_2 18 rfl rfl)
theorem dX4_remember_65 : decode cX4_remember 65 = .ok (.invokestatic 123, 3) := dk_184 0 123 (dk_at dksX4_remember_2 19 rfl rfl)
theorem dX4_remember_68 : decode cX4_remember 68 = .ok (.aload_n 0, 1) := dk_42 (dk_at dksX4_remember_2 22 rfl rfl)
theorem dX4_remember_69 : decode cX4_remember 69 = .ok (.dup, 1) := dk_89 (dk_at dksX4_remember_2 23 rfl rfl)
theorem dX4_remember_70 : decode cX4_remember 70 = .ok (.getfield 179, 3) := dk_180 0 179 (dk_at dksX4_remember_3 0 rfl rfl)
theorem dX4_remember_73 : decode cX4_remember 73 = .ok (.iconst 1, 1) := dk_4 (dk_at dksX4_remember_3 3 rfl rfl)
theorem dX4_remember_74 : decode cX4_remember 74 = .ok (.iadd, 1) := dk_96 (dk_at dksX4_remember_3 4 rfl rfl)
theorem dX4_remember_75 : decode cX4_remember 75 = .ok (.putfield 179, 3) := dk_181 0 179 (dk_at dksX4_remember_3 5 rfl rfl)
theorem dX4_remember_78 : decode cX4_remember 78 = .ok (.return_, 1) := dk_177 (dk_at dksX4_remember_3 8 rfl rfl)
abbrev cX4_copyState : ByteArray := prog_11_method_5_code
def yX4_copyState : MethodName := ⟨RX4, "copyState", "([II[II)V"⟩
def dkwX4_copyState_1 : List UInt8 := [132, 4, 1, 167, 255, 234, 177]
abbrev dktX4_copyState_1 : List UInt8 := dkwX4_copyState_1 ++ []
def dkwX4_copyState_0 : List UInt8 := [3, 54, 4, 21, 4, 16, 89, 162, 0, 21, 44, 29, 21, 4, 96, 42, 27, 21, 4, 96, 46, 79]
abbrev dktX4_copyState_0 : List UInt8 := dkwX4_copyState_0 ++ dktX4_copyState_1
theorem dksX4_copyState_0 : cX4_copyState.data.toList.drop 0 = dktX4_copyState_0 := by decide +kernel
theorem dksX4_copyState_1 : cX4_copyState.data.toList.drop 22 = dktX4_copyState_1 := dk_seg dksX4_copyState_0 22 rfl rfl
theorem dX4_copyState_0 : decode cX4_copyState 0 = .ok (.iconst 0, 1) := dk_3 (dk_at dksX4_copyState_0 0 rfl rfl)
theorem dX4_copyState_1 : decode cX4_copyState 1 = .ok (.istore 4, 2) := dk_54 4 (dk_at dksX4_copyState_0 1 rfl rfl)
theorem dX4_copyState_3 : decode cX4_copyState 3 = .ok (.iload 4, 2) := dk_21 4 (dk_at dksX4_copyState_0 3 rfl rfl)
theorem dX4_copyState_5 : decode cX4_copyState 5 = .ok (.bipush 89, 2) := dk_16 89 (dk_at dksX4_copyState_0 5 rfl rfl)
theorem dX4_copyState_7 : decode cX4_copyState 7 = .ok (.if_icmp .ge 21, 3) := dk_162 0 21 (dk_at dksX4_copyState_0 7 rfl rfl)
theorem dX4_copyState_10 : decode cX4_copyState 10 = .ok (.aload_n 2, 1) := dk_44 (dk_at dksX4_copyState_0 10 rfl rfl)
theorem dX4_copyState_11 : decode cX4_copyState 11 = .ok (.iload_n 3, 1) := dk_29 (dk_at dksX4_copyState_0 11 rfl rfl)
theorem dX4_copyState_12 : decode cX4_copyState 12 = .ok (.iload 4, 2) := dk_21 4 (dk_at dksX4_copyState_0 12 rfl rfl)
theorem dX4_copyState_14 : decode cX4_copyState 14 = .ok (.iadd, 1) := dk_96 (dk_at dksX4_copyState_0 14 rfl rfl)
theorem dX4_copyState_15 : decode cX4_copyState 15 = .ok (.aload_n 0, 1) := dk_42 (dk_at dksX4_copyState_0 15 rfl rfl)
theorem dX4_copyState_16 : decode cX4_copyState 16 = .ok (.iload_n 1, 1) := dk_27 (dk_at dksX4_copyState_0 16 rfl rfl)
theorem dX4_copyState_17 : decode cX4_copyState 17 = .ok (.iload 4, 2) := dk_21 4 (dk_at dksX4_copyState_0 17 rfl rfl)
theorem dX4_copyState_19 : decode cX4_copyState 19 = .ok (.iadd, 1) := dk_96 (dk_at dksX4_copyState_0 19 rfl rfl)
theorem dX4_copyState_20 : decode cX4_copyState 20 = .ok (.iaload, 1) := dk_46 (dk_at dksX4_copyState_0 20 rfl rfl)
theorem dX4_copyState_21 : decode cX4_copyState 21 = .ok (.iastore, 1) := dk_79 (dk_at dksX4_copyState_0 21 rfl rfl)
theorem dX4_copyState_22 : decode cX4_copyState 22 = .ok (.iinc 4 1, 3) := dk_132 4 1 (dk_at dksX4_copyState_1 0 rfl rfl)
theorem dX4_copyState_25 : decode cX4_copyState 25 = .ok (.goto (-22), 3) := dk_167 255 234 (dk_at dksX4_copyState_1 3 rfl rfl)
theorem dX4_copyState_28 : decode cX4_copyState 28 = .ok (.return_, 1) := dk_177 (dk_at dksX4_copyState_1 6 rfl rfl)
abbrev cX4_tell : ByteArray := prog_11_method_47_code
def yX4_tell : MethodName := ⟨RX4, "tell", "()I"⟩
def dkwX4_tell_1 : List UInt8 := [172, 42, 182, 0, 182, 42, 42, 180, 0, 13, 182, 0, 137, 172]
abbrev dktX4_tell_1 : List UInt8 := dkwX4_tell_1 ++ []
def dkwX4_tell_0 : List UInt8 := [42, 42, 42, 180, 0, 13, 182, 0, 194, 153, 0, 7, 3, 167, 0, 4, 4, 182, 0, 161, 153, 0, 5, 3]
abbrev dktX4_tell_0 : List UInt8 := dkwX4_tell_0 ++ dktX4_tell_1
theorem dksX4_tell_0 : cX4_tell.data.toList.drop 0 = dktX4_tell_0 := by decide +kernel
theorem dksX4_tell_1 : cX4_tell.data.toList.drop 24 = dktX4_tell_1 := dk_seg dksX4_tell_0 24 rfl rfl
theorem dX4_tell_0 : decode cX4_tell 0 = .ok (.aload_n 0, 1) := dk_42 (dk_at dksX4_tell_0 0 rfl rfl)
theorem dX4_tell_1 : decode cX4_tell 1 = .ok (.aload_n 0, 1) := dk_42 (dk_at dksX4_tell_0 1 rfl rfl)
theorem dX4_tell_2 : decode cX4_tell 2 = .ok (.aload_n 0, 1) := dk_42 (dk_at dksX4_tell_0 2 rfl rfl)
theorem dX4_tell_3 : decode cX4_tell 3 = .ok (.getfield 13, 3) := dk_180 0 13 (dk_at dksX4_tell_0 3 rfl rfl)
theorem dX4_tell_6 : decode cX4_tell 6 = .ok (.invokevirtual 194, 3) := dk_182 0 194 (dk_at dksX4_tell_0 6 rfl rfl)
theorem dX4_tell_9 : decode cX4_tell 9 = .ok (.ifCond .eq 7, 3) := dk_153 0 7 (dk_at dksX4_tell_0 9 rfl rfl)
theorem dX4_tell_12 : decode cX4_tell 12 = .ok (.iconst 0, 1) := dk_3 (dk_at dksX4_tell_0 12 rfl rfl)
theorem dX4_tell_13 : decode cX4_tell 13 = .ok (.goto 4, 3) := dk_167 0 4 (dk_at dksX4_tell_0 13 rfl rfl)
theorem dX4_tell_16 : decode cX4_tell 16 = .ok (.iconst 1, 1) := dk_4 (dk_at dksX4_tell_0 16 rfl rfl)
theorem dX4_tell_17 : decode cX4_tell 17 = .ok (.invokevirtual 161, 3) := dk_182 0 161 (dk_at dksX4_tell_0 17 rfl rfl)
theorem dX4_tell_20 : decode cX4_tell 20 = .ok (.ifCond .eq 5, 3) := dk_153 0 5 (dk_at dksX4_tell_0 20 rfl rfl)
theorem dX4_tell_23 : decode cX4_tell 23 = .ok (.iconst 0, 1) := dk_3 (dk_at dksX4_tell_0 23 rfl rfl)
theorem dX4_tell_24 : decode cX4_tell 24 = .ok (.ireturn, 1) := dk_172 (dk_at dksX4_tell_1 0 rfl rfl)
theorem dX4_tell_25 : decode cX4_tell 25 = .ok (.aload_n 0, 1) := dk_42 (dk_at dksX4_tell_1 1 rfl rfl)
theorem dX4_tell_26 : decode cX4_tell 26 = .ok (.invokevirtual 182, 3) := dk_182 0 182 (dk_at dksX4_tell_1 2 rfl rfl)
theorem dX4_tell_29 : decode cX4_tell 29 = .ok (.aload_n 0, 1) := dk_42 (dk_at dksX4_tell_1 5 rfl rfl)
theorem dX4_tell_30 : decode cX4_tell 30 = .ok (.aload_n 0, 1) := dk_42 (dk_at dksX4_tell_1 6 rfl rfl)
theorem dX4_tell_31 : decode cX4_tell 31 = .ok (.getfield 13, 3) := dk_180 0 13 (dk_at dksX4_tell_1 7 rfl rfl)
theorem dX4_tell_34 : decode cX4_tell 34 = .ok (.invokevirtual 137, 3) := dk_182 0 137 (dk_at dksX4_tell_1 10 rfl rfl)
theorem dX4_tell_37 : decode cX4_tell 37 = .ok (.ireturn, 1) := dk_172 (dk_at dksX4_tell_1 13 rfl rfl)
abbrev cX4_canTellNow : ByteArray := prog_11_method_46_code
def yX4_canTellNow : MethodName := ⟨RX4, "canTellNow", "([I)Z"⟩
def dkwX4_canTellNow_1 : List UInt8 := [4, 167, 0, 4, 3, 172]
abbrev dktX4_canTellNow_1 : List UInt8 := dkwX4_canTellNow_1 ++ []
def dkwX4_canTellNow_0 : List UInt8 := [43, 184, 0, 106, 153, 0, 24, 43, 5, 46, 154, 0, 18, 42, 43, 43, 4, 46, 182, 0, 191, 153, 0, 7]
abbrev dktX4_canTellNow_0 : List UInt8 := dkwX4_canTellNow_0 ++ dktX4_canTellNow_1
theorem dksX4_canTellNow_0 : cX4_canTellNow.data.toList.drop 0 = dktX4_canTellNow_0 := by decide +kernel
theorem dksX4_canTellNow_1 : cX4_canTellNow.data.toList.drop 24 = dktX4_canTellNow_1 := dk_seg dksX4_canTellNow_0 24 rfl rfl
theorem dX4_canTellNow_0 : decode cX4_canTellNow 0 = .ok (.aload_n 1, 1) := dk_43 (dk_at dksX4_canTellNow_0 0 rfl rfl)
theorem dX4_canTellNow_1 : decode cX4_canTellNow 1 = .ok (.invokestatic 106, 3) := dk_184 0 106 (dk_at dksX4_canTellNow_0 1 rfl rfl)
theorem dX4_canTellNow_4 : decode cX4_canTellNow 4 = .ok (.ifCond .eq 24, 3) := dk_153 0 24 (dk_at dksX4_canTellNow_0 4 rfl rfl)
theorem dX4_canTellNow_7 : decode cX4_canTellNow 7 = .ok (.aload_n 1, 1) := dk_43 (dk_at dksX4_canTellNow_0 7 rfl rfl)
theorem dX4_canTellNow_8 : decode cX4_canTellNow 8 = .ok (.iconst 2, 1) := dk_5 (dk_at dksX4_canTellNow_0 8 rfl rfl)
theorem dX4_canTellNow_9 : decode cX4_canTellNow 9 = .ok (.iaload, 1) := dk_46 (dk_at dksX4_canTellNow_0 9 rfl rfl)
theorem dX4_canTellNow_10 : decode cX4_canTellNow 10 = .ok (.ifCond .ne 18, 3) := dk_154 0 18 (dk_at dksX4_canTellNow_0 10 rfl rfl)
theorem dX4_canTellNow_13 : decode cX4_canTellNow 13 = .ok (.aload_n 0, 1) := dk_42 (dk_at dksX4_canTellNow_0 13 rfl rfl)
theorem dX4_canTellNow_14 : decode cX4_canTellNow 14 = .ok (.aload_n 1, 1) := dk_43 (dk_at dksX4_canTellNow_0 14 rfl rfl)
theorem dX4_canTellNow_15 : decode cX4_canTellNow 15 = .ok (.aload_n 1, 1) := dk_43 (dk_at dksX4_canTellNow_0 15 rfl rfl)
theorem dX4_canTellNow_16 : decode cX4_canTellNow 16 = .ok (.iconst 1, 1) := dk_4 (dk_at dksX4_canTellNow_0 16 rfl rfl)
theorem dX4_canTellNow_17 : decode cX4_canTellNow 17 = .ok (.iaload, 1) := dk_46 (dk_at dksX4_canTellNow_0 17 rfl rfl)
theorem dX4_canTellNow_18 : decode cX4_canTellNow 18 = .ok (.invokevirtual 191, 3) := dk_182 0 191 (dk_at dksX4_canTellNow_0 18 rfl rfl)
theorem dX4_canTellNow_21 : decode cX4_canTellNow 21 = .ok (.ifCond .eq 7, 3) := dk_153 0 7 (dk_at dksX4_canTellNow_0 21 rfl rfl)
theorem dX4_canTellNow_24 : decode cX4_canTellNow 24 = .ok (.iconst 1, 1) := dk_4 (dk_at dksX4_canTellNow_1 0 rfl rfl)
theorem dX4_canTellNow_25 : decode cX4_canTellNow 25 = .ok (.goto 4, 3) := dk_167 0 4 (dk_at dksX4_canTellNow_1 1 rfl rfl)
theorem dX4_canTellNow_28 : decode cX4_canTellNow 28 = .ok (.iconst 0, 1) := dk_3 (dk_at dksX4_canTellNow_1 4 rfl rfl)
theorem dX4_canTellNow_29 : decode cX4_canTellNow 29 = .ok (.ireturn, 1) := dk_172 (dk_at dksX4_canTellNow_1 5 rfl rfl)
abbrev cX4_isOn : ByteArray := prog_11_method_9_code
def yX4_isOn : MethodName := ⟨RX4, "isOn", "([I)Z"⟩
def dkwX4_isOn_0 : List UInt8 := [42, 3, 46, 4, 160, 0, 13, 42, 8, 46, 154, 0, 7, 4, 167, 0, 4, 3, 172]
abbrev dktX4_isOn_0 : List UInt8 := dkwX4_isOn_0 ++ []
theorem dksX4_isOn_0 : cX4_isOn.data.toList.drop 0 = dktX4_isOn_0 := by decide +kernel
theorem dX4_isOn_0 : decode cX4_isOn 0 = .ok (.aload_n 0, 1) := dk_42 (dk_at dksX4_isOn_0 0 rfl rfl)
theorem dX4_isOn_1 : decode cX4_isOn 1 = .ok (.iconst 0, 1) := dk_3 (dk_at dksX4_isOn_0 1 rfl rfl)
theorem dX4_isOn_2 : decode cX4_isOn 2 = .ok (.iaload, 1) := dk_46 (dk_at dksX4_isOn_0 2 rfl rfl)
theorem dX4_isOn_3 : decode cX4_isOn 3 = .ok (.iconst 1, 1) := dk_4 (dk_at dksX4_isOn_0 3 rfl rfl)
theorem dX4_isOn_4 : decode cX4_isOn 4 = .ok (.if_icmp .ne 13, 3) := dk_160 0 13 (dk_at dksX4_isOn_0 4 rfl rfl)
theorem dX4_isOn_7 : decode cX4_isOn 7 = .ok (.aload_n 0, 1) := dk_42 (dk_at dksX4_isOn_0 7 rfl rfl)
theorem dX4_isOn_8 : decode cX4_isOn 8 = .ok (.iconst 5, 1) := dk_8 (dk_at dksX4_isOn_0 8 rfl rfl)
theorem dX4_isOn_9 : decode cX4_isOn 9 = .ok (.iaload, 1) := dk_46 (dk_at dksX4_isOn_0 9 rfl rfl)
theorem dX4_isOn_10 : decode cX4_isOn 10 = .ok (.ifCond .ne 7, 3) := dk_154 0 7 (dk_at dksX4_isOn_0 10 rfl rfl)
theorem dX4_isOn_13 : decode cX4_isOn 13 = .ok (.iconst 1, 1) := dk_4 (dk_at dksX4_isOn_0 13 rfl rfl)
theorem dX4_isOn_14 : decode cX4_isOn 14 = .ok (.goto 4, 3) := dk_167 0 4 (dk_at dksX4_isOn_0 14 rfl rfl)
theorem dX4_isOn_17 : decode cX4_isOn 17 = .ok (.iconst 0, 1) := dk_3 (dk_at dksX4_isOn_0 17 rfl rfl)
theorem dX4_isOn_18 : decode cX4_isOn 18 = .ok (.ireturn, 1) := dk_172 (dk_at dksX4_isOn_0 18 rfl rfl)
abbrev cX4_canTell : ByteArray := prog_11_method_45_code
def yX4_canTell : MethodName := ⟨RX4, "canTell", "([II)Z"⟩
def dkwX4_canTell_2 : List UInt8 := [167, 255, 229, 4, 172]
abbrev dktX4_canTell_2 : List UInt8 := dkwX4_canTell_2 ++ []
def dkwX4_canTell_1 : List UInt8 := [162, 0, 25, 43, 28, 42, 180, 0, 38, 29, 46, 184, 0, 70, 153, 0, 5, 3, 172, 132, 3, 1]
abbrev dktX4_canTell_1 : List UInt8 := dkwX4_canTell_1 ++ dktX4_canTell_2
def dkwX4_canTell_0 : List UInt8 := [43, 3, 46, 153, 0, 11, 42, 182, 0, 167, 2, 159, 0, 5, 3, 172, 3, 62, 29, 42, 180, 0, 73]
abbrev dktX4_canTell_0 : List UInt8 := dkwX4_canTell_0 ++ dktX4_canTell_1
theorem dksX4_canTell_0 : cX4_canTell.data.toList.drop 0 = dktX4_canTell_0 := by decide +kernel
theorem dksX4_canTell_1 : cX4_canTell.data.toList.drop 23 = dktX4_canTell_1 := dk_seg dksX4_canTell_0 23 rfl rfl
theorem dksX4_canTell_2 : cX4_canTell.data.toList.drop 45 = dktX4_canTell_2 := dk_seg dksX4_canTell_1 22 rfl rfl
theorem dX4_canTell_0 : decode cX4_canTell 0 = .ok (.aload_n 1, 1) := dk_43 (dk_at dksX4_canTell_0 0 rfl rfl)
theorem dX4_canTell_1 : decode cX4_canTell 1 = .ok (.iconst 0, 1) := dk_3 (dk_at dksX4_canTell_0 1 rfl rfl)
theorem dX4_canTell_2 : decode cX4_canTell 2 = .ok (.iaload, 1) := dk_46 (dk_at dksX4_canTell_0 2 rfl rfl)
theorem dX4_canTell_3 : decode cX4_canTell 3 = .ok (.ifCond .eq 11, 3) := dk_153 0 11 (dk_at dksX4_canTell_0 3 rfl rfl)
theorem dX4_canTell_6 : decode cX4_canTell 6 = .ok (.aload_n 0, 1) := dk_42 (dk_at dksX4_canTell_0 6 rfl rfl)
theorem dX4_canTell_7 : decode cX4_canTell 7 = .ok (.invokevirtual 167, 3) := dk_182 0 167 (dk_at dksX4_canTell_0 7 rfl rfl)
theorem dX4_canTell_10 : decode cX4_canTell 10 = .ok (.iconst (-1), 1) := dk_2 (dk_at dksX4_canTell_0 10 rfl rfl)
theorem dX4_canTell_11 : decode cX4_canTell 11 = .ok (.if_icmp .eq 5, 3) := dk_159 0 5 (dk_at dksX4_canTell_0 11 rfl rfl)
theorem dX4_canTell_14 : decode cX4_canTell 14 = .ok (.iconst 0, 1) := dk_3 (dk_at dksX4_canTell_0 14 rfl rfl)
theorem dX4_canTell_15 : decode cX4_canTell 15 = .ok (.ireturn, 1) := dk_172 (dk_at dksX4_canTell_0 15 rfl rfl)
theorem dX4_canTell_16 : decode cX4_canTell 16 = .ok (.iconst 0, 1) := dk_3 (dk_at dksX4_canTell_0 16 rfl rfl)
theorem dX4_canTell_17 : decode cX4_canTell 17 = .ok (.istore_n 3, 1) := dk_62 (dk_at dksX4_canTell_0 17 rfl rfl)
theorem dX4_canTell_18 : decode cX4_canTell 18 = .ok (.iload_n 3, 1) := dk_29 (dk_at dksX4_canTell_0 18 rfl rfl)
theorem dX4_canTell_19 : decode cX4_canTell 19 = .ok (.aload_n 0, 1) := dk_42 (dk_at dksX4_canTell_0 19 rfl rfl)
theorem dX4_canTell_20 : decode cX4_canTell 20 = .ok (.getfield 73, 3) := dk_180 0 73 (dk_at dksX4_canTell_0 20 rfl rfl)
theorem dX4_canTell_23 : decode cX4_canTell 23 = .ok (.if_icmp .ge 25, 3) := dk_162 0 25 (dk_at dksX4_canTell_1 0 rfl rfl)
theorem dX4_canTell_26 : decode cX4_canTell 26 = .ok (.aload_n 1, 1) := dk_43 (dk_at dksX4_canTell_1 3 rfl rfl)
theorem dX4_canTell_27 : decode cX4_canTell 27 = .ok (.iload_n 2, 1) := dk_28 (dk_at dksX4_canTell_1 4 rfl rfl)
theorem dX4_canTell_28 : decode cX4_canTell 28 = .ok (.aload_n 0, 1) := dk_42 (dk_at dksX4_canTell_1 5 rfl rfl)
theorem dX4_canTell_29 : decode cX4_canTell 29 = .ok (.getfield 38, 3) := dk_180 0 38 (dk_at dksX4_canTell_1 6 rfl rfl)
theorem dX4_canTell_32 : decode cX4_canTell 32 = .ok (.iload_n 3, 1) := dk_29 (dk_at dksX4_canTell_1 9 rfl rfl)
theorem dX4_canTell_33 : decode cX4_canTell 33 = .ok (.iaload, 1) := dk_46 (dk_at dksX4_canTell_1 10 rfl rfl)
theorem dX4_canTell_34 : decode cX4_canTell 34 = .ok (.invokestatic 70, 3) := dk_184 0 70 (dk_at dksX4_canTell_1 11 rfl rfl)
theorem dX4_canTell_37 : decode cX4_canTell 37 = .ok (.ifCond .eq 5, 3) := dk_153 0 5 (dk_at dksX4_canTell_1 14 rfl rfl)
theorem dX4_canTell_40 : decode cX4_canTell 40 = .ok (.iconst 0, 1) := dk_3 (dk_at dksX4_canTell_1 17 rfl rfl)
theorem dX4_canTell_41 : decode cX4_canTell 41 = .ok (.ireturn, 1) := dk_172 (dk_at dksX4_canTell_1 18 rfl rfl)
theorem dX4_canTell_42 : decode cX4_canTell 42 = .ok (.iinc 3 1, 3) := dk_132 3 1 (dk_at dksX4_canTell_1 19 rfl rfl)
theorem dX4_canTell_45 : decode cX4_canTell 45 = .ok (.goto (-27), 3) := dk_167 255 229 (dk_at dksX4_canTell_2 0 rfl rfl)
theorem dX4_canTell_48 : decode cX4_canTell 48 = .ok (.iconst 1, 1) := dk_4 (dk_at dksX4_canTell_2 3 rfl rfl)
theorem dX4_canTell_49 : decode cX4_canTell 49 = .ok (.ireturn, 1) := dk_172 (dk_at dksX4_canTell_2 4 rfl rfl)
abbrev cX4_tellOn : ByteArray := prog_11_method_25_code
def yX4_tellOn : MethodName := ⟨RX4, "tellOn", "([I)I"⟩
def dkwX4_tellOn_9 : List UInt8 := [43, 29, 4, 96, 92, 46, 4, 96, 79, 43, 7, 92, 46, 4, 96, 79, 43, 5, 4, 79, 28, 172]
abbrev dktX4_tellOn_9 : List UInt8 := dkwX4_tellOn_9 ++ []
def dkwX4_tellOn_8 : List UInt8 := [96, 42, 180, 0, 38, 21, 4, 46, 79, 132, 4, 1, 167, 255, 214, 43, 29, 3, 96, 92, 46, 28, 96, 79]
abbrev dktX4_tellOn_8 : List UInt8 := dkwX4_tellOn_8 ++ dktX4_tellOn_9
def dkwX4_tellOn_7 : List UInt8 := [162, 0, 39, 43, 16, 54, 21, 4, 96, 42, 180, 0, 38, 21, 4, 46, 79, 43, 29, 16, 10, 96, 21, 4]
abbrev dktX4_tellOn_7 : List UInt8 := dkwX4_tellOn_7 ++ dktX4_tellOn_8
def dkwX4_tellOn_6 : List UInt8 := [180, 0, 73, 79, 43, 29, 16, 9, 96, 42, 180, 0, 73, 79, 3, 54, 4, 21, 4, 42, 180, 0, 73]
abbrev dktX4_tellOn_6 : List UInt8 := dkwX4_tellOn_6 ++ dktX4_tellOn_7
def dkwX4_tellOn_5 : List UInt8 := [96, 16, 6, 100, 46, 79, 132, 3, 255, 167, 255, 232, 43, 4, 46, 184, 0, 51, 62, 43, 16, 53, 42]
abbrev dktX4_tellOn_5 : List UInt8 := dkwX4_tellOn_5 ++ dktX4_tellOn_6
def dkwX4_tellOn_4 : List UInt8 := [132, 3, 1, 167, 255, 164, 16, 35, 62, 29, 16, 6, 161, 0, 24, 43, 16, 53, 29, 96, 43, 16, 53, 29]
abbrev dktX4_tellOn_4 : List UInt8 := dkwX4_tellOn_4 ++ dktX4_tellOn_5
def dkwX4_tellOn_3 : List UInt8 := [21, 4, 154, 0, 20, 43, 16, 14, 29, 96, 46, 43, 16, 8, 46, 161, 0, 7, 3, 167, 0, 4, 4, 79]
abbrev dktX4_tellOn_3 : List UInt8 := dkwX4_tellOn_3 ++ dktX4_tellOn_4
def dkwX4_tellOn_2 : List UInt8 := [21, 4, 158, 0, 7, 3, 167, 0, 11, 43, 16, 14, 29, 96, 46, 4, 96, 79, 43, 16, 17, 29, 96]
abbrev dktX4_tellOn_2 : List UInt8 := dkwX4_tellOn_2 ++ dktX4_tellOn_3
def dkwX4_tellOn_1 : List UInt8 := [54, 4, 28, 21, 4, 96, 61, 43, 16, 20, 29, 96, 92, 46, 21, 4, 96, 79, 43, 16, 14, 29, 96]
abbrev dktX4_tellOn_1 : List UInt8 := dkwX4_tellOn_1 ++ dktX4_tellOn_2
def dkwX4_tellOn_0 : List UInt8 := [3, 61, 3, 62, 29, 6, 162, 0, 93, 43, 29, 184, 0, 63, 153, 0, 79, 42, 43, 29, 182, 0, 102]
abbrev dktX4_tellOn_0 : List UInt8 := dkwX4_tellOn_0 ++ dktX4_tellOn_1
theorem dksX4_tellOn_0 : cX4_tellOn.data.toList.drop 0 = dktX4_tellOn_0 := by decide +kernel
theorem dksX4_tellOn_1 : cX4_tellOn.data.toList.drop 23 = dktX4_tellOn_1 := dk_seg dksX4_tellOn_0 23 rfl rfl
theorem dksX4_tellOn_2 : cX4_tellOn.data.toList.drop 46 = dktX4_tellOn_2 := dk_seg dksX4_tellOn_1 23 rfl rfl
theorem dksX4_tellOn_3 : cX4_tellOn.data.toList.drop 69 = dktX4_tellOn_3 := dk_seg dksX4_tellOn_2 23 rfl rfl
theorem dksX4_tellOn_4 : cX4_tellOn.data.toList.drop 93 = dktX4_tellOn_4 := dk_seg dksX4_tellOn_3 24 rfl rfl
theorem dksX4_tellOn_5 : cX4_tellOn.data.toList.drop 117 = dktX4_tellOn_5 := dk_seg dksX4_tellOn_4 24 rfl rfl
theorem dksX4_tellOn_6 : cX4_tellOn.data.toList.drop 140 = dktX4_tellOn_6 := dk_seg dksX4_tellOn_5 23 rfl rfl
theorem dksX4_tellOn_7 : cX4_tellOn.data.toList.drop 163 = dktX4_tellOn_7 := dk_seg dksX4_tellOn_6 23 rfl rfl
theorem dksX4_tellOn_8 : cX4_tellOn.data.toList.drop 187 = dktX4_tellOn_8 := dk_seg dksX4_tellOn_7 24 rfl rfl
theorem dksX4_tellOn_9 : cX4_tellOn.data.toList.drop 211 = dktX4_tellOn_9 := dk_seg dksX4_tellOn_8 24 rfl rfl
theorem dX4_tellOn_0 : decode cX4_tellOn 0 = .ok (.iconst 0, 1) := dk_3 (dk_at dksX4_tellOn_0 0 rfl rfl)
theorem dX4_tellOn_1 : decode cX4_tellOn 1 = .ok (.istore_n 2, 1) := dk_61 (dk_at dksX4_tellOn_0 1 rfl rfl)
theorem dX4_tellOn_2 : decode cX4_tellOn 2 = .ok (.iconst 0, 1) := dk_3 (dk_at dksX4_tellOn_0 2 rfl rfl)
theorem dX4_tellOn_3 : decode cX4_tellOn 3 = .ok (.istore_n 3, 1) := dk_62 (dk_at dksX4_tellOn_0 3 rfl rfl)
theorem dX4_tellOn_4 : decode cX4_tellOn 4 = .ok (.iload_n 3, 1) := dk_29 (dk_at dksX4_tellOn_0 4 rfl rfl)
theorem dX4_tellOn_5 : decode cX4_tellOn 5 = .ok (.iconst 3, 1) := dk_6 (dk_at dksX4_tellOn_0 5 rfl rfl)
theorem dX4_tellOn_6 : decode cX4_tellOn 6 = .ok (.if_icmp .ge 93, 3) := dk_162 0 93 (dk_at dksX4_tellOn_0 6 rfl rfl)
theorem dX4_tellOn_9 : decode cX4_tellOn 9 = .ok (.aload_n 1, 1) := dk_43 (dk_at dksX4_tellOn_0 9 rfl rfl)
theorem dX4_tellOn_10 : decode cX4_tellOn 10 = .ok (.iload_n 3, 1) := dk_29 (dk_at dksX4_tellOn_0 10 rfl rfl)
theorem dX4_tellOn_11 : decode cX4_tellOn 11 = .ok (.invokestatic 63, 3) := dk_184 0 63 (dk_at dksX4_tellOn_0 11 rfl rfl)
theorem dX4_tellOn_14 : decode cX4_tellOn 14 = .ok (.ifCond .eq 79, 3) := dk_153 0 79 (dk_at dksX4_tellOn_0 14 rfl rfl)
theorem dX4_tellOn_17 : decode cX4_tellOn 17 = .ok (.aload_n 0, 1) := dk_42 (dk_at dksX4_tellOn_0 17 rfl rfl)
theorem dX4_tellOn_18 : decode cX4_tellOn 18 = .ok (.aload_n 1, 1) := dk_43 (dk_at dksX4_tellOn_0 18 rfl rfl)
theorem dX4_tellOn_19 : decode cX4_tellOn 19 = .ok (.iload_n 3, 1) := dk_29 (dk_at dksX4_tellOn_0 19 rfl rfl)
theorem dX4_tellOn_20 : decode cX4_tellOn 20 = .ok (.invokevirtual 102, 3) := dk_182 0 102 (dk_at dksX4_tellOn_0 20 rfl rfl)
theorem dX4_tellOn_23 : decode cX4_tellOn 23 = .ok (.istore 4, 2) := dk_54 4 (dk_at dksX4_tellOn_1 0 rfl rfl)
theorem dX4_tellOn_25 : decode cX4_tellOn 25 = .ok (.iload_n 2, 1) := dk_28 (dk_at dksX4_tellOn_1 2 rfl rfl)
theorem dX4_tellOn_26 : decode cX4_tellOn 26 = .ok (.iload 4, 2) := dk_21 4 (dk_at dksX4_tellOn_1 3 rfl rfl)
theorem dX4_tellOn_28 : decode cX4_tellOn 28 = .ok (.iadd, 1) := dk_96 (dk_at dksX4_tellOn_1 5 rfl rfl)
theorem dX4_tellOn_29 : decode cX4_tellOn 29 = .ok (.istore_n 2, 1) := dk_61 (dk_at dksX4_tellOn_1 6 rfl rfl)
theorem dX4_tellOn_30 : decode cX4_tellOn 30 = .ok (.aload_n 1, 1) := dk_43 (dk_at dksX4_tellOn_1 7 rfl rfl)
theorem dX4_tellOn_31 : decode cX4_tellOn 31 = .ok (.bipush 20, 2) := dk_16 20 (dk_at dksX4_tellOn_1 8 rfl rfl)
theorem dX4_tellOn_33 : decode cX4_tellOn 33 = .ok (.iload_n 3, 1) := dk_29 (dk_at dksX4_tellOn_1 10 rfl rfl)
theorem dX4_tellOn_34 : decode cX4_tellOn 34 = .ok (.iadd, 1) := dk_96 (dk_at dksX4_tellOn_1 11 rfl rfl)
theorem dX4_tellOn_35 : decode cX4_tellOn 35 = .ok (.dup2, 1) := dk_92 (dk_at dksX4_tellOn_1 12 rfl rfl)
theorem dX4_tellOn_36 : decode cX4_tellOn 36 = .ok (.iaload, 1) := dk_46 (dk_at dksX4_tellOn_1 13 rfl rfl)
theorem dX4_tellOn_37 : decode cX4_tellOn 37 = .ok (.iload 4, 2) := dk_21 4 (dk_at dksX4_tellOn_1 14 rfl rfl)
theorem dX4_tellOn_39 : decode cX4_tellOn 39 = .ok (.iadd, 1) := dk_96 (dk_at dksX4_tellOn_1 16 rfl rfl)
theorem dX4_tellOn_40 : decode cX4_tellOn 40 = .ok (.iastore, 1) := dk_79 (dk_at dksX4_tellOn_1 17 rfl rfl)
theorem dX4_tellOn_41 : decode cX4_tellOn 41 = .ok (.aload_n 1, 1) := dk_43 (dk_at dksX4_tellOn_1 18 rfl rfl)
theorem dX4_tellOn_42 : decode cX4_tellOn 42 = .ok (.bipush 14, 2) := dk_16 14 (dk_at dksX4_tellOn_1 19 rfl rfl)
theorem dX4_tellOn_44 : decode cX4_tellOn 44 = .ok (.iload_n 3, 1) := dk_29 (dk_at dksX4_tellOn_1 21 rfl rfl)
theorem dX4_tellOn_45 : decode cX4_tellOn 45 = .ok (.iadd, 1) := dk_96 (dk_at dksX4_tellOn_1 22 rfl rfl)
theorem dX4_tellOn_46 : decode cX4_tellOn 46 = .ok (.iload 4, 2) := dk_21 4 (dk_at dksX4_tellOn_2 0 rfl rfl)
theorem dX4_tellOn_48 : decode cX4_tellOn 48 = .ok (.ifCond .le 7, 3) := dk_158 0 7 (dk_at dksX4_tellOn_2 2 rfl rfl)
theorem dX4_tellOn_51 : decode cX4_tellOn 51 = .ok (.iconst 0, 1) := dk_3 (dk_at dksX4_tellOn_2 5 rfl rfl)
theorem dX4_tellOn_52 : decode cX4_tellOn 52 = .ok (.goto 11, 3) := dk_167 0 11 (dk_at dksX4_tellOn_2 6 rfl rfl)
theorem dX4_tellOn_55 : decode cX4_tellOn 55 = .ok (.aload_n 1, 1) := dk_43 (dk_at dksX4_tellOn_2 9 rfl rfl)
theorem dX4_tellOn_56 : decode cX4_tellOn 56 = .ok (.bipush 14, 2) := dk_16 14 (dk_at dksX4_tellOn_2 10 rfl rfl)
theorem dX4_tellOn_58 : decode cX4_tellOn 58 = .ok (.iload_n 3, 1) := dk_29 (dk_at dksX4_tellOn_2 12 rfl rfl)
theorem dX4_tellOn_59 : decode cX4_tellOn 59 = .ok (.iadd, 1) := dk_96 (dk_at dksX4_tellOn_2 13 rfl rfl)
theorem dX4_tellOn_60 : decode cX4_tellOn 60 = .ok (.iaload, 1) := dk_46 (dk_at dksX4_tellOn_2 14 rfl rfl)
theorem dX4_tellOn_61 : decode cX4_tellOn 61 = .ok (.iconst 1, 1) := dk_4 (dk_at dksX4_tellOn_2 15 rfl rfl)
theorem dX4_tellOn_62 : decode cX4_tellOn 62 = .ok (.iadd, 1) := dk_96 (dk_at dksX4_tellOn_2 16 rfl rfl)
theorem dX4_tellOn_63 : decode cX4_tellOn 63 = .ok (.iastore, 1) := dk_79 (dk_at dksX4_tellOn_2 17 rfl rfl)
theorem dX4_tellOn_64 : decode cX4_tellOn 64 = .ok (.aload_n 1, 1) := dk_43 (dk_at dksX4_tellOn_2 18 rfl rfl)
theorem dX4_tellOn_65 : decode cX4_tellOn 65 = .ok (.bipush 17, 2) := dk_16 17 (dk_at dksX4_tellOn_2 19 rfl rfl)
theorem dX4_tellOn_67 : decode cX4_tellOn 67 = .ok (.iload_n 3, 1) := dk_29 (dk_at dksX4_tellOn_2 21 rfl rfl)
theorem dX4_tellOn_68 : decode cX4_tellOn 68 = .ok (.iadd, 1) := dk_96 (dk_at dksX4_tellOn_2 22 rfl rfl)
theorem dX4_tellOn_69 : decode cX4_tellOn 69 = .ok (.iload 4, 2) := dk_21 4 (dk_at dksX4_tellOn_3 0 rfl rfl)
theorem dX4_tellOn_71 : decode cX4_tellOn 71 = .ok (.ifCond .ne 20, 3) := dk_154 0 20 (dk_at dksX4_tellOn_3 2 rfl rfl)
theorem dX4_tellOn_74 : decode cX4_tellOn 74 = .ok (.aload_n 1, 1) := dk_43 (dk_at dksX4_tellOn_3 5 rfl rfl)
theorem dX4_tellOn_75 : decode cX4_tellOn 75 = .ok (.bipush 14, 2) := dk_16 14 (dk_at dksX4_tellOn_3 6 rfl rfl)
theorem dX4_tellOn_77 : decode cX4_tellOn 77 = .ok (.iload_n 3, 1) := dk_29 (dk_at dksX4_tellOn_3 8 rfl rfl)
theorem dX4_tellOn_78 : decode cX4_tellOn 78 = .ok (.iadd, 1) := dk_96 (dk_at dksX4_tellOn_3 9 rfl rfl)
theorem dX4_tellOn_79 : decode cX4_tellOn 79 = .ok (.iaload, 1) := dk_46 (dk_at dksX4_tellOn_3 10 rfl rfl)
theorem dX4_tellOn_80 : decode cX4_tellOn 80 = .ok (.aload_n 1, 1) := dk_43 (dk_at dksX4_tellOn_3 11 rfl rfl)
theorem dX4_tellOn_81 : decode cX4_tellOn 81 = .ok (.bipush 8, 2) := dk_16 8 (dk_at dksX4_tellOn_3 12 rfl rfl)
theorem dX4_tellOn_83 : decode cX4_tellOn 83 = .ok (.iaload, 1) := dk_46 (dk_at dksX4_tellOn_3 14 rfl rfl)
theorem dX4_tellOn_84 : decode cX4_tellOn 84 = .ok (.if_icmp .lt 7, 3) := dk_161 0 7 (dk_at dksX4_tellOn_3 15 rfl rfl)
theorem dX4_tellOn_87 : decode cX4_tellOn 87 = .ok (.iconst 0, 1) := dk_3 (dk_at dksX4_tellOn_3 18 rfl rfl)
theorem dX4_tellOn_88 : decode cX4_tellOn 88 = .ok (.goto 4, 3) := dk_167 0 4 (dk_at dksX4_tellOn_3 19 rfl rfl)
theorem dX4_tellOn_91 : decode cX4_tellOn 91 = .ok (.iconst 1, 1) := dk_4 (dk_at dksX4_tellOn_3 22 rfl rfl)
theorem dX4_tellOn_92 : decode cX4_tellOn 92 = .ok (.iastore, 1) := dk_79 (dk_at dksX4_tellOn_3 23 rfl rfl)
theorem dX4_tellOn_93 : decode cX4_tellOn 93 = .ok (.iinc 3 1, 3) := dk_132 3 1 (dk_at dksX4_tellOn_4 0 rfl rfl)
theorem dX4_tellOn_96 : decode cX4_tellOn 96 = .ok (.goto (-92), 3) := dk_167 255 164 (dk_at dksX4_tellOn_4 3 rfl rfl)
theorem dX4_tellOn_99 : decode cX4_tellOn 99 = .ok (.bipush 35, 2) := dk_16 35 (dk_at dksX4_tellOn_4 6 rfl rfl)
theorem dX4_tellOn_101 : decode cX4_tellOn 101 = .ok (.istore_n 3, 1) := dk_62 (dk_at dksX4_tellOn_4 8 rfl rfl)
theorem dX4_tellOn_102 : decode cX4_tellOn 102 = .ok (.iload_n 3, 1) := dk_29 (dk_at dksX4_tellOn_4 9 rfl rfl)
theorem dX4_tellOn_103 : decode cX4_tellOn 103 = .ok (.bipush 6, 2) := dk_16 6 (dk_at dksX4_tellOn_4 10 rfl rfl)
theorem dX4_tellOn_105 : decode cX4_tellOn 105 = .ok (.if_icmp .lt 24, 3) := dk_161 0 24 (dk_at dksX4_tellOn_4 12 rfl rfl)
theorem dX4_tellOn_108 : decode cX4_tellOn 108 = .ok (.aload_n 1, 1) := dk_43 (dk_at dksX4_tellOn_4 15 rfl rfl)
theorem dX4_tellOn_109 : decode cX4_tellOn 109 = .ok (.bipush 53, 2) := dk_16 53 (dk_at dksX4_tellOn_4 16 rfl rfl)
theorem dX4_tellOn_111 : decode cX4_tellOn 111 = .ok (.iload_n 3, 1) := dk_29 (dk_at dksX4_tellOn_4 18 rfl rfl)
theorem dX4_tellOn_112 : decode cX4_tellOn 112 = .ok (.iadd, 1) := dk_96 (dk_at dksX4_tellOn_4 19 rfl rfl)
theorem dX4_tellOn_113 : decode cX4_tellOn 113 = .ok (.aload_n 1, 1) := dk_43 (dk_at dksX4_tellOn_4 20 rfl rfl)
theorem dX4_tellOn_114 : decode cX4_tellOn 114 = .ok (.bipush 53, 2) := dk_16 53 (dk_at dksX4_tellOn_4 21 rfl rfl)
theorem dX4_tellOn_116 : decode cX4_tellOn 116 = .ok (.iload_n 3, 1) := dk_29 (dk_at dksX4_tellOn_4 23 rfl rfl)
theorem dX4_tellOn_117 : decode cX4_tellOn 117 = .ok (.iadd, 1) := dk_96 (dk_at dksX4_tellOn_5 0 rfl rfl)
theorem dX4_tellOn_118 : decode cX4_tellOn 118 = .ok (.bipush 6, 2) := dk_16 6 (dk_at dksX4_tellOn_5 1 rfl rfl)
theorem dX4_tellOn_120 : decode cX4_tellOn 120 = .ok (.isub, 1) := dk_100 (dk_at dksX4_tellOn_5 3 rfl rfl)
theorem dX4_tellOn_121 : decode cX4_tellOn 121 = .ok (.iaload, 1) := dk_46 (dk_at dksX4_tellOn_5 4 rfl rfl)
theorem dX4_tellOn_122 : decode cX4_tellOn 122 = .ok (.iastore, 1) := dk_79 (dk_at dksX4_tellOn_5 5 rfl rfl)
theorem dX4_tellOn_123 : decode cX4_tellOn 123 = .ok (.iinc 3 (-1), 3) := dk_132 3 255 (dk_at dksX4_tellOn_5 6 rfl rfl)
theorem dX4_tellOn_126 : decode cX4_tellOn 126 = .ok (.goto (-24), 3) := dk_167 255 232 (dk_at dksX4_tellOn_5 9 rfl rfl)
theorem dX4_tellOn_129 : decode cX4_tellOn 129 = .ok (.aload_n 1, 1) := dk_43 (dk_at dksX4_tellOn_5 12 rfl rfl)
theorem dX4_tellOn_130 : decode cX4_tellOn 130 = .ok (.iconst 1, 1) := dk_4 (dk_at dksX4_tellOn_5 13 rfl rfl)
theorem dX4_tellOn_131 : decode cX4_tellOn 131 = .ok (.iaload, 1) := dk_46 (dk_at dksX4_tellOn_5 14 rfl rfl)
theorem dX4_tellOn_132 : decode cX4_tellOn 132 = .ok (.invokestatic 51, 3) := dk_184 0 51 (dk_at dksX4_tellOn_5 15 rfl rfl)
theorem dX4_tellOn_135 : decode cX4_tellOn 135 = .ok (.istore_n 3, 1) := dk_62 (dk_at dksX4_tellOn_5 18 rfl rfl)
theorem dX4_tellOn_136 : decode cX4_tellOn 136 = .ok (.aload_n 1, 1) := dk_43 (dk_at dksX4_tellOn_5 19 rfl rfl)
theorem dX4_tellOn_137 : decode cX4_tellOn 137 = .ok (.bipush 53, 2) := dk_16 53 (dk_at dksX4_tellOn_5 20 rfl rfl)
theorem dX4_tellOn_139 : decode cX4_tellOn 139 = .ok (.aload_n 0, 1) := dk_42 (dk_at dksX4_tellOn_5 22 rfl rfl)
theorem dX4_tellOn_140 : decode cX4_tellOn 140 = .ok (.getfield 73, 3) := dk_180 0 73 (dk_at dksX4_tellOn_6 0 rfl rfl)
theorem dX4_tellOn_143 : decode cX4_tellOn 143 = .ok (.iastore, 1) := dk_79 (dk_at dksX4_tellOn_6 3 rfl rfl)
theorem dX4_tellOn_144 : decode cX4_tellOn 144 = .ok (.aload_n 1, 1) := dk_43 (dk_at dksX4_tellOn_6 4 rfl rfl)
theorem dX4_tellOn_145 : decode cX4_tellOn 145 = .ok (.iload_n 3, 1) := dk_29 (dk_at dksX4_tellOn_6 5 rfl rfl)
theorem dX4_tellOn_146 : decode cX4_tellOn 146 = .ok (.bipush 9, 2) := dk_16 9 (dk_at dksX4_tellOn_6 6 rfl rfl)
theorem dX4_tellOn_148 : decode cX4_tellOn 148 = .ok (.iadd, 1) := dk_96 (dk_at dksX4_tellOn_6 8 rfl rfl)
theorem dX4_tellOn_149 : decode cX4_tellOn 149 = .ok (.aload_n 0, 1) := dk_42 (dk_at dksX4_tellOn_6 9 rfl rfl)
theorem dX4_tellOn_150 : decode cX4_tellOn 150 = .ok (.getfield 73, 3) := dk_180 0 73 (dk_at dksX4_tellOn_6 10 rfl rfl)
theorem dX4_tellOn_153 : decode cX4_tellOn 153 = .ok (.iastore, 1) := dk_79 (dk_at dksX4_tellOn_6 13 rfl rfl)
theorem dX4_tellOn_154 : decode cX4_tellOn 154 = .ok (.iconst 0, 1) := dk_3 (dk_at dksX4_tellOn_6 14 rfl rfl)
theorem dX4_tellOn_155 : decode cX4_tellOn 155 = .ok (.istore 4, 2) := dk_54 4 (dk_at dksX4_tellOn_6 15 rfl rfl)
theorem dX4_tellOn_157 : decode cX4_tellOn 157 = .ok (.iload 4, 2) := dk_21 4 (dk_at dksX4_tellOn_6 17 rfl rfl)
theorem dX4_tellOn_159 : decode cX4_tellOn 159 = .ok (.aload_n 0, 1) := dk_42 (dk_at dksX4_tellOn_6 19 rfl rfl)
theorem dX4_tellOn_160 : decode cX4_tellOn 160 = .ok (.getfield 73, 3) := dk_180 0 73 (dk_at dksX4_tellOn_6 20 rfl rfl)
theorem dX4_tellOn_163 : decode cX4_tellOn 163 = .ok (.if_icmp .ge 39, 3) := dk_162 0 39 (dk_at dksX4_tellOn_7 0 rfl rfl)
theorem dX4_tellOn_166 : decode cX4_tellOn 166 = .ok (.aload_n 1, 1) := dk_43 (dk_at dksX4_tellOn_7 3 rfl rfl)
theorem dX4_tellOn_167 : decode cX4_tellOn 167 = .ok (.bipush 54, 2) := dk_16 54 (dk_at dksX4_tellOn_7 4 rfl rfl)
theorem dX4_tellOn_169 : decode cX4_tellOn 169 = .ok (.iload 4, 2) := dk_21 4 (dk_at dksX4_tellOn_7 6 rfl rfl)
theorem dX4_tellOn_171 : decode cX4_tellOn 171 = .ok (.iadd, 1) := dk_96 (dk_at dksX4_tellOn_7 8 rfl rfl)
theorem dX4_tellOn_172 : decode cX4_tellOn 172 = .ok (.aload_n 0, 1) := dk_42 (dk_at dksX4_tellOn_7 9 rfl rfl)
theorem dX4_tellOn_173 : decode cX4_tellOn 173 = .ok (.getfield 38, 3) := dk_180 0 38 (dk_at dksX4_tellOn_7 10 rfl rfl)
theorem dX4_tellOn_176 : decode cX4_tellOn 176 = .ok (.iload 4, 2) := dk_21 4 (dk_at dksX4_tellOn_7 13 rfl rfl)
theorem dX4_tellOn_178 : decode cX4_tellOn 178 = .ok (.iaload, 1) := dk_46 (dk_at dksX4_tellOn_7 15 rfl rfl)
theorem dX4_tellOn_179 : decode cX4_tellOn 179 = .ok (.iastore, 1) := dk_79 (dk_at dksX4_tellOn_7 16 rfl rfl)
theorem dX4_tellOn_180 : decode cX4_tellOn 180 = .ok (.aload_n 1, 1) := dk_43 (dk_at dksX4_tellOn_7 17 rfl rfl)
theorem dX4_tellOn_181 : decode cX4_tellOn 181 = .ok (.iload_n 3, 1) := dk_29 (dk_at dksX4_tellOn_7 18 rfl rfl)
theorem dX4_tellOn_182 : decode cX4_tellOn 182 = .ok (.bipush 10, 2) := dk_16 10 (dk_at dksX4_tellOn_7 19 rfl rfl)
theorem dX4_tellOn_184 : decode cX4_tellOn 184 = .ok (.iadd, 1) := dk_96 (dk_at dksX4_tellOn_7 21 rfl rfl)
theorem dX4_tellOn_185 : decode cX4_tellOn 185 = .ok (.iload 4, 2) := dk_21 4 (dk_at dksX4_tellOn_7 22 rfl rfl)
theorem dX4_tellOn_187 : decode cX4_tellOn 187 = .ok (.iadd, 1) := dk_96 (dk_at dksX4_tellOn_8 0 rfl rfl)
theorem dX4_tellOn_188 : decode cX4_tellOn 188 = .ok (.aload_n 0, 1) := dk_42 (dk_at dksX4_tellOn_8 1 rfl rfl)
theorem dX4_tellOn_189 : decode cX4_tellOn 189 = .ok (.getfield 38, 3) := dk_180 0 38 (dk_at dksX4_tellOn_8 2 rfl rfl)
theorem dX4_tellOn_192 : decode cX4_tellOn 192 = .ok (.iload 4, 2) := dk_21 4 (dk_at dksX4_tellOn_8 5 rfl rfl)
theorem dX4_tellOn_194 : decode cX4_tellOn 194 = .ok (.iaload, 1) := dk_46 (dk_at dksX4_tellOn_8 7 rfl rfl)
theorem dX4_tellOn_195 : decode cX4_tellOn 195 = .ok (.iastore, 1) := dk_79 (dk_at dksX4_tellOn_8 8 rfl rfl)
theorem dX4_tellOn_196 : decode cX4_tellOn 196 = .ok (.iinc 4 1, 3) := dk_132 4 1 (dk_at dksX4_tellOn_8 9 rfl rfl)
theorem dX4_tellOn_199 : decode cX4_tellOn 199 = .ok (.goto (-42), 3) := dk_167 255 214 (dk_at dksX4_tellOn_8 12 rfl rfl)
theorem dX4_tellOn_202 : decode cX4_tellOn 202 = .ok (.aload_n 1, 1) := dk_43 (dk_at dksX4_tellOn_8 15 rfl rfl)
theorem dX4_tellOn_203 : decode cX4_tellOn 203 = .ok (.iload_n 3, 1) := dk_29 (dk_at dksX4_tellOn_8 16 rfl rfl)
theorem dX4_tellOn_204 : decode cX4_tellOn 204 = .ok (.iconst 0, 1) := dk_3 (dk_at dksX4_tellOn_8 17 rfl rfl)
theorem dX4_tellOn_205 : decode cX4_tellOn 205 = .ok (.iadd, 1) := dk_96 (dk_at dksX4_tellOn_8 18 rfl rfl)
theorem dX4_tellOn_206 : decode cX4_tellOn 206 = .ok (.dup2, 1) := dk_92 (dk_at dksX4_tellOn_8 19 rfl rfl)
theorem dX4_tellOn_207 : decode cX4_tellOn 207 = .ok (.iaload, 1) := dk_46 (dk_at dksX4_tellOn_8 20 rfl rfl)
theorem dX4_tellOn_208 : decode cX4_tellOn 208 = .ok (.iload_n 2, 1) := dk_28 (dk_at dksX4_tellOn_8 21 rfl rfl)
theorem dX4_tellOn_209 : decode cX4_tellOn 209 = .ok (.iadd, 1) := dk_96 (dk_at dksX4_tellOn_8 22 rfl rfl)
theorem dX4_tellOn_210 : decode cX4_tellOn 210 = .ok (.iastore, 1) := dk_79 (dk_at dksX4_tellOn_8 23 rfl rfl)
theorem dX4_tellOn_211 : decode cX4_tellOn 211 = .ok (.aload_n 1, 1) := dk_43 (dk_at dksX4_tellOn_9 0 rfl rfl)
theorem dX4_tellOn_212 : decode cX4_tellOn 212 = .ok (.iload_n 3, 1) := dk_29 (dk_at dksX4_tellOn_9 1 rfl rfl)
theorem dX4_tellOn_213 : decode cX4_tellOn 213 = .ok (.iconst 1, 1) := dk_4 (dk_at dksX4_tellOn_9 2 rfl rfl)
theorem dX4_tellOn_214 : decode cX4_tellOn 214 = .ok (.iadd, 1) := dk_96 (dk_at dksX4_tellOn_9 3 rfl rfl)
theorem dX4_tellOn_215 : decode cX4_tellOn 215 = .ok (.dup2, 1) := dk_92 (dk_at dksX4_tellOn_9 4 rfl rfl)
theorem dX4_tellOn_216 : decode cX4_tellOn 216 = .ok (.iaload, 1) := dk_46 (dk_at dksX4_tellOn_9 5 rfl rfl)
theorem dX4_tellOn_217 : decode cX4_tellOn 217 = .ok (.iconst 1, 1) := dk_4 (dk_at dksX4_tellOn_9 6 rfl rfl)
theorem dX4_tellOn_218 : decode cX4_tellOn 218 = .ok (.iadd, 1) := dk_96 (dk_at dksX4_tellOn_9 7 rfl rfl)
theorem dX4_tellOn_219 : decode cX4_tellOn 219 = .ok (.iastore, 1) := dk_79 (dk_at dksX4_tellOn_9 8 rfl rfl)
theorem dX4_tellOn_220 : decode cX4_tellOn 220 = .ok (.aload_n 1, 1) := dk_43 (dk_at dksX4_tellOn_9 9 rfl rfl)
theorem dX4_tellOn_221 : decode cX4_tellOn 221 = .ok (.iconst 4, 1) := dk_7 (dk_at dksX4_tellOn_9 10 rfl rfl)
theorem dX4_tellOn_222 : decode cX4_tellOn 222 = .ok (.dup2, 1) := dk_92 (dk_at dksX4_tellOn_9 11 rfl rfl)
theorem dX4_tellOn_223 : decode cX4_tellOn 223 = .ok (.iaload, 1) := dk_46 (dk_at dksX4_tellOn_9 12 rfl rfl)
theorem dX4_tellOn_224 : decode cX4_tellOn 224 = .ok (.iconst 1, 1) := dk_4 (dk_at dksX4_tellOn_9 13 rfl rfl)
theorem dX4_tellOn_225 : decode cX4_tellOn 225 = .ok (.iadd, 1) := dk_96 (dk_at dksX4_tellOn_9 14 rfl rfl)
theorem dX4_tellOn_226 : decode cX4_tellOn 226 = .ok (.iastore, 1) := dk_79 (dk_at dksX4_tellOn_9 15 rfl rfl)
theorem dX4_tellOn_227 : decode cX4_tellOn 227 = .ok (.aload_n 1, 1) := dk_43 (dk_at dksX4_tellOn_9 16 rfl rfl)
theorem dX4_tellOn_228 : decode cX4_tellOn 228 = .ok (.iconst 2, 1) := dk_5 (dk_at dksX4_tellOn_9 17 rfl rfl)
theorem dX4_tellOn_229 : decode cX4_tellOn 229 = .ok (.iconst 1, 1) := dk_4 (dk_at dksX4_tellOn_9 18 rfl rfl)
theorem dX4_tellOn_230 : decode cX4_tellOn 230 = .ok (.iastore, 1) := dk_79 (dk_at dksX4_tellOn_9 19 rfl rfl)
theorem dX4_tellOn_231 : decode cX4_tellOn 231 = .ok (.iload_n 2, 1) := dk_28 (dk_at dksX4_tellOn_9 20 rfl rfl)
theorem dX4_tellOn_232 : decode cX4_tellOn 232 = .ok (.ireturn, 1) := dk_172 (dk_at dksX4_tellOn_9 21 rfl rfl)
abbrev cX4_isThere : ByteArray := prog_11_method_14_code
def yX4_isThere : MethodName := ⟨RX4, "isThere", "([II)Z"⟩
def dkwX4_isThere_0 : List UInt8 := [42, 16, 17, 27, 96, 46, 4, 160, 0, 7, 4, 167, 0, 4, 3, 172]
abbrev dktX4_isThere_0 : List UInt8 := dkwX4_isThere_0 ++ []
theorem dksX4_isThere_0 : cX4_isThere.data.toList.drop 0 = dktX4_isThere_0 := by decide +kernel
theorem dX4_isThere_0 : decode cX4_isThere 0 = .ok (.aload_n 0, 1) := dk_42 (dk_at dksX4_isThere_0 0 rfl rfl)
theorem dX4_isThere_1 : decode cX4_isThere 1 = .ok (.bipush 17, 2) := dk_16 17 (dk_at dksX4_isThere_0 1 rfl rfl)
theorem dX4_isThere_3 : decode cX4_isThere 3 = .ok (.iload_n 1, 1) := dk_27 (dk_at dksX4_isThere_0 3 rfl rfl)
theorem dX4_isThere_4 : decode cX4_isThere 4 = .ok (.iadd, 1) := dk_96 (dk_at dksX4_isThere_0 4 rfl rfl)
theorem dX4_isThere_5 : decode cX4_isThere 5 = .ok (.iaload, 1) := dk_46 (dk_at dksX4_isThere_0 5 rfl rfl)
theorem dX4_isThere_6 : decode cX4_isThere 6 = .ok (.iconst 1, 1) := dk_4 (dk_at dksX4_isThere_0 6 rfl rfl)
theorem dX4_isThere_7 : decode cX4_isThere 7 = .ok (.if_icmp .ne 7, 3) := dk_160 0 7 (dk_at dksX4_isThere_0 7 rfl rfl)
theorem dX4_isThere_10 : decode cX4_isThere 10 = .ok (.iconst 1, 1) := dk_4 (dk_at dksX4_isThere_0 10 rfl rfl)
theorem dX4_isThere_11 : decode cX4_isThere 11 = .ok (.goto 4, 3) := dk_167 0 4 (dk_at dksX4_isThere_0 11 rfl rfl)
theorem dX4_isThere_14 : decode cX4_isThere 14 = .ok (.iconst 0, 1) := dk_3 (dk_at dksX4_isThere_0 14 rfl rfl)
theorem dX4_isThere_15 : decode cX4_isThere 15 = .ok (.ireturn, 1) := dk_172 (dk_at dksX4_isThere_0 15 rfl rfl)
abbrev cX4_hear : ByteArray := prog_11_method_24_code
def yX4_hear : MethodName := ⟨RX4, "hear", "([II)I"⟩
def dkwX4_hear_2 : List UInt8 := [3, 96, 62, 132, 4, 1, 167, 255, 207, 29, 172]
abbrev dktX4_hear_2 : List UInt8 := dkwX4_hear_2 ++ []
def dkwX4_hear_1 : List UInt8 := [184, 0, 66, 153, 0, 21, 43, 42, 180, 0, 38, 21, 4, 46, 184, 0, 59, 154, 0, 7, 4, 167, 0, 4]
abbrev dktX4_hear_1 : List UInt8 := dkwX4_hear_1 ++ dktX4_hear_2
def dkwX4_hear_0 : List UInt8 := [3, 62, 3, 54, 4, 21, 4, 42, 180, 0, 73, 162, 0, 46, 29, 43, 28, 42, 180, 0, 38, 21, 4, 46]
abbrev dktX4_hear_0 : List UInt8 := dkwX4_hear_0 ++ dktX4_hear_1
theorem dksX4_hear_0 : cX4_hear.data.toList.drop 0 = dktX4_hear_0 := by decide +kernel
theorem dksX4_hear_1 : cX4_hear.data.toList.drop 24 = dktX4_hear_1 := dk_seg dksX4_hear_0 24 rfl rfl
theorem dksX4_hear_2 : cX4_hear.data.toList.drop 48 = dktX4_hear_2 := dk_seg dksX4_hear_1 24 rfl rfl
theorem dX4_hear_0 : decode cX4_hear 0 = .ok (.iconst 0, 1) := dk_3 (dk_at dksX4_hear_0 0 rfl rfl)
theorem dX4_hear_1 : decode cX4_hear 1 = .ok (.istore_n 3, 1) := dk_62 (dk_at dksX4_hear_0 1 rfl rfl)
theorem dX4_hear_2 : decode cX4_hear 2 = .ok (.iconst 0, 1) := dk_3 (dk_at dksX4_hear_0 2 rfl rfl)
theorem dX4_hear_3 : decode cX4_hear 3 = .ok (.istore 4, 2) := dk_54 4 (dk_at dksX4_hear_0 3 rfl rfl)
theorem dX4_hear_5 : decode cX4_hear 5 = .ok (.iload 4, 2) := dk_21 4 (dk_at dksX4_hear_0 5 rfl rfl)
theorem dX4_hear_7 : decode cX4_hear 7 = .ok (.aload_n 0, 1) := dk_42 (dk_at dksX4_hear_0 7 rfl rfl)
theorem dX4_hear_8 : decode cX4_hear 8 = .ok (.getfield 73, 3) := dk_180 0 73 (dk_at dksX4_hear_0 8 rfl rfl)
theorem dX4_hear_11 : decode cX4_hear 11 = .ok (.if_icmp .ge 46, 3) := dk_162 0 46 (dk_at dksX4_hear_0 11 rfl rfl)
theorem dX4_hear_14 : decode cX4_hear 14 = .ok (.iload_n 3, 1) := dk_29 (dk_at dksX4_hear_0 14 rfl rfl)
theorem dX4_hear_15 : decode cX4_hear 15 = .ok (.aload_n 1, 1) := dk_43 (dk_at dksX4_hear_0 15 rfl rfl)
theorem dX4_hear_16 : decode cX4_hear 16 = .ok (.iload_n 2, 1) := dk_28 (dk_at dksX4_hear_0 16 rfl rfl)
theorem dX4_hear_17 : decode cX4_hear 17 = .ok (.aload_n 0, 1) := dk_42 (dk_at dksX4_hear_0 17 rfl rfl)
theorem dX4_hear_18 : decode cX4_hear 18 = .ok (.getfield 38, 3) := dk_180 0 38 (dk_at dksX4_hear_0 18 rfl rfl)
theorem dX4_hear_21 : decode cX4_hear 21 = .ok (.iload 4, 2) := dk_21 4 (dk_at dksX4_hear_0 21 rfl rfl)
theorem dX4_hear_23 : decode cX4_hear 23 = .ok (.iaload, 1) := dk_46 (dk_at dksX4_hear_0 23 rfl rfl)
theorem dX4_hear_24 : decode cX4_hear 24 = .ok (.invokestatic 66, 3) := dk_184 0 66 (dk_at dksX4_hear_1 0 rfl rfl)
theorem dX4_hear_27 : decode cX4_hear 27 = .ok (.ifCond .eq 21, 3) := dk_153 0 21 (dk_at dksX4_hear_1 3 rfl rfl)
theorem dX4_hear_30 : decode cX4_hear 30 = .ok (.aload_n 1, 1) := dk_43 (dk_at dksX4_hear_1 6 rfl rfl)
theorem dX4_hear_31 : decode cX4_hear 31 = .ok (.aload_n 0, 1) := dk_42 (dk_at dksX4_hear_1 7 rfl rfl)
theorem dX4_hear_32 : decode cX4_hear 32 = .ok (.getfield 38, 3) := dk_180 0 38 (dk_at dksX4_hear_1 8 rfl rfl)
theorem dX4_hear_35 : decode cX4_hear 35 = .ok (.iload 4, 2) := dk_21 4 (dk_at dksX4_hear_1 11 rfl rfl)
theorem dX4_hear_37 : decode cX4_hear 37 = .ok (.iaload, 1) := dk_46 (dk_at dksX4_hear_1 13 rfl rfl)
theorem dX4_hear_38 : decode cX4_hear 38 = .ok (.invokestatic 59, 3) := dk_184 0 59 (dk_at dksX4_hear_1 14 rfl rfl)
theorem dX4_hear_41 : decode cX4_hear 41 = .ok (.ifCond .ne 7, 3) := dk_154 0 7 (dk_at dksX4_hear_1 17 rfl rfl)
theorem dX4_hear_44 : decode cX4_hear 44 = .ok (.iconst 1, 1) := dk_4 (dk_at dksX4_hear_1 20 rfl rfl)
theorem dX4_hear_45 : decode cX4_hear 45 = .ok (.goto 4, 3) := dk_167 0 4 (dk_at dksX4_hear_1 21 rfl rfl)
theorem dX4_hear_48 : decode cX4_hear 48 = .ok (.iconst 0, 1) := dk_3 (dk_at dksX4_hear_2 0 rfl rfl)
theorem dX4_hear_49 : decode cX4_hear 49 = .ok (.iadd, 1) := dk_96 (dk_at dksX4_hear_2 1 rfl rfl)
theorem dX4_hear_50 : decode cX4_hear 50 = .ok (.istore_n 3, 1) := dk_62 (dk_at dksX4_hear_2 2 rfl rfl)
theorem dX4_hear_51 : decode cX4_hear 51 = .ok (.iinc 4 1, 3) := dk_132 4 1 (dk_at dksX4_hear_2 3 rfl rfl)
theorem dX4_hear_54 : decode cX4_hear 54 = .ok (.goto (-49), 3) := dk_167 255 207 (dk_at dksX4_hear_2 6 rfl rfl)
theorem dX4_hear_57 : decode cX4_hear 57 = .ok (.iload_n 3, 1) := dk_29 (dk_at dksX4_hear_2 9 rfl rfl)
theorem dX4_hear_58 : decode cX4_hear 58 = .ok (.ireturn, 1) := dk_172 (dk_at dksX4_hear_2 10 rfl rfl)
abbrev cX4_likes : ByteArray := prog_11_method_15_code
def yX4_likes : MethodName := ⟨RX4, "likes", "([III)Z"⟩
def dkwX4_likes_0 : List UInt8 := [42, 16, 11, 27, 96, 46, 28, 122, 4, 126, 4, 160, 0, 7, 4, 167, 0, 4, 3, 172]
abbrev dktX4_likes_0 : List UInt8 := dkwX4_likes_0 ++ []
theorem dksX4_likes_0 : cX4_likes.data.toList.drop 0 = dktX4_likes_0 := by decide +kernel
theorem dX4_likes_0 : decode cX4_likes 0 = .ok (.aload_n 0, 1) := dk_42 (dk_at dksX4_likes_0 0 rfl rfl)
theorem dX4_likes_1 : decode cX4_likes 1 = .ok (.bipush 11, 2) := dk_16 11 (dk_at dksX4_likes_0 1 rfl rfl)
theorem dX4_likes_3 : decode cX4_likes 3 = .ok (.iload_n 1, 1) := dk_27 (dk_at dksX4_likes_0 3 rfl rfl)
theorem dX4_likes_4 : decode cX4_likes 4 = .ok (.iadd, 1) := dk_96 (dk_at dksX4_likes_0 4 rfl rfl)
theorem dX4_likes_5 : decode cX4_likes 5 = .ok (.iaload, 1) := dk_46 (dk_at dksX4_likes_0 5 rfl rfl)
theorem dX4_likes_6 : decode cX4_likes 6 = .ok (.iload_n 2, 1) := dk_28 (dk_at dksX4_likes_0 6 rfl rfl)
theorem dX4_likes_7 : decode cX4_likes 7 = .ok (.ishr, 1) := dk_122 (dk_at dksX4_likes_0 7 rfl rfl)
theorem dX4_likes_8 : decode cX4_likes 8 = .ok (.iconst 1, 1) := dk_4 (dk_at dksX4_likes_0 8 rfl rfl)
theorem dX4_likes_9 : decode cX4_likes 9 = .ok (.iand, 1) := dk_126 (dk_at dksX4_likes_0 9 rfl rfl)
theorem dX4_likes_10 : decode cX4_likes 10 = .ok (.iconst 1, 1) := dk_4 (dk_at dksX4_likes_0 10 rfl rfl)
theorem dX4_likes_11 : decode cX4_likes 11 = .ok (.if_icmp .ne 7, 3) := dk_160 0 7 (dk_at dksX4_likes_0 11 rfl rfl)
theorem dX4_likes_14 : decode cX4_likes 14 = .ok (.iconst 1, 1) := dk_4 (dk_at dksX4_likes_0 14 rfl rfl)
theorem dX4_likes_15 : decode cX4_likes 15 = .ok (.goto 4, 3) := dk_167 0 4 (dk_at dksX4_likes_0 15 rfl rfl)
theorem dX4_likes_18 : decode cX4_likes 18 = .ok (.iconst 0, 1) := dk_3 (dk_at dksX4_likes_0 18 rfl rfl)
theorem dX4_likes_19 : decode cX4_likes 19 = .ok (.ireturn, 1) := dk_172 (dk_at dksX4_likes_0 19 rfl rfl)
abbrev cX4_forbid : ByteArray := prog_11_method_48_code
def yX4_forbid : MethodName := ⟨RX4, "forbid", "(I)I"⟩
def dkwX4_forbid_2 : List UInt8 := [172]
abbrev dktX4_forbid_2 : List UInt8 := dkwX4_forbid_2 ++ []
def dkwX4_forbid_1 : List UInt8 := [167, 0, 4, 5, 182, 0, 161, 153, 0, 5, 3, 172, 42, 182, 0, 182, 42, 180, 0, 13, 27, 184, 0, 143]
abbrev dktX4_forbid_1 : List UInt8 := dkwX4_forbid_1 ++ dktX4_forbid_2
def dkwX4_forbid_0 : List UInt8 := [42, 27, 184, 0, 164, 154, 0, 7, 4, 167, 0, 19, 42, 180, 0, 13, 27, 184, 0, 120, 153, 0, 7, 3]
abbrev dktX4_forbid_0 : List UInt8 := dkwX4_forbid_0 ++ dktX4_forbid_1
theorem dksX4_forbid_0 : cX4_forbid.data.toList.drop 0 = dktX4_forbid_0 := by decide +kernel
theorem dksX4_forbid_1 : cX4_forbid.data.toList.drop 24 = dktX4_forbid_1 := dk_seg dksX4_forbid_0 24 rfl rfl
theorem dksX4_forbid_2 : cX4_forbid.data.toList.drop 48 = dktX4_forbid_2 := dk_seg dksX4_forbid_1 24 rfl rfl
theorem dX4_forbid_0 : decode cX4_forbid 0 = .ok (.aload_n 0, 1) := dk_42 (dk_at dksX4_forbid_0 0 rfl rfl)
theorem dX4_forbid_1 : decode cX4_forbid 1 = .ok (.iload_n 1, 1) := dk_27 (dk_at dksX4_forbid_0 1 rfl rfl)
theorem dX4_forbid_2 : decode cX4_forbid 2 = .ok (.invokestatic 164, 3) := dk_184 0 164 (dk_at dksX4_forbid_0 2 rfl rfl)
theorem dX4_forbid_5 : decode cX4_forbid 5 = .ok (.ifCond .ne 7, 3) := dk_154 0 7 (dk_at dksX4_forbid_0 5 rfl rfl)
theorem dX4_forbid_8 : decode cX4_forbid 8 = .ok (.iconst 1, 1) := dk_4 (dk_at dksX4_forbid_0 8 rfl rfl)
theorem dX4_forbid_9 : decode cX4_forbid 9 = .ok (.goto 19, 3) := dk_167 0 19 (dk_at dksX4_forbid_0 9 rfl rfl)
theorem dX4_forbid_12 : decode cX4_forbid 12 = .ok (.aload_n 0, 1) := dk_42 (dk_at dksX4_forbid_0 12 rfl rfl)
theorem dX4_forbid_13 : decode cX4_forbid 13 = .ok (.getfield 13, 3) := dk_180 0 13 (dk_at dksX4_forbid_0 13 rfl rfl)
theorem dX4_forbid_16 : decode cX4_forbid 16 = .ok (.iload_n 1, 1) := dk_27 (dk_at dksX4_forbid_0 16 rfl rfl)
theorem dX4_forbid_17 : decode cX4_forbid 17 = .ok (.invokestatic 120, 3) := dk_184 0 120 (dk_at dksX4_forbid_0 17 rfl rfl)
theorem dX4_forbid_20 : decode cX4_forbid 20 = .ok (.ifCond .eq 7, 3) := dk_153 0 7 (dk_at dksX4_forbid_0 20 rfl rfl)
theorem dX4_forbid_23 : decode cX4_forbid 23 = .ok (.iconst 0, 1) := dk_3 (dk_at dksX4_forbid_0 23 rfl rfl)
theorem dX4_forbid_24 : decode cX4_forbid 24 = .ok (.goto 4, 3) := dk_167 0 4 (dk_at dksX4_forbid_1 0 rfl rfl)
theorem dX4_forbid_27 : decode cX4_forbid 27 = .ok (.iconst 2, 1) := dk_5 (dk_at dksX4_forbid_1 3 rfl rfl)
theorem dX4_forbid_28 : decode cX4_forbid 28 = .ok (.invokevirtual 161, 3) := dk_182 0 161 (dk_at dksX4_forbid_1 4 rfl rfl)
theorem dX4_forbid_31 : decode cX4_forbid 31 = .ok (.ifCond .eq 5, 3) := dk_153 0 5 (dk_at dksX4_forbid_1 7 rfl rfl)
theorem dX4_forbid_34 : decode cX4_forbid 34 = .ok (.iconst 0, 1) := dk_3 (dk_at dksX4_forbid_1 10 rfl rfl)
theorem dX4_forbid_35 : decode cX4_forbid 35 = .ok (.ireturn, 1) := dk_172 (dk_at dksX4_forbid_1 11 rfl rfl)
theorem dX4_forbid_36 : decode cX4_forbid 36 = .ok (.aload_n 0, 1) := dk_42 (dk_at dksX4_forbid_1 12 rfl rfl)
theorem dX4_forbid_37 : decode cX4_forbid 37 = .ok (.invokevirtual 182, 3) := dk_182 0 182 (dk_at dksX4_forbid_1 13 rfl rfl)
theorem dX4_forbid_40 : decode cX4_forbid 40 = .ok (.aload_n 0, 1) := dk_42 (dk_at dksX4_forbid_1 16 rfl rfl)
theorem dX4_forbid_41 : decode cX4_forbid 41 = .ok (.getfield 13, 3) := dk_180 0 13 (dk_at dksX4_forbid_1 17 rfl rfl)
theorem dX4_forbid_44 : decode cX4_forbid 44 = .ok (.iload_n 1, 1) := dk_27 (dk_at dksX4_forbid_1 20 rfl rfl)
theorem dX4_forbid_45 : decode cX4_forbid 45 = .ok (.invokestatic 143, 3) := dk_184 0 143 (dk_at dksX4_forbid_1 21 rfl rfl)
theorem dX4_forbid_48 : decode cX4_forbid 48 = .ok (.ireturn, 1) := dk_172 (dk_at dksX4_forbid_2 0 rfl rfl)
abbrev cX4_canForbid : ByteArray := prog_11_method_26_code
def yX4_canForbid : MethodName := ⟨RX4, "canForbid", "([II)Z"⟩
def dkwX4_canForbid_1 : List UInt8 := [184, 0, 110, 153, 0, 16, 42, 28, 27, 184, 0, 70, 154, 0, 7, 4, 167, 0, 4, 3, 172]
abbrev dktX4_canForbid_1 : List UInt8 := dkwX4_canForbid_1 ++ []
def dkwX4_canForbid_0 : List UInt8 := [4, 42, 4, 46, 100, 61, 42, 184, 0, 106, 153, 0, 32, 42, 5, 46, 4, 160, 0, 25, 42, 28, 27]
abbrev dktX4_canForbid_0 : List UInt8 := dkwX4_canForbid_0 ++ dktX4_canForbid_1
theorem dksX4_canForbid_0 : cX4_canForbid.data.toList.drop 0 = dktX4_canForbid_0 := by decide +kernel
theorem dksX4_canForbid_1 : cX4_canForbid.data.toList.drop 23 = dktX4_canForbid_1 := dk_seg dksX4_canForbid_0 23 rfl rfl
theorem dX4_canForbid_0 : decode cX4_canForbid 0 = .ok (.iconst 1, 1) := dk_4 (dk_at dksX4_canForbid_0 0 rfl rfl)
theorem dX4_canForbid_1 : decode cX4_canForbid 1 = .ok (.aload_n 0, 1) := dk_42 (dk_at dksX4_canForbid_0 1 rfl rfl)
theorem dX4_canForbid_2 : decode cX4_canForbid 2 = .ok (.iconst 1, 1) := dk_4 (dk_at dksX4_canForbid_0 2 rfl rfl)
theorem dX4_canForbid_3 : decode cX4_canForbid 3 = .ok (.iaload, 1) := dk_46 (dk_at dksX4_canForbid_0 3 rfl rfl)
theorem dX4_canForbid_4 : decode cX4_canForbid 4 = .ok (.isub, 1) := dk_100 (dk_at dksX4_canForbid_0 4 rfl rfl)
theorem dX4_canForbid_5 : decode cX4_canForbid 5 = .ok (.istore_n 2, 1) := dk_61 (dk_at dksX4_canForbid_0 5 rfl rfl)
theorem dX4_canForbid_6 : decode cX4_canForbid 6 = .ok (.aload_n 0, 1) := dk_42 (dk_at dksX4_canForbid_0 6 rfl rfl)
theorem dX4_canForbid_7 : decode cX4_canForbid 7 = .ok (.invokestatic 106, 3) := dk_184 0 106 (dk_at dksX4_canForbid_0 7 rfl rfl)
theorem dX4_canForbid_10 : decode cX4_canForbid 10 = .ok (.ifCond .eq 32, 3) := dk_153 0 32 (dk_at dksX4_canForbid_0 10 rfl rfl)
theorem dX4_canForbid_13 : decode cX4_canForbid 13 = .ok (.aload_n 0, 1) := dk_42 (dk_at dksX4_canForbid_0 13 rfl rfl)
theorem dX4_canForbid_14 : decode cX4_canForbid 14 = .ok (.iconst 2, 1) := dk_5 (dk_at dksX4_canForbid_0 14 rfl rfl)
theorem dX4_canForbid_15 : decode cX4_canForbid 15 = .ok (.iaload, 1) := dk_46 (dk_at dksX4_canForbid_0 15 rfl rfl)
theorem dX4_canForbid_16 : decode cX4_canForbid 16 = .ok (.iconst 1, 1) := dk_4 (dk_at dksX4_canForbid_0 16 rfl rfl)
theorem dX4_canForbid_17 : decode cX4_canForbid 17 = .ok (.if_icmp .ne 25, 3) := dk_160 0 25 (dk_at dksX4_canForbid_0 17 rfl rfl)
theorem dX4_canForbid_20 : decode cX4_canForbid 20 = .ok (.aload_n 0, 1) := dk_42 (dk_at dksX4_canForbid_0 20 rfl rfl)
theorem dX4_canForbid_21 : decode cX4_canForbid 21 = .ok (.iload_n 2, 1) := dk_28 (dk_at dksX4_canForbid_0 21 rfl rfl)
theorem dX4_canForbid_22 : decode cX4_canForbid 22 = .ok (.iload_n 1, 1) := dk_27 (dk_at dksX4_canForbid_0 22 rfl rfl)
theorem dX4_canForbid_23 : decode cX4_canForbid 23 = .ok (.invokestatic 110, 3) := dk_184 0 110 (dk_at dksX4_canForbid_1 0 rfl rfl)
theorem dX4_canForbid_26 : decode cX4_canForbid 26 = .ok (.ifCond .eq 16, 3) := dk_153 0 16 (dk_at dksX4_canForbid_1 3 rfl rfl)
theorem dX4_canForbid_29 : decode cX4_canForbid 29 = .ok (.aload_n 0, 1) := dk_42 (dk_at dksX4_canForbid_1 6 rfl rfl)
theorem dX4_canForbid_30 : decode cX4_canForbid 30 = .ok (.iload_n 2, 1) := dk_28 (dk_at dksX4_canForbid_1 7 rfl rfl)
theorem dX4_canForbid_31 : decode cX4_canForbid 31 = .ok (.iload_n 1, 1) := dk_27 (dk_at dksX4_canForbid_1 8 rfl rfl)
theorem dX4_canForbid_32 : decode cX4_canForbid 32 = .ok (.invokestatic 70, 3) := dk_184 0 70 (dk_at dksX4_canForbid_1 9 rfl rfl)
theorem dX4_canForbid_35 : decode cX4_canForbid 35 = .ok (.ifCond .ne 7, 3) := dk_154 0 7 (dk_at dksX4_canForbid_1 12 rfl rfl)
theorem dX4_canForbid_38 : decode cX4_canForbid 38 = .ok (.iconst 1, 1) := dk_4 (dk_at dksX4_canForbid_1 15 rfl rfl)
theorem dX4_canForbid_39 : decode cX4_canForbid 39 = .ok (.goto 4, 3) := dk_167 0 4 (dk_at dksX4_canForbid_1 16 rfl rfl)
theorem dX4_canForbid_42 : decode cX4_canForbid 42 = .ok (.iconst 0, 1) := dk_3 (dk_at dksX4_canForbid_1 19 rfl rfl)
theorem dX4_canForbid_43 : decode cX4_canForbid 43 = .ok (.ireturn, 1) := dk_172 (dk_at dksX4_canForbid_1 20 rfl rfl)
abbrev cX4_forbidOn : ByteArray := prog_11_method_28_code
def yX4_forbidOn : MethodName := ⟨RX4, "forbidOn", "([II)I"⟩
def dkwX4_forbidOn_0 : List UInt8 := [42, 27, 184, 0, 113, 61, 42, 3, 184, 0, 116, 28, 172]
abbrev dktX4_forbidOn_0 : List UInt8 := dkwX4_forbidOn_0 ++ []
theorem dksX4_forbidOn_0 : cX4_forbidOn.data.toList.drop 0 = dktX4_forbidOn_0 := by decide +kernel
theorem dX4_forbidOn_0 : decode cX4_forbidOn 0 = .ok (.aload_n 0, 1) := dk_42 (dk_at dksX4_forbidOn_0 0 rfl rfl)
theorem dX4_forbidOn_1 : decode cX4_forbidOn 1 = .ok (.iload_n 1, 1) := dk_27 (dk_at dksX4_forbidOn_0 1 rfl rfl)
theorem dX4_forbidOn_2 : decode cX4_forbidOn 2 = .ok (.invokestatic 113, 3) := dk_184 0 113 (dk_at dksX4_forbidOn_0 2 rfl rfl)
theorem dX4_forbidOn_5 : decode cX4_forbidOn 5 = .ok (.istore_n 2, 1) := dk_61 (dk_at dksX4_forbidOn_0 5 rfl rfl)
theorem dX4_forbidOn_6 : decode cX4_forbidOn 6 = .ok (.aload_n 0, 1) := dk_42 (dk_at dksX4_forbidOn_0 6 rfl rfl)
theorem dX4_forbidOn_7 : decode cX4_forbidOn 7 = .ok (.iconst 0, 1) := dk_3 (dk_at dksX4_forbidOn_0 7 rfl rfl)
theorem dX4_forbidOn_8 : decode cX4_forbidOn 8 = .ok (.invokestatic 116, 3) := dk_184 0 116 (dk_at dksX4_forbidOn_0 8 rfl rfl)
theorem dX4_forbidOn_11 : decode cX4_forbidOn 11 = .ok (.iload_n 2, 1) := dk_28 (dk_at dksX4_forbidOn_0 11 rfl rfl)
theorem dX4_forbidOn_12 : decode cX4_forbidOn 12 = .ok (.ireturn, 1) := dk_172 (dk_at dksX4_forbidOn_0 12 rfl rfl)
abbrev cX4_ban : ByteArray := prog_11_method_27_code
def yX4_ban : MethodName := ⟨RX4, "ban", "([II)I"⟩
def dkwX4_ban_3 : List UInt8 := [29, 96, 4, 96, 46, 79, 132, 3, 1, 167, 255, 228, 167, 255, 202, 42, 28, 5, 96, 46, 172]
abbrev dktX4_ban_3 : List UInt8 := dkwX4_ban_3 ++ []
def dkwX4_ban_2 : List UInt8 := [4, 100, 79, 3, 62, 29, 42, 28, 5, 96, 46, 162, 0, 25, 42, 28, 6, 96, 29, 96, 42, 28, 6, 96]
abbrev dktX4_ban_2 : List UInt8 := dkwX4_ban_2 ++ dktX4_ban_3
def dkwX4_ban_1 : List UInt8 := [96, 92, 46, 4, 96, 79, 42, 28, 5, 96, 46, 42, 16, 9, 46, 164, 0, 48, 42, 28, 5, 96, 92, 46]
abbrev dktX4_ban_1 : List UInt8 := dkwX4_ban_1 ++ dktX4_ban_2
def dkwX4_ban_0 : List UInt8 := [4, 42, 4, 46, 100, 184, 0, 51, 61, 42, 28, 6, 96, 42, 28, 5, 96, 46, 96, 27, 79, 42, 28, 5]
abbrev dktX4_ban_0 : List UInt8 := dkwX4_ban_0 ++ dktX4_ban_1
theorem dksX4_ban_0 : cX4_ban.data.toList.drop 0 = dktX4_ban_0 := by decide +kernel
theorem dksX4_ban_1 : cX4_ban.data.toList.drop 24 = dktX4_ban_1 := dk_seg dksX4_ban_0 24 rfl rfl
theorem dksX4_ban_2 : cX4_ban.data.toList.drop 48 = dktX4_ban_2 := dk_seg dksX4_ban_1 24 rfl rfl
theorem dksX4_ban_3 : cX4_ban.data.toList.drop 72 = dktX4_ban_3 := dk_seg dksX4_ban_2 24 rfl rfl
theorem dX4_ban_0 : decode cX4_ban 0 = .ok (.iconst 1, 1) := dk_4 (dk_at dksX4_ban_0 0 rfl rfl)
theorem dX4_ban_1 : decode cX4_ban 1 = .ok (.aload_n 0, 1) := dk_42 (dk_at dksX4_ban_0 1 rfl rfl)
theorem dX4_ban_2 : decode cX4_ban 2 = .ok (.iconst 1, 1) := dk_4 (dk_at dksX4_ban_0 2 rfl rfl)
theorem dX4_ban_3 : decode cX4_ban 3 = .ok (.iaload, 1) := dk_46 (dk_at dksX4_ban_0 3 rfl rfl)
theorem dX4_ban_4 : decode cX4_ban 4 = .ok (.isub, 1) := dk_100 (dk_at dksX4_ban_0 4 rfl rfl)
theorem dX4_ban_5 : decode cX4_ban 5 = .ok (.invokestatic 51, 3) := dk_184 0 51 (dk_at dksX4_ban_0 5 rfl rfl)
theorem dX4_ban_8 : decode cX4_ban 8 = .ok (.istore_n 2, 1) := dk_61 (dk_at dksX4_ban_0 8 rfl rfl)
theorem dX4_ban_9 : decode cX4_ban 9 = .ok (.aload_n 0, 1) := dk_42 (dk_at dksX4_ban_0 9 rfl rfl)
theorem dX4_ban_10 : decode cX4_ban 10 = .ok (.iload_n 2, 1) := dk_28 (dk_at dksX4_ban_0 10 rfl rfl)
theorem dX4_ban_11 : decode cX4_ban 11 = .ok (.iconst 3, 1) := dk_6 (dk_at dksX4_ban_0 11 rfl rfl)
theorem dX4_ban_12 : decode cX4_ban 12 = .ok (.iadd, 1) := dk_96 (dk_at dksX4_ban_0 12 rfl rfl)
theorem dX4_ban_13 : decode cX4_ban 13 = .ok (.aload_n 0, 1) := dk_42 (dk_at dksX4_ban_0 13 rfl rfl)
theorem dX4_ban_14 : decode cX4_ban 14 = .ok (.iload_n 2, 1) := dk_28 (dk_at dksX4_ban_0 14 rfl rfl)
theorem dX4_ban_15 : decode cX4_ban 15 = .ok (.iconst 2, 1) := dk_5 (dk_at dksX4_ban_0 15 rfl rfl)
theorem dX4_ban_16 : decode cX4_ban 16 = .ok (.iadd, 1) := dk_96 (dk_at dksX4_ban_0 16 rfl rfl)
theorem dX4_ban_17 : decode cX4_ban 17 = .ok (.iaload, 1) := dk_46 (dk_at dksX4_ban_0 17 rfl rfl)
theorem dX4_ban_18 : decode cX4_ban 18 = .ok (.iadd, 1) := dk_96 (dk_at dksX4_ban_0 18 rfl rfl)
theorem dX4_ban_19 : decode cX4_ban 19 = .ok (.iload_n 1, 1) := dk_27 (dk_at dksX4_ban_0 19 rfl rfl)
theorem dX4_ban_20 : decode cX4_ban 20 = .ok (.iastore, 1) := dk_79 (dk_at dksX4_ban_0 20 rfl rfl)
theorem dX4_ban_21 : decode cX4_ban 21 = .ok (.aload_n 0, 1) := dk_42 (dk_at dksX4_ban_0 21 rfl rfl)
theorem dX4_ban_22 : decode cX4_ban 22 = .ok (.iload_n 2, 1) := dk_28 (dk_at dksX4_ban_0 22 rfl rfl)
theorem dX4_ban_23 : decode cX4_ban 23 = .ok (.iconst 2, 1) := dk_5 (dk_at dksX4_ban_0 23 rfl rfl)
theorem dX4_ban_24 : decode cX4_ban 24 = .ok (.iadd, 1) := dk_96 (dk_at dksX4_ban_1 0 rfl rfl)
theorem dX4_ban_25 : decode cX4_ban 25 = .ok (.dup2, 1) := dk_92 (dk_at dksX4_ban_1 1 rfl rfl)
theorem dX4_ban_26 : decode cX4_ban 26 = .ok (.iaload, 1) := dk_46 (dk_at dksX4_ban_1 2 rfl rfl)
theorem dX4_ban_27 : decode cX4_ban 27 = .ok (.iconst 1, 1) := dk_4 (dk_at dksX4_ban_1 3 rfl rfl)
theorem dX4_ban_28 : decode cX4_ban 28 = .ok (.iadd, 1) := dk_96 (dk_at dksX4_ban_1 4 rfl rfl)
theorem dX4_ban_29 : decode cX4_ban 29 = .ok (.iastore, 1) := dk_79 (dk_at dksX4_ban_1 5 rfl rfl)
theorem dX4_ban_30 : decode cX4_ban 30 = .ok (.aload_n 0, 1) := dk_42 (dk_at dksX4_ban_1 6 rfl rfl)
theorem dX4_ban_31 : decode cX4_ban 31 = .ok (.iload_n 2, 1) := dk_28 (dk_at dksX4_ban_1 7 rfl rfl)
theorem dX4_ban_32 : decode cX4_ban 32 = .ok (.iconst 2, 1) := dk_5 (dk_at dksX4_ban_1 8 rfl rfl)
theorem dX4_ban_33 : decode cX4_ban 33 = .ok (.iadd, 1) := dk_96 (dk_at dksX4_ban_1 9 rfl rfl)
theorem dX4_ban_34 : decode cX4_ban 34 = .ok (.iaload, 1) := dk_46 (dk_at dksX4_ban_1 10 rfl rfl)
theorem dX4_ban_35 : decode cX4_ban 35 = .ok (.aload_n 0, 1) := dk_42 (dk_at dksX4_ban_1 11 rfl rfl)
theorem dX4_ban_36 : decode cX4_ban 36 = .ok (.bipush 9, 2) := dk_16 9 (dk_at dksX4_ban_1 12 rfl rfl)
theorem dX4_ban_38 : decode cX4_ban 38 = .ok (.iaload, 1) := dk_46 (dk_at dksX4_ban_1 14 rfl rfl)
theorem dX4_ban_39 : decode cX4_ban 39 = .ok (.if_icmp .le 48, 3) := dk_164 0 48 (dk_at dksX4_ban_1 15 rfl rfl)
theorem dX4_ban_42 : decode cX4_ban 42 = .ok (.aload_n 0, 1) := dk_42 (dk_at dksX4_ban_1 18 rfl rfl)
theorem dX4_ban_43 : decode cX4_ban 43 = .ok (.iload_n 2, 1) := dk_28 (dk_at dksX4_ban_1 19 rfl rfl)
theorem dX4_ban_44 : decode cX4_ban 44 = .ok (.iconst 2, 1) := dk_5 (dk_at dksX4_ban_1 20 rfl rfl)
theorem dX4_ban_45 : decode cX4_ban 45 = .ok (.iadd, 1) := dk_96 (dk_at dksX4_ban_1 21 rfl rfl)
theorem dX4_ban_46 : decode cX4_ban 46 = .ok (.dup2, 1) := dk_92 (dk_at dksX4_ban_1 22 rfl rfl)
theorem dX4_ban_47 : decode cX4_ban 47 = .ok (.iaload, 1) := dk_46 (dk_at dksX4_ban_1 23 rfl rfl)
theorem dX4_ban_48 : decode cX4_ban 48 = .ok (.iconst 1, 1) := dk_4 (dk_at dksX4_ban_2 0 rfl rfl)
theorem dX4_ban_49 : decode cX4_ban 49 = .ok (.isub, 1) := dk_100 (dk_at dksX4_ban_2 1 rfl rfl)
theorem dX4_ban_50 : decode cX4_ban 50 = .ok (.iastore, 1) := dk_79 (dk_at dksX4_ban_2 2 rfl rfl)
theorem dX4_ban_51 : decode cX4_ban 51 = .ok (.iconst 0, 1) := dk_3 (dk_at dksX4_ban_2 3 rfl rfl)
theorem dX4_ban_52 : decode cX4_ban 52 = .ok (.istore_n 3, 1) := dk_62 (dk_at dksX4_ban_2 4 rfl rfl)
theorem dX4_ban_53 : decode cX4_ban 53 = .ok (.iload_n 3, 1) := dk_29 (dk_at dksX4_ban_2 5 rfl rfl)
theorem dX4_ban_54 : decode cX4_ban 54 = .ok (.aload_n 0, 1) := dk_42 (dk_at dksX4_ban_2 6 rfl rfl)
theorem dX4_ban_55 : decode cX4_ban 55 = .ok (.iload_n 2, 1) := dk_28 (dk_at dksX4_ban_2 7 rfl rfl)
theorem dX4_ban_56 : decode cX4_ban 56 = .ok (.iconst 2, 1) := dk_5 (dk_at dksX4_ban_2 8 rfl rfl)
theorem dX4_ban_57 : decode cX4_ban 57 = .ok (.iadd, 1) := dk_96 (dk_at dksX4_ban_2 9 rfl rfl)
theorem dX4_ban_58 : decode cX4_ban 58 = .ok (.iaload, 1) := dk_46 (dk_at dksX4_ban_2 10 rfl rfl)
theorem dX4_ban_59 : decode cX4_ban 59 = .ok (.if_icmp .ge 25, 3) := dk_162 0 25 (dk_at dksX4_ban_2 11 rfl rfl)
theorem dX4_ban_62 : decode cX4_ban 62 = .ok (.aload_n 0, 1) := dk_42 (dk_at dksX4_ban_2 14 rfl rfl)
theorem dX4_ban_63 : decode cX4_ban 63 = .ok (.iload_n 2, 1) := dk_28 (dk_at dksX4_ban_2 15 rfl rfl)
theorem dX4_ban_64 : decode cX4_ban 64 = .ok (.iconst 3, 1) := dk_6 (dk_at dksX4_ban_2 16 rfl rfl)
theorem dX4_ban_65 : decode cX4_ban 65 = .ok (.iadd, 1) := dk_96 (dk_at dksX4_ban_2 17 rfl rfl)
theorem dX4_ban_66 : decode cX4_ban 66 = .ok (.iload_n 3, 1) := dk_29 (dk_at dksX4_ban_2 18 rfl rfl)
theorem dX4_ban_67 : decode cX4_ban 67 = .ok (.iadd, 1) := dk_96 (dk_at dksX4_ban_2 19 rfl rfl)
theorem dX4_ban_68 : decode cX4_ban 68 = .ok (.aload_n 0, 1) := dk_42 (dk_at dksX4_ban_2 20 rfl rfl)
theorem dX4_ban_69 : decode cX4_ban 69 = .ok (.iload_n 2, 1) := dk_28 (dk_at dksX4_ban_2 21 rfl rfl)
theorem dX4_ban_70 : decode cX4_ban 70 = .ok (.iconst 3, 1) := dk_6 (dk_at dksX4_ban_2 22 rfl rfl)
theorem dX4_ban_71 : decode cX4_ban 71 = .ok (.iadd, 1) := dk_96 (dk_at dksX4_ban_2 23 rfl rfl)
theorem dX4_ban_72 : decode cX4_ban 72 = .ok (.iload_n 3, 1) := dk_29 (dk_at dksX4_ban_3 0 rfl rfl)
theorem dX4_ban_73 : decode cX4_ban 73 = .ok (.iadd, 1) := dk_96 (dk_at dksX4_ban_3 1 rfl rfl)
theorem dX4_ban_74 : decode cX4_ban 74 = .ok (.iconst 1, 1) := dk_4 (dk_at dksX4_ban_3 2 rfl rfl)
theorem dX4_ban_75 : decode cX4_ban 75 = .ok (.iadd, 1) := dk_96 (dk_at dksX4_ban_3 3 rfl rfl)
theorem dX4_ban_76 : decode cX4_ban 76 = .ok (.iaload, 1) := dk_46 (dk_at dksX4_ban_3 4 rfl rfl)
theorem dX4_ban_77 : decode cX4_ban 77 = .ok (.iastore, 1) := dk_79 (dk_at dksX4_ban_3 5 rfl rfl)
theorem dX4_ban_78 : decode cX4_ban 78 = .ok (.iinc 3 1, 3) := dk_132 3 1 (dk_at dksX4_ban_3 6 rfl rfl)
theorem dX4_ban_81 : decode cX4_ban 81 = .ok (.goto (-28), 3) := dk_167 255 228 (dk_at dksX4_ban_3 9 rfl rfl)
theorem dX4_ban_84 : decode cX4_ban 84 = .ok (.goto (-54), 3) := dk_167 255 202 (dk_at dksX4_ban_3 12 rfl rfl)
theorem dX4_ban_87 : decode cX4_ban 87 = .ok (.aload_n 0, 1) := dk_42 (dk_at dksX4_ban_3 15 rfl rfl)
theorem dX4_ban_88 : decode cX4_ban 88 = .ok (.iload_n 2, 1) := dk_28 (dk_at dksX4_ban_3 16 rfl rfl)
theorem dX4_ban_89 : decode cX4_ban 89 = .ok (.iconst 2, 1) := dk_5 (dk_at dksX4_ban_3 17 rfl rfl)
theorem dX4_ban_90 : decode cX4_ban 90 = .ok (.iadd, 1) := dk_96 (dk_at dksX4_ban_3 18 rfl rfl)
theorem dX4_ban_91 : decode cX4_ban 91 = .ok (.iaload, 1) := dk_46 (dk_at dksX4_ban_3 19 rfl rfl)
theorem dX4_ban_92 : decode cX4_ban 92 = .ok (.ireturn, 1) := dk_172 (dk_at dksX4_ban_3 20 rfl rfl)
abbrev cX4_endTurn : ByteArray := prog_11_method_22_code
def yX4_endTurn : MethodName := ⟨RX4, "endTurn", "([IZ)V"⟩
def dkwX4_endTurn_5 : List UInt8 := [100, 79, 177]
abbrev dktX4_endTurn_5 : List UInt8 := dkwX4_endTurn_5 ++ []
def dkwX4_endTurn_4 : List UInt8 := [154, 0, 11, 42, 6, 46, 16, 60, 161, 0, 10, 42, 8, 4, 79, 167, 0, 11, 42, 4, 4, 42, 4, 46]
abbrev dktX4_endTurn_4 : List UInt8 := dkwX4_endTurn_4 ++ dktX4_endTurn_5
def dkwX4_endTurn_3 : List UInt8 := [62, 42, 42, 4, 46, 184, 0, 51, 3, 96, 46, 42, 16, 10, 46, 162, 0, 19, 29, 154, 0, 15, 28]
abbrev dktX4_endTurn_3 : List UInt8 := dkwX4_endTurn_3 ++ dktX4_endTurn_4
def dkwX4_endTurn_2 : List UInt8 := [154, 0, 23, 42, 4, 184, 0, 63, 154, 0, 15, 42, 5, 184, 0, 63, 154, 0, 7, 4, 167, 0, 4, 3]
abbrev dktX4_endTurn_2 : List UInt8 := dkwX4_endTurn_2 ++ dktX4_endTurn_3
def dkwX4_endTurn_1 : List UInt8 := [79, 42, 5, 3, 79, 42, 16, 6, 27, 153, 0, 7, 4, 167, 0, 4, 3, 79, 42, 3, 184, 0, 63]
abbrev dktX4_endTurn_1 : List UInt8 := dkwX4_endTurn_1 ++ dktX4_endTurn_2
def dkwX4_endTurn_0 : List UInt8 := [27, 153, 0, 15, 42, 16, 6, 46, 4, 160, 0, 7, 4, 167, 0, 4, 3, 61, 42, 6, 92, 46, 4, 96]
abbrev dktX4_endTurn_0 : List UInt8 := dkwX4_endTurn_0 ++ dktX4_endTurn_1
theorem dksX4_endTurn_0 : cX4_endTurn.data.toList.drop 0 = dktX4_endTurn_0 := by decide +kernel
theorem dksX4_endTurn_1 : cX4_endTurn.data.toList.drop 24 = dktX4_endTurn_1 := dk_seg dksX4_endTurn_0 24 rfl rfl
theorem dksX4_endTurn_2 : cX4_endTurn.data.toList.drop 47 = dktX4_endTurn_2 := dk_seg dksX4_endTurn_1 23 rfl rfl
theorem dksX4_endTurn_3 : cX4_endTurn.data.toList.drop 71 = dktX4_endTurn_3 := dk_seg dksX4_endTurn_2 24 rfl rfl
theorem dksX4_endTurn_4 : cX4_endTurn.data.toList.drop 94 = dktX4_endTurn_4 := dk_seg dksX4_endTurn_3 23 rfl rfl
theorem dksX4_endTurn_5 : cX4_endTurn.data.toList.drop 118 = dktX4_endTurn_5 := dk_seg dksX4_endTurn_4 24 rfl rfl
theorem dX4_endTurn_0 : decode cX4_endTurn 0 = .ok (.iload_n 1, 1) := dk_27 (dk_at dksX4_endTurn_0 0 rfl rfl)
theorem dX4_endTurn_1 : decode cX4_endTurn 1 = .ok (.ifCond .eq 15, 3) := dk_153 0 15 (dk_at dksX4_endTurn_0 1 rfl rfl)
theorem dX4_endTurn_4 : decode cX4_endTurn 4 = .ok (.aload_n 0, 1) := dk_42 (dk_at dksX4_endTurn_0 4 rfl rfl)
theorem dX4_endTurn_5 : decode cX4_endTurn 5 = .ok (.bipush 6, 2) := dk_16 6 (dk_at dksX4_endTurn_0 5 rfl rfl)
theorem dX4_endTurn_7 : decode cX4_endTurn 7 = .ok (.iaload, 1) := dk_46 (dk_at dksX4_endTurn_0 7 rfl rfl)
theorem dX4_endTurn_8 : decode cX4_endTurn 8 = .ok (.iconst 1, 1) := dk_4 (dk_at dksX4_endTurn_0 8 rfl rfl)
theorem dX4_endTurn_9 : decode cX4_endTurn 9 = .ok (.if_icmp .ne 7, 3) := dk_160 0 7 (dk_at dksX4_endTurn_0 9 rfl rfl)
theorem dX4_endTurn_12 : decode cX4_endTurn 12 = .ok (.iconst 1, 1) := dk_4 (dk_at dksX4_endTurn_0 12 rfl rfl)
theorem dX4_endTurn_13 : decode cX4_endTurn 13 = .ok (.goto 4, 3) := dk_167 0 4 (dk_at dksX4_endTurn_0 13 rfl rfl)
theorem dX4_endTurn_16 : decode cX4_endTurn 16 = .ok (.iconst 0, 1) := dk_3 (dk_at dksX4_endTurn_0 16 rfl rfl)
theorem dX4_endTurn_17 : decode cX4_endTurn 17 = .ok (.istore_n 2, 1) := dk_61 (dk_at dksX4_endTurn_0 17 rfl rfl)
theorem dX4_endTurn_18 : decode cX4_endTurn 18 = .ok (.aload_n 0, 1) := dk_42 (dk_at dksX4_endTurn_0 18 rfl rfl)
theorem dX4_endTurn_19 : decode cX4_endTurn 19 = .ok (.iconst 3, 1) := dk_6 (dk_at dksX4_endTurn_0 19 rfl rfl)
theorem dX4_endTurn_20 : decode cX4_endTurn 20 = .ok (.dup2, 1) := dk_92 (dk_at dksX4_endTurn_0 20 rfl rfl)
theorem dX4_endTurn_21 : decode cX4_endTurn 21 = .ok (.iaload, 1) := dk_46 (dk_at dksX4_endTurn_0 21 rfl rfl)
theorem dX4_endTurn_22 : decode cX4_endTurn 22 = .ok (.iconst 1, 1) := dk_4 (dk_at dksX4_endTurn_0 22 rfl rfl)
theorem dX4_endTurn_23 : decode cX4_endTurn 23 = .ok (.iadd, 1) := dk_96 (dk_at dksX4_endTurn_0 23 rfl rfl)
theorem dX4_endTurn_24 : decode cX4_endTurn 24 = .ok (.iastore, 1) := dk_79 (dk_at dksX4_endTurn_1 0 rfl rfl)
theorem dX4_endTurn_25 : decode cX4_endTurn 25 = .ok (.aload_n 0, 1) := dk_42 (dk_at dksX4_endTurn_1 1 rfl rfl)
theorem dX4_endTurn_26 : decode cX4_endTurn 26 = .ok (.iconst 2, 1) := dk_5 (dk_at dksX4_endTurn_1 2 rfl rfl)
theorem dX4_endTurn_27 : decode cX4_endTurn 27 = .ok (.iconst 0, 1) := dk_3 (dk_at dksX4_endTurn_1 3 rfl rfl)
theorem dX4_endTurn_28 : decode cX4_endTurn 28 = .ok (.iastore, 1) := dk_79 (dk_at dksX4_endTurn_1 4 rfl rfl)
theorem dX4_endTurn_29 : decode cX4_endTurn 29 = .ok (.aload_n 0, 1) := dk_42 (dk_at dksX4_endTurn_1 5 rfl rfl)
theorem dX4_endTurn_30 : decode cX4_endTurn 30 = .ok (.bipush 6, 2) := dk_16 6 (dk_at dksX4_endTurn_1 6 rfl rfl)
theorem dX4_endTurn_32 : decode cX4_endTurn 32 = .ok (.iload_n 1, 1) := dk_27 (dk_at dksX4_endTurn_1 8 rfl rfl)
theorem dX4_endTurn_33 : decode cX4_endTurn 33 = .ok (.ifCond .eq 7, 3) := dk_153 0 7 (dk_at dksX4_endTurn_1 9 rfl rfl)
theorem dX4_endTurn_36 : decode cX4_endTurn 36 = .ok (.iconst 1, 1) := dk_4 (dk_at dksX4_endTurn_1 12 rfl rfl)
theorem dX4_endTurn_37 : decode cX4_endTurn 37 = .ok (.goto 4, 3) := dk_167 0 4 (dk_at dksX4_endTurn_1 13 rfl rfl)
theorem dX4_endTurn_40 : decode cX4_endTurn 40 = .ok (.iconst 0, 1) := dk_3 (dk_at dksX4_endTurn_1 16 rfl rfl)
theorem dX4_endTurn_41 : decode cX4_endTurn 41 = .ok (.iastore, 1) := dk_79 (dk_at dksX4_endTurn_1 17 rfl rfl)
theorem dX4_endTurn_42 : decode cX4_endTurn 42 = .ok (.aload_n 0, 1) := dk_42 (dk_at dksX4_endTurn_1 18 rfl rfl)
theorem dX4_endTurn_43 : decode cX4_endTurn 43 = .ok (.iconst 0, 1) := dk_3 (dk_at dksX4_endTurn_1 19 rfl rfl)
theorem dX4_endTurn_44 : decode cX4_endTurn 44 = .ok (.invokestatic 63, 3) := dk_184 0 63 (dk_at dksX4_endTurn_1 20 rfl rfl)
theorem dX4_endTurn_47 : decode cX4_endTurn 47 = .ok (.ifCond .ne 23, 3) := dk_154 0 23 (dk_at dksX4_endTurn_2 0 rfl rfl)
theorem dX4_endTurn_50 : decode cX4_endTurn 50 = .ok (.aload_n 0, 1) := dk_42 (dk_at dksX4_endTurn_2 3 rfl rfl)
theorem dX4_endTurn_51 : decode cX4_endTurn 51 = .ok (.iconst 1, 1) := dk_4 (dk_at dksX4_endTurn_2 4 rfl rfl)
theorem dX4_endTurn_52 : decode cX4_endTurn 52 = .ok (.invokestatic 63, 3) := dk_184 0 63 (dk_at dksX4_endTurn_2 5 rfl rfl)
theorem dX4_endTurn_55 : decode cX4_endTurn 55 = .ok (.ifCond .ne 15, 3) := dk_154 0 15 (dk_at dksX4_endTurn_2 8 rfl rfl)
theorem dX4_endTurn_58 : decode cX4_endTurn 58 = .ok (.aload_n 0, 1) := dk_42 (dk_at dksX4_endTurn_2 11 rfl rfl)
theorem dX4_endTurn_59 : decode cX4_endTurn 59 = .ok (.iconst 2, 1) := dk_5 (dk_at dksX4_endTurn_2 12 rfl rfl)
theorem dX4_endTurn_60 : decode cX4_endTurn 60 = .ok (.invokestatic 63, 3) := dk_184 0 63 (dk_at dksX4_endTurn_2 13 rfl rfl)
theorem dX4_endTurn_63 : decode cX4_endTurn 63 = .ok (.ifCond .ne 7, 3) := dk_154 0 7 (dk_at dksX4_endTurn_2 16 rfl rfl)
theorem dX4_endTurn_66 : decode cX4_endTurn 66 = .ok (.iconst 1, 1) := dk_4 (dk_at dksX4_endTurn_2 19 rfl rfl)
theorem dX4_endTurn_67 : decode cX4_endTurn 67 = .ok (.goto 4, 3) := dk_167 0 4 (dk_at dksX4_endTurn_2 20 rfl rfl)
theorem dX4_endTurn_70 : decode cX4_endTurn 70 = .ok (.iconst 0, 1) := dk_3 (dk_at dksX4_endTurn_2 23 rfl rfl)
theorem dX4_endTurn_71 : decode cX4_endTurn 71 = .ok (.istore_n 3, 1) := dk_62 (dk_at dksX4_endTurn_3 0 rfl rfl)
theorem dX4_endTurn_72 : decode cX4_endTurn 72 = .ok (.aload_n 0, 1) := dk_42 (dk_at dksX4_endTurn_3 1 rfl rfl)
theorem dX4_endTurn_73 : decode cX4_endTurn 73 = .ok (.aload_n 0, 1) := dk_42 (dk_at dksX4_endTurn_3 2 rfl rfl)
theorem dX4_endTurn_74 : decode cX4_endTurn 74 = .ok (.iconst 1, 1) := dk_4 (dk_at dksX4_endTurn_3 3 rfl rfl)
theorem dX4_endTurn_75 : decode cX4_endTurn 75 = .ok (.iaload, 1) := dk_46 (dk_at dksX4_endTurn_3 4 rfl rfl)
theorem dX4_endTurn_76 : decode cX4_endTurn 76 = .ok (.invokestatic 51, 3) := dk_184 0 51 (dk_at dksX4_endTurn_3 5 rfl rfl)
theorem dX4_endTurn_79 : decode cX4_endTurn 79 = .ok (.iconst 0, 1) := dk_3 (dk_at dksX4_endTurn_3 8 rfl rfl)
theorem dX4_endTurn_80 : decode cX4_endTurn 80 = .ok (.iadd, 1) := dk_96 (dk_at dksX4_endTurn_3 9 rfl rfl)
theorem dX4_endTurn_81 : decode cX4_endTurn 81 = .ok (.iaload, 1) := dk_46 (dk_at dksX4_endTurn_3 10 rfl rfl)
theorem dX4_endTurn_82 : decode cX4_endTurn 82 = .ok (.aload_n 0, 1) := dk_42 (dk_at dksX4_endTurn_3 11 rfl rfl)
theorem dX4_endTurn_83 : decode cX4_endTurn 83 = .ok (.bipush 10, 2) := dk_16 10 (dk_at dksX4_endTurn_3 12 rfl rfl)
theorem dX4_endTurn_85 : decode cX4_endTurn 85 = .ok (.iaload, 1) := dk_46 (dk_at dksX4_endTurn_3 14 rfl rfl)
theorem dX4_endTurn_86 : decode cX4_endTurn 86 = .ok (.if_icmp .ge 19, 3) := dk_162 0 19 (dk_at dksX4_endTurn_3 15 rfl rfl)
theorem dX4_endTurn_89 : decode cX4_endTurn 89 = .ok (.iload_n 3, 1) := dk_29 (dk_at dksX4_endTurn_3 18 rfl rfl)
theorem dX4_endTurn_90 : decode cX4_endTurn 90 = .ok (.ifCond .ne 15, 3) := dk_154 0 15 (dk_at dksX4_endTurn_3 19 rfl rfl)
theorem dX4_endTurn_93 : decode cX4_endTurn 93 = .ok (.iload_n 2, 1) := dk_28 (dk_at dksX4_endTurn_3 22 rfl rfl)
theorem dX4_endTurn_94 : decode cX4_endTurn 94 = .ok (.ifCond .ne 11, 3) := dk_154 0 11 (dk_at dksX4_endTurn_4 0 rfl rfl)
theorem dX4_endTurn_97 : decode cX4_endTurn 97 = .ok (.aload_n 0, 1) := dk_42 (dk_at dksX4_endTurn_4 3 rfl rfl)
theorem dX4_endTurn_98 : decode cX4_endTurn 98 = .ok (.iconst 3, 1) := dk_6 (dk_at dksX4_endTurn_4 4 rfl rfl)
theorem dX4_endTurn_99 : decode cX4_endTurn 99 = .ok (.iaload, 1) := dk_46 (dk_at dksX4_endTurn_4 5 rfl rfl)
theorem dX4_endTurn_100 : decode cX4_endTurn 100 = .ok (.bipush 60, 2) := dk_16 60 (dk_at dksX4_endTurn_4 6 rfl rfl)
theorem dX4_endTurn_102 : decode cX4_endTurn 102 = .ok (.if_icmp .lt 10, 3) := dk_161 0 10 (dk_at dksX4_endTurn_4 8 rfl rfl)
theorem dX4_endTurn_105 : decode cX4_endTurn 105 = .ok (.aload_n 0, 1) := dk_42 (dk_at dksX4_endTurn_4 11 rfl rfl)
theorem dX4_endTurn_106 : decode cX4_endTurn 106 = .ok (.iconst 5, 1) := dk_8 (dk_at dksX4_endTurn_4 12 rfl rfl)
theorem dX4_endTurn_107 : decode cX4_endTurn 107 = .ok (.iconst 1, 1) := dk_4 (dk_at dksX4_endTurn_4 13 rfl rfl)
theorem dX4_endTurn_108 : decode cX4_endTurn 108 = .ok (.iastore, 1) := dk_79 (dk_at dksX4_endTurn_4 14 rfl rfl)
theorem dX4_endTurn_109 : decode cX4_endTurn 109 = .ok (.goto 11, 3) := dk_167 0 11 (dk_at dksX4_endTurn_4 15 rfl rfl)
theorem dX4_endTurn_112 : decode cX4_endTurn 112 = .ok (.aload_n 0, 1) := dk_42 (dk_at dksX4_endTurn_4 18 rfl rfl)
theorem dX4_endTurn_113 : decode cX4_endTurn 113 = .ok (.iconst 1, 1) := dk_4 (dk_at dksX4_endTurn_4 19 rfl rfl)
theorem dX4_endTurn_114 : decode cX4_endTurn 114 = .ok (.iconst 1, 1) := dk_4 (dk_at dksX4_endTurn_4 20 rfl rfl)
theorem dX4_endTurn_115 : decode cX4_endTurn 115 = .ok (.aload_n 0, 1) := dk_42 (dk_at dksX4_endTurn_4 21 rfl rfl)
theorem dX4_endTurn_116 : decode cX4_endTurn 116 = .ok (.iconst 1, 1) := dk_4 (dk_at dksX4_endTurn_4 22 rfl rfl)
theorem dX4_endTurn_117 : decode cX4_endTurn 117 = .ok (.iaload, 1) := dk_46 (dk_at dksX4_endTurn_4 23 rfl rfl)
theorem dX4_endTurn_118 : decode cX4_endTurn 118 = .ok (.isub, 1) := dk_100 (dk_at dksX4_endTurn_5 0 rfl rfl)
theorem dX4_endTurn_119 : decode cX4_endTurn 119 = .ok (.iastore, 1) := dk_79 (dk_at dksX4_endTurn_5 1 rfl rfl)
theorem dX4_endTurn_120 : decode cX4_endTurn 120 = .ok (.return_, 1) := dk_177 (dk_at dksX4_endTurn_5 2 rfl rfl)
abbrev cX4_done : ByteArray := prog_11_method_49_code
def yX4_done : MethodName := ⟨RX4, "done", "()I"⟩
def dkwX4_done_1 : List UInt8 := [42, 182, 0, 182, 42, 180, 0, 13, 184, 0, 134, 172]
abbrev dktX4_done_1 : List UInt8 := dkwX4_done_1 ++ []
def dkwX4_done_0 : List UInt8 := [42, 42, 180, 0, 13, 184, 0, 106, 153, 0, 7, 3, 167, 0, 4, 4, 182, 0, 161, 153, 0, 5, 3, 172]
abbrev dktX4_done_0 : List UInt8 := dkwX4_done_0 ++ dktX4_done_1
theorem dksX4_done_0 : cX4_done.data.toList.drop 0 = dktX4_done_0 := by decide +kernel
theorem dksX4_done_1 : cX4_done.data.toList.drop 24 = dktX4_done_1 := dk_seg dksX4_done_0 24 rfl rfl
theorem dX4_done_0 : decode cX4_done 0 = .ok (.aload_n 0, 1) := dk_42 (dk_at dksX4_done_0 0 rfl rfl)
theorem dX4_done_1 : decode cX4_done 1 = .ok (.aload_n 0, 1) := dk_42 (dk_at dksX4_done_0 1 rfl rfl)
theorem dX4_done_2 : decode cX4_done 2 = .ok (.getfield 13, 3) := dk_180 0 13 (dk_at dksX4_done_0 2 rfl rfl)
theorem dX4_done_5 : decode cX4_done 5 = .ok (.invokestatic 106, 3) := dk_184 0 106 (dk_at dksX4_done_0 5 rfl rfl)
theorem dX4_done_8 : decode cX4_done 8 = .ok (.ifCond .eq 7, 3) := dk_153 0 7 (dk_at dksX4_done_0 8 rfl rfl)
theorem dX4_done_11 : decode cX4_done 11 = .ok (.iconst 0, 1) := dk_3 (dk_at dksX4_done_0 11 rfl rfl)
theorem dX4_done_12 : decode cX4_done 12 = .ok (.goto 4, 3) := dk_167 0 4 (dk_at dksX4_done_0 12 rfl rfl)
theorem dX4_done_15 : decode cX4_done 15 = .ok (.iconst 1, 1) := dk_4 (dk_at dksX4_done_0 15 rfl rfl)
theorem dX4_done_16 : decode cX4_done 16 = .ok (.invokevirtual 161, 3) := dk_182 0 161 (dk_at dksX4_done_0 16 rfl rfl)
theorem dX4_done_19 : decode cX4_done 19 = .ok (.ifCond .eq 5, 3) := dk_153 0 5 (dk_at dksX4_done_0 19 rfl rfl)
theorem dX4_done_22 : decode cX4_done 22 = .ok (.iconst 0, 1) := dk_3 (dk_at dksX4_done_0 22 rfl rfl)
theorem dX4_done_23 : decode cX4_done 23 = .ok (.ireturn, 1) := dk_172 (dk_at dksX4_done_0 23 rfl rfl)
theorem dX4_done_24 : decode cX4_done 24 = .ok (.aload_n 0, 1) := dk_42 (dk_at dksX4_done_1 0 rfl rfl)
theorem dX4_done_25 : decode cX4_done 25 = .ok (.invokevirtual 182, 3) := dk_182 0 182 (dk_at dksX4_done_1 1 rfl rfl)
theorem dX4_done_28 : decode cX4_done 28 = .ok (.aload_n 0, 1) := dk_42 (dk_at dksX4_done_1 4 rfl rfl)
theorem dX4_done_29 : decode cX4_done 29 = .ok (.getfield 13, 3) := dk_180 0 13 (dk_at dksX4_done_1 5 rfl rfl)
theorem dX4_done_32 : decode cX4_done 32 = .ok (.invokestatic 134, 3) := dk_184 0 134 (dk_at dksX4_done_1 8 rfl rfl)
theorem dX4_done_35 : decode cX4_done 35 = .ok (.ireturn, 1) := dk_172 (dk_at dksX4_done_1 11 rfl rfl)
abbrev cX4_doneOn : ByteArray := prog_11_method_30_code
def yX4_doneOn : MethodName := ⟨RX4, "doneOn", "([I)I"⟩
def dkwX4_doneOn_0 : List UInt8 := [42, 42, 5, 46, 154, 0, 7, 4, 167, 0, 4, 3, 184, 0, 116, 42, 184, 0, 130, 172]
abbrev dktX4_doneOn_0 : List UInt8 := dkwX4_doneOn_0 ++ []
theorem dksX4_doneOn_0 : cX4_doneOn.data.toList.drop 0 = dktX4_doneOn_0 := by decide +kernel
theorem dX4_doneOn_0 : decode cX4_doneOn 0 = .ok (.aload_n 0, 1) := dk_42 (dk_at dksX4_doneOn_0 0 rfl rfl)
theorem dX4_doneOn_1 : decode cX4_doneOn 1 = .ok (.aload_n 0, 1) := dk_42 (dk_at dksX4_doneOn_0 1 rfl rfl)
theorem dX4_doneOn_2 : decode cX4_doneOn 2 = .ok (.iconst 2, 1) := dk_5 (dk_at dksX4_doneOn_0 2 rfl rfl)
theorem dX4_doneOn_3 : decode cX4_doneOn 3 = .ok (.iaload, 1) := dk_46 (dk_at dksX4_doneOn_0 3 rfl rfl)
theorem dX4_doneOn_4 : decode cX4_doneOn 4 = .ok (.ifCond .ne 7, 3) := dk_154 0 7 (dk_at dksX4_doneOn_0 4 rfl rfl)
theorem dX4_doneOn_7 : decode cX4_doneOn 7 = .ok (.iconst 1, 1) := dk_4 (dk_at dksX4_doneOn_0 7 rfl rfl)
theorem dX4_doneOn_8 : decode cX4_doneOn 8 = .ok (.goto 4, 3) := dk_167 0 4 (dk_at dksX4_doneOn_0 8 rfl rfl)
theorem dX4_doneOn_11 : decode cX4_doneOn 11 = .ok (.iconst 0, 1) := dk_3 (dk_at dksX4_doneOn_0 11 rfl rfl)
theorem dX4_doneOn_12 : decode cX4_doneOn 12 = .ok (.invokestatic 116, 3) := dk_184 0 116 (dk_at dksX4_doneOn_0 12 rfl rfl)
theorem dX4_doneOn_15 : decode cX4_doneOn 15 = .ok (.aload_n 0, 1) := dk_42 (dk_at dksX4_doneOn_0 15 rfl rfl)
theorem dX4_doneOn_16 : decode cX4_doneOn 16 = .ok (.invokestatic 130, 3) := dk_184 0 130 (dk_at dksX4_doneOn_0 16 rfl rfl)
theorem dX4_doneOn_19 : decode cX4_doneOn 19 = .ok (.ireturn, 1) := dk_172 (dk_at dksX4_doneOn_0 19 rfl rfl)
abbrev cX4_play : ByteArray := prog_11_method_50_code
def yX4_play : MethodName := ⟨RX4, "play", "()I"⟩
def dkwX4_play_1 : List UInt8 := [42, 182, 0, 182, 42, 42, 180, 0, 13, 182, 0, 197, 172]
abbrev dktX4_play_1 : List UInt8 := dkwX4_play_1 ++ []
def dkwX4_play_0 : List UInt8 := [42, 42, 180, 0, 13, 184, 0, 106, 153, 0, 7, 3, 167, 0, 4, 4, 182, 0, 161, 153, 0, 5, 3, 172]
abbrev dktX4_play_0 : List UInt8 := dkwX4_play_0 ++ dktX4_play_1
theorem dksX4_play_0 : cX4_play.data.toList.drop 0 = dktX4_play_0 := by decide +kernel
theorem dksX4_play_1 : cX4_play.data.toList.drop 24 = dktX4_play_1 := dk_seg dksX4_play_0 24 rfl rfl
theorem dX4_play_0 : decode cX4_play 0 = .ok (.aload_n 0, 1) := dk_42 (dk_at dksX4_play_0 0 rfl rfl)
theorem dX4_play_1 : decode cX4_play 1 = .ok (.aload_n 0, 1) := dk_42 (dk_at dksX4_play_0 1 rfl rfl)
theorem dX4_play_2 : decode cX4_play 2 = .ok (.getfield 13, 3) := dk_180 0 13 (dk_at dksX4_play_0 2 rfl rfl)
theorem dX4_play_5 : decode cX4_play 5 = .ok (.invokestatic 106, 3) := dk_184 0 106 (dk_at dksX4_play_0 5 rfl rfl)
theorem dX4_play_8 : decode cX4_play 8 = .ok (.ifCond .eq 7, 3) := dk_153 0 7 (dk_at dksX4_play_0 8 rfl rfl)
theorem dX4_play_11 : decode cX4_play 11 = .ok (.iconst 0, 1) := dk_3 (dk_at dksX4_play_0 11 rfl rfl)
theorem dX4_play_12 : decode cX4_play 12 = .ok (.goto 4, 3) := dk_167 0 4 (dk_at dksX4_play_0 12 rfl rfl)
theorem dX4_play_15 : decode cX4_play 15 = .ok (.iconst 1, 1) := dk_4 (dk_at dksX4_play_0 15 rfl rfl)
theorem dX4_play_16 : decode cX4_play 16 = .ok (.invokevirtual 161, 3) := dk_182 0 161 (dk_at dksX4_play_0 16 rfl rfl)
theorem dX4_play_19 : decode cX4_play 19 = .ok (.ifCond .eq 5, 3) := dk_153 0 5 (dk_at dksX4_play_0 19 rfl rfl)
theorem dX4_play_22 : decode cX4_play 22 = .ok (.iconst 0, 1) := dk_3 (dk_at dksX4_play_0 22 rfl rfl)
theorem dX4_play_23 : decode cX4_play 23 = .ok (.ireturn, 1) := dk_172 (dk_at dksX4_play_0 23 rfl rfl)
theorem dX4_play_24 : decode cX4_play 24 = .ok (.aload_n 0, 1) := dk_42 (dk_at dksX4_play_1 0 rfl rfl)
theorem dX4_play_25 : decode cX4_play 25 = .ok (.invokevirtual 182, 3) := dk_182 0 182 (dk_at dksX4_play_1 1 rfl rfl)
theorem dX4_play_28 : decode cX4_play 28 = .ok (.aload_n 0, 1) := dk_42 (dk_at dksX4_play_1 4 rfl rfl)
theorem dX4_play_29 : decode cX4_play 29 = .ok (.aload_n 0, 1) := dk_42 (dk_at dksX4_play_1 5 rfl rfl)
theorem dX4_play_30 : decode cX4_play 30 = .ok (.getfield 13, 3) := dk_180 0 13 (dk_at dksX4_play_1 6 rfl rfl)
theorem dX4_play_33 : decode cX4_play 33 = .ok (.invokevirtual 197, 3) := dk_182 0 197 (dk_at dksX4_play_1 9 rfl rfl)
theorem dX4_play_36 : decode cX4_play 36 = .ok (.ireturn, 1) := dk_172 (dk_at dksX4_play_1 12 rfl rfl)
abbrev cX4_playOn : ByteArray := prog_11_method_31_code
def yX4_playOn : MethodName := ⟨RX4, "playOn", "([I)I"⟩
def dkwX4_playOn_4 : List UInt8 := [87, 28, 172]
abbrev dktX4_playOn_4 : List UInt8 := dkwX4_playOn_4 ++ []
def dkwX4_playOn_3 : List UInt8 := [42, 43, 182, 0, 140, 62, 29, 2, 160, 0, 11, 43, 184, 0, 134, 87, 167, 0, 9, 43, 29, 184, 0, 143]
abbrev dktX4_playOn_3 : List UInt8 := dkwX4_playOn_3 ++ dktX4_playOn_4
def dkwX4_playOn_2 : List UInt8 := [42, 180, 0, 38, 29, 42, 180, 0, 35, 29, 46, 79, 132, 3, 1, 167, 255, 233, 42, 43, 182, 0, 137, 87]
abbrev dktX4_playOn_2 : List UInt8 := dkwX4_playOn_2 ++ dktX4_playOn_3
def dkwX4_playOn_1 : List UInt8 := [184, 0, 134, 87, 2, 172, 42, 42, 180, 0, 79, 181, 0, 73, 3, 62, 29, 42, 180, 0, 79, 162, 0, 21]
abbrev dktX4_playOn_1 : List UInt8 := dkwX4_playOn_1 ++ dktX4_playOn_2
def dkwX4_playOn_0 : List UInt8 := [3, 61, 43, 5, 46, 154, 0, 66, 42, 43, 43, 4, 46, 182, 0, 127, 61, 28, 2, 160, 0, 10, 43]
abbrev dktX4_playOn_0 : List UInt8 := dkwX4_playOn_0 ++ dktX4_playOn_1
theorem dksX4_playOn_0 : cX4_playOn.data.toList.drop 0 = dktX4_playOn_0 := by decide +kernel
theorem dksX4_playOn_1 : cX4_playOn.data.toList.drop 23 = dktX4_playOn_1 := dk_seg dksX4_playOn_0 23 rfl rfl
theorem dksX4_playOn_2 : cX4_playOn.data.toList.drop 47 = dktX4_playOn_2 := dk_seg dksX4_playOn_1 24 rfl rfl
theorem dksX4_playOn_3 : cX4_playOn.data.toList.drop 71 = dktX4_playOn_3 := dk_seg dksX4_playOn_2 24 rfl rfl
theorem dksX4_playOn_4 : cX4_playOn.data.toList.drop 95 = dktX4_playOn_4 := dk_seg dksX4_playOn_3 24 rfl rfl
theorem dX4_playOn_0 : decode cX4_playOn 0 = .ok (.iconst 0, 1) := dk_3 (dk_at dksX4_playOn_0 0 rfl rfl)
theorem dX4_playOn_1 : decode cX4_playOn 1 = .ok (.istore_n 2, 1) := dk_61 (dk_at dksX4_playOn_0 1 rfl rfl)
theorem dX4_playOn_2 : decode cX4_playOn 2 = .ok (.aload_n 1, 1) := dk_43 (dk_at dksX4_playOn_0 2 rfl rfl)
theorem dX4_playOn_3 : decode cX4_playOn 3 = .ok (.iconst 2, 1) := dk_5 (dk_at dksX4_playOn_0 3 rfl rfl)
theorem dX4_playOn_4 : decode cX4_playOn 4 = .ok (.iaload, 1) := dk_46 (dk_at dksX4_playOn_0 4 rfl rfl)
theorem dX4_playOn_5 : decode cX4_playOn 5 = .ok (.ifCond .ne 66, 3) := dk_154 0 66 (dk_at dksX4_playOn_0 5 rfl rfl)
theorem dX4_playOn_8 : decode cX4_playOn 8 = .ok (.aload_n 0, 1) := dk_42 (dk_at dksX4_playOn_0 8 rfl rfl)
theorem dX4_playOn_9 : decode cX4_playOn 9 = .ok (.aload_n 1, 1) := dk_43 (dk_at dksX4_playOn_0 9 rfl rfl)
theorem dX4_playOn_10 : decode cX4_playOn 10 = .ok (.aload_n 1, 1) := dk_43 (dk_at dksX4_playOn_0 10 rfl rfl)
theorem dX4_playOn_11 : decode cX4_playOn 11 = .ok (.iconst 1, 1) := dk_4 (dk_at dksX4_playOn_0 11 rfl rfl)
theorem dX4_playOn_12 : decode cX4_playOn 12 = .ok (.iaload, 1) := dk_46 (dk_at dksX4_playOn_0 12 rfl rfl)
theorem dX4_playOn_13 : decode cX4_playOn 13 = .ok (.invokevirtual 127, 3) := dk_182 0 127 (dk_at dksX4_playOn_0 13 rfl rfl)
theorem dX4_playOn_16 : decode cX4_playOn 16 = .ok (.istore_n 2, 1) := dk_61 (dk_at dksX4_playOn_0 16 rfl rfl)
theorem dX4_playOn_17 : decode cX4_playOn 17 = .ok (.iload_n 2, 1) := dk_28 (dk_at dksX4_playOn_0 17 rfl rfl)
theorem dX4_playOn_18 : decode cX4_playOn 18 = .ok (.iconst (-1), 1) := dk_2 (dk_at dksX4_playOn_0 18 rfl rfl)
theorem dX4_playOn_19 : decode cX4_playOn 19 = .ok (.if_icmp .ne 10, 3) := dk_160 0 10 (dk_at dksX4_playOn_0 19 rfl rfl)
theorem dX4_playOn_22 : decode cX4_playOn 22 = .ok (.aload_n 1, 1) := dk_43 (dk_at dksX4_playOn_0 22 rfl rfl)
theorem dX4_playOn_23 : decode cX4_playOn 23 = .ok (.invokestatic 134, 3) := dk_184 0 134 (dk_at dksX4_playOn_1 0 rfl rfl)
theorem dX4_playOn_26 : decode cX4_playOn 26 = .ok (.pop, 1) := dk_87 (dk_at dksX4_playOn_1 3 rfl rfl)
theorem dX4_playOn_27 : decode cX4_playOn 27 = .ok (.iconst (-1), 1) := dk_2 (dk_at dksX4_playOn_1 4 rfl rfl)
theorem dX4_playOn_28 : decode cX4_playOn 28 = .ok (.ireturn, 1) := dk_172 (dk_at dksX4_playOn_1 5 rfl rfl)
theorem dX4_playOn_29 : decode cX4_playOn 29 = .ok (.aload_n 0, 1) := dk_42 (dk_at dksX4_playOn_1 6 rfl rfl)
theorem dX4_playOn_30 : decode cX4_playOn 30 = .ok (.aload_n 0, 1) := dk_42 (dk_at dksX4_playOn_1 7 rfl rfl)
theorem dX4_playOn_31 : decode cX4_playOn 31 = .ok (.getfield 79, 3) := dk_180 0 79 (dk_at dksX4_playOn_1 8 rfl rfl)
theorem dX4_playOn_34 : decode cX4_playOn 34 = .ok (.putfield 73, 3) := dk_181 0 73 (dk_at dksX4_playOn_1 11 rfl rfl)
theorem dX4_playOn_37 : decode cX4_playOn 37 = .ok (.iconst 0, 1) := dk_3 (dk_at dksX4_playOn_1 14 rfl rfl)
theorem dX4_playOn_38 : decode cX4_playOn 38 = .ok (.istore_n 3, 1) := dk_62 (dk_at dksX4_playOn_1 15 rfl rfl)
theorem dX4_playOn_39 : decode cX4_playOn 39 = .ok (.iload_n 3, 1) := dk_29 (dk_at dksX4_playOn_1 16 rfl rfl)
theorem dX4_playOn_40 : decode cX4_playOn 40 = .ok (.aload_n 0, 1) := dk_42 (dk_at dksX4_playOn_1 17 rfl rfl)
theorem dX4_playOn_41 : decode cX4_playOn 41 = .ok (.getfield 79, 3) := dk_180 0 79 (dk_at dksX4_playOn_1 18 rfl rfl)
theorem dX4_playOn_44 : decode cX4_playOn 44 = .ok (.if_icmp .ge 21, 3) := dk_162 0 21 (dk_at dksX4_playOn_1 21 rfl rfl)
theorem dX4_playOn_47 : decode cX4_playOn 47 = .ok (.aload_n 0, 1) := dk_42 (dk_at dksX4_playOn_2 0 rfl rfl)
theorem dX4_playOn_48 : decode cX4_playOn 48 = .ok (.getfield 38, 3) := dk_180 0 38 (dk_at dksX4_playOn_2 1 rfl rfl)
theorem dX4_playOn_51 : decode cX4_playOn 51 = .ok (.iload_n 3, 1) := dk_29 (dk_at dksX4_playOn_2 4 rfl rfl)
theorem dX4_playOn_52 : decode cX4_playOn 52 = .ok (.aload_n 0, 1) := dk_42 (dk_at dksX4_playOn_2 5 rfl rfl)
theorem dX4_playOn_53 : decode cX4_playOn 53 = .ok (.getfield 35, 3) := dk_180 0 35 (dk_at dksX4_playOn_2 6 rfl rfl)
theorem dX4_playOn_56 : decode cX4_playOn 56 = .ok (.iload_n 3, 1) := dk_29 (dk_at dksX4_playOn_2 9 rfl rfl)
theorem dX4_playOn_57 : decode cX4_playOn 57 = .ok (.iaload, 1) := dk_46 (dk_at dksX4_playOn_2 10 rfl rfl)
theorem dX4_playOn_58 : decode cX4_playOn 58 = .ok (.iastore, 1) := dk_79 (dk_at dksX4_playOn_2 11 rfl rfl)
theorem dX4_playOn_59 : decode cX4_playOn 59 = .ok (.iinc 3 1, 3) := dk_132 3 1 (dk_at dksX4_playOn_2 12 rfl rfl)
theorem dX4_playOn_62 : decode cX4_playOn 62 = .ok (.goto (-23), 3) := dk_167 255 233 (dk_at dksX4_playOn_2 15 rfl rfl)
theorem dX4_playOn_65 : decode cX4_playOn 65 = .ok (.aload_n 0, 1) := dk_42 (dk_at dksX4_playOn_2 18 rfl rfl)
theorem dX4_playOn_66 : decode cX4_playOn 66 = .ok (.aload_n 1, 1) := dk_43 (dk_at dksX4_playOn_2 19 rfl rfl)
theorem dX4_playOn_67 : decode cX4_playOn 67 = .ok (.invokevirtual 137, 3) := dk_182 0 137 (dk_at dksX4_playOn_2 20 rfl rfl)
theorem dX4_playOn_70 : decode cX4_playOn 70 = .ok (.pop, 1) := dk_87 (dk_at dksX4_playOn_2 23 rfl rfl)
theorem dX4_playOn_71 : decode cX4_playOn 71 = .ok (.aload_n 0, 1) := dk_42 (dk_at dksX4_playOn_3 0 rfl rfl)
theorem dX4_playOn_72 : decode cX4_playOn 72 = .ok (.aload_n 1, 1) := dk_43 (dk_at dksX4_playOn_3 1 rfl rfl)
theorem dX4_playOn_73 : decode cX4_playOn 73 = .ok (.invokevirtual 140, 3) := dk_182 0 140 (dk_at dksX4_playOn_3 2 rfl rfl)
theorem dX4_playOn_76 : decode cX4_playOn 76 = .ok (.istore_n 3, 1) := dk_62 (dk_at dksX4_playOn_3 5 rfl rfl)
theorem dX4_playOn_77 : decode cX4_playOn 77 = .ok (.iload_n 3, 1) := dk_29 (dk_at dksX4_playOn_3 6 rfl rfl)
theorem dX4_playOn_78 : decode cX4_playOn 78 = .ok (.iconst (-1), 1) := dk_2 (dk_at dksX4_playOn_3 7 rfl rfl)
theorem dX4_playOn_79 : decode cX4_playOn 79 = .ok (.if_icmp .ne 11, 3) := dk_160 0 11 (dk_at dksX4_playOn_3 8 rfl rfl)
theorem dX4_playOn_82 : decode cX4_playOn 82 = .ok (.aload_n 1, 1) := dk_43 (dk_at dksX4_playOn_3 11 rfl rfl)
theorem dX4_playOn_83 : decode cX4_playOn 83 = .ok (.invokestatic 134, 3) := dk_184 0 134 (dk_at dksX4_playOn_3 12 rfl rfl)
theorem dX4_playOn_86 : decode cX4_playOn 86 = .ok (.pop, 1) := dk_87 (dk_at dksX4_playOn_3 15 rfl rfl)
theorem dX4_playOn_87 : decode cX4_playOn 87 = .ok (.goto 9, 3) := dk_167 0 9 (dk_at dksX4_playOn_3 16 rfl rfl)
theorem dX4_playOn_90 : decode cX4_playOn 90 = .ok (.aload_n 1, 1) := dk_43 (dk_at dksX4_playOn_3 19 rfl rfl)
theorem dX4_playOn_91 : decode cX4_playOn 91 = .ok (.iload_n 3, 1) := dk_29 (dk_at dksX4_playOn_3 20 rfl rfl)
theorem dX4_playOn_92 : decode cX4_playOn 92 = .ok (.invokestatic 143, 3) := dk_184 0 143 (dk_at dksX4_playOn_3 21 rfl rfl)
theorem dX4_playOn_95 : decode cX4_playOn 95 = .ok (.pop, 1) := dk_87 (dk_at dksX4_playOn_4 0 rfl rfl)
theorem dX4_playOn_96 : decode cX4_playOn 96 = .ok (.iload_n 2, 1) := dk_28 (dk_at dksX4_playOn_4 1 rfl rfl)
theorem dX4_playOn_97 : decode cX4_playOn 97 = .ok (.ireturn, 1) := dk_172 (dk_at dksX4_playOn_4 2 rfl rfl)
abbrev cX4_bestOf : ByteArray := prog_11_method_21_code
def yX4_bestOf : MethodName := ⟨RX4, "bestOf", "([II)I"⟩
def dkwX4_bestOf_0 : List UInt8 := [42, 43, 28, 182, 0, 94, 42, 182, 0, 98, 172]
abbrev dktX4_bestOf_0 : List UInt8 := dkwX4_bestOf_0 ++ []
theorem dksX4_bestOf_0 : cX4_bestOf.data.toList.drop 0 = dktX4_bestOf_0 := by decide +kernel
theorem dX4_bestOf_0 : decode cX4_bestOf 0 = .ok (.aload_n 0, 1) := dk_42 (dk_at dksX4_bestOf_0 0 rfl rfl)
theorem dX4_bestOf_1 : decode cX4_bestOf 1 = .ok (.aload_n 1, 1) := dk_43 (dk_at dksX4_bestOf_0 1 rfl rfl)
theorem dX4_bestOf_2 : decode cX4_bestOf 2 = .ok (.iload_n 2, 1) := dk_28 (dk_at dksX4_bestOf_0 2 rfl rfl)
theorem dX4_bestOf_3 : decode cX4_bestOf 3 = .ok (.invokevirtual 94, 3) := dk_182 0 94 (dk_at dksX4_bestOf_0 3 rfl rfl)
theorem dX4_bestOf_6 : decode cX4_bestOf 6 = .ok (.aload_n 0, 1) := dk_42 (dk_at dksX4_bestOf_0 6 rfl rfl)
theorem dX4_bestOf_7 : decode cX4_bestOf 7 = .ok (.invokevirtual 98, 3) := dk_182 0 98 (dk_at dksX4_bestOf_0 7 rfl rfl)
theorem dX4_bestOf_10 : decode cX4_bestOf 10 = .ok (.ireturn, 1) := dk_172 (dk_at dksX4_bestOf_0 10 rfl rfl)
abbrev cX4_reckon : ByteArray := prog_11_method_16_code
def yX4_reckon : MethodName := ⟨RX4, "reckon", "([II)V"⟩
def dkwX4_reckon_3 : List UInt8 := [43, 28, 29, 184, 0, 70, 153, 0, 7, 2, 167, 0, 5, 21, 4, 79, 132, 3, 1, 167, 255, 167, 177]
abbrev dktX4_reckon_3 : List UInt8 := dkwX4_reckon_3 ++ []
def dkwX4_reckon_2 : List UInt8 := [21, 5, 154, 0, 7, 4, 167, 0, 4, 3, 96, 54, 4, 132, 6, 1, 167, 255, 213, 42, 180, 0, 32, 29]
abbrev dktX4_reckon_2 : List UInt8 := dkwX4_reckon_2 ++ dktX4_reckon_3
def dkwX4_reckon_1 : List UInt8 := [162, 0, 43, 21, 4, 43, 21, 6, 184, 0, 63, 153, 0, 22, 43, 21, 6, 29, 184, 0, 66, 153, 0, 12]
abbrev dktX4_reckon_1 : List UInt8 := dkwX4_reckon_1 ++ dktX4_reckon_2
def dkwX4_reckon_0 : List UInt8 := [3, 62, 29, 16, 18, 162, 0, 89, 3, 54, 4, 43, 29, 184, 0, 59, 54, 5, 3, 54, 6, 21, 6, 6]
abbrev dktX4_reckon_0 : List UInt8 := dkwX4_reckon_0 ++ dktX4_reckon_1
theorem dksX4_reckon_0 : cX4_reckon.data.toList.drop 0 = dktX4_reckon_0 := by decide +kernel
theorem dksX4_reckon_1 : cX4_reckon.data.toList.drop 24 = dktX4_reckon_1 := dk_seg dksX4_reckon_0 24 rfl rfl
theorem dksX4_reckon_2 : cX4_reckon.data.toList.drop 48 = dktX4_reckon_2 := dk_seg dksX4_reckon_1 24 rfl rfl
theorem dksX4_reckon_3 : cX4_reckon.data.toList.drop 72 = dktX4_reckon_3 := dk_seg dksX4_reckon_2 24 rfl rfl
theorem dX4_reckon_0 : decode cX4_reckon 0 = .ok (.iconst 0, 1) := dk_3 (dk_at dksX4_reckon_0 0 rfl rfl)
theorem dX4_reckon_1 : decode cX4_reckon 1 = .ok (.istore_n 3, 1) := dk_62 (dk_at dksX4_reckon_0 1 rfl rfl)
theorem dX4_reckon_2 : decode cX4_reckon 2 = .ok (.iload_n 3, 1) := dk_29 (dk_at dksX4_reckon_0 2 rfl rfl)
theorem dX4_reckon_3 : decode cX4_reckon 3 = .ok (.bipush 18, 2) := dk_16 18 (dk_at dksX4_reckon_0 3 rfl rfl)
theorem dX4_reckon_5 : decode cX4_reckon 5 = .ok (.if_icmp .ge 89, 3) := dk_162 0 89 (dk_at dksX4_reckon_0 5 rfl rfl)
theorem dX4_reckon_8 : decode cX4_reckon 8 = .ok (.iconst 0, 1) := dk_3 (dk_at dksX4_reckon_0 8 rfl rfl)
theorem dX4_reckon_9 : decode cX4_reckon 9 = .ok (.istore 4, 2) := dk_54 4 (dk_at dksX4_reckon_0 9 rfl rfl)
theorem dX4_reckon_11 : decode cX4_reckon 11 = .ok (.aload_n 1, 1) := dk_43 (dk_at dksX4_reckon_0 11 rfl rfl)
theorem dX4_reckon_12 : decode cX4_reckon 12 = .ok (.iload_n 3, 1) := dk_29 (dk_at dksX4_reckon_0 12 rfl rfl)
theorem dX4_reckon_13 : decode cX4_reckon 13 = .ok (.invokestatic 59, 3) := dk_184 0 59 (dk_at dksX4_reckon_0 13 rfl rfl)
theorem dX4_reckon_16 : decode cX4_reckon 16 = .ok (.istore 5, 2) := dk_54 5 (dk_at dksX4_reckon_0 16 rfl rfl)
theorem dX4_reckon_18 : decode cX4_reckon 18 = .ok (.iconst 0, 1) := dk_3 (dk_at dksX4_reckon_0 18 rfl rfl)
theorem dX4_reckon_19 : decode cX4_reckon 19 = .ok (.istore 6, 2) := dk_54 6 (dk_at dksX4_reckon_0 19 rfl rfl)
theorem dX4_reckon_21 : decode cX4_reckon 21 = .ok (.iload 6, 2) := dk_21 6 (dk_at dksX4_reckon_0 21 rfl rfl)
theorem dX4_reckon_23 : decode cX4_reckon 23 = .ok (.iconst 3, 1) := dk_6 (dk_at dksX4_reckon_0 23 rfl rfl)
theorem dX4_reckon_24 : decode cX4_reckon 24 = .ok (.if_icmp .ge 43, 3) := dk_162 0 43 (dk_at dksX4_reckon_1 0 rfl rfl)
theorem dX4_reckon_27 : decode cX4_reckon 27 = .ok (.iload 4, 2) := dk_21 4 (dk_at dksX4_reckon_1 3 rfl rfl)
theorem dX4_reckon_29 : decode cX4_reckon 29 = .ok (.aload_n 1, 1) := dk_43 (dk_at dksX4_reckon_1 5 rfl rfl)
theorem dX4_reckon_30 : decode cX4_reckon 30 = .ok (.iload 6, 2) := dk_21 6 (dk_at dksX4_reckon_1 6 rfl rfl)
theorem dX4_reckon_32 : decode cX4_reckon 32 = .ok (.invokestatic 63, 3) := dk_184 0 63 (dk_at dksX4_reckon_1 8 rfl rfl)
theorem dX4_reckon_35 : decode cX4_reckon 35 = .ok (.ifCond .eq 22, 3) := dk_153 0 22 (dk_at dksX4_reckon_1 11 rfl rfl)
theorem dX4_reckon_38 : decode cX4_reckon 38 = .ok (.aload_n 1, 1) := dk_43 (dk_at dksX4_reckon_1 14 rfl rfl)
theorem dX4_reckon_39 : decode cX4_reckon 39 = .ok (.iload 6, 2) := dk_21 6 (dk_at dksX4_reckon_1 15 rfl rfl)
theorem dX4_reckon_41 : decode cX4_reckon 41 = .ok (.iload_n 3, 1) := dk_29 (dk_at dksX4_reckon_1 17 rfl rfl)
theorem dX4_reckon_42 : decode cX4_reckon 42 = .ok (.invokestatic 66, 3) := dk_184 0 66 (dk_at dksX4_reckon_1 18 rfl rfl)
theorem dX4_reckon_45 : decode cX4_reckon 45 = .ok (.ifCond .eq 12, 3) := dk_153 0 12 (dk_at dksX4_reckon_1 21 rfl rfl)
theorem dX4_reckon_48 : decode cX4_reckon 48 = .ok (.iload 5, 2) := dk_21 5 (dk_at dksX4_reckon_2 0 rfl rfl)
theorem dX4_reckon_50 : decode cX4_reckon 50 = .ok (.ifCond .ne 7, 3) := dk_154 0 7 (dk_at dksX4_reckon_2 2 rfl rfl)
theorem dX4_reckon_53 : decode cX4_reckon 53 = .ok (.iconst 1, 1) := dk_4 (dk_at dksX4_reckon_2 5 rfl rfl)
theorem dX4_reckon_54 : decode cX4_reckon 54 = .ok (.goto 4, 3) := dk_167 0 4 (dk_at dksX4_reckon_2 6 rfl rfl)
theorem dX4_reckon_57 : decode cX4_reckon 57 = .ok (.iconst 0, 1) := dk_3 (dk_at dksX4_reckon_2 9 rfl rfl)
theorem dX4_reckon_58 : decode cX4_reckon 58 = .ok (.iadd, 1) := dk_96 (dk_at dksX4_reckon_2 10 rfl rfl)
theorem dX4_reckon_59 : decode cX4_reckon 59 = .ok (.istore 4, 2) := dk_54 4 (dk_at dksX4_reckon_2 11 rfl rfl)
theorem dX4_reckon_61 : decode cX4_reckon 61 = .ok (.iinc 6 1, 3) := dk_132 6 1 (dk_at dksX4_reckon_2 13 rfl rfl)
theorem dX4_reckon_64 : decode cX4_reckon 64 = .ok (.goto (-43), 3) := dk_167 255 213 (dk_at dksX4_reckon_2 16 rfl rfl)
theorem dX4_reckon_67 : decode cX4_reckon 67 = .ok (.aload_n 0, 1) := dk_42 (dk_at dksX4_reckon_2 19 rfl rfl)
theorem dX4_reckon_68 : decode cX4_reckon 68 = .ok (.getfield 32, 3) := dk_180 0 32 (dk_at dksX4_reckon_2 20 rfl rfl)
theorem dX4_reckon_71 : decode cX4_reckon 71 = .ok (.iload_n 3, 1) := dk_29 (dk_at dksX4_reckon_2 23 rfl rfl)
theorem dX4_reckon_72 : decode cX4_reckon 72 = .ok (.aload_n 1, 1) := dk_43 (dk_at dksX4_reckon_3 0 rfl rfl)
theorem dX4_reckon_73 : decode cX4_reckon 73 = .ok (.iload_n 2, 1) := dk_28 (dk_at dksX4_reckon_3 1 rfl rfl)
theorem dX4_reckon_74 : decode cX4_reckon 74 = .ok (.iload_n 3, 1) := dk_29 (dk_at dksX4_reckon_3 2 rfl rfl)
theorem dX4_reckon_75 : decode cX4_reckon 75 = .ok (.invokestatic 70, 3) := dk_184 0 70 (dk_at dksX4_reckon_3 3 rfl rfl)
theorem dX4_reckon_78 : decode cX4_reckon 78 = .ok (.ifCond .eq 7, 3) := dk_153 0 7 (dk_at dksX4_reckon_3 6 rfl rfl)
theorem dX4_reckon_81 : decode cX4_reckon 81 = .ok (.iconst (-1), 1) := dk_2 (dk_at dksX4_reckon_3 9 rfl rfl)
theorem dX4_reckon_82 : decode cX4_reckon 82 = .ok (.goto 5, 3) := dk_167 0 5 (dk_at dksX4_reckon_3 10 rfl rfl)
theorem dX4_reckon_85 : decode cX4_reckon 85 = .ok (.iload 4, 2) := dk_21 4 (dk_at dksX4_reckon_3 13 rfl rfl)
theorem dX4_reckon_87 : decode cX4_reckon 87 = .ok (.iastore, 1) := dk_79 (dk_at dksX4_reckon_3 15 rfl rfl)
theorem dX4_reckon_88 : decode cX4_reckon 88 = .ok (.iinc 3 1, 3) := dk_132 3 1 (dk_at dksX4_reckon_3 16 rfl rfl)
theorem dX4_reckon_91 : decode cX4_reckon 91 = .ok (.goto (-89), 3) := dk_167 255 167 (dk_at dksX4_reckon_3 19 rfl rfl)
theorem dX4_reckon_94 : decode cX4_reckon 94 = .ok (.return_, 1) := dk_177 (dk_at dksX4_reckon_3 22 rfl rfl)
abbrev cX4_findBest : ByteArray := prog_11_method_20_code
def yX4_findBest : MethodName := ⟨RX4, "findBest", "()I"⟩
def dkwX4_findBest_4 : List UInt8 := [132, 2, 3, 167, 255, 181, 132, 1, 3, 167, 255, 167, 42, 180, 0, 76, 172]
abbrev dktX4_findBest_4 : List UInt8 := dkwX4_findBest_4 ++ []
def dkwX4_findBest_3 : List UInt8 := [21, 5, 182, 0, 90, 132, 5, 3, 167, 255, 235, 132, 4, 3, 167, 255, 219, 132, 3, 3, 167, 255, 195]
abbrev dktX4_findBest_3 : List UInt8 := dkwX4_findBest_3 ++ dktX4_findBest_4
def dkwX4_findBest_2 : List UInt8 := [21, 4, 16, 18, 162, 0, 36, 3, 54, 5, 21, 5, 16, 18, 162, 0, 20, 42, 27, 28, 29, 21, 4]
abbrev dktX4_findBest_2 : List UInt8 := dkwX4_findBest_2 ++ dktX4_findBest_3
def dkwX4_findBest_1 : List UInt8 := [162, 0, 75, 4, 62, 29, 16, 18, 162, 0, 61, 42, 27, 28, 29, 2, 2, 182, 0, 90, 2, 54, 4]
abbrev dktX4_findBest_1 : List UInt8 := dkwX4_findBest_1 ++ dktX4_findBest_2
def dkwX4_findBest_0 : List UInt8 := [42, 2, 181, 0, 76, 42, 3, 181, 0, 79, 2, 60, 27, 16, 18, 162, 0, 89, 3, 61, 28, 16, 18]
abbrev dktX4_findBest_0 : List UInt8 := dkwX4_findBest_0 ++ dktX4_findBest_1
theorem dksX4_findBest_0 : cX4_findBest.data.toList.drop 0 = dktX4_findBest_0 := by decide +kernel
theorem dksX4_findBest_1 : cX4_findBest.data.toList.drop 23 = dktX4_findBest_1 := dk_seg dksX4_findBest_0 23 rfl rfl
theorem dksX4_findBest_2 : cX4_findBest.data.toList.drop 46 = dktX4_findBest_2 := dk_seg dksX4_findBest_1 23 rfl rfl
theorem dksX4_findBest_3 : cX4_findBest.data.toList.drop 69 = dktX4_findBest_3 := dk_seg dksX4_findBest_2 23 rfl rfl
theorem dksX4_findBest_4 : cX4_findBest.data.toList.drop 92 = dktX4_findBest_4 := dk_seg dksX4_findBest_3 23 rfl rfl
theorem dX4_findBest_0 : decode cX4_findBest 0 = .ok (.aload_n 0, 1) := dk_42 (dk_at dksX4_findBest_0 0 rfl rfl)
theorem dX4_findBest_1 : decode cX4_findBest 1 = .ok (.iconst (-1), 1) := dk_2 (dk_at dksX4_findBest_0 1 rfl rfl)
theorem dX4_findBest_2 : decode cX4_findBest 2 = .ok (.putfield 76, 3) := dk_181 0 76 (dk_at dksX4_findBest_0 2 rfl rfl)
theorem dX4_findBest_5 : decode cX4_findBest 5 = .ok (.aload_n 0, 1) := dk_42 (dk_at dksX4_findBest_0 5 rfl rfl)
theorem dX4_findBest_6 : decode cX4_findBest 6 = .ok (.iconst 0, 1) := dk_3 (dk_at dksX4_findBest_0 6 rfl rfl)
theorem dX4_findBest_7 : decode cX4_findBest 7 = .ok (.putfield 79, 3) := dk_181 0 79 (dk_at dksX4_findBest_0 7 rfl rfl)
theorem dX4_findBest_10 : decode cX4_findBest 10 = .ok (.iconst (-1), 1) := dk_2 (dk_at dksX4_findBest_0 10 rfl rfl)
theorem dX4_findBest_11 : decode cX4_findBest 11 = .ok (.istore_n 1, 1) := dk_60 (dk_at dksX4_findBest_0 11 rfl rfl)
theorem dX4_findBest_12 : decode cX4_findBest 12 = .ok (.iload_n 1, 1) := dk_27 (dk_at dksX4_findBest_0 12 rfl rfl)
theorem dX4_findBest_13 : decode cX4_findBest 13 = .ok (.bipush 18, 2) := dk_16 18 (dk_at dksX4_findBest_0 13 rfl rfl)
theorem dX4_findBest_15 : decode cX4_findBest 15 = .ok (.if_icmp .ge 89, 3) := dk_162 0 89 (dk_at dksX4_findBest_0 15 rfl rfl)
theorem dX4_findBest_18 : decode cX4_findBest 18 = .ok (.iconst 0, 1) := dk_3 (dk_at dksX4_findBest_0 18 rfl rfl)
theorem dX4_findBest_19 : decode cX4_findBest 19 = .ok (.istore_n 2, 1) := dk_61 (dk_at dksX4_findBest_0 19 rfl rfl)
theorem dX4_findBest_20 : decode cX4_findBest 20 = .ok (.iload_n 2, 1) := dk_28 (dk_at dksX4_findBest_0 20 rfl rfl)
theorem dX4_findBest_21 : decode cX4_findBest 21 = .ok (.bipush 18, 2) := dk_16 18 (dk_at dksX4_findBest_0 21 rfl rfl)
theorem dX4_findBest_23 : decode cX4_findBest 23 = .ok (.if_icmp .ge 75, 3) := dk_162 0 75 (dk_at dksX4_findBest_1 0 rfl rfl)
theorem dX4_findBest_26 : decode cX4_findBest 26 = .ok (.iconst 1, 1) := dk_4 (dk_at dksX4_findBest_1 3 rfl rfl)
theorem dX4_findBest_27 : decode cX4_findBest 27 = .ok (.istore_n 3, 1) := dk_62 (dk_at dksX4_findBest_1 4 rfl rfl)
theorem dX4_findBest_28 : decode cX4_findBest 28 = .ok (.iload_n 3, 1) := dk_29 (dk_at dksX4_findBest_1 5 rfl rfl)
theorem dX4_findBest_29 : decode cX4_findBest 29 = .ok (.bipush 18, 2) := dk_16 18 (dk_at dksX4_findBest_1 6 rfl rfl)
theorem dX4_findBest_31 : decode cX4_findBest 31 = .ok (.if_icmp .ge 61, 3) := dk_162 0 61 (dk_at dksX4_findBest_1 8 rfl rfl)
theorem dX4_findBest_34 : decode cX4_findBest 34 = .ok (.aload_n 0, 1) := dk_42 (dk_at dksX4_findBest_1 11 rfl rfl)
theorem dX4_findBest_35 : decode cX4_findBest 35 = .ok (.iload_n 1, 1) := dk_27 (dk_at dksX4_findBest_1 12 rfl rfl)
theorem dX4_findBest_36 : decode cX4_findBest 36 = .ok (.iload_n 2, 1) := dk_28 (dk_at dksX4_findBest_1 13 rfl rfl)
theorem dX4_findBest_37 : decode cX4_findBest 37 = .ok (.iload_n 3, 1) := dk_29 (dk_at dksX4_findBest_1 14 rfl rfl)
theorem dX4_findBest_38 : decode cX4_findBest 38 = .ok (.iconst (-1), 1) := dk_2 (dk_at dksX4_findBest_1 15 rfl rfl)
theorem dX4_findBest_39 : decode cX4_findBest 39 = .ok (.iconst (-1), 1) := dk_2 (dk_at dksX4_findBest_1 16 rfl rfl)
theorem dX4_findBest_40 : decode cX4_findBest 40 = .ok (.invokevirtual 90, 3) := dk_182 0 90 (dk_at dksX4_findBest_1 17 rfl rfl)
theorem dX4_findBest_43 : decode cX4_findBest 43 = .ok (.iconst (-1), 1) := dk_2 (dk_at dksX4_findBest_1 20 rfl rfl)
theorem dX4_findBest_44 : decode cX4_findBest 44 = .ok (.istore 4, 2) := dk_54 4 (dk_at dksX4_findBest_1 21 rfl rfl)
theorem dX4_findBest_46 : decode cX4_findBest 46 = .ok (.iload 4, 2) := dk_21 4 (dk_at dksX4_findBest_2 0 rfl rfl)
theorem dX4_findBest_48 : decode cX4_findBest 48 = .ok (.bipush 18, 2) := dk_16 18 (dk_at dksX4_findBest_2 2 rfl rfl)
theorem dX4_findBest_50 : decode cX4_findBest 50 = .ok (.if_icmp .ge 36, 3) := dk_162 0 36 (dk_at dksX4_findBest_2 4 rfl rfl)
theorem dX4_findBest_53 : decode cX4_findBest 53 = .ok (.iconst 0, 1) := dk_3 (dk_at dksX4_findBest_2 7 rfl rfl)
theorem dX4_findBest_54 : decode cX4_findBest 54 = .ok (.istore 5, 2) := dk_54 5 (dk_at dksX4_findBest_2 8 rfl rfl)
theorem dX4_findBest_56 : decode cX4_findBest 56 = .ok (.iload 5, 2) := dk_21 5 (dk_at dksX4_findBest_2 10 rfl rfl)
theorem dX4_findBest_58 : decode cX4_findBest 58 = .ok (.bipush 18, 2) := dk_16 18 (dk_at dksX4_findBest_2 12 rfl rfl)
theorem dX4_findBest_60 : decode cX4_findBest 60 = .ok (.if_icmp .ge 20, 3) := dk_162 0 20 (dk_at dksX4_findBest_2 14 rfl rfl)
theorem dX4_findBest_63 : decode cX4_findBest 63 = .ok (.aload_n 0, 1) := dk_42 (dk_at dksX4_findBest_2 17 rfl rfl)
theorem dX4_findBest_64 : decode cX4_findBest 64 = .ok (.iload_n 1, 1) := dk_27 (dk_at dksX4_findBest_2 18 rfl rfl)
theorem dX4_findBest_65 : decode cX4_findBest 65 = .ok (.iload_n 2, 1) := dk_28 (dk_at dksX4_findBest_2 19 rfl rfl)
theorem dX4_findBest_66 : decode cX4_findBest 66 = .ok (.iload_n 3, 1) := dk_29 (dk_at dksX4_findBest_2 20 rfl rfl)
theorem dX4_findBest_67 : decode cX4_findBest 67 = .ok (.iload 4, 2) := dk_21 4 (dk_at dksX4_findBest_2 21 rfl rfl)
theorem dX4_findBest_69 : decode cX4_findBest 69 = .ok (.iload 5, 2) := dk_21 5 (dk_at dksX4_findBest_3 0 rfl rfl)
theorem dX4_findBest_71 : decode cX4_findBest 71 = .ok (.invokevirtual 90, 3) := dk_182 0 90 (dk_at dksX4_findBest_3 2 rfl rfl)
theorem dX4_findBest_74 : decode cX4_findBest 74 = .ok (.iinc 5 3, 3) := dk_132 5 3 (dk_at dksX4_findBest_3 5 rfl rfl)
theorem dX4_findBest_77 : decode cX4_findBest 77 = .ok (.goto (-21), 3) := dk_167 255 235 (dk_at dksX4_findBest_3 8 rfl rfl)
theorem dX4_findBest_80 : decode cX4_findBest 80 = .ok (.iinc 4 3, 3) := dk_132 4 3 (dk_at dksX4_findBest_3 11 rfl rfl)
theorem dX4_findBest_83 : decode cX4_findBest 83 = .ok (.goto (-37), 3) := dk_167 255 219 (dk_at dksX4_findBest_3 14 rfl rfl)
theorem dX4_findBest_86 : decode cX4_findBest 86 = .ok (.iinc 3 3, 3) := dk_132 3 3 (dk_at dksX4_findBest_3 17 rfl rfl)
theorem dX4_findBest_89 : decode cX4_findBest 89 = .ok (.goto (-61), 3) := dk_167 255 195 (dk_at dksX4_findBest_3 20 rfl rfl)
theorem dX4_findBest_92 : decode cX4_findBest 92 = .ok (.iinc 2 3, 3) := dk_132 2 3 (dk_at dksX4_findBest_4 0 rfl rfl)
theorem dX4_findBest_95 : decode cX4_findBest 95 = .ok (.goto (-75), 3) := dk_167 255 181 (dk_at dksX4_findBest_4 3 rfl rfl)
theorem dX4_findBest_98 : decode cX4_findBest 98 = .ok (.iinc 1 3, 3) := dk_132 1 3 (dk_at dksX4_findBest_4 6 rfl rfl)
theorem dX4_findBest_101 : decode cX4_findBest 101 = .ok (.goto (-89), 3) := dk_167 255 167 (dk_at dksX4_findBest_4 9 rfl rfl)
theorem dX4_findBest_104 : decode cX4_findBest 104 = .ok (.aload_n 0, 1) := dk_42 (dk_at dksX4_findBest_4 12 rfl rfl)
theorem dX4_findBest_105 : decode cX4_findBest 105 = .ok (.getfield 76, 3) := dk_180 0 76 (dk_at dksX4_findBest_4 13 rfl rfl)
theorem dX4_findBest_108 : decode cX4_findBest 108 = .ok (.ireturn, 1) := dk_172 (dk_at dksX4_findBest_4 16 rfl rfl)
abbrev cX4_tryAll : ByteArray := prog_11_method_19_code
def yX4_tryAll : MethodName := ⟨RX4, "tryAll", "(IIIII)V"⟩
def dkwX4_tryAll_8 : List UInt8 := [180, 0, 38, 21, 8, 46, 79, 132, 8, 1, 167, 255, 230, 177]
abbrev dktX4_tryAll_8 : List UInt8 := dkwX4_tryAll_8 ++ []
def dkwX4_tryAll_7 : List UInt8 := [181, 0, 79, 3, 54, 8, 21, 8, 42, 180, 0, 73, 162, 0, 23, 42, 180, 0, 35, 21, 8, 42]
abbrev dktX4_tryAll_7 : List UInt8 := dkwX4_tryAll_7 ++ dktX4_tryAll_8
def dkwX4_tryAll_6 : List UInt8 := [153, 0, 58, 42, 21, 6, 182, 0, 86, 153, 0, 49, 42, 21, 6, 181, 0, 76, 42, 42, 180, 0, 73]
abbrev dktX4_tryAll_6 : List UInt8 := dkwX4_tryAll_6 ++ dktX4_tryAll_7
def dkwX4_tryAll_5 : List UInt8 := [54, 7, 21, 6, 42, 180, 0, 32, 21, 9, 46, 96, 54, 6, 132, 8, 1, 167, 255, 158, 21, 7]
abbrev dktX4_tryAll_5 : List UInt8 := dkwX4_tryAll_5 ++ dktX4_tryAll_6
def dkwX4_tryAll_4 : List UInt8 := [182, 0, 82, 21, 7, 153, 0, 17, 42, 180, 0, 32, 21, 9, 46, 155, 0, 7, 4, 167, 0, 4, 3]
abbrev dktX4_tryAll_4 : List UInt8 := dkwX4_tryAll_4 ++ dktX4_tryAll_5
def dkwX4_tryAll_3 : List UInt8 := [21, 8, 6, 160, 0, 8, 21, 4, 167, 0, 5, 21, 5, 54, 9, 21, 9, 155, 0, 43, 42, 21, 9]
abbrev dktX4_tryAll_3 : List UInt8 := dkwX4_tryAll_3 ++ dktX4_tryAll_4
def dkwX4_tryAll_2 : List UInt8 := [167, 0, 36, 21, 8, 4, 160, 0, 7, 28, 167, 0, 26, 21, 8, 5, 160, 0, 7, 29, 167, 0, 16]
abbrev dktX4_tryAll_2 : List UInt8 := dkwX4_tryAll_2 ++ dktX4_tryAll_3
def dkwX4_tryAll_1 : List UInt8 := [4, 167, 0, 4, 3, 54, 7, 3, 54, 8, 21, 8, 8, 162, 0, 98, 21, 8, 154, 0, 7, 27]
abbrev dktX4_tryAll_1 : List UInt8 := dkwX4_tryAll_1 ++ dktX4_tryAll_2
def dkwX4_tryAll_0 : List UInt8 := [42, 3, 181, 0, 73, 3, 54, 6, 28, 21, 5, 159, 0, 17, 27, 21, 4, 160, 0, 7, 27, 156, 0, 7]
abbrev dktX4_tryAll_0 : List UInt8 := dkwX4_tryAll_0 ++ dktX4_tryAll_1
theorem dksX4_tryAll_0 : cX4_tryAll.data.toList.drop 0 = dktX4_tryAll_0 := by decide +kernel
theorem dksX4_tryAll_1 : cX4_tryAll.data.toList.drop 24 = dktX4_tryAll_1 := dk_seg dksX4_tryAll_0 24 rfl rfl
theorem dksX4_tryAll_2 : cX4_tryAll.data.toList.drop 46 = dktX4_tryAll_2 := dk_seg dksX4_tryAll_1 22 rfl rfl
theorem dksX4_tryAll_3 : cX4_tryAll.data.toList.drop 69 = dktX4_tryAll_3 := dk_seg dksX4_tryAll_2 23 rfl rfl
theorem dksX4_tryAll_4 : cX4_tryAll.data.toList.drop 92 = dktX4_tryAll_4 := dk_seg dksX4_tryAll_3 23 rfl rfl
theorem dksX4_tryAll_5 : cX4_tryAll.data.toList.drop 115 = dktX4_tryAll_5 := dk_seg dksX4_tryAll_4 23 rfl rfl
theorem dksX4_tryAll_6 : cX4_tryAll.data.toList.drop 137 = dktX4_tryAll_6 := dk_seg dksX4_tryAll_5 22 rfl rfl
theorem dksX4_tryAll_7 : cX4_tryAll.data.toList.drop 160 = dktX4_tryAll_7 := dk_seg dksX4_tryAll_6 23 rfl rfl
theorem dksX4_tryAll_8 : cX4_tryAll.data.toList.drop 182 = dktX4_tryAll_8 := dk_seg dksX4_tryAll_7 22 rfl rfl
theorem dX4_tryAll_0 : decode cX4_tryAll 0 = .ok (.aload_n 0, 1) := dk_42 (dk_at dksX4_tryAll_0 0 rfl rfl)
theorem dX4_tryAll_1 : decode cX4_tryAll 1 = .ok (.iconst 0, 1) := dk_3 (dk_at dksX4_tryAll_0 1 rfl rfl)
theorem dX4_tryAll_2 : decode cX4_tryAll 2 = .ok (.putfield 73, 3) := dk_181 0 73 (dk_at dksX4_tryAll_0 2 rfl rfl)
theorem dX4_tryAll_5 : decode cX4_tryAll 5 = .ok (.iconst 0, 1) := dk_3 (dk_at dksX4_tryAll_0 5 rfl rfl)
theorem dX4_tryAll_6 : decode cX4_tryAll 6 = .ok (.istore 6, 2) := dk_54 6 (dk_at dksX4_tryAll_0 6 rfl rfl)
theorem dX4_tryAll_8 : decode cX4_tryAll 8 = .ok (.iload_n 2, 1) := dk_28 (dk_at dksX4_tryAll_0 8 rfl rfl)
theorem dX4_tryAll_9 : decode cX4_tryAll 9 = .ok (.iload 5, 2) := dk_21 5 (dk_at dksX4_tryAll_0 9 rfl rfl)
theorem dX4_tryAll_11 : decode cX4_tryAll 11 = .ok (.if_icmp .eq 17, 3) := dk_159 0 17 (dk_at dksX4_tryAll_0 11 rfl rfl)
theorem dX4_tryAll_14 : decode cX4_tryAll 14 = .ok (.iload_n 1, 1) := dk_27 (dk_at dksX4_tryAll_0 14 rfl rfl)
theorem dX4_tryAll_15 : decode cX4_tryAll 15 = .ok (.iload 4, 2) := dk_21 4 (dk_at dksX4_tryAll_0 15 rfl rfl)
theorem dX4_tryAll_17 : decode cX4_tryAll 17 = .ok (.if_icmp .ne 7, 3) := dk_160 0 7 (dk_at dksX4_tryAll_0 17 rfl rfl)
theorem dX4_tryAll_20 : decode cX4_tryAll 20 = .ok (.iload_n 1, 1) := dk_27 (dk_at dksX4_tryAll_0 20 rfl rfl)
theorem dX4_tryAll_21 : decode cX4_tryAll 21 = .ok (.ifCond .ge 7, 3) := dk_156 0 7 (dk_at dksX4_tryAll_0 21 rfl rfl)
theorem dX4_tryAll_24 : decode cX4_tryAll 24 = .ok (.iconst 1, 1) := dk_4 (dk_at dksX4_tryAll_1 0 rfl rfl)
theorem dX4_tryAll_25 : decode cX4_tryAll 25 = .ok (.goto 4, 3) := dk_167 0 4 (dk_at dksX4_tryAll_1 1 rfl rfl)
theorem dX4_tryAll_28 : decode cX4_tryAll 28 = .ok (.iconst 0, 1) := dk_3 (dk_at dksX4_tryAll_1 4 rfl rfl)
theorem dX4_tryAll_29 : decode cX4_tryAll 29 = .ok (.istore 7, 2) := dk_54 7 (dk_at dksX4_tryAll_1 5 rfl rfl)
theorem dX4_tryAll_31 : decode cX4_tryAll 31 = .ok (.iconst 0, 1) := dk_3 (dk_at dksX4_tryAll_1 7 rfl rfl)
theorem dX4_tryAll_32 : decode cX4_tryAll 32 = .ok (.istore 8, 2) := dk_54 8 (dk_at dksX4_tryAll_1 8 rfl rfl)
theorem dX4_tryAll_34 : decode cX4_tryAll 34 = .ok (.iload 8, 2) := dk_21 8 (dk_at dksX4_tryAll_1 10 rfl rfl)
theorem dX4_tryAll_36 : decode cX4_tryAll 36 = .ok (.iconst 5, 1) := dk_8 (dk_at dksX4_tryAll_1 12 rfl rfl)
theorem dX4_tryAll_37 : decode cX4_tryAll 37 = .ok (.if_icmp .ge 98, 3) := dk_162 0 98 (dk_at dksX4_tryAll_1 13 rfl rfl)
theorem dX4_tryAll_40 : decode cX4_tryAll 40 = .ok (.iload 8, 2) := dk_21 8 (dk_at dksX4_tryAll_1 16 rfl rfl)
theorem dX4_tryAll_42 : decode cX4_tryAll 42 = .ok (.ifCond .ne 7, 3) := dk_154 0 7 (dk_at dksX4_tryAll_1 18 rfl rfl)
theorem dX4_tryAll_45 : decode cX4_tryAll 45 = .ok (.iload_n 1, 1) := dk_27 (dk_at dksX4_tryAll_1 21 rfl rfl)
theorem dX4_tryAll_46 : decode cX4_tryAll 46 = .ok (.goto 36, 3) := dk_167 0 36 (dk_at dksX4_tryAll_2 0 rfl rfl)
theorem dX4_tryAll_49 : decode cX4_tryAll 49 = .ok (.iload 8, 2) := dk_21 8 (dk_at dksX4_tryAll_2 3 rfl rfl)
theorem dX4_tryAll_51 : decode cX4_tryAll 51 = .ok (.iconst 1, 1) := dk_4 (dk_at dksX4_tryAll_2 5 rfl rfl)
theorem dX4_tryAll_52 : decode cX4_tryAll 52 = .ok (.if_icmp .ne 7, 3) := dk_160 0 7 (dk_at dksX4_tryAll_2 6 rfl rfl)
theorem dX4_tryAll_55 : decode cX4_tryAll 55 = .ok (.iload_n 2, 1) := dk_28 (dk_at dksX4_tryAll_2 9 rfl rfl)
theorem dX4_tryAll_56 : decode cX4_tryAll 56 = .ok (.goto 26, 3) := dk_167 0 26 (dk_at dksX4_tryAll_2 10 rfl rfl)
theorem dX4_tryAll_59 : decode cX4_tryAll 59 = .ok (.iload 8, 2) := dk_21 8 (dk_at dksX4_tryAll_2 13 rfl rfl)
theorem dX4_tryAll_61 : decode cX4_tryAll 61 = .ok (.iconst 2, 1) := dk_5 (dk_at dksX4_tryAll_2 15 rfl rfl)
theorem dX4_tryAll_62 : decode cX4_tryAll 62 = .ok (.if_icmp .ne 7, 3) := dk_160 0 7 (dk_at dksX4_tryAll_2 16 rfl rfl)
theorem dX4_tryAll_65 : decode cX4_tryAll 65 = .ok (.iload_n 3, 1) := dk_29 (dk_at dksX4_tryAll_2 19 rfl rfl)
theorem dX4_tryAll_66 : decode cX4_tryAll 66 = .ok (.goto 16, 3) := dk_167 0 16 (dk_at dksX4_tryAll_2 20 rfl rfl)
theorem dX4_tryAll_69 : decode cX4_tryAll 69 = .ok (.iload 8, 2) := dk_21 8 (dk_at dksX4_tryAll_3 0 rfl rfl)
theorem dX4_tryAll_71 : decode cX4_tryAll 71 = .ok (.iconst 3, 1) := dk_6 (dk_at dksX4_tryAll_3 2 rfl rfl)
theorem dX4_tryAll_72 : decode cX4_tryAll 72 = .ok (.if_icmp .ne 8, 3) := dk_160 0 8 (dk_at dksX4_tryAll_3 3 rfl rfl)
theorem dX4_tryAll_75 : decode cX4_tryAll 75 = .ok (.iload 4, 2) := dk_21 4 (dk_at dksX4_tryAll_3 6 rfl rfl)
theorem dX4_tryAll_77 : decode cX4_tryAll 77 = .ok (.goto 5, 3) := dk_167 0 5 (dk_at dksX4_tryAll_3 8 rfl rfl)
theorem dX4_tryAll_80 : decode cX4_tryAll 80 = .ok (.iload 5, 2) := dk_21 5 (dk_at dksX4_tryAll_3 11 rfl rfl)
theorem dX4_tryAll_82 : decode cX4_tryAll 82 = .ok (.istore 9, 2) := dk_54 9 (dk_at dksX4_tryAll_3 13 rfl rfl)
theorem dX4_tryAll_84 : decode cX4_tryAll 84 = .ok (.iload 9, 2) := dk_21 9 (dk_at dksX4_tryAll_3 15 rfl rfl)
theorem dX4_tryAll_86 : decode cX4_tryAll 86 = .ok (.ifCond .lt 43, 3) := dk_155 0 43 (dk_at dksX4_tryAll_3 17 rfl rfl)
theorem dX4_tryAll_89 : decode cX4_tryAll 89 = .ok (.aload_n 0, 1) := dk_42 (dk_at dksX4_tryAll_3 20 rfl rfl)
theorem dX4_tryAll_90 : decode cX4_tryAll 90 = .ok (.iload 9, 2) := dk_21 9 (dk_at dksX4_tryAll_3 21 rfl rfl)
theorem dX4_tryAll_92 : decode cX4_tryAll 92 = .ok (.invokevirtual 82, 3) := dk_182 0 82 (dk_at dksX4_tryAll_4 0 rfl rfl)
theorem dX4_tryAll_95 : decode cX4_tryAll 95 = .ok (.iload 7, 2) := dk_21 7 (dk_at dksX4_tryAll_4 3 rfl rfl)
theorem dX4_tryAll_97 : decode cX4_tryAll 97 = .ok (.ifCond .eq 17, 3) := dk_153 0 17 (dk_at dksX4_tryAll_4 5 rfl rfl)
theorem dX4_tryAll_100 : decode cX4_tryAll 100 = .ok (.aload_n 0, 1) := dk_42 (dk_at dksX4_tryAll_4 8 rfl rfl)
theorem dX4_tryAll_101 : decode cX4_tryAll 101 = .ok (.getfield 32, 3) := dk_180 0 32 (dk_at dksX4_tryAll_4 9 rfl rfl)
theorem dX4_tryAll_104 : decode cX4_tryAll 104 = .ok (.iload 9, 2) := dk_21 9 (dk_at dksX4_tryAll_4 12 rfl rfl)
theorem dX4_tryAll_106 : decode cX4_tryAll 106 = .ok (.iaload, 1) := dk_46 (dk_at dksX4_tryAll_4 14 rfl rfl)
theorem dX4_tryAll_107 : decode cX4_tryAll 107 = .ok (.ifCond .lt 7, 3) := dk_155 0 7 (dk_at dksX4_tryAll_4 15 rfl rfl)
theorem dX4_tryAll_110 : decode cX4_tryAll 110 = .ok (.iconst 1, 1) := dk_4 (dk_at dksX4_tryAll_4 18 rfl rfl)
theorem dX4_tryAll_111 : decode cX4_tryAll 111 = .ok (.goto 4, 3) := dk_167 0 4 (dk_at dksX4_tryAll_4 19 rfl rfl)
theorem dX4_tryAll_114 : decode cX4_tryAll 114 = .ok (.iconst 0, 1) := dk_3 (dk_at dksX4_tryAll_4 22 rfl rfl)
theorem dX4_tryAll_115 : decode cX4_tryAll 115 = .ok (.istore 7, 2) := dk_54 7 (dk_at dksX4_tryAll_5 0 rfl rfl)
theorem dX4_tryAll_117 : decode cX4_tryAll 117 = .ok (.iload 6, 2) := dk_21 6 (dk_at dksX4_tryAll_5 2 rfl rfl)
theorem dX4_tryAll_119 : decode cX4_tryAll 119 = .ok (.aload_n 0, 1) := dk_42 (dk_at dksX4_tryAll_5 4 rfl rfl)
theorem dX4_tryAll_120 : decode cX4_tryAll 120 = .ok (.getfield 32, 3) := dk_180 0 32 (dk_at dksX4_tryAll_5 5 rfl rfl)
theorem dX4_tryAll_123 : decode cX4_tryAll 123 = .ok (.iload 9, 2) := dk_21 9 (dk_at dksX4_tryAll_5 8 rfl rfl)
theorem dX4_tryAll_125 : decode cX4_tryAll 125 = .ok (.iaload, 1) := dk_46 (dk_at dksX4_tryAll_5 10 rfl rfl)
theorem dX4_tryAll_126 : decode cX4_tryAll 126 = .ok (.iadd, 1) := dk_96 (dk_at dksX4_tryAll_5 11 rfl rfl)
theorem dX4_tryAll_127 : decode cX4_tryAll 127 = .ok (.istore 6, 2) := dk_54 6 (dk_at dksX4_tryAll_5 12 rfl rfl)
theorem dX4_tryAll_129 : decode cX4_tryAll 129 = .ok (.iinc 8 1, 3) := dk_132 8 1 (dk_at dksX4_tryAll_5 14 rfl rfl)
theorem dX4_tryAll_132 : decode cX4_tryAll 132 = .ok (.goto (-98), 3) := dk_167 255 158 (dk_at dksX4_tryAll_5 17 rfl rfl)
theorem dX4_tryAll_135 : decode cX4_tryAll 135 = .ok (.iload 7, 2) := dk_21 7 (dk_at dksX4_tryAll_5 20 rfl rfl)
theorem dX4_tryAll_137 : decode cX4_tryAll 137 = .ok (.ifCond .eq 58, 3) := dk_153 0 58 (dk_at dksX4_tryAll_6 0 rfl rfl)
theorem dX4_tryAll_140 : decode cX4_tryAll 140 = .ok (.aload_n 0, 1) := dk_42 (dk_at dksX4_tryAll_6 3 rfl rfl)
theorem dX4_tryAll_141 : decode cX4_tryAll 141 = .ok (.iload 6, 2) := dk_21 6 (dk_at dksX4_tryAll_6 4 rfl rfl)
theorem dX4_tryAll_143 : decode cX4_tryAll 143 = .ok (.invokevirtual 86, 3) := dk_182 0 86 (dk_at dksX4_tryAll_6 6 rfl rfl)
theorem dX4_tryAll_146 : decode cX4_tryAll 146 = .ok (.ifCond .eq 49, 3) := dk_153 0 49 (dk_at dksX4_tryAll_6 9 rfl rfl)
theorem dX4_tryAll_149 : decode cX4_tryAll 149 = .ok (.aload_n 0, 1) := dk_42 (dk_at dksX4_tryAll_6 12 rfl rfl)
theorem dX4_tryAll_150 : decode cX4_tryAll 150 = .ok (.iload 6, 2) := dk_21 6 (dk_at dksX4_tryAll_6 13 rfl rfl)
theorem dX4_tryAll_152 : decode cX4_tryAll 152 = .ok (.putfield 76, 3) := dk_181 0 76 (dk_at dksX4_tryAll_6 15 rfl rfl)
theorem dX4_tryAll_155 : decode cX4_tryAll 155 = .ok (.aload_n 0, 1) := dk_42 (dk_at dksX4_tryAll_6 18 rfl rfl)
theorem dX4_tryAll_156 : decode cX4_tryAll 156 = .ok (.aload_n 0, 1) := dk_42 (dk_at dksX4_tryAll_6 19 rfl rfl)
theorem dX4_tryAll_157 : decode cX4_tryAll 157 = .ok (.getfield 73, 3) := dk_180 0 73 (dk_at dksX4_tryAll_6 20 rfl rfl)
theorem dX4_tryAll_160 : decode cX4_tryAll 160 = .ok (.putfield 79, 3) := dk_181 0 79 (dk_at dksX4_tryAll_7 0 rfl rfl)
theorem dX4_tryAll_163 : decode cX4_tryAll 163 = .ok (.iconst 0, 1) := dk_3 (dk_at dksX4_tryAll_7 3 rfl rfl)
theorem dX4_tryAll_164 : decode cX4_tryAll 164 = .ok (.istore 8, 2) := dk_54 8 (dk_at dksX4_tryAll_7 4 rfl rfl)
theorem dX4_tryAll_166 : decode cX4_tryAll 166 = .ok (.iload 8, 2) := dk_21 8 (dk_at dksX4_tryAll_7 6 rfl rfl)
theorem dX4_tryAll_168 : decode cX4_tryAll 168 = .ok (.aload_n 0, 1) := dk_42 (dk_at dksX4_tryAll_7 8 rfl rfl)
theorem dX4_tryAll_169 : decode cX4_tryAll 169 = .ok (.getfield 73, 3) := dk_180 0 73 (dk_at dksX4_tryAll_7 9 rfl rfl)
theorem dX4_tryAll_172 : decode cX4_tryAll 172 = .ok (.if_icmp .ge 23, 3) := dk_162 0 23 (dk_at dksX4_tryAll_7 12 rfl rfl)
theorem dX4_tryAll_175 : decode cX4_tryAll 175 = .ok (.aload_n 0, 1) := dk_42 (dk_at dksX4_tryAll_7 15 rfl rfl)
theorem dX4_tryAll_176 : decode cX4_tryAll 176 = .ok (.getfield 35, 3) := dk_180 0 35 (dk_at dksX4_tryAll_7 16 rfl rfl)
theorem dX4_tryAll_179 : decode cX4_tryAll 179 = .ok (.iload 8, 2) := dk_21 8 (dk_at dksX4_tryAll_7 19 rfl rfl)
theorem dX4_tryAll_181 : decode cX4_tryAll 181 = .ok (.aload_n 0, 1) := dk_42 (dk_at dksX4_tryAll_7 21 rfl rfl)
theorem dX4_tryAll_182 : decode cX4_tryAll 182 = .ok (.getfield 38, 3) := dk_180 0 38 (dk_at dksX4_tryAll_8 0 rfl rfl)
theorem dX4_tryAll_185 : decode cX4_tryAll 185 = .ok (.iload 8, 2) := dk_21 8 (dk_at dksX4_tryAll_8 3 rfl rfl)
theorem dX4_tryAll_187 : decode cX4_tryAll 187 = .ok (.iaload, 1) := dk_46 (dk_at dksX4_tryAll_8 5 rfl rfl)
theorem dX4_tryAll_188 : decode cX4_tryAll 188 = .ok (.iastore, 1) := dk_79 (dk_at dksX4_tryAll_8 6 rfl rfl)
theorem dX4_tryAll_189 : decode cX4_tryAll 189 = .ok (.iinc 8 1, 3) := dk_132 8 1 (dk_at dksX4_tryAll_8 7 rfl rfl)
theorem dX4_tryAll_192 : decode cX4_tryAll 192 = .ok (.goto (-26), 3) := dk_167 255 230 (dk_at dksX4_tryAll_8 10 rfl rfl)
theorem dX4_tryAll_195 : decode cX4_tryAll 195 = .ok (.return_, 1) := dk_177 (dk_at dksX4_tryAll_8 13 rfl rfl)
abbrev cX4_isBetter : ByteArray := prog_11_method_18_code
def yX4_isBetter : MethodName := ⟨RX4, "isBetter", "(I)Z"⟩
def dkwX4_isBetter_4 : List UInt8 := [167, 0, 4, 3, 172, 132, 2, 1, 167, 255, 209, 3, 172]
abbrev dktX4_isBetter_4 : List UInt8 := dkwX4_isBetter_4 ++ []
def dkwX4_isBetter_3 : List UInt8 := [180, 0, 35, 28, 46, 159, 0, 24, 42, 180, 0, 38, 28, 46, 42, 180, 0, 35, 28, 46, 162, 0, 7, 4]
abbrev dktX4_isBetter_3 : List UInt8 := dkwX4_isBetter_3 ++ dktX4_isBetter_4
def dkwX4_isBetter_2 : List UInt8 := [167, 0, 4, 3, 172, 3, 61, 28, 42, 180, 0, 73, 162, 0, 45, 42, 180, 0, 38, 28, 46, 42]
abbrev dktX4_isBetter_2 : List UInt8 := dkwX4_isBetter_2 ++ dktX4_isBetter_3
def dkwX4_isBetter_1 : List UInt8 := [180, 0, 73, 42, 180, 0, 79, 159, 0, 20, 42, 180, 0, 73, 42, 180, 0, 79, 162, 0, 7, 4]
abbrev dktX4_isBetter_1 : List UInt8 := dkwX4_isBetter_1 ++ dktX4_isBetter_2
def dkwX4_isBetter_0 : List UInt8 := [27, 42, 180, 0, 76, 159, 0, 17, 27, 42, 180, 0, 76, 164, 0, 7, 4, 167, 0, 4, 3, 172, 42]
abbrev dktX4_isBetter_0 : List UInt8 := dkwX4_isBetter_0 ++ dktX4_isBetter_1
theorem dksX4_isBetter_0 : cX4_isBetter.data.toList.drop 0 = dktX4_isBetter_0 := by decide +kernel
theorem dksX4_isBetter_1 : cX4_isBetter.data.toList.drop 23 = dktX4_isBetter_1 := dk_seg dksX4_isBetter_0 23 rfl rfl
theorem dksX4_isBetter_2 : cX4_isBetter.data.toList.drop 45 = dktX4_isBetter_2 := dk_seg dksX4_isBetter_1 22 rfl rfl
theorem dksX4_isBetter_3 : cX4_isBetter.data.toList.drop 67 = dktX4_isBetter_3 := dk_seg dksX4_isBetter_2 22 rfl rfl
theorem dksX4_isBetter_4 : cX4_isBetter.data.toList.drop 91 = dktX4_isBetter_4 := dk_seg dksX4_isBetter_3 24 rfl rfl
theorem dX4_isBetter_0 : decode cX4_isBetter 0 = .ok (.iload_n 1, 1) := dk_27 (dk_at dksX4_isBetter_0 0 rfl rfl)
theorem dX4_isBetter_1 : decode cX4_isBetter 1 = .ok (.aload_n 0, 1) := dk_42 (dk_at dksX4_isBetter_0 1 rfl rfl)
theorem dX4_isBetter_2 : decode cX4_isBetter 2 = .ok (.getfield 76, 3) := dk_180 0 76 (dk_at dksX4_isBetter_0 2 rfl rfl)
theorem dX4_isBetter_5 : decode cX4_isBetter 5 = .ok (.if_icmp .eq 17, 3) := dk_159 0 17 (dk_at dksX4_isBetter_0 5 rfl rfl)
theorem dX4_isBetter_8 : decode cX4_isBetter 8 = .ok (.iload_n 1, 1) := dk_27 (dk_at dksX4_isBetter_0 8 rfl rfl)
theorem dX4_isBetter_9 : decode cX4_isBetter 9 = .ok (.aload_n 0, 1) := dk_42 (dk_at dksX4_isBetter_0 9 rfl rfl)
theorem dX4_isBetter_10 : decode cX4_isBetter 10 = .ok (.getfield 76, 3) := dk_180 0 76 (dk_at dksX4_isBetter_0 10 rfl rfl)
theorem dX4_isBetter_13 : decode cX4_isBetter 13 = .ok (.if_icmp .le 7, 3) := dk_164 0 7 (dk_at dksX4_isBetter_0 13 rfl rfl)
theorem dX4_isBetter_16 : decode cX4_isBetter 16 = .ok (.iconst 1, 1) := dk_4 (dk_at dksX4_isBetter_0 16 rfl rfl)
theorem dX4_isBetter_17 : decode cX4_isBetter 17 = .ok (.goto 4, 3) := dk_167 0 4 (dk_at dksX4_isBetter_0 17 rfl rfl)
theorem dX4_isBetter_20 : decode cX4_isBetter 20 = .ok (.iconst 0, 1) := dk_3 (dk_at dksX4_isBetter_0 20 rfl rfl)
theorem dX4_isBetter_21 : decode cX4_isBetter 21 = .ok (.ireturn, 1) := dk_172 (dk_at dksX4_isBetter_0 21 rfl rfl)
theorem dX4_isBetter_22 : decode cX4_isBetter 22 = .ok (.aload_n 0, 1) := dk_42 (dk_at dksX4_isBetter_0 22 rfl rfl)
theorem dX4_isBetter_23 : decode cX4_isBetter 23 = .ok (.getfield 73, 3) := dk_180 0 73 (dk_at dksX4_isBetter_1 0 rfl rfl)
theorem dX4_isBetter_26 : decode cX4_isBetter 26 = .ok (.aload_n 0, 1) := dk_42 (dk_at dksX4_isBetter_1 3 rfl rfl)
theorem dX4_isBetter_27 : decode cX4_isBetter 27 = .ok (.getfield 79, 3) := dk_180 0 79 (dk_at dksX4_isBetter_1 4 rfl rfl)
theorem dX4_isBetter_30 : decode cX4_isBetter 30 = .ok (.if_icmp .eq 20, 3) := dk_159 0 20 (dk_at dksX4_isBetter_1 7 rfl rfl)
theorem dX4_isBetter_33 : decode cX4_isBetter 33 = .ok (.aload_n 0, 1) := dk_42 (dk_at dksX4_isBetter_1 10 rfl rfl)
theorem dX4_isBetter_34 : decode cX4_isBetter 34 = .ok (.getfield 73, 3) := dk_180 0 73 (dk_at dksX4_isBetter_1 11 rfl rfl)
theorem dX4_isBetter_37 : decode cX4_isBetter 37 = .ok (.aload_n 0, 1) := dk_42 (dk_at dksX4_isBetter_1 14 rfl rfl)
theorem dX4_isBetter_38 : decode cX4_isBetter 38 = .ok (.getfield 79, 3) := dk_180 0 79 (dk_at dksX4_isBetter_1 15 rfl rfl)
theorem dX4_isBetter_41 : decode cX4_isBetter 41 = .ok (.if_icmp .ge 7, 3) := dk_162 0 7 (dk_at dksX4_isBetter_1 18 rfl rfl)
theorem dX4_isBetter_44 : decode cX4_isBetter 44 = .ok (.iconst 1, 1) := dk_4 (dk_at dksX4_isBetter_1 21 rfl rfl)
theorem dX4_isBetter_45 : decode cX4_isBetter 45 = .ok (.goto 4, 3) := dk_167 0 4 (dk_at dksX4_isBetter_2 0 rfl rfl)
theorem dX4_isBetter_48 : decode cX4_isBetter 48 = .ok (.iconst 0, 1) := dk_3 (dk_at dksX4_isBetter_2 3 rfl rfl)
theorem dX4_isBetter_49 : decode cX4_isBetter 49 = .ok (.ireturn, 1) := dk_172 (dk_at dksX4_isBetter_2 4 rfl rfl)
theorem dX4_isBetter_50 : decode cX4_isBetter 50 = .ok (.iconst 0, 1) := dk_3 (dk_at dksX4_isBetter_2 5 rfl rfl)
theorem dX4_isBetter_51 : decode cX4_isBetter 51 = .ok (.istore_n 2, 1) := dk_61 (dk_at dksX4_isBetter_2 6 rfl rfl)
theorem dX4_isBetter_52 : decode cX4_isBetter 52 = .ok (.iload_n 2, 1) := dk_28 (dk_at dksX4_isBetter_2 7 rfl rfl)
theorem dX4_isBetter_53 : decode cX4_isBetter 53 = .ok (.aload_n 0, 1) := dk_42 (dk_at dksX4_isBetter_2 8 rfl rfl)
theorem dX4_isBetter_54 : decode cX4_isBetter 54 = .ok (.getfield 73, 3) := dk_180 0 73 (dk_at dksX4_isBetter_2 9 rfl rfl)
theorem dX4_isBetter_57 : decode cX4_isBetter 57 = .ok (.if_icmp .ge 45, 3) := dk_162 0 45 (dk_at dksX4_isBetter_2 12 rfl rfl)
theorem dX4_isBetter_60 : decode cX4_isBetter 60 = .ok (.aload_n 0, 1) := dk_42 (dk_at dksX4_isBetter_2 15 rfl rfl)
theorem dX4_isBetter_61 : decode cX4_isBetter 61 = .ok (.getfield 38, 3) := dk_180 0 38 (dk_at dksX4_isBetter_2 16 rfl rfl)
theorem dX4_isBetter_64 : decode cX4_isBetter 64 = .ok (.iload_n 2, 1) := dk_28 (dk_at dksX4_isBetter_2 19 rfl rfl)
theorem dX4_isBetter_65 : decode cX4_isBetter 65 = .ok (.iaload, 1) := dk_46 (dk_at dksX4_isBetter_2 20 rfl rfl)
theorem dX4_isBetter_66 : decode cX4_isBetter 66 = .ok (.aload_n 0, 1) := dk_42 (dk_at dksX4_isBetter_2 21 rfl rfl)
theorem dX4_isBetter_67 : decode cX4_isBetter 67 = .ok (.getfield 35, 3) := dk_180 0 35 (dk_at dksX4_isBetter_3 0 rfl rfl)
theorem dX4_isBetter_70 : decode cX4_isBetter 70 = .ok (.iload_n 2, 1) := dk_28 (dk_at dksX4_isBetter_3 3 rfl rfl)
theorem dX4_isBetter_71 : decode cX4_isBetter 71 = .ok (.iaload, 1) := dk_46 (dk_at dksX4_isBetter_3 4 rfl rfl)
theorem dX4_isBetter_72 : decode cX4_isBetter 72 = .ok (.if_icmp .eq 24, 3) := dk_159 0 24 (dk_at dksX4_isBetter_3 5 rfl rfl)
theorem dX4_isBetter_75 : decode cX4_isBetter 75 = .ok (.aload_n 0, 1) := dk_42 (dk_at dksX4_isBetter_3 8 rfl rfl)
theorem dX4_isBetter_76 : decode cX4_isBetter 76 = .ok (.getfield 38, 3) := dk_180 0 38 (dk_at dksX4_isBetter_3 9 rfl rfl)
theorem dX4_isBetter_79 : decode cX4_isBetter 79 = .ok (.iload_n 2, 1) := dk_28 (dk_at dksX4_isBetter_3 12 rfl rfl)
theorem dX4_isBetter_80 : decode cX4_isBetter 80 = .ok (.iaload, 1) := dk_46 (dk_at dksX4_isBetter_3 13 rfl rfl)
theorem dX4_isBetter_81 : decode cX4_isBetter 81 = .ok (.aload_n 0, 1) := dk_42 (dk_at dksX4_isBetter_3 14 rfl rfl)
theorem dX4_isBetter_82 : decode cX4_isBetter 82 = .ok (.getfield 35, 3) := dk_180 0 35 (dk_at dksX4_isBetter_3 15 rfl rfl)
theorem dX4_isBetter_85 : decode cX4_isBetter 85 = .ok (.iload_n 2, 1) := dk_28 (dk_at dksX4_isBetter_3 18 rfl rfl)
theorem dX4_isBetter_86 : decode cX4_isBetter 86 = .ok (.iaload, 1) := dk_46 (dk_at dksX4_isBetter_3 19 rfl rfl)
theorem dX4_isBetter_87 : decode cX4_isBetter 87 = .ok (.if_icmp .ge 7, 3) := dk_162 0 7 (dk_at dksX4_isBetter_3 20 rfl rfl)
theorem dX4_isBetter_90 : decode cX4_isBetter 90 = .ok (.iconst 1, 1) := dk_4 (dk_at dksX4_isBetter_3 23 rfl rfl)
theorem dX4_isBetter_91 : decode cX4_isBetter 91 = .ok (.goto 4, 3) := dk_167 0 4 (dk_at dksX4_isBetter_4 0 rfl rfl)
theorem dX4_isBetter_94 : decode cX4_isBetter 94 = .ok (.iconst 0, 1) := dk_3 (dk_at dksX4_isBetter_4 3 rfl rfl)
theorem dX4_isBetter_95 : decode cX4_isBetter 95 = .ok (.ireturn, 1) := dk_172 (dk_at dksX4_isBetter_4 4 rfl rfl)
theorem dX4_isBetter_96 : decode cX4_isBetter 96 = .ok (.iinc 2 1, 3) := dk_132 2 1 (dk_at dksX4_isBetter_4 5 rfl rfl)
theorem dX4_isBetter_99 : decode cX4_isBetter 99 = .ok (.goto (-47), 3) := dk_167 255 209 (dk_at dksX4_isBetter_4 8 rfl rfl)
theorem dX4_isBetter_102 : decode cX4_isBetter 102 = .ok (.iconst 0, 1) := dk_3 (dk_at dksX4_isBetter_4 11 rfl rfl)
theorem dX4_isBetter_103 : decode cX4_isBetter 103 = .ok (.ireturn, 1) := dk_172 (dk_at dksX4_isBetter_4 12 rfl rfl)
abbrev cX4_banOf : ByteArray := prog_11_method_29_code
def yX4_banOf : MethodName := ⟨RX4, "banOf", "([I)I"⟩
def dkwX4_banOf_3 : List UInt8 := [21, 5, 62, 132, 4, 1, 167, 255, 185, 28, 172]
abbrev dktX4_banOf_3 : List UInt8 := dkwX4_banOf_3 ++ []
def dkwX4_banOf_2 : List UInt8 := [4, 43, 4, 46, 100, 182, 0, 127, 54, 5, 28, 2, 159, 0, 9, 21, 5, 29, 162, 0, 9, 21, 4, 61]
abbrev dktX4_banOf_2 : List UInt8 := dkwX4_banOf_2 ++ dktX4_banOf_3
def dkwX4_banOf_1 : List UInt8 := [3, 42, 180, 0, 19, 3, 184, 0, 123, 42, 180, 0, 19, 21, 4, 184, 0, 113, 87, 42, 42, 180, 0, 19]
abbrev dktX4_banOf_1 : List UInt8 := dkwX4_banOf_1 ++ dktX4_banOf_2
def dkwX4_banOf_0 : List UInt8 := [2, 61, 3, 62, 3, 54, 4, 21, 4, 16, 18, 162, 0, 70, 43, 21, 4, 184, 0, 120, 153, 0, 55, 43]
abbrev dktX4_banOf_0 : List UInt8 := dkwX4_banOf_0 ++ dktX4_banOf_1
theorem dksX4_banOf_0 : cX4_banOf.data.toList.drop 0 = dktX4_banOf_0 := by decide +kernel
theorem dksX4_banOf_1 : cX4_banOf.data.toList.drop 24 = dktX4_banOf_1 := dk_seg dksX4_banOf_0 24 rfl rfl
theorem dksX4_banOf_2 : cX4_banOf.data.toList.drop 48 = dktX4_banOf_2 := dk_seg dksX4_banOf_1 24 rfl rfl
theorem dksX4_banOf_3 : cX4_banOf.data.toList.drop 72 = dktX4_banOf_3 := dk_seg dksX4_banOf_2 24 rfl rfl
theorem dX4_banOf_0 : decode cX4_banOf 0 = .ok (.iconst (-1), 1) := dk_2 (dk_at dksX4_banOf_0 0 rfl rfl)
theorem dX4_banOf_1 : decode cX4_banOf 1 = .ok (.istore_n 2, 1) := dk_61 (dk_at dksX4_banOf_0 1 rfl rfl)
theorem dX4_banOf_2 : decode cX4_banOf 2 = .ok (.iconst 0, 1) := dk_3 (dk_at dksX4_banOf_0 2 rfl rfl)
theorem dX4_banOf_3 : decode cX4_banOf 3 = .ok (.istore_n 3, 1) := dk_62 (dk_at dksX4_banOf_0 3 rfl rfl)
theorem dX4_banOf_4 : decode cX4_banOf 4 = .ok (.iconst 0, 1) := dk_3 (dk_at dksX4_banOf_0 4 rfl rfl)
theorem dX4_banOf_5 : decode cX4_banOf 5 = .ok (.istore 4, 2) := dk_54 4 (dk_at dksX4_banOf_0 5 rfl rfl)
theorem dX4_banOf_7 : decode cX4_banOf 7 = .ok (.iload 4, 2) := dk_21 4 (dk_at dksX4_banOf_0 7 rfl rfl)
theorem dX4_banOf_9 : decode cX4_banOf 9 = .ok (.bipush 18, 2) := dk_16 18 (dk_at dksX4_banOf_0 9 rfl rfl)
theorem dX4_banOf_11 : decode cX4_banOf 11 = .ok (.if_icmp .ge 70, 3) := dk_162 0 70 (dk_at dksX4_banOf_0 11 rfl rfl)
theorem dX4_banOf_14 : decode cX4_banOf 14 = .ok (.aload_n 1, 1) := dk_43 (dk_at dksX4_banOf_0 14 rfl rfl)
theorem dX4_banOf_15 : decode cX4_banOf 15 = .ok (.iload 4, 2) := dk_21 4 (dk_at dksX4_banOf_0 15 rfl rfl)
theorem dX4_banOf_17 : decode cX4_banOf 17 = .ok (.invokestatic 120, 3) := dk_184 0 120 (dk_at dksX4_banOf_0 17 rfl rfl)
theorem dX4_banOf_20 : decode cX4_banOf 20 = .ok (.ifCond .eq 55, 3) := dk_153 0 55 (dk_at dksX4_banOf_0 20 rfl rfl)
theorem dX4_banOf_23 : decode cX4_banOf 23 = .ok (.aload_n 1, 1) := dk_43 (dk_at dksX4_banOf_0 23 rfl rfl)
theorem dX4_banOf_24 : decode cX4_banOf 24 = .ok (.iconst 0, 1) := dk_3 (dk_at dksX4_banOf_1 0 rfl rfl)
theorem dX4_banOf_25 : decode cX4_banOf 25 = .ok (.aload_n 0, 1) := dk_42 (dk_at dksX4_banOf_1 1 rfl rfl)
theorem dX4_banOf_26 : decode cX4_banOf 26 = .ok (.getfield 19, 3) := dk_180 0 19 (dk_at dksX4_banOf_1 2 rfl rfl)
theorem dX4_banOf_29 : decode cX4_banOf 29 = .ok (.iconst 0, 1) := dk_3 (dk_at dksX4_banOf_1 5 rfl rfl)
theorem dX4_banOf_30 : decode cX4_banOf 30 = .ok (.invokestatic 123, 3) := dk_184 0 123 (dk_at dksX4_banOf_1 6 rfl rfl)
theorem dX4_banOf_33 : decode cX4_banOf 33 = .ok (.aload_n 0, 1) := dk_42 (dk_at dksX4_banOf_1 9 rfl rfl)
theorem dX4_banOf_34 : decode cX4_banOf 34 = .ok (.getfield 19, 3) := dk_180 0 19 (dk_at dksX4_banOf_1 10 rfl rfl)
theorem dX4_banOf_37 : decode cX4_banOf 37 = .ok (.iload 4, 2) := dk_21 4 (dk_at dksX4_banOf_1 13 rfl rfl)
theorem dX4_banOf_39 : decode cX4_banOf 39 = .ok (.invokestatic 113, 3) := dk_184 0 113 (dk_at dksX4_banOf_1 15 rfl rfl)
theorem dX4_banOf_42 : decode cX4_banOf 42 = .ok (.pop, 1) := dk_87 (dk_at dksX4_banOf_1 18 rfl rfl)
theorem dX4_banOf_43 : decode cX4_banOf 43 = .ok (.aload_n 0, 1) := dk_42 (dk_at dksX4_banOf_1 19 rfl rfl)
theorem dX4_banOf_44 : decode cX4_banOf 44 = .ok (.aload_n 0, 1) := dk_42 (dk_at dksX4_banOf_1 20 rfl rfl)
theorem dX4_banOf_45 : decode cX4_banOf 45 = .ok (.getfield 19, 3) := dk_180 0 19 (dk_at dksX4_banOf_1 21 rfl rfl)
theorem dX4_banOf_48 : decode cX4_banOf 48 = .ok (.iconst 1, 1) := dk_4 (dk_at dksX4_banOf_2 0 rfl rfl)
theorem dX4_banOf_49 : decode cX4_banOf 49 = .ok (.aload_n 1, 1) := dk_43 (dk_at dksX4_banOf_2 1 rfl rfl)
theorem dX4_banOf_50 : decode cX4_banOf 50 = .ok (.iconst 1, 1) := dk_4 (dk_at dksX4_banOf_2 2 rfl rfl)
theorem dX4_banOf_51 : decode cX4_banOf 51 = .ok (.iaload, 1) := dk_46 (dk_at dksX4_banOf_2 3 rfl rfl)
theorem dX4_banOf_52 : decode cX4_banOf 52 = .ok (.isub, 1) := dk_100 (dk_at dksX4_banOf_2 4 rfl rfl)
theorem dX4_banOf_53 : decode cX4_banOf 53 = .ok (.invokevirtual 127, 3) := dk_182 0 127 (dk_at dksX4_banOf_2 5 rfl rfl)
theorem dX4_banOf_56 : decode cX4_banOf 56 = .ok (.istore 5, 2) := dk_54 5 (dk_at dksX4_banOf_2 8 rfl rfl)
theorem dX4_banOf_58 : decode cX4_banOf 58 = .ok (.iload_n 2, 1) := dk_28 (dk_at dksX4_banOf_2 10 rfl rfl)
theorem dX4_banOf_59 : decode cX4_banOf 59 = .ok (.iconst (-1), 1) := dk_2 (dk_at dksX4_banOf_2 11 rfl rfl)
theorem dX4_banOf_60 : decode cX4_banOf 60 = .ok (.if_icmp .eq 9, 3) := dk_159 0 9 (dk_at dksX4_banOf_2 12 rfl rfl)
theorem dX4_banOf_63 : decode cX4_banOf 63 = .ok (.iload 5, 2) := dk_21 5 (dk_at dksX4_banOf_2 15 rfl rfl)
theorem dX4_banOf_65 : decode cX4_banOf 65 = .ok (.iload_n 3, 1) := dk_29 (dk_at dksX4_banOf_2 17 rfl rfl)
theorem dX4_banOf_66 : decode cX4_banOf 66 = .ok (.if_icmp .ge 9, 3) := dk_162 0 9 (dk_at dksX4_banOf_2 18 rfl rfl)
theorem dX4_banOf_69 : decode cX4_banOf 69 = .ok (.iload 4, 2) := dk_21 4 (dk_at dksX4_banOf_2 21 rfl rfl)
theorem dX4_banOf_71 : decode cX4_banOf 71 = .ok (.istore_n 2, 1) := dk_61 (dk_at dksX4_banOf_2 23 rfl rfl)
theorem dX4_banOf_72 : decode cX4_banOf 72 = .ok (.iload 5, 2) := dk_21 5 (dk_at dksX4_banOf_3 0 rfl rfl)
theorem dX4_banOf_74 : decode cX4_banOf 74 = .ok (.istore_n 3, 1) := dk_62 (dk_at dksX4_banOf_3 2 rfl rfl)
theorem dX4_banOf_75 : decode cX4_banOf 75 = .ok (.iinc 4 1, 3) := dk_132 4 1 (dk_at dksX4_banOf_3 3 rfl rfl)
theorem dX4_banOf_78 : decode cX4_banOf 78 = .ok (.goto (-71), 3) := dk_167 255 185 (dk_at dksX4_banOf_3 6 rfl rfl)
theorem dX4_banOf_81 : decode cX4_banOf 81 = .ok (.iload_n 2, 1) := dk_28 (dk_at dksX4_banOf_3 9 rfl rfl)
theorem dX4_banOf_82 : decode cX4_banOf 82 = .ok (.ireturn, 1) := dk_172 (dk_at dksX4_banOf_3 10 rfl rfl)
abbrev cX4_set : ByteArray := prog_11_method_51_code
def yX4_set : MethodName := ⟨RX4, "set", "(II)I"⟩
def dkwX4_set_2 : List UInt8 := [172]
abbrev dktX4_set_2 : List UInt8 := dkwX4_set_2 ++ []
def dkwX4_set_1 : List UInt8 := [182, 0, 182, 42, 180, 0, 13, 16, 7, 27, 96, 46, 62, 42, 180, 0, 13, 16, 7, 27, 96, 28, 79, 29]
abbrev dktX4_set_1 : List UInt8 := dkwX4_set_1 ++ dktX4_set_2
def dkwX4_set_0 : List UInt8 := [42, 27, 28, 184, 0, 200, 153, 0, 7, 3, 167, 0, 4, 4, 182, 0, 161, 153, 0, 5, 3, 172, 42]
abbrev dktX4_set_0 : List UInt8 := dkwX4_set_0 ++ dktX4_set_1
theorem dksX4_set_0 : cX4_set.data.toList.drop 0 = dktX4_set_0 := by decide +kernel
theorem dksX4_set_1 : cX4_set.data.toList.drop 23 = dktX4_set_1 := dk_seg dksX4_set_0 23 rfl rfl
theorem dksX4_set_2 : cX4_set.data.toList.drop 47 = dktX4_set_2 := dk_seg dksX4_set_1 24 rfl rfl
theorem dX4_set_0 : decode cX4_set 0 = .ok (.aload_n 0, 1) := dk_42 (dk_at dksX4_set_0 0 rfl rfl)
theorem dX4_set_1 : decode cX4_set 1 = .ok (.iload_n 1, 1) := dk_27 (dk_at dksX4_set_0 1 rfl rfl)
theorem dX4_set_2 : decode cX4_set 2 = .ok (.iload_n 2, 1) := dk_28 (dk_at dksX4_set_0 2 rfl rfl)
theorem dX4_set_3 : decode cX4_set 3 = .ok (.invokestatic 200, 3) := dk_184 0 200 (dk_at dksX4_set_0 3 rfl rfl)
theorem dX4_set_6 : decode cX4_set 6 = .ok (.ifCond .eq 7, 3) := dk_153 0 7 (dk_at dksX4_set_0 6 rfl rfl)
theorem dX4_set_9 : decode cX4_set 9 = .ok (.iconst 0, 1) := dk_3 (dk_at dksX4_set_0 9 rfl rfl)
theorem dX4_set_10 : decode cX4_set 10 = .ok (.goto 4, 3) := dk_167 0 4 (dk_at dksX4_set_0 10 rfl rfl)
theorem dX4_set_13 : decode cX4_set 13 = .ok (.iconst 1, 1) := dk_4 (dk_at dksX4_set_0 13 rfl rfl)
theorem dX4_set_14 : decode cX4_set 14 = .ok (.invokevirtual 161, 3) := dk_182 0 161 (dk_at dksX4_set_0 14 rfl rfl)
theorem dX4_set_17 : decode cX4_set 17 = .ok (.ifCond .eq 5, 3) := dk_153 0 5 (dk_at dksX4_set_0 17 rfl rfl)
theorem dX4_set_20 : decode cX4_set 20 = .ok (.iconst 0, 1) := dk_3 (dk_at dksX4_set_0 20 rfl rfl)
theorem dX4_set_21 : decode cX4_set 21 = .ok (.ireturn, 1) := dk_172 (dk_at dksX4_set_0 21 rfl rfl)
theorem dX4_set_22 : decode cX4_set 22 = .ok (.aload_n 0, 1) := dk_42 (dk_at dksX4_set_0 22 rfl rfl)
theorem dX4_set_23 : decode cX4_set 23 = .ok (.invokevirtual 182, 3) := dk_182 0 182 (dk_at dksX4_set_1 0 rfl rfl)
theorem dX4_set_26 : decode cX4_set 26 = .ok (.aload_n 0, 1) := dk_42 (dk_at dksX4_set_1 3 rfl rfl)
theorem dX4_set_27 : decode cX4_set 27 = .ok (.getfield 13, 3) := dk_180 0 13 (dk_at dksX4_set_1 4 rfl rfl)
theorem dX4_set_30 : decode cX4_set 30 = .ok (.bipush 7, 2) := dk_16 7 (dk_at dksX4_set_1 7 rfl rfl)
theorem dX4_set_32 : decode cX4_set 32 = .ok (.iload_n 1, 1) := dk_27 (dk_at dksX4_set_1 9 rfl rfl)
theorem dX4_set_33 : decode cX4_set 33 = .ok (.iadd, 1) := dk_96 (dk_at dksX4_set_1 10 rfl rfl)
theorem dX4_set_34 : decode cX4_set 34 = .ok (.iaload, 1) := dk_46 (dk_at dksX4_set_1 11 rfl rfl)
theorem dX4_set_35 : decode cX4_set 35 = .ok (.istore_n 3, 1) := dk_62 (dk_at dksX4_set_1 12 rfl rfl)
theorem dX4_set_36 : decode cX4_set 36 = .ok (.aload_n 0, 1) := dk_42 (dk_at dksX4_set_1 13 rfl rfl)
theorem dX4_set_37 : decode cX4_set 37 = .ok (.getfield 13, 3) := dk_180 0 13 (dk_at dksX4_set_1 14 rfl rfl)
theorem dX4_set_40 : decode cX4_set 40 = .ok (.bipush 7, 2) := dk_16 7 (dk_at dksX4_set_1 17 rfl rfl)
theorem dX4_set_42 : decode cX4_set 42 = .ok (.iload_n 1, 1) := dk_27 (dk_at dksX4_set_1 19 rfl rfl)
theorem dX4_set_43 : decode cX4_set 43 = .ok (.iadd, 1) := dk_96 (dk_at dksX4_set_1 20 rfl rfl)
theorem dX4_set_44 : decode cX4_set 44 = .ok (.iload_n 2, 1) := dk_28 (dk_at dksX4_set_1 21 rfl rfl)
theorem dX4_set_45 : decode cX4_set 45 = .ok (.iastore, 1) := dk_79 (dk_at dksX4_set_1 22 rfl rfl)
theorem dX4_set_46 : decode cX4_set 46 = .ok (.iload_n 3, 1) := dk_29 (dk_at dksX4_set_1 23 rfl rfl)
theorem dX4_set_47 : decode cX4_set 47 = .ok (.ireturn, 1) := dk_172 (dk_at dksX4_set_2 0 rfl rfl)
abbrev cX4_isSetting : ByteArray := prog_11_method_32_code
def yX4_isSetting : MethodName := ⟨RX4, "isSetting", "(II)Z"⟩
def dkwX4_isSetting_3 : List UInt8 := [184, 0, 45, 153, 0, 7, 4, 167, 0, 4, 3, 172]
abbrev dktX4_isSetting_3 : List UInt8 := dkwX4_isSetting_3 ++ []
def dkwX4_isSetting_2 : List UInt8 := [160, 0, 9, 20, 0, 152, 167, 0, 17, 26, 5, 160, 0, 9, 20, 0, 148, 167, 0, 6, 20, 0, 154]
abbrev dktX4_isSetting_2 : List UInt8 := dkwX4_isSetting_2 ++ dktX4_isSetting_3
def dkwX4_isSetting_1 : List UInt8 := [160, 0, 9, 20, 0, 148, 167, 0, 4, 10, 26, 154, 0, 9, 20, 0, 150, 167, 0, 28, 26, 4]
abbrev dktX4_isSetting_1 : List UInt8 := dkwX4_isSetting_1 ++ dktX4_isSetting_2
def dkwX4_isSetting_0 : List UInt8 := [26, 133, 9, 20, 0, 146, 184, 0, 45, 153, 0, 70, 27, 133, 26, 154, 0, 7, 9, 167, 0, 15, 26, 6]
abbrev dktX4_isSetting_0 : List UInt8 := dkwX4_isSetting_0 ++ dktX4_isSetting_1
theorem dksX4_isSetting_0 : cX4_isSetting.data.toList.drop 0 = dktX4_isSetting_0 := by decide +kernel
theorem dksX4_isSetting_1 : cX4_isSetting.data.toList.drop 24 = dktX4_isSetting_1 := dk_seg dksX4_isSetting_0 24 rfl rfl
theorem dksX4_isSetting_2 : cX4_isSetting.data.toList.drop 46 = dktX4_isSetting_2 := dk_seg dksX4_isSetting_1 22 rfl rfl
theorem dksX4_isSetting_3 : cX4_isSetting.data.toList.drop 69 = dktX4_isSetting_3 := dk_seg dksX4_isSetting_2 23 rfl rfl
theorem dX4_isSetting_0 : decode cX4_isSetting 0 = .ok (.iload_n 0, 1) := dk_26 (dk_at dksX4_isSetting_0 0 rfl rfl)
theorem dX4_isSetting_1 : decode cX4_isSetting 1 = .ok (.i2l, 1) := dk_133 (dk_at dksX4_isSetting_0 1 rfl rfl)
theorem dX4_isSetting_2 : decode cX4_isSetting 2 = .ok (.lconst 0, 1) := dk_9 (dk_at dksX4_isSetting_0 2 rfl rfl)
theorem dX4_isSetting_3 : decode cX4_isSetting 3 = .ok (.ldc2_w 146, 3) := dk_20 0 146 (dk_at dksX4_isSetting_0 3 rfl rfl)
theorem dX4_isSetting_6 : decode cX4_isSetting 6 = .ok (.invokestatic 45, 3) := dk_184 0 45 (dk_at dksX4_isSetting_0 6 rfl rfl)
theorem dX4_isSetting_9 : decode cX4_isSetting 9 = .ok (.ifCond .eq 70, 3) := dk_153 0 70 (dk_at dksX4_isSetting_0 9 rfl rfl)
theorem dX4_isSetting_12 : decode cX4_isSetting 12 = .ok (.iload_n 1, 1) := dk_27 (dk_at dksX4_isSetting_0 12 rfl rfl)
theorem dX4_isSetting_13 : decode cX4_isSetting 13 = .ok (.i2l, 1) := dk_133 (dk_at dksX4_isSetting_0 13 rfl rfl)
theorem dX4_isSetting_14 : decode cX4_isSetting 14 = .ok (.iload_n 0, 1) := dk_26 (dk_at dksX4_isSetting_0 14 rfl rfl)
theorem dX4_isSetting_15 : decode cX4_isSetting 15 = .ok (.ifCond .ne 7, 3) := dk_154 0 7 (dk_at dksX4_isSetting_0 15 rfl rfl)
theorem dX4_isSetting_18 : decode cX4_isSetting 18 = .ok (.lconst 0, 1) := dk_9 (dk_at dksX4_isSetting_0 18 rfl rfl)
theorem dX4_isSetting_19 : decode cX4_isSetting 19 = .ok (.goto 15, 3) := dk_167 0 15 (dk_at dksX4_isSetting_0 19 rfl rfl)
theorem dX4_isSetting_22 : decode cX4_isSetting 22 = .ok (.iload_n 0, 1) := dk_26 (dk_at dksX4_isSetting_0 22 rfl rfl)
theorem dX4_isSetting_23 : decode cX4_isSetting 23 = .ok (.iconst 3, 1) := dk_6 (dk_at dksX4_isSetting_0 23 rfl rfl)
theorem dX4_isSetting_24 : decode cX4_isSetting 24 = .ok (.if_icmp .ne 9, 3) := dk_160 0 9 (dk_at dksX4_isSetting_1 0 rfl rfl)
theorem dX4_isSetting_27 : decode cX4_isSetting 27 = .ok (.ldc2_w 148, 3) := dk_20 0 148 (dk_at dksX4_isSetting_1 3 rfl rfl)
theorem dX4_isSetting_30 : decode cX4_isSetting 30 = .ok (.goto 4, 3) := dk_167 0 4 (dk_at dksX4_isSetting_1 6 rfl rfl)
theorem dX4_isSetting_33 : decode cX4_isSetting 33 = .ok (.lconst 1, 1) := dk_10 (dk_at dksX4_isSetting_1 9 rfl rfl)
theorem dX4_isSetting_34 : decode cX4_isSetting 34 = .ok (.iload_n 0, 1) := dk_26 (dk_at dksX4_isSetting_1 10 rfl rfl)
theorem dX4_isSetting_35 : decode cX4_isSetting 35 = .ok (.ifCond .ne 9, 3) := dk_154 0 9 (dk_at dksX4_isSetting_1 11 rfl rfl)
theorem dX4_isSetting_38 : decode cX4_isSetting 38 = .ok (.ldc2_w 150, 3) := dk_20 0 150 (dk_at dksX4_isSetting_1 14 rfl rfl)
theorem dX4_isSetting_41 : decode cX4_isSetting 41 = .ok (.goto 28, 3) := dk_167 0 28 (dk_at dksX4_isSetting_1 17 rfl rfl)
theorem dX4_isSetting_44 : decode cX4_isSetting 44 = .ok (.iload_n 0, 1) := dk_26 (dk_at dksX4_isSetting_1 20 rfl rfl)
theorem dX4_isSetting_45 : decode cX4_isSetting 45 = .ok (.iconst 1, 1) := dk_4 (dk_at dksX4_isSetting_1 21 rfl rfl)
theorem dX4_isSetting_46 : decode cX4_isSetting 46 = .ok (.if_icmp .ne 9, 3) := dk_160 0 9 (dk_at dksX4_isSetting_2 0 rfl rfl)
theorem dX4_isSetting_49 : decode cX4_isSetting 49 = .ok (.ldc2_w 152, 3) := dk_20 0 152 (dk_at dksX4_isSetting_2 3 rfl rfl)
theorem dX4_isSetting_52 : decode cX4_isSetting 52 = .ok (.goto 17, 3) := dk_167 0 17 (dk_at dksX4_isSetting_2 6 rfl rfl)
theorem dX4_isSetting_55 : decode cX4_isSetting 55 = .ok (.iload_n 0, 1) := dk_26 (dk_at dksX4_isSetting_2 9 rfl rfl)
theorem dX4_isSetting_56 : decode cX4_isSetting 56 = .ok (.iconst 2, 1) := dk_5 (dk_at dksX4_isSetting_2 10 rfl rfl)
theorem dX4_isSetting_57 : decode cX4_isSetting 57 = .ok (.if_icmp .ne 9, 3) := dk_160 0 9 (dk_at dksX4_isSetting_2 11 rfl rfl)
theorem dX4_isSetting_60 : decode cX4_isSetting 60 = .ok (.ldc2_w 148, 3) := dk_20 0 148 (dk_at dksX4_isSetting_2 14 rfl rfl)
theorem dX4_isSetting_63 : decode cX4_isSetting 63 = .ok (.goto 6, 3) := dk_167 0 6 (dk_at dksX4_isSetting_2 17 rfl rfl)
theorem dX4_isSetting_66 : decode cX4_isSetting 66 = .ok (.ldc2_w 154, 3) := dk_20 0 154 (dk_at dksX4_isSetting_2 20 rfl rfl)
theorem dX4_isSetting_69 : decode cX4_isSetting 69 = .ok (.invokestatic 45, 3) := dk_184 0 45 (dk_at dksX4_isSetting_3 0 rfl rfl)
theorem dX4_isSetting_72 : decode cX4_isSetting 72 = .ok (.ifCond .eq 7, 3) := dk_153 0 7 (dk_at dksX4_isSetting_3 3 rfl rfl)
theorem dX4_isSetting_75 : decode cX4_isSetting 75 = .ok (.iconst 1, 1) := dk_4 (dk_at dksX4_isSetting_3 6 rfl rfl)
theorem dX4_isSetting_76 : decode cX4_isSetting 76 = .ok (.goto 4, 3) := dk_167 0 4 (dk_at dksX4_isSetting_3 7 rfl rfl)
theorem dX4_isSetting_79 : decode cX4_isSetting 79 = .ok (.iconst 0, 1) := dk_3 (dk_at dksX4_isSetting_3 10 rfl rfl)
theorem dX4_isSetting_80 : decode cX4_isSetting 80 = .ok (.ireturn, 1) := dk_172 (dk_at dksX4_isSetting_3 11 rfl rfl)
abbrev cX4_undo : ByteArray := prog_11_method_52_code
def yX4_undo : MethodName := ⟨RX4, "undo", "()I"⟩
def dkwX4_undo_2 : List UInt8 := [184, 0, 123, 42, 180, 0, 179, 172]
abbrev dktX4_undo_2 : List UInt8 := dkwX4_undo_2 ++ []
def dkwX4_undo_1 : List UInt8 := [180, 0, 179, 4, 100, 181, 0, 179, 42, 180, 0, 22, 16, 89, 42, 180, 0, 179, 104, 42, 180, 0, 13, 3]
abbrev dktX4_undo_1 : List UInt8 := dkwX4_undo_1 ++ dktX4_undo_2
def dkwX4_undo_0 : List UInt8 := [42, 42, 180, 0, 179, 154, 0, 7, 4, 167, 0, 4, 3, 182, 0, 161, 153, 0, 5, 3, 172, 42, 89]
abbrev dktX4_undo_0 : List UInt8 := dkwX4_undo_0 ++ dktX4_undo_1
theorem dksX4_undo_0 : cX4_undo.data.toList.drop 0 = dktX4_undo_0 := by decide +kernel
theorem dksX4_undo_1 : cX4_undo.data.toList.drop 23 = dktX4_undo_1 := dk_seg dksX4_undo_0 23 rfl rfl
theorem dksX4_undo_2 : cX4_undo.data.toList.drop 47 = dktX4_undo_2 := dk_seg dksX4_undo_1 24 rfl rfl
theorem dX4_undo_0 : decode cX4_undo 0 = .ok (.aload_n 0, 1) := dk_42 (dk_at dksX4_undo_0 0 rfl rfl)
theorem dX4_undo_1 : decode cX4_undo 1 = .ok (.aload_n 0, 1) := dk_42 (dk_at dksX4_undo_0 1 rfl rfl)
theorem dX4_undo_2 : decode cX4_undo 2 = .ok (.getfield 179, 3) := dk_180 0 179 (dk_at dksX4_undo_0 2 rfl rfl)
theorem dX4_undo_5 : decode cX4_undo 5 = .ok (.ifCond .ne 7, 3) := dk_154 0 7 (dk_at dksX4_undo_0 5 rfl rfl)
theorem dX4_undo_8 : decode cX4_undo 8 = .ok (.iconst 1, 1) := dk_4 (dk_at dksX4_undo_0 8 rfl rfl)
theorem dX4_undo_9 : decode cX4_undo 9 = .ok (.goto 4, 3) := dk_167 0 4 (dk_at dksX4_undo_0 9 rfl rfl)
theorem dX4_undo_12 : decode cX4_undo 12 = .ok (.iconst 0, 1) := dk_3 (dk_at dksX4_undo_0 12 rfl rfl)
theorem dX4_undo_13 : decode cX4_undo 13 = .ok (.invokevirtual 161, 3) := dk_182 0 161 (dk_at dksX4_undo_0 13 rfl rfl)
theorem dX4_undo_16 : decode cX4_undo 16 = .ok (.ifCond .eq 5, 3) := dk_153 0 5 (dk_at dksX4_undo_0 16 rfl rfl)
theorem dX4_undo_19 : decode cX4_undo 19 = .ok (.iconst 0, 1) := dk_3 (dk_at dksX4_undo_0 19 rfl rfl)
theorem dX4_undo_20 : decode cX4_undo 20 = .ok (.ireturn, 1) := dk_172 (dk_at dksX4_undo_0 20 rfl rfl)
theorem dX4_undo_21 : decode cX4_undo 21 = .ok (.aload_n 0, 1) := dk_42 (dk_at dksX4_undo_0 21 rfl rfl)
theorem dX4_undo_22 : decode cX4_undo 22 = .ok (.dup, 1) := dk_89 (dk_at dksX4_undo_0 22 rfl rfl)
theorem dX4_undo_23 : decode cX4_undo 23 = .ok (.getfield 179, 3) := dk_180 0 179 (dk_at dksX4_undo_1 0 rfl rfl)
theorem dX4_undo_26 : decode cX4_undo 26 = .ok (.iconst 1, 1) := dk_4 (dk_at dksX4_undo_1 3 rfl rfl)
theorem dX4_undo_27 : decode cX4_undo 27 = .ok (.isub, 1) := dk_100 (dk_at dksX4_undo_1 4 rfl rfl)
theorem dX4_undo_28 : decode cX4_undo 28 = .ok (.putfield 179, 3) := dk_181 0 179 (dk_at dksX4_undo_1 5 rfl rfl)
theorem dX4_undo_31 : decode cX4_undo 31 = .ok (.aload_n 0, 1) := dk_42 (dk_at dksX4_undo_1 8 rfl rfl)
theorem dX4_undo_32 : decode cX4_undo 32 = .ok (.getfield 22, 3) := dk_180 0 22 (dk_at dksX4_undo_1 9 rfl rfl)
theorem dX4_undo_35 : decode cX4_undo 35 = .ok (.bipush 89, 2) := dk_16 89 (dk_at dksX4_undo_1 12 rfl rfl)
theorem dX4_undo_37 : decode cX4_undo 37 = .ok (.aload_n 0, 1) := dk_42 (dk_at dksX4_undo_1 14 rfl rfl)
theorem dX4_undo_38 : decode cX4_undo 38 = .ok (.getfield 179, 3) := dk_180 0 179 (dk_at dksX4_undo_1 15 rfl rfl)
theorem dX4_undo_41 : decode cX4_undo 41 = .ok (.imul, 1) := dk_104 (dk_at dksX4_undo_1 18 rfl rfl)
theorem dX4_undo_42 : decode cX4_undo 42 = .ok (.aload_n 0, 1) := dk_42 (dk_at dksX4_undo_1 19 rfl rfl)
theorem dX4_undo_43 : decode cX4_undo 43 = .ok (.getfield 13, 3) := dk_180 0 13 (dk_at dksX4_undo_1 20 rfl rfl)
theorem dX4_undo_46 : decode cX4_undo 46 = .ok (.iconst 0, 1) := dk_3 (dk_at dksX4_undo_1 23 rfl rfl)
theorem dX4_undo_47 : decode cX4_undo 47 = .ok (.invokestatic 123, 3) := dk_184 0 123 (dk_at dksX4_undo_2 0 rfl rfl)
theorem dX4_undo_50 : decode cX4_undo 50 = .ok (.aload_n 0, 1) := dk_42 (dk_at dksX4_undo_2 3 rfl rfl)
theorem dX4_undo_51 : decode cX4_undo 51 = .ok (.getfield 179, 3) := dk_180 0 179 (dk_at dksX4_undo_2 4 rfl rfl)
theorem dX4_undo_54 : decode cX4_undo 54 = .ok (.ireturn, 1) := dk_172 (dk_at dksX4_undo_2 7 rfl rfl)
abbrev cX4_points : ByteArray := prog_11_method_53_code
def yX4_points : MethodName := ⟨RX4, "points", "(I)I"⟩
def dkwX4_points_3 : List UInt8 := [61, 132, 3, 1, 167, 255, 221, 28, 172]
abbrev dktX4_points_3 : List UInt8 := dkwX4_points_3 ++ []
def dkwX4_points_2 : List UInt8 := [180, 0, 13, 29, 184, 0, 63, 153, 0, 15, 42, 42, 180, 0, 13, 29, 182, 0, 102, 167, 0, 4, 3, 96]
abbrev dktX4_points_2 : List UInt8 := dkwX4_points_2 ++ dktX4_points_3
def dkwX4_points_1 : List UInt8 := [180, 0, 13, 27, 182, 0, 191, 154, 0, 5, 2, 172, 3, 61, 3, 62, 29, 6, 162, 0, 36, 28, 42]
abbrev dktX4_points_1 : List UInt8 := dkwX4_points_1 ++ dktX4_points_2
def dkwX4_points_0 : List UInt8 := [42, 27, 184, 0, 172, 153, 0, 7, 3, 167, 0, 4, 4, 182, 0, 161, 153, 0, 5, 3, 172, 42, 42]
abbrev dktX4_points_0 : List UInt8 := dkwX4_points_0 ++ dktX4_points_1
theorem dksX4_points_0 : cX4_points.data.toList.drop 0 = dktX4_points_0 := by decide +kernel
theorem dksX4_points_1 : cX4_points.data.toList.drop 23 = dktX4_points_1 := dk_seg dksX4_points_0 23 rfl rfl
theorem dksX4_points_2 : cX4_points.data.toList.drop 46 = dktX4_points_2 := dk_seg dksX4_points_1 23 rfl rfl
theorem dksX4_points_3 : cX4_points.data.toList.drop 70 = dktX4_points_3 := dk_seg dksX4_points_2 24 rfl rfl
theorem dX4_points_0 : decode cX4_points 0 = .ok (.aload_n 0, 1) := dk_42 (dk_at dksX4_points_0 0 rfl rfl)
theorem dX4_points_1 : decode cX4_points 1 = .ok (.iload_n 1, 1) := dk_27 (dk_at dksX4_points_0 1 rfl rfl)
theorem dX4_points_2 : decode cX4_points 2 = .ok (.invokestatic 172, 3) := dk_184 0 172 (dk_at dksX4_points_0 2 rfl rfl)
theorem dX4_points_5 : decode cX4_points 5 = .ok (.ifCond .eq 7, 3) := dk_153 0 7 (dk_at dksX4_points_0 5 rfl rfl)
theorem dX4_points_8 : decode cX4_points 8 = .ok (.iconst 0, 1) := dk_3 (dk_at dksX4_points_0 8 rfl rfl)
theorem dX4_points_9 : decode cX4_points 9 = .ok (.goto 4, 3) := dk_167 0 4 (dk_at dksX4_points_0 9 rfl rfl)
theorem dX4_points_12 : decode cX4_points 12 = .ok (.iconst 1, 1) := dk_4 (dk_at dksX4_points_0 12 rfl rfl)
theorem dX4_points_13 : decode cX4_points 13 = .ok (.invokevirtual 161, 3) := dk_182 0 161 (dk_at dksX4_points_0 13 rfl rfl)
theorem dX4_points_16 : decode cX4_points 16 = .ok (.ifCond .eq 5, 3) := dk_153 0 5 (dk_at dksX4_points_0 16 rfl rfl)
theorem dX4_points_19 : decode cX4_points 19 = .ok (.iconst 0, 1) := dk_3 (dk_at dksX4_points_0 19 rfl rfl)
theorem dX4_points_20 : decode cX4_points 20 = .ok (.ireturn, 1) := dk_172 (dk_at dksX4_points_0 20 rfl rfl)
theorem dX4_points_21 : decode cX4_points 21 = .ok (.aload_n 0, 1) := dk_42 (dk_at dksX4_points_0 21 rfl rfl)
theorem dX4_points_22 : decode cX4_points 22 = .ok (.aload_n 0, 1) := dk_42 (dk_at dksX4_points_0 22 rfl rfl)
theorem dX4_points_23 : decode cX4_points 23 = .ok (.getfield 13, 3) := dk_180 0 13 (dk_at dksX4_points_1 0 rfl rfl)
theorem dX4_points_26 : decode cX4_points 26 = .ok (.iload_n 1, 1) := dk_27 (dk_at dksX4_points_1 3 rfl rfl)
theorem dX4_points_27 : decode cX4_points 27 = .ok (.invokevirtual 191, 3) := dk_182 0 191 (dk_at dksX4_points_1 4 rfl rfl)
theorem dX4_points_30 : decode cX4_points 30 = .ok (.ifCond .ne 5, 3) := dk_154 0 5 (dk_at dksX4_points_1 7 rfl rfl)
theorem dX4_points_33 : decode cX4_points 33 = .ok (.iconst (-1), 1) := dk_2 (dk_at dksX4_points_1 10 rfl rfl)
theorem dX4_points_34 : decode cX4_points 34 = .ok (.ireturn, 1) := dk_172 (dk_at dksX4_points_1 11 rfl rfl)
theorem dX4_points_35 : decode cX4_points 35 = .ok (.iconst 0, 1) := dk_3 (dk_at dksX4_points_1 12 rfl rfl)
theorem dX4_points_36 : decode cX4_points 36 = .ok (.istore_n 2, 1) := dk_61 (dk_at dksX4_points_1 13 rfl rfl)
theorem dX4_points_37 : decode cX4_points 37 = .ok (.iconst 0, 1) := dk_3 (dk_at dksX4_points_1 14 rfl rfl)
theorem dX4_points_38 : decode cX4_points 38 = .ok (.istore_n 3, 1) := dk_62 (dk_at dksX4_points_1 15 rfl rfl)
theorem dX4_points_39 : decode cX4_points 39 = .ok (.iload_n 3, 1) := dk_29 (dk_at dksX4_points_1 16 rfl rfl)
theorem dX4_points_40 : decode cX4_points 40 = .ok (.iconst 3, 1) := dk_6 (dk_at dksX4_points_1 17 rfl rfl)
theorem dX4_points_41 : decode cX4_points 41 = .ok (.if_icmp .ge 36, 3) := dk_162 0 36 (dk_at dksX4_points_1 18 rfl rfl)
theorem dX4_points_44 : decode cX4_points 44 = .ok (.iload_n 2, 1) := dk_28 (dk_at dksX4_points_1 21 rfl rfl)
theorem dX4_points_45 : decode cX4_points 45 = .ok (.aload_n 0, 1) := dk_42 (dk_at dksX4_points_1 22 rfl rfl)
theorem dX4_points_46 : decode cX4_points 46 = .ok (.getfield 13, 3) := dk_180 0 13 (dk_at dksX4_points_2 0 rfl rfl)
theorem dX4_points_49 : decode cX4_points 49 = .ok (.iload_n 3, 1) := dk_29 (dk_at dksX4_points_2 3 rfl rfl)
theorem dX4_points_50 : decode cX4_points 50 = .ok (.invokestatic 63, 3) := dk_184 0 63 (dk_at dksX4_points_2 4 rfl rfl)
theorem dX4_points_53 : decode cX4_points 53 = .ok (.ifCond .eq 15, 3) := dk_153 0 15 (dk_at dksX4_points_2 7 rfl rfl)
theorem dX4_points_56 : decode cX4_points 56 = .ok (.aload_n 0, 1) := dk_42 (dk_at dksX4_points_2 10 rfl rfl)
theorem dX4_points_57 : decode cX4_points 57 = .ok (.aload_n 0, 1) := dk_42 (dk_at dksX4_points_2 11 rfl rfl)
theorem dX4_points_58 : decode cX4_points 58 = .ok (.getfield 13, 3) := dk_180 0 13 (dk_at dksX4_points_2 12 rfl rfl)
theorem dX4_points_61 : decode cX4_points 61 = .ok (.iload_n 3, 1) := dk_29 (dk_at dksX4_points_2 15 rfl rfl)
theorem dX4_points_62 : decode cX4_points 62 = .ok (.invokevirtual 102, 3) := dk_182 0 102 (dk_at dksX4_points_2 16 rfl rfl)
theorem dX4_points_65 : decode cX4_points 65 = .ok (.goto 4, 3) := dk_167 0 4 (dk_at dksX4_points_2 19 rfl rfl)
theorem dX4_points_68 : decode cX4_points 68 = .ok (.iconst 0, 1) := dk_3 (dk_at dksX4_points_2 22 rfl rfl)
theorem dX4_points_69 : decode cX4_points 69 = .ok (.iadd, 1) := dk_96 (dk_at dksX4_points_2 23 rfl rfl)
theorem dX4_points_70 : decode cX4_points 70 = .ok (.istore_n 2, 1) := dk_61 (dk_at dksX4_points_3 0 rfl rfl)
theorem dX4_points_71 : decode cX4_points 71 = .ok (.iinc 3 1, 3) := dk_132 3 1 (dk_at dksX4_points_3 1 rfl rfl)
theorem dX4_points_74 : decode cX4_points 74 = .ok (.goto (-35), 3) := dk_167 255 221 (dk_at dksX4_points_3 4 rfl rfl)
theorem dX4_points_77 : decode cX4_points 77 = .ok (.iload_n 2, 1) := dk_28 (dk_at dksX4_points_3 7 rfl rfl)
theorem dX4_points_78 : decode cX4_points 78 = .ok (.ireturn, 1) := dk_172 (dk_at dksX4_points_3 8 rfl rfl)
abbrev cX4_best : ByteArray := prog_11_method_54_code
def yX4_best : MethodName := ⟨RX4, "best", "(II)I"⟩
def dkwX4_best_4 : List UInt8 := [180, 0, 35, 28, 5, 100, 46, 167, 0, 4, 2, 172]
abbrev dktX4_best_4 : List UInt8 := dkwX4_best_4 ++ []
def dkwX4_best_3 : List UInt8 := [28, 4, 160, 0, 10, 42, 180, 0, 79, 167, 0, 25, 28, 5, 100, 42, 180, 0, 79, 162, 0, 14, 42]
abbrev dktX4_best_3 : List UInt8 := dkwX4_best_3 ++ dktX4_best_4
def dkwX4_best_2 : List UInt8 := [180, 0, 13, 27, 182, 0, 127, 2, 160, 0, 5, 2, 172, 28, 154, 0, 10, 42, 180, 0, 76, 167, 0, 37]
abbrev dktX4_best_2 : List UInt8 := dkwX4_best_2 ++ dktX4_best_3
def dkwX4_best_1 : List UInt8 := [3, 167, 0, 4, 5, 182, 0, 161, 153, 0, 5, 3, 172, 42, 180, 0, 13, 3, 46, 153, 0, 16, 42, 42]
abbrev dktX4_best_1 : List UInt8 := dkwX4_best_1 ++ dktX4_best_2
def dkwX4_best_0 : List UInt8 := [42, 27, 184, 0, 172, 154, 0, 7, 4, 167, 0, 20, 28, 133, 9, 20, 0, 150, 184, 0, 45, 153, 0, 7]
abbrev dktX4_best_0 : List UInt8 := dkwX4_best_0 ++ dktX4_best_1
theorem dksX4_best_0 : cX4_best.data.toList.drop 0 = dktX4_best_0 := by decide +kernel
theorem dksX4_best_1 : cX4_best.data.toList.drop 24 = dktX4_best_1 := dk_seg dksX4_best_0 24 rfl rfl
theorem dksX4_best_2 : cX4_best.data.toList.drop 48 = dktX4_best_2 := dk_seg dksX4_best_1 24 rfl rfl
theorem dksX4_best_3 : cX4_best.data.toList.drop 72 = dktX4_best_3 := dk_seg dksX4_best_2 24 rfl rfl
theorem dksX4_best_4 : cX4_best.data.toList.drop 95 = dktX4_best_4 := dk_seg dksX4_best_3 23 rfl rfl
theorem dX4_best_0 : decode cX4_best 0 = .ok (.aload_n 0, 1) := dk_42 (dk_at dksX4_best_0 0 rfl rfl)
theorem dX4_best_1 : decode cX4_best 1 = .ok (.iload_n 1, 1) := dk_27 (dk_at dksX4_best_0 1 rfl rfl)
theorem dX4_best_2 : decode cX4_best 2 = .ok (.invokestatic 172, 3) := dk_184 0 172 (dk_at dksX4_best_0 2 rfl rfl)
theorem dX4_best_5 : decode cX4_best 5 = .ok (.ifCond .ne 7, 3) := dk_154 0 7 (dk_at dksX4_best_0 5 rfl rfl)
theorem dX4_best_8 : decode cX4_best 8 = .ok (.iconst 1, 1) := dk_4 (dk_at dksX4_best_0 8 rfl rfl)
theorem dX4_best_9 : decode cX4_best 9 = .ok (.goto 20, 3) := dk_167 0 20 (dk_at dksX4_best_0 9 rfl rfl)
theorem dX4_best_12 : decode cX4_best 12 = .ok (.iload_n 2, 1) := dk_28 (dk_at dksX4_best_0 12 rfl rfl)
theorem dX4_best_13 : decode cX4_best 13 = .ok (.i2l, 1) := dk_133 (dk_at dksX4_best_0 13 rfl rfl)
theorem dX4_best_14 : decode cX4_best 14 = .ok (.lconst 0, 1) := dk_9 (dk_at dksX4_best_0 14 rfl rfl)
theorem dX4_best_15 : decode cX4_best 15 = .ok (.ldc2_w 150, 3) := dk_20 0 150 (dk_at dksX4_best_0 15 rfl rfl)
theorem dX4_best_18 : decode cX4_best 18 = .ok (.invokestatic 45, 3) := dk_184 0 45 (dk_at dksX4_best_0 18 rfl rfl)
theorem dX4_best_21 : decode cX4_best 21 = .ok (.ifCond .eq 7, 3) := dk_153 0 7 (dk_at dksX4_best_0 21 rfl rfl)
theorem dX4_best_24 : decode cX4_best 24 = .ok (.iconst 0, 1) := dk_3 (dk_at dksX4_best_1 0 rfl rfl)
theorem dX4_best_25 : decode cX4_best 25 = .ok (.goto 4, 3) := dk_167 0 4 (dk_at dksX4_best_1 1 rfl rfl)
theorem dX4_best_28 : decode cX4_best 28 = .ok (.iconst 2, 1) := dk_5 (dk_at dksX4_best_1 4 rfl rfl)
theorem dX4_best_29 : decode cX4_best 29 = .ok (.invokevirtual 161, 3) := dk_182 0 161 (dk_at dksX4_best_1 5 rfl rfl)
theorem dX4_best_32 : decode cX4_best 32 = .ok (.ifCond .eq 5, 3) := dk_153 0 5 (dk_at dksX4_best_1 8 rfl rfl)
theorem dX4_best_35 : decode cX4_best 35 = .ok (.iconst 0, 1) := dk_3 (dk_at dksX4_best_1 11 rfl rfl)
theorem dX4_best_36 : decode cX4_best 36 = .ok (.ireturn, 1) := dk_172 (dk_at dksX4_best_1 12 rfl rfl)
theorem dX4_best_37 : decode cX4_best 37 = .ok (.aload_n 0, 1) := dk_42 (dk_at dksX4_best_1 13 rfl rfl)
theorem dX4_best_38 : decode cX4_best 38 = .ok (.getfield 13, 3) := dk_180 0 13 (dk_at dksX4_best_1 14 rfl rfl)
theorem dX4_best_41 : decode cX4_best 41 = .ok (.iconst 0, 1) := dk_3 (dk_at dksX4_best_1 17 rfl rfl)
theorem dX4_best_42 : decode cX4_best 42 = .ok (.iaload, 1) := dk_46 (dk_at dksX4_best_1 18 rfl rfl)
theorem dX4_best_43 : decode cX4_best 43 = .ok (.ifCond .eq 16, 3) := dk_153 0 16 (dk_at dksX4_best_1 19 rfl rfl)
theorem dX4_best_46 : decode cX4_best 46 = .ok (.aload_n 0, 1) := dk_42 (dk_at dksX4_best_1 22 rfl rfl)
theorem dX4_best_47 : decode cX4_best 47 = .ok (.aload_n 0, 1) := dk_42 (dk_at dksX4_best_1 23 rfl rfl)
theorem dX4_best_48 : decode cX4_best 48 = .ok (.getfield 13, 3) := dk_180 0 13 (dk_at dksX4_best_2 0 rfl rfl)
theorem dX4_best_51 : decode cX4_best 51 = .ok (.iload_n 1, 1) := dk_27 (dk_at dksX4_best_2 3 rfl rfl)
theorem dX4_best_52 : decode cX4_best 52 = .ok (.invokevirtual 127, 3) := dk_182 0 127 (dk_at dksX4_best_2 4 rfl rfl)
theorem dX4_best_55 : decode cX4_best 55 = .ok (.iconst (-1), 1) := dk_2 (dk_at dksX4_best_2 7 rfl rfl)
theorem dX4_best_56 : decode cX4_best 56 = .ok (.if_icmp .ne 5, 3) := dk_160 0 5 (dk_at dksX4_best_2 8 rfl rfl)
theorem dX4_best_59 : decode cX4_best 59 = .ok (.iconst (-1), 1) := dk_2 (dk_at dksX4_best_2 11 rfl rfl)
theorem dX4_best_60 : decode cX4_best 60 = .ok (.ireturn, 1) := dk_172 (dk_at dksX4_best_2 12 rfl rfl)
theorem dX4_best_61 : decode cX4_best 61 = .ok (.iload_n 2, 1) := dk_28 (dk_at dksX4_best_2 13 rfl rfl)
theorem dX4_best_62 : decode cX4_best 62 = .ok (.ifCond .ne 10, 3) := dk_154 0 10 (dk_at dksX4_best_2 14 rfl rfl)
theorem dX4_best_65 : decode cX4_best 65 = .ok (.aload_n 0, 1) := dk_42 (dk_at dksX4_best_2 17 rfl rfl)
theorem dX4_best_66 : decode cX4_best 66 = .ok (.getfield 76, 3) := dk_180 0 76 (dk_at dksX4_best_2 18 rfl rfl)
theorem dX4_best_69 : decode cX4_best 69 = .ok (.goto 37, 3) := dk_167 0 37 (dk_at dksX4_best_2 21 rfl rfl)
theorem dX4_best_72 : decode cX4_best 72 = .ok (.iload_n 2, 1) := dk_28 (dk_at dksX4_best_3 0 rfl rfl)
theorem dX4_best_73 : decode cX4_best 73 = .ok (.iconst 1, 1) := dk_4 (dk_at dksX4_best_3 1 rfl rfl)
theorem dX4_best_74 : decode cX4_best 74 = .ok (.if_icmp .ne 10, 3) := dk_160 0 10 (dk_at dksX4_best_3 2 rfl rfl)
theorem dX4_best_77 : decode cX4_best 77 = .ok (.aload_n 0, 1) := dk_42 (dk_at dksX4_best_3 5 rfl rfl)
theorem dX4_best_78 : decode cX4_best 78 = .ok (.getfield 79, 3) := dk_180 0 79 (dk_at dksX4_best_3 6 rfl rfl)
theorem dX4_best_81 : decode cX4_best 81 = .ok (.goto 25, 3) := dk_167 0 25 (dk_at dksX4_best_3 9 rfl rfl)
theorem dX4_best_84 : decode cX4_best 84 = .ok (.iload_n 2, 1) := dk_28 (dk_at dksX4_best_3 12 rfl rfl)
theorem dX4_best_85 : decode cX4_best 85 = .ok (.iconst 2, 1) := dk_5 (dk_at dksX4_best_3 13 rfl rfl)
theorem dX4_best_86 : decode cX4_best 86 = .ok (.isub, 1) := dk_100 (dk_at dksX4_best_3 14 rfl rfl)
theorem dX4_best_87 : decode cX4_best 87 = .ok (.aload_n 0, 1) := dk_42 (dk_at dksX4_best_3 15 rfl rfl)
theorem dX4_best_88 : decode cX4_best 88 = .ok (.getfield 79, 3) := dk_180 0 79 (dk_at dksX4_best_3 16 rfl rfl)
theorem dX4_best_91 : decode cX4_best 91 = .ok (.if_icmp .ge 14, 3) := dk_162 0 14 (dk_at dksX4_best_3 19 rfl rfl)
theorem dX4_best_94 : decode cX4_best 94 = .ok (.aload_n 0, 1) := dk_42 (dk_at dksX4_best_3 22 rfl rfl)
theorem dX4_best_95 : decode cX4_best 95 = .ok (.getfield 35, 3) := dk_180 0 35 (dk_at dksX4_best_4 0 rfl rfl)
theorem dX4_best_98 : decode cX4_best 98 = .ok (.iload_n 2, 1) := dk_28 (dk_at dksX4_best_4 3 rfl rfl)
theorem dX4_best_99 : decode cX4_best 99 = .ok (.iconst 2, 1) := dk_5 (dk_at dksX4_best_4 4 rfl rfl)
theorem dX4_best_100 : decode cX4_best 100 = .ok (.isub, 1) := dk_100 (dk_at dksX4_best_4 5 rfl rfl)
theorem dX4_best_101 : decode cX4_best 101 = .ok (.iaload, 1) := dk_46 (dk_at dksX4_best_4 6 rfl rfl)
theorem dX4_best_102 : decode cX4_best 102 = .ok (.goto 4, 3) := dk_167 0 4 (dk_at dksX4_best_4 7 rfl rfl)
theorem dX4_best_105 : decode cX4_best 105 = .ok (.iconst (-1), 1) := dk_2 (dk_at dksX4_best_4 10 rfl rfl)
theorem dX4_best_106 : decode cX4_best 106 = .ok (.ireturn, 1) := dk_172 (dk_at dksX4_best_4 11 rfl rfl)
abbrev cX4_ifForbidden : ByteArray := prog_11_method_55_code
def yX4_ifForbidden : MethodName := ⟨RX4, "ifForbidden", "(II)I"⟩
def dkwX4_ifForbidden_2 : List UInt8 := [182, 0, 94, 42, 180, 0, 32, 28, 2, 79, 42, 182, 0, 98, 172]
abbrev dktX4_ifForbidden_2 : List UInt8 := dkwX4_ifForbidden_2 ++ []
def dkwX4_ifForbidden_1 : List UInt8 := [153, 0, 5, 3, 172, 42, 180, 0, 13, 3, 46, 154, 0, 5, 2, 172, 42, 42, 180, 0, 13, 27]
abbrev dktX4_ifForbidden_1 : List UInt8 := dkwX4_ifForbidden_1 ++ dktX4_ifForbidden_2
def dkwX4_ifForbidden_0 : List UInt8 := [42, 27, 184, 0, 172, 153, 0, 14, 28, 184, 0, 164, 153, 0, 7, 3, 167, 0, 4, 4, 182, 0, 161]
abbrev dktX4_ifForbidden_0 : List UInt8 := dkwX4_ifForbidden_0 ++ dktX4_ifForbidden_1
theorem dksX4_ifForbidden_0 : cX4_ifForbidden.data.toList.drop 0 = dktX4_ifForbidden_0 := by decide +kernel
theorem dksX4_ifForbidden_1 : cX4_ifForbidden.data.toList.drop 23 = dktX4_ifForbidden_1 := dk_seg dksX4_ifForbidden_0 23 rfl rfl
theorem dksX4_ifForbidden_2 : cX4_ifForbidden.data.toList.drop 45 = dktX4_ifForbidden_2 := dk_seg dksX4_ifForbidden_1 22 rfl rfl
theorem dX4_ifForbidden_0 : decode cX4_ifForbidden 0 = .ok (.aload_n 0, 1) := dk_42 (dk_at dksX4_ifForbidden_0 0 rfl rfl)
theorem dX4_ifForbidden_1 : decode cX4_ifForbidden 1 = .ok (.iload_n 1, 1) := dk_27 (dk_at dksX4_ifForbidden_0 1 rfl rfl)
theorem dX4_ifForbidden_2 : decode cX4_ifForbidden 2 = .ok (.invokestatic 172, 3) := dk_184 0 172 (dk_at dksX4_ifForbidden_0 2 rfl rfl)
theorem dX4_ifForbidden_5 : decode cX4_ifForbidden 5 = .ok (.ifCond .eq 14, 3) := dk_153 0 14 (dk_at dksX4_ifForbidden_0 5 rfl rfl)
theorem dX4_ifForbidden_8 : decode cX4_ifForbidden 8 = .ok (.iload_n 2, 1) := dk_28 (dk_at dksX4_ifForbidden_0 8 rfl rfl)
theorem dX4_ifForbidden_9 : decode cX4_ifForbidden 9 = .ok (.invokestatic 164, 3) := dk_184 0 164 (dk_at dksX4_ifForbidden_0 9 rfl rfl)
theorem dX4_ifForbidden_12 : decode cX4_ifForbidden 12 = .ok (.ifCond .eq 7, 3) := dk_153 0 7 (dk_at dksX4_ifForbidden_0 12 rfl rfl)
theorem dX4_ifForbidden_15 : decode cX4_ifForbidden 15 = .ok (.iconst 0, 1) := dk_3 (dk_at dksX4_ifForbidden_0 15 rfl rfl)
theorem dX4_ifForbidden_16 : decode cX4_ifForbidden 16 = .ok (.goto 4, 3) := dk_167 0 4 (dk_at dksX4_ifForbidden_0 16 rfl rfl)
theorem dX4_ifForbidden_19 : decode cX4_ifForbidden 19 = .ok (.iconst 1, 1) := dk_4 (dk_at dksX4_ifForbidden_0 19 rfl rfl)
theorem dX4_ifForbidden_20 : decode cX4_ifForbidden 20 = .ok (.invokevirtual 161, 3) := dk_182 0 161 (dk_at dksX4_ifForbidden_0 20 rfl rfl)
theorem dX4_ifForbidden_23 : decode cX4_ifForbidden 23 = .ok (.ifCond .eq 5, 3) := dk_153 0 5 (dk_at dksX4_ifForbidden_1 0 rfl rfl)
theorem dX4_ifForbidden_26 : decode cX4_ifForbidden 26 = .ok (.iconst 0, 1) := dk_3 (dk_at dksX4_ifForbidden_1 3 rfl rfl)
theorem dX4_ifForbidden_27 : decode cX4_ifForbidden 27 = .ok (.ireturn, 1) := dk_172 (dk_at dksX4_ifForbidden_1 4 rfl rfl)
theorem dX4_ifForbidden_28 : decode cX4_ifForbidden 28 = .ok (.aload_n 0, 1) := dk_42 (dk_at dksX4_ifForbidden_1 5 rfl rfl)
theorem dX4_ifForbidden_29 : decode cX4_ifForbidden 29 = .ok (.getfield 13, 3) := dk_180 0 13 (dk_at dksX4_ifForbidden_1 6 rfl rfl)
theorem dX4_ifForbidden_32 : decode cX4_ifForbidden 32 = .ok (.iconst 0, 1) := dk_3 (dk_at dksX4_ifForbidden_1 9 rfl rfl)
theorem dX4_ifForbidden_33 : decode cX4_ifForbidden 33 = .ok (.iaload, 1) := dk_46 (dk_at dksX4_ifForbidden_1 10 rfl rfl)
theorem dX4_ifForbidden_34 : decode cX4_ifForbidden 34 = .ok (.ifCond .ne 5, 3) := dk_154 0 5 (dk_at dksX4_ifForbidden_1 11 rfl rfl)
theorem dX4_ifForbidden_37 : decode cX4_ifForbidden 37 = .ok (.iconst (-1), 1) := dk_2 (dk_at dksX4_ifForbidden_1 14 rfl rfl)
theorem dX4_ifForbidden_38 : decode cX4_ifForbidden 38 = .ok (.ireturn, 1) := dk_172 (dk_at dksX4_ifForbidden_1 15 rfl rfl)
theorem dX4_ifForbidden_39 : decode cX4_ifForbidden 39 = .ok (.aload_n 0, 1) := dk_42 (dk_at dksX4_ifForbidden_1 16 rfl rfl)
theorem dX4_ifForbidden_40 : decode cX4_ifForbidden 40 = .ok (.aload_n 0, 1) := dk_42 (dk_at dksX4_ifForbidden_1 17 rfl rfl)
theorem dX4_ifForbidden_41 : decode cX4_ifForbidden 41 = .ok (.getfield 13, 3) := dk_180 0 13 (dk_at dksX4_ifForbidden_1 18 rfl rfl)
theorem dX4_ifForbidden_44 : decode cX4_ifForbidden 44 = .ok (.iload_n 1, 1) := dk_27 (dk_at dksX4_ifForbidden_1 21 rfl rfl)
theorem dX4_ifForbidden_45 : decode cX4_ifForbidden 45 = .ok (.invokevirtual 94, 3) := dk_182 0 94 (dk_at dksX4_ifForbidden_2 0 rfl rfl)
theorem dX4_ifForbidden_48 : decode cX4_ifForbidden 48 = .ok (.aload_n 0, 1) := dk_42 (dk_at dksX4_ifForbidden_2 3 rfl rfl)
theorem dX4_ifForbidden_49 : decode cX4_ifForbidden 49 = .ok (.getfield 32, 3) := dk_180 0 32 (dk_at dksX4_ifForbidden_2 4 rfl rfl)
theorem dX4_ifForbidden_52 : decode cX4_ifForbidden 52 = .ok (.iload_n 2, 1) := dk_28 (dk_at dksX4_ifForbidden_2 7 rfl rfl)
theorem dX4_ifForbidden_53 : decode cX4_ifForbidden 53 = .ok (.iconst (-1), 1) := dk_2 (dk_at dksX4_ifForbidden_2 8 rfl rfl)
theorem dX4_ifForbidden_54 : decode cX4_ifForbidden 54 = .ok (.iastore, 1) := dk_79 (dk_at dksX4_ifForbidden_2 9 rfl rfl)
theorem dX4_ifForbidden_55 : decode cX4_ifForbidden 55 = .ok (.aload_n 0, 1) := dk_42 (dk_at dksX4_ifForbidden_2 10 rfl rfl)
theorem dX4_ifForbidden_56 : decode cX4_ifForbidden 56 = .ok (.invokevirtual 98, 3) := dk_182 0 98 (dk_at dksX4_ifForbidden_2 11 rfl rfl)
theorem dX4_ifForbidden_59 : decode cX4_ifForbidden 59 = .ok (.ireturn, 1) := dk_172 (dk_at dksX4_ifForbidden_2 14 rfl rfl)
abbrev cX4_bestBan : ByteArray := prog_11_method_56_code
def yX4_bestBan : MethodName := ⟨RX4, "bestBan", "()I"⟩
def dkwX4_bestBan_0 : List UInt8 := [42, 3, 181, 0, 41, 42, 42, 180, 0, 13, 182, 0, 140, 172]
abbrev dktX4_bestBan_0 : List UInt8 := dkwX4_bestBan_0 ++ []
theorem dksX4_bestBan_0 : cX4_bestBan.data.toList.drop 0 = dktX4_bestBan_0 := by decide +kernel
theorem dX4_bestBan_0 : decode cX4_bestBan 0 = .ok (.aload_n 0, 1) := dk_42 (dk_at dksX4_bestBan_0 0 rfl rfl)
theorem dX4_bestBan_1 : decode cX4_bestBan 1 = .ok (.iconst 0, 1) := dk_3 (dk_at dksX4_bestBan_0 1 rfl rfl)
theorem dX4_bestBan_2 : decode cX4_bestBan 2 = .ok (.putfield 41, 3) := dk_181 0 41 (dk_at dksX4_bestBan_0 2 rfl rfl)
theorem dX4_bestBan_5 : decode cX4_bestBan 5 = .ok (.aload_n 0, 1) := dk_42 (dk_at dksX4_bestBan_0 5 rfl rfl)
theorem dX4_bestBan_6 : decode cX4_bestBan 6 = .ok (.aload_n 0, 1) := dk_42 (dk_at dksX4_bestBan_0 6 rfl rfl)
theorem dX4_bestBan_7 : decode cX4_bestBan 7 = .ok (.getfield 13, 3) := dk_180 0 13 (dk_at dksX4_bestBan_0 7 rfl rfl)
theorem dX4_bestBan_10 : decode cX4_bestBan 10 = .ok (.invokevirtual 140, 3) := dk_182 0 140 (dk_at dksX4_bestBan_0 10 rfl rfl)
theorem dX4_bestBan_13 : decode cX4_bestBan 13 = .ok (.ireturn, 1) := dk_172 (dk_at dksX4_bestBan_0 13 rfl rfl)
abbrev cX4_leaves : ByteArray := prog_11_method_57_code
def yX4_leaves : MethodName := ⟨RX4, "leaves", "(I)Z"⟩
def dkwX4_leaves_2 : List UInt8 := [42, 180, 0, 13, 16, 8, 46, 161, 0, 7, 4, 167, 0, 4, 3, 172]
abbrev dktX4_leaves_2 : List UInt8 := dkwX4_leaves_2 ++ []
def dkwX4_leaves_1 : List UInt8 := [3, 172, 42, 180, 0, 13, 27, 184, 0, 63, 153, 0, 28, 42, 180, 0, 13, 16, 14, 27, 96, 46, 4, 96]
abbrev dktX4_leaves_1 : List UInt8 := dkwX4_leaves_1 ++ dktX4_leaves_2
def dkwX4_leaves_0 : List UInt8 := [42, 27, 133, 9, 20, 0, 177, 184, 0, 45, 153, 0, 7, 3, 167, 0, 4, 4, 182, 0, 161, 153, 0, 5]
abbrev dktX4_leaves_0 : List UInt8 := dkwX4_leaves_0 ++ dktX4_leaves_1
theorem dksX4_leaves_0 : cX4_leaves.data.toList.drop 0 = dktX4_leaves_0 := by decide +kernel
theorem dksX4_leaves_1 : cX4_leaves.data.toList.drop 24 = dktX4_leaves_1 := dk_seg dksX4_leaves_0 24 rfl rfl
theorem dksX4_leaves_2 : cX4_leaves.data.toList.drop 48 = dktX4_leaves_2 := dk_seg dksX4_leaves_1 24 rfl rfl
theorem dX4_leaves_0 : decode cX4_leaves 0 = .ok (.aload_n 0, 1) := dk_42 (dk_at dksX4_leaves_0 0 rfl rfl)
theorem dX4_leaves_1 : decode cX4_leaves 1 = .ok (.iload_n 1, 1) := dk_27 (dk_at dksX4_leaves_0 1 rfl rfl)
theorem dX4_leaves_2 : decode cX4_leaves 2 = .ok (.i2l, 1) := dk_133 (dk_at dksX4_leaves_0 2 rfl rfl)
theorem dX4_leaves_3 : decode cX4_leaves 3 = .ok (.lconst 0, 1) := dk_9 (dk_at dksX4_leaves_0 3 rfl rfl)
theorem dX4_leaves_4 : decode cX4_leaves 4 = .ok (.ldc2_w 177, 3) := dk_20 0 177 (dk_at dksX4_leaves_0 4 rfl rfl)
theorem dX4_leaves_7 : decode cX4_leaves 7 = .ok (.invokestatic 45, 3) := dk_184 0 45 (dk_at dksX4_leaves_0 7 rfl rfl)
theorem dX4_leaves_10 : decode cX4_leaves 10 = .ok (.ifCond .eq 7, 3) := dk_153 0 7 (dk_at dksX4_leaves_0 10 rfl rfl)
theorem dX4_leaves_13 : decode cX4_leaves 13 = .ok (.iconst 0, 1) := dk_3 (dk_at dksX4_leaves_0 13 rfl rfl)
theorem dX4_leaves_14 : decode cX4_leaves 14 = .ok (.goto 4, 3) := dk_167 0 4 (dk_at dksX4_leaves_0 14 rfl rfl)
theorem dX4_leaves_17 : decode cX4_leaves 17 = .ok (.iconst 1, 1) := dk_4 (dk_at dksX4_leaves_0 17 rfl rfl)
theorem dX4_leaves_18 : decode cX4_leaves 18 = .ok (.invokevirtual 161, 3) := dk_182 0 161 (dk_at dksX4_leaves_0 18 rfl rfl)
theorem dX4_leaves_21 : decode cX4_leaves 21 = .ok (.ifCond .eq 5, 3) := dk_153 0 5 (dk_at dksX4_leaves_0 21 rfl rfl)
theorem dX4_leaves_24 : decode cX4_leaves 24 = .ok (.iconst 0, 1) := dk_3 (dk_at dksX4_leaves_1 0 rfl rfl)
theorem dX4_leaves_25 : decode cX4_leaves 25 = .ok (.ireturn, 1) := dk_172 (dk_at dksX4_leaves_1 1 rfl rfl)
theorem dX4_leaves_26 : decode cX4_leaves 26 = .ok (.aload_n 0, 1) := dk_42 (dk_at dksX4_leaves_1 2 rfl rfl)
theorem dX4_leaves_27 : decode cX4_leaves 27 = .ok (.getfield 13, 3) := dk_180 0 13 (dk_at dksX4_leaves_1 3 rfl rfl)
theorem dX4_leaves_30 : decode cX4_leaves 30 = .ok (.iload_n 1, 1) := dk_27 (dk_at dksX4_leaves_1 6 rfl rfl)
theorem dX4_leaves_31 : decode cX4_leaves 31 = .ok (.invokestatic 63, 3) := dk_184 0 63 (dk_at dksX4_leaves_1 7 rfl rfl)
theorem dX4_leaves_34 : decode cX4_leaves 34 = .ok (.ifCond .eq 28, 3) := dk_153 0 28 (dk_at dksX4_leaves_1 10 rfl rfl)
theorem dX4_leaves_37 : decode cX4_leaves 37 = .ok (.aload_n 0, 1) := dk_42 (dk_at dksX4_leaves_1 13 rfl rfl)
theorem dX4_leaves_38 : decode cX4_leaves 38 = .ok (.getfield 13, 3) := dk_180 0 13 (dk_at dksX4_leaves_1 14 rfl rfl)
theorem dX4_leaves_41 : decode cX4_leaves 41 = .ok (.bipush 14, 2) := dk_16 14 (dk_at dksX4_leaves_1 17 rfl rfl)
theorem dX4_leaves_43 : decode cX4_leaves 43 = .ok (.iload_n 1, 1) := dk_27 (dk_at dksX4_leaves_1 19 rfl rfl)
theorem dX4_leaves_44 : decode cX4_leaves 44 = .ok (.iadd, 1) := dk_96 (dk_at dksX4_leaves_1 20 rfl rfl)
theorem dX4_leaves_45 : decode cX4_leaves 45 = .ok (.iaload, 1) := dk_46 (dk_at dksX4_leaves_1 21 rfl rfl)
theorem dX4_leaves_46 : decode cX4_leaves 46 = .ok (.iconst 1, 1) := dk_4 (dk_at dksX4_leaves_1 22 rfl rfl)
theorem dX4_leaves_47 : decode cX4_leaves 47 = .ok (.iadd, 1) := dk_96 (dk_at dksX4_leaves_1 23 rfl rfl)
theorem dX4_leaves_48 : decode cX4_leaves 48 = .ok (.aload_n 0, 1) := dk_42 (dk_at dksX4_leaves_2 0 rfl rfl)
theorem dX4_leaves_49 : decode cX4_leaves 49 = .ok (.getfield 13, 3) := dk_180 0 13 (dk_at dksX4_leaves_2 1 rfl rfl)
theorem dX4_leaves_52 : decode cX4_leaves 52 = .ok (.bipush 8, 2) := dk_16 8 (dk_at dksX4_leaves_2 4 rfl rfl)
theorem dX4_leaves_54 : decode cX4_leaves 54 = .ok (.iaload, 1) := dk_46 (dk_at dksX4_leaves_2 6 rfl rfl)
theorem dX4_leaves_55 : decode cX4_leaves 55 = .ok (.if_icmp .lt 7, 3) := dk_161 0 7 (dk_at dksX4_leaves_2 7 rfl rfl)
theorem dX4_leaves_58 : decode cX4_leaves 58 = .ok (.iconst 1, 1) := dk_4 (dk_at dksX4_leaves_2 10 rfl rfl)
theorem dX4_leaves_59 : decode cX4_leaves 59 = .ok (.goto 4, 3) := dk_167 0 4 (dk_at dksX4_leaves_2 11 rfl rfl)
theorem dX4_leaves_62 : decode cX4_leaves 62 = .ok (.iconst 0, 1) := dk_3 (dk_at dksX4_leaves_2 14 rfl rfl)
theorem dX4_leaves_63 : decode cX4_leaves 63 = .ok (.ireturn, 1) := dk_172 (dk_at dksX4_leaves_2 15 rfl rfl)
abbrev cX4_runScript : ByteArray := prog_11_method_59_code
def yX4_runScript : MethodName := ⟨RX4, "runScript", "(IJ)I"⟩
def dkwX4_runScript_6 : List UInt8 := [132, 6, 1, 167, 255, 200, 2, 172]
abbrev dktX4_runScript_6 : List UInt8 := dkwX4_runScript_6 ++ []
def dkwX4_runScript_5 : List UInt8 := [21, 7, 16, 10, 108, 16, 10, 112, 21, 7, 16, 10, 112, 182, 0, 206, 154, 0, 6, 21, 6, 172]
abbrev dktX4_runScript_5 : List UInt8 := dkwX4_runScript_5 ++ dktX4_runScript_6
def dkwX4_runScript_4 : List UInt8 := [20, 0, 204, 109, 55, 4, 32, 22, 4, 109, 20, 0, 204, 113, 136, 54, 7, 42, 21, 7, 16, 100, 108]
abbrev dktX4_runScript_4 : List UInt8 := dkwX4_runScript_4 ++ dktX4_runScript_5
def dkwX4_runScript_3 : List UInt8 := [180, 0, 13, 3, 42, 180, 0, 16, 3, 184, 0, 123, 3, 54, 6, 21, 6, 27, 162, 0, 56, 22, 4]
abbrev dktX4_runScript_3 : List UInt8 := dkwX4_runScript_3 ++ dktX4_runScript_4
def dkwX4_runScript_2 : List UInt8 := [22, 4, 10, 101, 184, 0, 45, 153, 0, 7, 3, 167, 0, 4, 4, 182, 0, 161, 153, 0, 5, 3, 172, 42]
abbrev dktX4_runScript_2 : List UInt8 := dkwX4_runScript_2 ++ dktX4_runScript_3
def dkwX4_runScript_1 : List UInt8 := [55, 4, 132, 6, 1, 167, 255, 233, 42, 27, 133, 10, 20, 0, 146, 184, 0, 45, 153, 0, 19, 32, 9]
abbrev dktX4_runScript_1 : List UInt8 := dkwX4_runScript_1 ++ dktX4_runScript_2
def dkwX4_runScript_0 : List UInt8 := [10, 55, 4, 3, 54, 6, 21, 6, 27, 162, 0, 23, 21, 6, 6, 162, 0, 17, 22, 4, 20, 0, 204, 105]
abbrev dktX4_runScript_0 : List UInt8 := dkwX4_runScript_0 ++ dktX4_runScript_1
theorem dksX4_runScript_0 : cX4_runScript.data.toList.drop 0 = dktX4_runScript_0 := by decide +kernel
theorem dksX4_runScript_1 : cX4_runScript.data.toList.drop 24 = dktX4_runScript_1 := dk_seg dksX4_runScript_0 24 rfl rfl
theorem dksX4_runScript_2 : cX4_runScript.data.toList.drop 47 = dktX4_runScript_2 := dk_seg dksX4_runScript_1 23 rfl rfl
theorem dksX4_runScript_3 : cX4_runScript.data.toList.drop 71 = dktX4_runScript_3 := dk_seg dksX4_runScript_2 24 rfl rfl
theorem dksX4_runScript_4 : cX4_runScript.data.toList.drop 94 = dktX4_runScript_4 := dk_seg dksX4_runScript_3 23 rfl rfl
theorem dksX4_runScript_5 : cX4_runScript.data.toList.drop 117 = dktX4_runScript_5 := dk_seg dksX4_runScript_4 23 rfl rfl
theorem dksX4_runScript_6 : cX4_runScript.data.toList.drop 139 = dktX4_runScript_6 := dk_seg dksX4_runScript_5 22 rfl rfl
theorem dX4_runScript_0 : decode cX4_runScript 0 = .ok (.lconst 1, 1) := dk_10 (dk_at dksX4_runScript_0 0 rfl rfl)
theorem dX4_runScript_1 : decode cX4_runScript 1 = .ok (.lstore 4, 2) := dk_55 4 (dk_at dksX4_runScript_0 1 rfl rfl)
theorem dX4_runScript_3 : decode cX4_runScript 3 = .ok (.iconst 0, 1) := dk_3 (dk_at dksX4_runScript_0 3 rfl rfl)
theorem dX4_runScript_4 : decode cX4_runScript 4 = .ok (.istore 6, 2) := dk_54 6 (dk_at dksX4_runScript_0 4 rfl rfl)
theorem dX4_runScript_6 : decode cX4_runScript 6 = .ok (.iload 6, 2) := dk_21 6 (dk_at dksX4_runScript_0 6 rfl rfl)
theorem dX4_runScript_8 : decode cX4_runScript 8 = .ok (.iload_n 1, 1) := dk_27 (dk_at dksX4_runScript_0 8 rfl rfl)
theorem dX4_runScript_9 : decode cX4_runScript 9 = .ok (.if_icmp .ge 23, 3) := dk_162 0 23 (dk_at dksX4_runScript_0 9 rfl rfl)
theorem dX4_runScript_12 : decode cX4_runScript 12 = .ok (.iload 6, 2) := dk_21 6 (dk_at dksX4_runScript_0 12 rfl rfl)
theorem dX4_runScript_14 : decode cX4_runScript 14 = .ok (.iconst 3, 1) := dk_6 (dk_at dksX4_runScript_0 14 rfl rfl)
theorem dX4_runScript_15 : decode cX4_runScript 15 = .ok (.if_icmp .ge 17, 3) := dk_162 0 17 (dk_at dksX4_runScript_0 15 rfl rfl)
theorem dX4_runScript_18 : decode cX4_runScript 18 = .ok (.lload 4, 2) := dk_22 4 (dk_at dksX4_runScript_0 18 rfl rfl)
theorem dX4_runScript_20 : decode cX4_runScript 20 = .ok (.ldc2_w 204, 3) := dk_20 0 204 (dk_at dksX4_runScript_0 20 rfl rfl)
theorem dX4_runScript_23 : decode cX4_runScript 23 = .ok (.lmul, 1) := dk_105 (dk_at dksX4_runScript_0 23 rfl rfl)
theorem dX4_runScript_24 : decode cX4_runScript 24 = .ok (.lstore 4, 2) := dk_55 4 (dk_at dksX4_runScript_1 0 rfl rfl)
theorem dX4_runScript_26 : decode cX4_runScript 26 = .ok (.iinc 6 1, 3) := dk_132 6 1 (dk_at dksX4_runScript_1 2 rfl rfl)
theorem dX4_runScript_29 : decode cX4_runScript 29 = .ok (.goto (-23), 3) := dk_167 255 233 (dk_at dksX4_runScript_1 5 rfl rfl)
theorem dX4_runScript_32 : decode cX4_runScript 32 = .ok (.aload_n 0, 1) := dk_42 (dk_at dksX4_runScript_1 8 rfl rfl)
theorem dX4_runScript_33 : decode cX4_runScript 33 = .ok (.iload_n 1, 1) := dk_27 (dk_at dksX4_runScript_1 9 rfl rfl)
theorem dX4_runScript_34 : decode cX4_runScript 34 = .ok (.i2l, 1) := dk_133 (dk_at dksX4_runScript_1 10 rfl rfl)
theorem dX4_runScript_35 : decode cX4_runScript 35 = .ok (.lconst 1, 1) := dk_10 (dk_at dksX4_runScript_1 11 rfl rfl)
theorem dX4_runScript_36 : decode cX4_runScript 36 = .ok (.ldc2_w 146, 3) := dk_20 0 146 (dk_at dksX4_runScript_1 12 rfl rfl)
theorem dX4_runScript_39 : decode cX4_runScript 39 = .ok (.invokestatic 45, 3) := dk_184 0 45 (dk_at dksX4_runScript_1 15 rfl rfl)
theorem dX4_runScript_42 : decode cX4_runScript 42 = .ok (.ifCond .eq 19, 3) := dk_153 0 19 (dk_at dksX4_runScript_1 18 rfl rfl)
theorem dX4_runScript_45 : decode cX4_runScript 45 = .ok (.lload_n 2, 1) := dk_32 (dk_at dksX4_runScript_1 21 rfl rfl)
theorem dX4_runScript_46 : decode cX4_runScript 46 = .ok (.lconst 0, 1) := dk_9 (dk_at dksX4_runScript_1 22 rfl rfl)
theorem dX4_runScript_47 : decode cX4_runScript 47 = .ok (.lload 4, 2) := dk_22 4 (dk_at dksX4_runScript_2 0 rfl rfl)
theorem dX4_runScript_49 : decode cX4_runScript 49 = .ok (.lconst 1, 1) := dk_10 (dk_at dksX4_runScript_2 2 rfl rfl)
theorem dX4_runScript_50 : decode cX4_runScript 50 = .ok (.lsub, 1) := dk_101 (dk_at dksX4_runScript_2 3 rfl rfl)
theorem dX4_runScript_51 : decode cX4_runScript 51 = .ok (.invokestatic 45, 3) := dk_184 0 45 (dk_at dksX4_runScript_2 4 rfl rfl)
theorem dX4_runScript_54 : decode cX4_runScript 54 = .ok (.ifCond .eq 7, 3) := dk_153 0 7 (dk_at dksX4_runScript_2 7 rfl rfl)
theorem dX4_runScript_57 : decode cX4_runScript 57 = .ok (.iconst 0, 1) := dk_3 (dk_at dksX4_runScript_2 10 rfl rfl)
theorem dX4_runScript_58 : decode cX4_runScript 58 = .ok (.goto 4, 3) := dk_167 0 4 (dk_at dksX4_runScript_2 11 rfl rfl)
theorem dX4_runScript_61 : decode cX4_runScript 61 = .ok (.iconst 1, 1) := dk_4 (dk_at dksX4_runScript_2 14 rfl rfl)
theorem dX4_runScript_62 : decode cX4_runScript 62 = .ok (.invokevirtual 161, 3) := dk_182 0 161 (dk_at dksX4_runScript_2 15 rfl rfl)
theorem dX4_runScript_65 : decode cX4_runScript 65 = .ok (.ifCond .eq 5, 3) := dk_153 0 5 (dk_at dksX4_runScript_2 18 rfl rfl)
theorem dX4_runScript_68 : decode cX4_runScript 68 = .ok (.iconst 0, 1) := dk_3 (dk_at dksX4_runScript_2 21 rfl rfl)
theorem dX4_runScript_69 : decode cX4_runScript 69 = .ok (.ireturn, 1) := dk_172 (dk_at dksX4_runScript_2 22 rfl rfl)
theorem dX4_runScript_70 : decode cX4_runScript 70 = .ok (.aload_n 0, 1) := dk_42 (dk_at dksX4_runScript_2 23 rfl rfl)
theorem dX4_runScript_71 : decode cX4_runScript 71 = .ok (.getfield 13, 3) := dk_180 0 13 (dk_at dksX4_runScript_3 0 rfl rfl)
theorem dX4_runScript_74 : decode cX4_runScript 74 = .ok (.iconst 0, 1) := dk_3 (dk_at dksX4_runScript_3 3 rfl rfl)
theorem dX4_runScript_75 : decode cX4_runScript 75 = .ok (.aload_n 0, 1) := dk_42 (dk_at dksX4_runScript_3 4 rfl rfl)
theorem dX4_runScript_76 : decode cX4_runScript 76 = .ok (.getfield 16, 3) := dk_180 0 16 (dk_at dksX4_runScript_3 5 rfl rfl)
theorem dX4_runScript_79 : decode cX4_runScript 79 = .ok (.iconst 0, 1) := dk_3 (dk_at dksX4_runScript_3 8 rfl rfl)
theorem dX4_runScript_80 : decode cX4_runScript 80 = .ok (.invokestatic 123, 3) := dk_184 0 123 (dk_at dksX4_runScript_3 9 rfl rfl)
theorem dX4_runScript_83 : decode cX4_runScript 83 = .ok (.iconst 0, 1) := dk_3 (dk_at dksX4_runScript_3 12 rfl rfl)
theorem dX4_runScript_84 : decode cX4_runScript 84 = .ok (.istore 6, 2) := dk_54 6 (dk_at dksX4_runScript_3 13 rfl rfl)
theorem dX4_runScript_86 : decode cX4_runScript 86 = .ok (.iload 6, 2) := dk_21 6 (dk_at dksX4_runScript_3 15 rfl rfl)
theorem dX4_runScript_88 : decode cX4_runScript 88 = .ok (.iload_n 1, 1) := dk_27 (dk_at dksX4_runScript_3 17 rfl rfl)
theorem dX4_runScript_89 : decode cX4_runScript 89 = .ok (.if_icmp .ge 56, 3) := dk_162 0 56 (dk_at dksX4_runScript_3 18 rfl rfl)
theorem dX4_runScript_92 : decode cX4_runScript 92 = .ok (.lload 4, 2) := dk_22 4 (dk_at dksX4_runScript_3 21 rfl rfl)
theorem dX4_runScript_94 : decode cX4_runScript 94 = .ok (.ldc2_w 204, 3) := dk_20 0 204 (dk_at dksX4_runScript_4 0 rfl rfl)
theorem dX4_runScript_97 : decode cX4_runScript 97 = .ok (.ldiv, 1) := dk_109 (dk_at dksX4_runScript_4 3 rfl rfl)
theorem dX4_runScript_98 : decode cX4_runScript 98 = .ok (.lstore 4, 2) := dk_55 4 (dk_at dksX4_runScript_4 4 rfl rfl)
theorem dX4_runScript_100 : decode cX4_runScript 100 = .ok (.lload_n 2, 1) := dk_32 (dk_at dksX4_runScript_4 6 rfl rfl)
theorem dX4_runScript_101 : decode cX4_runScript 101 = .ok (.lload 4, 2) := dk_22 4 (dk_at dksX4_runScript_4 7 rfl rfl)
theorem dX4_runScript_103 : decode cX4_runScript 103 = .ok (.ldiv, 1) := dk_109 (dk_at dksX4_runScript_4 9 rfl rfl)
theorem dX4_runScript_104 : decode cX4_runScript 104 = .ok (.ldc2_w 204, 3) := dk_20 0 204 (dk_at dksX4_runScript_4 10 rfl rfl)
theorem dX4_runScript_107 : decode cX4_runScript 107 = .ok (.lrem, 1) := dk_113 (dk_at dksX4_runScript_4 13 rfl rfl)
theorem dX4_runScript_108 : decode cX4_runScript 108 = .ok (.l2i, 1) := dk_136 (dk_at dksX4_runScript_4 14 rfl rfl)
theorem dX4_runScript_109 : decode cX4_runScript 109 = .ok (.istore 7, 2) := dk_54 7 (dk_at dksX4_runScript_4 15 rfl rfl)
theorem dX4_runScript_111 : decode cX4_runScript 111 = .ok (.aload_n 0, 1) := dk_42 (dk_at dksX4_runScript_4 17 rfl rfl)
theorem dX4_runScript_112 : decode cX4_runScript 112 = .ok (.iload 7, 2) := dk_21 7 (dk_at dksX4_runScript_4 18 rfl rfl)
theorem dX4_runScript_114 : decode cX4_runScript 114 = .ok (.bipush 100, 2) := dk_16 100 (dk_at dksX4_runScript_4 20 rfl rfl)
theorem dX4_runScript_116 : decode cX4_runScript 116 = .ok (.idiv, 1) := dk_108 (dk_at dksX4_runScript_4 22 rfl rfl)
theorem dX4_runScript_117 : decode cX4_runScript 117 = .ok (.iload 7, 2) := dk_21 7 (dk_at dksX4_runScript_5 0 rfl rfl)
theorem dX4_runScript_119 : decode cX4_runScript 119 = .ok (.bipush 10, 2) := dk_16 10 (dk_at dksX4_runScript_5 2 rfl rfl)
theorem dX4_runScript_121 : decode cX4_runScript 121 = .ok (.idiv, 1) := dk_108 (dk_at dksX4_runScript_5 4 rfl rfl)
theorem dX4_runScript_122 : decode cX4_runScript 122 = .ok (.bipush 10, 2) := dk_16 10 (dk_at dksX4_runScript_5 5 rfl rfl)
theorem dX4_runScript_124 : decode cX4_runScript 124 = .ok (.irem, 1) := dk_112 (dk_at dksX4_runScript_5 7 rfl rfl)
theorem dX4_runScript_125 : decode cX4_runScript 125 = .ok (.iload 7, 2) := dk_21 7 (dk_at dksX4_runScript_5 8 rfl rfl)
theorem dX4_runScript_127 : decode cX4_runScript 127 = .ok (.bipush 10, 2) := dk_16 10 (dk_at dksX4_runScript_5 10 rfl rfl)
theorem dX4_runScript_129 : decode cX4_runScript 129 = .ok (.irem, 1) := dk_112 (dk_at dksX4_runScript_5 12 rfl rfl)
theorem dX4_runScript_130 : decode cX4_runScript 130 = .ok (.invokevirtual 206, 3) := dk_182 0 206 (dk_at dksX4_runScript_5 13 rfl rfl)
theorem dX4_runScript_133 : decode cX4_runScript 133 = .ok (.ifCond .ne 6, 3) := dk_154 0 6 (dk_at dksX4_runScript_5 16 rfl rfl)
theorem dX4_runScript_136 : decode cX4_runScript 136 = .ok (.iload 6, 2) := dk_21 6 (dk_at dksX4_runScript_5 19 rfl rfl)
theorem dX4_runScript_138 : decode cX4_runScript 138 = .ok (.ireturn, 1) := dk_172 (dk_at dksX4_runScript_5 21 rfl rfl)
theorem dX4_runScript_139 : decode cX4_runScript 139 = .ok (.iinc 6 1, 3) := dk_132 6 1 (dk_at dksX4_runScript_6 0 rfl rfl)
theorem dX4_runScript_142 : decode cX4_runScript 142 = .ok (.goto (-56), 3) := dk_167 255 200 (dk_at dksX4_runScript_6 3 rfl rfl)
theorem dX4_runScript_145 : decode cX4_runScript 145 = .ok (.iconst (-1), 1) := dk_2 (dk_at dksX4_runScript_6 6 rfl rfl)
theorem dX4_runScript_146 : decode cX4_runScript 146 = .ok (.ireturn, 1) := dk_172 (dk_at dksX4_runScript_6 7 rfl rfl)
abbrev cX4_command : ByteArray := prog_11_method_58_code
def yX4_command : MethodName := ⟨RX4, "command", "(III)Z"⟩
def dkwX4_command_15 : List UInt8 := [172, 3, 172]
abbrev dktX4_command_15 : List UInt8 := dkwX4_command_15 ++ []
def dkwX4_command_14 : List UInt8 := [154, 0, 23, 29, 6, 162, 0, 18, 42, 180, 0, 16, 29, 184, 0, 63, 153, 0, 7, 4, 167, 0, 4, 3]
abbrev dktX4_command_14 : List UInt8 := dkwX4_command_14 ++ dktX4_command_15
def dkwX4_command_13 : List UInt8 := [180, 0, 16, 28, 29, 184, 0, 70, 153, 0, 7, 4, 167, 0, 4, 3, 172, 21, 5, 153, 0, 27, 28]
abbrev dktX4_command_13 : List UInt8 := dkwX4_command_13 ++ dktX4_command_14
def dkwX4_command_12 : List UInt8 := [153, 0, 7, 4, 167, 0, 4, 3, 172, 21, 5, 153, 0, 26, 28, 184, 0, 172, 153, 0, 19, 42]
abbrev dktX4_command_12 : List UInt8 := dkwX4_command_12 ++ dktX4_command_13
def dkwX4_command_11 : List UInt8 := [21, 5, 153, 0, 27, 21, 4, 184, 0, 164, 153, 0, 19, 42, 180, 0, 16, 21, 4, 184, 0, 59]
abbrev dktX4_command_11 : List UInt8 := dkwX4_command_11 ++ dktX4_command_12
def dkwX4_command_10 : List UInt8 := [153, 0, 22, 42, 180, 0, 16, 28, 184, 0, 51, 3, 96, 46, 29, 161, 0, 7, 4, 167, 0, 4, 3, 172]
abbrev dktX4_command_10 : List UInt8 := dkwX4_command_10 ++ dktX4_command_11
def dkwX4_command_9 : List UInt8 := [184, 0, 200, 154, 0, 5, 3, 172, 42, 180, 0, 16, 16, 7, 29, 79, 4, 172, 28, 184, 0, 172]
abbrev dktX4_command_9 : List UInt8 := dkwX4_command_9 ++ dktX4_command_10
def dkwX4_command_8 : List UInt8 := [42, 42, 180, 0, 16, 182, 0, 197, 2, 161, 0, 7, 4, 167, 0, 4, 3, 172, 28, 157, 0, 11, 3, 29]
abbrev dktX4_command_8 : List UInt8 := dkwX4_command_8 ++ dktX4_command_9
def dkwX4_command_7 : List UInt8 := [161, 0, 7, 4, 167, 0, 4, 3, 172, 21, 4, 154, 0, 29, 42, 180, 0, 16, 184, 0, 106, 153, 0, 19]
abbrev dktX4_command_7 : List UInt8 := dkwX4_command_7 ++ dktX4_command_8
def dkwX4_command_6 : List UInt8 := [21, 4, 154, 0, 28, 42, 180, 0, 16, 184, 0, 106, 153, 0, 18, 42, 180, 0, 16, 184, 0, 134, 2]
abbrev dktX4_command_6 : List UInt8 := dkwX4_command_6 ++ dktX4_command_7
def dkwX4_command_5 : List UInt8 := [184, 0, 120, 153, 0, 19, 42, 180, 0, 16, 21, 4, 184, 0, 143, 158, 0, 7, 4, 167, 0, 4, 3, 172]
abbrev dktX4_command_5 : List UInt8 := dkwX4_command_5 ++ dktX4_command_6
def dkwX4_command_4 : List UInt8 := [155, 0, 7, 4, 167, 0, 4, 3, 172, 21, 4, 184, 0, 164, 153, 0, 31, 42, 180, 0, 16, 21, 4]
abbrev dktX4_command_4 : List UInt8 := dkwX4_command_4 ++ dktX4_command_5
def dkwX4_command_3 : List UInt8 := [21, 4, 154, 0, 29, 42, 42, 180, 0, 16, 182, 0, 194, 153, 0, 18, 42, 42, 180, 0, 16, 182, 0, 137]
abbrev dktX4_command_3 : List UInt8 := dkwX4_command_3 ++ dktX4_command_4
def dkwX4_command_2 : List UInt8 := [170, 0, 0, 0, 1, 74, 0, 0, 0, 1, 0, 0, 0, 9, 0, 0, 0, 50, 0, 0, 0, 83, 0, 0, 0, 121, 0, 0, 0, 153, 0, 0, 0, 186, 0, 0, 0, 210, 0, 0, 0, 238, 0, 0, 1, 13, 0, 0, 1, 43]
abbrev dktX4_command_2 : List UInt8 := dkwX4_command_2 ++ dktX4_command_3
def dkwX4_command_1 : List UInt8 := [54, 5, 27]
abbrev dktX4_command_1 : List UInt8 := dkwX4_command_1 ++ dktX4_command_2
def dkwX4_command_0 : List UInt8 := [16, 10, 28, 104, 29, 96, 54, 4, 42, 180, 0, 16, 3, 46, 4, 160, 0, 7, 4, 167, 0, 4, 3]
abbrev dktX4_command_0 : List UInt8 := dkwX4_command_0 ++ dktX4_command_1
theorem dksX4_command_0 : cX4_command.data.toList.drop 0 = dktX4_command_0 := by decide +kernel
theorem dksX4_command_1 : cX4_command.data.toList.drop 23 = dktX4_command_1 := dk_seg dksX4_command_0 23 rfl rfl
theorem dksX4_command_2 : cX4_command.data.toList.drop 26 = dktX4_command_2 := dk_seg dksX4_command_1 3 rfl rfl
theorem dksX4_command_3 : cX4_command.data.toList.drop 76 = dktX4_command_3 := dk_seg dksX4_command_2 50 rfl rfl
theorem dksX4_command_4 : cX4_command.data.toList.drop 100 = dktX4_command_4 := dk_seg dksX4_command_3 24 rfl rfl
theorem dksX4_command_5 : cX4_command.data.toList.drop 123 = dktX4_command_5 := dk_seg dksX4_command_4 23 rfl rfl
theorem dksX4_command_6 : cX4_command.data.toList.drop 147 = dktX4_command_6 := dk_seg dksX4_command_5 24 rfl rfl
theorem dksX4_command_7 : cX4_command.data.toList.drop 170 = dktX4_command_7 := dk_seg dksX4_command_6 23 rfl rfl
theorem dksX4_command_8 : cX4_command.data.toList.drop 194 = dktX4_command_8 := dk_seg dksX4_command_7 24 rfl rfl
theorem dksX4_command_9 : cX4_command.data.toList.drop 218 = dktX4_command_9 := dk_seg dksX4_command_8 24 rfl rfl
theorem dksX4_command_10 : cX4_command.data.toList.drop 240 = dktX4_command_10 := dk_seg dksX4_command_9 22 rfl rfl
theorem dksX4_command_11 : cX4_command.data.toList.drop 264 = dktX4_command_11 := dk_seg dksX4_command_10 24 rfl rfl
theorem dksX4_command_12 : cX4_command.data.toList.drop 286 = dktX4_command_12 := dk_seg dksX4_command_11 22 rfl rfl
theorem dksX4_command_13 : cX4_command.data.toList.drop 308 = dktX4_command_13 := dk_seg dksX4_command_12 22 rfl rfl
theorem dksX4_command_14 : cX4_command.data.toList.drop 331 = dktX4_command_14 := dk_seg dksX4_command_13 23 rfl rfl
theorem dksX4_command_15 : cX4_command.data.toList.drop 355 = dktX4_command_15 := dk_seg dksX4_command_14 24 rfl rfl
theorem dX4_command_0 : decode cX4_command 0 = .ok (.bipush 10, 2) := dk_16 10 (dk_at dksX4_command_0 0 rfl rfl)
theorem dX4_command_2 : decode cX4_command 2 = .ok (.iload_n 2, 1) := dk_28 (dk_at dksX4_command_0 2 rfl rfl)
theorem dX4_command_3 : decode cX4_command 3 = .ok (.imul, 1) := dk_104 (dk_at dksX4_command_0 3 rfl rfl)
theorem dX4_command_4 : decode cX4_command 4 = .ok (.iload_n 3, 1) := dk_29 (dk_at dksX4_command_0 4 rfl rfl)
theorem dX4_command_5 : decode cX4_command 5 = .ok (.iadd, 1) := dk_96 (dk_at dksX4_command_0 5 rfl rfl)
theorem dX4_command_6 : decode cX4_command 6 = .ok (.istore 4, 2) := dk_54 4 (dk_at dksX4_command_0 6 rfl rfl)
theorem dX4_command_8 : decode cX4_command 8 = .ok (.aload_n 0, 1) := dk_42 (dk_at dksX4_command_0 8 rfl rfl)
theorem dX4_command_9 : decode cX4_command 9 = .ok (.getfield 16, 3) := dk_180 0 16 (dk_at dksX4_command_0 9 rfl rfl)
theorem dX4_command_12 : decode cX4_command 12 = .ok (.iconst 0, 1) := dk_3 (dk_at dksX4_command_0 12 rfl rfl)
theorem dX4_command_13 : decode cX4_command 13 = .ok (.iaload, 1) := dk_46 (dk_at dksX4_command_0 13 rfl rfl)
theorem dX4_command_14 : decode cX4_command 14 = .ok (.iconst 1, 1) := dk_4 (dk_at dksX4_command_0 14 rfl rfl)
theorem dX4_command_15 : decode cX4_command 15 = .ok (.if_icmp .ne 7, 3) := dk_160 0 7 (dk_at dksX4_command_0 15 rfl rfl)
theorem dX4_command_18 : decode cX4_command 18 = .ok (.iconst 1, 1) := dk_4 (dk_at dksX4_command_0 18 rfl rfl)
theorem dX4_command_19 : decode cX4_command 19 = .ok (.goto 4, 3) := dk_167 0 4 (dk_at dksX4_command_0 19 rfl rfl)
theorem dX4_command_22 : decode cX4_command 22 = .ok (.iconst 0, 1) := dk_3 (dk_at dksX4_command_0 22 rfl rfl)
theorem dX4_command_23 : decode cX4_command 23 = .ok (.istore 5, 2) := dk_54 5 (dk_at dksX4_command_1 0 rfl rfl)
theorem dX4_command_25 : decode cX4_command 25 = .ok (.iload_n 1, 1) := dk_27 (dk_at dksX4_command_1 2 rfl rfl)
theorem dX4_command_26 : decode cX4_command 26 = .ok (.tableswitch 330 1 9 #[50, 83, 121, 153, 186, 210, 238, 269, 299], 50) := by decide +kernel
theorem dX4_command_76 : decode cX4_command 76 = .ok (.iload 4, 2) := dk_21 4 (dk_at dksX4_command_3 0 rfl rfl)
theorem dX4_command_78 : decode cX4_command 78 = .ok (.ifCond .ne 29, 3) := dk_154 0 29 (dk_at dksX4_command_3 2 rfl rfl)
theorem dX4_command_81 : decode cX4_command 81 = .ok (.aload_n 0, 1) := dk_42 (dk_at dksX4_command_3 5 rfl rfl)
theorem dX4_command_82 : decode cX4_command 82 = .ok (.aload_n 0, 1) := dk_42 (dk_at dksX4_command_3 6 rfl rfl)
theorem dX4_command_83 : decode cX4_command 83 = .ok (.getfield 16, 3) := dk_180 0 16 (dk_at dksX4_command_3 7 rfl rfl)
theorem dX4_command_86 : decode cX4_command 86 = .ok (.invokevirtual 194, 3) := dk_182 0 194 (dk_at dksX4_command_3 10 rfl rfl)
theorem dX4_command_89 : decode cX4_command 89 = .ok (.ifCond .eq 18, 3) := dk_153 0 18 (dk_at dksX4_command_3 13 rfl rfl)
theorem dX4_command_92 : decode cX4_command 92 = .ok (.aload_n 0, 1) := dk_42 (dk_at dksX4_command_3 16 rfl rfl)
theorem dX4_command_93 : decode cX4_command 93 = .ok (.aload_n 0, 1) := dk_42 (dk_at dksX4_command_3 17 rfl rfl)
theorem dX4_command_94 : decode cX4_command 94 = .ok (.getfield 16, 3) := dk_180 0 16 (dk_at dksX4_command_3 18 rfl rfl)
theorem dX4_command_97 : decode cX4_command 97 = .ok (.invokevirtual 137, 3) := dk_182 0 137 (dk_at dksX4_command_3 21 rfl rfl)
theorem dX4_command_100 : decode cX4_command 100 = .ok (.ifCond .lt 7, 3) := dk_155 0 7 (dk_at dksX4_command_4 0 rfl rfl)
theorem dX4_command_103 : decode cX4_command 103 = .ok (.iconst 1, 1) := dk_4 (dk_at dksX4_command_4 3 rfl rfl)
theorem dX4_command_104 : decode cX4_command 104 = .ok (.goto 4, 3) := dk_167 0 4 (dk_at dksX4_command_4 4 rfl rfl)
theorem dX4_command_107 : decode cX4_command 107 = .ok (.iconst 0, 1) := dk_3 (dk_at dksX4_command_4 7 rfl rfl)
theorem dX4_command_108 : decode cX4_command 108 = .ok (.ireturn, 1) := dk_172 (dk_at dksX4_command_4 8 rfl rfl)
theorem dX4_command_109 : decode cX4_command 109 = .ok (.iload 4, 2) := dk_21 4 (dk_at dksX4_command_4 9 rfl rfl)
theorem dX4_command_111 : decode cX4_command 111 = .ok (.invokestatic 164, 3) := dk_184 0 164 (dk_at dksX4_command_4 11 rfl rfl)
theorem dX4_command_114 : decode cX4_command 114 = .ok (.ifCond .eq 31, 3) := dk_153 0 31 (dk_at dksX4_command_4 14 rfl rfl)
theorem dX4_command_117 : decode cX4_command 117 = .ok (.aload_n 0, 1) := dk_42 (dk_at dksX4_command_4 17 rfl rfl)
theorem dX4_command_118 : decode cX4_command 118 = .ok (.getfield 16, 3) := dk_180 0 16 (dk_at dksX4_command_4 18 rfl rfl)
theorem dX4_command_121 : decode cX4_command 121 = .ok (.iload 4, 2) := dk_21 4 (dk_at dksX4_command_4 21 rfl rfl)
theorem dX4_command_123 : decode cX4_command 123 = .ok (.invokestatic 120, 3) := dk_184 0 120 (dk_at dksX4_command_5 0 rfl rfl)
theorem dX4_command_126 : decode cX4_command 126 = .ok (.ifCond .eq 19, 3) := dk_153 0 19 (dk_at dksX4_command_5 3 rfl rfl)
theorem dX4_command_129 : decode cX4_command 129 = .ok (.aload_n 0, 1) := dk_42 (dk_at dksX4_command_5 6 rfl rfl)
theorem dX4_command_130 : decode cX4_command 130 = .ok (.getfield 16, 3) := dk_180 0 16 (dk_at dksX4_command_5 7 rfl rfl)
theorem dX4_command_133 : decode cX4_command 133 = .ok (.iload 4, 2) := dk_21 4 (dk_at dksX4_command_5 10 rfl rfl)
theorem dX4_command_135 : decode cX4_command 135 = .ok (.invokestatic 143, 3) := dk_184 0 143 (dk_at dksX4_command_5 12 rfl rfl)
theorem dX4_command_138 : decode cX4_command 138 = .ok (.ifCond .le 7, 3) := dk_158 0 7 (dk_at dksX4_command_5 15 rfl rfl)
theorem dX4_command_141 : decode cX4_command 141 = .ok (.iconst 1, 1) := dk_4 (dk_at dksX4_command_5 18 rfl rfl)
theorem dX4_command_142 : decode cX4_command 142 = .ok (.goto 4, 3) := dk_167 0 4 (dk_at dksX4_command_5 19 rfl rfl)
theorem dX4_command_145 : decode cX4_command 145 = .ok (.iconst 0, 1) := dk_3 (dk_at dksX4_command_5 22 rfl rfl)
theorem dX4_command_146 : decode cX4_command 146 = .ok (.ireturn, 1) := dk_172 (dk_at dksX4_command_5 23 rfl rfl)
theorem dX4_command_147 : decode cX4_command 147 = .ok (.iload 4, 2) := dk_21 4 (dk_at dksX4_command_6 0 rfl rfl)
theorem dX4_command_149 : decode cX4_command 149 = .ok (.ifCond .ne 28, 3) := dk_154 0 28 (dk_at dksX4_command_6 2 rfl rfl)
theorem dX4_command_152 : decode cX4_command 152 = .ok (.aload_n 0, 1) := dk_42 (dk_at dksX4_command_6 5 rfl rfl)
theorem dX4_command_153 : decode cX4_command 153 = .ok (.getfield 16, 3) := dk_180 0 16 (dk_at dksX4_command_6 6 rfl rfl)
theorem dX4_command_156 : decode cX4_command 156 = .ok (.invokestatic 106, 3) := dk_184 0 106 (dk_at dksX4_command_6 9 rfl rfl)
theorem dX4_command_159 : decode cX4_command 159 = .ok (.ifCond .eq 18, 3) := dk_153 0 18 (dk_at dksX4_command_6 12 rfl rfl)
theorem dX4_command_162 : decode cX4_command 162 = .ok (.aload_n 0, 1) := dk_42 (dk_at dksX4_command_6 15 rfl rfl)
theorem dX4_command_163 : decode cX4_command 163 = .ok (.getfield 16, 3) := dk_180 0 16 (dk_at dksX4_command_6 16 rfl rfl)
theorem dX4_command_166 : decode cX4_command 166 = .ok (.invokestatic 134, 3) := dk_184 0 134 (dk_at dksX4_command_6 19 rfl rfl)
theorem dX4_command_169 : decode cX4_command 169 = .ok (.iconst (-1), 1) := dk_2 (dk_at dksX4_command_6 22 rfl rfl)
theorem dX4_command_170 : decode cX4_command 170 = .ok (.if_icmp .lt 7, 3) := dk_161 0 7 (dk_at dksX4_command_7 0 rfl rfl)
theorem dX4_command_173 : decode cX4_command 173 = .ok (.iconst 1, 1) := dk_4 (dk_at dksX4_command_7 3 rfl rfl)
theorem dX4_command_174 : decode cX4_command 174 = .ok (.goto 4, 3) := dk_167 0 4 (dk_at dksX4_command_7 4 rfl rfl)
theorem dX4_command_177 : decode cX4_command 177 = .ok (.iconst 0, 1) := dk_3 (dk_at dksX4_command_7 7 rfl rfl)
theorem dX4_command_178 : decode cX4_command 178 = .ok (.ireturn, 1) := dk_172 (dk_at dksX4_command_7 8 rfl rfl)
theorem dX4_command_179 : decode cX4_command 179 = .ok (.iload 4, 2) := dk_21 4 (dk_at dksX4_command_7 9 rfl rfl)
theorem dX4_command_181 : decode cX4_command 181 = .ok (.ifCond .ne 29, 3) := dk_154 0 29 (dk_at dksX4_command_7 11 rfl rfl)
theorem dX4_command_184 : decode cX4_command 184 = .ok (.aload_n 0, 1) := dk_42 (dk_at dksX4_command_7 14 rfl rfl)
theorem dX4_command_185 : decode cX4_command 185 = .ok (.getfield 16, 3) := dk_180 0 16 (dk_at dksX4_command_7 15 rfl rfl)
theorem dX4_command_188 : decode cX4_command 188 = .ok (.invokestatic 106, 3) := dk_184 0 106 (dk_at dksX4_command_7 18 rfl rfl)
theorem dX4_command_191 : decode cX4_command 191 = .ok (.ifCond .eq 19, 3) := dk_153 0 19 (dk_at dksX4_command_7 21 rfl rfl)
theorem dX4_command_194 : decode cX4_command 194 = .ok (.aload_n 0, 1) := dk_42 (dk_at dksX4_command_8 0 rfl rfl)
theorem dX4_command_195 : decode cX4_command 195 = .ok (.aload_n 0, 1) := dk_42 (dk_at dksX4_command_8 1 rfl rfl)
theorem dX4_command_196 : decode cX4_command 196 = .ok (.getfield 16, 3) := dk_180 0 16 (dk_at dksX4_command_8 2 rfl rfl)
theorem dX4_command_199 : decode cX4_command 199 = .ok (.invokevirtual 197, 3) := dk_182 0 197 (dk_at dksX4_command_8 5 rfl rfl)
theorem dX4_command_202 : decode cX4_command 202 = .ok (.iconst (-1), 1) := dk_2 (dk_at dksX4_command_8 8 rfl rfl)
theorem dX4_command_203 : decode cX4_command 203 = .ok (.if_icmp .lt 7, 3) := dk_161 0 7 (dk_at dksX4_command_8 9 rfl rfl)
theorem dX4_command_206 : decode cX4_command 206 = .ok (.iconst 1, 1) := dk_4 (dk_at dksX4_command_8 12 rfl rfl)
theorem dX4_command_207 : decode cX4_command 207 = .ok (.goto 4, 3) := dk_167 0 4 (dk_at dksX4_command_8 13 rfl rfl)
theorem dX4_command_210 : decode cX4_command 210 = .ok (.iconst 0, 1) := dk_3 (dk_at dksX4_command_8 16 rfl rfl)
theorem dX4_command_211 : decode cX4_command 211 = .ok (.ireturn, 1) := dk_172 (dk_at dksX4_command_8 17 rfl rfl)
theorem dX4_command_212 : decode cX4_command 212 = .ok (.iload_n 2, 1) := dk_28 (dk_at dksX4_command_8 18 rfl rfl)
theorem dX4_command_213 : decode cX4_command 213 = .ok (.ifCond .gt 11, 3) := dk_157 0 11 (dk_at dksX4_command_8 19 rfl rfl)
theorem dX4_command_216 : decode cX4_command 216 = .ok (.iconst 0, 1) := dk_3 (dk_at dksX4_command_8 22 rfl rfl)
theorem dX4_command_217 : decode cX4_command 217 = .ok (.iload_n 3, 1) := dk_29 (dk_at dksX4_command_8 23 rfl rfl)
theorem dX4_command_218 : decode cX4_command 218 = .ok (.invokestatic 200, 3) := dk_184 0 200 (dk_at dksX4_command_9 0 rfl rfl)
theorem dX4_command_221 : decode cX4_command 221 = .ok (.ifCond .ne 5, 3) := dk_154 0 5 (dk_at dksX4_command_9 3 rfl rfl)
theorem dX4_command_224 : decode cX4_command 224 = .ok (.iconst 0, 1) := dk_3 (dk_at dksX4_command_9 6 rfl rfl)
theorem dX4_command_225 : decode cX4_command 225 = .ok (.ireturn, 1) := dk_172 (dk_at dksX4_command_9 7 rfl rfl)
theorem dX4_command_226 : decode cX4_command 226 = .ok (.aload_n 0, 1) := dk_42 (dk_at dksX4_command_9 8 rfl rfl)
theorem dX4_command_227 : decode cX4_command 227 = .ok (.getfield 16, 3) := dk_180 0 16 (dk_at dksX4_command_9 9 rfl rfl)
theorem dX4_command_230 : decode cX4_command 230 = .ok (.bipush 7, 2) := dk_16 7 (dk_at dksX4_command_9 12 rfl rfl)
theorem dX4_command_232 : decode cX4_command 232 = .ok (.iload_n 3, 1) := dk_29 (dk_at dksX4_command_9 14 rfl rfl)
theorem dX4_command_233 : decode cX4_command 233 = .ok (.iastore, 1) := dk_79 (dk_at dksX4_command_9 15 rfl rfl)
theorem dX4_command_234 : decode cX4_command 234 = .ok (.iconst 1, 1) := dk_4 (dk_at dksX4_command_9 16 rfl rfl)
theorem dX4_command_235 : decode cX4_command 235 = .ok (.ireturn, 1) := dk_172 (dk_at dksX4_command_9 17 rfl rfl)
theorem dX4_command_236 : decode cX4_command 236 = .ok (.iload_n 2, 1) := dk_28 (dk_at dksX4_command_9 18 rfl rfl)
theorem dX4_command_237 : decode cX4_command 237 = .ok (.invokestatic 172, 3) := dk_184 0 172 (dk_at dksX4_command_9 19 rfl rfl)
theorem dX4_command_240 : decode cX4_command 240 = .ok (.ifCond .eq 22, 3) := dk_153 0 22 (dk_at dksX4_command_10 0 rfl rfl)
theorem dX4_command_243 : decode cX4_command 243 = .ok (.aload_n 0, 1) := dk_42 (dk_at dksX4_command_10 3 rfl rfl)
theorem dX4_command_244 : decode cX4_command 244 = .ok (.getfield 16, 3) := dk_180 0 16 (dk_at dksX4_command_10 4 rfl rfl)
theorem dX4_command_247 : decode cX4_command 247 = .ok (.iload_n 2, 1) := dk_28 (dk_at dksX4_command_10 7 rfl rfl)
theorem dX4_command_248 : decode cX4_command 248 = .ok (.invokestatic 51, 3) := dk_184 0 51 (dk_at dksX4_command_10 8 rfl rfl)
theorem dX4_command_251 : decode cX4_command 251 = .ok (.iconst 0, 1) := dk_3 (dk_at dksX4_command_10 11 rfl rfl)
theorem dX4_command_252 : decode cX4_command 252 = .ok (.iadd, 1) := dk_96 (dk_at dksX4_command_10 12 rfl rfl)
theorem dX4_command_253 : decode cX4_command 253 = .ok (.iaload, 1) := dk_46 (dk_at dksX4_command_10 13 rfl rfl)
theorem dX4_command_254 : decode cX4_command 254 = .ok (.iload_n 3, 1) := dk_29 (dk_at dksX4_command_10 14 rfl rfl)
theorem dX4_command_255 : decode cX4_command 255 = .ok (.if_icmp .lt 7, 3) := dk_161 0 7 (dk_at dksX4_command_10 15 rfl rfl)
theorem dX4_command_258 : decode cX4_command 258 = .ok (.iconst 1, 1) := dk_4 (dk_at dksX4_command_10 18 rfl rfl)
theorem dX4_command_259 : decode cX4_command 259 = .ok (.goto 4, 3) := dk_167 0 4 (dk_at dksX4_command_10 19 rfl rfl)
theorem dX4_command_262 : decode cX4_command 262 = .ok (.iconst 0, 1) := dk_3 (dk_at dksX4_command_10 22 rfl rfl)
theorem dX4_command_263 : decode cX4_command 263 = .ok (.ireturn, 1) := dk_172 (dk_at dksX4_command_10 23 rfl rfl)
theorem dX4_command_264 : decode cX4_command 264 = .ok (.iload 5, 2) := dk_21 5 (dk_at dksX4_command_11 0 rfl rfl)
theorem dX4_command_266 : decode cX4_command 266 = .ok (.ifCond .eq 27, 3) := dk_153 0 27 (dk_at dksX4_command_11 2 rfl rfl)
theorem dX4_command_269 : decode cX4_command 269 = .ok (.iload 4, 2) := dk_21 4 (dk_at dksX4_command_11 5 rfl rfl)
theorem dX4_command_271 : decode cX4_command 271 = .ok (.invokestatic 164, 3) := dk_184 0 164 (dk_at dksX4_command_11 7 rfl rfl)
theorem dX4_command_274 : decode cX4_command 274 = .ok (.ifCond .eq 19, 3) := dk_153 0 19 (dk_at dksX4_command_11 10 rfl rfl)
theorem dX4_command_277 : decode cX4_command 277 = .ok (.aload_n 0, 1) := dk_42 (dk_at dksX4_command_11 13 rfl rfl)
theorem dX4_command_278 : decode cX4_command 278 = .ok (.getfield 16, 3) := dk_180 0 16 (dk_at dksX4_command_11 14 rfl rfl)
theorem dX4_command_281 : decode cX4_command 281 = .ok (.iload 4, 2) := dk_21 4 (dk_at dksX4_command_11 17 rfl rfl)
theorem dX4_command_283 : decode cX4_command 283 = .ok (.invokestatic 59, 3) := dk_184 0 59 (dk_at dksX4_command_11 19 rfl rfl)
theorem dX4_command_286 : decode cX4_command 286 = .ok (.ifCond .eq 7, 3) := dk_153 0 7 (dk_at dksX4_command_12 0 rfl rfl)
theorem dX4_command_289 : decode cX4_command 289 = .ok (.iconst 1, 1) := dk_4 (dk_at dksX4_command_12 3 rfl rfl)
theorem dX4_command_290 : decode cX4_command 290 = .ok (.goto 4, 3) := dk_167 0 4 (dk_at dksX4_command_12 4 rfl rfl)
theorem dX4_command_293 : decode cX4_command 293 = .ok (.iconst 0, 1) := dk_3 (dk_at dksX4_command_12 7 rfl rfl)
theorem dX4_command_294 : decode cX4_command 294 = .ok (.ireturn, 1) := dk_172 (dk_at dksX4_command_12 8 rfl rfl)
theorem dX4_command_295 : decode cX4_command 295 = .ok (.iload 5, 2) := dk_21 5 (dk_at dksX4_command_12 9 rfl rfl)
theorem dX4_command_297 : decode cX4_command 297 = .ok (.ifCond .eq 26, 3) := dk_153 0 26 (dk_at dksX4_command_12 11 rfl rfl)
theorem dX4_command_300 : decode cX4_command 300 = .ok (.iload_n 2, 1) := dk_28 (dk_at dksX4_command_12 14 rfl rfl)
theorem dX4_command_301 : decode cX4_command 301 = .ok (.invokestatic 172, 3) := dk_184 0 172 (dk_at dksX4_command_12 15 rfl rfl)
theorem dX4_command_304 : decode cX4_command 304 = .ok (.ifCond .eq 19, 3) := dk_153 0 19 (dk_at dksX4_command_12 18 rfl rfl)
theorem dX4_command_307 : decode cX4_command 307 = .ok (.aload_n 0, 1) := dk_42 (dk_at dksX4_command_12 21 rfl rfl)
theorem dX4_command_308 : decode cX4_command 308 = .ok (.getfield 16, 3) := dk_180 0 16 (dk_at dksX4_command_13 0 rfl rfl)
theorem dX4_command_311 : decode cX4_command 311 = .ok (.iload_n 2, 1) := dk_28 (dk_at dksX4_command_13 3 rfl rfl)
theorem dX4_command_312 : decode cX4_command 312 = .ok (.iload_n 3, 1) := dk_29 (dk_at dksX4_command_13 4 rfl rfl)
theorem dX4_command_313 : decode cX4_command 313 = .ok (.invokestatic 70, 3) := dk_184 0 70 (dk_at dksX4_command_13 5 rfl rfl)
theorem dX4_command_316 : decode cX4_command 316 = .ok (.ifCond .eq 7, 3) := dk_153 0 7 (dk_at dksX4_command_13 8 rfl rfl)
theorem dX4_command_319 : decode cX4_command 319 = .ok (.iconst 1, 1) := dk_4 (dk_at dksX4_command_13 11 rfl rfl)
theorem dX4_command_320 : decode cX4_command 320 = .ok (.goto 4, 3) := dk_167 0 4 (dk_at dksX4_command_13 12 rfl rfl)
theorem dX4_command_323 : decode cX4_command 323 = .ok (.iconst 0, 1) := dk_3 (dk_at dksX4_command_13 15 rfl rfl)
theorem dX4_command_324 : decode cX4_command 324 = .ok (.ireturn, 1) := dk_172 (dk_at dksX4_command_13 16 rfl rfl)
theorem dX4_command_325 : decode cX4_command 325 = .ok (.iload 5, 2) := dk_21 5 (dk_at dksX4_command_13 17 rfl rfl)
theorem dX4_command_327 : decode cX4_command 327 = .ok (.ifCond .eq 27, 3) := dk_153 0 27 (dk_at dksX4_command_13 19 rfl rfl)
theorem dX4_command_330 : decode cX4_command 330 = .ok (.iload_n 2, 1) := dk_28 (dk_at dksX4_command_13 22 rfl rfl)
theorem dX4_command_331 : decode cX4_command 331 = .ok (.ifCond .ne 23, 3) := dk_154 0 23 (dk_at dksX4_command_14 0 rfl rfl)
theorem dX4_command_334 : decode cX4_command 334 = .ok (.iload_n 3, 1) := dk_29 (dk_at dksX4_command_14 3 rfl rfl)
theorem dX4_command_335 : decode cX4_command 335 = .ok (.iconst 3, 1) := dk_6 (dk_at dksX4_command_14 4 rfl rfl)
theorem dX4_command_336 : decode cX4_command 336 = .ok (.if_icmp .ge 18, 3) := dk_162 0 18 (dk_at dksX4_command_14 5 rfl rfl)
theorem dX4_command_339 : decode cX4_command 339 = .ok (.aload_n 0, 1) := dk_42 (dk_at dksX4_command_14 8 rfl rfl)
theorem dX4_command_340 : decode cX4_command 340 = .ok (.getfield 16, 3) := dk_180 0 16 (dk_at dksX4_command_14 9 rfl rfl)
theorem dX4_command_343 : decode cX4_command 343 = .ok (.iload_n 3, 1) := dk_29 (dk_at dksX4_command_14 12 rfl rfl)
theorem dX4_command_344 : decode cX4_command 344 = .ok (.invokestatic 63, 3) := dk_184 0 63 (dk_at dksX4_command_14 13 rfl rfl)
theorem dX4_command_347 : decode cX4_command 347 = .ok (.ifCond .eq 7, 3) := dk_153 0 7 (dk_at dksX4_command_14 16 rfl rfl)
theorem dX4_command_350 : decode cX4_command 350 = .ok (.iconst 1, 1) := dk_4 (dk_at dksX4_command_14 19 rfl rfl)
theorem dX4_command_351 : decode cX4_command 351 = .ok (.goto 4, 3) := dk_167 0 4 (dk_at dksX4_command_14 20 rfl rfl)
theorem dX4_command_354 : decode cX4_command 354 = .ok (.iconst 0, 1) := dk_3 (dk_at dksX4_command_14 23 rfl rfl)
theorem dX4_command_355 : decode cX4_command 355 = .ok (.ireturn, 1) := dk_172 (dk_at dksX4_command_15 0 rfl rfl)
theorem dX4_command_356 : decode cX4_command 356 = .ok (.iconst 0, 1) := dk_3 (dk_at dksX4_command_15 1 rfl rfl)
theorem dX4_command_357 : decode cX4_command 357 = .ok (.ireturn, 1) := dk_172 (dk_at dksX4_command_15 2 rfl rfl)
abbrev cX4_simulate : ByteArray := prog_11_method_61_code
def yX4_simulate : MethodName := ⟨RX4, "simulate", "(JI)I"⟩
def dkwX4_simulate_5 : List UInt8 := [180, 0, 16, 4, 184, 0, 51, 3, 96, 46, 96, 172]
abbrev dktX4_simulate_5 : List UInt8 := dkwX4_simulate_5 ++ []
def dkwX4_simulate_4 : List UInt8 := [154, 0, 7, 3, 167, 0, 30, 17, 3, 232, 42, 180, 0, 16, 3, 184, 0, 51, 3, 96, 46, 104, 42]
abbrev dktX4_simulate_4 : List UInt8 := dkwX4_simulate_4 ++ dktX4_simulate_5
def dkwX4_simulate_3 : List UInt8 := [55, 4, 42, 22, 4, 16, 33, 125, 136, 182, 0, 212, 132, 6, 1, 167, 255, 215, 42, 180, 0, 16, 3, 46]
abbrev dktX4_simulate_3 : List UInt8 := dkwX4_simulate_3 ++ dktX4_simulate_4
def dkwX4_simulate_2 : List UInt8 := [162, 0, 41, 42, 180, 0, 16, 184, 0, 106, 153, 0, 31, 22, 4, 20, 0, 187, 105, 20, 0, 189, 97]
abbrev dktX4_simulate_2 : List UInt8 := dkwX4_simulate_2 ++ dktX4_simulate_3
def dkwX4_simulate_1 : List UInt8 := [3, 172, 42, 180, 0, 13, 3, 42, 180, 0, 16, 3, 184, 0, 123, 31, 55, 4, 3, 54, 6, 21, 6, 29]
abbrev dktX4_simulate_1 : List UInt8 := dkwX4_simulate_1 ++ dktX4_simulate_2
def dkwX4_simulate_0 : List UInt8 := [42, 29, 133, 10, 20, 0, 210, 184, 0, 45, 153, 0, 7, 3, 167, 0, 4, 4, 182, 0, 161, 153, 0, 5]
abbrev dktX4_simulate_0 : List UInt8 := dkwX4_simulate_0 ++ dktX4_simulate_1
theorem dksX4_simulate_0 : cX4_simulate.data.toList.drop 0 = dktX4_simulate_0 := by decide +kernel
theorem dksX4_simulate_1 : cX4_simulate.data.toList.drop 24 = dktX4_simulate_1 := dk_seg dksX4_simulate_0 24 rfl rfl
theorem dksX4_simulate_2 : cX4_simulate.data.toList.drop 48 = dktX4_simulate_2 := dk_seg dksX4_simulate_1 24 rfl rfl
theorem dksX4_simulate_3 : cX4_simulate.data.toList.drop 71 = dktX4_simulate_3 := dk_seg dksX4_simulate_2 23 rfl rfl
theorem dksX4_simulate_4 : cX4_simulate.data.toList.drop 95 = dktX4_simulate_4 := dk_seg dksX4_simulate_3 24 rfl rfl
theorem dksX4_simulate_5 : cX4_simulate.data.toList.drop 118 = dktX4_simulate_5 := dk_seg dksX4_simulate_4 23 rfl rfl
theorem dX4_simulate_0 : decode cX4_simulate 0 = .ok (.aload_n 0, 1) := dk_42 (dk_at dksX4_simulate_0 0 rfl rfl)
theorem dX4_simulate_1 : decode cX4_simulate 1 = .ok (.iload_n 3, 1) := dk_29 (dk_at dksX4_simulate_0 1 rfl rfl)
theorem dX4_simulate_2 : decode cX4_simulate 2 = .ok (.i2l, 1) := dk_133 (dk_at dksX4_simulate_0 2 rfl rfl)
theorem dX4_simulate_3 : decode cX4_simulate 3 = .ok (.lconst 1, 1) := dk_10 (dk_at dksX4_simulate_0 3 rfl rfl)
theorem dX4_simulate_4 : decode cX4_simulate 4 = .ok (.ldc2_w 210, 3) := dk_20 0 210 (dk_at dksX4_simulate_0 4 rfl rfl)
theorem dX4_simulate_7 : decode cX4_simulate 7 = .ok (.invokestatic 45, 3) := dk_184 0 45 (dk_at dksX4_simulate_0 7 rfl rfl)
theorem dX4_simulate_10 : decode cX4_simulate 10 = .ok (.ifCond .eq 7, 3) := dk_153 0 7 (dk_at dksX4_simulate_0 10 rfl rfl)
theorem dX4_simulate_13 : decode cX4_simulate 13 = .ok (.iconst 0, 1) := dk_3 (dk_at dksX4_simulate_0 13 rfl rfl)
theorem dX4_simulate_14 : decode cX4_simulate 14 = .ok (.goto 4, 3) := dk_167 0 4 (dk_at dksX4_simulate_0 14 rfl rfl)
theorem dX4_simulate_17 : decode cX4_simulate 17 = .ok (.iconst 1, 1) := dk_4 (dk_at dksX4_simulate_0 17 rfl rfl)
theorem dX4_simulate_18 : decode cX4_simulate 18 = .ok (.invokevirtual 161, 3) := dk_182 0 161 (dk_at dksX4_simulate_0 18 rfl rfl)
theorem dX4_simulate_21 : decode cX4_simulate 21 = .ok (.ifCond .eq 5, 3) := dk_153 0 5 (dk_at dksX4_simulate_0 21 rfl rfl)
theorem dX4_simulate_24 : decode cX4_simulate 24 = .ok (.iconst 0, 1) := dk_3 (dk_at dksX4_simulate_1 0 rfl rfl)
theorem dX4_simulate_25 : decode cX4_simulate 25 = .ok (.ireturn, 1) := dk_172 (dk_at dksX4_simulate_1 1 rfl rfl)
theorem dX4_simulate_26 : decode cX4_simulate 26 = .ok (.aload_n 0, 1) := dk_42 (dk_at dksX4_simulate_1 2 rfl rfl)
theorem dX4_simulate_27 : decode cX4_simulate 27 = .ok (.getfield 13, 3) := dk_180 0 13 (dk_at dksX4_simulate_1 3 rfl rfl)
theorem dX4_simulate_30 : decode cX4_simulate 30 = .ok (.iconst 0, 1) := dk_3 (dk_at dksX4_simulate_1 6 rfl rfl)
theorem dX4_simulate_31 : decode cX4_simulate 31 = .ok (.aload_n 0, 1) := dk_42 (dk_at dksX4_simulate_1 7 rfl rfl)
theorem dX4_simulate_32 : decode cX4_simulate 32 = .ok (.getfield 16, 3) := dk_180 0 16 (dk_at dksX4_simulate_1 8 rfl rfl)
theorem dX4_simulate_35 : decode cX4_simulate 35 = .ok (.iconst 0, 1) := dk_3 (dk_at dksX4_simulate_1 11 rfl rfl)
theorem dX4_simulate_36 : decode cX4_simulate 36 = .ok (.invokestatic 123, 3) := dk_184 0 123 (dk_at dksX4_simulate_1 12 rfl rfl)
theorem dX4_simulate_39 : decode cX4_simulate 39 = .ok (.lload_n 1, 1) := dk_31 (dk_at dksX4_simulate_1 15 rfl rfl)
theorem dX4_simulate_40 : decode cX4_simulate 40 = .ok (.lstore 4, 2) := dk_55 4 (dk_at dksX4_simulate_1 16 rfl rfl)
theorem dX4_simulate_42 : decode cX4_simulate 42 = .ok (.iconst 0, 1) := dk_3 (dk_at dksX4_simulate_1 18 rfl rfl)
theorem dX4_simulate_43 : decode cX4_simulate 43 = .ok (.istore 6, 2) := dk_54 6 (dk_at dksX4_simulate_1 19 rfl rfl)
theorem dX4_simulate_45 : decode cX4_simulate 45 = .ok (.iload 6, 2) := dk_21 6 (dk_at dksX4_simulate_1 21 rfl rfl)
theorem dX4_simulate_47 : decode cX4_simulate 47 = .ok (.iload_n 3, 1) := dk_29 (dk_at dksX4_simulate_1 23 rfl rfl)
theorem dX4_simulate_48 : decode cX4_simulate 48 = .ok (.if_icmp .ge 41, 3) := dk_162 0 41 (dk_at dksX4_simulate_2 0 rfl rfl)
theorem dX4_simulate_51 : decode cX4_simulate 51 = .ok (.aload_n 0, 1) := dk_42 (dk_at dksX4_simulate_2 3 rfl rfl)
theorem dX4_simulate_52 : decode cX4_simulate 52 = .ok (.getfield 16, 3) := dk_180 0 16 (dk_at dksX4_simulate_2 4 rfl rfl)
theorem dX4_simulate_55 : decode cX4_simulate 55 = .ok (.invokestatic 106, 3) := dk_184 0 106 (dk_at dksX4_simulate_2 7 rfl rfl)
theorem dX4_simulate_58 : decode cX4_simulate 58 = .ok (.ifCond .eq 31, 3) := dk_153 0 31 (dk_at dksX4_simulate_2 10 rfl rfl)
theorem dX4_simulate_61 : decode cX4_simulate 61 = .ok (.lload 4, 2) := dk_22 4 (dk_at dksX4_simulate_2 13 rfl rfl)
theorem dX4_simulate_63 : decode cX4_simulate 63 = .ok (.ldc2_w 187, 3) := dk_20 0 187 (dk_at dksX4_simulate_2 15 rfl rfl)
theorem dX4_simulate_66 : decode cX4_simulate 66 = .ok (.lmul, 1) := dk_105 (dk_at dksX4_simulate_2 18 rfl rfl)
theorem dX4_simulate_67 : decode cX4_simulate 67 = .ok (.ldc2_w 189, 3) := dk_20 0 189 (dk_at dksX4_simulate_2 19 rfl rfl)
theorem dX4_simulate_70 : decode cX4_simulate 70 = .ok (.ladd, 1) := dk_97 (dk_at dksX4_simulate_2 22 rfl rfl)
theorem dX4_simulate_71 : decode cX4_simulate 71 = .ok (.lstore 4, 2) := dk_55 4 (dk_at dksX4_simulate_3 0 rfl rfl)
theorem dX4_simulate_73 : decode cX4_simulate 73 = .ok (.aload_n 0, 1) := dk_42 (dk_at dksX4_simulate_3 2 rfl rfl)
theorem dX4_simulate_74 : decode cX4_simulate 74 = .ok (.lload 4, 2) := dk_22 4 (dk_at dksX4_simulate_3 3 rfl rfl)
theorem dX4_simulate_76 : decode cX4_simulate 76 = .ok (.bipush 33, 2) := dk_16 33 (dk_at dksX4_simulate_3 5 rfl rfl)
theorem dX4_simulate_78 : decode cX4_simulate 78 = .ok (.lushr, 1) := dk_125 (dk_at dksX4_simulate_3 7 rfl rfl)
theorem dX4_simulate_79 : decode cX4_simulate 79 = .ok (.l2i, 1) := dk_136 (dk_at dksX4_simulate_3 8 rfl rfl)
theorem dX4_simulate_80 : decode cX4_simulate 80 = .ok (.invokevirtual 212, 3) := dk_182 0 212 (dk_at dksX4_simulate_3 9 rfl rfl)
theorem dX4_simulate_83 : decode cX4_simulate 83 = .ok (.iinc 6 1, 3) := dk_132 6 1 (dk_at dksX4_simulate_3 12 rfl rfl)
theorem dX4_simulate_86 : decode cX4_simulate 86 = .ok (.goto (-41), 3) := dk_167 255 215 (dk_at dksX4_simulate_3 15 rfl rfl)
theorem dX4_simulate_89 : decode cX4_simulate 89 = .ok (.aload_n 0, 1) := dk_42 (dk_at dksX4_simulate_3 18 rfl rfl)
theorem dX4_simulate_90 : decode cX4_simulate 90 = .ok (.getfield 16, 3) := dk_180 0 16 (dk_at dksX4_simulate_3 19 rfl rfl)
theorem dX4_simulate_93 : decode cX4_simulate 93 = .ok (.iconst 0, 1) := dk_3 (dk_at dksX4_simulate_3 22 rfl rfl)
theorem dX4_simulate_94 : decode cX4_simulate 94 = .ok (.iaload, 1) := dk_46 (dk_at dksX4_simulate_3 23 rfl rfl)
theorem dX4_simulate_95 : decode cX4_simulate 95 = .ok (.ifCond .ne 7, 3) := dk_154 0 7 (dk_at dksX4_simulate_4 0 rfl rfl)
theorem dX4_simulate_98 : decode cX4_simulate 98 = .ok (.iconst 0, 1) := dk_3 (dk_at dksX4_simulate_4 3 rfl rfl)
theorem dX4_simulate_99 : decode cX4_simulate 99 = .ok (.goto 30, 3) := dk_167 0 30 (dk_at dksX4_simulate_4 4 rfl rfl)
theorem dX4_simulate_102 : decode cX4_simulate 102 = .ok (.sipush 1000, 3) := dk_17 3 232 (dk_at dksX4_simulate_4 7 rfl rfl)
theorem dX4_simulate_105 : decode cX4_simulate 105 = .ok (.aload_n 0, 1) := dk_42 (dk_at dksX4_simulate_4 10 rfl rfl)
theorem dX4_simulate_106 : decode cX4_simulate 106 = .ok (.getfield 16, 3) := dk_180 0 16 (dk_at dksX4_simulate_4 11 rfl rfl)
theorem dX4_simulate_109 : decode cX4_simulate 109 = .ok (.iconst 0, 1) := dk_3 (dk_at dksX4_simulate_4 14 rfl rfl)
theorem dX4_simulate_110 : decode cX4_simulate 110 = .ok (.invokestatic 51, 3) := dk_184 0 51 (dk_at dksX4_simulate_4 15 rfl rfl)
theorem dX4_simulate_113 : decode cX4_simulate 113 = .ok (.iconst 0, 1) := dk_3 (dk_at dksX4_simulate_4 18 rfl rfl)
theorem dX4_simulate_114 : decode cX4_simulate 114 = .ok (.iadd, 1) := dk_96 (dk_at dksX4_simulate_4 19 rfl rfl)
theorem dX4_simulate_115 : decode cX4_simulate 115 = .ok (.iaload, 1) := dk_46 (dk_at dksX4_simulate_4 20 rfl rfl)
theorem dX4_simulate_116 : decode cX4_simulate 116 = .ok (.imul, 1) := dk_104 (dk_at dksX4_simulate_4 21 rfl rfl)
theorem dX4_simulate_117 : decode cX4_simulate 117 = .ok (.aload_n 0, 1) := dk_42 (dk_at dksX4_simulate_4 22 rfl rfl)
theorem dX4_simulate_118 : decode cX4_simulate 118 = .ok (.getfield 16, 3) := dk_180 0 16 (dk_at dksX4_simulate_5 0 rfl rfl)
theorem dX4_simulate_121 : decode cX4_simulate 121 = .ok (.iconst 1, 1) := dk_4 (dk_at dksX4_simulate_5 3 rfl rfl)
theorem dX4_simulate_122 : decode cX4_simulate 122 = .ok (.invokestatic 51, 3) := dk_184 0 51 (dk_at dksX4_simulate_5 4 rfl rfl)
theorem dX4_simulate_125 : decode cX4_simulate 125 = .ok (.iconst 0, 1) := dk_3 (dk_at dksX4_simulate_5 7 rfl rfl)
theorem dX4_simulate_126 : decode cX4_simulate 126 = .ok (.iadd, 1) := dk_96 (dk_at dksX4_simulate_5 8 rfl rfl)
theorem dX4_simulate_127 : decode cX4_simulate 127 = .ok (.iaload, 1) := dk_46 (dk_at dksX4_simulate_5 9 rfl rfl)
theorem dX4_simulate_128 : decode cX4_simulate 128 = .ok (.iadd, 1) := dk_96 (dk_at dksX4_simulate_5 10 rfl rfl)
theorem dX4_simulate_129 : decode cX4_simulate 129 = .ok (.ireturn, 1) := dk_172 (dk_at dksX4_simulate_5 11 rfl rfl)
abbrev cX4_turn : ByteArray := prog_11_method_60_code
def yX4_turn : MethodName := ⟨RX4, "turn", "(I)V"⟩
def dkwX4_turn_3 : List UInt8 := [42, 180, 0, 16, 184, 0, 134, 87, 167, 0, 12, 42, 42, 180, 0, 16, 182, 0, 197, 87, 177]
abbrev dktX4_turn_3 : List UInt8 := dkwX4_turn_3 ++ []
def dkwX4_turn_2 : List UInt8 := [184, 0, 120, 153, 0, 21, 42, 180, 0, 16, 27, 16, 8, 108, 16, 18, 112, 184, 0, 143, 87, 167, 0, 23]
abbrev dktX4_turn_2 : List UInt8 := dkwX4_turn_2 ++ dktX4_turn_3
def dkwX4_turn_1 : List UInt8 := [160, 0, 59, 42, 180, 0, 16, 5, 46, 4, 160, 0, 49, 42, 180, 0, 16, 27, 16, 8, 108, 16, 18, 112]
abbrev dktX4_turn_1 : List UInt8 := dkwX4_turn_1 ++ dktX4_turn_2
def dkwX4_turn_0 : List UInt8 := [27, 16, 8, 112, 154, 0, 14, 42, 180, 0, 16, 184, 0, 134, 87, 167, 0, 76, 27, 16, 8, 112, 4]
abbrev dktX4_turn_0 : List UInt8 := dkwX4_turn_0 ++ dktX4_turn_1
theorem dksX4_turn_0 : cX4_turn.data.toList.drop 0 = dktX4_turn_0 := by decide +kernel
theorem dksX4_turn_1 : cX4_turn.data.toList.drop 23 = dktX4_turn_1 := dk_seg dksX4_turn_0 23 rfl rfl
theorem dksX4_turn_2 : cX4_turn.data.toList.drop 47 = dktX4_turn_2 := dk_seg dksX4_turn_1 24 rfl rfl
theorem dksX4_turn_3 : cX4_turn.data.toList.drop 71 = dktX4_turn_3 := dk_seg dksX4_turn_2 24 rfl rfl
theorem dX4_turn_0 : decode cX4_turn 0 = .ok (.iload_n 1, 1) := dk_27 (dk_at dksX4_turn_0 0 rfl rfl)
theorem dX4_turn_1 : decode cX4_turn 1 = .ok (.bipush 8, 2) := dk_16 8 (dk_at dksX4_turn_0 1 rfl rfl)
theorem dX4_turn_3 : decode cX4_turn 3 = .ok (.irem, 1) := dk_112 (dk_at dksX4_turn_0 3 rfl rfl)
theorem dX4_turn_4 : decode cX4_turn 4 = .ok (.ifCond .ne 14, 3) := dk_154 0 14 (dk_at dksX4_turn_0 4 rfl rfl)
theorem dX4_turn_7 : decode cX4_turn 7 = .ok (.aload_n 0, 1) := dk_42 (dk_at dksX4_turn_0 7 rfl rfl)
theorem dX4_turn_8 : decode cX4_turn 8 = .ok (.getfield 16, 3) := dk_180 0 16 (dk_at dksX4_turn_0 8 rfl rfl)
theorem dX4_turn_11 : decode cX4_turn 11 = .ok (.invokestatic 134, 3) := dk_184 0 134 (dk_at dksX4_turn_0 11 rfl rfl)
theorem dX4_turn_14 : decode cX4_turn 14 = .ok (.pop, 1) := dk_87 (dk_at dksX4_turn_0 14 rfl rfl)
theorem dX4_turn_15 : decode cX4_turn 15 = .ok (.goto 76, 3) := dk_167 0 76 (dk_at dksX4_turn_0 15 rfl rfl)
theorem dX4_turn_18 : decode cX4_turn 18 = .ok (.iload_n 1, 1) := dk_27 (dk_at dksX4_turn_0 18 rfl rfl)
theorem dX4_turn_19 : decode cX4_turn 19 = .ok (.bipush 8, 2) := dk_16 8 (dk_at dksX4_turn_0 19 rfl rfl)
theorem dX4_turn_21 : decode cX4_turn 21 = .ok (.irem, 1) := dk_112 (dk_at dksX4_turn_0 21 rfl rfl)
theorem dX4_turn_22 : decode cX4_turn 22 = .ok (.iconst 1, 1) := dk_4 (dk_at dksX4_turn_0 22 rfl rfl)
theorem dX4_turn_23 : decode cX4_turn 23 = .ok (.if_icmp .ne 59, 3) := dk_160 0 59 (dk_at dksX4_turn_1 0 rfl rfl)
theorem dX4_turn_26 : decode cX4_turn 26 = .ok (.aload_n 0, 1) := dk_42 (dk_at dksX4_turn_1 3 rfl rfl)
theorem dX4_turn_27 : decode cX4_turn 27 = .ok (.getfield 16, 3) := dk_180 0 16 (dk_at dksX4_turn_1 4 rfl rfl)
theorem dX4_turn_30 : decode cX4_turn 30 = .ok (.iconst 2, 1) := dk_5 (dk_at dksX4_turn_1 7 rfl rfl)
theorem dX4_turn_31 : decode cX4_turn 31 = .ok (.iaload, 1) := dk_46 (dk_at dksX4_turn_1 8 rfl rfl)
theorem dX4_turn_32 : decode cX4_turn 32 = .ok (.iconst 1, 1) := dk_4 (dk_at dksX4_turn_1 9 rfl rfl)
theorem dX4_turn_33 : decode cX4_turn 33 = .ok (.if_icmp .ne 49, 3) := dk_160 0 49 (dk_at dksX4_turn_1 10 rfl rfl)
theorem dX4_turn_36 : decode cX4_turn 36 = .ok (.aload_n 0, 1) := dk_42 (dk_at dksX4_turn_1 13 rfl rfl)
theorem dX4_turn_37 : decode cX4_turn 37 = .ok (.getfield 16, 3) := dk_180 0 16 (dk_at dksX4_turn_1 14 rfl rfl)
theorem dX4_turn_40 : decode cX4_turn 40 = .ok (.iload_n 1, 1) := dk_27 (dk_at dksX4_turn_1 17 rfl rfl)
theorem dX4_turn_41 : decode cX4_turn 41 = .ok (.bipush 8, 2) := dk_16 8 (dk_at dksX4_turn_1 18 rfl rfl)
theorem dX4_turn_43 : decode cX4_turn 43 = .ok (.idiv, 1) := dk_108 (dk_at dksX4_turn_1 20 rfl rfl)
theorem dX4_turn_44 : decode cX4_turn 44 = .ok (.bipush 18, 2) := dk_16 18 (dk_at dksX4_turn_1 21 rfl rfl)
theorem dX4_turn_46 : decode cX4_turn 46 = .ok (.irem, 1) := dk_112 (dk_at dksX4_turn_1 23 rfl rfl)
theorem dX4_turn_47 : decode cX4_turn 47 = .ok (.invokestatic 120, 3) := dk_184 0 120 (dk_at dksX4_turn_2 0 rfl rfl)
theorem dX4_turn_50 : decode cX4_turn 50 = .ok (.ifCond .eq 21, 3) := dk_153 0 21 (dk_at dksX4_turn_2 3 rfl rfl)
theorem dX4_turn_53 : decode cX4_turn 53 = .ok (.aload_n 0, 1) := dk_42 (dk_at dksX4_turn_2 6 rfl rfl)
theorem dX4_turn_54 : decode cX4_turn 54 = .ok (.getfield 16, 3) := dk_180 0 16 (dk_at dksX4_turn_2 7 rfl rfl)
theorem dX4_turn_57 : decode cX4_turn 57 = .ok (.iload_n 1, 1) := dk_27 (dk_at dksX4_turn_2 10 rfl rfl)
theorem dX4_turn_58 : decode cX4_turn 58 = .ok (.bipush 8, 2) := dk_16 8 (dk_at dksX4_turn_2 11 rfl rfl)
theorem dX4_turn_60 : decode cX4_turn 60 = .ok (.idiv, 1) := dk_108 (dk_at dksX4_turn_2 13 rfl rfl)
theorem dX4_turn_61 : decode cX4_turn 61 = .ok (.bipush 18, 2) := dk_16 18 (dk_at dksX4_turn_2 14 rfl rfl)
theorem dX4_turn_63 : decode cX4_turn 63 = .ok (.irem, 1) := dk_112 (dk_at dksX4_turn_2 16 rfl rfl)
theorem dX4_turn_64 : decode cX4_turn 64 = .ok (.invokestatic 143, 3) := dk_184 0 143 (dk_at dksX4_turn_2 17 rfl rfl)
theorem dX4_turn_67 : decode cX4_turn 67 = .ok (.pop, 1) := dk_87 (dk_at dksX4_turn_2 20 rfl rfl)
theorem dX4_turn_68 : decode cX4_turn 68 = .ok (.goto 23, 3) := dk_167 0 23 (dk_at dksX4_turn_2 21 rfl rfl)
theorem dX4_turn_71 : decode cX4_turn 71 = .ok (.aload_n 0, 1) := dk_42 (dk_at dksX4_turn_3 0 rfl rfl)
theorem dX4_turn_72 : decode cX4_turn 72 = .ok (.getfield 16, 3) := dk_180 0 16 (dk_at dksX4_turn_3 1 rfl rfl)
theorem dX4_turn_75 : decode cX4_turn 75 = .ok (.invokestatic 134, 3) := dk_184 0 134 (dk_at dksX4_turn_3 4 rfl rfl)
theorem dX4_turn_78 : decode cX4_turn 78 = .ok (.pop, 1) := dk_87 (dk_at dksX4_turn_3 7 rfl rfl)
theorem dX4_turn_79 : decode cX4_turn 79 = .ok (.goto 12, 3) := dk_167 0 12 (dk_at dksX4_turn_3 8 rfl rfl)
theorem dX4_turn_82 : decode cX4_turn 82 = .ok (.aload_n 0, 1) := dk_42 (dk_at dksX4_turn_3 11 rfl rfl)
theorem dX4_turn_83 : decode cX4_turn 83 = .ok (.aload_n 0, 1) := dk_42 (dk_at dksX4_turn_3 12 rfl rfl)
theorem dX4_turn_84 : decode cX4_turn 84 = .ok (.getfield 16, 3) := dk_180 0 16 (dk_at dksX4_turn_3 13 rfl rfl)
theorem dX4_turn_87 : decode cX4_turn 87 = .ok (.invokevirtual 197, 3) := dk_182 0 197 (dk_at dksX4_turn_3 16 rfl rfl)
theorem dX4_turn_90 : decode cX4_turn 90 = .ok (.pop, 1) := dk_87 (dk_at dksX4_turn_3 19 rfl rfl)
theorem dX4_turn_91 : decode cX4_turn 91 = .ok (.return_, 1) := dk_177 (dk_at dksX4_turn_3 20 rfl rfl)
abbrev cX4_save : ByteArray := prog_11_method_62_code
def yX4_save : MethodName := ⟨RX4, "save", "(I)I"⟩
def dkwX4_save_2 : List UInt8 := [180, 0, 13, 6, 46, 172]
abbrev dktX4_save_2 : List UInt8 := dkwX4_save_2 ++ []
def dkwX4_save_1 : List UInt8 := [42, 180, 0, 13, 3, 42, 180, 0, 25, 16, 89, 27, 104, 184, 0, 123, 42, 180, 0, 28, 27, 4, 84, 42]
abbrev dktX4_save_1 : List UInt8 := dkwX4_save_1 ++ dktX4_save_2
def dkwX4_save_0 : List UInt8 := [42, 27, 133, 9, 10, 184, 0, 45, 153, 0, 7, 3, 167, 0, 4, 4, 182, 0, 161, 153, 0, 5, 3, 172]
abbrev dktX4_save_0 : List UInt8 := dkwX4_save_0 ++ dktX4_save_1
theorem dksX4_save_0 : cX4_save.data.toList.drop 0 = dktX4_save_0 := by decide +kernel
theorem dksX4_save_1 : cX4_save.data.toList.drop 24 = dktX4_save_1 := dk_seg dksX4_save_0 24 rfl rfl
theorem dksX4_save_2 : cX4_save.data.toList.drop 48 = dktX4_save_2 := dk_seg dksX4_save_1 24 rfl rfl
theorem dX4_save_0 : decode cX4_save 0 = .ok (.aload_n 0, 1) := dk_42 (dk_at dksX4_save_0 0 rfl rfl)
theorem dX4_save_1 : decode cX4_save 1 = .ok (.iload_n 1, 1) := dk_27 (dk_at dksX4_save_0 1 rfl rfl)
theorem dX4_save_2 : decode cX4_save 2 = .ok (.i2l, 1) := dk_133 (dk_at dksX4_save_0 2 rfl rfl)
theorem dX4_save_3 : decode cX4_save 3 = .ok (.lconst 0, 1) := dk_9 (dk_at dksX4_save_0 3 rfl rfl)
theorem dX4_save_4 : decode cX4_save 4 = .ok (.lconst 1, 1) := dk_10 (dk_at dksX4_save_0 4 rfl rfl)
theorem dX4_save_5 : decode cX4_save 5 = .ok (.invokestatic 45, 3) := dk_184 0 45 (dk_at dksX4_save_0 5 rfl rfl)
theorem dX4_save_8 : decode cX4_save 8 = .ok (.ifCond .eq 7, 3) := dk_153 0 7 (dk_at dksX4_save_0 8 rfl rfl)
theorem dX4_save_11 : decode cX4_save 11 = .ok (.iconst 0, 1) := dk_3 (dk_at dksX4_save_0 11 rfl rfl)
theorem dX4_save_12 : decode cX4_save 12 = .ok (.goto 4, 3) := dk_167 0 4 (dk_at dksX4_save_0 12 rfl rfl)
theorem dX4_save_15 : decode cX4_save 15 = .ok (.iconst 1, 1) := dk_4 (dk_at dksX4_save_0 15 rfl rfl)
theorem dX4_save_16 : decode cX4_save 16 = .ok (.invokevirtual 161, 3) := dk_182 0 161 (dk_at dksX4_save_0 16 rfl rfl)
theorem dX4_save_19 : decode cX4_save 19 = .ok (.ifCond .eq 5, 3) := dk_153 0 5 (dk_at dksX4_save_0 19 rfl rfl)
theorem dX4_save_22 : decode cX4_save 22 = .ok (.iconst 0, 1) := dk_3 (dk_at dksX4_save_0 22 rfl rfl)
theorem dX4_save_23 : decode cX4_save 23 = .ok (.ireturn, 1) := dk_172 (dk_at dksX4_save_0 23 rfl rfl)
theorem dX4_save_24 : decode cX4_save 24 = .ok (.aload_n 0, 1) := dk_42 (dk_at dksX4_save_1 0 rfl rfl)
theorem dX4_save_25 : decode cX4_save 25 = .ok (.getfield 13, 3) := dk_180 0 13 (dk_at dksX4_save_1 1 rfl rfl)
theorem dX4_save_28 : decode cX4_save 28 = .ok (.iconst 0, 1) := dk_3 (dk_at dksX4_save_1 4 rfl rfl)
theorem dX4_save_29 : decode cX4_save 29 = .ok (.aload_n 0, 1) := dk_42 (dk_at dksX4_save_1 5 rfl rfl)
theorem dX4_save_30 : decode cX4_save 30 = .ok (.getfield 25, 3) := dk_180 0 25 (dk_at dksX4_save_1 6 rfl rfl)
theorem dX4_save_33 : decode cX4_save 33 = .ok (.bipush 89, 2) := dk_16 89 (dk_at dksX4_save_1 9 rfl rfl)
theorem dX4_save_35 : decode cX4_save 35 = .ok (.iload_n 1, 1) := dk_27 (dk_at dksX4_save_1 11 rfl rfl)
theorem dX4_save_36 : decode cX4_save 36 = .ok (.imul, 1) := dk_104 (dk_at dksX4_save_1 12 rfl rfl)
theorem dX4_save_37 : decode cX4_save 37 = .ok (.invokestatic 123, 3) := dk_184 0 123 (dk_at dksX4_save_1 13 rfl rfl)
theorem dX4_save_40 : decode cX4_save 40 = .ok (.aload_n 0, 1) := dk_42 (dk_at dksX4_save_1 16 rfl rfl)
theorem dX4_save_41 : decode cX4_save 41 = .ok (.getfield 28, 3) := dk_180 0 28 (dk_at dksX4_save_1 17 rfl rfl)
theorem dX4_save_44 : decode cX4_save 44 = .ok (.iload_n 1, 1) := dk_27 (dk_at dksX4_save_1 20 rfl rfl)
theorem dX4_save_45 : decode cX4_save 45 = .ok (.iconst 1, 1) := dk_4 (dk_at dksX4_save_1 21 rfl rfl)
theorem dX4_save_46 : decode cX4_save 46 = .ok (.bastore, 1) := dk_84 (dk_at dksX4_save_1 22 rfl rfl)
theorem dX4_save_47 : decode cX4_save 47 = .ok (.aload_n 0, 1) := dk_42 (dk_at dksX4_save_1 23 rfl rfl)
theorem dX4_save_48 : decode cX4_save 48 = .ok (.getfield 13, 3) := dk_180 0 13 (dk_at dksX4_save_2 0 rfl rfl)
theorem dX4_save_51 : decode cX4_save 51 = .ok (.iconst 3, 1) := dk_6 (dk_at dksX4_save_2 3 rfl rfl)
theorem dX4_save_52 : decode cX4_save 52 = .ok (.iaload, 1) := dk_46 (dk_at dksX4_save_2 4 rfl rfl)
theorem dX4_save_53 : decode cX4_save 53 = .ok (.ireturn, 1) := dk_172 (dk_at dksX4_save_2 5 rfl rfl)
abbrev cX4_restore : ByteArray := prog_11_method_63_code
def yX4_restore : MethodName := ⟨RX4, "restore", "(I)I"⟩
def dkwX4_restore_2 : List UInt8 := [180, 0, 13, 3, 184, 0, 123, 42, 3, 181, 0, 179, 42, 180, 0, 13, 6, 46, 172]
abbrev dktX4_restore_2 : List UInt8 := dkwX4_restore_2 ++ []
def dkwX4_restore_1 : List UInt8 := [5, 167, 0, 4, 3, 182, 0, 161, 153, 0, 5, 3, 172, 42, 180, 0, 25, 16, 89, 27, 104, 42]
abbrev dktX4_restore_1 : List UInt8 := dkwX4_restore_1 ++ dktX4_restore_2
def dkwX4_restore_0 : List UInt8 := [42, 27, 133, 9, 10, 184, 0, 45, 154, 0, 7, 4, 167, 0, 17, 42, 180, 0, 28, 27, 51, 154, 0, 7]
abbrev dktX4_restore_0 : List UInt8 := dkwX4_restore_0 ++ dktX4_restore_1
theorem dksX4_restore_0 : cX4_restore.data.toList.drop 0 = dktX4_restore_0 := by decide +kernel
theorem dksX4_restore_1 : cX4_restore.data.toList.drop 24 = dktX4_restore_1 := dk_seg dksX4_restore_0 24 rfl rfl
theorem dksX4_restore_2 : cX4_restore.data.toList.drop 46 = dktX4_restore_2 := dk_seg dksX4_restore_1 22 rfl rfl
theorem dX4_restore_0 : decode cX4_restore 0 = .ok (.aload_n 0, 1) := dk_42 (dk_at dksX4_restore_0 0 rfl rfl)
theorem dX4_restore_1 : decode cX4_restore 1 = .ok (.iload_n 1, 1) := dk_27 (dk_at dksX4_restore_0 1 rfl rfl)
theorem dX4_restore_2 : decode cX4_restore 2 = .ok (.i2l, 1) := dk_133 (dk_at dksX4_restore_0 2 rfl rfl)
theorem dX4_restore_3 : decode cX4_restore 3 = .ok (.lconst 0, 1) := dk_9 (dk_at dksX4_restore_0 3 rfl rfl)
theorem dX4_restore_4 : decode cX4_restore 4 = .ok (.lconst 1, 1) := dk_10 (dk_at dksX4_restore_0 4 rfl rfl)
theorem dX4_restore_5 : decode cX4_restore 5 = .ok (.invokestatic 45, 3) := dk_184 0 45 (dk_at dksX4_restore_0 5 rfl rfl)
theorem dX4_restore_8 : decode cX4_restore 8 = .ok (.ifCond .ne 7, 3) := dk_154 0 7 (dk_at dksX4_restore_0 8 rfl rfl)
theorem dX4_restore_11 : decode cX4_restore 11 = .ok (.iconst 1, 1) := dk_4 (dk_at dksX4_restore_0 11 rfl rfl)
theorem dX4_restore_12 : decode cX4_restore 12 = .ok (.goto 17, 3) := dk_167 0 17 (dk_at dksX4_restore_0 12 rfl rfl)
theorem dX4_restore_15 : decode cX4_restore 15 = .ok (.aload_n 0, 1) := dk_42 (dk_at dksX4_restore_0 15 rfl rfl)
theorem dX4_restore_16 : decode cX4_restore 16 = .ok (.getfield 28, 3) := dk_180 0 28 (dk_at dksX4_restore_0 16 rfl rfl)
theorem dX4_restore_19 : decode cX4_restore 19 = .ok (.iload_n 1, 1) := dk_27 (dk_at dksX4_restore_0 19 rfl rfl)
theorem dX4_restore_20 : decode cX4_restore 20 = .ok (.baload, 1) := dk_51 (dk_at dksX4_restore_0 20 rfl rfl)
theorem dX4_restore_21 : decode cX4_restore 21 = .ok (.ifCond .ne 7, 3) := dk_154 0 7 (dk_at dksX4_restore_0 21 rfl rfl)
theorem dX4_restore_24 : decode cX4_restore 24 = .ok (.iconst 2, 1) := dk_5 (dk_at dksX4_restore_1 0 rfl rfl)
theorem dX4_restore_25 : decode cX4_restore 25 = .ok (.goto 4, 3) := dk_167 0 4 (dk_at dksX4_restore_1 1 rfl rfl)
theorem dX4_restore_28 : decode cX4_restore 28 = .ok (.iconst 0, 1) := dk_3 (dk_at dksX4_restore_1 4 rfl rfl)
theorem dX4_restore_29 : decode cX4_restore 29 = .ok (.invokevirtual 161, 3) := dk_182 0 161 (dk_at dksX4_restore_1 5 rfl rfl)
theorem dX4_restore_32 : decode cX4_restore 32 = .ok (.ifCond .eq 5, 3) := dk_153 0 5 (dk_at dksX4_restore_1 8 rfl rfl)
theorem dX4_restore_35 : decode cX4_restore 35 = .ok (.iconst 0, 1) := dk_3 (dk_at dksX4_restore_1 11 rfl rfl)
theorem dX4_restore_36 : decode cX4_restore 36 = .ok (.ireturn, 1) := dk_172 (dk_at dksX4_restore_1 12 rfl rfl)
theorem dX4_restore_37 : decode cX4_restore 37 = .ok (.aload_n 0, 1) := dk_42 (dk_at dksX4_restore_1 13 rfl rfl)
theorem dX4_restore_38 : decode cX4_restore 38 = .ok (.getfield 25, 3) := dk_180 0 25 (dk_at dksX4_restore_1 14 rfl rfl)
theorem dX4_restore_41 : decode cX4_restore 41 = .ok (.bipush 89, 2) := dk_16 89 (dk_at dksX4_restore_1 17 rfl rfl)
theorem dX4_restore_43 : decode cX4_restore 43 = .ok (.iload_n 1, 1) := dk_27 (dk_at dksX4_restore_1 19 rfl rfl)
theorem dX4_restore_44 : decode cX4_restore 44 = .ok (.imul, 1) := dk_104 (dk_at dksX4_restore_1 20 rfl rfl)
theorem dX4_restore_45 : decode cX4_restore 45 = .ok (.aload_n 0, 1) := dk_42 (dk_at dksX4_restore_1 21 rfl rfl)
theorem dX4_restore_46 : decode cX4_restore 46 = .ok (.getfield 13, 3) := dk_180 0 13 (dk_at dksX4_restore_2 0 rfl rfl)
theorem dX4_restore_49 : decode cX4_restore 49 = .ok (.iconst 0, 1) := dk_3 (dk_at dksX4_restore_2 3 rfl rfl)
theorem dX4_restore_50 : decode cX4_restore 50 = .ok (.invokestatic 123, 3) := dk_184 0 123 (dk_at dksX4_restore_2 4 rfl rfl)
theorem dX4_restore_53 : decode cX4_restore 53 = .ok (.aload_n 0, 1) := dk_42 (dk_at dksX4_restore_2 7 rfl rfl)
theorem dX4_restore_54 : decode cX4_restore 54 = .ok (.iconst 0, 1) := dk_3 (dk_at dksX4_restore_2 8 rfl rfl)
theorem dX4_restore_55 : decode cX4_restore 55 = .ok (.putfield 179, 3) := dk_181 0 179 (dk_at dksX4_restore_2 9 rfl rfl)
theorem dX4_restore_58 : decode cX4_restore 58 = .ok (.aload_n 0, 1) := dk_42 (dk_at dksX4_restore_2 12 rfl rfl)
theorem dX4_restore_59 : decode cX4_restore 59 = .ok (.getfield 13, 3) := dk_180 0 13 (dk_at dksX4_restore_2 13 rfl rfl)
theorem dX4_restore_62 : decode cX4_restore 62 = .ok (.iconst 3, 1) := dk_6 (dk_at dksX4_restore_2 16 rfl rfl)
theorem dX4_restore_63 : decode cX4_restore 63 = .ok (.iaload, 1) := dk_46 (dk_at dksX4_restore_2 17 rfl rfl)
theorem dX4_restore_64 : decode cX4_restore 64 = .ok (.ireturn, 1) := dk_172 (dk_at dksX4_restore_2 18 rfl rfl)
theorem q44 : (Jvm.Cond.initialized "TaleDuelModel") ∈ lw_all := lw_g (lw_at lw_m1 6 rfl) rfl
theorem q322 : (Jvm.Cond.selects "TaleDuelModel" ({ cls := "java/lang/Object", name := "getClass", desc := "()Ljava/lang/Class;" } : Jvm.MethodName) ({ cls := "java/lang/Object", name := "getClass", desc := "()Ljava/lang/Class;" } : Jvm.MethodName)) ∈ lw_all := lw_g (lw_at lw_m2 44 rfl) rfl
theorem q1468 : (Jvm.Cond.instantiable "TaleDuelModel" (16 : Nat)) ∈ lw_all := lw_g (lw_at lw_m6 230 rfl) rfl
theorem q1470 : (Jvm.Cond.instanceMethod ({ cls := "TaleDuelModel", name := "<init>", desc := "()V" } : Jvm.MethodName)) ∈ lw_all := lw_g (lw_at lw_m6 232 rfl) rfl
theorem q1471 : (Jvm.Cond.code ({ cls := "TaleDuelModel", name := "<init>", desc := "()V" } : Jvm.MethodName) prog_11_method_1_code (1 : Nat) (Option.none : Option Jvm.ClassFile.FieldType)) ∈ lw_all := lw_g (lw_at lw_m6 233 rfl) rfl
theorem q1472 : (Jvm.Cond.methodLink "TaleDuelModel" (1 : Nat) ({ cls := "java/lang/Object", name := "<init>", desc := "()V" } : Jvm.MethodName)) ∈ lw_all := lw_g (lw_at lw_m6 234 rfl) rfl
theorem q1473 : (Jvm.Cond.fieldLink "TaleDuelModel" (41 : Nat) "TaleDuelModel" "refusal" "I") ∈ lw_all := lw_g (lw_at lw_m6 235 rfl) rfl
theorem q1474 : (Jvm.Cond.fieldLink "TaleDuelModel" (7 : Nat) "TaleDuelModel" "text" "[I") ∈ lw_all := lw_g (lw_at lw_m6 236 rfl) rfl
theorem q1475 : (Jvm.Cond.fieldLink "TaleDuelModel" (158 : Nat) "TaleDuelModel" "size" "I") ∈ lw_all := lw_g (lw_at lw_m6 237 rfl) rfl
theorem q1476 : (Jvm.Cond.fieldLink "TaleDuelModel" (13 : Nat) "TaleDuelModel" "now" "[I") ∈ lw_all := lw_g (lw_at lw_m6 238 rfl) rfl
theorem q1477 : (Jvm.Cond.fieldLink "TaleDuelModel" (16 : Nat) "TaleDuelModel" "trial" "[I") ∈ lw_all := lw_g (lw_at lw_m6 239 rfl) rfl
theorem q1478 : (Jvm.Cond.fieldLink "TaleDuelModel" (19 : Nat) "TaleDuelModel" "apart" "[I") ∈ lw_all := lw_g (lw_at lw_m7 0 rfl) rfl
theorem q1479 : (Jvm.Cond.fieldLink "TaleDuelModel" (22 : Nat) "TaleDuelModel" "diary" "[I") ∈ lw_all := lw_g (lw_at lw_m7 1 rfl) rfl
theorem q1480 : (Jvm.Cond.fieldLink "TaleDuelModel" (179 : Nat) "TaleDuelModel" "acts" "I") ∈ lw_all := lw_g (lw_at lw_m7 2 rfl) rfl
theorem q1481 : (Jvm.Cond.fieldLink "TaleDuelModel" (25 : Nat) "TaleDuelModel" "kept" "[I") ∈ lw_all := lw_g (lw_at lw_m7 3 rfl) rfl
theorem q1482 : (Jvm.Cond.fieldLink "TaleDuelModel" (28 : Nat) "TaleDuelModel" "isKept" "[Z") ∈ lw_all := lw_g (lw_at lw_m7 4 rfl) rfl
theorem q1483 : (Jvm.Cond.fieldLink "TaleDuelModel" (32 : Nat) "TaleDuelModel" "gains" "[I") ∈ lw_all := lw_g (lw_at lw_m7 5 rfl) rfl
theorem q1484 : (Jvm.Cond.fieldLink "TaleDuelModel" (35 : Nat) "TaleDuelModel" "best" "[I") ∈ lw_all := lw_g (lw_at lw_m7 6 rfl) rfl
theorem q1485 : (Jvm.Cond.fieldLink "TaleDuelModel" (79 : Nat) "TaleDuelModel" "bestLength" "I") ∈ lw_all := lw_g (lw_at lw_m7 7 rfl) rfl
theorem q1486 : (Jvm.Cond.fieldLink "TaleDuelModel" (76 : Nat) "TaleDuelModel" "bestPoints" "I") ∈ lw_all := lw_g (lw_at lw_m7 8 rfl) rfl
theorem q1487 : (Jvm.Cond.fieldLink "TaleDuelModel" (38 : Nat) "TaleDuelModel" "tried" "[I") ∈ lw_all := lw_g (lw_at lw_m7 9 rfl) rfl
theorem q1488 : (Jvm.Cond.fieldLink "TaleDuelModel" (73 : Nat) "TaleDuelModel" "triedLength" "I") ∈ lw_all := lw_g (lw_at lw_m7 10 rfl) rfl
theorem q1489 : (Jvm.Cond.lays "TaleDuelModel" "TaleDuelModel" "refusal" "I") ∈ lw_all := lw_g (lw_at lw_m7 11 rfl) rfl
theorem q1490 : (Jvm.Cond.soleField "TaleDuelModel" "refusal") ∈ lw_all := lw_g (lw_at lw_m7 12 rfl) rfl
theorem q1491 : (Jvm.Cond.laysFinal "TaleDuelModel" "TaleDuelModel" "text" "[I") ∈ lw_all := lw_g (lw_at lw_m7 13 rfl) rfl
theorem q1492 : (Jvm.Cond.soleField "TaleDuelModel" "text") ∈ lw_all := lw_g (lw_at lw_m7 14 rfl) rfl
theorem q1493 : (Jvm.Cond.lays "TaleDuelModel" "TaleDuelModel" "size" "I") ∈ lw_all := lw_g (lw_at lw_m7 15 rfl) rfl
theorem q1494 : (Jvm.Cond.soleField "TaleDuelModel" "size") ∈ lw_all := lw_g (lw_at lw_m7 16 rfl) rfl
theorem q1495 : (Jvm.Cond.laysFinal "TaleDuelModel" "TaleDuelModel" "now" "[I") ∈ lw_all := lw_g (lw_at lw_m7 17 rfl) rfl
theorem q1496 : (Jvm.Cond.soleField "TaleDuelModel" "now") ∈ lw_all := lw_g (lw_at lw_m7 18 rfl) rfl
theorem q1497 : (Jvm.Cond.laysFinal "TaleDuelModel" "TaleDuelModel" "trial" "[I") ∈ lw_all := lw_g (lw_at lw_m7 19 rfl) rfl
theorem q1498 : (Jvm.Cond.soleField "TaleDuelModel" "trial") ∈ lw_all := lw_g (lw_at lw_m7 20 rfl) rfl
theorem q1499 : (Jvm.Cond.laysFinal "TaleDuelModel" "TaleDuelModel" "apart" "[I") ∈ lw_all := lw_g (lw_at lw_m7 21 rfl) rfl
theorem q1500 : (Jvm.Cond.soleField "TaleDuelModel" "apart") ∈ lw_all := lw_g (lw_at lw_m7 22 rfl) rfl
theorem q1501 : (Jvm.Cond.laysFinal "TaleDuelModel" "TaleDuelModel" "diary" "[I") ∈ lw_all := lw_g (lw_at lw_m7 23 rfl) rfl
theorem q1502 : (Jvm.Cond.soleField "TaleDuelModel" "diary") ∈ lw_all := lw_g (lw_at lw_m7 24 rfl) rfl
theorem q1503 : (Jvm.Cond.lays "TaleDuelModel" "TaleDuelModel" "acts" "I") ∈ lw_all := lw_g (lw_at lw_m7 25 rfl) rfl
theorem q1504 : (Jvm.Cond.soleField "TaleDuelModel" "acts") ∈ lw_all := lw_g (lw_at lw_m7 26 rfl) rfl
theorem q1505 : (Jvm.Cond.laysFinal "TaleDuelModel" "TaleDuelModel" "kept" "[I") ∈ lw_all := lw_g (lw_at lw_m7 27 rfl) rfl
theorem q1506 : (Jvm.Cond.soleField "TaleDuelModel" "kept") ∈ lw_all := lw_g (lw_at lw_m7 28 rfl) rfl
theorem q1507 : (Jvm.Cond.laysFinal "TaleDuelModel" "TaleDuelModel" "isKept" "[Z") ∈ lw_all := lw_g (lw_at lw_m7 29 rfl) rfl
theorem q1508 : (Jvm.Cond.soleField "TaleDuelModel" "isKept") ∈ lw_all := lw_g (lw_at lw_m7 30 rfl) rfl
theorem q1509 : (Jvm.Cond.laysFinal "TaleDuelModel" "TaleDuelModel" "gains" "[I") ∈ lw_all := lw_g (lw_at lw_m7 31 rfl) rfl
theorem q1510 : (Jvm.Cond.soleField "TaleDuelModel" "gains") ∈ lw_all := lw_g (lw_at lw_m7 32 rfl) rfl
theorem q1511 : (Jvm.Cond.laysFinal "TaleDuelModel" "TaleDuelModel" "best" "[I") ∈ lw_all := lw_g (lw_at lw_m7 33 rfl) rfl
theorem q1512 : (Jvm.Cond.soleField "TaleDuelModel" "best") ∈ lw_all := lw_g (lw_at lw_m7 34 rfl) rfl
theorem q1513 : (Jvm.Cond.lays "TaleDuelModel" "TaleDuelModel" "bestLength" "I") ∈ lw_all := lw_g (lw_at lw_m7 35 rfl) rfl
theorem q1514 : (Jvm.Cond.soleField "TaleDuelModel" "bestLength") ∈ lw_all := lw_g (lw_at lw_m7 36 rfl) rfl
theorem q1515 : (Jvm.Cond.lays "TaleDuelModel" "TaleDuelModel" "bestPoints" "I") ∈ lw_all := lw_g (lw_at lw_m7 37 rfl) rfl
theorem q1516 : (Jvm.Cond.soleField "TaleDuelModel" "bestPoints") ∈ lw_all := lw_g (lw_at lw_m7 38 rfl) rfl
theorem q1517 : (Jvm.Cond.laysFinal "TaleDuelModel" "TaleDuelModel" "tried" "[I") ∈ lw_all := lw_g (lw_at lw_m7 39 rfl) rfl
theorem q1518 : (Jvm.Cond.soleField "TaleDuelModel" "tried") ∈ lw_all := lw_g (lw_at lw_m7 40 rfl) rfl
theorem q1519 : (Jvm.Cond.lays "TaleDuelModel" "TaleDuelModel" "triedLength" "I") ∈ lw_all := lw_g (lw_at lw_m7 41 rfl) rfl
theorem q1520 : (Jvm.Cond.soleField "TaleDuelModel" "triedLength") ∈ lw_all := lw_g (lw_at lw_m7 42 rfl) rfl
theorem q1521 : (Jvm.Cond.superclass "TaleDuelModel" "java/lang/Object") ∈ lw_all := lw_g (lw_at lw_m7 43 rfl) rfl
theorem q1524 : (Jvm.Cond.instanceMethod ({ cls := "TaleDuelModel", name := "thrown", desc := "()I" } : Jvm.MethodName)) ∈ lw_all := lw_g (lw_at lw_m7 46 rfl) rfl
theorem q1525 : (Jvm.Cond.selects "TaleDuelModel" ({ cls := "TaleDuelModel", name := "thrown", desc := "()I" } : Jvm.MethodName) ({ cls := "TaleDuelModel", name := "thrown", desc := "()I" } : Jvm.MethodName)) ∈ lw_all := lw_g (lw_at lw_m7 47 rfl) rfl
theorem q1526 : (Jvm.Cond.code ({ cls := "TaleDuelModel", name := "thrown", desc := "()I" } : Jvm.MethodName) prog_11_method_2_code (1 : Nat) (Option.some Jvm.ClassFile.FieldType.int)) ∈ lw_all := lw_g (lw_at lw_m7 48 rfl) rfl
theorem q1528 : (Jvm.Cond.instanceMethod ({ cls := "TaleDuelModel", name := "append", desc := "(I)I" } : Jvm.MethodName)) ∈ lw_all := lw_g (lw_at lw_m7 50 rfl) rfl
theorem q1529 : (Jvm.Cond.selects "TaleDuelModel" ({ cls := "TaleDuelModel", name := "append", desc := "(I)I" } : Jvm.MethodName) ({ cls := "TaleDuelModel", name := "append", desc := "(I)I" } : Jvm.MethodName)) ∈ lw_all := lw_g (lw_at lw_m7 51 rfl) rfl
theorem q1530 : (Jvm.Cond.code ({ cls := "TaleDuelModel", name := "append", desc := "(I)I" } : Jvm.MethodName) prog_11_method_33_code (2 : Nat) (Option.some Jvm.ClassFile.FieldType.int)) ∈ lw_all := lw_g (lw_at lw_m7 52 rfl) rfl
theorem q1531 : (Jvm.Cond.constantLong "TaleDuelModel" (156 : Nat) (255 : Int64)) ∈ lw_all := lw_g (lw_at lw_m7 53 rfl) rfl
theorem q1532 : (Jvm.Cond.methodLink "TaleDuelModel" (45 : Nat) ({ cls := "TaleDuelModel", name := "in", desc := "(JJJ)Z" } : Jvm.MethodName)) ∈ lw_all := lw_g (lw_at lw_m7 54 rfl) rfl
theorem q1533 : (Jvm.Cond.static ({ cls := "TaleDuelModel", name := "in", desc := "(JJJ)Z" } : Jvm.MethodName)) ∈ lw_all := lw_g (lw_at lw_m7 55 rfl) rfl
theorem q1534 : (Jvm.Cond.code ({ cls := "TaleDuelModel", name := "in", desc := "(JJJ)Z" } : Jvm.MethodName) prog_11_method_4_code (6 : Nat) (Option.some Jvm.ClassFile.FieldType.boolean)) ∈ lw_all := lw_g (lw_at lw_m7 56 rfl) rfl
theorem q1535 : (Jvm.Cond.methodLink "TaleDuelModel" (161 : Nat) ({ cls := "TaleDuelModel", name := "refused", desc := "(I)Z" } : Jvm.MethodName)) ∈ lw_all := lw_g (lw_at lw_m7 57 rfl) rfl
theorem q1536 : (Jvm.Cond.privateMethod ({ cls := "TaleDuelModel", name := "refused", desc := "(I)Z" } : Jvm.MethodName)) ∈ lw_tbl := lw_at lw_m7 58 rfl
theorem q1537 : (Jvm.Cond.instanceMethod ({ cls := "TaleDuelModel", name := "refused", desc := "(I)Z" } : Jvm.MethodName)) ∈ lw_all := lw_g (lw_at lw_m7 59 rfl) rfl
theorem q1538 : (Jvm.Cond.code ({ cls := "TaleDuelModel", name := "refused", desc := "(I)Z" } : Jvm.MethodName) prog_11_method_3_code (2 : Nat) (Option.some Jvm.ClassFile.FieldType.boolean)) ∈ lw_all := lw_g (lw_at lw_m7 60 rfl) rfl
theorem q1540 : (Jvm.Cond.instanceMethod ({ cls := "TaleDuelModel", name := "clearText", desc := "()I" } : Jvm.MethodName)) ∈ lw_all := lw_g (lw_at lw_m7 62 rfl) rfl
theorem q1541 : (Jvm.Cond.selects "TaleDuelModel" ({ cls := "TaleDuelModel", name := "clearText", desc := "()I" } : Jvm.MethodName) ({ cls := "TaleDuelModel", name := "clearText", desc := "()I" } : Jvm.MethodName)) ∈ lw_all := lw_g (lw_at lw_m7 63 rfl) rfl
theorem q1542 : (Jvm.Cond.code ({ cls := "TaleDuelModel", name := "clearText", desc := "()I" } : Jvm.MethodName) prog_11_method_34_code (2 : Nat) (Option.some Jvm.ClassFile.FieldType.int)) ∈ lw_all := lw_g (lw_at lw_m7 64 rfl) rfl
theorem q1544 : (Jvm.Cond.instanceMethod ({ cls := "TaleDuelModel", name := "errorPosition", desc := "()I" } : Jvm.MethodName)) ∈ lw_all := lw_g (lw_at lw_m7 66 rfl) rfl
theorem q1545 : (Jvm.Cond.selects "TaleDuelModel" ({ cls := "TaleDuelModel", name := "errorPosition", desc := "()I" } : Jvm.MethodName) ({ cls := "TaleDuelModel", name := "errorPosition", desc := "()I" } : Jvm.MethodName)) ∈ lw_all := lw_g (lw_at lw_m7 67 rfl) rfl
theorem q1546 : (Jvm.Cond.code ({ cls := "TaleDuelModel", name := "errorPosition", desc := "()I" } : Jvm.MethodName) prog_11_method_36_code (1 : Nat) (Option.some Jvm.ClassFile.FieldType.int)) ∈ lw_all := lw_g (lw_at lw_m7 68 rfl) rfl
theorem q1547 : (Jvm.Cond.methodLink "TaleDuelModel" (167 : Nat) ({ cls := "TaleDuelModel", name := "readText", desc := "()I" } : Jvm.MethodName)) ∈ lw_all := lw_g (lw_at lw_m7 69 rfl) rfl
theorem q1548 : (Jvm.Cond.privateMethod ({ cls := "TaleDuelModel", name := "readText", desc := "()I" } : Jvm.MethodName)) ∈ lw_tbl := lw_at lw_m7 70 rfl
theorem q1549 : (Jvm.Cond.instanceMethod ({ cls := "TaleDuelModel", name := "readText", desc := "()I" } : Jvm.MethodName)) ∈ lw_all := lw_g (lw_at lw_m7 71 rfl) rfl
theorem q1550 : (Jvm.Cond.code ({ cls := "TaleDuelModel", name := "readText", desc := "()I" } : Jvm.MethodName) prog_11_method_35_code (7 : Nat) (Option.some Jvm.ClassFile.FieldType.int)) ∈ lw_all := lw_g (lw_at lw_m7 72 rfl) rfl
theorem q1551 : (Jvm.Cond.methodLink "TaleDuelModel" (164 : Nat) ({ cls := "TaleDuelModel", name := "isWord", desc := "(I)Z" } : Jvm.MethodName)) ∈ lw_all := lw_g (lw_at lw_m7 73 rfl) rfl
theorem q1552 : (Jvm.Cond.static ({ cls := "TaleDuelModel", name := "isWord", desc := "(I)Z" } : Jvm.MethodName)) ∈ lw_all := lw_g (lw_at lw_m7 74 rfl) rfl
theorem q1553 : (Jvm.Cond.code ({ cls := "TaleDuelModel", name := "isWord", desc := "(I)Z" } : Jvm.MethodName) prog_11_method_8_code (1 : Nat) (Option.some Jvm.ClassFile.FieldType.boolean)) ∈ lw_all := lw_g (lw_at lw_m7 75 rfl) rfl
theorem q1554 : (Jvm.Cond.constantLong "TaleDuelModel" (49 : Nat) (17 : Int64)) ∈ lw_all := lw_g (lw_at lw_m7 76 rfl) rfl
theorem q1555 : (Jvm.Cond.methodLink "TaleDuelModel" (82 : Nat) ({ cls := "TaleDuelModel", name := "tryWord", desc := "(I)V" } : Jvm.MethodName)) ∈ lw_all := lw_g (lw_at lw_m7 77 rfl) rfl
theorem q1556 : (Jvm.Cond.privateMethod ({ cls := "TaleDuelModel", name := "tryWord", desc := "(I)V" } : Jvm.MethodName)) ∈ lw_tbl := lw_at lw_m7 78 rfl
theorem q1557 : (Jvm.Cond.instanceMethod ({ cls := "TaleDuelModel", name := "tryWord", desc := "(I)V" } : Jvm.MethodName)) ∈ lw_all := lw_g (lw_at lw_m7 79 rfl) rfl
theorem q1558 : (Jvm.Cond.code ({ cls := "TaleDuelModel", name := "tryWord", desc := "(I)V" } : Jvm.MethodName) prog_11_method_17_code (2 : Nat) (Option.none : Option Jvm.ClassFile.FieldType)) ∈ lw_all := lw_g (lw_at lw_m7 80 rfl) rfl
theorem q1560 : (Jvm.Cond.instanceMethod ({ cls := "TaleDuelModel", name := "about", desc := "(I)I" } : Jvm.MethodName)) ∈ lw_all := lw_g (lw_at lw_m7 82 rfl) rfl
theorem q1561 : (Jvm.Cond.selects "TaleDuelModel" ({ cls := "TaleDuelModel", name := "about", desc := "(I)I" } : Jvm.MethodName) ({ cls := "TaleDuelModel", name := "about", desc := "(I)I" } : Jvm.MethodName)) ∈ lw_all := lw_g (lw_at lw_m7 83 rfl) rfl
theorem q1562 : (Jvm.Cond.code ({ cls := "TaleDuelModel", name := "about", desc := "(I)I" } : Jvm.MethodName) prog_11_method_37_code (4 : Nat) (Option.some Jvm.ClassFile.FieldType.int)) ∈ lw_all := lw_g (lw_at lw_m7 84 rfl) rfl
theorem q1563 : (Jvm.Cond.constantLong "TaleDuelModel" (170 : Nat) (7 : Int64)) ∈ lw_all := lw_g (lw_at lw_m7 85 rfl) rfl
theorem q1564 : (Jvm.Cond.methodLink "TaleDuelModel" (59 : Nat) ({ cls := "TaleDuelModel", name := "isRemembered", desc := "([II)Z" } : Jvm.MethodName)) ∈ lw_all := lw_g (lw_at lw_m7 86 rfl) rfl
theorem q1565 : (Jvm.Cond.static ({ cls := "TaleDuelModel", name := "isRemembered", desc := "([II)Z" } : Jvm.MethodName)) ∈ lw_all := lw_g (lw_at lw_m7 87 rfl) rfl
theorem q1566 : (Jvm.Cond.code ({ cls := "TaleDuelModel", name := "isRemembered", desc := "([II)Z" } : Jvm.MethodName) prog_11_method_13_code (4 : Nat) (Option.some Jvm.ClassFile.FieldType.boolean)) ∈ lw_all := lw_g (lw_at lw_m7 88 rfl) rfl
theorem q1567 : (Jvm.Cond.methodLink "TaleDuelModel" (55 : Nat) ({ cls := "TaleDuelModel", name := "logged", desc := "([III)I" } : Jvm.MethodName)) ∈ lw_all := lw_g (lw_at lw_m7 89 rfl) rfl
theorem q1568 : (Jvm.Cond.static ({ cls := "TaleDuelModel", name := "logged", desc := "([III)I" } : Jvm.MethodName)) ∈ lw_all := lw_g (lw_at lw_m7 90 rfl) rfl
theorem q1569 : (Jvm.Cond.code ({ cls := "TaleDuelModel", name := "logged", desc := "([III)I" } : Jvm.MethodName) prog_11_method_12_code (3 : Nat) (Option.some Jvm.ClassFile.FieldType.int)) ∈ lw_all := lw_g (lw_at lw_m7 91 rfl) rfl
theorem q1570 : (Jvm.Cond.methodLink "TaleDuelModel" (130 : Nat) ({ cls := "TaleDuelModel", name := "next", desc := "([I)I" } : Jvm.MethodName)) ∈ lw_all := lw_g (lw_at lw_m7 92 rfl) rfl
theorem q1571 : (Jvm.Cond.static ({ cls := "TaleDuelModel", name := "next", desc := "([I)I" } : Jvm.MethodName)) ∈ lw_all := lw_g (lw_at lw_m7 93 rfl) rfl
theorem q1572 : (Jvm.Cond.code ({ cls := "TaleDuelModel", name := "next", desc := "([I)I" } : Jvm.MethodName) prog_11_method_23_code (1 : Nat) (Option.some Jvm.ClassFile.FieldType.int)) ∈ lw_all := lw_g (lw_at lw_m7 94 rfl) rfl
theorem q1574 : (Jvm.Cond.instanceMethod ({ cls := "TaleDuelModel", name := "teller", desc := "(II)I" } : Jvm.MethodName)) ∈ lw_all := lw_g (lw_at lw_m7 96 rfl) rfl
theorem q1575 : (Jvm.Cond.selects "TaleDuelModel" ({ cls := "TaleDuelModel", name := "teller", desc := "(II)I" } : Jvm.MethodName) ({ cls := "TaleDuelModel", name := "teller", desc := "(II)I" } : Jvm.MethodName)) ∈ lw_all := lw_g (lw_at lw_m7 97 rfl) rfl
theorem q1576 : (Jvm.Cond.code ({ cls := "TaleDuelModel", name := "teller", desc := "(II)I" } : Jvm.MethodName) prog_11_method_38_code (6 : Nat) (Option.some Jvm.ClassFile.FieldType.int)) ∈ lw_all := lw_g (lw_at lw_m7 98 rfl) rfl
theorem q1577 : (Jvm.Cond.methodLink "TaleDuelModel" (172 : Nat) ({ cls := "TaleDuelModel", name := "isTeller", desc := "(I)Z" } : Jvm.MethodName)) ∈ lw_all := lw_g (lw_at lw_m7 99 rfl) rfl
theorem q1578 : (Jvm.Cond.static ({ cls := "TaleDuelModel", name := "isTeller", desc := "(I)Z" } : Jvm.MethodName)) ∈ lw_all := lw_g (lw_at lw_m7 100 rfl) rfl
theorem q1579 : (Jvm.Cond.code ({ cls := "TaleDuelModel", name := "isTeller", desc := "(I)Z" } : Jvm.MethodName) prog_11_method_7_code (1 : Nat) (Option.some Jvm.ClassFile.FieldType.boolean)) ∈ lw_all := lw_g (lw_at lw_m7 101 rfl) rfl
theorem q1580 : (Jvm.Cond.constantLong "TaleDuelModel" (175 : Nat) (4 : Int64)) ∈ lw_all := lw_g (lw_at lw_m7 102 rfl) rfl
theorem q1581 : (Jvm.Cond.methodLink "TaleDuelModel" (70 : Nat) ({ cls := "TaleDuelModel", name := "isForbidden", desc := "([III)Z" } : Jvm.MethodName)) ∈ lw_all := lw_g (lw_at lw_m7 103 rfl) rfl
theorem q1582 : (Jvm.Cond.static ({ cls := "TaleDuelModel", name := "isForbidden", desc := "([III)Z" } : Jvm.MethodName)) ∈ lw_all := lw_g (lw_at lw_m7 104 rfl) rfl
theorem q1583 : (Jvm.Cond.code ({ cls := "TaleDuelModel", name := "isForbidden", desc := "([III)Z" } : Jvm.MethodName) prog_11_method_10_code (4 : Nat) (Option.some Jvm.ClassFile.FieldType.boolean)) ∈ lw_all := lw_g (lw_at lw_m7 105 rfl) rfl
theorem q1584 : (Jvm.Cond.methodLink "TaleDuelModel" (51 : Nat) ({ cls := "TaleDuelModel", name := "at", desc := "(I)I" } : Jvm.MethodName)) ∈ lw_all := lw_g (lw_at lw_m7 106 rfl) rfl
theorem q1585 : (Jvm.Cond.static ({ cls := "TaleDuelModel", name := "at", desc := "(I)I" } : Jvm.MethodName)) ∈ lw_all := lw_g (lw_at lw_m7 107 rfl) rfl
theorem q1586 : (Jvm.Cond.code ({ cls := "TaleDuelModel", name := "at", desc := "(I)I" } : Jvm.MethodName) prog_11_method_6_code (1 : Nat) (Option.some Jvm.ClassFile.FieldType.int)) ∈ lw_all := lw_g (lw_at lw_m7 108 rfl) rfl
theorem q1587 : (Jvm.Cond.methodLink "TaleDuelModel" (110 : Nat) ({ cls := "TaleDuelModel", name := "wasTold", desc := "([III)Z" } : Jvm.MethodName)) ∈ lw_all := lw_g (lw_at lw_m7 109 rfl) rfl
theorem q1588 : (Jvm.Cond.static ({ cls := "TaleDuelModel", name := "wasTold", desc := "([III)Z" } : Jvm.MethodName)) ∈ lw_all := lw_g (lw_at lw_m7 110 rfl) rfl
theorem q1589 : (Jvm.Cond.code ({ cls := "TaleDuelModel", name := "wasTold", desc := "([III)Z" } : Jvm.MethodName) prog_11_method_11_code (4 : Nat) (Option.some Jvm.ClassFile.FieldType.boolean)) ∈ lw_all := lw_g (lw_at lw_m7 111 rfl) rfl
theorem q1591 : (Jvm.Cond.instanceMethod ({ cls := "TaleDuelModel", name := "forbidden", desc := "(II)I" } : Jvm.MethodName)) ∈ lw_all := lw_g (lw_at lw_m7 113 rfl) rfl
theorem q1592 : (Jvm.Cond.selects "TaleDuelModel" ({ cls := "TaleDuelModel", name := "forbidden", desc := "(II)I" } : Jvm.MethodName) ({ cls := "TaleDuelModel", name := "forbidden", desc := "(II)I" } : Jvm.MethodName)) ∈ lw_all := lw_g (lw_at lw_m7 114 rfl) rfl
theorem q1593 : (Jvm.Cond.code ({ cls := "TaleDuelModel", name := "forbidden", desc := "(II)I" } : Jvm.MethodName) prog_11_method_39_code (3 : Nat) (Option.some Jvm.ClassFile.FieldType.int)) ∈ lw_all := lw_g (lw_at lw_m7 115 rfl) rfl
theorem q1595 : (Jvm.Cond.instanceMethod ({ cls := "TaleDuelModel", name := "listener", desc := "(II)I" } : Jvm.MethodName)) ∈ lw_all := lw_g (lw_at lw_m7 117 rfl) rfl
theorem q1596 : (Jvm.Cond.selects "TaleDuelModel" ({ cls := "TaleDuelModel", name := "listener", desc := "(II)I" } : Jvm.MethodName) ({ cls := "TaleDuelModel", name := "listener", desc := "(II)I" } : Jvm.MethodName)) ∈ lw_all := lw_g (lw_at lw_m7 118 rfl) rfl
theorem q1597 : (Jvm.Cond.code ({ cls := "TaleDuelModel", name := "listener", desc := "(II)I" } : Jvm.MethodName) prog_11_method_40_code (3 : Nat) (Option.some Jvm.ClassFile.FieldType.int)) ∈ lw_all := lw_g (lw_at lw_m7 119 rfl) rfl
theorem q1598 : (Jvm.Cond.constantLong "TaleDuelModel" (177 : Nat) (2 : Int64)) ∈ lw_all := lw_g (lw_at lw_m7 120 rfl) rfl
theorem q1599 : (Jvm.Cond.constantLong "TaleDuelModel" (146 : Nat) (3 : Int64)) ∈ lw_all := lw_g (lw_at lw_m7 121 rfl) rfl
theorem q1601 : (Jvm.Cond.instanceMethod ({ cls := "TaleDuelModel", name := "told", desc := "(II)I" } : Jvm.MethodName)) ∈ lw_all := lw_g (lw_at lw_m7 123 rfl) rfl
theorem q1602 : (Jvm.Cond.selects "TaleDuelModel" ({ cls := "TaleDuelModel", name := "told", desc := "(II)I" } : Jvm.MethodName) ({ cls := "TaleDuelModel", name := "told", desc := "(II)I" } : Jvm.MethodName)) ∈ lw_all := lw_g (lw_at lw_m7 124 rfl) rfl
theorem q1603 : (Jvm.Cond.code ({ cls := "TaleDuelModel", name := "told", desc := "(II)I" } : Jvm.MethodName) prog_11_method_41_code (3 : Nat) (Option.some Jvm.ClassFile.FieldType.int)) ∈ lw_all := lw_g (lw_at lw_m7 125 rfl) rfl
theorem q1605 : (Jvm.Cond.instanceMethod ({ cls := "TaleDuelModel", name := "setting", desc := "(I)I" } : Jvm.MethodName)) ∈ lw_all := lw_g (lw_at lw_m7 127 rfl) rfl
theorem q1606 : (Jvm.Cond.selects "TaleDuelModel" ({ cls := "TaleDuelModel", name := "setting", desc := "(I)I" } : Jvm.MethodName) ({ cls := "TaleDuelModel", name := "setting", desc := "(I)I" } : Jvm.MethodName)) ∈ lw_all := lw_g (lw_at lw_m7 128 rfl) rfl
theorem q1607 : (Jvm.Cond.code ({ cls := "TaleDuelModel", name := "setting", desc := "(I)I" } : Jvm.MethodName) prog_11_method_42_code (2 : Nat) (Option.some Jvm.ClassFile.FieldType.int)) ∈ lw_all := lw_g (lw_at lw_m7 129 rfl) rfl
theorem q1609 : (Jvm.Cond.instanceMethod ({ cls := "TaleDuelModel", name := "begin", desc := "(J)I" } : Jvm.MethodName)) ∈ lw_all := lw_g (lw_at lw_m7 131 rfl) rfl
theorem q1610 : (Jvm.Cond.selects "TaleDuelModel" ({ cls := "TaleDuelModel", name := "begin", desc := "(J)I" } : Jvm.MethodName) ({ cls := "TaleDuelModel", name := "begin", desc := "(J)I" } : Jvm.MethodName)) ∈ lw_all := lw_g (lw_at lw_m7 132 rfl) rfl
theorem q1611 : (Jvm.Cond.code ({ cls := "TaleDuelModel", name := "begin", desc := "(J)I" } : Jvm.MethodName) prog_11_method_44_code (8 : Nat) (Option.some Jvm.ClassFile.FieldType.int)) ∈ lw_all := lw_g (lw_at lw_m7 133 rfl) rfl
theorem q1612 : (Jvm.Cond.methodLink "TaleDuelModel" (182 : Nat) ({ cls := "TaleDuelModel", name := "remember", desc := "()V" } : Jvm.MethodName)) ∈ lw_all := lw_g (lw_at lw_m7 134 rfl) rfl
theorem q1613 : (Jvm.Cond.privateMethod ({ cls := "TaleDuelModel", name := "remember", desc := "()V" } : Jvm.MethodName)) ∈ lw_tbl := lw_at lw_m7 135 rfl
theorem q1614 : (Jvm.Cond.instanceMethod ({ cls := "TaleDuelModel", name := "remember", desc := "()V" } : Jvm.MethodName)) ∈ lw_all := lw_g (lw_at lw_m7 136 rfl) rfl
theorem q1615 : (Jvm.Cond.code ({ cls := "TaleDuelModel", name := "remember", desc := "()V" } : Jvm.MethodName) prog_11_method_43_code (2 : Nat) (Option.none : Option Jvm.ClassFile.FieldType)) ∈ lw_all := lw_g (lw_at lw_m7 137 rfl) rfl
theorem q1616 : (Jvm.Cond.methodLink "TaleDuelModel" (123 : Nat) ({ cls := "TaleDuelModel", name := "copyState", desc := "([II[II)V" } : Jvm.MethodName)) ∈ lw_all := lw_g (lw_at lw_m7 138 rfl) rfl
theorem q1617 : (Jvm.Cond.static ({ cls := "TaleDuelModel", name := "copyState", desc := "([II[II)V" } : Jvm.MethodName)) ∈ lw_all := lw_g (lw_at lw_m7 139 rfl) rfl
theorem q1618 : (Jvm.Cond.code ({ cls := "TaleDuelModel", name := "copyState", desc := "([II[II)V" } : Jvm.MethodName) prog_11_method_5_code (5 : Nat) (Option.none : Option Jvm.ClassFile.FieldType)) ∈ lw_all := lw_g (lw_at lw_m7 140 rfl) rfl
theorem q1619 : (Jvm.Cond.constantLong "TaleDuelModel" (185 : Nat) (10 : Int64)) ∈ lw_all := lw_g (lw_at lw_m7 141 rfl) rfl
theorem q1620 : (Jvm.Cond.constantLong "TaleDuelModel" (187 : Nat) (6364136223846793005 : Int64)) ∈ lw_all := lw_g (lw_at lw_m7 142 rfl) rfl
theorem q1621 : (Jvm.Cond.constantLong "TaleDuelModel" (189 : Nat) (1442695040888963407 : Int64)) ∈ lw_all := lw_g (lw_at lw_m7 143 rfl) rfl
theorem q1623 : (Jvm.Cond.instanceMethod ({ cls := "TaleDuelModel", name := "tell", desc := "()I" } : Jvm.MethodName)) ∈ lw_all := lw_g (lw_at lw_m7 145 rfl) rfl
theorem q1624 : (Jvm.Cond.selects "TaleDuelModel" ({ cls := "TaleDuelModel", name := "tell", desc := "()I" } : Jvm.MethodName) ({ cls := "TaleDuelModel", name := "tell", desc := "()I" } : Jvm.MethodName)) ∈ lw_all := lw_g (lw_at lw_m7 146 rfl) rfl
theorem q1625 : (Jvm.Cond.code ({ cls := "TaleDuelModel", name := "tell", desc := "()I" } : Jvm.MethodName) prog_11_method_47_code (1 : Nat) (Option.some Jvm.ClassFile.FieldType.int)) ∈ lw_all := lw_g (lw_at lw_m7 147 rfl) rfl
theorem q1626 : (Jvm.Cond.methodLink "TaleDuelModel" (194 : Nat) ({ cls := "TaleDuelModel", name := "canTellNow", desc := "([I)Z" } : Jvm.MethodName)) ∈ lw_all := lw_g (lw_at lw_m7 148 rfl) rfl
theorem q1627 : (Jvm.Cond.privateMethod ({ cls := "TaleDuelModel", name := "canTellNow", desc := "([I)Z" } : Jvm.MethodName)) ∈ lw_tbl := lw_at lw_m7 149 rfl
theorem q1628 : (Jvm.Cond.instanceMethod ({ cls := "TaleDuelModel", name := "canTellNow", desc := "([I)Z" } : Jvm.MethodName)) ∈ lw_all := lw_g (lw_at lw_m7 150 rfl) rfl
theorem q1629 : (Jvm.Cond.code ({ cls := "TaleDuelModel", name := "canTellNow", desc := "([I)Z" } : Jvm.MethodName) prog_11_method_46_code (2 : Nat) (Option.some Jvm.ClassFile.FieldType.boolean)) ∈ lw_all := lw_g (lw_at lw_m7 151 rfl) rfl
theorem q1630 : (Jvm.Cond.methodLink "TaleDuelModel" (106 : Nat) ({ cls := "TaleDuelModel", name := "isOn", desc := "([I)Z" } : Jvm.MethodName)) ∈ lw_all := lw_g (lw_at lw_m7 152 rfl) rfl
theorem q1631 : (Jvm.Cond.static ({ cls := "TaleDuelModel", name := "isOn", desc := "([I)Z" } : Jvm.MethodName)) ∈ lw_all := lw_g (lw_at lw_m7 153 rfl) rfl
theorem q1632 : (Jvm.Cond.code ({ cls := "TaleDuelModel", name := "isOn", desc := "([I)Z" } : Jvm.MethodName) prog_11_method_9_code (1 : Nat) (Option.some Jvm.ClassFile.FieldType.boolean)) ∈ lw_all := lw_g (lw_at lw_m7 154 rfl) rfl
theorem q1633 : (Jvm.Cond.methodLink "TaleDuelModel" (191 : Nat) ({ cls := "TaleDuelModel", name := "canTell", desc := "([II)Z" } : Jvm.MethodName)) ∈ lw_all := lw_g (lw_at lw_m7 155 rfl) rfl
theorem q1634 : (Jvm.Cond.privateMethod ({ cls := "TaleDuelModel", name := "canTell", desc := "([II)Z" } : Jvm.MethodName)) ∈ lw_tbl := lw_at lw_m7 156 rfl
theorem q1635 : (Jvm.Cond.instanceMethod ({ cls := "TaleDuelModel", name := "canTell", desc := "([II)Z" } : Jvm.MethodName)) ∈ lw_all := lw_g (lw_at lw_m7 157 rfl) rfl
theorem q1636 : (Jvm.Cond.code ({ cls := "TaleDuelModel", name := "canTell", desc := "([II)Z" } : Jvm.MethodName) prog_11_method_45_code (4 : Nat) (Option.some Jvm.ClassFile.FieldType.boolean)) ∈ lw_all := lw_g (lw_at lw_m7 158 rfl) rfl
theorem q1637 : (Jvm.Cond.methodLink "TaleDuelModel" (137 : Nat) ({ cls := "TaleDuelModel", name := "tellOn", desc := "([I)I" } : Jvm.MethodName)) ∈ lw_all := lw_g (lw_at lw_m7 159 rfl) rfl
theorem q1638 : (Jvm.Cond.privateMethod ({ cls := "TaleDuelModel", name := "tellOn", desc := "([I)I" } : Jvm.MethodName)) ∈ lw_tbl := lw_at lw_m7 160 rfl
theorem q1639 : (Jvm.Cond.instanceMethod ({ cls := "TaleDuelModel", name := "tellOn", desc := "([I)I" } : Jvm.MethodName)) ∈ lw_all := lw_g (lw_at lw_m7 161 rfl) rfl
theorem q1640 : (Jvm.Cond.code ({ cls := "TaleDuelModel", name := "tellOn", desc := "([I)I" } : Jvm.MethodName) prog_11_method_25_code (5 : Nat) (Option.some Jvm.ClassFile.FieldType.int)) ∈ lw_all := lw_g (lw_at lw_m7 162 rfl) rfl
theorem q1641 : (Jvm.Cond.methodLink "TaleDuelModel" (63 : Nat) ({ cls := "TaleDuelModel", name := "isThere", desc := "([II)Z" } : Jvm.MethodName)) ∈ lw_all := lw_g (lw_at lw_m7 163 rfl) rfl
theorem q1642 : (Jvm.Cond.static ({ cls := "TaleDuelModel", name := "isThere", desc := "([II)Z" } : Jvm.MethodName)) ∈ lw_all := lw_g (lw_at lw_m7 164 rfl) rfl
theorem q1643 : (Jvm.Cond.code ({ cls := "TaleDuelModel", name := "isThere", desc := "([II)Z" } : Jvm.MethodName) prog_11_method_14_code (2 : Nat) (Option.some Jvm.ClassFile.FieldType.boolean)) ∈ lw_all := lw_g (lw_at lw_m7 165 rfl) rfl
theorem q1644 : (Jvm.Cond.methodLink "TaleDuelModel" (102 : Nat) ({ cls := "TaleDuelModel", name := "hear", desc := "([II)I" } : Jvm.MethodName)) ∈ lw_all := lw_g (lw_at lw_m7 166 rfl) rfl
theorem q1645 : (Jvm.Cond.privateMethod ({ cls := "TaleDuelModel", name := "hear", desc := "([II)I" } : Jvm.MethodName)) ∈ lw_tbl := lw_at lw_m7 167 rfl
theorem q1646 : (Jvm.Cond.instanceMethod ({ cls := "TaleDuelModel", name := "hear", desc := "([II)I" } : Jvm.MethodName)) ∈ lw_all := lw_g (lw_at lw_m7 168 rfl) rfl
theorem q1647 : (Jvm.Cond.code ({ cls := "TaleDuelModel", name := "hear", desc := "([II)I" } : Jvm.MethodName) prog_11_method_24_code (5 : Nat) (Option.some Jvm.ClassFile.FieldType.int)) ∈ lw_all := lw_g (lw_at lw_m7 169 rfl) rfl
theorem q1648 : (Jvm.Cond.methodLink "TaleDuelModel" (66 : Nat) ({ cls := "TaleDuelModel", name := "likes", desc := "([III)Z" } : Jvm.MethodName)) ∈ lw_all := lw_g (lw_at lw_m7 170 rfl) rfl
theorem q1649 : (Jvm.Cond.static ({ cls := "TaleDuelModel", name := "likes", desc := "([III)Z" } : Jvm.MethodName)) ∈ lw_all := lw_g (lw_at lw_m7 171 rfl) rfl
theorem q1650 : (Jvm.Cond.code ({ cls := "TaleDuelModel", name := "likes", desc := "([III)Z" } : Jvm.MethodName) prog_11_method_15_code (3 : Nat) (Option.some Jvm.ClassFile.FieldType.boolean)) ∈ lw_all := lw_g (lw_at lw_m7 172 rfl) rfl
theorem q1652 : (Jvm.Cond.instanceMethod ({ cls := "TaleDuelModel", name := "forbid", desc := "(I)I" } : Jvm.MethodName)) ∈ lw_all := lw_g (lw_at lw_m7 174 rfl) rfl
theorem q1653 : (Jvm.Cond.selects "TaleDuelModel" ({ cls := "TaleDuelModel", name := "forbid", desc := "(I)I" } : Jvm.MethodName) ({ cls := "TaleDuelModel", name := "forbid", desc := "(I)I" } : Jvm.MethodName)) ∈ lw_all := lw_g (lw_at lw_m7 175 rfl) rfl
theorem q1654 : (Jvm.Cond.code ({ cls := "TaleDuelModel", name := "forbid", desc := "(I)I" } : Jvm.MethodName) prog_11_method_48_code (2 : Nat) (Option.some Jvm.ClassFile.FieldType.int)) ∈ lw_all := lw_g (lw_at lw_m7 176 rfl) rfl
theorem q1655 : (Jvm.Cond.methodLink "TaleDuelModel" (120 : Nat) ({ cls := "TaleDuelModel", name := "canForbid", desc := "([II)Z" } : Jvm.MethodName)) ∈ lw_all := lw_g (lw_at lw_m7 177 rfl) rfl
theorem q1656 : (Jvm.Cond.static ({ cls := "TaleDuelModel", name := "canForbid", desc := "([II)Z" } : Jvm.MethodName)) ∈ lw_all := lw_g (lw_at lw_m7 178 rfl) rfl
theorem q1657 : (Jvm.Cond.code ({ cls := "TaleDuelModel", name := "canForbid", desc := "([II)Z" } : Jvm.MethodName) prog_11_method_26_code (3 : Nat) (Option.some Jvm.ClassFile.FieldType.boolean)) ∈ lw_all := lw_g (lw_at lw_m7 179 rfl) rfl
theorem q1658 : (Jvm.Cond.methodLink "TaleDuelModel" (143 : Nat) ({ cls := "TaleDuelModel", name := "forbidOn", desc := "([II)I" } : Jvm.MethodName)) ∈ lw_all := lw_g (lw_at lw_m7 180 rfl) rfl
theorem q1659 : (Jvm.Cond.static ({ cls := "TaleDuelModel", name := "forbidOn", desc := "([II)I" } : Jvm.MethodName)) ∈ lw_all := lw_g (lw_at lw_m7 181 rfl) rfl
theorem q1660 : (Jvm.Cond.code ({ cls := "TaleDuelModel", name := "forbidOn", desc := "([II)I" } : Jvm.MethodName) prog_11_method_28_code (3 : Nat) (Option.some Jvm.ClassFile.FieldType.int)) ∈ lw_all := lw_g (lw_at lw_m7 182 rfl) rfl
theorem q1661 : (Jvm.Cond.methodLink "TaleDuelModel" (113 : Nat) ({ cls := "TaleDuelModel", name := "ban", desc := "([II)I" } : Jvm.MethodName)) ∈ lw_all := lw_g (lw_at lw_m7 183 rfl) rfl
theorem q1662 : (Jvm.Cond.static ({ cls := "TaleDuelModel", name := "ban", desc := "([II)I" } : Jvm.MethodName)) ∈ lw_all := lw_g (lw_at lw_m7 184 rfl) rfl
theorem q1663 : (Jvm.Cond.code ({ cls := "TaleDuelModel", name := "ban", desc := "([II)I" } : Jvm.MethodName) prog_11_method_27_code (4 : Nat) (Option.some Jvm.ClassFile.FieldType.int)) ∈ lw_all := lw_g (lw_at lw_m7 185 rfl) rfl
theorem q1664 : (Jvm.Cond.methodLink "TaleDuelModel" (116 : Nat) ({ cls := "TaleDuelModel", name := "endTurn", desc := "([IZ)V" } : Jvm.MethodName)) ∈ lw_all := lw_g (lw_at lw_m7 186 rfl) rfl
theorem q1665 : (Jvm.Cond.static ({ cls := "TaleDuelModel", name := "endTurn", desc := "([IZ)V" } : Jvm.MethodName)) ∈ lw_all := lw_g (lw_at lw_m7 187 rfl) rfl
theorem q1666 : (Jvm.Cond.code ({ cls := "TaleDuelModel", name := "endTurn", desc := "([IZ)V" } : Jvm.MethodName) prog_11_method_22_code (4 : Nat) (Option.none : Option Jvm.ClassFile.FieldType)) ∈ lw_all := lw_g (lw_at lw_m7 188 rfl) rfl
theorem q1668 : (Jvm.Cond.instanceMethod ({ cls := "TaleDuelModel", name := "done", desc := "()I" } : Jvm.MethodName)) ∈ lw_all := lw_g (lw_at lw_m7 190 rfl) rfl
theorem q1669 : (Jvm.Cond.selects "TaleDuelModel" ({ cls := "TaleDuelModel", name := "done", desc := "()I" } : Jvm.MethodName) ({ cls := "TaleDuelModel", name := "done", desc := "()I" } : Jvm.MethodName)) ∈ lw_all := lw_g (lw_at lw_m7 191 rfl) rfl
theorem q1670 : (Jvm.Cond.code ({ cls := "TaleDuelModel", name := "done", desc := "()I" } : Jvm.MethodName) prog_11_method_49_code (1 : Nat) (Option.some Jvm.ClassFile.FieldType.int)) ∈ lw_all := lw_g (lw_at lw_m7 192 rfl) rfl
theorem q1671 : (Jvm.Cond.methodLink "TaleDuelModel" (134 : Nat) ({ cls := "TaleDuelModel", name := "doneOn", desc := "([I)I" } : Jvm.MethodName)) ∈ lw_all := lw_g (lw_at lw_m7 193 rfl) rfl
theorem q1672 : (Jvm.Cond.static ({ cls := "TaleDuelModel", name := "doneOn", desc := "([I)I" } : Jvm.MethodName)) ∈ lw_all := lw_g (lw_at lw_m7 194 rfl) rfl
theorem q1673 : (Jvm.Cond.code ({ cls := "TaleDuelModel", name := "doneOn", desc := "([I)I" } : Jvm.MethodName) prog_11_method_30_code (1 : Nat) (Option.some Jvm.ClassFile.FieldType.int)) ∈ lw_all := lw_g (lw_at lw_m7 195 rfl) rfl
theorem q1675 : (Jvm.Cond.instanceMethod ({ cls := "TaleDuelModel", name := "play", desc := "()I" } : Jvm.MethodName)) ∈ lw_all := lw_g (lw_at lw_m7 197 rfl) rfl
theorem q1676 : (Jvm.Cond.selects "TaleDuelModel" ({ cls := "TaleDuelModel", name := "play", desc := "()I" } : Jvm.MethodName) ({ cls := "TaleDuelModel", name := "play", desc := "()I" } : Jvm.MethodName)) ∈ lw_all := lw_g (lw_at lw_m7 198 rfl) rfl
theorem q1677 : (Jvm.Cond.code ({ cls := "TaleDuelModel", name := "play", desc := "()I" } : Jvm.MethodName) prog_11_method_50_code (1 : Nat) (Option.some Jvm.ClassFile.FieldType.int)) ∈ lw_all := lw_g (lw_at lw_m7 199 rfl) rfl
theorem q1678 : (Jvm.Cond.methodLink "TaleDuelModel" (197 : Nat) ({ cls := "TaleDuelModel", name := "playOn", desc := "([I)I" } : Jvm.MethodName)) ∈ lw_all := lw_g (lw_at lw_m7 200 rfl) rfl
theorem q1679 : (Jvm.Cond.privateMethod ({ cls := "TaleDuelModel", name := "playOn", desc := "([I)I" } : Jvm.MethodName)) ∈ lw_tbl := lw_at lw_m7 201 rfl
theorem q1680 : (Jvm.Cond.instanceMethod ({ cls := "TaleDuelModel", name := "playOn", desc := "([I)I" } : Jvm.MethodName)) ∈ lw_all := lw_g (lw_at lw_m7 202 rfl) rfl
theorem q1681 : (Jvm.Cond.code ({ cls := "TaleDuelModel", name := "playOn", desc := "([I)I" } : Jvm.MethodName) prog_11_method_31_code (4 : Nat) (Option.some Jvm.ClassFile.FieldType.int)) ∈ lw_all := lw_g (lw_at lw_m7 203 rfl) rfl
theorem q1682 : (Jvm.Cond.methodLink "TaleDuelModel" (127 : Nat) ({ cls := "TaleDuelModel", name := "bestOf", desc := "([II)I" } : Jvm.MethodName)) ∈ lw_all := lw_g (lw_at lw_m7 204 rfl) rfl
theorem q1683 : (Jvm.Cond.privateMethod ({ cls := "TaleDuelModel", name := "bestOf", desc := "([II)I" } : Jvm.MethodName)) ∈ lw_tbl := lw_at lw_m7 205 rfl
theorem q1684 : (Jvm.Cond.instanceMethod ({ cls := "TaleDuelModel", name := "bestOf", desc := "([II)I" } : Jvm.MethodName)) ∈ lw_all := lw_g (lw_at lw_m7 206 rfl) rfl
theorem q1685 : (Jvm.Cond.code ({ cls := "TaleDuelModel", name := "bestOf", desc := "([II)I" } : Jvm.MethodName) prog_11_method_21_code (3 : Nat) (Option.some Jvm.ClassFile.FieldType.int)) ∈ lw_all := lw_g (lw_at lw_m7 207 rfl) rfl
theorem q1686 : (Jvm.Cond.methodLink "TaleDuelModel" (94 : Nat) ({ cls := "TaleDuelModel", name := "reckon", desc := "([II)V" } : Jvm.MethodName)) ∈ lw_all := lw_g (lw_at lw_m7 208 rfl) rfl
theorem q1687 : (Jvm.Cond.privateMethod ({ cls := "TaleDuelModel", name := "reckon", desc := "([II)V" } : Jvm.MethodName)) ∈ lw_tbl := lw_at lw_m7 209 rfl
theorem q1688 : (Jvm.Cond.instanceMethod ({ cls := "TaleDuelModel", name := "reckon", desc := "([II)V" } : Jvm.MethodName)) ∈ lw_all := lw_g (lw_at lw_m7 210 rfl) rfl
theorem q1689 : (Jvm.Cond.code ({ cls := "TaleDuelModel", name := "reckon", desc := "([II)V" } : Jvm.MethodName) prog_11_method_16_code (7 : Nat) (Option.none : Option Jvm.ClassFile.FieldType)) ∈ lw_all := lw_g (lw_at lw_m7 211 rfl) rfl
theorem q1690 : (Jvm.Cond.methodLink "TaleDuelModel" (98 : Nat) ({ cls := "TaleDuelModel", name := "findBest", desc := "()I" } : Jvm.MethodName)) ∈ lw_all := lw_g (lw_at lw_m7 212 rfl) rfl
theorem q1691 : (Jvm.Cond.privateMethod ({ cls := "TaleDuelModel", name := "findBest", desc := "()I" } : Jvm.MethodName)) ∈ lw_tbl := lw_at lw_m7 213 rfl
theorem q1692 : (Jvm.Cond.instanceMethod ({ cls := "TaleDuelModel", name := "findBest", desc := "()I" } : Jvm.MethodName)) ∈ lw_all := lw_g (lw_at lw_m7 214 rfl) rfl
theorem q1693 : (Jvm.Cond.code ({ cls := "TaleDuelModel", name := "findBest", desc := "()I" } : Jvm.MethodName) prog_11_method_20_code (6 : Nat) (Option.some Jvm.ClassFile.FieldType.int)) ∈ lw_all := lw_g (lw_at lw_m7 215 rfl) rfl
theorem q1694 : (Jvm.Cond.methodLink "TaleDuelModel" (90 : Nat) ({ cls := "TaleDuelModel", name := "tryAll", desc := "(IIIII)V" } : Jvm.MethodName)) ∈ lw_all := lw_g (lw_at lw_m7 216 rfl) rfl
theorem q1695 : (Jvm.Cond.privateMethod ({ cls := "TaleDuelModel", name := "tryAll", desc := "(IIIII)V" } : Jvm.MethodName)) ∈ lw_tbl := lw_at lw_m7 217 rfl
theorem q1696 : (Jvm.Cond.instanceMethod ({ cls := "TaleDuelModel", name := "tryAll", desc := "(IIIII)V" } : Jvm.MethodName)) ∈ lw_all := lw_g (lw_at lw_m7 218 rfl) rfl
theorem q1697 : (Jvm.Cond.code ({ cls := "TaleDuelModel", name := "tryAll", desc := "(IIIII)V" } : Jvm.MethodName) prog_11_method_19_code (10 : Nat) (Option.none : Option Jvm.ClassFile.FieldType)) ∈ lw_all := lw_g (lw_at lw_m7 219 rfl) rfl
theorem q1698 : (Jvm.Cond.methodLink "TaleDuelModel" (86 : Nat) ({ cls := "TaleDuelModel", name := "isBetter", desc := "(I)Z" } : Jvm.MethodName)) ∈ lw_all := lw_g (lw_at lw_m7 220 rfl) rfl
theorem q1699 : (Jvm.Cond.privateMethod ({ cls := "TaleDuelModel", name := "isBetter", desc := "(I)Z" } : Jvm.MethodName)) ∈ lw_tbl := lw_at lw_m7 221 rfl
theorem q1700 : (Jvm.Cond.instanceMethod ({ cls := "TaleDuelModel", name := "isBetter", desc := "(I)Z" } : Jvm.MethodName)) ∈ lw_all := lw_g (lw_at lw_m7 222 rfl) rfl
theorem q1701 : (Jvm.Cond.code ({ cls := "TaleDuelModel", name := "isBetter", desc := "(I)Z" } : Jvm.MethodName) prog_11_method_18_code (3 : Nat) (Option.some Jvm.ClassFile.FieldType.boolean)) ∈ lw_all := lw_g (lw_at lw_m7 223 rfl) rfl
theorem q1702 : (Jvm.Cond.methodLink "TaleDuelModel" (140 : Nat) ({ cls := "TaleDuelModel", name := "banOf", desc := "([I)I" } : Jvm.MethodName)) ∈ lw_all := lw_g (lw_at lw_m7 224 rfl) rfl
theorem q1703 : (Jvm.Cond.privateMethod ({ cls := "TaleDuelModel", name := "banOf", desc := "([I)I" } : Jvm.MethodName)) ∈ lw_tbl := lw_at lw_m7 225 rfl
theorem q1704 : (Jvm.Cond.instanceMethod ({ cls := "TaleDuelModel", name := "banOf", desc := "([I)I" } : Jvm.MethodName)) ∈ lw_all := lw_g (lw_at lw_m7 226 rfl) rfl
theorem q1705 : (Jvm.Cond.code ({ cls := "TaleDuelModel", name := "banOf", desc := "([I)I" } : Jvm.MethodName) prog_11_method_29_code (6 : Nat) (Option.some Jvm.ClassFile.FieldType.int)) ∈ lw_all := lw_g (lw_at lw_m7 227 rfl) rfl
theorem q1707 : (Jvm.Cond.instanceMethod ({ cls := "TaleDuelModel", name := "set", desc := "(II)I" } : Jvm.MethodName)) ∈ lw_all := lw_g (lw_at lw_m7 229 rfl) rfl
theorem q1708 : (Jvm.Cond.selects "TaleDuelModel" ({ cls := "TaleDuelModel", name := "set", desc := "(II)I" } : Jvm.MethodName) ({ cls := "TaleDuelModel", name := "set", desc := "(II)I" } : Jvm.MethodName)) ∈ lw_all := lw_g (lw_at lw_m7 230 rfl) rfl
theorem q1709 : (Jvm.Cond.code ({ cls := "TaleDuelModel", name := "set", desc := "(II)I" } : Jvm.MethodName) prog_11_method_51_code (4 : Nat) (Option.some Jvm.ClassFile.FieldType.int)) ∈ lw_all := lw_g (lw_at lw_m7 231 rfl) rfl
theorem q1710 : (Jvm.Cond.methodLink "TaleDuelModel" (200 : Nat) ({ cls := "TaleDuelModel", name := "isSetting", desc := "(II)Z" } : Jvm.MethodName)) ∈ lw_all := lw_g (lw_at lw_m7 232 rfl) rfl
theorem q1711 : (Jvm.Cond.static ({ cls := "TaleDuelModel", name := "isSetting", desc := "(II)Z" } : Jvm.MethodName)) ∈ lw_all := lw_g (lw_at lw_m7 233 rfl) rfl
theorem q1712 : (Jvm.Cond.code ({ cls := "TaleDuelModel", name := "isSetting", desc := "(II)Z" } : Jvm.MethodName) prog_11_method_32_code (2 : Nat) (Option.some Jvm.ClassFile.FieldType.boolean)) ∈ lw_all := lw_g (lw_at lw_m7 234 rfl) rfl
theorem q1713 : (Jvm.Cond.constantLong "TaleDuelModel" (148 : Nat) (5 : Int64)) ∈ lw_all := lw_g (lw_at lw_m7 235 rfl) rfl
theorem q1714 : (Jvm.Cond.constantLong "TaleDuelModel" (150 : Nat) (6 : Int64)) ∈ lw_all := lw_g (lw_at lw_m7 236 rfl) rfl
theorem q1715 : (Jvm.Cond.constantLong "TaleDuelModel" (152 : Nat) (9 : Int64)) ∈ lw_all := lw_g (lw_at lw_m7 237 rfl) rfl
theorem q1716 : (Jvm.Cond.constantLong "TaleDuelModel" (154 : Nat) (99 : Int64)) ∈ lw_all := lw_g (lw_at lw_m7 238 rfl) rfl
theorem q1718 : (Jvm.Cond.instanceMethod ({ cls := "TaleDuelModel", name := "undo", desc := "()I" } : Jvm.MethodName)) ∈ lw_all := lw_g (lw_at lw_m8 0 rfl) rfl
theorem q1719 : (Jvm.Cond.selects "TaleDuelModel" ({ cls := "TaleDuelModel", name := "undo", desc := "()I" } : Jvm.MethodName) ({ cls := "TaleDuelModel", name := "undo", desc := "()I" } : Jvm.MethodName)) ∈ lw_all := lw_g (lw_at lw_m8 1 rfl) rfl
theorem q1720 : (Jvm.Cond.code ({ cls := "TaleDuelModel", name := "undo", desc := "()I" } : Jvm.MethodName) prog_11_method_52_code (1 : Nat) (Option.some Jvm.ClassFile.FieldType.int)) ∈ lw_all := lw_g (lw_at lw_m8 2 rfl) rfl
theorem q1722 : (Jvm.Cond.instanceMethod ({ cls := "TaleDuelModel", name := "points", desc := "(I)I" } : Jvm.MethodName)) ∈ lw_all := lw_g (lw_at lw_m8 4 rfl) rfl
theorem q1723 : (Jvm.Cond.selects "TaleDuelModel" ({ cls := "TaleDuelModel", name := "points", desc := "(I)I" } : Jvm.MethodName) ({ cls := "TaleDuelModel", name := "points", desc := "(I)I" } : Jvm.MethodName)) ∈ lw_all := lw_g (lw_at lw_m8 5 rfl) rfl
theorem q1724 : (Jvm.Cond.code ({ cls := "TaleDuelModel", name := "points", desc := "(I)I" } : Jvm.MethodName) prog_11_method_53_code (4 : Nat) (Option.some Jvm.ClassFile.FieldType.int)) ∈ lw_all := lw_g (lw_at lw_m8 6 rfl) rfl
theorem q1726 : (Jvm.Cond.instanceMethod ({ cls := "TaleDuelModel", name := "best", desc := "(II)I" } : Jvm.MethodName)) ∈ lw_all := lw_g (lw_at lw_m8 8 rfl) rfl
theorem q1727 : (Jvm.Cond.selects "TaleDuelModel" ({ cls := "TaleDuelModel", name := "best", desc := "(II)I" } : Jvm.MethodName) ({ cls := "TaleDuelModel", name := "best", desc := "(II)I" } : Jvm.MethodName)) ∈ lw_all := lw_g (lw_at lw_m8 9 rfl) rfl
theorem q1728 : (Jvm.Cond.code ({ cls := "TaleDuelModel", name := "best", desc := "(II)I" } : Jvm.MethodName) prog_11_method_54_code (3 : Nat) (Option.some Jvm.ClassFile.FieldType.int)) ∈ lw_all := lw_g (lw_at lw_m8 10 rfl) rfl
theorem q1730 : (Jvm.Cond.instanceMethod ({ cls := "TaleDuelModel", name := "ifForbidden", desc := "(II)I" } : Jvm.MethodName)) ∈ lw_all := lw_g (lw_at lw_m8 12 rfl) rfl
theorem q1731 : (Jvm.Cond.selects "TaleDuelModel" ({ cls := "TaleDuelModel", name := "ifForbidden", desc := "(II)I" } : Jvm.MethodName) ({ cls := "TaleDuelModel", name := "ifForbidden", desc := "(II)I" } : Jvm.MethodName)) ∈ lw_all := lw_g (lw_at lw_m8 13 rfl) rfl
theorem q1732 : (Jvm.Cond.code ({ cls := "TaleDuelModel", name := "ifForbidden", desc := "(II)I" } : Jvm.MethodName) prog_11_method_55_code (3 : Nat) (Option.some Jvm.ClassFile.FieldType.int)) ∈ lw_all := lw_g (lw_at lw_m8 14 rfl) rfl
theorem q1734 : (Jvm.Cond.instanceMethod ({ cls := "TaleDuelModel", name := "bestBan", desc := "()I" } : Jvm.MethodName)) ∈ lw_all := lw_g (lw_at lw_m8 16 rfl) rfl
theorem q1735 : (Jvm.Cond.selects "TaleDuelModel" ({ cls := "TaleDuelModel", name := "bestBan", desc := "()I" } : Jvm.MethodName) ({ cls := "TaleDuelModel", name := "bestBan", desc := "()I" } : Jvm.MethodName)) ∈ lw_all := lw_g (lw_at lw_m8 17 rfl) rfl
theorem q1736 : (Jvm.Cond.code ({ cls := "TaleDuelModel", name := "bestBan", desc := "()I" } : Jvm.MethodName) prog_11_method_56_code (1 : Nat) (Option.some Jvm.ClassFile.FieldType.int)) ∈ lw_all := lw_g (lw_at lw_m8 18 rfl) rfl
theorem q1738 : (Jvm.Cond.instanceMethod ({ cls := "TaleDuelModel", name := "leaves", desc := "(I)Z" } : Jvm.MethodName)) ∈ lw_all := lw_g (lw_at lw_m8 20 rfl) rfl
theorem q1739 : (Jvm.Cond.selects "TaleDuelModel" ({ cls := "TaleDuelModel", name := "leaves", desc := "(I)Z" } : Jvm.MethodName) ({ cls := "TaleDuelModel", name := "leaves", desc := "(I)Z" } : Jvm.MethodName)) ∈ lw_all := lw_g (lw_at lw_m8 21 rfl) rfl
theorem q1740 : (Jvm.Cond.code ({ cls := "TaleDuelModel", name := "leaves", desc := "(I)Z" } : Jvm.MethodName) prog_11_method_57_code (2 : Nat) (Option.some Jvm.ClassFile.FieldType.boolean)) ∈ lw_all := lw_g (lw_at lw_m8 22 rfl) rfl
theorem q1742 : (Jvm.Cond.instanceMethod ({ cls := "TaleDuelModel", name := "runScript", desc := "(IJ)I" } : Jvm.MethodName)) ∈ lw_all := lw_g (lw_at lw_m8 24 rfl) rfl
theorem q1743 : (Jvm.Cond.selects "TaleDuelModel" ({ cls := "TaleDuelModel", name := "runScript", desc := "(IJ)I" } : Jvm.MethodName) ({ cls := "TaleDuelModel", name := "runScript", desc := "(IJ)I" } : Jvm.MethodName)) ∈ lw_all := lw_g (lw_at lw_m8 25 rfl) rfl
theorem q1744 : (Jvm.Cond.code ({ cls := "TaleDuelModel", name := "runScript", desc := "(IJ)I" } : Jvm.MethodName) prog_11_method_59_code (8 : Nat) (Option.some Jvm.ClassFile.FieldType.int)) ∈ lw_all := lw_g (lw_at lw_m8 26 rfl) rfl
theorem q1745 : (Jvm.Cond.constantLong "TaleDuelModel" (204 : Nat) (1000 : Int64)) ∈ lw_all := lw_g (lw_at lw_m8 27 rfl) rfl
theorem q1746 : (Jvm.Cond.methodLink "TaleDuelModel" (206 : Nat) ({ cls := "TaleDuelModel", name := "command", desc := "(III)Z" } : Jvm.MethodName)) ∈ lw_all := lw_g (lw_at lw_m8 28 rfl) rfl
theorem q1747 : (Jvm.Cond.privateMethod ({ cls := "TaleDuelModel", name := "command", desc := "(III)Z" } : Jvm.MethodName)) ∈ lw_tbl := lw_at lw_m8 29 rfl
theorem q1748 : (Jvm.Cond.instanceMethod ({ cls := "TaleDuelModel", name := "command", desc := "(III)Z" } : Jvm.MethodName)) ∈ lw_all := lw_g (lw_at lw_m8 30 rfl) rfl
theorem q1749 : (Jvm.Cond.code ({ cls := "TaleDuelModel", name := "command", desc := "(III)Z" } : Jvm.MethodName) prog_11_method_58_code (6 : Nat) (Option.some Jvm.ClassFile.FieldType.boolean)) ∈ lw_all := lw_g (lw_at lw_m8 31 rfl) rfl
theorem q1751 : (Jvm.Cond.instanceMethod ({ cls := "TaleDuelModel", name := "simulate", desc := "(JI)I" } : Jvm.MethodName)) ∈ lw_all := lw_g (lw_at lw_m8 33 rfl) rfl
theorem q1752 : (Jvm.Cond.selects "TaleDuelModel" ({ cls := "TaleDuelModel", name := "simulate", desc := "(JI)I" } : Jvm.MethodName) ({ cls := "TaleDuelModel", name := "simulate", desc := "(JI)I" } : Jvm.MethodName)) ∈ lw_all := lw_g (lw_at lw_m8 34 rfl) rfl
theorem q1753 : (Jvm.Cond.code ({ cls := "TaleDuelModel", name := "simulate", desc := "(JI)I" } : Jvm.MethodName) prog_11_method_61_code (7 : Nat) (Option.some Jvm.ClassFile.FieldType.int)) ∈ lw_all := lw_g (lw_at lw_m8 35 rfl) rfl
theorem q1754 : (Jvm.Cond.constantLong "TaleDuelModel" (210 : Nat) (20 : Int64)) ∈ lw_all := lw_g (lw_at lw_m8 36 rfl) rfl
theorem q1755 : (Jvm.Cond.methodLink "TaleDuelModel" (212 : Nat) ({ cls := "TaleDuelModel", name := "turn", desc := "(I)V" } : Jvm.MethodName)) ∈ lw_all := lw_g (lw_at lw_m8 37 rfl) rfl
theorem q1756 : (Jvm.Cond.privateMethod ({ cls := "TaleDuelModel", name := "turn", desc := "(I)V" } : Jvm.MethodName)) ∈ lw_tbl := lw_at lw_m8 38 rfl
theorem q1757 : (Jvm.Cond.instanceMethod ({ cls := "TaleDuelModel", name := "turn", desc := "(I)V" } : Jvm.MethodName)) ∈ lw_all := lw_g (lw_at lw_m8 39 rfl) rfl
theorem q1758 : (Jvm.Cond.code ({ cls := "TaleDuelModel", name := "turn", desc := "(I)V" } : Jvm.MethodName) prog_11_method_60_code (2 : Nat) (Option.none : Option Jvm.ClassFile.FieldType)) ∈ lw_all := lw_g (lw_at lw_m8 40 rfl) rfl
theorem q1760 : (Jvm.Cond.instanceMethod ({ cls := "TaleDuelModel", name := "save", desc := "(I)I" } : Jvm.MethodName)) ∈ lw_all := lw_g (lw_at lw_m8 42 rfl) rfl
theorem q1761 : (Jvm.Cond.selects "TaleDuelModel" ({ cls := "TaleDuelModel", name := "save", desc := "(I)I" } : Jvm.MethodName) ({ cls := "TaleDuelModel", name := "save", desc := "(I)I" } : Jvm.MethodName)) ∈ lw_all := lw_g (lw_at lw_m8 43 rfl) rfl
theorem q1762 : (Jvm.Cond.code ({ cls := "TaleDuelModel", name := "save", desc := "(I)I" } : Jvm.MethodName) prog_11_method_62_code (2 : Nat) (Option.some Jvm.ClassFile.FieldType.int)) ∈ lw_all := lw_g (lw_at lw_m8 44 rfl) rfl
theorem q1764 : (Jvm.Cond.instanceMethod ({ cls := "TaleDuelModel", name := "restore", desc := "(I)I" } : Jvm.MethodName)) ∈ lw_all := lw_g (lw_at lw_m8 46 rfl) rfl
theorem q1765 : (Jvm.Cond.selects "TaleDuelModel" ({ cls := "TaleDuelModel", name := "restore", desc := "(I)I" } : Jvm.MethodName) ({ cls := "TaleDuelModel", name := "restore", desc := "(I)I" } : Jvm.MethodName)) ∈ lw_all := lw_g (lw_at lw_m8 47 rfl) rfl
theorem q1766 : (Jvm.Cond.code ({ cls := "TaleDuelModel", name := "restore", desc := "(I)I" } : Jvm.MethodName) prog_11_method_63_code (2 : Nat) (Option.some Jvm.ClassFile.FieldType.int)) ∈ lw_all := lw_g (lw_at lw_m8 48 rfl) rfl
theorem q1789 : (Jvm.Cond.castable "TaleDuelModel" "java/lang/Object") ∈ lw_tbl := lw_at lw_m8 71 rfl
theorem in_X4 : ∀ w ∈ wsX40, w ∈ lw_all := lw_in wsX40 [1489, 1491, 1493, 1495, 1497, 1499, 1501, 1503, 1505, 1507, 1509, 1511, 1513, 1515, 1517, 1519] (by decide +kernel) (by decide +kernel)
