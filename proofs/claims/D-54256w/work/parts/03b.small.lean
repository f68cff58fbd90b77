/-! TaleDuel$State -/
set_option maxRecDepth 100000
def RX2 : String := "TaleDuel$State"
def TX2 : u_T := fun k => match k with
  | 0 => ("TaleDuel$State", "settings", "[I", false)
  | _ => ("TaleDuel$State", "duel", "LTaleDuel$Duel;", false)
def tyX2 : Nat → FieldType := fun k => match k with
  | 0 => .array .int
  | _ => .object "TaleDuel$Duel"
abbrev wsX20 : List Cond := u_ws RX2 TX2 2
theorem nmX2 : ∀ a, a < 2 → ∀ b, b < 2 → a ≠ b → (TX2 a).2.1 ≠ (TX2 b).2.1 := by decide +kernel
theorem tyX2_ok : ∀ k, k < 2 → parseFieldDescriptor (TX2 k).2.2.1 = some (tyX2 k) := by decide +kernel
abbrev cX2_init : ByteArray := prog_7_method_1_code
def yX2_init : MethodName := ⟨RX2, "<init>", "()V"⟩
def dkwX2_init_1 : List UInt8 := [79, 181, 0, 7, 177]
abbrev dktX2_init_1 : List UInt8 := dkwX2_init_1 ++ []
def dkwX2_init_0 : List UInt8 := [42, 183, 0, 1, 42, 7, 188, 10, 89, 3, 6, 79, 89, 4, 6, 79, 89, 5, 6, 79, 89, 6, 16, 30]
abbrev dktX2_init_0 : List UInt8 := dkwX2_init_0 ++ dktX2_init_1
theorem dksX2_init_0 : cX2_init.data.toList.drop 0 = dktX2_init_0 := by decide +kernel
theorem dksX2_init_1 : cX2_init.data.toList.drop 24 = dktX2_init_1 := dk_seg dksX2_init_0 24 rfl rfl
theorem dX2_init_0 : decode cX2_init 0 = .ok (.aload_n 0, 1) := dk_42 (dk_at dksX2_init_0 0 rfl rfl)
theorem dX2_init_1 : decode cX2_init 1 = .ok (.invokespecial 1, 3) := dk_183 0 1 (dk_at dksX2_init_0 1 rfl rfl)
theorem dX2_init_4 : decode cX2_init 4 = .ok (.aload_n 0, 1) := dk_42 (dk_at dksX2_init_0 4 rfl rfl)
theorem dX2_init_5 : decode cX2_init 5 = .ok (.iconst 4, 1) := dk_7 (dk_at dksX2_init_0 5 rfl rfl)
theorem dX2_init_6 : decode cX2_init 6 = .ok (.newarray .int, 2) := dk_188_10 (dk_at dksX2_init_0 6 rfl rfl)
theorem dX2_init_8 : decode cX2_init 8 = .ok (.dup, 1) := dk_89 (dk_at dksX2_init_0 8 rfl rfl)
theorem dX2_init_9 : decode cX2_init 9 = .ok (.iconst 0, 1) := dk_3 (dk_at dksX2_init_0 9 rfl rfl)
theorem dX2_init_10 : decode cX2_init 10 = .ok (.iconst 3, 1) := dk_6 (dk_at dksX2_init_0 10 rfl rfl)
theorem dX2_init_11 : decode cX2_init 11 = .ok (.iastore, 1) := dk_79 (dk_at dksX2_init_0 11 rfl rfl)
theorem dX2_init_12 : decode cX2_init 12 = .ok (.dup, 1) := dk_89 (dk_at dksX2_init_0 12 rfl rfl)
theorem dX2_init_13 : decode cX2_init 13 = .ok (.iconst 1, 1) := dk_4 (dk_at dksX2_init_0 13 rfl rfl)
theorem dX2_init_14 : decode cX2_init 14 = .ok (.iconst 3, 1) := dk_6 (dk_at dksX2_init_0 14 rfl rfl)
theorem dX2_init_15 : decode cX2_init 15 = .ok (.iastore, 1) := dk_79 (dk_at dksX2_init_0 15 rfl rfl)
theorem dX2_init_16 : decode cX2_init 16 = .ok (.dup, 1) := dk_89 (dk_at dksX2_init_0 16 rfl rfl)
theorem dX2_init_17 : decode cX2_init 17 = .ok (.iconst 2, 1) := dk_5 (dk_at dksX2_init_0 17 rfl rfl)
theorem dX2_init_18 : decode cX2_init 18 = .ok (.iconst 3, 1) := dk_6 (dk_at dksX2_init_0 18 rfl rfl)
theorem dX2_init_19 : decode cX2_init 19 = .ok (.iastore, 1) := dk_79 (dk_at dksX2_init_0 19 rfl rfl)
theorem dX2_init_20 : decode cX2_init 20 = .ok (.dup, 1) := dk_89 (dk_at dksX2_init_0 20 rfl rfl)
theorem dX2_init_21 : decode cX2_init 21 = .ok (.iconst 3, 1) := dk_6 (dk_at dksX2_init_0 21 rfl rfl)
theorem dX2_init_22 : decode cX2_init 22 = .ok (.bipush 30, 2) := dk_16 30 (dk_at dksX2_init_0 22 rfl rfl)
theorem dX2_init_24 : decode cX2_init 24 = .ok (.iastore, 1) := dk_79 (dk_at dksX2_init_1 0 rfl rfl)
theorem dX2_init_25 : decode cX2_init 25 = .ok (.putfield 7, 3) := dk_181 0 7 (dk_at dksX2_init_1 1 rfl rfl)
theorem dX2_init_28 : decode cX2_init 28 = .ok (.return_, 1) := dk_177 (dk_at dksX2_init_1 4 rfl rfl)
abbrev cX2_init_2 : ByteArray := prog_7_method_2_code
def yX2_init_2 : MethodName := ⟨RX2, "<init>", "(LTaleDuel$State;)V"⟩
def dkwX2_init_2_3 : List UInt8 := [181, 0, 18, 177]
abbrev dktX2_init_2_3 : List UInt8 := dkwX2_init_2_3 ++ []
def dkwX2_init_2_2 : List UInt8 := [199, 0, 7, 1, 167, 0, 18, 187, 0, 22, 89, 43, 180, 0, 18, 42, 180, 0, 7, 183, 0, 24]
abbrev dktX2_init_2_2 : List UInt8 := dkwX2_init_2_2 ++ dktX2_init_2_3
def dkwX2_init_2_1 : List UInt8 := [79, 181, 0, 7, 42, 43, 180, 0, 7, 182, 0, 13, 192, 0, 14, 181, 0, 7, 42, 43, 180, 0, 18]
abbrev dktX2_init_2_1 : List UInt8 := dkwX2_init_2_1 ++ dktX2_init_2_2
def dkwX2_init_2_0 : List UInt8 := [42, 183, 0, 1, 42, 7, 188, 10, 89, 3, 6, 79, 89, 4, 6, 79, 89, 5, 6, 79, 89, 6, 16, 30]
abbrev dktX2_init_2_0 : List UInt8 := dkwX2_init_2_0 ++ dktX2_init_2_1
theorem dksX2_init_2_0 : cX2_init_2.data.toList.drop 0 = dktX2_init_2_0 := by decide +kernel
theorem dksX2_init_2_1 : cX2_init_2.data.toList.drop 24 = dktX2_init_2_1 := dk_seg dksX2_init_2_0 24 rfl rfl
theorem dksX2_init_2_2 : cX2_init_2.data.toList.drop 47 = dktX2_init_2_2 := dk_seg dksX2_init_2_1 23 rfl rfl
theorem dksX2_init_2_3 : cX2_init_2.data.toList.drop 69 = dktX2_init_2_3 := dk_seg dksX2_init_2_2 22 rfl rfl
theorem dX2_init_2_0 : decode cX2_init_2 0 = .ok (.aload_n 0, 1) := dk_42 (dk_at dksX2_init_2_0 0 rfl rfl)
theorem dX2_init_2_1 : decode cX2_init_2 1 = .ok (.invokespecial 1, 3) := dk_183 0 1 (dk_at dksX2_init_2_0 1 rfl rfl)
theorem dX2_init_2_4 : decode cX2_init_2 4 = .ok (.aload_n 0, 1) := dk_42 (dk_at dksX2_init_2_0 4 rfl rfl)
theorem dX2_init_2_5 : decode cX2_init_2 5 = .ok (.iconst 4, 1) := dk_7 (dk_at dksX2_init_2_0 5 rfl rfl)
theorem dX2_init_2_6 : decode cX2_init_2 6 = .ok (.newarray .int, 2) := dk_188_10 (dk_at dksX2_init_2_0 6 rfl rfl)
theorem dX2_init_2_8 : decode cX2_init_2 8 = .ok (.dup, 1) := dk_89 (dk_at dksX2_init_2_0 8 rfl rfl)
theorem dX2_init_2_9 : decode cX2_init_2 9 = .ok (.iconst 0, 1) := dk_3 (dk_at dksX2_init_2_0 9 rfl rfl)
theorem dX2_init_2_10 : decode cX2_init_2 10 = .ok (.iconst 3, 1) := dk_6 (dk_at dksX2_init_2_0 10 rfl rfl)
theorem dX2_init_2_11 : decode cX2_init_2 11 = .ok (.iastore, 1) := dk_79 (dk_at dksX2_init_2_0 11 rfl rfl)
theorem dX2_init_2_12 : decode cX2_init_2 12 = .ok (.dup, 1) := dk_89 (dk_at dksX2_init_2_0 12 rfl rfl)
theorem dX2_init_2_13 : decode cX2_init_2 13 = .ok (.iconst 1, 1) := dk_4 (dk_at dksX2_init_2_0 13 rfl rfl)
theorem dX2_init_2_14 : decode cX2_init_2 14 = .ok (.iconst 3, 1) := dk_6 (dk_at dksX2_init_2_0 14 rfl rfl)
theorem dX2_init_2_15 : decode cX2_init_2 15 = .ok (.iastore, 1) := dk_79 (dk_at dksX2_init_2_0 15 rfl rfl)
theorem dX2_init_2_16 : decode cX2_init_2 16 = .ok (.dup, 1) := dk_89 (dk_at dksX2_init_2_0 16 rfl rfl)
theorem dX2_init_2_17 : decode cX2_init_2 17 = .ok (.iconst 2, 1) := dk_5 (dk_at dksX2_init_2_0 17 rfl rfl)
theorem dX2_init_2_18 : decode cX2_init_2 18 = .ok (.iconst 3, 1) := dk_6 (dk_at dksX2_init_2_0 18 rfl rfl)
theorem dX2_init_2_19 : decode cX2_init_2 19 = .ok (.iastore, 1) := dk_79 (dk_at dksX2_init_2_0 19 rfl rfl)
theorem dX2_init_2_20 : decode cX2_init_2 20 = .ok (.dup, 1) := dk_89 (dk_at dksX2_init_2_0 20 rfl rfl)
theorem dX2_init_2_21 : decode cX2_init_2 21 = .ok (.iconst 3, 1) := dk_6 (dk_at dksX2_init_2_0 21 rfl rfl)
theorem dX2_init_2_22 : decode cX2_init_2 22 = .ok (.bipush 30, 2) := dk_16 30 (dk_at dksX2_init_2_0 22 rfl rfl)
theorem dX2_init_2_24 : decode cX2_init_2 24 = .ok (.iastore, 1) := dk_79 (dk_at dksX2_init_2_1 0 rfl rfl)
theorem dX2_init_2_25 : decode cX2_init_2 25 = .ok (.putfield 7, 3) := dk_181 0 7 (dk_at dksX2_init_2_1 1 rfl rfl)
theorem dX2_init_2_28 : decode cX2_init_2 28 = .ok (.aload_n 0, 1) := dk_42 (dk_at dksX2_init_2_1 4 rfl rfl)
theorem dX2_init_2_29 : decode cX2_init_2 29 = .ok (.aload_n 1, 1) := dk_43 (dk_at dksX2_init_2_1 5 rfl rfl)
theorem dX2_init_2_30 : decode cX2_init_2 30 = .ok (.getfield 7, 3) := dk_180 0 7 (dk_at dksX2_init_2_1 6 rfl rfl)
theorem dX2_init_2_33 : decode cX2_init_2 33 = .ok (.invokevirtual 13, 3) := dk_182 0 13 (dk_at dksX2_init_2_1 9 rfl rfl)
theorem dX2_init_2_36 : decode cX2_init_2 36 = .ok (.checkcast 14, 3) := dk_192 0 14 (dk_at dksX2_init_2_1 12 rfl rfl)
theorem dX2_init_2_39 : decode cX2_init_2 39 = .ok (.putfield 7, 3) := dk_181 0 7 (dk_at dksX2_init_2_1 15 rfl rfl)
theorem dX2_init_2_42 : decode cX2_init_2 42 = .ok (.aload_n 0, 1) := dk_42 (dk_at dksX2_init_2_1 18 rfl rfl)
theorem dX2_init_2_43 : decode cX2_init_2 43 = .ok (.aload_n 1, 1) := dk_43 (dk_at dksX2_init_2_1 19 rfl rfl)
theorem dX2_init_2_44 : decode cX2_init_2 44 = .ok (.getfield 18, 3) := dk_180 0 18 (dk_at dksX2_init_2_1 20 rfl rfl)
theorem dX2_init_2_47 : decode cX2_init_2 47 = .ok (.ifnonnull 7, 3) := dk_199 0 7 (dk_at dksX2_init_2_2 0 rfl rfl)
theorem dX2_init_2_50 : decode cX2_init_2 50 = .ok (.aconst_null, 1) := dk_1 (dk_at dksX2_init_2_2 3 rfl rfl)
theorem dX2_init_2_51 : decode cX2_init_2 51 = .ok (.goto 18, 3) := dk_167 0 18 (dk_at dksX2_init_2_2 4 rfl rfl)
theorem dX2_init_2_54 : decode cX2_init_2 54 = .ok (.new 22, 3) := dk_187 0 22 (dk_at dksX2_init_2_2 7 rfl rfl)
theorem dX2_init_2_57 : decode cX2_init_2 57 = .ok (.dup, 1) := dk_89 (dk_at dksX2_init_2_2 10 rfl rfl)
theorem dX2_init_2_58 : decode cX2_init_2 58 = .ok (.aload_n 1, 1) := dk_43 (dk_at dksX2_init_2_2 11 rfl rfl)
theorem dX2_init_2_59 : decode cX2_init_2 59 = .ok (.getfield 18, 3) := dk_180 0 18 (dk_at dksX2_init_2_2 12 rfl rfl)
theorem dX2_init_2_62 : decode cX2_init_2 62 = .ok (.aload_n 0, 1) := dk_42 (dk_at dksX2_init_2_2 15 rfl rfl)
theorem dX2_init_2_63 : decode cX2_init_2 63 = .ok (.getfield 7, 3) := dk_180 0 7 (dk_at dksX2_init_2_2 16 rfl rfl)
theorem dX2_init_2_66 : decode cX2_init_2 66 = .ok (.invokespecial 24, 3) := dk_183 0 24 (dk_at dksX2_init_2_2 19 rfl rfl)
theorem dX2_init_2_69 : decode cX2_init_2 69 = .ok (.putfield 18, 3) := dk_181 0 18 (dk_at dksX2_init_2_3 0 rfl rfl)
theorem dX2_init_2_72 : decode cX2_init_2 72 = .ok (.return_, 1) := dk_177 (dk_at dksX2_init_2_3 3 rfl rfl)
abbrev cX2_begin : ByteArray := prog_7_method_3_code
def yX2_begin : MethodName := ⟨RX2, "begin", "(J)I"⟩
def dkwX2_begin_2 : List UInt8 := [50, 58, 7, 29, 25, 7, 180, 0, 34, 128, 62, 132, 6, 1, 167, 255, 231, 29, 184, 0, 40, 172]
abbrev dktX2_begin_2 : List UInt8 := dkwX2_begin_2 ++ []
def dkwX2_begin_1 : List UInt8 := [180, 0, 30, 58, 4, 25, 4, 190, 54, 5, 3, 54, 6, 21, 6, 21, 5, 162, 0, 24, 25, 4, 21, 6]
abbrev dktX2_begin_1 : List UInt8 := dkwX2_begin_1 ++ dktX2_begin_2
def dkwX2_begin_0 : List UInt8 := [42, 187, 0, 22, 89, 31, 42, 180, 0, 7, 183, 0, 27, 181, 0, 18, 3, 62, 42, 180, 0, 18]
abbrev dktX2_begin_0 : List UInt8 := dkwX2_begin_0 ++ dktX2_begin_1
theorem dksX2_begin_0 : cX2_begin.data.toList.drop 0 = dktX2_begin_0 := by decide +kernel
theorem dksX2_begin_1 : cX2_begin.data.toList.drop 22 = dktX2_begin_1 := dk_seg dksX2_begin_0 22 rfl rfl
theorem dksX2_begin_2 : cX2_begin.data.toList.drop 46 = dktX2_begin_2 := dk_seg dksX2_begin_1 24 rfl rfl
theorem dX2_begin_0 : decode cX2_begin 0 = .ok (.aload_n 0, 1) := dk_42 (dk_at dksX2_begin_0 0 rfl rfl)
theorem dX2_begin_1 : decode cX2_begin 1 = .ok (.new 22, 3) := dk_187 0 22 (dk_at dksX2_begin_0 1 rfl rfl)
theorem dX2_begin_4 : decode cX2_begin 4 = .ok (.dup, 1) := dk_89 (dk_at dksX2_begin_0 4 rfl rfl)
theorem dX2_begin_5 : decode cX2_begin 5 = .ok (.lload_n 1, 1) := dk_31 (dk_at dksX2_begin_0 5 rfl rfl)
theorem dX2_begin_6 : decode cX2_begin 6 = .ok (.aload_n 0, 1) := dk_42 (dk_at dksX2_begin_0 6 rfl rfl)
theorem dX2_begin_7 : decode cX2_begin 7 = .ok (.getfield 7, 3) := dk_180 0 7 (dk_at dksX2_begin_0 7 rfl rfl)
theorem dX2_begin_10 : decode cX2_begin 10 = .ok (.invokespecial 27, 3) := dk_183 0 27 (dk_at dksX2_begin_0 10 rfl rfl)
theorem dX2_begin_13 : decode cX2_begin 13 = .ok (.putfield 18, 3) := dk_181 0 18 (dk_at dksX2_begin_0 13 rfl rfl)
theorem dX2_begin_16 : decode cX2_begin 16 = .ok (.iconst 0, 1) := dk_3 (dk_at dksX2_begin_0 16 rfl rfl)
theorem dX2_begin_17 : decode cX2_begin 17 = .ok (.istore_n 3, 1) := dk_62 (dk_at dksX2_begin_0 17 rfl rfl)
theorem dX2_begin_18 : decode cX2_begin 18 = .ok (.aload_n 0, 1) := dk_42 (dk_at dksX2_begin_0 18 rfl rfl)
theorem dX2_begin_19 : decode cX2_begin 19 = .ok (.getfield 18, 3) := dk_180 0 18 (dk_at dksX2_begin_0 19 rfl rfl)
theorem dX2_begin_22 : decode cX2_begin 22 = .ok (.getfield 30, 3) := dk_180 0 30 (dk_at dksX2_begin_1 0 rfl rfl)
theorem dX2_begin_25 : decode cX2_begin 25 = .ok (.astore 4, 2) := dk_58 4 (dk_at dksX2_begin_1 3 rfl rfl)
theorem dX2_begin_27 : decode cX2_begin 27 = .ok (.aload 4, 2) := dk_25 4 (dk_at dksX2_begin_1 5 rfl rfl)
theorem dX2_begin_29 : decode cX2_begin 29 = .ok (.arraylength, 1) := dk_190 (dk_at dksX2_begin_1 7 rfl rfl)
theorem dX2_begin_30 : decode cX2_begin 30 = .ok (.istore 5, 2) := dk_54 5 (dk_at dksX2_begin_1 8 rfl rfl)
theorem dX2_begin_32 : decode cX2_begin 32 = .ok (.iconst 0, 1) := dk_3 (dk_at dksX2_begin_1 10 rfl rfl)
theorem dX2_begin_33 : decode cX2_begin 33 = .ok (.istore 6, 2) := dk_54 6 (dk_at dksX2_begin_1 11 rfl rfl)
theorem dX2_begin_35 : decode cX2_begin 35 = .ok (.iload 6, 2) := dk_21 6 (dk_at dksX2_begin_1 13 rfl rfl)
theorem dX2_begin_37 : decode cX2_begin 37 = .ok (.iload 5, 2) := dk_21 5 (dk_at dksX2_begin_1 15 rfl rfl)
theorem dX2_begin_39 : decode cX2_begin 39 = .ok (.if_icmp .ge 24, 3) := dk_162 0 24 (dk_at dksX2_begin_1 17 rfl rfl)
theorem dX2_begin_42 : decode cX2_begin 42 = .ok (.aload 4, 2) := dk_25 4 (dk_at dksX2_begin_1 20 rfl rfl)
theorem dX2_begin_44 : decode cX2_begin 44 = .ok (.iload 6, 2) := dk_21 6 (dk_at dksX2_begin_1 22 rfl rfl)
theorem dX2_begin_46 : decode cX2_begin 46 = .ok (.aaload, 1) := dk_50 (dk_at dksX2_begin_2 0 rfl rfl)
theorem dX2_begin_47 : decode cX2_begin 47 = .ok (.astore 7, 2) := dk_58 7 (dk_at dksX2_begin_2 1 rfl rfl)
theorem dX2_begin_49 : decode cX2_begin 49 = .ok (.iload_n 3, 1) := dk_29 (dk_at dksX2_begin_2 3 rfl rfl)
theorem dX2_begin_50 : decode cX2_begin 50 = .ok (.aload 7, 2) := dk_25 7 (dk_at dksX2_begin_2 4 rfl rfl)
theorem dX2_begin_52 : decode cX2_begin 52 = .ok (.getfield 34, 3) := dk_180 0 34 (dk_at dksX2_begin_2 6 rfl rfl)
theorem dX2_begin_55 : decode cX2_begin 55 = .ok (.ior, 1) := dk_128 (dk_at dksX2_begin_2 9 rfl rfl)
theorem dX2_begin_56 : decode cX2_begin 56 = .ok (.istore_n 3, 1) := dk_62 (dk_at dksX2_begin_2 10 rfl rfl)
theorem dX2_begin_57 : decode cX2_begin 57 = .ok (.iinc 6 1, 3) := dk_132 6 1 (dk_at dksX2_begin_2 11 rfl rfl)
theorem dX2_begin_60 : decode cX2_begin 60 = .ok (.goto (-25), 3) := dk_167 255 231 (dk_at dksX2_begin_2 14 rfl rfl)
theorem dX2_begin_63 : decode cX2_begin 63 = .ok (.iload_n 3, 1) := dk_29 (dk_at dksX2_begin_2 17 rfl rfl)
theorem dX2_begin_64 : decode cX2_begin 64 = .ok (.invokestatic 40, 3) := dk_184 0 40 (dk_at dksX2_begin_2 18 rfl rfl)
theorem dX2_begin_67 : decode cX2_begin 67 = .ok (.ireturn, 1) := dk_172 (dk_at dksX2_begin_2 21 rfl rfl)
abbrev cX2_goesOn : ByteArray := prog_7_method_4_code
def yX2_goesOn : MethodName := ⟨RX2, "goesOn", "()Z"⟩
def dkwX2_goesOn_0 : List UInt8 := [42, 180, 0, 18, 198, 0, 17, 42, 180, 0, 18, 180, 0, 46, 154, 0, 7, 4, 167, 0, 4, 3, 172]
abbrev dktX2_goesOn_0 : List UInt8 := dkwX2_goesOn_0 ++ []
theorem dksX2_goesOn_0 : cX2_goesOn.data.toList.drop 0 = dktX2_goesOn_0 := by decide +kernel
theorem dX2_goesOn_0 : decode cX2_goesOn 0 = .ok (.aload_n 0, 1) := dk_42 (dk_at dksX2_goesOn_0 0 rfl rfl)
theorem dX2_goesOn_1 : decode cX2_goesOn 1 = .ok (.getfield 18, 3) := dk_180 0 18 (dk_at dksX2_goesOn_0 1 rfl rfl)
theorem dX2_goesOn_4 : decode cX2_goesOn 4 = .ok (.ifnull 17, 3) := dk_198 0 17 (dk_at dksX2_goesOn_0 4 rfl rfl)
theorem dX2_goesOn_7 : decode cX2_goesOn 7 = .ok (.aload_n 0, 1) := dk_42 (dk_at dksX2_goesOn_0 7 rfl rfl)
theorem dX2_goesOn_8 : decode cX2_goesOn 8 = .ok (.getfield 18, 3) := dk_180 0 18 (dk_at dksX2_goesOn_0 8 rfl rfl)
theorem dX2_goesOn_11 : decode cX2_goesOn 11 = .ok (.getfield 46, 3) := dk_180 0 46 (dk_at dksX2_goesOn_0 11 rfl rfl)
theorem dX2_goesOn_14 : decode cX2_goesOn 14 = .ok (.ifCond .ne 7, 3) := dk_154 0 7 (dk_at dksX2_goesOn_0 14 rfl rfl)
theorem dX2_goesOn_17 : decode cX2_goesOn 17 = .ok (.iconst 1, 1) := dk_4 (dk_at dksX2_goesOn_0 17 rfl rfl)
theorem dX2_goesOn_18 : decode cX2_goesOn 18 = .ok (.goto 4, 3) := dk_167 0 4 (dk_at dksX2_goesOn_0 18 rfl rfl)
theorem dX2_goesOn_21 : decode cX2_goesOn 21 = .ok (.iconst 0, 1) := dk_3 (dk_at dksX2_goesOn_0 21 rfl rfl)
theorem dX2_goesOn_22 : decode cX2_goesOn 22 = .ok (.ireturn, 1) := dk_172 (dk_at dksX2_goesOn_0 22 rfl rfl)
abbrev cX2_canTell : ByteArray := prog_7_method_5_code
def yX2_canTell : MethodName := ⟨RX2, "canTell", "(LTaleDuel$Sentence;)Z"⟩
def dkwX2_canTell_0 : List UInt8 := [42, 180, 0, 18, 198, 0, 18, 42, 180, 0, 18, 43, 182, 0, 50, 153, 0, 7, 4, 167, 0, 4, 3, 172]
abbrev dktX2_canTell_0 : List UInt8 := dkwX2_canTell_0 ++ []
theorem dksX2_canTell_0 : cX2_canTell.data.toList.drop 0 = dktX2_canTell_0 := by decide +kernel
theorem dX2_canTell_0 : decode cX2_canTell 0 = .ok (.aload_n 0, 1) := dk_42 (dk_at dksX2_canTell_0 0 rfl rfl)
theorem dX2_canTell_1 : decode cX2_canTell 1 = .ok (.getfield 18, 3) := dk_180 0 18 (dk_at dksX2_canTell_0 1 rfl rfl)
theorem dX2_canTell_4 : decode cX2_canTell 4 = .ok (.ifnull 18, 3) := dk_198 0 18 (dk_at dksX2_canTell_0 4 rfl rfl)
theorem dX2_canTell_7 : decode cX2_canTell 7 = .ok (.aload_n 0, 1) := dk_42 (dk_at dksX2_canTell_0 7 rfl rfl)
theorem dX2_canTell_8 : decode cX2_canTell 8 = .ok (.getfield 18, 3) := dk_180 0 18 (dk_at dksX2_canTell_0 8 rfl rfl)
theorem dX2_canTell_11 : decode cX2_canTell 11 = .ok (.aload_n 1, 1) := dk_43 (dk_at dksX2_canTell_0 11 rfl rfl)
theorem dX2_canTell_12 : decode cX2_canTell 12 = .ok (.invokevirtual 50, 3) := dk_182 0 50 (dk_at dksX2_canTell_0 12 rfl rfl)
theorem dX2_canTell_15 : decode cX2_canTell 15 = .ok (.ifCond .eq 7, 3) := dk_153 0 7 (dk_at dksX2_canTell_0 15 rfl rfl)
theorem dX2_canTell_18 : decode cX2_canTell 18 = .ok (.iconst 1, 1) := dk_4 (dk_at dksX2_canTell_0 18 rfl rfl)
theorem dX2_canTell_19 : decode cX2_canTell 19 = .ok (.goto 4, 3) := dk_167 0 4 (dk_at dksX2_canTell_0 19 rfl rfl)
theorem dX2_canTell_22 : decode cX2_canTell 22 = .ok (.iconst 0, 1) := dk_3 (dk_at dksX2_canTell_0 22 rfl rfl)
theorem dX2_canTell_23 : decode cX2_canTell 23 = .ok (.ireturn, 1) := dk_172 (dk_at dksX2_canTell_0 23 rfl rfl)
abbrev cX2_canForbid : ByteArray := prog_7_method_6_code
def yX2_canForbid : MethodName := ⟨RX2, "canForbid", "(I)Z"⟩
def dkwX2_canForbid_1 : List UInt8 := [167, 0, 4, 3, 172]
abbrev dktX2_canForbid_1 : List UInt8 := dkwX2_canForbid_1 ++ []
def dkwX2_canForbid_0 : List UInt8 := [42, 180, 0, 18, 198, 0, 21, 42, 180, 0, 18, 182, 0, 54, 27, 184, 0, 58, 153, 0, 7, 4]
abbrev dktX2_canForbid_0 : List UInt8 := dkwX2_canForbid_0 ++ dktX2_canForbid_1
theorem dksX2_canForbid_0 : cX2_canForbid.data.toList.drop 0 = dktX2_canForbid_0 := by decide +kernel
theorem dksX2_canForbid_1 : cX2_canForbid.data.toList.drop 22 = dktX2_canForbid_1 := dk_seg dksX2_canForbid_0 22 rfl rfl
theorem dX2_canForbid_0 : decode cX2_canForbid 0 = .ok (.aload_n 0, 1) := dk_42 (dk_at dksX2_canForbid_0 0 rfl rfl)
theorem dX2_canForbid_1 : decode cX2_canForbid 1 = .ok (.getfield 18, 3) := dk_180 0 18 (dk_at dksX2_canForbid_0 1 rfl rfl)
theorem dX2_canForbid_4 : decode cX2_canForbid 4 = .ok (.ifnull 21, 3) := dk_198 0 21 (dk_at dksX2_canForbid_0 4 rfl rfl)
theorem dX2_canForbid_7 : decode cX2_canForbid 7 = .ok (.aload_n 0, 1) := dk_42 (dk_at dksX2_canForbid_0 7 rfl rfl)
theorem dX2_canForbid_8 : decode cX2_canForbid 8 = .ok (.getfield 18, 3) := dk_180 0 18 (dk_at dksX2_canForbid_0 8 rfl rfl)
theorem dX2_canForbid_11 : decode cX2_canForbid 11 = .ok (.invokevirtual 54, 3) := dk_182 0 54 (dk_at dksX2_canForbid_0 11 rfl rfl)
theorem dX2_canForbid_14 : decode cX2_canForbid 14 = .ok (.iload_n 1, 1) := dk_27 (dk_at dksX2_canForbid_0 14 rfl rfl)
theorem dX2_canForbid_15 : decode cX2_canForbid 15 = .ok (.invokestatic 58, 3) := dk_184 0 58 (dk_at dksX2_canForbid_0 15 rfl rfl)
theorem dX2_canForbid_18 : decode cX2_canForbid 18 = .ok (.ifCond .eq 7, 3) := dk_153 0 7 (dk_at dksX2_canForbid_0 18 rfl rfl)
theorem dX2_canForbid_21 : decode cX2_canForbid 21 = .ok (.iconst 1, 1) := dk_4 (dk_at dksX2_canForbid_0 21 rfl rfl)
theorem dX2_canForbid_22 : decode cX2_canForbid 22 = .ok (.goto 4, 3) := dk_167 0 4 (dk_at dksX2_canForbid_1 0 rfl rfl)
theorem dX2_canForbid_25 : decode cX2_canForbid 25 = .ok (.iconst 0, 1) := dk_3 (dk_at dksX2_canForbid_1 3 rfl rfl)
theorem dX2_canForbid_26 : decode cX2_canForbid 26 = .ok (.ireturn, 1) := dk_172 (dk_at dksX2_canForbid_1 4 rfl rfl)
abbrev cX2_set : ByteArray := prog_7_method_7_code
def yX2_set : MethodName := ⟨RX2, "set", "(II)I"⟩
def dkwX2_set_0 : List UInt8 := [42, 180, 0, 7, 27, 46, 62, 42, 180, 0, 7, 27, 28, 79, 29, 172]
abbrev dktX2_set_0 : List UInt8 := dkwX2_set_0 ++ []
theorem dksX2_set_0 : cX2_set.data.toList.drop 0 = dktX2_set_0 := by decide +kernel
theorem dX2_set_0 : decode cX2_set 0 = .ok (.aload_n 0, 1) := dk_42 (dk_at dksX2_set_0 0 rfl rfl)
theorem dX2_set_1 : decode cX2_set 1 = .ok (.getfield 7, 3) := dk_180 0 7 (dk_at dksX2_set_0 1 rfl rfl)
theorem dX2_set_4 : decode cX2_set 4 = .ok (.iload_n 1, 1) := dk_27 (dk_at dksX2_set_0 4 rfl rfl)
theorem dX2_set_5 : decode cX2_set 5 = .ok (.iaload, 1) := dk_46 (dk_at dksX2_set_0 5 rfl rfl)
theorem dX2_set_6 : decode cX2_set 6 = .ok (.istore_n 3, 1) := dk_62 (dk_at dksX2_set_0 6 rfl rfl)
theorem dX2_set_7 : decode cX2_set 7 = .ok (.aload_n 0, 1) := dk_42 (dk_at dksX2_set_0 7 rfl rfl)
theorem dX2_set_8 : decode cX2_set 8 = .ok (.getfield 7, 3) := dk_180 0 7 (dk_at dksX2_set_0 8 rfl rfl)
theorem dX2_set_11 : decode cX2_set 11 = .ok (.iload_n 1, 1) := dk_27 (dk_at dksX2_set_0 11 rfl rfl)
theorem dX2_set_12 : decode cX2_set 12 = .ok (.iload_n 2, 1) := dk_28 (dk_at dksX2_set_0 12 rfl rfl)
theorem dX2_set_13 : decode cX2_set 13 = .ok (.iastore, 1) := dk_79 (dk_at dksX2_set_0 13 rfl rfl)
theorem dX2_set_14 : decode cX2_set 14 = .ok (.iload_n 3, 1) := dk_29 (dk_at dksX2_set_0 14 rfl rfl)
theorem dX2_set_15 : decode cX2_set 15 = .ok (.ireturn, 1) := dk_172 (dk_at dksX2_set_0 15 rfl rfl)
theorem q40 : (Jvm.Cond.initialized "TaleDuel$State") ∈ lw_all := lw_g (lw_at lw_m1 2 rfl) rfl
theorem q84 : (Jvm.Cond.instantiable "TaleDuel$State" (2 : Nat)) ∈ lw_all := lw_g (lw_at lw_m1 46 rfl) rfl
theorem q86 : (Jvm.Cond.instanceMethod ({ cls := "TaleDuel$State", name := "<init>", desc := "()V" } : Jvm.MethodName)) ∈ lw_all := lw_g (lw_at lw_m1 48 rfl) rfl
theorem q87 : (Jvm.Cond.code ({ cls := "TaleDuel$State", name := "<init>", desc := "()V" } : Jvm.MethodName) prog_7_method_1_code (1 : Nat) (Option.none : Option Jvm.ClassFile.FieldType)) ∈ lw_all := lw_g (lw_at lw_m1 49 rfl) rfl
theorem q88 : (Jvm.Cond.methodLink "TaleDuel$State" (1 : Nat) ({ cls := "java/lang/Object", name := "<init>", desc := "()V" } : Jvm.MethodName)) ∈ lw_all := lw_g (lw_at lw_m1 50 rfl) rfl
theorem q89 : (Jvm.Cond.fieldLink "TaleDuel$State" (7 : Nat) "TaleDuel$State" "settings" "[I") ∈ lw_all := lw_g (lw_at lw_m1 51 rfl) rfl
theorem q91 : (Jvm.Cond.fieldLink "TaleDuel$State" (18 : Nat) "TaleDuel$State" "duel" "LTaleDuel$Duel;") ∈ lw_all := lw_g (lw_at lw_m1 53 rfl) rfl
theorem q93 : (Jvm.Cond.lays "TaleDuel$State" "TaleDuel$State" "settings" "[I") ∈ lw_all := lw_g (lw_at lw_m1 55 rfl) rfl
theorem q94 : (Jvm.Cond.soleField "TaleDuel$State" "settings") ∈ lw_all := lw_g (lw_at lw_m1 56 rfl) rfl
theorem q95 : (Jvm.Cond.lays "TaleDuel$State" "TaleDuel$State" "duel" "LTaleDuel$Duel;") ∈ lw_all := lw_g (lw_at lw_m1 57 rfl) rfl
theorem q96 : (Jvm.Cond.soleField "TaleDuel$State" "duel") ∈ lw_all := lw_g (lw_at lw_m1 58 rfl) rfl
theorem q97 : (Jvm.Cond.superclass "TaleDuel$State" "java/lang/Object") ∈ lw_all := lw_g (lw_at lw_m1 59 rfl) rfl
theorem q319 : (Jvm.Cond.selects "TaleDuel$State" ({ cls := "java/lang/Object", name := "getClass", desc := "()Ljava/lang/Class;" } : Jvm.MethodName) ({ cls := "java/lang/Object", name := "getClass", desc := "()Ljava/lang/Class;" } : Jvm.MethodName)) ∈ lw_all := lw_g (lw_at lw_m2 41 rfl) rfl
theorem q347 : (Jvm.Cond.instanceMethod ({ cls := "TaleDuel$State", name := "<init>", desc := "(LTaleDuel$State;)V" } : Jvm.MethodName)) ∈ lw_all := lw_g (lw_at lw_m2 69 rfl) rfl
theorem q348 : (Jvm.Cond.code ({ cls := "TaleDuel$State", name := "<init>", desc := "(LTaleDuel$State;)V" } : Jvm.MethodName) prog_7_method_2_code (2 : Nat) (Option.none : Option Jvm.ClassFile.FieldType)) ∈ lw_all := lw_g (lw_at lw_m2 70 rfl) rfl
theorem q349 : (Jvm.Cond.methodLink "TaleDuel$State" (13 : Nat) ({ cls := "[I", name := "clone", desc := "()Ljava/lang/Object;" } : Jvm.MethodName)) ∈ lw_all := lw_g (lw_at lw_m2 71 rfl) rfl
theorem q355 : (Jvm.Cond.classLink "TaleDuel$State" (14 : Nat) "[I") ∈ lw_all := lw_g (lw_at lw_m2 77 rfl) rfl
theorem q356 : (Jvm.Cond.classLink "TaleDuel$State" (22 : Nat) "TaleDuel$Duel") ∈ lw_all := lw_g (lw_at lw_m2 78 rfl) rfl
theorem q358 : (Jvm.Cond.methodLink "TaleDuel$State" (24 : Nat) ({ cls := "TaleDuel$Duel", name := "<init>", desc := "(LTaleDuel$Duel;[I)V" } : Jvm.MethodName)) ∈ lw_all := lw_g (lw_at lw_m2 80 rfl) rfl
theorem q528 : (Jvm.Cond.fieldLinkNest "TaleDuel$State" (34 : Nat) "TaleDuel$Listener" "likes" "I" "TaleDuel") ∈ lw_tbl := lw_at lw_m3 10 rfl
theorem q880 : (Jvm.Cond.fieldLinkNest "TaleDuel$State" (30 : Nat) "TaleDuel$Duel" "listeners" "[LTaleDuel$Listener;" "TaleDuel") ∈ lw_tbl := lw_at lw_m4 122 rfl
theorem q894 : (Jvm.Cond.fieldLinkNest "TaleDuel$State" (46 : Nat) "TaleDuel$Duel" "over" "Z" "TaleDuel") ∈ lw_tbl := lw_at lw_m4 136 rfl
theorem q918 : (Jvm.Cond.instanceMethod ({ cls := "TaleDuel$State", name := "begin", desc := "(J)I" } : Jvm.MethodName)) ∈ lw_all := lw_g (lw_at lw_m4 160 rfl) rfl
theorem q919 : (Jvm.Cond.selects "TaleDuel$State" ({ cls := "TaleDuel$State", name := "begin", desc := "(J)I" } : Jvm.MethodName) ({ cls := "TaleDuel$State", name := "begin", desc := "(J)I" } : Jvm.MethodName)) ∈ lw_all := lw_g (lw_at lw_m4 161 rfl) rfl
theorem q920 : (Jvm.Cond.code ({ cls := "TaleDuel$State", name := "begin", desc := "(J)I" } : Jvm.MethodName) prog_7_method_3_code (8 : Nat) (Option.some Jvm.ClassFile.FieldType.int)) ∈ lw_all := lw_g (lw_at lw_m4 162 rfl) rfl
theorem q921 : (Jvm.Cond.methodLink "TaleDuel$State" (27 : Nat) ({ cls := "TaleDuel$Duel", name := "<init>", desc := "(J[I)V" } : Jvm.MethodName)) ∈ lw_all := lw_g (lw_at lw_m4 163 rfl) rfl
theorem q930 : (Jvm.Cond.methodLink "TaleDuel$State" (40 : Nat) ({ cls := "java/lang/Integer", name := "bitCount", desc := "(I)I" } : Jvm.MethodName)) ∈ lw_all := lw_g (lw_at lw_m4 172 rfl) rfl
theorem q941 : (Jvm.Cond.instanceMethod ({ cls := "TaleDuel$State", name := "goesOn", desc := "()Z" } : Jvm.MethodName)) ∈ lw_all := lw_g (lw_at lw_m4 183 rfl) rfl
theorem q942 : (Jvm.Cond.selects "TaleDuel$State" ({ cls := "TaleDuel$State", name := "goesOn", desc := "()Z" } : Jvm.MethodName) ({ cls := "TaleDuel$State", name := "goesOn", desc := "()Z" } : Jvm.MethodName)) ∈ lw_all := lw_g (lw_at lw_m4 184 rfl) rfl
theorem q943 : (Jvm.Cond.code ({ cls := "TaleDuel$State", name := "goesOn", desc := "()Z" } : Jvm.MethodName) prog_7_method_4_code (1 : Nat) (Option.some Jvm.ClassFile.FieldType.boolean)) ∈ lw_all := lw_g (lw_at lw_m4 185 rfl) rfl
theorem q1213 : (Jvm.Cond.instanceMethod ({ cls := "TaleDuel$State", name := "canTell", desc := "(LTaleDuel$Sentence;)Z" } : Jvm.MethodName)) ∈ lw_all := lw_g (lw_at lw_m5 215 rfl) rfl
theorem q1214 : (Jvm.Cond.selects "TaleDuel$State" ({ cls := "TaleDuel$State", name := "canTell", desc := "(LTaleDuel$Sentence;)Z" } : Jvm.MethodName) ({ cls := "TaleDuel$State", name := "canTell", desc := "(LTaleDuel$Sentence;)Z" } : Jvm.MethodName)) ∈ lw_all := lw_g (lw_at lw_m5 216 rfl) rfl
theorem q1215 : (Jvm.Cond.code ({ cls := "TaleDuel$State", name := "canTell", desc := "(LTaleDuel$Sentence;)Z" } : Jvm.MethodName) prog_7_method_5_code (2 : Nat) (Option.some Jvm.ClassFile.FieldType.boolean)) ∈ lw_all := lw_g (lw_at lw_m5 217 rfl) rfl
theorem q1216 : (Jvm.Cond.methodLink "TaleDuel$State" (50 : Nat) ({ cls := "TaleDuel$Duel", name := "canTell", desc := "(LTaleDuel$Sentence;)Z" } : Jvm.MethodName)) ∈ lw_all := lw_g (lw_at lw_m5 218 rfl) rfl
theorem q1258 : (Jvm.Cond.instanceMethod ({ cls := "TaleDuel$State", name := "canForbid", desc := "(I)Z" } : Jvm.MethodName)) ∈ lw_all := lw_g (lw_at lw_m6 20 rfl) rfl
theorem q1259 : (Jvm.Cond.selects "TaleDuel$State" ({ cls := "TaleDuel$State", name := "canForbid", desc := "(I)Z" } : Jvm.MethodName) ({ cls := "TaleDuel$State", name := "canForbid", desc := "(I)Z" } : Jvm.MethodName)) ∈ lw_all := lw_g (lw_at lw_m6 21 rfl) rfl
theorem q1260 : (Jvm.Cond.code ({ cls := "TaleDuel$State", name := "canForbid", desc := "(I)Z" } : Jvm.MethodName) prog_7_method_6_code (2 : Nat) (Option.some Jvm.ClassFile.FieldType.boolean)) ∈ lw_all := lw_g (lw_at lw_m6 22 rfl) rfl
theorem q1261 : (Jvm.Cond.methodLink "TaleDuel$State" (54 : Nat) ({ cls := "TaleDuel$Duel", name := "bannable", desc := "()I" } : Jvm.MethodName)) ∈ lw_all := lw_g (lw_at lw_m6 23 rfl) rfl
theorem q1262 : (Jvm.Cond.methodLinkNest "TaleDuel$State" (58 : Nat) ({ cls := "TaleDuel", name := "has", desc := "(II)Z" } : Jvm.MethodName) "TaleDuel") ∈ lw_tbl := lw_at lw_m6 24 rfl
theorem q1317 : (Jvm.Cond.instanceMethod ({ cls := "TaleDuel$State", name := "set", desc := "(II)I" } : Jvm.MethodName)) ∈ lw_all := lw_g (lw_at lw_m6 79 rfl) rfl
theorem q1318 : (Jvm.Cond.selects "TaleDuel$State" ({ cls := "TaleDuel$State", name := "set", desc := "(II)I" } : Jvm.MethodName) ({ cls := "TaleDuel$State", name := "set", desc := "(II)I" } : Jvm.MethodName)) ∈ lw_all := lw_g (lw_at lw_m6 80 rfl) rfl
theorem q1319 : (Jvm.Cond.code ({ cls := "TaleDuel$State", name := "set", desc := "(II)I" } : Jvm.MethodName) prog_7_method_7_code (4 : Nat) (Option.some Jvm.ClassFile.FieldType.int)) ∈ lw_all := lw_g (lw_at lw_m6 81 rfl) rfl
theorem q1783 : (Jvm.Cond.castable "TaleDuel$State" "java/lang/Object") ∈ lw_tbl := lw_at lw_m8 65 rfl
theorem in_X2 : ∀ w ∈ wsX20, w ∈ lw_all := lw_in wsX20 [93, 95] (by decide +kernel) (by decide +kernel)
/-! TaleDuel$Sentence -/
set_option maxRecDepth 100000
def RX3 : String := "TaleDuel$Sentence"
def TX3 : u_T := fun k => match k with
  | 0 => ("TaleDuel$Sentence", "words", "[C", true)
  | _ => ("TaleDuel$Sentence", "length", "I", false)
def tyX3 : Nat → FieldType := fun k => match k with
  | 0 => .array .char
  | _ => .int
abbrev wsX30 : List Cond := u_ws RX3 TX3 2
theorem nmX3 : ∀ a, a < 2 → ∀ b, b < 2 → a ≠ b → (TX3 a).2.1 ≠ (TX3 b).2.1 := by decide +kernel
theorem tyX3_ok : ∀ k, k < 2 → parseFieldDescriptor (TX3 k).2.2.1 = some (tyX3 k) := by decide +kernel
abbrev cX3_init : ByteArray := prog_6_method_1_code
def yX3_init : MethodName := ⟨RX3, "<init>", "()V"⟩
def dkwX3_init_0 : List UInt8 := [42, 183, 0, 3, 42, 16, 20, 188, 5, 181, 0, 9, 177]
abbrev dktX3_init_0 : List UInt8 := dkwX3_init_0 ++ []
theorem dksX3_init_0 : cX3_init.data.toList.drop 0 = dktX3_init_0 := by decide +kernel
theorem dX3_init_0 : decode cX3_init 0 = .ok (.aload_n 0, 1) := dk_42 (dk_at dksX3_init_0 0 rfl rfl)
theorem dX3_init_1 : decode cX3_init 1 = .ok (.invokespecial 3, 3) := dk_183 0 3 (dk_at dksX3_init_0 1 rfl rfl)
theorem dX3_init_4 : decode cX3_init 4 = .ok (.aload_n 0, 1) := dk_42 (dk_at dksX3_init_0 4 rfl rfl)
theorem dX3_init_5 : decode cX3_init 5 = .ok (.bipush 20, 2) := dk_16 20 (dk_at dksX3_init_0 5 rfl rfl)
theorem dX3_init_7 : decode cX3_init 7 = .ok (.newarray .char, 2) := dk_188_5 (dk_at dksX3_init_0 7 rfl rfl)
theorem dX3_init_9 : decode cX3_init 9 = .ok (.putfield 9, 3) := dk_181 0 9 (dk_at dksX3_init_0 9 rfl rfl)
theorem dX3_init_12 : decode cX3_init 12 = .ok (.return_, 1) := dk_177 (dk_at dksX3_init_0 12 rfl rfl)
abbrev cX3_clear : ByteArray := prog_6_method_3_code
def yX3_clear : MethodName := ⟨RX3, "clear", "()I"⟩
def dkwX3_clear_0 : List UInt8 := [42, 180, 0, 15, 60, 42, 3, 181, 0, 15, 27, 172]
abbrev dktX3_clear_0 : List UInt8 := dkwX3_clear_0 ++ []
theorem dksX3_clear_0 : cX3_clear.data.toList.drop 0 = dktX3_clear_0 := by decide +kernel
theorem dX3_clear_0 : decode cX3_clear 0 = .ok (.aload_n 0, 1) := dk_42 (dk_at dksX3_clear_0 0 rfl rfl)
theorem dX3_clear_1 : decode cX3_clear 1 = .ok (.getfield 15, 3) := dk_180 0 15 (dk_at dksX3_clear_0 1 rfl rfl)
theorem dX3_clear_4 : decode cX3_clear 4 = .ok (.istore_n 1, 1) := dk_60 (dk_at dksX3_clear_0 4 rfl rfl)
theorem dX3_clear_5 : decode cX3_clear 5 = .ok (.aload_n 0, 1) := dk_42 (dk_at dksX3_clear_0 5 rfl rfl)
theorem dX3_clear_6 : decode cX3_clear 6 = .ok (.iconst 0, 1) := dk_3 (dk_at dksX3_clear_0 6 rfl rfl)
theorem dX3_clear_7 : decode cX3_clear 7 = .ok (.putfield 15, 3) := dk_181 0 15 (dk_at dksX3_clear_0 7 rfl rfl)
theorem dX3_clear_10 : decode cX3_clear 10 = .ok (.iload_n 1, 1) := dk_27 (dk_at dksX3_clear_0 10 rfl rfl)
theorem dX3_clear_11 : decode cX3_clear 11 = .ok (.ireturn, 1) := dk_172 (dk_at dksX3_clear_0 11 rfl rfl)
abbrev cX3_error : ByteArray := prog_6_method_6_code
def yX3_error : MethodName := ⟨RX3, "error", "()I"⟩
def dkwX3_error_3 : List UInt8 := [132, 3, 1, 167, 255, 192, 27, 184, 0, 37, 153, 0, 7, 2, 167, 0, 7, 42, 180, 0, 15, 172]
abbrev dktX3_error_3 : List UInt8 := dkwX3_error_3 ++ []
def dkwX3_error_2 : List UInt8 := [184, 0, 31, 167, 0, 4, 2, 60, 27, 2, 160, 0, 5, 29, 172, 28, 4, 21, 4, 120, 128, 61]
abbrev dktX3_error_2 : List UInt8 := dkwX3_error_2 ++ dktX3_error_3
def dkwX3_error_1 : List UInt8 := [54, 4, 21, 4, 184, 0, 23, 153, 0, 21, 28, 21, 4, 184, 0, 27, 154, 0, 12, 27, 21, 4]
abbrev dktX3_error_1 : List UInt8 := dkwX3_error_1 ++ dktX3_error_2
def dkwX3_error_0 : List UInt8 := [3, 60, 3, 61, 3, 62, 29, 42, 180, 0, 15, 162, 0, 62, 42, 180, 0, 9, 29, 52, 16, 97, 100]
abbrev dktX3_error_0 : List UInt8 := dkwX3_error_0 ++ dktX3_error_1
theorem dksX3_error_0 : cX3_error.data.toList.drop 0 = dktX3_error_0 := by decide +kernel
theorem dksX3_error_1 : cX3_error.data.toList.drop 23 = dktX3_error_1 := dk_seg dksX3_error_0 23 rfl rfl
theorem dksX3_error_2 : cX3_error.data.toList.drop 45 = dktX3_error_2 := dk_seg dksX3_error_1 22 rfl rfl
theorem dksX3_error_3 : cX3_error.data.toList.drop 67 = dktX3_error_3 := dk_seg dksX3_error_2 22 rfl rfl
theorem dX3_error_0 : decode cX3_error 0 = .ok (.iconst 0, 1) := dk_3 (dk_at dksX3_error_0 0 rfl rfl)
theorem dX3_error_1 : decode cX3_error 1 = .ok (.istore_n 1, 1) := dk_60 (dk_at dksX3_error_0 1 rfl rfl)
theorem dX3_error_2 : decode cX3_error 2 = .ok (.iconst 0, 1) := dk_3 (dk_at dksX3_error_0 2 rfl rfl)
theorem dX3_error_3 : decode cX3_error 3 = .ok (.istore_n 2, 1) := dk_61 (dk_at dksX3_error_0 3 rfl rfl)
theorem dX3_error_4 : decode cX3_error 4 = .ok (.iconst 0, 1) := dk_3 (dk_at dksX3_error_0 4 rfl rfl)
theorem dX3_error_5 : decode cX3_error 5 = .ok (.istore_n 3, 1) := dk_62 (dk_at dksX3_error_0 5 rfl rfl)
theorem dX3_error_6 : decode cX3_error 6 = .ok (.iload_n 3, 1) := dk_29 (dk_at dksX3_error_0 6 rfl rfl)
theorem dX3_error_7 : decode cX3_error 7 = .ok (.aload_n 0, 1) := dk_42 (dk_at dksX3_error_0 7 rfl rfl)
theorem dX3_error_8 : decode cX3_error 8 = .ok (.getfield 15, 3) := dk_180 0 15 (dk_at dksX3_error_0 8 rfl rfl)
theorem dX3_error_11 : decode cX3_error 11 = .ok (.if_icmp .ge 62, 3) := dk_162 0 62 (dk_at dksX3_error_0 11 rfl rfl)
theorem dX3_error_14 : decode cX3_error 14 = .ok (.aload_n 0, 1) := dk_42 (dk_at dksX3_error_0 14 rfl rfl)
theorem dX3_error_15 : decode cX3_error 15 = .ok (.getfield 9, 3) := dk_180 0 9 (dk_at dksX3_error_0 15 rfl rfl)
theorem dX3_error_18 : decode cX3_error 18 = .ok (.iload_n 3, 1) := dk_29 (dk_at dksX3_error_0 18 rfl rfl)
theorem dX3_error_19 : decode cX3_error 19 = .ok (.caload, 1) := dk_52 (dk_at dksX3_error_0 19 rfl rfl)
theorem dX3_error_20 : decode cX3_error 20 = .ok (.bipush 97, 2) := dk_16 97 (dk_at dksX3_error_0 20 rfl rfl)
theorem dX3_error_22 : decode cX3_error 22 = .ok (.isub, 1) := dk_100 (dk_at dksX3_error_0 22 rfl rfl)
theorem dX3_error_23 : decode cX3_error 23 = .ok (.istore 4, 2) := dk_54 4 (dk_at dksX3_error_1 0 rfl rfl)
theorem dX3_error_25 : decode cX3_error 25 = .ok (.iload 4, 2) := dk_21 4 (dk_at dksX3_error_1 2 rfl rfl)
theorem dX3_error_27 : decode cX3_error 27 = .ok (.invokestatic 23, 3) := dk_184 0 23 (dk_at dksX3_error_1 4 rfl rfl)
theorem dX3_error_30 : decode cX3_error 30 = .ok (.ifCond .eq 21, 3) := dk_153 0 21 (dk_at dksX3_error_1 7 rfl rfl)
theorem dX3_error_33 : decode cX3_error 33 = .ok (.iload_n 2, 1) := dk_28 (dk_at dksX3_error_1 10 rfl rfl)
theorem dX3_error_34 : decode cX3_error 34 = .ok (.iload 4, 2) := dk_21 4 (dk_at dksX3_error_1 11 rfl rfl)
theorem dX3_error_36 : decode cX3_error 36 = .ok (.invokestatic 27, 3) := dk_184 0 27 (dk_at dksX3_error_1 13 rfl rfl)
theorem dX3_error_39 : decode cX3_error 39 = .ok (.ifCond .ne 12, 3) := dk_154 0 12 (dk_at dksX3_error_1 16 rfl rfl)
theorem dX3_error_42 : decode cX3_error 42 = .ok (.iload_n 1, 1) := dk_27 (dk_at dksX3_error_1 19 rfl rfl)
theorem dX3_error_43 : decode cX3_error 43 = .ok (.iload 4, 2) := dk_21 4 (dk_at dksX3_error_1 20 rfl rfl)
theorem dX3_error_45 : decode cX3_error 45 = .ok (.invokestatic 31, 3) := dk_184 0 31 (dk_at dksX3_error_2 0 rfl rfl)
theorem dX3_error_48 : decode cX3_error 48 = .ok (.goto 4, 3) := dk_167 0 4 (dk_at dksX3_error_2 3 rfl rfl)
theorem dX3_error_51 : decode cX3_error 51 = .ok (.iconst (-1), 1) := dk_2 (dk_at dksX3_error_2 6 rfl rfl)
theorem dX3_error_52 : decode cX3_error 52 = .ok (.istore_n 1, 1) := dk_60 (dk_at dksX3_error_2 7 rfl rfl)
theorem dX3_error_53 : decode cX3_error 53 = .ok (.iload_n 1, 1) := dk_27 (dk_at dksX3_error_2 8 rfl rfl)
theorem dX3_error_54 : decode cX3_error 54 = .ok (.iconst (-1), 1) := dk_2 (dk_at dksX3_error_2 9 rfl rfl)
theorem dX3_error_55 : decode cX3_error 55 = .ok (.if_icmp .ne 5, 3) := dk_160 0 5 (dk_at dksX3_error_2 10 rfl rfl)
theorem dX3_error_58 : decode cX3_error 58 = .ok (.iload_n 3, 1) := dk_29 (dk_at dksX3_error_2 13 rfl rfl)
theorem dX3_error_59 : decode cX3_error 59 = .ok (.ireturn, 1) := dk_172 (dk_at dksX3_error_2 14 rfl rfl)
theorem dX3_error_60 : decode cX3_error 60 = .ok (.iload_n 2, 1) := dk_28 (dk_at dksX3_error_2 15 rfl rfl)
theorem dX3_error_61 : decode cX3_error 61 = .ok (.iconst 1, 1) := dk_4 (dk_at dksX3_error_2 16 rfl rfl)
theorem dX3_error_62 : decode cX3_error 62 = .ok (.iload 4, 2) := dk_21 4 (dk_at dksX3_error_2 17 rfl rfl)
theorem dX3_error_64 : decode cX3_error 64 = .ok (.ishl, 1) := dk_120 (dk_at dksX3_error_2 19 rfl rfl)
theorem dX3_error_65 : decode cX3_error 65 = .ok (.ior, 1) := dk_128 (dk_at dksX3_error_2 20 rfl rfl)
theorem dX3_error_66 : decode cX3_error 66 = .ok (.istore_n 2, 1) := dk_61 (dk_at dksX3_error_2 21 rfl rfl)
theorem dX3_error_67 : decode cX3_error 67 = .ok (.iinc 3 1, 3) := dk_132 3 1 (dk_at dksX3_error_3 0 rfl rfl)
theorem dX3_error_70 : decode cX3_error 70 = .ok (.goto (-64), 3) := dk_167 255 192 (dk_at dksX3_error_3 3 rfl rfl)
theorem dX3_error_73 : decode cX3_error 73 = .ok (.iload_n 1, 1) := dk_27 (dk_at dksX3_error_3 6 rfl rfl)
theorem dX3_error_74 : decode cX3_error 74 = .ok (.invokestatic 37, 3) := dk_184 0 37 (dk_at dksX3_error_3 7 rfl rfl)
theorem dX3_error_77 : decode cX3_error 77 = .ok (.ifCond .eq 7, 3) := dk_153 0 7 (dk_at dksX3_error_3 10 rfl rfl)
theorem dX3_error_80 : decode cX3_error 80 = .ok (.iconst (-1), 1) := dk_2 (dk_at dksX3_error_3 13 rfl rfl)
theorem dX3_error_81 : decode cX3_error 81 = .ok (.goto 7, 3) := dk_167 0 7 (dk_at dksX3_error_3 14 rfl rfl)
theorem dX3_error_84 : decode cX3_error 84 = .ok (.aload_n 0, 1) := dk_42 (dk_at dksX3_error_3 17 rfl rfl)
theorem dX3_error_85 : decode cX3_error 85 = .ok (.getfield 15, 3) := dk_180 0 15 (dk_at dksX3_error_3 18 rfl rfl)
theorem dX3_error_88 : decode cX3_error 88 = .ok (.ireturn, 1) := dk_172 (dk_at dksX3_error_3 21 rfl rfl)
abbrev cX3_set : ByteArray := prog_6_method_5_code
def yX3_set : MethodName := ⟨RX3, "set", "()I"⟩
def dkwX3_set_1 : List UInt8 := [132, 2, 1, 167, 255, 235, 27, 172]
abbrev dktX3_set_1 : List UInt8 := dkwX3_set_1 ++ []
def dkwX3_set_0 : List UInt8 := [3, 60, 3, 61, 28, 42, 180, 0, 15, 162, 0, 19, 27, 4, 42, 28, 182, 0, 19, 120, 128, 60]
abbrev dktX3_set_0 : List UInt8 := dkwX3_set_0 ++ dktX3_set_1
theorem dksX3_set_0 : cX3_set.data.toList.drop 0 = dktX3_set_0 := by decide +kernel
theorem dksX3_set_1 : cX3_set.data.toList.drop 22 = dktX3_set_1 := dk_seg dksX3_set_0 22 rfl rfl
theorem dX3_set_0 : decode cX3_set 0 = .ok (.iconst 0, 1) := dk_3 (dk_at dksX3_set_0 0 rfl rfl)
theorem dX3_set_1 : decode cX3_set 1 = .ok (.istore_n 1, 1) := dk_60 (dk_at dksX3_set_0 1 rfl rfl)
theorem dX3_set_2 : decode cX3_set 2 = .ok (.iconst 0, 1) := dk_3 (dk_at dksX3_set_0 2 rfl rfl)
theorem dX3_set_3 : decode cX3_set 3 = .ok (.istore_n 2, 1) := dk_61 (dk_at dksX3_set_0 3 rfl rfl)
theorem dX3_set_4 : decode cX3_set 4 = .ok (.iload_n 2, 1) := dk_28 (dk_at dksX3_set_0 4 rfl rfl)
theorem dX3_set_5 : decode cX3_set 5 = .ok (.aload_n 0, 1) := dk_42 (dk_at dksX3_set_0 5 rfl rfl)
theorem dX3_set_6 : decode cX3_set 6 = .ok (.getfield 15, 3) := dk_180 0 15 (dk_at dksX3_set_0 6 rfl rfl)
theorem dX3_set_9 : decode cX3_set 9 = .ok (.if_icmp .ge 19, 3) := dk_162 0 19 (dk_at dksX3_set_0 9 rfl rfl)
theorem dX3_set_12 : decode cX3_set 12 = .ok (.iload_n 1, 1) := dk_27 (dk_at dksX3_set_0 12 rfl rfl)
theorem dX3_set_13 : decode cX3_set 13 = .ok (.iconst 1, 1) := dk_4 (dk_at dksX3_set_0 13 rfl rfl)
theorem dX3_set_14 : decode cX3_set 14 = .ok (.aload_n 0, 1) := dk_42 (dk_at dksX3_set_0 14 rfl rfl)
theorem dX3_set_15 : decode cX3_set 15 = .ok (.iload_n 2, 1) := dk_28 (dk_at dksX3_set_0 15 rfl rfl)
theorem dX3_set_16 : decode cX3_set 16 = .ok (.invokevirtual 19, 3) := dk_182 0 19 (dk_at dksX3_set_0 16 rfl rfl)
theorem dX3_set_19 : decode cX3_set 19 = .ok (.ishl, 1) := dk_120 (dk_at dksX3_set_0 19 rfl rfl)
theorem dX3_set_20 : decode cX3_set 20 = .ok (.ior, 1) := dk_128 (dk_at dksX3_set_0 20 rfl rfl)
theorem dX3_set_21 : decode cX3_set 21 = .ok (.istore_n 1, 1) := dk_60 (dk_at dksX3_set_0 21 rfl rfl)
theorem dX3_set_22 : decode cX3_set 22 = .ok (.iinc 2 1, 3) := dk_132 2 1 (dk_at dksX3_set_1 0 rfl rfl)
theorem dX3_set_25 : decode cX3_set 25 = .ok (.goto (-21), 3) := dk_167 255 235 (dk_at dksX3_set_1 3 rfl rfl)
theorem dX3_set_28 : decode cX3_set 28 = .ok (.iload_n 1, 1) := dk_27 (dk_at dksX3_set_1 6 rfl rfl)
theorem dX3_set_29 : decode cX3_set 29 = .ok (.ireturn, 1) := dk_172 (dk_at dksX3_set_1 7 rfl rfl)
abbrev cX3_word : ByteArray := prog_6_method_4_code
def yX3_word : MethodName := ⟨RX3, "word", "(I)I"⟩
def dkwX3_word_0 : List UInt8 := [42, 180, 0, 9, 27, 52, 16, 97, 100, 172]
abbrev dktX3_word_0 : List UInt8 := dkwX3_word_0 ++ []
theorem dksX3_word_0 : cX3_word.data.toList.drop 0 = dktX3_word_0 := by decide +kernel
theorem dX3_word_0 : decode cX3_word 0 = .ok (.aload_n 0, 1) := dk_42 (dk_at dksX3_word_0 0 rfl rfl)
theorem dX3_word_1 : decode cX3_word 1 = .ok (.getfield 9, 3) := dk_180 0 9 (dk_at dksX3_word_0 1 rfl rfl)
theorem dX3_word_4 : decode cX3_word 4 = .ok (.iload_n 1, 1) := dk_27 (dk_at dksX3_word_0 4 rfl rfl)
theorem dX3_word_5 : decode cX3_word 5 = .ok (.caload, 1) := dk_52 (dk_at dksX3_word_0 5 rfl rfl)
theorem dX3_word_6 : decode cX3_word 6 = .ok (.bipush 97, 2) := dk_16 97 (dk_at dksX3_word_0 6 rfl rfl)
theorem dX3_word_8 : decode cX3_word 8 = .ok (.isub, 1) := dk_100 (dk_at dksX3_word_0 8 rfl rfl)
theorem dX3_word_9 : decode cX3_word 9 = .ok (.ireturn, 1) := dk_172 (dk_at dksX3_word_0 9 rfl rfl)
abbrev cX3_add : ByteArray := prog_6_method_2_code
def yX3_add : MethodName := ⟨RX3, "add", "(C)I"⟩
def dkwX3_add_1 : List UInt8 := [172]
abbrev dktX3_add_1 : List UInt8 := dkwX3_add_1 ++ []
def dkwX3_add_0 : List UInt8 := [42, 180, 0, 9, 42, 180, 0, 15, 27, 85, 42, 89, 180, 0, 15, 4, 96, 181, 0, 15, 42, 180, 0, 15]
abbrev dktX3_add_0 : List UInt8 := dkwX3_add_0 ++ dktX3_add_1
theorem dksX3_add_0 : cX3_add.data.toList.drop 0 = dktX3_add_0 := by decide +kernel
theorem dksX3_add_1 : cX3_add.data.toList.drop 24 = dktX3_add_1 := dk_seg dksX3_add_0 24 rfl rfl
theorem dX3_add_0 : decode cX3_add 0 = .ok (.aload_n 0, 1) := dk_42 (dk_at dksX3_add_0 0 rfl rfl)
theorem dX3_add_1 : decode cX3_add 1 = .ok (.getfield 9, 3) := dk_180 0 9 (dk_at dksX3_add_0 1 rfl rfl)
theorem dX3_add_4 : decode cX3_add 4 = .ok (.aload_n 0, 1) := dk_42 (dk_at dksX3_add_0 4 rfl rfl)
theorem dX3_add_5 : decode cX3_add 5 = .ok (.getfield 15, 3) := dk_180 0 15 (dk_at dksX3_add_0 5 rfl rfl)
theorem dX3_add_8 : decode cX3_add 8 = .ok (.iload_n 1, 1) := dk_27 (dk_at dksX3_add_0 8 rfl rfl)
theorem dX3_add_9 : decode cX3_add 9 = .ok (.castore, 1) := dk_85 (dk_at dksX3_add_0 9 rfl rfl)
theorem dX3_add_10 : decode cX3_add 10 = .ok (.aload_n 0, 1) := dk_42 (dk_at dksX3_add_0 10 rfl rfl)
theorem dX3_add_11 : decode cX3_add 11 = .ok (.dup, 1) := dk_89 (dk_at dksX3_add_0 11 rfl rfl)
theorem dX3_add_12 : decode cX3_add 12 = .ok (.getfield 15, 3) := dk_180 0 15 (dk_at dksX3_add_0 12 rfl rfl)
theorem dX3_add_15 : decode cX3_add 15 = .ok (.iconst 1, 1) := dk_4 (dk_at dksX3_add_0 15 rfl rfl)
theorem dX3_add_16 : decode cX3_add 16 = .ok (.iadd, 1) := dk_96 (dk_at dksX3_add_0 16 rfl rfl)
theorem dX3_add_17 : decode cX3_add 17 = .ok (.putfield 15, 3) := dk_181 0 15 (dk_at dksX3_add_0 17 rfl rfl)
theorem dX3_add_20 : decode cX3_add 20 = .ok (.aload_n 0, 1) := dk_42 (dk_at dksX3_add_0 20 rfl rfl)
theorem dX3_add_21 : decode cX3_add 21 = .ok (.getfield 15, 3) := dk_180 0 15 (dk_at dksX3_add_0 21 rfl rfl)
theorem dX3_add_24 : decode cX3_add 24 = .ok (.ireturn, 1) := dk_172 (dk_at dksX3_add_1 0 rfl rfl)
abbrev cX3_length : ByteArray := prog_6_method_8_code
def yX3_length : MethodName := ⟨RX3, "length", "()I"⟩
theorem dX3_length_0 : decode cX3_length 0 = .ok (.aload_n 0, 1) := by decide +kernel
theorem dX3_length_1 : decode cX3_length 1 = .ok (.getfield 15, 3) := by decide +kernel
theorem dX3_length_4 : decode cX3_length 4 = .ok (.ireturn, 1) := by decide +kernel
abbrev cX3_copy : ByteArray := prog_6_method_7_code
def yX3_copy : MethodName := ⟨RX3, "copy", "()LTaleDuel$Sentence;"⟩
def dkwX3_copy_1 : List UInt8 := [52, 182, 0, 41, 62, 132, 2, 1, 167, 255, 234, 43, 176]
abbrev dktX3_copy_1 : List UInt8 := dkwX3_copy_1 ++ []
def dkwX3_copy_0 : List UInt8 := [187, 0, 10, 89, 183, 0, 40, 76, 3, 61, 28, 42, 180, 0, 15, 162, 0, 20, 43, 42, 180, 0, 9, 28]
abbrev dktX3_copy_0 : List UInt8 := dkwX3_copy_0 ++ dktX3_copy_1
theorem dksX3_copy_0 : cX3_copy.data.toList.drop 0 = dktX3_copy_0 := by decide +kernel
theorem dksX3_copy_1 : cX3_copy.data.toList.drop 24 = dktX3_copy_1 := dk_seg dksX3_copy_0 24 rfl rfl
theorem dX3_copy_0 : decode cX3_copy 0 = .ok (.new 10, 3) := dk_187 0 10 (dk_at dksX3_copy_0 0 rfl rfl)
theorem dX3_copy_3 : decode cX3_copy 3 = .ok (.dup, 1) := dk_89 (dk_at dksX3_copy_0 3 rfl rfl)
theorem dX3_copy_4 : decode cX3_copy 4 = .ok (.invokespecial 40, 3) := dk_183 0 40 (dk_at dksX3_copy_0 4 rfl rfl)
theorem dX3_copy_7 : decode cX3_copy 7 = .ok (.astore_n 1, 1) := dk_76 (dk_at dksX3_copy_0 7 rfl rfl)
theorem dX3_copy_8 : decode cX3_copy 8 = .ok (.iconst 0, 1) := dk_3 (dk_at dksX3_copy_0 8 rfl rfl)
theorem dX3_copy_9 : decode cX3_copy 9 = .ok (.istore_n 2, 1) := dk_61 (dk_at dksX3_copy_0 9 rfl rfl)
theorem dX3_copy_10 : decode cX3_copy 10 = .ok (.iload_n 2, 1) := dk_28 (dk_at dksX3_copy_0 10 rfl rfl)
theorem dX3_copy_11 : decode cX3_copy 11 = .ok (.aload_n 0, 1) := dk_42 (dk_at dksX3_copy_0 11 rfl rfl)
theorem dX3_copy_12 : decode cX3_copy 12 = .ok (.getfield 15, 3) := dk_180 0 15 (dk_at dksX3_copy_0 12 rfl rfl)
theorem dX3_copy_15 : decode cX3_copy 15 = .ok (.if_icmp .ge 20, 3) := dk_162 0 20 (dk_at dksX3_copy_0 15 rfl rfl)
theorem dX3_copy_18 : decode cX3_copy 18 = .ok (.aload_n 1, 1) := dk_43 (dk_at dksX3_copy_0 18 rfl rfl)
theorem dX3_copy_19 : decode cX3_copy 19 = .ok (.aload_n 0, 1) := dk_42 (dk_at dksX3_copy_0 19 rfl rfl)
theorem dX3_copy_20 : decode cX3_copy 20 = .ok (.getfield 9, 3) := dk_180 0 9 (dk_at dksX3_copy_0 20 rfl rfl)
theorem dX3_copy_23 : decode cX3_copy 23 = .ok (.iload_n 2, 1) := dk_28 (dk_at dksX3_copy_0 23 rfl rfl)
theorem dX3_copy_24 : decode cX3_copy 24 = .ok (.caload, 1) := dk_52 (dk_at dksX3_copy_1 0 rfl rfl)
theorem dX3_copy_25 : decode cX3_copy 25 = .ok (.invokevirtual 41, 3) := dk_182 0 41 (dk_at dksX3_copy_1 1 rfl rfl)
theorem dX3_copy_28 : decode cX3_copy 28 = .ok (.istore_n 3, 1) := dk_62 (dk_at dksX3_copy_1 4 rfl rfl)
theorem dX3_copy_29 : decode cX3_copy 29 = .ok (.iinc 2 1, 3) := dk_132 2 1 (dk_at dksX3_copy_1 5 rfl rfl)
theorem dX3_copy_32 : decode cX3_copy 32 = .ok (.goto (-22), 3) := dk_167 255 234 (dk_at dksX3_copy_1 8 rfl rfl)
theorem dX3_copy_35 : decode cX3_copy 35 = .ok (.aload_n 1, 1) := dk_43 (dk_at dksX3_copy_1 11 rfl rfl)
theorem dX3_copy_36 : decode cX3_copy 36 = .ok (.areturn, 1) := dk_176 (dk_at dksX3_copy_1 12 rfl rfl)
theorem q43 : (Jvm.Cond.initialized "TaleDuel$Sentence") ∈ lw_all := lw_g (lw_at lw_m1 5 rfl) rfl
theorem q122 : (Jvm.Cond.instantiable "TaleDuel$Sentence" (2 : Nat)) ∈ lw_all := lw_g (lw_at lw_m1 84 rfl) rfl
theorem q124 : (Jvm.Cond.instanceMethod ({ cls := "TaleDuel$Sentence", name := "<init>", desc := "()V" } : Jvm.MethodName)) ∈ lw_all := lw_g (lw_at lw_m1 86 rfl) rfl
theorem q125 : (Jvm.Cond.code ({ cls := "TaleDuel$Sentence", name := "<init>", desc := "()V" } : Jvm.MethodName) prog_6_method_1_code (1 : Nat) (Option.none : Option Jvm.ClassFile.FieldType)) ∈ lw_all := lw_g (lw_at lw_m1 87 rfl) rfl
theorem q126 : (Jvm.Cond.methodLink "TaleDuel$Sentence" (3 : Nat) ({ cls := "java/lang/Object", name := "<init>", desc := "()V" } : Jvm.MethodName)) ∈ lw_all := lw_g (lw_at lw_m1 88 rfl) rfl
theorem q127 : (Jvm.Cond.fieldLink "TaleDuel$Sentence" (9 : Nat) "TaleDuel$Sentence" "words" "[C") ∈ lw_all := lw_g (lw_at lw_m1 89 rfl) rfl
theorem q128 : (Jvm.Cond.fieldLink "TaleDuel$Sentence" (15 : Nat) "TaleDuel$Sentence" "length" "I") ∈ lw_all := lw_g (lw_at lw_m1 90 rfl) rfl
theorem q129 : (Jvm.Cond.laysFinal "TaleDuel$Sentence" "TaleDuel$Sentence" "words" "[C") ∈ lw_all := lw_g (lw_at lw_m1 91 rfl) rfl
theorem q130 : (Jvm.Cond.soleField "TaleDuel$Sentence" "words") ∈ lw_all := lw_g (lw_at lw_m1 92 rfl) rfl
theorem q131 : (Jvm.Cond.lays "TaleDuel$Sentence" "TaleDuel$Sentence" "length" "I") ∈ lw_all := lw_g (lw_at lw_m1 93 rfl) rfl
theorem q132 : (Jvm.Cond.soleField "TaleDuel$Sentence" "length") ∈ lw_all := lw_g (lw_at lw_m1 94 rfl) rfl
theorem q133 : (Jvm.Cond.superclass "TaleDuel$Sentence" "java/lang/Object") ∈ lw_all := lw_g (lw_at lw_m1 95 rfl) rfl
theorem q153 : (Jvm.Cond.instanceMethod ({ cls := "TaleDuel$Sentence", name := "clear", desc := "()I" } : Jvm.MethodName)) ∈ lw_all := lw_g (lw_at lw_m1 115 rfl) rfl
theorem q154 : (Jvm.Cond.selects "TaleDuel$Sentence" ({ cls := "TaleDuel$Sentence", name := "clear", desc := "()I" } : Jvm.MethodName) ({ cls := "TaleDuel$Sentence", name := "clear", desc := "()I" } : Jvm.MethodName)) ∈ lw_all := lw_g (lw_at lw_m1 116 rfl) rfl
theorem q155 : (Jvm.Cond.code ({ cls := "TaleDuel$Sentence", name := "clear", desc := "()I" } : Jvm.MethodName) prog_6_method_3_code (2 : Nat) (Option.some Jvm.ClassFile.FieldType.int)) ∈ lw_all := lw_g (lw_at lw_m1 117 rfl) rfl
theorem q161 : (Jvm.Cond.instanceMethod ({ cls := "TaleDuel$Sentence", name := "error", desc := "()I" } : Jvm.MethodName)) ∈ lw_all := lw_g (lw_at lw_m1 123 rfl) rfl
theorem q162 : (Jvm.Cond.selects "TaleDuel$Sentence" ({ cls := "TaleDuel$Sentence", name := "error", desc := "()I" } : Jvm.MethodName) ({ cls := "TaleDuel$Sentence", name := "error", desc := "()I" } : Jvm.MethodName)) ∈ lw_all := lw_g (lw_at lw_m1 124 rfl) rfl
theorem q163 : (Jvm.Cond.code ({ cls := "TaleDuel$Sentence", name := "error", desc := "()I" } : Jvm.MethodName) prog_6_method_6_code (5 : Nat) (Option.some Jvm.ClassFile.FieldType.int)) ∈ lw_all := lw_g (lw_at lw_m1 125 rfl) rfl
theorem q164 : (Jvm.Cond.methodLinkNest "TaleDuel$Sentence" (23 : Nat) ({ cls := "TaleDuel", name := "isWord", desc := "(I)Z" } : Jvm.MethodName) "TaleDuel") ∈ lw_tbl := lw_at lw_m1 126 rfl
theorem q171 : (Jvm.Cond.methodLinkNest "TaleDuel$Sentence" (27 : Nat) ({ cls := "TaleDuel", name := "has", desc := "(II)Z" } : Jvm.MethodName) "TaleDuel") ∈ lw_tbl := lw_at lw_m1 133 rfl
theorem q174 : (Jvm.Cond.methodLink "TaleDuel$Sentence" (31 : Nat) ({ cls := "TaleDuel$Grammar", name := "next", desc := "(II)I" } : Jvm.MethodName)) ∈ lw_all := lw_g (lw_at lw_m1 136 rfl) rfl
theorem q177 : (Jvm.Cond.methodLink "TaleDuel$Sentence" (37 : Nat) ({ cls := "TaleDuel$Grammar", name := "isEnd", desc := "(I)Z" } : Jvm.MethodName)) ∈ lw_all := lw_g (lw_at lw_m1 139 rfl) rfl
theorem q318 : (Jvm.Cond.selects "TaleDuel$Sentence" ({ cls := "java/lang/Object", name := "getClass", desc := "()Ljava/lang/Class;" } : Jvm.MethodName) ({ cls := "java/lang/Object", name := "getClass", desc := "()Ljava/lang/Class;" } : Jvm.MethodName)) ∈ lw_all := lw_g (lw_at lw_m2 40 rfl) rfl
theorem q961 : (Jvm.Cond.instanceMethod ({ cls := "TaleDuel$Sentence", name := "set", desc := "()I" } : Jvm.MethodName)) ∈ lw_all := lw_g (lw_at lw_m4 203 rfl) rfl
theorem q962 : (Jvm.Cond.selects "TaleDuel$Sentence" ({ cls := "TaleDuel$Sentence", name := "set", desc := "()I" } : Jvm.MethodName) ({ cls := "TaleDuel$Sentence", name := "set", desc := "()I" } : Jvm.MethodName)) ∈ lw_all := lw_g (lw_at lw_m4 204 rfl) rfl
theorem q963 : (Jvm.Cond.code ({ cls := "TaleDuel$Sentence", name := "set", desc := "()I" } : Jvm.MethodName) prog_6_method_5_code (3 : Nat) (Option.some Jvm.ClassFile.FieldType.int)) ∈ lw_all := lw_g (lw_at lw_m4 205 rfl) rfl
theorem q964 : (Jvm.Cond.methodLink "TaleDuel$Sentence" (19 : Nat) ({ cls := "TaleDuel$Sentence", name := "word", desc := "(I)I" } : Jvm.MethodName)) ∈ lw_all := lw_g (lw_at lw_m4 206 rfl) rfl
theorem q965 : (Jvm.Cond.instanceMethod ({ cls := "TaleDuel$Sentence", name := "word", desc := "(I)I" } : Jvm.MethodName)) ∈ lw_all := lw_g (lw_at lw_m4 207 rfl) rfl
theorem q966 : (Jvm.Cond.selects "TaleDuel$Sentence" ({ cls := "TaleDuel$Sentence", name := "word", desc := "(I)I" } : Jvm.MethodName) ({ cls := "TaleDuel$Sentence", name := "word", desc := "(I)I" } : Jvm.MethodName)) ∈ lw_all := lw_g (lw_at lw_m4 208 rfl) rfl
theorem q967 : (Jvm.Cond.code ({ cls := "TaleDuel$Sentence", name := "word", desc := "(I)I" } : Jvm.MethodName) prog_6_method_4_code (2 : Nat) (Option.some Jvm.ClassFile.FieldType.int)) ∈ lw_all := lw_g (lw_at lw_m4 209 rfl) rfl
theorem q1041 : (Jvm.Cond.instanceMethod ({ cls := "TaleDuel$Sentence", name := "add", desc := "(C)I" } : Jvm.MethodName)) ∈ lw_all := lw_g (lw_at lw_m5 43 rfl) rfl
theorem q1042 : (Jvm.Cond.selects "TaleDuel$Sentence" ({ cls := "TaleDuel$Sentence", name := "add", desc := "(C)I" } : Jvm.MethodName) ({ cls := "TaleDuel$Sentence", name := "add", desc := "(C)I" } : Jvm.MethodName)) ∈ lw_all := lw_g (lw_at lw_m5 44 rfl) rfl
theorem q1043 : (Jvm.Cond.code ({ cls := "TaleDuel$Sentence", name := "add", desc := "(C)I" } : Jvm.MethodName) prog_6_method_2_code (2 : Nat) (Option.some Jvm.ClassFile.FieldType.int)) ∈ lw_all := lw_g (lw_at lw_m5 45 rfl) rfl
theorem q1095 : (Jvm.Cond.instanceMethod ({ cls := "TaleDuel$Sentence", name := "length", desc := "()I" } : Jvm.MethodName)) ∈ lw_all := lw_g (lw_at lw_m5 97 rfl) rfl
theorem q1096 : (Jvm.Cond.selects "TaleDuel$Sentence" ({ cls := "TaleDuel$Sentence", name := "length", desc := "()I" } : Jvm.MethodName) ({ cls := "TaleDuel$Sentence", name := "length", desc := "()I" } : Jvm.MethodName)) ∈ lw_all := lw_g (lw_at lw_m5 98 rfl) rfl
theorem q1097 : (Jvm.Cond.code ({ cls := "TaleDuel$Sentence", name := "length", desc := "()I" } : Jvm.MethodName) prog_6_method_8_code (1 : Nat) (Option.some Jvm.ClassFile.FieldType.int)) ∈ lw_all := lw_g (lw_at lw_m5 99 rfl) rfl
theorem q1226 : (Jvm.Cond.instanceMethod ({ cls := "TaleDuel$Sentence", name := "copy", desc := "()LTaleDuel$Sentence;" } : Jvm.MethodName)) ∈ lw_all := lw_g (lw_at lw_m5 228 rfl) rfl
theorem q1227 : (Jvm.Cond.selects "TaleDuel$Sentence" ({ cls := "TaleDuel$Sentence", name := "copy", desc := "()LTaleDuel$Sentence;" } : Jvm.MethodName) ({ cls := "TaleDuel$Sentence", name := "copy", desc := "()LTaleDuel$Sentence;" } : Jvm.MethodName)) ∈ lw_all := lw_g (lw_at lw_m5 229 rfl) rfl
theorem q1228 : (Jvm.Cond.code ({ cls := "TaleDuel$Sentence", name := "copy", desc := "()LTaleDuel$Sentence;" } : Jvm.MethodName) prog_6_method_7_code (4 : Nat) (Option.some (Jvm.ClassFile.FieldType.object "TaleDuel$Sentence"))) ∈ lw_all := lw_g (lw_at lw_m5 230 rfl) rfl
theorem q1229 : (Jvm.Cond.classLink "TaleDuel$Sentence" (10 : Nat) "TaleDuel$Sentence") ∈ lw_all := lw_g (lw_at lw_m5 231 rfl) rfl
theorem q1230 : (Jvm.Cond.methodLink "TaleDuel$Sentence" (40 : Nat) ({ cls := "TaleDuel$Sentence", name := "<init>", desc := "()V" } : Jvm.MethodName)) ∈ lw_all := lw_g (lw_at lw_m5 232 rfl) rfl
theorem q1231 : (Jvm.Cond.methodLink "TaleDuel$Sentence" (41 : Nat) ({ cls := "TaleDuel$Sentence", name := "add", desc := "(C)I" } : Jvm.MethodName)) ∈ lw_all := lw_g (lw_at lw_m5 233 rfl) rfl
theorem q1780 : (Jvm.Cond.castable "TaleDuel$Sentence" "java/lang/CharSequence") ∈ lw_tbl := lw_at lw_m8 62 rfl
theorem q1788 : (Jvm.Cond.castable "TaleDuel$Sentence" "java/lang/Object") ∈ lw_tbl := lw_at lw_m8 70 rfl
theorem in_X3 : ∀ w ∈ wsX30, w ∈ lw_all := lw_in wsX30 [129, 131] (by decide +kernel) (by decide +kernel)
/-! TaleDuel$Grammar -/
set_option maxRecDepth 100000
def RX5 : String := "TaleDuel$Grammar"
abbrev cX5_next : ByteArray := prog_3_method_1_code
def yX5_next : MethodName := ⟨RX5, "next", "(II)I"⟩
def dkwX5_next_5 : List UInt8 := [154, 0, 7, 8, 167, 0, 8, 2, 167, 0, 4, 2, 172]
abbrev dktX5_next_5 : List UInt8 := dkwX5_next_5 ++ []
def dkwX5_next_4 : List UInt8 := [28, 4, 160, 0, 7, 2, 167, 0, 28, 28, 154, 0, 7, 8, 167, 0, 20, 7, 167, 0, 16, 28]
abbrev dktX5_next_4 : List UInt8 := dkwX5_next_4 ++ dktX5_next_5
def dkwX5_next_3 : List UInt8 := [154, 0, 7, 5, 167, 0, 54, 2, 167, 0, 50, 28, 4, 160, 0, 7, 6, 167, 0, 41, 2, 167, 0, 37]
abbrev dktX5_next_3 : List UInt8 := dkwX5_next_3 ++ dktX5_next_4
def dkwX5_next_2 : List UInt8 := [28, 4, 160, 0, 7, 2, 167, 0, 74, 28, 154, 0, 7, 5, 167, 0, 66, 4, 167, 0, 62, 28]
abbrev dktX5_next_2 : List UInt8 := dkwX5_next_2 ++ dktX5_next_3
def dkwX5_next_1 : List UInt8 := [170, 0, 0, 0, 0, 0, 114, 0, 0, 0, 0, 0, 0, 0, 4, 0, 0, 0, 35, 0, 0, 0, 56, 0, 0, 0, 68, 0, 0, 0, 81, 0, 0, 0, 102]
abbrev dktX5_next_1 : List UInt8 := dkwX5_next_1 ++ dktX5_next_2
def dkwX5_next_0 : List UInt8 := [27, 6, 112, 61, 26]
abbrev dktX5_next_0 : List UInt8 := dkwX5_next_0 ++ dktX5_next_1
theorem dksX5_next_0 : cX5_next.data.toList.drop 0 = dktX5_next_0 := by decide +kernel
theorem dksX5_next_1 : cX5_next.data.toList.drop 5 = dktX5_next_1 := dk_seg dksX5_next_0 5 rfl rfl
theorem dksX5_next_2 : cX5_next.data.toList.drop 40 = dktX5_next_2 := dk_seg dksX5_next_1 35 rfl rfl
theorem dksX5_next_3 : cX5_next.data.toList.drop 62 = dktX5_next_3 := dk_seg dksX5_next_2 22 rfl rfl
theorem dksX5_next_4 : cX5_next.data.toList.drop 86 = dktX5_next_4 := dk_seg dksX5_next_3 24 rfl rfl
theorem dksX5_next_5 : cX5_next.data.toList.drop 108 = dktX5_next_5 := dk_seg dksX5_next_4 22 rfl rfl
theorem dX5_next_0 : decode cX5_next 0 = .ok (.iload_n 1, 1) := dk_27 (dk_at dksX5_next_0 0 rfl rfl)
theorem dX5_next_1 : decode cX5_next 1 = .ok (.iconst 3, 1) := dk_6 (dk_at dksX5_next_0 1 rfl rfl)
theorem dX5_next_2 : decode cX5_next 2 = .ok (.irem, 1) := dk_112 (dk_at dksX5_next_0 2 rfl rfl)
theorem dX5_next_3 : decode cX5_next 3 = .ok (.istore_n 2, 1) := dk_61 (dk_at dksX5_next_0 3 rfl rfl)
theorem dX5_next_4 : decode cX5_next 4 = .ok (.iload_n 0, 1) := dk_26 (dk_at dksX5_next_0 4 rfl rfl)
theorem dX5_next_5 : decode cX5_next 5 = .ok (.tableswitch 114 0 4 #[35, 56, 68, 81, 102], 35) := by decide +kernel
theorem dX5_next_40 : decode cX5_next 40 = .ok (.iload_n 2, 1) := dk_28 (dk_at dksX5_next_2 0 rfl rfl)
theorem dX5_next_41 : decode cX5_next 41 = .ok (.iconst 1, 1) := dk_4 (dk_at dksX5_next_2 1 rfl rfl)
theorem dX5_next_42 : decode cX5_next 42 = .ok (.if_icmp .ne 7, 3) := dk_160 0 7 (dk_at dksX5_next_2 2 rfl rfl)
theorem dX5_next_45 : decode cX5_next 45 = .ok (.iconst (-1), 1) := dk_2 (dk_at dksX5_next_2 5 rfl rfl)
theorem dX5_next_46 : decode cX5_next 46 = .ok (.goto 74, 3) := dk_167 0 74 (dk_at dksX5_next_2 6 rfl rfl)
theorem dX5_next_49 : decode cX5_next 49 = .ok (.iload_n 2, 1) := dk_28 (dk_at dksX5_next_2 9 rfl rfl)
theorem dX5_next_50 : decode cX5_next 50 = .ok (.ifCond .ne 7, 3) := dk_154 0 7 (dk_at dksX5_next_2 10 rfl rfl)
theorem dX5_next_53 : decode cX5_next 53 = .ok (.iconst 2, 1) := dk_5 (dk_at dksX5_next_2 13 rfl rfl)
theorem dX5_next_54 : decode cX5_next 54 = .ok (.goto 66, 3) := dk_167 0 66 (dk_at dksX5_next_2 14 rfl rfl)
theorem dX5_next_57 : decode cX5_next 57 = .ok (.iconst 1, 1) := dk_4 (dk_at dksX5_next_2 17 rfl rfl)
theorem dX5_next_58 : decode cX5_next 58 = .ok (.goto 62, 3) := dk_167 0 62 (dk_at dksX5_next_2 18 rfl rfl)
theorem dX5_next_61 : decode cX5_next 61 = .ok (.iload_n 2, 1) := dk_28 (dk_at dksX5_next_2 21 rfl rfl)
theorem dX5_next_62 : decode cX5_next 62 = .ok (.ifCond .ne 7, 3) := dk_154 0 7 (dk_at dksX5_next_3 0 rfl rfl)
theorem dX5_next_65 : decode cX5_next 65 = .ok (.iconst 2, 1) := dk_5 (dk_at dksX5_next_3 3 rfl rfl)
theorem dX5_next_66 : decode cX5_next 66 = .ok (.goto 54, 3) := dk_167 0 54 (dk_at dksX5_next_3 4 rfl rfl)
theorem dX5_next_69 : decode cX5_next 69 = .ok (.iconst (-1), 1) := dk_2 (dk_at dksX5_next_3 7 rfl rfl)
theorem dX5_next_70 : decode cX5_next 70 = .ok (.goto 50, 3) := dk_167 0 50 (dk_at dksX5_next_3 8 rfl rfl)
theorem dX5_next_73 : decode cX5_next 73 = .ok (.iload_n 2, 1) := dk_28 (dk_at dksX5_next_3 11 rfl rfl)
theorem dX5_next_74 : decode cX5_next 74 = .ok (.iconst 1, 1) := dk_4 (dk_at dksX5_next_3 12 rfl rfl)
theorem dX5_next_75 : decode cX5_next 75 = .ok (.if_icmp .ne 7, 3) := dk_160 0 7 (dk_at dksX5_next_3 13 rfl rfl)
theorem dX5_next_78 : decode cX5_next 78 = .ok (.iconst 3, 1) := dk_6 (dk_at dksX5_next_3 16 rfl rfl)
theorem dX5_next_79 : decode cX5_next 79 = .ok (.goto 41, 3) := dk_167 0 41 (dk_at dksX5_next_3 17 rfl rfl)
theorem dX5_next_82 : decode cX5_next 82 = .ok (.iconst (-1), 1) := dk_2 (dk_at dksX5_next_3 20 rfl rfl)
theorem dX5_next_83 : decode cX5_next 83 = .ok (.goto 37, 3) := dk_167 0 37 (dk_at dksX5_next_3 21 rfl rfl)
theorem dX5_next_86 : decode cX5_next 86 = .ok (.iload_n 2, 1) := dk_28 (dk_at dksX5_next_4 0 rfl rfl)
theorem dX5_next_87 : decode cX5_next 87 = .ok (.iconst 1, 1) := dk_4 (dk_at dksX5_next_4 1 rfl rfl)
theorem dX5_next_88 : decode cX5_next 88 = .ok (.if_icmp .ne 7, 3) := dk_160 0 7 (dk_at dksX5_next_4 2 rfl rfl)
theorem dX5_next_91 : decode cX5_next 91 = .ok (.iconst (-1), 1) := dk_2 (dk_at dksX5_next_4 5 rfl rfl)
theorem dX5_next_92 : decode cX5_next 92 = .ok (.goto 28, 3) := dk_167 0 28 (dk_at dksX5_next_4 6 rfl rfl)
theorem dX5_next_95 : decode cX5_next 95 = .ok (.iload_n 2, 1) := dk_28 (dk_at dksX5_next_4 9 rfl rfl)
theorem dX5_next_96 : decode cX5_next 96 = .ok (.ifCond .ne 7, 3) := dk_154 0 7 (dk_at dksX5_next_4 10 rfl rfl)
theorem dX5_next_99 : decode cX5_next 99 = .ok (.iconst 5, 1) := dk_8 (dk_at dksX5_next_4 13 rfl rfl)
theorem dX5_next_100 : decode cX5_next 100 = .ok (.goto 20, 3) := dk_167 0 20 (dk_at dksX5_next_4 14 rfl rfl)
theorem dX5_next_103 : decode cX5_next 103 = .ok (.iconst 4, 1) := dk_7 (dk_at dksX5_next_4 17 rfl rfl)
theorem dX5_next_104 : decode cX5_next 104 = .ok (.goto 16, 3) := dk_167 0 16 (dk_at dksX5_next_4 18 rfl rfl)
theorem dX5_next_107 : decode cX5_next 107 = .ok (.iload_n 2, 1) := dk_28 (dk_at dksX5_next_4 21 rfl rfl)
theorem dX5_next_108 : decode cX5_next 108 = .ok (.ifCond .ne 7, 3) := dk_154 0 7 (dk_at dksX5_next_5 0 rfl rfl)
theorem dX5_next_111 : decode cX5_next 111 = .ok (.iconst 5, 1) := dk_8 (dk_at dksX5_next_5 3 rfl rfl)
theorem dX5_next_112 : decode cX5_next 112 = .ok (.goto 8, 3) := dk_167 0 8 (dk_at dksX5_next_5 4 rfl rfl)
theorem dX5_next_115 : decode cX5_next 115 = .ok (.iconst (-1), 1) := dk_2 (dk_at dksX5_next_5 7 rfl rfl)
theorem dX5_next_116 : decode cX5_next 116 = .ok (.goto 4, 3) := dk_167 0 4 (dk_at dksX5_next_5 8 rfl rfl)
theorem dX5_next_119 : decode cX5_next 119 = .ok (.iconst (-1), 1) := dk_2 (dk_at dksX5_next_5 11 rfl rfl)
theorem dX5_next_120 : decode cX5_next 120 = .ok (.ireturn, 1) := dk_172 (dk_at dksX5_next_5 12 rfl rfl)
abbrev cX5_isEnd : ByteArray := prog_3_method_2_code
def yX5_isEnd : MethodName := ⟨RX5, "isEnd", "(I)Z"⟩
def dkwX5_isEnd_0 : List UInt8 := [26, 6, 159, 0, 8, 26, 8, 160, 0, 7, 4, 167, 0, 4, 3, 172]
abbrev dktX5_isEnd_0 : List UInt8 := dkwX5_isEnd_0 ++ []
theorem dksX5_isEnd_0 : cX5_isEnd.data.toList.drop 0 = dktX5_isEnd_0 := by decide +kernel
theorem dX5_isEnd_0 : decode cX5_isEnd 0 = .ok (.iload_n 0, 1) := dk_26 (dk_at dksX5_isEnd_0 0 rfl rfl)
theorem dX5_isEnd_1 : decode cX5_isEnd 1 = .ok (.iconst 3, 1) := dk_6 (dk_at dksX5_isEnd_0 1 rfl rfl)
theorem dX5_isEnd_2 : decode cX5_isEnd 2 = .ok (.if_icmp .eq 8, 3) := dk_159 0 8 (dk_at dksX5_isEnd_0 2 rfl rfl)
theorem dX5_isEnd_5 : decode cX5_isEnd 5 = .ok (.iload_n 0, 1) := dk_26 (dk_at dksX5_isEnd_0 5 rfl rfl)
theorem dX5_isEnd_6 : decode cX5_isEnd 6 = .ok (.iconst 5, 1) := dk_8 (dk_at dksX5_isEnd_0 6 rfl rfl)
theorem dX5_isEnd_7 : decode cX5_isEnd 7 = .ok (.if_icmp .ne 7, 3) := dk_160 0 7 (dk_at dksX5_isEnd_0 7 rfl rfl)
theorem dX5_isEnd_10 : decode cX5_isEnd 10 = .ok (.iconst 1, 1) := dk_4 (dk_at dksX5_isEnd_0 10 rfl rfl)
theorem dX5_isEnd_11 : decode cX5_isEnd 11 = .ok (.goto 4, 3) := dk_167 0 4 (dk_at dksX5_isEnd_0 11 rfl rfl)
theorem dX5_isEnd_14 : decode cX5_isEnd 14 = .ok (.iconst 0, 1) := dk_3 (dk_at dksX5_isEnd_0 14 rfl rfl)
theorem dX5_isEnd_15 : decode cX5_isEnd 15 = .ok (.ireturn, 1) := dk_172 (dk_at dksX5_isEnd_0 15 rfl rfl)
theorem q50 : (Jvm.Cond.initialized "TaleDuel$Grammar") ∈ lw_all := lw_g (lw_at lw_m1 12 rfl) rfl
theorem q175 : (Jvm.Cond.static ({ cls := "TaleDuel$Grammar", name := "next", desc := "(II)I" } : Jvm.MethodName)) ∈ lw_all := lw_g (lw_at lw_m1 137 rfl) rfl
theorem q176 : (Jvm.Cond.code ({ cls := "TaleDuel$Grammar", name := "next", desc := "(II)I" } : Jvm.MethodName) prog_3_method_1_code (3 : Nat) (Option.some Jvm.ClassFile.FieldType.int)) ∈ lw_all := lw_g (lw_at lw_m1 138 rfl) rfl
theorem q178 : (Jvm.Cond.static ({ cls := "TaleDuel$Grammar", name := "isEnd", desc := "(I)Z" } : Jvm.MethodName)) ∈ lw_all := lw_g (lw_at lw_m1 140 rfl) rfl
theorem q179 : (Jvm.Cond.code ({ cls := "TaleDuel$Grammar", name := "isEnd", desc := "(I)Z" } : Jvm.MethodName) prog_3_method_2_code (1 : Nat) (Option.some Jvm.ClassFile.FieldType.boolean)) ∈ lw_all := lw_g (lw_at lw_m1 141 rfl) rfl
/-! TaleDuel$Store -/
set_option maxRecDepth 100000
def RX7 : String := "TaleDuel$Store"
def TX7 : u_T := fun k => match k with
  | 0 => ("TaleDuel$Store", "kept", "Ljava/util/List;", true)
  | _ => ("TaleDuel$Store", "most", "I", true)
def tyX7 : Nat → FieldType := fun k => match k with
  | 0 => .object "java/util/List"
  | _ => .int
abbrev wsX70 : List Cond := u_ws RX7 TX7 2
theorem nmX7 : ∀ a, a < 2 → ∀ b, b < 2 → a ≠ b → (TX7 a).2.1 ≠ (TX7 b).2.1 := by decide +kernel
theorem tyX7_ok : ∀ k, k < 2 → parseFieldDescriptor (TX7 k).2.2.1 = some (tyX7 k) := by decide +kernel
abbrev cX7_init : ByteArray := prog_8_method_1_code
def yX7_init : MethodName := ⟨RX7, "<init>", "(I)V"⟩
def dkwX7_init_0 : List UInt8 := [42, 183, 0, 1, 42, 187, 0, 7, 89, 183, 0, 9, 181, 0, 10, 42, 27, 181, 0, 16, 177]
abbrev dktX7_init_0 : List UInt8 := dkwX7_init_0 ++ []
theorem dksX7_init_0 : cX7_init.data.toList.drop 0 = dktX7_init_0 := by decide +kernel
theorem dX7_init_0 : decode cX7_init 0 = .ok (.aload_n 0, 1) := dk_42 (dk_at dksX7_init_0 0 rfl rfl)
theorem dX7_init_1 : decode cX7_init 1 = .ok (.invokespecial 1, 3) := dk_183 0 1 (dk_at dksX7_init_0 1 rfl rfl)
theorem dX7_init_4 : decode cX7_init 4 = .ok (.aload_n 0, 1) := dk_42 (dk_at dksX7_init_0 4 rfl rfl)
theorem dX7_init_5 : decode cX7_init 5 = .ok (.new 7, 3) := dk_187 0 7 (dk_at dksX7_init_0 5 rfl rfl)
theorem dX7_init_8 : decode cX7_init 8 = .ok (.dup, 1) := dk_89 (dk_at dksX7_init_0 8 rfl rfl)
theorem dX7_init_9 : decode cX7_init 9 = .ok (.invokespecial 9, 3) := dk_183 0 9 (dk_at dksX7_init_0 9 rfl rfl)
theorem dX7_init_12 : decode cX7_init 12 = .ok (.putfield 10, 3) := dk_181 0 10 (dk_at dksX7_init_0 12 rfl rfl)
theorem dX7_init_15 : decode cX7_init 15 = .ok (.aload_n 0, 1) := dk_42 (dk_at dksX7_init_0 15 rfl rfl)
theorem dX7_init_16 : decode cX7_init 16 = .ok (.iload_n 1, 1) := dk_27 (dk_at dksX7_init_0 16 rfl rfl)
theorem dX7_init_17 : decode cX7_init 17 = .ok (.putfield 16, 3) := dk_181 0 16 (dk_at dksX7_init_0 17 rfl rfl)
theorem dX7_init_20 : decode cX7_init 20 = .ok (.return_, 1) := dk_177 (dk_at dksX7_init_0 20 rfl rfl)
abbrev cX7_size : ByteArray := prog_8_method_3_code
def yX7_size : MethodName := ⟨RX7, "size", "()I"⟩
def dkwX7_size_0 : List UInt8 := [42, 180, 0, 10, 185, 0, 26, 1, 0, 172]
abbrev dktX7_size_0 : List UInt8 := dkwX7_size_0 ++ []
theorem dksX7_size_0 : cX7_size.data.toList.drop 0 = dktX7_size_0 := by decide +kernel
theorem dX7_size_0 : decode cX7_size 0 = .ok (.aload_n 0, 1) := dk_42 (dk_at dksX7_size_0 0 rfl rfl)
theorem dX7_size_1 : decode cX7_size 1 = .ok (.getfield 10, 3) := dk_180 0 10 (dk_at dksX7_size_0 1 rfl rfl)
theorem dX7_size_4 : decode cX7_size 4 = .ok (.invokeinterface 26 1, 5) := by decide +kernel
theorem dX7_size_9 : decode cX7_size 9 = .ok (.ireturn, 1) := dk_172 (dk_at dksX7_size_0 9 rfl rfl)
abbrev cX7_get : ByteArray := prog_8_method_4_code
def yX7_get : MethodName := ⟨RX7, "get", "(I)Ljava/lang/CharSequence;"⟩
def dkwX7_get_0 : List UInt8 := [42, 180, 0, 10, 27, 185, 0, 34, 2, 0, 192, 0, 37, 176]
abbrev dktX7_get_0 : List UInt8 := dkwX7_get_0 ++ []
theorem dksX7_get_0 : cX7_get.data.toList.drop 0 = dktX7_get_0 := by decide +kernel
theorem dX7_get_0 : decode cX7_get 0 = .ok (.aload_n 0, 1) := dk_42 (dk_at dksX7_get_0 0 rfl rfl)
theorem dX7_get_1 : decode cX7_get 1 = .ok (.getfield 10, 3) := dk_180 0 10 (dk_at dksX7_get_0 1 rfl rfl)
theorem dX7_get_4 : decode cX7_get 4 = .ok (.iload_n 1, 1) := dk_27 (dk_at dksX7_get_0 4 rfl rfl)
theorem dX7_get_5 : decode cX7_get 5 = .ok (.invokeinterface 34 2, 5) := by decide +kernel
theorem dX7_get_10 : decode cX7_get 10 = .ok (.checkcast 37, 3) := dk_192 0 37 (dk_at dksX7_get_0 10 rfl rfl)
theorem dX7_get_13 : decode cX7_get 13 = .ok (.areturn, 1) := dk_176 (dk_at dksX7_get_0 13 rfl rfl)
abbrev cX7_add : ByteArray := prog_8_method_2_code
def yX7_add : MethodName := ⟨RX7, "add", "(Ljava/lang/CharSequence;)V"⟩
def dkwX7_add_1 : List UInt8 := [164, 0, 17, 42, 180, 0, 10, 42, 180, 0, 16, 185, 0, 30, 2, 0, 87, 177]
abbrev dktX7_add_1 : List UInt8 := dkwX7_add_1 ++ []
def dkwX7_add_0 : List UInt8 := [42, 180, 0, 10, 3, 43, 185, 0, 20, 3, 0, 42, 180, 0, 10, 185, 0, 26, 1, 0, 42, 180, 0, 16]
abbrev dktX7_add_0 : List UInt8 := dkwX7_add_0 ++ dktX7_add_1
theorem dksX7_add_0 : cX7_add.data.toList.drop 0 = dktX7_add_0 := by decide +kernel
theorem dksX7_add_1 : cX7_add.data.toList.drop 24 = dktX7_add_1 := dk_seg dksX7_add_0 24 rfl rfl
theorem dX7_add_0 : decode cX7_add 0 = .ok (.aload_n 0, 1) := dk_42 (dk_at dksX7_add_0 0 rfl rfl)
theorem dX7_add_1 : decode cX7_add 1 = .ok (.getfield 10, 3) := dk_180 0 10 (dk_at dksX7_add_0 1 rfl rfl)
theorem dX7_add_4 : decode cX7_add 4 = .ok (.iconst 0, 1) := dk_3 (dk_at dksX7_add_0 4 rfl rfl)
theorem dX7_add_5 : decode cX7_add 5 = .ok (.aload_n 1, 1) := dk_43 (dk_at dksX7_add_0 5 rfl rfl)
theorem dX7_add_6 : decode cX7_add 6 = .ok (.invokeinterface 20 3, 5) := by decide +kernel
theorem dX7_add_11 : decode cX7_add 11 = .ok (.aload_n 0, 1) := dk_42 (dk_at dksX7_add_0 11 rfl rfl)
theorem dX7_add_12 : decode cX7_add 12 = .ok (.getfield 10, 3) := dk_180 0 10 (dk_at dksX7_add_0 12 rfl rfl)
theorem dX7_add_15 : decode cX7_add 15 = .ok (.invokeinterface 26 1, 5) := by decide +kernel
theorem dX7_add_20 : decode cX7_add 20 = .ok (.aload_n 0, 1) := dk_42 (dk_at dksX7_add_0 20 rfl rfl)
theorem dX7_add_21 : decode cX7_add 21 = .ok (.getfield 16, 3) := dk_180 0 16 (dk_at dksX7_add_0 21 rfl rfl)
theorem dX7_add_24 : decode cX7_add 24 = .ok (.if_icmp .le 17, 3) := dk_164 0 17 (dk_at dksX7_add_1 0 rfl rfl)
theorem dX7_add_27 : decode cX7_add 27 = .ok (.aload_n 0, 1) := dk_42 (dk_at dksX7_add_1 3 rfl rfl)
theorem dX7_add_28 : decode cX7_add 28 = .ok (.getfield 10, 3) := dk_180 0 10 (dk_at dksX7_add_1 4 rfl rfl)
theorem dX7_add_31 : decode cX7_add 31 = .ok (.aload_n 0, 1) := dk_42 (dk_at dksX7_add_1 7 rfl rfl)
theorem dX7_add_32 : decode cX7_add 32 = .ok (.getfield 16, 3) := dk_180 0 16 (dk_at dksX7_add_1 8 rfl rfl)
theorem dX7_add_35 : decode cX7_add 35 = .ok (.invokeinterface 30 2, 5) := by decide +kernel
theorem dX7_add_40 : decode cX7_add 40 = .ok (.pop, 1) := dk_87 (dk_at dksX7_add_1 16 rfl rfl)
theorem dX7_add_41 : decode cX7_add 41 = .ok (.return_, 1) := dk_177 (dk_at dksX7_add_1 17 rfl rfl)
theorem q61 : (Jvm.Cond.initialized "TaleDuel$Store") ∈ lw_all := lw_g (lw_at lw_m1 23 rfl) rfl
theorem q320 : (Jvm.Cond.selects "TaleDuel$Store" ({ cls := "java/lang/Object", name := "getClass", desc := "()Ljava/lang/Class;" } : Jvm.MethodName) ({ cls := "java/lang/Object", name := "getClass", desc := "()Ljava/lang/Class;" } : Jvm.MethodName)) ∈ lw_all := lw_g (lw_at lw_m2 42 rfl) rfl
theorem q367 : (Jvm.Cond.instantiable "TaleDuel$Store" (2 : Nat)) ∈ lw_all := lw_g (lw_at lw_m2 89 rfl) rfl
theorem q369 : (Jvm.Cond.instanceMethod ({ cls := "TaleDuel$Store", name := "<init>", desc := "(I)V" } : Jvm.MethodName)) ∈ lw_all := lw_g (lw_at lw_m2 91 rfl) rfl
theorem q370 : (Jvm.Cond.code ({ cls := "TaleDuel$Store", name := "<init>", desc := "(I)V" } : Jvm.MethodName) prog_8_method_1_code (2 : Nat) (Option.none : Option Jvm.ClassFile.FieldType)) ∈ lw_all := lw_g (lw_at lw_m2 92 rfl) rfl
theorem q371 : (Jvm.Cond.methodLink "TaleDuel$Store" (1 : Nat) ({ cls := "java/lang/Object", name := "<init>", desc := "()V" } : Jvm.MethodName)) ∈ lw_all := lw_g (lw_at lw_m2 93 rfl) rfl
theorem q372 : (Jvm.Cond.classLink "TaleDuel$Store" (7 : Nat) "java/util/ArrayList") ∈ lw_all := lw_g (lw_at lw_m2 94 rfl) rfl
theorem q374 : (Jvm.Cond.methodLink "TaleDuel$Store" (9 : Nat) ({ cls := "java/util/ArrayList", name := "<init>", desc := "()V" } : Jvm.MethodName)) ∈ lw_all := lw_g (lw_at lw_m2 96 rfl) rfl
theorem q398 : (Jvm.Cond.fieldLink "TaleDuel$Store" (10 : Nat) "TaleDuel$Store" "kept" "Ljava/util/List;") ∈ lw_all := lw_g (lw_at lw_m2 120 rfl) rfl
theorem q399 : (Jvm.Cond.fieldLink "TaleDuel$Store" (16 : Nat) "TaleDuel$Store" "most" "I") ∈ lw_all := lw_g (lw_at lw_m2 121 rfl) rfl
theorem q400 : (Jvm.Cond.laysFinal "TaleDuel$Store" "TaleDuel$Store" "kept" "Ljava/util/List;") ∈ lw_all := lw_g (lw_at lw_m2 122 rfl) rfl
theorem q401 : (Jvm.Cond.soleField "TaleDuel$Store" "kept") ∈ lw_all := lw_g (lw_at lw_m2 123 rfl) rfl
theorem q402 : (Jvm.Cond.laysFinal "TaleDuel$Store" "TaleDuel$Store" "most" "I") ∈ lw_all := lw_g (lw_at lw_m2 124 rfl) rfl
theorem q403 : (Jvm.Cond.soleField "TaleDuel$Store" "most") ∈ lw_all := lw_g (lw_at lw_m2 125 rfl) rfl
theorem q404 : (Jvm.Cond.superclass "TaleDuel$Store" "java/lang/Object") ∈ lw_all := lw_g (lw_at lw_m2 126 rfl) rfl
theorem q547 : (Jvm.Cond.instanceMethod ({ cls := "TaleDuel$Store", name := "size", desc := "()I" } : Jvm.MethodName)) ∈ lw_all := lw_g (lw_at lw_m3 29 rfl) rfl
theorem q548 : (Jvm.Cond.selects "TaleDuel$Store" ({ cls := "TaleDuel$Store", name := "size", desc := "()I" } : Jvm.MethodName) ({ cls := "TaleDuel$Store", name := "size", desc := "()I" } : Jvm.MethodName)) ∈ lw_all := lw_g (lw_at lw_m3 30 rfl) rfl
theorem q549 : (Jvm.Cond.code ({ cls := "TaleDuel$Store", name := "size", desc := "()I" } : Jvm.MethodName) prog_8_method_3_code (1 : Nat) (Option.some Jvm.ClassFile.FieldType.int)) ∈ lw_all := lw_g (lw_at lw_m3 31 rfl) rfl
theorem q550 : (Jvm.Cond.interfaceEntry "TaleDuel$Store" (26 : Nat)) ∈ lw_tbl := lw_at lw_m3 32 rfl
theorem q551 : (Jvm.Cond.methodLink "TaleDuel$Store" (26 : Nat) ({ cls := "java/util/List", name := "size", desc := "()I" } : Jvm.MethodName)) ∈ lw_all := lw_g (lw_at lw_m3 33 rfl) rfl
theorem q560 : (Jvm.Cond.instanceMethod ({ cls := "TaleDuel$Store", name := "get", desc := "(I)Ljava/lang/CharSequence;" } : Jvm.MethodName)) ∈ lw_all := lw_g (lw_at lw_m3 42 rfl) rfl
theorem q561 : (Jvm.Cond.selects "TaleDuel$Store" ({ cls := "TaleDuel$Store", name := "get", desc := "(I)Ljava/lang/CharSequence;" } : Jvm.MethodName) ({ cls := "TaleDuel$Store", name := "get", desc := "(I)Ljava/lang/CharSequence;" } : Jvm.MethodName)) ∈ lw_all := lw_g (lw_at lw_m3 43 rfl) rfl
theorem q562 : (Jvm.Cond.code ({ cls := "TaleDuel$Store", name := "get", desc := "(I)Ljava/lang/CharSequence;" } : Jvm.MethodName) prog_8_method_4_code (2 : Nat) (Option.some (Jvm.ClassFile.FieldType.object "java/lang/CharSequence"))) ∈ lw_all := lw_g (lw_at lw_m3 44 rfl) rfl
theorem q563 : (Jvm.Cond.interfaceEntry "TaleDuel$Store" (34 : Nat)) ∈ lw_tbl := lw_at lw_m3 45 rfl
theorem q564 : (Jvm.Cond.methodLink "TaleDuel$Store" (34 : Nat) ({ cls := "java/util/List", name := "get", desc := "(I)Ljava/lang/Object;" } : Jvm.MethodName)) ∈ lw_all := lw_g (lw_at lw_m3 46 rfl) rfl
theorem q582 : (Jvm.Cond.classLink "TaleDuel$Store" (37 : Nat) "java/lang/CharSequence") ∈ lw_all := lw_g (lw_at lw_m3 64 rfl) rfl
theorem q585 : (Jvm.Cond.instanceMethod ({ cls := "TaleDuel$Store", name := "add", desc := "(Ljava/lang/CharSequence;)V" } : Jvm.MethodName)) ∈ lw_all := lw_g (lw_at lw_m3 67 rfl) rfl
theorem q586 : (Jvm.Cond.selects "TaleDuel$Store" ({ cls := "TaleDuel$Store", name := "add", desc := "(Ljava/lang/CharSequence;)V" } : Jvm.MethodName) ({ cls := "TaleDuel$Store", name := "add", desc := "(Ljava/lang/CharSequence;)V" } : Jvm.MethodName)) ∈ lw_all := lw_g (lw_at lw_m3 68 rfl) rfl
theorem q587 : (Jvm.Cond.code ({ cls := "TaleDuel$Store", name := "add", desc := "(Ljava/lang/CharSequence;)V" } : Jvm.MethodName) prog_8_method_2_code (2 : Nat) (Option.none : Option Jvm.ClassFile.FieldType)) ∈ lw_all := lw_g (lw_at lw_m3 69 rfl) rfl
theorem q588 : (Jvm.Cond.interfaceEntry "TaleDuel$Store" (20 : Nat)) ∈ lw_tbl := lw_at lw_m3 70 rfl
theorem q589 : (Jvm.Cond.methodLink "TaleDuel$Store" (20 : Nat) ({ cls := "java/util/List", name := "add", desc := "(ILjava/lang/Object;)V" } : Jvm.MethodName)) ∈ lw_all := lw_g (lw_at lw_m3 71 rfl) rfl
theorem q863 : (Jvm.Cond.interfaceEntry "TaleDuel$Store" (30 : Nat)) ∈ lw_tbl := lw_at lw_m4 105 rfl
theorem q864 : (Jvm.Cond.methodLink "TaleDuel$Store" (30 : Nat) ({ cls := "java/util/List", name := "remove", desc := "(I)Ljava/lang/Object;" } : Jvm.MethodName)) ∈ lw_all := lw_g (lw_at lw_m4 106 rfl) rfl
theorem q1795 : (Jvm.Cond.castable "TaleDuel$Store" "java/lang/Object") ∈ lw_tbl := lw_at lw_m8 77 rfl
theorem in_X7 : ∀ w ∈ wsX70, w ∈ lw_all := lw_in wsX70 [400, 402] (by decide +kernel) (by decide +kernel)
/-! TaleDuel$Teller -/
set_option maxRecDepth 100000
def RX8 : String := "TaleDuel$Teller"
def TX8 : u_T := fun k => match k with
  | 0 => ("TaleDuel$Teller", "score", "I", false)
  | 1 => ("TaleDuel$Teller", "sentences", "I", false)
  | 2 => ("TaleDuel$Teller", "latest", "LTaleDuel$Sentence;", false)
  | _ => ("TaleDuel$Teller", "forbidden", "Ljava/util/List;", true)
def tyX8 : Nat → FieldType := fun k => match k with
  | 0 => .int
  | 1 => .int
  | 2 => .object "TaleDuel$Sentence"
  | _ => .object "java/util/List"
abbrev wsX80 : List Cond := u_ws RX8 TX8 4
theorem nmX8 : ∀ a, a < 4 → ∀ b, b < 4 → a ≠ b → (TX8 a).2.1 ≠ (TX8 b).2.1 := by decide +kernel
theorem tyX8_ok : ∀ k, k < 4 → parseFieldDescriptor (TX8 k).2.2.1 = some (tyX8 k) := by decide +kernel
abbrev cX8_init : ByteArray := prog_9_method_2_code
def yX8_init : MethodName := ⟨RX8, "<init>", "(LTaleDuel$Teller;)V"⟩
def dkwX8_init_3 : List UInt8 := [45, 185, 0, 45, 2, 0, 87, 167, 255, 226, 177]
abbrev dktX8_init_3 : List UInt8 := dkwX8_init_3 ++ []
def dkwX8_init_2 : List UInt8 := [77, 44, 185, 0, 33, 1, 0, 153, 0, 27, 44, 185, 0, 39, 1, 0, 192, 0, 43, 78, 42, 180, 0, 10]
abbrev dktX8_init_2 : List UInt8 := dkwX8_init_2 ++ dktX8_init_3
def dkwX8_init_1 : List UInt8 := [43, 180, 0, 20, 181, 0, 20, 42, 43, 180, 0, 23, 181, 0, 23, 43, 180, 0, 10, 185, 0, 27, 1, 0]
abbrev dktX8_init_1 : List UInt8 := dkwX8_init_1 ++ dktX8_init_2
def dkwX8_init_0 : List UInt8 := [42, 183, 0, 1, 42, 187, 0, 7, 89, 183, 0, 9, 181, 0, 10, 42, 43, 180, 0, 16, 181, 0, 16, 42]
abbrev dktX8_init_0 : List UInt8 := dkwX8_init_0 ++ dktX8_init_1
theorem dksX8_init_0 : cX8_init.data.toList.drop 0 = dktX8_init_0 := by decide +kernel
theorem dksX8_init_1 : cX8_init.data.toList.drop 24 = dktX8_init_1 := dk_seg dksX8_init_0 24 rfl rfl
theorem dksX8_init_2 : cX8_init.data.toList.drop 48 = dktX8_init_2 := dk_seg dksX8_init_1 24 rfl rfl
theorem dksX8_init_3 : cX8_init.data.toList.drop 72 = dktX8_init_3 := dk_seg dksX8_init_2 24 rfl rfl
theorem dX8_init_0 : decode cX8_init 0 = .ok (.aload_n 0, 1) := dk_42 (dk_at dksX8_init_0 0 rfl rfl)
theorem dX8_init_1 : decode cX8_init 1 = .ok (.invokespecial 1, 3) := dk_183 0 1 (dk_at dksX8_init_0 1 rfl rfl)
theorem dX8_init_4 : decode cX8_init 4 = .ok (.aload_n 0, 1) := dk_42 (dk_at dksX8_init_0 4 rfl rfl)
theorem dX8_init_5 : decode cX8_init 5 = .ok (.new 7, 3) := dk_187 0 7 (dk_at dksX8_init_0 5 rfl rfl)
theorem dX8_init_8 : decode cX8_init 8 = .ok (.dup, 1) := dk_89 (dk_at dksX8_init_0 8 rfl rfl)
theorem dX8_init_9 : decode cX8_init 9 = .ok (.invokespecial 9, 3) := dk_183 0 9 (dk_at dksX8_init_0 9 rfl rfl)
theorem dX8_init_12 : decode cX8_init 12 = .ok (.putfield 10, 3) := dk_181 0 10 (dk_at dksX8_init_0 12 rfl rfl)
theorem dX8_init_15 : decode cX8_init 15 = .ok (.aload_n 0, 1) := dk_42 (dk_at dksX8_init_0 15 rfl rfl)
theorem dX8_init_16 : decode cX8_init 16 = .ok (.aload_n 1, 1) := dk_43 (dk_at dksX8_init_0 16 rfl rfl)
theorem dX8_init_17 : decode cX8_init 17 = .ok (.getfield 16, 3) := dk_180 0 16 (dk_at dksX8_init_0 17 rfl rfl)
theorem dX8_init_20 : decode cX8_init 20 = .ok (.putfield 16, 3) := dk_181 0 16 (dk_at dksX8_init_0 20 rfl rfl)
theorem dX8_init_23 : decode cX8_init 23 = .ok (.aload_n 0, 1) := dk_42 (dk_at dksX8_init_0 23 rfl rfl)
theorem dX8_init_24 : decode cX8_init 24 = .ok (.aload_n 1, 1) := dk_43 (dk_at dksX8_init_1 0 rfl rfl)
theorem dX8_init_25 : decode cX8_init 25 = .ok (.getfield 20, 3) := dk_180 0 20 (dk_at dksX8_init_1 1 rfl rfl)
theorem dX8_init_28 : decode cX8_init 28 = .ok (.putfield 20, 3) := dk_181 0 20 (dk_at dksX8_init_1 4 rfl rfl)
theorem dX8_init_31 : decode cX8_init 31 = .ok (.aload_n 0, 1) := dk_42 (dk_at dksX8_init_1 7 rfl rfl)
theorem dX8_init_32 : decode cX8_init 32 = .ok (.aload_n 1, 1) := dk_43 (dk_at dksX8_init_1 8 rfl rfl)
theorem dX8_init_33 : decode cX8_init 33 = .ok (.getfield 23, 3) := dk_180 0 23 (dk_at dksX8_init_1 9 rfl rfl)
theorem dX8_init_36 : decode cX8_init 36 = .ok (.putfield 23, 3) := dk_181 0 23 (dk_at dksX8_init_1 12 rfl rfl)
theorem dX8_init_39 : decode cX8_init 39 = .ok (.aload_n 1, 1) := dk_43 (dk_at dksX8_init_1 15 rfl rfl)
theorem dX8_init_40 : decode cX8_init 40 = .ok (.getfield 10, 3) := dk_180 0 10 (dk_at dksX8_init_1 16 rfl rfl)
theorem dX8_init_43 : decode cX8_init 43 = .ok (.invokeinterface 27 1, 5) := by decide +kernel
theorem dX8_init_48 : decode cX8_init 48 = .ok (.astore_n 2, 1) := dk_77 (dk_at dksX8_init_2 0 rfl rfl)
theorem dX8_init_49 : decode cX8_init 49 = .ok (.aload_n 2, 1) := dk_44 (dk_at dksX8_init_2 1 rfl rfl)
theorem dX8_init_50 : decode cX8_init 50 = .ok (.invokeinterface 33 1, 5) := by decide +kernel
theorem dX8_init_55 : decode cX8_init 55 = .ok (.ifCond .eq 27, 3) := dk_153 0 27 (dk_at dksX8_init_2 7 rfl rfl)
theorem dX8_init_58 : decode cX8_init 58 = .ok (.aload_n 2, 1) := dk_44 (dk_at dksX8_init_2 10 rfl rfl)
theorem dX8_init_59 : decode cX8_init 59 = .ok (.invokeinterface 39 1, 5) := by decide +kernel
theorem dX8_init_64 : decode cX8_init 64 = .ok (.checkcast 43, 3) := dk_192 0 43 (dk_at dksX8_init_2 16 rfl rfl)
theorem dX8_init_67 : decode cX8_init 67 = .ok (.astore_n 3, 1) := dk_78 (dk_at dksX8_init_2 19 rfl rfl)
theorem dX8_init_68 : decode cX8_init 68 = .ok (.aload_n 0, 1) := dk_42 (dk_at dksX8_init_2 20 rfl rfl)
theorem dX8_init_69 : decode cX8_init 69 = .ok (.getfield 10, 3) := dk_180 0 10 (dk_at dksX8_init_2 21 rfl rfl)
theorem dX8_init_72 : decode cX8_init 72 = .ok (.aload_n 3, 1) := dk_45 (dk_at dksX8_init_3 0 rfl rfl)
theorem dX8_init_73 : decode cX8_init 73 = .ok (.invokeinterface 45 2, 5) := by decide +kernel
theorem dX8_init_78 : decode cX8_init 78 = .ok (.pop, 1) := dk_87 (dk_at dksX8_init_3 6 rfl rfl)
theorem dX8_init_79 : decode cX8_init 79 = .ok (.goto (-30), 3) := dk_167 255 226 (dk_at dksX8_init_3 7 rfl rfl)
theorem dX8_init_82 : decode cX8_init 82 = .ok (.return_, 1) := dk_177 (dk_at dksX8_init_3 10 rfl rfl)
abbrev cX8_init_2 : ByteArray := prog_9_method_1_code
def yX8_init_2 : MethodName := ⟨RX8, "<init>", "()V"⟩
def dkwX8_init_2_0 : List UInt8 := [42, 183, 0, 1, 42, 187, 0, 7, 89, 183, 0, 9, 181, 0, 10, 177]
abbrev dktX8_init_2_0 : List UInt8 := dkwX8_init_2_0 ++ []
theorem dksX8_init_2_0 : cX8_init_2.data.toList.drop 0 = dktX8_init_2_0 := by decide +kernel
theorem dX8_init_2_0 : decode cX8_init_2 0 = .ok (.aload_n 0, 1) := dk_42 (dk_at dksX8_init_2_0 0 rfl rfl)
theorem dX8_init_2_1 : decode cX8_init_2 1 = .ok (.invokespecial 1, 3) := dk_183 0 1 (dk_at dksX8_init_2_0 1 rfl rfl)
theorem dX8_init_2_4 : decode cX8_init_2 4 = .ok (.aload_n 0, 1) := dk_42 (dk_at dksX8_init_2_0 4 rfl rfl)
theorem dX8_init_2_5 : decode cX8_init_2 5 = .ok (.new 7, 3) := dk_187 0 7 (dk_at dksX8_init_2_0 5 rfl rfl)
theorem dX8_init_2_8 : decode cX8_init_2 8 = .ok (.dup, 1) := dk_89 (dk_at dksX8_init_2_0 8 rfl rfl)
theorem dX8_init_2_9 : decode cX8_init_2 9 = .ok (.invokespecial 9, 3) := dk_183 0 9 (dk_at dksX8_init_2_0 9 rfl rfl)
theorem dX8_init_2_12 : decode cX8_init_2 12 = .ok (.putfield 10, 3) := dk_181 0 10 (dk_at dksX8_init_2_0 12 rfl rfl)
theorem dX8_init_2_15 : decode cX8_init_2 15 = .ok (.return_, 1) := dk_177 (dk_at dksX8_init_2_0 15 rfl rfl)
abbrev cX8_latestWords : ByteArray := prog_9_method_4_code
def yX8_latestWords : MethodName := ⟨RX8, "latestWords", "()I"⟩
def dkwX8_latestWords_0 : List UInt8 := [42, 180, 0, 23, 199, 0, 7, 3, 167, 0, 10, 42, 180, 0, 23, 182, 0, 53, 172]
abbrev dktX8_latestWords_0 : List UInt8 := dkwX8_latestWords_0 ++ []
theorem dksX8_latestWords_0 : cX8_latestWords.data.toList.drop 0 = dktX8_latestWords_0 := by decide +kernel
theorem dX8_latestWords_0 : decode cX8_latestWords 0 = .ok (.aload_n 0, 1) := dk_42 (dk_at dksX8_latestWords_0 0 rfl rfl)
theorem dX8_latestWords_1 : decode cX8_latestWords 1 = .ok (.getfield 23, 3) := dk_180 0 23 (dk_at dksX8_latestWords_0 1 rfl rfl)
theorem dX8_latestWords_4 : decode cX8_latestWords 4 = .ok (.ifnonnull 7, 3) := dk_199 0 7 (dk_at dksX8_latestWords_0 4 rfl rfl)
theorem dX8_latestWords_7 : decode cX8_latestWords 7 = .ok (.iconst 0, 1) := dk_3 (dk_at dksX8_latestWords_0 7 rfl rfl)
theorem dX8_latestWords_8 : decode cX8_latestWords 8 = .ok (.goto 10, 3) := dk_167 0 10 (dk_at dksX8_latestWords_0 8 rfl rfl)
theorem dX8_latestWords_11 : decode cX8_latestWords 11 = .ok (.aload_n 0, 1) := dk_42 (dk_at dksX8_latestWords_0 11 rfl rfl)
theorem dX8_latestWords_12 : decode cX8_latestWords 12 = .ok (.getfield 23, 3) := dk_180 0 23 (dk_at dksX8_latestWords_0 12 rfl rfl)
theorem dX8_latestWords_15 : decode cX8_latestWords 15 = .ok (.invokevirtual 53, 3) := dk_182 0 53 (dk_at dksX8_latestWords_0 15 rfl rfl)
theorem dX8_latestWords_18 : decode cX8_latestWords 18 = .ok (.ireturn, 1) := dk_172 (dk_at dksX8_latestWords_0 18 rfl rfl)
abbrev cX8_bans : ByteArray := prog_9_method_3_code
def yX8_bans : MethodName := ⟨RX8, "bans", "()I"⟩
def dkwX8_bans_1 : List UInt8 := [185, 0, 39, 1, 0, 192, 0, 43, 182, 0, 49, 62, 27, 4, 29, 120, 128, 60, 167, 255, 228, 27, 172]
abbrev dktX8_bans_1 : List UInt8 := dkwX8_bans_1 ++ []
def dkwX8_bans_0 : List UInt8 := [3, 60, 42, 180, 0, 10, 185, 0, 27, 1, 0, 77, 44, 185, 0, 33, 1, 0, 153, 0, 25, 44]
abbrev dktX8_bans_0 : List UInt8 := dkwX8_bans_0 ++ dktX8_bans_1
theorem dksX8_bans_0 : cX8_bans.data.toList.drop 0 = dktX8_bans_0 := by decide +kernel
theorem dksX8_bans_1 : cX8_bans.data.toList.drop 22 = dktX8_bans_1 := dk_seg dksX8_bans_0 22 rfl rfl
theorem dX8_bans_0 : decode cX8_bans 0 = .ok (.iconst 0, 1) := dk_3 (dk_at dksX8_bans_0 0 rfl rfl)
theorem dX8_bans_1 : decode cX8_bans 1 = .ok (.istore_n 1, 1) := dk_60 (dk_at dksX8_bans_0 1 rfl rfl)
theorem dX8_bans_2 : decode cX8_bans 2 = .ok (.aload_n 0, 1) := dk_42 (dk_at dksX8_bans_0 2 rfl rfl)
theorem dX8_bans_3 : decode cX8_bans 3 = .ok (.getfield 10, 3) := dk_180 0 10 (dk_at dksX8_bans_0 3 rfl rfl)
theorem dX8_bans_6 : decode cX8_bans 6 = .ok (.invokeinterface 27 1, 5) := by decide +kernel
theorem dX8_bans_11 : decode cX8_bans 11 = .ok (.astore_n 2, 1) := dk_77 (dk_at dksX8_bans_0 11 rfl rfl)
theorem dX8_bans_12 : decode cX8_bans 12 = .ok (.aload_n 2, 1) := dk_44 (dk_at dksX8_bans_0 12 rfl rfl)
theorem dX8_bans_13 : decode cX8_bans 13 = .ok (.invokeinterface 33 1, 5) := by decide +kernel
theorem dX8_bans_18 : decode cX8_bans 18 = .ok (.ifCond .eq 25, 3) := dk_153 0 25 (dk_at dksX8_bans_0 18 rfl rfl)
theorem dX8_bans_21 : decode cX8_bans 21 = .ok (.aload_n 2, 1) := dk_44 (dk_at dksX8_bans_0 21 rfl rfl)
theorem dX8_bans_22 : decode cX8_bans 22 = .ok (.invokeinterface 39 1, 5) := by decide +kernel
theorem dX8_bans_27 : decode cX8_bans 27 = .ok (.checkcast 43, 3) := dk_192 0 43 (dk_at dksX8_bans_1 5 rfl rfl)
theorem dX8_bans_30 : decode cX8_bans 30 = .ok (.invokevirtual 49, 3) := dk_182 0 49 (dk_at dksX8_bans_1 8 rfl rfl)
theorem dX8_bans_33 : decode cX8_bans 33 = .ok (.istore_n 3, 1) := dk_62 (dk_at dksX8_bans_1 11 rfl rfl)
theorem dX8_bans_34 : decode cX8_bans 34 = .ok (.iload_n 1, 1) := dk_27 (dk_at dksX8_bans_1 12 rfl rfl)
theorem dX8_bans_35 : decode cX8_bans 35 = .ok (.iconst 1, 1) := dk_4 (dk_at dksX8_bans_1 13 rfl rfl)
theorem dX8_bans_36 : decode cX8_bans 36 = .ok (.iload_n 3, 1) := dk_29 (dk_at dksX8_bans_1 14 rfl rfl)
theorem dX8_bans_37 : decode cX8_bans 37 = .ok (.ishl, 1) := dk_120 (dk_at dksX8_bans_1 15 rfl rfl)
theorem dX8_bans_38 : decode cX8_bans 38 = .ok (.ior, 1) := dk_128 (dk_at dksX8_bans_1 16 rfl rfl)
theorem dX8_bans_39 : decode cX8_bans 39 = .ok (.istore_n 1, 1) := dk_60 (dk_at dksX8_bans_1 17 rfl rfl)
theorem dX8_bans_40 : decode cX8_bans 40 = .ok (.goto (-28), 3) := dk_167 255 228 (dk_at dksX8_bans_1 18 rfl rfl)
theorem dX8_bans_43 : decode cX8_bans 43 = .ok (.iload_n 1, 1) := dk_27 (dk_at dksX8_bans_1 21 rfl rfl)
theorem dX8_bans_44 : decode cX8_bans 44 = .ok (.ireturn, 1) := dk_172 (dk_at dksX8_bans_1 22 rfl rfl)
abbrev cX8_forbid : ByteArray := prog_9_method_5_code
def yX8_forbid : MethodName := ⟨RX8, "forbid", "(II)I"⟩
def dkwX8_forbid_2 : List UInt8 := [185, 0, 62, 1, 0, 172]
abbrev dktX8_forbid_2 : List UInt8 := dkwX8_forbid_2 ++ []
def dkwX8_forbid_1 : List UInt8 := [164, 0, 17, 42, 180, 0, 10, 3, 185, 0, 65, 2, 0, 87, 167, 255, 232, 42, 180, 0, 10]
abbrev dktX8_forbid_1 : List UInt8 := dkwX8_forbid_1 ++ dktX8_forbid_2
def dkwX8_forbid_0 : List UInt8 := [42, 180, 0, 10, 27, 184, 0, 58, 185, 0, 45, 2, 0, 87, 42, 180, 0, 10, 185, 0, 62, 1, 0, 28]
abbrev dktX8_forbid_0 : List UInt8 := dkwX8_forbid_0 ++ dktX8_forbid_1
theorem dksX8_forbid_0 : cX8_forbid.data.toList.drop 0 = dktX8_forbid_0 := by decide +kernel
theorem dksX8_forbid_1 : cX8_forbid.data.toList.drop 24 = dktX8_forbid_1 := dk_seg dksX8_forbid_0 24 rfl rfl
theorem dksX8_forbid_2 : cX8_forbid.data.toList.drop 45 = dktX8_forbid_2 := dk_seg dksX8_forbid_1 21 rfl rfl
theorem dX8_forbid_0 : decode cX8_forbid 0 = .ok (.aload_n 0, 1) := dk_42 (dk_at dksX8_forbid_0 0 rfl rfl)
theorem dX8_forbid_1 : decode cX8_forbid 1 = .ok (.getfield 10, 3) := dk_180 0 10 (dk_at dksX8_forbid_0 1 rfl rfl)
theorem dX8_forbid_4 : decode cX8_forbid 4 = .ok (.iload_n 1, 1) := dk_27 (dk_at dksX8_forbid_0 4 rfl rfl)
theorem dX8_forbid_5 : decode cX8_forbid 5 = .ok (.invokestatic 58, 3) := dk_184 0 58 (dk_at dksX8_forbid_0 5 rfl rfl)
theorem dX8_forbid_8 : decode cX8_forbid 8 = .ok (.invokeinterface 45 2, 5) := by decide +kernel
theorem dX8_forbid_13 : decode cX8_forbid 13 = .ok (.pop, 1) := dk_87 (dk_at dksX8_forbid_0 13 rfl rfl)
theorem dX8_forbid_14 : decode cX8_forbid 14 = .ok (.aload_n 0, 1) := dk_42 (dk_at dksX8_forbid_0 14 rfl rfl)
theorem dX8_forbid_15 : decode cX8_forbid 15 = .ok (.getfield 10, 3) := dk_180 0 10 (dk_at dksX8_forbid_0 15 rfl rfl)
theorem dX8_forbid_18 : decode cX8_forbid 18 = .ok (.invokeinterface 62 1, 5) := by decide +kernel
theorem dX8_forbid_23 : decode cX8_forbid 23 = .ok (.iload_n 2, 1) := dk_28 (dk_at dksX8_forbid_0 23 rfl rfl)
theorem dX8_forbid_24 : decode cX8_forbid 24 = .ok (.if_icmp .le 17, 3) := dk_164 0 17 (dk_at dksX8_forbid_1 0 rfl rfl)
theorem dX8_forbid_27 : decode cX8_forbid 27 = .ok (.aload_n 0, 1) := dk_42 (dk_at dksX8_forbid_1 3 rfl rfl)
theorem dX8_forbid_28 : decode cX8_forbid 28 = .ok (.getfield 10, 3) := dk_180 0 10 (dk_at dksX8_forbid_1 4 rfl rfl)
theorem dX8_forbid_31 : decode cX8_forbid 31 = .ok (.iconst 0, 1) := dk_3 (dk_at dksX8_forbid_1 7 rfl rfl)
theorem dX8_forbid_32 : decode cX8_forbid 32 = .ok (.invokeinterface 65 2, 5) := by decide +kernel
theorem dX8_forbid_37 : decode cX8_forbid 37 = .ok (.pop, 1) := dk_87 (dk_at dksX8_forbid_1 13 rfl rfl)
theorem dX8_forbid_38 : decode cX8_forbid 38 = .ok (.goto (-24), 3) := dk_167 255 232 (dk_at dksX8_forbid_1 14 rfl rfl)
theorem dX8_forbid_41 : decode cX8_forbid 41 = .ok (.aload_n 0, 1) := dk_42 (dk_at dksX8_forbid_1 17 rfl rfl)
theorem dX8_forbid_42 : decode cX8_forbid 42 = .ok (.getfield 10, 3) := dk_180 0 10 (dk_at dksX8_forbid_1 18 rfl rfl)
theorem dX8_forbid_45 : decode cX8_forbid 45 = .ok (.invokeinterface 62 1, 5) := by decide +kernel
theorem dX8_forbid_50 : decode cX8_forbid 50 = .ok (.ireturn, 1) := dk_172 (dk_at dksX8_forbid_2 5 rfl rfl)
theorem q64 : (Jvm.Cond.initialized "TaleDuel$Teller") ∈ lw_all := lw_g (lw_at lw_m1 26 rfl) rfl
theorem q321 : (Jvm.Cond.selects "TaleDuel$Teller" ({ cls := "java/lang/Object", name := "getClass", desc := "()Ljava/lang/Class;" } : Jvm.MethodName) ({ cls := "java/lang/Object", name := "getClass", desc := "()Ljava/lang/Class;" } : Jvm.MethodName)) ∈ lw_all := lw_g (lw_at lw_m2 43 rfl) rfl
theorem q405 : (Jvm.Cond.instantiable "TaleDuel$Teller" (4 : Nat)) ∈ lw_all := lw_g (lw_at lw_m2 127 rfl) rfl
theorem q407 : (Jvm.Cond.instanceMethod ({ cls := "TaleDuel$Teller", name := "<init>", desc := "(LTaleDuel$Teller;)V" } : Jvm.MethodName)) ∈ lw_all := lw_g (lw_at lw_m2 129 rfl) rfl
theorem q408 : (Jvm.Cond.code ({ cls := "TaleDuel$Teller", name := "<init>", desc := "(LTaleDuel$Teller;)V" } : Jvm.MethodName) prog_9_method_2_code (4 : Nat) (Option.none : Option Jvm.ClassFile.FieldType)) ∈ lw_all := lw_g (lw_at lw_m2 130 rfl) rfl
theorem q409 : (Jvm.Cond.methodLink "TaleDuel$Teller" (1 : Nat) ({ cls := "java/lang/Object", name := "<init>", desc := "()V" } : Jvm.MethodName)) ∈ lw_all := lw_g (lw_at lw_m2 131 rfl) rfl
theorem q410 : (Jvm.Cond.classLink "TaleDuel$Teller" (7 : Nat) "java/util/ArrayList") ∈ lw_all := lw_g (lw_at lw_m2 132 rfl) rfl
theorem q411 : (Jvm.Cond.methodLink "TaleDuel$Teller" (9 : Nat) ({ cls := "java/util/ArrayList", name := "<init>", desc := "()V" } : Jvm.MethodName)) ∈ lw_all := lw_g (lw_at lw_m2 133 rfl) rfl
theorem q412 : (Jvm.Cond.interfaceEntry "TaleDuel$Teller" (27 : Nat)) ∈ lw_tbl := lw_at lw_m2 134 rfl
theorem q413 : (Jvm.Cond.methodLink "TaleDuel$Teller" (27 : Nat) ({ cls := "java/util/List", name := "iterator", desc := "()Ljava/util/Iterator;" } : Jvm.MethodName)) ∈ lw_all := lw_g (lw_at lw_m2 135 rfl) rfl
theorem q441 : (Jvm.Cond.interfaceEntry "TaleDuel$Teller" (33 : Nat)) ∈ lw_tbl := lw_at lw_m2 163 rfl
theorem q442 : (Jvm.Cond.methodLink "TaleDuel$Teller" (33 : Nat) ({ cls := "java/util/Iterator", name := "hasNext", desc := "()Z" } : Jvm.MethodName)) ∈ lw_all := lw_g (lw_at lw_m2 164 rfl) rfl
theorem q451 : (Jvm.Cond.interfaceEntry "TaleDuel$Teller" (39 : Nat)) ∈ lw_tbl := lw_at lw_m2 173 rfl
theorem q452 : (Jvm.Cond.methodLink "TaleDuel$Teller" (39 : Nat) ({ cls := "java/util/Iterator", name := "next", desc := "()Ljava/lang/Object;" } : Jvm.MethodName)) ∈ lw_all := lw_g (lw_at lw_m2 174 rfl) rfl
theorem q464 : (Jvm.Cond.classLink "TaleDuel$Teller" (43 : Nat) "java/lang/Integer") ∈ lw_all := lw_g (lw_at lw_m2 186 rfl) rfl
theorem q465 : (Jvm.Cond.interfaceEntry "TaleDuel$Teller" (45 : Nat)) ∈ lw_tbl := lw_at lw_m2 187 rfl
theorem q466 : (Jvm.Cond.methodLink "TaleDuel$Teller" (45 : Nat) ({ cls := "java/util/List", name := "add", desc := "(Ljava/lang/Object;)Z" } : Jvm.MethodName)) ∈ lw_all := lw_g (lw_at lw_m2 188 rfl) rfl
theorem q499 : (Jvm.Cond.fieldLink "TaleDuel$Teller" (16 : Nat) "TaleDuel$Teller" "score" "I") ∈ lw_all := lw_g (lw_at lw_m2 221 rfl) rfl
theorem q502 : (Jvm.Cond.fieldLink "TaleDuel$Teller" (20 : Nat) "TaleDuel$Teller" "sentences" "I") ∈ lw_all := lw_g (lw_at lw_m2 224 rfl) rfl
theorem q505 : (Jvm.Cond.fieldLink "TaleDuel$Teller" (23 : Nat) "TaleDuel$Teller" "latest" "LTaleDuel$Sentence;") ∈ lw_all := lw_g (lw_at lw_m2 227 rfl) rfl
theorem q508 : (Jvm.Cond.fieldLink "TaleDuel$Teller" (10 : Nat) "TaleDuel$Teller" "forbidden" "Ljava/util/List;") ∈ lw_all := lw_g (lw_at lw_m2 230 rfl) rfl
theorem q510 : (Jvm.Cond.lays "TaleDuel$Teller" "TaleDuel$Teller" "score" "I") ∈ lw_all := lw_g (lw_at lw_m2 232 rfl) rfl
theorem q511 : (Jvm.Cond.soleField "TaleDuel$Teller" "score") ∈ lw_all := lw_g (lw_at lw_m2 233 rfl) rfl
theorem q512 : (Jvm.Cond.lays "TaleDuel$Teller" "TaleDuel$Teller" "sentences" "I") ∈ lw_all := lw_g (lw_at lw_m2 234 rfl) rfl
theorem q513 : (Jvm.Cond.soleField "TaleDuel$Teller" "sentences") ∈ lw_all := lw_g (lw_at lw_m2 235 rfl) rfl
theorem q514 : (Jvm.Cond.lays "TaleDuel$Teller" "TaleDuel$Teller" "latest" "LTaleDuel$Sentence;") ∈ lw_all := lw_g (lw_at lw_m2 236 rfl) rfl
theorem q515 : (Jvm.Cond.soleField "TaleDuel$Teller" "latest") ∈ lw_all := lw_g (lw_at lw_m2 237 rfl) rfl
theorem q516 : (Jvm.Cond.laysFinal "TaleDuel$Teller" "TaleDuel$Teller" "forbidden" "Ljava/util/List;") ∈ lw_all := lw_g (lw_at lw_m2 238 rfl) rfl
theorem q517 : (Jvm.Cond.soleField "TaleDuel$Teller" "forbidden") ∈ lw_all := lw_g (lw_at lw_m2 239 rfl) rfl
theorem q518 : (Jvm.Cond.superclass "TaleDuel$Teller" "java/lang/Object") ∈ lw_all := lw_g (lw_at lw_m3 0 rfl) rfl
theorem q925 : (Jvm.Cond.instanceMethod ({ cls := "TaleDuel$Teller", name := "<init>", desc := "()V" } : Jvm.MethodName)) ∈ lw_all := lw_g (lw_at lw_m4 167 rfl) rfl
theorem q926 : (Jvm.Cond.code ({ cls := "TaleDuel$Teller", name := "<init>", desc := "()V" } : Jvm.MethodName) prog_9_method_1_code (1 : Nat) (Option.none : Option Jvm.ClassFile.FieldType)) ∈ lw_all := lw_g (lw_at lw_m4 168 rfl) rfl
theorem q957 : (Jvm.Cond.instanceMethod ({ cls := "TaleDuel$Teller", name := "latestWords", desc := "()I" } : Jvm.MethodName)) ∈ lw_all := lw_g (lw_at lw_m4 199 rfl) rfl
theorem q958 : (Jvm.Cond.selects "TaleDuel$Teller" ({ cls := "TaleDuel$Teller", name := "latestWords", desc := "()I" } : Jvm.MethodName) ({ cls := "TaleDuel$Teller", name := "latestWords", desc := "()I" } : Jvm.MethodName)) ∈ lw_all := lw_g (lw_at lw_m4 200 rfl) rfl
theorem q959 : (Jvm.Cond.code ({ cls := "TaleDuel$Teller", name := "latestWords", desc := "()I" } : Jvm.MethodName) prog_9_method_4_code (1 : Nat) (Option.some Jvm.ClassFile.FieldType.int)) ∈ lw_all := lw_g (lw_at lw_m4 201 rfl) rfl
theorem q960 : (Jvm.Cond.methodLink "TaleDuel$Teller" (53 : Nat) ({ cls := "TaleDuel$Sentence", name := "set", desc := "()I" } : Jvm.MethodName)) ∈ lw_all := lw_g (lw_at lw_m4 202 rfl) rfl
theorem q969 : (Jvm.Cond.instanceMethod ({ cls := "TaleDuel$Teller", name := "bans", desc := "()I" } : Jvm.MethodName)) ∈ lw_all := lw_g (lw_at lw_m4 211 rfl) rfl
theorem q970 : (Jvm.Cond.selects "TaleDuel$Teller" ({ cls := "TaleDuel$Teller", name := "bans", desc := "()I" } : Jvm.MethodName) ({ cls := "TaleDuel$Teller", name := "bans", desc := "()I" } : Jvm.MethodName)) ∈ lw_all := lw_g (lw_at lw_m4 212 rfl) rfl
theorem q971 : (Jvm.Cond.code ({ cls := "TaleDuel$Teller", name := "bans", desc := "()I" } : Jvm.MethodName) prog_9_method_3_code (4 : Nat) (Option.some Jvm.ClassFile.FieldType.int)) ∈ lw_all := lw_g (lw_at lw_m4 213 rfl) rfl
theorem q972 : (Jvm.Cond.methodLink "TaleDuel$Teller" (49 : Nat) ({ cls := "java/lang/Integer", name := "intValue", desc := "()I" } : Jvm.MethodName)) ∈ lw_all := lw_g (lw_at lw_m4 214 rfl) rfl
theorem q982 : (Jvm.Cond.instanceMethod ({ cls := "TaleDuel$Teller", name := "forbid", desc := "(II)I" } : Jvm.MethodName)) ∈ lw_all := lw_g (lw_at lw_m4 224 rfl) rfl
theorem q983 : (Jvm.Cond.selects "TaleDuel$Teller" ({ cls := "TaleDuel$Teller", name := "forbid", desc := "(II)I" } : Jvm.MethodName) ({ cls := "TaleDuel$Teller", name := "forbid", desc := "(II)I" } : Jvm.MethodName)) ∈ lw_all := lw_g (lw_at lw_m4 225 rfl) rfl
theorem q984 : (Jvm.Cond.code ({ cls := "TaleDuel$Teller", name := "forbid", desc := "(II)I" } : Jvm.MethodName) prog_9_method_5_code (3 : Nat) (Option.some Jvm.ClassFile.FieldType.int)) ∈ lw_all := lw_g (lw_at lw_m4 226 rfl) rfl
theorem q985 : (Jvm.Cond.methodLink "TaleDuel$Teller" (58 : Nat) ({ cls := "java/lang/Integer", name := "valueOf", desc := "(I)Ljava/lang/Integer;" } : Jvm.MethodName)) ∈ lw_all := lw_g (lw_at lw_m4 227 rfl) rfl
theorem q1005 : (Jvm.Cond.interfaceEntry "TaleDuel$Teller" (62 : Nat)) ∈ lw_tbl := lw_at lw_m5 7 rfl
theorem q1006 : (Jvm.Cond.methodLink "TaleDuel$Teller" (62 : Nat) ({ cls := "java/util/List", name := "size", desc := "()I" } : Jvm.MethodName)) ∈ lw_all := lw_g (lw_at lw_m5 8 rfl) rfl
theorem q1007 : (Jvm.Cond.interfaceEntry "TaleDuel$Teller" (65 : Nat)) ∈ lw_tbl := lw_at lw_m5 9 rfl
theorem q1008 : (Jvm.Cond.methodLink "TaleDuel$Teller" (65 : Nat) ({ cls := "java/util/List", name := "remove", desc := "(I)Ljava/lang/Object;" } : Jvm.MethodName)) ∈ lw_all := lw_g (lw_at lw_m5 10 rfl) rfl
theorem q1784 : (Jvm.Cond.castable "TaleDuel$Teller" "java/lang/Object") ∈ lw_tbl := lw_at lw_m8 66 rfl
theorem in_X8 : ∀ w ∈ wsX80, w ∈ lw_all := lw_in wsX80 [510, 512, 514, 516] (by decide +kernel) (by decide +kernel)
/-! TaleDuel$Listener -/
set_option maxRecDepth 100000
def RX9 : String := "TaleDuel$Listener"
def TX9 : u_T := fun k => match k with
  | 0 => ("TaleDuel$Listener", "likes", "I", true)
  | 1 => ("TaleDuel$Listener", "bored", "I", false)
  | 2 => ("TaleDuel$Listener", "gone", "Z", false)
  | _ => ("TaleDuel$Listener", "points", "I", false)
def tyX9 : Nat → FieldType := fun k => match k with
  | 0 => .int
  | 1 => .int
  | 2 => .boolean
  | _ => .int
abbrev wsX90 : List Cond := u_ws RX9 TX9 4
theorem nmX9 : ∀ a, a < 4 → ∀ b, b < 4 → a ≠ b → (TX9 a).2.1 ≠ (TX9 b).2.1 := by decide +kernel
theorem tyX9_ok : ∀ k, k < 4 → parseFieldDescriptor (TX9 k).2.2.1 = some (tyX9 k) := by decide +kernel
abbrev cX9_init : ByteArray := prog_4_method_2_code
def yX9_init : MethodName := ⟨RX9, "<init>", "(LTaleDuel$Listener;)V"⟩
def dkwX9_init_1 : List UInt8 := [42, 43, 180, 0, 23, 181, 0, 23, 177]
abbrev dktX9_init_1 : List UInt8 := dkwX9_init_1 ++ []
def dkwX9_init_0 : List UInt8 := [42, 43, 180, 0, 7, 183, 0, 13, 42, 43, 180, 0, 16, 181, 0, 16, 42, 43, 180, 0, 19, 181, 0, 19]
abbrev dktX9_init_0 : List UInt8 := dkwX9_init_0 ++ dktX9_init_1
theorem dksX9_init_0 : cX9_init.data.toList.drop 0 = dktX9_init_0 := by decide +kernel
theorem dksX9_init_1 : cX9_init.data.toList.drop 24 = dktX9_init_1 := dk_seg dksX9_init_0 24 rfl rfl
theorem dX9_init_0 : decode cX9_init 0 = .ok (.aload_n 0, 1) := dk_42 (dk_at dksX9_init_0 0 rfl rfl)
theorem dX9_init_1 : decode cX9_init 1 = .ok (.aload_n 1, 1) := dk_43 (dk_at dksX9_init_0 1 rfl rfl)
theorem dX9_init_2 : decode cX9_init 2 = .ok (.getfield 7, 3) := dk_180 0 7 (dk_at dksX9_init_0 2 rfl rfl)
theorem dX9_init_5 : decode cX9_init 5 = .ok (.invokespecial 13, 3) := dk_183 0 13 (dk_at dksX9_init_0 5 rfl rfl)
theorem dX9_init_8 : decode cX9_init 8 = .ok (.aload_n 0, 1) := dk_42 (dk_at dksX9_init_0 8 rfl rfl)
theorem dX9_init_9 : decode cX9_init 9 = .ok (.aload_n 1, 1) := dk_43 (dk_at dksX9_init_0 9 rfl rfl)
theorem dX9_init_10 : decode cX9_init 10 = .ok (.getfield 16, 3) := dk_180 0 16 (dk_at dksX9_init_0 10 rfl rfl)
theorem dX9_init_13 : decode cX9_init 13 = .ok (.putfield 16, 3) := dk_181 0 16 (dk_at dksX9_init_0 13 rfl rfl)
theorem dX9_init_16 : decode cX9_init 16 = .ok (.aload_n 0, 1) := dk_42 (dk_at dksX9_init_0 16 rfl rfl)
theorem dX9_init_17 : decode cX9_init 17 = .ok (.aload_n 1, 1) := dk_43 (dk_at dksX9_init_0 17 rfl rfl)
theorem dX9_init_18 : decode cX9_init 18 = .ok (.getfield 19, 3) := dk_180 0 19 (dk_at dksX9_init_0 18 rfl rfl)
theorem dX9_init_21 : decode cX9_init 21 = .ok (.putfield 19, 3) := dk_181 0 19 (dk_at dksX9_init_0 21 rfl rfl)
theorem dX9_init_24 : decode cX9_init 24 = .ok (.aload_n 0, 1) := dk_42 (dk_at dksX9_init_1 0 rfl rfl)
theorem dX9_init_25 : decode cX9_init 25 = .ok (.aload_n 1, 1) := dk_43 (dk_at dksX9_init_1 1 rfl rfl)
theorem dX9_init_26 : decode cX9_init 26 = .ok (.getfield 23, 3) := dk_180 0 23 (dk_at dksX9_init_1 2 rfl rfl)
theorem dX9_init_29 : decode cX9_init 29 = .ok (.putfield 23, 3) := dk_181 0 23 (dk_at dksX9_init_1 5 rfl rfl)
theorem dX9_init_32 : decode cX9_init 32 = .ok (.return_, 1) := dk_177 (dk_at dksX9_init_1 8 rfl rfl)
abbrev cX9_init_2 : ByteArray := prog_4_method_1_code
def yX9_init_2 : MethodName := ⟨RX9, "<init>", "(I)V"⟩
def dkwX9_init_2_0 : List UInt8 := [42, 183, 0, 1, 42, 27, 181, 0, 7, 177]
abbrev dktX9_init_2_0 : List UInt8 := dkwX9_init_2_0 ++ []
theorem dksX9_init_2_0 : cX9_init_2.data.toList.drop 0 = dktX9_init_2_0 := by decide +kernel
theorem dX9_init_2_0 : decode cX9_init_2 0 = .ok (.aload_n 0, 1) := dk_42 (dk_at dksX9_init_2_0 0 rfl rfl)
theorem dX9_init_2_1 : decode cX9_init_2 1 = .ok (.invokespecial 1, 3) := dk_183 0 1 (dk_at dksX9_init_2_0 1 rfl rfl)
theorem dX9_init_2_4 : decode cX9_init_2 4 = .ok (.aload_n 0, 1) := dk_42 (dk_at dksX9_init_2_0 4 rfl rfl)
theorem dX9_init_2_5 : decode cX9_init_2 5 = .ok (.iload_n 1, 1) := dk_27 (dk_at dksX9_init_2_0 5 rfl rfl)
theorem dX9_init_2_6 : decode cX9_init_2 6 = .ok (.putfield 7, 3) := dk_181 0 7 (dk_at dksX9_init_2_0 6 rfl rfl)
theorem dX9_init_2_9 : decode cX9_init_2 9 = .ok (.return_, 1) := dk_177 (dk_at dksX9_init_2_0 9 rfl rfl)
abbrev cX9_gives : ByteArray := prog_4_method_3_code
def yX9_gives : MethodName := ⟨RX9, "gives", "(I)I"⟩
def dkwX9_gives_0 : List UInt8 := [42, 180, 0, 19, 153, 0, 7, 3, 167, 0, 12, 42, 180, 0, 7, 27, 126, 184, 0, 26, 172]
abbrev dktX9_gives_0 : List UInt8 := dkwX9_gives_0 ++ []
theorem dksX9_gives_0 : cX9_gives.data.toList.drop 0 = dktX9_gives_0 := by decide +kernel
theorem dX9_gives_0 : decode cX9_gives 0 = .ok (.aload_n 0, 1) := dk_42 (dk_at dksX9_gives_0 0 rfl rfl)
theorem dX9_gives_1 : decode cX9_gives 1 = .ok (.getfield 19, 3) := dk_180 0 19 (dk_at dksX9_gives_0 1 rfl rfl)
theorem dX9_gives_4 : decode cX9_gives 4 = .ok (.ifCond .eq 7, 3) := dk_153 0 7 (dk_at dksX9_gives_0 4 rfl rfl)
theorem dX9_gives_7 : decode cX9_gives 7 = .ok (.iconst 0, 1) := dk_3 (dk_at dksX9_gives_0 7 rfl rfl)
theorem dX9_gives_8 : decode cX9_gives 8 = .ok (.goto 12, 3) := dk_167 0 12 (dk_at dksX9_gives_0 8 rfl rfl)
theorem dX9_gives_11 : decode cX9_gives 11 = .ok (.aload_n 0, 1) := dk_42 (dk_at dksX9_gives_0 11 rfl rfl)
theorem dX9_gives_12 : decode cX9_gives 12 = .ok (.getfield 7, 3) := dk_180 0 7 (dk_at dksX9_gives_0 12 rfl rfl)
theorem dX9_gives_15 : decode cX9_gives 15 = .ok (.iload_n 1, 1) := dk_27 (dk_at dksX9_gives_0 15 rfl rfl)
theorem dX9_gives_16 : decode cX9_gives 16 = .ok (.iand, 1) := dk_126 (dk_at dksX9_gives_0 16 rfl rfl)
theorem dX9_gives_17 : decode cX9_gives 17 = .ok (.invokestatic 26, 3) := dk_184 0 26 (dk_at dksX9_gives_0 17 rfl rfl)
theorem dX9_gives_20 : decode cX9_gives 20 = .ok (.ireturn, 1) := dk_172 (dk_at dksX9_gives_0 20 rfl rfl)
abbrev cX9_hear : ByteArray := prog_4_method_4_code
def yX9_hear : MethodName := ⟨RX9, "hear", "(II)V"⟩
def dkwX9_hear_3 : List UInt8 := [177]
abbrev dktX9_hear_3 : List UInt8 := dkwX9_hear_3 ++ []
def dkwX9_hear_2 : List UInt8 := [42, 42, 180, 0, 19, 154, 0, 11, 42, 180, 0, 16, 28, 161, 0, 7, 4, 167, 0, 4, 3, 181, 0, 19]
abbrev dktX9_hear_2 : List UInt8 := dkwX9_hear_2 ++ dktX9_hear_3
def dkwX9_hear_1 : List UInt8 := [42, 180, 0, 16, 167, 0, 17, 29, 158, 0, 7, 3, 167, 0, 9, 42, 180, 0, 16, 4, 96, 181, 0, 16]
abbrev dktX9_hear_1 : List UInt8 := dkwX9_hear_1 ++ dktX9_hear_2
def dkwX9_hear_0 : List UInt8 := [42, 27, 182, 0, 32, 62, 42, 89, 180, 0, 23, 29, 96, 181, 0, 23, 42, 42, 180, 0, 19, 153, 0, 10]
abbrev dktX9_hear_0 : List UInt8 := dkwX9_hear_0 ++ dktX9_hear_1
theorem dksX9_hear_0 : cX9_hear.data.toList.drop 0 = dktX9_hear_0 := by decide +kernel
theorem dksX9_hear_1 : cX9_hear.data.toList.drop 24 = dktX9_hear_1 := dk_seg dksX9_hear_0 24 rfl rfl
theorem dksX9_hear_2 : cX9_hear.data.toList.drop 48 = dktX9_hear_2 := dk_seg dksX9_hear_1 24 rfl rfl
theorem dksX9_hear_3 : cX9_hear.data.toList.drop 72 = dktX9_hear_3 := dk_seg dksX9_hear_2 24 rfl rfl
theorem dX9_hear_0 : decode cX9_hear 0 = .ok (.aload_n 0, 1) := dk_42 (dk_at dksX9_hear_0 0 rfl rfl)
theorem dX9_hear_1 : decode cX9_hear 1 = .ok (.iload_n 1, 1) := dk_27 (dk_at dksX9_hear_0 1 rfl rfl)
theorem dX9_hear_2 : decode cX9_hear 2 = .ok (.invokevirtual 32, 3) := dk_182 0 32 (dk_at dksX9_hear_0 2 rfl rfl)
theorem dX9_hear_5 : decode cX9_hear 5 = .ok (.istore_n 3, 1) := dk_62 (dk_at dksX9_hear_0 5 rfl rfl)
theorem dX9_hear_6 : decode cX9_hear 6 = .ok (.aload_n 0, 1) := dk_42 (dk_at dksX9_hear_0 6 rfl rfl)
theorem dX9_hear_7 : decode cX9_hear 7 = .ok (.dup, 1) := dk_89 (dk_at dksX9_hear_0 7 rfl rfl)
theorem dX9_hear_8 : decode cX9_hear 8 = .ok (.getfield 23, 3) := dk_180 0 23 (dk_at dksX9_hear_0 8 rfl rfl)
theorem dX9_hear_11 : decode cX9_hear 11 = .ok (.iload_n 3, 1) := dk_29 (dk_at dksX9_hear_0 11 rfl rfl)
theorem dX9_hear_12 : decode cX9_hear 12 = .ok (.iadd, 1) := dk_96 (dk_at dksX9_hear_0 12 rfl rfl)
theorem dX9_hear_13 : decode cX9_hear 13 = .ok (.putfield 23, 3) := dk_181 0 23 (dk_at dksX9_hear_0 13 rfl rfl)
theorem dX9_hear_16 : decode cX9_hear 16 = .ok (.aload_n 0, 1) := dk_42 (dk_at dksX9_hear_0 16 rfl rfl)
theorem dX9_hear_17 : decode cX9_hear 17 = .ok (.aload_n 0, 1) := dk_42 (dk_at dksX9_hear_0 17 rfl rfl)
theorem dX9_hear_18 : decode cX9_hear 18 = .ok (.getfield 19, 3) := dk_180 0 19 (dk_at dksX9_hear_0 18 rfl rfl)
theorem dX9_hear_21 : decode cX9_hear 21 = .ok (.ifCond .eq 10, 3) := dk_153 0 10 (dk_at dksX9_hear_0 21 rfl rfl)
theorem dX9_hear_24 : decode cX9_hear 24 = .ok (.aload_n 0, 1) := dk_42 (dk_at dksX9_hear_1 0 rfl rfl)
theorem dX9_hear_25 : decode cX9_hear 25 = .ok (.getfield 16, 3) := dk_180 0 16 (dk_at dksX9_hear_1 1 rfl rfl)
theorem dX9_hear_28 : decode cX9_hear 28 = .ok (.goto 17, 3) := dk_167 0 17 (dk_at dksX9_hear_1 4 rfl rfl)
theorem dX9_hear_31 : decode cX9_hear 31 = .ok (.iload_n 3, 1) := dk_29 (dk_at dksX9_hear_1 7 rfl rfl)
theorem dX9_hear_32 : decode cX9_hear 32 = .ok (.ifCond .le 7, 3) := dk_158 0 7 (dk_at dksX9_hear_1 8 rfl rfl)
theorem dX9_hear_35 : decode cX9_hear 35 = .ok (.iconst 0, 1) := dk_3 (dk_at dksX9_hear_1 11 rfl rfl)
theorem dX9_hear_36 : decode cX9_hear 36 = .ok (.goto 9, 3) := dk_167 0 9 (dk_at dksX9_hear_1 12 rfl rfl)
theorem dX9_hear_39 : decode cX9_hear 39 = .ok (.aload_n 0, 1) := dk_42 (dk_at dksX9_hear_1 15 rfl rfl)
theorem dX9_hear_40 : decode cX9_hear 40 = .ok (.getfield 16, 3) := dk_180 0 16 (dk_at dksX9_hear_1 16 rfl rfl)
theorem dX9_hear_43 : decode cX9_hear 43 = .ok (.iconst 1, 1) := dk_4 (dk_at dksX9_hear_1 19 rfl rfl)
theorem dX9_hear_44 : decode cX9_hear 44 = .ok (.iadd, 1) := dk_96 (dk_at dksX9_hear_1 20 rfl rfl)
theorem dX9_hear_45 : decode cX9_hear 45 = .ok (.putfield 16, 3) := dk_181 0 16 (dk_at dksX9_hear_1 21 rfl rfl)
theorem dX9_hear_48 : decode cX9_hear 48 = .ok (.aload_n 0, 1) := dk_42 (dk_at dksX9_hear_2 0 rfl rfl)
theorem dX9_hear_49 : decode cX9_hear 49 = .ok (.aload_n 0, 1) := dk_42 (dk_at dksX9_hear_2 1 rfl rfl)
theorem dX9_hear_50 : decode cX9_hear 50 = .ok (.getfield 19, 3) := dk_180 0 19 (dk_at dksX9_hear_2 2 rfl rfl)
theorem dX9_hear_53 : decode cX9_hear 53 = .ok (.ifCond .ne 11, 3) := dk_154 0 11 (dk_at dksX9_hear_2 5 rfl rfl)
theorem dX9_hear_56 : decode cX9_hear 56 = .ok (.aload_n 0, 1) := dk_42 (dk_at dksX9_hear_2 8 rfl rfl)
theorem dX9_hear_57 : decode cX9_hear 57 = .ok (.getfield 16, 3) := dk_180 0 16 (dk_at dksX9_hear_2 9 rfl rfl)
theorem dX9_hear_60 : decode cX9_hear 60 = .ok (.iload_n 2, 1) := dk_28 (dk_at dksX9_hear_2 12 rfl rfl)
theorem dX9_hear_61 : decode cX9_hear 61 = .ok (.if_icmp .lt 7, 3) := dk_161 0 7 (dk_at dksX9_hear_2 13 rfl rfl)
theorem dX9_hear_64 : decode cX9_hear 64 = .ok (.iconst 1, 1) := dk_4 (dk_at dksX9_hear_2 16 rfl rfl)
theorem dX9_hear_65 : decode cX9_hear 65 = .ok (.goto 4, 3) := dk_167 0 4 (dk_at dksX9_hear_2 17 rfl rfl)
theorem dX9_hear_68 : decode cX9_hear 68 = .ok (.iconst 0, 1) := dk_3 (dk_at dksX9_hear_2 20 rfl rfl)
theorem dX9_hear_69 : decode cX9_hear 69 = .ok (.putfield 19, 3) := dk_181 0 19 (dk_at dksX9_hear_2 21 rfl rfl)
theorem dX9_hear_72 : decode cX9_hear 72 = .ok (.return_, 1) := dk_177 (dk_at dksX9_hear_3 0 rfl rfl)
theorem q66 : (Jvm.Cond.initialized "TaleDuel$Listener") ∈ lw_all := lw_g (lw_at lw_m1 28 rfl) rfl
theorem q316 : (Jvm.Cond.selects "TaleDuel$Listener" ({ cls := "java/lang/Object", name := "getClass", desc := "()Ljava/lang/Class;" } : Jvm.MethodName) ({ cls := "java/lang/Object", name := "getClass", desc := "()Ljava/lang/Class;" } : Jvm.MethodName)) ∈ lw_all := lw_g (lw_at lw_m2 38 rfl) rfl
theorem q519 : (Jvm.Cond.instantiable "TaleDuel$Listener" (4 : Nat)) ∈ lw_all := lw_g (lw_at lw_m3 1 rfl) rfl
theorem q521 : (Jvm.Cond.instanceMethod ({ cls := "TaleDuel$Listener", name := "<init>", desc := "(LTaleDuel$Listener;)V" } : Jvm.MethodName)) ∈ lw_all := lw_g (lw_at lw_m3 3 rfl) rfl
theorem q522 : (Jvm.Cond.code ({ cls := "TaleDuel$Listener", name := "<init>", desc := "(LTaleDuel$Listener;)V" } : Jvm.MethodName) prog_4_method_2_code (2 : Nat) (Option.none : Option Jvm.ClassFile.FieldType)) ∈ lw_all := lw_g (lw_at lw_m3 4 rfl) rfl
theorem q523 : (Jvm.Cond.methodLink "TaleDuel$Listener" (13 : Nat) ({ cls := "TaleDuel$Listener", name := "<init>", desc := "(I)V" } : Jvm.MethodName)) ∈ lw_all := lw_g (lw_at lw_m3 5 rfl) rfl
theorem q524 : (Jvm.Cond.instanceMethod ({ cls := "TaleDuel$Listener", name := "<init>", desc := "(I)V" } : Jvm.MethodName)) ∈ lw_all := lw_g (lw_at lw_m3 6 rfl) rfl
theorem q525 : (Jvm.Cond.code ({ cls := "TaleDuel$Listener", name := "<init>", desc := "(I)V" } : Jvm.MethodName) prog_4_method_1_code (2 : Nat) (Option.none : Option Jvm.ClassFile.FieldType)) ∈ lw_all := lw_g (lw_at lw_m3 7 rfl) rfl
theorem q526 : (Jvm.Cond.methodLink "TaleDuel$Listener" (1 : Nat) ({ cls := "java/lang/Object", name := "<init>", desc := "()V" } : Jvm.MethodName)) ∈ lw_all := lw_g (lw_at lw_m3 8 rfl) rfl
theorem q527 : (Jvm.Cond.fieldLink "TaleDuel$Listener" (7 : Nat) "TaleDuel$Listener" "likes" "I") ∈ lw_all := lw_g (lw_at lw_m3 9 rfl) rfl
theorem q530 : (Jvm.Cond.fieldLink "TaleDuel$Listener" (16 : Nat) "TaleDuel$Listener" "bored" "I") ∈ lw_all := lw_g (lw_at lw_m3 12 rfl) rfl
theorem q532 : (Jvm.Cond.fieldLink "TaleDuel$Listener" (19 : Nat) "TaleDuel$Listener" "gone" "Z") ∈ lw_all := lw_g (lw_at lw_m3 14 rfl) rfl
theorem q535 : (Jvm.Cond.fieldLink "TaleDuel$Listener" (23 : Nat) "TaleDuel$Listener" "points" "I") ∈ lw_all := lw_g (lw_at lw_m3 17 rfl) rfl
theorem q537 : (Jvm.Cond.laysFinal "TaleDuel$Listener" "TaleDuel$Listener" "likes" "I") ∈ lw_all := lw_g (lw_at lw_m3 19 rfl) rfl
theorem q538 : (Jvm.Cond.soleField "TaleDuel$Listener" "likes") ∈ lw_all := lw_g (lw_at lw_m3 20 rfl) rfl
theorem q539 : (Jvm.Cond.lays "TaleDuel$Listener" "TaleDuel$Listener" "bored" "I") ∈ lw_all := lw_g (lw_at lw_m3 21 rfl) rfl
theorem q540 : (Jvm.Cond.soleField "TaleDuel$Listener" "bored") ∈ lw_all := lw_g (lw_at lw_m3 22 rfl) rfl
theorem q541 : (Jvm.Cond.lays "TaleDuel$Listener" "TaleDuel$Listener" "gone" "Z") ∈ lw_all := lw_g (lw_at lw_m3 23 rfl) rfl
theorem q542 : (Jvm.Cond.soleField "TaleDuel$Listener" "gone") ∈ lw_all := lw_g (lw_at lw_m3 24 rfl) rfl
theorem q543 : (Jvm.Cond.lays "TaleDuel$Listener" "TaleDuel$Listener" "points" "I") ∈ lw_all := lw_g (lw_at lw_m3 25 rfl) rfl
theorem q544 : (Jvm.Cond.soleField "TaleDuel$Listener" "points") ∈ lw_all := lw_g (lw_at lw_m3 26 rfl) rfl
theorem q545 : (Jvm.Cond.superclass "TaleDuel$Listener" "java/lang/Object") ∈ lw_all := lw_g (lw_at lw_m3 27 rfl) rfl
theorem q1025 : (Jvm.Cond.instanceMethod ({ cls := "TaleDuel$Listener", name := "gives", desc := "(I)I" } : Jvm.MethodName)) ∈ lw_all := lw_g (lw_at lw_m5 27 rfl) rfl
theorem q1026 : (Jvm.Cond.selects "TaleDuel$Listener" ({ cls := "TaleDuel$Listener", name := "gives", desc := "(I)I" } : Jvm.MethodName) ({ cls := "TaleDuel$Listener", name := "gives", desc := "(I)I" } : Jvm.MethodName)) ∈ lw_all := lw_g (lw_at lw_m5 28 rfl) rfl
theorem q1027 : (Jvm.Cond.code ({ cls := "TaleDuel$Listener", name := "gives", desc := "(I)I" } : Jvm.MethodName) prog_4_method_3_code (2 : Nat) (Option.some Jvm.ClassFile.FieldType.int)) ∈ lw_all := lw_g (lw_at lw_m5 29 rfl) rfl
theorem q1028 : (Jvm.Cond.methodLink "TaleDuel$Listener" (26 : Nat) ({ cls := "java/lang/Integer", name := "bitCount", desc := "(I)I" } : Jvm.MethodName)) ∈ lw_all := lw_g (lw_at lw_m5 30 rfl) rfl
theorem q1242 : (Jvm.Cond.instanceMethod ({ cls := "TaleDuel$Listener", name := "hear", desc := "(II)V" } : Jvm.MethodName)) ∈ lw_all := lw_g (lw_at lw_m6 4 rfl) rfl
theorem q1243 : (Jvm.Cond.selects "TaleDuel$Listener" ({ cls := "TaleDuel$Listener", name := "hear", desc := "(II)V" } : Jvm.MethodName) ({ cls := "TaleDuel$Listener", name := "hear", desc := "(II)V" } : Jvm.MethodName)) ∈ lw_all := lw_g (lw_at lw_m6 5 rfl) rfl
theorem q1244 : (Jvm.Cond.code ({ cls := "TaleDuel$Listener", name := "hear", desc := "(II)V" } : Jvm.MethodName) prog_4_method_4_code (4 : Nat) (Option.none : Option Jvm.ClassFile.FieldType)) ∈ lw_all := lw_g (lw_at lw_m6 6 rfl) rfl
theorem q1245 : (Jvm.Cond.methodLink "TaleDuel$Listener" (32 : Nat) ({ cls := "TaleDuel$Listener", name := "gives", desc := "(I)I" } : Jvm.MethodName)) ∈ lw_all := lw_g (lw_at lw_m6 7 rfl) rfl
theorem q1785 : (Jvm.Cond.castable "TaleDuel$Listener" "java/lang/Object") ∈ lw_tbl := lw_at lw_m8 67 rfl
theorem in_X9 : ∀ w ∈ wsX90, w ∈ lw_all := lw_in wsX90 [537, 539, 541, 543] (by decide +kernel) (by decide +kernel)
/-! TaleDuel$Search -/
set_option maxRecDepth 100000
def RX10 : String := "TaleDuel$Search"
def TX10 : u_T := fun k => match k with
  | 0 => ("TaleDuel$Search", "worth", "[I", true)
  | 1 => ("TaleDuel$Search", "words", "[I", true)
  | 2 => ("TaleDuel$Search", "bans", "I", true)
  | 3 => ("TaleDuel$Search", "points", "I", false)
  | _ => ("TaleDuel$Search", "best", "LTaleDuel$Sentence;", false)
def tyX10 : Nat → FieldType := fun k => match k with
  | 0 => .array .int
  | 1 => .array .int
  | 2 => .int
  | 3 => .int
  | _ => .object "TaleDuel$Sentence"
abbrev wsX100 : List Cond := u_ws RX10 TX10 5
theorem nmX10 : ∀ a, a < 5 → ∀ b, b < 5 → a ≠ b → (TX10 a).2.1 ≠ (TX10 b).2.1 := by decide +kernel
theorem tyX10_ok : ∀ k, k < 5 → parseFieldDescriptor (TX10 k).2.2.1 = some (tyX10 k) := by decide +kernel
abbrev cX10_init : ByteArray := prog_5_method_1_code
def yX10_init : MethodName := ⟨RX10, "<init>", "(LTaleDuel$Duel;I)V"⟩
def dkwX10_init_3 : List UInt8 := [163, 0, 18, 42, 3, 21, 4, 3, 3, 182, 0, 34, 132, 4, 1, 167, 255, 238, 177]
abbrev dktX10_init_3 : List UInt8 := dkwX10_init_3 ++ []
def dkwX10_init_2 : List UInt8 := [21, 4, 43, 21, 4, 29, 182, 0, 31, 79, 132, 4, 1, 167, 255, 232, 5, 54, 4, 21, 4, 8]
abbrev dktX10_init_2 : List UInt8 := dkwX10_init_2 ++ dktX10_init_3
def dkwX10_init_1 : List UInt8 := [42, 28, 181, 0, 22, 43, 182, 0, 25, 62, 3, 54, 4, 21, 4, 16, 18, 162, 0, 23, 42, 180, 0, 9]
abbrev dktX10_init_1 : List UInt8 := dkwX10_init_1 ++ dktX10_init_2
def dkwX10_init_0 : List UInt8 := [42, 183, 0, 3, 42, 16, 18, 188, 10, 181, 0, 9, 42, 8, 188, 10, 181, 0, 15, 42, 2, 181, 0, 18]
abbrev dktX10_init_0 : List UInt8 := dkwX10_init_0 ++ dktX10_init_1
theorem dksX10_init_0 : cX10_init.data.toList.drop 0 = dktX10_init_0 := by decide +kernel
theorem dksX10_init_1 : cX10_init.data.toList.drop 24 = dktX10_init_1 := dk_seg dksX10_init_0 24 rfl rfl
theorem dksX10_init_2 : cX10_init.data.toList.drop 48 = dktX10_init_2 := dk_seg dksX10_init_1 24 rfl rfl
theorem dksX10_init_3 : cX10_init.data.toList.drop 70 = dktX10_init_3 := dk_seg dksX10_init_2 22 rfl rfl
theorem dX10_init_0 : decode cX10_init 0 = .ok (.aload_n 0, 1) := dk_42 (dk_at dksX10_init_0 0 rfl rfl)
theorem dX10_init_1 : decode cX10_init 1 = .ok (.invokespecial 3, 3) := dk_183 0 3 (dk_at dksX10_init_0 1 rfl rfl)
theorem dX10_init_4 : decode cX10_init 4 = .ok (.aload_n 0, 1) := dk_42 (dk_at dksX10_init_0 4 rfl rfl)
theorem dX10_init_5 : decode cX10_init 5 = .ok (.bipush 18, 2) := dk_16 18 (dk_at dksX10_init_0 5 rfl rfl)
theorem dX10_init_7 : decode cX10_init 7 = .ok (.newarray .int, 2) := dk_188_10 (dk_at dksX10_init_0 7 rfl rfl)
theorem dX10_init_9 : decode cX10_init 9 = .ok (.putfield 9, 3) := dk_181 0 9 (dk_at dksX10_init_0 9 rfl rfl)
theorem dX10_init_12 : decode cX10_init 12 = .ok (.aload_n 0, 1) := dk_42 (dk_at dksX10_init_0 12 rfl rfl)
theorem dX10_init_13 : decode cX10_init 13 = .ok (.iconst 5, 1) := dk_8 (dk_at dksX10_init_0 13 rfl rfl)
theorem dX10_init_14 : decode cX10_init 14 = .ok (.newarray .int, 2) := dk_188_10 (dk_at dksX10_init_0 14 rfl rfl)
theorem dX10_init_16 : decode cX10_init 16 = .ok (.putfield 15, 3) := dk_181 0 15 (dk_at dksX10_init_0 16 rfl rfl)
theorem dX10_init_19 : decode cX10_init 19 = .ok (.aload_n 0, 1) := dk_42 (dk_at dksX10_init_0 19 rfl rfl)
theorem dX10_init_20 : decode cX10_init 20 = .ok (.iconst (-1), 1) := dk_2 (dk_at dksX10_init_0 20 rfl rfl)
theorem dX10_init_21 : decode cX10_init 21 = .ok (.putfield 18, 3) := dk_181 0 18 (dk_at dksX10_init_0 21 rfl rfl)
theorem dX10_init_24 : decode cX10_init 24 = .ok (.aload_n 0, 1) := dk_42 (dk_at dksX10_init_1 0 rfl rfl)
theorem dX10_init_25 : decode cX10_init 25 = .ok (.iload_n 2, 1) := dk_28 (dk_at dksX10_init_1 1 rfl rfl)
theorem dX10_init_26 : decode cX10_init 26 = .ok (.putfield 22, 3) := dk_181 0 22 (dk_at dksX10_init_1 2 rfl rfl)
theorem dX10_init_29 : decode cX10_init 29 = .ok (.aload_n 1, 1) := dk_43 (dk_at dksX10_init_1 5 rfl rfl)
theorem dX10_init_30 : decode cX10_init 30 = .ok (.invokevirtual 25, 3) := dk_182 0 25 (dk_at dksX10_init_1 6 rfl rfl)
theorem dX10_init_33 : decode cX10_init 33 = .ok (.istore_n 3, 1) := dk_62 (dk_at dksX10_init_1 9 rfl rfl)
theorem dX10_init_34 : decode cX10_init 34 = .ok (.iconst 0, 1) := dk_3 (dk_at dksX10_init_1 10 rfl rfl)
theorem dX10_init_35 : decode cX10_init 35 = .ok (.istore 4, 2) := dk_54 4 (dk_at dksX10_init_1 11 rfl rfl)
theorem dX10_init_37 : decode cX10_init 37 = .ok (.iload 4, 2) := dk_21 4 (dk_at dksX10_init_1 13 rfl rfl)
theorem dX10_init_39 : decode cX10_init 39 = .ok (.bipush 18, 2) := dk_16 18 (dk_at dksX10_init_1 15 rfl rfl)
theorem dX10_init_41 : decode cX10_init 41 = .ok (.if_icmp .ge 23, 3) := dk_162 0 23 (dk_at dksX10_init_1 17 rfl rfl)
theorem dX10_init_44 : decode cX10_init 44 = .ok (.aload_n 0, 1) := dk_42 (dk_at dksX10_init_1 20 rfl rfl)
theorem dX10_init_45 : decode cX10_init 45 = .ok (.getfield 9, 3) := dk_180 0 9 (dk_at dksX10_init_1 21 rfl rfl)
theorem dX10_init_48 : decode cX10_init 48 = .ok (.iload 4, 2) := dk_21 4 (dk_at dksX10_init_2 0 rfl rfl)
theorem dX10_init_50 : decode cX10_init 50 = .ok (.aload_n 1, 1) := dk_43 (dk_at dksX10_init_2 2 rfl rfl)
theorem dX10_init_51 : decode cX10_init 51 = .ok (.iload 4, 2) := dk_21 4 (dk_at dksX10_init_2 3 rfl rfl)
theorem dX10_init_53 : decode cX10_init 53 = .ok (.iload_n 3, 1) := dk_29 (dk_at dksX10_init_2 5 rfl rfl)
theorem dX10_init_54 : decode cX10_init 54 = .ok (.invokevirtual 31, 3) := dk_182 0 31 (dk_at dksX10_init_2 6 rfl rfl)
theorem dX10_init_57 : decode cX10_init 57 = .ok (.iastore, 1) := dk_79 (dk_at dksX10_init_2 9 rfl rfl)
theorem dX10_init_58 : decode cX10_init 58 = .ok (.iinc 4 1, 3) := dk_132 4 1 (dk_at dksX10_init_2 10 rfl rfl)
theorem dX10_init_61 : decode cX10_init 61 = .ok (.goto (-24), 3) := dk_167 255 232 (dk_at dksX10_init_2 13 rfl rfl)
theorem dX10_init_64 : decode cX10_init 64 = .ok (.iconst 2, 1) := dk_5 (dk_at dksX10_init_2 16 rfl rfl)
theorem dX10_init_65 : decode cX10_init 65 = .ok (.istore 4, 2) := dk_54 4 (dk_at dksX10_init_2 17 rfl rfl)
theorem dX10_init_67 : decode cX10_init 67 = .ok (.iload 4, 2) := dk_21 4 (dk_at dksX10_init_2 19 rfl rfl)
theorem dX10_init_69 : decode cX10_init 69 = .ok (.iconst 5, 1) := dk_8 (dk_at dksX10_init_2 21 rfl rfl)
theorem dX10_init_70 : decode cX10_init 70 = .ok (.if_icmp .gt 18, 3) := dk_163 0 18 (dk_at dksX10_init_3 0 rfl rfl)
theorem dX10_init_73 : decode cX10_init 73 = .ok (.aload_n 0, 1) := dk_42 (dk_at dksX10_init_3 3 rfl rfl)
theorem dX10_init_74 : decode cX10_init 74 = .ok (.iconst 0, 1) := dk_3 (dk_at dksX10_init_3 4 rfl rfl)
theorem dX10_init_75 : decode cX10_init 75 = .ok (.iload 4, 2) := dk_21 4 (dk_at dksX10_init_3 5 rfl rfl)
theorem dX10_init_77 : decode cX10_init 77 = .ok (.iconst 0, 1) := dk_3 (dk_at dksX10_init_3 7 rfl rfl)
theorem dX10_init_78 : decode cX10_init 78 = .ok (.iconst 0, 1) := dk_3 (dk_at dksX10_init_3 8 rfl rfl)
theorem dX10_init_79 : decode cX10_init 79 = .ok (.invokevirtual 34, 3) := dk_182 0 34 (dk_at dksX10_init_3 9 rfl rfl)
theorem dX10_init_82 : decode cX10_init 82 = .ok (.iinc 4 1, 3) := dk_132 4 1 (dk_at dksX10_init_3 12 rfl rfl)
theorem dX10_init_85 : decode cX10_init 85 = .ok (.goto (-18), 3) := dk_167 255 238 (dk_at dksX10_init_3 15 rfl rfl)
theorem dX10_init_88 : decode cX10_init 88 = .ok (.return_, 1) := dk_177 (dk_at dksX10_init_3 18 rfl rfl)
abbrev cX10_go : ByteArray := prog_5_method_2_code
def yX10_go : MethodName := ⟨RX10, "go", "(IIII)V"⟩
def dkwX10_go_4 : List UInt8 := [96, 28, 21, 6, 21, 4, 42, 180, 0, 9, 21, 5, 46, 96, 182, 0, 34, 132, 5, 1, 167, 255, 182, 177]
abbrev dktX10_go_4 : List UInt8 := dkwX10_go_4 ++ []
def dkwX10_go_3 : List UInt8 := [154, 0, 41, 42, 21, 5, 27, 182, 0, 59, 154, 0, 31, 42, 180, 0, 15, 27, 21, 5, 79, 42, 27, 4]
abbrev dktX10_go_3 : List UInt8 := dkwX10_go_3 ++ dktX10_go_4
def dkwX10_go_2 : List UInt8 := [21, 5, 184, 0, 52, 54, 6, 21, 6, 2, 159, 0, 53, 42, 180, 0, 22, 21, 5, 184, 0, 55]
abbrev dktX10_go_2 : List UInt8 := dkwX10_go_2 ++ dktX10_go_3
def dkwX10_go_1 : List UInt8 := [181, 0, 18, 42, 42, 28, 182, 0, 44, 181, 0, 48, 177, 3, 54, 5, 21, 5, 16, 18, 162, 0, 73, 29]
abbrev dktX10_go_1 : List UInt8 := dkwX10_go_1 ++ dktX10_go_2
def dkwX10_go_0 : List UInt8 := [27, 28, 160, 0, 35, 29, 184, 0, 38, 153, 0, 27, 21, 4, 42, 180, 0, 18, 164, 0, 18, 42, 21, 4]
abbrev dktX10_go_0 : List UInt8 := dkwX10_go_0 ++ dktX10_go_1
theorem dksX10_go_0 : cX10_go.data.toList.drop 0 = dktX10_go_0 := by decide +kernel
theorem dksX10_go_1 : cX10_go.data.toList.drop 24 = dktX10_go_1 := dk_seg dksX10_go_0 24 rfl rfl
theorem dksX10_go_2 : cX10_go.data.toList.drop 48 = dktX10_go_2 := dk_seg dksX10_go_1 24 rfl rfl
theorem dksX10_go_3 : cX10_go.data.toList.drop 70 = dktX10_go_3 := dk_seg dksX10_go_2 22 rfl rfl
theorem dksX10_go_4 : cX10_go.data.toList.drop 94 = dktX10_go_4 := dk_seg dksX10_go_3 24 rfl rfl
theorem dX10_go_0 : decode cX10_go 0 = .ok (.iload_n 1, 1) := dk_27 (dk_at dksX10_go_0 0 rfl rfl)
theorem dX10_go_1 : decode cX10_go 1 = .ok (.iload_n 2, 1) := dk_28 (dk_at dksX10_go_0 1 rfl rfl)
theorem dX10_go_2 : decode cX10_go 2 = .ok (.if_icmp .ne 35, 3) := dk_160 0 35 (dk_at dksX10_go_0 2 rfl rfl)
theorem dX10_go_5 : decode cX10_go 5 = .ok (.iload_n 3, 1) := dk_29 (dk_at dksX10_go_0 5 rfl rfl)
theorem dX10_go_6 : decode cX10_go 6 = .ok (.invokestatic 38, 3) := dk_184 0 38 (dk_at dksX10_go_0 6 rfl rfl)
theorem dX10_go_9 : decode cX10_go 9 = .ok (.ifCond .eq 27, 3) := dk_153 0 27 (dk_at dksX10_go_0 9 rfl rfl)
theorem dX10_go_12 : decode cX10_go 12 = .ok (.iload 4, 2) := dk_21 4 (dk_at dksX10_go_0 12 rfl rfl)
theorem dX10_go_14 : decode cX10_go 14 = .ok (.aload_n 0, 1) := dk_42 (dk_at dksX10_go_0 14 rfl rfl)
theorem dX10_go_15 : decode cX10_go 15 = .ok (.getfield 18, 3) := dk_180 0 18 (dk_at dksX10_go_0 15 rfl rfl)
theorem dX10_go_18 : decode cX10_go 18 = .ok (.if_icmp .le 18, 3) := dk_164 0 18 (dk_at dksX10_go_0 18 rfl rfl)
theorem dX10_go_21 : decode cX10_go 21 = .ok (.aload_n 0, 1) := dk_42 (dk_at dksX10_go_0 21 rfl rfl)
theorem dX10_go_22 : decode cX10_go 22 = .ok (.iload 4, 2) := dk_21 4 (dk_at dksX10_go_0 22 rfl rfl)
theorem dX10_go_24 : decode cX10_go 24 = .ok (.putfield 18, 3) := dk_181 0 18 (dk_at dksX10_go_1 0 rfl rfl)
theorem dX10_go_27 : decode cX10_go 27 = .ok (.aload_n 0, 1) := dk_42 (dk_at dksX10_go_1 3 rfl rfl)
theorem dX10_go_28 : decode cX10_go 28 = .ok (.aload_n 0, 1) := dk_42 (dk_at dksX10_go_1 4 rfl rfl)
theorem dX10_go_29 : decode cX10_go 29 = .ok (.iload_n 2, 1) := dk_28 (dk_at dksX10_go_1 5 rfl rfl)
theorem dX10_go_30 : decode cX10_go 30 = .ok (.invokevirtual 44, 3) := dk_182 0 44 (dk_at dksX10_go_1 6 rfl rfl)
theorem dX10_go_33 : decode cX10_go 33 = .ok (.putfield 48, 3) := dk_181 0 48 (dk_at dksX10_go_1 9 rfl rfl)
theorem dX10_go_36 : decode cX10_go 36 = .ok (.return_, 1) := dk_177 (dk_at dksX10_go_1 12 rfl rfl)
theorem dX10_go_37 : decode cX10_go 37 = .ok (.iconst 0, 1) := dk_3 (dk_at dksX10_go_1 13 rfl rfl)
theorem dX10_go_38 : decode cX10_go 38 = .ok (.istore 5, 2) := dk_54 5 (dk_at dksX10_go_1 14 rfl rfl)
theorem dX10_go_40 : decode cX10_go 40 = .ok (.iload 5, 2) := dk_21 5 (dk_at dksX10_go_1 16 rfl rfl)
theorem dX10_go_42 : decode cX10_go 42 = .ok (.bipush 18, 2) := dk_16 18 (dk_at dksX10_go_1 18 rfl rfl)
theorem dX10_go_44 : decode cX10_go 44 = .ok (.if_icmp .ge 73, 3) := dk_162 0 73 (dk_at dksX10_go_1 20 rfl rfl)
theorem dX10_go_47 : decode cX10_go 47 = .ok (.iload_n 3, 1) := dk_29 (dk_at dksX10_go_1 23 rfl rfl)
theorem dX10_go_48 : decode cX10_go 48 = .ok (.iload 5, 2) := dk_21 5 (dk_at dksX10_go_2 0 rfl rfl)
theorem dX10_go_50 : decode cX10_go 50 = .ok (.invokestatic 52, 3) := dk_184 0 52 (dk_at dksX10_go_2 2 rfl rfl)
theorem dX10_go_53 : decode cX10_go 53 = .ok (.istore 6, 2) := dk_54 6 (dk_at dksX10_go_2 5 rfl rfl)
theorem dX10_go_55 : decode cX10_go 55 = .ok (.iload 6, 2) := dk_21 6 (dk_at dksX10_go_2 7 rfl rfl)
theorem dX10_go_57 : decode cX10_go 57 = .ok (.iconst (-1), 1) := dk_2 (dk_at dksX10_go_2 9 rfl rfl)
theorem dX10_go_58 : decode cX10_go 58 = .ok (.if_icmp .eq 53, 3) := dk_159 0 53 (dk_at dksX10_go_2 10 rfl rfl)
theorem dX10_go_61 : decode cX10_go 61 = .ok (.aload_n 0, 1) := dk_42 (dk_at dksX10_go_2 13 rfl rfl)
theorem dX10_go_62 : decode cX10_go 62 = .ok (.getfield 22, 3) := dk_180 0 22 (dk_at dksX10_go_2 14 rfl rfl)
theorem dX10_go_65 : decode cX10_go 65 = .ok (.iload 5, 2) := dk_21 5 (dk_at dksX10_go_2 17 rfl rfl)
theorem dX10_go_67 : decode cX10_go 67 = .ok (.invokestatic 55, 3) := dk_184 0 55 (dk_at dksX10_go_2 19 rfl rfl)
theorem dX10_go_70 : decode cX10_go 70 = .ok (.ifCond .ne 41, 3) := dk_154 0 41 (dk_at dksX10_go_3 0 rfl rfl)
theorem dX10_go_73 : decode cX10_go 73 = .ok (.aload_n 0, 1) := dk_42 (dk_at dksX10_go_3 3 rfl rfl)
theorem dX10_go_74 : decode cX10_go 74 = .ok (.iload 5, 2) := dk_21 5 (dk_at dksX10_go_3 4 rfl rfl)
theorem dX10_go_76 : decode cX10_go 76 = .ok (.iload_n 1, 1) := dk_27 (dk_at dksX10_go_3 6 rfl rfl)
theorem dX10_go_77 : decode cX10_go 77 = .ok (.invokevirtual 59, 3) := dk_182 0 59 (dk_at dksX10_go_3 7 rfl rfl)
theorem dX10_go_80 : decode cX10_go 80 = .ok (.ifCond .ne 31, 3) := dk_154 0 31 (dk_at dksX10_go_3 10 rfl rfl)
theorem dX10_go_83 : decode cX10_go 83 = .ok (.aload_n 0, 1) := dk_42 (dk_at dksX10_go_3 13 rfl rfl)
theorem dX10_go_84 : decode cX10_go 84 = .ok (.getfield 15, 3) := dk_180 0 15 (dk_at dksX10_go_3 14 rfl rfl)
theorem dX10_go_87 : decode cX10_go 87 = .ok (.iload_n 1, 1) := dk_27 (dk_at dksX10_go_3 17 rfl rfl)
theorem dX10_go_88 : decode cX10_go 88 = .ok (.iload 5, 2) := dk_21 5 (dk_at dksX10_go_3 18 rfl rfl)
theorem dX10_go_90 : decode cX10_go 90 = .ok (.iastore, 1) := dk_79 (dk_at dksX10_go_3 20 rfl rfl)
theorem dX10_go_91 : decode cX10_go 91 = .ok (.aload_n 0, 1) := dk_42 (dk_at dksX10_go_3 21 rfl rfl)
theorem dX10_go_92 : decode cX10_go 92 = .ok (.iload_n 1, 1) := dk_27 (dk_at dksX10_go_3 22 rfl rfl)
theorem dX10_go_93 : decode cX10_go 93 = .ok (.iconst 1, 1) := dk_4 (dk_at dksX10_go_3 23 rfl rfl)
theorem dX10_go_94 : decode cX10_go 94 = .ok (.iadd, 1) := dk_96 (dk_at dksX10_go_4 0 rfl rfl)
theorem dX10_go_95 : decode cX10_go 95 = .ok (.iload_n 2, 1) := dk_28 (dk_at dksX10_go_4 1 rfl rfl)
theorem dX10_go_96 : decode cX10_go 96 = .ok (.iload 6, 2) := dk_21 6 (dk_at dksX10_go_4 2 rfl rfl)
theorem dX10_go_98 : decode cX10_go 98 = .ok (.iload 4, 2) := dk_21 4 (dk_at dksX10_go_4 4 rfl rfl)
theorem dX10_go_100 : decode cX10_go 100 = .ok (.aload_n 0, 1) := dk_42 (dk_at dksX10_go_4 6 rfl rfl)
theorem dX10_go_101 : decode cX10_go 101 = .ok (.getfield 9, 3) := dk_180 0 9 (dk_at dksX10_go_4 7 rfl rfl)
theorem dX10_go_104 : decode cX10_go 104 = .ok (.iload 5, 2) := dk_21 5 (dk_at dksX10_go_4 10 rfl rfl)
theorem dX10_go_106 : decode cX10_go 106 = .ok (.iaload, 1) := dk_46 (dk_at dksX10_go_4 12 rfl rfl)
theorem dX10_go_107 : decode cX10_go 107 = .ok (.iadd, 1) := dk_96 (dk_at dksX10_go_4 13 rfl rfl)
theorem dX10_go_108 : decode cX10_go 108 = .ok (.invokevirtual 34, 3) := dk_182 0 34 (dk_at dksX10_go_4 14 rfl rfl)
theorem dX10_go_111 : decode cX10_go 111 = .ok (.iinc 5 1, 3) := dk_132 5 1 (dk_at dksX10_go_4 17 rfl rfl)
theorem dX10_go_114 : decode cX10_go 114 = .ok (.goto (-74), 3) := dk_167 255 182 (dk_at dksX10_go_4 20 rfl rfl)
theorem dX10_go_117 : decode cX10_go 117 = .ok (.return_, 1) := dk_177 (dk_at dksX10_go_4 23 rfl rfl)
abbrev cX10_sentence : ByteArray := prog_5_method_4_code
def yX10_sentence : MethodName := ⟨RX10, "sentence", "(I)LTaleDuel$Sentence;"⟩
def dkwX10_sentence_1 : List UInt8 := [96, 146, 182, 0, 65, 54, 4, 132, 3, 1, 167, 255, 232, 44, 176]
abbrev dktX10_sentence_1 : List UInt8 := dkwX10_sentence_1 ++ []
def dkwX10_sentence_0 : List UInt8 := [187, 0, 62, 89, 183, 0, 64, 77, 3, 62, 29, 27, 162, 0, 25, 44, 16, 97, 42, 180, 0, 15, 29, 46]
abbrev dktX10_sentence_0 : List UInt8 := dkwX10_sentence_0 ++ dktX10_sentence_1
theorem dksX10_sentence_0 : cX10_sentence.data.toList.drop 0 = dktX10_sentence_0 := by decide +kernel
theorem dksX10_sentence_1 : cX10_sentence.data.toList.drop 24 = dktX10_sentence_1 := dk_seg dksX10_sentence_0 24 rfl rfl
theorem dX10_sentence_0 : decode cX10_sentence 0 = .ok (.new 62, 3) := dk_187 0 62 (dk_at dksX10_sentence_0 0 rfl rfl)
theorem dX10_sentence_3 : decode cX10_sentence 3 = .ok (.dup, 1) := dk_89 (dk_at dksX10_sentence_0 3 rfl rfl)
theorem dX10_sentence_4 : decode cX10_sentence 4 = .ok (.invokespecial 64, 3) := dk_183 0 64 (dk_at dksX10_sentence_0 4 rfl rfl)
theorem dX10_sentence_7 : decode cX10_sentence 7 = .ok (.astore_n 2, 1) := dk_77 (dk_at dksX10_sentence_0 7 rfl rfl)
theorem dX10_sentence_8 : decode cX10_sentence 8 = .ok (.iconst 0, 1) := dk_3 (dk_at dksX10_sentence_0 8 rfl rfl)
theorem dX10_sentence_9 : decode cX10_sentence 9 = .ok (.istore_n 3, 1) := dk_62 (dk_at dksX10_sentence_0 9 rfl rfl)
theorem dX10_sentence_10 : decode cX10_sentence 10 = .ok (.iload_n 3, 1) := dk_29 (dk_at dksX10_sentence_0 10 rfl rfl)
theorem dX10_sentence_11 : decode cX10_sentence 11 = .ok (.iload_n 1, 1) := dk_27 (dk_at dksX10_sentence_0 11 rfl rfl)
theorem dX10_sentence_12 : decode cX10_sentence 12 = .ok (.if_icmp .ge 25, 3) := dk_162 0 25 (dk_at dksX10_sentence_0 12 rfl rfl)
theorem dX10_sentence_15 : decode cX10_sentence 15 = .ok (.aload_n 2, 1) := dk_44 (dk_at dksX10_sentence_0 15 rfl rfl)
theorem dX10_sentence_16 : decode cX10_sentence 16 = .ok (.bipush 97, 2) := dk_16 97 (dk_at dksX10_sentence_0 16 rfl rfl)
theorem dX10_sentence_18 : decode cX10_sentence 18 = .ok (.aload_n 0, 1) := dk_42 (dk_at dksX10_sentence_0 18 rfl rfl)
theorem dX10_sentence_19 : decode cX10_sentence 19 = .ok (.getfield 15, 3) := dk_180 0 15 (dk_at dksX10_sentence_0 19 rfl rfl)
theorem dX10_sentence_22 : decode cX10_sentence 22 = .ok (.iload_n 3, 1) := dk_29 (dk_at dksX10_sentence_0 22 rfl rfl)
theorem dX10_sentence_23 : decode cX10_sentence 23 = .ok (.iaload, 1) := dk_46 (dk_at dksX10_sentence_0 23 rfl rfl)
theorem dX10_sentence_24 : decode cX10_sentence 24 = .ok (.iadd, 1) := dk_96 (dk_at dksX10_sentence_1 0 rfl rfl)
theorem dX10_sentence_25 : decode cX10_sentence 25 = .ok (.i2c, 1) := dk_146 (dk_at dksX10_sentence_1 1 rfl rfl)
theorem dX10_sentence_26 : decode cX10_sentence 26 = .ok (.invokevirtual 65, 3) := dk_182 0 65 (dk_at dksX10_sentence_1 2 rfl rfl)
theorem dX10_sentence_29 : decode cX10_sentence 29 = .ok (.istore 4, 2) := dk_54 4 (dk_at dksX10_sentence_1 5 rfl rfl)
theorem dX10_sentence_31 : decode cX10_sentence 31 = .ok (.iinc 3 1, 3) := dk_132 3 1 (dk_at dksX10_sentence_1 7 rfl rfl)
theorem dX10_sentence_34 : decode cX10_sentence 34 = .ok (.goto (-24), 3) := dk_167 255 232 (dk_at dksX10_sentence_1 10 rfl rfl)
theorem dX10_sentence_37 : decode cX10_sentence 37 = .ok (.aload_n 2, 1) := dk_44 (dk_at dksX10_sentence_1 13 rfl rfl)
theorem dX10_sentence_38 : decode cX10_sentence 38 = .ok (.areturn, 1) := dk_176 (dk_at dksX10_sentence_1 14 rfl rfl)
abbrev cX10_isUsed : ByteArray := prog_5_method_3_code
def yX10_isUsed : MethodName := ⟨RX10, "isUsed", "(II)Z"⟩
def dkwX10_isUsed_1 : List UInt8 := [160, 0, 7, 4, 167, 0, 4, 3, 62, 132, 4, 1, 167, 255, 226, 29, 172]
abbrev dktX10_isUsed_1 : List UInt8 := dkwX10_isUsed_1 ++ []
def dkwX10_isUsed_0 : List UInt8 := [3, 62, 3, 54, 4, 21, 4, 28, 162, 0, 30, 29, 154, 0, 14, 42, 180, 0, 15, 21, 4, 46, 27]
abbrev dktX10_isUsed_0 : List UInt8 := dkwX10_isUsed_0 ++ dktX10_isUsed_1
theorem dksX10_isUsed_0 : cX10_isUsed.data.toList.drop 0 = dktX10_isUsed_0 := by decide +kernel
theorem dksX10_isUsed_1 : cX10_isUsed.data.toList.drop 23 = dktX10_isUsed_1 := dk_seg dksX10_isUsed_0 23 rfl rfl
theorem dX10_isUsed_0 : decode cX10_isUsed 0 = .ok (.iconst 0, 1) := dk_3 (dk_at dksX10_isUsed_0 0 rfl rfl)
theorem dX10_isUsed_1 : decode cX10_isUsed 1 = .ok (.istore_n 3, 1) := dk_62 (dk_at dksX10_isUsed_0 1 rfl rfl)
theorem dX10_isUsed_2 : decode cX10_isUsed 2 = .ok (.iconst 0, 1) := dk_3 (dk_at dksX10_isUsed_0 2 rfl rfl)
theorem dX10_isUsed_3 : decode cX10_isUsed 3 = .ok (.istore 4, 2) := dk_54 4 (dk_at dksX10_isUsed_0 3 rfl rfl)
theorem dX10_isUsed_5 : decode cX10_isUsed 5 = .ok (.iload 4, 2) := dk_21 4 (dk_at dksX10_isUsed_0 5 rfl rfl)
theorem dX10_isUsed_7 : decode cX10_isUsed 7 = .ok (.iload_n 2, 1) := dk_28 (dk_at dksX10_isUsed_0 7 rfl rfl)
theorem dX10_isUsed_8 : decode cX10_isUsed 8 = .ok (.if_icmp .ge 30, 3) := dk_162 0 30 (dk_at dksX10_isUsed_0 8 rfl rfl)
theorem dX10_isUsed_11 : decode cX10_isUsed 11 = .ok (.iload_n 3, 1) := dk_29 (dk_at dksX10_isUsed_0 11 rfl rfl)
theorem dX10_isUsed_12 : decode cX10_isUsed 12 = .ok (.ifCond .ne 14, 3) := dk_154 0 14 (dk_at dksX10_isUsed_0 12 rfl rfl)
theorem dX10_isUsed_15 : decode cX10_isUsed 15 = .ok (.aload_n 0, 1) := dk_42 (dk_at dksX10_isUsed_0 15 rfl rfl)
theorem dX10_isUsed_16 : decode cX10_isUsed 16 = .ok (.getfield 15, 3) := dk_180 0 15 (dk_at dksX10_isUsed_0 16 rfl rfl)
theorem dX10_isUsed_19 : decode cX10_isUsed 19 = .ok (.iload 4, 2) := dk_21 4 (dk_at dksX10_isUsed_0 19 rfl rfl)
theorem dX10_isUsed_21 : decode cX10_isUsed 21 = .ok (.iaload, 1) := dk_46 (dk_at dksX10_isUsed_0 21 rfl rfl)
theorem dX10_isUsed_22 : decode cX10_isUsed 22 = .ok (.iload_n 1, 1) := dk_27 (dk_at dksX10_isUsed_0 22 rfl rfl)
theorem dX10_isUsed_23 : decode cX10_isUsed 23 = .ok (.if_icmp .ne 7, 3) := dk_160 0 7 (dk_at dksX10_isUsed_1 0 rfl rfl)
theorem dX10_isUsed_26 : decode cX10_isUsed 26 = .ok (.iconst 1, 1) := dk_4 (dk_at dksX10_isUsed_1 3 rfl rfl)
theorem dX10_isUsed_27 : decode cX10_isUsed 27 = .ok (.goto 4, 3) := dk_167 0 4 (dk_at dksX10_isUsed_1 4 rfl rfl)
theorem dX10_isUsed_30 : decode cX10_isUsed 30 = .ok (.iconst 0, 1) := dk_3 (dk_at dksX10_isUsed_1 7 rfl rfl)
theorem dX10_isUsed_31 : decode cX10_isUsed 31 = .ok (.istore_n 3, 1) := dk_62 (dk_at dksX10_isUsed_1 8 rfl rfl)
theorem dX10_isUsed_32 : decode cX10_isUsed 32 = .ok (.iinc 4 1, 3) := dk_132 4 1 (dk_at dksX10_isUsed_1 9 rfl rfl)
theorem dX10_isUsed_35 : decode cX10_isUsed 35 = .ok (.goto (-30), 3) := dk_167 255 226 (dk_at dksX10_isUsed_1 12 rfl rfl)
theorem dX10_isUsed_38 : decode cX10_isUsed 38 = .ok (.iload_n 3, 1) := dk_29 (dk_at dksX10_isUsed_1 15 rfl rfl)
theorem dX10_isUsed_39 : decode cX10_isUsed 39 = .ok (.ireturn, 1) := dk_172 (dk_at dksX10_isUsed_1 16 rfl rfl)
theorem q74 : (Jvm.Cond.initialized "TaleDuel$Search") ∈ lw_all := lw_g (lw_at lw_m1 36 rfl) rfl
theorem q317 : (Jvm.Cond.selects "TaleDuel$Search" ({ cls := "java/lang/Object", name := "getClass", desc := "()Ljava/lang/Class;" } : Jvm.MethodName) ({ cls := "java/lang/Object", name := "getClass", desc := "()Ljava/lang/Class;" } : Jvm.MethodName)) ∈ lw_all := lw_g (lw_at lw_m2 39 rfl) rfl
theorem q1010 : (Jvm.Cond.instantiable "TaleDuel$Search" (5 : Nat)) ∈ lw_all := lw_g (lw_at lw_m5 12 rfl) rfl
theorem q1012 : (Jvm.Cond.instanceMethod ({ cls := "TaleDuel$Search", name := "<init>", desc := "(LTaleDuel$Duel;I)V" } : Jvm.MethodName)) ∈ lw_all := lw_g (lw_at lw_m5 14 rfl) rfl
theorem q1013 : (Jvm.Cond.code ({ cls := "TaleDuel$Search", name := "<init>", desc := "(LTaleDuel$Duel;I)V" } : Jvm.MethodName) prog_5_method_1_code (5 : Nat) (Option.none : Option Jvm.ClassFile.FieldType)) ∈ lw_all := lw_g (lw_at lw_m5 15 rfl) rfl
theorem q1014 : (Jvm.Cond.methodLink "TaleDuel$Search" (3 : Nat) ({ cls := "java/lang/Object", name := "<init>", desc := "()V" } : Jvm.MethodName)) ∈ lw_all := lw_g (lw_at lw_m5 16 rfl) rfl
theorem q1015 : (Jvm.Cond.methodLink "TaleDuel$Search" (25 : Nat) ({ cls := "TaleDuel$Duel", name := "memory", desc := "()I" } : Jvm.MethodName)) ∈ lw_all := lw_g (lw_at lw_m5 17 rfl) rfl
theorem q1020 : (Jvm.Cond.methodLinkNest "TaleDuel$Search" (31 : Nat) ({ cls := "TaleDuel$Duel", name := "worth", desc := "(II)I" } : Jvm.MethodName) "TaleDuel") ∈ lw_tbl := lw_at lw_m5 22 rfl
theorem q1029 : (Jvm.Cond.methodLink "TaleDuel$Search" (34 : Nat) ({ cls := "TaleDuel$Search", name := "go", desc := "(IIII)V" } : Jvm.MethodName)) ∈ lw_all := lw_g (lw_at lw_m5 31 rfl) rfl
theorem q1030 : (Jvm.Cond.privateMethod ({ cls := "TaleDuel$Search", name := "go", desc := "(IIII)V" } : Jvm.MethodName)) ∈ lw_tbl := lw_at lw_m5 32 rfl
theorem q1031 : (Jvm.Cond.instanceMethod ({ cls := "TaleDuel$Search", name := "go", desc := "(IIII)V" } : Jvm.MethodName)) ∈ lw_all := lw_g (lw_at lw_m5 33 rfl) rfl
theorem q1032 : (Jvm.Cond.code ({ cls := "TaleDuel$Search", name := "go", desc := "(IIII)V" } : Jvm.MethodName) prog_5_method_2_code (7 : Nat) (Option.none : Option Jvm.ClassFile.FieldType)) ∈ lw_all := lw_g (lw_at lw_m5 34 rfl) rfl
theorem q1033 : (Jvm.Cond.methodLink "TaleDuel$Search" (38 : Nat) ({ cls := "TaleDuel$Grammar", name := "isEnd", desc := "(I)Z" } : Jvm.MethodName)) ∈ lw_all := lw_g (lw_at lw_m5 35 rfl) rfl
theorem q1034 : (Jvm.Cond.methodLink "TaleDuel$Search" (44 : Nat) ({ cls := "TaleDuel$Search", name := "sentence", desc := "(I)LTaleDuel$Sentence;" } : Jvm.MethodName)) ∈ lw_all := lw_g (lw_at lw_m5 36 rfl) rfl
theorem q1035 : (Jvm.Cond.privateMethod ({ cls := "TaleDuel$Search", name := "sentence", desc := "(I)LTaleDuel$Sentence;" } : Jvm.MethodName)) ∈ lw_tbl := lw_at lw_m5 37 rfl
theorem q1036 : (Jvm.Cond.instanceMethod ({ cls := "TaleDuel$Search", name := "sentence", desc := "(I)LTaleDuel$Sentence;" } : Jvm.MethodName)) ∈ lw_all := lw_g (lw_at lw_m5 38 rfl) rfl
theorem q1037 : (Jvm.Cond.code ({ cls := "TaleDuel$Search", name := "sentence", desc := "(I)LTaleDuel$Sentence;" } : Jvm.MethodName) prog_5_method_4_code (5 : Nat) (Option.some (Jvm.ClassFile.FieldType.object "TaleDuel$Sentence"))) ∈ lw_all := lw_g (lw_at lw_m5 39 rfl) rfl
theorem q1038 : (Jvm.Cond.classLink "TaleDuel$Search" (62 : Nat) "TaleDuel$Sentence") ∈ lw_all := lw_g (lw_at lw_m5 40 rfl) rfl
theorem q1039 : (Jvm.Cond.methodLinkNest "TaleDuel$Search" (64 : Nat) ({ cls := "TaleDuel$Sentence", name := "<init>", desc := "()V" } : Jvm.MethodName) "TaleDuel") ∈ lw_tbl := lw_at lw_m5 41 rfl
theorem q1040 : (Jvm.Cond.methodLink "TaleDuel$Search" (65 : Nat) ({ cls := "TaleDuel$Sentence", name := "add", desc := "(C)I" } : Jvm.MethodName)) ∈ lw_all := lw_g (lw_at lw_m5 42 rfl) rfl
theorem q1044 : (Jvm.Cond.methodLink "TaleDuel$Search" (52 : Nat) ({ cls := "TaleDuel$Grammar", name := "next", desc := "(II)I" } : Jvm.MethodName)) ∈ lw_all := lw_g (lw_at lw_m5 46 rfl) rfl
theorem q1045 : (Jvm.Cond.methodLinkNest "TaleDuel$Search" (55 : Nat) ({ cls := "TaleDuel", name := "has", desc := "(II)Z" } : Jvm.MethodName) "TaleDuel") ∈ lw_tbl := lw_at lw_m5 47 rfl
theorem q1046 : (Jvm.Cond.methodLink "TaleDuel$Search" (59 : Nat) ({ cls := "TaleDuel$Search", name := "isUsed", desc := "(II)Z" } : Jvm.MethodName)) ∈ lw_all := lw_g (lw_at lw_m5 48 rfl) rfl
theorem q1047 : (Jvm.Cond.privateMethod ({ cls := "TaleDuel$Search", name := "isUsed", desc := "(II)Z" } : Jvm.MethodName)) ∈ lw_tbl := lw_at lw_m5 49 rfl
theorem q1048 : (Jvm.Cond.instanceMethod ({ cls := "TaleDuel$Search", name := "isUsed", desc := "(II)Z" } : Jvm.MethodName)) ∈ lw_all := lw_g (lw_at lw_m5 50 rfl) rfl
theorem q1049 : (Jvm.Cond.code ({ cls := "TaleDuel$Search", name := "isUsed", desc := "(II)Z" } : Jvm.MethodName) prog_5_method_3_code (5 : Nat) (Option.some Jvm.ClassFile.FieldType.boolean)) ∈ lw_all := lw_g (lw_at lw_m5 51 rfl) rfl
theorem q1050 : (Jvm.Cond.fieldLink "TaleDuel$Search" (9 : Nat) "TaleDuel$Search" "worth" "[I") ∈ lw_all := lw_g (lw_at lw_m5 52 rfl) rfl
theorem q1051 : (Jvm.Cond.fieldLink "TaleDuel$Search" (15 : Nat) "TaleDuel$Search" "words" "[I") ∈ lw_all := lw_g (lw_at lw_m5 53 rfl) rfl
theorem q1052 : (Jvm.Cond.fieldLink "TaleDuel$Search" (22 : Nat) "TaleDuel$Search" "bans" "I") ∈ lw_all := lw_g (lw_at lw_m5 54 rfl) rfl
theorem q1053 : (Jvm.Cond.fieldLink "TaleDuel$Search" (18 : Nat) "TaleDuel$Search" "points" "I") ∈ lw_all := lw_g (lw_at lw_m5 55 rfl) rfl
theorem q1056 : (Jvm.Cond.fieldLink "TaleDuel$Search" (48 : Nat) "TaleDuel$Search" "best" "LTaleDuel$Sentence;") ∈ lw_all := lw_g (lw_at lw_m5 58 rfl) rfl
theorem q1059 : (Jvm.Cond.laysFinal "TaleDuel$Search" "TaleDuel$Search" "worth" "[I") ∈ lw_all := lw_g (lw_at lw_m5 61 rfl) rfl
theorem q1060 : (Jvm.Cond.soleField "TaleDuel$Search" "worth") ∈ lw_all := lw_g (lw_at lw_m5 62 rfl) rfl
theorem q1061 : (Jvm.Cond.laysFinal "TaleDuel$Search" "TaleDuel$Search" "words" "[I") ∈ lw_all := lw_g (lw_at lw_m5 63 rfl) rfl
theorem q1062 : (Jvm.Cond.soleField "TaleDuel$Search" "words") ∈ lw_all := lw_g (lw_at lw_m5 64 rfl) rfl
theorem q1063 : (Jvm.Cond.laysFinal "TaleDuel$Search" "TaleDuel$Search" "bans" "I") ∈ lw_all := lw_g (lw_at lw_m5 65 rfl) rfl
theorem q1064 : (Jvm.Cond.soleField "TaleDuel$Search" "bans") ∈ lw_all := lw_g (lw_at lw_m5 66 rfl) rfl
theorem q1065 : (Jvm.Cond.lays "TaleDuel$Search" "TaleDuel$Search" "points" "I") ∈ lw_all := lw_g (lw_at lw_m5 67 rfl) rfl
theorem q1066 : (Jvm.Cond.soleField "TaleDuel$Search" "points") ∈ lw_all := lw_g (lw_at lw_m5 68 rfl) rfl
theorem q1067 : (Jvm.Cond.lays "TaleDuel$Search" "TaleDuel$Search" "best" "LTaleDuel$Sentence;") ∈ lw_all := lw_g (lw_at lw_m5 69 rfl) rfl
theorem q1068 : (Jvm.Cond.soleField "TaleDuel$Search" "best") ∈ lw_all := lw_g (lw_at lw_m5 70 rfl) rfl
theorem q1069 : (Jvm.Cond.superclass "TaleDuel$Search" "java/lang/Object") ∈ lw_all := lw_g (lw_at lw_m5 71 rfl) rfl
theorem q1801 : (Jvm.Cond.castable "TaleDuel$Search" "java/lang/Object") ∈ lw_tbl := lw_at lw_m8 83 rfl
theorem in_X10 : ∀ w ∈ wsX100, w ∈ lw_all := lw_in wsX100 [1059, 1061, 1063, 1065, 1067] (by decide +kernel) (by decide +kernel)
