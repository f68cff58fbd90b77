/-! TaleDuelLaw -/
set_option maxRecDepth 100000
def RX0 : String := "TaleDuelLaw"
abbrev cX0_append : ByteArray := method_3_code
def yX0_append : MethodName := ⟨RX0, "append", "(LTaleDuel;I[J)I"⟩
def dkwX0_append_0 : List UInt8 := [44, 3, 42, 27, 182, 0, 7, 133, 80, 167, 0, 9, 78, 4, 172, 78, 5, 172, 3, 172]
abbrev dktX0_append_0 : List UInt8 := dkwX0_append_0 ++ []
theorem dksX0_append_0 : cX0_append.data.toList.drop 0 = dktX0_append_0 := by decide +kernel
theorem dX0_append_0 : decode cX0_append 0 = .ok (.aload_n 2, 1) := dk_44 (dk_at dksX0_append_0 0 rfl rfl)
theorem dX0_append_1 : decode cX0_append 1 = .ok (.iconst 0, 1) := dk_3 (dk_at dksX0_append_0 1 rfl rfl)
theorem dX0_append_2 : decode cX0_append 2 = .ok (.aload_n 0, 1) := dk_42 (dk_at dksX0_append_0 2 rfl rfl)
theorem dX0_append_3 : decode cX0_append 3 = .ok (.iload_n 1, 1) := dk_27 (dk_at dksX0_append_0 3 rfl rfl)
theorem dX0_append_4 : decode cX0_append 4 = .ok (.invokevirtual 7, 3) := dk_182 0 7 (dk_at dksX0_append_0 4 rfl rfl)
theorem dX0_append_7 : decode cX0_append 7 = .ok (.i2l, 1) := dk_133 (dk_at dksX0_append_0 7 rfl rfl)
theorem dX0_append_8 : decode cX0_append 8 = .ok (.lastore, 1) := dk_80 (dk_at dksX0_append_0 8 rfl rfl)
theorem dX0_append_9 : decode cX0_append 9 = .ok (.goto 9, 3) := dk_167 0 9 (dk_at dksX0_append_0 9 rfl rfl)
theorem dX0_append_12 : decode cX0_append 12 = .ok (.astore_n 3, 1) := dk_78 (dk_at dksX0_append_0 12 rfl rfl)
theorem dX0_append_13 : decode cX0_append 13 = .ok (.iconst 1, 1) := dk_4 (dk_at dksX0_append_0 13 rfl rfl)
theorem dX0_append_14 : decode cX0_append 14 = .ok (.ireturn, 1) := dk_172 (dk_at dksX0_append_0 14 rfl rfl)
theorem dX0_append_15 : decode cX0_append 15 = .ok (.astore_n 3, 1) := dk_78 (dk_at dksX0_append_0 15 rfl rfl)
theorem dX0_append_16 : decode cX0_append 16 = .ok (.iconst 2, 1) := dk_5 (dk_at dksX0_append_0 16 rfl rfl)
theorem dX0_append_17 : decode cX0_append 17 = .ok (.ireturn, 1) := dk_172 (dk_at dksX0_append_0 17 rfl rfl)
theorem dX0_append_18 : decode cX0_append 18 = .ok (.iconst 0, 1) := dk_3 (dk_at dksX0_append_0 18 rfl rfl)
theorem dX0_append_19 : decode cX0_append 19 = .ok (.ireturn, 1) := dk_172 (dk_at dksX0_append_0 19 rfl rfl)
abbrev cX0_about : ByteArray := method_4_code
def yX0_about : MethodName := ⟨RX0, "about", "(LTaleDuel;I[J)I"⟩
def dkwX0_about_0 : List UInt8 := [44, 3, 42, 27, 182, 0, 17, 133, 80, 167, 0, 6, 78, 4, 172, 3, 172]
abbrev dktX0_about_0 : List UInt8 := dkwX0_about_0 ++ []
theorem dksX0_about_0 : cX0_about.data.toList.drop 0 = dktX0_about_0 := by decide +kernel
theorem dX0_about_0 : decode cX0_about 0 = .ok (.aload_n 2, 1) := dk_44 (dk_at dksX0_about_0 0 rfl rfl)
theorem dX0_about_1 : decode cX0_about 1 = .ok (.iconst 0, 1) := dk_3 (dk_at dksX0_about_0 1 rfl rfl)
theorem dX0_about_2 : decode cX0_about 2 = .ok (.aload_n 0, 1) := dk_42 (dk_at dksX0_about_0 2 rfl rfl)
theorem dX0_about_3 : decode cX0_about 3 = .ok (.iload_n 1, 1) := dk_27 (dk_at dksX0_about_0 3 rfl rfl)
theorem dX0_about_4 : decode cX0_about 4 = .ok (.invokevirtual 17, 3) := dk_182 0 17 (dk_at dksX0_about_0 4 rfl rfl)
theorem dX0_about_7 : decode cX0_about 7 = .ok (.i2l, 1) := dk_133 (dk_at dksX0_about_0 7 rfl rfl)
theorem dX0_about_8 : decode cX0_about 8 = .ok (.lastore, 1) := dk_80 (dk_at dksX0_about_0 8 rfl rfl)
theorem dX0_about_9 : decode cX0_about 9 = .ok (.goto 6, 3) := dk_167 0 6 (dk_at dksX0_about_0 9 rfl rfl)
theorem dX0_about_12 : decode cX0_about 12 = .ok (.astore_n 3, 1) := dk_78 (dk_at dksX0_about_0 12 rfl rfl)
theorem dX0_about_13 : decode cX0_about 13 = .ok (.iconst 1, 1) := dk_4 (dk_at dksX0_about_0 13 rfl rfl)
theorem dX0_about_14 : decode cX0_about 14 = .ok (.ireturn, 1) := dk_172 (dk_at dksX0_about_0 14 rfl rfl)
theorem dX0_about_15 : decode cX0_about 15 = .ok (.iconst 0, 1) := dk_3 (dk_at dksX0_about_0 15 rfl rfl)
theorem dX0_about_16 : decode cX0_about 16 = .ok (.ireturn, 1) := dk_172 (dk_at dksX0_about_0 16 rfl rfl)
abbrev cX0_teller : ByteArray := method_5_code
def yX0_teller : MethodName := ⟨RX0, "teller", "(LTaleDuel;II[J)I"⟩
def dkwX0_teller_0 : List UInt8 := [45, 3, 42, 27, 28, 182, 0, 20, 133, 80, 167, 0, 11, 58, 4, 4, 172, 58, 4, 5, 172, 3, 172]
abbrev dktX0_teller_0 : List UInt8 := dkwX0_teller_0 ++ []
theorem dksX0_teller_0 : cX0_teller.data.toList.drop 0 = dktX0_teller_0 := by decide +kernel
theorem dX0_teller_0 : decode cX0_teller 0 = .ok (.aload_n 3, 1) := dk_45 (dk_at dksX0_teller_0 0 rfl rfl)
theorem dX0_teller_1 : decode cX0_teller 1 = .ok (.iconst 0, 1) := dk_3 (dk_at dksX0_teller_0 1 rfl rfl)
theorem dX0_teller_2 : decode cX0_teller 2 = .ok (.aload_n 0, 1) := dk_42 (dk_at dksX0_teller_0 2 rfl rfl)
theorem dX0_teller_3 : decode cX0_teller 3 = .ok (.iload_n 1, 1) := dk_27 (dk_at dksX0_teller_0 3 rfl rfl)
theorem dX0_teller_4 : decode cX0_teller 4 = .ok (.iload_n 2, 1) := dk_28 (dk_at dksX0_teller_0 4 rfl rfl)
theorem dX0_teller_5 : decode cX0_teller 5 = .ok (.invokevirtual 20, 3) := dk_182 0 20 (dk_at dksX0_teller_0 5 rfl rfl)
theorem dX0_teller_8 : decode cX0_teller 8 = .ok (.i2l, 1) := dk_133 (dk_at dksX0_teller_0 8 rfl rfl)
theorem dX0_teller_9 : decode cX0_teller 9 = .ok (.lastore, 1) := dk_80 (dk_at dksX0_teller_0 9 rfl rfl)
theorem dX0_teller_10 : decode cX0_teller 10 = .ok (.goto 11, 3) := dk_167 0 11 (dk_at dksX0_teller_0 10 rfl rfl)
theorem dX0_teller_13 : decode cX0_teller 13 = .ok (.astore 4, 2) := dk_58 4 (dk_at dksX0_teller_0 13 rfl rfl)
theorem dX0_teller_15 : decode cX0_teller 15 = .ok (.iconst 1, 1) := dk_4 (dk_at dksX0_teller_0 15 rfl rfl)
theorem dX0_teller_16 : decode cX0_teller 16 = .ok (.ireturn, 1) := dk_172 (dk_at dksX0_teller_0 16 rfl rfl)
theorem dX0_teller_17 : decode cX0_teller 17 = .ok (.astore 4, 2) := dk_58 4 (dk_at dksX0_teller_0 17 rfl rfl)
theorem dX0_teller_19 : decode cX0_teller 19 = .ok (.iconst 2, 1) := dk_5 (dk_at dksX0_teller_0 19 rfl rfl)
theorem dX0_teller_20 : decode cX0_teller 20 = .ok (.ireturn, 1) := dk_172 (dk_at dksX0_teller_0 20 rfl rfl)
theorem dX0_teller_21 : decode cX0_teller 21 = .ok (.iconst 0, 1) := dk_3 (dk_at dksX0_teller_0 21 rfl rfl)
theorem dX0_teller_22 : decode cX0_teller 22 = .ok (.ireturn, 1) := dk_172 (dk_at dksX0_teller_0 22 rfl rfl)
abbrev cX0_forbidden : ByteArray := method_6_code
def yX0_forbidden : MethodName := ⟨RX0, "forbidden", "(LTaleDuel;II[J)I"⟩
def dkwX0_forbidden_0 : List UInt8 := [45, 3, 42, 27, 28, 182, 0, 26, 133, 80, 167, 0, 11, 58, 4, 4, 172, 58, 4, 5, 172, 3, 172]
abbrev dktX0_forbidden_0 : List UInt8 := dkwX0_forbidden_0 ++ []
theorem dksX0_forbidden_0 : cX0_forbidden.data.toList.drop 0 = dktX0_forbidden_0 := by decide +kernel
theorem dX0_forbidden_0 : decode cX0_forbidden 0 = .ok (.aload_n 3, 1) := dk_45 (dk_at dksX0_forbidden_0 0 rfl rfl)
theorem dX0_forbidden_1 : decode cX0_forbidden 1 = .ok (.iconst 0, 1) := dk_3 (dk_at dksX0_forbidden_0 1 rfl rfl)
theorem dX0_forbidden_2 : decode cX0_forbidden 2 = .ok (.aload_n 0, 1) := dk_42 (dk_at dksX0_forbidden_0 2 rfl rfl)
theorem dX0_forbidden_3 : decode cX0_forbidden 3 = .ok (.iload_n 1, 1) := dk_27 (dk_at dksX0_forbidden_0 3 rfl rfl)
theorem dX0_forbidden_4 : decode cX0_forbidden 4 = .ok (.iload_n 2, 1) := dk_28 (dk_at dksX0_forbidden_0 4 rfl rfl)
theorem dX0_forbidden_5 : decode cX0_forbidden 5 = .ok (.invokevirtual 26, 3) := dk_182 0 26 (dk_at dksX0_forbidden_0 5 rfl rfl)
theorem dX0_forbidden_8 : decode cX0_forbidden 8 = .ok (.i2l, 1) := dk_133 (dk_at dksX0_forbidden_0 8 rfl rfl)
theorem dX0_forbidden_9 : decode cX0_forbidden 9 = .ok (.lastore, 1) := dk_80 (dk_at dksX0_forbidden_0 9 rfl rfl)
theorem dX0_forbidden_10 : decode cX0_forbidden 10 = .ok (.goto 11, 3) := dk_167 0 11 (dk_at dksX0_forbidden_0 10 rfl rfl)
theorem dX0_forbidden_13 : decode cX0_forbidden 13 = .ok (.astore 4, 2) := dk_58 4 (dk_at dksX0_forbidden_0 13 rfl rfl)
theorem dX0_forbidden_15 : decode cX0_forbidden 15 = .ok (.iconst 1, 1) := dk_4 (dk_at dksX0_forbidden_0 15 rfl rfl)
theorem dX0_forbidden_16 : decode cX0_forbidden 16 = .ok (.ireturn, 1) := dk_172 (dk_at dksX0_forbidden_0 16 rfl rfl)
theorem dX0_forbidden_17 : decode cX0_forbidden 17 = .ok (.astore 4, 2) := dk_58 4 (dk_at dksX0_forbidden_0 17 rfl rfl)
theorem dX0_forbidden_19 : decode cX0_forbidden 19 = .ok (.iconst 2, 1) := dk_5 (dk_at dksX0_forbidden_0 19 rfl rfl)
theorem dX0_forbidden_20 : decode cX0_forbidden 20 = .ok (.ireturn, 1) := dk_172 (dk_at dksX0_forbidden_0 20 rfl rfl)
theorem dX0_forbidden_21 : decode cX0_forbidden 21 = .ok (.iconst 0, 1) := dk_3 (dk_at dksX0_forbidden_0 21 rfl rfl)
theorem dX0_forbidden_22 : decode cX0_forbidden 22 = .ok (.ireturn, 1) := dk_172 (dk_at dksX0_forbidden_0 22 rfl rfl)
abbrev cX0_listener : ByteArray := method_7_code
def yX0_listener : MethodName := ⟨RX0, "listener", "(LTaleDuel;II[J)I"⟩
def dkwX0_listener_0 : List UInt8 := [45, 3, 42, 27, 28, 182, 0, 29, 133, 80, 167, 0, 11, 58, 4, 4, 172, 58, 4, 5, 172, 3, 172]
abbrev dktX0_listener_0 : List UInt8 := dkwX0_listener_0 ++ []
theorem dksX0_listener_0 : cX0_listener.data.toList.drop 0 = dktX0_listener_0 := by decide +kernel
theorem dX0_listener_0 : decode cX0_listener 0 = .ok (.aload_n 3, 1) := dk_45 (dk_at dksX0_listener_0 0 rfl rfl)
theorem dX0_listener_1 : decode cX0_listener 1 = .ok (.iconst 0, 1) := dk_3 (dk_at dksX0_listener_0 1 rfl rfl)
theorem dX0_listener_2 : decode cX0_listener 2 = .ok (.aload_n 0, 1) := dk_42 (dk_at dksX0_listener_0 2 rfl rfl)
theorem dX0_listener_3 : decode cX0_listener 3 = .ok (.iload_n 1, 1) := dk_27 (dk_at dksX0_listener_0 3 rfl rfl)
theorem dX0_listener_4 : decode cX0_listener 4 = .ok (.iload_n 2, 1) := dk_28 (dk_at dksX0_listener_0 4 rfl rfl)
theorem dX0_listener_5 : decode cX0_listener 5 = .ok (.invokevirtual 29, 3) := dk_182 0 29 (dk_at dksX0_listener_0 5 rfl rfl)
theorem dX0_listener_8 : decode cX0_listener 8 = .ok (.i2l, 1) := dk_133 (dk_at dksX0_listener_0 8 rfl rfl)
theorem dX0_listener_9 : decode cX0_listener 9 = .ok (.lastore, 1) := dk_80 (dk_at dksX0_listener_0 9 rfl rfl)
theorem dX0_listener_10 : decode cX0_listener 10 = .ok (.goto 11, 3) := dk_167 0 11 (dk_at dksX0_listener_0 10 rfl rfl)
theorem dX0_listener_13 : decode cX0_listener 13 = .ok (.astore 4, 2) := dk_58 4 (dk_at dksX0_listener_0 13 rfl rfl)
theorem dX0_listener_15 : decode cX0_listener 15 = .ok (.iconst 1, 1) := dk_4 (dk_at dksX0_listener_0 15 rfl rfl)
theorem dX0_listener_16 : decode cX0_listener 16 = .ok (.ireturn, 1) := dk_172 (dk_at dksX0_listener_0 16 rfl rfl)
theorem dX0_listener_17 : decode cX0_listener 17 = .ok (.astore 4, 2) := dk_58 4 (dk_at dksX0_listener_0 17 rfl rfl)
theorem dX0_listener_19 : decode cX0_listener 19 = .ok (.iconst 2, 1) := dk_5 (dk_at dksX0_listener_0 19 rfl rfl)
theorem dX0_listener_20 : decode cX0_listener 20 = .ok (.ireturn, 1) := dk_172 (dk_at dksX0_listener_0 20 rfl rfl)
theorem dX0_listener_21 : decode cX0_listener 21 = .ok (.iconst 0, 1) := dk_3 (dk_at dksX0_listener_0 21 rfl rfl)
theorem dX0_listener_22 : decode cX0_listener 22 = .ok (.ireturn, 1) := dk_172 (dk_at dksX0_listener_0 22 rfl rfl)
abbrev cX0_told : ByteArray := method_8_code
def yX0_told : MethodName := ⟨RX0, "told", "(LTaleDuel;II[J)I"⟩
def dkwX0_told_0 : List UInt8 := [45, 3, 42, 27, 28, 182, 0, 32, 133, 80, 167, 0, 7, 58, 4, 4, 172, 3, 172]
abbrev dktX0_told_0 : List UInt8 := dkwX0_told_0 ++ []
theorem dksX0_told_0 : cX0_told.data.toList.drop 0 = dktX0_told_0 := by decide +kernel
theorem dX0_told_0 : decode cX0_told 0 = .ok (.aload_n 3, 1) := dk_45 (dk_at dksX0_told_0 0 rfl rfl)
theorem dX0_told_1 : decode cX0_told 1 = .ok (.iconst 0, 1) := dk_3 (dk_at dksX0_told_0 1 rfl rfl)
theorem dX0_told_2 : decode cX0_told 2 = .ok (.aload_n 0, 1) := dk_42 (dk_at dksX0_told_0 2 rfl rfl)
theorem dX0_told_3 : decode cX0_told 3 = .ok (.iload_n 1, 1) := dk_27 (dk_at dksX0_told_0 3 rfl rfl)
theorem dX0_told_4 : decode cX0_told 4 = .ok (.iload_n 2, 1) := dk_28 (dk_at dksX0_told_0 4 rfl rfl)
theorem dX0_told_5 : decode cX0_told 5 = .ok (.invokevirtual 32, 3) := dk_182 0 32 (dk_at dksX0_told_0 5 rfl rfl)
theorem dX0_told_8 : decode cX0_told 8 = .ok (.i2l, 1) := dk_133 (dk_at dksX0_told_0 8 rfl rfl)
theorem dX0_told_9 : decode cX0_told 9 = .ok (.lastore, 1) := dk_80 (dk_at dksX0_told_0 9 rfl rfl)
theorem dX0_told_10 : decode cX0_told 10 = .ok (.goto 7, 3) := dk_167 0 7 (dk_at dksX0_told_0 10 rfl rfl)
theorem dX0_told_13 : decode cX0_told 13 = .ok (.astore 4, 2) := dk_58 4 (dk_at dksX0_told_0 13 rfl rfl)
theorem dX0_told_15 : decode cX0_told 15 = .ok (.iconst 1, 1) := dk_4 (dk_at dksX0_told_0 15 rfl rfl)
theorem dX0_told_16 : decode cX0_told 16 = .ok (.ireturn, 1) := dk_172 (dk_at dksX0_told_0 16 rfl rfl)
theorem dX0_told_17 : decode cX0_told 17 = .ok (.iconst 0, 1) := dk_3 (dk_at dksX0_told_0 17 rfl rfl)
theorem dX0_told_18 : decode cX0_told 18 = .ok (.ireturn, 1) := dk_172 (dk_at dksX0_told_0 18 rfl rfl)
abbrev cX0_setting : ByteArray := method_9_code
def yX0_setting : MethodName := ⟨RX0, "setting", "(LTaleDuel;I[J)I"⟩
def dkwX0_setting_0 : List UInt8 := [44, 3, 42, 27, 182, 0, 35, 133, 80, 167, 0, 6, 78, 4, 172, 3, 172]
abbrev dktX0_setting_0 : List UInt8 := dkwX0_setting_0 ++ []
theorem dksX0_setting_0 : cX0_setting.data.toList.drop 0 = dktX0_setting_0 := by decide +kernel
theorem dX0_setting_0 : decode cX0_setting 0 = .ok (.aload_n 2, 1) := dk_44 (dk_at dksX0_setting_0 0 rfl rfl)
theorem dX0_setting_1 : decode cX0_setting 1 = .ok (.iconst 0, 1) := dk_3 (dk_at dksX0_setting_0 1 rfl rfl)
theorem dX0_setting_2 : decode cX0_setting 2 = .ok (.aload_n 0, 1) := dk_42 (dk_at dksX0_setting_0 2 rfl rfl)
theorem dX0_setting_3 : decode cX0_setting 3 = .ok (.iload_n 1, 1) := dk_27 (dk_at dksX0_setting_0 3 rfl rfl)
theorem dX0_setting_4 : decode cX0_setting 4 = .ok (.invokevirtual 35, 3) := dk_182 0 35 (dk_at dksX0_setting_0 4 rfl rfl)
theorem dX0_setting_7 : decode cX0_setting 7 = .ok (.i2l, 1) := dk_133 (dk_at dksX0_setting_0 7 rfl rfl)
theorem dX0_setting_8 : decode cX0_setting 8 = .ok (.lastore, 1) := dk_80 (dk_at dksX0_setting_0 8 rfl rfl)
theorem dX0_setting_9 : decode cX0_setting 9 = .ok (.goto 6, 3) := dk_167 0 6 (dk_at dksX0_setting_0 9 rfl rfl)
theorem dX0_setting_12 : decode cX0_setting 12 = .ok (.astore_n 3, 1) := dk_78 (dk_at dksX0_setting_0 12 rfl rfl)
theorem dX0_setting_13 : decode cX0_setting 13 = .ok (.iconst 1, 1) := dk_4 (dk_at dksX0_setting_0 13 rfl rfl)
theorem dX0_setting_14 : decode cX0_setting 14 = .ok (.ireturn, 1) := dk_172 (dk_at dksX0_setting_0 14 rfl rfl)
theorem dX0_setting_15 : decode cX0_setting 15 = .ok (.iconst 0, 1) := dk_3 (dk_at dksX0_setting_0 15 rfl rfl)
theorem dX0_setting_16 : decode cX0_setting 16 = .ok (.ireturn, 1) := dk_172 (dk_at dksX0_setting_0 16 rfl rfl)
abbrev cX0_tell : ByteArray := method_10_code
def yX0_tell : MethodName := ⟨RX0, "tell", "(LTaleDuel;[J)I"⟩
def dkwX0_tell_0 : List UInt8 := [43, 3, 42, 182, 0, 38, 133, 80, 167, 0, 6, 77, 4, 172, 3, 172]
abbrev dktX0_tell_0 : List UInt8 := dkwX0_tell_0 ++ []
theorem dksX0_tell_0 : cX0_tell.data.toList.drop 0 = dktX0_tell_0 := by decide +kernel
theorem dX0_tell_0 : decode cX0_tell 0 = .ok (.aload_n 1, 1) := dk_43 (dk_at dksX0_tell_0 0 rfl rfl)
theorem dX0_tell_1 : decode cX0_tell 1 = .ok (.iconst 0, 1) := dk_3 (dk_at dksX0_tell_0 1 rfl rfl)
theorem dX0_tell_2 : decode cX0_tell 2 = .ok (.aload_n 0, 1) := dk_42 (dk_at dksX0_tell_0 2 rfl rfl)
theorem dX0_tell_3 : decode cX0_tell 3 = .ok (.invokevirtual 38, 3) := dk_182 0 38 (dk_at dksX0_tell_0 3 rfl rfl)
theorem dX0_tell_6 : decode cX0_tell 6 = .ok (.i2l, 1) := dk_133 (dk_at dksX0_tell_0 6 rfl rfl)
theorem dX0_tell_7 : decode cX0_tell 7 = .ok (.lastore, 1) := dk_80 (dk_at dksX0_tell_0 7 rfl rfl)
theorem dX0_tell_8 : decode cX0_tell 8 = .ok (.goto 6, 3) := dk_167 0 6 (dk_at dksX0_tell_0 8 rfl rfl)
theorem dX0_tell_11 : decode cX0_tell 11 = .ok (.astore_n 2, 1) := dk_77 (dk_at dksX0_tell_0 11 rfl rfl)
theorem dX0_tell_12 : decode cX0_tell 12 = .ok (.iconst 1, 1) := dk_4 (dk_at dksX0_tell_0 12 rfl rfl)
theorem dX0_tell_13 : decode cX0_tell 13 = .ok (.ireturn, 1) := dk_172 (dk_at dksX0_tell_0 13 rfl rfl)
theorem dX0_tell_14 : decode cX0_tell 14 = .ok (.iconst 0, 1) := dk_3 (dk_at dksX0_tell_0 14 rfl rfl)
theorem dX0_tell_15 : decode cX0_tell 15 = .ok (.ireturn, 1) := dk_172 (dk_at dksX0_tell_0 15 rfl rfl)
abbrev cX0_forbid : ByteArray := method_11_code
def yX0_forbid : MethodName := ⟨RX0, "forbid", "(LTaleDuel;I[J)I"⟩
def dkwX0_forbid_0 : List UInt8 := [44, 3, 42, 27, 182, 0, 42, 133, 80, 167, 0, 9, 78, 4, 172, 78, 5, 172, 3, 172]
abbrev dktX0_forbid_0 : List UInt8 := dkwX0_forbid_0 ++ []
theorem dksX0_forbid_0 : cX0_forbid.data.toList.drop 0 = dktX0_forbid_0 := by decide +kernel
theorem dX0_forbid_0 : decode cX0_forbid 0 = .ok (.aload_n 2, 1) := dk_44 (dk_at dksX0_forbid_0 0 rfl rfl)
theorem dX0_forbid_1 : decode cX0_forbid 1 = .ok (.iconst 0, 1) := dk_3 (dk_at dksX0_forbid_0 1 rfl rfl)
theorem dX0_forbid_2 : decode cX0_forbid 2 = .ok (.aload_n 0, 1) := dk_42 (dk_at dksX0_forbid_0 2 rfl rfl)
theorem dX0_forbid_3 : decode cX0_forbid 3 = .ok (.iload_n 1, 1) := dk_27 (dk_at dksX0_forbid_0 3 rfl rfl)
theorem dX0_forbid_4 : decode cX0_forbid 4 = .ok (.invokevirtual 42, 3) := dk_182 0 42 (dk_at dksX0_forbid_0 4 rfl rfl)
theorem dX0_forbid_7 : decode cX0_forbid 7 = .ok (.i2l, 1) := dk_133 (dk_at dksX0_forbid_0 7 rfl rfl)
theorem dX0_forbid_8 : decode cX0_forbid 8 = .ok (.lastore, 1) := dk_80 (dk_at dksX0_forbid_0 8 rfl rfl)
theorem dX0_forbid_9 : decode cX0_forbid 9 = .ok (.goto 9, 3) := dk_167 0 9 (dk_at dksX0_forbid_0 9 rfl rfl)
theorem dX0_forbid_12 : decode cX0_forbid 12 = .ok (.astore_n 3, 1) := dk_78 (dk_at dksX0_forbid_0 12 rfl rfl)
theorem dX0_forbid_13 : decode cX0_forbid 13 = .ok (.iconst 1, 1) := dk_4 (dk_at dksX0_forbid_0 13 rfl rfl)
theorem dX0_forbid_14 : decode cX0_forbid 14 = .ok (.ireturn, 1) := dk_172 (dk_at dksX0_forbid_0 14 rfl rfl)
theorem dX0_forbid_15 : decode cX0_forbid 15 = .ok (.astore_n 3, 1) := dk_78 (dk_at dksX0_forbid_0 15 rfl rfl)
theorem dX0_forbid_16 : decode cX0_forbid 16 = .ok (.iconst 2, 1) := dk_5 (dk_at dksX0_forbid_0 16 rfl rfl)
theorem dX0_forbid_17 : decode cX0_forbid 17 = .ok (.ireturn, 1) := dk_172 (dk_at dksX0_forbid_0 17 rfl rfl)
theorem dX0_forbid_18 : decode cX0_forbid 18 = .ok (.iconst 0, 1) := dk_3 (dk_at dksX0_forbid_0 18 rfl rfl)
theorem dX0_forbid_19 : decode cX0_forbid 19 = .ok (.ireturn, 1) := dk_172 (dk_at dksX0_forbid_0 19 rfl rfl)
abbrev cX0_done : ByteArray := method_12_code
def yX0_done : MethodName := ⟨RX0, "done", "(LTaleDuel;[J)I"⟩
def dkwX0_done_0 : List UInt8 := [43, 3, 42, 182, 0, 45, 133, 80, 167, 0, 6, 77, 4, 172, 3, 172]
abbrev dktX0_done_0 : List UInt8 := dkwX0_done_0 ++ []
theorem dksX0_done_0 : cX0_done.data.toList.drop 0 = dktX0_done_0 := by decide +kernel
theorem dX0_done_0 : decode cX0_done 0 = .ok (.aload_n 1, 1) := dk_43 (dk_at dksX0_done_0 0 rfl rfl)
theorem dX0_done_1 : decode cX0_done 1 = .ok (.iconst 0, 1) := dk_3 (dk_at dksX0_done_0 1 rfl rfl)
theorem dX0_done_2 : decode cX0_done 2 = .ok (.aload_n 0, 1) := dk_42 (dk_at dksX0_done_0 2 rfl rfl)
theorem dX0_done_3 : decode cX0_done 3 = .ok (.invokevirtual 45, 3) := dk_182 0 45 (dk_at dksX0_done_0 3 rfl rfl)
theorem dX0_done_6 : decode cX0_done 6 = .ok (.i2l, 1) := dk_133 (dk_at dksX0_done_0 6 rfl rfl)
theorem dX0_done_7 : decode cX0_done 7 = .ok (.lastore, 1) := dk_80 (dk_at dksX0_done_0 7 rfl rfl)
theorem dX0_done_8 : decode cX0_done 8 = .ok (.goto 6, 3) := dk_167 0 6 (dk_at dksX0_done_0 8 rfl rfl)
theorem dX0_done_11 : decode cX0_done 11 = .ok (.astore_n 2, 1) := dk_77 (dk_at dksX0_done_0 11 rfl rfl)
theorem dX0_done_12 : decode cX0_done 12 = .ok (.iconst 1, 1) := dk_4 (dk_at dksX0_done_0 12 rfl rfl)
theorem dX0_done_13 : decode cX0_done 13 = .ok (.ireturn, 1) := dk_172 (dk_at dksX0_done_0 13 rfl rfl)
theorem dX0_done_14 : decode cX0_done 14 = .ok (.iconst 0, 1) := dk_3 (dk_at dksX0_done_0 14 rfl rfl)
theorem dX0_done_15 : decode cX0_done 15 = .ok (.ireturn, 1) := dk_172 (dk_at dksX0_done_0 15 rfl rfl)
abbrev cX0_play : ByteArray := method_13_code
def yX0_play : MethodName := ⟨RX0, "play", "(LTaleDuel;[J)I"⟩
def dkwX0_play_0 : List UInt8 := [43, 3, 42, 182, 0, 48, 133, 80, 167, 0, 6, 77, 4, 172, 3, 172]
abbrev dktX0_play_0 : List UInt8 := dkwX0_play_0 ++ []
theorem dksX0_play_0 : cX0_play.data.toList.drop 0 = dktX0_play_0 := by decide +kernel
theorem dX0_play_0 : decode cX0_play 0 = .ok (.aload_n 1, 1) := dk_43 (dk_at dksX0_play_0 0 rfl rfl)
theorem dX0_play_1 : decode cX0_play 1 = .ok (.iconst 0, 1) := dk_3 (dk_at dksX0_play_0 1 rfl rfl)
theorem dX0_play_2 : decode cX0_play 2 = .ok (.aload_n 0, 1) := dk_42 (dk_at dksX0_play_0 2 rfl rfl)
theorem dX0_play_3 : decode cX0_play 3 = .ok (.invokevirtual 48, 3) := dk_182 0 48 (dk_at dksX0_play_0 3 rfl rfl)
theorem dX0_play_6 : decode cX0_play 6 = .ok (.i2l, 1) := dk_133 (dk_at dksX0_play_0 6 rfl rfl)
theorem dX0_play_7 : decode cX0_play 7 = .ok (.lastore, 1) := dk_80 (dk_at dksX0_play_0 7 rfl rfl)
theorem dX0_play_8 : decode cX0_play 8 = .ok (.goto 6, 3) := dk_167 0 6 (dk_at dksX0_play_0 8 rfl rfl)
theorem dX0_play_11 : decode cX0_play 11 = .ok (.astore_n 2, 1) := dk_77 (dk_at dksX0_play_0 11 rfl rfl)
theorem dX0_play_12 : decode cX0_play 12 = .ok (.iconst 1, 1) := dk_4 (dk_at dksX0_play_0 12 rfl rfl)
theorem dX0_play_13 : decode cX0_play 13 = .ok (.ireturn, 1) := dk_172 (dk_at dksX0_play_0 13 rfl rfl)
theorem dX0_play_14 : decode cX0_play 14 = .ok (.iconst 0, 1) := dk_3 (dk_at dksX0_play_0 14 rfl rfl)
theorem dX0_play_15 : decode cX0_play 15 = .ok (.ireturn, 1) := dk_172 (dk_at dksX0_play_0 15 rfl rfl)
abbrev cX0_set : ByteArray := method_14_code
def yX0_set : MethodName := ⟨RX0, "set", "(LTaleDuel;II[J)I"⟩
def dkwX0_set_0 : List UInt8 := [45, 3, 42, 27, 28, 182, 0, 51, 133, 80, 167, 0, 7, 58, 4, 4, 172, 3, 172]
abbrev dktX0_set_0 : List UInt8 := dkwX0_set_0 ++ []
theorem dksX0_set_0 : cX0_set.data.toList.drop 0 = dktX0_set_0 := by decide +kernel
theorem dX0_set_0 : decode cX0_set 0 = .ok (.aload_n 3, 1) := dk_45 (dk_at dksX0_set_0 0 rfl rfl)
theorem dX0_set_1 : decode cX0_set 1 = .ok (.iconst 0, 1) := dk_3 (dk_at dksX0_set_0 1 rfl rfl)
theorem dX0_set_2 : decode cX0_set 2 = .ok (.aload_n 0, 1) := dk_42 (dk_at dksX0_set_0 2 rfl rfl)
theorem dX0_set_3 : decode cX0_set 3 = .ok (.iload_n 1, 1) := dk_27 (dk_at dksX0_set_0 3 rfl rfl)
theorem dX0_set_4 : decode cX0_set 4 = .ok (.iload_n 2, 1) := dk_28 (dk_at dksX0_set_0 4 rfl rfl)
theorem dX0_set_5 : decode cX0_set 5 = .ok (.invokevirtual 51, 3) := dk_182 0 51 (dk_at dksX0_set_0 5 rfl rfl)
theorem dX0_set_8 : decode cX0_set 8 = .ok (.i2l, 1) := dk_133 (dk_at dksX0_set_0 8 rfl rfl)
theorem dX0_set_9 : decode cX0_set 9 = .ok (.lastore, 1) := dk_80 (dk_at dksX0_set_0 9 rfl rfl)
theorem dX0_set_10 : decode cX0_set 10 = .ok (.goto 7, 3) := dk_167 0 7 (dk_at dksX0_set_0 10 rfl rfl)
theorem dX0_set_13 : decode cX0_set 13 = .ok (.astore 4, 2) := dk_58 4 (dk_at dksX0_set_0 13 rfl rfl)
theorem dX0_set_15 : decode cX0_set 15 = .ok (.iconst 1, 1) := dk_4 (dk_at dksX0_set_0 15 rfl rfl)
theorem dX0_set_16 : decode cX0_set 16 = .ok (.ireturn, 1) := dk_172 (dk_at dksX0_set_0 16 rfl rfl)
theorem dX0_set_17 : decode cX0_set 17 = .ok (.iconst 0, 1) := dk_3 (dk_at dksX0_set_0 17 rfl rfl)
theorem dX0_set_18 : decode cX0_set 18 = .ok (.ireturn, 1) := dk_172 (dk_at dksX0_set_0 18 rfl rfl)
abbrev cX0_undo : ByteArray := method_15_code
def yX0_undo : MethodName := ⟨RX0, "undo", "(LTaleDuel;[J)I"⟩
def dkwX0_undo_0 : List UInt8 := [43, 3, 42, 182, 0, 54, 133, 80, 167, 0, 6, 77, 4, 172, 3, 172]
abbrev dktX0_undo_0 : List UInt8 := dkwX0_undo_0 ++ []
theorem dksX0_undo_0 : cX0_undo.data.toList.drop 0 = dktX0_undo_0 := by decide +kernel
theorem dX0_undo_0 : decode cX0_undo 0 = .ok (.aload_n 1, 1) := dk_43 (dk_at dksX0_undo_0 0 rfl rfl)
theorem dX0_undo_1 : decode cX0_undo 1 = .ok (.iconst 0, 1) := dk_3 (dk_at dksX0_undo_0 1 rfl rfl)
theorem dX0_undo_2 : decode cX0_undo 2 = .ok (.aload_n 0, 1) := dk_42 (dk_at dksX0_undo_0 2 rfl rfl)
theorem dX0_undo_3 : decode cX0_undo 3 = .ok (.invokevirtual 54, 3) := dk_182 0 54 (dk_at dksX0_undo_0 3 rfl rfl)
theorem dX0_undo_6 : decode cX0_undo 6 = .ok (.i2l, 1) := dk_133 (dk_at dksX0_undo_0 6 rfl rfl)
theorem dX0_undo_7 : decode cX0_undo 7 = .ok (.lastore, 1) := dk_80 (dk_at dksX0_undo_0 7 rfl rfl)
theorem dX0_undo_8 : decode cX0_undo 8 = .ok (.goto 6, 3) := dk_167 0 6 (dk_at dksX0_undo_0 8 rfl rfl)
theorem dX0_undo_11 : decode cX0_undo 11 = .ok (.astore_n 2, 1) := dk_77 (dk_at dksX0_undo_0 11 rfl rfl)
theorem dX0_undo_12 : decode cX0_undo 12 = .ok (.iconst 1, 1) := dk_4 (dk_at dksX0_undo_0 12 rfl rfl)
theorem dX0_undo_13 : decode cX0_undo 13 = .ok (.ireturn, 1) := dk_172 (dk_at dksX0_undo_0 13 rfl rfl)
theorem dX0_undo_14 : decode cX0_undo 14 = .ok (.iconst 0, 1) := dk_3 (dk_at dksX0_undo_0 14 rfl rfl)
theorem dX0_undo_15 : decode cX0_undo 15 = .ok (.ireturn, 1) := dk_172 (dk_at dksX0_undo_0 15 rfl rfl)
abbrev cX0_points : ByteArray := method_16_code
def yX0_points : MethodName := ⟨RX0, "points", "(LTaleDuel;I[J)I"⟩
def dkwX0_points_0 : List UInt8 := [44, 3, 42, 27, 182, 0, 57, 133, 80, 167, 0, 6, 78, 4, 172, 3, 172]
abbrev dktX0_points_0 : List UInt8 := dkwX0_points_0 ++ []
theorem dksX0_points_0 : cX0_points.data.toList.drop 0 = dktX0_points_0 := by decide +kernel
theorem dX0_points_0 : decode cX0_points 0 = .ok (.aload_n 2, 1) := dk_44 (dk_at dksX0_points_0 0 rfl rfl)
theorem dX0_points_1 : decode cX0_points 1 = .ok (.iconst 0, 1) := dk_3 (dk_at dksX0_points_0 1 rfl rfl)
theorem dX0_points_2 : decode cX0_points 2 = .ok (.aload_n 0, 1) := dk_42 (dk_at dksX0_points_0 2 rfl rfl)
theorem dX0_points_3 : decode cX0_points 3 = .ok (.iload_n 1, 1) := dk_27 (dk_at dksX0_points_0 3 rfl rfl)
theorem dX0_points_4 : decode cX0_points 4 = .ok (.invokevirtual 57, 3) := dk_182 0 57 (dk_at dksX0_points_0 4 rfl rfl)
theorem dX0_points_7 : decode cX0_points 7 = .ok (.i2l, 1) := dk_133 (dk_at dksX0_points_0 7 rfl rfl)
theorem dX0_points_8 : decode cX0_points 8 = .ok (.lastore, 1) := dk_80 (dk_at dksX0_points_0 8 rfl rfl)
theorem dX0_points_9 : decode cX0_points 9 = .ok (.goto 6, 3) := dk_167 0 6 (dk_at dksX0_points_0 9 rfl rfl)
theorem dX0_points_12 : decode cX0_points 12 = .ok (.astore_n 3, 1) := dk_78 (dk_at dksX0_points_0 12 rfl rfl)
theorem dX0_points_13 : decode cX0_points 13 = .ok (.iconst 1, 1) := dk_4 (dk_at dksX0_points_0 13 rfl rfl)
theorem dX0_points_14 : decode cX0_points 14 = .ok (.ireturn, 1) := dk_172 (dk_at dksX0_points_0 14 rfl rfl)
theorem dX0_points_15 : decode cX0_points 15 = .ok (.iconst 0, 1) := dk_3 (dk_at dksX0_points_0 15 rfl rfl)
theorem dX0_points_16 : decode cX0_points 16 = .ok (.ireturn, 1) := dk_172 (dk_at dksX0_points_0 16 rfl rfl)
abbrev cX0_best : ByteArray := method_17_code
def yX0_best : MethodName := ⟨RX0, "best", "(LTaleDuel;II[J)I"⟩
def dkwX0_best_0 : List UInt8 := [45, 3, 42, 27, 28, 182, 0, 60, 133, 80, 167, 0, 11, 58, 4, 4, 172, 58, 4, 5, 172, 3, 172]
abbrev dktX0_best_0 : List UInt8 := dkwX0_best_0 ++ []
theorem dksX0_best_0 : cX0_best.data.toList.drop 0 = dktX0_best_0 := by decide +kernel
theorem dX0_best_0 : decode cX0_best 0 = .ok (.aload_n 3, 1) := dk_45 (dk_at dksX0_best_0 0 rfl rfl)
theorem dX0_best_1 : decode cX0_best 1 = .ok (.iconst 0, 1) := dk_3 (dk_at dksX0_best_0 1 rfl rfl)
theorem dX0_best_2 : decode cX0_best 2 = .ok (.aload_n 0, 1) := dk_42 (dk_at dksX0_best_0 2 rfl rfl)
theorem dX0_best_3 : decode cX0_best 3 = .ok (.iload_n 1, 1) := dk_27 (dk_at dksX0_best_0 3 rfl rfl)
theorem dX0_best_4 : decode cX0_best 4 = .ok (.iload_n 2, 1) := dk_28 (dk_at dksX0_best_0 4 rfl rfl)
theorem dX0_best_5 : decode cX0_best 5 = .ok (.invokevirtual 60, 3) := dk_182 0 60 (dk_at dksX0_best_0 5 rfl rfl)
theorem dX0_best_8 : decode cX0_best 8 = .ok (.i2l, 1) := dk_133 (dk_at dksX0_best_0 8 rfl rfl)
theorem dX0_best_9 : decode cX0_best 9 = .ok (.lastore, 1) := dk_80 (dk_at dksX0_best_0 9 rfl rfl)
theorem dX0_best_10 : decode cX0_best 10 = .ok (.goto 11, 3) := dk_167 0 11 (dk_at dksX0_best_0 10 rfl rfl)
theorem dX0_best_13 : decode cX0_best 13 = .ok (.astore 4, 2) := dk_58 4 (dk_at dksX0_best_0 13 rfl rfl)
theorem dX0_best_15 : decode cX0_best 15 = .ok (.iconst 1, 1) := dk_4 (dk_at dksX0_best_0 15 rfl rfl)
theorem dX0_best_16 : decode cX0_best 16 = .ok (.ireturn, 1) := dk_172 (dk_at dksX0_best_0 16 rfl rfl)
theorem dX0_best_17 : decode cX0_best 17 = .ok (.astore 4, 2) := dk_58 4 (dk_at dksX0_best_0 17 rfl rfl)
theorem dX0_best_19 : decode cX0_best 19 = .ok (.iconst 2, 1) := dk_5 (dk_at dksX0_best_0 19 rfl rfl)
theorem dX0_best_20 : decode cX0_best 20 = .ok (.ireturn, 1) := dk_172 (dk_at dksX0_best_0 20 rfl rfl)
theorem dX0_best_21 : decode cX0_best 21 = .ok (.iconst 0, 1) := dk_3 (dk_at dksX0_best_0 21 rfl rfl)
theorem dX0_best_22 : decode cX0_best 22 = .ok (.ireturn, 1) := dk_172 (dk_at dksX0_best_0 22 rfl rfl)
abbrev cX0_ifForbidden : ByteArray := method_18_code
def yX0_ifForbidden : MethodName := ⟨RX0, "ifForbidden", "(LTaleDuel;II[J)I"⟩
def dkwX0_ifForbidden_0 : List UInt8 := [45, 3, 42, 27, 28, 182, 0, 63, 133, 80, 167, 0, 7, 58, 4, 4, 172, 3, 172]
abbrev dktX0_ifForbidden_0 : List UInt8 := dkwX0_ifForbidden_0 ++ []
theorem dksX0_ifForbidden_0 : cX0_ifForbidden.data.toList.drop 0 = dktX0_ifForbidden_0 := by decide +kernel
theorem dX0_ifForbidden_0 : decode cX0_ifForbidden 0 = .ok (.aload_n 3, 1) := dk_45 (dk_at dksX0_ifForbidden_0 0 rfl rfl)
theorem dX0_ifForbidden_1 : decode cX0_ifForbidden 1 = .ok (.iconst 0, 1) := dk_3 (dk_at dksX0_ifForbidden_0 1 rfl rfl)
theorem dX0_ifForbidden_2 : decode cX0_ifForbidden 2 = .ok (.aload_n 0, 1) := dk_42 (dk_at dksX0_ifForbidden_0 2 rfl rfl)
theorem dX0_ifForbidden_3 : decode cX0_ifForbidden 3 = .ok (.iload_n 1, 1) := dk_27 (dk_at dksX0_ifForbidden_0 3 rfl rfl)
theorem dX0_ifForbidden_4 : decode cX0_ifForbidden 4 = .ok (.iload_n 2, 1) := dk_28 (dk_at dksX0_ifForbidden_0 4 rfl rfl)
theorem dX0_ifForbidden_5 : decode cX0_ifForbidden 5 = .ok (.invokevirtual 63, 3) := dk_182 0 63 (dk_at dksX0_ifForbidden_0 5 rfl rfl)
theorem dX0_ifForbidden_8 : decode cX0_ifForbidden 8 = .ok (.i2l, 1) := dk_133 (dk_at dksX0_ifForbidden_0 8 rfl rfl)
theorem dX0_ifForbidden_9 : decode cX0_ifForbidden 9 = .ok (.lastore, 1) := dk_80 (dk_at dksX0_ifForbidden_0 9 rfl rfl)
theorem dX0_ifForbidden_10 : decode cX0_ifForbidden 10 = .ok (.goto 7, 3) := dk_167 0 7 (dk_at dksX0_ifForbidden_0 10 rfl rfl)
theorem dX0_ifForbidden_13 : decode cX0_ifForbidden 13 = .ok (.astore 4, 2) := dk_58 4 (dk_at dksX0_ifForbidden_0 13 rfl rfl)
theorem dX0_ifForbidden_15 : decode cX0_ifForbidden 15 = .ok (.iconst 1, 1) := dk_4 (dk_at dksX0_ifForbidden_0 15 rfl rfl)
theorem dX0_ifForbidden_16 : decode cX0_ifForbidden 16 = .ok (.ireturn, 1) := dk_172 (dk_at dksX0_ifForbidden_0 16 rfl rfl)
theorem dX0_ifForbidden_17 : decode cX0_ifForbidden 17 = .ok (.iconst 0, 1) := dk_3 (dk_at dksX0_ifForbidden_0 17 rfl rfl)
theorem dX0_ifForbidden_18 : decode cX0_ifForbidden 18 = .ok (.ireturn, 1) := dk_172 (dk_at dksX0_ifForbidden_0 18 rfl rfl)
abbrev cX0_leaves : ByteArray := method_19_code
def yX0_leaves : MethodName := ⟨RX0, "leaves", "(LTaleDuel;I[J)I"⟩
def dkwX0_leaves_0 : List UInt8 := [44, 3, 42, 27, 182, 0, 66, 153, 0, 7, 10, 167, 0, 4, 9, 80, 167, 0, 6, 78, 4, 172, 3, 172]
abbrev dktX0_leaves_0 : List UInt8 := dkwX0_leaves_0 ++ []
theorem dksX0_leaves_0 : cX0_leaves.data.toList.drop 0 = dktX0_leaves_0 := by decide +kernel
theorem dX0_leaves_0 : decode cX0_leaves 0 = .ok (.aload_n 2, 1) := dk_44 (dk_at dksX0_leaves_0 0 rfl rfl)
theorem dX0_leaves_1 : decode cX0_leaves 1 = .ok (.iconst 0, 1) := dk_3 (dk_at dksX0_leaves_0 1 rfl rfl)
theorem dX0_leaves_2 : decode cX0_leaves 2 = .ok (.aload_n 0, 1) := dk_42 (dk_at dksX0_leaves_0 2 rfl rfl)
theorem dX0_leaves_3 : decode cX0_leaves 3 = .ok (.iload_n 1, 1) := dk_27 (dk_at dksX0_leaves_0 3 rfl rfl)
theorem dX0_leaves_4 : decode cX0_leaves 4 = .ok (.invokevirtual 66, 3) := dk_182 0 66 (dk_at dksX0_leaves_0 4 rfl rfl)
theorem dX0_leaves_7 : decode cX0_leaves 7 = .ok (.ifCond .eq 7, 3) := dk_153 0 7 (dk_at dksX0_leaves_0 7 rfl rfl)
theorem dX0_leaves_10 : decode cX0_leaves 10 = .ok (.lconst 1, 1) := dk_10 (dk_at dksX0_leaves_0 10 rfl rfl)
theorem dX0_leaves_11 : decode cX0_leaves 11 = .ok (.goto 4, 3) := dk_167 0 4 (dk_at dksX0_leaves_0 11 rfl rfl)
theorem dX0_leaves_14 : decode cX0_leaves 14 = .ok (.lconst 0, 1) := dk_9 (dk_at dksX0_leaves_0 14 rfl rfl)
theorem dX0_leaves_15 : decode cX0_leaves 15 = .ok (.lastore, 1) := dk_80 (dk_at dksX0_leaves_0 15 rfl rfl)
theorem dX0_leaves_16 : decode cX0_leaves 16 = .ok (.goto 6, 3) := dk_167 0 6 (dk_at dksX0_leaves_0 16 rfl rfl)
theorem dX0_leaves_19 : decode cX0_leaves 19 = .ok (.astore_n 3, 1) := dk_78 (dk_at dksX0_leaves_0 19 rfl rfl)
theorem dX0_leaves_20 : decode cX0_leaves 20 = .ok (.iconst 1, 1) := dk_4 (dk_at dksX0_leaves_0 20 rfl rfl)
theorem dX0_leaves_21 : decode cX0_leaves 21 = .ok (.ireturn, 1) := dk_172 (dk_at dksX0_leaves_0 21 rfl rfl)
theorem dX0_leaves_22 : decode cX0_leaves 22 = .ok (.iconst 0, 1) := dk_3 (dk_at dksX0_leaves_0 22 rfl rfl)
theorem dX0_leaves_23 : decode cX0_leaves 23 = .ok (.ireturn, 1) := dk_172 (dk_at dksX0_leaves_0 23 rfl rfl)
abbrev cX0_runScript : ByteArray := method_20_code
def yX0_runScript : MethodName := ⟨RX0, "runScript", "(LTaleDuel;IJ[J)I"⟩
def dkwX0_runScript_0 : List UInt8 := [25, 4, 3, 42, 27, 32, 182, 0, 70, 133, 80, 167, 0, 7, 58, 5, 4, 172, 3, 172]
abbrev dktX0_runScript_0 : List UInt8 := dkwX0_runScript_0 ++ []
theorem dksX0_runScript_0 : cX0_runScript.data.toList.drop 0 = dktX0_runScript_0 := by decide +kernel
theorem dX0_runScript_0 : decode cX0_runScript 0 = .ok (.aload 4, 2) := dk_25 4 (dk_at dksX0_runScript_0 0 rfl rfl)
theorem dX0_runScript_2 : decode cX0_runScript 2 = .ok (.iconst 0, 1) := dk_3 (dk_at dksX0_runScript_0 2 rfl rfl)
theorem dX0_runScript_3 : decode cX0_runScript 3 = .ok (.aload_n 0, 1) := dk_42 (dk_at dksX0_runScript_0 3 rfl rfl)
theorem dX0_runScript_4 : decode cX0_runScript 4 = .ok (.iload_n 1, 1) := dk_27 (dk_at dksX0_runScript_0 4 rfl rfl)
theorem dX0_runScript_5 : decode cX0_runScript 5 = .ok (.lload_n 2, 1) := dk_32 (dk_at dksX0_runScript_0 5 rfl rfl)
theorem dX0_runScript_6 : decode cX0_runScript 6 = .ok (.invokevirtual 70, 3) := dk_182 0 70 (dk_at dksX0_runScript_0 6 rfl rfl)
theorem dX0_runScript_9 : decode cX0_runScript 9 = .ok (.i2l, 1) := dk_133 (dk_at dksX0_runScript_0 9 rfl rfl)
theorem dX0_runScript_10 : decode cX0_runScript 10 = .ok (.lastore, 1) := dk_80 (dk_at dksX0_runScript_0 10 rfl rfl)
theorem dX0_runScript_11 : decode cX0_runScript 11 = .ok (.goto 7, 3) := dk_167 0 7 (dk_at dksX0_runScript_0 11 rfl rfl)
theorem dX0_runScript_14 : decode cX0_runScript 14 = .ok (.astore 5, 2) := dk_58 5 (dk_at dksX0_runScript_0 14 rfl rfl)
theorem dX0_runScript_16 : decode cX0_runScript 16 = .ok (.iconst 1, 1) := dk_4 (dk_at dksX0_runScript_0 16 rfl rfl)
theorem dX0_runScript_17 : decode cX0_runScript 17 = .ok (.ireturn, 1) := dk_172 (dk_at dksX0_runScript_0 17 rfl rfl)
theorem dX0_runScript_18 : decode cX0_runScript 18 = .ok (.iconst 0, 1) := dk_3 (dk_at dksX0_runScript_0 18 rfl rfl)
theorem dX0_runScript_19 : decode cX0_runScript 19 = .ok (.ireturn, 1) := dk_172 (dk_at dksX0_runScript_0 19 rfl rfl)
abbrev cX0_simulate : ByteArray := method_21_code
def yX0_simulate : MethodName := ⟨RX0, "simulate", "(LTaleDuel;JI[J)I"⟩
def dkwX0_simulate_0 : List UInt8 := [25, 4, 3, 42, 31, 29, 182, 0, 74, 133, 80, 167, 0, 7, 58, 5, 4, 172, 3, 172]
abbrev dktX0_simulate_0 : List UInt8 := dkwX0_simulate_0 ++ []
theorem dksX0_simulate_0 : cX0_simulate.data.toList.drop 0 = dktX0_simulate_0 := by decide +kernel
theorem dX0_simulate_0 : decode cX0_simulate 0 = .ok (.aload 4, 2) := dk_25 4 (dk_at dksX0_simulate_0 0 rfl rfl)
theorem dX0_simulate_2 : decode cX0_simulate 2 = .ok (.iconst 0, 1) := dk_3 (dk_at dksX0_simulate_0 2 rfl rfl)
theorem dX0_simulate_3 : decode cX0_simulate 3 = .ok (.aload_n 0, 1) := dk_42 (dk_at dksX0_simulate_0 3 rfl rfl)
theorem dX0_simulate_4 : decode cX0_simulate 4 = .ok (.lload_n 1, 1) := dk_31 (dk_at dksX0_simulate_0 4 rfl rfl)
theorem dX0_simulate_5 : decode cX0_simulate 5 = .ok (.iload_n 3, 1) := dk_29 (dk_at dksX0_simulate_0 5 rfl rfl)
theorem dX0_simulate_6 : decode cX0_simulate 6 = .ok (.invokevirtual 74, 3) := dk_182 0 74 (dk_at dksX0_simulate_0 6 rfl rfl)
theorem dX0_simulate_9 : decode cX0_simulate 9 = .ok (.i2l, 1) := dk_133 (dk_at dksX0_simulate_0 9 rfl rfl)
theorem dX0_simulate_10 : decode cX0_simulate 10 = .ok (.lastore, 1) := dk_80 (dk_at dksX0_simulate_0 10 rfl rfl)
theorem dX0_simulate_11 : decode cX0_simulate 11 = .ok (.goto 7, 3) := dk_167 0 7 (dk_at dksX0_simulate_0 11 rfl rfl)
theorem dX0_simulate_14 : decode cX0_simulate 14 = .ok (.astore 5, 2) := dk_58 5 (dk_at dksX0_simulate_0 14 rfl rfl)
theorem dX0_simulate_16 : decode cX0_simulate 16 = .ok (.iconst 1, 1) := dk_4 (dk_at dksX0_simulate_0 16 rfl rfl)
theorem dX0_simulate_17 : decode cX0_simulate 17 = .ok (.ireturn, 1) := dk_172 (dk_at dksX0_simulate_0 17 rfl rfl)
theorem dX0_simulate_18 : decode cX0_simulate 18 = .ok (.iconst 0, 1) := dk_3 (dk_at dksX0_simulate_0 18 rfl rfl)
theorem dX0_simulate_19 : decode cX0_simulate 19 = .ok (.ireturn, 1) := dk_172 (dk_at dksX0_simulate_0 19 rfl rfl)
abbrev cX0_save : ByteArray := method_22_code
def yX0_save : MethodName := ⟨RX0, "save", "(LTaleDuel;I[J)I"⟩
def dkwX0_save_0 : List UInt8 := [44, 3, 42, 27, 182, 0, 78, 133, 80, 167, 0, 6, 78, 4, 172, 3, 172]
abbrev dktX0_save_0 : List UInt8 := dkwX0_save_0 ++ []
theorem dksX0_save_0 : cX0_save.data.toList.drop 0 = dktX0_save_0 := by decide +kernel
theorem dX0_save_0 : decode cX0_save 0 = .ok (.aload_n 2, 1) := dk_44 (dk_at dksX0_save_0 0 rfl rfl)
theorem dX0_save_1 : decode cX0_save 1 = .ok (.iconst 0, 1) := dk_3 (dk_at dksX0_save_0 1 rfl rfl)
theorem dX0_save_2 : decode cX0_save 2 = .ok (.aload_n 0, 1) := dk_42 (dk_at dksX0_save_0 2 rfl rfl)
theorem dX0_save_3 : decode cX0_save 3 = .ok (.iload_n 1, 1) := dk_27 (dk_at dksX0_save_0 3 rfl rfl)
theorem dX0_save_4 : decode cX0_save 4 = .ok (.invokevirtual 78, 3) := dk_182 0 78 (dk_at dksX0_save_0 4 rfl rfl)
theorem dX0_save_7 : decode cX0_save 7 = .ok (.i2l, 1) := dk_133 (dk_at dksX0_save_0 7 rfl rfl)
theorem dX0_save_8 : decode cX0_save 8 = .ok (.lastore, 1) := dk_80 (dk_at dksX0_save_0 8 rfl rfl)
theorem dX0_save_9 : decode cX0_save 9 = .ok (.goto 6, 3) := dk_167 0 6 (dk_at dksX0_save_0 9 rfl rfl)
theorem dX0_save_12 : decode cX0_save 12 = .ok (.astore_n 3, 1) := dk_78 (dk_at dksX0_save_0 12 rfl rfl)
theorem dX0_save_13 : decode cX0_save 13 = .ok (.iconst 1, 1) := dk_4 (dk_at dksX0_save_0 13 rfl rfl)
theorem dX0_save_14 : decode cX0_save 14 = .ok (.ireturn, 1) := dk_172 (dk_at dksX0_save_0 14 rfl rfl)
theorem dX0_save_15 : decode cX0_save 15 = .ok (.iconst 0, 1) := dk_3 (dk_at dksX0_save_0 15 rfl rfl)
theorem dX0_save_16 : decode cX0_save 16 = .ok (.ireturn, 1) := dk_172 (dk_at dksX0_save_0 16 rfl rfl)
abbrev cX0_restore : ByteArray := method_23_code
def yX0_restore : MethodName := ⟨RX0, "restore", "(LTaleDuel;I[J)I"⟩
def dkwX0_restore_0 : List UInt8 := [44, 3, 42, 27, 182, 0, 81, 133, 80, 167, 0, 9, 78, 4, 172, 78, 5, 172, 3, 172]
abbrev dktX0_restore_0 : List UInt8 := dkwX0_restore_0 ++ []
theorem dksX0_restore_0 : cX0_restore.data.toList.drop 0 = dktX0_restore_0 := by decide +kernel
theorem dX0_restore_0 : decode cX0_restore 0 = .ok (.aload_n 2, 1) := dk_44 (dk_at dksX0_restore_0 0 rfl rfl)
theorem dX0_restore_1 : decode cX0_restore 1 = .ok (.iconst 0, 1) := dk_3 (dk_at dksX0_restore_0 1 rfl rfl)
theorem dX0_restore_2 : decode cX0_restore 2 = .ok (.aload_n 0, 1) := dk_42 (dk_at dksX0_restore_0 2 rfl rfl)
theorem dX0_restore_3 : decode cX0_restore 3 = .ok (.iload_n 1, 1) := dk_27 (dk_at dksX0_restore_0 3 rfl rfl)
theorem dX0_restore_4 : decode cX0_restore 4 = .ok (.invokevirtual 81, 3) := dk_182 0 81 (dk_at dksX0_restore_0 4 rfl rfl)
theorem dX0_restore_7 : decode cX0_restore 7 = .ok (.i2l, 1) := dk_133 (dk_at dksX0_restore_0 7 rfl rfl)
theorem dX0_restore_8 : decode cX0_restore 8 = .ok (.lastore, 1) := dk_80 (dk_at dksX0_restore_0 8 rfl rfl)
theorem dX0_restore_9 : decode cX0_restore 9 = .ok (.goto 9, 3) := dk_167 0 9 (dk_at dksX0_restore_0 9 rfl rfl)
theorem dX0_restore_12 : decode cX0_restore 12 = .ok (.astore_n 3, 1) := dk_78 (dk_at dksX0_restore_0 12 rfl rfl)
theorem dX0_restore_13 : decode cX0_restore 13 = .ok (.iconst 1, 1) := dk_4 (dk_at dksX0_restore_0 13 rfl rfl)
theorem dX0_restore_14 : decode cX0_restore 14 = .ok (.ireturn, 1) := dk_172 (dk_at dksX0_restore_0 14 rfl rfl)
theorem dX0_restore_15 : decode cX0_restore 15 = .ok (.astore_n 3, 1) := dk_78 (dk_at dksX0_restore_0 15 rfl rfl)
theorem dX0_restore_16 : decode cX0_restore 16 = .ok (.iconst 2, 1) := dk_5 (dk_at dksX0_restore_0 16 rfl rfl)
theorem dX0_restore_17 : decode cX0_restore 17 = .ok (.ireturn, 1) := dk_172 (dk_at dksX0_restore_0 17 rfl rfl)
theorem dX0_restore_18 : decode cX0_restore 18 = .ok (.iconst 0, 1) := dk_3 (dk_at dksX0_restore_0 18 rfl rfl)
theorem dX0_restore_19 : decode cX0_restore 19 = .ok (.ireturn, 1) := dk_172 (dk_at dksX0_restore_0 19 rfl rfl)
theorem q38 : (Jvm.Cond.initialized "TaleDuelLaw") ∈ lw_all := lw_g (lw_at lw_m1 0 rfl) rfl
theorem q75 : (Jvm.Cond.classLink "TaleDuelLaw" (8 : Nat) "TaleDuel") ∈ lw_all := lw_g (lw_at lw_m1 37 rfl) rfl
theorem q77 : (Jvm.Cond.methodLink "TaleDuelLaw" (84 : Nat) ({ cls := "TaleDuel", name := "<init>", desc := "()V" } : Jvm.MethodName)) ∈ lw_all := lw_g (lw_at lw_m1 39 rfl) rfl
theorem q148 : (Jvm.Cond.methodLink "TaleDuelLaw" (97 : Nat) ({ cls := "TaleDuel", name := "clearText", desc := "()I" } : Jvm.MethodName)) ∈ lw_all := lw_g (lw_at lw_m1 110 rfl) rfl
theorem q156 : (Jvm.Cond.methodLink "TaleDuelLaw" (101 : Nat) ({ cls := "TaleDuel", name := "errorPosition", desc := "()I" } : Jvm.MethodName)) ∈ lw_all := lw_g (lw_at lw_m1 118 rfl) rfl
theorem q180 : (Jvm.Cond.methodLink "TaleDuelLaw" (126 : Nat) ({ cls := "TaleDuel", name := "begin", desc := "(J)I" } : Jvm.MethodName)) ∈ lw_all := lw_g (lw_at lw_m1 142 rfl) rfl
theorem q936 : (Jvm.Cond.methodLink "TaleDuelLaw" (159 : Nat) ({ cls := "TaleDuel", name := "bestBan", desc := "()I" } : Jvm.MethodName)) ∈ lw_all := lw_g (lw_at lw_m4 178 rfl) rfl
theorem q1070 : (Jvm.Cond.methodLink "TaleDuelLaw" (88 : Nat) ({ cls := "TaleDuelLaw", name := "append", desc := "(LTaleDuel;I[J)I" } : Jvm.MethodName)) ∈ lw_all := lw_g (lw_at lw_m5 72 rfl) rfl
theorem q1071 : (Jvm.Cond.static ({ cls := "TaleDuelLaw", name := "append", desc := "(LTaleDuel;I[J)I" } : Jvm.MethodName)) ∈ lw_all := lw_g (lw_at lw_m5 73 rfl) rfl
theorem q1072 : (Jvm.Cond.codeWith ({ cls := "TaleDuelLaw", name := "append", desc := "(LTaleDuel;I[J)I" } : Jvm.MethodName) method_3_code (4 : Nat) (Option.some Jvm.ClassFile.FieldType.int) [((0 : Nat), (9 : Nat), (12 : Nat), (13 : Nat)), ((0 : Nat), (9 : Nat), (15 : Nat), (15 : Nat))]) ∈ lw_all := lw_g (lw_at lw_m5 74 rfl) rfl
theorem q1073 : (Jvm.Cond.classLink "TaleDuelLaw" (13 : Nat) "java/lang/IllegalArgumentException") ∈ lw_all := lw_g (lw_at lw_m5 75 rfl) rfl
theorem q1074 : (Jvm.Cond.classLink "TaleDuelLaw" (15 : Nat) "java/lang/IllegalStateException") ∈ lw_all := lw_g (lw_at lw_m5 76 rfl) rfl
theorem q1075 : (Jvm.Cond.methodLink "TaleDuelLaw" (7 : Nat) ({ cls := "TaleDuel", name := "append", desc := "(I)I" } : Jvm.MethodName)) ∈ lw_all := lw_g (lw_at lw_m5 77 rfl) rfl
theorem q1107 : (Jvm.Cond.methodLink "TaleDuelLaw" (105 : Nat) ({ cls := "TaleDuelLaw", name := "about", desc := "(LTaleDuel;I[J)I" } : Jvm.MethodName)) ∈ lw_all := lw_g (lw_at lw_m5 109 rfl) rfl
theorem q1108 : (Jvm.Cond.static ({ cls := "TaleDuelLaw", name := "about", desc := "(LTaleDuel;I[J)I" } : Jvm.MethodName)) ∈ lw_all := lw_g (lw_at lw_m5 110 rfl) rfl
theorem q1109 : (Jvm.Cond.codeWith ({ cls := "TaleDuelLaw", name := "about", desc := "(LTaleDuel;I[J)I" } : Jvm.MethodName) method_4_code (4 : Nat) (Option.some Jvm.ClassFile.FieldType.int) [((0 : Nat), (9 : Nat), (12 : Nat), (13 : Nat))]) ∈ lw_all := lw_g (lw_at lw_m5 111 rfl) rfl
theorem q1110 : (Jvm.Cond.methodLink "TaleDuelLaw" (17 : Nat) ({ cls := "TaleDuel", name := "about", desc := "(I)I" } : Jvm.MethodName)) ∈ lw_all := lw_g (lw_at lw_m5 112 rfl) rfl
theorem q1120 : (Jvm.Cond.methodLink "TaleDuelLaw" (108 : Nat) ({ cls := "TaleDuelLaw", name := "teller", desc := "(LTaleDuel;II[J)I" } : Jvm.MethodName)) ∈ lw_all := lw_g (lw_at lw_m5 122 rfl) rfl
theorem q1121 : (Jvm.Cond.static ({ cls := "TaleDuelLaw", name := "teller", desc := "(LTaleDuel;II[J)I" } : Jvm.MethodName)) ∈ lw_all := lw_g (lw_at lw_m5 123 rfl) rfl
theorem q1122 : (Jvm.Cond.codeWith ({ cls := "TaleDuelLaw", name := "teller", desc := "(LTaleDuel;II[J)I" } : Jvm.MethodName) method_5_code (5 : Nat) (Option.some Jvm.ClassFile.FieldType.int) [((0 : Nat), (10 : Nat), (13 : Nat), (24 : Nat)), ((0 : Nat), (10 : Nat), (17 : Nat), (13 : Nat))]) ∈ lw_all := lw_g (lw_at lw_m5 124 rfl) rfl
theorem q1123 : (Jvm.Cond.classLink "TaleDuelLaw" (24 : Nat) "java/lang/IndexOutOfBoundsException") ∈ lw_all := lw_g (lw_at lw_m5 125 rfl) rfl
theorem q1139 : (Jvm.Cond.methodLink "TaleDuelLaw" (20 : Nat) ({ cls := "TaleDuel", name := "teller", desc := "(II)I" } : Jvm.MethodName)) ∈ lw_all := lw_g (lw_at lw_m5 141 rfl) rfl
theorem q1160 : (Jvm.Cond.methodLink "TaleDuelLaw" (112 : Nat) ({ cls := "TaleDuelLaw", name := "forbidden", desc := "(LTaleDuel;II[J)I" } : Jvm.MethodName)) ∈ lw_all := lw_g (lw_at lw_m5 162 rfl) rfl
theorem q1161 : (Jvm.Cond.static ({ cls := "TaleDuelLaw", name := "forbidden", desc := "(LTaleDuel;II[J)I" } : Jvm.MethodName)) ∈ lw_all := lw_g (lw_at lw_m5 163 rfl) rfl
theorem q1162 : (Jvm.Cond.codeWith ({ cls := "TaleDuelLaw", name := "forbidden", desc := "(LTaleDuel;II[J)I" } : Jvm.MethodName) method_6_code (5 : Nat) (Option.some Jvm.ClassFile.FieldType.int) [((0 : Nat), (10 : Nat), (13 : Nat), (24 : Nat)), ((0 : Nat), (10 : Nat), (17 : Nat), (13 : Nat))]) ∈ lw_all := lw_g (lw_at lw_m5 164 rfl) rfl
theorem q1163 : (Jvm.Cond.methodLink "TaleDuelLaw" (26 : Nat) ({ cls := "TaleDuel", name := "forbidden", desc := "(II)I" } : Jvm.MethodName)) ∈ lw_all := lw_g (lw_at lw_m5 165 rfl) rfl
theorem q1173 : (Jvm.Cond.methodLink "TaleDuelLaw" (115 : Nat) ({ cls := "TaleDuelLaw", name := "listener", desc := "(LTaleDuel;II[J)I" } : Jvm.MethodName)) ∈ lw_all := lw_g (lw_at lw_m5 175 rfl) rfl
theorem q1174 : (Jvm.Cond.static ({ cls := "TaleDuelLaw", name := "listener", desc := "(LTaleDuel;II[J)I" } : Jvm.MethodName)) ∈ lw_all := lw_g (lw_at lw_m5 176 rfl) rfl
theorem q1175 : (Jvm.Cond.codeWith ({ cls := "TaleDuelLaw", name := "listener", desc := "(LTaleDuel;II[J)I" } : Jvm.MethodName) method_7_code (5 : Nat) (Option.some Jvm.ClassFile.FieldType.int) [((0 : Nat), (10 : Nat), (13 : Nat), (24 : Nat)), ((0 : Nat), (10 : Nat), (17 : Nat), (13 : Nat))]) ∈ lw_all := lw_g (lw_at lw_m5 177 rfl) rfl
theorem q1176 : (Jvm.Cond.methodLink "TaleDuelLaw" (29 : Nat) ({ cls := "TaleDuel", name := "listener", desc := "(II)I" } : Jvm.MethodName)) ∈ lw_all := lw_g (lw_at lw_m5 178 rfl) rfl
theorem q1188 : (Jvm.Cond.methodLink "TaleDuelLaw" (118 : Nat) ({ cls := "TaleDuelLaw", name := "told", desc := "(LTaleDuel;II[J)I" } : Jvm.MethodName)) ∈ lw_all := lw_g (lw_at lw_m5 190 rfl) rfl
theorem q1189 : (Jvm.Cond.static ({ cls := "TaleDuelLaw", name := "told", desc := "(LTaleDuel;II[J)I" } : Jvm.MethodName)) ∈ lw_all := lw_g (lw_at lw_m5 191 rfl) rfl
theorem q1190 : (Jvm.Cond.codeWith ({ cls := "TaleDuelLaw", name := "told", desc := "(LTaleDuel;II[J)I" } : Jvm.MethodName) method_8_code (5 : Nat) (Option.some Jvm.ClassFile.FieldType.int) [((0 : Nat), (10 : Nat), (13 : Nat), (13 : Nat))]) ∈ lw_all := lw_g (lw_at lw_m5 192 rfl) rfl
theorem q1191 : (Jvm.Cond.methodLink "TaleDuelLaw" (32 : Nat) ({ cls := "TaleDuel", name := "told", desc := "(II)I" } : Jvm.MethodName)) ∈ lw_all := lw_g (lw_at lw_m5 193 rfl) rfl
theorem q1198 : (Jvm.Cond.methodLink "TaleDuelLaw" (121 : Nat) ({ cls := "TaleDuelLaw", name := "setting", desc := "(LTaleDuel;I[J)I" } : Jvm.MethodName)) ∈ lw_all := lw_g (lw_at lw_m5 200 rfl) rfl
theorem q1199 : (Jvm.Cond.static ({ cls := "TaleDuelLaw", name := "setting", desc := "(LTaleDuel;I[J)I" } : Jvm.MethodName)) ∈ lw_all := lw_g (lw_at lw_m5 201 rfl) rfl
theorem q1200 : (Jvm.Cond.codeWith ({ cls := "TaleDuelLaw", name := "setting", desc := "(LTaleDuel;I[J)I" } : Jvm.MethodName) method_9_code (4 : Nat) (Option.some Jvm.ClassFile.FieldType.int) [((0 : Nat), (9 : Nat), (12 : Nat), (13 : Nat))]) ∈ lw_all := lw_g (lw_at lw_m5 202 rfl) rfl
theorem q1201 : (Jvm.Cond.methodLink "TaleDuelLaw" (35 : Nat) ({ cls := "TaleDuel", name := "setting", desc := "(I)I" } : Jvm.MethodName)) ∈ lw_all := lw_g (lw_at lw_m5 203 rfl) rfl
theorem q1205 : (Jvm.Cond.methodLink "TaleDuelLaw" (131 : Nat) ({ cls := "TaleDuelLaw", name := "tell", desc := "(LTaleDuel;[J)I" } : Jvm.MethodName)) ∈ lw_all := lw_g (lw_at lw_m5 207 rfl) rfl
theorem q1206 : (Jvm.Cond.static ({ cls := "TaleDuelLaw", name := "tell", desc := "(LTaleDuel;[J)I" } : Jvm.MethodName)) ∈ lw_all := lw_g (lw_at lw_m5 208 rfl) rfl
theorem q1207 : (Jvm.Cond.codeWith ({ cls := "TaleDuelLaw", name := "tell", desc := "(LTaleDuel;[J)I" } : Jvm.MethodName) method_10_code (3 : Nat) (Option.some Jvm.ClassFile.FieldType.int) [((0 : Nat), (8 : Nat), (11 : Nat), (15 : Nat))]) ∈ lw_all := lw_g (lw_at lw_m5 209 rfl) rfl
theorem q1208 : (Jvm.Cond.methodLink "TaleDuelLaw" (38 : Nat) ({ cls := "TaleDuel", name := "tell", desc := "()I" } : Jvm.MethodName)) ∈ lw_all := lw_g (lw_at lw_m5 210 rfl) rfl
theorem q1246 : (Jvm.Cond.methodLink "TaleDuelLaw" (135 : Nat) ({ cls := "TaleDuelLaw", name := "forbid", desc := "(LTaleDuel;I[J)I" } : Jvm.MethodName)) ∈ lw_all := lw_g (lw_at lw_m6 8 rfl) rfl
theorem q1247 : (Jvm.Cond.static ({ cls := "TaleDuelLaw", name := "forbid", desc := "(LTaleDuel;I[J)I" } : Jvm.MethodName)) ∈ lw_all := lw_g (lw_at lw_m6 9 rfl) rfl
theorem q1248 : (Jvm.Cond.codeWith ({ cls := "TaleDuelLaw", name := "forbid", desc := "(LTaleDuel;I[J)I" } : Jvm.MethodName) method_11_code (4 : Nat) (Option.some Jvm.ClassFile.FieldType.int) [((0 : Nat), (9 : Nat), (12 : Nat), (24 : Nat)), ((0 : Nat), (9 : Nat), (15 : Nat), (15 : Nat))]) ∈ lw_all := lw_g (lw_at lw_m6 10 rfl) rfl
theorem q1249 : (Jvm.Cond.methodLink "TaleDuelLaw" (42 : Nat) ({ cls := "TaleDuel", name := "forbid", desc := "(I)I" } : Jvm.MethodName)) ∈ lw_all := lw_g (lw_at lw_m6 11 rfl) rfl
theorem q1272 : (Jvm.Cond.methodLink "TaleDuelLaw" (138 : Nat) ({ cls := "TaleDuelLaw", name := "done", desc := "(LTaleDuel;[J)I" } : Jvm.MethodName)) ∈ lw_all := lw_g (lw_at lw_m6 34 rfl) rfl
theorem q1273 : (Jvm.Cond.static ({ cls := "TaleDuelLaw", name := "done", desc := "(LTaleDuel;[J)I" } : Jvm.MethodName)) ∈ lw_all := lw_g (lw_at lw_m6 35 rfl) rfl
theorem q1274 : (Jvm.Cond.codeWith ({ cls := "TaleDuelLaw", name := "done", desc := "(LTaleDuel;[J)I" } : Jvm.MethodName) method_12_code (3 : Nat) (Option.some Jvm.ClassFile.FieldType.int) [((0 : Nat), (8 : Nat), (11 : Nat), (15 : Nat))]) ∈ lw_all := lw_g (lw_at lw_m6 36 rfl) rfl
theorem q1275 : (Jvm.Cond.methodLink "TaleDuelLaw" (45 : Nat) ({ cls := "TaleDuel", name := "done", desc := "()I" } : Jvm.MethodName)) ∈ lw_all := lw_g (lw_at lw_m6 37 rfl) rfl
theorem q1283 : (Jvm.Cond.methodLink "TaleDuelLaw" (141 : Nat) ({ cls := "TaleDuelLaw", name := "play", desc := "(LTaleDuel;[J)I" } : Jvm.MethodName)) ∈ lw_all := lw_g (lw_at lw_m6 45 rfl) rfl
theorem q1284 : (Jvm.Cond.static ({ cls := "TaleDuelLaw", name := "play", desc := "(LTaleDuel;[J)I" } : Jvm.MethodName)) ∈ lw_all := lw_g (lw_at lw_m6 46 rfl) rfl
theorem q1285 : (Jvm.Cond.codeWith ({ cls := "TaleDuelLaw", name := "play", desc := "(LTaleDuel;[J)I" } : Jvm.MethodName) method_13_code (3 : Nat) (Option.some Jvm.ClassFile.FieldType.int) [((0 : Nat), (8 : Nat), (11 : Nat), (15 : Nat))]) ∈ lw_all := lw_g (lw_at lw_m6 47 rfl) rfl
theorem q1286 : (Jvm.Cond.methodLink "TaleDuelLaw" (48 : Nat) ({ cls := "TaleDuel", name := "play", desc := "()I" } : Jvm.MethodName)) ∈ lw_all := lw_g (lw_at lw_m6 48 rfl) rfl
theorem q1302 : (Jvm.Cond.methodLink "TaleDuelLaw" (144 : Nat) ({ cls := "TaleDuelLaw", name := "set", desc := "(LTaleDuel;II[J)I" } : Jvm.MethodName)) ∈ lw_all := lw_g (lw_at lw_m6 64 rfl) rfl
theorem q1303 : (Jvm.Cond.static ({ cls := "TaleDuelLaw", name := "set", desc := "(LTaleDuel;II[J)I" } : Jvm.MethodName)) ∈ lw_all := lw_g (lw_at lw_m6 65 rfl) rfl
theorem q1304 : (Jvm.Cond.codeWith ({ cls := "TaleDuelLaw", name := "set", desc := "(LTaleDuel;II[J)I" } : Jvm.MethodName) method_14_code (5 : Nat) (Option.some Jvm.ClassFile.FieldType.int) [((0 : Nat), (10 : Nat), (13 : Nat), (13 : Nat))]) ∈ lw_all := lw_g (lw_at lw_m6 66 rfl) rfl
theorem q1305 : (Jvm.Cond.methodLink "TaleDuelLaw" (51 : Nat) ({ cls := "TaleDuel", name := "set", desc := "(II)I" } : Jvm.MethodName)) ∈ lw_all := lw_g (lw_at lw_m6 67 rfl) rfl
theorem q1320 : (Jvm.Cond.methodLink "TaleDuelLaw" (147 : Nat) ({ cls := "TaleDuelLaw", name := "undo", desc := "(LTaleDuel;[J)I" } : Jvm.MethodName)) ∈ lw_all := lw_g (lw_at lw_m6 82 rfl) rfl
theorem q1321 : (Jvm.Cond.static ({ cls := "TaleDuelLaw", name := "undo", desc := "(LTaleDuel;[J)I" } : Jvm.MethodName)) ∈ lw_all := lw_g (lw_at lw_m6 83 rfl) rfl
theorem q1322 : (Jvm.Cond.codeWith ({ cls := "TaleDuelLaw", name := "undo", desc := "(LTaleDuel;[J)I" } : Jvm.MethodName) method_15_code (3 : Nat) (Option.some Jvm.ClassFile.FieldType.int) [((0 : Nat), (8 : Nat), (11 : Nat), (15 : Nat))]) ∈ lw_all := lw_g (lw_at lw_m6 84 rfl) rfl
theorem q1323 : (Jvm.Cond.methodLink "TaleDuelLaw" (54 : Nat) ({ cls := "TaleDuel", name := "undo", desc := "()I" } : Jvm.MethodName)) ∈ lw_all := lw_g (lw_at lw_m6 85 rfl) rfl
theorem q1351 : (Jvm.Cond.methodLink "TaleDuelLaw" (150 : Nat) ({ cls := "TaleDuelLaw", name := "points", desc := "(LTaleDuel;I[J)I" } : Jvm.MethodName)) ∈ lw_all := lw_g (lw_at lw_m6 113 rfl) rfl
theorem q1352 : (Jvm.Cond.static ({ cls := "TaleDuelLaw", name := "points", desc := "(LTaleDuel;I[J)I" } : Jvm.MethodName)) ∈ lw_all := lw_g (lw_at lw_m6 114 rfl) rfl
theorem q1353 : (Jvm.Cond.codeWith ({ cls := "TaleDuelLaw", name := "points", desc := "(LTaleDuel;I[J)I" } : Jvm.MethodName) method_16_code (4 : Nat) (Option.some Jvm.ClassFile.FieldType.int) [((0 : Nat), (9 : Nat), (12 : Nat), (24 : Nat))]) ∈ lw_all := lw_g (lw_at lw_m6 115 rfl) rfl
theorem q1354 : (Jvm.Cond.methodLink "TaleDuelLaw" (57 : Nat) ({ cls := "TaleDuel", name := "points", desc := "(I)I" } : Jvm.MethodName)) ∈ lw_all := lw_g (lw_at lw_m6 116 rfl) rfl
theorem q1360 : (Jvm.Cond.methodLink "TaleDuelLaw" (153 : Nat) ({ cls := "TaleDuelLaw", name := "best", desc := "(LTaleDuel;II[J)I" } : Jvm.MethodName)) ∈ lw_all := lw_g (lw_at lw_m6 122 rfl) rfl
theorem q1361 : (Jvm.Cond.static ({ cls := "TaleDuelLaw", name := "best", desc := "(LTaleDuel;II[J)I" } : Jvm.MethodName)) ∈ lw_all := lw_g (lw_at lw_m6 123 rfl) rfl
theorem q1362 : (Jvm.Cond.codeWith ({ cls := "TaleDuelLaw", name := "best", desc := "(LTaleDuel;II[J)I" } : Jvm.MethodName) method_17_code (5 : Nat) (Option.some Jvm.ClassFile.FieldType.int) [((0 : Nat), (10 : Nat), (13 : Nat), (24 : Nat)), ((0 : Nat), (10 : Nat), (17 : Nat), (13 : Nat))]) ∈ lw_all := lw_g (lw_at lw_m6 124 rfl) rfl
theorem q1363 : (Jvm.Cond.methodLink "TaleDuelLaw" (60 : Nat) ({ cls := "TaleDuel", name := "best", desc := "(II)I" } : Jvm.MethodName)) ∈ lw_all := lw_g (lw_at lw_m6 125 rfl) rfl
theorem q1368 : (Jvm.Cond.methodLink "TaleDuelLaw" (156 : Nat) ({ cls := "TaleDuelLaw", name := "ifForbidden", desc := "(LTaleDuel;II[J)I" } : Jvm.MethodName)) ∈ lw_all := lw_g (lw_at lw_m6 130 rfl) rfl
theorem q1369 : (Jvm.Cond.static ({ cls := "TaleDuelLaw", name := "ifForbidden", desc := "(LTaleDuel;II[J)I" } : Jvm.MethodName)) ∈ lw_all := lw_g (lw_at lw_m6 131 rfl) rfl
theorem q1370 : (Jvm.Cond.codeWith ({ cls := "TaleDuelLaw", name := "ifForbidden", desc := "(LTaleDuel;II[J)I" } : Jvm.MethodName) method_18_code (5 : Nat) (Option.some Jvm.ClassFile.FieldType.int) [((0 : Nat), (10 : Nat), (13 : Nat), (24 : Nat))]) ∈ lw_all := lw_g (lw_at lw_m6 132 rfl) rfl
theorem q1371 : (Jvm.Cond.methodLink "TaleDuelLaw" (63 : Nat) ({ cls := "TaleDuel", name := "ifForbidden", desc := "(II)I" } : Jvm.MethodName)) ∈ lw_all := lw_g (lw_at lw_m6 133 rfl) rfl
theorem q1375 : (Jvm.Cond.methodLink "TaleDuelLaw" (163 : Nat) ({ cls := "TaleDuelLaw", name := "leaves", desc := "(LTaleDuel;I[J)I" } : Jvm.MethodName)) ∈ lw_all := lw_g (lw_at lw_m6 137 rfl) rfl
theorem q1376 : (Jvm.Cond.static ({ cls := "TaleDuelLaw", name := "leaves", desc := "(LTaleDuel;I[J)I" } : Jvm.MethodName)) ∈ lw_all := lw_g (lw_at lw_m6 138 rfl) rfl
theorem q1377 : (Jvm.Cond.codeWith ({ cls := "TaleDuelLaw", name := "leaves", desc := "(LTaleDuel;I[J)I" } : Jvm.MethodName) method_19_code (4 : Nat) (Option.some Jvm.ClassFile.FieldType.int) [((0 : Nat), (16 : Nat), (19 : Nat), (24 : Nat))]) ∈ lw_all := lw_g (lw_at lw_m6 139 rfl) rfl
theorem q1378 : (Jvm.Cond.methodLink "TaleDuelLaw" (66 : Nat) ({ cls := "TaleDuel", name := "leaves", desc := "(I)Z" } : Jvm.MethodName)) ∈ lw_all := lw_g (lw_at lw_m6 140 rfl) rfl
theorem q1382 : (Jvm.Cond.methodLink "TaleDuelLaw" (166 : Nat) ({ cls := "TaleDuelLaw", name := "runScript", desc := "(LTaleDuel;IJ[J)I" } : Jvm.MethodName)) ∈ lw_all := lw_g (lw_at lw_m6 144 rfl) rfl
theorem q1383 : (Jvm.Cond.static ({ cls := "TaleDuelLaw", name := "runScript", desc := "(LTaleDuel;IJ[J)I" } : Jvm.MethodName)) ∈ lw_all := lw_g (lw_at lw_m6 145 rfl) rfl
theorem q1384 : (Jvm.Cond.codeWith ({ cls := "TaleDuelLaw", name := "runScript", desc := "(LTaleDuel;IJ[J)I" } : Jvm.MethodName) method_20_code (6 : Nat) (Option.some Jvm.ClassFile.FieldType.int) [((0 : Nat), (11 : Nat), (14 : Nat), (13 : Nat))]) ∈ lw_all := lw_g (lw_at lw_m6 146 rfl) rfl
theorem q1385 : (Jvm.Cond.methodLink "TaleDuelLaw" (70 : Nat) ({ cls := "TaleDuel", name := "runScript", desc := "(IJ)I" } : Jvm.MethodName)) ∈ lw_all := lw_g (lw_at lw_m6 147 rfl) rfl
theorem q1425 : (Jvm.Cond.methodLink "TaleDuelLaw" (170 : Nat) ({ cls := "TaleDuelLaw", name := "simulate", desc := "(LTaleDuel;JI[J)I" } : Jvm.MethodName)) ∈ lw_all := lw_g (lw_at lw_m6 187 rfl) rfl
theorem q1426 : (Jvm.Cond.static ({ cls := "TaleDuelLaw", name := "simulate", desc := "(LTaleDuel;JI[J)I" } : Jvm.MethodName)) ∈ lw_all := lw_g (lw_at lw_m6 188 rfl) rfl
theorem q1427 : (Jvm.Cond.codeWith ({ cls := "TaleDuelLaw", name := "simulate", desc := "(LTaleDuel;JI[J)I" } : Jvm.MethodName) method_21_code (6 : Nat) (Option.some Jvm.ClassFile.FieldType.int) [((0 : Nat), (11 : Nat), (14 : Nat), (13 : Nat))]) ∈ lw_all := lw_g (lw_at lw_m6 189 rfl) rfl
theorem q1428 : (Jvm.Cond.methodLink "TaleDuelLaw" (74 : Nat) ({ cls := "TaleDuel", name := "simulate", desc := "(JI)I" } : Jvm.MethodName)) ∈ lw_all := lw_g (lw_at lw_m6 190 rfl) rfl
theorem q1438 : (Jvm.Cond.methodLink "TaleDuelLaw" (174 : Nat) ({ cls := "TaleDuelLaw", name := "save", desc := "(LTaleDuel;I[J)I" } : Jvm.MethodName)) ∈ lw_all := lw_g (lw_at lw_m6 200 rfl) rfl
theorem q1439 : (Jvm.Cond.static ({ cls := "TaleDuelLaw", name := "save", desc := "(LTaleDuel;I[J)I" } : Jvm.MethodName)) ∈ lw_all := lw_g (lw_at lw_m6 201 rfl) rfl
theorem q1440 : (Jvm.Cond.codeWith ({ cls := "TaleDuelLaw", name := "save", desc := "(LTaleDuel;I[J)I" } : Jvm.MethodName) method_22_code (4 : Nat) (Option.some Jvm.ClassFile.FieldType.int) [((0 : Nat), (9 : Nat), (12 : Nat), (24 : Nat))]) ∈ lw_all := lw_g (lw_at lw_m6 202 rfl) rfl
theorem q1441 : (Jvm.Cond.methodLink "TaleDuelLaw" (78 : Nat) ({ cls := "TaleDuel", name := "save", desc := "(I)I" } : Jvm.MethodName)) ∈ lw_all := lw_g (lw_at lw_m6 203 rfl) rfl
theorem q1449 : (Jvm.Cond.methodLink "TaleDuelLaw" (177 : Nat) ({ cls := "TaleDuelLaw", name := "restore", desc := "(LTaleDuel;I[J)I" } : Jvm.MethodName)) ∈ lw_all := lw_g (lw_at lw_m6 211 rfl) rfl
theorem q1450 : (Jvm.Cond.static ({ cls := "TaleDuelLaw", name := "restore", desc := "(LTaleDuel;I[J)I" } : Jvm.MethodName)) ∈ lw_all := lw_g (lw_at lw_m6 212 rfl) rfl
theorem q1451 : (Jvm.Cond.codeWith ({ cls := "TaleDuelLaw", name := "restore", desc := "(LTaleDuel;I[J)I" } : Jvm.MethodName) method_23_code (4 : Nat) (Option.some Jvm.ClassFile.FieldType.int) [((0 : Nat), (9 : Nat), (12 : Nat), (24 : Nat)), ((0 : Nat), (9 : Nat), (15 : Nat), (15 : Nat))]) ∈ lw_all := lw_g (lw_at lw_m6 213 rfl) rfl
theorem q1452 : (Jvm.Cond.methodLink "TaleDuelLaw" (81 : Nat) ({ cls := "TaleDuel", name := "restore", desc := "(I)I" } : Jvm.MethodName)) ∈ lw_all := lw_g (lw_at lw_m6 214 rfl) rfl
theorem q1467 : (Jvm.Cond.classLink "TaleDuelLaw" (85 : Nat) "TaleDuelModel") ∈ lw_all := lw_g (lw_at lw_m6 229 rfl) rfl
theorem q1469 : (Jvm.Cond.methodLink "TaleDuelLaw" (87 : Nat) ({ cls := "TaleDuelModel", name := "<init>", desc := "()V" } : Jvm.MethodName)) ∈ lw_all := lw_g (lw_at lw_m6 231 rfl) rfl
theorem q1523 : (Jvm.Cond.methodLink "TaleDuelLaw" (94 : Nat) ({ cls := "TaleDuelModel", name := "thrown", desc := "()I" } : Jvm.MethodName)) ∈ lw_all := lw_g (lw_at lw_m7 45 rfl) rfl
theorem q1527 : (Jvm.Cond.methodLink "TaleDuelLaw" (93 : Nat) ({ cls := "TaleDuelModel", name := "append", desc := "(I)I" } : Jvm.MethodName)) ∈ lw_all := lw_g (lw_at lw_m7 49 rfl) rfl
theorem q1539 : (Jvm.Cond.methodLink "TaleDuelLaw" (100 : Nat) ({ cls := "TaleDuelModel", name := "clearText", desc := "()I" } : Jvm.MethodName)) ∈ lw_all := lw_g (lw_at lw_m7 61 rfl) rfl
theorem q1543 : (Jvm.Cond.methodLink "TaleDuelLaw" (104 : Nat) ({ cls := "TaleDuelModel", name := "errorPosition", desc := "()I" } : Jvm.MethodName)) ∈ lw_all := lw_g (lw_at lw_m7 65 rfl) rfl
theorem q1559 : (Jvm.Cond.methodLink "TaleDuelLaw" (107 : Nat) ({ cls := "TaleDuelModel", name := "about", desc := "(I)I" } : Jvm.MethodName)) ∈ lw_all := lw_g (lw_at lw_m7 81 rfl) rfl
theorem q1573 : (Jvm.Cond.methodLink "TaleDuelLaw" (111 : Nat) ({ cls := "TaleDuelModel", name := "teller", desc := "(II)I" } : Jvm.MethodName)) ∈ lw_all := lw_g (lw_at lw_m7 95 rfl) rfl
theorem q1590 : (Jvm.Cond.methodLink "TaleDuelLaw" (114 : Nat) ({ cls := "TaleDuelModel", name := "forbidden", desc := "(II)I" } : Jvm.MethodName)) ∈ lw_all := lw_g (lw_at lw_m7 112 rfl) rfl
theorem q1594 : (Jvm.Cond.methodLink "TaleDuelLaw" (117 : Nat) ({ cls := "TaleDuelModel", name := "listener", desc := "(II)I" } : Jvm.MethodName)) ∈ lw_all := lw_g (lw_at lw_m7 116 rfl) rfl
theorem q1600 : (Jvm.Cond.methodLink "TaleDuelLaw" (120 : Nat) ({ cls := "TaleDuelModel", name := "told", desc := "(II)I" } : Jvm.MethodName)) ∈ lw_all := lw_g (lw_at lw_m7 122 rfl) rfl
theorem q1604 : (Jvm.Cond.methodLink "TaleDuelLaw" (123 : Nat) ({ cls := "TaleDuelModel", name := "setting", desc := "(I)I" } : Jvm.MethodName)) ∈ lw_all := lw_g (lw_at lw_m7 126 rfl) rfl
theorem q1608 : (Jvm.Cond.methodLink "TaleDuelLaw" (130 : Nat) ({ cls := "TaleDuelModel", name := "begin", desc := "(J)I" } : Jvm.MethodName)) ∈ lw_all := lw_g (lw_at lw_m7 130 rfl) rfl
theorem q1622 : (Jvm.Cond.methodLink "TaleDuelLaw" (134 : Nat) ({ cls := "TaleDuelModel", name := "tell", desc := "()I" } : Jvm.MethodName)) ∈ lw_all := lw_g (lw_at lw_m7 144 rfl) rfl
theorem q1651 : (Jvm.Cond.methodLink "TaleDuelLaw" (137 : Nat) ({ cls := "TaleDuelModel", name := "forbid", desc := "(I)I" } : Jvm.MethodName)) ∈ lw_all := lw_g (lw_at lw_m7 173 rfl) rfl
theorem q1667 : (Jvm.Cond.methodLink "TaleDuelLaw" (140 : Nat) ({ cls := "TaleDuelModel", name := "done", desc := "()I" } : Jvm.MethodName)) ∈ lw_all := lw_g (lw_at lw_m7 189 rfl) rfl
theorem q1674 : (Jvm.Cond.methodLink "TaleDuelLaw" (143 : Nat) ({ cls := "TaleDuelModel", name := "play", desc := "()I" } : Jvm.MethodName)) ∈ lw_all := lw_g (lw_at lw_m7 196 rfl) rfl
theorem q1706 : (Jvm.Cond.methodLink "TaleDuelLaw" (146 : Nat) ({ cls := "TaleDuelModel", name := "set", desc := "(II)I" } : Jvm.MethodName)) ∈ lw_all := lw_g (lw_at lw_m7 228 rfl) rfl
theorem q1717 : (Jvm.Cond.methodLink "TaleDuelLaw" (149 : Nat) ({ cls := "TaleDuelModel", name := "undo", desc := "()I" } : Jvm.MethodName)) ∈ lw_all := lw_g (lw_at lw_m7 239 rfl) rfl
theorem q1721 : (Jvm.Cond.methodLink "TaleDuelLaw" (152 : Nat) ({ cls := "TaleDuelModel", name := "points", desc := "(I)I" } : Jvm.MethodName)) ∈ lw_all := lw_g (lw_at lw_m8 3 rfl) rfl
theorem q1725 : (Jvm.Cond.methodLink "TaleDuelLaw" (155 : Nat) ({ cls := "TaleDuelModel", name := "best", desc := "(II)I" } : Jvm.MethodName)) ∈ lw_all := lw_g (lw_at lw_m8 7 rfl) rfl
theorem q1729 : (Jvm.Cond.methodLink "TaleDuelLaw" (158 : Nat) ({ cls := "TaleDuelModel", name := "ifForbidden", desc := "(II)I" } : Jvm.MethodName)) ∈ lw_all := lw_g (lw_at lw_m8 11 rfl) rfl
theorem q1733 : (Jvm.Cond.methodLink "TaleDuelLaw" (162 : Nat) ({ cls := "TaleDuelModel", name := "bestBan", desc := "()I" } : Jvm.MethodName)) ∈ lw_all := lw_g (lw_at lw_m8 15 rfl) rfl
theorem q1737 : (Jvm.Cond.methodLink "TaleDuelLaw" (165 : Nat) ({ cls := "TaleDuelModel", name := "leaves", desc := "(I)Z" } : Jvm.MethodName)) ∈ lw_all := lw_g (lw_at lw_m8 19 rfl) rfl
theorem q1741 : (Jvm.Cond.methodLink "TaleDuelLaw" (169 : Nat) ({ cls := "TaleDuelModel", name := "runScript", desc := "(IJ)I" } : Jvm.MethodName)) ∈ lw_all := lw_g (lw_at lw_m8 23 rfl) rfl
theorem q1750 : (Jvm.Cond.methodLink "TaleDuelLaw" (173 : Nat) ({ cls := "TaleDuelModel", name := "simulate", desc := "(JI)I" } : Jvm.MethodName)) ∈ lw_all := lw_g (lw_at lw_m8 32 rfl) rfl
theorem q1759 : (Jvm.Cond.methodLink "TaleDuelLaw" (176 : Nat) ({ cls := "TaleDuelModel", name := "save", desc := "(I)I" } : Jvm.MethodName)) ∈ lw_all := lw_g (lw_at lw_m8 41 rfl) rfl
theorem q1763 : (Jvm.Cond.methodLink "TaleDuelLaw" (179 : Nat) ({ cls := "TaleDuelModel", name := "restore", desc := "(I)I" } : Jvm.MethodName)) ∈ lw_all := lw_g (lw_at lw_m8 45 rfl) rfl
theorem q1767 : (Jvm.Cond.constantLong "TaleDuelLaw" (124 : Nat) (4294967295 : Int64)) ∈ lw_all := lw_g (lw_at lw_m8 49 rfl) rfl
/-! the law's own entry -/
set_option maxRecDepth 100000
abbrev cL_law : ByteArray := code
def dkwL_law_63 : List UInt8 := [167, 0, 3, 132, 4, 4, 167, 250, 1, 4, 172]
abbrev dktL_law_63 : List UInt8 := dkwL_law_63 ++ []
def dkwL_law_62 : List UInt8 := [21, 5, 159, 0, 5, 3, 172, 21, 5, 154, 0, 15, 45, 3, 47, 21, 6, 133, 148, 153, 0, 5, 3, 172]
abbrev dktL_law_62 : List UInt8 := dkwL_law_62 ++ dktL_law_63
def dkwL_law_61 : List UInt8 := [46, 45, 184, 0, 177, 54, 5, 44, 42, 21, 4, 4, 96, 46, 182, 0, 179, 54, 6, 44, 182, 0, 94]
abbrev dktL_law_61 : List UInt8 := dkwL_law_61 ++ dktL_law_62
def dkwL_law_60 : List UInt8 := [154, 0, 15, 45, 3, 47, 21, 6, 133, 148, 153, 0, 5, 3, 172, 167, 0, 59, 43, 42, 21, 4, 4, 96]
abbrev dktL_law_60 : List UInt8 := dkwL_law_60 ++ dktL_law_61
def dkwL_law_59 : List UInt8 := [21, 4, 4, 96, 46, 182, 0, 176, 54, 6, 44, 182, 0, 94, 21, 5, 159, 0, 5, 3, 172, 21, 5]
abbrev dktL_law_59 : List UInt8 := dkwL_law_59 ++ dktL_law_60
def dkwL_law_58 : List UInt8 := [153, 0, 5, 3, 172, 167, 0, 115, 43, 42, 21, 4, 4, 96, 46, 45, 184, 0, 174, 54, 5, 44, 42]
abbrev dktL_law_58 : List UInt8 := dkwL_law_58 ++ dktL_law_59
def dkwL_law_57 : List UInt8 := [44, 182, 0, 94, 21, 5, 159, 0, 5, 3, 172, 21, 5, 154, 0, 15, 45, 3, 47, 21, 6, 133, 148]
abbrev dktL_law_57 : List UInt8 := dkwL_law_57 ++ dktL_law_58
def dkwL_law_56 : List UInt8 := [121, 42, 21, 4, 5, 96, 46, 133, 20, 0, 124, 127, 129, 42, 21, 4, 6, 96, 46, 182, 0, 173, 54, 6]
abbrev dktL_law_56 : List UInt8 := dkwL_law_56 ++ dktL_law_57
def dkwL_law_55 : List UInt8 := [127, 129, 42, 21, 4, 6, 96, 46, 45, 184, 0, 170, 54, 5, 44, 42, 21, 4, 4, 96, 46, 133, 16, 32]
abbrev dktL_law_55 : List UInt8 := dkwL_law_55 ++ dktL_law_56
def dkwL_law_54 : List UInt8 := [167, 0, 215, 43, 42, 21, 4, 4, 96, 46, 133, 16, 32, 121, 42, 21, 4, 5, 96, 46, 133, 20, 0, 124]
abbrev dktL_law_54 : List UInt8 := dkwL_law_54 ++ dktL_law_55
def dkwL_law_53 : List UInt8 := [159, 0, 5, 3, 172, 21, 5, 154, 0, 15, 45, 3, 47, 21, 6, 133, 148, 153, 0, 5, 3, 172]
abbrev dktL_law_53 : List UInt8 := dkwL_law_53 ++ dktL_law_54
def dkwL_law_52 : List UInt8 := [21, 4, 6, 96, 46, 133, 20, 0, 124, 127, 129, 182, 0, 169, 54, 6, 44, 182, 0, 94, 21, 5]
abbrev dktL_law_52 : List UInt8 := dkwL_law_52 ++ dktL_law_53
def dkwL_law_51 : List UInt8 := [184, 0, 166, 54, 5, 44, 42, 21, 4, 4, 96, 46, 42, 21, 4, 5, 96, 46, 133, 16, 32, 121, 42]
abbrev dktL_law_51 : List UInt8 := dkwL_law_51 ++ dktL_law_52
def dkwL_law_50 : List UInt8 := [42, 21, 4, 5, 96, 46, 133, 16, 32, 121, 42, 21, 4, 6, 96, 46, 133, 20, 0, 124, 127, 129, 45]
abbrev dktL_law_50 : List UInt8 := dkwL_law_50 ++ dktL_law_51
def dkwL_law_49 : List UInt8 := [153, 0, 7, 10, 167, 0, 4, 9, 148, 153, 0, 5, 3, 172, 167, 1, 59, 43, 42, 21, 4, 4, 96, 46]
abbrev dktL_law_49 : List UInt8 := dkwL_law_49 ++ dktL_law_50
def dkwL_law_48 : List UInt8 := [54, 6, 44, 182, 0, 94, 21, 5, 159, 0, 5, 3, 172, 21, 5, 154, 0, 22, 45, 3, 47, 21, 6]
abbrev dktL_law_48 : List UInt8 := dkwL_law_48 ++ dktL_law_49
def dkwL_law_47 : List UInt8 := [172, 43, 42, 21, 4, 4, 96, 46, 45, 184, 0, 163, 54, 5, 44, 42, 21, 4, 4, 96, 46, 182, 0, 165]
abbrev dktL_law_47 : List UInt8 := dkwL_law_47 ++ dktL_law_48
def dkwL_law_46 : List UInt8 := [21, 6, 133, 148, 153, 0, 5, 3, 172, 167, 1, 135, 43, 182, 0, 159, 44, 182, 0, 162, 159, 1, 124, 3]
abbrev dktL_law_46 : List UInt8 := dkwL_law_46 ++ dktL_law_47
def dkwL_law_45 : List UInt8 := [182, 0, 158, 54, 6, 44, 182, 0, 94, 21, 5, 159, 0, 5, 3, 172, 21, 5, 154, 0, 15, 45, 3, 47]
abbrev dktL_law_45 : List UInt8 := dkwL_law_45 ++ dktL_law_46
def dkwL_law_44 : List UInt8 := [5, 96, 46, 45, 184, 0, 156, 54, 5, 44, 42, 21, 4, 4, 96, 46, 42, 21, 4, 5, 96, 46]
abbrev dktL_law_44 : List UInt8 := dkwL_law_44 ++ dktL_law_45
def dkwL_law_43 : List UInt8 := [3, 47, 21, 6, 133, 148, 153, 0, 5, 3, 172, 167, 1, 203, 43, 42, 21, 4, 4, 96, 46, 42, 21, 4]
abbrev dktL_law_43 : List UInt8 := dkwL_law_43 ++ dktL_law_44
def dkwL_law_42 : List UInt8 := [96, 46, 182, 0, 155, 54, 6, 44, 182, 0, 94, 21, 5, 159, 0, 5, 3, 172, 21, 5, 154, 0, 15, 45]
abbrev dktL_law_42 : List UInt8 := dkwL_law_42 ++ dktL_law_43
def dkwL_law_41 : List UInt8 := [46, 42, 21, 4, 5, 96, 46, 45, 184, 0, 153, 54, 5, 44, 42, 21, 4, 4, 96, 46, 42, 21, 4, 5]
abbrev dktL_law_41 : List UInt8 := dkwL_law_41 ++ dktL_law_42
def dkwL_law_40 : List UInt8 := [154, 0, 15, 45, 3, 47, 21, 6, 133, 148, 153, 0, 5, 3, 172, 167, 2, 15, 43, 42, 21, 4, 4, 96]
abbrev dktL_law_40 : List UInt8 := dkwL_law_40 ++ dktL_law_41
def dkwL_law_39 : List UInt8 := [21, 4, 4, 96, 46, 182, 0, 152, 54, 6, 44, 182, 0, 94, 21, 5, 159, 0, 5, 3, 172, 21, 5]
abbrev dktL_law_39 : List UInt8 := dkwL_law_39 ++ dktL_law_40
def dkwL_law_38 : List UInt8 := [153, 0, 5, 3, 172, 167, 2, 71, 43, 42, 21, 4, 4, 96, 46, 45, 184, 0, 150, 54, 5, 44, 42]
abbrev dktL_law_38 : List UInt8 := dkwL_law_38 ++ dktL_law_39
def dkwL_law_37 : List UInt8 := [182, 0, 94, 21, 5, 159, 0, 5, 3, 172, 21, 5, 154, 0, 15, 45, 3, 47, 21, 6, 133, 148]
abbrev dktL_law_37 : List UInt8 := dkwL_law_37 ++ dktL_law_38
def dkwL_law_36 : List UInt8 := [153, 0, 5, 3, 172, 167, 2, 115, 43, 45, 184, 0, 147, 54, 5, 44, 182, 0, 149, 54, 6, 44]
abbrev dktL_law_36 : List UInt8 := dkwL_law_36 ++ dktL_law_37
def dkwL_law_35 : List UInt8 := [182, 0, 94, 21, 5, 159, 0, 5, 3, 172, 21, 5, 154, 0, 15, 45, 3, 47, 21, 6, 133, 148]
abbrev dktL_law_35 : List UInt8 := dkwL_law_35 ++ dktL_law_36
def dkwL_law_34 : List UInt8 := [184, 0, 144, 54, 5, 44, 42, 21, 4, 4, 96, 46, 42, 21, 4, 5, 96, 46, 182, 0, 146, 54, 6, 44]
abbrev dktL_law_34 : List UInt8 := dkwL_law_34 ++ dktL_law_35
def dkwL_law_33 : List UInt8 := [153, 0, 5, 3, 172, 167, 2, 183, 43, 42, 21, 4, 4, 96, 46, 42, 21, 4, 5, 96, 46, 45]
abbrev dktL_law_33 : List UInt8 := dkwL_law_33 ++ dktL_law_34
def dkwL_law_32 : List UInt8 := [182, 0, 94, 21, 5, 159, 0, 5, 3, 172, 21, 5, 154, 0, 15, 45, 3, 47, 21, 6, 133, 148]
abbrev dktL_law_32 : List UInt8 := dkwL_law_32 ++ dktL_law_33
def dkwL_law_31 : List UInt8 := [148, 153, 0, 5, 3, 172, 167, 2, 227, 43, 45, 184, 0, 141, 54, 5, 44, 182, 0, 143, 54, 6, 44]
abbrev dktL_law_31 : List UInt8 := dkwL_law_31 ++ dktL_law_32
def dkwL_law_30 : List UInt8 := [54, 6, 44, 182, 0, 94, 21, 5, 159, 0, 5, 3, 172, 21, 5, 154, 0, 15, 45, 3, 47, 21, 6, 133]
abbrev dktL_law_30 : List UInt8 := dkwL_law_30 ++ dktL_law_31
def dkwL_law_29 : List UInt8 := [21, 6, 133, 148, 153, 0, 5, 3, 172, 167, 3, 15, 43, 45, 184, 0, 138, 54, 5, 44, 182, 0, 140]
abbrev dktL_law_29 : List UInt8 := dkwL_law_29 ++ dktL_law_30
def dkwL_law_28 : List UInt8 := [182, 0, 137, 54, 6, 44, 182, 0, 94, 21, 5, 159, 0, 5, 3, 172, 21, 5, 154, 0, 15, 45, 3, 47]
abbrev dktL_law_28 : List UInt8 := dkwL_law_28 ++ dktL_law_29
def dkwL_law_27 : List UInt8 := [167, 3, 71, 43, 42, 21, 4, 4, 96, 46, 45, 184, 0, 135, 54, 5, 44, 42, 21, 4, 4, 96, 46]
abbrev dktL_law_27 : List UInt8 := dkwL_law_27 ++ dktL_law_28
def dkwL_law_26 : List UInt8 := [159, 0, 5, 3, 172, 21, 5, 154, 0, 15, 45, 3, 47, 21, 6, 133, 148, 153, 0, 5, 3, 172]
abbrev dktL_law_26 : List UInt8 := dkwL_law_26 ++ dktL_law_27
def dkwL_law_25 : List UInt8 := [159, 3, 117, 3, 172, 43, 45, 184, 0, 131, 54, 5, 44, 182, 0, 134, 54, 6, 44, 182, 0, 94, 21, 5]
abbrev dktL_law_25 : List UInt8 := dkwL_law_25 ++ dktL_law_26
def dkwL_law_24 : List UInt8 := [4, 96, 46, 133, 16, 32, 121, 42, 21, 4, 5, 96, 46, 133, 20, 0, 124, 127, 129, 182, 0, 130]
abbrev dktL_law_24 : List UInt8 := dkwL_law_24 ++ dktL_law_25
def dkwL_law_23 : List UInt8 := [46, 133, 16, 32, 121, 42, 21, 4, 5, 96, 46, 133, 20, 0, 124, 127, 129, 182, 0, 126, 44, 42, 21, 4]
abbrev dktL_law_23 : List UInt8 := dkwL_law_23 ++ dktL_law_24
def dkwL_law_22 : List UInt8 := [154, 0, 15, 45, 3, 47, 21, 6, 133, 148, 153, 0, 5, 3, 172, 167, 3, 172, 43, 42, 21, 4, 4, 96]
abbrev dktL_law_22 : List UInt8 := dkwL_law_22 ++ dktL_law_23
def dkwL_law_21 : List UInt8 := [21, 4, 4, 96, 46, 182, 0, 123, 54, 6, 44, 182, 0, 94, 21, 5, 159, 0, 5, 3, 172, 21, 5]
abbrev dktL_law_21 : List UInt8 := dkwL_law_21 ++ dktL_law_22
def dkwL_law_20 : List UInt8 := [148, 153, 0, 5, 3, 172, 167, 3, 228, 43, 42, 21, 4, 4, 96, 46, 45, 184, 0, 121, 54, 5, 44, 42]
abbrev dktL_law_20 : List UInt8 := dkwL_law_20 ++ dktL_law_21
def dkwL_law_19 : List UInt8 := [54, 6, 44, 182, 0, 94, 21, 5, 159, 0, 5, 3, 172, 21, 5, 154, 0, 15, 45, 3, 47, 21, 6, 133]
abbrev dktL_law_19 : List UInt8 := dkwL_law_19 ++ dktL_law_20
def dkwL_law_18 : List UInt8 := [46, 45, 184, 0, 118, 54, 5, 44, 42, 21, 4, 4, 96, 46, 42, 21, 4, 5, 96, 46, 182, 0, 120]
abbrev dktL_law_18 : List UInt8 := dkwL_law_18 ++ dktL_law_19
def dkwL_law_17 : List UInt8 := [21, 6, 133, 148, 153, 0, 5, 3, 172, 167, 4, 40, 43, 42, 21, 4, 4, 96, 46, 42, 21, 4, 5, 96]
abbrev dktL_law_17 : List UInt8 := dkwL_law_17 ++ dktL_law_18
def dkwL_law_16 : List UInt8 := [182, 0, 117, 54, 6, 44, 182, 0, 94, 21, 5, 159, 0, 5, 3, 172, 21, 5, 154, 0, 15, 45, 3, 47]
abbrev dktL_law_16 : List UInt8 := dkwL_law_16 ++ dktL_law_17
def dkwL_law_15 : List UInt8 := [5, 96, 46, 45, 184, 0, 115, 54, 5, 44, 42, 21, 4, 4, 96, 46, 42, 21, 4, 5, 96, 46]
abbrev dktL_law_15 : List UInt8 := dkwL_law_15 ++ dktL_law_16
def dkwL_law_14 : List UInt8 := [3, 47, 21, 6, 133, 148, 153, 0, 5, 3, 172, 167, 4, 108, 43, 42, 21, 4, 4, 96, 46, 42, 21, 4]
abbrev dktL_law_14 : List UInt8 := dkwL_law_14 ++ dktL_law_15
def dkwL_law_13 : List UInt8 := [96, 46, 182, 0, 114, 54, 6, 44, 182, 0, 94, 21, 5, 159, 0, 5, 3, 172, 21, 5, 154, 0, 15, 45]
abbrev dktL_law_13 : List UInt8 := dkwL_law_13 ++ dktL_law_14
def dkwL_law_12 : List UInt8 := [46, 42, 21, 4, 5, 96, 46, 45, 184, 0, 112, 54, 5, 44, 42, 21, 4, 4, 96, 46, 42, 21, 4, 5]
abbrev dktL_law_12 : List UInt8 := dkwL_law_12 ++ dktL_law_13
def dkwL_law_11 : List UInt8 := [154, 0, 15, 45, 3, 47, 21, 6, 133, 148, 153, 0, 5, 3, 172, 167, 4, 176, 43, 42, 21, 4, 4, 96]
abbrev dktL_law_11 : List UInt8 := dkwL_law_11 ++ dktL_law_12
def dkwL_law_10 : List UInt8 := [42, 21, 4, 5, 96, 46, 182, 0, 111, 54, 6, 44, 182, 0, 94, 21, 5, 159, 0, 5, 3, 172, 21, 5]
abbrev dktL_law_10 : List UInt8 := dkwL_law_10 ++ dktL_law_11
def dkwL_law_9 : List UInt8 := [21, 4, 4, 96, 46, 42, 21, 4, 5, 96, 46, 45, 184, 0, 108, 54, 5, 44, 42, 21, 4, 4, 96, 46]
abbrev dktL_law_9 : List UInt8 := dkwL_law_9 ++ dktL_law_10
def dkwL_law_8 : List UInt8 := [172, 21, 5, 154, 0, 15, 45, 3, 47, 21, 6, 133, 148, 153, 0, 5, 3, 172, 167, 4, 244, 43, 42]
abbrev dktL_law_8 : List UInt8 := dkwL_law_8 ++ dktL_law_9
def dkwL_law_7 : List UInt8 := [54, 5, 44, 42, 21, 4, 4, 96, 46, 182, 0, 107, 54, 6, 44, 182, 0, 94, 21, 5, 159, 0, 5, 3]
abbrev dktL_law_7 : List UInt8 := dkwL_law_7 ++ dktL_law_8
def dkwL_law_6 : List UInt8 := [182, 0, 101, 44, 182, 0, 104, 159, 5, 46, 3, 172, 43, 42, 21, 4, 4, 96, 46, 45, 184, 0, 105]
abbrev dktL_law_6 : List UInt8 := dkwL_law_6 ++ dktL_law_7
def dkwL_law_5 : List UInt8 := [148, 153, 0, 5, 3, 172, 167, 5, 70, 43, 182, 0, 97, 44, 182, 0, 100, 159, 5, 59, 3, 172, 43]
abbrev dktL_law_5 : List UInt8 := dkwL_law_5 ++ dktL_law_6
def dkwL_law_4 : List UInt8 := [54, 6, 44, 182, 0, 94, 21, 5, 159, 0, 5, 3, 172, 21, 5, 154, 0, 15, 45, 3, 47, 21, 6, 133]
abbrev dktL_law_4 : List UInt8 := dkwL_law_4 ++ dktL_law_5
def dkwL_law_3 : List UInt8 := [43, 42, 21, 4, 4, 96, 46, 45, 184, 0, 88, 54, 5, 44, 42, 21, 4, 4, 96, 46, 182, 0, 93]
abbrev dktL_law_3 : List UInt8 := dkwL_law_3 ++ dktL_law_4
def dkwL_law_2 : List UInt8 := [170, 0, 0, 5, 236, 0, 0, 0, 0, 0, 0, 0, 24, 0, 0, 0, 113, 0, 0, 0, 169, 0, 0, 0, 182, 0, 0, 0, 195, 0, 0, 0, 251, 0, 0, 1, 63, 0, 0, 1, 131, 0, 0, 1, 199, 0, 0, 2, 11, 0, 0, 2, 67, 0, 0, 2, 124, 0, 0, 2, 168, 0, 0, 2, 224, 0, 0, 3, 12, 0, 0, 3, 56, 0, 0, 3, 124, 0, 0, 3, 168, 0, 0, 3, 224, 0, 0, 4, 36, 0, 0, 4, 104, 0, 0, 4, 117, 0, 0, 4, 180, 0, 0, 5, 24, 0, 0, 5, 124, 0, 0, 5, 180]
abbrev dktL_law_2 : List UInt8 := dkwL_law_2 ++ dktL_law_3
def dkwL_law_1 : List UInt8 := [21, 4, 42, 190, 7, 100, 163, 5, 252, 42, 21, 4, 46, 16, 31, 126]
abbrev dktL_law_1 : List UInt8 := dkwL_law_1 ++ dktL_law_2
def dkwL_law_0 : List UInt8 := [187, 0, 8, 89, 183, 0, 84, 76, 187, 0, 85, 89, 183, 0, 87, 77, 4, 188, 11, 78, 3, 54, 4]
abbrev dktL_law_0 : List UInt8 := dkwL_law_0 ++ dktL_law_1
theorem dksL_law_0 : cL_law.data.toList.drop 0 = dktL_law_0 := by decide +kernel
theorem dksL_law_1 : cL_law.data.toList.drop 23 = dktL_law_1 := dk_seg dksL_law_0 23 rfl rfl
theorem dksL_law_2 : cL_law.data.toList.drop 39 = dktL_law_2 := dk_seg dksL_law_1 16 rfl rfl
theorem dksL_law_3 : cL_law.data.toList.drop 152 = dktL_law_3 := dk_seg dksL_law_2 113 rfl rfl
theorem dksL_law_4 : cL_law.data.toList.drop 175 = dktL_law_4 := dk_seg dksL_law_3 23 rfl rfl
theorem dksL_law_5 : cL_law.data.toList.drop 199 = dktL_law_5 := dk_seg dksL_law_4 24 rfl rfl
theorem dksL_law_6 : cL_law.data.toList.drop 222 = dktL_law_6 := dk_seg dksL_law_5 23 rfl rfl
theorem dksL_law_7 : cL_law.data.toList.drop 245 = dktL_law_7 := dk_seg dksL_law_6 23 rfl rfl
theorem dksL_law_8 : cL_law.data.toList.drop 269 = dktL_law_8 := dk_seg dksL_law_7 24 rfl rfl
theorem dksL_law_9 : cL_law.data.toList.drop 292 = dktL_law_9 := dk_seg dksL_law_8 23 rfl rfl
theorem dksL_law_10 : cL_law.data.toList.drop 316 = dktL_law_10 := dk_seg dksL_law_9 24 rfl rfl
theorem dksL_law_11 : cL_law.data.toList.drop 340 = dktL_law_11 := dk_seg dksL_law_10 24 rfl rfl
theorem dksL_law_12 : cL_law.data.toList.drop 364 = dktL_law_12 := dk_seg dksL_law_11 24 rfl rfl
theorem dksL_law_13 : cL_law.data.toList.drop 388 = dktL_law_13 := dk_seg dksL_law_12 24 rfl rfl
theorem dksL_law_14 : cL_law.data.toList.drop 412 = dktL_law_14 := dk_seg dksL_law_13 24 rfl rfl
theorem dksL_law_15 : cL_law.data.toList.drop 436 = dktL_law_15 := dk_seg dksL_law_14 24 rfl rfl
theorem dksL_law_16 : cL_law.data.toList.drop 458 = dktL_law_16 := dk_seg dksL_law_15 22 rfl rfl
theorem dksL_law_17 : cL_law.data.toList.drop 482 = dktL_law_17 := dk_seg dksL_law_16 24 rfl rfl
theorem dksL_law_18 : cL_law.data.toList.drop 506 = dktL_law_18 := dk_seg dksL_law_17 24 rfl rfl
theorem dksL_law_19 : cL_law.data.toList.drop 529 = dktL_law_19 := dk_seg dksL_law_18 23 rfl rfl
theorem dksL_law_20 : cL_law.data.toList.drop 553 = dktL_law_20 := dk_seg dksL_law_19 24 rfl rfl
theorem dksL_law_21 : cL_law.data.toList.drop 577 = dktL_law_21 := dk_seg dksL_law_20 24 rfl rfl
theorem dksL_law_22 : cL_law.data.toList.drop 600 = dktL_law_22 := dk_seg dksL_law_21 23 rfl rfl
theorem dksL_law_23 : cL_law.data.toList.drop 624 = dktL_law_23 := dk_seg dksL_law_22 24 rfl rfl
theorem dksL_law_24 : cL_law.data.toList.drop 648 = dktL_law_24 := dk_seg dksL_law_23 24 rfl rfl
theorem dksL_law_25 : cL_law.data.toList.drop 670 = dktL_law_25 := dk_seg dksL_law_24 22 rfl rfl
theorem dksL_law_26 : cL_law.data.toList.drop 694 = dktL_law_26 := dk_seg dksL_law_25 24 rfl rfl
theorem dksL_law_27 : cL_law.data.toList.drop 716 = dktL_law_27 := dk_seg dksL_law_26 22 rfl rfl
theorem dksL_law_28 : cL_law.data.toList.drop 739 = dktL_law_28 := dk_seg dksL_law_27 23 rfl rfl
theorem dksL_law_29 : cL_law.data.toList.drop 763 = dktL_law_29 := dk_seg dksL_law_28 24 rfl rfl
theorem dksL_law_30 : cL_law.data.toList.drop 786 = dktL_law_30 := dk_seg dksL_law_29 23 rfl rfl
theorem dksL_law_31 : cL_law.data.toList.drop 810 = dktL_law_31 := dk_seg dksL_law_30 24 rfl rfl
theorem dksL_law_32 : cL_law.data.toList.drop 833 = dktL_law_32 := dk_seg dksL_law_31 23 rfl rfl
theorem dksL_law_33 : cL_law.data.toList.drop 855 = dktL_law_33 := dk_seg dksL_law_32 22 rfl rfl
theorem dksL_law_34 : cL_law.data.toList.drop 877 = dktL_law_34 := dk_seg dksL_law_33 22 rfl rfl
theorem dksL_law_35 : cL_law.data.toList.drop 901 = dktL_law_35 := dk_seg dksL_law_34 24 rfl rfl
theorem dksL_law_36 : cL_law.data.toList.drop 923 = dktL_law_36 := dk_seg dksL_law_35 22 rfl rfl
theorem dksL_law_37 : cL_law.data.toList.drop 945 = dktL_law_37 := dk_seg dksL_law_36 22 rfl rfl
theorem dksL_law_38 : cL_law.data.toList.drop 967 = dktL_law_38 := dk_seg dksL_law_37 22 rfl rfl
theorem dksL_law_39 : cL_law.data.toList.drop 990 = dktL_law_39 := dk_seg dksL_law_38 23 rfl rfl
theorem dksL_law_40 : cL_law.data.toList.drop 1013 = dktL_law_40 := dk_seg dksL_law_39 23 rfl rfl
theorem dksL_law_41 : cL_law.data.toList.drop 1037 = dktL_law_41 := dk_seg dksL_law_40 24 rfl rfl
theorem dksL_law_42 : cL_law.data.toList.drop 1061 = dktL_law_42 := dk_seg dksL_law_41 24 rfl rfl
theorem dksL_law_43 : cL_law.data.toList.drop 1085 = dktL_law_43 := dk_seg dksL_law_42 24 rfl rfl
theorem dksL_law_44 : cL_law.data.toList.drop 1109 = dktL_law_44 := dk_seg dksL_law_43 24 rfl rfl
theorem dksL_law_45 : cL_law.data.toList.drop 1131 = dktL_law_45 := dk_seg dksL_law_44 22 rfl rfl
theorem dksL_law_46 : cL_law.data.toList.drop 1155 = dktL_law_46 := dk_seg dksL_law_45 24 rfl rfl
theorem dksL_law_47 : cL_law.data.toList.drop 1179 = dktL_law_47 := dk_seg dksL_law_46 24 rfl rfl
theorem dksL_law_48 : cL_law.data.toList.drop 1203 = dktL_law_48 := dk_seg dksL_law_47 24 rfl rfl
theorem dksL_law_49 : cL_law.data.toList.drop 1226 = dktL_law_49 := dk_seg dksL_law_48 23 rfl rfl
theorem dksL_law_50 : cL_law.data.toList.drop 1250 = dktL_law_50 := dk_seg dksL_law_49 24 rfl rfl
theorem dksL_law_51 : cL_law.data.toList.drop 1273 = dktL_law_51 := dk_seg dksL_law_50 23 rfl rfl
theorem dksL_law_52 : cL_law.data.toList.drop 1296 = dktL_law_52 := dk_seg dksL_law_51 23 rfl rfl
theorem dksL_law_53 : cL_law.data.toList.drop 1318 = dktL_law_53 := dk_seg dksL_law_52 22 rfl rfl
theorem dksL_law_54 : cL_law.data.toList.drop 1340 = dktL_law_54 := dk_seg dksL_law_53 22 rfl rfl
theorem dksL_law_55 : cL_law.data.toList.drop 1364 = dktL_law_55 := dk_seg dksL_law_54 24 rfl rfl
theorem dksL_law_56 : cL_law.data.toList.drop 1388 = dktL_law_56 := dk_seg dksL_law_55 24 rfl rfl
theorem dksL_law_57 : cL_law.data.toList.drop 1412 = dktL_law_57 := dk_seg dksL_law_56 24 rfl rfl
theorem dksL_law_58 : cL_law.data.toList.drop 1435 = dktL_law_58 := dk_seg dksL_law_57 23 rfl rfl
theorem dksL_law_59 : cL_law.data.toList.drop 1458 = dktL_law_59 := dk_seg dksL_law_58 23 rfl rfl
theorem dksL_law_60 : cL_law.data.toList.drop 1481 = dktL_law_60 := dk_seg dksL_law_59 23 rfl rfl
theorem dksL_law_61 : cL_law.data.toList.drop 1505 = dktL_law_61 := dk_seg dksL_law_60 24 rfl rfl
theorem dksL_law_62 : cL_law.data.toList.drop 1528 = dktL_law_62 := dk_seg dksL_law_61 23 rfl rfl
theorem dksL_law_63 : cL_law.data.toList.drop 1552 = dktL_law_63 := dk_seg dksL_law_62 24 rfl rfl
theorem dL_law_0 : decode cL_law 0 = .ok (.new 8, 3) := dk_187 0 8 (dk_at dksL_law_0 0 rfl rfl)
theorem dL_law_3 : decode cL_law 3 = .ok (.dup, 1) := dk_89 (dk_at dksL_law_0 3 rfl rfl)
theorem dL_law_4 : decode cL_law 4 = .ok (.invokespecial 84, 3) := dk_183 0 84 (dk_at dksL_law_0 4 rfl rfl)
theorem dL_law_7 : decode cL_law 7 = .ok (.astore_n 1, 1) := dk_76 (dk_at dksL_law_0 7 rfl rfl)
theorem dL_law_8 : decode cL_law 8 = .ok (.new 85, 3) := dk_187 0 85 (dk_at dksL_law_0 8 rfl rfl)
theorem dL_law_11 : decode cL_law 11 = .ok (.dup, 1) := dk_89 (dk_at dksL_law_0 11 rfl rfl)
theorem dL_law_12 : decode cL_law 12 = .ok (.invokespecial 87, 3) := dk_183 0 87 (dk_at dksL_law_0 12 rfl rfl)
theorem dL_law_15 : decode cL_law 15 = .ok (.astore_n 2, 1) := dk_77 (dk_at dksL_law_0 15 rfl rfl)
theorem dL_law_16 : decode cL_law 16 = .ok (.iconst 1, 1) := dk_4 (dk_at dksL_law_0 16 rfl rfl)
theorem dL_law_17 : decode cL_law 17 = .ok (.newarray .long, 2) := dk_188_11 (dk_at dksL_law_0 17 rfl rfl)
theorem dL_law_19 : decode cL_law 19 = .ok (.astore_n 3, 1) := dk_78 (dk_at dksL_law_0 19 rfl rfl)
theorem dL_law_20 : decode cL_law 20 = .ok (.iconst 0, 1) := dk_3 (dk_at dksL_law_0 20 rfl rfl)
theorem dL_law_21 : decode cL_law 21 = .ok (.istore 4, 2) := dk_54 4 (dk_at dksL_law_0 21 rfl rfl)
theorem dL_law_23 : decode cL_law 23 = .ok (.iload 4, 2) := dk_21 4 (dk_at dksL_law_1 0 rfl rfl)
theorem dL_law_25 : decode cL_law 25 = .ok (.aload_n 0, 1) := dk_42 (dk_at dksL_law_1 2 rfl rfl)
theorem dL_law_26 : decode cL_law 26 = .ok (.arraylength, 1) := dk_190 (dk_at dksL_law_1 3 rfl rfl)
theorem dL_law_27 : decode cL_law 27 = .ok (.iconst 4, 1) := dk_7 (dk_at dksL_law_1 4 rfl rfl)
theorem dL_law_28 : decode cL_law 28 = .ok (.isub, 1) := dk_100 (dk_at dksL_law_1 5 rfl rfl)
theorem dL_law_29 : decode cL_law 29 = .ok (.if_icmp .gt 1532, 3) := dk_163 5 252 (dk_at dksL_law_1 6 rfl rfl)
theorem dL_law_32 : decode cL_law 32 = .ok (.aload_n 0, 1) := dk_42 (dk_at dksL_law_1 9 rfl rfl)
theorem dL_law_33 : decode cL_law 33 = .ok (.iload 4, 2) := dk_21 4 (dk_at dksL_law_1 10 rfl rfl)
theorem dL_law_35 : decode cL_law 35 = .ok (.iaload, 1) := dk_46 (dk_at dksL_law_1 12 rfl rfl)
theorem dL_law_36 : decode cL_law 36 = .ok (.bipush 31, 2) := dk_16 31 (dk_at dksL_law_1 13 rfl rfl)
theorem dL_law_38 : decode cL_law 38 = .ok (.iand, 1) := dk_126 (dk_at dksL_law_1 15 rfl rfl)
theorem dL_law_39 : decode cL_law 39 = .ok (.tableswitch 1516 0 24 #[113, 169, 182, 195, 251, 319, 387, 455, 523, 579, 636, 680, 736, 780, 824, 892, 936, 992, 1060, 1128, 1141, 1204, 1304, 1404, 1460], 113) := by decide +kernel
theorem dL_law_152 : decode cL_law 152 = .ok (.aload_n 1, 1) := dk_43 (dk_at dksL_law_3 0 rfl rfl)
theorem dL_law_153 : decode cL_law 153 = .ok (.aload_n 0, 1) := dk_42 (dk_at dksL_law_3 1 rfl rfl)
theorem dL_law_154 : decode cL_law 154 = .ok (.iload 4, 2) := dk_21 4 (dk_at dksL_law_3 2 rfl rfl)
theorem dL_law_156 : decode cL_law 156 = .ok (.iconst 1, 1) := dk_4 (dk_at dksL_law_3 4 rfl rfl)
theorem dL_law_157 : decode cL_law 157 = .ok (.iadd, 1) := dk_96 (dk_at dksL_law_3 5 rfl rfl)
theorem dL_law_158 : decode cL_law 158 = .ok (.iaload, 1) := dk_46 (dk_at dksL_law_3 6 rfl rfl)
theorem dL_law_159 : decode cL_law 159 = .ok (.aload_n 3, 1) := dk_45 (dk_at dksL_law_3 7 rfl rfl)
theorem dL_law_160 : decode cL_law 160 = .ok (.invokestatic 88, 3) := dk_184 0 88 (dk_at dksL_law_3 8 rfl rfl)
theorem dL_law_163 : decode cL_law 163 = .ok (.istore 5, 2) := dk_54 5 (dk_at dksL_law_3 11 rfl rfl)
theorem dL_law_165 : decode cL_law 165 = .ok (.aload_n 2, 1) := dk_44 (dk_at dksL_law_3 13 rfl rfl)
theorem dL_law_166 : decode cL_law 166 = .ok (.aload_n 0, 1) := dk_42 (dk_at dksL_law_3 14 rfl rfl)
theorem dL_law_167 : decode cL_law 167 = .ok (.iload 4, 2) := dk_21 4 (dk_at dksL_law_3 15 rfl rfl)
theorem dL_law_169 : decode cL_law 169 = .ok (.iconst 1, 1) := dk_4 (dk_at dksL_law_3 17 rfl rfl)
theorem dL_law_170 : decode cL_law 170 = .ok (.iadd, 1) := dk_96 (dk_at dksL_law_3 18 rfl rfl)
theorem dL_law_171 : decode cL_law 171 = .ok (.iaload, 1) := dk_46 (dk_at dksL_law_3 19 rfl rfl)
theorem dL_law_172 : decode cL_law 172 = .ok (.invokevirtual 93, 3) := dk_182 0 93 (dk_at dksL_law_3 20 rfl rfl)
theorem dL_law_175 : decode cL_law 175 = .ok (.istore 6, 2) := dk_54 6 (dk_at dksL_law_4 0 rfl rfl)
theorem dL_law_177 : decode cL_law 177 = .ok (.aload_n 2, 1) := dk_44 (dk_at dksL_law_4 2 rfl rfl)
theorem dL_law_178 : decode cL_law 178 = .ok (.invokevirtual 94, 3) := dk_182 0 94 (dk_at dksL_law_4 3 rfl rfl)
theorem dL_law_181 : decode cL_law 181 = .ok (.iload 5, 2) := dk_21 5 (dk_at dksL_law_4 6 rfl rfl)
theorem dL_law_183 : decode cL_law 183 = .ok (.if_icmp .eq 5, 3) := dk_159 0 5 (dk_at dksL_law_4 8 rfl rfl)
theorem dL_law_186 : decode cL_law 186 = .ok (.iconst 0, 1) := dk_3 (dk_at dksL_law_4 11 rfl rfl)
theorem dL_law_187 : decode cL_law 187 = .ok (.ireturn, 1) := dk_172 (dk_at dksL_law_4 12 rfl rfl)
theorem dL_law_188 : decode cL_law 188 = .ok (.iload 5, 2) := dk_21 5 (dk_at dksL_law_4 13 rfl rfl)
theorem dL_law_190 : decode cL_law 190 = .ok (.ifCond .ne 15, 3) := dk_154 0 15 (dk_at dksL_law_4 15 rfl rfl)
theorem dL_law_193 : decode cL_law 193 = .ok (.aload_n 3, 1) := dk_45 (dk_at dksL_law_4 18 rfl rfl)
theorem dL_law_194 : decode cL_law 194 = .ok (.iconst 0, 1) := dk_3 (dk_at dksL_law_4 19 rfl rfl)
theorem dL_law_195 : decode cL_law 195 = .ok (.laload, 1) := dk_47 (dk_at dksL_law_4 20 rfl rfl)
theorem dL_law_196 : decode cL_law 196 = .ok (.iload 6, 2) := dk_21 6 (dk_at dksL_law_4 21 rfl rfl)
theorem dL_law_198 : decode cL_law 198 = .ok (.i2l, 1) := dk_133 (dk_at dksL_law_4 23 rfl rfl)
theorem dL_law_199 : decode cL_law 199 = .ok (.lcmp, 1) := dk_148 (dk_at dksL_law_5 0 rfl rfl)
theorem dL_law_200 : decode cL_law 200 = .ok (.ifCond .eq 5, 3) := dk_153 0 5 (dk_at dksL_law_5 1 rfl rfl)
theorem dL_law_203 : decode cL_law 203 = .ok (.iconst 0, 1) := dk_3 (dk_at dksL_law_5 4 rfl rfl)
theorem dL_law_204 : decode cL_law 204 = .ok (.ireturn, 1) := dk_172 (dk_at dksL_law_5 5 rfl rfl)
theorem dL_law_205 : decode cL_law 205 = .ok (.goto 1350, 3) := dk_167 5 70 (dk_at dksL_law_5 6 rfl rfl)
theorem dL_law_208 : decode cL_law 208 = .ok (.aload_n 1, 1) := dk_43 (dk_at dksL_law_5 9 rfl rfl)
theorem dL_law_209 : decode cL_law 209 = .ok (.invokevirtual 97, 3) := dk_182 0 97 (dk_at dksL_law_5 10 rfl rfl)
theorem dL_law_212 : decode cL_law 212 = .ok (.aload_n 2, 1) := dk_44 (dk_at dksL_law_5 13 rfl rfl)
theorem dL_law_213 : decode cL_law 213 = .ok (.invokevirtual 100, 3) := dk_182 0 100 (dk_at dksL_law_5 14 rfl rfl)
theorem dL_law_216 : decode cL_law 216 = .ok (.if_icmp .eq 1339, 3) := dk_159 5 59 (dk_at dksL_law_5 17 rfl rfl)
theorem dL_law_219 : decode cL_law 219 = .ok (.iconst 0, 1) := dk_3 (dk_at dksL_law_5 20 rfl rfl)
theorem dL_law_220 : decode cL_law 220 = .ok (.ireturn, 1) := dk_172 (dk_at dksL_law_5 21 rfl rfl)
theorem dL_law_221 : decode cL_law 221 = .ok (.aload_n 1, 1) := dk_43 (dk_at dksL_law_5 22 rfl rfl)
theorem dL_law_222 : decode cL_law 222 = .ok (.invokevirtual 101, 3) := dk_182 0 101 (dk_at dksL_law_6 0 rfl rfl)
theorem dL_law_225 : decode cL_law 225 = .ok (.aload_n 2, 1) := dk_44 (dk_at dksL_law_6 3 rfl rfl)
theorem dL_law_226 : decode cL_law 226 = .ok (.invokevirtual 104, 3) := dk_182 0 104 (dk_at dksL_law_6 4 rfl rfl)
theorem dL_law_229 : decode cL_law 229 = .ok (.if_icmp .eq 1326, 3) := dk_159 5 46 (dk_at dksL_law_6 7 rfl rfl)
theorem dL_law_232 : decode cL_law 232 = .ok (.iconst 0, 1) := dk_3 (dk_at dksL_law_6 10 rfl rfl)
theorem dL_law_233 : decode cL_law 233 = .ok (.ireturn, 1) := dk_172 (dk_at dksL_law_6 11 rfl rfl)
theorem dL_law_234 : decode cL_law 234 = .ok (.aload_n 1, 1) := dk_43 (dk_at dksL_law_6 12 rfl rfl)
theorem dL_law_235 : decode cL_law 235 = .ok (.aload_n 0, 1) := dk_42 (dk_at dksL_law_6 13 rfl rfl)
theorem dL_law_236 : decode cL_law 236 = .ok (.iload 4, 2) := dk_21 4 (dk_at dksL_law_6 14 rfl rfl)
theorem dL_law_238 : decode cL_law 238 = .ok (.iconst 1, 1) := dk_4 (dk_at dksL_law_6 16 rfl rfl)
theorem dL_law_239 : decode cL_law 239 = .ok (.iadd, 1) := dk_96 (dk_at dksL_law_6 17 rfl rfl)
theorem dL_law_240 : decode cL_law 240 = .ok (.iaload, 1) := dk_46 (dk_at dksL_law_6 18 rfl rfl)
theorem dL_law_241 : decode cL_law 241 = .ok (.aload_n 3, 1) := dk_45 (dk_at dksL_law_6 19 rfl rfl)
theorem dL_law_242 : decode cL_law 242 = .ok (.invokestatic 105, 3) := dk_184 0 105 (dk_at dksL_law_6 20 rfl rfl)
theorem dL_law_245 : decode cL_law 245 = .ok (.istore 5, 2) := dk_54 5 (dk_at dksL_law_7 0 rfl rfl)
theorem dL_law_247 : decode cL_law 247 = .ok (.aload_n 2, 1) := dk_44 (dk_at dksL_law_7 2 rfl rfl)
theorem dL_law_248 : decode cL_law 248 = .ok (.aload_n 0, 1) := dk_42 (dk_at dksL_law_7 3 rfl rfl)
theorem dL_law_249 : decode cL_law 249 = .ok (.iload 4, 2) := dk_21 4 (dk_at dksL_law_7 4 rfl rfl)
theorem dL_law_251 : decode cL_law 251 = .ok (.iconst 1, 1) := dk_4 (dk_at dksL_law_7 6 rfl rfl)
theorem dL_law_252 : decode cL_law 252 = .ok (.iadd, 1) := dk_96 (dk_at dksL_law_7 7 rfl rfl)
theorem dL_law_253 : decode cL_law 253 = .ok (.iaload, 1) := dk_46 (dk_at dksL_law_7 8 rfl rfl)
theorem dL_law_254 : decode cL_law 254 = .ok (.invokevirtual 107, 3) := dk_182 0 107 (dk_at dksL_law_7 9 rfl rfl)
theorem dL_law_257 : decode cL_law 257 = .ok (.istore 6, 2) := dk_54 6 (dk_at dksL_law_7 12 rfl rfl)
theorem dL_law_259 : decode cL_law 259 = .ok (.aload_n 2, 1) := dk_44 (dk_at dksL_law_7 14 rfl rfl)
theorem dL_law_260 : decode cL_law 260 = .ok (.invokevirtual 94, 3) := dk_182 0 94 (dk_at dksL_law_7 15 rfl rfl)
theorem dL_law_263 : decode cL_law 263 = .ok (.iload 5, 2) := dk_21 5 (dk_at dksL_law_7 18 rfl rfl)
theorem dL_law_265 : decode cL_law 265 = .ok (.if_icmp .eq 5, 3) := dk_159 0 5 (dk_at dksL_law_7 20 rfl rfl)
theorem dL_law_268 : decode cL_law 268 = .ok (.iconst 0, 1) := dk_3 (dk_at dksL_law_7 23 rfl rfl)
theorem dL_law_269 : decode cL_law 269 = .ok (.ireturn, 1) := dk_172 (dk_at dksL_law_8 0 rfl rfl)
theorem dL_law_270 : decode cL_law 270 = .ok (.iload 5, 2) := dk_21 5 (dk_at dksL_law_8 1 rfl rfl)
theorem dL_law_272 : decode cL_law 272 = .ok (.ifCond .ne 15, 3) := dk_154 0 15 (dk_at dksL_law_8 3 rfl rfl)
theorem dL_law_275 : decode cL_law 275 = .ok (.aload_n 3, 1) := dk_45 (dk_at dksL_law_8 6 rfl rfl)
theorem dL_law_276 : decode cL_law 276 = .ok (.iconst 0, 1) := dk_3 (dk_at dksL_law_8 7 rfl rfl)
theorem dL_law_277 : decode cL_law 277 = .ok (.laload, 1) := dk_47 (dk_at dksL_law_8 8 rfl rfl)
theorem dL_law_278 : decode cL_law 278 = .ok (.iload 6, 2) := dk_21 6 (dk_at dksL_law_8 9 rfl rfl)
theorem dL_law_280 : decode cL_law 280 = .ok (.i2l, 1) := dk_133 (dk_at dksL_law_8 11 rfl rfl)
theorem dL_law_281 : decode cL_law 281 = .ok (.lcmp, 1) := dk_148 (dk_at dksL_law_8 12 rfl rfl)
theorem dL_law_282 : decode cL_law 282 = .ok (.ifCond .eq 5, 3) := dk_153 0 5 (dk_at dksL_law_8 13 rfl rfl)
theorem dL_law_285 : decode cL_law 285 = .ok (.iconst 0, 1) := dk_3 (dk_at dksL_law_8 16 rfl rfl)
theorem dL_law_286 : decode cL_law 286 = .ok (.ireturn, 1) := dk_172 (dk_at dksL_law_8 17 rfl rfl)
theorem dL_law_287 : decode cL_law 287 = .ok (.goto 1268, 3) := dk_167 4 244 (dk_at dksL_law_8 18 rfl rfl)
theorem dL_law_290 : decode cL_law 290 = .ok (.aload_n 1, 1) := dk_43 (dk_at dksL_law_8 21 rfl rfl)
theorem dL_law_291 : decode cL_law 291 = .ok (.aload_n 0, 1) := dk_42 (dk_at dksL_law_8 22 rfl rfl)
theorem dL_law_292 : decode cL_law 292 = .ok (.iload 4, 2) := dk_21 4 (dk_at dksL_law_9 0 rfl rfl)
theorem dL_law_294 : decode cL_law 294 = .ok (.iconst 1, 1) := dk_4 (dk_at dksL_law_9 2 rfl rfl)
theorem dL_law_295 : decode cL_law 295 = .ok (.iadd, 1) := dk_96 (dk_at dksL_law_9 3 rfl rfl)
theorem dL_law_296 : decode cL_law 296 = .ok (.iaload, 1) := dk_46 (dk_at dksL_law_9 4 rfl rfl)
theorem dL_law_297 : decode cL_law 297 = .ok (.aload_n 0, 1) := dk_42 (dk_at dksL_law_9 5 rfl rfl)
theorem dL_law_298 : decode cL_law 298 = .ok (.iload 4, 2) := dk_21 4 (dk_at dksL_law_9 6 rfl rfl)
theorem dL_law_300 : decode cL_law 300 = .ok (.iconst 2, 1) := dk_5 (dk_at dksL_law_9 8 rfl rfl)
theorem dL_law_301 : decode cL_law 301 = .ok (.iadd, 1) := dk_96 (dk_at dksL_law_9 9 rfl rfl)
theorem dL_law_302 : decode cL_law 302 = .ok (.iaload, 1) := dk_46 (dk_at dksL_law_9 10 rfl rfl)
theorem dL_law_303 : decode cL_law 303 = .ok (.aload_n 3, 1) := dk_45 (dk_at dksL_law_9 11 rfl rfl)
theorem dL_law_304 : decode cL_law 304 = .ok (.invokestatic 108, 3) := dk_184 0 108 (dk_at dksL_law_9 12 rfl rfl)
theorem dL_law_307 : decode cL_law 307 = .ok (.istore 5, 2) := dk_54 5 (dk_at dksL_law_9 15 rfl rfl)
theorem dL_law_309 : decode cL_law 309 = .ok (.aload_n 2, 1) := dk_44 (dk_at dksL_law_9 17 rfl rfl)
theorem dL_law_310 : decode cL_law 310 = .ok (.aload_n 0, 1) := dk_42 (dk_at dksL_law_9 18 rfl rfl)
theorem dL_law_311 : decode cL_law 311 = .ok (.iload 4, 2) := dk_21 4 (dk_at dksL_law_9 19 rfl rfl)
theorem dL_law_313 : decode cL_law 313 = .ok (.iconst 1, 1) := dk_4 (dk_at dksL_law_9 21 rfl rfl)
theorem dL_law_314 : decode cL_law 314 = .ok (.iadd, 1) := dk_96 (dk_at dksL_law_9 22 rfl rfl)
theorem dL_law_315 : decode cL_law 315 = .ok (.iaload, 1) := dk_46 (dk_at dksL_law_9 23 rfl rfl)
theorem dL_law_316 : decode cL_law 316 = .ok (.aload_n 0, 1) := dk_42 (dk_at dksL_law_10 0 rfl rfl)
theorem dL_law_317 : decode cL_law 317 = .ok (.iload 4, 2) := dk_21 4 (dk_at dksL_law_10 1 rfl rfl)
theorem dL_law_319 : decode cL_law 319 = .ok (.iconst 2, 1) := dk_5 (dk_at dksL_law_10 3 rfl rfl)
theorem dL_law_320 : decode cL_law 320 = .ok (.iadd, 1) := dk_96 (dk_at dksL_law_10 4 rfl rfl)
theorem dL_law_321 : decode cL_law 321 = .ok (.iaload, 1) := dk_46 (dk_at dksL_law_10 5 rfl rfl)
theorem dL_law_322 : decode cL_law 322 = .ok (.invokevirtual 111, 3) := dk_182 0 111 (dk_at dksL_law_10 6 rfl rfl)
theorem dL_law_325 : decode cL_law 325 = .ok (.istore 6, 2) := dk_54 6 (dk_at dksL_law_10 9 rfl rfl)
theorem dL_law_327 : decode cL_law 327 = .ok (.aload_n 2, 1) := dk_44 (dk_at dksL_law_10 11 rfl rfl)
theorem dL_law_328 : decode cL_law 328 = .ok (.invokevirtual 94, 3) := dk_182 0 94 (dk_at dksL_law_10 12 rfl rfl)
theorem dL_law_331 : decode cL_law 331 = .ok (.iload 5, 2) := dk_21 5 (dk_at dksL_law_10 15 rfl rfl)
theorem dL_law_333 : decode cL_law 333 = .ok (.if_icmp .eq 5, 3) := dk_159 0 5 (dk_at dksL_law_10 17 rfl rfl)
theorem dL_law_336 : decode cL_law 336 = .ok (.iconst 0, 1) := dk_3 (dk_at dksL_law_10 20 rfl rfl)
theorem dL_law_337 : decode cL_law 337 = .ok (.ireturn, 1) := dk_172 (dk_at dksL_law_10 21 rfl rfl)
theorem dL_law_338 : decode cL_law 338 = .ok (.iload 5, 2) := dk_21 5 (dk_at dksL_law_10 22 rfl rfl)
theorem dL_law_340 : decode cL_law 340 = .ok (.ifCond .ne 15, 3) := dk_154 0 15 (dk_at dksL_law_11 0 rfl rfl)
theorem dL_law_343 : decode cL_law 343 = .ok (.aload_n 3, 1) := dk_45 (dk_at dksL_law_11 3 rfl rfl)
theorem dL_law_344 : decode cL_law 344 = .ok (.iconst 0, 1) := dk_3 (dk_at dksL_law_11 4 rfl rfl)
theorem dL_law_345 : decode cL_law 345 = .ok (.laload, 1) := dk_47 (dk_at dksL_law_11 5 rfl rfl)
theorem dL_law_346 : decode cL_law 346 = .ok (.iload 6, 2) := dk_21 6 (dk_at dksL_law_11 6 rfl rfl)
theorem dL_law_348 : decode cL_law 348 = .ok (.i2l, 1) := dk_133 (dk_at dksL_law_11 8 rfl rfl)
theorem dL_law_349 : decode cL_law 349 = .ok (.lcmp, 1) := dk_148 (dk_at dksL_law_11 9 rfl rfl)
theorem dL_law_350 : decode cL_law 350 = .ok (.ifCond .eq 5, 3) := dk_153 0 5 (dk_at dksL_law_11 10 rfl rfl)
theorem dL_law_353 : decode cL_law 353 = .ok (.iconst 0, 1) := dk_3 (dk_at dksL_law_11 13 rfl rfl)
theorem dL_law_354 : decode cL_law 354 = .ok (.ireturn, 1) := dk_172 (dk_at dksL_law_11 14 rfl rfl)
theorem dL_law_355 : decode cL_law 355 = .ok (.goto 1200, 3) := dk_167 4 176 (dk_at dksL_law_11 15 rfl rfl)
theorem dL_law_358 : decode cL_law 358 = .ok (.aload_n 1, 1) := dk_43 (dk_at dksL_law_11 18 rfl rfl)
theorem dL_law_359 : decode cL_law 359 = .ok (.aload_n 0, 1) := dk_42 (dk_at dksL_law_11 19 rfl rfl)
theorem dL_law_360 : decode cL_law 360 = .ok (.iload 4, 2) := dk_21 4 (dk_at dksL_law_11 20 rfl rfl)
theorem dL_law_362 : decode cL_law 362 = .ok (.iconst 1, 1) := dk_4 (dk_at dksL_law_11 22 rfl rfl)
theorem dL_law_363 : decode cL_law 363 = .ok (.iadd, 1) := dk_96 (dk_at dksL_law_11 23 rfl rfl)
theorem dL_law_364 : decode cL_law 364 = .ok (.iaload, 1) := dk_46 (dk_at dksL_law_12 0 rfl rfl)
theorem dL_law_365 : decode cL_law 365 = .ok (.aload_n 0, 1) := dk_42 (dk_at dksL_law_12 1 rfl rfl)
theorem dL_law_366 : decode cL_law 366 = .ok (.iload 4, 2) := dk_21 4 (dk_at dksL_law_12 2 rfl rfl)
theorem dL_law_368 : decode cL_law 368 = .ok (.iconst 2, 1) := dk_5 (dk_at dksL_law_12 4 rfl rfl)
theorem dL_law_369 : decode cL_law 369 = .ok (.iadd, 1) := dk_96 (dk_at dksL_law_12 5 rfl rfl)
theorem dL_law_370 : decode cL_law 370 = .ok (.iaload, 1) := dk_46 (dk_at dksL_law_12 6 rfl rfl)
theorem dL_law_371 : decode cL_law 371 = .ok (.aload_n 3, 1) := dk_45 (dk_at dksL_law_12 7 rfl rfl)
theorem dL_law_372 : decode cL_law 372 = .ok (.invokestatic 112, 3) := dk_184 0 112 (dk_at dksL_law_12 8 rfl rfl)
theorem dL_law_375 : decode cL_law 375 = .ok (.istore 5, 2) := dk_54 5 (dk_at dksL_law_12 11 rfl rfl)
theorem dL_law_377 : decode cL_law 377 = .ok (.aload_n 2, 1) := dk_44 (dk_at dksL_law_12 13 rfl rfl)
theorem dL_law_378 : decode cL_law 378 = .ok (.aload_n 0, 1) := dk_42 (dk_at dksL_law_12 14 rfl rfl)
theorem dL_law_379 : decode cL_law 379 = .ok (.iload 4, 2) := dk_21 4 (dk_at dksL_law_12 15 rfl rfl)
theorem dL_law_381 : decode cL_law 381 = .ok (.iconst 1, 1) := dk_4 (dk_at dksL_law_12 17 rfl rfl)
theorem dL_law_382 : decode cL_law 382 = .ok (.iadd, 1) := dk_96 (dk_at dksL_law_12 18 rfl rfl)
theorem dL_law_383 : decode cL_law 383 = .ok (.iaload, 1) := dk_46 (dk_at dksL_law_12 19 rfl rfl)
theorem dL_law_384 : decode cL_law 384 = .ok (.aload_n 0, 1) := dk_42 (dk_at dksL_law_12 20 rfl rfl)
theorem dL_law_385 : decode cL_law 385 = .ok (.iload 4, 2) := dk_21 4 (dk_at dksL_law_12 21 rfl rfl)
theorem dL_law_387 : decode cL_law 387 = .ok (.iconst 2, 1) := dk_5 (dk_at dksL_law_12 23 rfl rfl)
theorem dL_law_388 : decode cL_law 388 = .ok (.iadd, 1) := dk_96 (dk_at dksL_law_13 0 rfl rfl)
theorem dL_law_389 : decode cL_law 389 = .ok (.iaload, 1) := dk_46 (dk_at dksL_law_13 1 rfl rfl)
theorem dL_law_390 : decode cL_law 390 = .ok (.invokevirtual 114, 3) := dk_182 0 114 (dk_at dksL_law_13 2 rfl rfl)
theorem dL_law_393 : decode cL_law 393 = .ok (.istore 6, 2) := dk_54 6 (dk_at dksL_law_13 5 rfl rfl)
theorem dL_law_395 : decode cL_law 395 = .ok (.aload_n 2, 1) := dk_44 (dk_at dksL_law_13 7 rfl rfl)
theorem dL_law_396 : decode cL_law 396 = .ok (.invokevirtual 94, 3) := dk_182 0 94 (dk_at dksL_law_13 8 rfl rfl)
theorem dL_law_399 : decode cL_law 399 = .ok (.iload 5, 2) := dk_21 5 (dk_at dksL_law_13 11 rfl rfl)
theorem dL_law_401 : decode cL_law 401 = .ok (.if_icmp .eq 5, 3) := dk_159 0 5 (dk_at dksL_law_13 13 rfl rfl)
theorem dL_law_404 : decode cL_law 404 = .ok (.iconst 0, 1) := dk_3 (dk_at dksL_law_13 16 rfl rfl)
theorem dL_law_405 : decode cL_law 405 = .ok (.ireturn, 1) := dk_172 (dk_at dksL_law_13 17 rfl rfl)
theorem dL_law_406 : decode cL_law 406 = .ok (.iload 5, 2) := dk_21 5 (dk_at dksL_law_13 18 rfl rfl)
theorem dL_law_408 : decode cL_law 408 = .ok (.ifCond .ne 15, 3) := dk_154 0 15 (dk_at dksL_law_13 20 rfl rfl)
theorem dL_law_411 : decode cL_law 411 = .ok (.aload_n 3, 1) := dk_45 (dk_at dksL_law_13 23 rfl rfl)
theorem dL_law_412 : decode cL_law 412 = .ok (.iconst 0, 1) := dk_3 (dk_at dksL_law_14 0 rfl rfl)
theorem dL_law_413 : decode cL_law 413 = .ok (.laload, 1) := dk_47 (dk_at dksL_law_14 1 rfl rfl)
theorem dL_law_414 : decode cL_law 414 = .ok (.iload 6, 2) := dk_21 6 (dk_at dksL_law_14 2 rfl rfl)
theorem dL_law_416 : decode cL_law 416 = .ok (.i2l, 1) := dk_133 (dk_at dksL_law_14 4 rfl rfl)
theorem dL_law_417 : decode cL_law 417 = .ok (.lcmp, 1) := dk_148 (dk_at dksL_law_14 5 rfl rfl)
theorem dL_law_418 : decode cL_law 418 = .ok (.ifCond .eq 5, 3) := dk_153 0 5 (dk_at dksL_law_14 6 rfl rfl)
theorem dL_law_421 : decode cL_law 421 = .ok (.iconst 0, 1) := dk_3 (dk_at dksL_law_14 9 rfl rfl)
theorem dL_law_422 : decode cL_law 422 = .ok (.ireturn, 1) := dk_172 (dk_at dksL_law_14 10 rfl rfl)
theorem dL_law_423 : decode cL_law 423 = .ok (.goto 1132, 3) := dk_167 4 108 (dk_at dksL_law_14 11 rfl rfl)
theorem dL_law_426 : decode cL_law 426 = .ok (.aload_n 1, 1) := dk_43 (dk_at dksL_law_14 14 rfl rfl)
theorem dL_law_427 : decode cL_law 427 = .ok (.aload_n 0, 1) := dk_42 (dk_at dksL_law_14 15 rfl rfl)
theorem dL_law_428 : decode cL_law 428 = .ok (.iload 4, 2) := dk_21 4 (dk_at dksL_law_14 16 rfl rfl)
theorem dL_law_430 : decode cL_law 430 = .ok (.iconst 1, 1) := dk_4 (dk_at dksL_law_14 18 rfl rfl)
theorem dL_law_431 : decode cL_law 431 = .ok (.iadd, 1) := dk_96 (dk_at dksL_law_14 19 rfl rfl)
theorem dL_law_432 : decode cL_law 432 = .ok (.iaload, 1) := dk_46 (dk_at dksL_law_14 20 rfl rfl)
theorem dL_law_433 : decode cL_law 433 = .ok (.aload_n 0, 1) := dk_42 (dk_at dksL_law_14 21 rfl rfl)
theorem dL_law_434 : decode cL_law 434 = .ok (.iload 4, 2) := dk_21 4 (dk_at dksL_law_14 22 rfl rfl)
theorem dL_law_436 : decode cL_law 436 = .ok (.iconst 2, 1) := dk_5 (dk_at dksL_law_15 0 rfl rfl)
theorem dL_law_437 : decode cL_law 437 = .ok (.iadd, 1) := dk_96 (dk_at dksL_law_15 1 rfl rfl)
theorem dL_law_438 : decode cL_law 438 = .ok (.iaload, 1) := dk_46 (dk_at dksL_law_15 2 rfl rfl)
theorem dL_law_439 : decode cL_law 439 = .ok (.aload_n 3, 1) := dk_45 (dk_at dksL_law_15 3 rfl rfl)
theorem dL_law_440 : decode cL_law 440 = .ok (.invokestatic 115, 3) := dk_184 0 115 (dk_at dksL_law_15 4 rfl rfl)
theorem dL_law_443 : decode cL_law 443 = .ok (.istore 5, 2) := dk_54 5 (dk_at dksL_law_15 7 rfl rfl)
theorem dL_law_445 : decode cL_law 445 = .ok (.aload_n 2, 1) := dk_44 (dk_at dksL_law_15 9 rfl rfl)
theorem dL_law_446 : decode cL_law 446 = .ok (.aload_n 0, 1) := dk_42 (dk_at dksL_law_15 10 rfl rfl)
theorem dL_law_447 : decode cL_law 447 = .ok (.iload 4, 2) := dk_21 4 (dk_at dksL_law_15 11 rfl rfl)
theorem dL_law_449 : decode cL_law 449 = .ok (.iconst 1, 1) := dk_4 (dk_at dksL_law_15 13 rfl rfl)
theorem dL_law_450 : decode cL_law 450 = .ok (.iadd, 1) := dk_96 (dk_at dksL_law_15 14 rfl rfl)
theorem dL_law_451 : decode cL_law 451 = .ok (.iaload, 1) := dk_46 (dk_at dksL_law_15 15 rfl rfl)
theorem dL_law_452 : decode cL_law 452 = .ok (.aload_n 0, 1) := dk_42 (dk_at dksL_law_15 16 rfl rfl)
theorem dL_law_453 : decode cL_law 453 = .ok (.iload 4, 2) := dk_21 4 (dk_at dksL_law_15 17 rfl rfl)
theorem dL_law_455 : decode cL_law 455 = .ok (.iconst 2, 1) := dk_5 (dk_at dksL_law_15 19 rfl rfl)
theorem dL_law_456 : decode cL_law 456 = .ok (.iadd, 1) := dk_96 (dk_at dksL_law_15 20 rfl rfl)
theorem dL_law_457 : decode cL_law 457 = .ok (.iaload, 1) := dk_46 (dk_at dksL_law_15 21 rfl rfl)
theorem dL_law_458 : decode cL_law 458 = .ok (.invokevirtual 117, 3) := dk_182 0 117 (dk_at dksL_law_16 0 rfl rfl)
theorem dL_law_461 : decode cL_law 461 = .ok (.istore 6, 2) := dk_54 6 (dk_at dksL_law_16 3 rfl rfl)
theorem dL_law_463 : decode cL_law 463 = .ok (.aload_n 2, 1) := dk_44 (dk_at dksL_law_16 5 rfl rfl)
theorem dL_law_464 : decode cL_law 464 = .ok (.invokevirtual 94, 3) := dk_182 0 94 (dk_at dksL_law_16 6 rfl rfl)
theorem dL_law_467 : decode cL_law 467 = .ok (.iload 5, 2) := dk_21 5 (dk_at dksL_law_16 9 rfl rfl)
theorem dL_law_469 : decode cL_law 469 = .ok (.if_icmp .eq 5, 3) := dk_159 0 5 (dk_at dksL_law_16 11 rfl rfl)
theorem dL_law_472 : decode cL_law 472 = .ok (.iconst 0, 1) := dk_3 (dk_at dksL_law_16 14 rfl rfl)
theorem dL_law_473 : decode cL_law 473 = .ok (.ireturn, 1) := dk_172 (dk_at dksL_law_16 15 rfl rfl)
theorem dL_law_474 : decode cL_law 474 = .ok (.iload 5, 2) := dk_21 5 (dk_at dksL_law_16 16 rfl rfl)
theorem dL_law_476 : decode cL_law 476 = .ok (.ifCond .ne 15, 3) := dk_154 0 15 (dk_at dksL_law_16 18 rfl rfl)
theorem dL_law_479 : decode cL_law 479 = .ok (.aload_n 3, 1) := dk_45 (dk_at dksL_law_16 21 rfl rfl)
theorem dL_law_480 : decode cL_law 480 = .ok (.iconst 0, 1) := dk_3 (dk_at dksL_law_16 22 rfl rfl)
theorem dL_law_481 : decode cL_law 481 = .ok (.laload, 1) := dk_47 (dk_at dksL_law_16 23 rfl rfl)
theorem dL_law_482 : decode cL_law 482 = .ok (.iload 6, 2) := dk_21 6 (dk_at dksL_law_17 0 rfl rfl)
theorem dL_law_484 : decode cL_law 484 = .ok (.i2l, 1) := dk_133 (dk_at dksL_law_17 2 rfl rfl)
theorem dL_law_485 : decode cL_law 485 = .ok (.lcmp, 1) := dk_148 (dk_at dksL_law_17 3 rfl rfl)
theorem dL_law_486 : decode cL_law 486 = .ok (.ifCond .eq 5, 3) := dk_153 0 5 (dk_at dksL_law_17 4 rfl rfl)
theorem dL_law_489 : decode cL_law 489 = .ok (.iconst 0, 1) := dk_3 (dk_at dksL_law_17 7 rfl rfl)
theorem dL_law_490 : decode cL_law 490 = .ok (.ireturn, 1) := dk_172 (dk_at dksL_law_17 8 rfl rfl)
theorem dL_law_491 : decode cL_law 491 = .ok (.goto 1064, 3) := dk_167 4 40 (dk_at dksL_law_17 9 rfl rfl)
theorem dL_law_494 : decode cL_law 494 = .ok (.aload_n 1, 1) := dk_43 (dk_at dksL_law_17 12 rfl rfl)
theorem dL_law_495 : decode cL_law 495 = .ok (.aload_n 0, 1) := dk_42 (dk_at dksL_law_17 13 rfl rfl)
theorem dL_law_496 : decode cL_law 496 = .ok (.iload 4, 2) := dk_21 4 (dk_at dksL_law_17 14 rfl rfl)
theorem dL_law_498 : decode cL_law 498 = .ok (.iconst 1, 1) := dk_4 (dk_at dksL_law_17 16 rfl rfl)
theorem dL_law_499 : decode cL_law 499 = .ok (.iadd, 1) := dk_96 (dk_at dksL_law_17 17 rfl rfl)
theorem dL_law_500 : decode cL_law 500 = .ok (.iaload, 1) := dk_46 (dk_at dksL_law_17 18 rfl rfl)
theorem dL_law_501 : decode cL_law 501 = .ok (.aload_n 0, 1) := dk_42 (dk_at dksL_law_17 19 rfl rfl)
theorem dL_law_502 : decode cL_law 502 = .ok (.iload 4, 2) := dk_21 4 (dk_at dksL_law_17 20 rfl rfl)
theorem dL_law_504 : decode cL_law 504 = .ok (.iconst 2, 1) := dk_5 (dk_at dksL_law_17 22 rfl rfl)
theorem dL_law_505 : decode cL_law 505 = .ok (.iadd, 1) := dk_96 (dk_at dksL_law_17 23 rfl rfl)
theorem dL_law_506 : decode cL_law 506 = .ok (.iaload, 1) := dk_46 (dk_at dksL_law_18 0 rfl rfl)
theorem dL_law_507 : decode cL_law 507 = .ok (.aload_n 3, 1) := dk_45 (dk_at dksL_law_18 1 rfl rfl)
theorem dL_law_508 : decode cL_law 508 = .ok (.invokestatic 118, 3) := dk_184 0 118 (dk_at dksL_law_18 2 rfl rfl)
theorem dL_law_511 : decode cL_law 511 = .ok (.istore 5, 2) := dk_54 5 (dk_at dksL_law_18 5 rfl rfl)
theorem dL_law_513 : decode cL_law 513 = .ok (.aload_n 2, 1) := dk_44 (dk_at dksL_law_18 7 rfl rfl)
theorem dL_law_514 : decode cL_law 514 = .ok (.aload_n 0, 1) := dk_42 (dk_at dksL_law_18 8 rfl rfl)
theorem dL_law_515 : decode cL_law 515 = .ok (.iload 4, 2) := dk_21 4 (dk_at dksL_law_18 9 rfl rfl)
theorem dL_law_517 : decode cL_law 517 = .ok (.iconst 1, 1) := dk_4 (dk_at dksL_law_18 11 rfl rfl)
theorem dL_law_518 : decode cL_law 518 = .ok (.iadd, 1) := dk_96 (dk_at dksL_law_18 12 rfl rfl)
theorem dL_law_519 : decode cL_law 519 = .ok (.iaload, 1) := dk_46 (dk_at dksL_law_18 13 rfl rfl)
theorem dL_law_520 : decode cL_law 520 = .ok (.aload_n 0, 1) := dk_42 (dk_at dksL_law_18 14 rfl rfl)
theorem dL_law_521 : decode cL_law 521 = .ok (.iload 4, 2) := dk_21 4 (dk_at dksL_law_18 15 rfl rfl)
theorem dL_law_523 : decode cL_law 523 = .ok (.iconst 2, 1) := dk_5 (dk_at dksL_law_18 17 rfl rfl)
theorem dL_law_524 : decode cL_law 524 = .ok (.iadd, 1) := dk_96 (dk_at dksL_law_18 18 rfl rfl)
theorem dL_law_525 : decode cL_law 525 = .ok (.iaload, 1) := dk_46 (dk_at dksL_law_18 19 rfl rfl)
theorem dL_law_526 : decode cL_law 526 = .ok (.invokevirtual 120, 3) := dk_182 0 120 (dk_at dksL_law_18 20 rfl rfl)
theorem dL_law_529 : decode cL_law 529 = .ok (.istore 6, 2) := dk_54 6 (dk_at dksL_law_19 0 rfl rfl)
theorem dL_law_531 : decode cL_law 531 = .ok (.aload_n 2, 1) := dk_44 (dk_at dksL_law_19 2 rfl rfl)
theorem dL_law_532 : decode cL_law 532 = .ok (.invokevirtual 94, 3) := dk_182 0 94 (dk_at dksL_law_19 3 rfl rfl)
theorem dL_law_535 : decode cL_law 535 = .ok (.iload 5, 2) := dk_21 5 (dk_at dksL_law_19 6 rfl rfl)
theorem dL_law_537 : decode cL_law 537 = .ok (.if_icmp .eq 5, 3) := dk_159 0 5 (dk_at dksL_law_19 8 rfl rfl)
theorem dL_law_540 : decode cL_law 540 = .ok (.iconst 0, 1) := dk_3 (dk_at dksL_law_19 11 rfl rfl)
theorem dL_law_541 : decode cL_law 541 = .ok (.ireturn, 1) := dk_172 (dk_at dksL_law_19 12 rfl rfl)
theorem dL_law_542 : decode cL_law 542 = .ok (.iload 5, 2) := dk_21 5 (dk_at dksL_law_19 13 rfl rfl)
theorem dL_law_544 : decode cL_law 544 = .ok (.ifCond .ne 15, 3) := dk_154 0 15 (dk_at dksL_law_19 15 rfl rfl)
theorem dL_law_547 : decode cL_law 547 = .ok (.aload_n 3, 1) := dk_45 (dk_at dksL_law_19 18 rfl rfl)
theorem dL_law_548 : decode cL_law 548 = .ok (.iconst 0, 1) := dk_3 (dk_at dksL_law_19 19 rfl rfl)
theorem dL_law_549 : decode cL_law 549 = .ok (.laload, 1) := dk_47 (dk_at dksL_law_19 20 rfl rfl)
theorem dL_law_550 : decode cL_law 550 = .ok (.iload 6, 2) := dk_21 6 (dk_at dksL_law_19 21 rfl rfl)
theorem dL_law_552 : decode cL_law 552 = .ok (.i2l, 1) := dk_133 (dk_at dksL_law_19 23 rfl rfl)
theorem dL_law_553 : decode cL_law 553 = .ok (.lcmp, 1) := dk_148 (dk_at dksL_law_20 0 rfl rfl)
theorem dL_law_554 : decode cL_law 554 = .ok (.ifCond .eq 5, 3) := dk_153 0 5 (dk_at dksL_law_20 1 rfl rfl)
theorem dL_law_557 : decode cL_law 557 = .ok (.iconst 0, 1) := dk_3 (dk_at dksL_law_20 4 rfl rfl)
theorem dL_law_558 : decode cL_law 558 = .ok (.ireturn, 1) := dk_172 (dk_at dksL_law_20 5 rfl rfl)
theorem dL_law_559 : decode cL_law 559 = .ok (.goto 996, 3) := dk_167 3 228 (dk_at dksL_law_20 6 rfl rfl)
theorem dL_law_562 : decode cL_law 562 = .ok (.aload_n 1, 1) := dk_43 (dk_at dksL_law_20 9 rfl rfl)
theorem dL_law_563 : decode cL_law 563 = .ok (.aload_n 0, 1) := dk_42 (dk_at dksL_law_20 10 rfl rfl)
theorem dL_law_564 : decode cL_law 564 = .ok (.iload 4, 2) := dk_21 4 (dk_at dksL_law_20 11 rfl rfl)
theorem dL_law_566 : decode cL_law 566 = .ok (.iconst 1, 1) := dk_4 (dk_at dksL_law_20 13 rfl rfl)
theorem dL_law_567 : decode cL_law 567 = .ok (.iadd, 1) := dk_96 (dk_at dksL_law_20 14 rfl rfl)
theorem dL_law_568 : decode cL_law 568 = .ok (.iaload, 1) := dk_46 (dk_at dksL_law_20 15 rfl rfl)
theorem dL_law_569 : decode cL_law 569 = .ok (.aload_n 3, 1) := dk_45 (dk_at dksL_law_20 16 rfl rfl)
theorem dL_law_570 : decode cL_law 570 = .ok (.invokestatic 121, 3) := dk_184 0 121 (dk_at dksL_law_20 17 rfl rfl)
theorem dL_law_573 : decode cL_law 573 = .ok (.istore 5, 2) := dk_54 5 (dk_at dksL_law_20 20 rfl rfl)
theorem dL_law_575 : decode cL_law 575 = .ok (.aload_n 2, 1) := dk_44 (dk_at dksL_law_20 22 rfl rfl)
theorem dL_law_576 : decode cL_law 576 = .ok (.aload_n 0, 1) := dk_42 (dk_at dksL_law_20 23 rfl rfl)
theorem dL_law_577 : decode cL_law 577 = .ok (.iload 4, 2) := dk_21 4 (dk_at dksL_law_21 0 rfl rfl)
theorem dL_law_579 : decode cL_law 579 = .ok (.iconst 1, 1) := dk_4 (dk_at dksL_law_21 2 rfl rfl)
theorem dL_law_580 : decode cL_law 580 = .ok (.iadd, 1) := dk_96 (dk_at dksL_law_21 3 rfl rfl)
theorem dL_law_581 : decode cL_law 581 = .ok (.iaload, 1) := dk_46 (dk_at dksL_law_21 4 rfl rfl)
theorem dL_law_582 : decode cL_law 582 = .ok (.invokevirtual 123, 3) := dk_182 0 123 (dk_at dksL_law_21 5 rfl rfl)
theorem dL_law_585 : decode cL_law 585 = .ok (.istore 6, 2) := dk_54 6 (dk_at dksL_law_21 8 rfl rfl)
theorem dL_law_587 : decode cL_law 587 = .ok (.aload_n 2, 1) := dk_44 (dk_at dksL_law_21 10 rfl rfl)
theorem dL_law_588 : decode cL_law 588 = .ok (.invokevirtual 94, 3) := dk_182 0 94 (dk_at dksL_law_21 11 rfl rfl)
theorem dL_law_591 : decode cL_law 591 = .ok (.iload 5, 2) := dk_21 5 (dk_at dksL_law_21 14 rfl rfl)
theorem dL_law_593 : decode cL_law 593 = .ok (.if_icmp .eq 5, 3) := dk_159 0 5 (dk_at dksL_law_21 16 rfl rfl)
theorem dL_law_596 : decode cL_law 596 = .ok (.iconst 0, 1) := dk_3 (dk_at dksL_law_21 19 rfl rfl)
theorem dL_law_597 : decode cL_law 597 = .ok (.ireturn, 1) := dk_172 (dk_at dksL_law_21 20 rfl rfl)
theorem dL_law_598 : decode cL_law 598 = .ok (.iload 5, 2) := dk_21 5 (dk_at dksL_law_21 21 rfl rfl)
theorem dL_law_600 : decode cL_law 600 = .ok (.ifCond .ne 15, 3) := dk_154 0 15 (dk_at dksL_law_22 0 rfl rfl)
theorem dL_law_603 : decode cL_law 603 = .ok (.aload_n 3, 1) := dk_45 (dk_at dksL_law_22 3 rfl rfl)
theorem dL_law_604 : decode cL_law 604 = .ok (.iconst 0, 1) := dk_3 (dk_at dksL_law_22 4 rfl rfl)
theorem dL_law_605 : decode cL_law 605 = .ok (.laload, 1) := dk_47 (dk_at dksL_law_22 5 rfl rfl)
theorem dL_law_606 : decode cL_law 606 = .ok (.iload 6, 2) := dk_21 6 (dk_at dksL_law_22 6 rfl rfl)
theorem dL_law_608 : decode cL_law 608 = .ok (.i2l, 1) := dk_133 (dk_at dksL_law_22 8 rfl rfl)
theorem dL_law_609 : decode cL_law 609 = .ok (.lcmp, 1) := dk_148 (dk_at dksL_law_22 9 rfl rfl)
theorem dL_law_610 : decode cL_law 610 = .ok (.ifCond .eq 5, 3) := dk_153 0 5 (dk_at dksL_law_22 10 rfl rfl)
theorem dL_law_613 : decode cL_law 613 = .ok (.iconst 0, 1) := dk_3 (dk_at dksL_law_22 13 rfl rfl)
theorem dL_law_614 : decode cL_law 614 = .ok (.ireturn, 1) := dk_172 (dk_at dksL_law_22 14 rfl rfl)
theorem dL_law_615 : decode cL_law 615 = .ok (.goto 940, 3) := dk_167 3 172 (dk_at dksL_law_22 15 rfl rfl)
theorem dL_law_618 : decode cL_law 618 = .ok (.aload_n 1, 1) := dk_43 (dk_at dksL_law_22 18 rfl rfl)
theorem dL_law_619 : decode cL_law 619 = .ok (.aload_n 0, 1) := dk_42 (dk_at dksL_law_22 19 rfl rfl)
theorem dL_law_620 : decode cL_law 620 = .ok (.iload 4, 2) := dk_21 4 (dk_at dksL_law_22 20 rfl rfl)
theorem dL_law_622 : decode cL_law 622 = .ok (.iconst 1, 1) := dk_4 (dk_at dksL_law_22 22 rfl rfl)
theorem dL_law_623 : decode cL_law 623 = .ok (.iadd, 1) := dk_96 (dk_at dksL_law_22 23 rfl rfl)
theorem dL_law_624 : decode cL_law 624 = .ok (.iaload, 1) := dk_46 (dk_at dksL_law_23 0 rfl rfl)
theorem dL_law_625 : decode cL_law 625 = .ok (.i2l, 1) := dk_133 (dk_at dksL_law_23 1 rfl rfl)
theorem dL_law_626 : decode cL_law 626 = .ok (.bipush 32, 2) := dk_16 32 (dk_at dksL_law_23 2 rfl rfl)
theorem dL_law_628 : decode cL_law 628 = .ok (.lshl, 1) := dk_121 (dk_at dksL_law_23 4 rfl rfl)
theorem dL_law_629 : decode cL_law 629 = .ok (.aload_n 0, 1) := dk_42 (dk_at dksL_law_23 5 rfl rfl)
theorem dL_law_630 : decode cL_law 630 = .ok (.iload 4, 2) := dk_21 4 (dk_at dksL_law_23 6 rfl rfl)
theorem dL_law_632 : decode cL_law 632 = .ok (.iconst 2, 1) := dk_5 (dk_at dksL_law_23 8 rfl rfl)
theorem dL_law_633 : decode cL_law 633 = .ok (.iadd, 1) := dk_96 (dk_at dksL_law_23 9 rfl rfl)
theorem dL_law_634 : decode cL_law 634 = .ok (.iaload, 1) := dk_46 (dk_at dksL_law_23 10 rfl rfl)
theorem dL_law_635 : decode cL_law 635 = .ok (.i2l, 1) := dk_133 (dk_at dksL_law_23 11 rfl rfl)
theorem dL_law_636 : decode cL_law 636 = .ok (.ldc2_w 124, 3) := dk_20 0 124 (dk_at dksL_law_23 12 rfl rfl)
theorem dL_law_639 : decode cL_law 639 = .ok (.land, 1) := dk_127 (dk_at dksL_law_23 15 rfl rfl)
theorem dL_law_640 : decode cL_law 640 = .ok (.lor, 1) := dk_129 (dk_at dksL_law_23 16 rfl rfl)
theorem dL_law_641 : decode cL_law 641 = .ok (.invokevirtual 126, 3) := dk_182 0 126 (dk_at dksL_law_23 17 rfl rfl)
theorem dL_law_644 : decode cL_law 644 = .ok (.aload_n 2, 1) := dk_44 (dk_at dksL_law_23 20 rfl rfl)
theorem dL_law_645 : decode cL_law 645 = .ok (.aload_n 0, 1) := dk_42 (dk_at dksL_law_23 21 rfl rfl)
theorem dL_law_646 : decode cL_law 646 = .ok (.iload 4, 2) := dk_21 4 (dk_at dksL_law_23 22 rfl rfl)
theorem dL_law_648 : decode cL_law 648 = .ok (.iconst 1, 1) := dk_4 (dk_at dksL_law_24 0 rfl rfl)
theorem dL_law_649 : decode cL_law 649 = .ok (.iadd, 1) := dk_96 (dk_at dksL_law_24 1 rfl rfl)
theorem dL_law_650 : decode cL_law 650 = .ok (.iaload, 1) := dk_46 (dk_at dksL_law_24 2 rfl rfl)
theorem dL_law_651 : decode cL_law 651 = .ok (.i2l, 1) := dk_133 (dk_at dksL_law_24 3 rfl rfl)
theorem dL_law_652 : decode cL_law 652 = .ok (.bipush 32, 2) := dk_16 32 (dk_at dksL_law_24 4 rfl rfl)
theorem dL_law_654 : decode cL_law 654 = .ok (.lshl, 1) := dk_121 (dk_at dksL_law_24 6 rfl rfl)
theorem dL_law_655 : decode cL_law 655 = .ok (.aload_n 0, 1) := dk_42 (dk_at dksL_law_24 7 rfl rfl)
theorem dL_law_656 : decode cL_law 656 = .ok (.iload 4, 2) := dk_21 4 (dk_at dksL_law_24 8 rfl rfl)
theorem dL_law_658 : decode cL_law 658 = .ok (.iconst 2, 1) := dk_5 (dk_at dksL_law_24 10 rfl rfl)
theorem dL_law_659 : decode cL_law 659 = .ok (.iadd, 1) := dk_96 (dk_at dksL_law_24 11 rfl rfl)
theorem dL_law_660 : decode cL_law 660 = .ok (.iaload, 1) := dk_46 (dk_at dksL_law_24 12 rfl rfl)
theorem dL_law_661 : decode cL_law 661 = .ok (.i2l, 1) := dk_133 (dk_at dksL_law_24 13 rfl rfl)
theorem dL_law_662 : decode cL_law 662 = .ok (.ldc2_w 124, 3) := dk_20 0 124 (dk_at dksL_law_24 14 rfl rfl)
theorem dL_law_665 : decode cL_law 665 = .ok (.land, 1) := dk_127 (dk_at dksL_law_24 17 rfl rfl)
theorem dL_law_666 : decode cL_law 666 = .ok (.lor, 1) := dk_129 (dk_at dksL_law_24 18 rfl rfl)
theorem dL_law_667 : decode cL_law 667 = .ok (.invokevirtual 130, 3) := dk_182 0 130 (dk_at dksL_law_24 19 rfl rfl)
theorem dL_law_670 : decode cL_law 670 = .ok (.if_icmp .eq 885, 3) := dk_159 3 117 (dk_at dksL_law_25 0 rfl rfl)
theorem dL_law_673 : decode cL_law 673 = .ok (.iconst 0, 1) := dk_3 (dk_at dksL_law_25 3 rfl rfl)
theorem dL_law_674 : decode cL_law 674 = .ok (.ireturn, 1) := dk_172 (dk_at dksL_law_25 4 rfl rfl)
theorem dL_law_675 : decode cL_law 675 = .ok (.aload_n 1, 1) := dk_43 (dk_at dksL_law_25 5 rfl rfl)
theorem dL_law_676 : decode cL_law 676 = .ok (.aload_n 3, 1) := dk_45 (dk_at dksL_law_25 6 rfl rfl)
theorem dL_law_677 : decode cL_law 677 = .ok (.invokestatic 131, 3) := dk_184 0 131 (dk_at dksL_law_25 7 rfl rfl)
theorem dL_law_680 : decode cL_law 680 = .ok (.istore 5, 2) := dk_54 5 (dk_at dksL_law_25 10 rfl rfl)
theorem dL_law_682 : decode cL_law 682 = .ok (.aload_n 2, 1) := dk_44 (dk_at dksL_law_25 12 rfl rfl)
theorem dL_law_683 : decode cL_law 683 = .ok (.invokevirtual 134, 3) := dk_182 0 134 (dk_at dksL_law_25 13 rfl rfl)
theorem dL_law_686 : decode cL_law 686 = .ok (.istore 6, 2) := dk_54 6 (dk_at dksL_law_25 16 rfl rfl)
theorem dL_law_688 : decode cL_law 688 = .ok (.aload_n 2, 1) := dk_44 (dk_at dksL_law_25 18 rfl rfl)
theorem dL_law_689 : decode cL_law 689 = .ok (.invokevirtual 94, 3) := dk_182 0 94 (dk_at dksL_law_25 19 rfl rfl)
theorem dL_law_692 : decode cL_law 692 = .ok (.iload 5, 2) := dk_21 5 (dk_at dksL_law_25 22 rfl rfl)
theorem dL_law_694 : decode cL_law 694 = .ok (.if_icmp .eq 5, 3) := dk_159 0 5 (dk_at dksL_law_26 0 rfl rfl)
theorem dL_law_697 : decode cL_law 697 = .ok (.iconst 0, 1) := dk_3 (dk_at dksL_law_26 3 rfl rfl)
theorem dL_law_698 : decode cL_law 698 = .ok (.ireturn, 1) := dk_172 (dk_at dksL_law_26 4 rfl rfl)
theorem dL_law_699 : decode cL_law 699 = .ok (.iload 5, 2) := dk_21 5 (dk_at dksL_law_26 5 rfl rfl)
theorem dL_law_701 : decode cL_law 701 = .ok (.ifCond .ne 15, 3) := dk_154 0 15 (dk_at dksL_law_26 7 rfl rfl)
theorem dL_law_704 : decode cL_law 704 = .ok (.aload_n 3, 1) := dk_45 (dk_at dksL_law_26 10 rfl rfl)
theorem dL_law_705 : decode cL_law 705 = .ok (.iconst 0, 1) := dk_3 (dk_at dksL_law_26 11 rfl rfl)
theorem dL_law_706 : decode cL_law 706 = .ok (.laload, 1) := dk_47 (dk_at dksL_law_26 12 rfl rfl)
theorem dL_law_707 : decode cL_law 707 = .ok (.iload 6, 2) := dk_21 6 (dk_at dksL_law_26 13 rfl rfl)
theorem dL_law_709 : decode cL_law 709 = .ok (.i2l, 1) := dk_133 (dk_at dksL_law_26 15 rfl rfl)
theorem dL_law_710 : decode cL_law 710 = .ok (.lcmp, 1) := dk_148 (dk_at dksL_law_26 16 rfl rfl)
theorem dL_law_711 : decode cL_law 711 = .ok (.ifCond .eq 5, 3) := dk_153 0 5 (dk_at dksL_law_26 17 rfl rfl)
theorem dL_law_714 : decode cL_law 714 = .ok (.iconst 0, 1) := dk_3 (dk_at dksL_law_26 20 rfl rfl)
theorem dL_law_715 : decode cL_law 715 = .ok (.ireturn, 1) := dk_172 (dk_at dksL_law_26 21 rfl rfl)
theorem dL_law_716 : decode cL_law 716 = .ok (.goto 839, 3) := dk_167 3 71 (dk_at dksL_law_27 0 rfl rfl)
theorem dL_law_719 : decode cL_law 719 = .ok (.aload_n 1, 1) := dk_43 (dk_at dksL_law_27 3 rfl rfl)
theorem dL_law_720 : decode cL_law 720 = .ok (.aload_n 0, 1) := dk_42 (dk_at dksL_law_27 4 rfl rfl)
theorem dL_law_721 : decode cL_law 721 = .ok (.iload 4, 2) := dk_21 4 (dk_at dksL_law_27 5 rfl rfl)
theorem dL_law_723 : decode cL_law 723 = .ok (.iconst 1, 1) := dk_4 (dk_at dksL_law_27 7 rfl rfl)
theorem dL_law_724 : decode cL_law 724 = .ok (.iadd, 1) := dk_96 (dk_at dksL_law_27 8 rfl rfl)
theorem dL_law_725 : decode cL_law 725 = .ok (.iaload, 1) := dk_46 (dk_at dksL_law_27 9 rfl rfl)
theorem dL_law_726 : decode cL_law 726 = .ok (.aload_n 3, 1) := dk_45 (dk_at dksL_law_27 10 rfl rfl)
theorem dL_law_727 : decode cL_law 727 = .ok (.invokestatic 135, 3) := dk_184 0 135 (dk_at dksL_law_27 11 rfl rfl)
theorem dL_law_730 : decode cL_law 730 = .ok (.istore 5, 2) := dk_54 5 (dk_at dksL_law_27 14 rfl rfl)
theorem dL_law_732 : decode cL_law 732 = .ok (.aload_n 2, 1) := dk_44 (dk_at dksL_law_27 16 rfl rfl)
theorem dL_law_733 : decode cL_law 733 = .ok (.aload_n 0, 1) := dk_42 (dk_at dksL_law_27 17 rfl rfl)
theorem dL_law_734 : decode cL_law 734 = .ok (.iload 4, 2) := dk_21 4 (dk_at dksL_law_27 18 rfl rfl)
theorem dL_law_736 : decode cL_law 736 = .ok (.iconst 1, 1) := dk_4 (dk_at dksL_law_27 20 rfl rfl)
theorem dL_law_737 : decode cL_law 737 = .ok (.iadd, 1) := dk_96 (dk_at dksL_law_27 21 rfl rfl)
theorem dL_law_738 : decode cL_law 738 = .ok (.iaload, 1) := dk_46 (dk_at dksL_law_27 22 rfl rfl)
theorem dL_law_739 : decode cL_law 739 = .ok (.invokevirtual 137, 3) := dk_182 0 137 (dk_at dksL_law_28 0 rfl rfl)
theorem dL_law_742 : decode cL_law 742 = .ok (.istore 6, 2) := dk_54 6 (dk_at dksL_law_28 3 rfl rfl)
theorem dL_law_744 : decode cL_law 744 = .ok (.aload_n 2, 1) := dk_44 (dk_at dksL_law_28 5 rfl rfl)
theorem dL_law_745 : decode cL_law 745 = .ok (.invokevirtual 94, 3) := dk_182 0 94 (dk_at dksL_law_28 6 rfl rfl)
theorem dL_law_748 : decode cL_law 748 = .ok (.iload 5, 2) := dk_21 5 (dk_at dksL_law_28 9 rfl rfl)
theorem dL_law_750 : decode cL_law 750 = .ok (.if_icmp .eq 5, 3) := dk_159 0 5 (dk_at dksL_law_28 11 rfl rfl)
theorem dL_law_753 : decode cL_law 753 = .ok (.iconst 0, 1) := dk_3 (dk_at dksL_law_28 14 rfl rfl)
theorem dL_law_754 : decode cL_law 754 = .ok (.ireturn, 1) := dk_172 (dk_at dksL_law_28 15 rfl rfl)
theorem dL_law_755 : decode cL_law 755 = .ok (.iload 5, 2) := dk_21 5 (dk_at dksL_law_28 16 rfl rfl)
theorem dL_law_757 : decode cL_law 757 = .ok (.ifCond .ne 15, 3) := dk_154 0 15 (dk_at dksL_law_28 18 rfl rfl)
theorem dL_law_760 : decode cL_law 760 = .ok (.aload_n 3, 1) := dk_45 (dk_at dksL_law_28 21 rfl rfl)
theorem dL_law_761 : decode cL_law 761 = .ok (.iconst 0, 1) := dk_3 (dk_at dksL_law_28 22 rfl rfl)
theorem dL_law_762 : decode cL_law 762 = .ok (.laload, 1) := dk_47 (dk_at dksL_law_28 23 rfl rfl)
theorem dL_law_763 : decode cL_law 763 = .ok (.iload 6, 2) := dk_21 6 (dk_at dksL_law_29 0 rfl rfl)
theorem dL_law_765 : decode cL_law 765 = .ok (.i2l, 1) := dk_133 (dk_at dksL_law_29 2 rfl rfl)
theorem dL_law_766 : decode cL_law 766 = .ok (.lcmp, 1) := dk_148 (dk_at dksL_law_29 3 rfl rfl)
theorem dL_law_767 : decode cL_law 767 = .ok (.ifCond .eq 5, 3) := dk_153 0 5 (dk_at dksL_law_29 4 rfl rfl)
theorem dL_law_770 : decode cL_law 770 = .ok (.iconst 0, 1) := dk_3 (dk_at dksL_law_29 7 rfl rfl)
theorem dL_law_771 : decode cL_law 771 = .ok (.ireturn, 1) := dk_172 (dk_at dksL_law_29 8 rfl rfl)
theorem dL_law_772 : decode cL_law 772 = .ok (.goto 783, 3) := dk_167 3 15 (dk_at dksL_law_29 9 rfl rfl)
theorem dL_law_775 : decode cL_law 775 = .ok (.aload_n 1, 1) := dk_43 (dk_at dksL_law_29 12 rfl rfl)
theorem dL_law_776 : decode cL_law 776 = .ok (.aload_n 3, 1) := dk_45 (dk_at dksL_law_29 13 rfl rfl)
theorem dL_law_777 : decode cL_law 777 = .ok (.invokestatic 138, 3) := dk_184 0 138 (dk_at dksL_law_29 14 rfl rfl)
theorem dL_law_780 : decode cL_law 780 = .ok (.istore 5, 2) := dk_54 5 (dk_at dksL_law_29 17 rfl rfl)
theorem dL_law_782 : decode cL_law 782 = .ok (.aload_n 2, 1) := dk_44 (dk_at dksL_law_29 19 rfl rfl)
theorem dL_law_783 : decode cL_law 783 = .ok (.invokevirtual 140, 3) := dk_182 0 140 (dk_at dksL_law_29 20 rfl rfl)
theorem dL_law_786 : decode cL_law 786 = .ok (.istore 6, 2) := dk_54 6 (dk_at dksL_law_30 0 rfl rfl)
theorem dL_law_788 : decode cL_law 788 = .ok (.aload_n 2, 1) := dk_44 (dk_at dksL_law_30 2 rfl rfl)
theorem dL_law_789 : decode cL_law 789 = .ok (.invokevirtual 94, 3) := dk_182 0 94 (dk_at dksL_law_30 3 rfl rfl)
theorem dL_law_792 : decode cL_law 792 = .ok (.iload 5, 2) := dk_21 5 (dk_at dksL_law_30 6 rfl rfl)
theorem dL_law_794 : decode cL_law 794 = .ok (.if_icmp .eq 5, 3) := dk_159 0 5 (dk_at dksL_law_30 8 rfl rfl)
theorem dL_law_797 : decode cL_law 797 = .ok (.iconst 0, 1) := dk_3 (dk_at dksL_law_30 11 rfl rfl)
theorem dL_law_798 : decode cL_law 798 = .ok (.ireturn, 1) := dk_172 (dk_at dksL_law_30 12 rfl rfl)
theorem dL_law_799 : decode cL_law 799 = .ok (.iload 5, 2) := dk_21 5 (dk_at dksL_law_30 13 rfl rfl)
theorem dL_law_801 : decode cL_law 801 = .ok (.ifCond .ne 15, 3) := dk_154 0 15 (dk_at dksL_law_30 15 rfl rfl)
theorem dL_law_804 : decode cL_law 804 = .ok (.aload_n 3, 1) := dk_45 (dk_at dksL_law_30 18 rfl rfl)
theorem dL_law_805 : decode cL_law 805 = .ok (.iconst 0, 1) := dk_3 (dk_at dksL_law_30 19 rfl rfl)
theorem dL_law_806 : decode cL_law 806 = .ok (.laload, 1) := dk_47 (dk_at dksL_law_30 20 rfl rfl)
theorem dL_law_807 : decode cL_law 807 = .ok (.iload 6, 2) := dk_21 6 (dk_at dksL_law_30 21 rfl rfl)
theorem dL_law_809 : decode cL_law 809 = .ok (.i2l, 1) := dk_133 (dk_at dksL_law_30 23 rfl rfl)
theorem dL_law_810 : decode cL_law 810 = .ok (.lcmp, 1) := dk_148 (dk_at dksL_law_31 0 rfl rfl)
theorem dL_law_811 : decode cL_law 811 = .ok (.ifCond .eq 5, 3) := dk_153 0 5 (dk_at dksL_law_31 1 rfl rfl)
theorem dL_law_814 : decode cL_law 814 = .ok (.iconst 0, 1) := dk_3 (dk_at dksL_law_31 4 rfl rfl)
theorem dL_law_815 : decode cL_law 815 = .ok (.ireturn, 1) := dk_172 (dk_at dksL_law_31 5 rfl rfl)
theorem dL_law_816 : decode cL_law 816 = .ok (.goto 739, 3) := dk_167 2 227 (dk_at dksL_law_31 6 rfl rfl)
theorem dL_law_819 : decode cL_law 819 = .ok (.aload_n 1, 1) := dk_43 (dk_at dksL_law_31 9 rfl rfl)
theorem dL_law_820 : decode cL_law 820 = .ok (.aload_n 3, 1) := dk_45 (dk_at dksL_law_31 10 rfl rfl)
theorem dL_law_821 : decode cL_law 821 = .ok (.invokestatic 141, 3) := dk_184 0 141 (dk_at dksL_law_31 11 rfl rfl)
theorem dL_law_824 : decode cL_law 824 = .ok (.istore 5, 2) := dk_54 5 (dk_at dksL_law_31 14 rfl rfl)
theorem dL_law_826 : decode cL_law 826 = .ok (.aload_n 2, 1) := dk_44 (dk_at dksL_law_31 16 rfl rfl)
theorem dL_law_827 : decode cL_law 827 = .ok (.invokevirtual 143, 3) := dk_182 0 143 (dk_at dksL_law_31 17 rfl rfl)
theorem dL_law_830 : decode cL_law 830 = .ok (.istore 6, 2) := dk_54 6 (dk_at dksL_law_31 20 rfl rfl)
theorem dL_law_832 : decode cL_law 832 = .ok (.aload_n 2, 1) := dk_44 (dk_at dksL_law_31 22 rfl rfl)
theorem dL_law_833 : decode cL_law 833 = .ok (.invokevirtual 94, 3) := dk_182 0 94 (dk_at dksL_law_32 0 rfl rfl)
theorem dL_law_836 : decode cL_law 836 = .ok (.iload 5, 2) := dk_21 5 (dk_at dksL_law_32 3 rfl rfl)
theorem dL_law_838 : decode cL_law 838 = .ok (.if_icmp .eq 5, 3) := dk_159 0 5 (dk_at dksL_law_32 5 rfl rfl)
theorem dL_law_841 : decode cL_law 841 = .ok (.iconst 0, 1) := dk_3 (dk_at dksL_law_32 8 rfl rfl)
theorem dL_law_842 : decode cL_law 842 = .ok (.ireturn, 1) := dk_172 (dk_at dksL_law_32 9 rfl rfl)
theorem dL_law_843 : decode cL_law 843 = .ok (.iload 5, 2) := dk_21 5 (dk_at dksL_law_32 10 rfl rfl)
theorem dL_law_845 : decode cL_law 845 = .ok (.ifCond .ne 15, 3) := dk_154 0 15 (dk_at dksL_law_32 12 rfl rfl)
theorem dL_law_848 : decode cL_law 848 = .ok (.aload_n 3, 1) := dk_45 (dk_at dksL_law_32 15 rfl rfl)
theorem dL_law_849 : decode cL_law 849 = .ok (.iconst 0, 1) := dk_3 (dk_at dksL_law_32 16 rfl rfl)
theorem dL_law_850 : decode cL_law 850 = .ok (.laload, 1) := dk_47 (dk_at dksL_law_32 17 rfl rfl)
theorem dL_law_851 : decode cL_law 851 = .ok (.iload 6, 2) := dk_21 6 (dk_at dksL_law_32 18 rfl rfl)
theorem dL_law_853 : decode cL_law 853 = .ok (.i2l, 1) := dk_133 (dk_at dksL_law_32 20 rfl rfl)
theorem dL_law_854 : decode cL_law 854 = .ok (.lcmp, 1) := dk_148 (dk_at dksL_law_32 21 rfl rfl)
theorem dL_law_855 : decode cL_law 855 = .ok (.ifCond .eq 5, 3) := dk_153 0 5 (dk_at dksL_law_33 0 rfl rfl)
theorem dL_law_858 : decode cL_law 858 = .ok (.iconst 0, 1) := dk_3 (dk_at dksL_law_33 3 rfl rfl)
theorem dL_law_859 : decode cL_law 859 = .ok (.ireturn, 1) := dk_172 (dk_at dksL_law_33 4 rfl rfl)
theorem dL_law_860 : decode cL_law 860 = .ok (.goto 695, 3) := dk_167 2 183 (dk_at dksL_law_33 5 rfl rfl)
theorem dL_law_863 : decode cL_law 863 = .ok (.aload_n 1, 1) := dk_43 (dk_at dksL_law_33 8 rfl rfl)
theorem dL_law_864 : decode cL_law 864 = .ok (.aload_n 0, 1) := dk_42 (dk_at dksL_law_33 9 rfl rfl)
theorem dL_law_865 : decode cL_law 865 = .ok (.iload 4, 2) := dk_21 4 (dk_at dksL_law_33 10 rfl rfl)
theorem dL_law_867 : decode cL_law 867 = .ok (.iconst 1, 1) := dk_4 (dk_at dksL_law_33 12 rfl rfl)
theorem dL_law_868 : decode cL_law 868 = .ok (.iadd, 1) := dk_96 (dk_at dksL_law_33 13 rfl rfl)
theorem dL_law_869 : decode cL_law 869 = .ok (.iaload, 1) := dk_46 (dk_at dksL_law_33 14 rfl rfl)
theorem dL_law_870 : decode cL_law 870 = .ok (.aload_n 0, 1) := dk_42 (dk_at dksL_law_33 15 rfl rfl)
theorem dL_law_871 : decode cL_law 871 = .ok (.iload 4, 2) := dk_21 4 (dk_at dksL_law_33 16 rfl rfl)
theorem dL_law_873 : decode cL_law 873 = .ok (.iconst 2, 1) := dk_5 (dk_at dksL_law_33 18 rfl rfl)
theorem dL_law_874 : decode cL_law 874 = .ok (.iadd, 1) := dk_96 (dk_at dksL_law_33 19 rfl rfl)
theorem dL_law_875 : decode cL_law 875 = .ok (.iaload, 1) := dk_46 (dk_at dksL_law_33 20 rfl rfl)
theorem dL_law_876 : decode cL_law 876 = .ok (.aload_n 3, 1) := dk_45 (dk_at dksL_law_33 21 rfl rfl)
theorem dL_law_877 : decode cL_law 877 = .ok (.invokestatic 144, 3) := dk_184 0 144 (dk_at dksL_law_34 0 rfl rfl)
theorem dL_law_880 : decode cL_law 880 = .ok (.istore 5, 2) := dk_54 5 (dk_at dksL_law_34 3 rfl rfl)
theorem dL_law_882 : decode cL_law 882 = .ok (.aload_n 2, 1) := dk_44 (dk_at dksL_law_34 5 rfl rfl)
theorem dL_law_883 : decode cL_law 883 = .ok (.aload_n 0, 1) := dk_42 (dk_at dksL_law_34 6 rfl rfl)
theorem dL_law_884 : decode cL_law 884 = .ok (.iload 4, 2) := dk_21 4 (dk_at dksL_law_34 7 rfl rfl)
theorem dL_law_886 : decode cL_law 886 = .ok (.iconst 1, 1) := dk_4 (dk_at dksL_law_34 9 rfl rfl)
theorem dL_law_887 : decode cL_law 887 = .ok (.iadd, 1) := dk_96 (dk_at dksL_law_34 10 rfl rfl)
theorem dL_law_888 : decode cL_law 888 = .ok (.iaload, 1) := dk_46 (dk_at dksL_law_34 11 rfl rfl)
theorem dL_law_889 : decode cL_law 889 = .ok (.aload_n 0, 1) := dk_42 (dk_at dksL_law_34 12 rfl rfl)
theorem dL_law_890 : decode cL_law 890 = .ok (.iload 4, 2) := dk_21 4 (dk_at dksL_law_34 13 rfl rfl)
theorem dL_law_892 : decode cL_law 892 = .ok (.iconst 2, 1) := dk_5 (dk_at dksL_law_34 15 rfl rfl)
theorem dL_law_893 : decode cL_law 893 = .ok (.iadd, 1) := dk_96 (dk_at dksL_law_34 16 rfl rfl)
theorem dL_law_894 : decode cL_law 894 = .ok (.iaload, 1) := dk_46 (dk_at dksL_law_34 17 rfl rfl)
theorem dL_law_895 : decode cL_law 895 = .ok (.invokevirtual 146, 3) := dk_182 0 146 (dk_at dksL_law_34 18 rfl rfl)
theorem dL_law_898 : decode cL_law 898 = .ok (.istore 6, 2) := dk_54 6 (dk_at dksL_law_34 21 rfl rfl)
theorem dL_law_900 : decode cL_law 900 = .ok (.aload_n 2, 1) := dk_44 (dk_at dksL_law_34 23 rfl rfl)
theorem dL_law_901 : decode cL_law 901 = .ok (.invokevirtual 94, 3) := dk_182 0 94 (dk_at dksL_law_35 0 rfl rfl)
theorem dL_law_904 : decode cL_law 904 = .ok (.iload 5, 2) := dk_21 5 (dk_at dksL_law_35 3 rfl rfl)
theorem dL_law_906 : decode cL_law 906 = .ok (.if_icmp .eq 5, 3) := dk_159 0 5 (dk_at dksL_law_35 5 rfl rfl)
theorem dL_law_909 : decode cL_law 909 = .ok (.iconst 0, 1) := dk_3 (dk_at dksL_law_35 8 rfl rfl)
theorem dL_law_910 : decode cL_law 910 = .ok (.ireturn, 1) := dk_172 (dk_at dksL_law_35 9 rfl rfl)
theorem dL_law_911 : decode cL_law 911 = .ok (.iload 5, 2) := dk_21 5 (dk_at dksL_law_35 10 rfl rfl)
theorem dL_law_913 : decode cL_law 913 = .ok (.ifCond .ne 15, 3) := dk_154 0 15 (dk_at dksL_law_35 12 rfl rfl)
theorem dL_law_916 : decode cL_law 916 = .ok (.aload_n 3, 1) := dk_45 (dk_at dksL_law_35 15 rfl rfl)
theorem dL_law_917 : decode cL_law 917 = .ok (.iconst 0, 1) := dk_3 (dk_at dksL_law_35 16 rfl rfl)
theorem dL_law_918 : decode cL_law 918 = .ok (.laload, 1) := dk_47 (dk_at dksL_law_35 17 rfl rfl)
theorem dL_law_919 : decode cL_law 919 = .ok (.iload 6, 2) := dk_21 6 (dk_at dksL_law_35 18 rfl rfl)
theorem dL_law_921 : decode cL_law 921 = .ok (.i2l, 1) := dk_133 (dk_at dksL_law_35 20 rfl rfl)
theorem dL_law_922 : decode cL_law 922 = .ok (.lcmp, 1) := dk_148 (dk_at dksL_law_35 21 rfl rfl)
theorem dL_law_923 : decode cL_law 923 = .ok (.ifCond .eq 5, 3) := dk_153 0 5 (dk_at dksL_law_36 0 rfl rfl)
theorem dL_law_926 : decode cL_law 926 = .ok (.iconst 0, 1) := dk_3 (dk_at dksL_law_36 3 rfl rfl)
theorem dL_law_927 : decode cL_law 927 = .ok (.ireturn, 1) := dk_172 (dk_at dksL_law_36 4 rfl rfl)
theorem dL_law_928 : decode cL_law 928 = .ok (.goto 627, 3) := dk_167 2 115 (dk_at dksL_law_36 5 rfl rfl)
theorem dL_law_931 : decode cL_law 931 = .ok (.aload_n 1, 1) := dk_43 (dk_at dksL_law_36 8 rfl rfl)
theorem dL_law_932 : decode cL_law 932 = .ok (.aload_n 3, 1) := dk_45 (dk_at dksL_law_36 9 rfl rfl)
theorem dL_law_933 : decode cL_law 933 = .ok (.invokestatic 147, 3) := dk_184 0 147 (dk_at dksL_law_36 10 rfl rfl)
theorem dL_law_936 : decode cL_law 936 = .ok (.istore 5, 2) := dk_54 5 (dk_at dksL_law_36 13 rfl rfl)
theorem dL_law_938 : decode cL_law 938 = .ok (.aload_n 2, 1) := dk_44 (dk_at dksL_law_36 15 rfl rfl)
theorem dL_law_939 : decode cL_law 939 = .ok (.invokevirtual 149, 3) := dk_182 0 149 (dk_at dksL_law_36 16 rfl rfl)
theorem dL_law_942 : decode cL_law 942 = .ok (.istore 6, 2) := dk_54 6 (dk_at dksL_law_36 19 rfl rfl)
theorem dL_law_944 : decode cL_law 944 = .ok (.aload_n 2, 1) := dk_44 (dk_at dksL_law_36 21 rfl rfl)
theorem dL_law_945 : decode cL_law 945 = .ok (.invokevirtual 94, 3) := dk_182 0 94 (dk_at dksL_law_37 0 rfl rfl)
theorem dL_law_948 : decode cL_law 948 = .ok (.iload 5, 2) := dk_21 5 (dk_at dksL_law_37 3 rfl rfl)
theorem dL_law_950 : decode cL_law 950 = .ok (.if_icmp .eq 5, 3) := dk_159 0 5 (dk_at dksL_law_37 5 rfl rfl)
theorem dL_law_953 : decode cL_law 953 = .ok (.iconst 0, 1) := dk_3 (dk_at dksL_law_37 8 rfl rfl)
theorem dL_law_954 : decode cL_law 954 = .ok (.ireturn, 1) := dk_172 (dk_at dksL_law_37 9 rfl rfl)
theorem dL_law_955 : decode cL_law 955 = .ok (.iload 5, 2) := dk_21 5 (dk_at dksL_law_37 10 rfl rfl)
theorem dL_law_957 : decode cL_law 957 = .ok (.ifCond .ne 15, 3) := dk_154 0 15 (dk_at dksL_law_37 12 rfl rfl)
theorem dL_law_960 : decode cL_law 960 = .ok (.aload_n 3, 1) := dk_45 (dk_at dksL_law_37 15 rfl rfl)
theorem dL_law_961 : decode cL_law 961 = .ok (.iconst 0, 1) := dk_3 (dk_at dksL_law_37 16 rfl rfl)
theorem dL_law_962 : decode cL_law 962 = .ok (.laload, 1) := dk_47 (dk_at dksL_law_37 17 rfl rfl)
theorem dL_law_963 : decode cL_law 963 = .ok (.iload 6, 2) := dk_21 6 (dk_at dksL_law_37 18 rfl rfl)
theorem dL_law_965 : decode cL_law 965 = .ok (.i2l, 1) := dk_133 (dk_at dksL_law_37 20 rfl rfl)
theorem dL_law_966 : decode cL_law 966 = .ok (.lcmp, 1) := dk_148 (dk_at dksL_law_37 21 rfl rfl)
theorem dL_law_967 : decode cL_law 967 = .ok (.ifCond .eq 5, 3) := dk_153 0 5 (dk_at dksL_law_38 0 rfl rfl)
theorem dL_law_970 : decode cL_law 970 = .ok (.iconst 0, 1) := dk_3 (dk_at dksL_law_38 3 rfl rfl)
theorem dL_law_971 : decode cL_law 971 = .ok (.ireturn, 1) := dk_172 (dk_at dksL_law_38 4 rfl rfl)
theorem dL_law_972 : decode cL_law 972 = .ok (.goto 583, 3) := dk_167 2 71 (dk_at dksL_law_38 5 rfl rfl)
theorem dL_law_975 : decode cL_law 975 = .ok (.aload_n 1, 1) := dk_43 (dk_at dksL_law_38 8 rfl rfl)
theorem dL_law_976 : decode cL_law 976 = .ok (.aload_n 0, 1) := dk_42 (dk_at dksL_law_38 9 rfl rfl)
theorem dL_law_977 : decode cL_law 977 = .ok (.iload 4, 2) := dk_21 4 (dk_at dksL_law_38 10 rfl rfl)
theorem dL_law_979 : decode cL_law 979 = .ok (.iconst 1, 1) := dk_4 (dk_at dksL_law_38 12 rfl rfl)
theorem dL_law_980 : decode cL_law 980 = .ok (.iadd, 1) := dk_96 (dk_at dksL_law_38 13 rfl rfl)
theorem dL_law_981 : decode cL_law 981 = .ok (.iaload, 1) := dk_46 (dk_at dksL_law_38 14 rfl rfl)
theorem dL_law_982 : decode cL_law 982 = .ok (.aload_n 3, 1) := dk_45 (dk_at dksL_law_38 15 rfl rfl)
theorem dL_law_983 : decode cL_law 983 = .ok (.invokestatic 150, 3) := dk_184 0 150 (dk_at dksL_law_38 16 rfl rfl)
theorem dL_law_986 : decode cL_law 986 = .ok (.istore 5, 2) := dk_54 5 (dk_at dksL_law_38 19 rfl rfl)
theorem dL_law_988 : decode cL_law 988 = .ok (.aload_n 2, 1) := dk_44 (dk_at dksL_law_38 21 rfl rfl)
theorem dL_law_989 : decode cL_law 989 = .ok (.aload_n 0, 1) := dk_42 (dk_at dksL_law_38 22 rfl rfl)
theorem dL_law_990 : decode cL_law 990 = .ok (.iload 4, 2) := dk_21 4 (dk_at dksL_law_39 0 rfl rfl)
theorem dL_law_992 : decode cL_law 992 = .ok (.iconst 1, 1) := dk_4 (dk_at dksL_law_39 2 rfl rfl)
theorem dL_law_993 : decode cL_law 993 = .ok (.iadd, 1) := dk_96 (dk_at dksL_law_39 3 rfl rfl)
theorem dL_law_994 : decode cL_law 994 = .ok (.iaload, 1) := dk_46 (dk_at dksL_law_39 4 rfl rfl)
theorem dL_law_995 : decode cL_law 995 = .ok (.invokevirtual 152, 3) := dk_182 0 152 (dk_at dksL_law_39 5 rfl rfl)
theorem dL_law_998 : decode cL_law 998 = .ok (.istore 6, 2) := dk_54 6 (dk_at dksL_law_39 8 rfl rfl)
theorem dL_law_1000 : decode cL_law 1000 = .ok (.aload_n 2, 1) := dk_44 (dk_at dksL_law_39 10 rfl rfl)
theorem dL_law_1001 : decode cL_law 1001 = .ok (.invokevirtual 94, 3) := dk_182 0 94 (dk_at dksL_law_39 11 rfl rfl)
theorem dL_law_1004 : decode cL_law 1004 = .ok (.iload 5, 2) := dk_21 5 (dk_at dksL_law_39 14 rfl rfl)
theorem dL_law_1006 : decode cL_law 1006 = .ok (.if_icmp .eq 5, 3) := dk_159 0 5 (dk_at dksL_law_39 16 rfl rfl)
theorem dL_law_1009 : decode cL_law 1009 = .ok (.iconst 0, 1) := dk_3 (dk_at dksL_law_39 19 rfl rfl)
theorem dL_law_1010 : decode cL_law 1010 = .ok (.ireturn, 1) := dk_172 (dk_at dksL_law_39 20 rfl rfl)
theorem dL_law_1011 : decode cL_law 1011 = .ok (.iload 5, 2) := dk_21 5 (dk_at dksL_law_39 21 rfl rfl)
theorem dL_law_1013 : decode cL_law 1013 = .ok (.ifCond .ne 15, 3) := dk_154 0 15 (dk_at dksL_law_40 0 rfl rfl)
theorem dL_law_1016 : decode cL_law 1016 = .ok (.aload_n 3, 1) := dk_45 (dk_at dksL_law_40 3 rfl rfl)
theorem dL_law_1017 : decode cL_law 1017 = .ok (.iconst 0, 1) := dk_3 (dk_at dksL_law_40 4 rfl rfl)
theorem dL_law_1018 : decode cL_law 1018 = .ok (.laload, 1) := dk_47 (dk_at dksL_law_40 5 rfl rfl)
theorem dL_law_1019 : decode cL_law 1019 = .ok (.iload 6, 2) := dk_21 6 (dk_at dksL_law_40 6 rfl rfl)
theorem dL_law_1021 : decode cL_law 1021 = .ok (.i2l, 1) := dk_133 (dk_at dksL_law_40 8 rfl rfl)
theorem dL_law_1022 : decode cL_law 1022 = .ok (.lcmp, 1) := dk_148 (dk_at dksL_law_40 9 rfl rfl)
theorem dL_law_1023 : decode cL_law 1023 = .ok (.ifCond .eq 5, 3) := dk_153 0 5 (dk_at dksL_law_40 10 rfl rfl)
theorem dL_law_1026 : decode cL_law 1026 = .ok (.iconst 0, 1) := dk_3 (dk_at dksL_law_40 13 rfl rfl)
theorem dL_law_1027 : decode cL_law 1027 = .ok (.ireturn, 1) := dk_172 (dk_at dksL_law_40 14 rfl rfl)
theorem dL_law_1028 : decode cL_law 1028 = .ok (.goto 527, 3) := dk_167 2 15 (dk_at dksL_law_40 15 rfl rfl)
theorem dL_law_1031 : decode cL_law 1031 = .ok (.aload_n 1, 1) := dk_43 (dk_at dksL_law_40 18 rfl rfl)
theorem dL_law_1032 : decode cL_law 1032 = .ok (.aload_n 0, 1) := dk_42 (dk_at dksL_law_40 19 rfl rfl)
theorem dL_law_1033 : decode cL_law 1033 = .ok (.iload 4, 2) := dk_21 4 (dk_at dksL_law_40 20 rfl rfl)
theorem dL_law_1035 : decode cL_law 1035 = .ok (.iconst 1, 1) := dk_4 (dk_at dksL_law_40 22 rfl rfl)
theorem dL_law_1036 : decode cL_law 1036 = .ok (.iadd, 1) := dk_96 (dk_at dksL_law_40 23 rfl rfl)
theorem dL_law_1037 : decode cL_law 1037 = .ok (.iaload, 1) := dk_46 (dk_at dksL_law_41 0 rfl rfl)
theorem dL_law_1038 : decode cL_law 1038 = .ok (.aload_n 0, 1) := dk_42 (dk_at dksL_law_41 1 rfl rfl)
theorem dL_law_1039 : decode cL_law 1039 = .ok (.iload 4, 2) := dk_21 4 (dk_at dksL_law_41 2 rfl rfl)
theorem dL_law_1041 : decode cL_law 1041 = .ok (.iconst 2, 1) := dk_5 (dk_at dksL_law_41 4 rfl rfl)
theorem dL_law_1042 : decode cL_law 1042 = .ok (.iadd, 1) := dk_96 (dk_at dksL_law_41 5 rfl rfl)
theorem dL_law_1043 : decode cL_law 1043 = .ok (.iaload, 1) := dk_46 (dk_at dksL_law_41 6 rfl rfl)
theorem dL_law_1044 : decode cL_law 1044 = .ok (.aload_n 3, 1) := dk_45 (dk_at dksL_law_41 7 rfl rfl)
theorem dL_law_1045 : decode cL_law 1045 = .ok (.invokestatic 153, 3) := dk_184 0 153 (dk_at dksL_law_41 8 rfl rfl)
theorem dL_law_1048 : decode cL_law 1048 = .ok (.istore 5, 2) := dk_54 5 (dk_at dksL_law_41 11 rfl rfl)
theorem dL_law_1050 : decode cL_law 1050 = .ok (.aload_n 2, 1) := dk_44 (dk_at dksL_law_41 13 rfl rfl)
theorem dL_law_1051 : decode cL_law 1051 = .ok (.aload_n 0, 1) := dk_42 (dk_at dksL_law_41 14 rfl rfl)
theorem dL_law_1052 : decode cL_law 1052 = .ok (.iload 4, 2) := dk_21 4 (dk_at dksL_law_41 15 rfl rfl)
theorem dL_law_1054 : decode cL_law 1054 = .ok (.iconst 1, 1) := dk_4 (dk_at dksL_law_41 17 rfl rfl)
theorem dL_law_1055 : decode cL_law 1055 = .ok (.iadd, 1) := dk_96 (dk_at dksL_law_41 18 rfl rfl)
theorem dL_law_1056 : decode cL_law 1056 = .ok (.iaload, 1) := dk_46 (dk_at dksL_law_41 19 rfl rfl)
theorem dL_law_1057 : decode cL_law 1057 = .ok (.aload_n 0, 1) := dk_42 (dk_at dksL_law_41 20 rfl rfl)
theorem dL_law_1058 : decode cL_law 1058 = .ok (.iload 4, 2) := dk_21 4 (dk_at dksL_law_41 21 rfl rfl)
theorem dL_law_1060 : decode cL_law 1060 = .ok (.iconst 2, 1) := dk_5 (dk_at dksL_law_41 23 rfl rfl)
theorem dL_law_1061 : decode cL_law 1061 = .ok (.iadd, 1) := dk_96 (dk_at dksL_law_42 0 rfl rfl)
theorem dL_law_1062 : decode cL_law 1062 = .ok (.iaload, 1) := dk_46 (dk_at dksL_law_42 1 rfl rfl)
theorem dL_law_1063 : decode cL_law 1063 = .ok (.invokevirtual 155, 3) := dk_182 0 155 (dk_at dksL_law_42 2 rfl rfl)
theorem dL_law_1066 : decode cL_law 1066 = .ok (.istore 6, 2) := dk_54 6 (dk_at dksL_law_42 5 rfl rfl)
theorem dL_law_1068 : decode cL_law 1068 = .ok (.aload_n 2, 1) := dk_44 (dk_at dksL_law_42 7 rfl rfl)
theorem dL_law_1069 : decode cL_law 1069 = .ok (.invokevirtual 94, 3) := dk_182 0 94 (dk_at dksL_law_42 8 rfl rfl)
theorem dL_law_1072 : decode cL_law 1072 = .ok (.iload 5, 2) := dk_21 5 (dk_at dksL_law_42 11 rfl rfl)
theorem dL_law_1074 : decode cL_law 1074 = .ok (.if_icmp .eq 5, 3) := dk_159 0 5 (dk_at dksL_law_42 13 rfl rfl)
theorem dL_law_1077 : decode cL_law 1077 = .ok (.iconst 0, 1) := dk_3 (dk_at dksL_law_42 16 rfl rfl)
theorem dL_law_1078 : decode cL_law 1078 = .ok (.ireturn, 1) := dk_172 (dk_at dksL_law_42 17 rfl rfl)
theorem dL_law_1079 : decode cL_law 1079 = .ok (.iload 5, 2) := dk_21 5 (dk_at dksL_law_42 18 rfl rfl)
theorem dL_law_1081 : decode cL_law 1081 = .ok (.ifCond .ne 15, 3) := dk_154 0 15 (dk_at dksL_law_42 20 rfl rfl)
theorem dL_law_1084 : decode cL_law 1084 = .ok (.aload_n 3, 1) := dk_45 (dk_at dksL_law_42 23 rfl rfl)
theorem dL_law_1085 : decode cL_law 1085 = .ok (.iconst 0, 1) := dk_3 (dk_at dksL_law_43 0 rfl rfl)
theorem dL_law_1086 : decode cL_law 1086 = .ok (.laload, 1) := dk_47 (dk_at dksL_law_43 1 rfl rfl)
theorem dL_law_1087 : decode cL_law 1087 = .ok (.iload 6, 2) := dk_21 6 (dk_at dksL_law_43 2 rfl rfl)
theorem dL_law_1089 : decode cL_law 1089 = .ok (.i2l, 1) := dk_133 (dk_at dksL_law_43 4 rfl rfl)
theorem dL_law_1090 : decode cL_law 1090 = .ok (.lcmp, 1) := dk_148 (dk_at dksL_law_43 5 rfl rfl)
theorem dL_law_1091 : decode cL_law 1091 = .ok (.ifCond .eq 5, 3) := dk_153 0 5 (dk_at dksL_law_43 6 rfl rfl)
theorem dL_law_1094 : decode cL_law 1094 = .ok (.iconst 0, 1) := dk_3 (dk_at dksL_law_43 9 rfl rfl)
theorem dL_law_1095 : decode cL_law 1095 = .ok (.ireturn, 1) := dk_172 (dk_at dksL_law_43 10 rfl rfl)
theorem dL_law_1096 : decode cL_law 1096 = .ok (.goto 459, 3) := dk_167 1 203 (dk_at dksL_law_43 11 rfl rfl)
theorem dL_law_1099 : decode cL_law 1099 = .ok (.aload_n 1, 1) := dk_43 (dk_at dksL_law_43 14 rfl rfl)
theorem dL_law_1100 : decode cL_law 1100 = .ok (.aload_n 0, 1) := dk_42 (dk_at dksL_law_43 15 rfl rfl)
theorem dL_law_1101 : decode cL_law 1101 = .ok (.iload 4, 2) := dk_21 4 (dk_at dksL_law_43 16 rfl rfl)
theorem dL_law_1103 : decode cL_law 1103 = .ok (.iconst 1, 1) := dk_4 (dk_at dksL_law_43 18 rfl rfl)
theorem dL_law_1104 : decode cL_law 1104 = .ok (.iadd, 1) := dk_96 (dk_at dksL_law_43 19 rfl rfl)
theorem dL_law_1105 : decode cL_law 1105 = .ok (.iaload, 1) := dk_46 (dk_at dksL_law_43 20 rfl rfl)
theorem dL_law_1106 : decode cL_law 1106 = .ok (.aload_n 0, 1) := dk_42 (dk_at dksL_law_43 21 rfl rfl)
theorem dL_law_1107 : decode cL_law 1107 = .ok (.iload 4, 2) := dk_21 4 (dk_at dksL_law_43 22 rfl rfl)
theorem dL_law_1109 : decode cL_law 1109 = .ok (.iconst 2, 1) := dk_5 (dk_at dksL_law_44 0 rfl rfl)
theorem dL_law_1110 : decode cL_law 1110 = .ok (.iadd, 1) := dk_96 (dk_at dksL_law_44 1 rfl rfl)
theorem dL_law_1111 : decode cL_law 1111 = .ok (.iaload, 1) := dk_46 (dk_at dksL_law_44 2 rfl rfl)
theorem dL_law_1112 : decode cL_law 1112 = .ok (.aload_n 3, 1) := dk_45 (dk_at dksL_law_44 3 rfl rfl)
theorem dL_law_1113 : decode cL_law 1113 = .ok (.invokestatic 156, 3) := dk_184 0 156 (dk_at dksL_law_44 4 rfl rfl)
theorem dL_law_1116 : decode cL_law 1116 = .ok (.istore 5, 2) := dk_54 5 (dk_at dksL_law_44 7 rfl rfl)
theorem dL_law_1118 : decode cL_law 1118 = .ok (.aload_n 2, 1) := dk_44 (dk_at dksL_law_44 9 rfl rfl)
theorem dL_law_1119 : decode cL_law 1119 = .ok (.aload_n 0, 1) := dk_42 (dk_at dksL_law_44 10 rfl rfl)
theorem dL_law_1120 : decode cL_law 1120 = .ok (.iload 4, 2) := dk_21 4 (dk_at dksL_law_44 11 rfl rfl)
theorem dL_law_1122 : decode cL_law 1122 = .ok (.iconst 1, 1) := dk_4 (dk_at dksL_law_44 13 rfl rfl)
theorem dL_law_1123 : decode cL_law 1123 = .ok (.iadd, 1) := dk_96 (dk_at dksL_law_44 14 rfl rfl)
theorem dL_law_1124 : decode cL_law 1124 = .ok (.iaload, 1) := dk_46 (dk_at dksL_law_44 15 rfl rfl)
theorem dL_law_1125 : decode cL_law 1125 = .ok (.aload_n 0, 1) := dk_42 (dk_at dksL_law_44 16 rfl rfl)
theorem dL_law_1126 : decode cL_law 1126 = .ok (.iload 4, 2) := dk_21 4 (dk_at dksL_law_44 17 rfl rfl)
theorem dL_law_1128 : decode cL_law 1128 = .ok (.iconst 2, 1) := dk_5 (dk_at dksL_law_44 19 rfl rfl)
theorem dL_law_1129 : decode cL_law 1129 = .ok (.iadd, 1) := dk_96 (dk_at dksL_law_44 20 rfl rfl)
theorem dL_law_1130 : decode cL_law 1130 = .ok (.iaload, 1) := dk_46 (dk_at dksL_law_44 21 rfl rfl)
theorem dL_law_1131 : decode cL_law 1131 = .ok (.invokevirtual 158, 3) := dk_182 0 158 (dk_at dksL_law_45 0 rfl rfl)
theorem dL_law_1134 : decode cL_law 1134 = .ok (.istore 6, 2) := dk_54 6 (dk_at dksL_law_45 3 rfl rfl)
theorem dL_law_1136 : decode cL_law 1136 = .ok (.aload_n 2, 1) := dk_44 (dk_at dksL_law_45 5 rfl rfl)
theorem dL_law_1137 : decode cL_law 1137 = .ok (.invokevirtual 94, 3) := dk_182 0 94 (dk_at dksL_law_45 6 rfl rfl)
theorem dL_law_1140 : decode cL_law 1140 = .ok (.iload 5, 2) := dk_21 5 (dk_at dksL_law_45 9 rfl rfl)
theorem dL_law_1142 : decode cL_law 1142 = .ok (.if_icmp .eq 5, 3) := dk_159 0 5 (dk_at dksL_law_45 11 rfl rfl)
theorem dL_law_1145 : decode cL_law 1145 = .ok (.iconst 0, 1) := dk_3 (dk_at dksL_law_45 14 rfl rfl)
theorem dL_law_1146 : decode cL_law 1146 = .ok (.ireturn, 1) := dk_172 (dk_at dksL_law_45 15 rfl rfl)
theorem dL_law_1147 : decode cL_law 1147 = .ok (.iload 5, 2) := dk_21 5 (dk_at dksL_law_45 16 rfl rfl)
theorem dL_law_1149 : decode cL_law 1149 = .ok (.ifCond .ne 15, 3) := dk_154 0 15 (dk_at dksL_law_45 18 rfl rfl)
theorem dL_law_1152 : decode cL_law 1152 = .ok (.aload_n 3, 1) := dk_45 (dk_at dksL_law_45 21 rfl rfl)
theorem dL_law_1153 : decode cL_law 1153 = .ok (.iconst 0, 1) := dk_3 (dk_at dksL_law_45 22 rfl rfl)
theorem dL_law_1154 : decode cL_law 1154 = .ok (.laload, 1) := dk_47 (dk_at dksL_law_45 23 rfl rfl)
theorem dL_law_1155 : decode cL_law 1155 = .ok (.iload 6, 2) := dk_21 6 (dk_at dksL_law_46 0 rfl rfl)
theorem dL_law_1157 : decode cL_law 1157 = .ok (.i2l, 1) := dk_133 (dk_at dksL_law_46 2 rfl rfl)
theorem dL_law_1158 : decode cL_law 1158 = .ok (.lcmp, 1) := dk_148 (dk_at dksL_law_46 3 rfl rfl)
theorem dL_law_1159 : decode cL_law 1159 = .ok (.ifCond .eq 5, 3) := dk_153 0 5 (dk_at dksL_law_46 4 rfl rfl)
theorem dL_law_1162 : decode cL_law 1162 = .ok (.iconst 0, 1) := dk_3 (dk_at dksL_law_46 7 rfl rfl)
theorem dL_law_1163 : decode cL_law 1163 = .ok (.ireturn, 1) := dk_172 (dk_at dksL_law_46 8 rfl rfl)
theorem dL_law_1164 : decode cL_law 1164 = .ok (.goto 391, 3) := dk_167 1 135 (dk_at dksL_law_46 9 rfl rfl)
theorem dL_law_1167 : decode cL_law 1167 = .ok (.aload_n 1, 1) := dk_43 (dk_at dksL_law_46 12 rfl rfl)
theorem dL_law_1168 : decode cL_law 1168 = .ok (.invokevirtual 159, 3) := dk_182 0 159 (dk_at dksL_law_46 13 rfl rfl)
theorem dL_law_1171 : decode cL_law 1171 = .ok (.aload_n 2, 1) := dk_44 (dk_at dksL_law_46 16 rfl rfl)
theorem dL_law_1172 : decode cL_law 1172 = .ok (.invokevirtual 162, 3) := dk_182 0 162 (dk_at dksL_law_46 17 rfl rfl)
theorem dL_law_1175 : decode cL_law 1175 = .ok (.if_icmp .eq 380, 3) := dk_159 1 124 (dk_at dksL_law_46 20 rfl rfl)
theorem dL_law_1178 : decode cL_law 1178 = .ok (.iconst 0, 1) := dk_3 (dk_at dksL_law_46 23 rfl rfl)
theorem dL_law_1179 : decode cL_law 1179 = .ok (.ireturn, 1) := dk_172 (dk_at dksL_law_47 0 rfl rfl)
theorem dL_law_1180 : decode cL_law 1180 = .ok (.aload_n 1, 1) := dk_43 (dk_at dksL_law_47 1 rfl rfl)
theorem dL_law_1181 : decode cL_law 1181 = .ok (.aload_n 0, 1) := dk_42 (dk_at dksL_law_47 2 rfl rfl)
theorem dL_law_1182 : decode cL_law 1182 = .ok (.iload 4, 2) := dk_21 4 (dk_at dksL_law_47 3 rfl rfl)
theorem dL_law_1184 : decode cL_law 1184 = .ok (.iconst 1, 1) := dk_4 (dk_at dksL_law_47 5 rfl rfl)
theorem dL_law_1185 : decode cL_law 1185 = .ok (.iadd, 1) := dk_96 (dk_at dksL_law_47 6 rfl rfl)
theorem dL_law_1186 : decode cL_law 1186 = .ok (.iaload, 1) := dk_46 (dk_at dksL_law_47 7 rfl rfl)
theorem dL_law_1187 : decode cL_law 1187 = .ok (.aload_n 3, 1) := dk_45 (dk_at dksL_law_47 8 rfl rfl)
theorem dL_law_1188 : decode cL_law 1188 = .ok (.invokestatic 163, 3) := dk_184 0 163 (dk_at dksL_law_47 9 rfl rfl)
theorem dL_law_1191 : decode cL_law 1191 = .ok (.istore 5, 2) := dk_54 5 (dk_at dksL_law_47 12 rfl rfl)
theorem dL_law_1193 : decode cL_law 1193 = .ok (.aload_n 2, 1) := dk_44 (dk_at dksL_law_47 14 rfl rfl)
theorem dL_law_1194 : decode cL_law 1194 = .ok (.aload_n 0, 1) := dk_42 (dk_at dksL_law_47 15 rfl rfl)
theorem dL_law_1195 : decode cL_law 1195 = .ok (.iload 4, 2) := dk_21 4 (dk_at dksL_law_47 16 rfl rfl)
theorem dL_law_1197 : decode cL_law 1197 = .ok (.iconst 1, 1) := dk_4 (dk_at dksL_law_47 18 rfl rfl)
theorem dL_law_1198 : decode cL_law 1198 = .ok (.iadd, 1) := dk_96 (dk_at dksL_law_47 19 rfl rfl)
theorem dL_law_1199 : decode cL_law 1199 = .ok (.iaload, 1) := dk_46 (dk_at dksL_law_47 20 rfl rfl)
theorem dL_law_1200 : decode cL_law 1200 = .ok (.invokevirtual 165, 3) := dk_182 0 165 (dk_at dksL_law_47 21 rfl rfl)
theorem dL_law_1203 : decode cL_law 1203 = .ok (.istore 6, 2) := dk_54 6 (dk_at dksL_law_48 0 rfl rfl)
theorem dL_law_1205 : decode cL_law 1205 = .ok (.aload_n 2, 1) := dk_44 (dk_at dksL_law_48 2 rfl rfl)
theorem dL_law_1206 : decode cL_law 1206 = .ok (.invokevirtual 94, 3) := dk_182 0 94 (dk_at dksL_law_48 3 rfl rfl)
theorem dL_law_1209 : decode cL_law 1209 = .ok (.iload 5, 2) := dk_21 5 (dk_at dksL_law_48 6 rfl rfl)
theorem dL_law_1211 : decode cL_law 1211 = .ok (.if_icmp .eq 5, 3) := dk_159 0 5 (dk_at dksL_law_48 8 rfl rfl)
theorem dL_law_1214 : decode cL_law 1214 = .ok (.iconst 0, 1) := dk_3 (dk_at dksL_law_48 11 rfl rfl)
theorem dL_law_1215 : decode cL_law 1215 = .ok (.ireturn, 1) := dk_172 (dk_at dksL_law_48 12 rfl rfl)
theorem dL_law_1216 : decode cL_law 1216 = .ok (.iload 5, 2) := dk_21 5 (dk_at dksL_law_48 13 rfl rfl)
theorem dL_law_1218 : decode cL_law 1218 = .ok (.ifCond .ne 22, 3) := dk_154 0 22 (dk_at dksL_law_48 15 rfl rfl)
theorem dL_law_1221 : decode cL_law 1221 = .ok (.aload_n 3, 1) := dk_45 (dk_at dksL_law_48 18 rfl rfl)
theorem dL_law_1222 : decode cL_law 1222 = .ok (.iconst 0, 1) := dk_3 (dk_at dksL_law_48 19 rfl rfl)
theorem dL_law_1223 : decode cL_law 1223 = .ok (.laload, 1) := dk_47 (dk_at dksL_law_48 20 rfl rfl)
theorem dL_law_1224 : decode cL_law 1224 = .ok (.iload 6, 2) := dk_21 6 (dk_at dksL_law_48 21 rfl rfl)
theorem dL_law_1226 : decode cL_law 1226 = .ok (.ifCond .eq 7, 3) := dk_153 0 7 (dk_at dksL_law_49 0 rfl rfl)
theorem dL_law_1229 : decode cL_law 1229 = .ok (.lconst 1, 1) := dk_10 (dk_at dksL_law_49 3 rfl rfl)
theorem dL_law_1230 : decode cL_law 1230 = .ok (.goto 4, 3) := dk_167 0 4 (dk_at dksL_law_49 4 rfl rfl)
theorem dL_law_1233 : decode cL_law 1233 = .ok (.lconst 0, 1) := dk_9 (dk_at dksL_law_49 7 rfl rfl)
theorem dL_law_1234 : decode cL_law 1234 = .ok (.lcmp, 1) := dk_148 (dk_at dksL_law_49 8 rfl rfl)
theorem dL_law_1235 : decode cL_law 1235 = .ok (.ifCond .eq 5, 3) := dk_153 0 5 (dk_at dksL_law_49 9 rfl rfl)
theorem dL_law_1238 : decode cL_law 1238 = .ok (.iconst 0, 1) := dk_3 (dk_at dksL_law_49 12 rfl rfl)
theorem dL_law_1239 : decode cL_law 1239 = .ok (.ireturn, 1) := dk_172 (dk_at dksL_law_49 13 rfl rfl)
theorem dL_law_1240 : decode cL_law 1240 = .ok (.goto 315, 3) := dk_167 1 59 (dk_at dksL_law_49 14 rfl rfl)
theorem dL_law_1243 : decode cL_law 1243 = .ok (.aload_n 1, 1) := dk_43 (dk_at dksL_law_49 17 rfl rfl)
theorem dL_law_1244 : decode cL_law 1244 = .ok (.aload_n 0, 1) := dk_42 (dk_at dksL_law_49 18 rfl rfl)
theorem dL_law_1245 : decode cL_law 1245 = .ok (.iload 4, 2) := dk_21 4 (dk_at dksL_law_49 19 rfl rfl)
theorem dL_law_1247 : decode cL_law 1247 = .ok (.iconst 1, 1) := dk_4 (dk_at dksL_law_49 21 rfl rfl)
theorem dL_law_1248 : decode cL_law 1248 = .ok (.iadd, 1) := dk_96 (dk_at dksL_law_49 22 rfl rfl)
theorem dL_law_1249 : decode cL_law 1249 = .ok (.iaload, 1) := dk_46 (dk_at dksL_law_49 23 rfl rfl)
theorem dL_law_1250 : decode cL_law 1250 = .ok (.aload_n 0, 1) := dk_42 (dk_at dksL_law_50 0 rfl rfl)
theorem dL_law_1251 : decode cL_law 1251 = .ok (.iload 4, 2) := dk_21 4 (dk_at dksL_law_50 1 rfl rfl)
theorem dL_law_1253 : decode cL_law 1253 = .ok (.iconst 2, 1) := dk_5 (dk_at dksL_law_50 3 rfl rfl)
theorem dL_law_1254 : decode cL_law 1254 = .ok (.iadd, 1) := dk_96 (dk_at dksL_law_50 4 rfl rfl)
theorem dL_law_1255 : decode cL_law 1255 = .ok (.iaload, 1) := dk_46 (dk_at dksL_law_50 5 rfl rfl)
theorem dL_law_1256 : decode cL_law 1256 = .ok (.i2l, 1) := dk_133 (dk_at dksL_law_50 6 rfl rfl)
theorem dL_law_1257 : decode cL_law 1257 = .ok (.bipush 32, 2) := dk_16 32 (dk_at dksL_law_50 7 rfl rfl)
theorem dL_law_1259 : decode cL_law 1259 = .ok (.lshl, 1) := dk_121 (dk_at dksL_law_50 9 rfl rfl)
theorem dL_law_1260 : decode cL_law 1260 = .ok (.aload_n 0, 1) := dk_42 (dk_at dksL_law_50 10 rfl rfl)
theorem dL_law_1261 : decode cL_law 1261 = .ok (.iload 4, 2) := dk_21 4 (dk_at dksL_law_50 11 rfl rfl)
theorem dL_law_1263 : decode cL_law 1263 = .ok (.iconst 3, 1) := dk_6 (dk_at dksL_law_50 13 rfl rfl)
theorem dL_law_1264 : decode cL_law 1264 = .ok (.iadd, 1) := dk_96 (dk_at dksL_law_50 14 rfl rfl)
theorem dL_law_1265 : decode cL_law 1265 = .ok (.iaload, 1) := dk_46 (dk_at dksL_law_50 15 rfl rfl)
theorem dL_law_1266 : decode cL_law 1266 = .ok (.i2l, 1) := dk_133 (dk_at dksL_law_50 16 rfl rfl)
theorem dL_law_1267 : decode cL_law 1267 = .ok (.ldc2_w 124, 3) := dk_20 0 124 (dk_at dksL_law_50 17 rfl rfl)
theorem dL_law_1270 : decode cL_law 1270 = .ok (.land, 1) := dk_127 (dk_at dksL_law_50 20 rfl rfl)
theorem dL_law_1271 : decode cL_law 1271 = .ok (.lor, 1) := dk_129 (dk_at dksL_law_50 21 rfl rfl)
theorem dL_law_1272 : decode cL_law 1272 = .ok (.aload_n 3, 1) := dk_45 (dk_at dksL_law_50 22 rfl rfl)
theorem dL_law_1273 : decode cL_law 1273 = .ok (.invokestatic 166, 3) := dk_184 0 166 (dk_at dksL_law_51 0 rfl rfl)
theorem dL_law_1276 : decode cL_law 1276 = .ok (.istore 5, 2) := dk_54 5 (dk_at dksL_law_51 3 rfl rfl)
theorem dL_law_1278 : decode cL_law 1278 = .ok (.aload_n 2, 1) := dk_44 (dk_at dksL_law_51 5 rfl rfl)
theorem dL_law_1279 : decode cL_law 1279 = .ok (.aload_n 0, 1) := dk_42 (dk_at dksL_law_51 6 rfl rfl)
theorem dL_law_1280 : decode cL_law 1280 = .ok (.iload 4, 2) := dk_21 4 (dk_at dksL_law_51 7 rfl rfl)
theorem dL_law_1282 : decode cL_law 1282 = .ok (.iconst 1, 1) := dk_4 (dk_at dksL_law_51 9 rfl rfl)
theorem dL_law_1283 : decode cL_law 1283 = .ok (.iadd, 1) := dk_96 (dk_at dksL_law_51 10 rfl rfl)
theorem dL_law_1284 : decode cL_law 1284 = .ok (.iaload, 1) := dk_46 (dk_at dksL_law_51 11 rfl rfl)
theorem dL_law_1285 : decode cL_law 1285 = .ok (.aload_n 0, 1) := dk_42 (dk_at dksL_law_51 12 rfl rfl)
theorem dL_law_1286 : decode cL_law 1286 = .ok (.iload 4, 2) := dk_21 4 (dk_at dksL_law_51 13 rfl rfl)
theorem dL_law_1288 : decode cL_law 1288 = .ok (.iconst 2, 1) := dk_5 (dk_at dksL_law_51 15 rfl rfl)
theorem dL_law_1289 : decode cL_law 1289 = .ok (.iadd, 1) := dk_96 (dk_at dksL_law_51 16 rfl rfl)
theorem dL_law_1290 : decode cL_law 1290 = .ok (.iaload, 1) := dk_46 (dk_at dksL_law_51 17 rfl rfl)
theorem dL_law_1291 : decode cL_law 1291 = .ok (.i2l, 1) := dk_133 (dk_at dksL_law_51 18 rfl rfl)
theorem dL_law_1292 : decode cL_law 1292 = .ok (.bipush 32, 2) := dk_16 32 (dk_at dksL_law_51 19 rfl rfl)
theorem dL_law_1294 : decode cL_law 1294 = .ok (.lshl, 1) := dk_121 (dk_at dksL_law_51 21 rfl rfl)
theorem dL_law_1295 : decode cL_law 1295 = .ok (.aload_n 0, 1) := dk_42 (dk_at dksL_law_51 22 rfl rfl)
theorem dL_law_1296 : decode cL_law 1296 = .ok (.iload 4, 2) := dk_21 4 (dk_at dksL_law_52 0 rfl rfl)
theorem dL_law_1298 : decode cL_law 1298 = .ok (.iconst 3, 1) := dk_6 (dk_at dksL_law_52 2 rfl rfl)
theorem dL_law_1299 : decode cL_law 1299 = .ok (.iadd, 1) := dk_96 (dk_at dksL_law_52 3 rfl rfl)
theorem dL_law_1300 : decode cL_law 1300 = .ok (.iaload, 1) := dk_46 (dk_at dksL_law_52 4 rfl rfl)
theorem dL_law_1301 : decode cL_law 1301 = .ok (.i2l, 1) := dk_133 (dk_at dksL_law_52 5 rfl rfl)
theorem dL_law_1302 : decode cL_law 1302 = .ok (.ldc2_w 124, 3) := dk_20 0 124 (dk_at dksL_law_52 6 rfl rfl)
theorem dL_law_1305 : decode cL_law 1305 = .ok (.land, 1) := dk_127 (dk_at dksL_law_52 9 rfl rfl)
theorem dL_law_1306 : decode cL_law 1306 = .ok (.lor, 1) := dk_129 (dk_at dksL_law_52 10 rfl rfl)
theorem dL_law_1307 : decode cL_law 1307 = .ok (.invokevirtual 169, 3) := dk_182 0 169 (dk_at dksL_law_52 11 rfl rfl)
theorem dL_law_1310 : decode cL_law 1310 = .ok (.istore 6, 2) := dk_54 6 (dk_at dksL_law_52 14 rfl rfl)
theorem dL_law_1312 : decode cL_law 1312 = .ok (.aload_n 2, 1) := dk_44 (dk_at dksL_law_52 16 rfl rfl)
theorem dL_law_1313 : decode cL_law 1313 = .ok (.invokevirtual 94, 3) := dk_182 0 94 (dk_at dksL_law_52 17 rfl rfl)
theorem dL_law_1316 : decode cL_law 1316 = .ok (.iload 5, 2) := dk_21 5 (dk_at dksL_law_52 20 rfl rfl)
theorem dL_law_1318 : decode cL_law 1318 = .ok (.if_icmp .eq 5, 3) := dk_159 0 5 (dk_at dksL_law_53 0 rfl rfl)
theorem dL_law_1321 : decode cL_law 1321 = .ok (.iconst 0, 1) := dk_3 (dk_at dksL_law_53 3 rfl rfl)
theorem dL_law_1322 : decode cL_law 1322 = .ok (.ireturn, 1) := dk_172 (dk_at dksL_law_53 4 rfl rfl)
theorem dL_law_1323 : decode cL_law 1323 = .ok (.iload 5, 2) := dk_21 5 (dk_at dksL_law_53 5 rfl rfl)
theorem dL_law_1325 : decode cL_law 1325 = .ok (.ifCond .ne 15, 3) := dk_154 0 15 (dk_at dksL_law_53 7 rfl rfl)
theorem dL_law_1328 : decode cL_law 1328 = .ok (.aload_n 3, 1) := dk_45 (dk_at dksL_law_53 10 rfl rfl)
theorem dL_law_1329 : decode cL_law 1329 = .ok (.iconst 0, 1) := dk_3 (dk_at dksL_law_53 11 rfl rfl)
theorem dL_law_1330 : decode cL_law 1330 = .ok (.laload, 1) := dk_47 (dk_at dksL_law_53 12 rfl rfl)
theorem dL_law_1331 : decode cL_law 1331 = .ok (.iload 6, 2) := dk_21 6 (dk_at dksL_law_53 13 rfl rfl)
theorem dL_law_1333 : decode cL_law 1333 = .ok (.i2l, 1) := dk_133 (dk_at dksL_law_53 15 rfl rfl)
theorem dL_law_1334 : decode cL_law 1334 = .ok (.lcmp, 1) := dk_148 (dk_at dksL_law_53 16 rfl rfl)
theorem dL_law_1335 : decode cL_law 1335 = .ok (.ifCond .eq 5, 3) := dk_153 0 5 (dk_at dksL_law_53 17 rfl rfl)
theorem dL_law_1338 : decode cL_law 1338 = .ok (.iconst 0, 1) := dk_3 (dk_at dksL_law_53 20 rfl rfl)
theorem dL_law_1339 : decode cL_law 1339 = .ok (.ireturn, 1) := dk_172 (dk_at dksL_law_53 21 rfl rfl)
theorem dL_law_1340 : decode cL_law 1340 = .ok (.goto 215, 3) := dk_167 0 215 (dk_at dksL_law_54 0 rfl rfl)
theorem dL_law_1343 : decode cL_law 1343 = .ok (.aload_n 1, 1) := dk_43 (dk_at dksL_law_54 3 rfl rfl)
theorem dL_law_1344 : decode cL_law 1344 = .ok (.aload_n 0, 1) := dk_42 (dk_at dksL_law_54 4 rfl rfl)
theorem dL_law_1345 : decode cL_law 1345 = .ok (.iload 4, 2) := dk_21 4 (dk_at dksL_law_54 5 rfl rfl)
theorem dL_law_1347 : decode cL_law 1347 = .ok (.iconst 1, 1) := dk_4 (dk_at dksL_law_54 7 rfl rfl)
theorem dL_law_1348 : decode cL_law 1348 = .ok (.iadd, 1) := dk_96 (dk_at dksL_law_54 8 rfl rfl)
theorem dL_law_1349 : decode cL_law 1349 = .ok (.iaload, 1) := dk_46 (dk_at dksL_law_54 9 rfl rfl)
theorem dL_law_1350 : decode cL_law 1350 = .ok (.i2l, 1) := dk_133 (dk_at dksL_law_54 10 rfl rfl)
theorem dL_law_1351 : decode cL_law 1351 = .ok (.bipush 32, 2) := dk_16 32 (dk_at dksL_law_54 11 rfl rfl)
theorem dL_law_1353 : decode cL_law 1353 = .ok (.lshl, 1) := dk_121 (dk_at dksL_law_54 13 rfl rfl)
theorem dL_law_1354 : decode cL_law 1354 = .ok (.aload_n 0, 1) := dk_42 (dk_at dksL_law_54 14 rfl rfl)
theorem dL_law_1355 : decode cL_law 1355 = .ok (.iload 4, 2) := dk_21 4 (dk_at dksL_law_54 15 rfl rfl)
theorem dL_law_1357 : decode cL_law 1357 = .ok (.iconst 2, 1) := dk_5 (dk_at dksL_law_54 17 rfl rfl)
theorem dL_law_1358 : decode cL_law 1358 = .ok (.iadd, 1) := dk_96 (dk_at dksL_law_54 18 rfl rfl)
theorem dL_law_1359 : decode cL_law 1359 = .ok (.iaload, 1) := dk_46 (dk_at dksL_law_54 19 rfl rfl)
theorem dL_law_1360 : decode cL_law 1360 = .ok (.i2l, 1) := dk_133 (dk_at dksL_law_54 20 rfl rfl)
theorem dL_law_1361 : decode cL_law 1361 = .ok (.ldc2_w 124, 3) := dk_20 0 124 (dk_at dksL_law_54 21 rfl rfl)
theorem dL_law_1364 : decode cL_law 1364 = .ok (.land, 1) := dk_127 (dk_at dksL_law_55 0 rfl rfl)
theorem dL_law_1365 : decode cL_law 1365 = .ok (.lor, 1) := dk_129 (dk_at dksL_law_55 1 rfl rfl)
theorem dL_law_1366 : decode cL_law 1366 = .ok (.aload_n 0, 1) := dk_42 (dk_at dksL_law_55 2 rfl rfl)
theorem dL_law_1367 : decode cL_law 1367 = .ok (.iload 4, 2) := dk_21 4 (dk_at dksL_law_55 3 rfl rfl)
theorem dL_law_1369 : decode cL_law 1369 = .ok (.iconst 3, 1) := dk_6 (dk_at dksL_law_55 5 rfl rfl)
theorem dL_law_1370 : decode cL_law 1370 = .ok (.iadd, 1) := dk_96 (dk_at dksL_law_55 6 rfl rfl)
theorem dL_law_1371 : decode cL_law 1371 = .ok (.iaload, 1) := dk_46 (dk_at dksL_law_55 7 rfl rfl)
theorem dL_law_1372 : decode cL_law 1372 = .ok (.aload_n 3, 1) := dk_45 (dk_at dksL_law_55 8 rfl rfl)
theorem dL_law_1373 : decode cL_law 1373 = .ok (.invokestatic 170, 3) := dk_184 0 170 (dk_at dksL_law_55 9 rfl rfl)
theorem dL_law_1376 : decode cL_law 1376 = .ok (.istore 5, 2) := dk_54 5 (dk_at dksL_law_55 12 rfl rfl)
theorem dL_law_1378 : decode cL_law 1378 = .ok (.aload_n 2, 1) := dk_44 (dk_at dksL_law_55 14 rfl rfl)
theorem dL_law_1379 : decode cL_law 1379 = .ok (.aload_n 0, 1) := dk_42 (dk_at dksL_law_55 15 rfl rfl)
theorem dL_law_1380 : decode cL_law 1380 = .ok (.iload 4, 2) := dk_21 4 (dk_at dksL_law_55 16 rfl rfl)
theorem dL_law_1382 : decode cL_law 1382 = .ok (.iconst 1, 1) := dk_4 (dk_at dksL_law_55 18 rfl rfl)
theorem dL_law_1383 : decode cL_law 1383 = .ok (.iadd, 1) := dk_96 (dk_at dksL_law_55 19 rfl rfl)
theorem dL_law_1384 : decode cL_law 1384 = .ok (.iaload, 1) := dk_46 (dk_at dksL_law_55 20 rfl rfl)
theorem dL_law_1385 : decode cL_law 1385 = .ok (.i2l, 1) := dk_133 (dk_at dksL_law_55 21 rfl rfl)
theorem dL_law_1386 : decode cL_law 1386 = .ok (.bipush 32, 2) := dk_16 32 (dk_at dksL_law_55 22 rfl rfl)
theorem dL_law_1388 : decode cL_law 1388 = .ok (.lshl, 1) := dk_121 (dk_at dksL_law_56 0 rfl rfl)
theorem dL_law_1389 : decode cL_law 1389 = .ok (.aload_n 0, 1) := dk_42 (dk_at dksL_law_56 1 rfl rfl)
theorem dL_law_1390 : decode cL_law 1390 = .ok (.iload 4, 2) := dk_21 4 (dk_at dksL_law_56 2 rfl rfl)
theorem dL_law_1392 : decode cL_law 1392 = .ok (.iconst 2, 1) := dk_5 (dk_at dksL_law_56 4 rfl rfl)
theorem dL_law_1393 : decode cL_law 1393 = .ok (.iadd, 1) := dk_96 (dk_at dksL_law_56 5 rfl rfl)
theorem dL_law_1394 : decode cL_law 1394 = .ok (.iaload, 1) := dk_46 (dk_at dksL_law_56 6 rfl rfl)
theorem dL_law_1395 : decode cL_law 1395 = .ok (.i2l, 1) := dk_133 (dk_at dksL_law_56 7 rfl rfl)
theorem dL_law_1396 : decode cL_law 1396 = .ok (.ldc2_w 124, 3) := dk_20 0 124 (dk_at dksL_law_56 8 rfl rfl)
theorem dL_law_1399 : decode cL_law 1399 = .ok (.land, 1) := dk_127 (dk_at dksL_law_56 11 rfl rfl)
theorem dL_law_1400 : decode cL_law 1400 = .ok (.lor, 1) := dk_129 (dk_at dksL_law_56 12 rfl rfl)
theorem dL_law_1401 : decode cL_law 1401 = .ok (.aload_n 0, 1) := dk_42 (dk_at dksL_law_56 13 rfl rfl)
theorem dL_law_1402 : decode cL_law 1402 = .ok (.iload 4, 2) := dk_21 4 (dk_at dksL_law_56 14 rfl rfl)
theorem dL_law_1404 : decode cL_law 1404 = .ok (.iconst 3, 1) := dk_6 (dk_at dksL_law_56 16 rfl rfl)
theorem dL_law_1405 : decode cL_law 1405 = .ok (.iadd, 1) := dk_96 (dk_at dksL_law_56 17 rfl rfl)
theorem dL_law_1406 : decode cL_law 1406 = .ok (.iaload, 1) := dk_46 (dk_at dksL_law_56 18 rfl rfl)
theorem dL_law_1407 : decode cL_law 1407 = .ok (.invokevirtual 173, 3) := dk_182 0 173 (dk_at dksL_law_56 19 rfl rfl)
theorem dL_law_1410 : decode cL_law 1410 = .ok (.istore 6, 2) := dk_54 6 (dk_at dksL_law_56 22 rfl rfl)
theorem dL_law_1412 : decode cL_law 1412 = .ok (.aload_n 2, 1) := dk_44 (dk_at dksL_law_57 0 rfl rfl)
theorem dL_law_1413 : decode cL_law 1413 = .ok (.invokevirtual 94, 3) := dk_182 0 94 (dk_at dksL_law_57 1 rfl rfl)
theorem dL_law_1416 : decode cL_law 1416 = .ok (.iload 5, 2) := dk_21 5 (dk_at dksL_law_57 4 rfl rfl)
theorem dL_law_1418 : decode cL_law 1418 = .ok (.if_icmp .eq 5, 3) := dk_159 0 5 (dk_at dksL_law_57 6 rfl rfl)
theorem dL_law_1421 : decode cL_law 1421 = .ok (.iconst 0, 1) := dk_3 (dk_at dksL_law_57 9 rfl rfl)
theorem dL_law_1422 : decode cL_law 1422 = .ok (.ireturn, 1) := dk_172 (dk_at dksL_law_57 10 rfl rfl)
theorem dL_law_1423 : decode cL_law 1423 = .ok (.iload 5, 2) := dk_21 5 (dk_at dksL_law_57 11 rfl rfl)
theorem dL_law_1425 : decode cL_law 1425 = .ok (.ifCond .ne 15, 3) := dk_154 0 15 (dk_at dksL_law_57 13 rfl rfl)
theorem dL_law_1428 : decode cL_law 1428 = .ok (.aload_n 3, 1) := dk_45 (dk_at dksL_law_57 16 rfl rfl)
theorem dL_law_1429 : decode cL_law 1429 = .ok (.iconst 0, 1) := dk_3 (dk_at dksL_law_57 17 rfl rfl)
theorem dL_law_1430 : decode cL_law 1430 = .ok (.laload, 1) := dk_47 (dk_at dksL_law_57 18 rfl rfl)
theorem dL_law_1431 : decode cL_law 1431 = .ok (.iload 6, 2) := dk_21 6 (dk_at dksL_law_57 19 rfl rfl)
theorem dL_law_1433 : decode cL_law 1433 = .ok (.i2l, 1) := dk_133 (dk_at dksL_law_57 21 rfl rfl)
theorem dL_law_1434 : decode cL_law 1434 = .ok (.lcmp, 1) := dk_148 (dk_at dksL_law_57 22 rfl rfl)
theorem dL_law_1435 : decode cL_law 1435 = .ok (.ifCond .eq 5, 3) := dk_153 0 5 (dk_at dksL_law_58 0 rfl rfl)
theorem dL_law_1438 : decode cL_law 1438 = .ok (.iconst 0, 1) := dk_3 (dk_at dksL_law_58 3 rfl rfl)
theorem dL_law_1439 : decode cL_law 1439 = .ok (.ireturn, 1) := dk_172 (dk_at dksL_law_58 4 rfl rfl)
theorem dL_law_1440 : decode cL_law 1440 = .ok (.goto 115, 3) := dk_167 0 115 (dk_at dksL_law_58 5 rfl rfl)
theorem dL_law_1443 : decode cL_law 1443 = .ok (.aload_n 1, 1) := dk_43 (dk_at dksL_law_58 8 rfl rfl)
theorem dL_law_1444 : decode cL_law 1444 = .ok (.aload_n 0, 1) := dk_42 (dk_at dksL_law_58 9 rfl rfl)
theorem dL_law_1445 : decode cL_law 1445 = .ok (.iload 4, 2) := dk_21 4 (dk_at dksL_law_58 10 rfl rfl)
theorem dL_law_1447 : decode cL_law 1447 = .ok (.iconst 1, 1) := dk_4 (dk_at dksL_law_58 12 rfl rfl)
theorem dL_law_1448 : decode cL_law 1448 = .ok (.iadd, 1) := dk_96 (dk_at dksL_law_58 13 rfl rfl)
theorem dL_law_1449 : decode cL_law 1449 = .ok (.iaload, 1) := dk_46 (dk_at dksL_law_58 14 rfl rfl)
theorem dL_law_1450 : decode cL_law 1450 = .ok (.aload_n 3, 1) := dk_45 (dk_at dksL_law_58 15 rfl rfl)
theorem dL_law_1451 : decode cL_law 1451 = .ok (.invokestatic 174, 3) := dk_184 0 174 (dk_at dksL_law_58 16 rfl rfl)
theorem dL_law_1454 : decode cL_law 1454 = .ok (.istore 5, 2) := dk_54 5 (dk_at dksL_law_58 19 rfl rfl)
theorem dL_law_1456 : decode cL_law 1456 = .ok (.aload_n 2, 1) := dk_44 (dk_at dksL_law_58 21 rfl rfl)
theorem dL_law_1457 : decode cL_law 1457 = .ok (.aload_n 0, 1) := dk_42 (dk_at dksL_law_58 22 rfl rfl)
theorem dL_law_1458 : decode cL_law 1458 = .ok (.iload 4, 2) := dk_21 4 (dk_at dksL_law_59 0 rfl rfl)
theorem dL_law_1460 : decode cL_law 1460 = .ok (.iconst 1, 1) := dk_4 (dk_at dksL_law_59 2 rfl rfl)
theorem dL_law_1461 : decode cL_law 1461 = .ok (.iadd, 1) := dk_96 (dk_at dksL_law_59 3 rfl rfl)
theorem dL_law_1462 : decode cL_law 1462 = .ok (.iaload, 1) := dk_46 (dk_at dksL_law_59 4 rfl rfl)
theorem dL_law_1463 : decode cL_law 1463 = .ok (.invokevirtual 176, 3) := dk_182 0 176 (dk_at dksL_law_59 5 rfl rfl)
theorem dL_law_1466 : decode cL_law 1466 = .ok (.istore 6, 2) := dk_54 6 (dk_at dksL_law_59 8 rfl rfl)
theorem dL_law_1468 : decode cL_law 1468 = .ok (.aload_n 2, 1) := dk_44 (dk_at dksL_law_59 10 rfl rfl)
theorem dL_law_1469 : decode cL_law 1469 = .ok (.invokevirtual 94, 3) := dk_182 0 94 (dk_at dksL_law_59 11 rfl rfl)
theorem dL_law_1472 : decode cL_law 1472 = .ok (.iload 5, 2) := dk_21 5 (dk_at dksL_law_59 14 rfl rfl)
theorem dL_law_1474 : decode cL_law 1474 = .ok (.if_icmp .eq 5, 3) := dk_159 0 5 (dk_at dksL_law_59 16 rfl rfl)
theorem dL_law_1477 : decode cL_law 1477 = .ok (.iconst 0, 1) := dk_3 (dk_at dksL_law_59 19 rfl rfl)
theorem dL_law_1478 : decode cL_law 1478 = .ok (.ireturn, 1) := dk_172 (dk_at dksL_law_59 20 rfl rfl)
theorem dL_law_1479 : decode cL_law 1479 = .ok (.iload 5, 2) := dk_21 5 (dk_at dksL_law_59 21 rfl rfl)
theorem dL_law_1481 : decode cL_law 1481 = .ok (.ifCond .ne 15, 3) := dk_154 0 15 (dk_at dksL_law_60 0 rfl rfl)
theorem dL_law_1484 : decode cL_law 1484 = .ok (.aload_n 3, 1) := dk_45 (dk_at dksL_law_60 3 rfl rfl)
theorem dL_law_1485 : decode cL_law 1485 = .ok (.iconst 0, 1) := dk_3 (dk_at dksL_law_60 4 rfl rfl)
theorem dL_law_1486 : decode cL_law 1486 = .ok (.laload, 1) := dk_47 (dk_at dksL_law_60 5 rfl rfl)
theorem dL_law_1487 : decode cL_law 1487 = .ok (.iload 6, 2) := dk_21 6 (dk_at dksL_law_60 6 rfl rfl)
theorem dL_law_1489 : decode cL_law 1489 = .ok (.i2l, 1) := dk_133 (dk_at dksL_law_60 8 rfl rfl)
theorem dL_law_1490 : decode cL_law 1490 = .ok (.lcmp, 1) := dk_148 (dk_at dksL_law_60 9 rfl rfl)
theorem dL_law_1491 : decode cL_law 1491 = .ok (.ifCond .eq 5, 3) := dk_153 0 5 (dk_at dksL_law_60 10 rfl rfl)
theorem dL_law_1494 : decode cL_law 1494 = .ok (.iconst 0, 1) := dk_3 (dk_at dksL_law_60 13 rfl rfl)
theorem dL_law_1495 : decode cL_law 1495 = .ok (.ireturn, 1) := dk_172 (dk_at dksL_law_60 14 rfl rfl)
theorem dL_law_1496 : decode cL_law 1496 = .ok (.goto 59, 3) := dk_167 0 59 (dk_at dksL_law_60 15 rfl rfl)
theorem dL_law_1499 : decode cL_law 1499 = .ok (.aload_n 1, 1) := dk_43 (dk_at dksL_law_60 18 rfl rfl)
theorem dL_law_1500 : decode cL_law 1500 = .ok (.aload_n 0, 1) := dk_42 (dk_at dksL_law_60 19 rfl rfl)
theorem dL_law_1501 : decode cL_law 1501 = .ok (.iload 4, 2) := dk_21 4 (dk_at dksL_law_60 20 rfl rfl)
theorem dL_law_1503 : decode cL_law 1503 = .ok (.iconst 1, 1) := dk_4 (dk_at dksL_law_60 22 rfl rfl)
theorem dL_law_1504 : decode cL_law 1504 = .ok (.iadd, 1) := dk_96 (dk_at dksL_law_60 23 rfl rfl)
theorem dL_law_1505 : decode cL_law 1505 = .ok (.iaload, 1) := dk_46 (dk_at dksL_law_61 0 rfl rfl)
theorem dL_law_1506 : decode cL_law 1506 = .ok (.aload_n 3, 1) := dk_45 (dk_at dksL_law_61 1 rfl rfl)
theorem dL_law_1507 : decode cL_law 1507 = .ok (.invokestatic 177, 3) := dk_184 0 177 (dk_at dksL_law_61 2 rfl rfl)
theorem dL_law_1510 : decode cL_law 1510 = .ok (.istore 5, 2) := dk_54 5 (dk_at dksL_law_61 5 rfl rfl)
theorem dL_law_1512 : decode cL_law 1512 = .ok (.aload_n 2, 1) := dk_44 (dk_at dksL_law_61 7 rfl rfl)
theorem dL_law_1513 : decode cL_law 1513 = .ok (.aload_n 0, 1) := dk_42 (dk_at dksL_law_61 8 rfl rfl)
theorem dL_law_1514 : decode cL_law 1514 = .ok (.iload 4, 2) := dk_21 4 (dk_at dksL_law_61 9 rfl rfl)
theorem dL_law_1516 : decode cL_law 1516 = .ok (.iconst 1, 1) := dk_4 (dk_at dksL_law_61 11 rfl rfl)
theorem dL_law_1517 : decode cL_law 1517 = .ok (.iadd, 1) := dk_96 (dk_at dksL_law_61 12 rfl rfl)
theorem dL_law_1518 : decode cL_law 1518 = .ok (.iaload, 1) := dk_46 (dk_at dksL_law_61 13 rfl rfl)
theorem dL_law_1519 : decode cL_law 1519 = .ok (.invokevirtual 179, 3) := dk_182 0 179 (dk_at dksL_law_61 14 rfl rfl)
theorem dL_law_1522 : decode cL_law 1522 = .ok (.istore 6, 2) := dk_54 6 (dk_at dksL_law_61 17 rfl rfl)
theorem dL_law_1524 : decode cL_law 1524 = .ok (.aload_n 2, 1) := dk_44 (dk_at dksL_law_61 19 rfl rfl)
theorem dL_law_1525 : decode cL_law 1525 = .ok (.invokevirtual 94, 3) := dk_182 0 94 (dk_at dksL_law_61 20 rfl rfl)
theorem dL_law_1528 : decode cL_law 1528 = .ok (.iload 5, 2) := dk_21 5 (dk_at dksL_law_62 0 rfl rfl)
theorem dL_law_1530 : decode cL_law 1530 = .ok (.if_icmp .eq 5, 3) := dk_159 0 5 (dk_at dksL_law_62 2 rfl rfl)
theorem dL_law_1533 : decode cL_law 1533 = .ok (.iconst 0, 1) := dk_3 (dk_at dksL_law_62 5 rfl rfl)
theorem dL_law_1534 : decode cL_law 1534 = .ok (.ireturn, 1) := dk_172 (dk_at dksL_law_62 6 rfl rfl)
theorem dL_law_1535 : decode cL_law 1535 = .ok (.iload 5, 2) := dk_21 5 (dk_at dksL_law_62 7 rfl rfl)
theorem dL_law_1537 : decode cL_law 1537 = .ok (.ifCond .ne 15, 3) := dk_154 0 15 (dk_at dksL_law_62 9 rfl rfl)
theorem dL_law_1540 : decode cL_law 1540 = .ok (.aload_n 3, 1) := dk_45 (dk_at dksL_law_62 12 rfl rfl)
theorem dL_law_1541 : decode cL_law 1541 = .ok (.iconst 0, 1) := dk_3 (dk_at dksL_law_62 13 rfl rfl)
theorem dL_law_1542 : decode cL_law 1542 = .ok (.laload, 1) := dk_47 (dk_at dksL_law_62 14 rfl rfl)
theorem dL_law_1543 : decode cL_law 1543 = .ok (.iload 6, 2) := dk_21 6 (dk_at dksL_law_62 15 rfl rfl)
theorem dL_law_1545 : decode cL_law 1545 = .ok (.i2l, 1) := dk_133 (dk_at dksL_law_62 17 rfl rfl)
theorem dL_law_1546 : decode cL_law 1546 = .ok (.lcmp, 1) := dk_148 (dk_at dksL_law_62 18 rfl rfl)
theorem dL_law_1547 : decode cL_law 1547 = .ok (.ifCond .eq 5, 3) := dk_153 0 5 (dk_at dksL_law_62 19 rfl rfl)
theorem dL_law_1550 : decode cL_law 1550 = .ok (.iconst 0, 1) := dk_3 (dk_at dksL_law_62 22 rfl rfl)
theorem dL_law_1551 : decode cL_law 1551 = .ok (.ireturn, 1) := dk_172 (dk_at dksL_law_62 23 rfl rfl)
theorem dL_law_1552 : decode cL_law 1552 = .ok (.goto 3, 3) := dk_167 0 3 (dk_at dksL_law_63 0 rfl rfl)
theorem dL_law_1555 : decode cL_law 1555 = .ok (.iinc 4 4, 3) := dk_132 4 4 (dk_at dksL_law_63 3 rfl rfl)
theorem dL_law_1558 : decode cL_law 1558 = .ok (.goto (-1535), 3) := dk_167 250 1 (dk_at dksL_law_63 6 rfl rfl)
theorem dL_law_1561 : decode cL_law 1561 = .ok (.iconst 1, 1) := dk_4 (dk_at dksL_law_63 9 rfl rfl)
theorem dL_law_1562 : decode cL_law 1562 = .ok (.ireturn, 1) := dk_172 (dk_at dksL_law_63 10 rfl rfl)
